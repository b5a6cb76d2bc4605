/-! PuppetHeirsModel -/
set_option maxRecDepth 100000
def RX11 : String := "PuppetHeirsModel"
def TX11 : u_T := fun k => match k with
  | 0 => ("PuppetHeirsModel", "thrown", "I", false)
  | 1 => ("PuppetHeirsModel", "tape", "I", false)
  | 2 => ("PuppetHeirsModel", "size", "I", false)
  | 3 => ("PuppetHeirsModel", "place", "I", false)
  | 4 => ("PuppetHeirsModel", "at", "I", false)
  | 5 => ("PuppetHeirsModel", "fault", "I", false)
  | 6 => ("PuppetHeirsModel", "faultAt", "I", false)
  | 7 => ("PuppetHeirsModel", "clauses", "I", false)
  | 8 => ("PuppetHeirsModel", "open", "I", false)
  | 9 => ("PuppetHeirsModel", "fed", "[I", true)
  | 10 => ("PuppetHeirsModel", "refused", "[I", true)
  | 11 => ("PuppetHeirsModel", "readTold", "[I", true)
  | 12 => ("PuppetHeirsModel", "told", "[I", true)
  | 13 => ("PuppetHeirsModel", "readWorks", "[I", true)
  | 14 => ("PuppetHeirsModel", "works", "[I", true)
  | 15 => ("PuppetHeirsModel", "readQuarrel", "[I", true)
  | 16 => ("PuppetHeirsModel", "quarrel", "[I", true)
  | 17 => ("PuppetHeirsModel", "readSilent", "[I", true)
  | 18 => ("PuppetHeirsModel", "silent", "[I", true)
  | 19 => ("PuppetHeirsModel", "readHand", "[[I", true)
  | 20 => ("PuppetHeirsModel", "hand", "[[I", true)
  | 21 => ("PuppetHeirsModel", "readPuppet", "[[I", true)
  | 22 => ("PuppetHeirsModel", "puppet", "[[I", true)
  | 23 => ("PuppetHeirsModel", "readAct", "[[I", true)
  | 24 => ("PuppetHeirsModel", "act", "[[I", true)
  | 25 => ("PuppetHeirsModel", "readOwes", "[[I", true)
  | 26 => ("PuppetHeirsModel", "owes", "[[I", true)
  | 27 => ("PuppetHeirsModel", "lawMany", "I", false)
  | 28 => ("PuppetHeirsModel", "readLawMany", "I", false)
  | 29 => ("PuppetHeirsModel", "law", "[[I", true)
  | 30 => ("PuppetHeirsModel", "readLaw", "[[I", true)
  | 31 => ("PuppetHeirsModel", "book", "[[I", true)
  | 32 => ("PuppetHeirsModel", "readBook", "[[I", true)
  | 33 => ("PuppetHeirsModel", "kept", "[[I", true)
  | 34 => ("PuppetHeirsModel", "stack", "[I", true)
  | 35 => ("PuppetHeirsModel", "known", "[I", true)
  | 36 => ("PuppetHeirsModel", "now", "[I", true)
  | 37 => ("PuppetHeirsModel", "base", "[I", true)
  | 38 => ("PuppetHeirsModel", "begun", "[I", true)
  | 39 => ("PuppetHeirsModel", "trial", "[I", true)
  | 40 => ("PuppetHeirsModel", "tried", "[I", true)
  | 41 => ("PuppetHeirsModel", "lines", "I", false)
  | 42 => ("PuppetHeirsModel", "gone", "I", false)
  | 43 => ("PuppetHeirsModel", "images", "I", false)
  | 44 => ("PuppetHeirsModel", "lots", "I", false)
  | 45 => ("PuppetHeirsModel", "lotsBelow", "I", false)
  | 46 => ("PuppetHeirsModel", "castOf", "[I", true)
  | 47 => ("PuppetHeirsModel", "castLaughs", "[I", true)
  | 48 => ("PuppetHeirsModel", "castBy", "[I", true)
  | 49 => ("PuppetHeirsModel", "firstBy", "[I", true)
  | 50 => ("PuppetHeirsModel", "reached", "[I", true)
  | 51 => ("PuppetHeirsModel", "castMany", "I", false)
  | 52 => ("PuppetHeirsModel", "ways", "I", false)
  | 53 => ("PuppetHeirsModel", "always", "I", false)
  | 54 => ("PuppetHeirsModel", "isRight", "[Z", true)
  | _ => ("PuppetHeirsModel", "nightOf", "[I", true)
def tyX11 : Nat → FieldType := fun k => match k with
  | 0 => .int
  | 1 => .int
  | 2 => .int
  | 3 => .int
  | 4 => .int
  | 5 => .int
  | 6 => .int
  | 7 => .int
  | 8 => .int
  | 9 => .array .int
  | 10 => .array .int
  | 11 => .array .int
  | 12 => .array .int
  | 13 => .array .int
  | 14 => .array .int
  | 15 => .array .int
  | 16 => .array .int
  | 17 => .array .int
  | 18 => .array .int
  | 19 => .array (.array .int)
  | 20 => .array (.array .int)
  | 21 => .array (.array .int)
  | 22 => .array (.array .int)
  | 23 => .array (.array .int)
  | 24 => .array (.array .int)
  | 25 => .array (.array .int)
  | 26 => .array (.array .int)
  | 27 => .int
  | 28 => .int
  | 29 => .array (.array .int)
  | 30 => .array (.array .int)
  | 31 => .array (.array .int)
  | 32 => .array (.array .int)
  | 33 => .array (.array .int)
  | 34 => .array .int
  | 35 => .array .int
  | 36 => .array .int
  | 37 => .array .int
  | 38 => .array .int
  | 39 => .array .int
  | 40 => .array .int
  | 41 => .int
  | 42 => .int
  | 43 => .int
  | 44 => .int
  | 45 => .int
  | 46 => .array .int
  | 47 => .array .int
  | 48 => .array .int
  | 49 => .array .int
  | 50 => .array .int
  | 51 => .int
  | 52 => .int
  | 53 => .int
  | 54 => .array .boolean
  | _ => .array .int
abbrev wsX110 : List Cond := u_ws RX11 TX11 56
set_option maxRecDepth 100000 in
theorem nmX11 : ∀ a, a < 56 → ∀ b, b < 56 → a ≠ b → (TX11 a).2.1 ≠ (TX11 b).2.1 := by decide +kernel
set_option maxRecDepth 100000 in
theorem tyX11_ok : ∀ k, k < 56 → parseFieldDescriptor (TX11 k).2.2.1 = some (tyX11 k) := by decide +kernel
abbrev cX11_init : ByteArray := prog_22_method_1_code
def yX11_init : MethodName := ⟨RX11, "<init>", "()V"⟩
def dkwX11_init_15 : List UInt8 := [42, 182, 0, 128, 42, 182, 0, 131, 177]
abbrev dktX11_init_15 : List UInt8 := dkwX11_init_15 ++ []
def dkwX11_init_14 : List UInt8 := [42, 16, 12, 188, 10, 181, 0, 118, 42, 16, 12, 188, 4, 181, 0, 121, 42, 16, 9, 188, 10, 181, 0, 125]
abbrev dktX11_init_14 : List UInt8 := dkwX11_init_14 ++ dktX11_init_15
def dkwX11_init_13 : List UInt8 := [42, 16, 12, 188, 10, 181, 0, 109, 42, 16, 12, 188, 10, 181, 0, 112, 42, 16, 12, 188, 10, 181, 0, 115]
abbrev dktX11_init_13 : List UInt8 := dkwX11_init_13 ++ dktX11_init_14
def dkwX11_init_12 : List UInt8 := [42, 16, 107, 188, 10, 181, 0, 100, 42, 16, 107, 188, 10, 181, 0, 103, 42, 16, 12, 188, 10, 181, 0, 106]
abbrev dktX11_init_12 : List UInt8 := dkwX11_init_12 ++ dktX11_init_13
def dkwX11_init_11 : List UInt8 := [42, 16, 107, 188, 10, 181, 0, 91, 42, 16, 107, 188, 10, 181, 0, 94, 42, 16, 107, 188, 10, 181, 0, 97]
abbrev dktX11_init_11 : List UInt8 := dkwX11_init_11 ++ dktX11_init_12
def dkwX11_init_10 : List UInt8 := [197, 0, 44, 2, 181, 0, 82, 42, 17, 0, 160, 188, 10, 181, 0, 85, 42, 16, 9, 188, 10, 181, 0, 88]
abbrev dktX11_init_10 : List UInt8 := dkwX11_init_10 ++ dktX11_init_11
def dkwX11_init_9 : List UInt8 := [197, 0, 44, 2, 181, 0, 76, 42, 16, 12, 6, 197, 0, 44, 2, 181, 0, 79, 42, 6, 16, 107]
abbrev dktX11_init_9 : List UInt8 := dkwX11_init_9 ++ dktX11_init_10
def dkwX11_init_8 : List UInt8 := [197, 0, 44, 2, 181, 0, 70, 42, 17, 0, 160, 5, 197, 0, 44, 2, 181, 0, 73, 42, 16, 12, 6]
abbrev dktX11_init_8 : List UInt8 := dkwX11_init_8 ++ dktX11_init_9
def dkwX11_init_7 : List UInt8 := [197, 0, 44, 2, 181, 0, 64, 42, 16, 9, 16, 9, 197, 0, 44, 2, 181, 0, 67, 42, 17, 0, 160, 5]
abbrev dktX11_init_7 : List UInt8 := dkwX11_init_7 ++ dktX11_init_8
def dkwX11_init_6 : List UInt8 := [197, 0, 44, 2, 181, 0, 58, 42, 16, 6, 16, 8, 197, 0, 44, 2, 181, 0, 61, 42, 16, 9, 16, 9]
abbrev dktX11_init_6 : List UInt8 := dkwX11_init_6 ++ dktX11_init_7
def dkwX11_init_5 : List UInt8 := [197, 0, 44, 2, 181, 0, 52, 42, 16, 8, 6, 197, 0, 44, 2, 181, 0, 55, 42, 16, 6, 16, 8]
abbrev dktX11_init_5 : List UInt8 := dkwX11_init_5 ++ dktX11_init_6
def dkwX11_init_4 : List UInt8 := [197, 0, 44, 2, 181, 0, 46, 42, 16, 9, 6, 197, 0, 44, 2, 181, 0, 49, 42, 16, 8, 6]
abbrev dktX11_init_4 : List UInt8 := dkwX11_init_4 ++ dktX11_init_5
def dkwX11_init_3 : List UInt8 := [181, 0, 35, 42, 16, 9, 188, 10, 181, 0, 38, 42, 16, 9, 188, 10, 181, 0, 41, 42, 16, 9, 6]
abbrev dktX11_init_3 : List UInt8 := dkwX11_init_3 ++ dktX11_init_4
def dkwX11_init_2 : List UInt8 := [181, 0, 26, 42, 16, 8, 188, 10, 181, 0, 29, 42, 16, 8, 188, 10, 181, 0, 32, 42, 16, 8, 188, 10]
abbrev dktX11_init_2 : List UInt8 := dkwX11_init_2 ++ dktX11_init_3
def dkwX11_init_1 : List UInt8 := [181, 0, 17, 42, 7, 188, 10, 181, 0, 20, 42, 7, 188, 10, 181, 0, 23, 42, 16, 8, 188, 10]
abbrev dktX11_init_1 : List UInt8 := dkwX11_init_1 ++ dktX11_init_2
def dkwX11_init_0 : List UInt8 := [42, 183, 0, 1, 42, 2, 181, 0, 9, 42, 17, 2, 88, 188, 10, 181, 0, 13, 42, 5, 188, 10]
abbrev dktX11_init_0 : List UInt8 := dkwX11_init_0 ++ dktX11_init_1
theorem dksX11_init_0 : cX11_init.data.toList.drop 0 = dktX11_init_0 := by decide +kernel
theorem dksX11_init_1 : cX11_init.data.toList.drop 22 = dktX11_init_1 := dk_seg dksX11_init_0 22 rfl rfl
theorem dksX11_init_2 : cX11_init.data.toList.drop 44 = dktX11_init_2 := dk_seg dksX11_init_1 22 rfl rfl
theorem dksX11_init_3 : cX11_init.data.toList.drop 68 = dktX11_init_3 := dk_seg dksX11_init_2 24 rfl rfl
theorem dksX11_init_4 : cX11_init.data.toList.drop 91 = dktX11_init_4 := dk_seg dksX11_init_3 23 rfl rfl
theorem dksX11_init_5 : cX11_init.data.toList.drop 113 = dktX11_init_5 := dk_seg dksX11_init_4 22 rfl rfl
theorem dksX11_init_6 : cX11_init.data.toList.drop 136 = dktX11_init_6 := dk_seg dksX11_init_5 23 rfl rfl
theorem dksX11_init_7 : cX11_init.data.toList.drop 160 = dktX11_init_7 := dk_seg dksX11_init_6 24 rfl rfl
theorem dksX11_init_8 : cX11_init.data.toList.drop 184 = dktX11_init_8 := dk_seg dksX11_init_7 24 rfl rfl
theorem dksX11_init_9 : cX11_init.data.toList.drop 207 = dktX11_init_9 := dk_seg dksX11_init_8 23 rfl rfl
theorem dksX11_init_10 : cX11_init.data.toList.drop 229 = dktX11_init_10 := dk_seg dksX11_init_9 22 rfl rfl
theorem dksX11_init_11 : cX11_init.data.toList.drop 253 = dktX11_init_11 := dk_seg dksX11_init_10 24 rfl rfl
theorem dksX11_init_12 : cX11_init.data.toList.drop 277 = dktX11_init_12 := dk_seg dksX11_init_11 24 rfl rfl
theorem dksX11_init_13 : cX11_init.data.toList.drop 301 = dktX11_init_13 := dk_seg dksX11_init_12 24 rfl rfl
theorem dksX11_init_14 : cX11_init.data.toList.drop 325 = dktX11_init_14 := dk_seg dksX11_init_13 24 rfl rfl
theorem dksX11_init_15 : cX11_init.data.toList.drop 349 = dktX11_init_15 := dk_seg dksX11_init_14 24 rfl rfl
theorem dX11_init_0 : decode cX11_init 0 = .ok (.aload_n 0, 1) := dk_42 (dk_at dksX11_init_0 0 rfl rfl)
theorem dX11_init_1 : decode cX11_init 1 = .ok (.invokespecial 1, 3) := dk_183 0 1 (dk_at dksX11_init_0 1 rfl rfl)
theorem dX11_init_4 : decode cX11_init 4 = .ok (.aload_n 0, 1) := dk_42 (dk_at dksX11_init_0 4 rfl rfl)
theorem dX11_init_5 : decode cX11_init 5 = .ok (.iconst (-1), 1) := dk_2 (dk_at dksX11_init_0 5 rfl rfl)
theorem dX11_init_6 : decode cX11_init 6 = .ok (.putfield 9, 3) := dk_181 0 9 (dk_at dksX11_init_0 6 rfl rfl)
theorem dX11_init_9 : decode cX11_init 9 = .ok (.aload_n 0, 1) := dk_42 (dk_at dksX11_init_0 9 rfl rfl)
theorem dX11_init_10 : decode cX11_init 10 = .ok (.sipush 600, 3) := dk_17 2 88 (dk_at dksX11_init_0 10 rfl rfl)
theorem dX11_init_13 : decode cX11_init 13 = .ok (.newarray .int, 2) := dk_188_10 (dk_at dksX11_init_0 13 rfl rfl)
theorem dX11_init_15 : decode cX11_init 15 = .ok (.putfield 13, 3) := dk_181 0 13 (dk_at dksX11_init_0 15 rfl rfl)
theorem dX11_init_18 : decode cX11_init 18 = .ok (.aload_n 0, 1) := dk_42 (dk_at dksX11_init_0 18 rfl rfl)
theorem dX11_init_19 : decode cX11_init 19 = .ok (.iconst 2, 1) := dk_5 (dk_at dksX11_init_0 19 rfl rfl)
theorem dX11_init_20 : decode cX11_init 20 = .ok (.newarray .int, 2) := dk_188_10 (dk_at dksX11_init_0 20 rfl rfl)
theorem dX11_init_22 : decode cX11_init 22 = .ok (.putfield 17, 3) := dk_181 0 17 (dk_at dksX11_init_1 0 rfl rfl)
theorem dX11_init_25 : decode cX11_init 25 = .ok (.aload_n 0, 1) := dk_42 (dk_at dksX11_init_1 3 rfl rfl)
theorem dX11_init_26 : decode cX11_init 26 = .ok (.iconst 4, 1) := dk_7 (dk_at dksX11_init_1 4 rfl rfl)
theorem dX11_init_27 : decode cX11_init 27 = .ok (.newarray .int, 2) := dk_188_10 (dk_at dksX11_init_1 5 rfl rfl)
theorem dX11_init_29 : decode cX11_init 29 = .ok (.putfield 20, 3) := dk_181 0 20 (dk_at dksX11_init_1 7 rfl rfl)
theorem dX11_init_32 : decode cX11_init 32 = .ok (.aload_n 0, 1) := dk_42 (dk_at dksX11_init_1 10 rfl rfl)
theorem dX11_init_33 : decode cX11_init 33 = .ok (.iconst 4, 1) := dk_7 (dk_at dksX11_init_1 11 rfl rfl)
theorem dX11_init_34 : decode cX11_init 34 = .ok (.newarray .int, 2) := dk_188_10 (dk_at dksX11_init_1 12 rfl rfl)
theorem dX11_init_36 : decode cX11_init 36 = .ok (.putfield 23, 3) := dk_181 0 23 (dk_at dksX11_init_1 14 rfl rfl)
theorem dX11_init_39 : decode cX11_init 39 = .ok (.aload_n 0, 1) := dk_42 (dk_at dksX11_init_1 17 rfl rfl)
theorem dX11_init_40 : decode cX11_init 40 = .ok (.bipush 8, 2) := dk_16 8 (dk_at dksX11_init_1 18 rfl rfl)
theorem dX11_init_42 : decode cX11_init 42 = .ok (.newarray .int, 2) := dk_188_10 (dk_at dksX11_init_1 20 rfl rfl)
theorem dX11_init_44 : decode cX11_init 44 = .ok (.putfield 26, 3) := dk_181 0 26 (dk_at dksX11_init_2 0 rfl rfl)
theorem dX11_init_47 : decode cX11_init 47 = .ok (.aload_n 0, 1) := dk_42 (dk_at dksX11_init_2 3 rfl rfl)
theorem dX11_init_48 : decode cX11_init 48 = .ok (.bipush 8, 2) := dk_16 8 (dk_at dksX11_init_2 4 rfl rfl)
theorem dX11_init_50 : decode cX11_init 50 = .ok (.newarray .int, 2) := dk_188_10 (dk_at dksX11_init_2 6 rfl rfl)
theorem dX11_init_52 : decode cX11_init 52 = .ok (.putfield 29, 3) := dk_181 0 29 (dk_at dksX11_init_2 8 rfl rfl)
theorem dX11_init_55 : decode cX11_init 55 = .ok (.aload_n 0, 1) := dk_42 (dk_at dksX11_init_2 11 rfl rfl)
theorem dX11_init_56 : decode cX11_init 56 = .ok (.bipush 8, 2) := dk_16 8 (dk_at dksX11_init_2 12 rfl rfl)
theorem dX11_init_58 : decode cX11_init 58 = .ok (.newarray .int, 2) := dk_188_10 (dk_at dksX11_init_2 14 rfl rfl)
theorem dX11_init_60 : decode cX11_init 60 = .ok (.putfield 32, 3) := dk_181 0 32 (dk_at dksX11_init_2 16 rfl rfl)
theorem dX11_init_63 : decode cX11_init 63 = .ok (.aload_n 0, 1) := dk_42 (dk_at dksX11_init_2 19 rfl rfl)
theorem dX11_init_64 : decode cX11_init 64 = .ok (.bipush 8, 2) := dk_16 8 (dk_at dksX11_init_2 20 rfl rfl)
theorem dX11_init_66 : decode cX11_init 66 = .ok (.newarray .int, 2) := dk_188_10 (dk_at dksX11_init_2 22 rfl rfl)
theorem dX11_init_68 : decode cX11_init 68 = .ok (.putfield 35, 3) := dk_181 0 35 (dk_at dksX11_init_3 0 rfl rfl)
theorem dX11_init_71 : decode cX11_init 71 = .ok (.aload_n 0, 1) := dk_42 (dk_at dksX11_init_3 3 rfl rfl)
theorem dX11_init_72 : decode cX11_init 72 = .ok (.bipush 9, 2) := dk_16 9 (dk_at dksX11_init_3 4 rfl rfl)
theorem dX11_init_74 : decode cX11_init 74 = .ok (.newarray .int, 2) := dk_188_10 (dk_at dksX11_init_3 6 rfl rfl)
theorem dX11_init_76 : decode cX11_init 76 = .ok (.putfield 38, 3) := dk_181 0 38 (dk_at dksX11_init_3 8 rfl rfl)
theorem dX11_init_79 : decode cX11_init 79 = .ok (.aload_n 0, 1) := dk_42 (dk_at dksX11_init_3 11 rfl rfl)
theorem dX11_init_80 : decode cX11_init 80 = .ok (.bipush 9, 2) := dk_16 9 (dk_at dksX11_init_3 12 rfl rfl)
theorem dX11_init_82 : decode cX11_init 82 = .ok (.newarray .int, 2) := dk_188_10 (dk_at dksX11_init_3 14 rfl rfl)
theorem dX11_init_84 : decode cX11_init 84 = .ok (.putfield 41, 3) := dk_181 0 41 (dk_at dksX11_init_3 16 rfl rfl)
theorem dX11_init_87 : decode cX11_init 87 = .ok (.aload_n 0, 1) := dk_42 (dk_at dksX11_init_3 19 rfl rfl)
theorem dX11_init_88 : decode cX11_init 88 = .ok (.bipush 9, 2) := dk_16 9 (dk_at dksX11_init_3 20 rfl rfl)
theorem dX11_init_90 : decode cX11_init 90 = .ok (.iconst 3, 1) := dk_6 (dk_at dksX11_init_3 22 rfl rfl)
theorem dX11_init_91 : decode cX11_init 91 = .ok (.multianewarray 44 2, 4) := by decide +kernel
theorem dX11_init_95 : decode cX11_init 95 = .ok (.putfield 46, 3) := dk_181 0 46 (dk_at dksX11_init_4 4 rfl rfl)
theorem dX11_init_98 : decode cX11_init 98 = .ok (.aload_n 0, 1) := dk_42 (dk_at dksX11_init_4 7 rfl rfl)
theorem dX11_init_99 : decode cX11_init 99 = .ok (.bipush 9, 2) := dk_16 9 (dk_at dksX11_init_4 8 rfl rfl)
theorem dX11_init_101 : decode cX11_init 101 = .ok (.iconst 3, 1) := dk_6 (dk_at dksX11_init_4 10 rfl rfl)
theorem dX11_init_102 : decode cX11_init 102 = .ok (.multianewarray 44 2, 4) := by decide +kernel
theorem dX11_init_106 : decode cX11_init 106 = .ok (.putfield 49, 3) := dk_181 0 49 (dk_at dksX11_init_4 15 rfl rfl)
theorem dX11_init_109 : decode cX11_init 109 = .ok (.aload_n 0, 1) := dk_42 (dk_at dksX11_init_4 18 rfl rfl)
theorem dX11_init_110 : decode cX11_init 110 = .ok (.bipush 8, 2) := dk_16 8 (dk_at dksX11_init_4 19 rfl rfl)
theorem dX11_init_112 : decode cX11_init 112 = .ok (.iconst 3, 1) := dk_6 (dk_at dksX11_init_4 21 rfl rfl)
theorem dX11_init_113 : decode cX11_init 113 = .ok (.multianewarray 44 2, 4) := by decide +kernel
theorem dX11_init_117 : decode cX11_init 117 = .ok (.putfield 52, 3) := dk_181 0 52 (dk_at dksX11_init_5 4 rfl rfl)
theorem dX11_init_120 : decode cX11_init 120 = .ok (.aload_n 0, 1) := dk_42 (dk_at dksX11_init_5 7 rfl rfl)
theorem dX11_init_121 : decode cX11_init 121 = .ok (.bipush 8, 2) := dk_16 8 (dk_at dksX11_init_5 8 rfl rfl)
theorem dX11_init_123 : decode cX11_init 123 = .ok (.iconst 3, 1) := dk_6 (dk_at dksX11_init_5 10 rfl rfl)
theorem dX11_init_124 : decode cX11_init 124 = .ok (.multianewarray 44 2, 4) := by decide +kernel
theorem dX11_init_128 : decode cX11_init 128 = .ok (.putfield 55, 3) := dk_181 0 55 (dk_at dksX11_init_5 15 rfl rfl)
theorem dX11_init_131 : decode cX11_init 131 = .ok (.aload_n 0, 1) := dk_42 (dk_at dksX11_init_5 18 rfl rfl)
theorem dX11_init_132 : decode cX11_init 132 = .ok (.bipush 6, 2) := dk_16 6 (dk_at dksX11_init_5 19 rfl rfl)
theorem dX11_init_134 : decode cX11_init 134 = .ok (.bipush 8, 2) := dk_16 8 (dk_at dksX11_init_5 21 rfl rfl)
theorem dX11_init_136 : decode cX11_init 136 = .ok (.multianewarray 44 2, 4) := by decide +kernel
theorem dX11_init_140 : decode cX11_init 140 = .ok (.putfield 58, 3) := dk_181 0 58 (dk_at dksX11_init_6 4 rfl rfl)
theorem dX11_init_143 : decode cX11_init 143 = .ok (.aload_n 0, 1) := dk_42 (dk_at dksX11_init_6 7 rfl rfl)
theorem dX11_init_144 : decode cX11_init 144 = .ok (.bipush 6, 2) := dk_16 6 (dk_at dksX11_init_6 8 rfl rfl)
theorem dX11_init_146 : decode cX11_init 146 = .ok (.bipush 8, 2) := dk_16 8 (dk_at dksX11_init_6 10 rfl rfl)
theorem dX11_init_148 : decode cX11_init 148 = .ok (.multianewarray 44 2, 4) := by decide +kernel
theorem dX11_init_152 : decode cX11_init 152 = .ok (.putfield 61, 3) := dk_181 0 61 (dk_at dksX11_init_6 16 rfl rfl)
theorem dX11_init_155 : decode cX11_init 155 = .ok (.aload_n 0, 1) := dk_42 (dk_at dksX11_init_6 19 rfl rfl)
theorem dX11_init_156 : decode cX11_init 156 = .ok (.bipush 9, 2) := dk_16 9 (dk_at dksX11_init_6 20 rfl rfl)
theorem dX11_init_158 : decode cX11_init 158 = .ok (.bipush 9, 2) := dk_16 9 (dk_at dksX11_init_6 22 rfl rfl)
theorem dX11_init_160 : decode cX11_init 160 = .ok (.multianewarray 44 2, 4) := by decide +kernel
theorem dX11_init_164 : decode cX11_init 164 = .ok (.putfield 64, 3) := dk_181 0 64 (dk_at dksX11_init_7 4 rfl rfl)
theorem dX11_init_167 : decode cX11_init 167 = .ok (.aload_n 0, 1) := dk_42 (dk_at dksX11_init_7 7 rfl rfl)
theorem dX11_init_168 : decode cX11_init 168 = .ok (.bipush 9, 2) := dk_16 9 (dk_at dksX11_init_7 8 rfl rfl)
theorem dX11_init_170 : decode cX11_init 170 = .ok (.bipush 9, 2) := dk_16 9 (dk_at dksX11_init_7 10 rfl rfl)
theorem dX11_init_172 : decode cX11_init 172 = .ok (.multianewarray 44 2, 4) := by decide +kernel
theorem dX11_init_176 : decode cX11_init 176 = .ok (.putfield 67, 3) := dk_181 0 67 (dk_at dksX11_init_7 16 rfl rfl)
theorem dX11_init_179 : decode cX11_init 179 = .ok (.aload_n 0, 1) := dk_42 (dk_at dksX11_init_7 19 rfl rfl)
theorem dX11_init_180 : decode cX11_init 180 = .ok (.sipush 160, 3) := dk_17 0 160 (dk_at dksX11_init_7 20 rfl rfl)
theorem dX11_init_183 : decode cX11_init 183 = .ok (.iconst 2, 1) := dk_5 (dk_at dksX11_init_7 23 rfl rfl)
theorem dX11_init_184 : decode cX11_init 184 = .ok (.multianewarray 44 2, 4) := by decide +kernel
theorem dX11_init_188 : decode cX11_init 188 = .ok (.putfield 70, 3) := dk_181 0 70 (dk_at dksX11_init_8 4 rfl rfl)
theorem dX11_init_191 : decode cX11_init 191 = .ok (.aload_n 0, 1) := dk_42 (dk_at dksX11_init_8 7 rfl rfl)
theorem dX11_init_192 : decode cX11_init 192 = .ok (.sipush 160, 3) := dk_17 0 160 (dk_at dksX11_init_8 8 rfl rfl)
theorem dX11_init_195 : decode cX11_init 195 = .ok (.iconst 2, 1) := dk_5 (dk_at dksX11_init_8 11 rfl rfl)
theorem dX11_init_196 : decode cX11_init 196 = .ok (.multianewarray 44 2, 4) := by decide +kernel
theorem dX11_init_200 : decode cX11_init 200 = .ok (.putfield 73, 3) := dk_181 0 73 (dk_at dksX11_init_8 16 rfl rfl)
theorem dX11_init_203 : decode cX11_init 203 = .ok (.aload_n 0, 1) := dk_42 (dk_at dksX11_init_8 19 rfl rfl)
theorem dX11_init_204 : decode cX11_init 204 = .ok (.bipush 12, 2) := dk_16 12 (dk_at dksX11_init_8 20 rfl rfl)
theorem dX11_init_206 : decode cX11_init 206 = .ok (.iconst 3, 1) := dk_6 (dk_at dksX11_init_8 22 rfl rfl)
theorem dX11_init_207 : decode cX11_init 207 = .ok (.multianewarray 44 2, 4) := by decide +kernel
theorem dX11_init_211 : decode cX11_init 211 = .ok (.putfield 76, 3) := dk_181 0 76 (dk_at dksX11_init_9 4 rfl rfl)
theorem dX11_init_214 : decode cX11_init 214 = .ok (.aload_n 0, 1) := dk_42 (dk_at dksX11_init_9 7 rfl rfl)
theorem dX11_init_215 : decode cX11_init 215 = .ok (.bipush 12, 2) := dk_16 12 (dk_at dksX11_init_9 8 rfl rfl)
theorem dX11_init_217 : decode cX11_init 217 = .ok (.iconst 3, 1) := dk_6 (dk_at dksX11_init_9 10 rfl rfl)
theorem dX11_init_218 : decode cX11_init 218 = .ok (.multianewarray 44 2, 4) := by decide +kernel
theorem dX11_init_222 : decode cX11_init 222 = .ok (.putfield 79, 3) := dk_181 0 79 (dk_at dksX11_init_9 15 rfl rfl)
theorem dX11_init_225 : decode cX11_init 225 = .ok (.aload_n 0, 1) := dk_42 (dk_at dksX11_init_9 18 rfl rfl)
theorem dX11_init_226 : decode cX11_init 226 = .ok (.iconst 3, 1) := dk_6 (dk_at dksX11_init_9 19 rfl rfl)
theorem dX11_init_227 : decode cX11_init 227 = .ok (.bipush 107, 2) := dk_16 107 (dk_at dksX11_init_9 20 rfl rfl)
theorem dX11_init_229 : decode cX11_init 229 = .ok (.multianewarray 44 2, 4) := by decide +kernel
theorem dX11_init_233 : decode cX11_init 233 = .ok (.putfield 82, 3) := dk_181 0 82 (dk_at dksX11_init_10 4 rfl rfl)
theorem dX11_init_236 : decode cX11_init 236 = .ok (.aload_n 0, 1) := dk_42 (dk_at dksX11_init_10 7 rfl rfl)
theorem dX11_init_237 : decode cX11_init 237 = .ok (.sipush 160, 3) := dk_17 0 160 (dk_at dksX11_init_10 8 rfl rfl)
theorem dX11_init_240 : decode cX11_init 240 = .ok (.newarray .int, 2) := dk_188_10 (dk_at dksX11_init_10 11 rfl rfl)
theorem dX11_init_242 : decode cX11_init 242 = .ok (.putfield 85, 3) := dk_181 0 85 (dk_at dksX11_init_10 13 rfl rfl)
theorem dX11_init_245 : decode cX11_init 245 = .ok (.aload_n 0, 1) := dk_42 (dk_at dksX11_init_10 16 rfl rfl)
theorem dX11_init_246 : decode cX11_init 246 = .ok (.bipush 9, 2) := dk_16 9 (dk_at dksX11_init_10 17 rfl rfl)
theorem dX11_init_248 : decode cX11_init 248 = .ok (.newarray .int, 2) := dk_188_10 (dk_at dksX11_init_10 19 rfl rfl)
theorem dX11_init_250 : decode cX11_init 250 = .ok (.putfield 88, 3) := dk_181 0 88 (dk_at dksX11_init_10 21 rfl rfl)
theorem dX11_init_253 : decode cX11_init 253 = .ok (.aload_n 0, 1) := dk_42 (dk_at dksX11_init_11 0 rfl rfl)
theorem dX11_init_254 : decode cX11_init 254 = .ok (.bipush 107, 2) := dk_16 107 (dk_at dksX11_init_11 1 rfl rfl)
theorem dX11_init_256 : decode cX11_init 256 = .ok (.newarray .int, 2) := dk_188_10 (dk_at dksX11_init_11 3 rfl rfl)
theorem dX11_init_258 : decode cX11_init 258 = .ok (.putfield 91, 3) := dk_181 0 91 (dk_at dksX11_init_11 5 rfl rfl)
theorem dX11_init_261 : decode cX11_init 261 = .ok (.aload_n 0, 1) := dk_42 (dk_at dksX11_init_11 8 rfl rfl)
theorem dX11_init_262 : decode cX11_init 262 = .ok (.bipush 107, 2) := dk_16 107 (dk_at dksX11_init_11 9 rfl rfl)
theorem dX11_init_264 : decode cX11_init 264 = .ok (.newarray .int, 2) := dk_188_10 (dk_at dksX11_init_11 11 rfl rfl)
theorem dX11_init_266 : decode cX11_init 266 = .ok (.putfield 94, 3) := dk_181 0 94 (dk_at dksX11_init_11 13 rfl rfl)
theorem dX11_init_269 : decode cX11_init 269 = .ok (.aload_n 0, 1) := dk_42 (dk_at dksX11_init_11 16 rfl rfl)
theorem dX11_init_270 : decode cX11_init 270 = .ok (.bipush 107, 2) := dk_16 107 (dk_at dksX11_init_11 17 rfl rfl)
theorem dX11_init_272 : decode cX11_init 272 = .ok (.newarray .int, 2) := dk_188_10 (dk_at dksX11_init_11 19 rfl rfl)
theorem dX11_init_274 : decode cX11_init 274 = .ok (.putfield 97, 3) := dk_181 0 97 (dk_at dksX11_init_11 21 rfl rfl)
theorem dX11_init_277 : decode cX11_init 277 = .ok (.aload_n 0, 1) := dk_42 (dk_at dksX11_init_12 0 rfl rfl)
theorem dX11_init_278 : decode cX11_init 278 = .ok (.bipush 107, 2) := dk_16 107 (dk_at dksX11_init_12 1 rfl rfl)
theorem dX11_init_280 : decode cX11_init 280 = .ok (.newarray .int, 2) := dk_188_10 (dk_at dksX11_init_12 3 rfl rfl)
theorem dX11_init_282 : decode cX11_init 282 = .ok (.putfield 100, 3) := dk_181 0 100 (dk_at dksX11_init_12 5 rfl rfl)
theorem dX11_init_285 : decode cX11_init 285 = .ok (.aload_n 0, 1) := dk_42 (dk_at dksX11_init_12 8 rfl rfl)
theorem dX11_init_286 : decode cX11_init 286 = .ok (.bipush 107, 2) := dk_16 107 (dk_at dksX11_init_12 9 rfl rfl)
theorem dX11_init_288 : decode cX11_init 288 = .ok (.newarray .int, 2) := dk_188_10 (dk_at dksX11_init_12 11 rfl rfl)
theorem dX11_init_290 : decode cX11_init 290 = .ok (.putfield 103, 3) := dk_181 0 103 (dk_at dksX11_init_12 13 rfl rfl)
theorem dX11_init_293 : decode cX11_init 293 = .ok (.aload_n 0, 1) := dk_42 (dk_at dksX11_init_12 16 rfl rfl)
theorem dX11_init_294 : decode cX11_init 294 = .ok (.bipush 12, 2) := dk_16 12 (dk_at dksX11_init_12 17 rfl rfl)
theorem dX11_init_296 : decode cX11_init 296 = .ok (.newarray .int, 2) := dk_188_10 (dk_at dksX11_init_12 19 rfl rfl)
theorem dX11_init_298 : decode cX11_init 298 = .ok (.putfield 106, 3) := dk_181 0 106 (dk_at dksX11_init_12 21 rfl rfl)
theorem dX11_init_301 : decode cX11_init 301 = .ok (.aload_n 0, 1) := dk_42 (dk_at dksX11_init_13 0 rfl rfl)
theorem dX11_init_302 : decode cX11_init 302 = .ok (.bipush 12, 2) := dk_16 12 (dk_at dksX11_init_13 1 rfl rfl)
theorem dX11_init_304 : decode cX11_init 304 = .ok (.newarray .int, 2) := dk_188_10 (dk_at dksX11_init_13 3 rfl rfl)
theorem dX11_init_306 : decode cX11_init 306 = .ok (.putfield 109, 3) := dk_181 0 109 (dk_at dksX11_init_13 5 rfl rfl)
theorem dX11_init_309 : decode cX11_init 309 = .ok (.aload_n 0, 1) := dk_42 (dk_at dksX11_init_13 8 rfl rfl)
theorem dX11_init_310 : decode cX11_init 310 = .ok (.bipush 12, 2) := dk_16 12 (dk_at dksX11_init_13 9 rfl rfl)
theorem dX11_init_312 : decode cX11_init 312 = .ok (.newarray .int, 2) := dk_188_10 (dk_at dksX11_init_13 11 rfl rfl)
theorem dX11_init_314 : decode cX11_init 314 = .ok (.putfield 112, 3) := dk_181 0 112 (dk_at dksX11_init_13 13 rfl rfl)
theorem dX11_init_317 : decode cX11_init 317 = .ok (.aload_n 0, 1) := dk_42 (dk_at dksX11_init_13 16 rfl rfl)
theorem dX11_init_318 : decode cX11_init 318 = .ok (.bipush 12, 2) := dk_16 12 (dk_at dksX11_init_13 17 rfl rfl)
theorem dX11_init_320 : decode cX11_init 320 = .ok (.newarray .int, 2) := dk_188_10 (dk_at dksX11_init_13 19 rfl rfl)
theorem dX11_init_322 : decode cX11_init 322 = .ok (.putfield 115, 3) := dk_181 0 115 (dk_at dksX11_init_13 21 rfl rfl)
theorem dX11_init_325 : decode cX11_init 325 = .ok (.aload_n 0, 1) := dk_42 (dk_at dksX11_init_14 0 rfl rfl)
theorem dX11_init_326 : decode cX11_init 326 = .ok (.bipush 12, 2) := dk_16 12 (dk_at dksX11_init_14 1 rfl rfl)
theorem dX11_init_328 : decode cX11_init 328 = .ok (.newarray .int, 2) := dk_188_10 (dk_at dksX11_init_14 3 rfl rfl)
theorem dX11_init_330 : decode cX11_init 330 = .ok (.putfield 118, 3) := dk_181 0 118 (dk_at dksX11_init_14 5 rfl rfl)
theorem dX11_init_333 : decode cX11_init 333 = .ok (.aload_n 0, 1) := dk_42 (dk_at dksX11_init_14 8 rfl rfl)
theorem dX11_init_334 : decode cX11_init 334 = .ok (.bipush 12, 2) := dk_16 12 (dk_at dksX11_init_14 9 rfl rfl)
theorem dX11_init_336 : decode cX11_init 336 = .ok (.newarray .boolean, 2) := dk_188_4 (dk_at dksX11_init_14 11 rfl rfl)
theorem dX11_init_338 : decode cX11_init 338 = .ok (.putfield 121, 3) := dk_181 0 121 (dk_at dksX11_init_14 13 rfl rfl)
theorem dX11_init_341 : decode cX11_init 341 = .ok (.aload_n 0, 1) := dk_42 (dk_at dksX11_init_14 16 rfl rfl)
theorem dX11_init_342 : decode cX11_init 342 = .ok (.bipush 9, 2) := dk_16 9 (dk_at dksX11_init_14 17 rfl rfl)
theorem dX11_init_344 : decode cX11_init 344 = .ok (.newarray .int, 2) := dk_188_10 (dk_at dksX11_init_14 19 rfl rfl)
theorem dX11_init_346 : decode cX11_init 346 = .ok (.putfield 125, 3) := dk_181 0 125 (dk_at dksX11_init_14 21 rfl rfl)
theorem dX11_init_349 : decode cX11_init 349 = .ok (.aload_n 0, 1) := dk_42 (dk_at dksX11_init_15 0 rfl rfl)
theorem dX11_init_350 : decode cX11_init 350 = .ok (.invokevirtual 128, 3) := dk_182 0 128 (dk_at dksX11_init_15 1 rfl rfl)
theorem dX11_init_353 : decode cX11_init 353 = .ok (.aload_n 0, 1) := dk_42 (dk_at dksX11_init_15 4 rfl rfl)
theorem dX11_init_354 : decode cX11_init 354 = .ok (.invokevirtual 131, 3) := dk_182 0 131 (dk_at dksX11_init_15 5 rfl rfl)
theorem dX11_init_357 : decode cX11_init 357 = .ok (.return_, 1) := dk_177 (dk_at dksX11_init_15 8 rfl rfl)
abbrev cX11_tellsNothing : ByteArray := prog_22_method_2_code
def yX11_tellsNothing : MethodName := ⟨RX11, "tellsNothing", "()V"⟩
def dkwX11_tellsNothing_4 : List UInt8 := [132, 1, 1, 167, 255, 233, 177]
abbrev dktX11_tellsNothing_4 : List UInt8 := dkwX11_tellsNothing_4 ++ []
def dkwX11_tellsNothing_3 : List UInt8 := [3, 60, 27, 16, 8, 162, 0, 23, 42, 180, 0, 26, 27, 3, 79, 42, 180, 0, 32, 27, 3, 79]
abbrev dktX11_tellsNothing_3 : List UInt8 := dkwX11_tellsNothing_3 ++ dktX11_tellsNothing_4
def dkwX11_tellsNothing_2 : List UInt8 := [162, 0, 18, 42, 180, 0, 64, 27, 50, 28, 3, 79, 132, 2, 1, 167, 255, 238, 132, 1, 1, 167, 255, 217]
abbrev dktX11_tellsNothing_2 : List UInt8 := dkwX11_tellsNothing_2 ++ dktX11_tellsNothing_3
def dkwX11_tellsNothing_1 : List UInt8 := [6, 4, 79, 3, 60, 27, 16, 9, 162, 0, 39, 42, 180, 0, 38, 27, 3, 79, 3, 61, 28, 16, 9]
abbrev dktX11_tellsNothing_1 : List UInt8 := dkwX11_tellsNothing_1 ++ dktX11_tellsNothing_2
def dkwX11_tellsNothing_0 : List UInt8 := [3, 60, 27, 6, 162, 0, 16, 42, 180, 0, 20, 27, 3, 79, 132, 1, 1, 167, 255, 241, 42, 180, 0, 20]
abbrev dktX11_tellsNothing_0 : List UInt8 := dkwX11_tellsNothing_0 ++ dktX11_tellsNothing_1
theorem dksX11_tellsNothing_0 : cX11_tellsNothing.data.toList.drop 0 = dktX11_tellsNothing_0 := by decide +kernel
theorem dksX11_tellsNothing_1 : cX11_tellsNothing.data.toList.drop 24 = dktX11_tellsNothing_1 := dk_seg dksX11_tellsNothing_0 24 rfl rfl
theorem dksX11_tellsNothing_2 : cX11_tellsNothing.data.toList.drop 47 = dktX11_tellsNothing_2 := dk_seg dksX11_tellsNothing_1 23 rfl rfl
theorem dksX11_tellsNothing_3 : cX11_tellsNothing.data.toList.drop 71 = dktX11_tellsNothing_3 := dk_seg dksX11_tellsNothing_2 24 rfl rfl
theorem dksX11_tellsNothing_4 : cX11_tellsNothing.data.toList.drop 93 = dktX11_tellsNothing_4 := dk_seg dksX11_tellsNothing_3 22 rfl rfl
theorem dX11_tellsNothing_0 : decode cX11_tellsNothing 0 = .ok (.iconst 0, 1) := dk_3 (dk_at dksX11_tellsNothing_0 0 rfl rfl)
theorem dX11_tellsNothing_1 : decode cX11_tellsNothing 1 = .ok (.istore_n 1, 1) := dk_60 (dk_at dksX11_tellsNothing_0 1 rfl rfl)
theorem dX11_tellsNothing_2 : decode cX11_tellsNothing 2 = .ok (.iload_n 1, 1) := dk_27 (dk_at dksX11_tellsNothing_0 2 rfl rfl)
theorem dX11_tellsNothing_3 : decode cX11_tellsNothing 3 = .ok (.iconst 3, 1) := dk_6 (dk_at dksX11_tellsNothing_0 3 rfl rfl)
theorem dX11_tellsNothing_4 : decode cX11_tellsNothing 4 = .ok (.if_icmp .ge 16, 3) := dk_162 0 16 (dk_at dksX11_tellsNothing_0 4 rfl rfl)
theorem dX11_tellsNothing_7 : decode cX11_tellsNothing 7 = .ok (.aload_n 0, 1) := dk_42 (dk_at dksX11_tellsNothing_0 7 rfl rfl)
theorem dX11_tellsNothing_8 : decode cX11_tellsNothing 8 = .ok (.getfield 20, 3) := dk_180 0 20 (dk_at dksX11_tellsNothing_0 8 rfl rfl)
theorem dX11_tellsNothing_11 : decode cX11_tellsNothing 11 = .ok (.iload_n 1, 1) := dk_27 (dk_at dksX11_tellsNothing_0 11 rfl rfl)
theorem dX11_tellsNothing_12 : decode cX11_tellsNothing 12 = .ok (.iconst 0, 1) := dk_3 (dk_at dksX11_tellsNothing_0 12 rfl rfl)
theorem dX11_tellsNothing_13 : decode cX11_tellsNothing 13 = .ok (.iastore, 1) := dk_79 (dk_at dksX11_tellsNothing_0 13 rfl rfl)
theorem dX11_tellsNothing_14 : decode cX11_tellsNothing 14 = .ok (.iinc 1 1, 3) := dk_132 1 1 (dk_at dksX11_tellsNothing_0 14 rfl rfl)
theorem dX11_tellsNothing_17 : decode cX11_tellsNothing 17 = .ok (.goto (-15), 3) := dk_167 255 241 (dk_at dksX11_tellsNothing_0 17 rfl rfl)
theorem dX11_tellsNothing_20 : decode cX11_tellsNothing 20 = .ok (.aload_n 0, 1) := dk_42 (dk_at dksX11_tellsNothing_0 20 rfl rfl)
theorem dX11_tellsNothing_21 : decode cX11_tellsNothing 21 = .ok (.getfield 20, 3) := dk_180 0 20 (dk_at dksX11_tellsNothing_0 21 rfl rfl)
theorem dX11_tellsNothing_24 : decode cX11_tellsNothing 24 = .ok (.iconst 3, 1) := dk_6 (dk_at dksX11_tellsNothing_1 0 rfl rfl)
theorem dX11_tellsNothing_25 : decode cX11_tellsNothing 25 = .ok (.iconst 1, 1) := dk_4 (dk_at dksX11_tellsNothing_1 1 rfl rfl)
theorem dX11_tellsNothing_26 : decode cX11_tellsNothing 26 = .ok (.iastore, 1) := dk_79 (dk_at dksX11_tellsNothing_1 2 rfl rfl)
theorem dX11_tellsNothing_27 : decode cX11_tellsNothing 27 = .ok (.iconst 0, 1) := dk_3 (dk_at dksX11_tellsNothing_1 3 rfl rfl)
theorem dX11_tellsNothing_28 : decode cX11_tellsNothing 28 = .ok (.istore_n 1, 1) := dk_60 (dk_at dksX11_tellsNothing_1 4 rfl rfl)
theorem dX11_tellsNothing_29 : decode cX11_tellsNothing 29 = .ok (.iload_n 1, 1) := dk_27 (dk_at dksX11_tellsNothing_1 5 rfl rfl)
theorem dX11_tellsNothing_30 : decode cX11_tellsNothing 30 = .ok (.bipush 9, 2) := dk_16 9 (dk_at dksX11_tellsNothing_1 6 rfl rfl)
theorem dX11_tellsNothing_32 : decode cX11_tellsNothing 32 = .ok (.if_icmp .ge 39, 3) := dk_162 0 39 (dk_at dksX11_tellsNothing_1 8 rfl rfl)
theorem dX11_tellsNothing_35 : decode cX11_tellsNothing 35 = .ok (.aload_n 0, 1) := dk_42 (dk_at dksX11_tellsNothing_1 11 rfl rfl)
theorem dX11_tellsNothing_36 : decode cX11_tellsNothing 36 = .ok (.getfield 38, 3) := dk_180 0 38 (dk_at dksX11_tellsNothing_1 12 rfl rfl)
theorem dX11_tellsNothing_39 : decode cX11_tellsNothing 39 = .ok (.iload_n 1, 1) := dk_27 (dk_at dksX11_tellsNothing_1 15 rfl rfl)
theorem dX11_tellsNothing_40 : decode cX11_tellsNothing 40 = .ok (.iconst 0, 1) := dk_3 (dk_at dksX11_tellsNothing_1 16 rfl rfl)
theorem dX11_tellsNothing_41 : decode cX11_tellsNothing 41 = .ok (.iastore, 1) := dk_79 (dk_at dksX11_tellsNothing_1 17 rfl rfl)
theorem dX11_tellsNothing_42 : decode cX11_tellsNothing 42 = .ok (.iconst 0, 1) := dk_3 (dk_at dksX11_tellsNothing_1 18 rfl rfl)
theorem dX11_tellsNothing_43 : decode cX11_tellsNothing 43 = .ok (.istore_n 2, 1) := dk_61 (dk_at dksX11_tellsNothing_1 19 rfl rfl)
theorem dX11_tellsNothing_44 : decode cX11_tellsNothing 44 = .ok (.iload_n 2, 1) := dk_28 (dk_at dksX11_tellsNothing_1 20 rfl rfl)
theorem dX11_tellsNothing_45 : decode cX11_tellsNothing 45 = .ok (.bipush 9, 2) := dk_16 9 (dk_at dksX11_tellsNothing_1 21 rfl rfl)
theorem dX11_tellsNothing_47 : decode cX11_tellsNothing 47 = .ok (.if_icmp .ge 18, 3) := dk_162 0 18 (dk_at dksX11_tellsNothing_2 0 rfl rfl)
theorem dX11_tellsNothing_50 : decode cX11_tellsNothing 50 = .ok (.aload_n 0, 1) := dk_42 (dk_at dksX11_tellsNothing_2 3 rfl rfl)
theorem dX11_tellsNothing_51 : decode cX11_tellsNothing 51 = .ok (.getfield 64, 3) := dk_180 0 64 (dk_at dksX11_tellsNothing_2 4 rfl rfl)
theorem dX11_tellsNothing_54 : decode cX11_tellsNothing 54 = .ok (.iload_n 1, 1) := dk_27 (dk_at dksX11_tellsNothing_2 7 rfl rfl)
theorem dX11_tellsNothing_55 : decode cX11_tellsNothing 55 = .ok (.aaload, 1) := dk_50 (dk_at dksX11_tellsNothing_2 8 rfl rfl)
theorem dX11_tellsNothing_56 : decode cX11_tellsNothing 56 = .ok (.iload_n 2, 1) := dk_28 (dk_at dksX11_tellsNothing_2 9 rfl rfl)
theorem dX11_tellsNothing_57 : decode cX11_tellsNothing 57 = .ok (.iconst 0, 1) := dk_3 (dk_at dksX11_tellsNothing_2 10 rfl rfl)
theorem dX11_tellsNothing_58 : decode cX11_tellsNothing 58 = .ok (.iastore, 1) := dk_79 (dk_at dksX11_tellsNothing_2 11 rfl rfl)
theorem dX11_tellsNothing_59 : decode cX11_tellsNothing 59 = .ok (.iinc 2 1, 3) := dk_132 2 1 (dk_at dksX11_tellsNothing_2 12 rfl rfl)
theorem dX11_tellsNothing_62 : decode cX11_tellsNothing 62 = .ok (.goto (-18), 3) := dk_167 255 238 (dk_at dksX11_tellsNothing_2 15 rfl rfl)
theorem dX11_tellsNothing_65 : decode cX11_tellsNothing 65 = .ok (.iinc 1 1, 3) := dk_132 1 1 (dk_at dksX11_tellsNothing_2 18 rfl rfl)
theorem dX11_tellsNothing_68 : decode cX11_tellsNothing 68 = .ok (.goto (-39), 3) := dk_167 255 217 (dk_at dksX11_tellsNothing_2 21 rfl rfl)
theorem dX11_tellsNothing_71 : decode cX11_tellsNothing 71 = .ok (.iconst 0, 1) := dk_3 (dk_at dksX11_tellsNothing_3 0 rfl rfl)
theorem dX11_tellsNothing_72 : decode cX11_tellsNothing 72 = .ok (.istore_n 1, 1) := dk_60 (dk_at dksX11_tellsNothing_3 1 rfl rfl)
theorem dX11_tellsNothing_73 : decode cX11_tellsNothing 73 = .ok (.iload_n 1, 1) := dk_27 (dk_at dksX11_tellsNothing_3 2 rfl rfl)
theorem dX11_tellsNothing_74 : decode cX11_tellsNothing 74 = .ok (.bipush 8, 2) := dk_16 8 (dk_at dksX11_tellsNothing_3 3 rfl rfl)
theorem dX11_tellsNothing_76 : decode cX11_tellsNothing 76 = .ok (.if_icmp .ge 23, 3) := dk_162 0 23 (dk_at dksX11_tellsNothing_3 5 rfl rfl)
theorem dX11_tellsNothing_79 : decode cX11_tellsNothing 79 = .ok (.aload_n 0, 1) := dk_42 (dk_at dksX11_tellsNothing_3 8 rfl rfl)
theorem dX11_tellsNothing_80 : decode cX11_tellsNothing 80 = .ok (.getfield 26, 3) := dk_180 0 26 (dk_at dksX11_tellsNothing_3 9 rfl rfl)
theorem dX11_tellsNothing_83 : decode cX11_tellsNothing 83 = .ok (.iload_n 1, 1) := dk_27 (dk_at dksX11_tellsNothing_3 12 rfl rfl)
theorem dX11_tellsNothing_84 : decode cX11_tellsNothing 84 = .ok (.iconst 0, 1) := dk_3 (dk_at dksX11_tellsNothing_3 13 rfl rfl)
theorem dX11_tellsNothing_85 : decode cX11_tellsNothing 85 = .ok (.iastore, 1) := dk_79 (dk_at dksX11_tellsNothing_3 14 rfl rfl)
theorem dX11_tellsNothing_86 : decode cX11_tellsNothing 86 = .ok (.aload_n 0, 1) := dk_42 (dk_at dksX11_tellsNothing_3 15 rfl rfl)
theorem dX11_tellsNothing_87 : decode cX11_tellsNothing 87 = .ok (.getfield 32, 3) := dk_180 0 32 (dk_at dksX11_tellsNothing_3 16 rfl rfl)
theorem dX11_tellsNothing_90 : decode cX11_tellsNothing 90 = .ok (.iload_n 1, 1) := dk_27 (dk_at dksX11_tellsNothing_3 19 rfl rfl)
theorem dX11_tellsNothing_91 : decode cX11_tellsNothing 91 = .ok (.iconst 0, 1) := dk_3 (dk_at dksX11_tellsNothing_3 20 rfl rfl)
theorem dX11_tellsNothing_92 : decode cX11_tellsNothing 92 = .ok (.iastore, 1) := dk_79 (dk_at dksX11_tellsNothing_3 21 rfl rfl)
theorem dX11_tellsNothing_93 : decode cX11_tellsNothing 93 = .ok (.iinc 1 1, 3) := dk_132 1 1 (dk_at dksX11_tellsNothing_4 0 rfl rfl)
theorem dX11_tellsNothing_96 : decode cX11_tellsNothing 96 = .ok (.goto (-23), 3) := dk_167 255 233 (dk_at dksX11_tellsNothing_4 3 rfl rfl)
theorem dX11_tellsNothing_99 : decode cX11_tellsNothing 99 = .ok (.return_, 1) := dk_177 (dk_at dksX11_tellsNothing_4 6 rfl rfl)
abbrev cX11_stands : ByteArray := prog_22_method_39_code
def yX11_stands : MethodName := ⟨RX11, "stands", "()V"⟩
def dkwX11_stands_13 : List UInt8 := [181, 1, 20, 42, 182, 1, 23, 177]
abbrev dktX11_stands_13 : List UInt8 := dkwX11_stands_13 ++ []
def dkwX11_stands_12 : List UInt8 := [180, 0, 97, 42, 180, 0, 91, 184, 1, 10, 42, 3, 181, 1, 14, 42, 3, 181, 1, 17, 42, 3]
abbrev dktX11_stands_12 : List UInt8 := dkwX11_stands_12 ++ dktX11_stands_13
def dkwX11_stands_11 : List UInt8 := [153, 0, 7, 3, 167, 0, 4, 2, 79, 132, 2, 1, 167, 255, 215, 132, 1, 1, 167, 255, 132, 42]
abbrev dktX11_stands_11 : List UInt8 := dkwX11_stands_11 ++ dktX11_stands_12
def dkwX11_stands_10 : List UInt8 := [42, 180, 0, 97, 16, 25, 16, 8, 28, 104, 96, 27, 96, 42, 180, 0, 29, 27, 46, 28, 184, 0, 242]
abbrev dktX11_stands_10 : List UInt8 := dkwX11_stands_10 ++ dktX11_stands_11
def dkwX11_stands_9 : List UInt8 := [162, 0, 14, 42, 180, 0, 55, 27, 50, 5, 46, 167, 0, 4, 3, 79, 3, 61, 28, 16, 9, 162, 0, 41]
abbrev dktX11_stands_9 : List UInt8 := dkwX11_stands_9 ++ dktX11_stands_10
def dkwX11_stands_8 : List UInt8 := [27, 96, 42, 180, 0, 29, 27, 46, 79, 42, 180, 0, 97, 16, 9, 27, 96, 27, 42, 180, 0, 23, 4, 46]
abbrev dktX11_stands_8 : List UInt8 := dkwX11_stands_8 ++ dktX11_stands_9
def dkwX11_stands_7 : List UInt8 := [42, 180, 0, 26, 27, 46, 79, 42, 180, 0, 35, 27, 42, 180, 0, 32, 27, 46, 79, 42, 180, 0, 97, 4]
abbrev dktX11_stands_7 : List UInt8 := dkwX11_stands_7 ++ dktX11_stands_8
def dkwX11_stands_6 : List UInt8 := [167, 0, 4, 3, 79, 132, 1, 1, 167, 255, 225, 3, 60, 27, 16, 8, 162, 0, 124, 42, 180, 0, 29, 27]
abbrev dktX11_stands_6 : List UInt8 := dkwX11_stands_6 ++ dktX11_stands_7
def dkwX11_stands_5 : List UInt8 := [60, 27, 16, 107, 162, 0, 31, 42, 180, 0, 97, 27, 27, 16, 17, 16, 105, 184, 0, 168, 153, 0, 7, 2]
abbrev dktX11_stands_5 : List UInt8 := dkwX11_stands_5 ++ dktX11_stands_6
def dkwX11_stands_4 : List UInt8 := [16, 9, 162, 0, 21, 42, 180, 0, 41, 27, 42, 180, 0, 38, 27, 46, 79, 132, 1, 1, 167, 255, 235, 3]
abbrev dktX11_stands_4 : List UInt8 := dkwX11_stands_4 ++ dktX11_stands_5
def dkwX11_stands_3 : List UInt8 := [180, 0, 23, 5, 46, 184, 1, 6, 42, 180, 0, 64, 42, 180, 0, 67, 16, 9, 184, 1, 6, 3, 60, 27]
abbrev dktX11_stands_3 : List UInt8 := dkwX11_stands_3 ++ dktX11_stands_4
def dkwX11_stands_2 : List UInt8 := [42, 180, 0, 55, 42, 180, 0, 23, 4, 46, 184, 1, 6, 42, 180, 0, 58, 42, 180, 0, 61, 42]
abbrev dktX11_stands_2 : List UInt8 := dkwX11_stands_2 ++ dktX11_stands_3
def dkwX11_stands_1 : List UInt8 := [167, 255, 236, 42, 180, 0, 46, 42, 180, 0, 49, 42, 180, 0, 23, 3, 46, 184, 1, 6, 42, 180, 0, 52]
abbrev dktX11_stands_1 : List UInt8 := dkwX11_stands_1 ++ dktX11_stands_2
def dkwX11_stands_0 : List UInt8 := [3, 60, 27, 7, 162, 0, 21, 42, 180, 0, 23, 27, 42, 180, 0, 20, 27, 46, 79, 132, 1, 1]
abbrev dktX11_stands_0 : List UInt8 := dkwX11_stands_0 ++ dktX11_stands_1
theorem dksX11_stands_0 : cX11_stands.data.toList.drop 0 = dktX11_stands_0 := by decide +kernel
theorem dksX11_stands_1 : cX11_stands.data.toList.drop 22 = dktX11_stands_1 := dk_seg dksX11_stands_0 22 rfl rfl
theorem dksX11_stands_2 : cX11_stands.data.toList.drop 46 = dktX11_stands_2 := dk_seg dksX11_stands_1 24 rfl rfl
theorem dksX11_stands_3 : cX11_stands.data.toList.drop 68 = dktX11_stands_3 := dk_seg dksX11_stands_2 22 rfl rfl
theorem dksX11_stands_4 : cX11_stands.data.toList.drop 92 = dktX11_stands_4 := dk_seg dksX11_stands_3 24 rfl rfl
theorem dksX11_stands_5 : cX11_stands.data.toList.drop 116 = dktX11_stands_5 := dk_seg dksX11_stands_4 24 rfl rfl
theorem dksX11_stands_6 : cX11_stands.data.toList.drop 140 = dktX11_stands_6 := dk_seg dksX11_stands_5 24 rfl rfl
theorem dksX11_stands_7 : cX11_stands.data.toList.drop 164 = dktX11_stands_7 := dk_seg dksX11_stands_6 24 rfl rfl
theorem dksX11_stands_8 : cX11_stands.data.toList.drop 188 = dktX11_stands_8 := dk_seg dksX11_stands_7 24 rfl rfl
theorem dksX11_stands_9 : cX11_stands.data.toList.drop 212 = dktX11_stands_9 := dk_seg dksX11_stands_8 24 rfl rfl
theorem dksX11_stands_10 : cX11_stands.data.toList.drop 236 = dktX11_stands_10 := dk_seg dksX11_stands_9 24 rfl rfl
theorem dksX11_stands_11 : cX11_stands.data.toList.drop 259 = dktX11_stands_11 := dk_seg dksX11_stands_10 23 rfl rfl
theorem dksX11_stands_12 : cX11_stands.data.toList.drop 281 = dktX11_stands_12 := dk_seg dksX11_stands_11 22 rfl rfl
theorem dksX11_stands_13 : cX11_stands.data.toList.drop 303 = dktX11_stands_13 := dk_seg dksX11_stands_12 22 rfl rfl
theorem dX11_stands_0 : decode cX11_stands 0 = .ok (.iconst 0, 1) := dk_3 (dk_at dksX11_stands_0 0 rfl rfl)
theorem dX11_stands_1 : decode cX11_stands 1 = .ok (.istore_n 1, 1) := dk_60 (dk_at dksX11_stands_0 1 rfl rfl)
theorem dX11_stands_2 : decode cX11_stands 2 = .ok (.iload_n 1, 1) := dk_27 (dk_at dksX11_stands_0 2 rfl rfl)
theorem dX11_stands_3 : decode cX11_stands 3 = .ok (.iconst 4, 1) := dk_7 (dk_at dksX11_stands_0 3 rfl rfl)
theorem dX11_stands_4 : decode cX11_stands 4 = .ok (.if_icmp .ge 21, 3) := dk_162 0 21 (dk_at dksX11_stands_0 4 rfl rfl)
theorem dX11_stands_7 : decode cX11_stands 7 = .ok (.aload_n 0, 1) := dk_42 (dk_at dksX11_stands_0 7 rfl rfl)
theorem dX11_stands_8 : decode cX11_stands 8 = .ok (.getfield 23, 3) := dk_180 0 23 (dk_at dksX11_stands_0 8 rfl rfl)
theorem dX11_stands_11 : decode cX11_stands 11 = .ok (.iload_n 1, 1) := dk_27 (dk_at dksX11_stands_0 11 rfl rfl)
theorem dX11_stands_12 : decode cX11_stands 12 = .ok (.aload_n 0, 1) := dk_42 (dk_at dksX11_stands_0 12 rfl rfl)
theorem dX11_stands_13 : decode cX11_stands 13 = .ok (.getfield 20, 3) := dk_180 0 20 (dk_at dksX11_stands_0 13 rfl rfl)
theorem dX11_stands_16 : decode cX11_stands 16 = .ok (.iload_n 1, 1) := dk_27 (dk_at dksX11_stands_0 16 rfl rfl)
theorem dX11_stands_17 : decode cX11_stands 17 = .ok (.iaload, 1) := dk_46 (dk_at dksX11_stands_0 17 rfl rfl)
theorem dX11_stands_18 : decode cX11_stands 18 = .ok (.iastore, 1) := dk_79 (dk_at dksX11_stands_0 18 rfl rfl)
theorem dX11_stands_19 : decode cX11_stands 19 = .ok (.iinc 1 1, 3) := dk_132 1 1 (dk_at dksX11_stands_0 19 rfl rfl)
theorem dX11_stands_22 : decode cX11_stands 22 = .ok (.goto (-20), 3) := dk_167 255 236 (dk_at dksX11_stands_1 0 rfl rfl)
theorem dX11_stands_25 : decode cX11_stands 25 = .ok (.aload_n 0, 1) := dk_42 (dk_at dksX11_stands_1 3 rfl rfl)
theorem dX11_stands_26 : decode cX11_stands 26 = .ok (.getfield 46, 3) := dk_180 0 46 (dk_at dksX11_stands_1 4 rfl rfl)
theorem dX11_stands_29 : decode cX11_stands 29 = .ok (.aload_n 0, 1) := dk_42 (dk_at dksX11_stands_1 7 rfl rfl)
theorem dX11_stands_30 : decode cX11_stands 30 = .ok (.getfield 49, 3) := dk_180 0 49 (dk_at dksX11_stands_1 8 rfl rfl)
theorem dX11_stands_33 : decode cX11_stands 33 = .ok (.aload_n 0, 1) := dk_42 (dk_at dksX11_stands_1 11 rfl rfl)
theorem dX11_stands_34 : decode cX11_stands 34 = .ok (.getfield 23, 3) := dk_180 0 23 (dk_at dksX11_stands_1 12 rfl rfl)
theorem dX11_stands_37 : decode cX11_stands 37 = .ok (.iconst 0, 1) := dk_3 (dk_at dksX11_stands_1 15 rfl rfl)
theorem dX11_stands_38 : decode cX11_stands 38 = .ok (.iaload, 1) := dk_46 (dk_at dksX11_stands_1 16 rfl rfl)
theorem dX11_stands_39 : decode cX11_stands 39 = .ok (.invokestatic 262, 3) := dk_184 1 6 (dk_at dksX11_stands_1 17 rfl rfl)
theorem dX11_stands_42 : decode cX11_stands 42 = .ok (.aload_n 0, 1) := dk_42 (dk_at dksX11_stands_1 20 rfl rfl)
theorem dX11_stands_43 : decode cX11_stands 43 = .ok (.getfield 52, 3) := dk_180 0 52 (dk_at dksX11_stands_1 21 rfl rfl)
theorem dX11_stands_46 : decode cX11_stands 46 = .ok (.aload_n 0, 1) := dk_42 (dk_at dksX11_stands_2 0 rfl rfl)
theorem dX11_stands_47 : decode cX11_stands 47 = .ok (.getfield 55, 3) := dk_180 0 55 (dk_at dksX11_stands_2 1 rfl rfl)
theorem dX11_stands_50 : decode cX11_stands 50 = .ok (.aload_n 0, 1) := dk_42 (dk_at dksX11_stands_2 4 rfl rfl)
theorem dX11_stands_51 : decode cX11_stands 51 = .ok (.getfield 23, 3) := dk_180 0 23 (dk_at dksX11_stands_2 5 rfl rfl)
theorem dX11_stands_54 : decode cX11_stands 54 = .ok (.iconst 1, 1) := dk_4 (dk_at dksX11_stands_2 8 rfl rfl)
theorem dX11_stands_55 : decode cX11_stands 55 = .ok (.iaload, 1) := dk_46 (dk_at dksX11_stands_2 9 rfl rfl)
theorem dX11_stands_56 : decode cX11_stands 56 = .ok (.invokestatic 262, 3) := dk_184 1 6 (dk_at dksX11_stands_2 10 rfl rfl)
theorem dX11_stands_59 : decode cX11_stands 59 = .ok (.aload_n 0, 1) := dk_42 (dk_at dksX11_stands_2 13 rfl rfl)
theorem dX11_stands_60 : decode cX11_stands 60 = .ok (.getfield 58, 3) := dk_180 0 58 (dk_at dksX11_stands_2 14 rfl rfl)
theorem dX11_stands_63 : decode cX11_stands 63 = .ok (.aload_n 0, 1) := dk_42 (dk_at dksX11_stands_2 17 rfl rfl)
theorem dX11_stands_64 : decode cX11_stands 64 = .ok (.getfield 61, 3) := dk_180 0 61 (dk_at dksX11_stands_2 18 rfl rfl)
theorem dX11_stands_67 : decode cX11_stands 67 = .ok (.aload_n 0, 1) := dk_42 (dk_at dksX11_stands_2 21 rfl rfl)
theorem dX11_stands_68 : decode cX11_stands 68 = .ok (.getfield 23, 3) := dk_180 0 23 (dk_at dksX11_stands_3 0 rfl rfl)
theorem dX11_stands_71 : decode cX11_stands 71 = .ok (.iconst 2, 1) := dk_5 (dk_at dksX11_stands_3 3 rfl rfl)
theorem dX11_stands_72 : decode cX11_stands 72 = .ok (.iaload, 1) := dk_46 (dk_at dksX11_stands_3 4 rfl rfl)
theorem dX11_stands_73 : decode cX11_stands 73 = .ok (.invokestatic 262, 3) := dk_184 1 6 (dk_at dksX11_stands_3 5 rfl rfl)
theorem dX11_stands_76 : decode cX11_stands 76 = .ok (.aload_n 0, 1) := dk_42 (dk_at dksX11_stands_3 8 rfl rfl)
theorem dX11_stands_77 : decode cX11_stands 77 = .ok (.getfield 64, 3) := dk_180 0 64 (dk_at dksX11_stands_3 9 rfl rfl)
theorem dX11_stands_80 : decode cX11_stands 80 = .ok (.aload_n 0, 1) := dk_42 (dk_at dksX11_stands_3 12 rfl rfl)
theorem dX11_stands_81 : decode cX11_stands 81 = .ok (.getfield 67, 3) := dk_180 0 67 (dk_at dksX11_stands_3 13 rfl rfl)
theorem dX11_stands_84 : decode cX11_stands 84 = .ok (.bipush 9, 2) := dk_16 9 (dk_at dksX11_stands_3 16 rfl rfl)
theorem dX11_stands_86 : decode cX11_stands 86 = .ok (.invokestatic 262, 3) := dk_184 1 6 (dk_at dksX11_stands_3 18 rfl rfl)
theorem dX11_stands_89 : decode cX11_stands 89 = .ok (.iconst 0, 1) := dk_3 (dk_at dksX11_stands_3 21 rfl rfl)
theorem dX11_stands_90 : decode cX11_stands 90 = .ok (.istore_n 1, 1) := dk_60 (dk_at dksX11_stands_3 22 rfl rfl)
theorem dX11_stands_91 : decode cX11_stands 91 = .ok (.iload_n 1, 1) := dk_27 (dk_at dksX11_stands_3 23 rfl rfl)
theorem dX11_stands_92 : decode cX11_stands 92 = .ok (.bipush 9, 2) := dk_16 9 (dk_at dksX11_stands_4 0 rfl rfl)
theorem dX11_stands_94 : decode cX11_stands 94 = .ok (.if_icmp .ge 21, 3) := dk_162 0 21 (dk_at dksX11_stands_4 2 rfl rfl)
theorem dX11_stands_97 : decode cX11_stands 97 = .ok (.aload_n 0, 1) := dk_42 (dk_at dksX11_stands_4 5 rfl rfl)
theorem dX11_stands_98 : decode cX11_stands 98 = .ok (.getfield 41, 3) := dk_180 0 41 (dk_at dksX11_stands_4 6 rfl rfl)
theorem dX11_stands_101 : decode cX11_stands 101 = .ok (.iload_n 1, 1) := dk_27 (dk_at dksX11_stands_4 9 rfl rfl)
theorem dX11_stands_102 : decode cX11_stands 102 = .ok (.aload_n 0, 1) := dk_42 (dk_at dksX11_stands_4 10 rfl rfl)
theorem dX11_stands_103 : decode cX11_stands 103 = .ok (.getfield 38, 3) := dk_180 0 38 (dk_at dksX11_stands_4 11 rfl rfl)
theorem dX11_stands_106 : decode cX11_stands 106 = .ok (.iload_n 1, 1) := dk_27 (dk_at dksX11_stands_4 14 rfl rfl)
theorem dX11_stands_107 : decode cX11_stands 107 = .ok (.iaload, 1) := dk_46 (dk_at dksX11_stands_4 15 rfl rfl)
theorem dX11_stands_108 : decode cX11_stands 108 = .ok (.iastore, 1) := dk_79 (dk_at dksX11_stands_4 16 rfl rfl)
theorem dX11_stands_109 : decode cX11_stands 109 = .ok (.iinc 1 1, 3) := dk_132 1 1 (dk_at dksX11_stands_4 17 rfl rfl)
theorem dX11_stands_112 : decode cX11_stands 112 = .ok (.goto (-21), 3) := dk_167 255 235 (dk_at dksX11_stands_4 20 rfl rfl)
theorem dX11_stands_115 : decode cX11_stands 115 = .ok (.iconst 0, 1) := dk_3 (dk_at dksX11_stands_4 23 rfl rfl)
theorem dX11_stands_116 : decode cX11_stands 116 = .ok (.istore_n 1, 1) := dk_60 (dk_at dksX11_stands_5 0 rfl rfl)
theorem dX11_stands_117 : decode cX11_stands 117 = .ok (.iload_n 1, 1) := dk_27 (dk_at dksX11_stands_5 1 rfl rfl)
theorem dX11_stands_118 : decode cX11_stands 118 = .ok (.bipush 107, 2) := dk_16 107 (dk_at dksX11_stands_5 2 rfl rfl)
theorem dX11_stands_120 : decode cX11_stands 120 = .ok (.if_icmp .ge 31, 3) := dk_162 0 31 (dk_at dksX11_stands_5 4 rfl rfl)
theorem dX11_stands_123 : decode cX11_stands 123 = .ok (.aload_n 0, 1) := dk_42 (dk_at dksX11_stands_5 7 rfl rfl)
theorem dX11_stands_124 : decode cX11_stands 124 = .ok (.getfield 97, 3) := dk_180 0 97 (dk_at dksX11_stands_5 8 rfl rfl)
theorem dX11_stands_127 : decode cX11_stands 127 = .ok (.iload_n 1, 1) := dk_27 (dk_at dksX11_stands_5 11 rfl rfl)
theorem dX11_stands_128 : decode cX11_stands 128 = .ok (.iload_n 1, 1) := dk_27 (dk_at dksX11_stands_5 12 rfl rfl)
theorem dX11_stands_129 : decode cX11_stands 129 = .ok (.bipush 17, 2) := dk_16 17 (dk_at dksX11_stands_5 13 rfl rfl)
theorem dX11_stands_131 : decode cX11_stands 131 = .ok (.bipush 105, 2) := dk_16 105 (dk_at dksX11_stands_5 15 rfl rfl)
theorem dX11_stands_133 : decode cX11_stands 133 = .ok (.invokestatic 168, 3) := dk_184 0 168 (dk_at dksX11_stands_5 17 rfl rfl)
theorem dX11_stands_136 : decode cX11_stands 136 = .ok (.ifCond .eq 7, 3) := dk_153 0 7 (dk_at dksX11_stands_5 20 rfl rfl)
theorem dX11_stands_139 : decode cX11_stands 139 = .ok (.iconst (-1), 1) := dk_2 (dk_at dksX11_stands_5 23 rfl rfl)
theorem dX11_stands_140 : decode cX11_stands 140 = .ok (.goto 4, 3) := dk_167 0 4 (dk_at dksX11_stands_6 0 rfl rfl)
theorem dX11_stands_143 : decode cX11_stands 143 = .ok (.iconst 0, 1) := dk_3 (dk_at dksX11_stands_6 3 rfl rfl)
theorem dX11_stands_144 : decode cX11_stands 144 = .ok (.iastore, 1) := dk_79 (dk_at dksX11_stands_6 4 rfl rfl)
theorem dX11_stands_145 : decode cX11_stands 145 = .ok (.iinc 1 1, 3) := dk_132 1 1 (dk_at dksX11_stands_6 5 rfl rfl)
theorem dX11_stands_148 : decode cX11_stands 148 = .ok (.goto (-31), 3) := dk_167 255 225 (dk_at dksX11_stands_6 8 rfl rfl)
theorem dX11_stands_151 : decode cX11_stands 151 = .ok (.iconst 0, 1) := dk_3 (dk_at dksX11_stands_6 11 rfl rfl)
theorem dX11_stands_152 : decode cX11_stands 152 = .ok (.istore_n 1, 1) := dk_60 (dk_at dksX11_stands_6 12 rfl rfl)
theorem dX11_stands_153 : decode cX11_stands 153 = .ok (.iload_n 1, 1) := dk_27 (dk_at dksX11_stands_6 13 rfl rfl)
theorem dX11_stands_154 : decode cX11_stands 154 = .ok (.bipush 8, 2) := dk_16 8 (dk_at dksX11_stands_6 14 rfl rfl)
theorem dX11_stands_156 : decode cX11_stands 156 = .ok (.if_icmp .ge 124, 3) := dk_162 0 124 (dk_at dksX11_stands_6 16 rfl rfl)
theorem dX11_stands_159 : decode cX11_stands 159 = .ok (.aload_n 0, 1) := dk_42 (dk_at dksX11_stands_6 19 rfl rfl)
theorem dX11_stands_160 : decode cX11_stands 160 = .ok (.getfield 29, 3) := dk_180 0 29 (dk_at dksX11_stands_6 20 rfl rfl)
theorem dX11_stands_163 : decode cX11_stands 163 = .ok (.iload_n 1, 1) := dk_27 (dk_at dksX11_stands_6 23 rfl rfl)
theorem dX11_stands_164 : decode cX11_stands 164 = .ok (.aload_n 0, 1) := dk_42 (dk_at dksX11_stands_7 0 rfl rfl)
theorem dX11_stands_165 : decode cX11_stands 165 = .ok (.getfield 26, 3) := dk_180 0 26 (dk_at dksX11_stands_7 1 rfl rfl)
theorem dX11_stands_168 : decode cX11_stands 168 = .ok (.iload_n 1, 1) := dk_27 (dk_at dksX11_stands_7 4 rfl rfl)
theorem dX11_stands_169 : decode cX11_stands 169 = .ok (.iaload, 1) := dk_46 (dk_at dksX11_stands_7 5 rfl rfl)
theorem dX11_stands_170 : decode cX11_stands 170 = .ok (.iastore, 1) := dk_79 (dk_at dksX11_stands_7 6 rfl rfl)
theorem dX11_stands_171 : decode cX11_stands 171 = .ok (.aload_n 0, 1) := dk_42 (dk_at dksX11_stands_7 7 rfl rfl)
theorem dX11_stands_172 : decode cX11_stands 172 = .ok (.getfield 35, 3) := dk_180 0 35 (dk_at dksX11_stands_7 8 rfl rfl)
theorem dX11_stands_175 : decode cX11_stands 175 = .ok (.iload_n 1, 1) := dk_27 (dk_at dksX11_stands_7 11 rfl rfl)
theorem dX11_stands_176 : decode cX11_stands 176 = .ok (.aload_n 0, 1) := dk_42 (dk_at dksX11_stands_7 12 rfl rfl)
theorem dX11_stands_177 : decode cX11_stands 177 = .ok (.getfield 32, 3) := dk_180 0 32 (dk_at dksX11_stands_7 13 rfl rfl)
theorem dX11_stands_180 : decode cX11_stands 180 = .ok (.iload_n 1, 1) := dk_27 (dk_at dksX11_stands_7 16 rfl rfl)
theorem dX11_stands_181 : decode cX11_stands 181 = .ok (.iaload, 1) := dk_46 (dk_at dksX11_stands_7 17 rfl rfl)
theorem dX11_stands_182 : decode cX11_stands 182 = .ok (.iastore, 1) := dk_79 (dk_at dksX11_stands_7 18 rfl rfl)
theorem dX11_stands_183 : decode cX11_stands 183 = .ok (.aload_n 0, 1) := dk_42 (dk_at dksX11_stands_7 19 rfl rfl)
theorem dX11_stands_184 : decode cX11_stands 184 = .ok (.getfield 97, 3) := dk_180 0 97 (dk_at dksX11_stands_7 20 rfl rfl)
theorem dX11_stands_187 : decode cX11_stands 187 = .ok (.iconst 1, 1) := dk_4 (dk_at dksX11_stands_7 23 rfl rfl)
theorem dX11_stands_188 : decode cX11_stands 188 = .ok (.iload_n 1, 1) := dk_27 (dk_at dksX11_stands_8 0 rfl rfl)
theorem dX11_stands_189 : decode cX11_stands 189 = .ok (.iadd, 1) := dk_96 (dk_at dksX11_stands_8 1 rfl rfl)
theorem dX11_stands_190 : decode cX11_stands 190 = .ok (.aload_n 0, 1) := dk_42 (dk_at dksX11_stands_8 2 rfl rfl)
theorem dX11_stands_191 : decode cX11_stands 191 = .ok (.getfield 29, 3) := dk_180 0 29 (dk_at dksX11_stands_8 3 rfl rfl)
theorem dX11_stands_194 : decode cX11_stands 194 = .ok (.iload_n 1, 1) := dk_27 (dk_at dksX11_stands_8 6 rfl rfl)
theorem dX11_stands_195 : decode cX11_stands 195 = .ok (.iaload, 1) := dk_46 (dk_at dksX11_stands_8 7 rfl rfl)
theorem dX11_stands_196 : decode cX11_stands 196 = .ok (.iastore, 1) := dk_79 (dk_at dksX11_stands_8 8 rfl rfl)
theorem dX11_stands_197 : decode cX11_stands 197 = .ok (.aload_n 0, 1) := dk_42 (dk_at dksX11_stands_8 9 rfl rfl)
theorem dX11_stands_198 : decode cX11_stands 198 = .ok (.getfield 97, 3) := dk_180 0 97 (dk_at dksX11_stands_8 10 rfl rfl)
theorem dX11_stands_201 : decode cX11_stands 201 = .ok (.bipush 9, 2) := dk_16 9 (dk_at dksX11_stands_8 13 rfl rfl)
theorem dX11_stands_203 : decode cX11_stands 203 = .ok (.iload_n 1, 1) := dk_27 (dk_at dksX11_stands_8 15 rfl rfl)
theorem dX11_stands_204 : decode cX11_stands 204 = .ok (.iadd, 1) := dk_96 (dk_at dksX11_stands_8 16 rfl rfl)
theorem dX11_stands_205 : decode cX11_stands 205 = .ok (.iload_n 1, 1) := dk_27 (dk_at dksX11_stands_8 17 rfl rfl)
theorem dX11_stands_206 : decode cX11_stands 206 = .ok (.aload_n 0, 1) := dk_42 (dk_at dksX11_stands_8 18 rfl rfl)
theorem dX11_stands_207 : decode cX11_stands 207 = .ok (.getfield 23, 3) := dk_180 0 23 (dk_at dksX11_stands_8 19 rfl rfl)
theorem dX11_stands_210 : decode cX11_stands 210 = .ok (.iconst 1, 1) := dk_4 (dk_at dksX11_stands_8 22 rfl rfl)
theorem dX11_stands_211 : decode cX11_stands 211 = .ok (.iaload, 1) := dk_46 (dk_at dksX11_stands_8 23 rfl rfl)
theorem dX11_stands_212 : decode cX11_stands 212 = .ok (.if_icmp .ge 14, 3) := dk_162 0 14 (dk_at dksX11_stands_9 0 rfl rfl)
theorem dX11_stands_215 : decode cX11_stands 215 = .ok (.aload_n 0, 1) := dk_42 (dk_at dksX11_stands_9 3 rfl rfl)
theorem dX11_stands_216 : decode cX11_stands 216 = .ok (.getfield 55, 3) := dk_180 0 55 (dk_at dksX11_stands_9 4 rfl rfl)
theorem dX11_stands_219 : decode cX11_stands 219 = .ok (.iload_n 1, 1) := dk_27 (dk_at dksX11_stands_9 7 rfl rfl)
theorem dX11_stands_220 : decode cX11_stands 220 = .ok (.aaload, 1) := dk_50 (dk_at dksX11_stands_9 8 rfl rfl)
theorem dX11_stands_221 : decode cX11_stands 221 = .ok (.iconst 2, 1) := dk_5 (dk_at dksX11_stands_9 9 rfl rfl)
theorem dX11_stands_222 : decode cX11_stands 222 = .ok (.iaload, 1) := dk_46 (dk_at dksX11_stands_9 10 rfl rfl)
theorem dX11_stands_223 : decode cX11_stands 223 = .ok (.goto 4, 3) := dk_167 0 4 (dk_at dksX11_stands_9 11 rfl rfl)
theorem dX11_stands_226 : decode cX11_stands 226 = .ok (.iconst 0, 1) := dk_3 (dk_at dksX11_stands_9 14 rfl rfl)
theorem dX11_stands_227 : decode cX11_stands 227 = .ok (.iastore, 1) := dk_79 (dk_at dksX11_stands_9 15 rfl rfl)
theorem dX11_stands_228 : decode cX11_stands 228 = .ok (.iconst 0, 1) := dk_3 (dk_at dksX11_stands_9 16 rfl rfl)
theorem dX11_stands_229 : decode cX11_stands 229 = .ok (.istore_n 2, 1) := dk_61 (dk_at dksX11_stands_9 17 rfl rfl)
theorem dX11_stands_230 : decode cX11_stands 230 = .ok (.iload_n 2, 1) := dk_28 (dk_at dksX11_stands_9 18 rfl rfl)
theorem dX11_stands_231 : decode cX11_stands 231 = .ok (.bipush 9, 2) := dk_16 9 (dk_at dksX11_stands_9 19 rfl rfl)
theorem dX11_stands_233 : decode cX11_stands 233 = .ok (.if_icmp .ge 41, 3) := dk_162 0 41 (dk_at dksX11_stands_9 21 rfl rfl)
theorem dX11_stands_236 : decode cX11_stands 236 = .ok (.aload_n 0, 1) := dk_42 (dk_at dksX11_stands_10 0 rfl rfl)
theorem dX11_stands_237 : decode cX11_stands 237 = .ok (.getfield 97, 3) := dk_180 0 97 (dk_at dksX11_stands_10 1 rfl rfl)
theorem dX11_stands_240 : decode cX11_stands 240 = .ok (.bipush 25, 2) := dk_16 25 (dk_at dksX11_stands_10 4 rfl rfl)
theorem dX11_stands_242 : decode cX11_stands 242 = .ok (.bipush 8, 2) := dk_16 8 (dk_at dksX11_stands_10 6 rfl rfl)
theorem dX11_stands_244 : decode cX11_stands 244 = .ok (.iload_n 2, 1) := dk_28 (dk_at dksX11_stands_10 8 rfl rfl)
theorem dX11_stands_245 : decode cX11_stands 245 = .ok (.imul, 1) := dk_104 (dk_at dksX11_stands_10 9 rfl rfl)
theorem dX11_stands_246 : decode cX11_stands 246 = .ok (.iadd, 1) := dk_96 (dk_at dksX11_stands_10 10 rfl rfl)
theorem dX11_stands_247 : decode cX11_stands 247 = .ok (.iload_n 1, 1) := dk_27 (dk_at dksX11_stands_10 11 rfl rfl)
theorem dX11_stands_248 : decode cX11_stands 248 = .ok (.iadd, 1) := dk_96 (dk_at dksX11_stands_10 12 rfl rfl)
theorem dX11_stands_249 : decode cX11_stands 249 = .ok (.aload_n 0, 1) := dk_42 (dk_at dksX11_stands_10 13 rfl rfl)
theorem dX11_stands_250 : decode cX11_stands 250 = .ok (.getfield 29, 3) := dk_180 0 29 (dk_at dksX11_stands_10 14 rfl rfl)
theorem dX11_stands_253 : decode cX11_stands 253 = .ok (.iload_n 1, 1) := dk_27 (dk_at dksX11_stands_10 17 rfl rfl)
theorem dX11_stands_254 : decode cX11_stands 254 = .ok (.iaload, 1) := dk_46 (dk_at dksX11_stands_10 18 rfl rfl)
theorem dX11_stands_255 : decode cX11_stands 255 = .ok (.iload_n 2, 1) := dk_28 (dk_at dksX11_stands_10 19 rfl rfl)
theorem dX11_stands_256 : decode cX11_stands 256 = .ok (.invokestatic 242, 3) := dk_184 0 242 (dk_at dksX11_stands_10 20 rfl rfl)
theorem dX11_stands_259 : decode cX11_stands 259 = .ok (.ifCond .eq 7, 3) := dk_153 0 7 (dk_at dksX11_stands_11 0 rfl rfl)
theorem dX11_stands_262 : decode cX11_stands 262 = .ok (.iconst 0, 1) := dk_3 (dk_at dksX11_stands_11 3 rfl rfl)
theorem dX11_stands_263 : decode cX11_stands 263 = .ok (.goto 4, 3) := dk_167 0 4 (dk_at dksX11_stands_11 4 rfl rfl)
theorem dX11_stands_266 : decode cX11_stands 266 = .ok (.iconst (-1), 1) := dk_2 (dk_at dksX11_stands_11 7 rfl rfl)
theorem dX11_stands_267 : decode cX11_stands 267 = .ok (.iastore, 1) := dk_79 (dk_at dksX11_stands_11 8 rfl rfl)
theorem dX11_stands_268 : decode cX11_stands 268 = .ok (.iinc 2 1, 3) := dk_132 2 1 (dk_at dksX11_stands_11 9 rfl rfl)
theorem dX11_stands_271 : decode cX11_stands 271 = .ok (.goto (-41), 3) := dk_167 255 215 (dk_at dksX11_stands_11 12 rfl rfl)
theorem dX11_stands_274 : decode cX11_stands 274 = .ok (.iinc 1 1, 3) := dk_132 1 1 (dk_at dksX11_stands_11 15 rfl rfl)
theorem dX11_stands_277 : decode cX11_stands 277 = .ok (.goto (-124), 3) := dk_167 255 132 (dk_at dksX11_stands_11 18 rfl rfl)
theorem dX11_stands_280 : decode cX11_stands 280 = .ok (.aload_n 0, 1) := dk_42 (dk_at dksX11_stands_11 21 rfl rfl)
theorem dX11_stands_281 : decode cX11_stands 281 = .ok (.getfield 97, 3) := dk_180 0 97 (dk_at dksX11_stands_12 0 rfl rfl)
theorem dX11_stands_284 : decode cX11_stands 284 = .ok (.aload_n 0, 1) := dk_42 (dk_at dksX11_stands_12 3 rfl rfl)
theorem dX11_stands_285 : decode cX11_stands 285 = .ok (.getfield 91, 3) := dk_180 0 91 (dk_at dksX11_stands_12 4 rfl rfl)
theorem dX11_stands_288 : decode cX11_stands 288 = .ok (.invokestatic 266, 3) := dk_184 1 10 (dk_at dksX11_stands_12 7 rfl rfl)
theorem dX11_stands_291 : decode cX11_stands 291 = .ok (.aload_n 0, 1) := dk_42 (dk_at dksX11_stands_12 10 rfl rfl)
theorem dX11_stands_292 : decode cX11_stands 292 = .ok (.iconst 0, 1) := dk_3 (dk_at dksX11_stands_12 11 rfl rfl)
theorem dX11_stands_293 : decode cX11_stands 293 = .ok (.putfield 270, 3) := dk_181 1 14 (dk_at dksX11_stands_12 12 rfl rfl)
theorem dX11_stands_296 : decode cX11_stands 296 = .ok (.aload_n 0, 1) := dk_42 (dk_at dksX11_stands_12 15 rfl rfl)
theorem dX11_stands_297 : decode cX11_stands 297 = .ok (.iconst 0, 1) := dk_3 (dk_at dksX11_stands_12 16 rfl rfl)
theorem dX11_stands_298 : decode cX11_stands 298 = .ok (.putfield 273, 3) := dk_181 1 17 (dk_at dksX11_stands_12 17 rfl rfl)
theorem dX11_stands_301 : decode cX11_stands 301 = .ok (.aload_n 0, 1) := dk_42 (dk_at dksX11_stands_12 20 rfl rfl)
theorem dX11_stands_302 : decode cX11_stands 302 = .ok (.iconst 0, 1) := dk_3 (dk_at dksX11_stands_12 21 rfl rfl)
theorem dX11_stands_303 : decode cX11_stands 303 = .ok (.putfield 276, 3) := dk_181 1 20 (dk_at dksX11_stands_13 0 rfl rfl)
theorem dX11_stands_306 : decode cX11_stands 306 = .ok (.aload_n 0, 1) := dk_42 (dk_at dksX11_stands_13 3 rfl rfl)
theorem dX11_stands_307 : decode cX11_stands 307 = .ok (.invokevirtual 279, 3) := dk_182 1 23 (dk_at dksX11_stands_13 4 rfl rfl)
theorem dX11_stands_310 : decode cX11_stands 310 = .ok (.return_, 1) := dk_177 (dk_at dksX11_stands_13 7 rfl rfl)
abbrev cX11_lays : ByteArray := prog_22_method_37_code
def yX11_lays : MethodName := ⟨RX11, "lays", "([[I[[II)V"⟩
def dkwX11_lays_1 : List UInt8 := [42, 29, 50, 21, 4, 46, 79, 132, 4, 1, 167, 255, 232, 132, 3, 1, 167, 255, 218, 177]
abbrev dktX11_lays_1 : List UInt8 := dkwX11_lays_1 ++ []
def dkwX11_lays_0 : List UInt8 := [3, 62, 29, 28, 162, 0, 39, 3, 54, 4, 21, 4, 43, 29, 50, 190, 162, 0, 21, 43, 29, 50, 21, 4]
abbrev dktX11_lays_0 : List UInt8 := dkwX11_lays_0 ++ dktX11_lays_1
theorem dksX11_lays_0 : cX11_lays.data.toList.drop 0 = dktX11_lays_0 := by decide +kernel
theorem dksX11_lays_1 : cX11_lays.data.toList.drop 24 = dktX11_lays_1 := dk_seg dksX11_lays_0 24 rfl rfl
theorem dX11_lays_0 : decode cX11_lays 0 = .ok (.iconst 0, 1) := dk_3 (dk_at dksX11_lays_0 0 rfl rfl)
theorem dX11_lays_1 : decode cX11_lays 1 = .ok (.istore_n 3, 1) := dk_62 (dk_at dksX11_lays_0 1 rfl rfl)
theorem dX11_lays_2 : decode cX11_lays 2 = .ok (.iload_n 3, 1) := dk_29 (dk_at dksX11_lays_0 2 rfl rfl)
theorem dX11_lays_3 : decode cX11_lays 3 = .ok (.iload_n 2, 1) := dk_28 (dk_at dksX11_lays_0 3 rfl rfl)
theorem dX11_lays_4 : decode cX11_lays 4 = .ok (.if_icmp .ge 39, 3) := dk_162 0 39 (dk_at dksX11_lays_0 4 rfl rfl)
theorem dX11_lays_7 : decode cX11_lays 7 = .ok (.iconst 0, 1) := dk_3 (dk_at dksX11_lays_0 7 rfl rfl)
theorem dX11_lays_8 : decode cX11_lays 8 = .ok (.istore 4, 2) := dk_54 4 (dk_at dksX11_lays_0 8 rfl rfl)
theorem dX11_lays_10 : decode cX11_lays 10 = .ok (.iload 4, 2) := dk_21 4 (dk_at dksX11_lays_0 10 rfl rfl)
theorem dX11_lays_12 : decode cX11_lays 12 = .ok (.aload_n 1, 1) := dk_43 (dk_at dksX11_lays_0 12 rfl rfl)
theorem dX11_lays_13 : decode cX11_lays 13 = .ok (.iload_n 3, 1) := dk_29 (dk_at dksX11_lays_0 13 rfl rfl)
theorem dX11_lays_14 : decode cX11_lays 14 = .ok (.aaload, 1) := dk_50 (dk_at dksX11_lays_0 14 rfl rfl)
theorem dX11_lays_15 : decode cX11_lays 15 = .ok (.arraylength, 1) := dk_190 (dk_at dksX11_lays_0 15 rfl rfl)
theorem dX11_lays_16 : decode cX11_lays 16 = .ok (.if_icmp .ge 21, 3) := dk_162 0 21 (dk_at dksX11_lays_0 16 rfl rfl)
theorem dX11_lays_19 : decode cX11_lays 19 = .ok (.aload_n 1, 1) := dk_43 (dk_at dksX11_lays_0 19 rfl rfl)
theorem dX11_lays_20 : decode cX11_lays 20 = .ok (.iload_n 3, 1) := dk_29 (dk_at dksX11_lays_0 20 rfl rfl)
theorem dX11_lays_21 : decode cX11_lays 21 = .ok (.aaload, 1) := dk_50 (dk_at dksX11_lays_0 21 rfl rfl)
theorem dX11_lays_22 : decode cX11_lays 22 = .ok (.iload 4, 2) := dk_21 4 (dk_at dksX11_lays_0 22 rfl rfl)
theorem dX11_lays_24 : decode cX11_lays 24 = .ok (.aload_n 0, 1) := dk_42 (dk_at dksX11_lays_1 0 rfl rfl)
theorem dX11_lays_25 : decode cX11_lays 25 = .ok (.iload_n 3, 1) := dk_29 (dk_at dksX11_lays_1 1 rfl rfl)
theorem dX11_lays_26 : decode cX11_lays 26 = .ok (.aaload, 1) := dk_50 (dk_at dksX11_lays_1 2 rfl rfl)
theorem dX11_lays_27 : decode cX11_lays 27 = .ok (.iload 4, 2) := dk_21 4 (dk_at dksX11_lays_1 3 rfl rfl)
theorem dX11_lays_29 : decode cX11_lays 29 = .ok (.iaload, 1) := dk_46 (dk_at dksX11_lays_1 5 rfl rfl)
theorem dX11_lays_30 : decode cX11_lays 30 = .ok (.iastore, 1) := dk_79 (dk_at dksX11_lays_1 6 rfl rfl)
theorem dX11_lays_31 : decode cX11_lays 31 = .ok (.iinc 4 1, 3) := dk_132 4 1 (dk_at dksX11_lays_1 7 rfl rfl)
theorem dX11_lays_34 : decode cX11_lays 34 = .ok (.goto (-24), 3) := dk_167 255 232 (dk_at dksX11_lays_1 10 rfl rfl)
theorem dX11_lays_37 : decode cX11_lays 37 = .ok (.iinc 3 1, 3) := dk_132 3 1 (dk_at dksX11_lays_1 13 rfl rfl)
theorem dX11_lays_40 : decode cX11_lays 40 = .ok (.goto (-38), 3) := dk_167 255 218 (dk_at dksX11_lays_1 16 rfl rfl)
theorem dX11_lays_43 : decode cX11_lays 43 = .ok (.return_, 1) := dk_177 (dk_at dksX11_lays_1 19 rfl rfl)
abbrev cX11_in : ByteArray := prog_22_method_5_code
def yX11_in : MethodName := ⟨RX11, "in", "(III)Z"⟩
def dkwX11_in_0 : List UInt8 := [26, 27, 161, 0, 12, 26, 28, 163, 0, 7, 4, 167, 0, 4, 3, 172]
abbrev dktX11_in_0 : List UInt8 := dkwX11_in_0 ++ []
theorem dksX11_in_0 : cX11_in.data.toList.drop 0 = dktX11_in_0 := by decide +kernel
theorem dX11_in_0 : decode cX11_in 0 = .ok (.iload_n 0, 1) := dk_26 (dk_at dksX11_in_0 0 rfl rfl)
theorem dX11_in_1 : decode cX11_in 1 = .ok (.iload_n 1, 1) := dk_27 (dk_at dksX11_in_0 1 rfl rfl)
theorem dX11_in_2 : decode cX11_in 2 = .ok (.if_icmp .lt 12, 3) := dk_161 0 12 (dk_at dksX11_in_0 2 rfl rfl)
theorem dX11_in_5 : decode cX11_in 5 = .ok (.iload_n 0, 1) := dk_26 (dk_at dksX11_in_0 5 rfl rfl)
theorem dX11_in_6 : decode cX11_in 6 = .ok (.iload_n 2, 1) := dk_28 (dk_at dksX11_in_0 6 rfl rfl)
theorem dX11_in_7 : decode cX11_in 7 = .ok (.if_icmp .gt 7, 3) := dk_163 0 7 (dk_at dksX11_in_0 7 rfl rfl)
theorem dX11_in_10 : decode cX11_in 10 = .ok (.iconst 1, 1) := dk_4 (dk_at dksX11_in_0 10 rfl rfl)
theorem dX11_in_11 : decode cX11_in 11 = .ok (.goto 4, 3) := dk_167 0 4 (dk_at dksX11_in_0 11 rfl rfl)
theorem dX11_in_14 : decode cX11_in 14 = .ok (.iconst 0, 1) := dk_3 (dk_at dksX11_in_0 14 rfl rfl)
theorem dX11_in_15 : decode cX11_in 15 = .ok (.ireturn, 1) := dk_172 (dk_at dksX11_in_0 15 rfl rfl)
abbrev cX11_has : ByteArray := prog_22_method_8_code
def yX11_has : MethodName := ⟨RX11, "has", "(II)Z"⟩
def dkwX11_has_0 : List UInt8 := [26, 27, 122, 4, 126, 4, 160, 0, 7, 4, 167, 0, 4, 3, 172]
abbrev dktX11_has_0 : List UInt8 := dkwX11_has_0 ++ []
theorem dksX11_has_0 : cX11_has.data.toList.drop 0 = dktX11_has_0 := by decide +kernel
theorem dX11_has_0 : decode cX11_has 0 = .ok (.iload_n 0, 1) := dk_26 (dk_at dksX11_has_0 0 rfl rfl)
theorem dX11_has_1 : decode cX11_has 1 = .ok (.iload_n 1, 1) := dk_27 (dk_at dksX11_has_0 1 rfl rfl)
theorem dX11_has_2 : decode cX11_has 2 = .ok (.ishr, 1) := dk_122 (dk_at dksX11_has_0 2 rfl rfl)
theorem dX11_has_3 : decode cX11_has 3 = .ok (.iconst 1, 1) := dk_4 (dk_at dksX11_has_0 3 rfl rfl)
theorem dX11_has_4 : decode cX11_has 4 = .ok (.iand, 1) := dk_126 (dk_at dksX11_has_0 4 rfl rfl)
theorem dX11_has_5 : decode cX11_has 5 = .ok (.iconst 1, 1) := dk_4 (dk_at dksX11_has_0 5 rfl rfl)
theorem dX11_has_6 : decode cX11_has 6 = .ok (.if_icmp .ne 7, 3) := dk_160 0 7 (dk_at dksX11_has_0 6 rfl rfl)
theorem dX11_has_9 : decode cX11_has 9 = .ok (.iconst 1, 1) := dk_4 (dk_at dksX11_has_0 9 rfl rfl)
theorem dX11_has_10 : decode cX11_has 10 = .ok (.goto 4, 3) := dk_167 0 4 (dk_at dksX11_has_0 10 rfl rfl)
theorem dX11_has_13 : decode cX11_has 13 = .ok (.iconst 0, 1) := dk_3 (dk_at dksX11_has_0 13 rfl rfl)
theorem dX11_has_14 : decode cX11_has 14 = .ok (.ireturn, 1) := dk_172 (dk_at dksX11_has_0 14 rfl rfl)
abbrev cX11_copies : ByteArray := prog_22_method_38_code
def yX11_copies : MethodName := ⟨RX11, "copies", "([I[I)V"⟩
def dkwX11_copies_0 : List UInt8 := [3, 61, 28, 16, 107, 162, 0, 15, 43, 28, 42, 28, 46, 79, 132, 2, 1, 167, 255, 241, 177]
abbrev dktX11_copies_0 : List UInt8 := dkwX11_copies_0 ++ []
theorem dksX11_copies_0 : cX11_copies.data.toList.drop 0 = dktX11_copies_0 := by decide +kernel
theorem dX11_copies_0 : decode cX11_copies 0 = .ok (.iconst 0, 1) := dk_3 (dk_at dksX11_copies_0 0 rfl rfl)
theorem dX11_copies_1 : decode cX11_copies 1 = .ok (.istore_n 2, 1) := dk_61 (dk_at dksX11_copies_0 1 rfl rfl)
theorem dX11_copies_2 : decode cX11_copies 2 = .ok (.iload_n 2, 1) := dk_28 (dk_at dksX11_copies_0 2 rfl rfl)
theorem dX11_copies_3 : decode cX11_copies 3 = .ok (.bipush 107, 2) := dk_16 107 (dk_at dksX11_copies_0 3 rfl rfl)
theorem dX11_copies_5 : decode cX11_copies 5 = .ok (.if_icmp .ge 15, 3) := dk_162 0 15 (dk_at dksX11_copies_0 5 rfl rfl)
theorem dX11_copies_8 : decode cX11_copies 8 = .ok (.aload_n 1, 1) := dk_43 (dk_at dksX11_copies_0 8 rfl rfl)
theorem dX11_copies_9 : decode cX11_copies 9 = .ok (.iload_n 2, 1) := dk_28 (dk_at dksX11_copies_0 9 rfl rfl)
theorem dX11_copies_10 : decode cX11_copies 10 = .ok (.aload_n 0, 1) := dk_42 (dk_at dksX11_copies_0 10 rfl rfl)
theorem dX11_copies_11 : decode cX11_copies 11 = .ok (.iload_n 2, 1) := dk_28 (dk_at dksX11_copies_0 11 rfl rfl)
theorem dX11_copies_12 : decode cX11_copies 12 = .ok (.iaload, 1) := dk_46 (dk_at dksX11_copies_0 12 rfl rfl)
theorem dX11_copies_13 : decode cX11_copies 13 = .ok (.iastore, 1) := dk_79 (dk_at dksX11_copies_0 13 rfl rfl)
theorem dX11_copies_14 : decode cX11_copies 14 = .ok (.iinc 2 1, 3) := dk_132 2 1 (dk_at dksX11_copies_0 14 rfl rfl)
theorem dX11_copies_17 : decode cX11_copies 17 = .ok (.goto (-15), 3) := dk_167 255 241 (dk_at dksX11_copies_0 17 rfl rfl)
theorem dX11_copies_20 : decode cX11_copies 20 = .ok (.return_, 1) := dk_177 (dk_at dksX11_copies_0 20 rfl rfl)
abbrev cX11_settles : ByteArray := prog_22_method_40_code
def yX11_settles : MethodName := ⟨RX11, "settles", "()V"⟩
def dkwX11_settles_0 : List UInt8 := [42, 180, 0, 91, 42, 180, 0, 94, 184, 1, 10, 42, 3, 181, 1, 26, 177]
abbrev dktX11_settles_0 : List UInt8 := dkwX11_settles_0 ++ []
theorem dksX11_settles_0 : cX11_settles.data.toList.drop 0 = dktX11_settles_0 := by decide +kernel
theorem dX11_settles_0 : decode cX11_settles 0 = .ok (.aload_n 0, 1) := dk_42 (dk_at dksX11_settles_0 0 rfl rfl)
theorem dX11_settles_1 : decode cX11_settles 1 = .ok (.getfield 91, 3) := dk_180 0 91 (dk_at dksX11_settles_0 1 rfl rfl)
theorem dX11_settles_4 : decode cX11_settles 4 = .ok (.aload_n 0, 1) := dk_42 (dk_at dksX11_settles_0 4 rfl rfl)
theorem dX11_settles_5 : decode cX11_settles 5 = .ok (.getfield 94, 3) := dk_180 0 94 (dk_at dksX11_settles_0 5 rfl rfl)
theorem dX11_settles_8 : decode cX11_settles 8 = .ok (.invokestatic 266, 3) := dk_184 1 10 (dk_at dksX11_settles_0 8 rfl rfl)
theorem dX11_settles_11 : decode cX11_settles 11 = .ok (.aload_n 0, 1) := dk_42 (dk_at dksX11_settles_0 11 rfl rfl)
theorem dX11_settles_12 : decode cX11_settles 12 = .ok (.iconst 0, 1) := dk_3 (dk_at dksX11_settles_0 12 rfl rfl)
theorem dX11_settles_13 : decode cX11_settles 13 = .ok (.putfield 282, 3) := dk_181 1 26 (dk_at dksX11_settles_0 13 rfl rfl)
theorem dX11_settles_16 : decode cX11_settles 16 = .ok (.return_, 1) := dk_177 (dk_at dksX11_settles_0 16 rfl rfl)
abbrev cX11_thrown : ByteArray := prog_22_method_3_code
def yX11_thrown : MethodName := ⟨RX11, "thrown", "()I"⟩
theorem dX11_thrown_0 : decode cX11_thrown 0 = .ok (.aload_n 0, 1) := by decide +kernel
theorem dX11_thrown_1 : decode cX11_thrown 1 = .ok (.getfield 134, 3) := by decide +kernel
theorem dX11_thrown_4 : decode cX11_thrown 4 = .ok (.ireturn, 1) := by decide +kernel
abbrev cX11_feed : ByteArray := prog_22_method_10_code
def yX11_feed : MethodName := ⟨RX11, "feed", "(IIIII)I"⟩
def dkwX11_feed_5 : List UInt8 := [167, 255, 162, 42, 180, 0, 137, 172]
abbrev dktX11_feed_5 : List UInt8 := dkwX11_feed_5 ++ []
def dkwX11_feed_4 : List UInt8 := [112, 104, 100, 122, 17, 0, 255, 126, 79, 42, 89, 180, 0, 137, 4, 96, 181, 0, 137, 132, 6, 1]
abbrev dktX11_feed_4 : List UInt8 := dkwX11_feed_4 ++ dktX11_feed_5
def dkwX11_feed_3 : List UInt8 := [167, 0, 5, 21, 5, 54, 7, 42, 180, 0, 13, 42, 180, 0, 137, 21, 7, 16, 24, 16, 8, 21, 6, 7]
abbrev dktX11_feed_3 : List UInt8 := dkwX11_feed_3 ++ dktX11_feed_4
def dkwX11_feed_2 : List UInt8 := [28, 167, 0, 28, 21, 6, 16, 12, 162, 0, 7, 29, 167, 0, 17, 21, 6, 16, 16, 162, 0, 8, 21, 4]
abbrev dktX11_feed_2 : List UInt8 := dkwX11_feed_2 ++ dktX11_feed_3
def dkwX11_feed_1 : List UInt8 := [21, 6, 16, 20, 162, 0, 93, 21, 6, 7, 162, 0, 7, 27, 167, 0, 39, 21, 6, 16, 8, 162, 0, 7]
abbrev dktX11_feed_1 : List UInt8 := dkwX11_feed_1 ++ dktX11_feed_2
def dkwX11_feed_0 : List UInt8 := [42, 3, 181, 0, 134, 42, 180, 0, 137, 16, 20, 96, 17, 2, 88, 164, 0, 5, 2, 172, 3, 54, 6]
abbrev dktX11_feed_0 : List UInt8 := dkwX11_feed_0 ++ dktX11_feed_1
theorem dksX11_feed_0 : cX11_feed.data.toList.drop 0 = dktX11_feed_0 := by decide +kernel
theorem dksX11_feed_1 : cX11_feed.data.toList.drop 23 = dktX11_feed_1 := dk_seg dksX11_feed_0 23 rfl rfl
theorem dksX11_feed_2 : cX11_feed.data.toList.drop 47 = dktX11_feed_2 := dk_seg dksX11_feed_1 24 rfl rfl
theorem dksX11_feed_3 : cX11_feed.data.toList.drop 71 = dktX11_feed_3 := dk_seg dksX11_feed_2 24 rfl rfl
theorem dksX11_feed_4 : cX11_feed.data.toList.drop 95 = dktX11_feed_4 := dk_seg dksX11_feed_3 24 rfl rfl
theorem dksX11_feed_5 : cX11_feed.data.toList.drop 117 = dktX11_feed_5 := dk_seg dksX11_feed_4 22 rfl rfl
theorem dX11_feed_0 : decode cX11_feed 0 = .ok (.aload_n 0, 1) := dk_42 (dk_at dksX11_feed_0 0 rfl rfl)
theorem dX11_feed_1 : decode cX11_feed 1 = .ok (.iconst 0, 1) := dk_3 (dk_at dksX11_feed_0 1 rfl rfl)
theorem dX11_feed_2 : decode cX11_feed 2 = .ok (.putfield 134, 3) := dk_181 0 134 (dk_at dksX11_feed_0 2 rfl rfl)
theorem dX11_feed_5 : decode cX11_feed 5 = .ok (.aload_n 0, 1) := dk_42 (dk_at dksX11_feed_0 5 rfl rfl)
theorem dX11_feed_6 : decode cX11_feed 6 = .ok (.getfield 137, 3) := dk_180 0 137 (dk_at dksX11_feed_0 6 rfl rfl)
theorem dX11_feed_9 : decode cX11_feed 9 = .ok (.bipush 20, 2) := dk_16 20 (dk_at dksX11_feed_0 9 rfl rfl)
theorem dX11_feed_11 : decode cX11_feed 11 = .ok (.iadd, 1) := dk_96 (dk_at dksX11_feed_0 11 rfl rfl)
theorem dX11_feed_12 : decode cX11_feed 12 = .ok (.sipush 600, 3) := dk_17 2 88 (dk_at dksX11_feed_0 12 rfl rfl)
theorem dX11_feed_15 : decode cX11_feed 15 = .ok (.if_icmp .le 5, 3) := dk_164 0 5 (dk_at dksX11_feed_0 15 rfl rfl)
theorem dX11_feed_18 : decode cX11_feed 18 = .ok (.iconst (-1), 1) := dk_2 (dk_at dksX11_feed_0 18 rfl rfl)
theorem dX11_feed_19 : decode cX11_feed 19 = .ok (.ireturn, 1) := dk_172 (dk_at dksX11_feed_0 19 rfl rfl)
theorem dX11_feed_20 : decode cX11_feed 20 = .ok (.iconst 0, 1) := dk_3 (dk_at dksX11_feed_0 20 rfl rfl)
theorem dX11_feed_21 : decode cX11_feed 21 = .ok (.istore 6, 2) := dk_54 6 (dk_at dksX11_feed_0 21 rfl rfl)
theorem dX11_feed_23 : decode cX11_feed 23 = .ok (.iload 6, 2) := dk_21 6 (dk_at dksX11_feed_1 0 rfl rfl)
theorem dX11_feed_25 : decode cX11_feed 25 = .ok (.bipush 20, 2) := dk_16 20 (dk_at dksX11_feed_1 2 rfl rfl)
theorem dX11_feed_27 : decode cX11_feed 27 = .ok (.if_icmp .ge 93, 3) := dk_162 0 93 (dk_at dksX11_feed_1 4 rfl rfl)
theorem dX11_feed_30 : decode cX11_feed 30 = .ok (.iload 6, 2) := dk_21 6 (dk_at dksX11_feed_1 7 rfl rfl)
theorem dX11_feed_32 : decode cX11_feed 32 = .ok (.iconst 4, 1) := dk_7 (dk_at dksX11_feed_1 9 rfl rfl)
theorem dX11_feed_33 : decode cX11_feed 33 = .ok (.if_icmp .ge 7, 3) := dk_162 0 7 (dk_at dksX11_feed_1 10 rfl rfl)
theorem dX11_feed_36 : decode cX11_feed 36 = .ok (.iload_n 1, 1) := dk_27 (dk_at dksX11_feed_1 13 rfl rfl)
theorem dX11_feed_37 : decode cX11_feed 37 = .ok (.goto 39, 3) := dk_167 0 39 (dk_at dksX11_feed_1 14 rfl rfl)
theorem dX11_feed_40 : decode cX11_feed 40 = .ok (.iload 6, 2) := dk_21 6 (dk_at dksX11_feed_1 17 rfl rfl)
theorem dX11_feed_42 : decode cX11_feed 42 = .ok (.bipush 8, 2) := dk_16 8 (dk_at dksX11_feed_1 19 rfl rfl)
theorem dX11_feed_44 : decode cX11_feed 44 = .ok (.if_icmp .ge 7, 3) := dk_162 0 7 (dk_at dksX11_feed_1 21 rfl rfl)
theorem dX11_feed_47 : decode cX11_feed 47 = .ok (.iload_n 2, 1) := dk_28 (dk_at dksX11_feed_2 0 rfl rfl)
theorem dX11_feed_48 : decode cX11_feed 48 = .ok (.goto 28, 3) := dk_167 0 28 (dk_at dksX11_feed_2 1 rfl rfl)
theorem dX11_feed_51 : decode cX11_feed 51 = .ok (.iload 6, 2) := dk_21 6 (dk_at dksX11_feed_2 4 rfl rfl)
theorem dX11_feed_53 : decode cX11_feed 53 = .ok (.bipush 12, 2) := dk_16 12 (dk_at dksX11_feed_2 6 rfl rfl)
theorem dX11_feed_55 : decode cX11_feed 55 = .ok (.if_icmp .ge 7, 3) := dk_162 0 7 (dk_at dksX11_feed_2 8 rfl rfl)
theorem dX11_feed_58 : decode cX11_feed 58 = .ok (.iload_n 3, 1) := dk_29 (dk_at dksX11_feed_2 11 rfl rfl)
theorem dX11_feed_59 : decode cX11_feed 59 = .ok (.goto 17, 3) := dk_167 0 17 (dk_at dksX11_feed_2 12 rfl rfl)
theorem dX11_feed_62 : decode cX11_feed 62 = .ok (.iload 6, 2) := dk_21 6 (dk_at dksX11_feed_2 15 rfl rfl)
theorem dX11_feed_64 : decode cX11_feed 64 = .ok (.bipush 16, 2) := dk_16 16 (dk_at dksX11_feed_2 17 rfl rfl)
theorem dX11_feed_66 : decode cX11_feed 66 = .ok (.if_icmp .ge 8, 3) := dk_162 0 8 (dk_at dksX11_feed_2 19 rfl rfl)
theorem dX11_feed_69 : decode cX11_feed 69 = .ok (.iload 4, 2) := dk_21 4 (dk_at dksX11_feed_2 22 rfl rfl)
theorem dX11_feed_71 : decode cX11_feed 71 = .ok (.goto 5, 3) := dk_167 0 5 (dk_at dksX11_feed_3 0 rfl rfl)
theorem dX11_feed_74 : decode cX11_feed 74 = .ok (.iload 5, 2) := dk_21 5 (dk_at dksX11_feed_3 3 rfl rfl)
theorem dX11_feed_76 : decode cX11_feed 76 = .ok (.istore 7, 2) := dk_54 7 (dk_at dksX11_feed_3 5 rfl rfl)
theorem dX11_feed_78 : decode cX11_feed 78 = .ok (.aload_n 0, 1) := dk_42 (dk_at dksX11_feed_3 7 rfl rfl)
theorem dX11_feed_79 : decode cX11_feed 79 = .ok (.getfield 13, 3) := dk_180 0 13 (dk_at dksX11_feed_3 8 rfl rfl)
theorem dX11_feed_82 : decode cX11_feed 82 = .ok (.aload_n 0, 1) := dk_42 (dk_at dksX11_feed_3 11 rfl rfl)
theorem dX11_feed_83 : decode cX11_feed 83 = .ok (.getfield 137, 3) := dk_180 0 137 (dk_at dksX11_feed_3 12 rfl rfl)
theorem dX11_feed_86 : decode cX11_feed 86 = .ok (.iload 7, 2) := dk_21 7 (dk_at dksX11_feed_3 15 rfl rfl)
theorem dX11_feed_88 : decode cX11_feed 88 = .ok (.bipush 24, 2) := dk_16 24 (dk_at dksX11_feed_3 17 rfl rfl)
theorem dX11_feed_90 : decode cX11_feed 90 = .ok (.bipush 8, 2) := dk_16 8 (dk_at dksX11_feed_3 19 rfl rfl)
theorem dX11_feed_92 : decode cX11_feed 92 = .ok (.iload 6, 2) := dk_21 6 (dk_at dksX11_feed_3 21 rfl rfl)
theorem dX11_feed_94 : decode cX11_feed 94 = .ok (.iconst 4, 1) := dk_7 (dk_at dksX11_feed_3 23 rfl rfl)
theorem dX11_feed_95 : decode cX11_feed 95 = .ok (.irem, 1) := dk_112 (dk_at dksX11_feed_4 0 rfl rfl)
theorem dX11_feed_96 : decode cX11_feed 96 = .ok (.imul, 1) := dk_104 (dk_at dksX11_feed_4 1 rfl rfl)
theorem dX11_feed_97 : decode cX11_feed 97 = .ok (.isub, 1) := dk_100 (dk_at dksX11_feed_4 2 rfl rfl)
theorem dX11_feed_98 : decode cX11_feed 98 = .ok (.ishr, 1) := dk_122 (dk_at dksX11_feed_4 3 rfl rfl)
theorem dX11_feed_99 : decode cX11_feed 99 = .ok (.sipush 255, 3) := dk_17 0 255 (dk_at dksX11_feed_4 4 rfl rfl)
theorem dX11_feed_102 : decode cX11_feed 102 = .ok (.iand, 1) := dk_126 (dk_at dksX11_feed_4 7 rfl rfl)
theorem dX11_feed_103 : decode cX11_feed 103 = .ok (.iastore, 1) := dk_79 (dk_at dksX11_feed_4 8 rfl rfl)
theorem dX11_feed_104 : decode cX11_feed 104 = .ok (.aload_n 0, 1) := dk_42 (dk_at dksX11_feed_4 9 rfl rfl)
theorem dX11_feed_105 : decode cX11_feed 105 = .ok (.dup, 1) := dk_89 (dk_at dksX11_feed_4 10 rfl rfl)
theorem dX11_feed_106 : decode cX11_feed 106 = .ok (.getfield 137, 3) := dk_180 0 137 (dk_at dksX11_feed_4 11 rfl rfl)
theorem dX11_feed_109 : decode cX11_feed 109 = .ok (.iconst 1, 1) := dk_4 (dk_at dksX11_feed_4 14 rfl rfl)
theorem dX11_feed_110 : decode cX11_feed 110 = .ok (.iadd, 1) := dk_96 (dk_at dksX11_feed_4 15 rfl rfl)
theorem dX11_feed_111 : decode cX11_feed 111 = .ok (.putfield 137, 3) := dk_181 0 137 (dk_at dksX11_feed_4 16 rfl rfl)
theorem dX11_feed_114 : decode cX11_feed 114 = .ok (.iinc 6 1, 3) := dk_132 6 1 (dk_at dksX11_feed_4 19 rfl rfl)
theorem dX11_feed_117 : decode cX11_feed 117 = .ok (.goto (-94), 3) := dk_167 255 162 (dk_at dksX11_feed_5 0 rfl rfl)
theorem dX11_feed_120 : decode cX11_feed 120 = .ok (.aload_n 0, 1) := dk_42 (dk_at dksX11_feed_5 3 rfl rfl)
theorem dX11_feed_121 : decode cX11_feed 121 = .ok (.getfield 137, 3) := dk_180 0 137 (dk_at dksX11_feed_5 4 rfl rfl)
theorem dX11_feed_124 : decode cX11_feed 124 = .ok (.ireturn, 1) := dk_172 (dk_at dksX11_feed_5 7 rfl rfl)
abbrev cX11_family : ByteArray := prog_22_method_36_code
def yX11_family : MethodName := ⟨RX11, "family", "(I)I"⟩
def dkwX11_family_4 : List UInt8 := [42, 180, 0, 23, 4, 46, 172]
abbrev dktX11_family_4 : List UInt8 := dkwX11_family_4 ++ []
def dkwX11_family_3 : List UInt8 := [167, 255, 230, 42, 180, 0, 150, 153, 0, 8, 42, 182, 1, 3, 172, 42, 2, 181, 0, 9, 42, 182, 0, 131]
abbrev dktX11_family_3 : List UInt8 := dkwX11_family_3 ++ dktX11_family_4
def dkwX11_family_2 : List UInt8 := [154, 0, 25, 42, 180, 0, 143, 42, 180, 0, 140, 162, 0, 14, 42, 182, 1, 0, 42, 182, 0, 156]
abbrev dktX11_family_2 : List UInt8 := dkwX11_family_2 ++ dktX11_family_3
def dkwX11_family_1 : List UInt8 := [4, 182, 0, 249, 153, 0, 5, 3, 172, 42, 27, 182, 0, 253, 42, 182, 0, 128, 42, 180, 0, 150]
abbrev dktX11_family_1 : List UInt8 := dkwX11_family_1 ++ dktX11_family_2
def dkwX11_family_0 : List UInt8 := [42, 3, 181, 0, 134, 42, 27, 3, 42, 180, 0, 137, 184, 0, 168, 154, 0, 7, 4, 167, 0, 4, 3, 4]
abbrev dktX11_family_0 : List UInt8 := dkwX11_family_0 ++ dktX11_family_1
theorem dksX11_family_0 : cX11_family.data.toList.drop 0 = dktX11_family_0 := by decide +kernel
theorem dksX11_family_1 : cX11_family.data.toList.drop 24 = dktX11_family_1 := dk_seg dksX11_family_0 24 rfl rfl
theorem dksX11_family_2 : cX11_family.data.toList.drop 46 = dktX11_family_2 := dk_seg dksX11_family_1 22 rfl rfl
theorem dksX11_family_3 : cX11_family.data.toList.drop 68 = dktX11_family_3 := dk_seg dksX11_family_2 22 rfl rfl
theorem dksX11_family_4 : cX11_family.data.toList.drop 92 = dktX11_family_4 := dk_seg dksX11_family_3 24 rfl rfl
theorem dX11_family_0 : decode cX11_family 0 = .ok (.aload_n 0, 1) := dk_42 (dk_at dksX11_family_0 0 rfl rfl)
theorem dX11_family_1 : decode cX11_family 1 = .ok (.iconst 0, 1) := dk_3 (dk_at dksX11_family_0 1 rfl rfl)
theorem dX11_family_2 : decode cX11_family 2 = .ok (.putfield 134, 3) := dk_181 0 134 (dk_at dksX11_family_0 2 rfl rfl)
theorem dX11_family_5 : decode cX11_family 5 = .ok (.aload_n 0, 1) := dk_42 (dk_at dksX11_family_0 5 rfl rfl)
theorem dX11_family_6 : decode cX11_family 6 = .ok (.iload_n 1, 1) := dk_27 (dk_at dksX11_family_0 6 rfl rfl)
theorem dX11_family_7 : decode cX11_family 7 = .ok (.iconst 0, 1) := dk_3 (dk_at dksX11_family_0 7 rfl rfl)
theorem dX11_family_8 : decode cX11_family 8 = .ok (.aload_n 0, 1) := dk_42 (dk_at dksX11_family_0 8 rfl rfl)
theorem dX11_family_9 : decode cX11_family 9 = .ok (.getfield 137, 3) := dk_180 0 137 (dk_at dksX11_family_0 9 rfl rfl)
theorem dX11_family_12 : decode cX11_family 12 = .ok (.invokestatic 168, 3) := dk_184 0 168 (dk_at dksX11_family_0 12 rfl rfl)
theorem dX11_family_15 : decode cX11_family 15 = .ok (.ifCond .ne 7, 3) := dk_154 0 7 (dk_at dksX11_family_0 15 rfl rfl)
theorem dX11_family_18 : decode cX11_family 18 = .ok (.iconst 1, 1) := dk_4 (dk_at dksX11_family_0 18 rfl rfl)
theorem dX11_family_19 : decode cX11_family 19 = .ok (.goto 4, 3) := dk_167 0 4 (dk_at dksX11_family_0 19 rfl rfl)
theorem dX11_family_22 : decode cX11_family 22 = .ok (.iconst 0, 1) := dk_3 (dk_at dksX11_family_0 22 rfl rfl)
theorem dX11_family_23 : decode cX11_family 23 = .ok (.iconst 1, 1) := dk_4 (dk_at dksX11_family_0 23 rfl rfl)
theorem dX11_family_24 : decode cX11_family 24 = .ok (.iconst 1, 1) := dk_4 (dk_at dksX11_family_1 0 rfl rfl)
theorem dX11_family_25 : decode cX11_family 25 = .ok (.invokevirtual 249, 3) := dk_182 0 249 (dk_at dksX11_family_1 1 rfl rfl)
theorem dX11_family_28 : decode cX11_family 28 = .ok (.ifCond .eq 5, 3) := dk_153 0 5 (dk_at dksX11_family_1 4 rfl rfl)
theorem dX11_family_31 : decode cX11_family 31 = .ok (.iconst 0, 1) := dk_3 (dk_at dksX11_family_1 7 rfl rfl)
theorem dX11_family_32 : decode cX11_family 32 = .ok (.ireturn, 1) := dk_172 (dk_at dksX11_family_1 8 rfl rfl)
theorem dX11_family_33 : decode cX11_family 33 = .ok (.aload_n 0, 1) := dk_42 (dk_at dksX11_family_1 9 rfl rfl)
theorem dX11_family_34 : decode cX11_family 34 = .ok (.iload_n 1, 1) := dk_27 (dk_at dksX11_family_1 10 rfl rfl)
theorem dX11_family_35 : decode cX11_family 35 = .ok (.invokevirtual 253, 3) := dk_182 0 253 (dk_at dksX11_family_1 11 rfl rfl)
theorem dX11_family_38 : decode cX11_family 38 = .ok (.aload_n 0, 1) := dk_42 (dk_at dksX11_family_1 14 rfl rfl)
theorem dX11_family_39 : decode cX11_family 39 = .ok (.invokevirtual 128, 3) := dk_182 0 128 (dk_at dksX11_family_1 15 rfl rfl)
theorem dX11_family_42 : decode cX11_family 42 = .ok (.aload_n 0, 1) := dk_42 (dk_at dksX11_family_1 18 rfl rfl)
theorem dX11_family_43 : decode cX11_family 43 = .ok (.getfield 150, 3) := dk_180 0 150 (dk_at dksX11_family_1 19 rfl rfl)
theorem dX11_family_46 : decode cX11_family 46 = .ok (.ifCond .ne 25, 3) := dk_154 0 25 (dk_at dksX11_family_2 0 rfl rfl)
theorem dX11_family_49 : decode cX11_family 49 = .ok (.aload_n 0, 1) := dk_42 (dk_at dksX11_family_2 3 rfl rfl)
theorem dX11_family_50 : decode cX11_family 50 = .ok (.getfield 143, 3) := dk_180 0 143 (dk_at dksX11_family_2 4 rfl rfl)
theorem dX11_family_53 : decode cX11_family 53 = .ok (.aload_n 0, 1) := dk_42 (dk_at dksX11_family_2 7 rfl rfl)
theorem dX11_family_54 : decode cX11_family 54 = .ok (.getfield 140, 3) := dk_180 0 140 (dk_at dksX11_family_2 8 rfl rfl)
theorem dX11_family_57 : decode cX11_family 57 = .ok (.if_icmp .ge 14, 3) := dk_162 0 14 (dk_at dksX11_family_2 11 rfl rfl)
theorem dX11_family_60 : decode cX11_family 60 = .ok (.aload_n 0, 1) := dk_42 (dk_at dksX11_family_2 14 rfl rfl)
theorem dX11_family_61 : decode cX11_family 61 = .ok (.invokevirtual 256, 3) := dk_182 1 0 (dk_at dksX11_family_2 15 rfl rfl)
theorem dX11_family_64 : decode cX11_family 64 = .ok (.aload_n 0, 1) := dk_42 (dk_at dksX11_family_2 18 rfl rfl)
theorem dX11_family_65 : decode cX11_family 65 = .ok (.invokevirtual 156, 3) := dk_182 0 156 (dk_at dksX11_family_2 19 rfl rfl)
theorem dX11_family_68 : decode cX11_family 68 = .ok (.goto (-26), 3) := dk_167 255 230 (dk_at dksX11_family_3 0 rfl rfl)
theorem dX11_family_71 : decode cX11_family 71 = .ok (.aload_n 0, 1) := dk_42 (dk_at dksX11_family_3 3 rfl rfl)
theorem dX11_family_72 : decode cX11_family 72 = .ok (.getfield 150, 3) := dk_180 0 150 (dk_at dksX11_family_3 4 rfl rfl)
theorem dX11_family_75 : decode cX11_family 75 = .ok (.ifCond .eq 8, 3) := dk_153 0 8 (dk_at dksX11_family_3 7 rfl rfl)
theorem dX11_family_78 : decode cX11_family 78 = .ok (.aload_n 0, 1) := dk_42 (dk_at dksX11_family_3 10 rfl rfl)
theorem dX11_family_79 : decode cX11_family 79 = .ok (.invokevirtual 259, 3) := dk_182 1 3 (dk_at dksX11_family_3 11 rfl rfl)
theorem dX11_family_82 : decode cX11_family 82 = .ok (.ireturn, 1) := dk_172 (dk_at dksX11_family_3 14 rfl rfl)
theorem dX11_family_83 : decode cX11_family 83 = .ok (.aload_n 0, 1) := dk_42 (dk_at dksX11_family_3 15 rfl rfl)
theorem dX11_family_84 : decode cX11_family 84 = .ok (.iconst (-1), 1) := dk_2 (dk_at dksX11_family_3 16 rfl rfl)
theorem dX11_family_85 : decode cX11_family 85 = .ok (.putfield 9, 3) := dk_181 0 9 (dk_at dksX11_family_3 17 rfl rfl)
theorem dX11_family_88 : decode cX11_family 88 = .ok (.aload_n 0, 1) := dk_42 (dk_at dksX11_family_3 20 rfl rfl)
theorem dX11_family_89 : decode cX11_family 89 = .ok (.invokevirtual 131, 3) := dk_182 0 131 (dk_at dksX11_family_3 21 rfl rfl)
theorem dX11_family_92 : decode cX11_family 92 = .ok (.aload_n 0, 1) := dk_42 (dk_at dksX11_family_4 0 rfl rfl)
theorem dX11_family_93 : decode cX11_family 93 = .ok (.getfield 23, 3) := dk_180 0 23 (dk_at dksX11_family_4 1 rfl rfl)
theorem dX11_family_96 : decode cX11_family 96 = .ok (.iconst 1, 1) := dk_4 (dk_at dksX11_family_4 4 rfl rfl)
theorem dX11_family_97 : decode cX11_family 97 = .ok (.iaload, 1) := dk_46 (dk_at dksX11_family_4 5 rfl rfl)
theorem dX11_family_98 : decode cX11_family 98 = .ok (.ireturn, 1) := dk_172 (dk_at dksX11_family_4 6 rfl rfl)
abbrev cX11_bad : ByteArray := prog_22_method_4_code
def yX11_bad : MethodName := ⟨RX11, "bad", "(ZII)Z"⟩
def dkwX11_bad_1 : List UInt8 := [96, 79, 42, 180, 0, 134, 153, 0, 7, 4, 167, 0, 4, 3, 172]
abbrev dktX11_bad_1 : List UInt8 := dkwX11_bad_1 ++ []
def dkwX11_bad_0 : List UInt8 := [27, 153, 0, 25, 42, 180, 0, 134, 154, 0, 18, 42, 28, 181, 0, 134, 42, 180, 0, 17, 29, 92, 46, 4]
abbrev dktX11_bad_0 : List UInt8 := dkwX11_bad_0 ++ dktX11_bad_1
theorem dksX11_bad_0 : cX11_bad.data.toList.drop 0 = dktX11_bad_0 := by decide +kernel
theorem dksX11_bad_1 : cX11_bad.data.toList.drop 24 = dktX11_bad_1 := dk_seg dksX11_bad_0 24 rfl rfl
theorem dX11_bad_0 : decode cX11_bad 0 = .ok (.iload_n 1, 1) := dk_27 (dk_at dksX11_bad_0 0 rfl rfl)
theorem dX11_bad_1 : decode cX11_bad 1 = .ok (.ifCond .eq 25, 3) := dk_153 0 25 (dk_at dksX11_bad_0 1 rfl rfl)
theorem dX11_bad_4 : decode cX11_bad 4 = .ok (.aload_n 0, 1) := dk_42 (dk_at dksX11_bad_0 4 rfl rfl)
theorem dX11_bad_5 : decode cX11_bad 5 = .ok (.getfield 134, 3) := dk_180 0 134 (dk_at dksX11_bad_0 5 rfl rfl)
theorem dX11_bad_8 : decode cX11_bad 8 = .ok (.ifCond .ne 18, 3) := dk_154 0 18 (dk_at dksX11_bad_0 8 rfl rfl)
theorem dX11_bad_11 : decode cX11_bad 11 = .ok (.aload_n 0, 1) := dk_42 (dk_at dksX11_bad_0 11 rfl rfl)
theorem dX11_bad_12 : decode cX11_bad 12 = .ok (.iload_n 2, 1) := dk_28 (dk_at dksX11_bad_0 12 rfl rfl)
theorem dX11_bad_13 : decode cX11_bad 13 = .ok (.putfield 134, 3) := dk_181 0 134 (dk_at dksX11_bad_0 13 rfl rfl)
theorem dX11_bad_16 : decode cX11_bad 16 = .ok (.aload_n 0, 1) := dk_42 (dk_at dksX11_bad_0 16 rfl rfl)
theorem dX11_bad_17 : decode cX11_bad 17 = .ok (.getfield 17, 3) := dk_180 0 17 (dk_at dksX11_bad_0 17 rfl rfl)
theorem dX11_bad_20 : decode cX11_bad 20 = .ok (.iload_n 3, 1) := dk_29 (dk_at dksX11_bad_0 20 rfl rfl)
theorem dX11_bad_21 : decode cX11_bad 21 = .ok (.dup2, 1) := dk_92 (dk_at dksX11_bad_0 21 rfl rfl)
theorem dX11_bad_22 : decode cX11_bad 22 = .ok (.iaload, 1) := dk_46 (dk_at dksX11_bad_0 22 rfl rfl)
theorem dX11_bad_23 : decode cX11_bad 23 = .ok (.iconst 1, 1) := dk_4 (dk_at dksX11_bad_0 23 rfl rfl)
theorem dX11_bad_24 : decode cX11_bad 24 = .ok (.iadd, 1) := dk_96 (dk_at dksX11_bad_1 0 rfl rfl)
theorem dX11_bad_25 : decode cX11_bad 25 = .ok (.iastore, 1) := dk_79 (dk_at dksX11_bad_1 1 rfl rfl)
theorem dX11_bad_26 : decode cX11_bad 26 = .ok (.aload_n 0, 1) := dk_42 (dk_at dksX11_bad_1 2 rfl rfl)
theorem dX11_bad_27 : decode cX11_bad 27 = .ok (.getfield 134, 3) := dk_180 0 134 (dk_at dksX11_bad_1 3 rfl rfl)
theorem dX11_bad_30 : decode cX11_bad 30 = .ok (.ifCond .eq 7, 3) := dk_153 0 7 (dk_at dksX11_bad_1 6 rfl rfl)
theorem dX11_bad_33 : decode cX11_bad 33 = .ok (.iconst 1, 1) := dk_4 (dk_at dksX11_bad_1 9 rfl rfl)
theorem dX11_bad_34 : decode cX11_bad 34 = .ok (.goto 4, 3) := dk_167 0 4 (dk_at dksX11_bad_1 10 rfl rfl)
theorem dX11_bad_37 : decode cX11_bad 37 = .ok (.iconst 0, 1) := dk_3 (dk_at dksX11_bad_1 13 rfl rfl)
theorem dX11_bad_38 : decode cX11_bad 38 = .ok (.ireturn, 1) := dk_172 (dk_at dksX11_bad_1 14 rfl rfl)
abbrev cX11_starts : ByteArray := prog_22_method_25_code
def yX11_starts : MethodName := ⟨RX11, "starts", "(I)V"⟩
def dkwX11_starts_1 : List UInt8 := [181, 0, 153, 42, 3, 181, 0, 196, 42, 3, 181, 0, 199, 42, 182, 0, 156, 177]
abbrev dktX11_starts_1 : List UInt8 := dkwX11_starts_1 ++ []
def dkwX11_starts_0 : List UInt8 := [42, 3, 181, 0, 137, 42, 27, 181, 0, 140, 42, 3, 181, 0, 143, 42, 3, 181, 0, 150, 42, 2]
abbrev dktX11_starts_0 : List UInt8 := dkwX11_starts_0 ++ dktX11_starts_1
theorem dksX11_starts_0 : cX11_starts.data.toList.drop 0 = dktX11_starts_0 := by decide +kernel
theorem dksX11_starts_1 : cX11_starts.data.toList.drop 22 = dktX11_starts_1 := dk_seg dksX11_starts_0 22 rfl rfl
theorem dX11_starts_0 : decode cX11_starts 0 = .ok (.aload_n 0, 1) := dk_42 (dk_at dksX11_starts_0 0 rfl rfl)
theorem dX11_starts_1 : decode cX11_starts 1 = .ok (.iconst 0, 1) := dk_3 (dk_at dksX11_starts_0 1 rfl rfl)
theorem dX11_starts_2 : decode cX11_starts 2 = .ok (.putfield 137, 3) := dk_181 0 137 (dk_at dksX11_starts_0 2 rfl rfl)
theorem dX11_starts_5 : decode cX11_starts 5 = .ok (.aload_n 0, 1) := dk_42 (dk_at dksX11_starts_0 5 rfl rfl)
theorem dX11_starts_6 : decode cX11_starts 6 = .ok (.iload_n 1, 1) := dk_27 (dk_at dksX11_starts_0 6 rfl rfl)
theorem dX11_starts_7 : decode cX11_starts 7 = .ok (.putfield 140, 3) := dk_181 0 140 (dk_at dksX11_starts_0 7 rfl rfl)
theorem dX11_starts_10 : decode cX11_starts 10 = .ok (.aload_n 0, 1) := dk_42 (dk_at dksX11_starts_0 10 rfl rfl)
theorem dX11_starts_11 : decode cX11_starts 11 = .ok (.iconst 0, 1) := dk_3 (dk_at dksX11_starts_0 11 rfl rfl)
theorem dX11_starts_12 : decode cX11_starts 12 = .ok (.putfield 143, 3) := dk_181 0 143 (dk_at dksX11_starts_0 12 rfl rfl)
theorem dX11_starts_15 : decode cX11_starts 15 = .ok (.aload_n 0, 1) := dk_42 (dk_at dksX11_starts_0 15 rfl rfl)
theorem dX11_starts_16 : decode cX11_starts 16 = .ok (.iconst 0, 1) := dk_3 (dk_at dksX11_starts_0 16 rfl rfl)
theorem dX11_starts_17 : decode cX11_starts 17 = .ok (.putfield 150, 3) := dk_181 0 150 (dk_at dksX11_starts_0 17 rfl rfl)
theorem dX11_starts_20 : decode cX11_starts 20 = .ok (.aload_n 0, 1) := dk_42 (dk_at dksX11_starts_0 20 rfl rfl)
theorem dX11_starts_21 : decode cX11_starts 21 = .ok (.iconst (-1), 1) := dk_2 (dk_at dksX11_starts_0 21 rfl rfl)
theorem dX11_starts_22 : decode cX11_starts 22 = .ok (.putfield 153, 3) := dk_181 0 153 (dk_at dksX11_starts_1 0 rfl rfl)
theorem dX11_starts_25 : decode cX11_starts 25 = .ok (.aload_n 0, 1) := dk_42 (dk_at dksX11_starts_1 3 rfl rfl)
theorem dX11_starts_26 : decode cX11_starts 26 = .ok (.iconst 0, 1) := dk_3 (dk_at dksX11_starts_1 4 rfl rfl)
theorem dX11_starts_27 : decode cX11_starts 27 = .ok (.putfield 196, 3) := dk_181 0 196 (dk_at dksX11_starts_1 5 rfl rfl)
theorem dX11_starts_30 : decode cX11_starts 30 = .ok (.aload_n 0, 1) := dk_42 (dk_at dksX11_starts_1 8 rfl rfl)
theorem dX11_starts_31 : decode cX11_starts 31 = .ok (.iconst 0, 1) := dk_3 (dk_at dksX11_starts_1 9 rfl rfl)
theorem dX11_starts_32 : decode cX11_starts 32 = .ok (.putfield 199, 3) := dk_181 0 199 (dk_at dksX11_starts_1 10 rfl rfl)
theorem dX11_starts_35 : decode cX11_starts 35 = .ok (.aload_n 0, 1) := dk_42 (dk_at dksX11_starts_1 13 rfl rfl)
theorem dX11_starts_36 : decode cX11_starts 36 = .ok (.invokevirtual 156, 3) := dk_182 0 156 (dk_at dksX11_starts_1 14 rfl rfl)
theorem dX11_starts_39 : decode cX11_starts 39 = .ok (.return_, 1) := dk_177 (dk_at dksX11_starts_1 17 rfl rfl)
abbrev cX11_blanks : ByteArray := prog_22_method_12_code
def yX11_blanks : MethodName := ⟨RX11, "blanks", "()V"⟩
def dkwX11_blanks_1 : List UInt8 := [167, 255, 233, 177]
abbrev dktX11_blanks_1 : List UInt8 := dkwX11_blanks_1 ++ []
def dkwX11_blanks_0 : List UInt8 := [42, 42, 180, 0, 143, 182, 0, 146, 16, 32, 160, 0, 16, 42, 89, 180, 0, 143, 4, 96, 181, 0, 143]
abbrev dktX11_blanks_0 : List UInt8 := dkwX11_blanks_0 ++ dktX11_blanks_1
theorem dksX11_blanks_0 : cX11_blanks.data.toList.drop 0 = dktX11_blanks_0 := by decide +kernel
theorem dksX11_blanks_1 : cX11_blanks.data.toList.drop 23 = dktX11_blanks_1 := dk_seg dksX11_blanks_0 23 rfl rfl
theorem dX11_blanks_0 : decode cX11_blanks 0 = .ok (.aload_n 0, 1) := dk_42 (dk_at dksX11_blanks_0 0 rfl rfl)
theorem dX11_blanks_1 : decode cX11_blanks 1 = .ok (.aload_n 0, 1) := dk_42 (dk_at dksX11_blanks_0 1 rfl rfl)
theorem dX11_blanks_2 : decode cX11_blanks 2 = .ok (.getfield 143, 3) := dk_180 0 143 (dk_at dksX11_blanks_0 2 rfl rfl)
theorem dX11_blanks_5 : decode cX11_blanks 5 = .ok (.invokevirtual 146, 3) := dk_182 0 146 (dk_at dksX11_blanks_0 5 rfl rfl)
theorem dX11_blanks_8 : decode cX11_blanks 8 = .ok (.bipush 32, 2) := dk_16 32 (dk_at dksX11_blanks_0 8 rfl rfl)
theorem dX11_blanks_10 : decode cX11_blanks 10 = .ok (.if_icmp .ne 16, 3) := dk_160 0 16 (dk_at dksX11_blanks_0 10 rfl rfl)
theorem dX11_blanks_13 : decode cX11_blanks 13 = .ok (.aload_n 0, 1) := dk_42 (dk_at dksX11_blanks_0 13 rfl rfl)
theorem dX11_blanks_14 : decode cX11_blanks 14 = .ok (.dup, 1) := dk_89 (dk_at dksX11_blanks_0 14 rfl rfl)
theorem dX11_blanks_15 : decode cX11_blanks 15 = .ok (.getfield 143, 3) := dk_180 0 143 (dk_at dksX11_blanks_0 15 rfl rfl)
theorem dX11_blanks_18 : decode cX11_blanks 18 = .ok (.iconst 1, 1) := dk_4 (dk_at dksX11_blanks_0 18 rfl rfl)
theorem dX11_blanks_19 : decode cX11_blanks 19 = .ok (.iadd, 1) := dk_96 (dk_at dksX11_blanks_0 19 rfl rfl)
theorem dX11_blanks_20 : decode cX11_blanks 20 = .ok (.putfield 143, 3) := dk_181 0 143 (dk_at dksX11_blanks_0 20 rfl rfl)
theorem dX11_blanks_23 : decode cX11_blanks 23 = .ok (.goto (-23), 3) := dk_167 255 233 (dk_at dksX11_blanks_1 0 rfl rfl)
theorem dX11_blanks_26 : decode cX11_blanks 26 = .ok (.return_, 1) := dk_177 (dk_at dksX11_blanks_1 3 rfl rfl)
abbrev cX11_byteAt : ByteArray := prog_22_method_11_code
def yX11_byteAt : MethodName := ⟨RX11, "byteAt", "(I)I"⟩
def dkwX11_byteAt_0 : List UInt8 := [27, 42, 180, 0, 140, 161, 0, 7, 2, 167, 0, 9, 42, 180, 0, 13, 27, 46, 172]
abbrev dktX11_byteAt_0 : List UInt8 := dkwX11_byteAt_0 ++ []
theorem dksX11_byteAt_0 : cX11_byteAt.data.toList.drop 0 = dktX11_byteAt_0 := by decide +kernel
theorem dX11_byteAt_0 : decode cX11_byteAt 0 = .ok (.iload_n 1, 1) := dk_27 (dk_at dksX11_byteAt_0 0 rfl rfl)
theorem dX11_byteAt_1 : decode cX11_byteAt 1 = .ok (.aload_n 0, 1) := dk_42 (dk_at dksX11_byteAt_0 1 rfl rfl)
theorem dX11_byteAt_2 : decode cX11_byteAt 2 = .ok (.getfield 140, 3) := dk_180 0 140 (dk_at dksX11_byteAt_0 2 rfl rfl)
theorem dX11_byteAt_5 : decode cX11_byteAt 5 = .ok (.if_icmp .lt 7, 3) := dk_161 0 7 (dk_at dksX11_byteAt_0 5 rfl rfl)
theorem dX11_byteAt_8 : decode cX11_byteAt 8 = .ok (.iconst (-1), 1) := dk_2 (dk_at dksX11_byteAt_0 8 rfl rfl)
theorem dX11_byteAt_9 : decode cX11_byteAt 9 = .ok (.goto 9, 3) := dk_167 0 9 (dk_at dksX11_byteAt_0 9 rfl rfl)
theorem dX11_byteAt_12 : decode cX11_byteAt 12 = .ok (.aload_n 0, 1) := dk_42 (dk_at dksX11_byteAt_0 12 rfl rfl)
theorem dX11_byteAt_13 : decode cX11_byteAt 13 = .ok (.getfield 13, 3) := dk_180 0 13 (dk_at dksX11_byteAt_0 13 rfl rfl)
theorem dX11_byteAt_16 : decode cX11_byteAt 16 = .ok (.iload_n 1, 1) := dk_27 (dk_at dksX11_byteAt_0 16 rfl rfl)
theorem dX11_byteAt_17 : decode cX11_byteAt 17 = .ok (.iaload, 1) := dk_46 (dk_at dksX11_byteAt_0 17 rfl rfl)
theorem dX11_byteAt_18 : decode cX11_byteAt 18 = .ok (.ireturn, 1) := dk_172 (dk_at dksX11_byteAt_0 18 rfl rfl)
abbrev cX11_clause : ByteArray := prog_22_method_30_code
def yX11_clause : MethodName := ⟨RX11, "clause", "()V"⟩
def dkwX11_clause_16 : List UInt8 := [46, 42, 180, 0, 150, 154, 0, 7, 4, 167, 0, 4, 3, 96, 79, 42, 16, 59, 182, 0, 232, 177]
abbrev dktX11_clause_16 : List UInt8 := dkwX11_clause_16 ++ []
def dkwX11_clause_15 : List UInt8 := [154, 0, 13, 42, 180, 0, 20, 6, 28, 79, 167, 0, 3, 27, 6, 162, 0, 24, 42, 180, 0, 20, 27, 92]
abbrev dktX11_clause_15 : List UInt8 := dkwX11_clause_15 ++ dktX11_clause_16
def dkwX11_clause_14 : List UInt8 := [21, 4, 96, 184, 0, 229, 79, 167, 0, 28, 42, 3, 16, 9, 182, 0, 202, 61, 42, 180, 0, 150]
abbrev dktX11_clause_14 : List UInt8 := dkwX11_clause_14 ++ dktX11_clause_15
def dkwX11_clause_13 : List UInt8 := [180, 0, 150, 154, 0, 56, 42, 180, 0, 64, 28, 50, 29, 17, 3, 231, 42, 180, 0, 64, 28, 50, 29, 46]
abbrev dktX11_clause_13 : List UInt8 := dkwX11_clause_13 ++ dktX11_clause_14
def dkwX11_clause_12 : List UInt8 := [167, 0, 83, 42, 182, 0, 223, 61, 42, 28, 182, 0, 226, 62, 42, 4, 16, 99, 182, 0, 202, 54, 4, 42]
abbrev dktX11_clause_12 : List UInt8 := dkwX11_clause_12 ++ dktX11_clause_13
def dkwX11_clause_11 : List UInt8 := [42, 180, 0, 38, 28, 92, 46, 4, 29, 120, 128, 79, 42, 180, 0, 38, 29, 92, 46, 4, 28, 120, 128, 79]
abbrev dktX11_clause_11 : List UInt8 := dkwX11_clause_11 ++ dktX11_clause_12
def dkwX11_clause_10 : List UInt8 := [167, 0, 131, 42, 182, 0, 223, 61, 42, 28, 182, 0, 226, 62, 42, 180, 0, 150, 153, 0, 6, 167, 0, 110]
abbrev dktX11_clause_10 : List UInt8 := dkwX11_clause_10 ++ dktX11_clause_11
def dkwX11_clause_9 : List UInt8 := [180, 0, 20, 5, 46, 50, 182, 0, 214, 167, 0, 145, 42, 182, 0, 217, 167, 0, 138, 42, 182, 0, 220]
abbrev dktX11_clause_9 : List UInt8 := dkwX11_clause_9 ++ dktX11_clause_10
def dkwX11_clause_8 : List UInt8 := [182, 0, 202, 79, 44, 5, 42, 3, 16, 30, 182, 0, 202, 79, 167, 0, 163, 42, 42, 180, 0, 58, 42]
abbrev dktX11_clause_8 : List UInt8 := dkwX11_clause_8 ++ dktX11_clause_9
def dkwX11_clause_7 : List UInt8 := [180, 0, 20, 4, 46, 50, 77, 44, 3, 42, 3, 16, 15, 182, 0, 202, 79, 44, 4, 42, 4, 5]
abbrev dktX11_clause_7 : List UInt8 := dkwX11_clause_7 ++ dktX11_clause_8
def dkwX11_clause_6 : List UInt8 := [42, 42, 180, 0, 46, 42, 180, 0, 20, 3, 46, 50, 182, 0, 210, 167, 0, 207, 42, 180, 0, 52, 42]
abbrev dktX11_clause_6 : List UInt8 := dkwX11_clause_6 ++ dktX11_clause_7
def dkwX11_clause_5 : List UInt8 := [170, 0, 0, 0, 0, 239, 0, 0, 0, 0, 0, 0, 0, 6, 0, 0, 0, 42, 0, 0, 0, 60, 0, 0, 0, 104, 0, 0, 0, 122, 0, 0, 0, 129, 0, 0, 0, 136, 0, 0, 0, 184]
abbrev dktX11_clause_5 : List UInt8 := dkwX11_clause_5 ++ dktX11_clause_6
def dkwX11_clause_4 : List UInt8 := [42, 182, 0, 193, 42, 89, 180, 0, 196, 4, 96, 181, 0, 196, 27]
abbrev dktX11_clause_4 : List UInt8 := dkwX11_clause_4 ++ dktX11_clause_5
def dkwX11_clause_3 : List UInt8 := [5, 46, 16, 6, 160, 0, 12, 42, 6, 42, 180, 0, 143, 182, 0, 163, 42, 180, 0, 150, 153, 0, 4, 177]
abbrev dktX11_clause_3 : List UInt8 := dkwX11_clause_3 ++ dktX11_clause_4
def dkwX11_clause_2 : List UInt8 := [4, 160, 0, 14, 42, 180, 0, 20, 4, 46, 16, 8, 159, 0, 19, 27, 5, 160, 0, 23, 42, 180, 0, 20]
abbrev dktX11_clause_2 : List UInt8 := dkwX11_clause_2 ++ dktX11_clause_3
def dkwX11_clause_1 : List UInt8 := [180, 0, 196, 16, 60, 159, 0, 50, 27, 154, 0, 14, 42, 180, 0, 20, 3, 46, 16, 9, 159, 0, 35, 27]
abbrev dktX11_clause_1 : List UInt8 := dkwX11_clause_1 ++ dktX11_clause_2
def dkwX11_clause_0 : List UInt8 := [42, 182, 0, 206, 60, 27, 2, 160, 0, 15, 42, 4, 42, 180, 0, 143, 182, 0, 163, 167, 0, 68, 42]
abbrev dktX11_clause_0 : List UInt8 := dkwX11_clause_0 ++ dktX11_clause_1
theorem dksX11_clause_0 : cX11_clause.data.toList.drop 0 = dktX11_clause_0 := by decide +kernel
theorem dksX11_clause_1 : cX11_clause.data.toList.drop 23 = dktX11_clause_1 := dk_seg dksX11_clause_0 23 rfl rfl
theorem dksX11_clause_2 : cX11_clause.data.toList.drop 47 = dktX11_clause_2 := dk_seg dksX11_clause_1 24 rfl rfl
theorem dksX11_clause_3 : cX11_clause.data.toList.drop 71 = dktX11_clause_3 := dk_seg dksX11_clause_2 24 rfl rfl
theorem dksX11_clause_4 : cX11_clause.data.toList.drop 95 = dktX11_clause_4 := dk_seg dksX11_clause_3 24 rfl rfl
theorem dksX11_clause_5 : cX11_clause.data.toList.drop 110 = dktX11_clause_5 := dk_seg dksX11_clause_4 15 rfl rfl
theorem dksX11_clause_6 : cX11_clause.data.toList.drop 152 = dktX11_clause_6 := dk_seg dksX11_clause_5 42 rfl rfl
theorem dksX11_clause_7 : cX11_clause.data.toList.drop 175 = dktX11_clause_7 := dk_seg dksX11_clause_6 23 rfl rfl
theorem dksX11_clause_8 : cX11_clause.data.toList.drop 197 = dktX11_clause_8 := dk_seg dksX11_clause_7 22 rfl rfl
theorem dksX11_clause_9 : cX11_clause.data.toList.drop 220 = dktX11_clause_9 := dk_seg dksX11_clause_8 23 rfl rfl
theorem dksX11_clause_10 : cX11_clause.data.toList.drop 243 = dktX11_clause_10 := dk_seg dksX11_clause_9 23 rfl rfl
theorem dksX11_clause_11 : cX11_clause.data.toList.drop 267 = dktX11_clause_11 := dk_seg dksX11_clause_10 24 rfl rfl
theorem dksX11_clause_12 : cX11_clause.data.toList.drop 291 = dktX11_clause_12 := dk_seg dksX11_clause_11 24 rfl rfl
theorem dksX11_clause_13 : cX11_clause.data.toList.drop 315 = dktX11_clause_13 := dk_seg dksX11_clause_12 24 rfl rfl
theorem dksX11_clause_14 : cX11_clause.data.toList.drop 339 = dktX11_clause_14 := dk_seg dksX11_clause_13 24 rfl rfl
theorem dksX11_clause_15 : cX11_clause.data.toList.drop 361 = dktX11_clause_15 := dk_seg dksX11_clause_14 22 rfl rfl
theorem dksX11_clause_16 : cX11_clause.data.toList.drop 385 = dktX11_clause_16 := dk_seg dksX11_clause_15 24 rfl rfl
theorem dX11_clause_0 : decode cX11_clause 0 = .ok (.aload_n 0, 1) := dk_42 (dk_at dksX11_clause_0 0 rfl rfl)
theorem dX11_clause_1 : decode cX11_clause 1 = .ok (.invokevirtual 206, 3) := dk_182 0 206 (dk_at dksX11_clause_0 1 rfl rfl)
theorem dX11_clause_4 : decode cX11_clause 4 = .ok (.istore_n 1, 1) := dk_60 (dk_at dksX11_clause_0 4 rfl rfl)
theorem dX11_clause_5 : decode cX11_clause 5 = .ok (.iload_n 1, 1) := dk_27 (dk_at dksX11_clause_0 5 rfl rfl)
theorem dX11_clause_6 : decode cX11_clause 6 = .ok (.iconst (-1), 1) := dk_2 (dk_at dksX11_clause_0 6 rfl rfl)
theorem dX11_clause_7 : decode cX11_clause 7 = .ok (.if_icmp .ne 15, 3) := dk_160 0 15 (dk_at dksX11_clause_0 7 rfl rfl)
theorem dX11_clause_10 : decode cX11_clause 10 = .ok (.aload_n 0, 1) := dk_42 (dk_at dksX11_clause_0 10 rfl rfl)
theorem dX11_clause_11 : decode cX11_clause 11 = .ok (.iconst 1, 1) := dk_4 (dk_at dksX11_clause_0 11 rfl rfl)
theorem dX11_clause_12 : decode cX11_clause 12 = .ok (.aload_n 0, 1) := dk_42 (dk_at dksX11_clause_0 12 rfl rfl)
theorem dX11_clause_13 : decode cX11_clause 13 = .ok (.getfield 143, 3) := dk_180 0 143 (dk_at dksX11_clause_0 13 rfl rfl)
theorem dX11_clause_16 : decode cX11_clause 16 = .ok (.invokevirtual 163, 3) := dk_182 0 163 (dk_at dksX11_clause_0 16 rfl rfl)
theorem dX11_clause_19 : decode cX11_clause 19 = .ok (.goto 68, 3) := dk_167 0 68 (dk_at dksX11_clause_0 19 rfl rfl)
theorem dX11_clause_22 : decode cX11_clause 22 = .ok (.aload_n 0, 1) := dk_42 (dk_at dksX11_clause_0 22 rfl rfl)
theorem dX11_clause_23 : decode cX11_clause 23 = .ok (.getfield 196, 3) := dk_180 0 196 (dk_at dksX11_clause_1 0 rfl rfl)
theorem dX11_clause_26 : decode cX11_clause 26 = .ok (.bipush 60, 2) := dk_16 60 (dk_at dksX11_clause_1 3 rfl rfl)
theorem dX11_clause_28 : decode cX11_clause 28 = .ok (.if_icmp .eq 50, 3) := dk_159 0 50 (dk_at dksX11_clause_1 5 rfl rfl)
theorem dX11_clause_31 : decode cX11_clause 31 = .ok (.iload_n 1, 1) := dk_27 (dk_at dksX11_clause_1 8 rfl rfl)
theorem dX11_clause_32 : decode cX11_clause 32 = .ok (.ifCond .ne 14, 3) := dk_154 0 14 (dk_at dksX11_clause_1 9 rfl rfl)
theorem dX11_clause_35 : decode cX11_clause 35 = .ok (.aload_n 0, 1) := dk_42 (dk_at dksX11_clause_1 12 rfl rfl)
theorem dX11_clause_36 : decode cX11_clause 36 = .ok (.getfield 20, 3) := dk_180 0 20 (dk_at dksX11_clause_1 13 rfl rfl)
theorem dX11_clause_39 : decode cX11_clause 39 = .ok (.iconst 0, 1) := dk_3 (dk_at dksX11_clause_1 16 rfl rfl)
theorem dX11_clause_40 : decode cX11_clause 40 = .ok (.iaload, 1) := dk_46 (dk_at dksX11_clause_1 17 rfl rfl)
theorem dX11_clause_41 : decode cX11_clause 41 = .ok (.bipush 9, 2) := dk_16 9 (dk_at dksX11_clause_1 18 rfl rfl)
theorem dX11_clause_43 : decode cX11_clause 43 = .ok (.if_icmp .eq 35, 3) := dk_159 0 35 (dk_at dksX11_clause_1 20 rfl rfl)
theorem dX11_clause_46 : decode cX11_clause 46 = .ok (.iload_n 1, 1) := dk_27 (dk_at dksX11_clause_1 23 rfl rfl)
theorem dX11_clause_47 : decode cX11_clause 47 = .ok (.iconst 1, 1) := dk_4 (dk_at dksX11_clause_2 0 rfl rfl)
theorem dX11_clause_48 : decode cX11_clause 48 = .ok (.if_icmp .ne 14, 3) := dk_160 0 14 (dk_at dksX11_clause_2 1 rfl rfl)
theorem dX11_clause_51 : decode cX11_clause 51 = .ok (.aload_n 0, 1) := dk_42 (dk_at dksX11_clause_2 4 rfl rfl)
theorem dX11_clause_52 : decode cX11_clause 52 = .ok (.getfield 20, 3) := dk_180 0 20 (dk_at dksX11_clause_2 5 rfl rfl)
theorem dX11_clause_55 : decode cX11_clause 55 = .ok (.iconst 1, 1) := dk_4 (dk_at dksX11_clause_2 8 rfl rfl)
theorem dX11_clause_56 : decode cX11_clause 56 = .ok (.iaload, 1) := dk_46 (dk_at dksX11_clause_2 9 rfl rfl)
theorem dX11_clause_57 : decode cX11_clause 57 = .ok (.bipush 8, 2) := dk_16 8 (dk_at dksX11_clause_2 10 rfl rfl)
theorem dX11_clause_59 : decode cX11_clause 59 = .ok (.if_icmp .eq 19, 3) := dk_159 0 19 (dk_at dksX11_clause_2 12 rfl rfl)
theorem dX11_clause_62 : decode cX11_clause 62 = .ok (.iload_n 1, 1) := dk_27 (dk_at dksX11_clause_2 15 rfl rfl)
theorem dX11_clause_63 : decode cX11_clause 63 = .ok (.iconst 2, 1) := dk_5 (dk_at dksX11_clause_2 16 rfl rfl)
theorem dX11_clause_64 : decode cX11_clause 64 = .ok (.if_icmp .ne 23, 3) := dk_160 0 23 (dk_at dksX11_clause_2 17 rfl rfl)
theorem dX11_clause_67 : decode cX11_clause 67 = .ok (.aload_n 0, 1) := dk_42 (dk_at dksX11_clause_2 20 rfl rfl)
theorem dX11_clause_68 : decode cX11_clause 68 = .ok (.getfield 20, 3) := dk_180 0 20 (dk_at dksX11_clause_2 21 rfl rfl)
theorem dX11_clause_71 : decode cX11_clause 71 = .ok (.iconst 2, 1) := dk_5 (dk_at dksX11_clause_3 0 rfl rfl)
theorem dX11_clause_72 : decode cX11_clause 72 = .ok (.iaload, 1) := dk_46 (dk_at dksX11_clause_3 1 rfl rfl)
theorem dX11_clause_73 : decode cX11_clause 73 = .ok (.bipush 6, 2) := dk_16 6 (dk_at dksX11_clause_3 2 rfl rfl)
theorem dX11_clause_75 : decode cX11_clause 75 = .ok (.if_icmp .ne 12, 3) := dk_160 0 12 (dk_at dksX11_clause_3 4 rfl rfl)
theorem dX11_clause_78 : decode cX11_clause 78 = .ok (.aload_n 0, 1) := dk_42 (dk_at dksX11_clause_3 7 rfl rfl)
theorem dX11_clause_79 : decode cX11_clause 79 = .ok (.iconst 3, 1) := dk_6 (dk_at dksX11_clause_3 8 rfl rfl)
theorem dX11_clause_80 : decode cX11_clause 80 = .ok (.aload_n 0, 1) := dk_42 (dk_at dksX11_clause_3 9 rfl rfl)
theorem dX11_clause_81 : decode cX11_clause 81 = .ok (.getfield 143, 3) := dk_180 0 143 (dk_at dksX11_clause_3 10 rfl rfl)
theorem dX11_clause_84 : decode cX11_clause 84 = .ok (.invokevirtual 163, 3) := dk_182 0 163 (dk_at dksX11_clause_3 13 rfl rfl)
theorem dX11_clause_87 : decode cX11_clause 87 = .ok (.aload_n 0, 1) := dk_42 (dk_at dksX11_clause_3 16 rfl rfl)
theorem dX11_clause_88 : decode cX11_clause 88 = .ok (.getfield 150, 3) := dk_180 0 150 (dk_at dksX11_clause_3 17 rfl rfl)
theorem dX11_clause_91 : decode cX11_clause 91 = .ok (.ifCond .eq 4, 3) := dk_153 0 4 (dk_at dksX11_clause_3 20 rfl rfl)
theorem dX11_clause_94 : decode cX11_clause 94 = .ok (.return_, 1) := dk_177 (dk_at dksX11_clause_3 23 rfl rfl)
theorem dX11_clause_95 : decode cX11_clause 95 = .ok (.aload_n 0, 1) := dk_42 (dk_at dksX11_clause_4 0 rfl rfl)
theorem dX11_clause_96 : decode cX11_clause 96 = .ok (.invokevirtual 193, 3) := dk_182 0 193 (dk_at dksX11_clause_4 1 rfl rfl)
theorem dX11_clause_99 : decode cX11_clause 99 = .ok (.aload_n 0, 1) := dk_42 (dk_at dksX11_clause_4 4 rfl rfl)
theorem dX11_clause_100 : decode cX11_clause 100 = .ok (.dup, 1) := dk_89 (dk_at dksX11_clause_4 5 rfl rfl)
theorem dX11_clause_101 : decode cX11_clause 101 = .ok (.getfield 196, 3) := dk_180 0 196 (dk_at dksX11_clause_4 6 rfl rfl)
theorem dX11_clause_104 : decode cX11_clause 104 = .ok (.iconst 1, 1) := dk_4 (dk_at dksX11_clause_4 9 rfl rfl)
theorem dX11_clause_105 : decode cX11_clause 105 = .ok (.iadd, 1) := dk_96 (dk_at dksX11_clause_4 10 rfl rfl)
theorem dX11_clause_106 : decode cX11_clause 106 = .ok (.putfield 196, 3) := dk_181 0 196 (dk_at dksX11_clause_4 11 rfl rfl)
theorem dX11_clause_109 : decode cX11_clause 109 = .ok (.iload_n 1, 1) := dk_27 (dk_at dksX11_clause_4 14 rfl rfl)
theorem dX11_clause_110 : decode cX11_clause 110 = .ok (.tableswitch 239 0 6 #[42, 60, 104, 122, 129, 136, 184], 42) := by decide +kernel
theorem dX11_clause_152 : decode cX11_clause 152 = .ok (.aload_n 0, 1) := dk_42 (dk_at dksX11_clause_6 0 rfl rfl)
theorem dX11_clause_153 : decode cX11_clause 153 = .ok (.aload_n 0, 1) := dk_42 (dk_at dksX11_clause_6 1 rfl rfl)
theorem dX11_clause_154 : decode cX11_clause 154 = .ok (.getfield 46, 3) := dk_180 0 46 (dk_at dksX11_clause_6 2 rfl rfl)
theorem dX11_clause_157 : decode cX11_clause 157 = .ok (.aload_n 0, 1) := dk_42 (dk_at dksX11_clause_6 5 rfl rfl)
theorem dX11_clause_158 : decode cX11_clause 158 = .ok (.getfield 20, 3) := dk_180 0 20 (dk_at dksX11_clause_6 6 rfl rfl)
theorem dX11_clause_161 : decode cX11_clause 161 = .ok (.iconst 0, 1) := dk_3 (dk_at dksX11_clause_6 9 rfl rfl)
theorem dX11_clause_162 : decode cX11_clause 162 = .ok (.iaload, 1) := dk_46 (dk_at dksX11_clause_6 10 rfl rfl)
theorem dX11_clause_163 : decode cX11_clause 163 = .ok (.aaload, 1) := dk_50 (dk_at dksX11_clause_6 11 rfl rfl)
theorem dX11_clause_164 : decode cX11_clause 164 = .ok (.invokevirtual 210, 3) := dk_182 0 210 (dk_at dksX11_clause_6 12 rfl rfl)
theorem dX11_clause_167 : decode cX11_clause 167 = .ok (.goto 207, 3) := dk_167 0 207 (dk_at dksX11_clause_6 15 rfl rfl)
theorem dX11_clause_170 : decode cX11_clause 170 = .ok (.aload_n 0, 1) := dk_42 (dk_at dksX11_clause_6 18 rfl rfl)
theorem dX11_clause_171 : decode cX11_clause 171 = .ok (.getfield 52, 3) := dk_180 0 52 (dk_at dksX11_clause_6 19 rfl rfl)
theorem dX11_clause_174 : decode cX11_clause 174 = .ok (.aload_n 0, 1) := dk_42 (dk_at dksX11_clause_6 22 rfl rfl)
theorem dX11_clause_175 : decode cX11_clause 175 = .ok (.getfield 20, 3) := dk_180 0 20 (dk_at dksX11_clause_7 0 rfl rfl)
theorem dX11_clause_178 : decode cX11_clause 178 = .ok (.iconst 1, 1) := dk_4 (dk_at dksX11_clause_7 3 rfl rfl)
theorem dX11_clause_179 : decode cX11_clause 179 = .ok (.iaload, 1) := dk_46 (dk_at dksX11_clause_7 4 rfl rfl)
theorem dX11_clause_180 : decode cX11_clause 180 = .ok (.aaload, 1) := dk_50 (dk_at dksX11_clause_7 5 rfl rfl)
theorem dX11_clause_181 : decode cX11_clause 181 = .ok (.astore_n 2, 1) := dk_77 (dk_at dksX11_clause_7 6 rfl rfl)
theorem dX11_clause_182 : decode cX11_clause 182 = .ok (.aload_n 2, 1) := dk_44 (dk_at dksX11_clause_7 7 rfl rfl)
theorem dX11_clause_183 : decode cX11_clause 183 = .ok (.iconst 0, 1) := dk_3 (dk_at dksX11_clause_7 8 rfl rfl)
theorem dX11_clause_184 : decode cX11_clause 184 = .ok (.aload_n 0, 1) := dk_42 (dk_at dksX11_clause_7 9 rfl rfl)
theorem dX11_clause_185 : decode cX11_clause 185 = .ok (.iconst 0, 1) := dk_3 (dk_at dksX11_clause_7 10 rfl rfl)
theorem dX11_clause_186 : decode cX11_clause 186 = .ok (.bipush 15, 2) := dk_16 15 (dk_at dksX11_clause_7 11 rfl rfl)
theorem dX11_clause_188 : decode cX11_clause 188 = .ok (.invokevirtual 202, 3) := dk_182 0 202 (dk_at dksX11_clause_7 13 rfl rfl)
theorem dX11_clause_191 : decode cX11_clause 191 = .ok (.iastore, 1) := dk_79 (dk_at dksX11_clause_7 16 rfl rfl)
theorem dX11_clause_192 : decode cX11_clause 192 = .ok (.aload_n 2, 1) := dk_44 (dk_at dksX11_clause_7 17 rfl rfl)
theorem dX11_clause_193 : decode cX11_clause 193 = .ok (.iconst 1, 1) := dk_4 (dk_at dksX11_clause_7 18 rfl rfl)
theorem dX11_clause_194 : decode cX11_clause 194 = .ok (.aload_n 0, 1) := dk_42 (dk_at dksX11_clause_7 19 rfl rfl)
theorem dX11_clause_195 : decode cX11_clause 195 = .ok (.iconst 1, 1) := dk_4 (dk_at dksX11_clause_7 20 rfl rfl)
theorem dX11_clause_196 : decode cX11_clause 196 = .ok (.iconst 2, 1) := dk_5 (dk_at dksX11_clause_7 21 rfl rfl)
theorem dX11_clause_197 : decode cX11_clause 197 = .ok (.invokevirtual 202, 3) := dk_182 0 202 (dk_at dksX11_clause_8 0 rfl rfl)
theorem dX11_clause_200 : decode cX11_clause 200 = .ok (.iastore, 1) := dk_79 (dk_at dksX11_clause_8 3 rfl rfl)
theorem dX11_clause_201 : decode cX11_clause 201 = .ok (.aload_n 2, 1) := dk_44 (dk_at dksX11_clause_8 4 rfl rfl)
theorem dX11_clause_202 : decode cX11_clause 202 = .ok (.iconst 2, 1) := dk_5 (dk_at dksX11_clause_8 5 rfl rfl)
theorem dX11_clause_203 : decode cX11_clause 203 = .ok (.aload_n 0, 1) := dk_42 (dk_at dksX11_clause_8 6 rfl rfl)
theorem dX11_clause_204 : decode cX11_clause 204 = .ok (.iconst 0, 1) := dk_3 (dk_at dksX11_clause_8 7 rfl rfl)
theorem dX11_clause_205 : decode cX11_clause 205 = .ok (.bipush 30, 2) := dk_16 30 (dk_at dksX11_clause_8 8 rfl rfl)
theorem dX11_clause_207 : decode cX11_clause 207 = .ok (.invokevirtual 202, 3) := dk_182 0 202 (dk_at dksX11_clause_8 10 rfl rfl)
theorem dX11_clause_210 : decode cX11_clause 210 = .ok (.iastore, 1) := dk_79 (dk_at dksX11_clause_8 13 rfl rfl)
theorem dX11_clause_211 : decode cX11_clause 211 = .ok (.goto 163, 3) := dk_167 0 163 (dk_at dksX11_clause_8 14 rfl rfl)
theorem dX11_clause_214 : decode cX11_clause 214 = .ok (.aload_n 0, 1) := dk_42 (dk_at dksX11_clause_8 17 rfl rfl)
theorem dX11_clause_215 : decode cX11_clause 215 = .ok (.aload_n 0, 1) := dk_42 (dk_at dksX11_clause_8 18 rfl rfl)
theorem dX11_clause_216 : decode cX11_clause 216 = .ok (.getfield 58, 3) := dk_180 0 58 (dk_at dksX11_clause_8 19 rfl rfl)
theorem dX11_clause_219 : decode cX11_clause 219 = .ok (.aload_n 0, 1) := dk_42 (dk_at dksX11_clause_8 22 rfl rfl)
theorem dX11_clause_220 : decode cX11_clause 220 = .ok (.getfield 20, 3) := dk_180 0 20 (dk_at dksX11_clause_9 0 rfl rfl)
theorem dX11_clause_223 : decode cX11_clause 223 = .ok (.iconst 2, 1) := dk_5 (dk_at dksX11_clause_9 3 rfl rfl)
theorem dX11_clause_224 : decode cX11_clause 224 = .ok (.iaload, 1) := dk_46 (dk_at dksX11_clause_9 4 rfl rfl)
theorem dX11_clause_225 : decode cX11_clause 225 = .ok (.aaload, 1) := dk_50 (dk_at dksX11_clause_9 5 rfl rfl)
theorem dX11_clause_226 : decode cX11_clause 226 = .ok (.invokevirtual 214, 3) := dk_182 0 214 (dk_at dksX11_clause_9 6 rfl rfl)
theorem dX11_clause_229 : decode cX11_clause 229 = .ok (.goto 145, 3) := dk_167 0 145 (dk_at dksX11_clause_9 9 rfl rfl)
theorem dX11_clause_232 : decode cX11_clause 232 = .ok (.aload_n 0, 1) := dk_42 (dk_at dksX11_clause_9 12 rfl rfl)
theorem dX11_clause_233 : decode cX11_clause 233 = .ok (.invokevirtual 217, 3) := dk_182 0 217 (dk_at dksX11_clause_9 13 rfl rfl)
theorem dX11_clause_236 : decode cX11_clause 236 = .ok (.goto 138, 3) := dk_167 0 138 (dk_at dksX11_clause_9 16 rfl rfl)
theorem dX11_clause_239 : decode cX11_clause 239 = .ok (.aload_n 0, 1) := dk_42 (dk_at dksX11_clause_9 19 rfl rfl)
theorem dX11_clause_240 : decode cX11_clause 240 = .ok (.invokevirtual 220, 3) := dk_182 0 220 (dk_at dksX11_clause_9 20 rfl rfl)
theorem dX11_clause_243 : decode cX11_clause 243 = .ok (.goto 131, 3) := dk_167 0 131 (dk_at dksX11_clause_10 0 rfl rfl)
theorem dX11_clause_246 : decode cX11_clause 246 = .ok (.aload_n 0, 1) := dk_42 (dk_at dksX11_clause_10 3 rfl rfl)
theorem dX11_clause_247 : decode cX11_clause 247 = .ok (.invokevirtual 223, 3) := dk_182 0 223 (dk_at dksX11_clause_10 4 rfl rfl)
theorem dX11_clause_250 : decode cX11_clause 250 = .ok (.istore_n 2, 1) := dk_61 (dk_at dksX11_clause_10 7 rfl rfl)
theorem dX11_clause_251 : decode cX11_clause 251 = .ok (.aload_n 0, 1) := dk_42 (dk_at dksX11_clause_10 8 rfl rfl)
theorem dX11_clause_252 : decode cX11_clause 252 = .ok (.iload_n 2, 1) := dk_28 (dk_at dksX11_clause_10 9 rfl rfl)
theorem dX11_clause_253 : decode cX11_clause 253 = .ok (.invokevirtual 226, 3) := dk_182 0 226 (dk_at dksX11_clause_10 10 rfl rfl)
theorem dX11_clause_256 : decode cX11_clause 256 = .ok (.istore_n 3, 1) := dk_62 (dk_at dksX11_clause_10 13 rfl rfl)
theorem dX11_clause_257 : decode cX11_clause 257 = .ok (.aload_n 0, 1) := dk_42 (dk_at dksX11_clause_10 14 rfl rfl)
theorem dX11_clause_258 : decode cX11_clause 258 = .ok (.getfield 150, 3) := dk_180 0 150 (dk_at dksX11_clause_10 15 rfl rfl)
theorem dX11_clause_261 : decode cX11_clause 261 = .ok (.ifCond .eq 6, 3) := dk_153 0 6 (dk_at dksX11_clause_10 18 rfl rfl)
theorem dX11_clause_264 : decode cX11_clause 264 = .ok (.goto 110, 3) := dk_167 0 110 (dk_at dksX11_clause_10 21 rfl rfl)
theorem dX11_clause_267 : decode cX11_clause 267 = .ok (.aload_n 0, 1) := dk_42 (dk_at dksX11_clause_11 0 rfl rfl)
theorem dX11_clause_268 : decode cX11_clause 268 = .ok (.getfield 38, 3) := dk_180 0 38 (dk_at dksX11_clause_11 1 rfl rfl)
theorem dX11_clause_271 : decode cX11_clause 271 = .ok (.iload_n 2, 1) := dk_28 (dk_at dksX11_clause_11 4 rfl rfl)
theorem dX11_clause_272 : decode cX11_clause 272 = .ok (.dup2, 1) := dk_92 (dk_at dksX11_clause_11 5 rfl rfl)
theorem dX11_clause_273 : decode cX11_clause 273 = .ok (.iaload, 1) := dk_46 (dk_at dksX11_clause_11 6 rfl rfl)
theorem dX11_clause_274 : decode cX11_clause 274 = .ok (.iconst 1, 1) := dk_4 (dk_at dksX11_clause_11 7 rfl rfl)
theorem dX11_clause_275 : decode cX11_clause 275 = .ok (.iload_n 3, 1) := dk_29 (dk_at dksX11_clause_11 8 rfl rfl)
theorem dX11_clause_276 : decode cX11_clause 276 = .ok (.ishl, 1) := dk_120 (dk_at dksX11_clause_11 9 rfl rfl)
theorem dX11_clause_277 : decode cX11_clause 277 = .ok (.ior, 1) := dk_128 (dk_at dksX11_clause_11 10 rfl rfl)
theorem dX11_clause_278 : decode cX11_clause 278 = .ok (.iastore, 1) := dk_79 (dk_at dksX11_clause_11 11 rfl rfl)
theorem dX11_clause_279 : decode cX11_clause 279 = .ok (.aload_n 0, 1) := dk_42 (dk_at dksX11_clause_11 12 rfl rfl)
theorem dX11_clause_280 : decode cX11_clause 280 = .ok (.getfield 38, 3) := dk_180 0 38 (dk_at dksX11_clause_11 13 rfl rfl)
theorem dX11_clause_283 : decode cX11_clause 283 = .ok (.iload_n 3, 1) := dk_29 (dk_at dksX11_clause_11 16 rfl rfl)
theorem dX11_clause_284 : decode cX11_clause 284 = .ok (.dup2, 1) := dk_92 (dk_at dksX11_clause_11 17 rfl rfl)
theorem dX11_clause_285 : decode cX11_clause 285 = .ok (.iaload, 1) := dk_46 (dk_at dksX11_clause_11 18 rfl rfl)
theorem dX11_clause_286 : decode cX11_clause 286 = .ok (.iconst 1, 1) := dk_4 (dk_at dksX11_clause_11 19 rfl rfl)
theorem dX11_clause_287 : decode cX11_clause 287 = .ok (.iload_n 2, 1) := dk_28 (dk_at dksX11_clause_11 20 rfl rfl)
theorem dX11_clause_288 : decode cX11_clause 288 = .ok (.ishl, 1) := dk_120 (dk_at dksX11_clause_11 21 rfl rfl)
theorem dX11_clause_289 : decode cX11_clause 289 = .ok (.ior, 1) := dk_128 (dk_at dksX11_clause_11 22 rfl rfl)
theorem dX11_clause_290 : decode cX11_clause 290 = .ok (.iastore, 1) := dk_79 (dk_at dksX11_clause_11 23 rfl rfl)
theorem dX11_clause_291 : decode cX11_clause 291 = .ok (.goto 83, 3) := dk_167 0 83 (dk_at dksX11_clause_12 0 rfl rfl)
theorem dX11_clause_294 : decode cX11_clause 294 = .ok (.aload_n 0, 1) := dk_42 (dk_at dksX11_clause_12 3 rfl rfl)
theorem dX11_clause_295 : decode cX11_clause 295 = .ok (.invokevirtual 223, 3) := dk_182 0 223 (dk_at dksX11_clause_12 4 rfl rfl)
theorem dX11_clause_298 : decode cX11_clause 298 = .ok (.istore_n 2, 1) := dk_61 (dk_at dksX11_clause_12 7 rfl rfl)
theorem dX11_clause_299 : decode cX11_clause 299 = .ok (.aload_n 0, 1) := dk_42 (dk_at dksX11_clause_12 8 rfl rfl)
theorem dX11_clause_300 : decode cX11_clause 300 = .ok (.iload_n 2, 1) := dk_28 (dk_at dksX11_clause_12 9 rfl rfl)
theorem dX11_clause_301 : decode cX11_clause 301 = .ok (.invokevirtual 226, 3) := dk_182 0 226 (dk_at dksX11_clause_12 10 rfl rfl)
theorem dX11_clause_304 : decode cX11_clause 304 = .ok (.istore_n 3, 1) := dk_62 (dk_at dksX11_clause_12 13 rfl rfl)
theorem dX11_clause_305 : decode cX11_clause 305 = .ok (.aload_n 0, 1) := dk_42 (dk_at dksX11_clause_12 14 rfl rfl)
theorem dX11_clause_306 : decode cX11_clause 306 = .ok (.iconst 1, 1) := dk_4 (dk_at dksX11_clause_12 15 rfl rfl)
theorem dX11_clause_307 : decode cX11_clause 307 = .ok (.bipush 99, 2) := dk_16 99 (dk_at dksX11_clause_12 16 rfl rfl)
theorem dX11_clause_309 : decode cX11_clause 309 = .ok (.invokevirtual 202, 3) := dk_182 0 202 (dk_at dksX11_clause_12 18 rfl rfl)
theorem dX11_clause_312 : decode cX11_clause 312 = .ok (.istore 4, 2) := dk_54 4 (dk_at dksX11_clause_12 21 rfl rfl)
theorem dX11_clause_314 : decode cX11_clause 314 = .ok (.aload_n 0, 1) := dk_42 (dk_at dksX11_clause_12 23 rfl rfl)
theorem dX11_clause_315 : decode cX11_clause 315 = .ok (.getfield 150, 3) := dk_180 0 150 (dk_at dksX11_clause_13 0 rfl rfl)
theorem dX11_clause_318 : decode cX11_clause 318 = .ok (.ifCond .ne 56, 3) := dk_154 0 56 (dk_at dksX11_clause_13 3 rfl rfl)
theorem dX11_clause_321 : decode cX11_clause 321 = .ok (.aload_n 0, 1) := dk_42 (dk_at dksX11_clause_13 6 rfl rfl)
theorem dX11_clause_322 : decode cX11_clause 322 = .ok (.getfield 64, 3) := dk_180 0 64 (dk_at dksX11_clause_13 7 rfl rfl)
theorem dX11_clause_325 : decode cX11_clause 325 = .ok (.iload_n 2, 1) := dk_28 (dk_at dksX11_clause_13 10 rfl rfl)
theorem dX11_clause_326 : decode cX11_clause 326 = .ok (.aaload, 1) := dk_50 (dk_at dksX11_clause_13 11 rfl rfl)
theorem dX11_clause_327 : decode cX11_clause 327 = .ok (.iload_n 3, 1) := dk_29 (dk_at dksX11_clause_13 12 rfl rfl)
theorem dX11_clause_328 : decode cX11_clause 328 = .ok (.sipush 999, 3) := dk_17 3 231 (dk_at dksX11_clause_13 13 rfl rfl)
theorem dX11_clause_331 : decode cX11_clause 331 = .ok (.aload_n 0, 1) := dk_42 (dk_at dksX11_clause_13 16 rfl rfl)
theorem dX11_clause_332 : decode cX11_clause 332 = .ok (.getfield 64, 3) := dk_180 0 64 (dk_at dksX11_clause_13 17 rfl rfl)
theorem dX11_clause_335 : decode cX11_clause 335 = .ok (.iload_n 2, 1) := dk_28 (dk_at dksX11_clause_13 20 rfl rfl)
theorem dX11_clause_336 : decode cX11_clause 336 = .ok (.aaload, 1) := dk_50 (dk_at dksX11_clause_13 21 rfl rfl)
theorem dX11_clause_337 : decode cX11_clause 337 = .ok (.iload_n 3, 1) := dk_29 (dk_at dksX11_clause_13 22 rfl rfl)
theorem dX11_clause_338 : decode cX11_clause 338 = .ok (.iaload, 1) := dk_46 (dk_at dksX11_clause_13 23 rfl rfl)
theorem dX11_clause_339 : decode cX11_clause 339 = .ok (.iload 4, 2) := dk_21 4 (dk_at dksX11_clause_14 0 rfl rfl)
theorem dX11_clause_341 : decode cX11_clause 341 = .ok (.iadd, 1) := dk_96 (dk_at dksX11_clause_14 2 rfl rfl)
theorem dX11_clause_342 : decode cX11_clause 342 = .ok (.invokestatic 229, 3) := dk_184 0 229 (dk_at dksX11_clause_14 3 rfl rfl)
theorem dX11_clause_345 : decode cX11_clause 345 = .ok (.iastore, 1) := dk_79 (dk_at dksX11_clause_14 6 rfl rfl)
theorem dX11_clause_346 : decode cX11_clause 346 = .ok (.goto 28, 3) := dk_167 0 28 (dk_at dksX11_clause_14 7 rfl rfl)
theorem dX11_clause_349 : decode cX11_clause 349 = .ok (.aload_n 0, 1) := dk_42 (dk_at dksX11_clause_14 10 rfl rfl)
theorem dX11_clause_350 : decode cX11_clause 350 = .ok (.iconst 0, 1) := dk_3 (dk_at dksX11_clause_14 11 rfl rfl)
theorem dX11_clause_351 : decode cX11_clause 351 = .ok (.bipush 9, 2) := dk_16 9 (dk_at dksX11_clause_14 12 rfl rfl)
theorem dX11_clause_353 : decode cX11_clause 353 = .ok (.invokevirtual 202, 3) := dk_182 0 202 (dk_at dksX11_clause_14 14 rfl rfl)
theorem dX11_clause_356 : decode cX11_clause 356 = .ok (.istore_n 2, 1) := dk_61 (dk_at dksX11_clause_14 17 rfl rfl)
theorem dX11_clause_357 : decode cX11_clause 357 = .ok (.aload_n 0, 1) := dk_42 (dk_at dksX11_clause_14 18 rfl rfl)
theorem dX11_clause_358 : decode cX11_clause 358 = .ok (.getfield 150, 3) := dk_180 0 150 (dk_at dksX11_clause_14 19 rfl rfl)
theorem dX11_clause_361 : decode cX11_clause 361 = .ok (.ifCond .ne 13, 3) := dk_154 0 13 (dk_at dksX11_clause_15 0 rfl rfl)
theorem dX11_clause_364 : decode cX11_clause 364 = .ok (.aload_n 0, 1) := dk_42 (dk_at dksX11_clause_15 3 rfl rfl)
theorem dX11_clause_365 : decode cX11_clause 365 = .ok (.getfield 20, 3) := dk_180 0 20 (dk_at dksX11_clause_15 4 rfl rfl)
theorem dX11_clause_368 : decode cX11_clause 368 = .ok (.iconst 3, 1) := dk_6 (dk_at dksX11_clause_15 7 rfl rfl)
theorem dX11_clause_369 : decode cX11_clause 369 = .ok (.iload_n 2, 1) := dk_28 (dk_at dksX11_clause_15 8 rfl rfl)
theorem dX11_clause_370 : decode cX11_clause 370 = .ok (.iastore, 1) := dk_79 (dk_at dksX11_clause_15 9 rfl rfl)
theorem dX11_clause_371 : decode cX11_clause 371 = .ok (.goto 3, 3) := dk_167 0 3 (dk_at dksX11_clause_15 10 rfl rfl)
theorem dX11_clause_374 : decode cX11_clause 374 = .ok (.iload_n 1, 1) := dk_27 (dk_at dksX11_clause_15 13 rfl rfl)
theorem dX11_clause_375 : decode cX11_clause 375 = .ok (.iconst 3, 1) := dk_6 (dk_at dksX11_clause_15 14 rfl rfl)
theorem dX11_clause_376 : decode cX11_clause 376 = .ok (.if_icmp .ge 24, 3) := dk_162 0 24 (dk_at dksX11_clause_15 15 rfl rfl)
theorem dX11_clause_379 : decode cX11_clause 379 = .ok (.aload_n 0, 1) := dk_42 (dk_at dksX11_clause_15 18 rfl rfl)
theorem dX11_clause_380 : decode cX11_clause 380 = .ok (.getfield 20, 3) := dk_180 0 20 (dk_at dksX11_clause_15 19 rfl rfl)
theorem dX11_clause_383 : decode cX11_clause 383 = .ok (.iload_n 1, 1) := dk_27 (dk_at dksX11_clause_15 22 rfl rfl)
theorem dX11_clause_384 : decode cX11_clause 384 = .ok (.dup2, 1) := dk_92 (dk_at dksX11_clause_15 23 rfl rfl)
theorem dX11_clause_385 : decode cX11_clause 385 = .ok (.iaload, 1) := dk_46 (dk_at dksX11_clause_16 0 rfl rfl)
theorem dX11_clause_386 : decode cX11_clause 386 = .ok (.aload_n 0, 1) := dk_42 (dk_at dksX11_clause_16 1 rfl rfl)
theorem dX11_clause_387 : decode cX11_clause 387 = .ok (.getfield 150, 3) := dk_180 0 150 (dk_at dksX11_clause_16 2 rfl rfl)
theorem dX11_clause_390 : decode cX11_clause 390 = .ok (.ifCond .ne 7, 3) := dk_154 0 7 (dk_at dksX11_clause_16 5 rfl rfl)
theorem dX11_clause_393 : decode cX11_clause 393 = .ok (.iconst 1, 1) := dk_4 (dk_at dksX11_clause_16 8 rfl rfl)
theorem dX11_clause_394 : decode cX11_clause 394 = .ok (.goto 4, 3) := dk_167 0 4 (dk_at dksX11_clause_16 9 rfl rfl)
theorem dX11_clause_397 : decode cX11_clause 397 = .ok (.iconst 0, 1) := dk_3 (dk_at dksX11_clause_16 12 rfl rfl)
theorem dX11_clause_398 : decode cX11_clause 398 = .ok (.iadd, 1) := dk_96 (dk_at dksX11_clause_16 13 rfl rfl)
theorem dX11_clause_399 : decode cX11_clause 399 = .ok (.iastore, 1) := dk_79 (dk_at dksX11_clause_16 14 rfl rfl)
theorem dX11_clause_400 : decode cX11_clause 400 = .ok (.aload_n 0, 1) := dk_42 (dk_at dksX11_clause_16 15 rfl rfl)
theorem dX11_clause_401 : decode cX11_clause 401 = .ok (.bipush 59, 2) := dk_16 59 (dk_at dksX11_clause_16 16 rfl rfl)
theorem dX11_clause_403 : decode cX11_clause 403 = .ok (.invokevirtual 232, 3) := dk_182 0 232 (dk_at dksX11_clause_16 18 rfl rfl)
theorem dX11_clause_406 : decode cX11_clause 406 = .ok (.return_, 1) := dk_177 (dk_at dksX11_clause_16 21 rfl rfl)
abbrev cX11_kindHere : ByteArray := prog_22_method_27_code
def yX11_kindHere : MethodName := ⟨RX11, "kindHere", "()I"⟩
def dkwX11_kindHere_6 : List UInt8 := [16, 23, 8, 4, 16, 18, 3, 3, 3, 182, 0, 189, 153, 0, 8, 16, 7, 167, 0, 4, 2, 172]
abbrev dktX11_kindHere_6 : List UInt8 := dkwX11_kindHere_6 ++ []
def dkwX11_kindHere_5 : List UInt8 := [8, 172, 42, 16, 15, 16, 23, 8, 16, 19, 3, 3, 3, 182, 0, 189, 153, 0, 6, 16, 6, 172, 42]
abbrev dktX11_kindHere_5 : List UInt8 := dkwX11_kindHere_5 ++ dktX11_kindHere_6
def dkwX11_kindHere_4 : List UInt8 := [153, 0, 5, 7, 172, 42, 16, 19, 16, 9, 16, 12, 8, 16, 14, 16, 20, 3, 182, 0, 189, 153, 0, 5]
abbrev dktX11_kindHere_4 : List UInt8 := dkwX11_kindHere_4 ++ dktX11_kindHere_5
def dkwX11_kindHere_3 : List UInt8 := [182, 0, 189, 153, 0, 5, 6, 172, 42, 16, 17, 16, 21, 4, 16, 18, 16, 18, 8, 16, 12, 182, 0, 189]
abbrev dktX11_kindHere_3 : List UInt8 := dkwX11_kindHere_3 ++ dktX11_kindHere_4
def dkwX11_kindHere_2 : List UInt8 := [3, 182, 0, 189, 153, 0, 5, 5, 172, 42, 16, 23, 16, 15, 16, 18, 16, 11, 16, 19, 3, 3]
abbrev dktX11_kindHere_2 : List UInt8 := dkwX11_kindHere_2 ++ dktX11_kindHere_3
def dkwX11_kindHere_1 : List UInt8 := [16, 16, 16, 16, 8, 16, 20, 3, 182, 0, 189, 153, 0, 5, 4, 172, 42, 4, 6, 16, 20, 3, 3, 3]
abbrev dktX11_kindHere_1 : List UInt8 := dkwX11_kindHere_1 ++ dktX11_kindHere_2
def dkwX11_kindHere_0 : List UInt8 := [42, 16, 8, 4, 16, 14, 7, 3, 3, 3, 182, 0, 189, 153, 0, 5, 3, 172, 42, 16, 16, 16, 21]
abbrev dktX11_kindHere_0 : List UInt8 := dkwX11_kindHere_0 ++ dktX11_kindHere_1
theorem dksX11_kindHere_0 : cX11_kindHere.data.toList.drop 0 = dktX11_kindHere_0 := by decide +kernel
theorem dksX11_kindHere_1 : cX11_kindHere.data.toList.drop 23 = dktX11_kindHere_1 := dk_seg dksX11_kindHere_0 23 rfl rfl
theorem dksX11_kindHere_2 : cX11_kindHere.data.toList.drop 47 = dktX11_kindHere_2 := dk_seg dksX11_kindHere_1 24 rfl rfl
theorem dksX11_kindHere_3 : cX11_kindHere.data.toList.drop 69 = dktX11_kindHere_3 := dk_seg dksX11_kindHere_2 22 rfl rfl
theorem dksX11_kindHere_4 : cX11_kindHere.data.toList.drop 93 = dktX11_kindHere_4 := dk_seg dksX11_kindHere_3 24 rfl rfl
theorem dksX11_kindHere_5 : cX11_kindHere.data.toList.drop 117 = dktX11_kindHere_5 := dk_seg dksX11_kindHere_4 24 rfl rfl
theorem dksX11_kindHere_6 : cX11_kindHere.data.toList.drop 140 = dktX11_kindHere_6 := dk_seg dksX11_kindHere_5 23 rfl rfl
theorem dX11_kindHere_0 : decode cX11_kindHere 0 = .ok (.aload_n 0, 1) := dk_42 (dk_at dksX11_kindHere_0 0 rfl rfl)
theorem dX11_kindHere_1 : decode cX11_kindHere 1 = .ok (.bipush 8, 2) := dk_16 8 (dk_at dksX11_kindHere_0 1 rfl rfl)
theorem dX11_kindHere_3 : decode cX11_kindHere 3 = .ok (.iconst 1, 1) := dk_4 (dk_at dksX11_kindHere_0 3 rfl rfl)
theorem dX11_kindHere_4 : decode cX11_kindHere 4 = .ok (.bipush 14, 2) := dk_16 14 (dk_at dksX11_kindHere_0 4 rfl rfl)
theorem dX11_kindHere_6 : decode cX11_kindHere 6 = .ok (.iconst 4, 1) := dk_7 (dk_at dksX11_kindHere_0 6 rfl rfl)
theorem dX11_kindHere_7 : decode cX11_kindHere 7 = .ok (.iconst 0, 1) := dk_3 (dk_at dksX11_kindHere_0 7 rfl rfl)
theorem dX11_kindHere_8 : decode cX11_kindHere 8 = .ok (.iconst 0, 1) := dk_3 (dk_at dksX11_kindHere_0 8 rfl rfl)
theorem dX11_kindHere_9 : decode cX11_kindHere 9 = .ok (.iconst 0, 1) := dk_3 (dk_at dksX11_kindHere_0 9 rfl rfl)
theorem dX11_kindHere_10 : decode cX11_kindHere 10 = .ok (.invokevirtual 189, 3) := dk_182 0 189 (dk_at dksX11_kindHere_0 10 rfl rfl)
theorem dX11_kindHere_13 : decode cX11_kindHere 13 = .ok (.ifCond .eq 5, 3) := dk_153 0 5 (dk_at dksX11_kindHere_0 13 rfl rfl)
theorem dX11_kindHere_16 : decode cX11_kindHere 16 = .ok (.iconst 0, 1) := dk_3 (dk_at dksX11_kindHere_0 16 rfl rfl)
theorem dX11_kindHere_17 : decode cX11_kindHere 17 = .ok (.ireturn, 1) := dk_172 (dk_at dksX11_kindHere_0 17 rfl rfl)
theorem dX11_kindHere_18 : decode cX11_kindHere 18 = .ok (.aload_n 0, 1) := dk_42 (dk_at dksX11_kindHere_0 18 rfl rfl)
theorem dX11_kindHere_19 : decode cX11_kindHere 19 = .ok (.bipush 16, 2) := dk_16 16 (dk_at dksX11_kindHere_0 19 rfl rfl)
theorem dX11_kindHere_21 : decode cX11_kindHere 21 = .ok (.bipush 21, 2) := dk_16 21 (dk_at dksX11_kindHere_0 21 rfl rfl)
theorem dX11_kindHere_23 : decode cX11_kindHere 23 = .ok (.bipush 16, 2) := dk_16 16 (dk_at dksX11_kindHere_1 0 rfl rfl)
theorem dX11_kindHere_25 : decode cX11_kindHere 25 = .ok (.bipush 16, 2) := dk_16 16 (dk_at dksX11_kindHere_1 2 rfl rfl)
theorem dX11_kindHere_27 : decode cX11_kindHere 27 = .ok (.iconst 5, 1) := dk_8 (dk_at dksX11_kindHere_1 4 rfl rfl)
theorem dX11_kindHere_28 : decode cX11_kindHere 28 = .ok (.bipush 20, 2) := dk_16 20 (dk_at dksX11_kindHere_1 5 rfl rfl)
theorem dX11_kindHere_30 : decode cX11_kindHere 30 = .ok (.iconst 0, 1) := dk_3 (dk_at dksX11_kindHere_1 7 rfl rfl)
theorem dX11_kindHere_31 : decode cX11_kindHere 31 = .ok (.invokevirtual 189, 3) := dk_182 0 189 (dk_at dksX11_kindHere_1 8 rfl rfl)
theorem dX11_kindHere_34 : decode cX11_kindHere 34 = .ok (.ifCond .eq 5, 3) := dk_153 0 5 (dk_at dksX11_kindHere_1 11 rfl rfl)
theorem dX11_kindHere_37 : decode cX11_kindHere 37 = .ok (.iconst 1, 1) := dk_4 (dk_at dksX11_kindHere_1 14 rfl rfl)
theorem dX11_kindHere_38 : decode cX11_kindHere 38 = .ok (.ireturn, 1) := dk_172 (dk_at dksX11_kindHere_1 15 rfl rfl)
theorem dX11_kindHere_39 : decode cX11_kindHere 39 = .ok (.aload_n 0, 1) := dk_42 (dk_at dksX11_kindHere_1 16 rfl rfl)
theorem dX11_kindHere_40 : decode cX11_kindHere 40 = .ok (.iconst 1, 1) := dk_4 (dk_at dksX11_kindHere_1 17 rfl rfl)
theorem dX11_kindHere_41 : decode cX11_kindHere 41 = .ok (.iconst 3, 1) := dk_6 (dk_at dksX11_kindHere_1 18 rfl rfl)
theorem dX11_kindHere_42 : decode cX11_kindHere 42 = .ok (.bipush 20, 2) := dk_16 20 (dk_at dksX11_kindHere_1 19 rfl rfl)
theorem dX11_kindHere_44 : decode cX11_kindHere 44 = .ok (.iconst 0, 1) := dk_3 (dk_at dksX11_kindHere_1 21 rfl rfl)
theorem dX11_kindHere_45 : decode cX11_kindHere 45 = .ok (.iconst 0, 1) := dk_3 (dk_at dksX11_kindHere_1 22 rfl rfl)
theorem dX11_kindHere_46 : decode cX11_kindHere 46 = .ok (.iconst 0, 1) := dk_3 (dk_at dksX11_kindHere_1 23 rfl rfl)
theorem dX11_kindHere_47 : decode cX11_kindHere 47 = .ok (.iconst 0, 1) := dk_3 (dk_at dksX11_kindHere_2 0 rfl rfl)
theorem dX11_kindHere_48 : decode cX11_kindHere 48 = .ok (.invokevirtual 189, 3) := dk_182 0 189 (dk_at dksX11_kindHere_2 1 rfl rfl)
theorem dX11_kindHere_51 : decode cX11_kindHere 51 = .ok (.ifCond .eq 5, 3) := dk_153 0 5 (dk_at dksX11_kindHere_2 4 rfl rfl)
theorem dX11_kindHere_54 : decode cX11_kindHere 54 = .ok (.iconst 2, 1) := dk_5 (dk_at dksX11_kindHere_2 7 rfl rfl)
theorem dX11_kindHere_55 : decode cX11_kindHere 55 = .ok (.ireturn, 1) := dk_172 (dk_at dksX11_kindHere_2 8 rfl rfl)
theorem dX11_kindHere_56 : decode cX11_kindHere 56 = .ok (.aload_n 0, 1) := dk_42 (dk_at dksX11_kindHere_2 9 rfl rfl)
theorem dX11_kindHere_57 : decode cX11_kindHere 57 = .ok (.bipush 23, 2) := dk_16 23 (dk_at dksX11_kindHere_2 10 rfl rfl)
theorem dX11_kindHere_59 : decode cX11_kindHere 59 = .ok (.bipush 15, 2) := dk_16 15 (dk_at dksX11_kindHere_2 12 rfl rfl)
theorem dX11_kindHere_61 : decode cX11_kindHere 61 = .ok (.bipush 18, 2) := dk_16 18 (dk_at dksX11_kindHere_2 14 rfl rfl)
theorem dX11_kindHere_63 : decode cX11_kindHere 63 = .ok (.bipush 11, 2) := dk_16 11 (dk_at dksX11_kindHere_2 16 rfl rfl)
theorem dX11_kindHere_65 : decode cX11_kindHere 65 = .ok (.bipush 19, 2) := dk_16 19 (dk_at dksX11_kindHere_2 18 rfl rfl)
theorem dX11_kindHere_67 : decode cX11_kindHere 67 = .ok (.iconst 0, 1) := dk_3 (dk_at dksX11_kindHere_2 20 rfl rfl)
theorem dX11_kindHere_68 : decode cX11_kindHere 68 = .ok (.iconst 0, 1) := dk_3 (dk_at dksX11_kindHere_2 21 rfl rfl)
theorem dX11_kindHere_69 : decode cX11_kindHere 69 = .ok (.invokevirtual 189, 3) := dk_182 0 189 (dk_at dksX11_kindHere_3 0 rfl rfl)
theorem dX11_kindHere_72 : decode cX11_kindHere 72 = .ok (.ifCond .eq 5, 3) := dk_153 0 5 (dk_at dksX11_kindHere_3 3 rfl rfl)
theorem dX11_kindHere_75 : decode cX11_kindHere 75 = .ok (.iconst 3, 1) := dk_6 (dk_at dksX11_kindHere_3 6 rfl rfl)
theorem dX11_kindHere_76 : decode cX11_kindHere 76 = .ok (.ireturn, 1) := dk_172 (dk_at dksX11_kindHere_3 7 rfl rfl)
theorem dX11_kindHere_77 : decode cX11_kindHere 77 = .ok (.aload_n 0, 1) := dk_42 (dk_at dksX11_kindHere_3 8 rfl rfl)
theorem dX11_kindHere_78 : decode cX11_kindHere 78 = .ok (.bipush 17, 2) := dk_16 17 (dk_at dksX11_kindHere_3 9 rfl rfl)
theorem dX11_kindHere_80 : decode cX11_kindHere 80 = .ok (.bipush 21, 2) := dk_16 21 (dk_at dksX11_kindHere_3 11 rfl rfl)
theorem dX11_kindHere_82 : decode cX11_kindHere 82 = .ok (.iconst 1, 1) := dk_4 (dk_at dksX11_kindHere_3 13 rfl rfl)
theorem dX11_kindHere_83 : decode cX11_kindHere 83 = .ok (.bipush 18, 2) := dk_16 18 (dk_at dksX11_kindHere_3 14 rfl rfl)
theorem dX11_kindHere_85 : decode cX11_kindHere 85 = .ok (.bipush 18, 2) := dk_16 18 (dk_at dksX11_kindHere_3 16 rfl rfl)
theorem dX11_kindHere_87 : decode cX11_kindHere 87 = .ok (.iconst 5, 1) := dk_8 (dk_at dksX11_kindHere_3 18 rfl rfl)
theorem dX11_kindHere_88 : decode cX11_kindHere 88 = .ok (.bipush 12, 2) := dk_16 12 (dk_at dksX11_kindHere_3 19 rfl rfl)
theorem dX11_kindHere_90 : decode cX11_kindHere 90 = .ok (.invokevirtual 189, 3) := dk_182 0 189 (dk_at dksX11_kindHere_3 21 rfl rfl)
theorem dX11_kindHere_93 : decode cX11_kindHere 93 = .ok (.ifCond .eq 5, 3) := dk_153 0 5 (dk_at dksX11_kindHere_4 0 rfl rfl)
theorem dX11_kindHere_96 : decode cX11_kindHere 96 = .ok (.iconst 4, 1) := dk_7 (dk_at dksX11_kindHere_4 3 rfl rfl)
theorem dX11_kindHere_97 : decode cX11_kindHere 97 = .ok (.ireturn, 1) := dk_172 (dk_at dksX11_kindHere_4 4 rfl rfl)
theorem dX11_kindHere_98 : decode cX11_kindHere 98 = .ok (.aload_n 0, 1) := dk_42 (dk_at dksX11_kindHere_4 5 rfl rfl)
theorem dX11_kindHere_99 : decode cX11_kindHere 99 = .ok (.bipush 19, 2) := dk_16 19 (dk_at dksX11_kindHere_4 6 rfl rfl)
theorem dX11_kindHere_101 : decode cX11_kindHere 101 = .ok (.bipush 9, 2) := dk_16 9 (dk_at dksX11_kindHere_4 8 rfl rfl)
theorem dX11_kindHere_103 : decode cX11_kindHere 103 = .ok (.bipush 12, 2) := dk_16 12 (dk_at dksX11_kindHere_4 10 rfl rfl)
theorem dX11_kindHere_105 : decode cX11_kindHere 105 = .ok (.iconst 5, 1) := dk_8 (dk_at dksX11_kindHere_4 12 rfl rfl)
theorem dX11_kindHere_106 : decode cX11_kindHere 106 = .ok (.bipush 14, 2) := dk_16 14 (dk_at dksX11_kindHere_4 13 rfl rfl)
theorem dX11_kindHere_108 : decode cX11_kindHere 108 = .ok (.bipush 20, 2) := dk_16 20 (dk_at dksX11_kindHere_4 15 rfl rfl)
theorem dX11_kindHere_110 : decode cX11_kindHere 110 = .ok (.iconst 0, 1) := dk_3 (dk_at dksX11_kindHere_4 17 rfl rfl)
theorem dX11_kindHere_111 : decode cX11_kindHere 111 = .ok (.invokevirtual 189, 3) := dk_182 0 189 (dk_at dksX11_kindHere_4 18 rfl rfl)
theorem dX11_kindHere_114 : decode cX11_kindHere 114 = .ok (.ifCond .eq 5, 3) := dk_153 0 5 (dk_at dksX11_kindHere_4 21 rfl rfl)
theorem dX11_kindHere_117 : decode cX11_kindHere 117 = .ok (.iconst 5, 1) := dk_8 (dk_at dksX11_kindHere_5 0 rfl rfl)
theorem dX11_kindHere_118 : decode cX11_kindHere 118 = .ok (.ireturn, 1) := dk_172 (dk_at dksX11_kindHere_5 1 rfl rfl)
theorem dX11_kindHere_119 : decode cX11_kindHere 119 = .ok (.aload_n 0, 1) := dk_42 (dk_at dksX11_kindHere_5 2 rfl rfl)
theorem dX11_kindHere_120 : decode cX11_kindHere 120 = .ok (.bipush 15, 2) := dk_16 15 (dk_at dksX11_kindHere_5 3 rfl rfl)
theorem dX11_kindHere_122 : decode cX11_kindHere 122 = .ok (.bipush 23, 2) := dk_16 23 (dk_at dksX11_kindHere_5 5 rfl rfl)
theorem dX11_kindHere_124 : decode cX11_kindHere 124 = .ok (.iconst 5, 1) := dk_8 (dk_at dksX11_kindHere_5 7 rfl rfl)
theorem dX11_kindHere_125 : decode cX11_kindHere 125 = .ok (.bipush 19, 2) := dk_16 19 (dk_at dksX11_kindHere_5 8 rfl rfl)
theorem dX11_kindHere_127 : decode cX11_kindHere 127 = .ok (.iconst 0, 1) := dk_3 (dk_at dksX11_kindHere_5 10 rfl rfl)
theorem dX11_kindHere_128 : decode cX11_kindHere 128 = .ok (.iconst 0, 1) := dk_3 (dk_at dksX11_kindHere_5 11 rfl rfl)
theorem dX11_kindHere_129 : decode cX11_kindHere 129 = .ok (.iconst 0, 1) := dk_3 (dk_at dksX11_kindHere_5 12 rfl rfl)
theorem dX11_kindHere_130 : decode cX11_kindHere 130 = .ok (.invokevirtual 189, 3) := dk_182 0 189 (dk_at dksX11_kindHere_5 13 rfl rfl)
theorem dX11_kindHere_133 : decode cX11_kindHere 133 = .ok (.ifCond .eq 6, 3) := dk_153 0 6 (dk_at dksX11_kindHere_5 16 rfl rfl)
theorem dX11_kindHere_136 : decode cX11_kindHere 136 = .ok (.bipush 6, 2) := dk_16 6 (dk_at dksX11_kindHere_5 19 rfl rfl)
theorem dX11_kindHere_138 : decode cX11_kindHere 138 = .ok (.ireturn, 1) := dk_172 (dk_at dksX11_kindHere_5 21 rfl rfl)
theorem dX11_kindHere_139 : decode cX11_kindHere 139 = .ok (.aload_n 0, 1) := dk_42 (dk_at dksX11_kindHere_5 22 rfl rfl)
theorem dX11_kindHere_140 : decode cX11_kindHere 140 = .ok (.bipush 23, 2) := dk_16 23 (dk_at dksX11_kindHere_6 0 rfl rfl)
theorem dX11_kindHere_142 : decode cX11_kindHere 142 = .ok (.iconst 5, 1) := dk_8 (dk_at dksX11_kindHere_6 2 rfl rfl)
theorem dX11_kindHere_143 : decode cX11_kindHere 143 = .ok (.iconst 1, 1) := dk_4 (dk_at dksX11_kindHere_6 3 rfl rfl)
theorem dX11_kindHere_144 : decode cX11_kindHere 144 = .ok (.bipush 18, 2) := dk_16 18 (dk_at dksX11_kindHere_6 4 rfl rfl)
theorem dX11_kindHere_146 : decode cX11_kindHere 146 = .ok (.iconst 0, 1) := dk_3 (dk_at dksX11_kindHere_6 6 rfl rfl)
theorem dX11_kindHere_147 : decode cX11_kindHere 147 = .ok (.iconst 0, 1) := dk_3 (dk_at dksX11_kindHere_6 7 rfl rfl)
theorem dX11_kindHere_148 : decode cX11_kindHere 148 = .ok (.iconst 0, 1) := dk_3 (dk_at dksX11_kindHere_6 8 rfl rfl)
theorem dX11_kindHere_149 : decode cX11_kindHere 149 = .ok (.invokevirtual 189, 3) := dk_182 0 189 (dk_at dksX11_kindHere_6 9 rfl rfl)
theorem dX11_kindHere_152 : decode cX11_kindHere 152 = .ok (.ifCond .eq 8, 3) := dk_153 0 8 (dk_at dksX11_kindHere_6 12 rfl rfl)
theorem dX11_kindHere_155 : decode cX11_kindHere 155 = .ok (.bipush 7, 2) := dk_16 7 (dk_at dksX11_kindHere_6 15 rfl rfl)
theorem dX11_kindHere_157 : decode cX11_kindHere 157 = .ok (.goto 4, 3) := dk_167 0 4 (dk_at dksX11_kindHere_6 17 rfl rfl)
theorem dX11_kindHere_160 : decode cX11_kindHere 160 = .ok (.iconst (-1), 1) := dk_2 (dk_at dksX11_kindHere_6 20 rfl rfl)
theorem dX11_kindHere_161 : decode cX11_kindHere 161 = .ok (.ireturn, 1) := dk_172 (dk_at dksX11_kindHere_6 21 rfl rfl)
abbrev cX11_isWord : ByteArray := prog_22_method_20_code
def yX11_isWord : MethodName := ⟨RX11, "isWord", "(IIIIIII)Z"⟩
def dkwX11_isWord_1 : List UInt8 := [184, 0, 185, 148, 154, 0, 7, 4, 167, 0, 4, 3, 172]
abbrev dktX11_isWord_1 : List UInt8 := dkwX11_isWord_1 ++ []
def dkwX11_isWord_0 : List UInt8 := [42, 180, 0, 150, 154, 0, 29, 42, 182, 0, 181, 27, 28, 29, 21, 4, 21, 5, 21, 6, 21, 7]
abbrev dktX11_isWord_0 : List UInt8 := dkwX11_isWord_0 ++ dktX11_isWord_1
theorem dksX11_isWord_0 : cX11_isWord.data.toList.drop 0 = dktX11_isWord_0 := by decide +kernel
theorem dksX11_isWord_1 : cX11_isWord.data.toList.drop 22 = dktX11_isWord_1 := dk_seg dksX11_isWord_0 22 rfl rfl
theorem dX11_isWord_0 : decode cX11_isWord 0 = .ok (.aload_n 0, 1) := dk_42 (dk_at dksX11_isWord_0 0 rfl rfl)
theorem dX11_isWord_1 : decode cX11_isWord 1 = .ok (.getfield 150, 3) := dk_180 0 150 (dk_at dksX11_isWord_0 1 rfl rfl)
theorem dX11_isWord_4 : decode cX11_isWord 4 = .ok (.ifCond .ne 29, 3) := dk_154 0 29 (dk_at dksX11_isWord_0 4 rfl rfl)
theorem dX11_isWord_7 : decode cX11_isWord 7 = .ok (.aload_n 0, 1) := dk_42 (dk_at dksX11_isWord_0 7 rfl rfl)
theorem dX11_isWord_8 : decode cX11_isWord 8 = .ok (.invokevirtual 181, 3) := dk_182 0 181 (dk_at dksX11_isWord_0 8 rfl rfl)
theorem dX11_isWord_11 : decode cX11_isWord 11 = .ok (.iload_n 1, 1) := dk_27 (dk_at dksX11_isWord_0 11 rfl rfl)
theorem dX11_isWord_12 : decode cX11_isWord 12 = .ok (.iload_n 2, 1) := dk_28 (dk_at dksX11_isWord_0 12 rfl rfl)
theorem dX11_isWord_13 : decode cX11_isWord 13 = .ok (.iload_n 3, 1) := dk_29 (dk_at dksX11_isWord_0 13 rfl rfl)
theorem dX11_isWord_14 : decode cX11_isWord 14 = .ok (.iload 4, 2) := dk_21 4 (dk_at dksX11_isWord_0 14 rfl rfl)
theorem dX11_isWord_16 : decode cX11_isWord 16 = .ok (.iload 5, 2) := dk_21 5 (dk_at dksX11_isWord_0 16 rfl rfl)
theorem dX11_isWord_18 : decode cX11_isWord 18 = .ok (.iload 6, 2) := dk_21 6 (dk_at dksX11_isWord_0 18 rfl rfl)
theorem dX11_isWord_20 : decode cX11_isWord 20 = .ok (.iload 7, 2) := dk_21 7 (dk_at dksX11_isWord_0 20 rfl rfl)
theorem dX11_isWord_22 : decode cX11_isWord 22 = .ok (.invokestatic 185, 3) := dk_184 0 185 (dk_at dksX11_isWord_1 0 rfl rfl)
theorem dX11_isWord_25 : decode cX11_isWord 25 = .ok (.lcmp, 1) := dk_148 (dk_at dksX11_isWord_1 3 rfl rfl)
theorem dX11_isWord_26 : decode cX11_isWord 26 = .ok (.ifCond .ne 7, 3) := dk_154 0 7 (dk_at dksX11_isWord_1 4 rfl rfl)
theorem dX11_isWord_29 : decode cX11_isWord 29 = .ok (.iconst 1, 1) := dk_4 (dk_at dksX11_isWord_1 7 rfl rfl)
theorem dX11_isWord_30 : decode cX11_isWord 30 = .ok (.goto 4, 3) := dk_167 0 4 (dk_at dksX11_isWord_1 8 rfl rfl)
theorem dX11_isWord_33 : decode cX11_isWord 33 = .ok (.iconst 0, 1) := dk_3 (dk_at dksX11_isWord_1 11 rfl rfl)
theorem dX11_isWord_34 : decode cX11_isWord 34 = .ok (.ireturn, 1) := dk_172 (dk_at dksX11_isWord_1 12 rfl rfl)
abbrev cX11_wordHere : ByteArray := prog_22_method_18_code
def yX11_wordHere : MethodName := ⟨RX11, "wordHere", "()J"⟩
def dkwX11_wordHere_3 : List UInt8 := [20, 0, 179, 167, 0, 4, 31, 173]
abbrev dktX11_wordHere_3 : List UInt8 := dkwX11_wordHere_3 ++ []
def dkwX11_wordHere_2 : List UInt8 := [20, 0, 177, 101, 10, 97, 167, 0, 4, 31, 64, 132, 3, 1, 167, 255, 203, 29, 16, 7, 164, 0, 9]
abbrev dktX11_wordHere_2 : List UInt8 := dkwX11_wordHere_2 ++ dktX11_wordHere_3
def dkwX11_wordHere_1 : List UInt8 := [29, 16, 7, 162, 0, 29, 20, 0, 175, 31, 105, 42, 42, 180, 0, 143, 29, 96, 182, 0, 146, 133, 97]
abbrev dktX11_wordHere_1 : List UInt8 := dkwX11_wordHere_1 ++ dktX11_wordHere_2
def dkwX11_wordHere_0 : List UInt8 := [42, 182, 0, 156, 9, 64, 3, 62, 42, 42, 180, 0, 143, 29, 96, 182, 0, 146, 184, 0, 172, 153, 0, 43]
abbrev dktX11_wordHere_0 : List UInt8 := dkwX11_wordHere_0 ++ dktX11_wordHere_1
theorem dksX11_wordHere_0 : cX11_wordHere.data.toList.drop 0 = dktX11_wordHere_0 := by decide +kernel
theorem dksX11_wordHere_1 : cX11_wordHere.data.toList.drop 24 = dktX11_wordHere_1 := dk_seg dksX11_wordHere_0 24 rfl rfl
theorem dksX11_wordHere_2 : cX11_wordHere.data.toList.drop 47 = dktX11_wordHere_2 := dk_seg dksX11_wordHere_1 23 rfl rfl
theorem dksX11_wordHere_3 : cX11_wordHere.data.toList.drop 70 = dktX11_wordHere_3 := dk_seg dksX11_wordHere_2 23 rfl rfl
theorem dX11_wordHere_0 : decode cX11_wordHere 0 = .ok (.aload_n 0, 1) := dk_42 (dk_at dksX11_wordHere_0 0 rfl rfl)
theorem dX11_wordHere_1 : decode cX11_wordHere 1 = .ok (.invokevirtual 156, 3) := dk_182 0 156 (dk_at dksX11_wordHere_0 1 rfl rfl)
theorem dX11_wordHere_4 : decode cX11_wordHere 4 = .ok (.lconst 0, 1) := dk_9 (dk_at dksX11_wordHere_0 4 rfl rfl)
theorem dX11_wordHere_5 : decode cX11_wordHere 5 = .ok (.lstore_n 1, 1) := dk_64 (dk_at dksX11_wordHere_0 5 rfl rfl)
theorem dX11_wordHere_6 : decode cX11_wordHere 6 = .ok (.iconst 0, 1) := dk_3 (dk_at dksX11_wordHere_0 6 rfl rfl)
theorem dX11_wordHere_7 : decode cX11_wordHere 7 = .ok (.istore_n 3, 1) := dk_62 (dk_at dksX11_wordHere_0 7 rfl rfl)
theorem dX11_wordHere_8 : decode cX11_wordHere 8 = .ok (.aload_n 0, 1) := dk_42 (dk_at dksX11_wordHere_0 8 rfl rfl)
theorem dX11_wordHere_9 : decode cX11_wordHere 9 = .ok (.aload_n 0, 1) := dk_42 (dk_at dksX11_wordHere_0 9 rfl rfl)
theorem dX11_wordHere_10 : decode cX11_wordHere 10 = .ok (.getfield 143, 3) := dk_180 0 143 (dk_at dksX11_wordHere_0 10 rfl rfl)
theorem dX11_wordHere_13 : decode cX11_wordHere 13 = .ok (.iload_n 3, 1) := dk_29 (dk_at dksX11_wordHere_0 13 rfl rfl)
theorem dX11_wordHere_14 : decode cX11_wordHere 14 = .ok (.iadd, 1) := dk_96 (dk_at dksX11_wordHere_0 14 rfl rfl)
theorem dX11_wordHere_15 : decode cX11_wordHere 15 = .ok (.invokevirtual 146, 3) := dk_182 0 146 (dk_at dksX11_wordHere_0 15 rfl rfl)
theorem dX11_wordHere_18 : decode cX11_wordHere 18 = .ok (.invokestatic 172, 3) := dk_184 0 172 (dk_at dksX11_wordHere_0 18 rfl rfl)
theorem dX11_wordHere_21 : decode cX11_wordHere 21 = .ok (.ifCond .eq 43, 3) := dk_153 0 43 (dk_at dksX11_wordHere_0 21 rfl rfl)
theorem dX11_wordHere_24 : decode cX11_wordHere 24 = .ok (.iload_n 3, 1) := dk_29 (dk_at dksX11_wordHere_1 0 rfl rfl)
theorem dX11_wordHere_25 : decode cX11_wordHere 25 = .ok (.bipush 7, 2) := dk_16 7 (dk_at dksX11_wordHere_1 1 rfl rfl)
theorem dX11_wordHere_27 : decode cX11_wordHere 27 = .ok (.if_icmp .ge 29, 3) := dk_162 0 29 (dk_at dksX11_wordHere_1 3 rfl rfl)
theorem dX11_wordHere_30 : decode cX11_wordHere 30 = .ok (.ldc2_w 175, 3) := dk_20 0 175 (dk_at dksX11_wordHere_1 6 rfl rfl)
theorem dX11_wordHere_33 : decode cX11_wordHere 33 = .ok (.lload_n 1, 1) := dk_31 (dk_at dksX11_wordHere_1 9 rfl rfl)
theorem dX11_wordHere_34 : decode cX11_wordHere 34 = .ok (.lmul, 1) := dk_105 (dk_at dksX11_wordHere_1 10 rfl rfl)
theorem dX11_wordHere_35 : decode cX11_wordHere 35 = .ok (.aload_n 0, 1) := dk_42 (dk_at dksX11_wordHere_1 11 rfl rfl)
theorem dX11_wordHere_36 : decode cX11_wordHere 36 = .ok (.aload_n 0, 1) := dk_42 (dk_at dksX11_wordHere_1 12 rfl rfl)
theorem dX11_wordHere_37 : decode cX11_wordHere 37 = .ok (.getfield 143, 3) := dk_180 0 143 (dk_at dksX11_wordHere_1 13 rfl rfl)
theorem dX11_wordHere_40 : decode cX11_wordHere 40 = .ok (.iload_n 3, 1) := dk_29 (dk_at dksX11_wordHere_1 16 rfl rfl)
theorem dX11_wordHere_41 : decode cX11_wordHere 41 = .ok (.iadd, 1) := dk_96 (dk_at dksX11_wordHere_1 17 rfl rfl)
theorem dX11_wordHere_42 : decode cX11_wordHere 42 = .ok (.invokevirtual 146, 3) := dk_182 0 146 (dk_at dksX11_wordHere_1 18 rfl rfl)
theorem dX11_wordHere_45 : decode cX11_wordHere 45 = .ok (.i2l, 1) := dk_133 (dk_at dksX11_wordHere_1 21 rfl rfl)
theorem dX11_wordHere_46 : decode cX11_wordHere 46 = .ok (.ladd, 1) := dk_97 (dk_at dksX11_wordHere_1 22 rfl rfl)
theorem dX11_wordHere_47 : decode cX11_wordHere 47 = .ok (.ldc2_w 177, 3) := dk_20 0 177 (dk_at dksX11_wordHere_2 0 rfl rfl)
theorem dX11_wordHere_50 : decode cX11_wordHere 50 = .ok (.lsub, 1) := dk_101 (dk_at dksX11_wordHere_2 3 rfl rfl)
theorem dX11_wordHere_51 : decode cX11_wordHere 51 = .ok (.lconst 1, 1) := dk_10 (dk_at dksX11_wordHere_2 4 rfl rfl)
theorem dX11_wordHere_52 : decode cX11_wordHere 52 = .ok (.ladd, 1) := dk_97 (dk_at dksX11_wordHere_2 5 rfl rfl)
theorem dX11_wordHere_53 : decode cX11_wordHere 53 = .ok (.goto 4, 3) := dk_167 0 4 (dk_at dksX11_wordHere_2 6 rfl rfl)
theorem dX11_wordHere_56 : decode cX11_wordHere 56 = .ok (.lload_n 1, 1) := dk_31 (dk_at dksX11_wordHere_2 9 rfl rfl)
theorem dX11_wordHere_57 : decode cX11_wordHere 57 = .ok (.lstore_n 1, 1) := dk_64 (dk_at dksX11_wordHere_2 10 rfl rfl)
theorem dX11_wordHere_58 : decode cX11_wordHere 58 = .ok (.iinc 3 1, 3) := dk_132 3 1 (dk_at dksX11_wordHere_2 11 rfl rfl)
theorem dX11_wordHere_61 : decode cX11_wordHere 61 = .ok (.goto (-53), 3) := dk_167 255 203 (dk_at dksX11_wordHere_2 14 rfl rfl)
theorem dX11_wordHere_64 : decode cX11_wordHere 64 = .ok (.iload_n 3, 1) := dk_29 (dk_at dksX11_wordHere_2 17 rfl rfl)
theorem dX11_wordHere_65 : decode cX11_wordHere 65 = .ok (.bipush 7, 2) := dk_16 7 (dk_at dksX11_wordHere_2 18 rfl rfl)
theorem dX11_wordHere_67 : decode cX11_wordHere 67 = .ok (.if_icmp .le 9, 3) := dk_164 0 9 (dk_at dksX11_wordHere_2 20 rfl rfl)
theorem dX11_wordHere_70 : decode cX11_wordHere 70 = .ok (.ldc2_w 179, 3) := dk_20 0 179 (dk_at dksX11_wordHere_3 0 rfl rfl)
theorem dX11_wordHere_73 : decode cX11_wordHere 73 = .ok (.goto 4, 3) := dk_167 0 4 (dk_at dksX11_wordHere_3 3 rfl rfl)
theorem dX11_wordHere_76 : decode cX11_wordHere 76 = .ok (.lload_n 1, 1) := dk_31 (dk_at dksX11_wordHere_3 6 rfl rfl)
theorem dX11_wordHere_77 : decode cX11_wordHere 77 = .ok (.lreturn, 1) := dk_173 (dk_at dksX11_wordHere_3 7 rfl rfl)
abbrev cX11_isSmall : ByteArray := prog_22_method_15_code
def yX11_isSmall : MethodName := ⟨RX11, "isSmall", "(I)Z"⟩
def dkwX11_isSmall_0 : List UInt8 := [26, 16, 97, 161, 0, 13, 26, 16, 122, 163, 0, 7, 4, 167, 0, 4, 3, 172]
abbrev dktX11_isSmall_0 : List UInt8 := dkwX11_isSmall_0 ++ []
theorem dksX11_isSmall_0 : cX11_isSmall.data.toList.drop 0 = dktX11_isSmall_0 := by decide +kernel
theorem dX11_isSmall_0 : decode cX11_isSmall 0 = .ok (.iload_n 0, 1) := dk_26 (dk_at dksX11_isSmall_0 0 rfl rfl)
theorem dX11_isSmall_1 : decode cX11_isSmall 1 = .ok (.bipush 97, 2) := dk_16 97 (dk_at dksX11_isSmall_0 1 rfl rfl)
theorem dX11_isSmall_3 : decode cX11_isSmall 3 = .ok (.if_icmp .lt 13, 3) := dk_161 0 13 (dk_at dksX11_isSmall_0 3 rfl rfl)
theorem dX11_isSmall_6 : decode cX11_isSmall 6 = .ok (.iload_n 0, 1) := dk_26 (dk_at dksX11_isSmall_0 6 rfl rfl)
theorem dX11_isSmall_7 : decode cX11_isSmall 7 = .ok (.bipush 122, 2) := dk_16 122 (dk_at dksX11_isSmall_0 7 rfl rfl)
theorem dX11_isSmall_9 : decode cX11_isSmall 9 = .ok (.if_icmp .gt 7, 3) := dk_163 0 7 (dk_at dksX11_isSmall_0 9 rfl rfl)
theorem dX11_isSmall_12 : decode cX11_isSmall 12 = .ok (.iconst 1, 1) := dk_4 (dk_at dksX11_isSmall_0 12 rfl rfl)
theorem dX11_isSmall_13 : decode cX11_isSmall 13 = .ok (.goto 4, 3) := dk_167 0 4 (dk_at dksX11_isSmall_0 13 rfl rfl)
theorem dX11_isSmall_16 : decode cX11_isSmall 16 = .ok (.iconst 0, 1) := dk_3 (dk_at dksX11_isSmall_0 16 rfl rfl)
theorem dX11_isSmall_17 : decode cX11_isSmall 17 = .ok (.ireturn, 1) := dk_172 (dk_at dksX11_isSmall_0 17 rfl rfl)
abbrev cX11_seven : ByteArray := prog_22_method_19_code
def yX11_seven : MethodName := ⟨RX11, "seven", "(IIIIIII)J"⟩
def dkwX11_seven_4 : List UInt8 := [20, 0, 175, 22, 7, 105, 21, 6, 133, 97, 173]
abbrev dktX11_seven_4 : List UInt8 := dkwX11_seven_4 ++ []
def dkwX11_seven_3 : List UInt8 := [20, 0, 175, 22, 7, 105, 21, 5, 133, 97, 55, 7, 21, 6, 154, 0, 8, 22, 7, 167, 0, 13]
abbrev dktX11_seven_3 : List UInt8 := dkwX11_seven_3 ++ dktX11_seven_4
def dkwX11_seven_2 : List UInt8 := [20, 0, 175, 22, 7, 105, 21, 4, 133, 97, 55, 7, 21, 5, 154, 0, 8, 22, 7, 167, 0, 13]
abbrev dktX11_seven_2 : List UInt8 := dkwX11_seven_2 ++ dktX11_seven_3
def dkwX11_seven_1 : List UInt8 := [167, 0, 12, 20, 0, 175, 22, 7, 105, 29, 133, 97, 55, 7, 21, 4, 154, 0, 8, 22, 7, 167, 0, 13]
abbrev dktX11_seven_1 : List UInt8 := dkwX11_seven_1 ++ dktX11_seven_2
def dkwX11_seven_0 : List UInt8 := [20, 0, 175, 20, 0, 175, 26, 133, 105, 27, 133, 97, 105, 28, 133, 97, 55, 7, 29, 154, 0, 8, 22, 7]
abbrev dktX11_seven_0 : List UInt8 := dkwX11_seven_0 ++ dktX11_seven_1
theorem dksX11_seven_0 : cX11_seven.data.toList.drop 0 = dktX11_seven_0 := by decide +kernel
theorem dksX11_seven_1 : cX11_seven.data.toList.drop 24 = dktX11_seven_1 := dk_seg dksX11_seven_0 24 rfl rfl
theorem dksX11_seven_2 : cX11_seven.data.toList.drop 48 = dktX11_seven_2 := dk_seg dksX11_seven_1 24 rfl rfl
theorem dksX11_seven_3 : cX11_seven.data.toList.drop 70 = dktX11_seven_3 := dk_seg dksX11_seven_2 22 rfl rfl
theorem dksX11_seven_4 : cX11_seven.data.toList.drop 92 = dktX11_seven_4 := dk_seg dksX11_seven_3 22 rfl rfl
theorem dX11_seven_0 : decode cX11_seven 0 = .ok (.ldc2_w 175, 3) := dk_20 0 175 (dk_at dksX11_seven_0 0 rfl rfl)
theorem dX11_seven_3 : decode cX11_seven 3 = .ok (.ldc2_w 175, 3) := dk_20 0 175 (dk_at dksX11_seven_0 3 rfl rfl)
theorem dX11_seven_6 : decode cX11_seven 6 = .ok (.iload_n 0, 1) := dk_26 (dk_at dksX11_seven_0 6 rfl rfl)
theorem dX11_seven_7 : decode cX11_seven 7 = .ok (.i2l, 1) := dk_133 (dk_at dksX11_seven_0 7 rfl rfl)
theorem dX11_seven_8 : decode cX11_seven 8 = .ok (.lmul, 1) := dk_105 (dk_at dksX11_seven_0 8 rfl rfl)
theorem dX11_seven_9 : decode cX11_seven 9 = .ok (.iload_n 1, 1) := dk_27 (dk_at dksX11_seven_0 9 rfl rfl)
theorem dX11_seven_10 : decode cX11_seven 10 = .ok (.i2l, 1) := dk_133 (dk_at dksX11_seven_0 10 rfl rfl)
theorem dX11_seven_11 : decode cX11_seven 11 = .ok (.ladd, 1) := dk_97 (dk_at dksX11_seven_0 11 rfl rfl)
theorem dX11_seven_12 : decode cX11_seven 12 = .ok (.lmul, 1) := dk_105 (dk_at dksX11_seven_0 12 rfl rfl)
theorem dX11_seven_13 : decode cX11_seven 13 = .ok (.iload_n 2, 1) := dk_28 (dk_at dksX11_seven_0 13 rfl rfl)
theorem dX11_seven_14 : decode cX11_seven 14 = .ok (.i2l, 1) := dk_133 (dk_at dksX11_seven_0 14 rfl rfl)
theorem dX11_seven_15 : decode cX11_seven 15 = .ok (.ladd, 1) := dk_97 (dk_at dksX11_seven_0 15 rfl rfl)
theorem dX11_seven_16 : decode cX11_seven 16 = .ok (.lstore 7, 2) := dk_55 7 (dk_at dksX11_seven_0 16 rfl rfl)
theorem dX11_seven_18 : decode cX11_seven 18 = .ok (.iload_n 3, 1) := dk_29 (dk_at dksX11_seven_0 18 rfl rfl)
theorem dX11_seven_19 : decode cX11_seven 19 = .ok (.ifCond .ne 8, 3) := dk_154 0 8 (dk_at dksX11_seven_0 19 rfl rfl)
theorem dX11_seven_22 : decode cX11_seven 22 = .ok (.lload 7, 2) := dk_22 7 (dk_at dksX11_seven_0 22 rfl rfl)
theorem dX11_seven_24 : decode cX11_seven 24 = .ok (.goto 12, 3) := dk_167 0 12 (dk_at dksX11_seven_1 0 rfl rfl)
theorem dX11_seven_27 : decode cX11_seven 27 = .ok (.ldc2_w 175, 3) := dk_20 0 175 (dk_at dksX11_seven_1 3 rfl rfl)
theorem dX11_seven_30 : decode cX11_seven 30 = .ok (.lload 7, 2) := dk_22 7 (dk_at dksX11_seven_1 6 rfl rfl)
theorem dX11_seven_32 : decode cX11_seven 32 = .ok (.lmul, 1) := dk_105 (dk_at dksX11_seven_1 8 rfl rfl)
theorem dX11_seven_33 : decode cX11_seven 33 = .ok (.iload_n 3, 1) := dk_29 (dk_at dksX11_seven_1 9 rfl rfl)
theorem dX11_seven_34 : decode cX11_seven 34 = .ok (.i2l, 1) := dk_133 (dk_at dksX11_seven_1 10 rfl rfl)
theorem dX11_seven_35 : decode cX11_seven 35 = .ok (.ladd, 1) := dk_97 (dk_at dksX11_seven_1 11 rfl rfl)
theorem dX11_seven_36 : decode cX11_seven 36 = .ok (.lstore 7, 2) := dk_55 7 (dk_at dksX11_seven_1 12 rfl rfl)
theorem dX11_seven_38 : decode cX11_seven 38 = .ok (.iload 4, 2) := dk_21 4 (dk_at dksX11_seven_1 14 rfl rfl)
theorem dX11_seven_40 : decode cX11_seven 40 = .ok (.ifCond .ne 8, 3) := dk_154 0 8 (dk_at dksX11_seven_1 16 rfl rfl)
theorem dX11_seven_43 : decode cX11_seven 43 = .ok (.lload 7, 2) := dk_22 7 (dk_at dksX11_seven_1 19 rfl rfl)
theorem dX11_seven_45 : decode cX11_seven 45 = .ok (.goto 13, 3) := dk_167 0 13 (dk_at dksX11_seven_1 21 rfl rfl)
theorem dX11_seven_48 : decode cX11_seven 48 = .ok (.ldc2_w 175, 3) := dk_20 0 175 (dk_at dksX11_seven_2 0 rfl rfl)
theorem dX11_seven_51 : decode cX11_seven 51 = .ok (.lload 7, 2) := dk_22 7 (dk_at dksX11_seven_2 3 rfl rfl)
theorem dX11_seven_53 : decode cX11_seven 53 = .ok (.lmul, 1) := dk_105 (dk_at dksX11_seven_2 5 rfl rfl)
theorem dX11_seven_54 : decode cX11_seven 54 = .ok (.iload 4, 2) := dk_21 4 (dk_at dksX11_seven_2 6 rfl rfl)
theorem dX11_seven_56 : decode cX11_seven 56 = .ok (.i2l, 1) := dk_133 (dk_at dksX11_seven_2 8 rfl rfl)
theorem dX11_seven_57 : decode cX11_seven 57 = .ok (.ladd, 1) := dk_97 (dk_at dksX11_seven_2 9 rfl rfl)
theorem dX11_seven_58 : decode cX11_seven 58 = .ok (.lstore 7, 2) := dk_55 7 (dk_at dksX11_seven_2 10 rfl rfl)
theorem dX11_seven_60 : decode cX11_seven 60 = .ok (.iload 5, 2) := dk_21 5 (dk_at dksX11_seven_2 12 rfl rfl)
theorem dX11_seven_62 : decode cX11_seven 62 = .ok (.ifCond .ne 8, 3) := dk_154 0 8 (dk_at dksX11_seven_2 14 rfl rfl)
theorem dX11_seven_65 : decode cX11_seven 65 = .ok (.lload 7, 2) := dk_22 7 (dk_at dksX11_seven_2 17 rfl rfl)
theorem dX11_seven_67 : decode cX11_seven 67 = .ok (.goto 13, 3) := dk_167 0 13 (dk_at dksX11_seven_2 19 rfl rfl)
theorem dX11_seven_70 : decode cX11_seven 70 = .ok (.ldc2_w 175, 3) := dk_20 0 175 (dk_at dksX11_seven_3 0 rfl rfl)
theorem dX11_seven_73 : decode cX11_seven 73 = .ok (.lload 7, 2) := dk_22 7 (dk_at dksX11_seven_3 3 rfl rfl)
theorem dX11_seven_75 : decode cX11_seven 75 = .ok (.lmul, 1) := dk_105 (dk_at dksX11_seven_3 5 rfl rfl)
theorem dX11_seven_76 : decode cX11_seven 76 = .ok (.iload 5, 2) := dk_21 5 (dk_at dksX11_seven_3 6 rfl rfl)
theorem dX11_seven_78 : decode cX11_seven 78 = .ok (.i2l, 1) := dk_133 (dk_at dksX11_seven_3 8 rfl rfl)
theorem dX11_seven_79 : decode cX11_seven 79 = .ok (.ladd, 1) := dk_97 (dk_at dksX11_seven_3 9 rfl rfl)
theorem dX11_seven_80 : decode cX11_seven 80 = .ok (.lstore 7, 2) := dk_55 7 (dk_at dksX11_seven_3 10 rfl rfl)
theorem dX11_seven_82 : decode cX11_seven 82 = .ok (.iload 6, 2) := dk_21 6 (dk_at dksX11_seven_3 12 rfl rfl)
theorem dX11_seven_84 : decode cX11_seven 84 = .ok (.ifCond .ne 8, 3) := dk_154 0 8 (dk_at dksX11_seven_3 14 rfl rfl)
theorem dX11_seven_87 : decode cX11_seven 87 = .ok (.lload 7, 2) := dk_22 7 (dk_at dksX11_seven_3 17 rfl rfl)
theorem dX11_seven_89 : decode cX11_seven 89 = .ok (.goto 13, 3) := dk_167 0 13 (dk_at dksX11_seven_3 19 rfl rfl)
theorem dX11_seven_92 : decode cX11_seven 92 = .ok (.ldc2_w 175, 3) := dk_20 0 175 (dk_at dksX11_seven_4 0 rfl rfl)
theorem dX11_seven_95 : decode cX11_seven 95 = .ok (.lload 7, 2) := dk_22 7 (dk_at dksX11_seven_4 3 rfl rfl)
theorem dX11_seven_97 : decode cX11_seven 97 = .ok (.lmul, 1) := dk_105 (dk_at dksX11_seven_4 5 rfl rfl)
theorem dX11_seven_98 : decode cX11_seven 98 = .ok (.iload 6, 2) := dk_21 6 (dk_at dksX11_seven_4 6 rfl rfl)
theorem dX11_seven_100 : decode cX11_seven 100 = .ok (.i2l, 1) := dk_133 (dk_at dksX11_seven_4 8 rfl rfl)
theorem dX11_seven_101 : decode cX11_seven 101 = .ok (.ladd, 1) := dk_97 (dk_at dksX11_seven_4 9 rfl rfl)
theorem dX11_seven_102 : decode cX11_seven 102 = .ok (.lreturn, 1) := dk_173 (dk_at dksX11_seven_4 10 rfl rfl)
abbrev cX11_wrong : ByteArray := prog_22_method_13_code
def yX11_wrong : MethodName := ⟨RX11, "wrong", "(II)V"⟩
def dkwX11_wrong_0 : List UInt8 := [42, 180, 0, 150, 154, 0, 13, 42, 27, 181, 0, 150, 42, 28, 181, 0, 153, 177]
abbrev dktX11_wrong_0 : List UInt8 := dkwX11_wrong_0 ++ []
theorem dksX11_wrong_0 : cX11_wrong.data.toList.drop 0 = dktX11_wrong_0 := by decide +kernel
theorem dX11_wrong_0 : decode cX11_wrong 0 = .ok (.aload_n 0, 1) := dk_42 (dk_at dksX11_wrong_0 0 rfl rfl)
theorem dX11_wrong_1 : decode cX11_wrong 1 = .ok (.getfield 150, 3) := dk_180 0 150 (dk_at dksX11_wrong_0 1 rfl rfl)
theorem dX11_wrong_4 : decode cX11_wrong 4 = .ok (.ifCond .ne 13, 3) := dk_154 0 13 (dk_at dksX11_wrong_0 4 rfl rfl)
theorem dX11_wrong_7 : decode cX11_wrong 7 = .ok (.aload_n 0, 1) := dk_42 (dk_at dksX11_wrong_0 7 rfl rfl)
theorem dX11_wrong_8 : decode cX11_wrong 8 = .ok (.iload_n 1, 1) := dk_27 (dk_at dksX11_wrong_0 8 rfl rfl)
theorem dX11_wrong_9 : decode cX11_wrong 9 = .ok (.putfield 150, 3) := dk_181 0 150 (dk_at dksX11_wrong_0 9 rfl rfl)
theorem dX11_wrong_12 : decode cX11_wrong 12 = .ok (.aload_n 0, 1) := dk_42 (dk_at dksX11_wrong_0 12 rfl rfl)
theorem dX11_wrong_13 : decode cX11_wrong 13 = .ok (.iload_n 2, 1) := dk_28 (dk_at dksX11_wrong_0 13 rfl rfl)
theorem dX11_wrong_14 : decode cX11_wrong 14 = .ok (.putfield 153, 3) := dk_181 0 153 (dk_at dksX11_wrong_0 14 rfl rfl)
theorem dX11_wrong_17 : decode cX11_wrong 17 = .ok (.return_, 1) := dk_177 (dk_at dksX11_wrong_0 17 rfl rfl)
abbrev cX11_skipWord : ByteArray := prog_22_method_21_code
def yX11_skipWord : MethodName := ⟨RX11, "skipWord", "()V"⟩
def dkwX11_skipWord_1 : List UInt8 := [167, 255, 232, 177]
abbrev dktX11_skipWord_1 : List UInt8 := dkwX11_skipWord_1 ++ []
def dkwX11_skipWord_0 : List UInt8 := [42, 42, 180, 0, 143, 182, 0, 146, 184, 0, 172, 153, 0, 16, 42, 89, 180, 0, 143, 4, 96, 181, 0, 143]
abbrev dktX11_skipWord_0 : List UInt8 := dkwX11_skipWord_0 ++ dktX11_skipWord_1
theorem dksX11_skipWord_0 : cX11_skipWord.data.toList.drop 0 = dktX11_skipWord_0 := by decide +kernel
theorem dksX11_skipWord_1 : cX11_skipWord.data.toList.drop 24 = dktX11_skipWord_1 := dk_seg dksX11_skipWord_0 24 rfl rfl
theorem dX11_skipWord_0 : decode cX11_skipWord 0 = .ok (.aload_n 0, 1) := dk_42 (dk_at dksX11_skipWord_0 0 rfl rfl)
theorem dX11_skipWord_1 : decode cX11_skipWord 1 = .ok (.aload_n 0, 1) := dk_42 (dk_at dksX11_skipWord_0 1 rfl rfl)
theorem dX11_skipWord_2 : decode cX11_skipWord 2 = .ok (.getfield 143, 3) := dk_180 0 143 (dk_at dksX11_skipWord_0 2 rfl rfl)
theorem dX11_skipWord_5 : decode cX11_skipWord 5 = .ok (.invokevirtual 146, 3) := dk_182 0 146 (dk_at dksX11_skipWord_0 5 rfl rfl)
theorem dX11_skipWord_8 : decode cX11_skipWord 8 = .ok (.invokestatic 172, 3) := dk_184 0 172 (dk_at dksX11_skipWord_0 8 rfl rfl)
theorem dX11_skipWord_11 : decode cX11_skipWord 11 = .ok (.ifCond .eq 16, 3) := dk_153 0 16 (dk_at dksX11_skipWord_0 11 rfl rfl)
theorem dX11_skipWord_14 : decode cX11_skipWord 14 = .ok (.aload_n 0, 1) := dk_42 (dk_at dksX11_skipWord_0 14 rfl rfl)
theorem dX11_skipWord_15 : decode cX11_skipWord 15 = .ok (.dup, 1) := dk_89 (dk_at dksX11_skipWord_0 15 rfl rfl)
theorem dX11_skipWord_16 : decode cX11_skipWord 16 = .ok (.getfield 143, 3) := dk_180 0 143 (dk_at dksX11_skipWord_0 16 rfl rfl)
theorem dX11_skipWord_19 : decode cX11_skipWord 19 = .ok (.iconst 1, 1) := dk_4 (dk_at dksX11_skipWord_0 19 rfl rfl)
theorem dX11_skipWord_20 : decode cX11_skipWord 20 = .ok (.iadd, 1) := dk_96 (dk_at dksX11_skipWord_0 20 rfl rfl)
theorem dX11_skipWord_21 : decode cX11_skipWord 21 = .ok (.putfield 143, 3) := dk_181 0 143 (dk_at dksX11_skipWord_0 21 rfl rfl)
theorem dX11_skipWord_24 : decode cX11_skipWord 24 = .ok (.goto (-24), 3) := dk_167 255 232 (dk_at dksX11_skipWord_1 0 rfl rfl)
theorem dX11_skipWord_27 : decode cX11_skipWord 27 = .ok (.return_, 1) := dk_177 (dk_at dksX11_skipWord_1 3 rfl rfl)
abbrev cX11_bornHere : ByteArray := prog_22_method_31_code
def yX11_bornHere : MethodName := ⟨RX11, "bornHere", "([I)V"⟩
def dkwX11_bornHere_3 : List UInt8 := [177]
abbrev dktX11_bornHere_3 : List UInt8 := dkwX11_bornHere_3 ++ []
def dkwX11_bornHere_2 : List UInt8 := [154, 0, 24, 43, 5, 46, 153, 0, 18, 43, 5, 46, 43, 4, 46, 163, 0, 9, 42, 5, 28, 182, 0, 163]
abbrev dktX11_bornHere_2 : List UInt8 := dkwX11_bornHere_2 ++ dktX11_bornHere_3
def dkwX11_bornHere_1 : List UInt8 := [153, 0, 4, 177, 42, 182, 0, 236, 61, 43, 5, 42, 3, 16, 60, 182, 0, 202, 79, 42, 180, 0, 150]
abbrev dktX11_bornHere_1 : List UInt8 := dkwX11_bornHere_1 ++ dktX11_bornHere_2
def dkwX11_bornHere_0 : List UInt8 := [43, 3, 42, 3, 16, 9, 182, 0, 202, 79, 43, 4, 42, 3, 16, 40, 182, 0, 202, 79, 42, 180, 0, 150]
abbrev dktX11_bornHere_0 : List UInt8 := dkwX11_bornHere_0 ++ dktX11_bornHere_1
theorem dksX11_bornHere_0 : cX11_bornHere.data.toList.drop 0 = dktX11_bornHere_0 := by decide +kernel
theorem dksX11_bornHere_1 : cX11_bornHere.data.toList.drop 24 = dktX11_bornHere_1 := dk_seg dksX11_bornHere_0 24 rfl rfl
theorem dksX11_bornHere_2 : cX11_bornHere.data.toList.drop 47 = dktX11_bornHere_2 := dk_seg dksX11_bornHere_1 23 rfl rfl
theorem dksX11_bornHere_3 : cX11_bornHere.data.toList.drop 71 = dktX11_bornHere_3 := dk_seg dksX11_bornHere_2 24 rfl rfl
theorem dX11_bornHere_0 : decode cX11_bornHere 0 = .ok (.aload_n 1, 1) := dk_43 (dk_at dksX11_bornHere_0 0 rfl rfl)
theorem dX11_bornHere_1 : decode cX11_bornHere 1 = .ok (.iconst 0, 1) := dk_3 (dk_at dksX11_bornHere_0 1 rfl rfl)
theorem dX11_bornHere_2 : decode cX11_bornHere 2 = .ok (.aload_n 0, 1) := dk_42 (dk_at dksX11_bornHere_0 2 rfl rfl)
theorem dX11_bornHere_3 : decode cX11_bornHere 3 = .ok (.iconst 0, 1) := dk_3 (dk_at dksX11_bornHere_0 3 rfl rfl)
theorem dX11_bornHere_4 : decode cX11_bornHere 4 = .ok (.bipush 9, 2) := dk_16 9 (dk_at dksX11_bornHere_0 4 rfl rfl)
theorem dX11_bornHere_6 : decode cX11_bornHere 6 = .ok (.invokevirtual 202, 3) := dk_182 0 202 (dk_at dksX11_bornHere_0 6 rfl rfl)
theorem dX11_bornHere_9 : decode cX11_bornHere 9 = .ok (.iastore, 1) := dk_79 (dk_at dksX11_bornHere_0 9 rfl rfl)
theorem dX11_bornHere_10 : decode cX11_bornHere 10 = .ok (.aload_n 1, 1) := dk_43 (dk_at dksX11_bornHere_0 10 rfl rfl)
theorem dX11_bornHere_11 : decode cX11_bornHere 11 = .ok (.iconst 1, 1) := dk_4 (dk_at dksX11_bornHere_0 11 rfl rfl)
theorem dX11_bornHere_12 : decode cX11_bornHere 12 = .ok (.aload_n 0, 1) := dk_42 (dk_at dksX11_bornHere_0 12 rfl rfl)
theorem dX11_bornHere_13 : decode cX11_bornHere 13 = .ok (.iconst 0, 1) := dk_3 (dk_at dksX11_bornHere_0 13 rfl rfl)
theorem dX11_bornHere_14 : decode cX11_bornHere 14 = .ok (.bipush 40, 2) := dk_16 40 (dk_at dksX11_bornHere_0 14 rfl rfl)
theorem dX11_bornHere_16 : decode cX11_bornHere 16 = .ok (.invokevirtual 202, 3) := dk_182 0 202 (dk_at dksX11_bornHere_0 16 rfl rfl)
theorem dX11_bornHere_19 : decode cX11_bornHere 19 = .ok (.iastore, 1) := dk_79 (dk_at dksX11_bornHere_0 19 rfl rfl)
theorem dX11_bornHere_20 : decode cX11_bornHere 20 = .ok (.aload_n 0, 1) := dk_42 (dk_at dksX11_bornHere_0 20 rfl rfl)
theorem dX11_bornHere_21 : decode cX11_bornHere 21 = .ok (.getfield 150, 3) := dk_180 0 150 (dk_at dksX11_bornHere_0 21 rfl rfl)
theorem dX11_bornHere_24 : decode cX11_bornHere 24 = .ok (.ifCond .eq 4, 3) := dk_153 0 4 (dk_at dksX11_bornHere_1 0 rfl rfl)
theorem dX11_bornHere_27 : decode cX11_bornHere 27 = .ok (.return_, 1) := dk_177 (dk_at dksX11_bornHere_1 3 rfl rfl)
theorem dX11_bornHere_28 : decode cX11_bornHere 28 = .ok (.aload_n 0, 1) := dk_42 (dk_at dksX11_bornHere_1 4 rfl rfl)
theorem dX11_bornHere_29 : decode cX11_bornHere 29 = .ok (.invokevirtual 236, 3) := dk_182 0 236 (dk_at dksX11_bornHere_1 5 rfl rfl)
theorem dX11_bornHere_32 : decode cX11_bornHere 32 = .ok (.istore_n 2, 1) := dk_61 (dk_at dksX11_bornHere_1 8 rfl rfl)
theorem dX11_bornHere_33 : decode cX11_bornHere 33 = .ok (.aload_n 1, 1) := dk_43 (dk_at dksX11_bornHere_1 9 rfl rfl)
theorem dX11_bornHere_34 : decode cX11_bornHere 34 = .ok (.iconst 2, 1) := dk_5 (dk_at dksX11_bornHere_1 10 rfl rfl)
theorem dX11_bornHere_35 : decode cX11_bornHere 35 = .ok (.aload_n 0, 1) := dk_42 (dk_at dksX11_bornHere_1 11 rfl rfl)
theorem dX11_bornHere_36 : decode cX11_bornHere 36 = .ok (.iconst 0, 1) := dk_3 (dk_at dksX11_bornHere_1 12 rfl rfl)
theorem dX11_bornHere_37 : decode cX11_bornHere 37 = .ok (.bipush 60, 2) := dk_16 60 (dk_at dksX11_bornHere_1 13 rfl rfl)
theorem dX11_bornHere_39 : decode cX11_bornHere 39 = .ok (.invokevirtual 202, 3) := dk_182 0 202 (dk_at dksX11_bornHere_1 15 rfl rfl)
theorem dX11_bornHere_42 : decode cX11_bornHere 42 = .ok (.iastore, 1) := dk_79 (dk_at dksX11_bornHere_1 18 rfl rfl)
theorem dX11_bornHere_43 : decode cX11_bornHere 43 = .ok (.aload_n 0, 1) := dk_42 (dk_at dksX11_bornHere_1 19 rfl rfl)
theorem dX11_bornHere_44 : decode cX11_bornHere 44 = .ok (.getfield 150, 3) := dk_180 0 150 (dk_at dksX11_bornHere_1 20 rfl rfl)
theorem dX11_bornHere_47 : decode cX11_bornHere 47 = .ok (.ifCond .ne 24, 3) := dk_154 0 24 (dk_at dksX11_bornHere_2 0 rfl rfl)
theorem dX11_bornHere_50 : decode cX11_bornHere 50 = .ok (.aload_n 1, 1) := dk_43 (dk_at dksX11_bornHere_2 3 rfl rfl)
theorem dX11_bornHere_51 : decode cX11_bornHere 51 = .ok (.iconst 2, 1) := dk_5 (dk_at dksX11_bornHere_2 4 rfl rfl)
theorem dX11_bornHere_52 : decode cX11_bornHere 52 = .ok (.iaload, 1) := dk_46 (dk_at dksX11_bornHere_2 5 rfl rfl)
theorem dX11_bornHere_53 : decode cX11_bornHere 53 = .ok (.ifCond .eq 18, 3) := dk_153 0 18 (dk_at dksX11_bornHere_2 6 rfl rfl)
theorem dX11_bornHere_56 : decode cX11_bornHere 56 = .ok (.aload_n 1, 1) := dk_43 (dk_at dksX11_bornHere_2 9 rfl rfl)
theorem dX11_bornHere_57 : decode cX11_bornHere 57 = .ok (.iconst 2, 1) := dk_5 (dk_at dksX11_bornHere_2 10 rfl rfl)
theorem dX11_bornHere_58 : decode cX11_bornHere 58 = .ok (.iaload, 1) := dk_46 (dk_at dksX11_bornHere_2 11 rfl rfl)
theorem dX11_bornHere_59 : decode cX11_bornHere 59 = .ok (.aload_n 1, 1) := dk_43 (dk_at dksX11_bornHere_2 12 rfl rfl)
theorem dX11_bornHere_60 : decode cX11_bornHere 60 = .ok (.iconst 1, 1) := dk_4 (dk_at dksX11_bornHere_2 13 rfl rfl)
theorem dX11_bornHere_61 : decode cX11_bornHere 61 = .ok (.iaload, 1) := dk_46 (dk_at dksX11_bornHere_2 14 rfl rfl)
theorem dX11_bornHere_62 : decode cX11_bornHere 62 = .ok (.if_icmp .gt 9, 3) := dk_163 0 9 (dk_at dksX11_bornHere_2 15 rfl rfl)
theorem dX11_bornHere_65 : decode cX11_bornHere 65 = .ok (.aload_n 0, 1) := dk_42 (dk_at dksX11_bornHere_2 18 rfl rfl)
theorem dX11_bornHere_66 : decode cX11_bornHere 66 = .ok (.iconst 2, 1) := dk_5 (dk_at dksX11_bornHere_2 19 rfl rfl)
theorem dX11_bornHere_67 : decode cX11_bornHere 67 = .ok (.iload_n 2, 1) := dk_28 (dk_at dksX11_bornHere_2 20 rfl rfl)
theorem dX11_bornHere_68 : decode cX11_bornHere 68 = .ok (.invokevirtual 163, 3) := dk_182 0 163 (dk_at dksX11_bornHere_2 21 rfl rfl)
theorem dX11_bornHere_71 : decode cX11_bornHere 71 = .ok (.return_, 1) := dk_177 (dk_at dksX11_bornHere_3 0 rfl rfl)
abbrev cX11_number : ByteArray := prog_22_method_16_code
def yX11_number : MethodName := ⟨RX11, "number", "(II)I"⟩
def dkwX11_number_5 : List UInt8 := [154, 0, 9, 42, 5, 29, 182, 0, 163, 42, 180, 0, 150, 154, 0, 8, 21, 4, 167, 0, 4, 3, 172]
abbrev dktX11_number_5 : List UInt8 := dkwX11_number_5 ++ []
def dkwX11_number_4 : List UInt8 := [54, 4, 42, 89, 180, 0, 143, 4, 96, 181, 0, 143, 167, 255, 197, 21, 4, 27, 28, 184, 0, 168]
abbrev dktX11_number_4 : List UInt8 := dkwX11_number_4 ++ dktX11_number_5
def dkwX11_number_3 : List UInt8 := [182, 0, 146, 96, 16, 48, 100, 54, 4, 21, 4, 18, 167, 164, 0, 8, 18, 167, 167, 0, 5, 21, 4]
abbrev dktX11_number_3 : List UInt8 := dkwX11_number_3 ++ dktX11_number_4
def dkwX11_number_2 : List UInt8 := [180, 0, 143, 182, 0, 146, 184, 0, 159, 153, 0, 51, 16, 10, 21, 4, 104, 42, 42, 180, 0, 143]
abbrev dktX11_number_2 : List UInt8 := dkwX11_number_2 ++ dktX11_number_3
def dkwX11_number_1 : List UInt8 := [180, 0, 143, 182, 0, 146, 184, 0, 159, 154, 0, 12, 42, 4, 42, 180, 0, 143, 182, 0, 163, 42, 42]
abbrev dktX11_number_1 : List UInt8 := dkwX11_number_1 ++ dktX11_number_2
def dkwX11_number_0 : List UInt8 := [42, 180, 0, 150, 153, 0, 5, 3, 172, 42, 182, 0, 156, 42, 180, 0, 143, 62, 3, 54, 4, 42, 42]
abbrev dktX11_number_0 : List UInt8 := dkwX11_number_0 ++ dktX11_number_1
theorem dksX11_number_0 : cX11_number.data.toList.drop 0 = dktX11_number_0 := by decide +kernel
theorem dksX11_number_1 : cX11_number.data.toList.drop 23 = dktX11_number_1 := dk_seg dksX11_number_0 23 rfl rfl
theorem dksX11_number_2 : cX11_number.data.toList.drop 46 = dktX11_number_2 := dk_seg dksX11_number_1 23 rfl rfl
theorem dksX11_number_3 : cX11_number.data.toList.drop 68 = dktX11_number_3 := dk_seg dksX11_number_2 22 rfl rfl
theorem dksX11_number_4 : cX11_number.data.toList.drop 91 = dktX11_number_4 := dk_seg dksX11_number_3 23 rfl rfl
theorem dksX11_number_5 : cX11_number.data.toList.drop 113 = dktX11_number_5 := dk_seg dksX11_number_4 22 rfl rfl
theorem dX11_number_0 : decode cX11_number 0 = .ok (.aload_n 0, 1) := dk_42 (dk_at dksX11_number_0 0 rfl rfl)
theorem dX11_number_1 : decode cX11_number 1 = .ok (.getfield 150, 3) := dk_180 0 150 (dk_at dksX11_number_0 1 rfl rfl)
theorem dX11_number_4 : decode cX11_number 4 = .ok (.ifCond .eq 5, 3) := dk_153 0 5 (dk_at dksX11_number_0 4 rfl rfl)
theorem dX11_number_7 : decode cX11_number 7 = .ok (.iconst 0, 1) := dk_3 (dk_at dksX11_number_0 7 rfl rfl)
theorem dX11_number_8 : decode cX11_number 8 = .ok (.ireturn, 1) := dk_172 (dk_at dksX11_number_0 8 rfl rfl)
theorem dX11_number_9 : decode cX11_number 9 = .ok (.aload_n 0, 1) := dk_42 (dk_at dksX11_number_0 9 rfl rfl)
theorem dX11_number_10 : decode cX11_number 10 = .ok (.invokevirtual 156, 3) := dk_182 0 156 (dk_at dksX11_number_0 10 rfl rfl)
theorem dX11_number_13 : decode cX11_number 13 = .ok (.aload_n 0, 1) := dk_42 (dk_at dksX11_number_0 13 rfl rfl)
theorem dX11_number_14 : decode cX11_number 14 = .ok (.getfield 143, 3) := dk_180 0 143 (dk_at dksX11_number_0 14 rfl rfl)
theorem dX11_number_17 : decode cX11_number 17 = .ok (.istore_n 3, 1) := dk_62 (dk_at dksX11_number_0 17 rfl rfl)
theorem dX11_number_18 : decode cX11_number 18 = .ok (.iconst 0, 1) := dk_3 (dk_at dksX11_number_0 18 rfl rfl)
theorem dX11_number_19 : decode cX11_number 19 = .ok (.istore 4, 2) := dk_54 4 (dk_at dksX11_number_0 19 rfl rfl)
theorem dX11_number_21 : decode cX11_number 21 = .ok (.aload_n 0, 1) := dk_42 (dk_at dksX11_number_0 21 rfl rfl)
theorem dX11_number_22 : decode cX11_number 22 = .ok (.aload_n 0, 1) := dk_42 (dk_at dksX11_number_0 22 rfl rfl)
theorem dX11_number_23 : decode cX11_number 23 = .ok (.getfield 143, 3) := dk_180 0 143 (dk_at dksX11_number_1 0 rfl rfl)
theorem dX11_number_26 : decode cX11_number 26 = .ok (.invokevirtual 146, 3) := dk_182 0 146 (dk_at dksX11_number_1 3 rfl rfl)
theorem dX11_number_29 : decode cX11_number 29 = .ok (.invokestatic 159, 3) := dk_184 0 159 (dk_at dksX11_number_1 6 rfl rfl)
theorem dX11_number_32 : decode cX11_number 32 = .ok (.ifCond .ne 12, 3) := dk_154 0 12 (dk_at dksX11_number_1 9 rfl rfl)
theorem dX11_number_35 : decode cX11_number 35 = .ok (.aload_n 0, 1) := dk_42 (dk_at dksX11_number_1 12 rfl rfl)
theorem dX11_number_36 : decode cX11_number 36 = .ok (.iconst 1, 1) := dk_4 (dk_at dksX11_number_1 13 rfl rfl)
theorem dX11_number_37 : decode cX11_number 37 = .ok (.aload_n 0, 1) := dk_42 (dk_at dksX11_number_1 14 rfl rfl)
theorem dX11_number_38 : decode cX11_number 38 = .ok (.getfield 143, 3) := dk_180 0 143 (dk_at dksX11_number_1 15 rfl rfl)
theorem dX11_number_41 : decode cX11_number 41 = .ok (.invokevirtual 163, 3) := dk_182 0 163 (dk_at dksX11_number_1 18 rfl rfl)
theorem dX11_number_44 : decode cX11_number 44 = .ok (.aload_n 0, 1) := dk_42 (dk_at dksX11_number_1 21 rfl rfl)
theorem dX11_number_45 : decode cX11_number 45 = .ok (.aload_n 0, 1) := dk_42 (dk_at dksX11_number_1 22 rfl rfl)
theorem dX11_number_46 : decode cX11_number 46 = .ok (.getfield 143, 3) := dk_180 0 143 (dk_at dksX11_number_2 0 rfl rfl)
theorem dX11_number_49 : decode cX11_number 49 = .ok (.invokevirtual 146, 3) := dk_182 0 146 (dk_at dksX11_number_2 3 rfl rfl)
theorem dX11_number_52 : decode cX11_number 52 = .ok (.invokestatic 159, 3) := dk_184 0 159 (dk_at dksX11_number_2 6 rfl rfl)
theorem dX11_number_55 : decode cX11_number 55 = .ok (.ifCond .eq 51, 3) := dk_153 0 51 (dk_at dksX11_number_2 9 rfl rfl)
theorem dX11_number_58 : decode cX11_number 58 = .ok (.bipush 10, 2) := dk_16 10 (dk_at dksX11_number_2 12 rfl rfl)
theorem dX11_number_60 : decode cX11_number 60 = .ok (.iload 4, 2) := dk_21 4 (dk_at dksX11_number_2 14 rfl rfl)
theorem dX11_number_62 : decode cX11_number 62 = .ok (.imul, 1) := dk_104 (dk_at dksX11_number_2 16 rfl rfl)
theorem dX11_number_63 : decode cX11_number 63 = .ok (.aload_n 0, 1) := dk_42 (dk_at dksX11_number_2 17 rfl rfl)
theorem dX11_number_64 : decode cX11_number 64 = .ok (.aload_n 0, 1) := dk_42 (dk_at dksX11_number_2 18 rfl rfl)
theorem dX11_number_65 : decode cX11_number 65 = .ok (.getfield 143, 3) := dk_180 0 143 (dk_at dksX11_number_2 19 rfl rfl)
theorem dX11_number_68 : decode cX11_number 68 = .ok (.invokevirtual 146, 3) := dk_182 0 146 (dk_at dksX11_number_3 0 rfl rfl)
theorem dX11_number_71 : decode cX11_number 71 = .ok (.iadd, 1) := dk_96 (dk_at dksX11_number_3 3 rfl rfl)
theorem dX11_number_72 : decode cX11_number 72 = .ok (.bipush 48, 2) := dk_16 48 (dk_at dksX11_number_3 4 rfl rfl)
theorem dX11_number_74 : decode cX11_number 74 = .ok (.isub, 1) := dk_100 (dk_at dksX11_number_3 6 rfl rfl)
theorem dX11_number_75 : decode cX11_number 75 = .ok (.istore 4, 2) := dk_54 4 (dk_at dksX11_number_3 7 rfl rfl)
theorem dX11_number_77 : decode cX11_number 77 = .ok (.iload 4, 2) := dk_21 4 (dk_at dksX11_number_3 9 rfl rfl)
theorem dX11_number_79 : decode cX11_number 79 = .ok (.ldc 167, 2) := dk_18 167 (dk_at dksX11_number_3 11 rfl rfl)
theorem dX11_number_81 : decode cX11_number 81 = .ok (.if_icmp .le 8, 3) := dk_164 0 8 (dk_at dksX11_number_3 13 rfl rfl)
theorem dX11_number_84 : decode cX11_number 84 = .ok (.ldc 167, 2) := dk_18 167 (dk_at dksX11_number_3 16 rfl rfl)
theorem dX11_number_86 : decode cX11_number 86 = .ok (.goto 5, 3) := dk_167 0 5 (dk_at dksX11_number_3 18 rfl rfl)
theorem dX11_number_89 : decode cX11_number 89 = .ok (.iload 4, 2) := dk_21 4 (dk_at dksX11_number_3 21 rfl rfl)
theorem dX11_number_91 : decode cX11_number 91 = .ok (.istore 4, 2) := dk_54 4 (dk_at dksX11_number_4 0 rfl rfl)
theorem dX11_number_93 : decode cX11_number 93 = .ok (.aload_n 0, 1) := dk_42 (dk_at dksX11_number_4 2 rfl rfl)
theorem dX11_number_94 : decode cX11_number 94 = .ok (.dup, 1) := dk_89 (dk_at dksX11_number_4 3 rfl rfl)
theorem dX11_number_95 : decode cX11_number 95 = .ok (.getfield 143, 3) := dk_180 0 143 (dk_at dksX11_number_4 4 rfl rfl)
theorem dX11_number_98 : decode cX11_number 98 = .ok (.iconst 1, 1) := dk_4 (dk_at dksX11_number_4 7 rfl rfl)
theorem dX11_number_99 : decode cX11_number 99 = .ok (.iadd, 1) := dk_96 (dk_at dksX11_number_4 8 rfl rfl)
theorem dX11_number_100 : decode cX11_number 100 = .ok (.putfield 143, 3) := dk_181 0 143 (dk_at dksX11_number_4 9 rfl rfl)
theorem dX11_number_103 : decode cX11_number 103 = .ok (.goto (-59), 3) := dk_167 255 197 (dk_at dksX11_number_4 12 rfl rfl)
theorem dX11_number_106 : decode cX11_number 106 = .ok (.iload 4, 2) := dk_21 4 (dk_at dksX11_number_4 15 rfl rfl)
theorem dX11_number_108 : decode cX11_number 108 = .ok (.iload_n 1, 1) := dk_27 (dk_at dksX11_number_4 17 rfl rfl)
theorem dX11_number_109 : decode cX11_number 109 = .ok (.iload_n 2, 1) := dk_28 (dk_at dksX11_number_4 18 rfl rfl)
theorem dX11_number_110 : decode cX11_number 110 = .ok (.invokestatic 168, 3) := dk_184 0 168 (dk_at dksX11_number_4 19 rfl rfl)
theorem dX11_number_113 : decode cX11_number 113 = .ok (.ifCond .ne 9, 3) := dk_154 0 9 (dk_at dksX11_number_5 0 rfl rfl)
theorem dX11_number_116 : decode cX11_number 116 = .ok (.aload_n 0, 1) := dk_42 (dk_at dksX11_number_5 3 rfl rfl)
theorem dX11_number_117 : decode cX11_number 117 = .ok (.iconst 2, 1) := dk_5 (dk_at dksX11_number_5 4 rfl rfl)
theorem dX11_number_118 : decode cX11_number 118 = .ok (.iload_n 3, 1) := dk_29 (dk_at dksX11_number_5 5 rfl rfl)
theorem dX11_number_119 : decode cX11_number 119 = .ok (.invokevirtual 163, 3) := dk_182 0 163 (dk_at dksX11_number_5 6 rfl rfl)
theorem dX11_number_122 : decode cX11_number 122 = .ok (.aload_n 0, 1) := dk_42 (dk_at dksX11_number_5 9 rfl rfl)
theorem dX11_number_123 : decode cX11_number 123 = .ok (.getfield 150, 3) := dk_180 0 150 (dk_at dksX11_number_5 10 rfl rfl)
theorem dX11_number_126 : decode cX11_number 126 = .ok (.ifCond .ne 8, 3) := dk_154 0 8 (dk_at dksX11_number_5 13 rfl rfl)
theorem dX11_number_129 : decode cX11_number 129 = .ok (.iload 4, 2) := dk_21 4 (dk_at dksX11_number_5 16 rfl rfl)
theorem dX11_number_131 : decode cX11_number 131 = .ok (.goto 4, 3) := dk_167 0 4 (dk_at dksX11_number_5 18 rfl rfl)
theorem dX11_number_134 : decode cX11_number 134 = .ok (.iconst 0, 1) := dk_3 (dk_at dksX11_number_5 21 rfl rfl)
theorem dX11_number_135 : decode cX11_number 135 = .ok (.ireturn, 1) := dk_172 (dk_at dksX11_number_5 22 rfl rfl)
abbrev cX11_isDigit : ByteArray := prog_22_method_14_code
def yX11_isDigit : MethodName := ⟨RX11, "isDigit", "(I)Z"⟩
def dkwX11_isDigit_0 : List UInt8 := [26, 16, 48, 161, 0, 13, 26, 16, 57, 163, 0, 7, 4, 167, 0, 4, 3, 172]
abbrev dktX11_isDigit_0 : List UInt8 := dkwX11_isDigit_0 ++ []
theorem dksX11_isDigit_0 : cX11_isDigit.data.toList.drop 0 = dktX11_isDigit_0 := by decide +kernel
theorem dX11_isDigit_0 : decode cX11_isDigit 0 = .ok (.iload_n 0, 1) := dk_26 (dk_at dksX11_isDigit_0 0 rfl rfl)
theorem dX11_isDigit_1 : decode cX11_isDigit 1 = .ok (.bipush 48, 2) := dk_16 48 (dk_at dksX11_isDigit_0 1 rfl rfl)
theorem dX11_isDigit_3 : decode cX11_isDigit 3 = .ok (.if_icmp .lt 13, 3) := dk_161 0 13 (dk_at dksX11_isDigit_0 3 rfl rfl)
theorem dX11_isDigit_6 : decode cX11_isDigit 6 = .ok (.iload_n 0, 1) := dk_26 (dk_at dksX11_isDigit_0 6 rfl rfl)
theorem dX11_isDigit_7 : decode cX11_isDigit 7 = .ok (.bipush 57, 2) := dk_16 57 (dk_at dksX11_isDigit_0 7 rfl rfl)
theorem dX11_isDigit_9 : decode cX11_isDigit 9 = .ok (.if_icmp .gt 7, 3) := dk_163 0 7 (dk_at dksX11_isDigit_0 9 rfl rfl)
theorem dX11_isDigit_12 : decode cX11_isDigit 12 = .ok (.iconst 1, 1) := dk_4 (dk_at dksX11_isDigit_0 12 rfl rfl)
theorem dX11_isDigit_13 : decode cX11_isDigit 13 = .ok (.goto 4, 3) := dk_167 0 4 (dk_at dksX11_isDigit_0 13 rfl rfl)
theorem dX11_isDigit_16 : decode cX11_isDigit 16 = .ok (.iconst 0, 1) := dk_3 (dk_at dksX11_isDigit_0 16 rfl rfl)
theorem dX11_isDigit_17 : decode cX11_isDigit 17 = .ok (.ireturn, 1) := dk_172 (dk_at dksX11_isDigit_0 17 rfl rfl)
abbrev cX11_placeHere : ByteArray := prog_22_method_17_code
def yX11_placeHere : MethodName := ⟨RX11, "placeHere", "()I"⟩
def dkwX11_placeHere_0 : List UInt8 := [42, 182, 0, 156, 42, 180, 0, 143, 172]
abbrev dktX11_placeHere_0 : List UInt8 := dkwX11_placeHere_0 ++ []
theorem dksX11_placeHere_0 : cX11_placeHere.data.toList.drop 0 = dktX11_placeHere_0 := by decide +kernel
theorem dX11_placeHere_0 : decode cX11_placeHere 0 = .ok (.aload_n 0, 1) := dk_42 (dk_at dksX11_placeHere_0 0 rfl rfl)
theorem dX11_placeHere_1 : decode cX11_placeHere 1 = .ok (.invokevirtual 156, 3) := dk_182 0 156 (dk_at dksX11_placeHere_0 1 rfl rfl)
theorem dX11_placeHere_4 : decode cX11_placeHere 4 = .ok (.aload_n 0, 1) := dk_42 (dk_at dksX11_placeHere_0 4 rfl rfl)
theorem dX11_placeHere_5 : decode cX11_placeHere 5 = .ok (.getfield 143, 3) := dk_180 0 143 (dk_at dksX11_placeHere_0 5 rfl rfl)
theorem dX11_placeHere_8 : decode cX11_placeHere 8 = .ok (.ireturn, 1) := dk_172 (dk_at dksX11_placeHere_0 8 rfl rfl)
abbrev cX11_actHere : ByteArray := prog_22_method_35_code
def yX11_actHere : MethodName := ⟨RX11, "actHere", "([I)V"⟩
def dkwX11_actHere_6 : List UInt8 := [177]
abbrev dktX11_actHere_6 : List UInt8 := dkwX11_actHere_6 ++ []
def dkwX11_actHere_5 : List UInt8 := [21, 4, 79, 43, 4, 92, 46, 4, 96, 79, 167, 255, 143, 42, 180, 0, 150, 154, 0, 7, 42, 182, 0, 193]
abbrev dktX11_actHere_5 : List UInt8 := dkwX11_actHere_5 ++ dktX11_actHere_6
def dkwX11_actHere_4 : List UInt8 := [182, 0, 163, 42, 180, 0, 150, 153, 0, 4, 177, 28, 4, 21, 4, 120, 128, 61, 43, 5, 43, 4, 46, 96]
abbrev dktX11_actHere_4 : List UInt8 := dkwX11_actHere_4 ++ dktX11_actHere_5
def dkwX11_actHere_3 : List UInt8 := [5, 29, 182, 0, 163, 42, 180, 0, 150, 154, 0, 17, 43, 4, 46, 16, 6, 160, 0, 9, 42, 6, 29]
abbrev dktX11_actHere_3 : List UInt8 := dkwX11_actHere_3 ++ dktX11_actHere_4
def dkwX11_actHere_2 : List UInt8 := [62, 42, 182, 0, 239, 54, 4, 42, 180, 0, 150, 154, 0, 18, 28, 21, 4, 184, 0, 242, 153, 0, 9, 42]
abbrev dktX11_actHere_2 : List UInt8 := dkwX11_actHere_2 ++ dktX11_actHere_3
def dkwX11_actHere_1 : List UInt8 := [4, 46, 153, 0, 18, 42, 8, 16, 14, 7, 3, 3, 3, 3, 182, 0, 189, 154, 0, 91, 42, 182, 0, 236]
abbrev dktX11_actHere_1 : List UInt8 := dkwX11_actHere_1 ++ dktX11_actHere_2
def dkwX11_actHere_0 : List UInt8 := [43, 3, 42, 3, 16, 9, 182, 0, 202, 79, 43, 4, 3, 79, 3, 61, 42, 180, 0, 150, 154, 0, 112, 43]
abbrev dktX11_actHere_0 : List UInt8 := dkwX11_actHere_0 ++ dktX11_actHere_1
theorem dksX11_actHere_0 : cX11_actHere.data.toList.drop 0 = dktX11_actHere_0 := by decide +kernel
theorem dksX11_actHere_1 : cX11_actHere.data.toList.drop 24 = dktX11_actHere_1 := dk_seg dksX11_actHere_0 24 rfl rfl
theorem dksX11_actHere_2 : cX11_actHere.data.toList.drop 48 = dktX11_actHere_2 := dk_seg dksX11_actHere_1 24 rfl rfl
theorem dksX11_actHere_3 : cX11_actHere.data.toList.drop 72 = dktX11_actHere_3 := dk_seg dksX11_actHere_2 24 rfl rfl
theorem dksX11_actHere_4 : cX11_actHere.data.toList.drop 95 = dktX11_actHere_4 := dk_seg dksX11_actHere_3 23 rfl rfl
theorem dksX11_actHere_5 : cX11_actHere.data.toList.drop 119 = dktX11_actHere_5 := dk_seg dksX11_actHere_4 24 rfl rfl
theorem dksX11_actHere_6 : cX11_actHere.data.toList.drop 143 = dktX11_actHere_6 := dk_seg dksX11_actHere_5 24 rfl rfl
theorem dX11_actHere_0 : decode cX11_actHere 0 = .ok (.aload_n 1, 1) := dk_43 (dk_at dksX11_actHere_0 0 rfl rfl)
theorem dX11_actHere_1 : decode cX11_actHere 1 = .ok (.iconst 0, 1) := dk_3 (dk_at dksX11_actHere_0 1 rfl rfl)
theorem dX11_actHere_2 : decode cX11_actHere 2 = .ok (.aload_n 0, 1) := dk_42 (dk_at dksX11_actHere_0 2 rfl rfl)
theorem dX11_actHere_3 : decode cX11_actHere 3 = .ok (.iconst 0, 1) := dk_3 (dk_at dksX11_actHere_0 3 rfl rfl)
theorem dX11_actHere_4 : decode cX11_actHere 4 = .ok (.bipush 9, 2) := dk_16 9 (dk_at dksX11_actHere_0 4 rfl rfl)
theorem dX11_actHere_6 : decode cX11_actHere 6 = .ok (.invokevirtual 202, 3) := dk_182 0 202 (dk_at dksX11_actHere_0 6 rfl rfl)
theorem dX11_actHere_9 : decode cX11_actHere 9 = .ok (.iastore, 1) := dk_79 (dk_at dksX11_actHere_0 9 rfl rfl)
theorem dX11_actHere_10 : decode cX11_actHere 10 = .ok (.aload_n 1, 1) := dk_43 (dk_at dksX11_actHere_0 10 rfl rfl)
theorem dX11_actHere_11 : decode cX11_actHere 11 = .ok (.iconst 1, 1) := dk_4 (dk_at dksX11_actHere_0 11 rfl rfl)
theorem dX11_actHere_12 : decode cX11_actHere 12 = .ok (.iconst 0, 1) := dk_3 (dk_at dksX11_actHere_0 12 rfl rfl)
theorem dX11_actHere_13 : decode cX11_actHere 13 = .ok (.iastore, 1) := dk_79 (dk_at dksX11_actHere_0 13 rfl rfl)
theorem dX11_actHere_14 : decode cX11_actHere 14 = .ok (.iconst 0, 1) := dk_3 (dk_at dksX11_actHere_0 14 rfl rfl)
theorem dX11_actHere_15 : decode cX11_actHere 15 = .ok (.istore_n 2, 1) := dk_61 (dk_at dksX11_actHere_0 15 rfl rfl)
theorem dX11_actHere_16 : decode cX11_actHere 16 = .ok (.aload_n 0, 1) := dk_42 (dk_at dksX11_actHere_0 16 rfl rfl)
theorem dX11_actHere_17 : decode cX11_actHere 17 = .ok (.getfield 150, 3) := dk_180 0 150 (dk_at dksX11_actHere_0 17 rfl rfl)
theorem dX11_actHere_20 : decode cX11_actHere 20 = .ok (.ifCond .ne 112, 3) := dk_154 0 112 (dk_at dksX11_actHere_0 20 rfl rfl)
theorem dX11_actHere_23 : decode cX11_actHere 23 = .ok (.aload_n 1, 1) := dk_43 (dk_at dksX11_actHere_0 23 rfl rfl)
theorem dX11_actHere_24 : decode cX11_actHere 24 = .ok (.iconst 1, 1) := dk_4 (dk_at dksX11_actHere_1 0 rfl rfl)
theorem dX11_actHere_25 : decode cX11_actHere 25 = .ok (.iaload, 1) := dk_46 (dk_at dksX11_actHere_1 1 rfl rfl)
theorem dX11_actHere_26 : decode cX11_actHere 26 = .ok (.ifCond .eq 18, 3) := dk_153 0 18 (dk_at dksX11_actHere_1 2 rfl rfl)
theorem dX11_actHere_29 : decode cX11_actHere 29 = .ok (.aload_n 0, 1) := dk_42 (dk_at dksX11_actHere_1 5 rfl rfl)
theorem dX11_actHere_30 : decode cX11_actHere 30 = .ok (.iconst 5, 1) := dk_8 (dk_at dksX11_actHere_1 6 rfl rfl)
theorem dX11_actHere_31 : decode cX11_actHere 31 = .ok (.bipush 14, 2) := dk_16 14 (dk_at dksX11_actHere_1 7 rfl rfl)
theorem dX11_actHere_33 : decode cX11_actHere 33 = .ok (.iconst 4, 1) := dk_7 (dk_at dksX11_actHere_1 9 rfl rfl)
theorem dX11_actHere_34 : decode cX11_actHere 34 = .ok (.iconst 0, 1) := dk_3 (dk_at dksX11_actHere_1 10 rfl rfl)
theorem dX11_actHere_35 : decode cX11_actHere 35 = .ok (.iconst 0, 1) := dk_3 (dk_at dksX11_actHere_1 11 rfl rfl)
theorem dX11_actHere_36 : decode cX11_actHere 36 = .ok (.iconst 0, 1) := dk_3 (dk_at dksX11_actHere_1 12 rfl rfl)
theorem dX11_actHere_37 : decode cX11_actHere 37 = .ok (.iconst 0, 1) := dk_3 (dk_at dksX11_actHere_1 13 rfl rfl)
theorem dX11_actHere_38 : decode cX11_actHere 38 = .ok (.invokevirtual 189, 3) := dk_182 0 189 (dk_at dksX11_actHere_1 14 rfl rfl)
theorem dX11_actHere_41 : decode cX11_actHere 41 = .ok (.ifCond .ne 91, 3) := dk_154 0 91 (dk_at dksX11_actHere_1 17 rfl rfl)
theorem dX11_actHere_44 : decode cX11_actHere 44 = .ok (.aload_n 0, 1) := dk_42 (dk_at dksX11_actHere_1 20 rfl rfl)
theorem dX11_actHere_45 : decode cX11_actHere 45 = .ok (.invokevirtual 236, 3) := dk_182 0 236 (dk_at dksX11_actHere_1 21 rfl rfl)
theorem dX11_actHere_48 : decode cX11_actHere 48 = .ok (.istore_n 3, 1) := dk_62 (dk_at dksX11_actHere_2 0 rfl rfl)
theorem dX11_actHere_49 : decode cX11_actHere 49 = .ok (.aload_n 0, 1) := dk_42 (dk_at dksX11_actHere_2 1 rfl rfl)
theorem dX11_actHere_50 : decode cX11_actHere 50 = .ok (.invokevirtual 239, 3) := dk_182 0 239 (dk_at dksX11_actHere_2 2 rfl rfl)
theorem dX11_actHere_53 : decode cX11_actHere 53 = .ok (.istore 4, 2) := dk_54 4 (dk_at dksX11_actHere_2 5 rfl rfl)
theorem dX11_actHere_55 : decode cX11_actHere 55 = .ok (.aload_n 0, 1) := dk_42 (dk_at dksX11_actHere_2 7 rfl rfl)
theorem dX11_actHere_56 : decode cX11_actHere 56 = .ok (.getfield 150, 3) := dk_180 0 150 (dk_at dksX11_actHere_2 8 rfl rfl)
theorem dX11_actHere_59 : decode cX11_actHere 59 = .ok (.ifCond .ne 18, 3) := dk_154 0 18 (dk_at dksX11_actHere_2 11 rfl rfl)
theorem dX11_actHere_62 : decode cX11_actHere 62 = .ok (.iload_n 2, 1) := dk_28 (dk_at dksX11_actHere_2 14 rfl rfl)
theorem dX11_actHere_63 : decode cX11_actHere 63 = .ok (.iload 4, 2) := dk_21 4 (dk_at dksX11_actHere_2 15 rfl rfl)
theorem dX11_actHere_65 : decode cX11_actHere 65 = .ok (.invokestatic 242, 3) := dk_184 0 242 (dk_at dksX11_actHere_2 17 rfl rfl)
theorem dX11_actHere_68 : decode cX11_actHere 68 = .ok (.ifCond .eq 9, 3) := dk_153 0 9 (dk_at dksX11_actHere_2 20 rfl rfl)
theorem dX11_actHere_71 : decode cX11_actHere 71 = .ok (.aload_n 0, 1) := dk_42 (dk_at dksX11_actHere_2 23 rfl rfl)
theorem dX11_actHere_72 : decode cX11_actHere 72 = .ok (.iconst 2, 1) := dk_5 (dk_at dksX11_actHere_3 0 rfl rfl)
theorem dX11_actHere_73 : decode cX11_actHere 73 = .ok (.iload_n 3, 1) := dk_29 (dk_at dksX11_actHere_3 1 rfl rfl)
theorem dX11_actHere_74 : decode cX11_actHere 74 = .ok (.invokevirtual 163, 3) := dk_182 0 163 (dk_at dksX11_actHere_3 2 rfl rfl)
theorem dX11_actHere_77 : decode cX11_actHere 77 = .ok (.aload_n 0, 1) := dk_42 (dk_at dksX11_actHere_3 5 rfl rfl)
theorem dX11_actHere_78 : decode cX11_actHere 78 = .ok (.getfield 150, 3) := dk_180 0 150 (dk_at dksX11_actHere_3 6 rfl rfl)
theorem dX11_actHere_81 : decode cX11_actHere 81 = .ok (.ifCond .ne 17, 3) := dk_154 0 17 (dk_at dksX11_actHere_3 9 rfl rfl)
theorem dX11_actHere_84 : decode cX11_actHere 84 = .ok (.aload_n 1, 1) := dk_43 (dk_at dksX11_actHere_3 12 rfl rfl)
theorem dX11_actHere_85 : decode cX11_actHere 85 = .ok (.iconst 1, 1) := dk_4 (dk_at dksX11_actHere_3 13 rfl rfl)
theorem dX11_actHere_86 : decode cX11_actHere 86 = .ok (.iaload, 1) := dk_46 (dk_at dksX11_actHere_3 14 rfl rfl)
theorem dX11_actHere_87 : decode cX11_actHere 87 = .ok (.bipush 6, 2) := dk_16 6 (dk_at dksX11_actHere_3 15 rfl rfl)
theorem dX11_actHere_89 : decode cX11_actHere 89 = .ok (.if_icmp .ne 9, 3) := dk_160 0 9 (dk_at dksX11_actHere_3 17 rfl rfl)
theorem dX11_actHere_92 : decode cX11_actHere 92 = .ok (.aload_n 0, 1) := dk_42 (dk_at dksX11_actHere_3 20 rfl rfl)
theorem dX11_actHere_93 : decode cX11_actHere 93 = .ok (.iconst 3, 1) := dk_6 (dk_at dksX11_actHere_3 21 rfl rfl)
theorem dX11_actHere_94 : decode cX11_actHere 94 = .ok (.iload_n 3, 1) := dk_29 (dk_at dksX11_actHere_3 22 rfl rfl)
theorem dX11_actHere_95 : decode cX11_actHere 95 = .ok (.invokevirtual 163, 3) := dk_182 0 163 (dk_at dksX11_actHere_4 0 rfl rfl)
theorem dX11_actHere_98 : decode cX11_actHere 98 = .ok (.aload_n 0, 1) := dk_42 (dk_at dksX11_actHere_4 3 rfl rfl)
theorem dX11_actHere_99 : decode cX11_actHere 99 = .ok (.getfield 150, 3) := dk_180 0 150 (dk_at dksX11_actHere_4 4 rfl rfl)
theorem dX11_actHere_102 : decode cX11_actHere 102 = .ok (.ifCond .eq 4, 3) := dk_153 0 4 (dk_at dksX11_actHere_4 7 rfl rfl)
theorem dX11_actHere_105 : decode cX11_actHere 105 = .ok (.return_, 1) := dk_177 (dk_at dksX11_actHere_4 10 rfl rfl)
theorem dX11_actHere_106 : decode cX11_actHere 106 = .ok (.iload_n 2, 1) := dk_28 (dk_at dksX11_actHere_4 11 rfl rfl)
theorem dX11_actHere_107 : decode cX11_actHere 107 = .ok (.iconst 1, 1) := dk_4 (dk_at dksX11_actHere_4 12 rfl rfl)
theorem dX11_actHere_108 : decode cX11_actHere 108 = .ok (.iload 4, 2) := dk_21 4 (dk_at dksX11_actHere_4 13 rfl rfl)
theorem dX11_actHere_110 : decode cX11_actHere 110 = .ok (.ishl, 1) := dk_120 (dk_at dksX11_actHere_4 15 rfl rfl)
theorem dX11_actHere_111 : decode cX11_actHere 111 = .ok (.ior, 1) := dk_128 (dk_at dksX11_actHere_4 16 rfl rfl)
theorem dX11_actHere_112 : decode cX11_actHere 112 = .ok (.istore_n 2, 1) := dk_61 (dk_at dksX11_actHere_4 17 rfl rfl)
theorem dX11_actHere_113 : decode cX11_actHere 113 = .ok (.aload_n 1, 1) := dk_43 (dk_at dksX11_actHere_4 18 rfl rfl)
theorem dX11_actHere_114 : decode cX11_actHere 114 = .ok (.iconst 2, 1) := dk_5 (dk_at dksX11_actHere_4 19 rfl rfl)
theorem dX11_actHere_115 : decode cX11_actHere 115 = .ok (.aload_n 1, 1) := dk_43 (dk_at dksX11_actHere_4 20 rfl rfl)
theorem dX11_actHere_116 : decode cX11_actHere 116 = .ok (.iconst 1, 1) := dk_4 (dk_at dksX11_actHere_4 21 rfl rfl)
theorem dX11_actHere_117 : decode cX11_actHere 117 = .ok (.iaload, 1) := dk_46 (dk_at dksX11_actHere_4 22 rfl rfl)
theorem dX11_actHere_118 : decode cX11_actHere 118 = .ok (.iadd, 1) := dk_96 (dk_at dksX11_actHere_4 23 rfl rfl)
theorem dX11_actHere_119 : decode cX11_actHere 119 = .ok (.iload 4, 2) := dk_21 4 (dk_at dksX11_actHere_5 0 rfl rfl)
theorem dX11_actHere_121 : decode cX11_actHere 121 = .ok (.iastore, 1) := dk_79 (dk_at dksX11_actHere_5 2 rfl rfl)
theorem dX11_actHere_122 : decode cX11_actHere 122 = .ok (.aload_n 1, 1) := dk_43 (dk_at dksX11_actHere_5 3 rfl rfl)
theorem dX11_actHere_123 : decode cX11_actHere 123 = .ok (.iconst 1, 1) := dk_4 (dk_at dksX11_actHere_5 4 rfl rfl)
theorem dX11_actHere_124 : decode cX11_actHere 124 = .ok (.dup2, 1) := dk_92 (dk_at dksX11_actHere_5 5 rfl rfl)
theorem dX11_actHere_125 : decode cX11_actHere 125 = .ok (.iaload, 1) := dk_46 (dk_at dksX11_actHere_5 6 rfl rfl)
theorem dX11_actHere_126 : decode cX11_actHere 126 = .ok (.iconst 1, 1) := dk_4 (dk_at dksX11_actHere_5 7 rfl rfl)
theorem dX11_actHere_127 : decode cX11_actHere 127 = .ok (.iadd, 1) := dk_96 (dk_at dksX11_actHere_5 8 rfl rfl)
theorem dX11_actHere_128 : decode cX11_actHere 128 = .ok (.iastore, 1) := dk_79 (dk_at dksX11_actHere_5 9 rfl rfl)
theorem dX11_actHere_129 : decode cX11_actHere 129 = .ok (.goto (-113), 3) := dk_167 255 143 (dk_at dksX11_actHere_5 10 rfl rfl)
theorem dX11_actHere_132 : decode cX11_actHere 132 = .ok (.aload_n 0, 1) := dk_42 (dk_at dksX11_actHere_5 13 rfl rfl)
theorem dX11_actHere_133 : decode cX11_actHere 133 = .ok (.getfield 150, 3) := dk_180 0 150 (dk_at dksX11_actHere_5 14 rfl rfl)
theorem dX11_actHere_136 : decode cX11_actHere 136 = .ok (.ifCond .ne 7, 3) := dk_154 0 7 (dk_at dksX11_actHere_5 17 rfl rfl)
theorem dX11_actHere_139 : decode cX11_actHere 139 = .ok (.aload_n 0, 1) := dk_42 (dk_at dksX11_actHere_5 20 rfl rfl)
theorem dX11_actHere_140 : decode cX11_actHere 140 = .ok (.invokevirtual 193, 3) := dk_182 0 193 (dk_at dksX11_actHere_5 21 rfl rfl)
theorem dX11_actHere_143 : decode cX11_actHere 143 = .ok (.return_, 1) := dk_177 (dk_at dksX11_actHere_6 0 rfl rfl)
abbrev cX11_puppetHere : ByteArray := prog_22_method_29_code
def yX11_puppetHere : MethodName := ⟨RX11, "puppetHere", "()I"⟩
def dkwX11_puppetHere_0 : List UInt8 := [42, 3, 42, 180, 0, 20, 4, 46, 4, 100, 182, 0, 202, 172]
abbrev dktX11_puppetHere_0 : List UInt8 := dkwX11_puppetHere_0 ++ []
theorem dksX11_puppetHere_0 : cX11_puppetHere.data.toList.drop 0 = dktX11_puppetHere_0 := by decide +kernel
theorem dX11_puppetHere_0 : decode cX11_puppetHere 0 = .ok (.aload_n 0, 1) := dk_42 (dk_at dksX11_puppetHere_0 0 rfl rfl)
theorem dX11_puppetHere_1 : decode cX11_puppetHere 1 = .ok (.iconst 0, 1) := dk_3 (dk_at dksX11_puppetHere_0 1 rfl rfl)
theorem dX11_puppetHere_2 : decode cX11_puppetHere 2 = .ok (.aload_n 0, 1) := dk_42 (dk_at dksX11_puppetHere_0 2 rfl rfl)
theorem dX11_puppetHere_3 : decode cX11_puppetHere 3 = .ok (.getfield 20, 3) := dk_180 0 20 (dk_at dksX11_puppetHere_0 3 rfl rfl)
theorem dX11_puppetHere_6 : decode cX11_puppetHere 6 = .ok (.iconst 1, 1) := dk_4 (dk_at dksX11_puppetHere_0 6 rfl rfl)
theorem dX11_puppetHere_7 : decode cX11_puppetHere 7 = .ok (.iaload, 1) := dk_46 (dk_at dksX11_puppetHere_0 7 rfl rfl)
theorem dX11_puppetHere_8 : decode cX11_puppetHere 8 = .ok (.iconst 1, 1) := dk_4 (dk_at dksX11_puppetHere_0 8 rfl rfl)
theorem dX11_puppetHere_9 : decode cX11_puppetHere 9 = .ok (.isub, 1) := dk_100 (dk_at dksX11_puppetHere_0 9 rfl rfl)
theorem dX11_puppetHere_10 : decode cX11_puppetHere 10 = .ok (.invokevirtual 202, 3) := dk_182 0 202 (dk_at dksX11_puppetHere_0 10 rfl rfl)
theorem dX11_puppetHere_13 : decode cX11_puppetHere 13 = .ok (.ireturn, 1) := dk_172 (dk_at dksX11_puppetHere_0 13 rfl rfl)
abbrev cX11_worksHere : ByteArray := prog_22_method_33_code
def yX11_worksHere : MethodName := ⟨RX11, "worksHere", "()V"⟩
def dkwX11_worksHere_4 : List UInt8 := [180, 0, 150, 154, 0, 15, 42, 180, 0, 26, 29, 92, 46, 4, 27, 120, 128, 79, 177]
abbrev dktX11_worksHere_4 : List UInt8 := dkwX11_worksHere_4 ++ []
def dkwX11_worksHere_3 : List UInt8 := [159, 0, 16, 42, 180, 0, 32, 29, 46, 27, 184, 0, 242, 153, 0, 9, 42, 5, 28, 182, 0, 163, 42]
abbrev dktX11_worksHere_3 : List UInt8 := dkwX11_worksHere_3 ++ dktX11_worksHere_4
def dkwX11_worksHere_2 : List UInt8 := [184, 0, 242, 154, 0, 36, 42, 180, 0, 26, 29, 46, 184, 0, 246, 42, 180, 0, 52, 29, 50, 4, 46]
abbrev dktX11_worksHere_2 : List UInt8 := dkwX11_worksHere_2 ++ dktX11_worksHere_3
def dkwX11_worksHere_1 : List UInt8 := [180, 0, 150, 154, 0, 66, 42, 180, 0, 46, 27, 50, 4, 46, 157, 0, 49, 42, 180, 0, 26, 29, 46, 27]
abbrev dktX11_worksHere_1 : List UInt8 := dkwX11_worksHere_1 ++ dktX11_worksHere_2
def dkwX11_worksHere_0 : List UInt8 := [42, 182, 0, 223, 60, 42, 180, 0, 150, 153, 0, 4, 177, 42, 182, 0, 236, 61, 42, 182, 0, 239, 62, 42]
abbrev dktX11_worksHere_0 : List UInt8 := dkwX11_worksHere_0 ++ dktX11_worksHere_1
theorem dksX11_worksHere_0 : cX11_worksHere.data.toList.drop 0 = dktX11_worksHere_0 := by decide +kernel
theorem dksX11_worksHere_1 : cX11_worksHere.data.toList.drop 24 = dktX11_worksHere_1 := dk_seg dksX11_worksHere_0 24 rfl rfl
theorem dksX11_worksHere_2 : cX11_worksHere.data.toList.drop 48 = dktX11_worksHere_2 := dk_seg dksX11_worksHere_1 24 rfl rfl
theorem dksX11_worksHere_3 : cX11_worksHere.data.toList.drop 71 = dktX11_worksHere_3 := dk_seg dksX11_worksHere_2 23 rfl rfl
theorem dksX11_worksHere_4 : cX11_worksHere.data.toList.drop 94 = dktX11_worksHere_4 := dk_seg dksX11_worksHere_3 23 rfl rfl
theorem dX11_worksHere_0 : decode cX11_worksHere 0 = .ok (.aload_n 0, 1) := dk_42 (dk_at dksX11_worksHere_0 0 rfl rfl)
theorem dX11_worksHere_1 : decode cX11_worksHere 1 = .ok (.invokevirtual 223, 3) := dk_182 0 223 (dk_at dksX11_worksHere_0 1 rfl rfl)
theorem dX11_worksHere_4 : decode cX11_worksHere 4 = .ok (.istore_n 1, 1) := dk_60 (dk_at dksX11_worksHere_0 4 rfl rfl)
theorem dX11_worksHere_5 : decode cX11_worksHere 5 = .ok (.aload_n 0, 1) := dk_42 (dk_at dksX11_worksHere_0 5 rfl rfl)
theorem dX11_worksHere_6 : decode cX11_worksHere 6 = .ok (.getfield 150, 3) := dk_180 0 150 (dk_at dksX11_worksHere_0 6 rfl rfl)
theorem dX11_worksHere_9 : decode cX11_worksHere 9 = .ok (.ifCond .eq 4, 3) := dk_153 0 4 (dk_at dksX11_worksHere_0 9 rfl rfl)
theorem dX11_worksHere_12 : decode cX11_worksHere 12 = .ok (.return_, 1) := dk_177 (dk_at dksX11_worksHere_0 12 rfl rfl)
theorem dX11_worksHere_13 : decode cX11_worksHere 13 = .ok (.aload_n 0, 1) := dk_42 (dk_at dksX11_worksHere_0 13 rfl rfl)
theorem dX11_worksHere_14 : decode cX11_worksHere 14 = .ok (.invokevirtual 236, 3) := dk_182 0 236 (dk_at dksX11_worksHere_0 14 rfl rfl)
theorem dX11_worksHere_17 : decode cX11_worksHere 17 = .ok (.istore_n 2, 1) := dk_61 (dk_at dksX11_worksHere_0 17 rfl rfl)
theorem dX11_worksHere_18 : decode cX11_worksHere 18 = .ok (.aload_n 0, 1) := dk_42 (dk_at dksX11_worksHere_0 18 rfl rfl)
theorem dX11_worksHere_19 : decode cX11_worksHere 19 = .ok (.invokevirtual 239, 3) := dk_182 0 239 (dk_at dksX11_worksHere_0 19 rfl rfl)
theorem dX11_worksHere_22 : decode cX11_worksHere 22 = .ok (.istore_n 3, 1) := dk_62 (dk_at dksX11_worksHere_0 22 rfl rfl)
theorem dX11_worksHere_23 : decode cX11_worksHere 23 = .ok (.aload_n 0, 1) := dk_42 (dk_at dksX11_worksHere_0 23 rfl rfl)
theorem dX11_worksHere_24 : decode cX11_worksHere 24 = .ok (.getfield 150, 3) := dk_180 0 150 (dk_at dksX11_worksHere_1 0 rfl rfl)
theorem dX11_worksHere_27 : decode cX11_worksHere 27 = .ok (.ifCond .ne 66, 3) := dk_154 0 66 (dk_at dksX11_worksHere_1 3 rfl rfl)
theorem dX11_worksHere_30 : decode cX11_worksHere 30 = .ok (.aload_n 0, 1) := dk_42 (dk_at dksX11_worksHere_1 6 rfl rfl)
theorem dX11_worksHere_31 : decode cX11_worksHere 31 = .ok (.getfield 46, 3) := dk_180 0 46 (dk_at dksX11_worksHere_1 7 rfl rfl)
theorem dX11_worksHere_34 : decode cX11_worksHere 34 = .ok (.iload_n 1, 1) := dk_27 (dk_at dksX11_worksHere_1 10 rfl rfl)
theorem dX11_worksHere_35 : decode cX11_worksHere 35 = .ok (.aaload, 1) := dk_50 (dk_at dksX11_worksHere_1 11 rfl rfl)
theorem dX11_worksHere_36 : decode cX11_worksHere 36 = .ok (.iconst 1, 1) := dk_4 (dk_at dksX11_worksHere_1 12 rfl rfl)
theorem dX11_worksHere_37 : decode cX11_worksHere 37 = .ok (.iaload, 1) := dk_46 (dk_at dksX11_worksHere_1 13 rfl rfl)
theorem dX11_worksHere_38 : decode cX11_worksHere 38 = .ok (.ifCond .gt 49, 3) := dk_157 0 49 (dk_at dksX11_worksHere_1 14 rfl rfl)
theorem dX11_worksHere_41 : decode cX11_worksHere 41 = .ok (.aload_n 0, 1) := dk_42 (dk_at dksX11_worksHere_1 17 rfl rfl)
theorem dX11_worksHere_42 : decode cX11_worksHere 42 = .ok (.getfield 26, 3) := dk_180 0 26 (dk_at dksX11_worksHere_1 18 rfl rfl)
theorem dX11_worksHere_45 : decode cX11_worksHere 45 = .ok (.iload_n 3, 1) := dk_29 (dk_at dksX11_worksHere_1 21 rfl rfl)
theorem dX11_worksHere_46 : decode cX11_worksHere 46 = .ok (.iaload, 1) := dk_46 (dk_at dksX11_worksHere_1 22 rfl rfl)
theorem dX11_worksHere_47 : decode cX11_worksHere 47 = .ok (.iload_n 1, 1) := dk_27 (dk_at dksX11_worksHere_1 23 rfl rfl)
theorem dX11_worksHere_48 : decode cX11_worksHere 48 = .ok (.invokestatic 242, 3) := dk_184 0 242 (dk_at dksX11_worksHere_2 0 rfl rfl)
theorem dX11_worksHere_51 : decode cX11_worksHere 51 = .ok (.ifCond .ne 36, 3) := dk_154 0 36 (dk_at dksX11_worksHere_2 3 rfl rfl)
theorem dX11_worksHere_54 : decode cX11_worksHere 54 = .ok (.aload_n 0, 1) := dk_42 (dk_at dksX11_worksHere_2 6 rfl rfl)
theorem dX11_worksHere_55 : decode cX11_worksHere 55 = .ok (.getfield 26, 3) := dk_180 0 26 (dk_at dksX11_worksHere_2 7 rfl rfl)
theorem dX11_worksHere_58 : decode cX11_worksHere 58 = .ok (.iload_n 3, 1) := dk_29 (dk_at dksX11_worksHere_2 10 rfl rfl)
theorem dX11_worksHere_59 : decode cX11_worksHere 59 = .ok (.iaload, 1) := dk_46 (dk_at dksX11_worksHere_2 11 rfl rfl)
theorem dX11_worksHere_60 : decode cX11_worksHere 60 = .ok (.invokestatic 246, 3) := dk_184 0 246 (dk_at dksX11_worksHere_2 12 rfl rfl)
theorem dX11_worksHere_63 : decode cX11_worksHere 63 = .ok (.aload_n 0, 1) := dk_42 (dk_at dksX11_worksHere_2 15 rfl rfl)
theorem dX11_worksHere_64 : decode cX11_worksHere 64 = .ok (.getfield 52, 3) := dk_180 0 52 (dk_at dksX11_worksHere_2 16 rfl rfl)
theorem dX11_worksHere_67 : decode cX11_worksHere 67 = .ok (.iload_n 3, 1) := dk_29 (dk_at dksX11_worksHere_2 19 rfl rfl)
theorem dX11_worksHere_68 : decode cX11_worksHere 68 = .ok (.aaload, 1) := dk_50 (dk_at dksX11_worksHere_2 20 rfl rfl)
theorem dX11_worksHere_69 : decode cX11_worksHere 69 = .ok (.iconst 1, 1) := dk_4 (dk_at dksX11_worksHere_2 21 rfl rfl)
theorem dX11_worksHere_70 : decode cX11_worksHere 70 = .ok (.iaload, 1) := dk_46 (dk_at dksX11_worksHere_2 22 rfl rfl)
theorem dX11_worksHere_71 : decode cX11_worksHere 71 = .ok (.if_icmp .eq 16, 3) := dk_159 0 16 (dk_at dksX11_worksHere_3 0 rfl rfl)
theorem dX11_worksHere_74 : decode cX11_worksHere 74 = .ok (.aload_n 0, 1) := dk_42 (dk_at dksX11_worksHere_3 3 rfl rfl)
theorem dX11_worksHere_75 : decode cX11_worksHere 75 = .ok (.getfield 32, 3) := dk_180 0 32 (dk_at dksX11_worksHere_3 4 rfl rfl)
theorem dX11_worksHere_78 : decode cX11_worksHere 78 = .ok (.iload_n 3, 1) := dk_29 (dk_at dksX11_worksHere_3 7 rfl rfl)
theorem dX11_worksHere_79 : decode cX11_worksHere 79 = .ok (.iaload, 1) := dk_46 (dk_at dksX11_worksHere_3 8 rfl rfl)
theorem dX11_worksHere_80 : decode cX11_worksHere 80 = .ok (.iload_n 1, 1) := dk_27 (dk_at dksX11_worksHere_3 9 rfl rfl)
theorem dX11_worksHere_81 : decode cX11_worksHere 81 = .ok (.invokestatic 242, 3) := dk_184 0 242 (dk_at dksX11_worksHere_3 10 rfl rfl)
theorem dX11_worksHere_84 : decode cX11_worksHere 84 = .ok (.ifCond .eq 9, 3) := dk_153 0 9 (dk_at dksX11_worksHere_3 13 rfl rfl)
theorem dX11_worksHere_87 : decode cX11_worksHere 87 = .ok (.aload_n 0, 1) := dk_42 (dk_at dksX11_worksHere_3 16 rfl rfl)
theorem dX11_worksHere_88 : decode cX11_worksHere 88 = .ok (.iconst 2, 1) := dk_5 (dk_at dksX11_worksHere_3 17 rfl rfl)
theorem dX11_worksHere_89 : decode cX11_worksHere 89 = .ok (.iload_n 2, 1) := dk_28 (dk_at dksX11_worksHere_3 18 rfl rfl)
theorem dX11_worksHere_90 : decode cX11_worksHere 90 = .ok (.invokevirtual 163, 3) := dk_182 0 163 (dk_at dksX11_worksHere_3 19 rfl rfl)
theorem dX11_worksHere_93 : decode cX11_worksHere 93 = .ok (.aload_n 0, 1) := dk_42 (dk_at dksX11_worksHere_3 22 rfl rfl)
theorem dX11_worksHere_94 : decode cX11_worksHere 94 = .ok (.getfield 150, 3) := dk_180 0 150 (dk_at dksX11_worksHere_4 0 rfl rfl)
theorem dX11_worksHere_97 : decode cX11_worksHere 97 = .ok (.ifCond .ne 15, 3) := dk_154 0 15 (dk_at dksX11_worksHere_4 3 rfl rfl)
theorem dX11_worksHere_100 : decode cX11_worksHere 100 = .ok (.aload_n 0, 1) := dk_42 (dk_at dksX11_worksHere_4 6 rfl rfl)
theorem dX11_worksHere_101 : decode cX11_worksHere 101 = .ok (.getfield 26, 3) := dk_180 0 26 (dk_at dksX11_worksHere_4 7 rfl rfl)
theorem dX11_worksHere_104 : decode cX11_worksHere 104 = .ok (.iload_n 3, 1) := dk_29 (dk_at dksX11_worksHere_4 10 rfl rfl)
theorem dX11_worksHere_105 : decode cX11_worksHere 105 = .ok (.dup2, 1) := dk_92 (dk_at dksX11_worksHere_4 11 rfl rfl)
theorem dX11_worksHere_106 : decode cX11_worksHere 106 = .ok (.iaload, 1) := dk_46 (dk_at dksX11_worksHere_4 12 rfl rfl)
theorem dX11_worksHere_107 : decode cX11_worksHere 107 = .ok (.iconst 1, 1) := dk_4 (dk_at dksX11_worksHere_4 13 rfl rfl)
theorem dX11_worksHere_108 : decode cX11_worksHere 108 = .ok (.iload_n 1, 1) := dk_27 (dk_at dksX11_worksHere_4 14 rfl rfl)
theorem dX11_worksHere_109 : decode cX11_worksHere 109 = .ok (.ishl, 1) := dk_120 (dk_at dksX11_worksHere_4 15 rfl rfl)
theorem dX11_worksHere_110 : decode cX11_worksHere 110 = .ok (.ior, 1) := dk_128 (dk_at dksX11_worksHere_4 16 rfl rfl)
theorem dX11_worksHere_111 : decode cX11_worksHere 111 = .ok (.iastore, 1) := dk_79 (dk_at dksX11_worksHere_4 17 rfl rfl)
theorem dX11_worksHere_112 : decode cX11_worksHere 112 = .ok (.return_, 1) := dk_177 (dk_at dksX11_worksHere_4 18 rfl rfl)
abbrev cX11_handHere : ByteArray := prog_22_method_28_code
def yX11_handHere : MethodName := ⟨RX11, "handHere", "()I"⟩
def dkwX11_handHere_0 : List UInt8 := [42, 3, 42, 180, 0, 20, 3, 46, 4, 100, 182, 0, 202, 172]
abbrev dktX11_handHere_0 : List UInt8 := dkwX11_handHere_0 ++ []
theorem dksX11_handHere_0 : cX11_handHere.data.toList.drop 0 = dktX11_handHere_0 := by decide +kernel
theorem dX11_handHere_0 : decode cX11_handHere 0 = .ok (.aload_n 0, 1) := dk_42 (dk_at dksX11_handHere_0 0 rfl rfl)
theorem dX11_handHere_1 : decode cX11_handHere 1 = .ok (.iconst 0, 1) := dk_3 (dk_at dksX11_handHere_0 1 rfl rfl)
theorem dX11_handHere_2 : decode cX11_handHere 2 = .ok (.aload_n 0, 1) := dk_42 (dk_at dksX11_handHere_0 2 rfl rfl)
theorem dX11_handHere_3 : decode cX11_handHere 3 = .ok (.getfield 20, 3) := dk_180 0 20 (dk_at dksX11_handHere_0 3 rfl rfl)
theorem dX11_handHere_6 : decode cX11_handHere 6 = .ok (.iconst 0, 1) := dk_3 (dk_at dksX11_handHere_0 6 rfl rfl)
theorem dX11_handHere_7 : decode cX11_handHere 7 = .ok (.iaload, 1) := dk_46 (dk_at dksX11_handHere_0 7 rfl rfl)
theorem dX11_handHere_8 : decode cX11_handHere 8 = .ok (.iconst 1, 1) := dk_4 (dk_at dksX11_handHere_0 8 rfl rfl)
theorem dX11_handHere_9 : decode cX11_handHere 9 = .ok (.isub, 1) := dk_100 (dk_at dksX11_handHere_0 9 rfl rfl)
theorem dX11_handHere_10 : decode cX11_handHere 10 = .ok (.invokevirtual 202, 3) := dk_182 0 202 (dk_at dksX11_handHere_0 10 rfl rfl)
theorem dX11_handHere_13 : decode cX11_handHere 13 = .ok (.ireturn, 1) := dk_172 (dk_at dksX11_handHere_0 13 rfl rfl)
abbrev cX11_ones : ByteArray := prog_22_method_9_code
def yX11_ones : MethodName := ⟨RX11, "ones", "(I)I"⟩
def dkwX11_ones_1 : List UInt8 := [27, 172]
abbrev dktX11_ones_1 : List UInt8 := dkwX11_ones_1 ++ []
def dkwX11_ones_0 : List UInt8 := [3, 60, 3, 61, 28, 16, 9, 162, 0, 17, 27, 26, 28, 122, 4, 126, 96, 60, 132, 2, 1, 167, 255, 239]
abbrev dktX11_ones_0 : List UInt8 := dkwX11_ones_0 ++ dktX11_ones_1
theorem dksX11_ones_0 : cX11_ones.data.toList.drop 0 = dktX11_ones_0 := by decide +kernel
theorem dksX11_ones_1 : cX11_ones.data.toList.drop 24 = dktX11_ones_1 := dk_seg dksX11_ones_0 24 rfl rfl
theorem dX11_ones_0 : decode cX11_ones 0 = .ok (.iconst 0, 1) := dk_3 (dk_at dksX11_ones_0 0 rfl rfl)
theorem dX11_ones_1 : decode cX11_ones 1 = .ok (.istore_n 1, 1) := dk_60 (dk_at dksX11_ones_0 1 rfl rfl)
theorem dX11_ones_2 : decode cX11_ones 2 = .ok (.iconst 0, 1) := dk_3 (dk_at dksX11_ones_0 2 rfl rfl)
theorem dX11_ones_3 : decode cX11_ones 3 = .ok (.istore_n 2, 1) := dk_61 (dk_at dksX11_ones_0 3 rfl rfl)
theorem dX11_ones_4 : decode cX11_ones 4 = .ok (.iload_n 2, 1) := dk_28 (dk_at dksX11_ones_0 4 rfl rfl)
theorem dX11_ones_5 : decode cX11_ones 5 = .ok (.bipush 9, 2) := dk_16 9 (dk_at dksX11_ones_0 5 rfl rfl)
theorem dX11_ones_7 : decode cX11_ones 7 = .ok (.if_icmp .ge 17, 3) := dk_162 0 17 (dk_at dksX11_ones_0 7 rfl rfl)
theorem dX11_ones_10 : decode cX11_ones 10 = .ok (.iload_n 1, 1) := dk_27 (dk_at dksX11_ones_0 10 rfl rfl)
theorem dX11_ones_11 : decode cX11_ones 11 = .ok (.iload_n 0, 1) := dk_26 (dk_at dksX11_ones_0 11 rfl rfl)
theorem dX11_ones_12 : decode cX11_ones 12 = .ok (.iload_n 2, 1) := dk_28 (dk_at dksX11_ones_0 12 rfl rfl)
theorem dX11_ones_13 : decode cX11_ones 13 = .ok (.ishr, 1) := dk_122 (dk_at dksX11_ones_0 13 rfl rfl)
theorem dX11_ones_14 : decode cX11_ones 14 = .ok (.iconst 1, 1) := dk_4 (dk_at dksX11_ones_0 14 rfl rfl)
theorem dX11_ones_15 : decode cX11_ones 15 = .ok (.iand, 1) := dk_126 (dk_at dksX11_ones_0 15 rfl rfl)
theorem dX11_ones_16 : decode cX11_ones 16 = .ok (.iadd, 1) := dk_96 (dk_at dksX11_ones_0 16 rfl rfl)
theorem dX11_ones_17 : decode cX11_ones 17 = .ok (.istore_n 1, 1) := dk_60 (dk_at dksX11_ones_0 17 rfl rfl)
theorem dX11_ones_18 : decode cX11_ones 18 = .ok (.iinc 2 1, 3) := dk_132 2 1 (dk_at dksX11_ones_0 18 rfl rfl)
theorem dX11_ones_21 : decode cX11_ones 21 = .ok (.goto (-17), 3) := dk_167 255 239 (dk_at dksX11_ones_0 21 rfl rfl)
theorem dX11_ones_24 : decode cX11_ones 24 = .ok (.iload_n 1, 1) := dk_27 (dk_at dksX11_ones_1 0 rfl rfl)
theorem dX11_ones_25 : decode cX11_ones 25 = .ok (.ireturn, 1) := dk_172 (dk_at dksX11_ones_1 1 rfl rfl)
abbrev cX11_quarrelHere : ByteArray := prog_22_method_34_code
def yX11_quarrelHere : MethodName := ⟨RX11, "quarrelHere", "()V"⟩
def dkwX11_quarrelHere_2 : List UInt8 := [182, 0, 163, 42, 180, 0, 150, 154, 0, 15, 42, 180, 0, 32, 29, 92, 46, 4, 27, 120, 128, 79, 177]
abbrev dktX11_quarrelHere_2 : List UInt8 := dkwX11_quarrelHere_2 ++ []
def dkwX11_quarrelHere_1 : List UInt8 := [180, 0, 150, 154, 0, 22, 42, 180, 0, 26, 29, 46, 27, 184, 0, 242, 153, 0, 9, 42, 5, 28]
abbrev dktX11_quarrelHere_1 : List UInt8 := dkwX11_quarrelHere_1 ++ dktX11_quarrelHere_2
def dkwX11_quarrelHere_0 : List UInt8 := [42, 182, 0, 223, 60, 42, 180, 0, 150, 153, 0, 4, 177, 42, 182, 0, 236, 61, 42, 182, 0, 239, 62, 42]
abbrev dktX11_quarrelHere_0 : List UInt8 := dkwX11_quarrelHere_0 ++ dktX11_quarrelHere_1
theorem dksX11_quarrelHere_0 : cX11_quarrelHere.data.toList.drop 0 = dktX11_quarrelHere_0 := by decide +kernel
theorem dksX11_quarrelHere_1 : cX11_quarrelHere.data.toList.drop 24 = dktX11_quarrelHere_1 := dk_seg dksX11_quarrelHere_0 24 rfl rfl
theorem dksX11_quarrelHere_2 : cX11_quarrelHere.data.toList.drop 46 = dktX11_quarrelHere_2 := dk_seg dksX11_quarrelHere_1 22 rfl rfl
theorem dX11_quarrelHere_0 : decode cX11_quarrelHere 0 = .ok (.aload_n 0, 1) := dk_42 (dk_at dksX11_quarrelHere_0 0 rfl rfl)
theorem dX11_quarrelHere_1 : decode cX11_quarrelHere 1 = .ok (.invokevirtual 223, 3) := dk_182 0 223 (dk_at dksX11_quarrelHere_0 1 rfl rfl)
theorem dX11_quarrelHere_4 : decode cX11_quarrelHere 4 = .ok (.istore_n 1, 1) := dk_60 (dk_at dksX11_quarrelHere_0 4 rfl rfl)
theorem dX11_quarrelHere_5 : decode cX11_quarrelHere 5 = .ok (.aload_n 0, 1) := dk_42 (dk_at dksX11_quarrelHere_0 5 rfl rfl)
theorem dX11_quarrelHere_6 : decode cX11_quarrelHere 6 = .ok (.getfield 150, 3) := dk_180 0 150 (dk_at dksX11_quarrelHere_0 6 rfl rfl)
theorem dX11_quarrelHere_9 : decode cX11_quarrelHere 9 = .ok (.ifCond .eq 4, 3) := dk_153 0 4 (dk_at dksX11_quarrelHere_0 9 rfl rfl)
theorem dX11_quarrelHere_12 : decode cX11_quarrelHere 12 = .ok (.return_, 1) := dk_177 (dk_at dksX11_quarrelHere_0 12 rfl rfl)
theorem dX11_quarrelHere_13 : decode cX11_quarrelHere 13 = .ok (.aload_n 0, 1) := dk_42 (dk_at dksX11_quarrelHere_0 13 rfl rfl)
theorem dX11_quarrelHere_14 : decode cX11_quarrelHere 14 = .ok (.invokevirtual 236, 3) := dk_182 0 236 (dk_at dksX11_quarrelHere_0 14 rfl rfl)
theorem dX11_quarrelHere_17 : decode cX11_quarrelHere 17 = .ok (.istore_n 2, 1) := dk_61 (dk_at dksX11_quarrelHere_0 17 rfl rfl)
theorem dX11_quarrelHere_18 : decode cX11_quarrelHere 18 = .ok (.aload_n 0, 1) := dk_42 (dk_at dksX11_quarrelHere_0 18 rfl rfl)
theorem dX11_quarrelHere_19 : decode cX11_quarrelHere 19 = .ok (.invokevirtual 239, 3) := dk_182 0 239 (dk_at dksX11_quarrelHere_0 19 rfl rfl)
theorem dX11_quarrelHere_22 : decode cX11_quarrelHere 22 = .ok (.istore_n 3, 1) := dk_62 (dk_at dksX11_quarrelHere_0 22 rfl rfl)
theorem dX11_quarrelHere_23 : decode cX11_quarrelHere 23 = .ok (.aload_n 0, 1) := dk_42 (dk_at dksX11_quarrelHere_0 23 rfl rfl)
theorem dX11_quarrelHere_24 : decode cX11_quarrelHere 24 = .ok (.getfield 150, 3) := dk_180 0 150 (dk_at dksX11_quarrelHere_1 0 rfl rfl)
theorem dX11_quarrelHere_27 : decode cX11_quarrelHere 27 = .ok (.ifCond .ne 22, 3) := dk_154 0 22 (dk_at dksX11_quarrelHere_1 3 rfl rfl)
theorem dX11_quarrelHere_30 : decode cX11_quarrelHere 30 = .ok (.aload_n 0, 1) := dk_42 (dk_at dksX11_quarrelHere_1 6 rfl rfl)
theorem dX11_quarrelHere_31 : decode cX11_quarrelHere 31 = .ok (.getfield 26, 3) := dk_180 0 26 (dk_at dksX11_quarrelHere_1 7 rfl rfl)
theorem dX11_quarrelHere_34 : decode cX11_quarrelHere 34 = .ok (.iload_n 3, 1) := dk_29 (dk_at dksX11_quarrelHere_1 10 rfl rfl)
theorem dX11_quarrelHere_35 : decode cX11_quarrelHere 35 = .ok (.iaload, 1) := dk_46 (dk_at dksX11_quarrelHere_1 11 rfl rfl)
theorem dX11_quarrelHere_36 : decode cX11_quarrelHere 36 = .ok (.iload_n 1, 1) := dk_27 (dk_at dksX11_quarrelHere_1 12 rfl rfl)
theorem dX11_quarrelHere_37 : decode cX11_quarrelHere 37 = .ok (.invokestatic 242, 3) := dk_184 0 242 (dk_at dksX11_quarrelHere_1 13 rfl rfl)
theorem dX11_quarrelHere_40 : decode cX11_quarrelHere 40 = .ok (.ifCond .eq 9, 3) := dk_153 0 9 (dk_at dksX11_quarrelHere_1 16 rfl rfl)
theorem dX11_quarrelHere_43 : decode cX11_quarrelHere 43 = .ok (.aload_n 0, 1) := dk_42 (dk_at dksX11_quarrelHere_1 19 rfl rfl)
theorem dX11_quarrelHere_44 : decode cX11_quarrelHere 44 = .ok (.iconst 2, 1) := dk_5 (dk_at dksX11_quarrelHere_1 20 rfl rfl)
theorem dX11_quarrelHere_45 : decode cX11_quarrelHere 45 = .ok (.iload_n 2, 1) := dk_28 (dk_at dksX11_quarrelHere_1 21 rfl rfl)
theorem dX11_quarrelHere_46 : decode cX11_quarrelHere 46 = .ok (.invokevirtual 163, 3) := dk_182 0 163 (dk_at dksX11_quarrelHere_2 0 rfl rfl)
theorem dX11_quarrelHere_49 : decode cX11_quarrelHere 49 = .ok (.aload_n 0, 1) := dk_42 (dk_at dksX11_quarrelHere_2 3 rfl rfl)
theorem dX11_quarrelHere_50 : decode cX11_quarrelHere 50 = .ok (.getfield 150, 3) := dk_180 0 150 (dk_at dksX11_quarrelHere_2 4 rfl rfl)
theorem dX11_quarrelHere_53 : decode cX11_quarrelHere 53 = .ok (.ifCond .ne 15, 3) := dk_154 0 15 (dk_at dksX11_quarrelHere_2 7 rfl rfl)
theorem dX11_quarrelHere_56 : decode cX11_quarrelHere 56 = .ok (.aload_n 0, 1) := dk_42 (dk_at dksX11_quarrelHere_2 10 rfl rfl)
theorem dX11_quarrelHere_57 : decode cX11_quarrelHere 57 = .ok (.getfield 32, 3) := dk_180 0 32 (dk_at dksX11_quarrelHere_2 11 rfl rfl)
theorem dX11_quarrelHere_60 : decode cX11_quarrelHere 60 = .ok (.iload_n 3, 1) := dk_29 (dk_at dksX11_quarrelHere_2 14 rfl rfl)
theorem dX11_quarrelHere_61 : decode cX11_quarrelHere 61 = .ok (.dup2, 1) := dk_92 (dk_at dksX11_quarrelHere_2 15 rfl rfl)
theorem dX11_quarrelHere_62 : decode cX11_quarrelHere 62 = .ok (.iaload, 1) := dk_46 (dk_at dksX11_quarrelHere_2 16 rfl rfl)
theorem dX11_quarrelHere_63 : decode cX11_quarrelHere 63 = .ok (.iconst 1, 1) := dk_4 (dk_at dksX11_quarrelHere_2 17 rfl rfl)
theorem dX11_quarrelHere_64 : decode cX11_quarrelHere 64 = .ok (.iload_n 1, 1) := dk_27 (dk_at dksX11_quarrelHere_2 18 rfl rfl)
theorem dX11_quarrelHere_65 : decode cX11_quarrelHere 65 = .ok (.ishl, 1) := dk_120 (dk_at dksX11_quarrelHere_2 19 rfl rfl)
theorem dX11_quarrelHere_66 : decode cX11_quarrelHere 66 = .ok (.ior, 1) := dk_128 (dk_at dksX11_quarrelHere_2 20 rfl rfl)
theorem dX11_quarrelHere_67 : decode cX11_quarrelHere 67 = .ok (.iastore, 1) := dk_79 (dk_at dksX11_quarrelHere_2 21 rfl rfl)
theorem dX11_quarrelHere_68 : decode cX11_quarrelHere 68 = .ok (.return_, 1) := dk_177 (dk_at dksX11_quarrelHere_2 22 rfl rfl)
abbrev cX11_otherHere : ByteArray := prog_22_method_32_code
def yX11_otherHere : MethodName := ⟨RX11, "otherHere", "(I)I"⟩
def dkwX11_otherHere_1 : List UInt8 := [154, 0, 14, 29, 27, 160, 0, 9, 42, 5, 28, 182, 0, 163, 29, 172]
abbrev dktX11_otherHere_1 : List UInt8 := dkwX11_otherHere_1 ++ []
def dkwX11_otherHere_0 : List UInt8 := [42, 180, 0, 150, 153, 0, 5, 3, 172, 42, 182, 0, 236, 61, 42, 182, 0, 223, 62, 42, 180, 0, 150]
abbrev dktX11_otherHere_0 : List UInt8 := dkwX11_otherHere_0 ++ dktX11_otherHere_1
theorem dksX11_otherHere_0 : cX11_otherHere.data.toList.drop 0 = dktX11_otherHere_0 := by decide +kernel
theorem dksX11_otherHere_1 : cX11_otherHere.data.toList.drop 23 = dktX11_otherHere_1 := dk_seg dksX11_otherHere_0 23 rfl rfl
theorem dX11_otherHere_0 : decode cX11_otherHere 0 = .ok (.aload_n 0, 1) := dk_42 (dk_at dksX11_otherHere_0 0 rfl rfl)
theorem dX11_otherHere_1 : decode cX11_otherHere 1 = .ok (.getfield 150, 3) := dk_180 0 150 (dk_at dksX11_otherHere_0 1 rfl rfl)
theorem dX11_otherHere_4 : decode cX11_otherHere 4 = .ok (.ifCond .eq 5, 3) := dk_153 0 5 (dk_at dksX11_otherHere_0 4 rfl rfl)
theorem dX11_otherHere_7 : decode cX11_otherHere 7 = .ok (.iconst 0, 1) := dk_3 (dk_at dksX11_otherHere_0 7 rfl rfl)
theorem dX11_otherHere_8 : decode cX11_otherHere 8 = .ok (.ireturn, 1) := dk_172 (dk_at dksX11_otherHere_0 8 rfl rfl)
theorem dX11_otherHere_9 : decode cX11_otherHere 9 = .ok (.aload_n 0, 1) := dk_42 (dk_at dksX11_otherHere_0 9 rfl rfl)
theorem dX11_otherHere_10 : decode cX11_otherHere 10 = .ok (.invokevirtual 236, 3) := dk_182 0 236 (dk_at dksX11_otherHere_0 10 rfl rfl)
theorem dX11_otherHere_13 : decode cX11_otherHere 13 = .ok (.istore_n 2, 1) := dk_61 (dk_at dksX11_otherHere_0 13 rfl rfl)
theorem dX11_otherHere_14 : decode cX11_otherHere 14 = .ok (.aload_n 0, 1) := dk_42 (dk_at dksX11_otherHere_0 14 rfl rfl)
theorem dX11_otherHere_15 : decode cX11_otherHere 15 = .ok (.invokevirtual 223, 3) := dk_182 0 223 (dk_at dksX11_otherHere_0 15 rfl rfl)
theorem dX11_otherHere_18 : decode cX11_otherHere 18 = .ok (.istore_n 3, 1) := dk_62 (dk_at dksX11_otherHere_0 18 rfl rfl)
theorem dX11_otherHere_19 : decode cX11_otherHere 19 = .ok (.aload_n 0, 1) := dk_42 (dk_at dksX11_otherHere_0 19 rfl rfl)
theorem dX11_otherHere_20 : decode cX11_otherHere 20 = .ok (.getfield 150, 3) := dk_180 0 150 (dk_at dksX11_otherHere_0 20 rfl rfl)
theorem dX11_otherHere_23 : decode cX11_otherHere 23 = .ok (.ifCond .ne 14, 3) := dk_154 0 14 (dk_at dksX11_otherHere_1 0 rfl rfl)
theorem dX11_otherHere_26 : decode cX11_otherHere 26 = .ok (.iload_n 3, 1) := dk_29 (dk_at dksX11_otherHere_1 3 rfl rfl)
theorem dX11_otherHere_27 : decode cX11_otherHere 27 = .ok (.iload_n 1, 1) := dk_27 (dk_at dksX11_otherHere_1 4 rfl rfl)
theorem dX11_otherHere_28 : decode cX11_otherHere 28 = .ok (.if_icmp .ne 9, 3) := dk_160 0 9 (dk_at dksX11_otherHere_1 5 rfl rfl)
theorem dX11_otherHere_31 : decode cX11_otherHere 31 = .ok (.aload_n 0, 1) := dk_42 (dk_at dksX11_otherHere_1 8 rfl rfl)
theorem dX11_otherHere_32 : decode cX11_otherHere 32 = .ok (.iconst 2, 1) := dk_5 (dk_at dksX11_otherHere_1 9 rfl rfl)
theorem dX11_otherHere_33 : decode cX11_otherHere 33 = .ok (.iload_n 2, 1) := dk_28 (dk_at dksX11_otherHere_1 10 rfl rfl)
theorem dX11_otherHere_34 : decode cX11_otherHere 34 = .ok (.invokevirtual 163, 3) := dk_182 0 163 (dk_at dksX11_otherHere_1 11 rfl rfl)
theorem dX11_otherHere_37 : decode cX11_otherHere 37 = .ok (.iload_n 3, 1) := dk_29 (dk_at dksX11_otherHere_1 14 rfl rfl)
theorem dX11_otherHere_38 : decode cX11_otherHere 38 = .ok (.ireturn, 1) := dk_172 (dk_at dksX11_otherHere_1 15 rfl rfl)
abbrev cX11_less : ByteArray := prog_22_method_6_code
def yX11_less : MethodName := ⟨RX11, "less", "(II)I"⟩
def dkwX11_less_0 : List UInt8 := [26, 27, 162, 0, 7, 26, 167, 0, 4, 27, 172]
abbrev dktX11_less_0 : List UInt8 := dkwX11_less_0 ++ []
theorem dksX11_less_0 : cX11_less.data.toList.drop 0 = dktX11_less_0 := by decide +kernel
theorem dX11_less_0 : decode cX11_less 0 = .ok (.iload_n 0, 1) := dk_26 (dk_at dksX11_less_0 0 rfl rfl)
theorem dX11_less_1 : decode cX11_less 1 = .ok (.iload_n 1, 1) := dk_27 (dk_at dksX11_less_0 1 rfl rfl)
theorem dX11_less_2 : decode cX11_less 2 = .ok (.if_icmp .ge 7, 3) := dk_162 0 7 (dk_at dksX11_less_0 2 rfl rfl)
theorem dX11_less_5 : decode cX11_less 5 = .ok (.iload_n 0, 1) := dk_26 (dk_at dksX11_less_0 5 rfl rfl)
theorem dX11_less_6 : decode cX11_less 6 = .ok (.goto 4, 3) := dk_167 0 4 (dk_at dksX11_less_0 6 rfl rfl)
theorem dX11_less_9 : decode cX11_less 9 = .ok (.iload_n 1, 1) := dk_27 (dk_at dksX11_less_0 9 rfl rfl)
theorem dX11_less_10 : decode cX11_less 10 = .ok (.ireturn, 1) := dk_172 (dk_at dksX11_less_0 10 rfl rfl)
abbrev cX11_sign : ByteArray := prog_22_method_23_code
def yX11_sign : MethodName := ⟨RX11, "sign", "(I)V"⟩
def dkwX11_sign_1 : List UInt8 := [42, 89, 180, 0, 143, 4, 96, 181, 0, 143, 167, 0, 12, 42, 4, 42, 180, 0, 143, 182, 0, 163, 177]
abbrev dktX11_sign_1 : List UInt8 := dkwX11_sign_1 ++ []
def dkwX11_sign_0 : List UInt8 := [42, 180, 0, 150, 153, 0, 4, 177, 42, 182, 0, 156, 42, 42, 180, 0, 143, 182, 0, 146, 27, 160, 0, 16]
abbrev dktX11_sign_0 : List UInt8 := dkwX11_sign_0 ++ dktX11_sign_1
theorem dksX11_sign_0 : cX11_sign.data.toList.drop 0 = dktX11_sign_0 := by decide +kernel
theorem dksX11_sign_1 : cX11_sign.data.toList.drop 24 = dktX11_sign_1 := dk_seg dksX11_sign_0 24 rfl rfl
theorem dX11_sign_0 : decode cX11_sign 0 = .ok (.aload_n 0, 1) := dk_42 (dk_at dksX11_sign_0 0 rfl rfl)
theorem dX11_sign_1 : decode cX11_sign 1 = .ok (.getfield 150, 3) := dk_180 0 150 (dk_at dksX11_sign_0 1 rfl rfl)
theorem dX11_sign_4 : decode cX11_sign 4 = .ok (.ifCond .eq 4, 3) := dk_153 0 4 (dk_at dksX11_sign_0 4 rfl rfl)
theorem dX11_sign_7 : decode cX11_sign 7 = .ok (.return_, 1) := dk_177 (dk_at dksX11_sign_0 7 rfl rfl)
theorem dX11_sign_8 : decode cX11_sign 8 = .ok (.aload_n 0, 1) := dk_42 (dk_at dksX11_sign_0 8 rfl rfl)
theorem dX11_sign_9 : decode cX11_sign 9 = .ok (.invokevirtual 156, 3) := dk_182 0 156 (dk_at dksX11_sign_0 9 rfl rfl)
theorem dX11_sign_12 : decode cX11_sign 12 = .ok (.aload_n 0, 1) := dk_42 (dk_at dksX11_sign_0 12 rfl rfl)
theorem dX11_sign_13 : decode cX11_sign 13 = .ok (.aload_n 0, 1) := dk_42 (dk_at dksX11_sign_0 13 rfl rfl)
theorem dX11_sign_14 : decode cX11_sign 14 = .ok (.getfield 143, 3) := dk_180 0 143 (dk_at dksX11_sign_0 14 rfl rfl)
theorem dX11_sign_17 : decode cX11_sign 17 = .ok (.invokevirtual 146, 3) := dk_182 0 146 (dk_at dksX11_sign_0 17 rfl rfl)
theorem dX11_sign_20 : decode cX11_sign 20 = .ok (.iload_n 1, 1) := dk_27 (dk_at dksX11_sign_0 20 rfl rfl)
theorem dX11_sign_21 : decode cX11_sign 21 = .ok (.if_icmp .ne 16, 3) := dk_160 0 16 (dk_at dksX11_sign_0 21 rfl rfl)
theorem dX11_sign_24 : decode cX11_sign 24 = .ok (.aload_n 0, 1) := dk_42 (dk_at dksX11_sign_1 0 rfl rfl)
theorem dX11_sign_25 : decode cX11_sign 25 = .ok (.dup, 1) := dk_89 (dk_at dksX11_sign_1 1 rfl rfl)
theorem dX11_sign_26 : decode cX11_sign 26 = .ok (.getfield 143, 3) := dk_180 0 143 (dk_at dksX11_sign_1 2 rfl rfl)
theorem dX11_sign_29 : decode cX11_sign 29 = .ok (.iconst 1, 1) := dk_4 (dk_at dksX11_sign_1 5 rfl rfl)
theorem dX11_sign_30 : decode cX11_sign 30 = .ok (.iadd, 1) := dk_96 (dk_at dksX11_sign_1 6 rfl rfl)
theorem dX11_sign_31 : decode cX11_sign 31 = .ok (.putfield 143, 3) := dk_181 0 143 (dk_at dksX11_sign_1 7 rfl rfl)
theorem dX11_sign_34 : decode cX11_sign 34 = .ok (.goto 12, 3) := dk_167 0 12 (dk_at dksX11_sign_1 10 rfl rfl)
theorem dX11_sign_37 : decode cX11_sign 37 = .ok (.aload_n 0, 1) := dk_42 (dk_at dksX11_sign_1 13 rfl rfl)
theorem dX11_sign_38 : decode cX11_sign 38 = .ok (.iconst 1, 1) := dk_4 (dk_at dksX11_sign_1 14 rfl rfl)
theorem dX11_sign_39 : decode cX11_sign 39 = .ok (.aload_n 0, 1) := dk_42 (dk_at dksX11_sign_1 15 rfl rfl)
theorem dX11_sign_40 : decode cX11_sign 40 = .ok (.getfield 143, 3) := dk_180 0 143 (dk_at dksX11_sign_1 16 rfl rfl)
theorem dX11_sign_43 : decode cX11_sign 43 = .ok (.invokevirtual 163, 3) := dk_182 0 163 (dk_at dksX11_sign_1 19 rfl rfl)
theorem dX11_sign_46 : decode cX11_sign 46 = .ok (.return_, 1) := dk_177 (dk_at dksX11_sign_1 22 rfl rfl)
abbrev cX11_ends : ByteArray := prog_22_method_26_code
def yX11_ends : MethodName := ⟨RX11, "ends", "()I"⟩
def dkwX11_ends_0 : List UInt8 := [42, 42, 180, 0, 153, 181, 0, 9, 42, 180, 0, 150, 16, 10, 100, 172]
abbrev dktX11_ends_0 : List UInt8 := dkwX11_ends_0 ++ []
theorem dksX11_ends_0 : cX11_ends.data.toList.drop 0 = dktX11_ends_0 := by decide +kernel
theorem dX11_ends_0 : decode cX11_ends 0 = .ok (.aload_n 0, 1) := dk_42 (dk_at dksX11_ends_0 0 rfl rfl)
theorem dX11_ends_1 : decode cX11_ends 1 = .ok (.aload_n 0, 1) := dk_42 (dk_at dksX11_ends_0 1 rfl rfl)
theorem dX11_ends_2 : decode cX11_ends 2 = .ok (.getfield 153, 3) := dk_180 0 153 (dk_at dksX11_ends_0 2 rfl rfl)
theorem dX11_ends_5 : decode cX11_ends 5 = .ok (.putfield 9, 3) := dk_181 0 9 (dk_at dksX11_ends_0 5 rfl rfl)
theorem dX11_ends_8 : decode cX11_ends 8 = .ok (.aload_n 0, 1) := dk_42 (dk_at dksX11_ends_0 8 rfl rfl)
theorem dX11_ends_9 : decode cX11_ends 9 = .ok (.getfield 150, 3) := dk_180 0 150 (dk_at dksX11_ends_0 9 rfl rfl)
theorem dX11_ends_12 : decode cX11_ends 12 = .ok (.bipush 10, 2) := dk_16 10 (dk_at dksX11_ends_0 12 rfl rfl)
theorem dX11_ends_14 : decode cX11_ends 14 = .ok (.isub, 1) := dk_100 (dk_at dksX11_ends_0 14 rfl rfl)
theorem dX11_ends_15 : decode cX11_ends 15 = .ok (.ireturn, 1) := dk_172 (dk_at dksX11_ends_0 15 rfl rfl)
abbrev cX11_law : ByteArray := prog_22_method_47_code
def yX11_law : MethodName := ⟨RX11, "law", "(I)I"⟩
def dkwX11_law_5 : List UInt8 := [180, 0, 70, 42, 180, 1, 14, 184, 1, 6, 42, 182, 1, 23, 4, 172]
abbrev dktX11_law_5 : List UInt8 := dkwX11_law_5 ++ []
def dkwX11_law_4 : List UInt8 := [182, 1, 3, 172, 42, 2, 181, 0, 9, 42, 42, 180, 1, 29, 181, 1, 14, 42, 180, 0, 73, 42]
abbrev dktX11_law_4 : List UInt8 := dkwX11_law_4 ++ dktX11_law_5
def dkwX11_law_3 : List UInt8 := [180, 0, 140, 162, 0, 12, 42, 4, 42, 180, 0, 143, 182, 0, 163, 42, 180, 0, 150, 153, 0, 8, 42]
abbrev dktX11_law_3 : List UInt8 := dkwX11_law_3 ++ dktX11_law_4
def dkwX11_law_2 : List UInt8 := [3, 181, 1, 29, 42, 182, 1, 51, 42, 182, 0, 156, 42, 180, 0, 150, 154, 0, 23, 42, 180, 0, 143, 42]
abbrev dktX11_law_2 : List UInt8 := dkwX11_law_2 ++ dktX11_law_3
def dkwX11_law_1 : List UInt8 := [164, 0, 7, 4, 167, 0, 4, 3, 4, 4, 182, 0, 249, 153, 0, 5, 3, 172, 42, 27, 182, 0, 253, 42]
abbrev dktX11_law_1 : List UInt8 := dkwX11_law_1 ++ dktX11_law_2
def dkwX11_law_0 : List UInt8 := [42, 3, 181, 0, 134, 42, 27, 3, 42, 180, 0, 137, 184, 0, 168, 153, 0, 10, 27, 17, 0, 150]
abbrev dktX11_law_0 : List UInt8 := dkwX11_law_0 ++ dktX11_law_1
theorem dksX11_law_0 : cX11_law.data.toList.drop 0 = dktX11_law_0 := by decide +kernel
theorem dksX11_law_1 : cX11_law.data.toList.drop 22 = dktX11_law_1 := dk_seg dksX11_law_0 22 rfl rfl
theorem dksX11_law_2 : cX11_law.data.toList.drop 46 = dktX11_law_2 := dk_seg dksX11_law_1 24 rfl rfl
theorem dksX11_law_3 : cX11_law.data.toList.drop 70 = dktX11_law_3 := dk_seg dksX11_law_2 24 rfl rfl
theorem dksX11_law_4 : cX11_law.data.toList.drop 93 = dktX11_law_4 := dk_seg dksX11_law_3 23 rfl rfl
theorem dksX11_law_5 : cX11_law.data.toList.drop 115 = dktX11_law_5 := dk_seg dksX11_law_4 22 rfl rfl
theorem dX11_law_0 : decode cX11_law 0 = .ok (.aload_n 0, 1) := dk_42 (dk_at dksX11_law_0 0 rfl rfl)
theorem dX11_law_1 : decode cX11_law 1 = .ok (.iconst 0, 1) := dk_3 (dk_at dksX11_law_0 1 rfl rfl)
theorem dX11_law_2 : decode cX11_law 2 = .ok (.putfield 134, 3) := dk_181 0 134 (dk_at dksX11_law_0 2 rfl rfl)
theorem dX11_law_5 : decode cX11_law 5 = .ok (.aload_n 0, 1) := dk_42 (dk_at dksX11_law_0 5 rfl rfl)
theorem dX11_law_6 : decode cX11_law 6 = .ok (.iload_n 1, 1) := dk_27 (dk_at dksX11_law_0 6 rfl rfl)
theorem dX11_law_7 : decode cX11_law 7 = .ok (.iconst 0, 1) := dk_3 (dk_at dksX11_law_0 7 rfl rfl)
theorem dX11_law_8 : decode cX11_law 8 = .ok (.aload_n 0, 1) := dk_42 (dk_at dksX11_law_0 8 rfl rfl)
theorem dX11_law_9 : decode cX11_law 9 = .ok (.getfield 137, 3) := dk_180 0 137 (dk_at dksX11_law_0 9 rfl rfl)
theorem dX11_law_12 : decode cX11_law 12 = .ok (.invokestatic 168, 3) := dk_184 0 168 (dk_at dksX11_law_0 12 rfl rfl)
theorem dX11_law_15 : decode cX11_law 15 = .ok (.ifCond .eq 10, 3) := dk_153 0 10 (dk_at dksX11_law_0 15 rfl rfl)
theorem dX11_law_18 : decode cX11_law 18 = .ok (.iload_n 1, 1) := dk_27 (dk_at dksX11_law_0 18 rfl rfl)
theorem dX11_law_19 : decode cX11_law 19 = .ok (.sipush 150, 3) := dk_17 0 150 (dk_at dksX11_law_0 19 rfl rfl)
theorem dX11_law_22 : decode cX11_law 22 = .ok (.if_icmp .le 7, 3) := dk_164 0 7 (dk_at dksX11_law_1 0 rfl rfl)
theorem dX11_law_25 : decode cX11_law 25 = .ok (.iconst 1, 1) := dk_4 (dk_at dksX11_law_1 3 rfl rfl)
theorem dX11_law_26 : decode cX11_law 26 = .ok (.goto 4, 3) := dk_167 0 4 (dk_at dksX11_law_1 4 rfl rfl)
theorem dX11_law_29 : decode cX11_law 29 = .ok (.iconst 0, 1) := dk_3 (dk_at dksX11_law_1 7 rfl rfl)
theorem dX11_law_30 : decode cX11_law 30 = .ok (.iconst 1, 1) := dk_4 (dk_at dksX11_law_1 8 rfl rfl)
theorem dX11_law_31 : decode cX11_law 31 = .ok (.iconst 1, 1) := dk_4 (dk_at dksX11_law_1 9 rfl rfl)
theorem dX11_law_32 : decode cX11_law 32 = .ok (.invokevirtual 249, 3) := dk_182 0 249 (dk_at dksX11_law_1 10 rfl rfl)
theorem dX11_law_35 : decode cX11_law 35 = .ok (.ifCond .eq 5, 3) := dk_153 0 5 (dk_at dksX11_law_1 13 rfl rfl)
theorem dX11_law_38 : decode cX11_law 38 = .ok (.iconst 0, 1) := dk_3 (dk_at dksX11_law_1 16 rfl rfl)
theorem dX11_law_39 : decode cX11_law 39 = .ok (.ireturn, 1) := dk_172 (dk_at dksX11_law_1 17 rfl rfl)
theorem dX11_law_40 : decode cX11_law 40 = .ok (.aload_n 0, 1) := dk_42 (dk_at dksX11_law_1 18 rfl rfl)
theorem dX11_law_41 : decode cX11_law 41 = .ok (.iload_n 1, 1) := dk_27 (dk_at dksX11_law_1 19 rfl rfl)
theorem dX11_law_42 : decode cX11_law 42 = .ok (.invokevirtual 253, 3) := dk_182 0 253 (dk_at dksX11_law_1 20 rfl rfl)
theorem dX11_law_45 : decode cX11_law 45 = .ok (.aload_n 0, 1) := dk_42 (dk_at dksX11_law_1 23 rfl rfl)
theorem dX11_law_46 : decode cX11_law 46 = .ok (.iconst 0, 1) := dk_3 (dk_at dksX11_law_2 0 rfl rfl)
theorem dX11_law_47 : decode cX11_law 47 = .ok (.putfield 285, 3) := dk_181 1 29 (dk_at dksX11_law_2 1 rfl rfl)
theorem dX11_law_50 : decode cX11_law 50 = .ok (.aload_n 0, 1) := dk_42 (dk_at dksX11_law_2 4 rfl rfl)
theorem dX11_law_51 : decode cX11_law 51 = .ok (.invokevirtual 307, 3) := dk_182 1 51 (dk_at dksX11_law_2 5 rfl rfl)
theorem dX11_law_54 : decode cX11_law 54 = .ok (.aload_n 0, 1) := dk_42 (dk_at dksX11_law_2 8 rfl rfl)
theorem dX11_law_55 : decode cX11_law 55 = .ok (.invokevirtual 156, 3) := dk_182 0 156 (dk_at dksX11_law_2 9 rfl rfl)
theorem dX11_law_58 : decode cX11_law 58 = .ok (.aload_n 0, 1) := dk_42 (dk_at dksX11_law_2 12 rfl rfl)
theorem dX11_law_59 : decode cX11_law 59 = .ok (.getfield 150, 3) := dk_180 0 150 (dk_at dksX11_law_2 13 rfl rfl)
theorem dX11_law_62 : decode cX11_law 62 = .ok (.ifCond .ne 23, 3) := dk_154 0 23 (dk_at dksX11_law_2 16 rfl rfl)
theorem dX11_law_65 : decode cX11_law 65 = .ok (.aload_n 0, 1) := dk_42 (dk_at dksX11_law_2 19 rfl rfl)
theorem dX11_law_66 : decode cX11_law 66 = .ok (.getfield 143, 3) := dk_180 0 143 (dk_at dksX11_law_2 20 rfl rfl)
theorem dX11_law_69 : decode cX11_law 69 = .ok (.aload_n 0, 1) := dk_42 (dk_at dksX11_law_2 23 rfl rfl)
theorem dX11_law_70 : decode cX11_law 70 = .ok (.getfield 140, 3) := dk_180 0 140 (dk_at dksX11_law_3 0 rfl rfl)
theorem dX11_law_73 : decode cX11_law 73 = .ok (.if_icmp .ge 12, 3) := dk_162 0 12 (dk_at dksX11_law_3 3 rfl rfl)
theorem dX11_law_76 : decode cX11_law 76 = .ok (.aload_n 0, 1) := dk_42 (dk_at dksX11_law_3 6 rfl rfl)
theorem dX11_law_77 : decode cX11_law 77 = .ok (.iconst 1, 1) := dk_4 (dk_at dksX11_law_3 7 rfl rfl)
theorem dX11_law_78 : decode cX11_law 78 = .ok (.aload_n 0, 1) := dk_42 (dk_at dksX11_law_3 8 rfl rfl)
theorem dX11_law_79 : decode cX11_law 79 = .ok (.getfield 143, 3) := dk_180 0 143 (dk_at dksX11_law_3 9 rfl rfl)
theorem dX11_law_82 : decode cX11_law 82 = .ok (.invokevirtual 163, 3) := dk_182 0 163 (dk_at dksX11_law_3 12 rfl rfl)
theorem dX11_law_85 : decode cX11_law 85 = .ok (.aload_n 0, 1) := dk_42 (dk_at dksX11_law_3 15 rfl rfl)
theorem dX11_law_86 : decode cX11_law 86 = .ok (.getfield 150, 3) := dk_180 0 150 (dk_at dksX11_law_3 16 rfl rfl)
theorem dX11_law_89 : decode cX11_law 89 = .ok (.ifCond .eq 8, 3) := dk_153 0 8 (dk_at dksX11_law_3 19 rfl rfl)
theorem dX11_law_92 : decode cX11_law 92 = .ok (.aload_n 0, 1) := dk_42 (dk_at dksX11_law_3 22 rfl rfl)
theorem dX11_law_93 : decode cX11_law 93 = .ok (.invokevirtual 259, 3) := dk_182 1 3 (dk_at dksX11_law_4 0 rfl rfl)
theorem dX11_law_96 : decode cX11_law 96 = .ok (.ireturn, 1) := dk_172 (dk_at dksX11_law_4 3 rfl rfl)
theorem dX11_law_97 : decode cX11_law 97 = .ok (.aload_n 0, 1) := dk_42 (dk_at dksX11_law_4 4 rfl rfl)
theorem dX11_law_98 : decode cX11_law 98 = .ok (.iconst (-1), 1) := dk_2 (dk_at dksX11_law_4 5 rfl rfl)
theorem dX11_law_99 : decode cX11_law 99 = .ok (.putfield 9, 3) := dk_181 0 9 (dk_at dksX11_law_4 6 rfl rfl)
theorem dX11_law_102 : decode cX11_law 102 = .ok (.aload_n 0, 1) := dk_42 (dk_at dksX11_law_4 9 rfl rfl)
theorem dX11_law_103 : decode cX11_law 103 = .ok (.aload_n 0, 1) := dk_42 (dk_at dksX11_law_4 10 rfl rfl)
theorem dX11_law_104 : decode cX11_law 104 = .ok (.getfield 285, 3) := dk_180 1 29 (dk_at dksX11_law_4 11 rfl rfl)
theorem dX11_law_107 : decode cX11_law 107 = .ok (.putfield 270, 3) := dk_181 1 14 (dk_at dksX11_law_4 14 rfl rfl)
theorem dX11_law_110 : decode cX11_law 110 = .ok (.aload_n 0, 1) := dk_42 (dk_at dksX11_law_4 17 rfl rfl)
theorem dX11_law_111 : decode cX11_law 111 = .ok (.getfield 73, 3) := dk_180 0 73 (dk_at dksX11_law_4 18 rfl rfl)
theorem dX11_law_114 : decode cX11_law 114 = .ok (.aload_n 0, 1) := dk_42 (dk_at dksX11_law_4 21 rfl rfl)
theorem dX11_law_115 : decode cX11_law 115 = .ok (.getfield 70, 3) := dk_180 0 70 (dk_at dksX11_law_5 0 rfl rfl)
theorem dX11_law_118 : decode cX11_law 118 = .ok (.aload_n 0, 1) := dk_42 (dk_at dksX11_law_5 3 rfl rfl)
theorem dX11_law_119 : decode cX11_law 119 = .ok (.getfield 270, 3) := dk_180 1 14 (dk_at dksX11_law_5 4 rfl rfl)
theorem dX11_law_122 : decode cX11_law 122 = .ok (.invokestatic 262, 3) := dk_184 1 6 (dk_at dksX11_law_5 7 rfl rfl)
theorem dX11_law_125 : decode cX11_law 125 = .ok (.aload_n 0, 1) := dk_42 (dk_at dksX11_law_5 10 rfl rfl)
theorem dX11_law_126 : decode cX11_law 126 = .ok (.invokevirtual 279, 3) := dk_182 1 23 (dk_at dksX11_law_5 11 rfl rfl)
theorem dX11_law_129 : decode cX11_law 129 = .ok (.iconst 1, 1) := dk_4 (dk_at dksX11_law_5 14 rfl rfl)
theorem dX11_law_130 : decode cX11_law 130 = .ok (.ireturn, 1) := dk_172 (dk_at dksX11_law_5 15 rfl rfl)
abbrev cX11_sum : ByteArray := prog_22_method_43_code
def yX11_sum : MethodName := ⟨RX11, "sum", "()V"⟩
def dkwX11_sum_2 : List UInt8 := [182, 1, 32, 42, 27, 3, 182, 1, 38, 167, 255, 205, 177]
abbrev dktX11_sum_2 : List UInt8 := dkwX11_sum_2 ++ []
def dkwX11_sum_1 : List UInt8 := [42, 16, 45, 182, 1, 35, 153, 0, 7, 6, 167, 0, 4, 2, 60, 27, 2, 160, 0, 4, 177, 42]
abbrev dktX11_sum_1 : List UInt8 := dkwX11_sum_1 ++ dktX11_sum_2
def dkwX11_sum_0 : List UInt8 := [42, 182, 1, 32, 42, 180, 0, 150, 154, 0, 50, 42, 16, 43, 182, 1, 35, 153, 0, 7, 5, 167, 0, 17]
abbrev dktX11_sum_0 : List UInt8 := dkwX11_sum_0 ++ dktX11_sum_1
theorem dksX11_sum_0 : cX11_sum.data.toList.drop 0 = dktX11_sum_0 := by decide +kernel
theorem dksX11_sum_1 : cX11_sum.data.toList.drop 24 = dktX11_sum_1 := dk_seg dksX11_sum_0 24 rfl rfl
theorem dksX11_sum_2 : cX11_sum.data.toList.drop 46 = dktX11_sum_2 := dk_seg dksX11_sum_1 22 rfl rfl
theorem dX11_sum_0 : decode cX11_sum 0 = .ok (.aload_n 0, 1) := dk_42 (dk_at dksX11_sum_0 0 rfl rfl)
theorem dX11_sum_1 : decode cX11_sum 1 = .ok (.invokevirtual 288, 3) := dk_182 1 32 (dk_at dksX11_sum_0 1 rfl rfl)
theorem dX11_sum_4 : decode cX11_sum 4 = .ok (.aload_n 0, 1) := dk_42 (dk_at dksX11_sum_0 4 rfl rfl)
theorem dX11_sum_5 : decode cX11_sum 5 = .ok (.getfield 150, 3) := dk_180 0 150 (dk_at dksX11_sum_0 5 rfl rfl)
theorem dX11_sum_8 : decode cX11_sum 8 = .ok (.ifCond .ne 50, 3) := dk_154 0 50 (dk_at dksX11_sum_0 8 rfl rfl)
theorem dX11_sum_11 : decode cX11_sum 11 = .ok (.aload_n 0, 1) := dk_42 (dk_at dksX11_sum_0 11 rfl rfl)
theorem dX11_sum_12 : decode cX11_sum 12 = .ok (.bipush 43, 2) := dk_16 43 (dk_at dksX11_sum_0 12 rfl rfl)
theorem dX11_sum_14 : decode cX11_sum 14 = .ok (.invokevirtual 291, 3) := dk_182 1 35 (dk_at dksX11_sum_0 14 rfl rfl)
theorem dX11_sum_17 : decode cX11_sum 17 = .ok (.ifCond .eq 7, 3) := dk_153 0 7 (dk_at dksX11_sum_0 17 rfl rfl)
theorem dX11_sum_20 : decode cX11_sum 20 = .ok (.iconst 2, 1) := dk_5 (dk_at dksX11_sum_0 20 rfl rfl)
theorem dX11_sum_21 : decode cX11_sum 21 = .ok (.goto 17, 3) := dk_167 0 17 (dk_at dksX11_sum_0 21 rfl rfl)
theorem dX11_sum_24 : decode cX11_sum 24 = .ok (.aload_n 0, 1) := dk_42 (dk_at dksX11_sum_1 0 rfl rfl)
theorem dX11_sum_25 : decode cX11_sum 25 = .ok (.bipush 45, 2) := dk_16 45 (dk_at dksX11_sum_1 1 rfl rfl)
theorem dX11_sum_27 : decode cX11_sum 27 = .ok (.invokevirtual 291, 3) := dk_182 1 35 (dk_at dksX11_sum_1 3 rfl rfl)
theorem dX11_sum_30 : decode cX11_sum 30 = .ok (.ifCond .eq 7, 3) := dk_153 0 7 (dk_at dksX11_sum_1 6 rfl rfl)
theorem dX11_sum_33 : decode cX11_sum 33 = .ok (.iconst 3, 1) := dk_6 (dk_at dksX11_sum_1 9 rfl rfl)
theorem dX11_sum_34 : decode cX11_sum 34 = .ok (.goto 4, 3) := dk_167 0 4 (dk_at dksX11_sum_1 10 rfl rfl)
theorem dX11_sum_37 : decode cX11_sum 37 = .ok (.iconst (-1), 1) := dk_2 (dk_at dksX11_sum_1 13 rfl rfl)
theorem dX11_sum_38 : decode cX11_sum 38 = .ok (.istore_n 1, 1) := dk_60 (dk_at dksX11_sum_1 14 rfl rfl)
theorem dX11_sum_39 : decode cX11_sum 39 = .ok (.iload_n 1, 1) := dk_27 (dk_at dksX11_sum_1 15 rfl rfl)
theorem dX11_sum_40 : decode cX11_sum 40 = .ok (.iconst (-1), 1) := dk_2 (dk_at dksX11_sum_1 16 rfl rfl)
theorem dX11_sum_41 : decode cX11_sum 41 = .ok (.if_icmp .ne 4, 3) := dk_160 0 4 (dk_at dksX11_sum_1 17 rfl rfl)
theorem dX11_sum_44 : decode cX11_sum 44 = .ok (.return_, 1) := dk_177 (dk_at dksX11_sum_1 20 rfl rfl)
theorem dX11_sum_45 : decode cX11_sum 45 = .ok (.aload_n 0, 1) := dk_42 (dk_at dksX11_sum_1 21 rfl rfl)
theorem dX11_sum_46 : decode cX11_sum 46 = .ok (.invokevirtual 288, 3) := dk_182 1 32 (dk_at dksX11_sum_2 0 rfl rfl)
theorem dX11_sum_49 : decode cX11_sum 49 = .ok (.aload_n 0, 1) := dk_42 (dk_at dksX11_sum_2 3 rfl rfl)
theorem dX11_sum_50 : decode cX11_sum 50 = .ok (.iload_n 1, 1) := dk_27 (dk_at dksX11_sum_2 4 rfl rfl)
theorem dX11_sum_51 : decode cX11_sum 51 = .ok (.iconst 0, 1) := dk_3 (dk_at dksX11_sum_2 5 rfl rfl)
theorem dX11_sum_52 : decode cX11_sum 52 = .ok (.invokevirtual 294, 3) := dk_182 1 38 (dk_at dksX11_sum_2 6 rfl rfl)
theorem dX11_sum_55 : decode cX11_sum 55 = .ok (.goto (-51), 3) := dk_167 255 205 (dk_at dksX11_sum_2 9 rfl rfl)
theorem dX11_sum_58 : decode cX11_sum 58 = .ok (.return_, 1) := dk_177 (dk_at dksX11_sum_2 12 rfl rfl)
abbrev cX11_product : ByteArray := prog_22_method_44_code
def yX11_product : MethodName := ⟨RX11, "product", "()V"⟩
def dkwX11_product_3 : List UInt8 := [177]
abbrev dktX11_product_3 : List UInt8 := dkwX11_product_3 ++ []
def dkwX11_product_2 : List UInt8 := [167, 0, 4, 2, 60, 27, 2, 160, 0, 4, 177, 42, 182, 1, 41, 42, 27, 3, 182, 1, 38, 167, 255, 191]
abbrev dktX11_product_2 : List UInt8 := dkwX11_product_2 ++ dktX11_product_3
def dkwX11_product_1 : List UInt8 := [42, 16, 47, 182, 1, 35, 153, 0, 7, 8, 167, 0, 18, 42, 16, 37, 182, 1, 35, 153, 0, 8, 16, 6]
abbrev dktX11_product_1 : List UInt8 := dkwX11_product_1 ++ dktX11_product_2
def dkwX11_product_0 : List UInt8 := [42, 182, 1, 41, 42, 180, 0, 150, 154, 0, 64, 42, 16, 42, 182, 1, 35, 153, 0, 7, 7, 167, 0, 31]
abbrev dktX11_product_0 : List UInt8 := dkwX11_product_0 ++ dktX11_product_1
theorem dksX11_product_0 : cX11_product.data.toList.drop 0 = dktX11_product_0 := by decide +kernel
theorem dksX11_product_1 : cX11_product.data.toList.drop 24 = dktX11_product_1 := dk_seg dksX11_product_0 24 rfl rfl
theorem dksX11_product_2 : cX11_product.data.toList.drop 48 = dktX11_product_2 := dk_seg dksX11_product_1 24 rfl rfl
theorem dksX11_product_3 : cX11_product.data.toList.drop 72 = dktX11_product_3 := dk_seg dksX11_product_2 24 rfl rfl
theorem dX11_product_0 : decode cX11_product 0 = .ok (.aload_n 0, 1) := dk_42 (dk_at dksX11_product_0 0 rfl rfl)
theorem dX11_product_1 : decode cX11_product 1 = .ok (.invokevirtual 297, 3) := dk_182 1 41 (dk_at dksX11_product_0 1 rfl rfl)
theorem dX11_product_4 : decode cX11_product 4 = .ok (.aload_n 0, 1) := dk_42 (dk_at dksX11_product_0 4 rfl rfl)
theorem dX11_product_5 : decode cX11_product 5 = .ok (.getfield 150, 3) := dk_180 0 150 (dk_at dksX11_product_0 5 rfl rfl)
theorem dX11_product_8 : decode cX11_product 8 = .ok (.ifCond .ne 64, 3) := dk_154 0 64 (dk_at dksX11_product_0 8 rfl rfl)
theorem dX11_product_11 : decode cX11_product 11 = .ok (.aload_n 0, 1) := dk_42 (dk_at dksX11_product_0 11 rfl rfl)
theorem dX11_product_12 : decode cX11_product 12 = .ok (.bipush 42, 2) := dk_16 42 (dk_at dksX11_product_0 12 rfl rfl)
theorem dX11_product_14 : decode cX11_product 14 = .ok (.invokevirtual 291, 3) := dk_182 1 35 (dk_at dksX11_product_0 14 rfl rfl)
theorem dX11_product_17 : decode cX11_product 17 = .ok (.ifCond .eq 7, 3) := dk_153 0 7 (dk_at dksX11_product_0 17 rfl rfl)
theorem dX11_product_20 : decode cX11_product 20 = .ok (.iconst 4, 1) := dk_7 (dk_at dksX11_product_0 20 rfl rfl)
theorem dX11_product_21 : decode cX11_product 21 = .ok (.goto 31, 3) := dk_167 0 31 (dk_at dksX11_product_0 21 rfl rfl)
theorem dX11_product_24 : decode cX11_product 24 = .ok (.aload_n 0, 1) := dk_42 (dk_at dksX11_product_1 0 rfl rfl)
theorem dX11_product_25 : decode cX11_product 25 = .ok (.bipush 47, 2) := dk_16 47 (dk_at dksX11_product_1 1 rfl rfl)
theorem dX11_product_27 : decode cX11_product 27 = .ok (.invokevirtual 291, 3) := dk_182 1 35 (dk_at dksX11_product_1 3 rfl rfl)
theorem dX11_product_30 : decode cX11_product 30 = .ok (.ifCond .eq 7, 3) := dk_153 0 7 (dk_at dksX11_product_1 6 rfl rfl)
theorem dX11_product_33 : decode cX11_product 33 = .ok (.iconst 5, 1) := dk_8 (dk_at dksX11_product_1 9 rfl rfl)
theorem dX11_product_34 : decode cX11_product 34 = .ok (.goto 18, 3) := dk_167 0 18 (dk_at dksX11_product_1 10 rfl rfl)
theorem dX11_product_37 : decode cX11_product 37 = .ok (.aload_n 0, 1) := dk_42 (dk_at dksX11_product_1 13 rfl rfl)
theorem dX11_product_38 : decode cX11_product 38 = .ok (.bipush 37, 2) := dk_16 37 (dk_at dksX11_product_1 14 rfl rfl)
theorem dX11_product_40 : decode cX11_product 40 = .ok (.invokevirtual 291, 3) := dk_182 1 35 (dk_at dksX11_product_1 16 rfl rfl)
theorem dX11_product_43 : decode cX11_product 43 = .ok (.ifCond .eq 8, 3) := dk_153 0 8 (dk_at dksX11_product_1 19 rfl rfl)
theorem dX11_product_46 : decode cX11_product 46 = .ok (.bipush 6, 2) := dk_16 6 (dk_at dksX11_product_1 22 rfl rfl)
theorem dX11_product_48 : decode cX11_product 48 = .ok (.goto 4, 3) := dk_167 0 4 (dk_at dksX11_product_2 0 rfl rfl)
theorem dX11_product_51 : decode cX11_product 51 = .ok (.iconst (-1), 1) := dk_2 (dk_at dksX11_product_2 3 rfl rfl)
theorem dX11_product_52 : decode cX11_product 52 = .ok (.istore_n 1, 1) := dk_60 (dk_at dksX11_product_2 4 rfl rfl)
theorem dX11_product_53 : decode cX11_product 53 = .ok (.iload_n 1, 1) := dk_27 (dk_at dksX11_product_2 5 rfl rfl)
theorem dX11_product_54 : decode cX11_product 54 = .ok (.iconst (-1), 1) := dk_2 (dk_at dksX11_product_2 6 rfl rfl)
theorem dX11_product_55 : decode cX11_product 55 = .ok (.if_icmp .ne 4, 3) := dk_160 0 4 (dk_at dksX11_product_2 7 rfl rfl)
theorem dX11_product_58 : decode cX11_product 58 = .ok (.return_, 1) := dk_177 (dk_at dksX11_product_2 10 rfl rfl)
theorem dX11_product_59 : decode cX11_product 59 = .ok (.aload_n 0, 1) := dk_42 (dk_at dksX11_product_2 11 rfl rfl)
theorem dX11_product_60 : decode cX11_product 60 = .ok (.invokevirtual 297, 3) := dk_182 1 41 (dk_at dksX11_product_2 12 rfl rfl)
theorem dX11_product_63 : decode cX11_product 63 = .ok (.aload_n 0, 1) := dk_42 (dk_at dksX11_product_2 15 rfl rfl)
theorem dX11_product_64 : decode cX11_product 64 = .ok (.iload_n 1, 1) := dk_27 (dk_at dksX11_product_2 16 rfl rfl)
theorem dX11_product_65 : decode cX11_product 65 = .ok (.iconst 0, 1) := dk_3 (dk_at dksX11_product_2 17 rfl rfl)
theorem dX11_product_66 : decode cX11_product 66 = .ok (.invokevirtual 294, 3) := dk_182 1 38 (dk_at dksX11_product_2 18 rfl rfl)
theorem dX11_product_69 : decode cX11_product 69 = .ok (.goto (-65), 3) := dk_167 255 191 (dk_at dksX11_product_2 21 rfl rfl)
theorem dX11_product_72 : decode cX11_product 72 = .ok (.return_, 1) := dk_177 (dk_at dksX11_product_3 0 rfl rfl)
abbrev cX11_one : ByteArray := prog_22_method_46_code
def yX11_one : MethodName := ⟨RX11, "one", "()V"⟩
def dkwX11_one_8 : List UInt8 := [182, 1, 38, 167, 0, 16, 42, 3, 42, 3, 17, 3, 231, 182, 0, 202, 182, 1, 38, 177]
abbrev dktX11_one_8 : List UInt8 := dkwX11_one_8 ++ []
def dkwX11_one_7 : List UInt8 := [180, 0, 199, 4, 100, 181, 0, 199, 177, 42, 182, 1, 54, 61, 28, 2, 159, 0, 12, 42, 4, 28]
abbrev dktX11_one_7 : List UInt8 := dkwX11_one_7 ++ dktX11_one_8
def dkwX11_one_6 : List UInt8 := [177, 42, 89, 180, 0, 143, 4, 96, 181, 0, 143, 42, 182, 1, 51, 42, 16, 41, 182, 0, 232, 42, 89]
abbrev dktX11_one_6 : List UInt8 := dkwX11_one_6 ++ dktX11_one_7
def dkwX11_one_5 : List UInt8 := [181, 0, 199, 177, 42, 42, 180, 0, 143, 182, 0, 146, 16, 40, 160, 0, 42, 42, 182, 1, 47, 154, 0, 4]
abbrev dktX11_one_5 : List UInt8 := dkwX11_one_5 ++ dktX11_one_6
def dkwX11_one_4 : List UInt8 := [42, 182, 1, 51, 42, 16, 93, 182, 0, 232, 42, 27, 3, 182, 1, 38, 42, 89, 180, 0, 199, 4, 100]
abbrev dktX11_one_4 : List UInt8 := dkwX11_one_4 ++ dktX11_one_5
def dkwX11_one_3 : List UInt8 := [154, 0, 4, 177, 42, 182, 0, 193, 42, 16, 91, 182, 0, 232, 42, 182, 1, 51, 42, 16, 44, 182, 0, 232]
abbrev dktX11_one_3 : List UInt8 := dkwX11_one_3 ++ dktX11_one_4
def dkwX11_one_2 : List UInt8 := [182, 0, 189, 153, 0, 8, 16, 8, 167, 0, 4, 2, 60, 27, 2, 159, 0, 58, 42, 182, 1, 47]
abbrev dktX11_one_2 : List UInt8 := dkwX11_one_2 ++ dktX11_one_3
def dkwX11_one_1 : List UInt8 := [182, 0, 189, 153, 0, 8, 16, 7, 167, 0, 27, 42, 16, 13, 16, 15, 16, 19, 16, 20, 3, 3, 3]
abbrev dktX11_one_1 : List UInt8 := dkwX11_one_1 ++ dktX11_one_2
def dkwX11_one_0 : List UInt8 := [42, 180, 0, 150, 153, 0, 4, 177, 42, 182, 0, 156, 42, 16, 12, 8, 4, 16, 19, 16, 20, 3, 3]
abbrev dktX11_one_0 : List UInt8 := dkwX11_one_0 ++ dktX11_one_1
theorem dksX11_one_0 : cX11_one.data.toList.drop 0 = dktX11_one_0 := by decide +kernel
theorem dksX11_one_1 : cX11_one.data.toList.drop 23 = dktX11_one_1 := dk_seg dksX11_one_0 23 rfl rfl
theorem dksX11_one_2 : cX11_one.data.toList.drop 46 = dktX11_one_2 := dk_seg dksX11_one_1 23 rfl rfl
theorem dksX11_one_3 : cX11_one.data.toList.drop 68 = dktX11_one_3 := dk_seg dksX11_one_2 22 rfl rfl
theorem dksX11_one_4 : cX11_one.data.toList.drop 92 = dktX11_one_4 := dk_seg dksX11_one_3 24 rfl rfl
theorem dksX11_one_5 : cX11_one.data.toList.drop 115 = dktX11_one_5 := dk_seg dksX11_one_4 23 rfl rfl
theorem dksX11_one_6 : cX11_one.data.toList.drop 139 = dktX11_one_6 := dk_seg dksX11_one_5 24 rfl rfl
theorem dksX11_one_7 : cX11_one.data.toList.drop 162 = dktX11_one_7 := dk_seg dksX11_one_6 23 rfl rfl
theorem dksX11_one_8 : cX11_one.data.toList.drop 184 = dktX11_one_8 := dk_seg dksX11_one_7 22 rfl rfl
theorem dX11_one_0 : decode cX11_one 0 = .ok (.aload_n 0, 1) := dk_42 (dk_at dksX11_one_0 0 rfl rfl)
theorem dX11_one_1 : decode cX11_one 1 = .ok (.getfield 150, 3) := dk_180 0 150 (dk_at dksX11_one_0 1 rfl rfl)
theorem dX11_one_4 : decode cX11_one 4 = .ok (.ifCond .eq 4, 3) := dk_153 0 4 (dk_at dksX11_one_0 4 rfl rfl)
theorem dX11_one_7 : decode cX11_one 7 = .ok (.return_, 1) := dk_177 (dk_at dksX11_one_0 7 rfl rfl)
theorem dX11_one_8 : decode cX11_one 8 = .ok (.aload_n 0, 1) := dk_42 (dk_at dksX11_one_0 8 rfl rfl)
theorem dX11_one_9 : decode cX11_one 9 = .ok (.invokevirtual 156, 3) := dk_182 0 156 (dk_at dksX11_one_0 9 rfl rfl)
theorem dX11_one_12 : decode cX11_one 12 = .ok (.aload_n 0, 1) := dk_42 (dk_at dksX11_one_0 12 rfl rfl)
theorem dX11_one_13 : decode cX11_one 13 = .ok (.bipush 12, 2) := dk_16 12 (dk_at dksX11_one_0 13 rfl rfl)
theorem dX11_one_15 : decode cX11_one 15 = .ok (.iconst 5, 1) := dk_8 (dk_at dksX11_one_0 15 rfl rfl)
theorem dX11_one_16 : decode cX11_one 16 = .ok (.iconst 1, 1) := dk_4 (dk_at dksX11_one_0 16 rfl rfl)
theorem dX11_one_17 : decode cX11_one 17 = .ok (.bipush 19, 2) := dk_16 19 (dk_at dksX11_one_0 17 rfl rfl)
theorem dX11_one_19 : decode cX11_one 19 = .ok (.bipush 20, 2) := dk_16 20 (dk_at dksX11_one_0 19 rfl rfl)
theorem dX11_one_21 : decode cX11_one 21 = .ok (.iconst 0, 1) := dk_3 (dk_at dksX11_one_0 21 rfl rfl)
theorem dX11_one_22 : decode cX11_one 22 = .ok (.iconst 0, 1) := dk_3 (dk_at dksX11_one_0 22 rfl rfl)
theorem dX11_one_23 : decode cX11_one 23 = .ok (.invokevirtual 189, 3) := dk_182 0 189 (dk_at dksX11_one_1 0 rfl rfl)
theorem dX11_one_26 : decode cX11_one 26 = .ok (.ifCond .eq 8, 3) := dk_153 0 8 (dk_at dksX11_one_1 3 rfl rfl)
theorem dX11_one_29 : decode cX11_one 29 = .ok (.bipush 7, 2) := dk_16 7 (dk_at dksX11_one_1 6 rfl rfl)
theorem dX11_one_31 : decode cX11_one 31 = .ok (.goto 27, 3) := dk_167 0 27 (dk_at dksX11_one_1 8 rfl rfl)
theorem dX11_one_34 : decode cX11_one 34 = .ok (.aload_n 0, 1) := dk_42 (dk_at dksX11_one_1 11 rfl rfl)
theorem dX11_one_35 : decode cX11_one 35 = .ok (.bipush 13, 2) := dk_16 13 (dk_at dksX11_one_1 12 rfl rfl)
theorem dX11_one_37 : decode cX11_one 37 = .ok (.bipush 15, 2) := dk_16 15 (dk_at dksX11_one_1 14 rfl rfl)
theorem dX11_one_39 : decode cX11_one 39 = .ok (.bipush 19, 2) := dk_16 19 (dk_at dksX11_one_1 16 rfl rfl)
theorem dX11_one_41 : decode cX11_one 41 = .ok (.bipush 20, 2) := dk_16 20 (dk_at dksX11_one_1 18 rfl rfl)
theorem dX11_one_43 : decode cX11_one 43 = .ok (.iconst 0, 1) := dk_3 (dk_at dksX11_one_1 20 rfl rfl)
theorem dX11_one_44 : decode cX11_one 44 = .ok (.iconst 0, 1) := dk_3 (dk_at dksX11_one_1 21 rfl rfl)
theorem dX11_one_45 : decode cX11_one 45 = .ok (.iconst 0, 1) := dk_3 (dk_at dksX11_one_1 22 rfl rfl)
theorem dX11_one_46 : decode cX11_one 46 = .ok (.invokevirtual 189, 3) := dk_182 0 189 (dk_at dksX11_one_2 0 rfl rfl)
theorem dX11_one_49 : decode cX11_one 49 = .ok (.ifCond .eq 8, 3) := dk_153 0 8 (dk_at dksX11_one_2 3 rfl rfl)
theorem dX11_one_52 : decode cX11_one 52 = .ok (.bipush 8, 2) := dk_16 8 (dk_at dksX11_one_2 6 rfl rfl)
theorem dX11_one_54 : decode cX11_one 54 = .ok (.goto 4, 3) := dk_167 0 4 (dk_at dksX11_one_2 8 rfl rfl)
theorem dX11_one_57 : decode cX11_one 57 = .ok (.iconst (-1), 1) := dk_2 (dk_at dksX11_one_2 11 rfl rfl)
theorem dX11_one_58 : decode cX11_one 58 = .ok (.istore_n 1, 1) := dk_60 (dk_at dksX11_one_2 12 rfl rfl)
theorem dX11_one_59 : decode cX11_one 59 = .ok (.iload_n 1, 1) := dk_27 (dk_at dksX11_one_2 13 rfl rfl)
theorem dX11_one_60 : decode cX11_one 60 = .ok (.iconst (-1), 1) := dk_2 (dk_at dksX11_one_2 14 rfl rfl)
theorem dX11_one_61 : decode cX11_one 61 = .ok (.if_icmp .eq 58, 3) := dk_159 0 58 (dk_at dksX11_one_2 15 rfl rfl)
theorem dX11_one_64 : decode cX11_one 64 = .ok (.aload_n 0, 1) := dk_42 (dk_at dksX11_one_2 18 rfl rfl)
theorem dX11_one_65 : decode cX11_one 65 = .ok (.invokevirtual 303, 3) := dk_182 1 47 (dk_at dksX11_one_2 19 rfl rfl)
theorem dX11_one_68 : decode cX11_one 68 = .ok (.ifCond .ne 4, 3) := dk_154 0 4 (dk_at dksX11_one_3 0 rfl rfl)
theorem dX11_one_71 : decode cX11_one 71 = .ok (.return_, 1) := dk_177 (dk_at dksX11_one_3 3 rfl rfl)
theorem dX11_one_72 : decode cX11_one 72 = .ok (.aload_n 0, 1) := dk_42 (dk_at dksX11_one_3 4 rfl rfl)
theorem dX11_one_73 : decode cX11_one 73 = .ok (.invokevirtual 193, 3) := dk_182 0 193 (dk_at dksX11_one_3 5 rfl rfl)
theorem dX11_one_76 : decode cX11_one 76 = .ok (.aload_n 0, 1) := dk_42 (dk_at dksX11_one_3 8 rfl rfl)
theorem dX11_one_77 : decode cX11_one 77 = .ok (.bipush 91, 2) := dk_16 91 (dk_at dksX11_one_3 9 rfl rfl)
theorem dX11_one_79 : decode cX11_one 79 = .ok (.invokevirtual 232, 3) := dk_182 0 232 (dk_at dksX11_one_3 11 rfl rfl)
theorem dX11_one_82 : decode cX11_one 82 = .ok (.aload_n 0, 1) := dk_42 (dk_at dksX11_one_3 14 rfl rfl)
theorem dX11_one_83 : decode cX11_one 83 = .ok (.invokevirtual 307, 3) := dk_182 1 51 (dk_at dksX11_one_3 15 rfl rfl)
theorem dX11_one_86 : decode cX11_one 86 = .ok (.aload_n 0, 1) := dk_42 (dk_at dksX11_one_3 18 rfl rfl)
theorem dX11_one_87 : decode cX11_one 87 = .ok (.bipush 44, 2) := dk_16 44 (dk_at dksX11_one_3 19 rfl rfl)
theorem dX11_one_89 : decode cX11_one 89 = .ok (.invokevirtual 232, 3) := dk_182 0 232 (dk_at dksX11_one_3 21 rfl rfl)
theorem dX11_one_92 : decode cX11_one 92 = .ok (.aload_n 0, 1) := dk_42 (dk_at dksX11_one_4 0 rfl rfl)
theorem dX11_one_93 : decode cX11_one 93 = .ok (.invokevirtual 307, 3) := dk_182 1 51 (dk_at dksX11_one_4 1 rfl rfl)
theorem dX11_one_96 : decode cX11_one 96 = .ok (.aload_n 0, 1) := dk_42 (dk_at dksX11_one_4 4 rfl rfl)
theorem dX11_one_97 : decode cX11_one 97 = .ok (.bipush 93, 2) := dk_16 93 (dk_at dksX11_one_4 5 rfl rfl)
theorem dX11_one_99 : decode cX11_one 99 = .ok (.invokevirtual 232, 3) := dk_182 0 232 (dk_at dksX11_one_4 7 rfl rfl)
theorem dX11_one_102 : decode cX11_one 102 = .ok (.aload_n 0, 1) := dk_42 (dk_at dksX11_one_4 10 rfl rfl)
theorem dX11_one_103 : decode cX11_one 103 = .ok (.iload_n 1, 1) := dk_27 (dk_at dksX11_one_4 11 rfl rfl)
theorem dX11_one_104 : decode cX11_one 104 = .ok (.iconst 0, 1) := dk_3 (dk_at dksX11_one_4 12 rfl rfl)
theorem dX11_one_105 : decode cX11_one 105 = .ok (.invokevirtual 294, 3) := dk_182 1 38 (dk_at dksX11_one_4 13 rfl rfl)
theorem dX11_one_108 : decode cX11_one 108 = .ok (.aload_n 0, 1) := dk_42 (dk_at dksX11_one_4 16 rfl rfl)
theorem dX11_one_109 : decode cX11_one 109 = .ok (.dup, 1) := dk_89 (dk_at dksX11_one_4 17 rfl rfl)
theorem dX11_one_110 : decode cX11_one 110 = .ok (.getfield 199, 3) := dk_180 0 199 (dk_at dksX11_one_4 18 rfl rfl)
theorem dX11_one_113 : decode cX11_one 113 = .ok (.iconst 1, 1) := dk_4 (dk_at dksX11_one_4 21 rfl rfl)
theorem dX11_one_114 : decode cX11_one 114 = .ok (.isub, 1) := dk_100 (dk_at dksX11_one_4 22 rfl rfl)
theorem dX11_one_115 : decode cX11_one 115 = .ok (.putfield 199, 3) := dk_181 0 199 (dk_at dksX11_one_5 0 rfl rfl)
theorem dX11_one_118 : decode cX11_one 118 = .ok (.return_, 1) := dk_177 (dk_at dksX11_one_5 3 rfl rfl)
theorem dX11_one_119 : decode cX11_one 119 = .ok (.aload_n 0, 1) := dk_42 (dk_at dksX11_one_5 4 rfl rfl)
theorem dX11_one_120 : decode cX11_one 120 = .ok (.aload_n 0, 1) := dk_42 (dk_at dksX11_one_5 5 rfl rfl)
theorem dX11_one_121 : decode cX11_one 121 = .ok (.getfield 143, 3) := dk_180 0 143 (dk_at dksX11_one_5 6 rfl rfl)
theorem dX11_one_124 : decode cX11_one 124 = .ok (.invokevirtual 146, 3) := dk_182 0 146 (dk_at dksX11_one_5 9 rfl rfl)
theorem dX11_one_127 : decode cX11_one 127 = .ok (.bipush 40, 2) := dk_16 40 (dk_at dksX11_one_5 12 rfl rfl)
theorem dX11_one_129 : decode cX11_one 129 = .ok (.if_icmp .ne 42, 3) := dk_160 0 42 (dk_at dksX11_one_5 14 rfl rfl)
theorem dX11_one_132 : decode cX11_one 132 = .ok (.aload_n 0, 1) := dk_42 (dk_at dksX11_one_5 17 rfl rfl)
theorem dX11_one_133 : decode cX11_one 133 = .ok (.invokevirtual 303, 3) := dk_182 1 47 (dk_at dksX11_one_5 18 rfl rfl)
theorem dX11_one_136 : decode cX11_one 136 = .ok (.ifCond .ne 4, 3) := dk_154 0 4 (dk_at dksX11_one_5 21 rfl rfl)
theorem dX11_one_139 : decode cX11_one 139 = .ok (.return_, 1) := dk_177 (dk_at dksX11_one_6 0 rfl rfl)
theorem dX11_one_140 : decode cX11_one 140 = .ok (.aload_n 0, 1) := dk_42 (dk_at dksX11_one_6 1 rfl rfl)
theorem dX11_one_141 : decode cX11_one 141 = .ok (.dup, 1) := dk_89 (dk_at dksX11_one_6 2 rfl rfl)
theorem dX11_one_142 : decode cX11_one 142 = .ok (.getfield 143, 3) := dk_180 0 143 (dk_at dksX11_one_6 3 rfl rfl)
theorem dX11_one_145 : decode cX11_one 145 = .ok (.iconst 1, 1) := dk_4 (dk_at dksX11_one_6 6 rfl rfl)
theorem dX11_one_146 : decode cX11_one 146 = .ok (.iadd, 1) := dk_96 (dk_at dksX11_one_6 7 rfl rfl)
theorem dX11_one_147 : decode cX11_one 147 = .ok (.putfield 143, 3) := dk_181 0 143 (dk_at dksX11_one_6 8 rfl rfl)
theorem dX11_one_150 : decode cX11_one 150 = .ok (.aload_n 0, 1) := dk_42 (dk_at dksX11_one_6 11 rfl rfl)
theorem dX11_one_151 : decode cX11_one 151 = .ok (.invokevirtual 307, 3) := dk_182 1 51 (dk_at dksX11_one_6 12 rfl rfl)
theorem dX11_one_154 : decode cX11_one 154 = .ok (.aload_n 0, 1) := dk_42 (dk_at dksX11_one_6 15 rfl rfl)
theorem dX11_one_155 : decode cX11_one 155 = .ok (.bipush 41, 2) := dk_16 41 (dk_at dksX11_one_6 16 rfl rfl)
theorem dX11_one_157 : decode cX11_one 157 = .ok (.invokevirtual 232, 3) := dk_182 0 232 (dk_at dksX11_one_6 18 rfl rfl)
theorem dX11_one_160 : decode cX11_one 160 = .ok (.aload_n 0, 1) := dk_42 (dk_at dksX11_one_6 21 rfl rfl)
theorem dX11_one_161 : decode cX11_one 161 = .ok (.dup, 1) := dk_89 (dk_at dksX11_one_6 22 rfl rfl)
theorem dX11_one_162 : decode cX11_one 162 = .ok (.getfield 199, 3) := dk_180 0 199 (dk_at dksX11_one_7 0 rfl rfl)
theorem dX11_one_165 : decode cX11_one 165 = .ok (.iconst 1, 1) := dk_4 (dk_at dksX11_one_7 3 rfl rfl)
theorem dX11_one_166 : decode cX11_one 166 = .ok (.isub, 1) := dk_100 (dk_at dksX11_one_7 4 rfl rfl)
theorem dX11_one_167 : decode cX11_one 167 = .ok (.putfield 199, 3) := dk_181 0 199 (dk_at dksX11_one_7 5 rfl rfl)
theorem dX11_one_170 : decode cX11_one 170 = .ok (.return_, 1) := dk_177 (dk_at dksX11_one_7 8 rfl rfl)
theorem dX11_one_171 : decode cX11_one 171 = .ok (.aload_n 0, 1) := dk_42 (dk_at dksX11_one_7 9 rfl rfl)
theorem dX11_one_172 : decode cX11_one 172 = .ok (.invokevirtual 310, 3) := dk_182 1 54 (dk_at dksX11_one_7 10 rfl rfl)
theorem dX11_one_175 : decode cX11_one 175 = .ok (.istore_n 2, 1) := dk_61 (dk_at dksX11_one_7 13 rfl rfl)
theorem dX11_one_176 : decode cX11_one 176 = .ok (.iload_n 2, 1) := dk_28 (dk_at dksX11_one_7 14 rfl rfl)
theorem dX11_one_177 : decode cX11_one 177 = .ok (.iconst (-1), 1) := dk_2 (dk_at dksX11_one_7 15 rfl rfl)
theorem dX11_one_178 : decode cX11_one 178 = .ok (.if_icmp .eq 12, 3) := dk_159 0 12 (dk_at dksX11_one_7 16 rfl rfl)
theorem dX11_one_181 : decode cX11_one 181 = .ok (.aload_n 0, 1) := dk_42 (dk_at dksX11_one_7 19 rfl rfl)
theorem dX11_one_182 : decode cX11_one 182 = .ok (.iconst 1, 1) := dk_4 (dk_at dksX11_one_7 20 rfl rfl)
theorem dX11_one_183 : decode cX11_one 183 = .ok (.iload_n 2, 1) := dk_28 (dk_at dksX11_one_7 21 rfl rfl)
theorem dX11_one_184 : decode cX11_one 184 = .ok (.invokevirtual 294, 3) := dk_182 1 38 (dk_at dksX11_one_8 0 rfl rfl)
theorem dX11_one_187 : decode cX11_one 187 = .ok (.goto 16, 3) := dk_167 0 16 (dk_at dksX11_one_8 3 rfl rfl)
theorem dX11_one_190 : decode cX11_one 190 = .ok (.aload_n 0, 1) := dk_42 (dk_at dksX11_one_8 6 rfl rfl)
theorem dX11_one_191 : decode cX11_one 191 = .ok (.iconst 0, 1) := dk_3 (dk_at dksX11_one_8 7 rfl rfl)
theorem dX11_one_192 : decode cX11_one 192 = .ok (.aload_n 0, 1) := dk_42 (dk_at dksX11_one_8 8 rfl rfl)
theorem dX11_one_193 : decode cX11_one 193 = .ok (.iconst 0, 1) := dk_3 (dk_at dksX11_one_8 9 rfl rfl)
theorem dX11_one_194 : decode cX11_one 194 = .ok (.sipush 999, 3) := dk_17 3 231 (dk_at dksX11_one_8 10 rfl rfl)
theorem dX11_one_197 : decode cX11_one 197 = .ok (.invokevirtual 202, 3) := dk_182 0 202 (dk_at dksX11_one_8 13 rfl rfl)
theorem dX11_one_200 : decode cX11_one 200 = .ok (.invokevirtual 294, 3) := dk_182 1 38 (dk_at dksX11_one_8 16 rfl rfl)
theorem dX11_one_203 : decode cX11_one 203 = .ok (.return_, 1) := dk_177 (dk_at dksX11_one_8 19 rfl rfl)
abbrev cX11_opens : ByteArray := prog_22_method_42_code
def yX11_opens : MethodName := ⟨RX11, "opens", "()Z"⟩
def dkwX11_opens_2 : List UInt8 := [180, 0, 150, 154, 0, 7, 4, 167, 0, 4, 3, 172]
abbrev dktX11_opens_2 : List UInt8 := dkwX11_opens_2 ++ []
def dkwX11_opens_1 : List UInt8 := [182, 0, 163, 167, 0, 20, 42, 180, 0, 150, 154, 0, 13, 42, 89, 180, 0, 199, 4, 96, 181, 0, 199, 42]
abbrev dktX11_opens_1 : List UInt8 := dkwX11_opens_1 ++ dktX11_opens_2
def dkwX11_opens_0 : List UInt8 := [42, 180, 0, 150, 154, 0, 24, 42, 180, 0, 199, 16, 6, 160, 0, 15, 42, 6, 42, 180, 0, 143]
abbrev dktX11_opens_0 : List UInt8 := dkwX11_opens_0 ++ dktX11_opens_1
theorem dksX11_opens_0 : cX11_opens.data.toList.drop 0 = dktX11_opens_0 := by decide +kernel
theorem dksX11_opens_1 : cX11_opens.data.toList.drop 22 = dktX11_opens_1 := dk_seg dksX11_opens_0 22 rfl rfl
theorem dksX11_opens_2 : cX11_opens.data.toList.drop 46 = dktX11_opens_2 := dk_seg dksX11_opens_1 24 rfl rfl
theorem dX11_opens_0 : decode cX11_opens 0 = .ok (.aload_n 0, 1) := dk_42 (dk_at dksX11_opens_0 0 rfl rfl)
theorem dX11_opens_1 : decode cX11_opens 1 = .ok (.getfield 150, 3) := dk_180 0 150 (dk_at dksX11_opens_0 1 rfl rfl)
theorem dX11_opens_4 : decode cX11_opens 4 = .ok (.ifCond .ne 24, 3) := dk_154 0 24 (dk_at dksX11_opens_0 4 rfl rfl)
theorem dX11_opens_7 : decode cX11_opens 7 = .ok (.aload_n 0, 1) := dk_42 (dk_at dksX11_opens_0 7 rfl rfl)
theorem dX11_opens_8 : decode cX11_opens 8 = .ok (.getfield 199, 3) := dk_180 0 199 (dk_at dksX11_opens_0 8 rfl rfl)
theorem dX11_opens_11 : decode cX11_opens 11 = .ok (.bipush 6, 2) := dk_16 6 (dk_at dksX11_opens_0 11 rfl rfl)
theorem dX11_opens_13 : decode cX11_opens 13 = .ok (.if_icmp .ne 15, 3) := dk_160 0 15 (dk_at dksX11_opens_0 13 rfl rfl)
theorem dX11_opens_16 : decode cX11_opens 16 = .ok (.aload_n 0, 1) := dk_42 (dk_at dksX11_opens_0 16 rfl rfl)
theorem dX11_opens_17 : decode cX11_opens 17 = .ok (.iconst 3, 1) := dk_6 (dk_at dksX11_opens_0 17 rfl rfl)
theorem dX11_opens_18 : decode cX11_opens 18 = .ok (.aload_n 0, 1) := dk_42 (dk_at dksX11_opens_0 18 rfl rfl)
theorem dX11_opens_19 : decode cX11_opens 19 = .ok (.getfield 143, 3) := dk_180 0 143 (dk_at dksX11_opens_0 19 rfl rfl)
theorem dX11_opens_22 : decode cX11_opens 22 = .ok (.invokevirtual 163, 3) := dk_182 0 163 (dk_at dksX11_opens_1 0 rfl rfl)
theorem dX11_opens_25 : decode cX11_opens 25 = .ok (.goto 20, 3) := dk_167 0 20 (dk_at dksX11_opens_1 3 rfl rfl)
theorem dX11_opens_28 : decode cX11_opens 28 = .ok (.aload_n 0, 1) := dk_42 (dk_at dksX11_opens_1 6 rfl rfl)
theorem dX11_opens_29 : decode cX11_opens 29 = .ok (.getfield 150, 3) := dk_180 0 150 (dk_at dksX11_opens_1 7 rfl rfl)
theorem dX11_opens_32 : decode cX11_opens 32 = .ok (.ifCond .ne 13, 3) := dk_154 0 13 (dk_at dksX11_opens_1 10 rfl rfl)
theorem dX11_opens_35 : decode cX11_opens 35 = .ok (.aload_n 0, 1) := dk_42 (dk_at dksX11_opens_1 13 rfl rfl)
theorem dX11_opens_36 : decode cX11_opens 36 = .ok (.dup, 1) := dk_89 (dk_at dksX11_opens_1 14 rfl rfl)
theorem dX11_opens_37 : decode cX11_opens 37 = .ok (.getfield 199, 3) := dk_180 0 199 (dk_at dksX11_opens_1 15 rfl rfl)
theorem dX11_opens_40 : decode cX11_opens 40 = .ok (.iconst 1, 1) := dk_4 (dk_at dksX11_opens_1 18 rfl rfl)
theorem dX11_opens_41 : decode cX11_opens 41 = .ok (.iadd, 1) := dk_96 (dk_at dksX11_opens_1 19 rfl rfl)
theorem dX11_opens_42 : decode cX11_opens 42 = .ok (.putfield 199, 3) := dk_181 0 199 (dk_at dksX11_opens_1 20 rfl rfl)
theorem dX11_opens_45 : decode cX11_opens 45 = .ok (.aload_n 0, 1) := dk_42 (dk_at dksX11_opens_1 23 rfl rfl)
theorem dX11_opens_46 : decode cX11_opens 46 = .ok (.getfield 150, 3) := dk_180 0 150 (dk_at dksX11_opens_2 0 rfl rfl)
theorem dX11_opens_49 : decode cX11_opens 49 = .ok (.ifCond .ne 7, 3) := dk_154 0 7 (dk_at dksX11_opens_2 3 rfl rfl)
theorem dX11_opens_52 : decode cX11_opens 52 = .ok (.iconst 1, 1) := dk_4 (dk_at dksX11_opens_2 6 rfl rfl)
theorem dX11_opens_53 : decode cX11_opens 53 = .ok (.goto 4, 3) := dk_167 0 4 (dk_at dksX11_opens_2 7 rfl rfl)
theorem dX11_opens_56 : decode cX11_opens 56 = .ok (.iconst 0, 1) := dk_3 (dk_at dksX11_opens_2 10 rfl rfl)
theorem dX11_opens_57 : decode cX11_opens 57 = .ok (.ireturn, 1) := dk_172 (dk_at dksX11_opens_2 11 rfl rfl)
abbrev cX11_notes : ByteArray := prog_22_method_41_code
def yX11_notes : MethodName := ⟨RX11, "notes", "(II)V"⟩
def dkwX11_notes_1 : List UInt8 := [42, 180, 1, 29, 50, 4, 28, 79, 42, 89, 180, 1, 29, 4, 96, 181, 1, 29, 177]
abbrev dktX11_notes_1 : List UInt8 := dkwX11_notes_1 ++ []
def dkwX11_notes_0 : List UInt8 := [42, 180, 0, 150, 153, 0, 4, 177, 42, 180, 0, 73, 42, 180, 1, 29, 50, 3, 27, 79, 42, 180, 0, 73]
abbrev dktX11_notes_0 : List UInt8 := dkwX11_notes_0 ++ dktX11_notes_1
theorem dksX11_notes_0 : cX11_notes.data.toList.drop 0 = dktX11_notes_0 := by decide +kernel
theorem dksX11_notes_1 : cX11_notes.data.toList.drop 24 = dktX11_notes_1 := dk_seg dksX11_notes_0 24 rfl rfl
theorem dX11_notes_0 : decode cX11_notes 0 = .ok (.aload_n 0, 1) := dk_42 (dk_at dksX11_notes_0 0 rfl rfl)
theorem dX11_notes_1 : decode cX11_notes 1 = .ok (.getfield 150, 3) := dk_180 0 150 (dk_at dksX11_notes_0 1 rfl rfl)
theorem dX11_notes_4 : decode cX11_notes 4 = .ok (.ifCond .eq 4, 3) := dk_153 0 4 (dk_at dksX11_notes_0 4 rfl rfl)
theorem dX11_notes_7 : decode cX11_notes 7 = .ok (.return_, 1) := dk_177 (dk_at dksX11_notes_0 7 rfl rfl)
theorem dX11_notes_8 : decode cX11_notes 8 = .ok (.aload_n 0, 1) := dk_42 (dk_at dksX11_notes_0 8 rfl rfl)
theorem dX11_notes_9 : decode cX11_notes 9 = .ok (.getfield 73, 3) := dk_180 0 73 (dk_at dksX11_notes_0 9 rfl rfl)
theorem dX11_notes_12 : decode cX11_notes 12 = .ok (.aload_n 0, 1) := dk_42 (dk_at dksX11_notes_0 12 rfl rfl)
theorem dX11_notes_13 : decode cX11_notes 13 = .ok (.getfield 285, 3) := dk_180 1 29 (dk_at dksX11_notes_0 13 rfl rfl)
theorem dX11_notes_16 : decode cX11_notes 16 = .ok (.aaload, 1) := dk_50 (dk_at dksX11_notes_0 16 rfl rfl)
theorem dX11_notes_17 : decode cX11_notes 17 = .ok (.iconst 0, 1) := dk_3 (dk_at dksX11_notes_0 17 rfl rfl)
theorem dX11_notes_18 : decode cX11_notes 18 = .ok (.iload_n 1, 1) := dk_27 (dk_at dksX11_notes_0 18 rfl rfl)
theorem dX11_notes_19 : decode cX11_notes 19 = .ok (.iastore, 1) := dk_79 (dk_at dksX11_notes_0 19 rfl rfl)
theorem dX11_notes_20 : decode cX11_notes 20 = .ok (.aload_n 0, 1) := dk_42 (dk_at dksX11_notes_0 20 rfl rfl)
theorem dX11_notes_21 : decode cX11_notes 21 = .ok (.getfield 73, 3) := dk_180 0 73 (dk_at dksX11_notes_0 21 rfl rfl)
theorem dX11_notes_24 : decode cX11_notes 24 = .ok (.aload_n 0, 1) := dk_42 (dk_at dksX11_notes_1 0 rfl rfl)
theorem dX11_notes_25 : decode cX11_notes 25 = .ok (.getfield 285, 3) := dk_180 1 29 (dk_at dksX11_notes_1 1 rfl rfl)
theorem dX11_notes_28 : decode cX11_notes 28 = .ok (.aaload, 1) := dk_50 (dk_at dksX11_notes_1 4 rfl rfl)
theorem dX11_notes_29 : decode cX11_notes 29 = .ok (.iconst 1, 1) := dk_4 (dk_at dksX11_notes_1 5 rfl rfl)
theorem dX11_notes_30 : decode cX11_notes 30 = .ok (.iload_n 2, 1) := dk_28 (dk_at dksX11_notes_1 6 rfl rfl)
theorem dX11_notes_31 : decode cX11_notes 31 = .ok (.iastore, 1) := dk_79 (dk_at dksX11_notes_1 7 rfl rfl)
theorem dX11_notes_32 : decode cX11_notes 32 = .ok (.aload_n 0, 1) := dk_42 (dk_at dksX11_notes_1 8 rfl rfl)
theorem dX11_notes_33 : decode cX11_notes 33 = .ok (.dup, 1) := dk_89 (dk_at dksX11_notes_1 9 rfl rfl)
theorem dX11_notes_34 : decode cX11_notes 34 = .ok (.getfield 285, 3) := dk_180 1 29 (dk_at dksX11_notes_1 10 rfl rfl)
theorem dX11_notes_37 : decode cX11_notes 37 = .ok (.iconst 1, 1) := dk_4 (dk_at dksX11_notes_1 13 rfl rfl)
theorem dX11_notes_38 : decode cX11_notes 38 = .ok (.iadd, 1) := dk_96 (dk_at dksX11_notes_1 14 rfl rfl)
theorem dX11_notes_39 : decode cX11_notes 39 = .ok (.putfield 285, 3) := dk_181 1 29 (dk_at dksX11_notes_1 15 rfl rfl)
theorem dX11_notes_42 : decode cX11_notes 42 = .ok (.return_, 1) := dk_177 (dk_at dksX11_notes_1 18 rfl rfl)
abbrev cX11_knownHere : ByteArray := prog_22_method_45_code
def yX11_knownHere : MethodName := ⟨RX11, "knownHere", "()I"⟩
def dkwX11_knownHere_7 : List UInt8 := [16, 14, 3, 3, 3, 3, 182, 1, 44, 153, 0, 8, 16, 8, 167, 0, 4, 2, 172]
abbrev dktX11_knownHere_7 : List UInt8 := dkwX11_knownHere_7 ++ []
def dkwX11_knownHere_6 : List UInt8 := [16, 21, 16, 16, 16, 16, 8, 16, 20, 3, 182, 1, 44, 153, 0, 6, 16, 7, 172, 42, 16, 11, 16, 9]
abbrev dktX11_knownHere_6 : List UInt8 := dkwX11_knownHere_6 ++ dktX11_knownHere_7
def dkwX11_knownHere_5 : List UInt8 := [16, 14, 16, 21, 16, 13, 5, 8, 16, 18, 3, 182, 1, 44, 153, 0, 6, 16, 6, 172, 42, 16, 16]
abbrev dktX11_knownHere_5 : List UInt8 := dkwX11_knownHere_5 ++ dktX11_knownHere_6
def dkwX11_knownHere_4 : List UInt8 := [153, 0, 5, 7, 172, 42, 16, 25, 8, 4, 16, 18, 3, 3, 3, 182, 1, 44, 153, 0, 5, 8, 172, 42]
abbrev dktX11_knownHere_4 : List UInt8 := dkwX11_knownHere_4 ++ dktX11_knownHere_5
def dkwX11_knownHere_3 : List UInt8 := [153, 0, 5, 6, 172, 42, 16, 19, 16, 20, 16, 18, 16, 9, 16, 14, 16, 7, 16, 19, 182, 1, 44]
abbrev dktX11_knownHere_3 : List UInt8 := dkwX11_knownHere_3 ++ dktX11_knownHere_4
def dkwX11_knownHere_2 : List UInt8 := [182, 1, 44, 153, 0, 5, 5, 172, 42, 16, 23, 16, 15, 16, 18, 16, 11, 16, 19, 3, 3, 182, 1, 44]
abbrev dktX11_knownHere_2 : List UInt8 := dkwX11_knownHere_2 ++ dktX11_knownHere_3
def dkwX11_knownHere_1 : List UInt8 := [16, 12, 16, 12, 3, 3, 3, 182, 1, 44, 153, 0, 5, 4, 172, 42, 4, 16, 7, 8, 3, 3, 3, 3]
abbrev dktX11_knownHere_1 : List UInt8 := dkwX11_knownHere_1 ++ dktX11_knownHere_2
def dkwX11_knownHere_0 : List UInt8 := [42, 16, 12, 16, 9, 16, 13, 16, 16, 3, 3, 3, 182, 1, 44, 153, 0, 5, 3, 172, 42, 16, 6, 4]
abbrev dktX11_knownHere_0 : List UInt8 := dkwX11_knownHere_0 ++ dktX11_knownHere_1
theorem dksX11_knownHere_0 : cX11_knownHere.data.toList.drop 0 = dktX11_knownHere_0 := by decide +kernel
theorem dksX11_knownHere_1 : cX11_knownHere.data.toList.drop 24 = dktX11_knownHere_1 := dk_seg dksX11_knownHere_0 24 rfl rfl
theorem dksX11_knownHere_2 : cX11_knownHere.data.toList.drop 48 = dktX11_knownHere_2 := dk_seg dksX11_knownHere_1 24 rfl rfl
theorem dksX11_knownHere_3 : cX11_knownHere.data.toList.drop 72 = dktX11_knownHere_3 := dk_seg dksX11_knownHere_2 24 rfl rfl
theorem dksX11_knownHere_4 : cX11_knownHere.data.toList.drop 95 = dktX11_knownHere_4 := dk_seg dksX11_knownHere_3 23 rfl rfl
theorem dksX11_knownHere_5 : cX11_knownHere.data.toList.drop 119 = dktX11_knownHere_5 := dk_seg dksX11_knownHere_4 24 rfl rfl
theorem dksX11_knownHere_6 : cX11_knownHere.data.toList.drop 142 = dktX11_knownHere_6 := dk_seg dksX11_knownHere_5 23 rfl rfl
theorem dksX11_knownHere_7 : cX11_knownHere.data.toList.drop 166 = dktX11_knownHere_7 := dk_seg dksX11_knownHere_6 24 rfl rfl
theorem dX11_knownHere_0 : decode cX11_knownHere 0 = .ok (.aload_n 0, 1) := dk_42 (dk_at dksX11_knownHere_0 0 rfl rfl)
theorem dX11_knownHere_1 : decode cX11_knownHere 1 = .ok (.bipush 12, 2) := dk_16 12 (dk_at dksX11_knownHere_0 1 rfl rfl)
theorem dX11_knownHere_3 : decode cX11_knownHere 3 = .ok (.bipush 9, 2) := dk_16 9 (dk_at dksX11_knownHere_0 3 rfl rfl)
theorem dX11_knownHere_5 : decode cX11_knownHere 5 = .ok (.bipush 13, 2) := dk_16 13 (dk_at dksX11_knownHere_0 5 rfl rfl)
theorem dX11_knownHere_7 : decode cX11_knownHere 7 = .ok (.bipush 16, 2) := dk_16 16 (dk_at dksX11_knownHere_0 7 rfl rfl)
theorem dX11_knownHere_9 : decode cX11_knownHere 9 = .ok (.iconst 0, 1) := dk_3 (dk_at dksX11_knownHere_0 9 rfl rfl)
theorem dX11_knownHere_10 : decode cX11_knownHere 10 = .ok (.iconst 0, 1) := dk_3 (dk_at dksX11_knownHere_0 10 rfl rfl)
theorem dX11_knownHere_11 : decode cX11_knownHere 11 = .ok (.iconst 0, 1) := dk_3 (dk_at dksX11_knownHere_0 11 rfl rfl)
theorem dX11_knownHere_12 : decode cX11_knownHere 12 = .ok (.invokevirtual 300, 3) := dk_182 1 44 (dk_at dksX11_knownHere_0 12 rfl rfl)
theorem dX11_knownHere_15 : decode cX11_knownHere 15 = .ok (.ifCond .eq 5, 3) := dk_153 0 5 (dk_at dksX11_knownHere_0 15 rfl rfl)
theorem dX11_knownHere_18 : decode cX11_knownHere 18 = .ok (.iconst 0, 1) := dk_3 (dk_at dksX11_knownHere_0 18 rfl rfl)
theorem dX11_knownHere_19 : decode cX11_knownHere 19 = .ok (.ireturn, 1) := dk_172 (dk_at dksX11_knownHere_0 19 rfl rfl)
theorem dX11_knownHere_20 : decode cX11_knownHere 20 = .ok (.aload_n 0, 1) := dk_42 (dk_at dksX11_knownHere_0 20 rfl rfl)
theorem dX11_knownHere_21 : decode cX11_knownHere 21 = .ok (.bipush 6, 2) := dk_16 6 (dk_at dksX11_knownHere_0 21 rfl rfl)
theorem dX11_knownHere_23 : decode cX11_knownHere 23 = .ok (.iconst 1, 1) := dk_4 (dk_at dksX11_knownHere_0 23 rfl rfl)
theorem dX11_knownHere_24 : decode cX11_knownHere 24 = .ok (.bipush 12, 2) := dk_16 12 (dk_at dksX11_knownHere_1 0 rfl rfl)
theorem dX11_knownHere_26 : decode cX11_knownHere 26 = .ok (.bipush 12, 2) := dk_16 12 (dk_at dksX11_knownHere_1 2 rfl rfl)
theorem dX11_knownHere_28 : decode cX11_knownHere 28 = .ok (.iconst 0, 1) := dk_3 (dk_at dksX11_knownHere_1 4 rfl rfl)
theorem dX11_knownHere_29 : decode cX11_knownHere 29 = .ok (.iconst 0, 1) := dk_3 (dk_at dksX11_knownHere_1 5 rfl rfl)
theorem dX11_knownHere_30 : decode cX11_knownHere 30 = .ok (.iconst 0, 1) := dk_3 (dk_at dksX11_knownHere_1 6 rfl rfl)
theorem dX11_knownHere_31 : decode cX11_knownHere 31 = .ok (.invokevirtual 300, 3) := dk_182 1 44 (dk_at dksX11_knownHere_1 7 rfl rfl)
theorem dX11_knownHere_34 : decode cX11_knownHere 34 = .ok (.ifCond .eq 5, 3) := dk_153 0 5 (dk_at dksX11_knownHere_1 10 rfl rfl)
theorem dX11_knownHere_37 : decode cX11_knownHere 37 = .ok (.iconst 1, 1) := dk_4 (dk_at dksX11_knownHere_1 13 rfl rfl)
theorem dX11_knownHere_38 : decode cX11_knownHere 38 = .ok (.ireturn, 1) := dk_172 (dk_at dksX11_knownHere_1 14 rfl rfl)
theorem dX11_knownHere_39 : decode cX11_knownHere 39 = .ok (.aload_n 0, 1) := dk_42 (dk_at dksX11_knownHere_1 15 rfl rfl)
theorem dX11_knownHere_40 : decode cX11_knownHere 40 = .ok (.iconst 1, 1) := dk_4 (dk_at dksX11_knownHere_1 16 rfl rfl)
theorem dX11_knownHere_41 : decode cX11_knownHere 41 = .ok (.bipush 7, 2) := dk_16 7 (dk_at dksX11_knownHere_1 17 rfl rfl)
theorem dX11_knownHere_43 : decode cX11_knownHere 43 = .ok (.iconst 5, 1) := dk_8 (dk_at dksX11_knownHere_1 19 rfl rfl)
theorem dX11_knownHere_44 : decode cX11_knownHere 44 = .ok (.iconst 0, 1) := dk_3 (dk_at dksX11_knownHere_1 20 rfl rfl)
theorem dX11_knownHere_45 : decode cX11_knownHere 45 = .ok (.iconst 0, 1) := dk_3 (dk_at dksX11_knownHere_1 21 rfl rfl)
theorem dX11_knownHere_46 : decode cX11_knownHere 46 = .ok (.iconst 0, 1) := dk_3 (dk_at dksX11_knownHere_1 22 rfl rfl)
theorem dX11_knownHere_47 : decode cX11_knownHere 47 = .ok (.iconst 0, 1) := dk_3 (dk_at dksX11_knownHere_1 23 rfl rfl)
theorem dX11_knownHere_48 : decode cX11_knownHere 48 = .ok (.invokevirtual 300, 3) := dk_182 1 44 (dk_at dksX11_knownHere_2 0 rfl rfl)
theorem dX11_knownHere_51 : decode cX11_knownHere 51 = .ok (.ifCond .eq 5, 3) := dk_153 0 5 (dk_at dksX11_knownHere_2 3 rfl rfl)
theorem dX11_knownHere_54 : decode cX11_knownHere 54 = .ok (.iconst 2, 1) := dk_5 (dk_at dksX11_knownHere_2 6 rfl rfl)
theorem dX11_knownHere_55 : decode cX11_knownHere 55 = .ok (.ireturn, 1) := dk_172 (dk_at dksX11_knownHere_2 7 rfl rfl)
theorem dX11_knownHere_56 : decode cX11_knownHere 56 = .ok (.aload_n 0, 1) := dk_42 (dk_at dksX11_knownHere_2 8 rfl rfl)
theorem dX11_knownHere_57 : decode cX11_knownHere 57 = .ok (.bipush 23, 2) := dk_16 23 (dk_at dksX11_knownHere_2 9 rfl rfl)
theorem dX11_knownHere_59 : decode cX11_knownHere 59 = .ok (.bipush 15, 2) := dk_16 15 (dk_at dksX11_knownHere_2 11 rfl rfl)
theorem dX11_knownHere_61 : decode cX11_knownHere 61 = .ok (.bipush 18, 2) := dk_16 18 (dk_at dksX11_knownHere_2 13 rfl rfl)
theorem dX11_knownHere_63 : decode cX11_knownHere 63 = .ok (.bipush 11, 2) := dk_16 11 (dk_at dksX11_knownHere_2 15 rfl rfl)
theorem dX11_knownHere_65 : decode cX11_knownHere 65 = .ok (.bipush 19, 2) := dk_16 19 (dk_at dksX11_knownHere_2 17 rfl rfl)
theorem dX11_knownHere_67 : decode cX11_knownHere 67 = .ok (.iconst 0, 1) := dk_3 (dk_at dksX11_knownHere_2 19 rfl rfl)
theorem dX11_knownHere_68 : decode cX11_knownHere 68 = .ok (.iconst 0, 1) := dk_3 (dk_at dksX11_knownHere_2 20 rfl rfl)
theorem dX11_knownHere_69 : decode cX11_knownHere 69 = .ok (.invokevirtual 300, 3) := dk_182 1 44 (dk_at dksX11_knownHere_2 21 rfl rfl)
theorem dX11_knownHere_72 : decode cX11_knownHere 72 = .ok (.ifCond .eq 5, 3) := dk_153 0 5 (dk_at dksX11_knownHere_3 0 rfl rfl)
theorem dX11_knownHere_75 : decode cX11_knownHere 75 = .ok (.iconst 3, 1) := dk_6 (dk_at dksX11_knownHere_3 3 rfl rfl)
theorem dX11_knownHere_76 : decode cX11_knownHere 76 = .ok (.ireturn, 1) := dk_172 (dk_at dksX11_knownHere_3 4 rfl rfl)
theorem dX11_knownHere_77 : decode cX11_knownHere 77 = .ok (.aload_n 0, 1) := dk_42 (dk_at dksX11_knownHere_3 5 rfl rfl)
theorem dX11_knownHere_78 : decode cX11_knownHere 78 = .ok (.bipush 19, 2) := dk_16 19 (dk_at dksX11_knownHere_3 6 rfl rfl)
theorem dX11_knownHere_80 : decode cX11_knownHere 80 = .ok (.bipush 20, 2) := dk_16 20 (dk_at dksX11_knownHere_3 8 rfl rfl)
theorem dX11_knownHere_82 : decode cX11_knownHere 82 = .ok (.bipush 18, 2) := dk_16 18 (dk_at dksX11_knownHere_3 10 rfl rfl)
theorem dX11_knownHere_84 : decode cX11_knownHere 84 = .ok (.bipush 9, 2) := dk_16 9 (dk_at dksX11_knownHere_3 12 rfl rfl)
theorem dX11_knownHere_86 : decode cX11_knownHere 86 = .ok (.bipush 14, 2) := dk_16 14 (dk_at dksX11_knownHere_3 14 rfl rfl)
theorem dX11_knownHere_88 : decode cX11_knownHere 88 = .ok (.bipush 7, 2) := dk_16 7 (dk_at dksX11_knownHere_3 16 rfl rfl)
theorem dX11_knownHere_90 : decode cX11_knownHere 90 = .ok (.bipush 19, 2) := dk_16 19 (dk_at dksX11_knownHere_3 18 rfl rfl)
theorem dX11_knownHere_92 : decode cX11_knownHere 92 = .ok (.invokevirtual 300, 3) := dk_182 1 44 (dk_at dksX11_knownHere_3 20 rfl rfl)
theorem dX11_knownHere_95 : decode cX11_knownHere 95 = .ok (.ifCond .eq 5, 3) := dk_153 0 5 (dk_at dksX11_knownHere_4 0 rfl rfl)
theorem dX11_knownHere_98 : decode cX11_knownHere 98 = .ok (.iconst 4, 1) := dk_7 (dk_at dksX11_knownHere_4 3 rfl rfl)
theorem dX11_knownHere_99 : decode cX11_knownHere 99 = .ok (.ireturn, 1) := dk_172 (dk_at dksX11_knownHere_4 4 rfl rfl)
theorem dX11_knownHere_100 : decode cX11_knownHere 100 = .ok (.aload_n 0, 1) := dk_42 (dk_at dksX11_knownHere_4 5 rfl rfl)
theorem dX11_knownHere_101 : decode cX11_knownHere 101 = .ok (.bipush 25, 2) := dk_16 25 (dk_at dksX11_knownHere_4 6 rfl rfl)
theorem dX11_knownHere_103 : decode cX11_knownHere 103 = .ok (.iconst 5, 1) := dk_8 (dk_at dksX11_knownHere_4 8 rfl rfl)
theorem dX11_knownHere_104 : decode cX11_knownHere 104 = .ok (.iconst 1, 1) := dk_4 (dk_at dksX11_knownHere_4 9 rfl rfl)
theorem dX11_knownHere_105 : decode cX11_knownHere 105 = .ok (.bipush 18, 2) := dk_16 18 (dk_at dksX11_knownHere_4 10 rfl rfl)
theorem dX11_knownHere_107 : decode cX11_knownHere 107 = .ok (.iconst 0, 1) := dk_3 (dk_at dksX11_knownHere_4 12 rfl rfl)
theorem dX11_knownHere_108 : decode cX11_knownHere 108 = .ok (.iconst 0, 1) := dk_3 (dk_at dksX11_knownHere_4 13 rfl rfl)
theorem dX11_knownHere_109 : decode cX11_knownHere 109 = .ok (.iconst 0, 1) := dk_3 (dk_at dksX11_knownHere_4 14 rfl rfl)
theorem dX11_knownHere_110 : decode cX11_knownHere 110 = .ok (.invokevirtual 300, 3) := dk_182 1 44 (dk_at dksX11_knownHere_4 15 rfl rfl)
theorem dX11_knownHere_113 : decode cX11_knownHere 113 = .ok (.ifCond .eq 5, 3) := dk_153 0 5 (dk_at dksX11_knownHere_4 18 rfl rfl)
theorem dX11_knownHere_116 : decode cX11_knownHere 116 = .ok (.iconst 5, 1) := dk_8 (dk_at dksX11_knownHere_4 21 rfl rfl)
theorem dX11_knownHere_117 : decode cX11_knownHere 117 = .ok (.ireturn, 1) := dk_172 (dk_at dksX11_knownHere_4 22 rfl rfl)
theorem dX11_knownHere_118 : decode cX11_knownHere 118 = .ok (.aload_n 0, 1) := dk_42 (dk_at dksX11_knownHere_4 23 rfl rfl)
theorem dX11_knownHere_119 : decode cX11_knownHere 119 = .ok (.bipush 14, 2) := dk_16 14 (dk_at dksX11_knownHere_5 0 rfl rfl)
theorem dX11_knownHere_121 : decode cX11_knownHere 121 = .ok (.bipush 21, 2) := dk_16 21 (dk_at dksX11_knownHere_5 2 rfl rfl)
theorem dX11_knownHere_123 : decode cX11_knownHere 123 = .ok (.bipush 13, 2) := dk_16 13 (dk_at dksX11_knownHere_5 4 rfl rfl)
theorem dX11_knownHere_125 : decode cX11_knownHere 125 = .ok (.iconst 2, 1) := dk_5 (dk_at dksX11_knownHere_5 6 rfl rfl)
theorem dX11_knownHere_126 : decode cX11_knownHere 126 = .ok (.iconst 5, 1) := dk_8 (dk_at dksX11_knownHere_5 7 rfl rfl)
theorem dX11_knownHere_127 : decode cX11_knownHere 127 = .ok (.bipush 18, 2) := dk_16 18 (dk_at dksX11_knownHere_5 8 rfl rfl)
theorem dX11_knownHere_129 : decode cX11_knownHere 129 = .ok (.iconst 0, 1) := dk_3 (dk_at dksX11_knownHere_5 10 rfl rfl)
theorem dX11_knownHere_130 : decode cX11_knownHere 130 = .ok (.invokevirtual 300, 3) := dk_182 1 44 (dk_at dksX11_knownHere_5 11 rfl rfl)
theorem dX11_knownHere_133 : decode cX11_knownHere 133 = .ok (.ifCond .eq 6, 3) := dk_153 0 6 (dk_at dksX11_knownHere_5 14 rfl rfl)
theorem dX11_knownHere_136 : decode cX11_knownHere 136 = .ok (.bipush 6, 2) := dk_16 6 (dk_at dksX11_knownHere_5 17 rfl rfl)
theorem dX11_knownHere_138 : decode cX11_knownHere 138 = .ok (.ireturn, 1) := dk_172 (dk_at dksX11_knownHere_5 19 rfl rfl)
theorem dX11_knownHere_139 : decode cX11_knownHere 139 = .ok (.aload_n 0, 1) := dk_42 (dk_at dksX11_knownHere_5 20 rfl rfl)
theorem dX11_knownHere_140 : decode cX11_knownHere 140 = .ok (.bipush 16, 2) := dk_16 16 (dk_at dksX11_knownHere_5 21 rfl rfl)
theorem dX11_knownHere_142 : decode cX11_knownHere 142 = .ok (.bipush 21, 2) := dk_16 21 (dk_at dksX11_knownHere_6 0 rfl rfl)
theorem dX11_knownHere_144 : decode cX11_knownHere 144 = .ok (.bipush 16, 2) := dk_16 16 (dk_at dksX11_knownHere_6 2 rfl rfl)
theorem dX11_knownHere_146 : decode cX11_knownHere 146 = .ok (.bipush 16, 2) := dk_16 16 (dk_at dksX11_knownHere_6 4 rfl rfl)
theorem dX11_knownHere_148 : decode cX11_knownHere 148 = .ok (.iconst 5, 1) := dk_8 (dk_at dksX11_knownHere_6 6 rfl rfl)
theorem dX11_knownHere_149 : decode cX11_knownHere 149 = .ok (.bipush 20, 2) := dk_16 20 (dk_at dksX11_knownHere_6 7 rfl rfl)
theorem dX11_knownHere_151 : decode cX11_knownHere 151 = .ok (.iconst 0, 1) := dk_3 (dk_at dksX11_knownHere_6 9 rfl rfl)
theorem dX11_knownHere_152 : decode cX11_knownHere 152 = .ok (.invokevirtual 300, 3) := dk_182 1 44 (dk_at dksX11_knownHere_6 10 rfl rfl)
theorem dX11_knownHere_155 : decode cX11_knownHere 155 = .ok (.ifCond .eq 6, 3) := dk_153 0 6 (dk_at dksX11_knownHere_6 13 rfl rfl)
theorem dX11_knownHere_158 : decode cX11_knownHere 158 = .ok (.bipush 7, 2) := dk_16 7 (dk_at dksX11_knownHere_6 16 rfl rfl)
theorem dX11_knownHere_160 : decode cX11_knownHere 160 = .ok (.ireturn, 1) := dk_172 (dk_at dksX11_knownHere_6 18 rfl rfl)
theorem dX11_knownHere_161 : decode cX11_knownHere 161 = .ok (.aload_n 0, 1) := dk_42 (dk_at dksX11_knownHere_6 19 rfl rfl)
theorem dX11_knownHere_162 : decode cX11_knownHere 162 = .ok (.bipush 11, 2) := dk_16 11 (dk_at dksX11_knownHere_6 20 rfl rfl)
theorem dX11_knownHere_164 : decode cX11_knownHere 164 = .ok (.bipush 9, 2) := dk_16 9 (dk_at dksX11_knownHere_6 22 rfl rfl)
theorem dX11_knownHere_166 : decode cX11_knownHere 166 = .ok (.bipush 14, 2) := dk_16 14 (dk_at dksX11_knownHere_7 0 rfl rfl)
theorem dX11_knownHere_168 : decode cX11_knownHere 168 = .ok (.iconst 0, 1) := dk_3 (dk_at dksX11_knownHere_7 2 rfl rfl)
theorem dX11_knownHere_169 : decode cX11_knownHere 169 = .ok (.iconst 0, 1) := dk_3 (dk_at dksX11_knownHere_7 3 rfl rfl)
theorem dX11_knownHere_170 : decode cX11_knownHere 170 = .ok (.iconst 0, 1) := dk_3 (dk_at dksX11_knownHere_7 4 rfl rfl)
theorem dX11_knownHere_171 : decode cX11_knownHere 171 = .ok (.iconst 0, 1) := dk_3 (dk_at dksX11_knownHere_7 5 rfl rfl)
theorem dX11_knownHere_172 : decode cX11_knownHere 172 = .ok (.invokevirtual 300, 3) := dk_182 1 44 (dk_at dksX11_knownHere_7 6 rfl rfl)
theorem dX11_knownHere_175 : decode cX11_knownHere 175 = .ok (.ifCond .eq 8, 3) := dk_153 0 8 (dk_at dksX11_knownHere_7 9 rfl rfl)
theorem dX11_knownHere_178 : decode cX11_knownHere 178 = .ok (.bipush 8, 2) := dk_16 8 (dk_at dksX11_knownHere_7 12 rfl rfl)
theorem dX11_knownHere_180 : decode cX11_knownHere 180 = .ok (.goto 4, 3) := dk_167 0 4 (dk_at dksX11_knownHere_7 14 rfl rfl)
theorem dX11_knownHere_183 : decode cX11_knownHere 183 = .ok (.iconst (-1), 1) := dk_2 (dk_at dksX11_knownHere_7 17 rfl rfl)
theorem dX11_knownHere_184 : decode cX11_knownHere 184 = .ok (.ireturn, 1) := dk_172 (dk_at dksX11_knownHere_7 18 rfl rfl)
abbrev cX11_takes : ByteArray := prog_22_method_22_code
def yX11_takes : MethodName := ⟨RX11, "takes", "(IIIIIII)Z"⟩
def dkwX11_takes_1 : List UInt8 := [182, 0, 193, 21, 8, 172]
abbrev dktX11_takes_1 : List UInt8 := dkwX11_takes_1 ++ []
def dkwX11_takes_0 : List UInt8 := [42, 27, 28, 29, 21, 4, 21, 5, 21, 6, 21, 7, 182, 0, 189, 54, 8, 21, 8, 153, 0, 7, 42]
abbrev dktX11_takes_0 : List UInt8 := dkwX11_takes_0 ++ dktX11_takes_1
theorem dksX11_takes_0 : cX11_takes.data.toList.drop 0 = dktX11_takes_0 := by decide +kernel
theorem dksX11_takes_1 : cX11_takes.data.toList.drop 23 = dktX11_takes_1 := dk_seg dksX11_takes_0 23 rfl rfl
theorem dX11_takes_0 : decode cX11_takes 0 = .ok (.aload_n 0, 1) := dk_42 (dk_at dksX11_takes_0 0 rfl rfl)
theorem dX11_takes_1 : decode cX11_takes 1 = .ok (.iload_n 1, 1) := dk_27 (dk_at dksX11_takes_0 1 rfl rfl)
theorem dX11_takes_2 : decode cX11_takes 2 = .ok (.iload_n 2, 1) := dk_28 (dk_at dksX11_takes_0 2 rfl rfl)
theorem dX11_takes_3 : decode cX11_takes 3 = .ok (.iload_n 3, 1) := dk_29 (dk_at dksX11_takes_0 3 rfl rfl)
theorem dX11_takes_4 : decode cX11_takes 4 = .ok (.iload 4, 2) := dk_21 4 (dk_at dksX11_takes_0 4 rfl rfl)
theorem dX11_takes_6 : decode cX11_takes 6 = .ok (.iload 5, 2) := dk_21 5 (dk_at dksX11_takes_0 6 rfl rfl)
theorem dX11_takes_8 : decode cX11_takes 8 = .ok (.iload 6, 2) := dk_21 6 (dk_at dksX11_takes_0 8 rfl rfl)
theorem dX11_takes_10 : decode cX11_takes 10 = .ok (.iload 7, 2) := dk_21 7 (dk_at dksX11_takes_0 10 rfl rfl)
theorem dX11_takes_12 : decode cX11_takes 12 = .ok (.invokevirtual 189, 3) := dk_182 0 189 (dk_at dksX11_takes_0 12 rfl rfl)
theorem dX11_takes_15 : decode cX11_takes 15 = .ok (.istore 8, 2) := dk_54 8 (dk_at dksX11_takes_0 15 rfl rfl)
theorem dX11_takes_17 : decode cX11_takes 17 = .ok (.iload 8, 2) := dk_21 8 (dk_at dksX11_takes_0 17 rfl rfl)
theorem dX11_takes_19 : decode cX11_takes 19 = .ok (.ifCond .eq 7, 3) := dk_153 0 7 (dk_at dksX11_takes_0 19 rfl rfl)
theorem dX11_takes_22 : decode cX11_takes 22 = .ok (.aload_n 0, 1) := dk_42 (dk_at dksX11_takes_0 22 rfl rfl)
theorem dX11_takes_23 : decode cX11_takes 23 = .ok (.invokevirtual 193, 3) := dk_182 0 193 (dk_at dksX11_takes_1 0 rfl rfl)
theorem dX11_takes_26 : decode cX11_takes 26 = .ok (.iload 8, 2) := dk_21 8 (dk_at dksX11_takes_1 3 rfl rfl)
theorem dX11_takes_28 : decode cX11_takes 28 = .ok (.ireturn, 1) := dk_172 (dk_at dksX11_takes_1 5 rfl rfl)
abbrev cX11_takesSign : ByteArray := prog_22_method_24_code
def yX11_takesSign : MethodName := ⟨RX11, "takesSign", "(I)Z"⟩
def dkwX11_takesSign_2 : List UInt8 := [172]
abbrev dktX11_takesSign_2 : List UInt8 := dkwX11_takesSign_2 ++ []
def dkwX11_takesSign_1 : List UInt8 := [160, 0, 7, 4, 167, 0, 4, 3, 61, 28, 153, 0, 13, 42, 89, 180, 0, 143, 4, 96, 181, 0, 143, 28]
abbrev dktX11_takesSign_1 : List UInt8 := dkwX11_takesSign_1 ++ dktX11_takesSign_2
def dkwX11_takesSign_0 : List UInt8 := [42, 180, 0, 150, 153, 0, 5, 3, 172, 42, 182, 0, 156, 42, 42, 180, 0, 143, 182, 0, 146, 27]
abbrev dktX11_takesSign_0 : List UInt8 := dkwX11_takesSign_0 ++ dktX11_takesSign_1
theorem dksX11_takesSign_0 : cX11_takesSign.data.toList.drop 0 = dktX11_takesSign_0 := by decide +kernel
theorem dksX11_takesSign_1 : cX11_takesSign.data.toList.drop 22 = dktX11_takesSign_1 := dk_seg dksX11_takesSign_0 22 rfl rfl
theorem dksX11_takesSign_2 : cX11_takesSign.data.toList.drop 46 = dktX11_takesSign_2 := dk_seg dksX11_takesSign_1 24 rfl rfl
theorem dX11_takesSign_0 : decode cX11_takesSign 0 = .ok (.aload_n 0, 1) := dk_42 (dk_at dksX11_takesSign_0 0 rfl rfl)
theorem dX11_takesSign_1 : decode cX11_takesSign 1 = .ok (.getfield 150, 3) := dk_180 0 150 (dk_at dksX11_takesSign_0 1 rfl rfl)
theorem dX11_takesSign_4 : decode cX11_takesSign 4 = .ok (.ifCond .eq 5, 3) := dk_153 0 5 (dk_at dksX11_takesSign_0 4 rfl rfl)
theorem dX11_takesSign_7 : decode cX11_takesSign 7 = .ok (.iconst 0, 1) := dk_3 (dk_at dksX11_takesSign_0 7 rfl rfl)
theorem dX11_takesSign_8 : decode cX11_takesSign 8 = .ok (.ireturn, 1) := dk_172 (dk_at dksX11_takesSign_0 8 rfl rfl)
theorem dX11_takesSign_9 : decode cX11_takesSign 9 = .ok (.aload_n 0, 1) := dk_42 (dk_at dksX11_takesSign_0 9 rfl rfl)
theorem dX11_takesSign_10 : decode cX11_takesSign 10 = .ok (.invokevirtual 156, 3) := dk_182 0 156 (dk_at dksX11_takesSign_0 10 rfl rfl)
theorem dX11_takesSign_13 : decode cX11_takesSign 13 = .ok (.aload_n 0, 1) := dk_42 (dk_at dksX11_takesSign_0 13 rfl rfl)
theorem dX11_takesSign_14 : decode cX11_takesSign 14 = .ok (.aload_n 0, 1) := dk_42 (dk_at dksX11_takesSign_0 14 rfl rfl)
theorem dX11_takesSign_15 : decode cX11_takesSign 15 = .ok (.getfield 143, 3) := dk_180 0 143 (dk_at dksX11_takesSign_0 15 rfl rfl)
theorem dX11_takesSign_18 : decode cX11_takesSign 18 = .ok (.invokevirtual 146, 3) := dk_182 0 146 (dk_at dksX11_takesSign_0 18 rfl rfl)
theorem dX11_takesSign_21 : decode cX11_takesSign 21 = .ok (.iload_n 1, 1) := dk_27 (dk_at dksX11_takesSign_0 21 rfl rfl)
theorem dX11_takesSign_22 : decode cX11_takesSign 22 = .ok (.if_icmp .ne 7, 3) := dk_160 0 7 (dk_at dksX11_takesSign_1 0 rfl rfl)
theorem dX11_takesSign_25 : decode cX11_takesSign 25 = .ok (.iconst 1, 1) := dk_4 (dk_at dksX11_takesSign_1 3 rfl rfl)
theorem dX11_takesSign_26 : decode cX11_takesSign 26 = .ok (.goto 4, 3) := dk_167 0 4 (dk_at dksX11_takesSign_1 4 rfl rfl)
theorem dX11_takesSign_29 : decode cX11_takesSign 29 = .ok (.iconst 0, 1) := dk_3 (dk_at dksX11_takesSign_1 7 rfl rfl)
theorem dX11_takesSign_30 : decode cX11_takesSign 30 = .ok (.istore_n 2, 1) := dk_61 (dk_at dksX11_takesSign_1 8 rfl rfl)
theorem dX11_takesSign_31 : decode cX11_takesSign 31 = .ok (.iload_n 2, 1) := dk_28 (dk_at dksX11_takesSign_1 9 rfl rfl)
theorem dX11_takesSign_32 : decode cX11_takesSign 32 = .ok (.ifCond .eq 13, 3) := dk_153 0 13 (dk_at dksX11_takesSign_1 10 rfl rfl)
theorem dX11_takesSign_35 : decode cX11_takesSign 35 = .ok (.aload_n 0, 1) := dk_42 (dk_at dksX11_takesSign_1 13 rfl rfl)
theorem dX11_takesSign_36 : decode cX11_takesSign 36 = .ok (.dup, 1) := dk_89 (dk_at dksX11_takesSign_1 14 rfl rfl)
theorem dX11_takesSign_37 : decode cX11_takesSign 37 = .ok (.getfield 143, 3) := dk_180 0 143 (dk_at dksX11_takesSign_1 15 rfl rfl)
theorem dX11_takesSign_40 : decode cX11_takesSign 40 = .ok (.iconst 1, 1) := dk_4 (dk_at dksX11_takesSign_1 18 rfl rfl)
theorem dX11_takesSign_41 : decode cX11_takesSign 41 = .ok (.iadd, 1) := dk_96 (dk_at dksX11_takesSign_1 19 rfl rfl)
theorem dX11_takesSign_42 : decode cX11_takesSign 42 = .ok (.putfield 143, 3) := dk_181 0 143 (dk_at dksX11_takesSign_1 20 rfl rfl)
theorem dX11_takesSign_45 : decode cX11_takesSign 45 = .ok (.iload_n 2, 1) := dk_28 (dk_at dksX11_takesSign_1 23 rfl rfl)
theorem dX11_takesSign_46 : decode cX11_takesSign 46 = .ok (.ireturn, 1) := dk_172 (dk_at dksX11_takesSign_2 0 rfl rfl)
abbrev cX11_book : ByteArray := prog_22_method_50_code
def yX11_book : MethodName := ⟨RX11, "book", "(I)I"⟩
def dkwX11_book_9 : List UInt8 := [180, 0, 76, 28, 184, 1, 6, 28, 172]
abbrev dktX11_book_9 : List UInt8 := dkwX11_book_9 ++ []
def dkwX11_book_8 : List UInt8 := [153, 0, 8, 42, 182, 1, 3, 172, 42, 2, 181, 0, 9, 42, 28, 181, 1, 17, 42, 180, 0, 79, 42]
abbrev dktX11_book_8 : List UInt8 := dkwX11_book_8 ++ dktX11_book_9
def dkwX11_book_7 : List UInt8 := [180, 0, 79, 28, 50, 5, 21, 6, 79, 132, 2, 1, 42, 182, 0, 156, 167, 255, 125, 42, 180, 0, 150]
abbrev dktX11_book_7 : List UInt8 := dkwX11_book_7 ++ dktX11_book_8
def dkwX11_book_6 : List UInt8 := [154, 0, 36, 42, 180, 0, 79, 28, 50, 3, 21, 4, 79, 42, 180, 0, 79, 28, 50, 4, 21, 5, 79, 42]
abbrev dktX11_book_6 : List UInt8 := dkwX11_book_6 ++ dktX11_book_7
def dkwX11_book_5 : List UInt8 := [180, 0, 23, 3, 46, 4, 100, 182, 0, 202, 54, 6, 42, 16, 59, 182, 0, 232, 42, 180, 0, 150]
abbrev dktX11_book_5 : List UInt8 := dkwX11_book_5 ++ dktX11_book_6
def dkwX11_book_4 : List UInt8 := [29, 182, 0, 163, 42, 3, 42, 180, 0, 23, 4, 46, 4, 100, 182, 0, 202, 54, 5, 42, 3, 42]
abbrev dktX11_book_4 : List UInt8 := dkwX11_book_4 ++ dktX11_book_5
def dkwX11_book_3 : List UInt8 := [42, 4, 16, 60, 182, 0, 202, 54, 4, 42, 180, 0, 150, 154, 0, 15, 28, 16, 12, 160, 0, 9, 42, 6]
abbrev dktX11_book_3 : List UInt8 := dkwX11_book_3 ++ dktX11_book_4
def dkwX11_book_2 : List UInt8 := [61, 42, 180, 0, 150, 154, 0, 130, 42, 180, 0, 143, 42, 180, 0, 140, 162, 0, 119, 42, 180, 0, 143, 62]
abbrev dktX11_book_2 : List UInt8 := dkwX11_book_2 ++ dktX11_book_3
def dkwX11_book_1 : List UInt8 := [164, 0, 7, 4, 167, 0, 4, 3, 4, 4, 182, 0, 249, 153, 0, 5, 3, 172, 42, 27, 182, 0, 253, 3]
abbrev dktX11_book_1 : List UInt8 := dkwX11_book_1 ++ dktX11_book_2
def dkwX11_book_0 : List UInt8 := [42, 3, 181, 0, 134, 42, 27, 3, 42, 180, 0, 137, 184, 0, 168, 153, 0, 10, 27, 17, 0, 150]
abbrev dktX11_book_0 : List UInt8 := dkwX11_book_0 ++ dktX11_book_1
theorem dksX11_book_0 : cX11_book.data.toList.drop 0 = dktX11_book_0 := by decide +kernel
theorem dksX11_book_1 : cX11_book.data.toList.drop 22 = dktX11_book_1 := dk_seg dksX11_book_0 22 rfl rfl
theorem dksX11_book_2 : cX11_book.data.toList.drop 46 = dktX11_book_2 := dk_seg dksX11_book_1 24 rfl rfl
theorem dksX11_book_3 : cX11_book.data.toList.drop 70 = dktX11_book_3 := dk_seg dksX11_book_2 24 rfl rfl
theorem dksX11_book_4 : cX11_book.data.toList.drop 94 = dktX11_book_4 := dk_seg dksX11_book_3 24 rfl rfl
theorem dksX11_book_5 : cX11_book.data.toList.drop 116 = dktX11_book_5 := dk_seg dksX11_book_4 22 rfl rfl
theorem dksX11_book_6 : cX11_book.data.toList.drop 138 = dktX11_book_6 := dk_seg dksX11_book_5 22 rfl rfl
theorem dksX11_book_7 : cX11_book.data.toList.drop 162 = dktX11_book_7 := dk_seg dksX11_book_6 24 rfl rfl
theorem dksX11_book_8 : cX11_book.data.toList.drop 185 = dktX11_book_8 := dk_seg dksX11_book_7 23 rfl rfl
theorem dksX11_book_9 : cX11_book.data.toList.drop 208 = dktX11_book_9 := dk_seg dksX11_book_8 23 rfl rfl
theorem dX11_book_0 : decode cX11_book 0 = .ok (.aload_n 0, 1) := dk_42 (dk_at dksX11_book_0 0 rfl rfl)
theorem dX11_book_1 : decode cX11_book 1 = .ok (.iconst 0, 1) := dk_3 (dk_at dksX11_book_0 1 rfl rfl)
theorem dX11_book_2 : decode cX11_book 2 = .ok (.putfield 134, 3) := dk_181 0 134 (dk_at dksX11_book_0 2 rfl rfl)
theorem dX11_book_5 : decode cX11_book 5 = .ok (.aload_n 0, 1) := dk_42 (dk_at dksX11_book_0 5 rfl rfl)
theorem dX11_book_6 : decode cX11_book 6 = .ok (.iload_n 1, 1) := dk_27 (dk_at dksX11_book_0 6 rfl rfl)
theorem dX11_book_7 : decode cX11_book 7 = .ok (.iconst 0, 1) := dk_3 (dk_at dksX11_book_0 7 rfl rfl)
theorem dX11_book_8 : decode cX11_book 8 = .ok (.aload_n 0, 1) := dk_42 (dk_at dksX11_book_0 8 rfl rfl)
theorem dX11_book_9 : decode cX11_book 9 = .ok (.getfield 137, 3) := dk_180 0 137 (dk_at dksX11_book_0 9 rfl rfl)
theorem dX11_book_12 : decode cX11_book 12 = .ok (.invokestatic 168, 3) := dk_184 0 168 (dk_at dksX11_book_0 12 rfl rfl)
theorem dX11_book_15 : decode cX11_book 15 = .ok (.ifCond .eq 10, 3) := dk_153 0 10 (dk_at dksX11_book_0 15 rfl rfl)
theorem dX11_book_18 : decode cX11_book 18 = .ok (.iload_n 1, 1) := dk_27 (dk_at dksX11_book_0 18 rfl rfl)
theorem dX11_book_19 : decode cX11_book 19 = .ok (.sipush 150, 3) := dk_17 0 150 (dk_at dksX11_book_0 19 rfl rfl)
theorem dX11_book_22 : decode cX11_book 22 = .ok (.if_icmp .le 7, 3) := dk_164 0 7 (dk_at dksX11_book_1 0 rfl rfl)
theorem dX11_book_25 : decode cX11_book 25 = .ok (.iconst 1, 1) := dk_4 (dk_at dksX11_book_1 3 rfl rfl)
theorem dX11_book_26 : decode cX11_book 26 = .ok (.goto 4, 3) := dk_167 0 4 (dk_at dksX11_book_1 4 rfl rfl)
theorem dX11_book_29 : decode cX11_book 29 = .ok (.iconst 0, 1) := dk_3 (dk_at dksX11_book_1 7 rfl rfl)
theorem dX11_book_30 : decode cX11_book 30 = .ok (.iconst 1, 1) := dk_4 (dk_at dksX11_book_1 8 rfl rfl)
theorem dX11_book_31 : decode cX11_book 31 = .ok (.iconst 1, 1) := dk_4 (dk_at dksX11_book_1 9 rfl rfl)
theorem dX11_book_32 : decode cX11_book 32 = .ok (.invokevirtual 249, 3) := dk_182 0 249 (dk_at dksX11_book_1 10 rfl rfl)
theorem dX11_book_35 : decode cX11_book 35 = .ok (.ifCond .eq 5, 3) := dk_153 0 5 (dk_at dksX11_book_1 13 rfl rfl)
theorem dX11_book_38 : decode cX11_book 38 = .ok (.iconst 0, 1) := dk_3 (dk_at dksX11_book_1 16 rfl rfl)
theorem dX11_book_39 : decode cX11_book 39 = .ok (.ireturn, 1) := dk_172 (dk_at dksX11_book_1 17 rfl rfl)
theorem dX11_book_40 : decode cX11_book 40 = .ok (.aload_n 0, 1) := dk_42 (dk_at dksX11_book_1 18 rfl rfl)
theorem dX11_book_41 : decode cX11_book 41 = .ok (.iload_n 1, 1) := dk_27 (dk_at dksX11_book_1 19 rfl rfl)
theorem dX11_book_42 : decode cX11_book 42 = .ok (.invokevirtual 253, 3) := dk_182 0 253 (dk_at dksX11_book_1 20 rfl rfl)
theorem dX11_book_45 : decode cX11_book 45 = .ok (.iconst 0, 1) := dk_3 (dk_at dksX11_book_1 23 rfl rfl)
theorem dX11_book_46 : decode cX11_book 46 = .ok (.istore_n 2, 1) := dk_61 (dk_at dksX11_book_2 0 rfl rfl)
theorem dX11_book_47 : decode cX11_book 47 = .ok (.aload_n 0, 1) := dk_42 (dk_at dksX11_book_2 1 rfl rfl)
theorem dX11_book_48 : decode cX11_book 48 = .ok (.getfield 150, 3) := dk_180 0 150 (dk_at dksX11_book_2 2 rfl rfl)
theorem dX11_book_51 : decode cX11_book 51 = .ok (.ifCond .ne 130, 3) := dk_154 0 130 (dk_at dksX11_book_2 5 rfl rfl)
theorem dX11_book_54 : decode cX11_book 54 = .ok (.aload_n 0, 1) := dk_42 (dk_at dksX11_book_2 8 rfl rfl)
theorem dX11_book_55 : decode cX11_book 55 = .ok (.getfield 143, 3) := dk_180 0 143 (dk_at dksX11_book_2 9 rfl rfl)
theorem dX11_book_58 : decode cX11_book 58 = .ok (.aload_n 0, 1) := dk_42 (dk_at dksX11_book_2 12 rfl rfl)
theorem dX11_book_59 : decode cX11_book 59 = .ok (.getfield 140, 3) := dk_180 0 140 (dk_at dksX11_book_2 13 rfl rfl)
theorem dX11_book_62 : decode cX11_book 62 = .ok (.if_icmp .ge 119, 3) := dk_162 0 119 (dk_at dksX11_book_2 16 rfl rfl)
theorem dX11_book_65 : decode cX11_book 65 = .ok (.aload_n 0, 1) := dk_42 (dk_at dksX11_book_2 19 rfl rfl)
theorem dX11_book_66 : decode cX11_book 66 = .ok (.getfield 143, 3) := dk_180 0 143 (dk_at dksX11_book_2 20 rfl rfl)
theorem dX11_book_69 : decode cX11_book 69 = .ok (.istore_n 3, 1) := dk_62 (dk_at dksX11_book_2 23 rfl rfl)
theorem dX11_book_70 : decode cX11_book 70 = .ok (.aload_n 0, 1) := dk_42 (dk_at dksX11_book_3 0 rfl rfl)
theorem dX11_book_71 : decode cX11_book 71 = .ok (.iconst 1, 1) := dk_4 (dk_at dksX11_book_3 1 rfl rfl)
theorem dX11_book_72 : decode cX11_book 72 = .ok (.bipush 60, 2) := dk_16 60 (dk_at dksX11_book_3 2 rfl rfl)
theorem dX11_book_74 : decode cX11_book 74 = .ok (.invokevirtual 202, 3) := dk_182 0 202 (dk_at dksX11_book_3 4 rfl rfl)
theorem dX11_book_77 : decode cX11_book 77 = .ok (.istore 4, 2) := dk_54 4 (dk_at dksX11_book_3 7 rfl rfl)
theorem dX11_book_79 : decode cX11_book 79 = .ok (.aload_n 0, 1) := dk_42 (dk_at dksX11_book_3 9 rfl rfl)
theorem dX11_book_80 : decode cX11_book 80 = .ok (.getfield 150, 3) := dk_180 0 150 (dk_at dksX11_book_3 10 rfl rfl)
theorem dX11_book_83 : decode cX11_book 83 = .ok (.ifCond .ne 15, 3) := dk_154 0 15 (dk_at dksX11_book_3 13 rfl rfl)
theorem dX11_book_86 : decode cX11_book 86 = .ok (.iload_n 2, 1) := dk_28 (dk_at dksX11_book_3 16 rfl rfl)
theorem dX11_book_87 : decode cX11_book 87 = .ok (.bipush 12, 2) := dk_16 12 (dk_at dksX11_book_3 17 rfl rfl)
theorem dX11_book_89 : decode cX11_book 89 = .ok (.if_icmp .ne 9, 3) := dk_160 0 9 (dk_at dksX11_book_3 19 rfl rfl)
theorem dX11_book_92 : decode cX11_book 92 = .ok (.aload_n 0, 1) := dk_42 (dk_at dksX11_book_3 22 rfl rfl)
theorem dX11_book_93 : decode cX11_book 93 = .ok (.iconst 3, 1) := dk_6 (dk_at dksX11_book_3 23 rfl rfl)
theorem dX11_book_94 : decode cX11_book 94 = .ok (.iload_n 3, 1) := dk_29 (dk_at dksX11_book_4 0 rfl rfl)
theorem dX11_book_95 : decode cX11_book 95 = .ok (.invokevirtual 163, 3) := dk_182 0 163 (dk_at dksX11_book_4 1 rfl rfl)
theorem dX11_book_98 : decode cX11_book 98 = .ok (.aload_n 0, 1) := dk_42 (dk_at dksX11_book_4 4 rfl rfl)
theorem dX11_book_99 : decode cX11_book 99 = .ok (.iconst 0, 1) := dk_3 (dk_at dksX11_book_4 5 rfl rfl)
theorem dX11_book_100 : decode cX11_book 100 = .ok (.aload_n 0, 1) := dk_42 (dk_at dksX11_book_4 6 rfl rfl)
theorem dX11_book_101 : decode cX11_book 101 = .ok (.getfield 23, 3) := dk_180 0 23 (dk_at dksX11_book_4 7 rfl rfl)
theorem dX11_book_104 : decode cX11_book 104 = .ok (.iconst 1, 1) := dk_4 (dk_at dksX11_book_4 10 rfl rfl)
theorem dX11_book_105 : decode cX11_book 105 = .ok (.iaload, 1) := dk_46 (dk_at dksX11_book_4 11 rfl rfl)
theorem dX11_book_106 : decode cX11_book 106 = .ok (.iconst 1, 1) := dk_4 (dk_at dksX11_book_4 12 rfl rfl)
theorem dX11_book_107 : decode cX11_book 107 = .ok (.isub, 1) := dk_100 (dk_at dksX11_book_4 13 rfl rfl)
theorem dX11_book_108 : decode cX11_book 108 = .ok (.invokevirtual 202, 3) := dk_182 0 202 (dk_at dksX11_book_4 14 rfl rfl)
theorem dX11_book_111 : decode cX11_book 111 = .ok (.istore 5, 2) := dk_54 5 (dk_at dksX11_book_4 17 rfl rfl)
theorem dX11_book_113 : decode cX11_book 113 = .ok (.aload_n 0, 1) := dk_42 (dk_at dksX11_book_4 19 rfl rfl)
theorem dX11_book_114 : decode cX11_book 114 = .ok (.iconst 0, 1) := dk_3 (dk_at dksX11_book_4 20 rfl rfl)
theorem dX11_book_115 : decode cX11_book 115 = .ok (.aload_n 0, 1) := dk_42 (dk_at dksX11_book_4 21 rfl rfl)
theorem dX11_book_116 : decode cX11_book 116 = .ok (.getfield 23, 3) := dk_180 0 23 (dk_at dksX11_book_5 0 rfl rfl)
theorem dX11_book_119 : decode cX11_book 119 = .ok (.iconst 0, 1) := dk_3 (dk_at dksX11_book_5 3 rfl rfl)
theorem dX11_book_120 : decode cX11_book 120 = .ok (.iaload, 1) := dk_46 (dk_at dksX11_book_5 4 rfl rfl)
theorem dX11_book_121 : decode cX11_book 121 = .ok (.iconst 1, 1) := dk_4 (dk_at dksX11_book_5 5 rfl rfl)
theorem dX11_book_122 : decode cX11_book 122 = .ok (.isub, 1) := dk_100 (dk_at dksX11_book_5 6 rfl rfl)
theorem dX11_book_123 : decode cX11_book 123 = .ok (.invokevirtual 202, 3) := dk_182 0 202 (dk_at dksX11_book_5 7 rfl rfl)
theorem dX11_book_126 : decode cX11_book 126 = .ok (.istore 6, 2) := dk_54 6 (dk_at dksX11_book_5 10 rfl rfl)
theorem dX11_book_128 : decode cX11_book 128 = .ok (.aload_n 0, 1) := dk_42 (dk_at dksX11_book_5 12 rfl rfl)
theorem dX11_book_129 : decode cX11_book 129 = .ok (.bipush 59, 2) := dk_16 59 (dk_at dksX11_book_5 13 rfl rfl)
theorem dX11_book_131 : decode cX11_book 131 = .ok (.invokevirtual 232, 3) := dk_182 0 232 (dk_at dksX11_book_5 15 rfl rfl)
theorem dX11_book_134 : decode cX11_book 134 = .ok (.aload_n 0, 1) := dk_42 (dk_at dksX11_book_5 18 rfl rfl)
theorem dX11_book_135 : decode cX11_book 135 = .ok (.getfield 150, 3) := dk_180 0 150 (dk_at dksX11_book_5 19 rfl rfl)
theorem dX11_book_138 : decode cX11_book 138 = .ok (.ifCond .ne 36, 3) := dk_154 0 36 (dk_at dksX11_book_6 0 rfl rfl)
theorem dX11_book_141 : decode cX11_book 141 = .ok (.aload_n 0, 1) := dk_42 (dk_at dksX11_book_6 3 rfl rfl)
theorem dX11_book_142 : decode cX11_book 142 = .ok (.getfield 79, 3) := dk_180 0 79 (dk_at dksX11_book_6 4 rfl rfl)
theorem dX11_book_145 : decode cX11_book 145 = .ok (.iload_n 2, 1) := dk_28 (dk_at dksX11_book_6 7 rfl rfl)
theorem dX11_book_146 : decode cX11_book 146 = .ok (.aaload, 1) := dk_50 (dk_at dksX11_book_6 8 rfl rfl)
theorem dX11_book_147 : decode cX11_book 147 = .ok (.iconst 0, 1) := dk_3 (dk_at dksX11_book_6 9 rfl rfl)
theorem dX11_book_148 : decode cX11_book 148 = .ok (.iload 4, 2) := dk_21 4 (dk_at dksX11_book_6 10 rfl rfl)
theorem dX11_book_150 : decode cX11_book 150 = .ok (.iastore, 1) := dk_79 (dk_at dksX11_book_6 12 rfl rfl)
theorem dX11_book_151 : decode cX11_book 151 = .ok (.aload_n 0, 1) := dk_42 (dk_at dksX11_book_6 13 rfl rfl)
theorem dX11_book_152 : decode cX11_book 152 = .ok (.getfield 79, 3) := dk_180 0 79 (dk_at dksX11_book_6 14 rfl rfl)
theorem dX11_book_155 : decode cX11_book 155 = .ok (.iload_n 2, 1) := dk_28 (dk_at dksX11_book_6 17 rfl rfl)
theorem dX11_book_156 : decode cX11_book 156 = .ok (.aaload, 1) := dk_50 (dk_at dksX11_book_6 18 rfl rfl)
theorem dX11_book_157 : decode cX11_book 157 = .ok (.iconst 1, 1) := dk_4 (dk_at dksX11_book_6 19 rfl rfl)
theorem dX11_book_158 : decode cX11_book 158 = .ok (.iload 5, 2) := dk_21 5 (dk_at dksX11_book_6 20 rfl rfl)
theorem dX11_book_160 : decode cX11_book 160 = .ok (.iastore, 1) := dk_79 (dk_at dksX11_book_6 22 rfl rfl)
theorem dX11_book_161 : decode cX11_book 161 = .ok (.aload_n 0, 1) := dk_42 (dk_at dksX11_book_6 23 rfl rfl)
theorem dX11_book_162 : decode cX11_book 162 = .ok (.getfield 79, 3) := dk_180 0 79 (dk_at dksX11_book_7 0 rfl rfl)
theorem dX11_book_165 : decode cX11_book 165 = .ok (.iload_n 2, 1) := dk_28 (dk_at dksX11_book_7 3 rfl rfl)
theorem dX11_book_166 : decode cX11_book 166 = .ok (.aaload, 1) := dk_50 (dk_at dksX11_book_7 4 rfl rfl)
theorem dX11_book_167 : decode cX11_book 167 = .ok (.iconst 2, 1) := dk_5 (dk_at dksX11_book_7 5 rfl rfl)
theorem dX11_book_168 : decode cX11_book 168 = .ok (.iload 6, 2) := dk_21 6 (dk_at dksX11_book_7 6 rfl rfl)
theorem dX11_book_170 : decode cX11_book 170 = .ok (.iastore, 1) := dk_79 (dk_at dksX11_book_7 8 rfl rfl)
theorem dX11_book_171 : decode cX11_book 171 = .ok (.iinc 2 1, 3) := dk_132 2 1 (dk_at dksX11_book_7 9 rfl rfl)
theorem dX11_book_174 : decode cX11_book 174 = .ok (.aload_n 0, 1) := dk_42 (dk_at dksX11_book_7 12 rfl rfl)
theorem dX11_book_175 : decode cX11_book 175 = .ok (.invokevirtual 156, 3) := dk_182 0 156 (dk_at dksX11_book_7 13 rfl rfl)
theorem dX11_book_178 : decode cX11_book 178 = .ok (.goto (-131), 3) := dk_167 255 125 (dk_at dksX11_book_7 16 rfl rfl)
theorem dX11_book_181 : decode cX11_book 181 = .ok (.aload_n 0, 1) := dk_42 (dk_at dksX11_book_7 19 rfl rfl)
theorem dX11_book_182 : decode cX11_book 182 = .ok (.getfield 150, 3) := dk_180 0 150 (dk_at dksX11_book_7 20 rfl rfl)
theorem dX11_book_185 : decode cX11_book 185 = .ok (.ifCond .eq 8, 3) := dk_153 0 8 (dk_at dksX11_book_8 0 rfl rfl)
theorem dX11_book_188 : decode cX11_book 188 = .ok (.aload_n 0, 1) := dk_42 (dk_at dksX11_book_8 3 rfl rfl)
theorem dX11_book_189 : decode cX11_book 189 = .ok (.invokevirtual 259, 3) := dk_182 1 3 (dk_at dksX11_book_8 4 rfl rfl)
theorem dX11_book_192 : decode cX11_book 192 = .ok (.ireturn, 1) := dk_172 (dk_at dksX11_book_8 7 rfl rfl)
theorem dX11_book_193 : decode cX11_book 193 = .ok (.aload_n 0, 1) := dk_42 (dk_at dksX11_book_8 8 rfl rfl)
theorem dX11_book_194 : decode cX11_book 194 = .ok (.iconst (-1), 1) := dk_2 (dk_at dksX11_book_8 9 rfl rfl)
theorem dX11_book_195 : decode cX11_book 195 = .ok (.putfield 9, 3) := dk_181 0 9 (dk_at dksX11_book_8 10 rfl rfl)
theorem dX11_book_198 : decode cX11_book 198 = .ok (.aload_n 0, 1) := dk_42 (dk_at dksX11_book_8 13 rfl rfl)
theorem dX11_book_199 : decode cX11_book 199 = .ok (.iload_n 2, 1) := dk_28 (dk_at dksX11_book_8 14 rfl rfl)
theorem dX11_book_200 : decode cX11_book 200 = .ok (.putfield 273, 3) := dk_181 1 17 (dk_at dksX11_book_8 15 rfl rfl)
theorem dX11_book_203 : decode cX11_book 203 = .ok (.aload_n 0, 1) := dk_42 (dk_at dksX11_book_8 18 rfl rfl)
theorem dX11_book_204 : decode cX11_book 204 = .ok (.getfield 79, 3) := dk_180 0 79 (dk_at dksX11_book_8 19 rfl rfl)
theorem dX11_book_207 : decode cX11_book 207 = .ok (.aload_n 0, 1) := dk_42 (dk_at dksX11_book_8 22 rfl rfl)
theorem dX11_book_208 : decode cX11_book 208 = .ok (.getfield 76, 3) := dk_180 0 76 (dk_at dksX11_book_9 0 rfl rfl)
theorem dX11_book_211 : decode cX11_book 211 = .ok (.iload_n 2, 1) := dk_28 (dk_at dksX11_book_9 3 rfl rfl)
theorem dX11_book_212 : decode cX11_book 212 = .ok (.invokestatic 262, 3) := dk_184 1 6 (dk_at dksX11_book_9 4 rfl rfl)
theorem dX11_book_215 : decode cX11_book 215 = .ok (.iload_n 2, 1) := dk_28 (dk_at dksX11_book_9 7 rfl rfl)
theorem dX11_book_216 : decode cX11_book 216 = .ok (.ireturn, 1) := dk_172 (dk_at dksX11_book_9 8 rfl rfl)
abbrev cX11_fault : ByteArray := prog_22_method_51_code
def yX11_fault : MethodName := ⟨RX11, "fault", "()I"⟩
def dkwX11_fault_0 : List UInt8 := [42, 3, 181, 0, 134, 42, 180, 0, 9, 172]
abbrev dktX11_fault_0 : List UInt8 := dkwX11_fault_0 ++ []
theorem dksX11_fault_0 : cX11_fault.data.toList.drop 0 = dktX11_fault_0 := by decide +kernel
theorem dX11_fault_0 : decode cX11_fault 0 = .ok (.aload_n 0, 1) := dk_42 (dk_at dksX11_fault_0 0 rfl rfl)
theorem dX11_fault_1 : decode cX11_fault 1 = .ok (.iconst 0, 1) := dk_3 (dk_at dksX11_fault_0 1 rfl rfl)
theorem dX11_fault_2 : decode cX11_fault 2 = .ok (.putfield 134, 3) := dk_181 0 134 (dk_at dksX11_fault_0 2 rfl rfl)
theorem dX11_fault_5 : decode cX11_fault 5 = .ok (.aload_n 0, 1) := dk_42 (dk_at dksX11_fault_0 5 rfl rfl)
theorem dX11_fault_6 : decode cX11_fault 6 = .ok (.getfield 9, 3) := dk_180 0 9 (dk_at dksX11_fault_0 6 rfl rfl)
theorem dX11_fault_9 : decode cX11_fault 9 = .ok (.ireturn, 1) := dk_172 (dk_at dksX11_fault_0 9 rfl rfl)
abbrev cX11_told : ByteArray := prog_22_method_58_code
def yX11_told : MethodName := ⟨RX11, "told", "(I)I"⟩
def dkwX11_told_4 : List UInt8 := [184, 0, 246, 172, 42, 42, 180, 0, 91, 182, 1, 72, 172, 42, 180, 1, 17, 172]
abbrev dktX11_told_4 : List UInt8 := dkwX11_told_4 ++ []
def dkwX11_told_3 : List UInt8 := [42, 180, 0, 23, 27, 46, 172, 42, 180, 0, 91, 16, 106, 46, 172, 42, 42, 180, 0, 91, 182, 1, 68]
abbrev dktX11_told_3 : List UInt8 := dkwX11_told_3 ++ dktX11_told_4
def dkwX11_told_2 : List UInt8 := [170, 0, 0, 0, 0, 0, 0, 76, 0, 0, 0, 0, 0, 0, 0, 5, 0, 0, 0, 40, 0, 0, 0, 40, 0, 0, 0, 40, 0, 0, 0, 47, 0, 0, 0, 55, 0, 0, 0, 67]
abbrev dktX11_told_2 : List UInt8 := dkwX11_told_2 ++ dktX11_told_3
def dkwX11_told_1 : List UInt8 := [182, 0, 249, 153, 0, 5, 3, 172, 27]
abbrev dktX11_told_1 : List UInt8 := dkwX11_told_1 ++ dktX11_told_2
def dkwX11_told_0 : List UInt8 := [42, 3, 181, 0, 134, 42, 27, 3, 16, 6, 184, 0, 168, 154, 0, 7, 4, 167, 0, 4, 3, 4, 4]
abbrev dktX11_told_0 : List UInt8 := dkwX11_told_0 ++ dktX11_told_1
theorem dksX11_told_0 : cX11_told.data.toList.drop 0 = dktX11_told_0 := by decide +kernel
theorem dksX11_told_1 : cX11_told.data.toList.drop 23 = dktX11_told_1 := dk_seg dksX11_told_0 23 rfl rfl
theorem dksX11_told_2 : cX11_told.data.toList.drop 32 = dktX11_told_2 := dk_seg dksX11_told_1 9 rfl rfl
theorem dksX11_told_3 : cX11_told.data.toList.drop 72 = dktX11_told_3 := dk_seg dksX11_told_2 40 rfl rfl
theorem dksX11_told_4 : cX11_told.data.toList.drop 95 = dktX11_told_4 := dk_seg dksX11_told_3 23 rfl rfl
theorem dX11_told_0 : decode cX11_told 0 = .ok (.aload_n 0, 1) := dk_42 (dk_at dksX11_told_0 0 rfl rfl)
theorem dX11_told_1 : decode cX11_told 1 = .ok (.iconst 0, 1) := dk_3 (dk_at dksX11_told_0 1 rfl rfl)
theorem dX11_told_2 : decode cX11_told 2 = .ok (.putfield 134, 3) := dk_181 0 134 (dk_at dksX11_told_0 2 rfl rfl)
theorem dX11_told_5 : decode cX11_told 5 = .ok (.aload_n 0, 1) := dk_42 (dk_at dksX11_told_0 5 rfl rfl)
theorem dX11_told_6 : decode cX11_told 6 = .ok (.iload_n 1, 1) := dk_27 (dk_at dksX11_told_0 6 rfl rfl)
theorem dX11_told_7 : decode cX11_told 7 = .ok (.iconst 0, 1) := dk_3 (dk_at dksX11_told_0 7 rfl rfl)
theorem dX11_told_8 : decode cX11_told 8 = .ok (.bipush 6, 2) := dk_16 6 (dk_at dksX11_told_0 8 rfl rfl)
theorem dX11_told_10 : decode cX11_told 10 = .ok (.invokestatic 168, 3) := dk_184 0 168 (dk_at dksX11_told_0 10 rfl rfl)
theorem dX11_told_13 : decode cX11_told 13 = .ok (.ifCond .ne 7, 3) := dk_154 0 7 (dk_at dksX11_told_0 13 rfl rfl)
theorem dX11_told_16 : decode cX11_told 16 = .ok (.iconst 1, 1) := dk_4 (dk_at dksX11_told_0 16 rfl rfl)
theorem dX11_told_17 : decode cX11_told 17 = .ok (.goto 4, 3) := dk_167 0 4 (dk_at dksX11_told_0 17 rfl rfl)
theorem dX11_told_20 : decode cX11_told 20 = .ok (.iconst 0, 1) := dk_3 (dk_at dksX11_told_0 20 rfl rfl)
theorem dX11_told_21 : decode cX11_told 21 = .ok (.iconst 1, 1) := dk_4 (dk_at dksX11_told_0 21 rfl rfl)
theorem dX11_told_22 : decode cX11_told 22 = .ok (.iconst 1, 1) := dk_4 (dk_at dksX11_told_0 22 rfl rfl)
theorem dX11_told_23 : decode cX11_told 23 = .ok (.invokevirtual 249, 3) := dk_182 0 249 (dk_at dksX11_told_1 0 rfl rfl)
theorem dX11_told_26 : decode cX11_told 26 = .ok (.ifCond .eq 5, 3) := dk_153 0 5 (dk_at dksX11_told_1 3 rfl rfl)
theorem dX11_told_29 : decode cX11_told 29 = .ok (.iconst 0, 1) := dk_3 (dk_at dksX11_told_1 6 rfl rfl)
theorem dX11_told_30 : decode cX11_told 30 = .ok (.ireturn, 1) := dk_172 (dk_at dksX11_told_1 7 rfl rfl)
theorem dX11_told_31 : decode cX11_told 31 = .ok (.iload_n 1, 1) := dk_27 (dk_at dksX11_told_1 8 rfl rfl)
theorem dX11_told_32 : decode cX11_told 32 = .ok (.tableswitch 76 0 5 #[40, 40, 40, 47, 55, 67], 40) := by decide +kernel
theorem dX11_told_72 : decode cX11_told 72 = .ok (.aload_n 0, 1) := dk_42 (dk_at dksX11_told_3 0 rfl rfl)
theorem dX11_told_73 : decode cX11_told 73 = .ok (.getfield 23, 3) := dk_180 0 23 (dk_at dksX11_told_3 1 rfl rfl)
theorem dX11_told_76 : decode cX11_told 76 = .ok (.iload_n 1, 1) := dk_27 (dk_at dksX11_told_3 4 rfl rfl)
theorem dX11_told_77 : decode cX11_told 77 = .ok (.iaload, 1) := dk_46 (dk_at dksX11_told_3 5 rfl rfl)
theorem dX11_told_78 : decode cX11_told 78 = .ok (.ireturn, 1) := dk_172 (dk_at dksX11_told_3 6 rfl rfl)
theorem dX11_told_79 : decode cX11_told 79 = .ok (.aload_n 0, 1) := dk_42 (dk_at dksX11_told_3 7 rfl rfl)
theorem dX11_told_80 : decode cX11_told 80 = .ok (.getfield 91, 3) := dk_180 0 91 (dk_at dksX11_told_3 8 rfl rfl)
theorem dX11_told_83 : decode cX11_told 83 = .ok (.bipush 106, 2) := dk_16 106 (dk_at dksX11_told_3 11 rfl rfl)
theorem dX11_told_85 : decode cX11_told 85 = .ok (.iaload, 1) := dk_46 (dk_at dksX11_told_3 13 rfl rfl)
theorem dX11_told_86 : decode cX11_told 86 = .ok (.ireturn, 1) := dk_172 (dk_at dksX11_told_3 14 rfl rfl)
theorem dX11_told_87 : decode cX11_told 87 = .ok (.aload_n 0, 1) := dk_42 (dk_at dksX11_told_3 15 rfl rfl)
theorem dX11_told_88 : decode cX11_told 88 = .ok (.aload_n 0, 1) := dk_42 (dk_at dksX11_told_3 16 rfl rfl)
theorem dX11_told_89 : decode cX11_told 89 = .ok (.getfield 91, 3) := dk_180 0 91 (dk_at dksX11_told_3 17 rfl rfl)
theorem dX11_told_92 : decode cX11_told 92 = .ok (.invokevirtual 324, 3) := dk_182 1 68 (dk_at dksX11_told_3 20 rfl rfl)
theorem dX11_told_95 : decode cX11_told 95 = .ok (.invokestatic 246, 3) := dk_184 0 246 (dk_at dksX11_told_4 0 rfl rfl)
theorem dX11_told_98 : decode cX11_told 98 = .ok (.ireturn, 1) := dk_172 (dk_at dksX11_told_4 3 rfl rfl)
theorem dX11_told_99 : decode cX11_told 99 = .ok (.aload_n 0, 1) := dk_42 (dk_at dksX11_told_4 4 rfl rfl)
theorem dX11_told_100 : decode cX11_told 100 = .ok (.aload_n 0, 1) := dk_42 (dk_at dksX11_told_4 5 rfl rfl)
theorem dX11_told_101 : decode cX11_told 101 = .ok (.getfield 91, 3) := dk_180 0 91 (dk_at dksX11_told_4 6 rfl rfl)
theorem dX11_told_104 : decode cX11_told 104 = .ok (.invokevirtual 328, 3) := dk_182 1 72 (dk_at dksX11_told_4 9 rfl rfl)
theorem dX11_told_107 : decode cX11_told 107 = .ok (.ireturn, 1) := dk_172 (dk_at dksX11_told_4 12 rfl rfl)
theorem dX11_told_108 : decode cX11_told 108 = .ok (.aload_n 0, 1) := dk_42 (dk_at dksX11_told_4 13 rfl rfl)
theorem dX11_told_109 : decode cX11_told 109 = .ok (.getfield 273, 3) := dk_180 1 17 (dk_at dksX11_told_4 14 rfl rfl)
theorem dX11_told_112 : decode cX11_told 112 = .ok (.ireturn, 1) := dk_172 (dk_at dksX11_told_4 17 rfl rfl)
abbrev cX11_aliveOf : ByteArray := prog_22_method_56_code
def yX11_aliveOf : MethodName := ⟨RX11, "aliveOf", "([I)I"⟩
def dkwX11_aliveOf_1 : List UInt8 := [4, 29, 120, 167, 0, 4, 3, 128, 61, 132, 3, 1, 167, 255, 224, 28, 172]
abbrev dktX11_aliveOf_1 : List UInt8 := dkwX11_aliveOf_1 ++ []
def dkwX11_aliveOf_0 : List UInt8 := [3, 61, 3, 62, 29, 42, 180, 0, 23, 3, 46, 162, 0, 28, 28, 42, 43, 29, 182, 1, 64, 153, 0, 9]
abbrev dktX11_aliveOf_0 : List UInt8 := dkwX11_aliveOf_0 ++ dktX11_aliveOf_1
theorem dksX11_aliveOf_0 : cX11_aliveOf.data.toList.drop 0 = dktX11_aliveOf_0 := by decide +kernel
theorem dksX11_aliveOf_1 : cX11_aliveOf.data.toList.drop 24 = dktX11_aliveOf_1 := dk_seg dksX11_aliveOf_0 24 rfl rfl
theorem dX11_aliveOf_0 : decode cX11_aliveOf 0 = .ok (.iconst 0, 1) := dk_3 (dk_at dksX11_aliveOf_0 0 rfl rfl)
theorem dX11_aliveOf_1 : decode cX11_aliveOf 1 = .ok (.istore_n 2, 1) := dk_61 (dk_at dksX11_aliveOf_0 1 rfl rfl)
theorem dX11_aliveOf_2 : decode cX11_aliveOf 2 = .ok (.iconst 0, 1) := dk_3 (dk_at dksX11_aliveOf_0 2 rfl rfl)
theorem dX11_aliveOf_3 : decode cX11_aliveOf 3 = .ok (.istore_n 3, 1) := dk_62 (dk_at dksX11_aliveOf_0 3 rfl rfl)
theorem dX11_aliveOf_4 : decode cX11_aliveOf 4 = .ok (.iload_n 3, 1) := dk_29 (dk_at dksX11_aliveOf_0 4 rfl rfl)
theorem dX11_aliveOf_5 : decode cX11_aliveOf 5 = .ok (.aload_n 0, 1) := dk_42 (dk_at dksX11_aliveOf_0 5 rfl rfl)
theorem dX11_aliveOf_6 : decode cX11_aliveOf 6 = .ok (.getfield 23, 3) := dk_180 0 23 (dk_at dksX11_aliveOf_0 6 rfl rfl)
theorem dX11_aliveOf_9 : decode cX11_aliveOf 9 = .ok (.iconst 0, 1) := dk_3 (dk_at dksX11_aliveOf_0 9 rfl rfl)
theorem dX11_aliveOf_10 : decode cX11_aliveOf 10 = .ok (.iaload, 1) := dk_46 (dk_at dksX11_aliveOf_0 10 rfl rfl)
theorem dX11_aliveOf_11 : decode cX11_aliveOf 11 = .ok (.if_icmp .ge 28, 3) := dk_162 0 28 (dk_at dksX11_aliveOf_0 11 rfl rfl)
theorem dX11_aliveOf_14 : decode cX11_aliveOf 14 = .ok (.iload_n 2, 1) := dk_28 (dk_at dksX11_aliveOf_0 14 rfl rfl)
theorem dX11_aliveOf_15 : decode cX11_aliveOf 15 = .ok (.aload_n 0, 1) := dk_42 (dk_at dksX11_aliveOf_0 15 rfl rfl)
theorem dX11_aliveOf_16 : decode cX11_aliveOf 16 = .ok (.aload_n 1, 1) := dk_43 (dk_at dksX11_aliveOf_0 16 rfl rfl)
theorem dX11_aliveOf_17 : decode cX11_aliveOf 17 = .ok (.iload_n 3, 1) := dk_29 (dk_at dksX11_aliveOf_0 17 rfl rfl)
theorem dX11_aliveOf_18 : decode cX11_aliveOf 18 = .ok (.invokevirtual 320, 3) := dk_182 1 64 (dk_at dksX11_aliveOf_0 18 rfl rfl)
theorem dX11_aliveOf_21 : decode cX11_aliveOf 21 = .ok (.ifCond .eq 9, 3) := dk_153 0 9 (dk_at dksX11_aliveOf_0 21 rfl rfl)
theorem dX11_aliveOf_24 : decode cX11_aliveOf 24 = .ok (.iconst 1, 1) := dk_4 (dk_at dksX11_aliveOf_1 0 rfl rfl)
theorem dX11_aliveOf_25 : decode cX11_aliveOf 25 = .ok (.iload_n 3, 1) := dk_29 (dk_at dksX11_aliveOf_1 1 rfl rfl)
theorem dX11_aliveOf_26 : decode cX11_aliveOf 26 = .ok (.ishl, 1) := dk_120 (dk_at dksX11_aliveOf_1 2 rfl rfl)
theorem dX11_aliveOf_27 : decode cX11_aliveOf 27 = .ok (.goto 4, 3) := dk_167 0 4 (dk_at dksX11_aliveOf_1 3 rfl rfl)
theorem dX11_aliveOf_30 : decode cX11_aliveOf 30 = .ok (.iconst 0, 1) := dk_3 (dk_at dksX11_aliveOf_1 6 rfl rfl)
theorem dX11_aliveOf_31 : decode cX11_aliveOf 31 = .ok (.ior, 1) := dk_128 (dk_at dksX11_aliveOf_1 7 rfl rfl)
theorem dX11_aliveOf_32 : decode cX11_aliveOf 32 = .ok (.istore_n 2, 1) := dk_61 (dk_at dksX11_aliveOf_1 8 rfl rfl)
theorem dX11_aliveOf_33 : decode cX11_aliveOf 33 = .ok (.iinc 3 1, 3) := dk_132 3 1 (dk_at dksX11_aliveOf_1 9 rfl rfl)
theorem dX11_aliveOf_36 : decode cX11_aliveOf 36 = .ok (.goto (-32), 3) := dk_167 255 224 (dk_at dksX11_aliveOf_1 12 rfl rfl)
theorem dX11_aliveOf_39 : decode cX11_aliveOf 39 = .ok (.iload_n 2, 1) := dk_28 (dk_at dksX11_aliveOf_1 15 rfl rfl)
theorem dX11_aliveOf_40 : decode cX11_aliveOf 40 = .ok (.ireturn, 1) := dk_172 (dk_at dksX11_aliveOf_1 16 rfl rfl)
abbrev cX11_isAlive : ByteArray := prog_22_method_55_code
def yX11_isAlive : MethodName := ⟨RX11, "isAlive", "([II)Z"⟩
def dkwX11_isAlive_1 : List UInt8 := [154, 0, 7, 4, 167, 0, 4, 3, 172]
abbrev dktX11_isAlive_1 : List UInt8 := dkwX11_isAlive_1 ++ []
def dkwX11_isAlive_0 : List UInt8 := [42, 180, 0, 49, 28, 50, 4, 46, 43, 16, 106, 46, 163, 0, 17, 43, 3, 46, 28, 184, 0, 242]
abbrev dktX11_isAlive_0 : List UInt8 := dkwX11_isAlive_0 ++ dktX11_isAlive_1
theorem dksX11_isAlive_0 : cX11_isAlive.data.toList.drop 0 = dktX11_isAlive_0 := by decide +kernel
theorem dksX11_isAlive_1 : cX11_isAlive.data.toList.drop 22 = dktX11_isAlive_1 := dk_seg dksX11_isAlive_0 22 rfl rfl
theorem dX11_isAlive_0 : decode cX11_isAlive 0 = .ok (.aload_n 0, 1) := dk_42 (dk_at dksX11_isAlive_0 0 rfl rfl)
theorem dX11_isAlive_1 : decode cX11_isAlive 1 = .ok (.getfield 49, 3) := dk_180 0 49 (dk_at dksX11_isAlive_0 1 rfl rfl)
theorem dX11_isAlive_4 : decode cX11_isAlive 4 = .ok (.iload_n 2, 1) := dk_28 (dk_at dksX11_isAlive_0 4 rfl rfl)
theorem dX11_isAlive_5 : decode cX11_isAlive 5 = .ok (.aaload, 1) := dk_50 (dk_at dksX11_isAlive_0 5 rfl rfl)
theorem dX11_isAlive_6 : decode cX11_isAlive 6 = .ok (.iconst 1, 1) := dk_4 (dk_at dksX11_isAlive_0 6 rfl rfl)
theorem dX11_isAlive_7 : decode cX11_isAlive 7 = .ok (.iaload, 1) := dk_46 (dk_at dksX11_isAlive_0 7 rfl rfl)
theorem dX11_isAlive_8 : decode cX11_isAlive 8 = .ok (.aload_n 1, 1) := dk_43 (dk_at dksX11_isAlive_0 8 rfl rfl)
theorem dX11_isAlive_9 : decode cX11_isAlive 9 = .ok (.bipush 106, 2) := dk_16 106 (dk_at dksX11_isAlive_0 9 rfl rfl)
theorem dX11_isAlive_11 : decode cX11_isAlive 11 = .ok (.iaload, 1) := dk_46 (dk_at dksX11_isAlive_0 11 rfl rfl)
theorem dX11_isAlive_12 : decode cX11_isAlive 12 = .ok (.if_icmp .gt 17, 3) := dk_163 0 17 (dk_at dksX11_isAlive_0 12 rfl rfl)
theorem dX11_isAlive_15 : decode cX11_isAlive 15 = .ok (.aload_n 1, 1) := dk_43 (dk_at dksX11_isAlive_0 15 rfl rfl)
theorem dX11_isAlive_16 : decode cX11_isAlive 16 = .ok (.iconst 0, 1) := dk_3 (dk_at dksX11_isAlive_0 16 rfl rfl)
theorem dX11_isAlive_17 : decode cX11_isAlive 17 = .ok (.iaload, 1) := dk_46 (dk_at dksX11_isAlive_0 17 rfl rfl)
theorem dX11_isAlive_18 : decode cX11_isAlive 18 = .ok (.iload_n 2, 1) := dk_28 (dk_at dksX11_isAlive_0 18 rfl rfl)
theorem dX11_isAlive_19 : decode cX11_isAlive 19 = .ok (.invokestatic 242, 3) := dk_184 0 242 (dk_at dksX11_isAlive_0 19 rfl rfl)
theorem dX11_isAlive_22 : decode cX11_isAlive 22 = .ok (.ifCond .ne 7, 3) := dk_154 0 7 (dk_at dksX11_isAlive_1 0 rfl rfl)
theorem dX11_isAlive_25 : decode cX11_isAlive 25 = .ok (.iconst 1, 1) := dk_4 (dk_at dksX11_isAlive_1 3 rfl rfl)
theorem dX11_isAlive_26 : decode cX11_isAlive 26 = .ok (.goto 4, 3) := dk_167 0 4 (dk_at dksX11_isAlive_1 4 rfl rfl)
theorem dX11_isAlive_29 : decode cX11_isAlive 29 = .ok (.iconst 0, 1) := dk_3 (dk_at dksX11_isAlive_1 7 rfl rfl)
theorem dX11_isAlive_30 : decode cX11_isAlive 30 = .ok (.ireturn, 1) := dk_172 (dk_at dksX11_isAlive_1 8 rfl rfl)
abbrev cX11_stringsOf : ByteArray := prog_22_method_57_code
def yX11_stringsOf : MethodName := ⟨RX11, "stringsOf", "([I)I"⟩
def dkwX11_stringsOf_1 : List UInt8 := [132, 3, 1, 167, 255, 234, 28, 172]
abbrev dktX11_stringsOf_1 : List UInt8 := dkwX11_stringsOf_1 ++ []
def dkwX11_stringsOf_0 : List UInt8 := [3, 61, 3, 62, 29, 42, 180, 0, 23, 4, 46, 162, 0, 18, 28, 43, 16, 9, 29, 96, 46, 96, 61]
abbrev dktX11_stringsOf_0 : List UInt8 := dkwX11_stringsOf_0 ++ dktX11_stringsOf_1
theorem dksX11_stringsOf_0 : cX11_stringsOf.data.toList.drop 0 = dktX11_stringsOf_0 := by decide +kernel
theorem dksX11_stringsOf_1 : cX11_stringsOf.data.toList.drop 23 = dktX11_stringsOf_1 := dk_seg dksX11_stringsOf_0 23 rfl rfl
theorem dX11_stringsOf_0 : decode cX11_stringsOf 0 = .ok (.iconst 0, 1) := dk_3 (dk_at dksX11_stringsOf_0 0 rfl rfl)
theorem dX11_stringsOf_1 : decode cX11_stringsOf 1 = .ok (.istore_n 2, 1) := dk_61 (dk_at dksX11_stringsOf_0 1 rfl rfl)
theorem dX11_stringsOf_2 : decode cX11_stringsOf 2 = .ok (.iconst 0, 1) := dk_3 (dk_at dksX11_stringsOf_0 2 rfl rfl)
theorem dX11_stringsOf_3 : decode cX11_stringsOf 3 = .ok (.istore_n 3, 1) := dk_62 (dk_at dksX11_stringsOf_0 3 rfl rfl)
theorem dX11_stringsOf_4 : decode cX11_stringsOf 4 = .ok (.iload_n 3, 1) := dk_29 (dk_at dksX11_stringsOf_0 4 rfl rfl)
theorem dX11_stringsOf_5 : decode cX11_stringsOf 5 = .ok (.aload_n 0, 1) := dk_42 (dk_at dksX11_stringsOf_0 5 rfl rfl)
theorem dX11_stringsOf_6 : decode cX11_stringsOf 6 = .ok (.getfield 23, 3) := dk_180 0 23 (dk_at dksX11_stringsOf_0 6 rfl rfl)
theorem dX11_stringsOf_9 : decode cX11_stringsOf 9 = .ok (.iconst 1, 1) := dk_4 (dk_at dksX11_stringsOf_0 9 rfl rfl)
theorem dX11_stringsOf_10 : decode cX11_stringsOf 10 = .ok (.iaload, 1) := dk_46 (dk_at dksX11_stringsOf_0 10 rfl rfl)
theorem dX11_stringsOf_11 : decode cX11_stringsOf 11 = .ok (.if_icmp .ge 18, 3) := dk_162 0 18 (dk_at dksX11_stringsOf_0 11 rfl rfl)
theorem dX11_stringsOf_14 : decode cX11_stringsOf 14 = .ok (.iload_n 2, 1) := dk_28 (dk_at dksX11_stringsOf_0 14 rfl rfl)
theorem dX11_stringsOf_15 : decode cX11_stringsOf 15 = .ok (.aload_n 1, 1) := dk_43 (dk_at dksX11_stringsOf_0 15 rfl rfl)
theorem dX11_stringsOf_16 : decode cX11_stringsOf 16 = .ok (.bipush 9, 2) := dk_16 9 (dk_at dksX11_stringsOf_0 16 rfl rfl)
theorem dX11_stringsOf_18 : decode cX11_stringsOf 18 = .ok (.iload_n 3, 1) := dk_29 (dk_at dksX11_stringsOf_0 18 rfl rfl)
theorem dX11_stringsOf_19 : decode cX11_stringsOf 19 = .ok (.iadd, 1) := dk_96 (dk_at dksX11_stringsOf_0 19 rfl rfl)
theorem dX11_stringsOf_20 : decode cX11_stringsOf 20 = .ok (.iaload, 1) := dk_46 (dk_at dksX11_stringsOf_0 20 rfl rfl)
theorem dX11_stringsOf_21 : decode cX11_stringsOf 21 = .ok (.iadd, 1) := dk_96 (dk_at dksX11_stringsOf_0 21 rfl rfl)
theorem dX11_stringsOf_22 : decode cX11_stringsOf 22 = .ok (.istore_n 2, 1) := dk_61 (dk_at dksX11_stringsOf_0 22 rfl rfl)
theorem dX11_stringsOf_23 : decode cX11_stringsOf 23 = .ok (.iinc 3 1, 3) := dk_132 3 1 (dk_at dksX11_stringsOf_1 0 rfl rfl)
theorem dX11_stringsOf_26 : decode cX11_stringsOf 26 = .ok (.goto (-22), 3) := dk_167 255 234 (dk_at dksX11_stringsOf_1 3 rfl rfl)
theorem dX11_stringsOf_29 : decode cX11_stringsOf 29 = .ok (.iload_n 2, 1) := dk_28 (dk_at dksX11_stringsOf_1 6 rfl rfl)
theorem dX11_stringsOf_30 : decode cX11_stringsOf 30 = .ok (.ireturn, 1) := dk_172 (dk_at dksX11_stringsOf_1 7 rfl rfl)
abbrev cX11_hand : ByteArray := prog_22_method_60_code
def yX11_hand : MethodName := ⟨RX11, "hand", "(II)I"⟩
def dkwX11_hand_7 : List UInt8 := [100, 184, 1, 57, 172]
abbrev dktX11_hand_7 : List UInt8 := dkwX11_hand_7 ++ []
def dkwX11_hand_6 : List UInt8 := [180, 0, 91, 27, 182, 1, 78, 172, 3, 42, 180, 0, 91, 16, 106, 46, 42, 180, 0, 49, 27, 50, 4, 46]
abbrev dktX11_hand_6 : List UInt8 := dkwX11_hand_6 ++ dktX11_hand_7
def dkwX11_hand_5 : List UInt8 := [167, 0, 20, 42, 42, 180, 0, 91, 27, 182, 1, 64, 153, 0, 7, 4, 167, 0, 4, 3, 172, 42, 42]
abbrev dktX11_hand_5 : List UInt8 := dkwX11_hand_5 ++ dktX11_hand_6
def dkwX11_hand_4 : List UInt8 := [42, 180, 0, 49, 27, 50, 28, 46, 172, 42, 180, 0, 91, 3, 46, 27, 184, 0, 242, 153, 0, 7, 5]
abbrev dktX11_hand_4 : List UInt8 := dkwX11_hand_4 ++ dktX11_hand_5
def dkwX11_hand_3 : List UInt8 := [170, 0, 0, 0, 0, 0, 89, 0, 0, 0, 0, 0, 0, 0, 4, 0, 0, 0, 35, 0, 0, 0, 35, 0, 0, 0, 35, 0, 0, 0, 44, 0, 0, 0, 79]
abbrev dktX11_hand_3 : List UInt8 := dkwX11_hand_3 ++ dktX11_hand_4
def dkwX11_hand_2 : List UInt8 := [153, 0, 5, 3, 172, 28]
abbrev dktX11_hand_2 : List UInt8 := dkwX11_hand_2 ++ dktX11_hand_3
def dkwX11_hand_1 : List UInt8 := [154, 0, 26, 42, 28, 3, 8, 184, 0, 168, 154, 0, 7, 4, 167, 0, 4, 3, 5, 4, 182, 0, 249]
abbrev dktX11_hand_1 : List UInt8 := dkwX11_hand_1 ++ dktX11_hand_2
def dkwX11_hand_0 : List UInt8 := [42, 3, 181, 0, 134, 42, 42, 27, 182, 1, 75, 154, 0, 7, 4, 167, 0, 4, 3, 4, 3, 182, 0, 249]
abbrev dktX11_hand_0 : List UInt8 := dkwX11_hand_0 ++ dktX11_hand_1
theorem dksX11_hand_0 : cX11_hand.data.toList.drop 0 = dktX11_hand_0 := by decide +kernel
theorem dksX11_hand_1 : cX11_hand.data.toList.drop 24 = dktX11_hand_1 := dk_seg dksX11_hand_0 24 rfl rfl
theorem dksX11_hand_2 : cX11_hand.data.toList.drop 47 = dktX11_hand_2 := dk_seg dksX11_hand_1 23 rfl rfl
theorem dksX11_hand_3 : cX11_hand.data.toList.drop 53 = dktX11_hand_3 := dk_seg dksX11_hand_2 6 rfl rfl
theorem dksX11_hand_4 : cX11_hand.data.toList.drop 88 = dktX11_hand_4 := dk_seg dksX11_hand_3 35 rfl rfl
theorem dksX11_hand_5 : cX11_hand.data.toList.drop 111 = dktX11_hand_5 := dk_seg dksX11_hand_4 23 rfl rfl
theorem dksX11_hand_6 : cX11_hand.data.toList.drop 134 = dktX11_hand_6 := dk_seg dksX11_hand_5 23 rfl rfl
theorem dksX11_hand_7 : cX11_hand.data.toList.drop 158 = dktX11_hand_7 := dk_seg dksX11_hand_6 24 rfl rfl
theorem dX11_hand_0 : decode cX11_hand 0 = .ok (.aload_n 0, 1) := dk_42 (dk_at dksX11_hand_0 0 rfl rfl)
theorem dX11_hand_1 : decode cX11_hand 1 = .ok (.iconst 0, 1) := dk_3 (dk_at dksX11_hand_0 1 rfl rfl)
theorem dX11_hand_2 : decode cX11_hand 2 = .ok (.putfield 134, 3) := dk_181 0 134 (dk_at dksX11_hand_0 2 rfl rfl)
theorem dX11_hand_5 : decode cX11_hand 5 = .ok (.aload_n 0, 1) := dk_42 (dk_at dksX11_hand_0 5 rfl rfl)
theorem dX11_hand_6 : decode cX11_hand 6 = .ok (.aload_n 0, 1) := dk_42 (dk_at dksX11_hand_0 6 rfl rfl)
theorem dX11_hand_7 : decode cX11_hand 7 = .ok (.iload_n 1, 1) := dk_27 (dk_at dksX11_hand_0 7 rfl rfl)
theorem dX11_hand_8 : decode cX11_hand 8 = .ok (.invokevirtual 331, 3) := dk_182 1 75 (dk_at dksX11_hand_0 8 rfl rfl)
theorem dX11_hand_11 : decode cX11_hand 11 = .ok (.ifCond .ne 7, 3) := dk_154 0 7 (dk_at dksX11_hand_0 11 rfl rfl)
theorem dX11_hand_14 : decode cX11_hand 14 = .ok (.iconst 1, 1) := dk_4 (dk_at dksX11_hand_0 14 rfl rfl)
theorem dX11_hand_15 : decode cX11_hand 15 = .ok (.goto 4, 3) := dk_167 0 4 (dk_at dksX11_hand_0 15 rfl rfl)
theorem dX11_hand_18 : decode cX11_hand 18 = .ok (.iconst 0, 1) := dk_3 (dk_at dksX11_hand_0 18 rfl rfl)
theorem dX11_hand_19 : decode cX11_hand 19 = .ok (.iconst 1, 1) := dk_4 (dk_at dksX11_hand_0 19 rfl rfl)
theorem dX11_hand_20 : decode cX11_hand 20 = .ok (.iconst 0, 1) := dk_3 (dk_at dksX11_hand_0 20 rfl rfl)
theorem dX11_hand_21 : decode cX11_hand 21 = .ok (.invokevirtual 249, 3) := dk_182 0 249 (dk_at dksX11_hand_0 21 rfl rfl)
theorem dX11_hand_24 : decode cX11_hand 24 = .ok (.ifCond .ne 26, 3) := dk_154 0 26 (dk_at dksX11_hand_1 0 rfl rfl)
theorem dX11_hand_27 : decode cX11_hand 27 = .ok (.aload_n 0, 1) := dk_42 (dk_at dksX11_hand_1 3 rfl rfl)
theorem dX11_hand_28 : decode cX11_hand 28 = .ok (.iload_n 2, 1) := dk_28 (dk_at dksX11_hand_1 4 rfl rfl)
theorem dX11_hand_29 : decode cX11_hand 29 = .ok (.iconst 0, 1) := dk_3 (dk_at dksX11_hand_1 5 rfl rfl)
theorem dX11_hand_30 : decode cX11_hand 30 = .ok (.iconst 5, 1) := dk_8 (dk_at dksX11_hand_1 6 rfl rfl)
theorem dX11_hand_31 : decode cX11_hand 31 = .ok (.invokestatic 168, 3) := dk_184 0 168 (dk_at dksX11_hand_1 7 rfl rfl)
theorem dX11_hand_34 : decode cX11_hand 34 = .ok (.ifCond .ne 7, 3) := dk_154 0 7 (dk_at dksX11_hand_1 10 rfl rfl)
theorem dX11_hand_37 : decode cX11_hand 37 = .ok (.iconst 1, 1) := dk_4 (dk_at dksX11_hand_1 13 rfl rfl)
theorem dX11_hand_38 : decode cX11_hand 38 = .ok (.goto 4, 3) := dk_167 0 4 (dk_at dksX11_hand_1 14 rfl rfl)
theorem dX11_hand_41 : decode cX11_hand 41 = .ok (.iconst 0, 1) := dk_3 (dk_at dksX11_hand_1 17 rfl rfl)
theorem dX11_hand_42 : decode cX11_hand 42 = .ok (.iconst 2, 1) := dk_5 (dk_at dksX11_hand_1 18 rfl rfl)
theorem dX11_hand_43 : decode cX11_hand 43 = .ok (.iconst 1, 1) := dk_4 (dk_at dksX11_hand_1 19 rfl rfl)
theorem dX11_hand_44 : decode cX11_hand 44 = .ok (.invokevirtual 249, 3) := dk_182 0 249 (dk_at dksX11_hand_1 20 rfl rfl)
theorem dX11_hand_47 : decode cX11_hand 47 = .ok (.ifCond .eq 5, 3) := dk_153 0 5 (dk_at dksX11_hand_2 0 rfl rfl)
theorem dX11_hand_50 : decode cX11_hand 50 = .ok (.iconst 0, 1) := dk_3 (dk_at dksX11_hand_2 3 rfl rfl)
theorem dX11_hand_51 : decode cX11_hand 51 = .ok (.ireturn, 1) := dk_172 (dk_at dksX11_hand_2 4 rfl rfl)
theorem dX11_hand_52 : decode cX11_hand 52 = .ok (.iload_n 2, 1) := dk_28 (dk_at dksX11_hand_2 5 rfl rfl)
theorem dX11_hand_53 : decode cX11_hand 53 = .ok (.tableswitch 89 0 4 #[35, 35, 35, 44, 79], 35) := by decide +kernel
theorem dX11_hand_88 : decode cX11_hand 88 = .ok (.aload_n 0, 1) := dk_42 (dk_at dksX11_hand_4 0 rfl rfl)
theorem dX11_hand_89 : decode cX11_hand 89 = .ok (.getfield 49, 3) := dk_180 0 49 (dk_at dksX11_hand_4 1 rfl rfl)
theorem dX11_hand_92 : decode cX11_hand 92 = .ok (.iload_n 1, 1) := dk_27 (dk_at dksX11_hand_4 4 rfl rfl)
theorem dX11_hand_93 : decode cX11_hand 93 = .ok (.aaload, 1) := dk_50 (dk_at dksX11_hand_4 5 rfl rfl)
theorem dX11_hand_94 : decode cX11_hand 94 = .ok (.iload_n 2, 1) := dk_28 (dk_at dksX11_hand_4 6 rfl rfl)
theorem dX11_hand_95 : decode cX11_hand 95 = .ok (.iaload, 1) := dk_46 (dk_at dksX11_hand_4 7 rfl rfl)
theorem dX11_hand_96 : decode cX11_hand 96 = .ok (.ireturn, 1) := dk_172 (dk_at dksX11_hand_4 8 rfl rfl)
theorem dX11_hand_97 : decode cX11_hand 97 = .ok (.aload_n 0, 1) := dk_42 (dk_at dksX11_hand_4 9 rfl rfl)
theorem dX11_hand_98 : decode cX11_hand 98 = .ok (.getfield 91, 3) := dk_180 0 91 (dk_at dksX11_hand_4 10 rfl rfl)
theorem dX11_hand_101 : decode cX11_hand 101 = .ok (.iconst 0, 1) := dk_3 (dk_at dksX11_hand_4 13 rfl rfl)
theorem dX11_hand_102 : decode cX11_hand 102 = .ok (.iaload, 1) := dk_46 (dk_at dksX11_hand_4 14 rfl rfl)
theorem dX11_hand_103 : decode cX11_hand 103 = .ok (.iload_n 1, 1) := dk_27 (dk_at dksX11_hand_4 15 rfl rfl)
theorem dX11_hand_104 : decode cX11_hand 104 = .ok (.invokestatic 242, 3) := dk_184 0 242 (dk_at dksX11_hand_4 16 rfl rfl)
theorem dX11_hand_107 : decode cX11_hand 107 = .ok (.ifCond .eq 7, 3) := dk_153 0 7 (dk_at dksX11_hand_4 19 rfl rfl)
theorem dX11_hand_110 : decode cX11_hand 110 = .ok (.iconst 2, 1) := dk_5 (dk_at dksX11_hand_4 22 rfl rfl)
theorem dX11_hand_111 : decode cX11_hand 111 = .ok (.goto 20, 3) := dk_167 0 20 (dk_at dksX11_hand_5 0 rfl rfl)
theorem dX11_hand_114 : decode cX11_hand 114 = .ok (.aload_n 0, 1) := dk_42 (dk_at dksX11_hand_5 3 rfl rfl)
theorem dX11_hand_115 : decode cX11_hand 115 = .ok (.aload_n 0, 1) := dk_42 (dk_at dksX11_hand_5 4 rfl rfl)
theorem dX11_hand_116 : decode cX11_hand 116 = .ok (.getfield 91, 3) := dk_180 0 91 (dk_at dksX11_hand_5 5 rfl rfl)
theorem dX11_hand_119 : decode cX11_hand 119 = .ok (.iload_n 1, 1) := dk_27 (dk_at dksX11_hand_5 8 rfl rfl)
theorem dX11_hand_120 : decode cX11_hand 120 = .ok (.invokevirtual 320, 3) := dk_182 1 64 (dk_at dksX11_hand_5 9 rfl rfl)
theorem dX11_hand_123 : decode cX11_hand 123 = .ok (.ifCond .eq 7, 3) := dk_153 0 7 (dk_at dksX11_hand_5 12 rfl rfl)
theorem dX11_hand_126 : decode cX11_hand 126 = .ok (.iconst 1, 1) := dk_4 (dk_at dksX11_hand_5 15 rfl rfl)
theorem dX11_hand_127 : decode cX11_hand 127 = .ok (.goto 4, 3) := dk_167 0 4 (dk_at dksX11_hand_5 16 rfl rfl)
theorem dX11_hand_130 : decode cX11_hand 130 = .ok (.iconst 0, 1) := dk_3 (dk_at dksX11_hand_5 19 rfl rfl)
theorem dX11_hand_131 : decode cX11_hand 131 = .ok (.ireturn, 1) := dk_172 (dk_at dksX11_hand_5 20 rfl rfl)
theorem dX11_hand_132 : decode cX11_hand 132 = .ok (.aload_n 0, 1) := dk_42 (dk_at dksX11_hand_5 21 rfl rfl)
theorem dX11_hand_133 : decode cX11_hand 133 = .ok (.aload_n 0, 1) := dk_42 (dk_at dksX11_hand_5 22 rfl rfl)
theorem dX11_hand_134 : decode cX11_hand 134 = .ok (.getfield 91, 3) := dk_180 0 91 (dk_at dksX11_hand_6 0 rfl rfl)
theorem dX11_hand_137 : decode cX11_hand 137 = .ok (.iload_n 1, 1) := dk_27 (dk_at dksX11_hand_6 3 rfl rfl)
theorem dX11_hand_138 : decode cX11_hand 138 = .ok (.invokevirtual 334, 3) := dk_182 1 78 (dk_at dksX11_hand_6 4 rfl rfl)
theorem dX11_hand_141 : decode cX11_hand 141 = .ok (.ireturn, 1) := dk_172 (dk_at dksX11_hand_6 7 rfl rfl)
theorem dX11_hand_142 : decode cX11_hand 142 = .ok (.iconst 0, 1) := dk_3 (dk_at dksX11_hand_6 8 rfl rfl)
theorem dX11_hand_143 : decode cX11_hand 143 = .ok (.aload_n 0, 1) := dk_42 (dk_at dksX11_hand_6 9 rfl rfl)
theorem dX11_hand_144 : decode cX11_hand 144 = .ok (.getfield 91, 3) := dk_180 0 91 (dk_at dksX11_hand_6 10 rfl rfl)
theorem dX11_hand_147 : decode cX11_hand 147 = .ok (.bipush 106, 2) := dk_16 106 (dk_at dksX11_hand_6 13 rfl rfl)
theorem dX11_hand_149 : decode cX11_hand 149 = .ok (.iaload, 1) := dk_46 (dk_at dksX11_hand_6 15 rfl rfl)
theorem dX11_hand_150 : decode cX11_hand 150 = .ok (.aload_n 0, 1) := dk_42 (dk_at dksX11_hand_6 16 rfl rfl)
theorem dX11_hand_151 : decode cX11_hand 151 = .ok (.getfield 49, 3) := dk_180 0 49 (dk_at dksX11_hand_6 17 rfl rfl)
theorem dX11_hand_154 : decode cX11_hand 154 = .ok (.iload_n 1, 1) := dk_27 (dk_at dksX11_hand_6 20 rfl rfl)
theorem dX11_hand_155 : decode cX11_hand 155 = .ok (.aaload, 1) := dk_50 (dk_at dksX11_hand_6 21 rfl rfl)
theorem dX11_hand_156 : decode cX11_hand 156 = .ok (.iconst 1, 1) := dk_4 (dk_at dksX11_hand_6 22 rfl rfl)
theorem dX11_hand_157 : decode cX11_hand 157 = .ok (.iaload, 1) := dk_46 (dk_at dksX11_hand_6 23 rfl rfl)
theorem dX11_hand_158 : decode cX11_hand 158 = .ok (.isub, 1) := dk_100 (dk_at dksX11_hand_7 0 rfl rfl)
theorem dX11_hand_159 : decode cX11_hand 159 = .ok (.invokestatic 313, 3) := dk_184 1 57 (dk_at dksX11_hand_7 1 rfl rfl)
theorem dX11_hand_162 : decode cX11_hand 162 = .ok (.ireturn, 1) := dk_172 (dk_at dksX11_hand_7 4 rfl rfl)
abbrev cX11_isHand : ByteArray := prog_22_method_52_code
def yX11_isHand : MethodName := ⟨RX11, "isHand", "(I)Z"⟩
def dkwX11_isHand_0 : List UInt8 := [27, 3, 42, 180, 0, 23, 3, 46, 4, 100, 184, 0, 168, 172]
abbrev dktX11_isHand_0 : List UInt8 := dkwX11_isHand_0 ++ []
theorem dksX11_isHand_0 : cX11_isHand.data.toList.drop 0 = dktX11_isHand_0 := by decide +kernel
theorem dX11_isHand_0 : decode cX11_isHand 0 = .ok (.iload_n 1, 1) := dk_27 (dk_at dksX11_isHand_0 0 rfl rfl)
theorem dX11_isHand_1 : decode cX11_isHand 1 = .ok (.iconst 0, 1) := dk_3 (dk_at dksX11_isHand_0 1 rfl rfl)
theorem dX11_isHand_2 : decode cX11_isHand 2 = .ok (.aload_n 0, 1) := dk_42 (dk_at dksX11_isHand_0 2 rfl rfl)
theorem dX11_isHand_3 : decode cX11_isHand 3 = .ok (.getfield 23, 3) := dk_180 0 23 (dk_at dksX11_isHand_0 3 rfl rfl)
theorem dX11_isHand_6 : decode cX11_isHand 6 = .ok (.iconst 0, 1) := dk_3 (dk_at dksX11_isHand_0 6 rfl rfl)
theorem dX11_isHand_7 : decode cX11_isHand 7 = .ok (.iaload, 1) := dk_46 (dk_at dksX11_isHand_0 7 rfl rfl)
theorem dX11_isHand_8 : decode cX11_isHand 8 = .ok (.iconst 1, 1) := dk_4 (dk_at dksX11_isHand_0 8 rfl rfl)
theorem dX11_isHand_9 : decode cX11_isHand 9 = .ok (.isub, 1) := dk_100 (dk_at dksX11_isHand_0 9 rfl rfl)
theorem dX11_isHand_10 : decode cX11_isHand 10 = .ok (.invokestatic 168, 3) := dk_184 0 168 (dk_at dksX11_isHand_0 10 rfl rfl)
theorem dX11_isHand_13 : decode cX11_isHand 13 = .ok (.ireturn, 1) := dk_172 (dk_at dksX11_isHand_0 13 rfl rfl)
abbrev cX11_workOf : ByteArray := prog_22_method_59_code
def yX11_workOf : MethodName := ⟨RX11, "workOf", "([II)I"⟩
def dkwX11_workOf_1 : List UInt8 := [184, 0, 242, 153, 0, 10, 4, 21, 4, 120, 167, 0, 4, 3, 128, 62, 132, 4, 1, 167, 255, 218, 29, 172]
abbrev dktX11_workOf_1 : List UInt8 := dkwX11_workOf_1 ++ []
def dkwX11_workOf_0 : List UInt8 := [3, 62, 3, 54, 4, 21, 4, 42, 180, 0, 23, 4, 46, 162, 0, 33, 29, 43, 4, 21, 4, 96, 46, 28]
abbrev dktX11_workOf_0 : List UInt8 := dkwX11_workOf_0 ++ dktX11_workOf_1
theorem dksX11_workOf_0 : cX11_workOf.data.toList.drop 0 = dktX11_workOf_0 := by decide +kernel
theorem dksX11_workOf_1 : cX11_workOf.data.toList.drop 24 = dktX11_workOf_1 := dk_seg dksX11_workOf_0 24 rfl rfl
theorem dX11_workOf_0 : decode cX11_workOf 0 = .ok (.iconst 0, 1) := dk_3 (dk_at dksX11_workOf_0 0 rfl rfl)
theorem dX11_workOf_1 : decode cX11_workOf 1 = .ok (.istore_n 3, 1) := dk_62 (dk_at dksX11_workOf_0 1 rfl rfl)
theorem dX11_workOf_2 : decode cX11_workOf 2 = .ok (.iconst 0, 1) := dk_3 (dk_at dksX11_workOf_0 2 rfl rfl)
theorem dX11_workOf_3 : decode cX11_workOf 3 = .ok (.istore 4, 2) := dk_54 4 (dk_at dksX11_workOf_0 3 rfl rfl)
theorem dX11_workOf_5 : decode cX11_workOf 5 = .ok (.iload 4, 2) := dk_21 4 (dk_at dksX11_workOf_0 5 rfl rfl)
theorem dX11_workOf_7 : decode cX11_workOf 7 = .ok (.aload_n 0, 1) := dk_42 (dk_at dksX11_workOf_0 7 rfl rfl)
theorem dX11_workOf_8 : decode cX11_workOf 8 = .ok (.getfield 23, 3) := dk_180 0 23 (dk_at dksX11_workOf_0 8 rfl rfl)
theorem dX11_workOf_11 : decode cX11_workOf 11 = .ok (.iconst 1, 1) := dk_4 (dk_at dksX11_workOf_0 11 rfl rfl)
theorem dX11_workOf_12 : decode cX11_workOf 12 = .ok (.iaload, 1) := dk_46 (dk_at dksX11_workOf_0 12 rfl rfl)
theorem dX11_workOf_13 : decode cX11_workOf 13 = .ok (.if_icmp .ge 33, 3) := dk_162 0 33 (dk_at dksX11_workOf_0 13 rfl rfl)
theorem dX11_workOf_16 : decode cX11_workOf 16 = .ok (.iload_n 3, 1) := dk_29 (dk_at dksX11_workOf_0 16 rfl rfl)
theorem dX11_workOf_17 : decode cX11_workOf 17 = .ok (.aload_n 1, 1) := dk_43 (dk_at dksX11_workOf_0 17 rfl rfl)
theorem dX11_workOf_18 : decode cX11_workOf 18 = .ok (.iconst 1, 1) := dk_4 (dk_at dksX11_workOf_0 18 rfl rfl)
theorem dX11_workOf_19 : decode cX11_workOf 19 = .ok (.iload 4, 2) := dk_21 4 (dk_at dksX11_workOf_0 19 rfl rfl)
theorem dX11_workOf_21 : decode cX11_workOf 21 = .ok (.iadd, 1) := dk_96 (dk_at dksX11_workOf_0 21 rfl rfl)
theorem dX11_workOf_22 : decode cX11_workOf 22 = .ok (.iaload, 1) := dk_46 (dk_at dksX11_workOf_0 22 rfl rfl)
theorem dX11_workOf_23 : decode cX11_workOf 23 = .ok (.iload_n 2, 1) := dk_28 (dk_at dksX11_workOf_0 23 rfl rfl)
theorem dX11_workOf_24 : decode cX11_workOf 24 = .ok (.invokestatic 242, 3) := dk_184 0 242 (dk_at dksX11_workOf_1 0 rfl rfl)
theorem dX11_workOf_27 : decode cX11_workOf 27 = .ok (.ifCond .eq 10, 3) := dk_153 0 10 (dk_at dksX11_workOf_1 3 rfl rfl)
theorem dX11_workOf_30 : decode cX11_workOf 30 = .ok (.iconst 1, 1) := dk_4 (dk_at dksX11_workOf_1 6 rfl rfl)
theorem dX11_workOf_31 : decode cX11_workOf 31 = .ok (.iload 4, 2) := dk_21 4 (dk_at dksX11_workOf_1 7 rfl rfl)
theorem dX11_workOf_33 : decode cX11_workOf 33 = .ok (.ishl, 1) := dk_120 (dk_at dksX11_workOf_1 9 rfl rfl)
theorem dX11_workOf_34 : decode cX11_workOf 34 = .ok (.goto 4, 3) := dk_167 0 4 (dk_at dksX11_workOf_1 10 rfl rfl)
theorem dX11_workOf_37 : decode cX11_workOf 37 = .ok (.iconst 0, 1) := dk_3 (dk_at dksX11_workOf_1 13 rfl rfl)
theorem dX11_workOf_38 : decode cX11_workOf 38 = .ok (.ior, 1) := dk_128 (dk_at dksX11_workOf_1 14 rfl rfl)
theorem dX11_workOf_39 : decode cX11_workOf 39 = .ok (.istore_n 3, 1) := dk_62 (dk_at dksX11_workOf_1 15 rfl rfl)
theorem dX11_workOf_40 : decode cX11_workOf 40 = .ok (.iinc 4 1, 3) := dk_132 4 1 (dk_at dksX11_workOf_1 16 rfl rfl)
theorem dX11_workOf_43 : decode cX11_workOf 43 = .ok (.goto (-38), 3) := dk_167 255 218 (dk_at dksX11_workOf_1 19 rfl rfl)
theorem dX11_workOf_46 : decode cX11_workOf 46 = .ok (.iload_n 3, 1) := dk_29 (dk_at dksX11_workOf_1 22 rfl rfl)
theorem dX11_workOf_47 : decode cX11_workOf 47 = .ok (.ireturn, 1) := dk_172 (dk_at dksX11_workOf_1 23 rfl rfl)
abbrev cX11_more : ByteArray := prog_22_method_7_code
def yX11_more : MethodName := ⟨RX11, "more", "(II)I"⟩
def dkwX11_more_0 : List UInt8 := [26, 27, 164, 0, 7, 26, 167, 0, 4, 27, 172]
abbrev dktX11_more_0 : List UInt8 := dkwX11_more_0 ++ []
theorem dksX11_more_0 : cX11_more.data.toList.drop 0 = dktX11_more_0 := by decide +kernel
theorem dX11_more_0 : decode cX11_more 0 = .ok (.iload_n 0, 1) := dk_26 (dk_at dksX11_more_0 0 rfl rfl)
theorem dX11_more_1 : decode cX11_more 1 = .ok (.iload_n 1, 1) := dk_27 (dk_at dksX11_more_0 1 rfl rfl)
theorem dX11_more_2 : decode cX11_more 2 = .ok (.if_icmp .le 7, 3) := dk_164 0 7 (dk_at dksX11_more_0 2 rfl rfl)
theorem dX11_more_5 : decode cX11_more 5 = .ok (.iload_n 0, 1) := dk_26 (dk_at dksX11_more_0 5 rfl rfl)
theorem dX11_more_6 : decode cX11_more 6 = .ok (.goto 4, 3) := dk_167 0 4 (dk_at dksX11_more_0 6 rfl rfl)
theorem dX11_more_9 : decode cX11_more 9 = .ok (.iload_n 1, 1) := dk_27 (dk_at dksX11_more_0 9 rfl rfl)
theorem dX11_more_10 : decode cX11_more 10 = .ok (.ireturn, 1) := dk_172 (dk_at dksX11_more_0 10 rfl rfl)
abbrev cX11_puppet : ByteArray := prog_22_method_62_code
def yX11_puppet : MethodName := ⟨RX11, "puppet", "(II)I"⟩
def dkwX11_puppet_5 : List UInt8 := [27, 96, 46, 172, 42, 42, 180, 0, 91, 27, 182, 1, 85, 172, 42, 180, 0, 91, 16, 17, 27, 96, 46, 172]
abbrev dktX11_puppet_5 : List UInt8 := dkwX11_puppet_5 ++ []
def dkwX11_puppet_4 : List UInt8 := [42, 180, 0, 55, 27, 50, 28, 46, 172, 42, 180, 0, 91, 16, 9, 27, 96, 46, 172, 42, 180, 0, 91, 4]
abbrev dktX11_puppet_4 : List UInt8 := dkwX11_puppet_4 ++ dktX11_puppet_5
def dkwX11_puppet_3 : List UInt8 := [170, 0, 0, 0, 0, 0, 73, 0, 0, 0, 0, 0, 0, 0, 4, 0, 0, 0, 35, 0, 0, 0, 35, 0, 0, 0, 44, 0, 0, 0, 54, 0, 0, 0, 63]
abbrev dktX11_puppet_3 : List UInt8 := dkwX11_puppet_3 ++ dktX11_puppet_4
def dkwX11_puppet_2 : List UInt8 := [153, 0, 5, 3, 172, 28]
abbrev dktX11_puppet_2 : List UInt8 := dkwX11_puppet_2 ++ dktX11_puppet_3
def dkwX11_puppet_1 : List UInt8 := [154, 0, 26, 42, 28, 3, 8, 184, 0, 168, 154, 0, 7, 4, 167, 0, 4, 3, 5, 4, 182, 0, 249]
abbrev dktX11_puppet_1 : List UInt8 := dkwX11_puppet_1 ++ dktX11_puppet_2
def dkwX11_puppet_0 : List UInt8 := [42, 3, 181, 0, 134, 42, 42, 27, 182, 1, 82, 154, 0, 7, 4, 167, 0, 4, 3, 4, 3, 182, 0, 249]
abbrev dktX11_puppet_0 : List UInt8 := dkwX11_puppet_0 ++ dktX11_puppet_1
theorem dksX11_puppet_0 : cX11_puppet.data.toList.drop 0 = dktX11_puppet_0 := by decide +kernel
theorem dksX11_puppet_1 : cX11_puppet.data.toList.drop 24 = dktX11_puppet_1 := dk_seg dksX11_puppet_0 24 rfl rfl
theorem dksX11_puppet_2 : cX11_puppet.data.toList.drop 47 = dktX11_puppet_2 := dk_seg dksX11_puppet_1 23 rfl rfl
theorem dksX11_puppet_3 : cX11_puppet.data.toList.drop 53 = dktX11_puppet_3 := dk_seg dksX11_puppet_2 6 rfl rfl
theorem dksX11_puppet_4 : cX11_puppet.data.toList.drop 88 = dktX11_puppet_4 := dk_seg dksX11_puppet_3 35 rfl rfl
theorem dksX11_puppet_5 : cX11_puppet.data.toList.drop 112 = dktX11_puppet_5 := dk_seg dksX11_puppet_4 24 rfl rfl
theorem dX11_puppet_0 : decode cX11_puppet 0 = .ok (.aload_n 0, 1) := dk_42 (dk_at dksX11_puppet_0 0 rfl rfl)
theorem dX11_puppet_1 : decode cX11_puppet 1 = .ok (.iconst 0, 1) := dk_3 (dk_at dksX11_puppet_0 1 rfl rfl)
theorem dX11_puppet_2 : decode cX11_puppet 2 = .ok (.putfield 134, 3) := dk_181 0 134 (dk_at dksX11_puppet_0 2 rfl rfl)
theorem dX11_puppet_5 : decode cX11_puppet 5 = .ok (.aload_n 0, 1) := dk_42 (dk_at dksX11_puppet_0 5 rfl rfl)
theorem dX11_puppet_6 : decode cX11_puppet 6 = .ok (.aload_n 0, 1) := dk_42 (dk_at dksX11_puppet_0 6 rfl rfl)
theorem dX11_puppet_7 : decode cX11_puppet 7 = .ok (.iload_n 1, 1) := dk_27 (dk_at dksX11_puppet_0 7 rfl rfl)
theorem dX11_puppet_8 : decode cX11_puppet 8 = .ok (.invokevirtual 338, 3) := dk_182 1 82 (dk_at dksX11_puppet_0 8 rfl rfl)
theorem dX11_puppet_11 : decode cX11_puppet 11 = .ok (.ifCond .ne 7, 3) := dk_154 0 7 (dk_at dksX11_puppet_0 11 rfl rfl)
theorem dX11_puppet_14 : decode cX11_puppet 14 = .ok (.iconst 1, 1) := dk_4 (dk_at dksX11_puppet_0 14 rfl rfl)
theorem dX11_puppet_15 : decode cX11_puppet 15 = .ok (.goto 4, 3) := dk_167 0 4 (dk_at dksX11_puppet_0 15 rfl rfl)
theorem dX11_puppet_18 : decode cX11_puppet 18 = .ok (.iconst 0, 1) := dk_3 (dk_at dksX11_puppet_0 18 rfl rfl)
theorem dX11_puppet_19 : decode cX11_puppet 19 = .ok (.iconst 1, 1) := dk_4 (dk_at dksX11_puppet_0 19 rfl rfl)
theorem dX11_puppet_20 : decode cX11_puppet 20 = .ok (.iconst 0, 1) := dk_3 (dk_at dksX11_puppet_0 20 rfl rfl)
theorem dX11_puppet_21 : decode cX11_puppet 21 = .ok (.invokevirtual 249, 3) := dk_182 0 249 (dk_at dksX11_puppet_0 21 rfl rfl)
theorem dX11_puppet_24 : decode cX11_puppet 24 = .ok (.ifCond .ne 26, 3) := dk_154 0 26 (dk_at dksX11_puppet_1 0 rfl rfl)
theorem dX11_puppet_27 : decode cX11_puppet 27 = .ok (.aload_n 0, 1) := dk_42 (dk_at dksX11_puppet_1 3 rfl rfl)
theorem dX11_puppet_28 : decode cX11_puppet 28 = .ok (.iload_n 2, 1) := dk_28 (dk_at dksX11_puppet_1 4 rfl rfl)
theorem dX11_puppet_29 : decode cX11_puppet 29 = .ok (.iconst 0, 1) := dk_3 (dk_at dksX11_puppet_1 5 rfl rfl)
theorem dX11_puppet_30 : decode cX11_puppet 30 = .ok (.iconst 5, 1) := dk_8 (dk_at dksX11_puppet_1 6 rfl rfl)
theorem dX11_puppet_31 : decode cX11_puppet 31 = .ok (.invokestatic 168, 3) := dk_184 0 168 (dk_at dksX11_puppet_1 7 rfl rfl)
theorem dX11_puppet_34 : decode cX11_puppet 34 = .ok (.ifCond .ne 7, 3) := dk_154 0 7 (dk_at dksX11_puppet_1 10 rfl rfl)
theorem dX11_puppet_37 : decode cX11_puppet 37 = .ok (.iconst 1, 1) := dk_4 (dk_at dksX11_puppet_1 13 rfl rfl)
theorem dX11_puppet_38 : decode cX11_puppet 38 = .ok (.goto 4, 3) := dk_167 0 4 (dk_at dksX11_puppet_1 14 rfl rfl)
theorem dX11_puppet_41 : decode cX11_puppet 41 = .ok (.iconst 0, 1) := dk_3 (dk_at dksX11_puppet_1 17 rfl rfl)
theorem dX11_puppet_42 : decode cX11_puppet 42 = .ok (.iconst 2, 1) := dk_5 (dk_at dksX11_puppet_1 18 rfl rfl)
theorem dX11_puppet_43 : decode cX11_puppet 43 = .ok (.iconst 1, 1) := dk_4 (dk_at dksX11_puppet_1 19 rfl rfl)
theorem dX11_puppet_44 : decode cX11_puppet 44 = .ok (.invokevirtual 249, 3) := dk_182 0 249 (dk_at dksX11_puppet_1 20 rfl rfl)
theorem dX11_puppet_47 : decode cX11_puppet 47 = .ok (.ifCond .eq 5, 3) := dk_153 0 5 (dk_at dksX11_puppet_2 0 rfl rfl)
theorem dX11_puppet_50 : decode cX11_puppet 50 = .ok (.iconst 0, 1) := dk_3 (dk_at dksX11_puppet_2 3 rfl rfl)
theorem dX11_puppet_51 : decode cX11_puppet 51 = .ok (.ireturn, 1) := dk_172 (dk_at dksX11_puppet_2 4 rfl rfl)
theorem dX11_puppet_52 : decode cX11_puppet 52 = .ok (.iload_n 2, 1) := dk_28 (dk_at dksX11_puppet_2 5 rfl rfl)
theorem dX11_puppet_53 : decode cX11_puppet 53 = .ok (.tableswitch 73 0 4 #[35, 35, 44, 54, 63], 35) := by decide +kernel
theorem dX11_puppet_88 : decode cX11_puppet 88 = .ok (.aload_n 0, 1) := dk_42 (dk_at dksX11_puppet_4 0 rfl rfl)
theorem dX11_puppet_89 : decode cX11_puppet 89 = .ok (.getfield 55, 3) := dk_180 0 55 (dk_at dksX11_puppet_4 1 rfl rfl)
theorem dX11_puppet_92 : decode cX11_puppet 92 = .ok (.iload_n 1, 1) := dk_27 (dk_at dksX11_puppet_4 4 rfl rfl)
theorem dX11_puppet_93 : decode cX11_puppet 93 = .ok (.aaload, 1) := dk_50 (dk_at dksX11_puppet_4 5 rfl rfl)
theorem dX11_puppet_94 : decode cX11_puppet 94 = .ok (.iload_n 2, 1) := dk_28 (dk_at dksX11_puppet_4 6 rfl rfl)
theorem dX11_puppet_95 : decode cX11_puppet 95 = .ok (.iaload, 1) := dk_46 (dk_at dksX11_puppet_4 7 rfl rfl)
theorem dX11_puppet_96 : decode cX11_puppet 96 = .ok (.ireturn, 1) := dk_172 (dk_at dksX11_puppet_4 8 rfl rfl)
theorem dX11_puppet_97 : decode cX11_puppet 97 = .ok (.aload_n 0, 1) := dk_42 (dk_at dksX11_puppet_4 9 rfl rfl)
theorem dX11_puppet_98 : decode cX11_puppet 98 = .ok (.getfield 91, 3) := dk_180 0 91 (dk_at dksX11_puppet_4 10 rfl rfl)
theorem dX11_puppet_101 : decode cX11_puppet 101 = .ok (.bipush 9, 2) := dk_16 9 (dk_at dksX11_puppet_4 13 rfl rfl)
theorem dX11_puppet_103 : decode cX11_puppet 103 = .ok (.iload_n 1, 1) := dk_27 (dk_at dksX11_puppet_4 15 rfl rfl)
theorem dX11_puppet_104 : decode cX11_puppet 104 = .ok (.iadd, 1) := dk_96 (dk_at dksX11_puppet_4 16 rfl rfl)
theorem dX11_puppet_105 : decode cX11_puppet 105 = .ok (.iaload, 1) := dk_46 (dk_at dksX11_puppet_4 17 rfl rfl)
theorem dX11_puppet_106 : decode cX11_puppet 106 = .ok (.ireturn, 1) := dk_172 (dk_at dksX11_puppet_4 18 rfl rfl)
theorem dX11_puppet_107 : decode cX11_puppet 107 = .ok (.aload_n 0, 1) := dk_42 (dk_at dksX11_puppet_4 19 rfl rfl)
theorem dX11_puppet_108 : decode cX11_puppet 108 = .ok (.getfield 91, 3) := dk_180 0 91 (dk_at dksX11_puppet_4 20 rfl rfl)
theorem dX11_puppet_111 : decode cX11_puppet 111 = .ok (.iconst 1, 1) := dk_4 (dk_at dksX11_puppet_4 23 rfl rfl)
theorem dX11_puppet_112 : decode cX11_puppet 112 = .ok (.iload_n 1, 1) := dk_27 (dk_at dksX11_puppet_5 0 rfl rfl)
theorem dX11_puppet_113 : decode cX11_puppet 113 = .ok (.iadd, 1) := dk_96 (dk_at dksX11_puppet_5 1 rfl rfl)
theorem dX11_puppet_114 : decode cX11_puppet 114 = .ok (.iaload, 1) := dk_46 (dk_at dksX11_puppet_5 2 rfl rfl)
theorem dX11_puppet_115 : decode cX11_puppet 115 = .ok (.ireturn, 1) := dk_172 (dk_at dksX11_puppet_5 3 rfl rfl)
theorem dX11_puppet_116 : decode cX11_puppet 116 = .ok (.aload_n 0, 1) := dk_42 (dk_at dksX11_puppet_5 4 rfl rfl)
theorem dX11_puppet_117 : decode cX11_puppet 117 = .ok (.aload_n 0, 1) := dk_42 (dk_at dksX11_puppet_5 5 rfl rfl)
theorem dX11_puppet_118 : decode cX11_puppet 118 = .ok (.getfield 91, 3) := dk_180 0 91 (dk_at dksX11_puppet_5 6 rfl rfl)
theorem dX11_puppet_121 : decode cX11_puppet 121 = .ok (.iload_n 1, 1) := dk_27 (dk_at dksX11_puppet_5 9 rfl rfl)
theorem dX11_puppet_122 : decode cX11_puppet 122 = .ok (.invokevirtual 341, 3) := dk_182 1 85 (dk_at dksX11_puppet_5 10 rfl rfl)
theorem dX11_puppet_125 : decode cX11_puppet 125 = .ok (.ireturn, 1) := dk_172 (dk_at dksX11_puppet_5 13 rfl rfl)
theorem dX11_puppet_126 : decode cX11_puppet 126 = .ok (.aload_n 0, 1) := dk_42 (dk_at dksX11_puppet_5 14 rfl rfl)
theorem dX11_puppet_127 : decode cX11_puppet 127 = .ok (.getfield 91, 3) := dk_180 0 91 (dk_at dksX11_puppet_5 15 rfl rfl)
theorem dX11_puppet_130 : decode cX11_puppet 130 = .ok (.bipush 17, 2) := dk_16 17 (dk_at dksX11_puppet_5 18 rfl rfl)
theorem dX11_puppet_132 : decode cX11_puppet 132 = .ok (.iload_n 1, 1) := dk_27 (dk_at dksX11_puppet_5 20 rfl rfl)
theorem dX11_puppet_133 : decode cX11_puppet 133 = .ok (.iadd, 1) := dk_96 (dk_at dksX11_puppet_5 21 rfl rfl)
theorem dX11_puppet_134 : decode cX11_puppet 134 = .ok (.iaload, 1) := dk_46 (dk_at dksX11_puppet_5 22 rfl rfl)
theorem dX11_puppet_135 : decode cX11_puppet 135 = .ok (.ireturn, 1) := dk_172 (dk_at dksX11_puppet_5 23 rfl rfl)
abbrev cX11_isPuppet : ByteArray := prog_22_method_53_code
def yX11_isPuppet : MethodName := ⟨RX11, "isPuppet", "(I)Z"⟩
def dkwX11_isPuppet_0 : List UInt8 := [27, 3, 42, 180, 0, 23, 4, 46, 4, 100, 184, 0, 168, 172]
abbrev dktX11_isPuppet_0 : List UInt8 := dkwX11_isPuppet_0 ++ []
theorem dksX11_isPuppet_0 : cX11_isPuppet.data.toList.drop 0 = dktX11_isPuppet_0 := by decide +kernel
theorem dX11_isPuppet_0 : decode cX11_isPuppet 0 = .ok (.iload_n 1, 1) := dk_27 (dk_at dksX11_isPuppet_0 0 rfl rfl)
theorem dX11_isPuppet_1 : decode cX11_isPuppet 1 = .ok (.iconst 0, 1) := dk_3 (dk_at dksX11_isPuppet_0 1 rfl rfl)
theorem dX11_isPuppet_2 : decode cX11_isPuppet 2 = .ok (.aload_n 0, 1) := dk_42 (dk_at dksX11_isPuppet_0 2 rfl rfl)
theorem dX11_isPuppet_3 : decode cX11_isPuppet 3 = .ok (.getfield 23, 3) := dk_180 0 23 (dk_at dksX11_isPuppet_0 3 rfl rfl)
theorem dX11_isPuppet_6 : decode cX11_isPuppet 6 = .ok (.iconst 1, 1) := dk_4 (dk_at dksX11_isPuppet_0 6 rfl rfl)
theorem dX11_isPuppet_7 : decode cX11_isPuppet 7 = .ok (.iaload, 1) := dk_46 (dk_at dksX11_isPuppet_0 7 rfl rfl)
theorem dX11_isPuppet_8 : decode cX11_isPuppet 8 = .ok (.iconst 1, 1) := dk_4 (dk_at dksX11_isPuppet_0 8 rfl rfl)
theorem dX11_isPuppet_9 : decode cX11_isPuppet 9 = .ok (.isub, 1) := dk_100 (dk_at dksX11_isPuppet_0 9 rfl rfl)
theorem dX11_isPuppet_10 : decode cX11_isPuppet 10 = .ok (.invokestatic 168, 3) := dk_184 0 168 (dk_at dksX11_isPuppet_0 10 rfl rfl)
theorem dX11_isPuppet_13 : decode cX11_isPuppet 13 = .ok (.ireturn, 1) := dk_172 (dk_at dksX11_isPuppet_0 13 rfl rfl)
abbrev cX11_lacksOf : ByteArray := prog_22_method_61_code
def yX11_lacksOf : MethodName := ⟨RX11, "lacksOf", "([II)I"⟩
def dkwX11_lacksOf_0 : List UInt8 := [3, 42, 180, 0, 55, 28, 50, 4, 46, 43, 4, 28, 96, 46, 184, 0, 246, 100, 184, 1, 57, 172]
abbrev dktX11_lacksOf_0 : List UInt8 := dkwX11_lacksOf_0 ++ []
theorem dksX11_lacksOf_0 : cX11_lacksOf.data.toList.drop 0 = dktX11_lacksOf_0 := by decide +kernel
theorem dX11_lacksOf_0 : decode cX11_lacksOf 0 = .ok (.iconst 0, 1) := dk_3 (dk_at dksX11_lacksOf_0 0 rfl rfl)
theorem dX11_lacksOf_1 : decode cX11_lacksOf 1 = .ok (.aload_n 0, 1) := dk_42 (dk_at dksX11_lacksOf_0 1 rfl rfl)
theorem dX11_lacksOf_2 : decode cX11_lacksOf 2 = .ok (.getfield 55, 3) := dk_180 0 55 (dk_at dksX11_lacksOf_0 2 rfl rfl)
theorem dX11_lacksOf_5 : decode cX11_lacksOf 5 = .ok (.iload_n 2, 1) := dk_28 (dk_at dksX11_lacksOf_0 5 rfl rfl)
theorem dX11_lacksOf_6 : decode cX11_lacksOf 6 = .ok (.aaload, 1) := dk_50 (dk_at dksX11_lacksOf_0 6 rfl rfl)
theorem dX11_lacksOf_7 : decode cX11_lacksOf 7 = .ok (.iconst 1, 1) := dk_4 (dk_at dksX11_lacksOf_0 7 rfl rfl)
theorem dX11_lacksOf_8 : decode cX11_lacksOf 8 = .ok (.iaload, 1) := dk_46 (dk_at dksX11_lacksOf_0 8 rfl rfl)
theorem dX11_lacksOf_9 : decode cX11_lacksOf 9 = .ok (.aload_n 1, 1) := dk_43 (dk_at dksX11_lacksOf_0 9 rfl rfl)
theorem dX11_lacksOf_10 : decode cX11_lacksOf 10 = .ok (.iconst 1, 1) := dk_4 (dk_at dksX11_lacksOf_0 10 rfl rfl)
theorem dX11_lacksOf_11 : decode cX11_lacksOf 11 = .ok (.iload_n 2, 1) := dk_28 (dk_at dksX11_lacksOf_0 11 rfl rfl)
theorem dX11_lacksOf_12 : decode cX11_lacksOf 12 = .ok (.iadd, 1) := dk_96 (dk_at dksX11_lacksOf_0 12 rfl rfl)
theorem dX11_lacksOf_13 : decode cX11_lacksOf 13 = .ok (.iaload, 1) := dk_46 (dk_at dksX11_lacksOf_0 13 rfl rfl)
theorem dX11_lacksOf_14 : decode cX11_lacksOf 14 = .ok (.invokestatic 246, 3) := dk_184 0 246 (dk_at dksX11_lacksOf_0 14 rfl rfl)
theorem dX11_lacksOf_17 : decode cX11_lacksOf 17 = .ok (.isub, 1) := dk_100 (dk_at dksX11_lacksOf_0 17 rfl rfl)
theorem dX11_lacksOf_18 : decode cX11_lacksOf 18 = .ok (.invokestatic 313, 3) := dk_184 1 57 (dk_at dksX11_lacksOf_0 18 rfl rfl)
theorem dX11_lacksOf_21 : decode cX11_lacksOf 21 = .ok (.ireturn, 1) := dk_172 (dk_at dksX11_lacksOf_0 21 rfl rfl)
abbrev cX11_act : ByteArray := prog_22_method_63_code
def yX11_act : MethodName := ⟨RX11, "act", "(II)I"⟩
def dkwX11_act_5 : List UInt8 := [27, 182, 1, 91, 167, 0, 4, 29, 172]
abbrev dktX11_act_5 : List UInt8 := dkwX11_act_5 ++ []
def dkwX11_act_4 : List UInt8 := [167, 255, 219, 28, 154, 0, 14, 42, 180, 0, 61, 27, 50, 3, 46, 167, 0, 17, 28, 4, 160, 0, 11, 42]
abbrev dktX11_act_4 : List UInt8 := dkwX11_act_4 ++ dktX11_act_5
def dkwX11_act_3 : List UInt8 := [42, 180, 0, 55, 42, 180, 0, 61, 27, 50, 5, 21, 4, 96, 46, 50, 4, 46, 96, 62, 132, 4, 1]
abbrev dktX11_act_3 : List UInt8 := dkwX11_act_3 ++ dktX11_act_4
def dkwX11_act_2 : List UInt8 := [153, 0, 5, 3, 172, 3, 62, 3, 54, 4, 21, 4, 42, 180, 0, 61, 27, 50, 4, 46, 162, 0, 30, 29]
abbrev dktX11_act_2 : List UInt8 := dkwX11_act_2 ++ dktX11_act_3
def dkwX11_act_1 : List UInt8 := [154, 0, 26, 42, 28, 3, 5, 184, 0, 168, 154, 0, 7, 4, 167, 0, 4, 3, 5, 4, 182, 0, 249]
abbrev dktX11_act_1 : List UInt8 := dkwX11_act_1 ++ dktX11_act_2
def dkwX11_act_0 : List UInt8 := [42, 3, 181, 0, 134, 42, 42, 27, 182, 1, 88, 154, 0, 7, 4, 167, 0, 4, 3, 4, 3, 182, 0, 249]
abbrev dktX11_act_0 : List UInt8 := dkwX11_act_0 ++ dktX11_act_1
theorem dksX11_act_0 : cX11_act.data.toList.drop 0 = dktX11_act_0 := by decide +kernel
theorem dksX11_act_1 : cX11_act.data.toList.drop 24 = dktX11_act_1 := dk_seg dksX11_act_0 24 rfl rfl
theorem dksX11_act_2 : cX11_act.data.toList.drop 47 = dktX11_act_2 := dk_seg dksX11_act_1 23 rfl rfl
theorem dksX11_act_3 : cX11_act.data.toList.drop 71 = dktX11_act_3 := dk_seg dksX11_act_2 24 rfl rfl
theorem dksX11_act_4 : cX11_act.data.toList.drop 94 = dktX11_act_4 := dk_seg dksX11_act_3 23 rfl rfl
theorem dksX11_act_5 : cX11_act.data.toList.drop 118 = dktX11_act_5 := dk_seg dksX11_act_4 24 rfl rfl
theorem dX11_act_0 : decode cX11_act 0 = .ok (.aload_n 0, 1) := dk_42 (dk_at dksX11_act_0 0 rfl rfl)
theorem dX11_act_1 : decode cX11_act 1 = .ok (.iconst 0, 1) := dk_3 (dk_at dksX11_act_0 1 rfl rfl)
theorem dX11_act_2 : decode cX11_act 2 = .ok (.putfield 134, 3) := dk_181 0 134 (dk_at dksX11_act_0 2 rfl rfl)
theorem dX11_act_5 : decode cX11_act 5 = .ok (.aload_n 0, 1) := dk_42 (dk_at dksX11_act_0 5 rfl rfl)
theorem dX11_act_6 : decode cX11_act 6 = .ok (.aload_n 0, 1) := dk_42 (dk_at dksX11_act_0 6 rfl rfl)
theorem dX11_act_7 : decode cX11_act 7 = .ok (.iload_n 1, 1) := dk_27 (dk_at dksX11_act_0 7 rfl rfl)
theorem dX11_act_8 : decode cX11_act 8 = .ok (.invokevirtual 344, 3) := dk_182 1 88 (dk_at dksX11_act_0 8 rfl rfl)
theorem dX11_act_11 : decode cX11_act 11 = .ok (.ifCond .ne 7, 3) := dk_154 0 7 (dk_at dksX11_act_0 11 rfl rfl)
theorem dX11_act_14 : decode cX11_act 14 = .ok (.iconst 1, 1) := dk_4 (dk_at dksX11_act_0 14 rfl rfl)
theorem dX11_act_15 : decode cX11_act 15 = .ok (.goto 4, 3) := dk_167 0 4 (dk_at dksX11_act_0 15 rfl rfl)
theorem dX11_act_18 : decode cX11_act 18 = .ok (.iconst 0, 1) := dk_3 (dk_at dksX11_act_0 18 rfl rfl)
theorem dX11_act_19 : decode cX11_act 19 = .ok (.iconst 1, 1) := dk_4 (dk_at dksX11_act_0 19 rfl rfl)
theorem dX11_act_20 : decode cX11_act 20 = .ok (.iconst 0, 1) := dk_3 (dk_at dksX11_act_0 20 rfl rfl)
theorem dX11_act_21 : decode cX11_act 21 = .ok (.invokevirtual 249, 3) := dk_182 0 249 (dk_at dksX11_act_0 21 rfl rfl)
theorem dX11_act_24 : decode cX11_act 24 = .ok (.ifCond .ne 26, 3) := dk_154 0 26 (dk_at dksX11_act_1 0 rfl rfl)
theorem dX11_act_27 : decode cX11_act 27 = .ok (.aload_n 0, 1) := dk_42 (dk_at dksX11_act_1 3 rfl rfl)
theorem dX11_act_28 : decode cX11_act 28 = .ok (.iload_n 2, 1) := dk_28 (dk_at dksX11_act_1 4 rfl rfl)
theorem dX11_act_29 : decode cX11_act 29 = .ok (.iconst 0, 1) := dk_3 (dk_at dksX11_act_1 5 rfl rfl)
theorem dX11_act_30 : decode cX11_act 30 = .ok (.iconst 2, 1) := dk_5 (dk_at dksX11_act_1 6 rfl rfl)
theorem dX11_act_31 : decode cX11_act 31 = .ok (.invokestatic 168, 3) := dk_184 0 168 (dk_at dksX11_act_1 7 rfl rfl)
theorem dX11_act_34 : decode cX11_act 34 = .ok (.ifCond .ne 7, 3) := dk_154 0 7 (dk_at dksX11_act_1 10 rfl rfl)
theorem dX11_act_37 : decode cX11_act 37 = .ok (.iconst 1, 1) := dk_4 (dk_at dksX11_act_1 13 rfl rfl)
theorem dX11_act_38 : decode cX11_act 38 = .ok (.goto 4, 3) := dk_167 0 4 (dk_at dksX11_act_1 14 rfl rfl)
theorem dX11_act_41 : decode cX11_act 41 = .ok (.iconst 0, 1) := dk_3 (dk_at dksX11_act_1 17 rfl rfl)
theorem dX11_act_42 : decode cX11_act 42 = .ok (.iconst 2, 1) := dk_5 (dk_at dksX11_act_1 18 rfl rfl)
theorem dX11_act_43 : decode cX11_act 43 = .ok (.iconst 1, 1) := dk_4 (dk_at dksX11_act_1 19 rfl rfl)
theorem dX11_act_44 : decode cX11_act 44 = .ok (.invokevirtual 249, 3) := dk_182 0 249 (dk_at dksX11_act_1 20 rfl rfl)
theorem dX11_act_47 : decode cX11_act 47 = .ok (.ifCond .eq 5, 3) := dk_153 0 5 (dk_at dksX11_act_2 0 rfl rfl)
theorem dX11_act_50 : decode cX11_act 50 = .ok (.iconst 0, 1) := dk_3 (dk_at dksX11_act_2 3 rfl rfl)
theorem dX11_act_51 : decode cX11_act 51 = .ok (.ireturn, 1) := dk_172 (dk_at dksX11_act_2 4 rfl rfl)
theorem dX11_act_52 : decode cX11_act 52 = .ok (.iconst 0, 1) := dk_3 (dk_at dksX11_act_2 5 rfl rfl)
theorem dX11_act_53 : decode cX11_act 53 = .ok (.istore_n 3, 1) := dk_62 (dk_at dksX11_act_2 6 rfl rfl)
theorem dX11_act_54 : decode cX11_act 54 = .ok (.iconst 0, 1) := dk_3 (dk_at dksX11_act_2 7 rfl rfl)
theorem dX11_act_55 : decode cX11_act 55 = .ok (.istore 4, 2) := dk_54 4 (dk_at dksX11_act_2 8 rfl rfl)
theorem dX11_act_57 : decode cX11_act 57 = .ok (.iload 4, 2) := dk_21 4 (dk_at dksX11_act_2 10 rfl rfl)
theorem dX11_act_59 : decode cX11_act 59 = .ok (.aload_n 0, 1) := dk_42 (dk_at dksX11_act_2 12 rfl rfl)
theorem dX11_act_60 : decode cX11_act 60 = .ok (.getfield 61, 3) := dk_180 0 61 (dk_at dksX11_act_2 13 rfl rfl)
theorem dX11_act_63 : decode cX11_act 63 = .ok (.iload_n 1, 1) := dk_27 (dk_at dksX11_act_2 16 rfl rfl)
theorem dX11_act_64 : decode cX11_act 64 = .ok (.aaload, 1) := dk_50 (dk_at dksX11_act_2 17 rfl rfl)
theorem dX11_act_65 : decode cX11_act 65 = .ok (.iconst 1, 1) := dk_4 (dk_at dksX11_act_2 18 rfl rfl)
theorem dX11_act_66 : decode cX11_act 66 = .ok (.iaload, 1) := dk_46 (dk_at dksX11_act_2 19 rfl rfl)
theorem dX11_act_67 : decode cX11_act 67 = .ok (.if_icmp .ge 30, 3) := dk_162 0 30 (dk_at dksX11_act_2 20 rfl rfl)
theorem dX11_act_70 : decode cX11_act 70 = .ok (.iload_n 3, 1) := dk_29 (dk_at dksX11_act_2 23 rfl rfl)
theorem dX11_act_71 : decode cX11_act 71 = .ok (.aload_n 0, 1) := dk_42 (dk_at dksX11_act_3 0 rfl rfl)
theorem dX11_act_72 : decode cX11_act 72 = .ok (.getfield 55, 3) := dk_180 0 55 (dk_at dksX11_act_3 1 rfl rfl)
theorem dX11_act_75 : decode cX11_act 75 = .ok (.aload_n 0, 1) := dk_42 (dk_at dksX11_act_3 4 rfl rfl)
theorem dX11_act_76 : decode cX11_act 76 = .ok (.getfield 61, 3) := dk_180 0 61 (dk_at dksX11_act_3 5 rfl rfl)
theorem dX11_act_79 : decode cX11_act 79 = .ok (.iload_n 1, 1) := dk_27 (dk_at dksX11_act_3 8 rfl rfl)
theorem dX11_act_80 : decode cX11_act 80 = .ok (.aaload, 1) := dk_50 (dk_at dksX11_act_3 9 rfl rfl)
theorem dX11_act_81 : decode cX11_act 81 = .ok (.iconst 2, 1) := dk_5 (dk_at dksX11_act_3 10 rfl rfl)
theorem dX11_act_82 : decode cX11_act 82 = .ok (.iload 4, 2) := dk_21 4 (dk_at dksX11_act_3 11 rfl rfl)
theorem dX11_act_84 : decode cX11_act 84 = .ok (.iadd, 1) := dk_96 (dk_at dksX11_act_3 13 rfl rfl)
theorem dX11_act_85 : decode cX11_act 85 = .ok (.iaload, 1) := dk_46 (dk_at dksX11_act_3 14 rfl rfl)
theorem dX11_act_86 : decode cX11_act 86 = .ok (.aaload, 1) := dk_50 (dk_at dksX11_act_3 15 rfl rfl)
theorem dX11_act_87 : decode cX11_act 87 = .ok (.iconst 1, 1) := dk_4 (dk_at dksX11_act_3 16 rfl rfl)
theorem dX11_act_88 : decode cX11_act 88 = .ok (.iaload, 1) := dk_46 (dk_at dksX11_act_3 17 rfl rfl)
theorem dX11_act_89 : decode cX11_act 89 = .ok (.iadd, 1) := dk_96 (dk_at dksX11_act_3 18 rfl rfl)
theorem dX11_act_90 : decode cX11_act 90 = .ok (.istore_n 3, 1) := dk_62 (dk_at dksX11_act_3 19 rfl rfl)
theorem dX11_act_91 : decode cX11_act 91 = .ok (.iinc 4 1, 3) := dk_132 4 1 (dk_at dksX11_act_3 20 rfl rfl)
theorem dX11_act_94 : decode cX11_act 94 = .ok (.goto (-37), 3) := dk_167 255 219 (dk_at dksX11_act_4 0 rfl rfl)
theorem dX11_act_97 : decode cX11_act 97 = .ok (.iload_n 2, 1) := dk_28 (dk_at dksX11_act_4 3 rfl rfl)
theorem dX11_act_98 : decode cX11_act 98 = .ok (.ifCond .ne 14, 3) := dk_154 0 14 (dk_at dksX11_act_4 4 rfl rfl)
theorem dX11_act_101 : decode cX11_act 101 = .ok (.aload_n 0, 1) := dk_42 (dk_at dksX11_act_4 7 rfl rfl)
theorem dX11_act_102 : decode cX11_act 102 = .ok (.getfield 61, 3) := dk_180 0 61 (dk_at dksX11_act_4 8 rfl rfl)
theorem dX11_act_105 : decode cX11_act 105 = .ok (.iload_n 1, 1) := dk_27 (dk_at dksX11_act_4 11 rfl rfl)
theorem dX11_act_106 : decode cX11_act 106 = .ok (.aaload, 1) := dk_50 (dk_at dksX11_act_4 12 rfl rfl)
theorem dX11_act_107 : decode cX11_act 107 = .ok (.iconst 0, 1) := dk_3 (dk_at dksX11_act_4 13 rfl rfl)
theorem dX11_act_108 : decode cX11_act 108 = .ok (.iaload, 1) := dk_46 (dk_at dksX11_act_4 14 rfl rfl)
theorem dX11_act_109 : decode cX11_act 109 = .ok (.goto 17, 3) := dk_167 0 17 (dk_at dksX11_act_4 15 rfl rfl)
theorem dX11_act_112 : decode cX11_act 112 = .ok (.iload_n 2, 1) := dk_28 (dk_at dksX11_act_4 18 rfl rfl)
theorem dX11_act_113 : decode cX11_act 113 = .ok (.iconst 1, 1) := dk_4 (dk_at dksX11_act_4 19 rfl rfl)
theorem dX11_act_114 : decode cX11_act 114 = .ok (.if_icmp .ne 11, 3) := dk_160 0 11 (dk_at dksX11_act_4 20 rfl rfl)
theorem dX11_act_117 : decode cX11_act 117 = .ok (.aload_n 0, 1) := dk_42 (dk_at dksX11_act_4 23 rfl rfl)
theorem dX11_act_118 : decode cX11_act 118 = .ok (.iload_n 1, 1) := dk_27 (dk_at dksX11_act_5 0 rfl rfl)
theorem dX11_act_119 : decode cX11_act 119 = .ok (.invokevirtual 347, 3) := dk_182 1 91 (dk_at dksX11_act_5 1 rfl rfl)
theorem dX11_act_122 : decode cX11_act 122 = .ok (.goto 4, 3) := dk_167 0 4 (dk_at dksX11_act_5 4 rfl rfl)
theorem dX11_act_125 : decode cX11_act 125 = .ok (.iload_n 3, 1) := dk_29 (dk_at dksX11_act_5 7 rfl rfl)
theorem dX11_act_126 : decode cX11_act 126 = .ok (.ireturn, 1) := dk_172 (dk_at dksX11_act_5 8 rfl rfl)
abbrev cX11_isAct : ByteArray := prog_22_method_54_code
def yX11_isAct : MethodName := ⟨RX11, "isAct", "(I)Z"⟩
def dkwX11_isAct_0 : List UInt8 := [27, 3, 42, 180, 0, 23, 5, 46, 4, 100, 184, 0, 168, 172]
abbrev dktX11_isAct_0 : List UInt8 := dkwX11_isAct_0 ++ []
theorem dksX11_isAct_0 : cX11_isAct.data.toList.drop 0 = dktX11_isAct_0 := by decide +kernel
theorem dX11_isAct_0 : decode cX11_isAct 0 = .ok (.iload_n 1, 1) := dk_27 (dk_at dksX11_isAct_0 0 rfl rfl)
theorem dX11_isAct_1 : decode cX11_isAct 1 = .ok (.iconst 0, 1) := dk_3 (dk_at dksX11_isAct_0 1 rfl rfl)
theorem dX11_isAct_2 : decode cX11_isAct 2 = .ok (.aload_n 0, 1) := dk_42 (dk_at dksX11_isAct_0 2 rfl rfl)
theorem dX11_isAct_3 : decode cX11_isAct 3 = .ok (.getfield 23, 3) := dk_180 0 23 (dk_at dksX11_isAct_0 3 rfl rfl)
theorem dX11_isAct_6 : decode cX11_isAct 6 = .ok (.iconst 2, 1) := dk_5 (dk_at dksX11_isAct_0 6 rfl rfl)
theorem dX11_isAct_7 : decode cX11_isAct 7 = .ok (.iaload, 1) := dk_46 (dk_at dksX11_isAct_0 7 rfl rfl)
theorem dX11_isAct_8 : decode cX11_isAct 8 = .ok (.iconst 1, 1) := dk_4 (dk_at dksX11_isAct_0 8 rfl rfl)
theorem dX11_isAct_9 : decode cX11_isAct 9 = .ok (.isub, 1) := dk_100 (dk_at dksX11_isAct_0 9 rfl rfl)
theorem dX11_isAct_10 : decode cX11_isAct 10 = .ok (.invokestatic 168, 3) := dk_184 0 168 (dk_at dksX11_isAct_0 10 rfl rfl)
theorem dX11_isAct_13 : decode cX11_isAct 13 = .ok (.ireturn, 1) := dk_172 (dk_at dksX11_isAct_0 13 rfl rfl)
abbrev cX11_bitsOf : ByteArray := prog_22_method_64_code
def yX11_bitsOf : MethodName := ⟨RX11, "bitsOf", "(I)I"⟩
def dkwX11_bitsOf_1 : List UInt8 := [5, 29, 96, 46, 120, 128, 61, 132, 3, 1, 167, 255, 226, 28, 172]
abbrev dktX11_bitsOf_1 : List UInt8 := dkwX11_bitsOf_1 ++ []
def dkwX11_bitsOf_0 : List UInt8 := [3, 61, 3, 62, 29, 42, 180, 0, 61, 27, 50, 4, 46, 162, 0, 24, 28, 4, 42, 180, 0, 61, 27, 50]
abbrev dktX11_bitsOf_0 : List UInt8 := dkwX11_bitsOf_0 ++ dktX11_bitsOf_1
theorem dksX11_bitsOf_0 : cX11_bitsOf.data.toList.drop 0 = dktX11_bitsOf_0 := by decide +kernel
theorem dksX11_bitsOf_1 : cX11_bitsOf.data.toList.drop 24 = dktX11_bitsOf_1 := dk_seg dksX11_bitsOf_0 24 rfl rfl
theorem dX11_bitsOf_0 : decode cX11_bitsOf 0 = .ok (.iconst 0, 1) := dk_3 (dk_at dksX11_bitsOf_0 0 rfl rfl)
theorem dX11_bitsOf_1 : decode cX11_bitsOf 1 = .ok (.istore_n 2, 1) := dk_61 (dk_at dksX11_bitsOf_0 1 rfl rfl)
theorem dX11_bitsOf_2 : decode cX11_bitsOf 2 = .ok (.iconst 0, 1) := dk_3 (dk_at dksX11_bitsOf_0 2 rfl rfl)
theorem dX11_bitsOf_3 : decode cX11_bitsOf 3 = .ok (.istore_n 3, 1) := dk_62 (dk_at dksX11_bitsOf_0 3 rfl rfl)
theorem dX11_bitsOf_4 : decode cX11_bitsOf 4 = .ok (.iload_n 3, 1) := dk_29 (dk_at dksX11_bitsOf_0 4 rfl rfl)
theorem dX11_bitsOf_5 : decode cX11_bitsOf 5 = .ok (.aload_n 0, 1) := dk_42 (dk_at dksX11_bitsOf_0 5 rfl rfl)
theorem dX11_bitsOf_6 : decode cX11_bitsOf 6 = .ok (.getfield 61, 3) := dk_180 0 61 (dk_at dksX11_bitsOf_0 6 rfl rfl)
theorem dX11_bitsOf_9 : decode cX11_bitsOf 9 = .ok (.iload_n 1, 1) := dk_27 (dk_at dksX11_bitsOf_0 9 rfl rfl)
theorem dX11_bitsOf_10 : decode cX11_bitsOf 10 = .ok (.aaload, 1) := dk_50 (dk_at dksX11_bitsOf_0 10 rfl rfl)
theorem dX11_bitsOf_11 : decode cX11_bitsOf 11 = .ok (.iconst 1, 1) := dk_4 (dk_at dksX11_bitsOf_0 11 rfl rfl)
theorem dX11_bitsOf_12 : decode cX11_bitsOf 12 = .ok (.iaload, 1) := dk_46 (dk_at dksX11_bitsOf_0 12 rfl rfl)
theorem dX11_bitsOf_13 : decode cX11_bitsOf 13 = .ok (.if_icmp .ge 24, 3) := dk_162 0 24 (dk_at dksX11_bitsOf_0 13 rfl rfl)
theorem dX11_bitsOf_16 : decode cX11_bitsOf 16 = .ok (.iload_n 2, 1) := dk_28 (dk_at dksX11_bitsOf_0 16 rfl rfl)
theorem dX11_bitsOf_17 : decode cX11_bitsOf 17 = .ok (.iconst 1, 1) := dk_4 (dk_at dksX11_bitsOf_0 17 rfl rfl)
theorem dX11_bitsOf_18 : decode cX11_bitsOf 18 = .ok (.aload_n 0, 1) := dk_42 (dk_at dksX11_bitsOf_0 18 rfl rfl)
theorem dX11_bitsOf_19 : decode cX11_bitsOf 19 = .ok (.getfield 61, 3) := dk_180 0 61 (dk_at dksX11_bitsOf_0 19 rfl rfl)
theorem dX11_bitsOf_22 : decode cX11_bitsOf 22 = .ok (.iload_n 1, 1) := dk_27 (dk_at dksX11_bitsOf_0 22 rfl rfl)
theorem dX11_bitsOf_23 : decode cX11_bitsOf 23 = .ok (.aaload, 1) := dk_50 (dk_at dksX11_bitsOf_0 23 rfl rfl)
theorem dX11_bitsOf_24 : decode cX11_bitsOf 24 = .ok (.iconst 2, 1) := dk_5 (dk_at dksX11_bitsOf_1 0 rfl rfl)
theorem dX11_bitsOf_25 : decode cX11_bitsOf 25 = .ok (.iload_n 3, 1) := dk_29 (dk_at dksX11_bitsOf_1 1 rfl rfl)
theorem dX11_bitsOf_26 : decode cX11_bitsOf 26 = .ok (.iadd, 1) := dk_96 (dk_at dksX11_bitsOf_1 2 rfl rfl)
theorem dX11_bitsOf_27 : decode cX11_bitsOf 27 = .ok (.iaload, 1) := dk_46 (dk_at dksX11_bitsOf_1 3 rfl rfl)
theorem dX11_bitsOf_28 : decode cX11_bitsOf 28 = .ok (.ishl, 1) := dk_120 (dk_at dksX11_bitsOf_1 4 rfl rfl)
theorem dX11_bitsOf_29 : decode cX11_bitsOf 29 = .ok (.ior, 1) := dk_128 (dk_at dksX11_bitsOf_1 5 rfl rfl)
theorem dX11_bitsOf_30 : decode cX11_bitsOf 30 = .ok (.istore_n 2, 1) := dk_61 (dk_at dksX11_bitsOf_1 6 rfl rfl)
theorem dX11_bitsOf_31 : decode cX11_bitsOf 31 = .ok (.iinc 3 1, 3) := dk_132 3 1 (dk_at dksX11_bitsOf_1 7 rfl rfl)
theorem dX11_bitsOf_34 : decode cX11_bitsOf 34 = .ok (.goto (-30), 3) := dk_167 255 226 (dk_at dksX11_bitsOf_1 10 rfl rfl)
theorem dX11_bitsOf_37 : decode cX11_bitsOf 37 = .ok (.iload_n 2, 1) := dk_28 (dk_at dksX11_bitsOf_1 13 rfl rfl)
theorem dX11_bitsOf_38 : decode cX11_bitsOf 38 = .ok (.ireturn, 1) := dk_172 (dk_at dksX11_bitsOf_1 14 rfl rfl)
abbrev cX11_score : ByteArray := prog_22_method_67_code
def yX11_score : MethodName := ⟨RX11, "score", "(II)I"⟩
def dkwX11_score_2 : List UInt8 := [172]
abbrev dktX11_score_2 : List UInt8 := dkwX11_score_2 ++ []
def dkwX11_score_1 : List UInt8 := [167, 0, 4, 3, 4, 3, 182, 0, 249, 153, 0, 5, 3, 172, 42, 42, 180, 0, 91, 27, 28, 182, 1, 101]
abbrev dktX11_score_1 : List UInt8 := dkwX11_score_1 ++ dktX11_score_2
def dkwX11_score_0 : List UInt8 := [42, 3, 181, 0, 134, 42, 42, 27, 182, 1, 82, 153, 0, 11, 42, 28, 182, 1, 75, 154, 0, 7, 4]
abbrev dktX11_score_0 : List UInt8 := dkwX11_score_0 ++ dktX11_score_1
theorem dksX11_score_0 : cX11_score.data.toList.drop 0 = dktX11_score_0 := by decide +kernel
theorem dksX11_score_1 : cX11_score.data.toList.drop 23 = dktX11_score_1 := dk_seg dksX11_score_0 23 rfl rfl
theorem dksX11_score_2 : cX11_score.data.toList.drop 47 = dktX11_score_2 := dk_seg dksX11_score_1 24 rfl rfl
theorem dX11_score_0 : decode cX11_score 0 = .ok (.aload_n 0, 1) := dk_42 (dk_at dksX11_score_0 0 rfl rfl)
theorem dX11_score_1 : decode cX11_score 1 = .ok (.iconst 0, 1) := dk_3 (dk_at dksX11_score_0 1 rfl rfl)
theorem dX11_score_2 : decode cX11_score 2 = .ok (.putfield 134, 3) := dk_181 0 134 (dk_at dksX11_score_0 2 rfl rfl)
theorem dX11_score_5 : decode cX11_score 5 = .ok (.aload_n 0, 1) := dk_42 (dk_at dksX11_score_0 5 rfl rfl)
theorem dX11_score_6 : decode cX11_score 6 = .ok (.aload_n 0, 1) := dk_42 (dk_at dksX11_score_0 6 rfl rfl)
theorem dX11_score_7 : decode cX11_score 7 = .ok (.iload_n 1, 1) := dk_27 (dk_at dksX11_score_0 7 rfl rfl)
theorem dX11_score_8 : decode cX11_score 8 = .ok (.invokevirtual 338, 3) := dk_182 1 82 (dk_at dksX11_score_0 8 rfl rfl)
theorem dX11_score_11 : decode cX11_score 11 = .ok (.ifCond .eq 11, 3) := dk_153 0 11 (dk_at dksX11_score_0 11 rfl rfl)
theorem dX11_score_14 : decode cX11_score 14 = .ok (.aload_n 0, 1) := dk_42 (dk_at dksX11_score_0 14 rfl rfl)
theorem dX11_score_15 : decode cX11_score 15 = .ok (.iload_n 2, 1) := dk_28 (dk_at dksX11_score_0 15 rfl rfl)
theorem dX11_score_16 : decode cX11_score 16 = .ok (.invokevirtual 331, 3) := dk_182 1 75 (dk_at dksX11_score_0 16 rfl rfl)
theorem dX11_score_19 : decode cX11_score 19 = .ok (.ifCond .ne 7, 3) := dk_154 0 7 (dk_at dksX11_score_0 19 rfl rfl)
theorem dX11_score_22 : decode cX11_score 22 = .ok (.iconst 1, 1) := dk_4 (dk_at dksX11_score_0 22 rfl rfl)
theorem dX11_score_23 : decode cX11_score 23 = .ok (.goto 4, 3) := dk_167 0 4 (dk_at dksX11_score_1 0 rfl rfl)
theorem dX11_score_26 : decode cX11_score 26 = .ok (.iconst 0, 1) := dk_3 (dk_at dksX11_score_1 3 rfl rfl)
theorem dX11_score_27 : decode cX11_score 27 = .ok (.iconst 1, 1) := dk_4 (dk_at dksX11_score_1 4 rfl rfl)
theorem dX11_score_28 : decode cX11_score 28 = .ok (.iconst 0, 1) := dk_3 (dk_at dksX11_score_1 5 rfl rfl)
theorem dX11_score_29 : decode cX11_score 29 = .ok (.invokevirtual 249, 3) := dk_182 0 249 (dk_at dksX11_score_1 6 rfl rfl)
theorem dX11_score_32 : decode cX11_score 32 = .ok (.ifCond .eq 5, 3) := dk_153 0 5 (dk_at dksX11_score_1 9 rfl rfl)
theorem dX11_score_35 : decode cX11_score 35 = .ok (.iconst 0, 1) := dk_3 (dk_at dksX11_score_1 12 rfl rfl)
theorem dX11_score_36 : decode cX11_score 36 = .ok (.ireturn, 1) := dk_172 (dk_at dksX11_score_1 13 rfl rfl)
theorem dX11_score_37 : decode cX11_score 37 = .ok (.aload_n 0, 1) := dk_42 (dk_at dksX11_score_1 14 rfl rfl)
theorem dX11_score_38 : decode cX11_score 38 = .ok (.aload_n 0, 1) := dk_42 (dk_at dksX11_score_1 15 rfl rfl)
theorem dX11_score_39 : decode cX11_score 39 = .ok (.getfield 91, 3) := dk_180 0 91 (dk_at dksX11_score_1 16 rfl rfl)
theorem dX11_score_42 : decode cX11_score 42 = .ok (.iload_n 1, 1) := dk_27 (dk_at dksX11_score_1 19 rfl rfl)
theorem dX11_score_43 : decode cX11_score 43 = .ok (.iload_n 2, 1) := dk_28 (dk_at dksX11_score_1 20 rfl rfl)
theorem dX11_score_44 : decode cX11_score 44 = .ok (.invokevirtual 357, 3) := dk_182 1 101 (dk_at dksX11_score_1 21 rfl rfl)
theorem dX11_score_47 : decode cX11_score 47 = .ok (.ireturn, 1) := dk_172 (dk_at dksX11_score_2 0 rfl rfl)
abbrev cX11_scoreOf : ByteArray := prog_22_method_66_code
def yX11_scoreOf : MethodName := ⟨RX11, "scoreOf", "([III)I"⟩
def dkwX11_scoreOf_4 : List UInt8 := [16, 7, 28, 79, 42, 180, 0, 88, 16, 8, 42, 43, 28, 29, 182, 1, 94, 79, 42, 182, 1, 98, 172]
abbrev dktX11_scoreOf_4 : List UInt8 := dkwX11_scoreOf_4 ++ []
def dkwX11_scoreOf_3 : List UInt8 := [46, 79, 42, 180, 0, 88, 8, 43, 16, 106, 46, 79, 42, 180, 0, 88, 16, 6, 29, 79, 42, 180, 0, 88]
abbrev dktX11_scoreOf_3 : List UInt8 := dkwX11_scoreOf_3 ++ dktX11_scoreOf_4
def dkwX11_scoreOf_2 : List UInt8 := [180, 0, 88, 6, 42, 43, 29, 182, 1, 78, 184, 0, 246, 79, 42, 180, 0, 88, 7, 43, 16, 9, 28, 96]
abbrev dktX11_scoreOf_2 : List UInt8 := dkwX11_scoreOf_2 ++ dktX11_scoreOf_3
def dkwX11_scoreOf_1 : List UInt8 := [50, 3, 46, 79, 42, 180, 0, 88, 5, 43, 16, 106, 46, 42, 180, 0, 49, 29, 50, 4, 46, 100, 79, 42]
abbrev dktX11_scoreOf_1 : List UInt8 := dkwX11_scoreOf_1 ++ dktX11_scoreOf_2
def dkwX11_scoreOf_0 : List UInt8 := [42, 180, 0, 88, 3, 42, 180, 0, 49, 29, 50, 3, 46, 79, 42, 180, 0, 88, 4, 42, 180, 0, 55, 28]
abbrev dktX11_scoreOf_0 : List UInt8 := dkwX11_scoreOf_0 ++ dktX11_scoreOf_1
theorem dksX11_scoreOf_0 : cX11_scoreOf.data.toList.drop 0 = dktX11_scoreOf_0 := by decide +kernel
theorem dksX11_scoreOf_1 : cX11_scoreOf.data.toList.drop 24 = dktX11_scoreOf_1 := dk_seg dksX11_scoreOf_0 24 rfl rfl
theorem dksX11_scoreOf_2 : cX11_scoreOf.data.toList.drop 48 = dktX11_scoreOf_2 := dk_seg dksX11_scoreOf_1 24 rfl rfl
theorem dksX11_scoreOf_3 : cX11_scoreOf.data.toList.drop 72 = dktX11_scoreOf_3 := dk_seg dksX11_scoreOf_2 24 rfl rfl
theorem dksX11_scoreOf_4 : cX11_scoreOf.data.toList.drop 96 = dktX11_scoreOf_4 := dk_seg dksX11_scoreOf_3 24 rfl rfl
theorem dX11_scoreOf_0 : decode cX11_scoreOf 0 = .ok (.aload_n 0, 1) := dk_42 (dk_at dksX11_scoreOf_0 0 rfl rfl)
theorem dX11_scoreOf_1 : decode cX11_scoreOf 1 = .ok (.getfield 88, 3) := dk_180 0 88 (dk_at dksX11_scoreOf_0 1 rfl rfl)
theorem dX11_scoreOf_4 : decode cX11_scoreOf 4 = .ok (.iconst 0, 1) := dk_3 (dk_at dksX11_scoreOf_0 4 rfl rfl)
theorem dX11_scoreOf_5 : decode cX11_scoreOf 5 = .ok (.aload_n 0, 1) := dk_42 (dk_at dksX11_scoreOf_0 5 rfl rfl)
theorem dX11_scoreOf_6 : decode cX11_scoreOf 6 = .ok (.getfield 49, 3) := dk_180 0 49 (dk_at dksX11_scoreOf_0 6 rfl rfl)
theorem dX11_scoreOf_9 : decode cX11_scoreOf 9 = .ok (.iload_n 3, 1) := dk_29 (dk_at dksX11_scoreOf_0 9 rfl rfl)
theorem dX11_scoreOf_10 : decode cX11_scoreOf 10 = .ok (.aaload, 1) := dk_50 (dk_at dksX11_scoreOf_0 10 rfl rfl)
theorem dX11_scoreOf_11 : decode cX11_scoreOf 11 = .ok (.iconst 0, 1) := dk_3 (dk_at dksX11_scoreOf_0 11 rfl rfl)
theorem dX11_scoreOf_12 : decode cX11_scoreOf 12 = .ok (.iaload, 1) := dk_46 (dk_at dksX11_scoreOf_0 12 rfl rfl)
theorem dX11_scoreOf_13 : decode cX11_scoreOf 13 = .ok (.iastore, 1) := dk_79 (dk_at dksX11_scoreOf_0 13 rfl rfl)
theorem dX11_scoreOf_14 : decode cX11_scoreOf 14 = .ok (.aload_n 0, 1) := dk_42 (dk_at dksX11_scoreOf_0 14 rfl rfl)
theorem dX11_scoreOf_15 : decode cX11_scoreOf 15 = .ok (.getfield 88, 3) := dk_180 0 88 (dk_at dksX11_scoreOf_0 15 rfl rfl)
theorem dX11_scoreOf_18 : decode cX11_scoreOf 18 = .ok (.iconst 1, 1) := dk_4 (dk_at dksX11_scoreOf_0 18 rfl rfl)
theorem dX11_scoreOf_19 : decode cX11_scoreOf 19 = .ok (.aload_n 0, 1) := dk_42 (dk_at dksX11_scoreOf_0 19 rfl rfl)
theorem dX11_scoreOf_20 : decode cX11_scoreOf 20 = .ok (.getfield 55, 3) := dk_180 0 55 (dk_at dksX11_scoreOf_0 20 rfl rfl)
theorem dX11_scoreOf_23 : decode cX11_scoreOf 23 = .ok (.iload_n 2, 1) := dk_28 (dk_at dksX11_scoreOf_0 23 rfl rfl)
theorem dX11_scoreOf_24 : decode cX11_scoreOf 24 = .ok (.aaload, 1) := dk_50 (dk_at dksX11_scoreOf_1 0 rfl rfl)
theorem dX11_scoreOf_25 : decode cX11_scoreOf 25 = .ok (.iconst 0, 1) := dk_3 (dk_at dksX11_scoreOf_1 1 rfl rfl)
theorem dX11_scoreOf_26 : decode cX11_scoreOf 26 = .ok (.iaload, 1) := dk_46 (dk_at dksX11_scoreOf_1 2 rfl rfl)
theorem dX11_scoreOf_27 : decode cX11_scoreOf 27 = .ok (.iastore, 1) := dk_79 (dk_at dksX11_scoreOf_1 3 rfl rfl)
theorem dX11_scoreOf_28 : decode cX11_scoreOf 28 = .ok (.aload_n 0, 1) := dk_42 (dk_at dksX11_scoreOf_1 4 rfl rfl)
theorem dX11_scoreOf_29 : decode cX11_scoreOf 29 = .ok (.getfield 88, 3) := dk_180 0 88 (dk_at dksX11_scoreOf_1 5 rfl rfl)
theorem dX11_scoreOf_32 : decode cX11_scoreOf 32 = .ok (.iconst 2, 1) := dk_5 (dk_at dksX11_scoreOf_1 8 rfl rfl)
theorem dX11_scoreOf_33 : decode cX11_scoreOf 33 = .ok (.aload_n 1, 1) := dk_43 (dk_at dksX11_scoreOf_1 9 rfl rfl)
theorem dX11_scoreOf_34 : decode cX11_scoreOf 34 = .ok (.bipush 106, 2) := dk_16 106 (dk_at dksX11_scoreOf_1 10 rfl rfl)
theorem dX11_scoreOf_36 : decode cX11_scoreOf 36 = .ok (.iaload, 1) := dk_46 (dk_at dksX11_scoreOf_1 12 rfl rfl)
theorem dX11_scoreOf_37 : decode cX11_scoreOf 37 = .ok (.aload_n 0, 1) := dk_42 (dk_at dksX11_scoreOf_1 13 rfl rfl)
theorem dX11_scoreOf_38 : decode cX11_scoreOf 38 = .ok (.getfield 49, 3) := dk_180 0 49 (dk_at dksX11_scoreOf_1 14 rfl rfl)
theorem dX11_scoreOf_41 : decode cX11_scoreOf 41 = .ok (.iload_n 3, 1) := dk_29 (dk_at dksX11_scoreOf_1 17 rfl rfl)
theorem dX11_scoreOf_42 : decode cX11_scoreOf 42 = .ok (.aaload, 1) := dk_50 (dk_at dksX11_scoreOf_1 18 rfl rfl)
theorem dX11_scoreOf_43 : decode cX11_scoreOf 43 = .ok (.iconst 1, 1) := dk_4 (dk_at dksX11_scoreOf_1 19 rfl rfl)
theorem dX11_scoreOf_44 : decode cX11_scoreOf 44 = .ok (.iaload, 1) := dk_46 (dk_at dksX11_scoreOf_1 20 rfl rfl)
theorem dX11_scoreOf_45 : decode cX11_scoreOf 45 = .ok (.isub, 1) := dk_100 (dk_at dksX11_scoreOf_1 21 rfl rfl)
theorem dX11_scoreOf_46 : decode cX11_scoreOf 46 = .ok (.iastore, 1) := dk_79 (dk_at dksX11_scoreOf_1 22 rfl rfl)
theorem dX11_scoreOf_47 : decode cX11_scoreOf 47 = .ok (.aload_n 0, 1) := dk_42 (dk_at dksX11_scoreOf_1 23 rfl rfl)
theorem dX11_scoreOf_48 : decode cX11_scoreOf 48 = .ok (.getfield 88, 3) := dk_180 0 88 (dk_at dksX11_scoreOf_2 0 rfl rfl)
theorem dX11_scoreOf_51 : decode cX11_scoreOf 51 = .ok (.iconst 3, 1) := dk_6 (dk_at dksX11_scoreOf_2 3 rfl rfl)
theorem dX11_scoreOf_52 : decode cX11_scoreOf 52 = .ok (.aload_n 0, 1) := dk_42 (dk_at dksX11_scoreOf_2 4 rfl rfl)
theorem dX11_scoreOf_53 : decode cX11_scoreOf 53 = .ok (.aload_n 1, 1) := dk_43 (dk_at dksX11_scoreOf_2 5 rfl rfl)
theorem dX11_scoreOf_54 : decode cX11_scoreOf 54 = .ok (.iload_n 3, 1) := dk_29 (dk_at dksX11_scoreOf_2 6 rfl rfl)
theorem dX11_scoreOf_55 : decode cX11_scoreOf 55 = .ok (.invokevirtual 334, 3) := dk_182 1 78 (dk_at dksX11_scoreOf_2 7 rfl rfl)
theorem dX11_scoreOf_58 : decode cX11_scoreOf 58 = .ok (.invokestatic 246, 3) := dk_184 0 246 (dk_at dksX11_scoreOf_2 10 rfl rfl)
theorem dX11_scoreOf_61 : decode cX11_scoreOf 61 = .ok (.iastore, 1) := dk_79 (dk_at dksX11_scoreOf_2 13 rfl rfl)
theorem dX11_scoreOf_62 : decode cX11_scoreOf 62 = .ok (.aload_n 0, 1) := dk_42 (dk_at dksX11_scoreOf_2 14 rfl rfl)
theorem dX11_scoreOf_63 : decode cX11_scoreOf 63 = .ok (.getfield 88, 3) := dk_180 0 88 (dk_at dksX11_scoreOf_2 15 rfl rfl)
theorem dX11_scoreOf_66 : decode cX11_scoreOf 66 = .ok (.iconst 4, 1) := dk_7 (dk_at dksX11_scoreOf_2 18 rfl rfl)
theorem dX11_scoreOf_67 : decode cX11_scoreOf 67 = .ok (.aload_n 1, 1) := dk_43 (dk_at dksX11_scoreOf_2 19 rfl rfl)
theorem dX11_scoreOf_68 : decode cX11_scoreOf 68 = .ok (.bipush 9, 2) := dk_16 9 (dk_at dksX11_scoreOf_2 20 rfl rfl)
theorem dX11_scoreOf_70 : decode cX11_scoreOf 70 = .ok (.iload_n 2, 1) := dk_28 (dk_at dksX11_scoreOf_2 22 rfl rfl)
theorem dX11_scoreOf_71 : decode cX11_scoreOf 71 = .ok (.iadd, 1) := dk_96 (dk_at dksX11_scoreOf_2 23 rfl rfl)
theorem dX11_scoreOf_72 : decode cX11_scoreOf 72 = .ok (.iaload, 1) := dk_46 (dk_at dksX11_scoreOf_3 0 rfl rfl)
theorem dX11_scoreOf_73 : decode cX11_scoreOf 73 = .ok (.iastore, 1) := dk_79 (dk_at dksX11_scoreOf_3 1 rfl rfl)
theorem dX11_scoreOf_74 : decode cX11_scoreOf 74 = .ok (.aload_n 0, 1) := dk_42 (dk_at dksX11_scoreOf_3 2 rfl rfl)
theorem dX11_scoreOf_75 : decode cX11_scoreOf 75 = .ok (.getfield 88, 3) := dk_180 0 88 (dk_at dksX11_scoreOf_3 3 rfl rfl)
theorem dX11_scoreOf_78 : decode cX11_scoreOf 78 = .ok (.iconst 5, 1) := dk_8 (dk_at dksX11_scoreOf_3 6 rfl rfl)
theorem dX11_scoreOf_79 : decode cX11_scoreOf 79 = .ok (.aload_n 1, 1) := dk_43 (dk_at dksX11_scoreOf_3 7 rfl rfl)
theorem dX11_scoreOf_80 : decode cX11_scoreOf 80 = .ok (.bipush 106, 2) := dk_16 106 (dk_at dksX11_scoreOf_3 8 rfl rfl)
theorem dX11_scoreOf_82 : decode cX11_scoreOf 82 = .ok (.iaload, 1) := dk_46 (dk_at dksX11_scoreOf_3 10 rfl rfl)
theorem dX11_scoreOf_83 : decode cX11_scoreOf 83 = .ok (.iastore, 1) := dk_79 (dk_at dksX11_scoreOf_3 11 rfl rfl)
theorem dX11_scoreOf_84 : decode cX11_scoreOf 84 = .ok (.aload_n 0, 1) := dk_42 (dk_at dksX11_scoreOf_3 12 rfl rfl)
theorem dX11_scoreOf_85 : decode cX11_scoreOf 85 = .ok (.getfield 88, 3) := dk_180 0 88 (dk_at dksX11_scoreOf_3 13 rfl rfl)
theorem dX11_scoreOf_88 : decode cX11_scoreOf 88 = .ok (.bipush 6, 2) := dk_16 6 (dk_at dksX11_scoreOf_3 16 rfl rfl)
theorem dX11_scoreOf_90 : decode cX11_scoreOf 90 = .ok (.iload_n 3, 1) := dk_29 (dk_at dksX11_scoreOf_3 18 rfl rfl)
theorem dX11_scoreOf_91 : decode cX11_scoreOf 91 = .ok (.iastore, 1) := dk_79 (dk_at dksX11_scoreOf_3 19 rfl rfl)
theorem dX11_scoreOf_92 : decode cX11_scoreOf 92 = .ok (.aload_n 0, 1) := dk_42 (dk_at dksX11_scoreOf_3 20 rfl rfl)
theorem dX11_scoreOf_93 : decode cX11_scoreOf 93 = .ok (.getfield 88, 3) := dk_180 0 88 (dk_at dksX11_scoreOf_3 21 rfl rfl)
theorem dX11_scoreOf_96 : decode cX11_scoreOf 96 = .ok (.bipush 7, 2) := dk_16 7 (dk_at dksX11_scoreOf_4 0 rfl rfl)
theorem dX11_scoreOf_98 : decode cX11_scoreOf 98 = .ok (.iload_n 2, 1) := dk_28 (dk_at dksX11_scoreOf_4 2 rfl rfl)
theorem dX11_scoreOf_99 : decode cX11_scoreOf 99 = .ok (.iastore, 1) := dk_79 (dk_at dksX11_scoreOf_4 3 rfl rfl)
theorem dX11_scoreOf_100 : decode cX11_scoreOf 100 = .ok (.aload_n 0, 1) := dk_42 (dk_at dksX11_scoreOf_4 4 rfl rfl)
theorem dX11_scoreOf_101 : decode cX11_scoreOf 101 = .ok (.getfield 88, 3) := dk_180 0 88 (dk_at dksX11_scoreOf_4 5 rfl rfl)
theorem dX11_scoreOf_104 : decode cX11_scoreOf 104 = .ok (.bipush 8, 2) := dk_16 8 (dk_at dksX11_scoreOf_4 8 rfl rfl)
theorem dX11_scoreOf_106 : decode cX11_scoreOf 106 = .ok (.aload_n 0, 1) := dk_42 (dk_at dksX11_scoreOf_4 10 rfl rfl)
theorem dX11_scoreOf_107 : decode cX11_scoreOf 107 = .ok (.aload_n 1, 1) := dk_43 (dk_at dksX11_scoreOf_4 11 rfl rfl)
theorem dX11_scoreOf_108 : decode cX11_scoreOf 108 = .ok (.iload_n 2, 1) := dk_28 (dk_at dksX11_scoreOf_4 12 rfl rfl)
theorem dX11_scoreOf_109 : decode cX11_scoreOf 109 = .ok (.iload_n 3, 1) := dk_29 (dk_at dksX11_scoreOf_4 13 rfl rfl)
theorem dX11_scoreOf_110 : decode cX11_scoreOf 110 = .ok (.invokevirtual 350, 3) := dk_182 1 94 (dk_at dksX11_scoreOf_4 14 rfl rfl)
theorem dX11_scoreOf_113 : decode cX11_scoreOf 113 = .ok (.iastore, 1) := dk_79 (dk_at dksX11_scoreOf_4 17 rfl rfl)
theorem dX11_scoreOf_114 : decode cX11_scoreOf 114 = .ok (.aload_n 0, 1) := dk_42 (dk_at dksX11_scoreOf_4 18 rfl rfl)
theorem dX11_scoreOf_115 : decode cX11_scoreOf 115 = .ok (.invokevirtual 354, 3) := dk_182 1 98 (dk_at dksX11_scoreOf_4 19 rfl rfl)
theorem dX11_scoreOf_118 : decode cX11_scoreOf 118 = .ok (.ireturn, 1) := dk_172 (dk_at dksX11_scoreOf_4 22 rfl rfl)
abbrev cX11_kinOf : ByteArray := prog_22_method_65_code
def yX11_kinOf : MethodName := ⟨RX11, "kinOf", "([III)I"⟩
def dkwX11_kinOf_3 : List UInt8 := [126, 4, 29, 120, 2, 130, 126, 153, 0, 5, 4, 172, 132, 5, 1, 167, 255, 203, 3, 172]
abbrev dktX11_kinOf_3 : List UInt8 := dkwX11_kinOf_3 ++ []
def dkwX11_kinOf_2 : List UInt8 := [159, 0, 36, 43, 4, 21, 5, 96, 46, 29, 184, 0, 242, 153, 0, 23, 43, 4, 21, 5, 96, 46, 21, 4]
abbrev dktX11_kinOf_2 : List UInt8 := dkwX11_kinOf_2 ++ dktX11_kinOf_3
def dkwX11_kinOf_1 : List UInt8 := [96, 46, 120, 128, 54, 4, 3, 54, 5, 21, 5, 42, 180, 0, 23, 4, 46, 162, 0, 48, 21, 5, 28]
abbrev dktX11_kinOf_1 : List UInt8 := dkwX11_kinOf_1 ++ dktX11_kinOf_2
def dkwX11_kinOf_0 : List UInt8 := [43, 4, 28, 96, 46, 43, 16, 17, 28, 96, 46, 2, 160, 0, 7, 3, 167, 0, 11, 4, 43, 16, 17, 28]
abbrev dktX11_kinOf_0 : List UInt8 := dkwX11_kinOf_0 ++ dktX11_kinOf_1
theorem dksX11_kinOf_0 : cX11_kinOf.data.toList.drop 0 = dktX11_kinOf_0 := by decide +kernel
theorem dksX11_kinOf_1 : cX11_kinOf.data.toList.drop 24 = dktX11_kinOf_1 := dk_seg dksX11_kinOf_0 24 rfl rfl
theorem dksX11_kinOf_2 : cX11_kinOf.data.toList.drop 47 = dktX11_kinOf_2 := dk_seg dksX11_kinOf_1 23 rfl rfl
theorem dksX11_kinOf_3 : cX11_kinOf.data.toList.drop 71 = dktX11_kinOf_3 := dk_seg dksX11_kinOf_2 24 rfl rfl
theorem dX11_kinOf_0 : decode cX11_kinOf 0 = .ok (.aload_n 1, 1) := dk_43 (dk_at dksX11_kinOf_0 0 rfl rfl)
theorem dX11_kinOf_1 : decode cX11_kinOf 1 = .ok (.iconst 1, 1) := dk_4 (dk_at dksX11_kinOf_0 1 rfl rfl)
theorem dX11_kinOf_2 : decode cX11_kinOf 2 = .ok (.iload_n 2, 1) := dk_28 (dk_at dksX11_kinOf_0 2 rfl rfl)
theorem dX11_kinOf_3 : decode cX11_kinOf 3 = .ok (.iadd, 1) := dk_96 (dk_at dksX11_kinOf_0 3 rfl rfl)
theorem dX11_kinOf_4 : decode cX11_kinOf 4 = .ok (.iaload, 1) := dk_46 (dk_at dksX11_kinOf_0 4 rfl rfl)
theorem dX11_kinOf_5 : decode cX11_kinOf 5 = .ok (.aload_n 1, 1) := dk_43 (dk_at dksX11_kinOf_0 5 rfl rfl)
theorem dX11_kinOf_6 : decode cX11_kinOf 6 = .ok (.bipush 17, 2) := dk_16 17 (dk_at dksX11_kinOf_0 6 rfl rfl)
theorem dX11_kinOf_8 : decode cX11_kinOf 8 = .ok (.iload_n 2, 1) := dk_28 (dk_at dksX11_kinOf_0 8 rfl rfl)
theorem dX11_kinOf_9 : decode cX11_kinOf 9 = .ok (.iadd, 1) := dk_96 (dk_at dksX11_kinOf_0 9 rfl rfl)
theorem dX11_kinOf_10 : decode cX11_kinOf 10 = .ok (.iaload, 1) := dk_46 (dk_at dksX11_kinOf_0 10 rfl rfl)
theorem dX11_kinOf_11 : decode cX11_kinOf 11 = .ok (.iconst (-1), 1) := dk_2 (dk_at dksX11_kinOf_0 11 rfl rfl)
theorem dX11_kinOf_12 : decode cX11_kinOf 12 = .ok (.if_icmp .ne 7, 3) := dk_160 0 7 (dk_at dksX11_kinOf_0 12 rfl rfl)
theorem dX11_kinOf_15 : decode cX11_kinOf 15 = .ok (.iconst 0, 1) := dk_3 (dk_at dksX11_kinOf_0 15 rfl rfl)
theorem dX11_kinOf_16 : decode cX11_kinOf 16 = .ok (.goto 11, 3) := dk_167 0 11 (dk_at dksX11_kinOf_0 16 rfl rfl)
theorem dX11_kinOf_19 : decode cX11_kinOf 19 = .ok (.iconst 1, 1) := dk_4 (dk_at dksX11_kinOf_0 19 rfl rfl)
theorem dX11_kinOf_20 : decode cX11_kinOf 20 = .ok (.aload_n 1, 1) := dk_43 (dk_at dksX11_kinOf_0 20 rfl rfl)
theorem dX11_kinOf_21 : decode cX11_kinOf 21 = .ok (.bipush 17, 2) := dk_16 17 (dk_at dksX11_kinOf_0 21 rfl rfl)
theorem dX11_kinOf_23 : decode cX11_kinOf 23 = .ok (.iload_n 2, 1) := dk_28 (dk_at dksX11_kinOf_0 23 rfl rfl)
theorem dX11_kinOf_24 : decode cX11_kinOf 24 = .ok (.iadd, 1) := dk_96 (dk_at dksX11_kinOf_1 0 rfl rfl)
theorem dX11_kinOf_25 : decode cX11_kinOf 25 = .ok (.iaload, 1) := dk_46 (dk_at dksX11_kinOf_1 1 rfl rfl)
theorem dX11_kinOf_26 : decode cX11_kinOf 26 = .ok (.ishl, 1) := dk_120 (dk_at dksX11_kinOf_1 2 rfl rfl)
theorem dX11_kinOf_27 : decode cX11_kinOf 27 = .ok (.ior, 1) := dk_128 (dk_at dksX11_kinOf_1 3 rfl rfl)
theorem dX11_kinOf_28 : decode cX11_kinOf 28 = .ok (.istore 4, 2) := dk_54 4 (dk_at dksX11_kinOf_1 4 rfl rfl)
theorem dX11_kinOf_30 : decode cX11_kinOf 30 = .ok (.iconst 0, 1) := dk_3 (dk_at dksX11_kinOf_1 6 rfl rfl)
theorem dX11_kinOf_31 : decode cX11_kinOf 31 = .ok (.istore 5, 2) := dk_54 5 (dk_at dksX11_kinOf_1 7 rfl rfl)
theorem dX11_kinOf_33 : decode cX11_kinOf 33 = .ok (.iload 5, 2) := dk_21 5 (dk_at dksX11_kinOf_1 9 rfl rfl)
theorem dX11_kinOf_35 : decode cX11_kinOf 35 = .ok (.aload_n 0, 1) := dk_42 (dk_at dksX11_kinOf_1 11 rfl rfl)
theorem dX11_kinOf_36 : decode cX11_kinOf 36 = .ok (.getfield 23, 3) := dk_180 0 23 (dk_at dksX11_kinOf_1 12 rfl rfl)
theorem dX11_kinOf_39 : decode cX11_kinOf 39 = .ok (.iconst 1, 1) := dk_4 (dk_at dksX11_kinOf_1 15 rfl rfl)
theorem dX11_kinOf_40 : decode cX11_kinOf 40 = .ok (.iaload, 1) := dk_46 (dk_at dksX11_kinOf_1 16 rfl rfl)
theorem dX11_kinOf_41 : decode cX11_kinOf 41 = .ok (.if_icmp .ge 48, 3) := dk_162 0 48 (dk_at dksX11_kinOf_1 17 rfl rfl)
theorem dX11_kinOf_44 : decode cX11_kinOf 44 = .ok (.iload 5, 2) := dk_21 5 (dk_at dksX11_kinOf_1 20 rfl rfl)
theorem dX11_kinOf_46 : decode cX11_kinOf 46 = .ok (.iload_n 2, 1) := dk_28 (dk_at dksX11_kinOf_1 22 rfl rfl)
theorem dX11_kinOf_47 : decode cX11_kinOf 47 = .ok (.if_icmp .eq 36, 3) := dk_159 0 36 (dk_at dksX11_kinOf_2 0 rfl rfl)
theorem dX11_kinOf_50 : decode cX11_kinOf 50 = .ok (.aload_n 1, 1) := dk_43 (dk_at dksX11_kinOf_2 3 rfl rfl)
theorem dX11_kinOf_51 : decode cX11_kinOf 51 = .ok (.iconst 1, 1) := dk_4 (dk_at dksX11_kinOf_2 4 rfl rfl)
theorem dX11_kinOf_52 : decode cX11_kinOf 52 = .ok (.iload 5, 2) := dk_21 5 (dk_at dksX11_kinOf_2 5 rfl rfl)
theorem dX11_kinOf_54 : decode cX11_kinOf 54 = .ok (.iadd, 1) := dk_96 (dk_at dksX11_kinOf_2 7 rfl rfl)
theorem dX11_kinOf_55 : decode cX11_kinOf 55 = .ok (.iaload, 1) := dk_46 (dk_at dksX11_kinOf_2 8 rfl rfl)
theorem dX11_kinOf_56 : decode cX11_kinOf 56 = .ok (.iload_n 3, 1) := dk_29 (dk_at dksX11_kinOf_2 9 rfl rfl)
theorem dX11_kinOf_57 : decode cX11_kinOf 57 = .ok (.invokestatic 242, 3) := dk_184 0 242 (dk_at dksX11_kinOf_2 10 rfl rfl)
theorem dX11_kinOf_60 : decode cX11_kinOf 60 = .ok (.ifCond .eq 23, 3) := dk_153 0 23 (dk_at dksX11_kinOf_2 13 rfl rfl)
theorem dX11_kinOf_63 : decode cX11_kinOf 63 = .ok (.aload_n 1, 1) := dk_43 (dk_at dksX11_kinOf_2 16 rfl rfl)
theorem dX11_kinOf_64 : decode cX11_kinOf 64 = .ok (.iconst 1, 1) := dk_4 (dk_at dksX11_kinOf_2 17 rfl rfl)
theorem dX11_kinOf_65 : decode cX11_kinOf 65 = .ok (.iload 5, 2) := dk_21 5 (dk_at dksX11_kinOf_2 18 rfl rfl)
theorem dX11_kinOf_67 : decode cX11_kinOf 67 = .ok (.iadd, 1) := dk_96 (dk_at dksX11_kinOf_2 20 rfl rfl)
theorem dX11_kinOf_68 : decode cX11_kinOf 68 = .ok (.iaload, 1) := dk_46 (dk_at dksX11_kinOf_2 21 rfl rfl)
theorem dX11_kinOf_69 : decode cX11_kinOf 69 = .ok (.iload 4, 2) := dk_21 4 (dk_at dksX11_kinOf_2 22 rfl rfl)
theorem dX11_kinOf_71 : decode cX11_kinOf 71 = .ok (.iand, 1) := dk_126 (dk_at dksX11_kinOf_3 0 rfl rfl)
theorem dX11_kinOf_72 : decode cX11_kinOf 72 = .ok (.iconst 1, 1) := dk_4 (dk_at dksX11_kinOf_3 1 rfl rfl)
theorem dX11_kinOf_73 : decode cX11_kinOf 73 = .ok (.iload_n 3, 1) := dk_29 (dk_at dksX11_kinOf_3 2 rfl rfl)
theorem dX11_kinOf_74 : decode cX11_kinOf 74 = .ok (.ishl, 1) := dk_120 (dk_at dksX11_kinOf_3 3 rfl rfl)
theorem dX11_kinOf_75 : decode cX11_kinOf 75 = .ok (.iconst (-1), 1) := dk_2 (dk_at dksX11_kinOf_3 4 rfl rfl)
theorem dX11_kinOf_76 : decode cX11_kinOf 76 = .ok (.ixor, 1) := dk_130 (dk_at dksX11_kinOf_3 5 rfl rfl)
theorem dX11_kinOf_77 : decode cX11_kinOf 77 = .ok (.iand, 1) := dk_126 (dk_at dksX11_kinOf_3 6 rfl rfl)
theorem dX11_kinOf_78 : decode cX11_kinOf 78 = .ok (.ifCond .eq 5, 3) := dk_153 0 5 (dk_at dksX11_kinOf_3 7 rfl rfl)
theorem dX11_kinOf_81 : decode cX11_kinOf 81 = .ok (.iconst 1, 1) := dk_4 (dk_at dksX11_kinOf_3 10 rfl rfl)
theorem dX11_kinOf_82 : decode cX11_kinOf 82 = .ok (.ireturn, 1) := dk_172 (dk_at dksX11_kinOf_3 11 rfl rfl)
theorem dX11_kinOf_83 : decode cX11_kinOf 83 = .ok (.iinc 5 1, 3) := dk_132 5 1 (dk_at dksX11_kinOf_3 12 rfl rfl)
theorem dX11_kinOf_86 : decode cX11_kinOf 86 = .ok (.goto (-53), 3) := dk_167 255 203 (dk_at dksX11_kinOf_3 15 rfl rfl)
theorem dX11_kinOf_89 : decode cX11_kinOf 89 = .ok (.iconst 0, 1) := dk_3 (dk_at dksX11_kinOf_3 18 rfl rfl)
theorem dX11_kinOf_90 : decode cX11_kinOf 90 = .ok (.ireturn, 1) := dk_172 (dk_at dksX11_kinOf_3 19 rfl rfl)
abbrev cX11_byLaw : ByteArray := prog_22_method_49_code
def yX11_byLaw : MethodName := ⟨RX11, "byLaw", "()I"⟩
def dkwX11_byLaw_6 : List UInt8 := [132, 2, 1, 167, 255, 150, 42, 180, 0, 85, 3, 46, 172]
abbrev dktX11_byLaw_6 : List UInt8 := dkwX11_byLaw_6 ++ []
def dkwX11_byLaw_5 : List UInt8 := [28, 50, 3, 46, 42, 180, 0, 85, 27, 4, 100, 46, 42, 180, 0, 85, 27, 46, 184, 1, 60, 79]
abbrev dktX11_byLaw_5 : List UInt8 := dkwX11_byLaw_5 ++ dktX11_byLaw_6
def dkwX11_byLaw_4 : List UInt8 := [4, 46, 46, 79, 132, 1, 1, 167, 0, 39, 132, 1, 255, 42, 180, 0, 85, 27, 4, 100, 42, 180, 0, 70]
abbrev dktX11_byLaw_4 : List UInt8 := dkwX11_byLaw_4 ++ dktX11_byLaw_5
def dkwX11_byLaw_3 : List UInt8 := [154, 0, 14, 42, 180, 0, 70, 28, 50, 4, 46, 167, 0, 16, 42, 180, 0, 88, 42, 180, 0, 70, 28, 50]
abbrev dktX11_byLaw_3 : List UInt8 := dkwX11_byLaw_3 ++ dktX11_byLaw_4
def dkwX11_byLaw_2 : List UInt8 := [180, 0, 70, 28, 50, 3, 46, 5, 162, 0, 50, 42, 180, 0, 85, 27, 42, 180, 0, 70, 28, 50, 3, 46]
abbrev dktX11_byLaw_2 : List UInt8 := dkwX11_byLaw_2 ++ dktX11_byLaw_3
def dkwX11_byLaw_1 : List UInt8 := [42, 180, 0, 88, 16, 8, 46, 96, 172, 3, 60, 3, 61, 28, 42, 180, 1, 14, 162, 0, 104, 42]
abbrev dktX11_byLaw_1 : List UInt8 := dkwX11_byLaw_1 ++ dktX11_byLaw_2
def dkwX11_byLaw_0 : List UInt8 := [42, 180, 1, 14, 154, 0, 29, 5, 42, 180, 0, 88, 3, 46, 104, 6, 42, 180, 0, 88, 6, 46, 104, 100]
abbrev dktX11_byLaw_0 : List UInt8 := dkwX11_byLaw_0 ++ dktX11_byLaw_1
theorem dksX11_byLaw_0 : cX11_byLaw.data.toList.drop 0 = dktX11_byLaw_0 := by decide +kernel
theorem dksX11_byLaw_1 : cX11_byLaw.data.toList.drop 24 = dktX11_byLaw_1 := dk_seg dksX11_byLaw_0 24 rfl rfl
theorem dksX11_byLaw_2 : cX11_byLaw.data.toList.drop 46 = dktX11_byLaw_2 := dk_seg dksX11_byLaw_1 22 rfl rfl
theorem dksX11_byLaw_3 : cX11_byLaw.data.toList.drop 70 = dktX11_byLaw_3 := dk_seg dksX11_byLaw_2 24 rfl rfl
theorem dksX11_byLaw_4 : cX11_byLaw.data.toList.drop 94 = dktX11_byLaw_4 := dk_seg dksX11_byLaw_3 24 rfl rfl
theorem dksX11_byLaw_5 : cX11_byLaw.data.toList.drop 118 = dktX11_byLaw_5 := dk_seg dksX11_byLaw_4 24 rfl rfl
theorem dksX11_byLaw_6 : cX11_byLaw.data.toList.drop 140 = dktX11_byLaw_6 := dk_seg dksX11_byLaw_5 22 rfl rfl
theorem dX11_byLaw_0 : decode cX11_byLaw 0 = .ok (.aload_n 0, 1) := dk_42 (dk_at dksX11_byLaw_0 0 rfl rfl)
theorem dX11_byLaw_1 : decode cX11_byLaw 1 = .ok (.getfield 270, 3) := dk_180 1 14 (dk_at dksX11_byLaw_0 1 rfl rfl)
theorem dX11_byLaw_4 : decode cX11_byLaw 4 = .ok (.ifCond .ne 29, 3) := dk_154 0 29 (dk_at dksX11_byLaw_0 4 rfl rfl)
theorem dX11_byLaw_7 : decode cX11_byLaw 7 = .ok (.iconst 2, 1) := dk_5 (dk_at dksX11_byLaw_0 7 rfl rfl)
theorem dX11_byLaw_8 : decode cX11_byLaw 8 = .ok (.aload_n 0, 1) := dk_42 (dk_at dksX11_byLaw_0 8 rfl rfl)
theorem dX11_byLaw_9 : decode cX11_byLaw 9 = .ok (.getfield 88, 3) := dk_180 0 88 (dk_at dksX11_byLaw_0 9 rfl rfl)
theorem dX11_byLaw_12 : decode cX11_byLaw 12 = .ok (.iconst 0, 1) := dk_3 (dk_at dksX11_byLaw_0 12 rfl rfl)
theorem dX11_byLaw_13 : decode cX11_byLaw 13 = .ok (.iaload, 1) := dk_46 (dk_at dksX11_byLaw_0 13 rfl rfl)
theorem dX11_byLaw_14 : decode cX11_byLaw 14 = .ok (.imul, 1) := dk_104 (dk_at dksX11_byLaw_0 14 rfl rfl)
theorem dX11_byLaw_15 : decode cX11_byLaw 15 = .ok (.iconst 3, 1) := dk_6 (dk_at dksX11_byLaw_0 15 rfl rfl)
theorem dX11_byLaw_16 : decode cX11_byLaw 16 = .ok (.aload_n 0, 1) := dk_42 (dk_at dksX11_byLaw_0 16 rfl rfl)
theorem dX11_byLaw_17 : decode cX11_byLaw 17 = .ok (.getfield 88, 3) := dk_180 0 88 (dk_at dksX11_byLaw_0 17 rfl rfl)
theorem dX11_byLaw_20 : decode cX11_byLaw 20 = .ok (.iconst 3, 1) := dk_6 (dk_at dksX11_byLaw_0 20 rfl rfl)
theorem dX11_byLaw_21 : decode cX11_byLaw 21 = .ok (.iaload, 1) := dk_46 (dk_at dksX11_byLaw_0 21 rfl rfl)
theorem dX11_byLaw_22 : decode cX11_byLaw 22 = .ok (.imul, 1) := dk_104 (dk_at dksX11_byLaw_0 22 rfl rfl)
theorem dX11_byLaw_23 : decode cX11_byLaw 23 = .ok (.isub, 1) := dk_100 (dk_at dksX11_byLaw_0 23 rfl rfl)
theorem dX11_byLaw_24 : decode cX11_byLaw 24 = .ok (.aload_n 0, 1) := dk_42 (dk_at dksX11_byLaw_1 0 rfl rfl)
theorem dX11_byLaw_25 : decode cX11_byLaw 25 = .ok (.getfield 88, 3) := dk_180 0 88 (dk_at dksX11_byLaw_1 1 rfl rfl)
theorem dX11_byLaw_28 : decode cX11_byLaw 28 = .ok (.bipush 8, 2) := dk_16 8 (dk_at dksX11_byLaw_1 4 rfl rfl)
theorem dX11_byLaw_30 : decode cX11_byLaw 30 = .ok (.iaload, 1) := dk_46 (dk_at dksX11_byLaw_1 6 rfl rfl)
theorem dX11_byLaw_31 : decode cX11_byLaw 31 = .ok (.iadd, 1) := dk_96 (dk_at dksX11_byLaw_1 7 rfl rfl)
theorem dX11_byLaw_32 : decode cX11_byLaw 32 = .ok (.ireturn, 1) := dk_172 (dk_at dksX11_byLaw_1 8 rfl rfl)
theorem dX11_byLaw_33 : decode cX11_byLaw 33 = .ok (.iconst 0, 1) := dk_3 (dk_at dksX11_byLaw_1 9 rfl rfl)
theorem dX11_byLaw_34 : decode cX11_byLaw 34 = .ok (.istore_n 1, 1) := dk_60 (dk_at dksX11_byLaw_1 10 rfl rfl)
theorem dX11_byLaw_35 : decode cX11_byLaw 35 = .ok (.iconst 0, 1) := dk_3 (dk_at dksX11_byLaw_1 11 rfl rfl)
theorem dX11_byLaw_36 : decode cX11_byLaw 36 = .ok (.istore_n 2, 1) := dk_61 (dk_at dksX11_byLaw_1 12 rfl rfl)
theorem dX11_byLaw_37 : decode cX11_byLaw 37 = .ok (.iload_n 2, 1) := dk_28 (dk_at dksX11_byLaw_1 13 rfl rfl)
theorem dX11_byLaw_38 : decode cX11_byLaw 38 = .ok (.aload_n 0, 1) := dk_42 (dk_at dksX11_byLaw_1 14 rfl rfl)
theorem dX11_byLaw_39 : decode cX11_byLaw 39 = .ok (.getfield 270, 3) := dk_180 1 14 (dk_at dksX11_byLaw_1 15 rfl rfl)
theorem dX11_byLaw_42 : decode cX11_byLaw 42 = .ok (.if_icmp .ge 104, 3) := dk_162 0 104 (dk_at dksX11_byLaw_1 18 rfl rfl)
theorem dX11_byLaw_45 : decode cX11_byLaw 45 = .ok (.aload_n 0, 1) := dk_42 (dk_at dksX11_byLaw_1 21 rfl rfl)
theorem dX11_byLaw_46 : decode cX11_byLaw 46 = .ok (.getfield 70, 3) := dk_180 0 70 (dk_at dksX11_byLaw_2 0 rfl rfl)
theorem dX11_byLaw_49 : decode cX11_byLaw 49 = .ok (.iload_n 2, 1) := dk_28 (dk_at dksX11_byLaw_2 3 rfl rfl)
theorem dX11_byLaw_50 : decode cX11_byLaw 50 = .ok (.aaload, 1) := dk_50 (dk_at dksX11_byLaw_2 4 rfl rfl)
theorem dX11_byLaw_51 : decode cX11_byLaw 51 = .ok (.iconst 0, 1) := dk_3 (dk_at dksX11_byLaw_2 5 rfl rfl)
theorem dX11_byLaw_52 : decode cX11_byLaw 52 = .ok (.iaload, 1) := dk_46 (dk_at dksX11_byLaw_2 6 rfl rfl)
theorem dX11_byLaw_53 : decode cX11_byLaw 53 = .ok (.iconst 2, 1) := dk_5 (dk_at dksX11_byLaw_2 7 rfl rfl)
theorem dX11_byLaw_54 : decode cX11_byLaw 54 = .ok (.if_icmp .ge 50, 3) := dk_162 0 50 (dk_at dksX11_byLaw_2 8 rfl rfl)
theorem dX11_byLaw_57 : decode cX11_byLaw 57 = .ok (.aload_n 0, 1) := dk_42 (dk_at dksX11_byLaw_2 11 rfl rfl)
theorem dX11_byLaw_58 : decode cX11_byLaw 58 = .ok (.getfield 85, 3) := dk_180 0 85 (dk_at dksX11_byLaw_2 12 rfl rfl)
theorem dX11_byLaw_61 : decode cX11_byLaw 61 = .ok (.iload_n 1, 1) := dk_27 (dk_at dksX11_byLaw_2 15 rfl rfl)
theorem dX11_byLaw_62 : decode cX11_byLaw 62 = .ok (.aload_n 0, 1) := dk_42 (dk_at dksX11_byLaw_2 16 rfl rfl)
theorem dX11_byLaw_63 : decode cX11_byLaw 63 = .ok (.getfield 70, 3) := dk_180 0 70 (dk_at dksX11_byLaw_2 17 rfl rfl)
theorem dX11_byLaw_66 : decode cX11_byLaw 66 = .ok (.iload_n 2, 1) := dk_28 (dk_at dksX11_byLaw_2 20 rfl rfl)
theorem dX11_byLaw_67 : decode cX11_byLaw 67 = .ok (.aaload, 1) := dk_50 (dk_at dksX11_byLaw_2 21 rfl rfl)
theorem dX11_byLaw_68 : decode cX11_byLaw 68 = .ok (.iconst 0, 1) := dk_3 (dk_at dksX11_byLaw_2 22 rfl rfl)
theorem dX11_byLaw_69 : decode cX11_byLaw 69 = .ok (.iaload, 1) := dk_46 (dk_at dksX11_byLaw_2 23 rfl rfl)
theorem dX11_byLaw_70 : decode cX11_byLaw 70 = .ok (.ifCond .ne 14, 3) := dk_154 0 14 (dk_at dksX11_byLaw_3 0 rfl rfl)
theorem dX11_byLaw_73 : decode cX11_byLaw 73 = .ok (.aload_n 0, 1) := dk_42 (dk_at dksX11_byLaw_3 3 rfl rfl)
theorem dX11_byLaw_74 : decode cX11_byLaw 74 = .ok (.getfield 70, 3) := dk_180 0 70 (dk_at dksX11_byLaw_3 4 rfl rfl)
theorem dX11_byLaw_77 : decode cX11_byLaw 77 = .ok (.iload_n 2, 1) := dk_28 (dk_at dksX11_byLaw_3 7 rfl rfl)
theorem dX11_byLaw_78 : decode cX11_byLaw 78 = .ok (.aaload, 1) := dk_50 (dk_at dksX11_byLaw_3 8 rfl rfl)
theorem dX11_byLaw_79 : decode cX11_byLaw 79 = .ok (.iconst 1, 1) := dk_4 (dk_at dksX11_byLaw_3 9 rfl rfl)
theorem dX11_byLaw_80 : decode cX11_byLaw 80 = .ok (.iaload, 1) := dk_46 (dk_at dksX11_byLaw_3 10 rfl rfl)
theorem dX11_byLaw_81 : decode cX11_byLaw 81 = .ok (.goto 16, 3) := dk_167 0 16 (dk_at dksX11_byLaw_3 11 rfl rfl)
theorem dX11_byLaw_84 : decode cX11_byLaw 84 = .ok (.aload_n 0, 1) := dk_42 (dk_at dksX11_byLaw_3 14 rfl rfl)
theorem dX11_byLaw_85 : decode cX11_byLaw 85 = .ok (.getfield 88, 3) := dk_180 0 88 (dk_at dksX11_byLaw_3 15 rfl rfl)
theorem dX11_byLaw_88 : decode cX11_byLaw 88 = .ok (.aload_n 0, 1) := dk_42 (dk_at dksX11_byLaw_3 18 rfl rfl)
theorem dX11_byLaw_89 : decode cX11_byLaw 89 = .ok (.getfield 70, 3) := dk_180 0 70 (dk_at dksX11_byLaw_3 19 rfl rfl)
theorem dX11_byLaw_92 : decode cX11_byLaw 92 = .ok (.iload_n 2, 1) := dk_28 (dk_at dksX11_byLaw_3 22 rfl rfl)
theorem dX11_byLaw_93 : decode cX11_byLaw 93 = .ok (.aaload, 1) := dk_50 (dk_at dksX11_byLaw_3 23 rfl rfl)
theorem dX11_byLaw_94 : decode cX11_byLaw 94 = .ok (.iconst 1, 1) := dk_4 (dk_at dksX11_byLaw_4 0 rfl rfl)
theorem dX11_byLaw_95 : decode cX11_byLaw 95 = .ok (.iaload, 1) := dk_46 (dk_at dksX11_byLaw_4 1 rfl rfl)
theorem dX11_byLaw_96 : decode cX11_byLaw 96 = .ok (.iaload, 1) := dk_46 (dk_at dksX11_byLaw_4 2 rfl rfl)
theorem dX11_byLaw_97 : decode cX11_byLaw 97 = .ok (.iastore, 1) := dk_79 (dk_at dksX11_byLaw_4 3 rfl rfl)
theorem dX11_byLaw_98 : decode cX11_byLaw 98 = .ok (.iinc 1 1, 3) := dk_132 1 1 (dk_at dksX11_byLaw_4 4 rfl rfl)
theorem dX11_byLaw_101 : decode cX11_byLaw 101 = .ok (.goto 39, 3) := dk_167 0 39 (dk_at dksX11_byLaw_4 7 rfl rfl)
theorem dX11_byLaw_104 : decode cX11_byLaw 104 = .ok (.iinc 1 (-1), 3) := dk_132 1 255 (dk_at dksX11_byLaw_4 10 rfl rfl)
theorem dX11_byLaw_107 : decode cX11_byLaw 107 = .ok (.aload_n 0, 1) := dk_42 (dk_at dksX11_byLaw_4 13 rfl rfl)
theorem dX11_byLaw_108 : decode cX11_byLaw 108 = .ok (.getfield 85, 3) := dk_180 0 85 (dk_at dksX11_byLaw_4 14 rfl rfl)
theorem dX11_byLaw_111 : decode cX11_byLaw 111 = .ok (.iload_n 1, 1) := dk_27 (dk_at dksX11_byLaw_4 17 rfl rfl)
theorem dX11_byLaw_112 : decode cX11_byLaw 112 = .ok (.iconst 1, 1) := dk_4 (dk_at dksX11_byLaw_4 18 rfl rfl)
theorem dX11_byLaw_113 : decode cX11_byLaw 113 = .ok (.isub, 1) := dk_100 (dk_at dksX11_byLaw_4 19 rfl rfl)
theorem dX11_byLaw_114 : decode cX11_byLaw 114 = .ok (.aload_n 0, 1) := dk_42 (dk_at dksX11_byLaw_4 20 rfl rfl)
theorem dX11_byLaw_115 : decode cX11_byLaw 115 = .ok (.getfield 70, 3) := dk_180 0 70 (dk_at dksX11_byLaw_4 21 rfl rfl)
theorem dX11_byLaw_118 : decode cX11_byLaw 118 = .ok (.iload_n 2, 1) := dk_28 (dk_at dksX11_byLaw_5 0 rfl rfl)
theorem dX11_byLaw_119 : decode cX11_byLaw 119 = .ok (.aaload, 1) := dk_50 (dk_at dksX11_byLaw_5 1 rfl rfl)
theorem dX11_byLaw_120 : decode cX11_byLaw 120 = .ok (.iconst 0, 1) := dk_3 (dk_at dksX11_byLaw_5 2 rfl rfl)
theorem dX11_byLaw_121 : decode cX11_byLaw 121 = .ok (.iaload, 1) := dk_46 (dk_at dksX11_byLaw_5 3 rfl rfl)
theorem dX11_byLaw_122 : decode cX11_byLaw 122 = .ok (.aload_n 0, 1) := dk_42 (dk_at dksX11_byLaw_5 4 rfl rfl)
theorem dX11_byLaw_123 : decode cX11_byLaw 123 = .ok (.getfield 85, 3) := dk_180 0 85 (dk_at dksX11_byLaw_5 5 rfl rfl)
theorem dX11_byLaw_126 : decode cX11_byLaw 126 = .ok (.iload_n 1, 1) := dk_27 (dk_at dksX11_byLaw_5 8 rfl rfl)
theorem dX11_byLaw_127 : decode cX11_byLaw 127 = .ok (.iconst 1, 1) := dk_4 (dk_at dksX11_byLaw_5 9 rfl rfl)
theorem dX11_byLaw_128 : decode cX11_byLaw 128 = .ok (.isub, 1) := dk_100 (dk_at dksX11_byLaw_5 10 rfl rfl)
theorem dX11_byLaw_129 : decode cX11_byLaw 129 = .ok (.iaload, 1) := dk_46 (dk_at dksX11_byLaw_5 11 rfl rfl)
theorem dX11_byLaw_130 : decode cX11_byLaw 130 = .ok (.aload_n 0, 1) := dk_42 (dk_at dksX11_byLaw_5 12 rfl rfl)
theorem dX11_byLaw_131 : decode cX11_byLaw 131 = .ok (.getfield 85, 3) := dk_180 0 85 (dk_at dksX11_byLaw_5 13 rfl rfl)
theorem dX11_byLaw_134 : decode cX11_byLaw 134 = .ok (.iload_n 1, 1) := dk_27 (dk_at dksX11_byLaw_5 16 rfl rfl)
theorem dX11_byLaw_135 : decode cX11_byLaw 135 = .ok (.iaload, 1) := dk_46 (dk_at dksX11_byLaw_5 17 rfl rfl)
theorem dX11_byLaw_136 : decode cX11_byLaw 136 = .ok (.invokestatic 316, 3) := dk_184 1 60 (dk_at dksX11_byLaw_5 18 rfl rfl)
theorem dX11_byLaw_139 : decode cX11_byLaw 139 = .ok (.iastore, 1) := dk_79 (dk_at dksX11_byLaw_5 21 rfl rfl)
theorem dX11_byLaw_140 : decode cX11_byLaw 140 = .ok (.iinc 2 1, 3) := dk_132 2 1 (dk_at dksX11_byLaw_6 0 rfl rfl)
theorem dX11_byLaw_143 : decode cX11_byLaw 143 = .ok (.goto (-106), 3) := dk_167 255 150 (dk_at dksX11_byLaw_6 3 rfl rfl)
theorem dX11_byLaw_146 : decode cX11_byLaw 146 = .ok (.aload_n 0, 1) := dk_42 (dk_at dksX11_byLaw_6 6 rfl rfl)
theorem dX11_byLaw_147 : decode cX11_byLaw 147 = .ok (.getfield 85, 3) := dk_180 0 85 (dk_at dksX11_byLaw_6 7 rfl rfl)
theorem dX11_byLaw_150 : decode cX11_byLaw 150 = .ok (.iconst 0, 1) := dk_3 (dk_at dksX11_byLaw_6 10 rfl rfl)
theorem dX11_byLaw_151 : decode cX11_byLaw 151 = .ok (.iaload, 1) := dk_46 (dk_at dksX11_byLaw_6 11 rfl rfl)
theorem dX11_byLaw_152 : decode cX11_byLaw 152 = .ok (.ireturn, 1) := dk_172 (dk_at dksX11_byLaw_6 12 rfl rfl)
abbrev cX11_by : ByteArray := prog_22_method_48_code
def yX11_by : MethodName := ⟨RX11, "by", "(III)I"⟩
def dkwX11_by_4 : List UInt8 := [167, 0, 6, 27, 28, 112, 172, 27, 28, 184, 0, 229, 172, 27, 28, 184, 1, 57, 172]
abbrev dktX11_by_4 : List UInt8 := dkwX11_by_4 ++ []
def dkwX11_by_3 : List UInt8 := [160, 0, 8, 27, 116, 167, 0, 6, 27, 28, 108, 172, 28, 153, 0, 8, 28, 2, 160, 0, 7, 3]
abbrev dktX11_by_3 : List UInt8 := dkwX11_by_3 ++ dktX11_by_4
def dkwX11_by_2 : List UInt8 := [27, 28, 96, 172, 27, 28, 100, 172, 27, 28, 104, 172, 28, 154, 0, 7, 3, 167, 0, 16, 28, 2]
abbrev dktX11_by_2 : List UInt8 := dkwX11_by_2 ++ dktX11_by_3
def dkwX11_by_1 : List UInt8 := [170, 0, 0, 0, 0, 0, 96, 0, 0, 0, 2, 0, 0, 0, 7, 0, 0, 0, 39, 0, 0, 0, 43, 0, 0, 0, 47, 0, 0, 0, 51, 0, 0, 0, 73, 0, 0, 0, 90]
abbrev dktX11_by_1 : List UInt8 := dkwX11_by_1 ++ dktX11_by_2
def dkwX11_by_0 : List UInt8 := [26]
abbrev dktX11_by_0 : List UInt8 := dkwX11_by_0 ++ dktX11_by_1
theorem dksX11_by_0 : cX11_by.data.toList.drop 0 = dktX11_by_0 := by decide +kernel
theorem dksX11_by_1 : cX11_by.data.toList.drop 1 = dktX11_by_1 := dk_seg dksX11_by_0 1 rfl rfl
theorem dksX11_by_2 : cX11_by.data.toList.drop 40 = dktX11_by_2 := dk_seg dksX11_by_1 39 rfl rfl
theorem dksX11_by_3 : cX11_by.data.toList.drop 62 = dktX11_by_3 := dk_seg dksX11_by_2 22 rfl rfl
theorem dksX11_by_4 : cX11_by.data.toList.drop 84 = dktX11_by_4 := dk_seg dksX11_by_3 22 rfl rfl
theorem dX11_by_0 : decode cX11_by 0 = .ok (.iload_n 0, 1) := dk_26 (dk_at dksX11_by_0 0 rfl rfl)
theorem dX11_by_1 : decode cX11_by 1 = .ok (.tableswitch 96 2 7 #[39, 43, 47, 51, 73, 90], 39) := by decide +kernel
theorem dX11_by_40 : decode cX11_by 40 = .ok (.iload_n 1, 1) := dk_27 (dk_at dksX11_by_2 0 rfl rfl)
theorem dX11_by_41 : decode cX11_by 41 = .ok (.iload_n 2, 1) := dk_28 (dk_at dksX11_by_2 1 rfl rfl)
theorem dX11_by_42 : decode cX11_by 42 = .ok (.iadd, 1) := dk_96 (dk_at dksX11_by_2 2 rfl rfl)
theorem dX11_by_43 : decode cX11_by 43 = .ok (.ireturn, 1) := dk_172 (dk_at dksX11_by_2 3 rfl rfl)
theorem dX11_by_44 : decode cX11_by 44 = .ok (.iload_n 1, 1) := dk_27 (dk_at dksX11_by_2 4 rfl rfl)
theorem dX11_by_45 : decode cX11_by 45 = .ok (.iload_n 2, 1) := dk_28 (dk_at dksX11_by_2 5 rfl rfl)
theorem dX11_by_46 : decode cX11_by 46 = .ok (.isub, 1) := dk_100 (dk_at dksX11_by_2 6 rfl rfl)
theorem dX11_by_47 : decode cX11_by 47 = .ok (.ireturn, 1) := dk_172 (dk_at dksX11_by_2 7 rfl rfl)
theorem dX11_by_48 : decode cX11_by 48 = .ok (.iload_n 1, 1) := dk_27 (dk_at dksX11_by_2 8 rfl rfl)
theorem dX11_by_49 : decode cX11_by 49 = .ok (.iload_n 2, 1) := dk_28 (dk_at dksX11_by_2 9 rfl rfl)
theorem dX11_by_50 : decode cX11_by 50 = .ok (.imul, 1) := dk_104 (dk_at dksX11_by_2 10 rfl rfl)
theorem dX11_by_51 : decode cX11_by 51 = .ok (.ireturn, 1) := dk_172 (dk_at dksX11_by_2 11 rfl rfl)
theorem dX11_by_52 : decode cX11_by 52 = .ok (.iload_n 2, 1) := dk_28 (dk_at dksX11_by_2 12 rfl rfl)
theorem dX11_by_53 : decode cX11_by 53 = .ok (.ifCond .ne 7, 3) := dk_154 0 7 (dk_at dksX11_by_2 13 rfl rfl)
theorem dX11_by_56 : decode cX11_by 56 = .ok (.iconst 0, 1) := dk_3 (dk_at dksX11_by_2 16 rfl rfl)
theorem dX11_by_57 : decode cX11_by 57 = .ok (.goto 16, 3) := dk_167 0 16 (dk_at dksX11_by_2 17 rfl rfl)
theorem dX11_by_60 : decode cX11_by 60 = .ok (.iload_n 2, 1) := dk_28 (dk_at dksX11_by_2 20 rfl rfl)
theorem dX11_by_61 : decode cX11_by 61 = .ok (.iconst (-1), 1) := dk_2 (dk_at dksX11_by_2 21 rfl rfl)
theorem dX11_by_62 : decode cX11_by 62 = .ok (.if_icmp .ne 8, 3) := dk_160 0 8 (dk_at dksX11_by_3 0 rfl rfl)
theorem dX11_by_65 : decode cX11_by 65 = .ok (.iload_n 1, 1) := dk_27 (dk_at dksX11_by_3 3 rfl rfl)
theorem dX11_by_66 : decode cX11_by 66 = .ok (.ineg, 1) := dk_116 (dk_at dksX11_by_3 4 rfl rfl)
theorem dX11_by_67 : decode cX11_by 67 = .ok (.goto 6, 3) := dk_167 0 6 (dk_at dksX11_by_3 5 rfl rfl)
theorem dX11_by_70 : decode cX11_by 70 = .ok (.iload_n 1, 1) := dk_27 (dk_at dksX11_by_3 8 rfl rfl)
theorem dX11_by_71 : decode cX11_by 71 = .ok (.iload_n 2, 1) := dk_28 (dk_at dksX11_by_3 9 rfl rfl)
theorem dX11_by_72 : decode cX11_by 72 = .ok (.idiv, 1) := dk_108 (dk_at dksX11_by_3 10 rfl rfl)
theorem dX11_by_73 : decode cX11_by 73 = .ok (.ireturn, 1) := dk_172 (dk_at dksX11_by_3 11 rfl rfl)
theorem dX11_by_74 : decode cX11_by 74 = .ok (.iload_n 2, 1) := dk_28 (dk_at dksX11_by_3 12 rfl rfl)
theorem dX11_by_75 : decode cX11_by 75 = .ok (.ifCond .eq 8, 3) := dk_153 0 8 (dk_at dksX11_by_3 13 rfl rfl)
theorem dX11_by_78 : decode cX11_by 78 = .ok (.iload_n 2, 1) := dk_28 (dk_at dksX11_by_3 16 rfl rfl)
theorem dX11_by_79 : decode cX11_by 79 = .ok (.iconst (-1), 1) := dk_2 (dk_at dksX11_by_3 17 rfl rfl)
theorem dX11_by_80 : decode cX11_by 80 = .ok (.if_icmp .ne 7, 3) := dk_160 0 7 (dk_at dksX11_by_3 18 rfl rfl)
theorem dX11_by_83 : decode cX11_by 83 = .ok (.iconst 0, 1) := dk_3 (dk_at dksX11_by_3 21 rfl rfl)
theorem dX11_by_84 : decode cX11_by 84 = .ok (.goto 6, 3) := dk_167 0 6 (dk_at dksX11_by_4 0 rfl rfl)
theorem dX11_by_87 : decode cX11_by 87 = .ok (.iload_n 1, 1) := dk_27 (dk_at dksX11_by_4 3 rfl rfl)
theorem dX11_by_88 : decode cX11_by 88 = .ok (.iload_n 2, 1) := dk_28 (dk_at dksX11_by_4 4 rfl rfl)
theorem dX11_by_89 : decode cX11_by 89 = .ok (.irem, 1) := dk_112 (dk_at dksX11_by_4 5 rfl rfl)
theorem dX11_by_90 : decode cX11_by 90 = .ok (.ireturn, 1) := dk_172 (dk_at dksX11_by_4 6 rfl rfl)
theorem dX11_by_91 : decode cX11_by 91 = .ok (.iload_n 1, 1) := dk_27 (dk_at dksX11_by_4 7 rfl rfl)
theorem dX11_by_92 : decode cX11_by 92 = .ok (.iload_n 2, 1) := dk_28 (dk_at dksX11_by_4 8 rfl rfl)
theorem dX11_by_93 : decode cX11_by 93 = .ok (.invokestatic 229, 3) := dk_184 0 229 (dk_at dksX11_by_4 9 rfl rfl)
theorem dX11_by_96 : decode cX11_by 96 = .ok (.ireturn, 1) := dk_172 (dk_at dksX11_by_4 12 rfl rfl)
theorem dX11_by_97 : decode cX11_by 97 = .ok (.iload_n 1, 1) := dk_27 (dk_at dksX11_by_4 13 rfl rfl)
theorem dX11_by_98 : decode cX11_by 98 = .ok (.iload_n 2, 1) := dk_28 (dk_at dksX11_by_4 14 rfl rfl)
theorem dX11_by_99 : decode cX11_by 99 = .ok (.invokestatic 313, 3) := dk_184 1 57 (dk_at dksX11_by_4 15 rfl rfl)
theorem dX11_by_102 : decode cX11_by 102 = .ok (.ireturn, 1) := dk_172 (dk_at dksX11_by_4 18 rfl rfl)
abbrev cX11_chooses : ByteArray := prog_22_method_70_code
def yX11_chooses : MethodName := ⟨RX11, "chooses", "(I)I"⟩
def dkwX11_chooses_1 : List UInt8 := [153, 0, 5, 3, 172, 42, 42, 180, 0, 91, 27, 182, 1, 108, 172]
abbrev dktX11_chooses_1 : List UInt8 := dkwX11_chooses_1 ++ []
def dkwX11_chooses_0 : List UInt8 := [42, 3, 181, 0, 134, 42, 42, 27, 182, 1, 82, 154, 0, 7, 4, 167, 0, 4, 3, 4, 3, 182, 0, 249]
abbrev dktX11_chooses_0 : List UInt8 := dkwX11_chooses_0 ++ dktX11_chooses_1
theorem dksX11_chooses_0 : cX11_chooses.data.toList.drop 0 = dktX11_chooses_0 := by decide +kernel
theorem dksX11_chooses_1 : cX11_chooses.data.toList.drop 24 = dktX11_chooses_1 := dk_seg dksX11_chooses_0 24 rfl rfl
theorem dX11_chooses_0 : decode cX11_chooses 0 = .ok (.aload_n 0, 1) := dk_42 (dk_at dksX11_chooses_0 0 rfl rfl)
theorem dX11_chooses_1 : decode cX11_chooses 1 = .ok (.iconst 0, 1) := dk_3 (dk_at dksX11_chooses_0 1 rfl rfl)
theorem dX11_chooses_2 : decode cX11_chooses 2 = .ok (.putfield 134, 3) := dk_181 0 134 (dk_at dksX11_chooses_0 2 rfl rfl)
theorem dX11_chooses_5 : decode cX11_chooses 5 = .ok (.aload_n 0, 1) := dk_42 (dk_at dksX11_chooses_0 5 rfl rfl)
theorem dX11_chooses_6 : decode cX11_chooses 6 = .ok (.aload_n 0, 1) := dk_42 (dk_at dksX11_chooses_0 6 rfl rfl)
theorem dX11_chooses_7 : decode cX11_chooses 7 = .ok (.iload_n 1, 1) := dk_27 (dk_at dksX11_chooses_0 7 rfl rfl)
theorem dX11_chooses_8 : decode cX11_chooses 8 = .ok (.invokevirtual 338, 3) := dk_182 1 82 (dk_at dksX11_chooses_0 8 rfl rfl)
theorem dX11_chooses_11 : decode cX11_chooses 11 = .ok (.ifCond .ne 7, 3) := dk_154 0 7 (dk_at dksX11_chooses_0 11 rfl rfl)
theorem dX11_chooses_14 : decode cX11_chooses 14 = .ok (.iconst 1, 1) := dk_4 (dk_at dksX11_chooses_0 14 rfl rfl)
theorem dX11_chooses_15 : decode cX11_chooses 15 = .ok (.goto 4, 3) := dk_167 0 4 (dk_at dksX11_chooses_0 15 rfl rfl)
theorem dX11_chooses_18 : decode cX11_chooses 18 = .ok (.iconst 0, 1) := dk_3 (dk_at dksX11_chooses_0 18 rfl rfl)
theorem dX11_chooses_19 : decode cX11_chooses 19 = .ok (.iconst 1, 1) := dk_4 (dk_at dksX11_chooses_0 19 rfl rfl)
theorem dX11_chooses_20 : decode cX11_chooses 20 = .ok (.iconst 0, 1) := dk_3 (dk_at dksX11_chooses_0 20 rfl rfl)
theorem dX11_chooses_21 : decode cX11_chooses 21 = .ok (.invokevirtual 249, 3) := dk_182 0 249 (dk_at dksX11_chooses_0 21 rfl rfl)
theorem dX11_chooses_24 : decode cX11_chooses 24 = .ok (.ifCond .eq 5, 3) := dk_153 0 5 (dk_at dksX11_chooses_1 0 rfl rfl)
theorem dX11_chooses_27 : decode cX11_chooses 27 = .ok (.iconst 0, 1) := dk_3 (dk_at dksX11_chooses_1 3 rfl rfl)
theorem dX11_chooses_28 : decode cX11_chooses 28 = .ok (.ireturn, 1) := dk_172 (dk_at dksX11_chooses_1 4 rfl rfl)
theorem dX11_chooses_29 : decode cX11_chooses 29 = .ok (.aload_n 0, 1) := dk_42 (dk_at dksX11_chooses_1 5 rfl rfl)
theorem dX11_chooses_30 : decode cX11_chooses 30 = .ok (.aload_n 0, 1) := dk_42 (dk_at dksX11_chooses_1 6 rfl rfl)
theorem dX11_chooses_31 : decode cX11_chooses 31 = .ok (.getfield 91, 3) := dk_180 0 91 (dk_at dksX11_chooses_1 7 rfl rfl)
theorem dX11_chooses_34 : decode cX11_chooses 34 = .ok (.iload_n 1, 1) := dk_27 (dk_at dksX11_chooses_1 10 rfl rfl)
theorem dX11_chooses_35 : decode cX11_chooses 35 = .ok (.invokevirtual 364, 3) := dk_182 1 108 (dk_at dksX11_chooses_1 11 rfl rfl)
theorem dX11_chooses_38 : decode cX11_chooses 38 = .ok (.ireturn, 1) := dk_172 (dk_at dksX11_chooses_1 14 rfl rfl)
abbrev cX11_chosen : ByteArray := prog_22_method_69_code
def yX11_chosen : MethodName := ⟨RX11, "chosen", "([II)I"⟩
def dkwX11_chosen_2 : List UInt8 := [164, 0, 6, 21, 4, 62, 132, 4, 1, 167, 255, 205, 29, 172]
abbrev dktX11_chosen_2 : List UInt8 := dkwX11_chosen_2 ++ []
def dkwX11_chosen_1 : List UInt8 := [153, 0, 29, 29, 2, 159, 0, 21, 42, 43, 28, 21, 4, 182, 1, 101, 42, 43, 28, 29, 182, 1, 101]
abbrev dktX11_chosen_1 : List UInt8 := dkwX11_chosen_1 ++ dktX11_chosen_2
def dkwX11_chosen_0 : List UInt8 := [2, 62, 3, 54, 4, 21, 4, 42, 180, 0, 23, 3, 46, 162, 0, 46, 42, 43, 28, 21, 4, 182, 1, 104]
abbrev dktX11_chosen_0 : List UInt8 := dkwX11_chosen_0 ++ dktX11_chosen_1
theorem dksX11_chosen_0 : cX11_chosen.data.toList.drop 0 = dktX11_chosen_0 := by decide +kernel
theorem dksX11_chosen_1 : cX11_chosen.data.toList.drop 24 = dktX11_chosen_1 := dk_seg dksX11_chosen_0 24 rfl rfl
theorem dksX11_chosen_2 : cX11_chosen.data.toList.drop 47 = dktX11_chosen_2 := dk_seg dksX11_chosen_1 23 rfl rfl
theorem dX11_chosen_0 : decode cX11_chosen 0 = .ok (.iconst (-1), 1) := dk_2 (dk_at dksX11_chosen_0 0 rfl rfl)
theorem dX11_chosen_1 : decode cX11_chosen 1 = .ok (.istore_n 3, 1) := dk_62 (dk_at dksX11_chosen_0 1 rfl rfl)
theorem dX11_chosen_2 : decode cX11_chosen 2 = .ok (.iconst 0, 1) := dk_3 (dk_at dksX11_chosen_0 2 rfl rfl)
theorem dX11_chosen_3 : decode cX11_chosen 3 = .ok (.istore 4, 2) := dk_54 4 (dk_at dksX11_chosen_0 3 rfl rfl)
theorem dX11_chosen_5 : decode cX11_chosen 5 = .ok (.iload 4, 2) := dk_21 4 (dk_at dksX11_chosen_0 5 rfl rfl)
theorem dX11_chosen_7 : decode cX11_chosen 7 = .ok (.aload_n 0, 1) := dk_42 (dk_at dksX11_chosen_0 7 rfl rfl)
theorem dX11_chosen_8 : decode cX11_chosen 8 = .ok (.getfield 23, 3) := dk_180 0 23 (dk_at dksX11_chosen_0 8 rfl rfl)
theorem dX11_chosen_11 : decode cX11_chosen 11 = .ok (.iconst 0, 1) := dk_3 (dk_at dksX11_chosen_0 11 rfl rfl)
theorem dX11_chosen_12 : decode cX11_chosen 12 = .ok (.iaload, 1) := dk_46 (dk_at dksX11_chosen_0 12 rfl rfl)
theorem dX11_chosen_13 : decode cX11_chosen 13 = .ok (.if_icmp .ge 46, 3) := dk_162 0 46 (dk_at dksX11_chosen_0 13 rfl rfl)
theorem dX11_chosen_16 : decode cX11_chosen 16 = .ok (.aload_n 0, 1) := dk_42 (dk_at dksX11_chosen_0 16 rfl rfl)
theorem dX11_chosen_17 : decode cX11_chosen 17 = .ok (.aload_n 1, 1) := dk_43 (dk_at dksX11_chosen_0 17 rfl rfl)
theorem dX11_chosen_18 : decode cX11_chosen 18 = .ok (.iload_n 2, 1) := dk_28 (dk_at dksX11_chosen_0 18 rfl rfl)
theorem dX11_chosen_19 : decode cX11_chosen 19 = .ok (.iload 4, 2) := dk_21 4 (dk_at dksX11_chosen_0 19 rfl rfl)
theorem dX11_chosen_21 : decode cX11_chosen 21 = .ok (.invokevirtual 360, 3) := dk_182 1 104 (dk_at dksX11_chosen_0 21 rfl rfl)
theorem dX11_chosen_24 : decode cX11_chosen 24 = .ok (.ifCond .eq 29, 3) := dk_153 0 29 (dk_at dksX11_chosen_1 0 rfl rfl)
theorem dX11_chosen_27 : decode cX11_chosen 27 = .ok (.iload_n 3, 1) := dk_29 (dk_at dksX11_chosen_1 3 rfl rfl)
theorem dX11_chosen_28 : decode cX11_chosen 28 = .ok (.iconst (-1), 1) := dk_2 (dk_at dksX11_chosen_1 4 rfl rfl)
theorem dX11_chosen_29 : decode cX11_chosen 29 = .ok (.if_icmp .eq 21, 3) := dk_159 0 21 (dk_at dksX11_chosen_1 5 rfl rfl)
theorem dX11_chosen_32 : decode cX11_chosen 32 = .ok (.aload_n 0, 1) := dk_42 (dk_at dksX11_chosen_1 8 rfl rfl)
theorem dX11_chosen_33 : decode cX11_chosen 33 = .ok (.aload_n 1, 1) := dk_43 (dk_at dksX11_chosen_1 9 rfl rfl)
theorem dX11_chosen_34 : decode cX11_chosen 34 = .ok (.iload_n 2, 1) := dk_28 (dk_at dksX11_chosen_1 10 rfl rfl)
theorem dX11_chosen_35 : decode cX11_chosen 35 = .ok (.iload 4, 2) := dk_21 4 (dk_at dksX11_chosen_1 11 rfl rfl)
theorem dX11_chosen_37 : decode cX11_chosen 37 = .ok (.invokevirtual 357, 3) := dk_182 1 101 (dk_at dksX11_chosen_1 13 rfl rfl)
theorem dX11_chosen_40 : decode cX11_chosen 40 = .ok (.aload_n 0, 1) := dk_42 (dk_at dksX11_chosen_1 16 rfl rfl)
theorem dX11_chosen_41 : decode cX11_chosen 41 = .ok (.aload_n 1, 1) := dk_43 (dk_at dksX11_chosen_1 17 rfl rfl)
theorem dX11_chosen_42 : decode cX11_chosen 42 = .ok (.iload_n 2, 1) := dk_28 (dk_at dksX11_chosen_1 18 rfl rfl)
theorem dX11_chosen_43 : decode cX11_chosen 43 = .ok (.iload_n 3, 1) := dk_29 (dk_at dksX11_chosen_1 19 rfl rfl)
theorem dX11_chosen_44 : decode cX11_chosen 44 = .ok (.invokevirtual 357, 3) := dk_182 1 101 (dk_at dksX11_chosen_1 20 rfl rfl)
theorem dX11_chosen_47 : decode cX11_chosen 47 = .ok (.if_icmp .le 6, 3) := dk_164 0 6 (dk_at dksX11_chosen_2 0 rfl rfl)
theorem dX11_chosen_50 : decode cX11_chosen 50 = .ok (.iload 4, 2) := dk_21 4 (dk_at dksX11_chosen_2 3 rfl rfl)
theorem dX11_chosen_52 : decode cX11_chosen 52 = .ok (.istore_n 3, 1) := dk_62 (dk_at dksX11_chosen_2 5 rfl rfl)
theorem dX11_chosen_53 : decode cX11_chosen 53 = .ok (.iinc 4 1, 3) := dk_132 4 1 (dk_at dksX11_chosen_2 6 rfl rfl)
theorem dX11_chosen_56 : decode cX11_chosen 56 = .ok (.goto (-51), 3) := dk_167 255 205 (dk_at dksX11_chosen_2 9 rfl rfl)
theorem dX11_chosen_59 : decode cX11_chosen 59 = .ok (.iload_n 3, 1) := dk_29 (dk_at dksX11_chosen_2 12 rfl rfl)
theorem dX11_chosen_60 : decode cX11_chosen 60 = .ok (.ireturn, 1) := dk_172 (dk_at dksX11_chosen_2 13 rfl rfl)
abbrev cX11_mayWork : ByteArray := prog_22_method_68_code
def yX11_mayWork : MethodName := ⟨RX11, "mayWork", "([III)Z"⟩
def dkwX11_mayWork_2 : List UInt8 := [162, 0, 7, 4, 167, 0, 4, 3, 172]
abbrev dktX11_mayWork_2 : List UInt8 := dkwX11_mayWork_2 ++ []
def dkwX11_mayWork_1 : List UInt8 := [180, 0, 35, 28, 46, 29, 184, 0, 242, 154, 0, 20, 42, 43, 29, 182, 1, 78, 184, 0, 246, 6]
abbrev dktX11_mayWork_1 : List UInt8 := dkwX11_mayWork_1 ++ dktX11_mayWork_2
def dkwX11_mayWork_0 : List UInt8 := [42, 43, 29, 182, 1, 64, 153, 0, 45, 43, 4, 28, 96, 46, 29, 184, 0, 242, 154, 0, 33, 42]
abbrev dktX11_mayWork_0 : List UInt8 := dkwX11_mayWork_0 ++ dktX11_mayWork_1
theorem dksX11_mayWork_0 : cX11_mayWork.data.toList.drop 0 = dktX11_mayWork_0 := by decide +kernel
theorem dksX11_mayWork_1 : cX11_mayWork.data.toList.drop 22 = dktX11_mayWork_1 := dk_seg dksX11_mayWork_0 22 rfl rfl
theorem dksX11_mayWork_2 : cX11_mayWork.data.toList.drop 44 = dktX11_mayWork_2 := dk_seg dksX11_mayWork_1 22 rfl rfl
theorem dX11_mayWork_0 : decode cX11_mayWork 0 = .ok (.aload_n 0, 1) := dk_42 (dk_at dksX11_mayWork_0 0 rfl rfl)
theorem dX11_mayWork_1 : decode cX11_mayWork 1 = .ok (.aload_n 1, 1) := dk_43 (dk_at dksX11_mayWork_0 1 rfl rfl)
theorem dX11_mayWork_2 : decode cX11_mayWork 2 = .ok (.iload_n 3, 1) := dk_29 (dk_at dksX11_mayWork_0 2 rfl rfl)
theorem dX11_mayWork_3 : decode cX11_mayWork 3 = .ok (.invokevirtual 320, 3) := dk_182 1 64 (dk_at dksX11_mayWork_0 3 rfl rfl)
theorem dX11_mayWork_6 : decode cX11_mayWork 6 = .ok (.ifCond .eq 45, 3) := dk_153 0 45 (dk_at dksX11_mayWork_0 6 rfl rfl)
theorem dX11_mayWork_9 : decode cX11_mayWork 9 = .ok (.aload_n 1, 1) := dk_43 (dk_at dksX11_mayWork_0 9 rfl rfl)
theorem dX11_mayWork_10 : decode cX11_mayWork 10 = .ok (.iconst 1, 1) := dk_4 (dk_at dksX11_mayWork_0 10 rfl rfl)
theorem dX11_mayWork_11 : decode cX11_mayWork 11 = .ok (.iload_n 2, 1) := dk_28 (dk_at dksX11_mayWork_0 11 rfl rfl)
theorem dX11_mayWork_12 : decode cX11_mayWork 12 = .ok (.iadd, 1) := dk_96 (dk_at dksX11_mayWork_0 12 rfl rfl)
theorem dX11_mayWork_13 : decode cX11_mayWork 13 = .ok (.iaload, 1) := dk_46 (dk_at dksX11_mayWork_0 13 rfl rfl)
theorem dX11_mayWork_14 : decode cX11_mayWork 14 = .ok (.iload_n 3, 1) := dk_29 (dk_at dksX11_mayWork_0 14 rfl rfl)
theorem dX11_mayWork_15 : decode cX11_mayWork 15 = .ok (.invokestatic 242, 3) := dk_184 0 242 (dk_at dksX11_mayWork_0 15 rfl rfl)
theorem dX11_mayWork_18 : decode cX11_mayWork 18 = .ok (.ifCond .ne 33, 3) := dk_154 0 33 (dk_at dksX11_mayWork_0 18 rfl rfl)
theorem dX11_mayWork_21 : decode cX11_mayWork 21 = .ok (.aload_n 0, 1) := dk_42 (dk_at dksX11_mayWork_0 21 rfl rfl)
theorem dX11_mayWork_22 : decode cX11_mayWork 22 = .ok (.getfield 35, 3) := dk_180 0 35 (dk_at dksX11_mayWork_1 0 rfl rfl)
theorem dX11_mayWork_25 : decode cX11_mayWork 25 = .ok (.iload_n 2, 1) := dk_28 (dk_at dksX11_mayWork_1 3 rfl rfl)
theorem dX11_mayWork_26 : decode cX11_mayWork 26 = .ok (.iaload, 1) := dk_46 (dk_at dksX11_mayWork_1 4 rfl rfl)
theorem dX11_mayWork_27 : decode cX11_mayWork 27 = .ok (.iload_n 3, 1) := dk_29 (dk_at dksX11_mayWork_1 5 rfl rfl)
theorem dX11_mayWork_28 : decode cX11_mayWork 28 = .ok (.invokestatic 242, 3) := dk_184 0 242 (dk_at dksX11_mayWork_1 6 rfl rfl)
theorem dX11_mayWork_31 : decode cX11_mayWork 31 = .ok (.ifCond .ne 20, 3) := dk_154 0 20 (dk_at dksX11_mayWork_1 9 rfl rfl)
theorem dX11_mayWork_34 : decode cX11_mayWork 34 = .ok (.aload_n 0, 1) := dk_42 (dk_at dksX11_mayWork_1 12 rfl rfl)
theorem dX11_mayWork_35 : decode cX11_mayWork 35 = .ok (.aload_n 1, 1) := dk_43 (dk_at dksX11_mayWork_1 13 rfl rfl)
theorem dX11_mayWork_36 : decode cX11_mayWork 36 = .ok (.iload_n 3, 1) := dk_29 (dk_at dksX11_mayWork_1 14 rfl rfl)
theorem dX11_mayWork_37 : decode cX11_mayWork 37 = .ok (.invokevirtual 334, 3) := dk_182 1 78 (dk_at dksX11_mayWork_1 15 rfl rfl)
theorem dX11_mayWork_40 : decode cX11_mayWork 40 = .ok (.invokestatic 246, 3) := dk_184 0 246 (dk_at dksX11_mayWork_1 18 rfl rfl)
theorem dX11_mayWork_43 : decode cX11_mayWork 43 = .ok (.iconst 3, 1) := dk_6 (dk_at dksX11_mayWork_1 21 rfl rfl)
theorem dX11_mayWork_44 : decode cX11_mayWork 44 = .ok (.if_icmp .ge 7, 3) := dk_162 0 7 (dk_at dksX11_mayWork_2 0 rfl rfl)
theorem dX11_mayWork_47 : decode cX11_mayWork 47 = .ok (.iconst 1, 1) := dk_4 (dk_at dksX11_mayWork_2 3 rfl rfl)
theorem dX11_mayWork_48 : decode cX11_mayWork 48 = .ok (.goto 4, 3) := dk_167 0 4 (dk_at dksX11_mayWork_2 4 rfl rfl)
theorem dX11_mayWork_51 : decode cX11_mayWork 51 = .ok (.iconst 0, 1) := dk_3 (dk_at dksX11_mayWork_2 7 rfl rfl)
theorem dX11_mayWork_52 : decode cX11_mayWork 52 = .ok (.ireturn, 1) := dk_172 (dk_at dksX11_mayWork_2 8 rfl rfl)
abbrev cX11_practise : ByteArray := prog_22_method_71_code
def yX11_practise : MethodName := ⟨RX11, "practise", "(II)I"⟩
def dkwX11_practise_4 : List UInt8 := [167, 255, 216, 42, 180, 0, 49, 27, 50, 3, 29, 79, 21, 4, 172]
abbrev dktX11_practise_4 : List UInt8 := dkwX11_practise_4 ++ []
def dkwX11_practise_3 : List UInt8 := [180, 0, 91, 28, 182, 1, 108, 27, 160, 0, 8, 21, 5, 167, 0, 5, 21, 4, 54, 4, 132, 5, 255]
abbrev dktX11_practise_3 : List UInt8 := dkwX11_practise_3 ++ dktX11_practise_4
def dkwX11_practise_2 : List UInt8 := [54, 4, 16, 9, 54, 5, 21, 5, 155, 0, 41, 42, 180, 0, 49, 27, 50, 3, 21, 5, 79, 42, 42]
abbrev dktX11_practise_2 : List UInt8 := dkwX11_practise_2 ++ dktX11_practise_3
def dkwX11_practise_1 : List UInt8 := [167, 0, 4, 3, 4, 3, 182, 0, 249, 153, 0, 5, 3, 172, 42, 180, 0, 49, 27, 50, 3, 46, 62, 2]
abbrev dktX11_practise_1 : List UInt8 := dkwX11_practise_1 ++ dktX11_practise_2
def dkwX11_practise_0 : List UInt8 := [42, 3, 181, 0, 134, 42, 42, 27, 182, 1, 75, 153, 0, 11, 42, 28, 182, 1, 82, 154, 0, 7, 4]
abbrev dktX11_practise_0 : List UInt8 := dkwX11_practise_0 ++ dktX11_practise_1
theorem dksX11_practise_0 : cX11_practise.data.toList.drop 0 = dktX11_practise_0 := by decide +kernel
theorem dksX11_practise_1 : cX11_practise.data.toList.drop 23 = dktX11_practise_1 := dk_seg dksX11_practise_0 23 rfl rfl
theorem dksX11_practise_2 : cX11_practise.data.toList.drop 47 = dktX11_practise_2 := dk_seg dksX11_practise_1 24 rfl rfl
theorem dksX11_practise_3 : cX11_practise.data.toList.drop 70 = dktX11_practise_3 := dk_seg dksX11_practise_2 23 rfl rfl
theorem dksX11_practise_4 : cX11_practise.data.toList.drop 93 = dktX11_practise_4 := dk_seg dksX11_practise_3 23 rfl rfl
theorem dX11_practise_0 : decode cX11_practise 0 = .ok (.aload_n 0, 1) := dk_42 (dk_at dksX11_practise_0 0 rfl rfl)
theorem dX11_practise_1 : decode cX11_practise 1 = .ok (.iconst 0, 1) := dk_3 (dk_at dksX11_practise_0 1 rfl rfl)
theorem dX11_practise_2 : decode cX11_practise 2 = .ok (.putfield 134, 3) := dk_181 0 134 (dk_at dksX11_practise_0 2 rfl rfl)
theorem dX11_practise_5 : decode cX11_practise 5 = .ok (.aload_n 0, 1) := dk_42 (dk_at dksX11_practise_0 5 rfl rfl)
theorem dX11_practise_6 : decode cX11_practise 6 = .ok (.aload_n 0, 1) := dk_42 (dk_at dksX11_practise_0 6 rfl rfl)
theorem dX11_practise_7 : decode cX11_practise 7 = .ok (.iload_n 1, 1) := dk_27 (dk_at dksX11_practise_0 7 rfl rfl)
theorem dX11_practise_8 : decode cX11_practise 8 = .ok (.invokevirtual 331, 3) := dk_182 1 75 (dk_at dksX11_practise_0 8 rfl rfl)
theorem dX11_practise_11 : decode cX11_practise 11 = .ok (.ifCond .eq 11, 3) := dk_153 0 11 (dk_at dksX11_practise_0 11 rfl rfl)
theorem dX11_practise_14 : decode cX11_practise 14 = .ok (.aload_n 0, 1) := dk_42 (dk_at dksX11_practise_0 14 rfl rfl)
theorem dX11_practise_15 : decode cX11_practise 15 = .ok (.iload_n 2, 1) := dk_28 (dk_at dksX11_practise_0 15 rfl rfl)
theorem dX11_practise_16 : decode cX11_practise 16 = .ok (.invokevirtual 338, 3) := dk_182 1 82 (dk_at dksX11_practise_0 16 rfl rfl)
theorem dX11_practise_19 : decode cX11_practise 19 = .ok (.ifCond .ne 7, 3) := dk_154 0 7 (dk_at dksX11_practise_0 19 rfl rfl)
theorem dX11_practise_22 : decode cX11_practise 22 = .ok (.iconst 1, 1) := dk_4 (dk_at dksX11_practise_0 22 rfl rfl)
theorem dX11_practise_23 : decode cX11_practise 23 = .ok (.goto 4, 3) := dk_167 0 4 (dk_at dksX11_practise_1 0 rfl rfl)
theorem dX11_practise_26 : decode cX11_practise 26 = .ok (.iconst 0, 1) := dk_3 (dk_at dksX11_practise_1 3 rfl rfl)
theorem dX11_practise_27 : decode cX11_practise 27 = .ok (.iconst 1, 1) := dk_4 (dk_at dksX11_practise_1 4 rfl rfl)
theorem dX11_practise_28 : decode cX11_practise 28 = .ok (.iconst 0, 1) := dk_3 (dk_at dksX11_practise_1 5 rfl rfl)
theorem dX11_practise_29 : decode cX11_practise 29 = .ok (.invokevirtual 249, 3) := dk_182 0 249 (dk_at dksX11_practise_1 6 rfl rfl)
theorem dX11_practise_32 : decode cX11_practise 32 = .ok (.ifCond .eq 5, 3) := dk_153 0 5 (dk_at dksX11_practise_1 9 rfl rfl)
theorem dX11_practise_35 : decode cX11_practise 35 = .ok (.iconst 0, 1) := dk_3 (dk_at dksX11_practise_1 12 rfl rfl)
theorem dX11_practise_36 : decode cX11_practise 36 = .ok (.ireturn, 1) := dk_172 (dk_at dksX11_practise_1 13 rfl rfl)
theorem dX11_practise_37 : decode cX11_practise 37 = .ok (.aload_n 0, 1) := dk_42 (dk_at dksX11_practise_1 14 rfl rfl)
theorem dX11_practise_38 : decode cX11_practise 38 = .ok (.getfield 49, 3) := dk_180 0 49 (dk_at dksX11_practise_1 15 rfl rfl)
theorem dX11_practise_41 : decode cX11_practise 41 = .ok (.iload_n 1, 1) := dk_27 (dk_at dksX11_practise_1 18 rfl rfl)
theorem dX11_practise_42 : decode cX11_practise 42 = .ok (.aaload, 1) := dk_50 (dk_at dksX11_practise_1 19 rfl rfl)
theorem dX11_practise_43 : decode cX11_practise 43 = .ok (.iconst 0, 1) := dk_3 (dk_at dksX11_practise_1 20 rfl rfl)
theorem dX11_practise_44 : decode cX11_practise 44 = .ok (.iaload, 1) := dk_46 (dk_at dksX11_practise_1 21 rfl rfl)
theorem dX11_practise_45 : decode cX11_practise 45 = .ok (.istore_n 3, 1) := dk_62 (dk_at dksX11_practise_1 22 rfl rfl)
theorem dX11_practise_46 : decode cX11_practise 46 = .ok (.iconst (-1), 1) := dk_2 (dk_at dksX11_practise_1 23 rfl rfl)
theorem dX11_practise_47 : decode cX11_practise 47 = .ok (.istore 4, 2) := dk_54 4 (dk_at dksX11_practise_2 0 rfl rfl)
theorem dX11_practise_49 : decode cX11_practise 49 = .ok (.bipush 9, 2) := dk_16 9 (dk_at dksX11_practise_2 2 rfl rfl)
theorem dX11_practise_51 : decode cX11_practise 51 = .ok (.istore 5, 2) := dk_54 5 (dk_at dksX11_practise_2 4 rfl rfl)
theorem dX11_practise_53 : decode cX11_practise 53 = .ok (.iload 5, 2) := dk_21 5 (dk_at dksX11_practise_2 6 rfl rfl)
theorem dX11_practise_55 : decode cX11_practise 55 = .ok (.ifCond .lt 41, 3) := dk_155 0 41 (dk_at dksX11_practise_2 8 rfl rfl)
theorem dX11_practise_58 : decode cX11_practise 58 = .ok (.aload_n 0, 1) := dk_42 (dk_at dksX11_practise_2 11 rfl rfl)
theorem dX11_practise_59 : decode cX11_practise 59 = .ok (.getfield 49, 3) := dk_180 0 49 (dk_at dksX11_practise_2 12 rfl rfl)
theorem dX11_practise_62 : decode cX11_practise 62 = .ok (.iload_n 1, 1) := dk_27 (dk_at dksX11_practise_2 15 rfl rfl)
theorem dX11_practise_63 : decode cX11_practise 63 = .ok (.aaload, 1) := dk_50 (dk_at dksX11_practise_2 16 rfl rfl)
theorem dX11_practise_64 : decode cX11_practise 64 = .ok (.iconst 0, 1) := dk_3 (dk_at dksX11_practise_2 17 rfl rfl)
theorem dX11_practise_65 : decode cX11_practise 65 = .ok (.iload 5, 2) := dk_21 5 (dk_at dksX11_practise_2 18 rfl rfl)
theorem dX11_practise_67 : decode cX11_practise 67 = .ok (.iastore, 1) := dk_79 (dk_at dksX11_practise_2 20 rfl rfl)
theorem dX11_practise_68 : decode cX11_practise 68 = .ok (.aload_n 0, 1) := dk_42 (dk_at dksX11_practise_2 21 rfl rfl)
theorem dX11_practise_69 : decode cX11_practise 69 = .ok (.aload_n 0, 1) := dk_42 (dk_at dksX11_practise_2 22 rfl rfl)
theorem dX11_practise_70 : decode cX11_practise 70 = .ok (.getfield 91, 3) := dk_180 0 91 (dk_at dksX11_practise_3 0 rfl rfl)
theorem dX11_practise_73 : decode cX11_practise 73 = .ok (.iload_n 2, 1) := dk_28 (dk_at dksX11_practise_3 3 rfl rfl)
theorem dX11_practise_74 : decode cX11_practise 74 = .ok (.invokevirtual 364, 3) := dk_182 1 108 (dk_at dksX11_practise_3 4 rfl rfl)
theorem dX11_practise_77 : decode cX11_practise 77 = .ok (.iload_n 1, 1) := dk_27 (dk_at dksX11_practise_3 7 rfl rfl)
theorem dX11_practise_78 : decode cX11_practise 78 = .ok (.if_icmp .ne 8, 3) := dk_160 0 8 (dk_at dksX11_practise_3 8 rfl rfl)
theorem dX11_practise_81 : decode cX11_practise 81 = .ok (.iload 5, 2) := dk_21 5 (dk_at dksX11_practise_3 11 rfl rfl)
theorem dX11_practise_83 : decode cX11_practise 83 = .ok (.goto 5, 3) := dk_167 0 5 (dk_at dksX11_practise_3 13 rfl rfl)
theorem dX11_practise_86 : decode cX11_practise 86 = .ok (.iload 4, 2) := dk_21 4 (dk_at dksX11_practise_3 16 rfl rfl)
theorem dX11_practise_88 : decode cX11_practise 88 = .ok (.istore 4, 2) := dk_54 4 (dk_at dksX11_practise_3 18 rfl rfl)
theorem dX11_practise_90 : decode cX11_practise 90 = .ok (.iinc 5 (-1), 3) := dk_132 5 255 (dk_at dksX11_practise_3 20 rfl rfl)
theorem dX11_practise_93 : decode cX11_practise 93 = .ok (.goto (-40), 3) := dk_167 255 216 (dk_at dksX11_practise_4 0 rfl rfl)
theorem dX11_practise_96 : decode cX11_practise 96 = .ok (.aload_n 0, 1) := dk_42 (dk_at dksX11_practise_4 3 rfl rfl)
theorem dX11_practise_97 : decode cX11_practise 97 = .ok (.getfield 49, 3) := dk_180 0 49 (dk_at dksX11_practise_4 4 rfl rfl)
theorem dX11_practise_100 : decode cX11_practise 100 = .ok (.iload_n 1, 1) := dk_27 (dk_at dksX11_practise_4 7 rfl rfl)
theorem dX11_practise_101 : decode cX11_practise 101 = .ok (.aaload, 1) := dk_50 (dk_at dksX11_practise_4 8 rfl rfl)
theorem dX11_practise_102 : decode cX11_practise 102 = .ok (.iconst 0, 1) := dk_3 (dk_at dksX11_practise_4 9 rfl rfl)
theorem dX11_practise_103 : decode cX11_practise 103 = .ok (.iload_n 3, 1) := dk_29 (dk_at dksX11_practise_4 10 rfl rfl)
theorem dX11_practise_104 : decode cX11_practise 104 = .ok (.iastore, 1) := dk_79 (dk_at dksX11_practise_4 11 rfl rfl)
theorem dX11_practise_105 : decode cX11_practise 105 = .ok (.iload 4, 2) := dk_21 4 (dk_at dksX11_practise_4 12 rfl rfl)
theorem dX11_practise_107 : decode cX11_practise 107 = .ok (.ireturn, 1) := dk_172 (dk_at dksX11_practise_4 14 rfl rfl)
abbrev cX11_years : ByteArray := prog_22_method_76_code
def yX11_years : MethodName := ⟨RX11, "years", "(I)I"⟩
def dkwX11_years_3 : List UInt8 := [132, 2, 1, 167, 255, 217, 42, 180, 0, 91, 16, 106, 46, 172]
abbrev dktX11_years_3 : List UInt8 := dkwX11_years_3 ++ []
def dkwX11_years_2 : List UInt8 := [17, 0, 200, 162, 0, 27, 42, 42, 180, 0, 91, 182, 1, 129, 42, 89, 180, 1, 26, 4, 96, 181, 1, 26]
abbrev dktX11_years_2 : List UInt8 := dkwX11_years_2 ++ dktX11_years_3
def dkwX11_years_1 : List UInt8 := [182, 0, 249, 153, 0, 5, 3, 172, 3, 61, 28, 27, 162, 0, 40, 42, 180, 0, 91, 16, 106, 46]
abbrev dktX11_years_1 : List UInt8 := dkwX11_years_1 ++ dktX11_years_2
def dkwX11_years_0 : List UInt8 := [42, 3, 181, 0, 134, 42, 27, 4, 16, 60, 184, 0, 168, 154, 0, 7, 4, 167, 0, 4, 3, 4, 4]
abbrev dktX11_years_0 : List UInt8 := dkwX11_years_0 ++ dktX11_years_1
theorem dksX11_years_0 : cX11_years.data.toList.drop 0 = dktX11_years_0 := by decide +kernel
theorem dksX11_years_1 : cX11_years.data.toList.drop 23 = dktX11_years_1 := dk_seg dksX11_years_0 23 rfl rfl
theorem dksX11_years_2 : cX11_years.data.toList.drop 45 = dktX11_years_2 := dk_seg dksX11_years_1 22 rfl rfl
theorem dksX11_years_3 : cX11_years.data.toList.drop 69 = dktX11_years_3 := dk_seg dksX11_years_2 24 rfl rfl
theorem dX11_years_0 : decode cX11_years 0 = .ok (.aload_n 0, 1) := dk_42 (dk_at dksX11_years_0 0 rfl rfl)
theorem dX11_years_1 : decode cX11_years 1 = .ok (.iconst 0, 1) := dk_3 (dk_at dksX11_years_0 1 rfl rfl)
theorem dX11_years_2 : decode cX11_years 2 = .ok (.putfield 134, 3) := dk_181 0 134 (dk_at dksX11_years_0 2 rfl rfl)
theorem dX11_years_5 : decode cX11_years 5 = .ok (.aload_n 0, 1) := dk_42 (dk_at dksX11_years_0 5 rfl rfl)
theorem dX11_years_6 : decode cX11_years 6 = .ok (.iload_n 1, 1) := dk_27 (dk_at dksX11_years_0 6 rfl rfl)
theorem dX11_years_7 : decode cX11_years 7 = .ok (.iconst 1, 1) := dk_4 (dk_at dksX11_years_0 7 rfl rfl)
theorem dX11_years_8 : decode cX11_years 8 = .ok (.bipush 60, 2) := dk_16 60 (dk_at dksX11_years_0 8 rfl rfl)
theorem dX11_years_10 : decode cX11_years 10 = .ok (.invokestatic 168, 3) := dk_184 0 168 (dk_at dksX11_years_0 10 rfl rfl)
theorem dX11_years_13 : decode cX11_years 13 = .ok (.ifCond .ne 7, 3) := dk_154 0 7 (dk_at dksX11_years_0 13 rfl rfl)
theorem dX11_years_16 : decode cX11_years 16 = .ok (.iconst 1, 1) := dk_4 (dk_at dksX11_years_0 16 rfl rfl)
theorem dX11_years_17 : decode cX11_years 17 = .ok (.goto 4, 3) := dk_167 0 4 (dk_at dksX11_years_0 17 rfl rfl)
theorem dX11_years_20 : decode cX11_years 20 = .ok (.iconst 0, 1) := dk_3 (dk_at dksX11_years_0 20 rfl rfl)
theorem dX11_years_21 : decode cX11_years 21 = .ok (.iconst 1, 1) := dk_4 (dk_at dksX11_years_0 21 rfl rfl)
theorem dX11_years_22 : decode cX11_years 22 = .ok (.iconst 1, 1) := dk_4 (dk_at dksX11_years_0 22 rfl rfl)
theorem dX11_years_23 : decode cX11_years 23 = .ok (.invokevirtual 249, 3) := dk_182 0 249 (dk_at dksX11_years_1 0 rfl rfl)
theorem dX11_years_26 : decode cX11_years 26 = .ok (.ifCond .eq 5, 3) := dk_153 0 5 (dk_at dksX11_years_1 3 rfl rfl)
theorem dX11_years_29 : decode cX11_years 29 = .ok (.iconst 0, 1) := dk_3 (dk_at dksX11_years_1 6 rfl rfl)
theorem dX11_years_30 : decode cX11_years 30 = .ok (.ireturn, 1) := dk_172 (dk_at dksX11_years_1 7 rfl rfl)
theorem dX11_years_31 : decode cX11_years 31 = .ok (.iconst 0, 1) := dk_3 (dk_at dksX11_years_1 8 rfl rfl)
theorem dX11_years_32 : decode cX11_years 32 = .ok (.istore_n 2, 1) := dk_61 (dk_at dksX11_years_1 9 rfl rfl)
theorem dX11_years_33 : decode cX11_years 33 = .ok (.iload_n 2, 1) := dk_28 (dk_at dksX11_years_1 10 rfl rfl)
theorem dX11_years_34 : decode cX11_years 34 = .ok (.iload_n 1, 1) := dk_27 (dk_at dksX11_years_1 11 rfl rfl)
theorem dX11_years_35 : decode cX11_years 35 = .ok (.if_icmp .ge 40, 3) := dk_162 0 40 (dk_at dksX11_years_1 12 rfl rfl)
theorem dX11_years_38 : decode cX11_years 38 = .ok (.aload_n 0, 1) := dk_42 (dk_at dksX11_years_1 15 rfl rfl)
theorem dX11_years_39 : decode cX11_years 39 = .ok (.getfield 91, 3) := dk_180 0 91 (dk_at dksX11_years_1 16 rfl rfl)
theorem dX11_years_42 : decode cX11_years 42 = .ok (.bipush 106, 2) := dk_16 106 (dk_at dksX11_years_1 19 rfl rfl)
theorem dX11_years_44 : decode cX11_years 44 = .ok (.iaload, 1) := dk_46 (dk_at dksX11_years_1 21 rfl rfl)
theorem dX11_years_45 : decode cX11_years 45 = .ok (.sipush 200, 3) := dk_17 0 200 (dk_at dksX11_years_2 0 rfl rfl)
theorem dX11_years_48 : decode cX11_years 48 = .ok (.if_icmp .ge 27, 3) := dk_162 0 27 (dk_at dksX11_years_2 3 rfl rfl)
theorem dX11_years_51 : decode cX11_years 51 = .ok (.aload_n 0, 1) := dk_42 (dk_at dksX11_years_2 6 rfl rfl)
theorem dX11_years_52 : decode cX11_years 52 = .ok (.aload_n 0, 1) := dk_42 (dk_at dksX11_years_2 7 rfl rfl)
theorem dX11_years_53 : decode cX11_years 53 = .ok (.getfield 91, 3) := dk_180 0 91 (dk_at dksX11_years_2 8 rfl rfl)
theorem dX11_years_56 : decode cX11_years 56 = .ok (.invokevirtual 385, 3) := dk_182 1 129 (dk_at dksX11_years_2 11 rfl rfl)
theorem dX11_years_59 : decode cX11_years 59 = .ok (.aload_n 0, 1) := dk_42 (dk_at dksX11_years_2 14 rfl rfl)
theorem dX11_years_60 : decode cX11_years 60 = .ok (.dup, 1) := dk_89 (dk_at dksX11_years_2 15 rfl rfl)
theorem dX11_years_61 : decode cX11_years 61 = .ok (.getfield 282, 3) := dk_180 1 26 (dk_at dksX11_years_2 16 rfl rfl)
theorem dX11_years_64 : decode cX11_years 64 = .ok (.iconst 1, 1) := dk_4 (dk_at dksX11_years_2 19 rfl rfl)
theorem dX11_years_65 : decode cX11_years 65 = .ok (.iadd, 1) := dk_96 (dk_at dksX11_years_2 20 rfl rfl)
theorem dX11_years_66 : decode cX11_years 66 = .ok (.putfield 282, 3) := dk_181 1 26 (dk_at dksX11_years_2 21 rfl rfl)
theorem dX11_years_69 : decode cX11_years 69 = .ok (.iinc 2 1, 3) := dk_132 2 1 (dk_at dksX11_years_3 0 rfl rfl)
theorem dX11_years_72 : decode cX11_years 72 = .ok (.goto (-39), 3) := dk_167 255 217 (dk_at dksX11_years_3 3 rfl rfl)
theorem dX11_years_75 : decode cX11_years 75 = .ok (.aload_n 0, 1) := dk_42 (dk_at dksX11_years_3 6 rfl rfl)
theorem dX11_years_76 : decode cX11_years 76 = .ok (.getfield 91, 3) := dk_180 0 91 (dk_at dksX11_years_3 7 rfl rfl)
theorem dX11_years_79 : decode cX11_years 79 = .ok (.bipush 106, 2) := dk_16 106 (dk_at dksX11_years_3 10 rfl rfl)
theorem dX11_years_81 : decode cX11_years 81 = .ok (.iaload, 1) := dk_46 (dk_at dksX11_years_3 12 rfl rfl)
theorem dX11_years_82 : decode cX11_years 82 = .ok (.ireturn, 1) := dk_172 (dk_at dksX11_years_3 13 rfl rfl)
abbrev cX11_goes : ByteArray := prog_22_method_75_code
def yX11_goes : MethodName := ⟨RX11, "goes", "([I)V"⟩
def dkwX11_goes_12 : List UInt8 := [184, 1, 57, 79, 132, 3, 1, 167, 255, 211, 177]
abbrev dktX11_goes_12 : List UInt8 := dkwX11_goes_12 ++ []
def dkwX11_goes_11 : List UInt8 := [154, 0, 26, 43, 16, 9, 29, 96, 3, 43, 16, 9, 29, 96, 46, 42, 180, 0, 23, 6, 46, 100]
abbrev dktX11_goes_11 : List UInt8 := dkwX11_goes_11 ++ dktX11_goes_12
def dkwX11_goes_10 : List UInt8 := [132, 3, 1, 167, 255, 168, 3, 62, 29, 42, 180, 0, 23, 4, 46, 162, 0, 41, 42, 43, 29, 182, 1, 85]
abbrev dktX11_goes_10 : List UInt8 := dkwX11_goes_10 ++ dktX11_goes_11
def dkwX11_goes_9 : List UInt8 := [21, 4, 96, 46, 2, 160, 0, 7, 29, 167, 0, 10, 43, 16, 97, 21, 4, 96, 46, 79, 167, 255, 187]
abbrev dktX11_goes_9 : List UInt8 := dkwX11_goes_9 ++ dktX11_goes_10
def dkwX11_goes_8 : List UInt8 := [160, 0, 6, 167, 255, 227, 42, 43, 29, 21, 4, 182, 1, 126, 43, 16, 97, 21, 4, 96, 43, 16, 97]
abbrev dktX11_goes_8 : List UInt8 := dkwX11_goes_8 ++ dktX11_goes_9
def dkwX11_goes_7 : List UInt8 := [182, 1, 85, 158, 0, 66, 21, 4, 2, 159, 0, 60, 42, 43, 29, 182, 1, 108, 54, 4, 21, 4, 2]
abbrev dktX11_goes_7 : List UInt8 := dkwX11_goes_7 ++ dktX11_goes_8
def dkwX11_goes_6 : List UInt8 := [132, 3, 1, 167, 255, 205, 3, 62, 29, 42, 180, 0, 23, 4, 46, 162, 0, 84, 3, 54, 4, 42, 43, 29]
abbrev dktX11_goes_6 : List UInt8 := dkwX11_goes_6 ++ dktX11_goes_7
def dkwX11_goes_5 : List UInt8 := [5, 46, 43, 16, 106, 46, 159, 0, 11, 28, 29, 184, 0, 242, 153, 0, 9, 42, 43, 29, 182, 1, 122]
abbrev dktX11_goes_5 : List UInt8 := dkwX11_goes_5 ++ dktX11_goes_6
def dkwX11_goes_4 : List UInt8 := [42, 180, 0, 23, 3, 46, 162, 0, 47, 42, 43, 29, 182, 1, 64, 153, 0, 32, 42, 180, 0, 49, 29, 50]
abbrev dktX11_goes_4 : List UInt8 := dkwX11_goes_4 ++ dktX11_goes_5
def dkwX11_goes_3 : List UInt8 := [180, 1, 115, 162, 0, 9, 4, 29, 120, 167, 0, 4, 3, 128, 61, 132, 3, 1, 167, 255, 181, 3, 62, 29]
abbrev dktX11_goes_3 : List UInt8 := dkwX11_goes_3 ++ dktX11_goes_4
def dkwX11_goes_2 : List UInt8 := [19, 1, 121, 104, 17, 48, 57, 96, 181, 1, 118, 28, 42, 180, 1, 118, 16, 16, 122, 16, 15, 126, 42]
abbrev dktX11_goes_2 : List UInt8 := dkwX11_goes_2 ++ dktX11_goes_3
def dkwX11_goes_1 : List UInt8 := [180, 1, 115, 158, 0, 64, 42, 43, 29, 182, 1, 64, 154, 0, 6, 167, 0, 46, 42, 42, 180, 1, 118]
abbrev dktX11_goes_1 : List UInt8 := dkwX11_goes_1 ++ dktX11_goes_2
def dkwX11_goes_0 : List UInt8 := [43, 16, 106, 92, 46, 4, 96, 79, 3, 61, 3, 62, 29, 42, 180, 0, 23, 3, 46, 162, 0, 71, 42]
abbrev dktX11_goes_0 : List UInt8 := dkwX11_goes_0 ++ dktX11_goes_1
theorem dksX11_goes_0 : cX11_goes.data.toList.drop 0 = dktX11_goes_0 := by decide +kernel
theorem dksX11_goes_1 : cX11_goes.data.toList.drop 23 = dktX11_goes_1 := dk_seg dksX11_goes_0 23 rfl rfl
theorem dksX11_goes_2 : cX11_goes.data.toList.drop 46 = dktX11_goes_2 := dk_seg dksX11_goes_1 23 rfl rfl
theorem dksX11_goes_3 : cX11_goes.data.toList.drop 69 = dktX11_goes_3 := dk_seg dksX11_goes_2 23 rfl rfl
theorem dksX11_goes_4 : cX11_goes.data.toList.drop 93 = dktX11_goes_4 := dk_seg dksX11_goes_3 24 rfl rfl
theorem dksX11_goes_5 : cX11_goes.data.toList.drop 117 = dktX11_goes_5 := dk_seg dksX11_goes_4 24 rfl rfl
theorem dksX11_goes_6 : cX11_goes.data.toList.drop 140 = dktX11_goes_6 := dk_seg dksX11_goes_5 23 rfl rfl
theorem dksX11_goes_7 : cX11_goes.data.toList.drop 164 = dktX11_goes_7 := dk_seg dksX11_goes_6 24 rfl rfl
theorem dksX11_goes_8 : cX11_goes.data.toList.drop 187 = dktX11_goes_8 := dk_seg dksX11_goes_7 23 rfl rfl
theorem dksX11_goes_9 : cX11_goes.data.toList.drop 210 = dktX11_goes_9 := dk_seg dksX11_goes_8 23 rfl rfl
theorem dksX11_goes_10 : cX11_goes.data.toList.drop 233 = dktX11_goes_10 := dk_seg dksX11_goes_9 23 rfl rfl
theorem dksX11_goes_11 : cX11_goes.data.toList.drop 257 = dktX11_goes_11 := dk_seg dksX11_goes_10 24 rfl rfl
theorem dksX11_goes_12 : cX11_goes.data.toList.drop 279 = dktX11_goes_12 := dk_seg dksX11_goes_11 22 rfl rfl
theorem dX11_goes_0 : decode cX11_goes 0 = .ok (.aload_n 1, 1) := dk_43 (dk_at dksX11_goes_0 0 rfl rfl)
theorem dX11_goes_1 : decode cX11_goes 1 = .ok (.bipush 106, 2) := dk_16 106 (dk_at dksX11_goes_0 1 rfl rfl)
theorem dX11_goes_3 : decode cX11_goes 3 = .ok (.dup2, 1) := dk_92 (dk_at dksX11_goes_0 3 rfl rfl)
theorem dX11_goes_4 : decode cX11_goes 4 = .ok (.iaload, 1) := dk_46 (dk_at dksX11_goes_0 4 rfl rfl)
theorem dX11_goes_5 : decode cX11_goes 5 = .ok (.iconst 1, 1) := dk_4 (dk_at dksX11_goes_0 5 rfl rfl)
theorem dX11_goes_6 : decode cX11_goes 6 = .ok (.iadd, 1) := dk_96 (dk_at dksX11_goes_0 6 rfl rfl)
theorem dX11_goes_7 : decode cX11_goes 7 = .ok (.iastore, 1) := dk_79 (dk_at dksX11_goes_0 7 rfl rfl)
theorem dX11_goes_8 : decode cX11_goes 8 = .ok (.iconst 0, 1) := dk_3 (dk_at dksX11_goes_0 8 rfl rfl)
theorem dX11_goes_9 : decode cX11_goes 9 = .ok (.istore_n 2, 1) := dk_61 (dk_at dksX11_goes_0 9 rfl rfl)
theorem dX11_goes_10 : decode cX11_goes 10 = .ok (.iconst 0, 1) := dk_3 (dk_at dksX11_goes_0 10 rfl rfl)
theorem dX11_goes_11 : decode cX11_goes 11 = .ok (.istore_n 3, 1) := dk_62 (dk_at dksX11_goes_0 11 rfl rfl)
theorem dX11_goes_12 : decode cX11_goes 12 = .ok (.iload_n 3, 1) := dk_29 (dk_at dksX11_goes_0 12 rfl rfl)
theorem dX11_goes_13 : decode cX11_goes 13 = .ok (.aload_n 0, 1) := dk_42 (dk_at dksX11_goes_0 13 rfl rfl)
theorem dX11_goes_14 : decode cX11_goes 14 = .ok (.getfield 23, 3) := dk_180 0 23 (dk_at dksX11_goes_0 14 rfl rfl)
theorem dX11_goes_17 : decode cX11_goes 17 = .ok (.iconst 0, 1) := dk_3 (dk_at dksX11_goes_0 17 rfl rfl)
theorem dX11_goes_18 : decode cX11_goes 18 = .ok (.iaload, 1) := dk_46 (dk_at dksX11_goes_0 18 rfl rfl)
theorem dX11_goes_19 : decode cX11_goes 19 = .ok (.if_icmp .ge 71, 3) := dk_162 0 71 (dk_at dksX11_goes_0 19 rfl rfl)
theorem dX11_goes_22 : decode cX11_goes 22 = .ok (.aload_n 0, 1) := dk_42 (dk_at dksX11_goes_0 22 rfl rfl)
theorem dX11_goes_23 : decode cX11_goes 23 = .ok (.getfield 371, 3) := dk_180 1 115 (dk_at dksX11_goes_1 0 rfl rfl)
theorem dX11_goes_26 : decode cX11_goes 26 = .ok (.ifCond .le 64, 3) := dk_158 0 64 (dk_at dksX11_goes_1 3 rfl rfl)
theorem dX11_goes_29 : decode cX11_goes 29 = .ok (.aload_n 0, 1) := dk_42 (dk_at dksX11_goes_1 6 rfl rfl)
theorem dX11_goes_30 : decode cX11_goes 30 = .ok (.aload_n 1, 1) := dk_43 (dk_at dksX11_goes_1 7 rfl rfl)
theorem dX11_goes_31 : decode cX11_goes 31 = .ok (.iload_n 3, 1) := dk_29 (dk_at dksX11_goes_1 8 rfl rfl)
theorem dX11_goes_32 : decode cX11_goes 32 = .ok (.invokevirtual 320, 3) := dk_182 1 64 (dk_at dksX11_goes_1 9 rfl rfl)
theorem dX11_goes_35 : decode cX11_goes 35 = .ok (.ifCond .ne 6, 3) := dk_154 0 6 (dk_at dksX11_goes_1 12 rfl rfl)
theorem dX11_goes_38 : decode cX11_goes 38 = .ok (.goto 46, 3) := dk_167 0 46 (dk_at dksX11_goes_1 15 rfl rfl)
theorem dX11_goes_41 : decode cX11_goes 41 = .ok (.aload_n 0, 1) := dk_42 (dk_at dksX11_goes_1 18 rfl rfl)
theorem dX11_goes_42 : decode cX11_goes 42 = .ok (.aload_n 0, 1) := dk_42 (dk_at dksX11_goes_1 19 rfl rfl)
theorem dX11_goes_43 : decode cX11_goes 43 = .ok (.getfield 374, 3) := dk_180 1 118 (dk_at dksX11_goes_1 20 rfl rfl)
theorem dX11_goes_46 : decode cX11_goes 46 = .ok (.ldc_w 377, 3) := dk_19 1 121 (dk_at dksX11_goes_2 0 rfl rfl)
theorem dX11_goes_49 : decode cX11_goes 49 = .ok (.imul, 1) := dk_104 (dk_at dksX11_goes_2 3 rfl rfl)
theorem dX11_goes_50 : decode cX11_goes 50 = .ok (.sipush 12345, 3) := dk_17 48 57 (dk_at dksX11_goes_2 4 rfl rfl)
theorem dX11_goes_53 : decode cX11_goes 53 = .ok (.iadd, 1) := dk_96 (dk_at dksX11_goes_2 7 rfl rfl)
theorem dX11_goes_54 : decode cX11_goes 54 = .ok (.putfield 374, 3) := dk_181 1 118 (dk_at dksX11_goes_2 8 rfl rfl)
theorem dX11_goes_57 : decode cX11_goes 57 = .ok (.iload_n 2, 1) := dk_28 (dk_at dksX11_goes_2 11 rfl rfl)
theorem dX11_goes_58 : decode cX11_goes 58 = .ok (.aload_n 0, 1) := dk_42 (dk_at dksX11_goes_2 12 rfl rfl)
theorem dX11_goes_59 : decode cX11_goes 59 = .ok (.getfield 374, 3) := dk_180 1 118 (dk_at dksX11_goes_2 13 rfl rfl)
theorem dX11_goes_62 : decode cX11_goes 62 = .ok (.bipush 16, 2) := dk_16 16 (dk_at dksX11_goes_2 16 rfl rfl)
theorem dX11_goes_64 : decode cX11_goes 64 = .ok (.ishr, 1) := dk_122 (dk_at dksX11_goes_2 18 rfl rfl)
theorem dX11_goes_65 : decode cX11_goes 65 = .ok (.bipush 15, 2) := dk_16 15 (dk_at dksX11_goes_2 19 rfl rfl)
theorem dX11_goes_67 : decode cX11_goes 67 = .ok (.iand, 1) := dk_126 (dk_at dksX11_goes_2 21 rfl rfl)
theorem dX11_goes_68 : decode cX11_goes 68 = .ok (.aload_n 0, 1) := dk_42 (dk_at dksX11_goes_2 22 rfl rfl)
theorem dX11_goes_69 : decode cX11_goes 69 = .ok (.getfield 371, 3) := dk_180 1 115 (dk_at dksX11_goes_3 0 rfl rfl)
theorem dX11_goes_72 : decode cX11_goes 72 = .ok (.if_icmp .ge 9, 3) := dk_162 0 9 (dk_at dksX11_goes_3 3 rfl rfl)
theorem dX11_goes_75 : decode cX11_goes 75 = .ok (.iconst 1, 1) := dk_4 (dk_at dksX11_goes_3 6 rfl rfl)
theorem dX11_goes_76 : decode cX11_goes 76 = .ok (.iload_n 3, 1) := dk_29 (dk_at dksX11_goes_3 7 rfl rfl)
theorem dX11_goes_77 : decode cX11_goes 77 = .ok (.ishl, 1) := dk_120 (dk_at dksX11_goes_3 8 rfl rfl)
theorem dX11_goes_78 : decode cX11_goes 78 = .ok (.goto 4, 3) := dk_167 0 4 (dk_at dksX11_goes_3 9 rfl rfl)
theorem dX11_goes_81 : decode cX11_goes 81 = .ok (.iconst 0, 1) := dk_3 (dk_at dksX11_goes_3 12 rfl rfl)
theorem dX11_goes_82 : decode cX11_goes 82 = .ok (.ior, 1) := dk_128 (dk_at dksX11_goes_3 13 rfl rfl)
theorem dX11_goes_83 : decode cX11_goes 83 = .ok (.istore_n 2, 1) := dk_61 (dk_at dksX11_goes_3 14 rfl rfl)
theorem dX11_goes_84 : decode cX11_goes 84 = .ok (.iinc 3 1, 3) := dk_132 3 1 (dk_at dksX11_goes_3 15 rfl rfl)
theorem dX11_goes_87 : decode cX11_goes 87 = .ok (.goto (-75), 3) := dk_167 255 181 (dk_at dksX11_goes_3 18 rfl rfl)
theorem dX11_goes_90 : decode cX11_goes 90 = .ok (.iconst 0, 1) := dk_3 (dk_at dksX11_goes_3 21 rfl rfl)
theorem dX11_goes_91 : decode cX11_goes 91 = .ok (.istore_n 3, 1) := dk_62 (dk_at dksX11_goes_3 22 rfl rfl)
theorem dX11_goes_92 : decode cX11_goes 92 = .ok (.iload_n 3, 1) := dk_29 (dk_at dksX11_goes_3 23 rfl rfl)
theorem dX11_goes_93 : decode cX11_goes 93 = .ok (.aload_n 0, 1) := dk_42 (dk_at dksX11_goes_4 0 rfl rfl)
theorem dX11_goes_94 : decode cX11_goes 94 = .ok (.getfield 23, 3) := dk_180 0 23 (dk_at dksX11_goes_4 1 rfl rfl)
theorem dX11_goes_97 : decode cX11_goes 97 = .ok (.iconst 0, 1) := dk_3 (dk_at dksX11_goes_4 4 rfl rfl)
theorem dX11_goes_98 : decode cX11_goes 98 = .ok (.iaload, 1) := dk_46 (dk_at dksX11_goes_4 5 rfl rfl)
theorem dX11_goes_99 : decode cX11_goes 99 = .ok (.if_icmp .ge 47, 3) := dk_162 0 47 (dk_at dksX11_goes_4 6 rfl rfl)
theorem dX11_goes_102 : decode cX11_goes 102 = .ok (.aload_n 0, 1) := dk_42 (dk_at dksX11_goes_4 9 rfl rfl)
theorem dX11_goes_103 : decode cX11_goes 103 = .ok (.aload_n 1, 1) := dk_43 (dk_at dksX11_goes_4 10 rfl rfl)
theorem dX11_goes_104 : decode cX11_goes 104 = .ok (.iload_n 3, 1) := dk_29 (dk_at dksX11_goes_4 11 rfl rfl)
theorem dX11_goes_105 : decode cX11_goes 105 = .ok (.invokevirtual 320, 3) := dk_182 1 64 (dk_at dksX11_goes_4 12 rfl rfl)
theorem dX11_goes_108 : decode cX11_goes 108 = .ok (.ifCond .eq 32, 3) := dk_153 0 32 (dk_at dksX11_goes_4 15 rfl rfl)
theorem dX11_goes_111 : decode cX11_goes 111 = .ok (.aload_n 0, 1) := dk_42 (dk_at dksX11_goes_4 18 rfl rfl)
theorem dX11_goes_112 : decode cX11_goes 112 = .ok (.getfield 49, 3) := dk_180 0 49 (dk_at dksX11_goes_4 19 rfl rfl)
theorem dX11_goes_115 : decode cX11_goes 115 = .ok (.iload_n 3, 1) := dk_29 (dk_at dksX11_goes_4 22 rfl rfl)
theorem dX11_goes_116 : decode cX11_goes 116 = .ok (.aaload, 1) := dk_50 (dk_at dksX11_goes_4 23 rfl rfl)
theorem dX11_goes_117 : decode cX11_goes 117 = .ok (.iconst 2, 1) := dk_5 (dk_at dksX11_goes_5 0 rfl rfl)
theorem dX11_goes_118 : decode cX11_goes 118 = .ok (.iaload, 1) := dk_46 (dk_at dksX11_goes_5 1 rfl rfl)
theorem dX11_goes_119 : decode cX11_goes 119 = .ok (.aload_n 1, 1) := dk_43 (dk_at dksX11_goes_5 2 rfl rfl)
theorem dX11_goes_120 : decode cX11_goes 120 = .ok (.bipush 106, 2) := dk_16 106 (dk_at dksX11_goes_5 3 rfl rfl)
theorem dX11_goes_122 : decode cX11_goes 122 = .ok (.iaload, 1) := dk_46 (dk_at dksX11_goes_5 5 rfl rfl)
theorem dX11_goes_123 : decode cX11_goes 123 = .ok (.if_icmp .eq 11, 3) := dk_159 0 11 (dk_at dksX11_goes_5 6 rfl rfl)
theorem dX11_goes_126 : decode cX11_goes 126 = .ok (.iload_n 2, 1) := dk_28 (dk_at dksX11_goes_5 9 rfl rfl)
theorem dX11_goes_127 : decode cX11_goes 127 = .ok (.iload_n 3, 1) := dk_29 (dk_at dksX11_goes_5 10 rfl rfl)
theorem dX11_goes_128 : decode cX11_goes 128 = .ok (.invokestatic 242, 3) := dk_184 0 242 (dk_at dksX11_goes_5 11 rfl rfl)
theorem dX11_goes_131 : decode cX11_goes 131 = .ok (.ifCond .eq 9, 3) := dk_153 0 9 (dk_at dksX11_goes_5 14 rfl rfl)
theorem dX11_goes_134 : decode cX11_goes 134 = .ok (.aload_n 0, 1) := dk_42 (dk_at dksX11_goes_5 17 rfl rfl)
theorem dX11_goes_135 : decode cX11_goes 135 = .ok (.aload_n 1, 1) := dk_43 (dk_at dksX11_goes_5 18 rfl rfl)
theorem dX11_goes_136 : decode cX11_goes 136 = .ok (.iload_n 3, 1) := dk_29 (dk_at dksX11_goes_5 19 rfl rfl)
theorem dX11_goes_137 : decode cX11_goes 137 = .ok (.invokevirtual 378, 3) := dk_182 1 122 (dk_at dksX11_goes_5 20 rfl rfl)
theorem dX11_goes_140 : decode cX11_goes 140 = .ok (.iinc 3 1, 3) := dk_132 3 1 (dk_at dksX11_goes_6 0 rfl rfl)
theorem dX11_goes_143 : decode cX11_goes 143 = .ok (.goto (-51), 3) := dk_167 255 205 (dk_at dksX11_goes_6 3 rfl rfl)
theorem dX11_goes_146 : decode cX11_goes 146 = .ok (.iconst 0, 1) := dk_3 (dk_at dksX11_goes_6 6 rfl rfl)
theorem dX11_goes_147 : decode cX11_goes 147 = .ok (.istore_n 3, 1) := dk_62 (dk_at dksX11_goes_6 7 rfl rfl)
theorem dX11_goes_148 : decode cX11_goes 148 = .ok (.iload_n 3, 1) := dk_29 (dk_at dksX11_goes_6 8 rfl rfl)
theorem dX11_goes_149 : decode cX11_goes 149 = .ok (.aload_n 0, 1) := dk_42 (dk_at dksX11_goes_6 9 rfl rfl)
theorem dX11_goes_150 : decode cX11_goes 150 = .ok (.getfield 23, 3) := dk_180 0 23 (dk_at dksX11_goes_6 10 rfl rfl)
theorem dX11_goes_153 : decode cX11_goes 153 = .ok (.iconst 1, 1) := dk_4 (dk_at dksX11_goes_6 13 rfl rfl)
theorem dX11_goes_154 : decode cX11_goes 154 = .ok (.iaload, 1) := dk_46 (dk_at dksX11_goes_6 14 rfl rfl)
theorem dX11_goes_155 : decode cX11_goes 155 = .ok (.if_icmp .ge 84, 3) := dk_162 0 84 (dk_at dksX11_goes_6 15 rfl rfl)
theorem dX11_goes_158 : decode cX11_goes 158 = .ok (.iconst 0, 1) := dk_3 (dk_at dksX11_goes_6 18 rfl rfl)
theorem dX11_goes_159 : decode cX11_goes 159 = .ok (.istore 4, 2) := dk_54 4 (dk_at dksX11_goes_6 19 rfl rfl)
theorem dX11_goes_161 : decode cX11_goes 161 = .ok (.aload_n 0, 1) := dk_42 (dk_at dksX11_goes_6 21 rfl rfl)
theorem dX11_goes_162 : decode cX11_goes 162 = .ok (.aload_n 1, 1) := dk_43 (dk_at dksX11_goes_6 22 rfl rfl)
theorem dX11_goes_163 : decode cX11_goes 163 = .ok (.iload_n 3, 1) := dk_29 (dk_at dksX11_goes_6 23 rfl rfl)
theorem dX11_goes_164 : decode cX11_goes 164 = .ok (.invokevirtual 341, 3) := dk_182 1 85 (dk_at dksX11_goes_7 0 rfl rfl)
theorem dX11_goes_167 : decode cX11_goes 167 = .ok (.ifCond .le 66, 3) := dk_158 0 66 (dk_at dksX11_goes_7 3 rfl rfl)
theorem dX11_goes_170 : decode cX11_goes 170 = .ok (.iload 4, 2) := dk_21 4 (dk_at dksX11_goes_7 6 rfl rfl)
theorem dX11_goes_172 : decode cX11_goes 172 = .ok (.iconst (-1), 1) := dk_2 (dk_at dksX11_goes_7 8 rfl rfl)
theorem dX11_goes_173 : decode cX11_goes 173 = .ok (.if_icmp .eq 60, 3) := dk_159 0 60 (dk_at dksX11_goes_7 9 rfl rfl)
theorem dX11_goes_176 : decode cX11_goes 176 = .ok (.aload_n 0, 1) := dk_42 (dk_at dksX11_goes_7 12 rfl rfl)
theorem dX11_goes_177 : decode cX11_goes 177 = .ok (.aload_n 1, 1) := dk_43 (dk_at dksX11_goes_7 13 rfl rfl)
theorem dX11_goes_178 : decode cX11_goes 178 = .ok (.iload_n 3, 1) := dk_29 (dk_at dksX11_goes_7 14 rfl rfl)
theorem dX11_goes_179 : decode cX11_goes 179 = .ok (.invokevirtual 364, 3) := dk_182 1 108 (dk_at dksX11_goes_7 15 rfl rfl)
theorem dX11_goes_182 : decode cX11_goes 182 = .ok (.istore 4, 2) := dk_54 4 (dk_at dksX11_goes_7 18 rfl rfl)
theorem dX11_goes_184 : decode cX11_goes 184 = .ok (.iload 4, 2) := dk_21 4 (dk_at dksX11_goes_7 20 rfl rfl)
theorem dX11_goes_186 : decode cX11_goes 186 = .ok (.iconst (-1), 1) := dk_2 (dk_at dksX11_goes_7 22 rfl rfl)
theorem dX11_goes_187 : decode cX11_goes 187 = .ok (.if_icmp .ne 6, 3) := dk_160 0 6 (dk_at dksX11_goes_8 0 rfl rfl)
theorem dX11_goes_190 : decode cX11_goes 190 = .ok (.goto (-29), 3) := dk_167 255 227 (dk_at dksX11_goes_8 3 rfl rfl)
theorem dX11_goes_193 : decode cX11_goes 193 = .ok (.aload_n 0, 1) := dk_42 (dk_at dksX11_goes_8 6 rfl rfl)
theorem dX11_goes_194 : decode cX11_goes 194 = .ok (.aload_n 1, 1) := dk_43 (dk_at dksX11_goes_8 7 rfl rfl)
theorem dX11_goes_195 : decode cX11_goes 195 = .ok (.iload_n 3, 1) := dk_29 (dk_at dksX11_goes_8 8 rfl rfl)
theorem dX11_goes_196 : decode cX11_goes 196 = .ok (.iload 4, 2) := dk_21 4 (dk_at dksX11_goes_8 9 rfl rfl)
theorem dX11_goes_198 : decode cX11_goes 198 = .ok (.invokevirtual 382, 3) := dk_182 1 126 (dk_at dksX11_goes_8 11 rfl rfl)
theorem dX11_goes_201 : decode cX11_goes 201 = .ok (.aload_n 1, 1) := dk_43 (dk_at dksX11_goes_8 14 rfl rfl)
theorem dX11_goes_202 : decode cX11_goes 202 = .ok (.bipush 97, 2) := dk_16 97 (dk_at dksX11_goes_8 15 rfl rfl)
theorem dX11_goes_204 : decode cX11_goes 204 = .ok (.iload 4, 2) := dk_21 4 (dk_at dksX11_goes_8 17 rfl rfl)
theorem dX11_goes_206 : decode cX11_goes 206 = .ok (.iadd, 1) := dk_96 (dk_at dksX11_goes_8 19 rfl rfl)
theorem dX11_goes_207 : decode cX11_goes 207 = .ok (.aload_n 1, 1) := dk_43 (dk_at dksX11_goes_8 20 rfl rfl)
theorem dX11_goes_208 : decode cX11_goes 208 = .ok (.bipush 97, 2) := dk_16 97 (dk_at dksX11_goes_8 21 rfl rfl)
theorem dX11_goes_210 : decode cX11_goes 210 = .ok (.iload 4, 2) := dk_21 4 (dk_at dksX11_goes_9 0 rfl rfl)
theorem dX11_goes_212 : decode cX11_goes 212 = .ok (.iadd, 1) := dk_96 (dk_at dksX11_goes_9 2 rfl rfl)
theorem dX11_goes_213 : decode cX11_goes 213 = .ok (.iaload, 1) := dk_46 (dk_at dksX11_goes_9 3 rfl rfl)
theorem dX11_goes_214 : decode cX11_goes 214 = .ok (.iconst (-1), 1) := dk_2 (dk_at dksX11_goes_9 4 rfl rfl)
theorem dX11_goes_215 : decode cX11_goes 215 = .ok (.if_icmp .ne 7, 3) := dk_160 0 7 (dk_at dksX11_goes_9 5 rfl rfl)
theorem dX11_goes_218 : decode cX11_goes 218 = .ok (.iload_n 3, 1) := dk_29 (dk_at dksX11_goes_9 8 rfl rfl)
theorem dX11_goes_219 : decode cX11_goes 219 = .ok (.goto 10, 3) := dk_167 0 10 (dk_at dksX11_goes_9 9 rfl rfl)
theorem dX11_goes_222 : decode cX11_goes 222 = .ok (.aload_n 1, 1) := dk_43 (dk_at dksX11_goes_9 12 rfl rfl)
theorem dX11_goes_223 : decode cX11_goes 223 = .ok (.bipush 97, 2) := dk_16 97 (dk_at dksX11_goes_9 13 rfl rfl)
theorem dX11_goes_225 : decode cX11_goes 225 = .ok (.iload 4, 2) := dk_21 4 (dk_at dksX11_goes_9 15 rfl rfl)
theorem dX11_goes_227 : decode cX11_goes 227 = .ok (.iadd, 1) := dk_96 (dk_at dksX11_goes_9 17 rfl rfl)
theorem dX11_goes_228 : decode cX11_goes 228 = .ok (.iaload, 1) := dk_46 (dk_at dksX11_goes_9 18 rfl rfl)
theorem dX11_goes_229 : decode cX11_goes 229 = .ok (.iastore, 1) := dk_79 (dk_at dksX11_goes_9 19 rfl rfl)
theorem dX11_goes_230 : decode cX11_goes 230 = .ok (.goto (-69), 3) := dk_167 255 187 (dk_at dksX11_goes_9 20 rfl rfl)
theorem dX11_goes_233 : decode cX11_goes 233 = .ok (.iinc 3 1, 3) := dk_132 3 1 (dk_at dksX11_goes_10 0 rfl rfl)
theorem dX11_goes_236 : decode cX11_goes 236 = .ok (.goto (-88), 3) := dk_167 255 168 (dk_at dksX11_goes_10 3 rfl rfl)
theorem dX11_goes_239 : decode cX11_goes 239 = .ok (.iconst 0, 1) := dk_3 (dk_at dksX11_goes_10 6 rfl rfl)
theorem dX11_goes_240 : decode cX11_goes 240 = .ok (.istore_n 3, 1) := dk_62 (dk_at dksX11_goes_10 7 rfl rfl)
theorem dX11_goes_241 : decode cX11_goes 241 = .ok (.iload_n 3, 1) := dk_29 (dk_at dksX11_goes_10 8 rfl rfl)
theorem dX11_goes_242 : decode cX11_goes 242 = .ok (.aload_n 0, 1) := dk_42 (dk_at dksX11_goes_10 9 rfl rfl)
theorem dX11_goes_243 : decode cX11_goes 243 = .ok (.getfield 23, 3) := dk_180 0 23 (dk_at dksX11_goes_10 10 rfl rfl)
theorem dX11_goes_246 : decode cX11_goes 246 = .ok (.iconst 1, 1) := dk_4 (dk_at dksX11_goes_10 13 rfl rfl)
theorem dX11_goes_247 : decode cX11_goes 247 = .ok (.iaload, 1) := dk_46 (dk_at dksX11_goes_10 14 rfl rfl)
theorem dX11_goes_248 : decode cX11_goes 248 = .ok (.if_icmp .ge 41, 3) := dk_162 0 41 (dk_at dksX11_goes_10 15 rfl rfl)
theorem dX11_goes_251 : decode cX11_goes 251 = .ok (.aload_n 0, 1) := dk_42 (dk_at dksX11_goes_10 18 rfl rfl)
theorem dX11_goes_252 : decode cX11_goes 252 = .ok (.aload_n 1, 1) := dk_43 (dk_at dksX11_goes_10 19 rfl rfl)
theorem dX11_goes_253 : decode cX11_goes 253 = .ok (.iload_n 3, 1) := dk_29 (dk_at dksX11_goes_10 20 rfl rfl)
theorem dX11_goes_254 : decode cX11_goes 254 = .ok (.invokevirtual 341, 3) := dk_182 1 85 (dk_at dksX11_goes_10 21 rfl rfl)
theorem dX11_goes_257 : decode cX11_goes 257 = .ok (.ifCond .ne 26, 3) := dk_154 0 26 (dk_at dksX11_goes_11 0 rfl rfl)
theorem dX11_goes_260 : decode cX11_goes 260 = .ok (.aload_n 1, 1) := dk_43 (dk_at dksX11_goes_11 3 rfl rfl)
theorem dX11_goes_261 : decode cX11_goes 261 = .ok (.bipush 9, 2) := dk_16 9 (dk_at dksX11_goes_11 4 rfl rfl)
theorem dX11_goes_263 : decode cX11_goes 263 = .ok (.iload_n 3, 1) := dk_29 (dk_at dksX11_goes_11 6 rfl rfl)
theorem dX11_goes_264 : decode cX11_goes 264 = .ok (.iadd, 1) := dk_96 (dk_at dksX11_goes_11 7 rfl rfl)
theorem dX11_goes_265 : decode cX11_goes 265 = .ok (.iconst 0, 1) := dk_3 (dk_at dksX11_goes_11 8 rfl rfl)
theorem dX11_goes_266 : decode cX11_goes 266 = .ok (.aload_n 1, 1) := dk_43 (dk_at dksX11_goes_11 9 rfl rfl)
theorem dX11_goes_267 : decode cX11_goes 267 = .ok (.bipush 9, 2) := dk_16 9 (dk_at dksX11_goes_11 10 rfl rfl)
theorem dX11_goes_269 : decode cX11_goes 269 = .ok (.iload_n 3, 1) := dk_29 (dk_at dksX11_goes_11 12 rfl rfl)
theorem dX11_goes_270 : decode cX11_goes 270 = .ok (.iadd, 1) := dk_96 (dk_at dksX11_goes_11 13 rfl rfl)
theorem dX11_goes_271 : decode cX11_goes 271 = .ok (.iaload, 1) := dk_46 (dk_at dksX11_goes_11 14 rfl rfl)
theorem dX11_goes_272 : decode cX11_goes 272 = .ok (.aload_n 0, 1) := dk_42 (dk_at dksX11_goes_11 15 rfl rfl)
theorem dX11_goes_273 : decode cX11_goes 273 = .ok (.getfield 23, 3) := dk_180 0 23 (dk_at dksX11_goes_11 16 rfl rfl)
theorem dX11_goes_276 : decode cX11_goes 276 = .ok (.iconst 3, 1) := dk_6 (dk_at dksX11_goes_11 19 rfl rfl)
theorem dX11_goes_277 : decode cX11_goes 277 = .ok (.iaload, 1) := dk_46 (dk_at dksX11_goes_11 20 rfl rfl)
theorem dX11_goes_278 : decode cX11_goes 278 = .ok (.isub, 1) := dk_100 (dk_at dksX11_goes_11 21 rfl rfl)
theorem dX11_goes_279 : decode cX11_goes 279 = .ok (.invokestatic 313, 3) := dk_184 1 57 (dk_at dksX11_goes_12 0 rfl rfl)
theorem dX11_goes_282 : decode cX11_goes 282 = .ok (.iastore, 1) := dk_79 (dk_at dksX11_goes_12 3 rfl rfl)
theorem dX11_goes_283 : decode cX11_goes 283 = .ok (.iinc 3 1, 3) := dk_132 3 1 (dk_at dksX11_goes_12 4 rfl rfl)
theorem dX11_goes_286 : decode cX11_goes 286 = .ok (.goto (-45), 3) := dk_167 255 211 (dk_at dksX11_goes_12 7 rfl rfl)
theorem dX11_goes_289 : decode cX11_goes 289 = .ok (.return_, 1) := dk_177 (dk_at dksX11_goes_12 10 rfl rfl)
abbrev cX11_diesOf : ByteArray := prog_22_method_74_code
def yX11_diesOf : MethodName := ⟨RX11, "diesOf", "([II)V"⟩
def dkwX11_diesOf_1 : List UInt8 := [96, 46, 28, 184, 0, 242, 153, 0, 10, 42, 43, 29, 28, 182, 1, 111, 132, 3, 1, 167, 255, 224, 177]
abbrev dktX11_diesOf_1 : List UInt8 := dkwX11_diesOf_1 ++ []
def dkwX11_diesOf_0 : List UInt8 := [43, 3, 92, 46, 4, 28, 120, 128, 79, 3, 62, 29, 42, 180, 0, 23, 4, 46, 162, 0, 28, 43, 4, 29]
abbrev dktX11_diesOf_0 : List UInt8 := dkwX11_diesOf_0 ++ dktX11_diesOf_1
theorem dksX11_diesOf_0 : cX11_diesOf.data.toList.drop 0 = dktX11_diesOf_0 := by decide +kernel
theorem dksX11_diesOf_1 : cX11_diesOf.data.toList.drop 24 = dktX11_diesOf_1 := dk_seg dksX11_diesOf_0 24 rfl rfl
theorem dX11_diesOf_0 : decode cX11_diesOf 0 = .ok (.aload_n 1, 1) := dk_43 (dk_at dksX11_diesOf_0 0 rfl rfl)
theorem dX11_diesOf_1 : decode cX11_diesOf 1 = .ok (.iconst 0, 1) := dk_3 (dk_at dksX11_diesOf_0 1 rfl rfl)
theorem dX11_diesOf_2 : decode cX11_diesOf 2 = .ok (.dup2, 1) := dk_92 (dk_at dksX11_diesOf_0 2 rfl rfl)
theorem dX11_diesOf_3 : decode cX11_diesOf 3 = .ok (.iaload, 1) := dk_46 (dk_at dksX11_diesOf_0 3 rfl rfl)
theorem dX11_diesOf_4 : decode cX11_diesOf 4 = .ok (.iconst 1, 1) := dk_4 (dk_at dksX11_diesOf_0 4 rfl rfl)
theorem dX11_diesOf_5 : decode cX11_diesOf 5 = .ok (.iload_n 2, 1) := dk_28 (dk_at dksX11_diesOf_0 5 rfl rfl)
theorem dX11_diesOf_6 : decode cX11_diesOf 6 = .ok (.ishl, 1) := dk_120 (dk_at dksX11_diesOf_0 6 rfl rfl)
theorem dX11_diesOf_7 : decode cX11_diesOf 7 = .ok (.ior, 1) := dk_128 (dk_at dksX11_diesOf_0 7 rfl rfl)
theorem dX11_diesOf_8 : decode cX11_diesOf 8 = .ok (.iastore, 1) := dk_79 (dk_at dksX11_diesOf_0 8 rfl rfl)
theorem dX11_diesOf_9 : decode cX11_diesOf 9 = .ok (.iconst 0, 1) := dk_3 (dk_at dksX11_diesOf_0 9 rfl rfl)
theorem dX11_diesOf_10 : decode cX11_diesOf 10 = .ok (.istore_n 3, 1) := dk_62 (dk_at dksX11_diesOf_0 10 rfl rfl)
theorem dX11_diesOf_11 : decode cX11_diesOf 11 = .ok (.iload_n 3, 1) := dk_29 (dk_at dksX11_diesOf_0 11 rfl rfl)
theorem dX11_diesOf_12 : decode cX11_diesOf 12 = .ok (.aload_n 0, 1) := dk_42 (dk_at dksX11_diesOf_0 12 rfl rfl)
theorem dX11_diesOf_13 : decode cX11_diesOf 13 = .ok (.getfield 23, 3) := dk_180 0 23 (dk_at dksX11_diesOf_0 13 rfl rfl)
theorem dX11_diesOf_16 : decode cX11_diesOf 16 = .ok (.iconst 1, 1) := dk_4 (dk_at dksX11_diesOf_0 16 rfl rfl)
theorem dX11_diesOf_17 : decode cX11_diesOf 17 = .ok (.iaload, 1) := dk_46 (dk_at dksX11_diesOf_0 17 rfl rfl)
theorem dX11_diesOf_18 : decode cX11_diesOf 18 = .ok (.if_icmp .ge 28, 3) := dk_162 0 28 (dk_at dksX11_diesOf_0 18 rfl rfl)
theorem dX11_diesOf_21 : decode cX11_diesOf 21 = .ok (.aload_n 1, 1) := dk_43 (dk_at dksX11_diesOf_0 21 rfl rfl)
theorem dX11_diesOf_22 : decode cX11_diesOf 22 = .ok (.iconst 1, 1) := dk_4 (dk_at dksX11_diesOf_0 22 rfl rfl)
theorem dX11_diesOf_23 : decode cX11_diesOf 23 = .ok (.iload_n 3, 1) := dk_29 (dk_at dksX11_diesOf_0 23 rfl rfl)
theorem dX11_diesOf_24 : decode cX11_diesOf 24 = .ok (.iadd, 1) := dk_96 (dk_at dksX11_diesOf_1 0 rfl rfl)
theorem dX11_diesOf_25 : decode cX11_diesOf 25 = .ok (.iaload, 1) := dk_46 (dk_at dksX11_diesOf_1 1 rfl rfl)
theorem dX11_diesOf_26 : decode cX11_diesOf 26 = .ok (.iload_n 2, 1) := dk_28 (dk_at dksX11_diesOf_1 2 rfl rfl)
theorem dX11_diesOf_27 : decode cX11_diesOf 27 = .ok (.invokestatic 242, 3) := dk_184 0 242 (dk_at dksX11_diesOf_1 3 rfl rfl)
theorem dX11_diesOf_30 : decode cX11_diesOf 30 = .ok (.ifCond .eq 10, 3) := dk_153 0 10 (dk_at dksX11_diesOf_1 6 rfl rfl)
theorem dX11_diesOf_33 : decode cX11_diesOf 33 = .ok (.aload_n 0, 1) := dk_42 (dk_at dksX11_diesOf_1 9 rfl rfl)
theorem dX11_diesOf_34 : decode cX11_diesOf 34 = .ok (.aload_n 1, 1) := dk_43 (dk_at dksX11_diesOf_1 10 rfl rfl)
theorem dX11_diesOf_35 : decode cX11_diesOf 35 = .ok (.iload_n 3, 1) := dk_29 (dk_at dksX11_diesOf_1 11 rfl rfl)
theorem dX11_diesOf_36 : decode cX11_diesOf 36 = .ok (.iload_n 2, 1) := dk_28 (dk_at dksX11_diesOf_1 12 rfl rfl)
theorem dX11_diesOf_37 : decode cX11_diesOf 37 = .ok (.invokevirtual 367, 3) := dk_182 1 111 (dk_at dksX11_diesOf_1 13 rfl rfl)
theorem dX11_diesOf_40 : decode cX11_diesOf 40 = .ok (.iinc 3 1, 3) := dk_132 3 1 (dk_at dksX11_diesOf_1 16 rfl rfl)
theorem dX11_diesOf_43 : decode cX11_diesOf 43 = .ok (.goto (-32), 3) := dk_167 255 224 (dk_at dksX11_diesOf_1 19 rfl rfl)
theorem dX11_diesOf_46 : decode cX11_diesOf 46 = .ok (.return_, 1) := dk_177 (dk_at dksX11_diesOf_1 22 rfl rfl)
abbrev cX11_ceases : ByteArray := prog_22_method_72_code
def yX11_ceases : MethodName := ⟨RX11, "ceases", "([III)V"⟩
def dkwX11_ceases_0 : List UInt8 := [43, 4, 28, 96, 92, 46, 4, 29, 120, 2, 130, 126, 79, 43, 16, 17, 28, 96, 29, 79, 177]
abbrev dktX11_ceases_0 : List UInt8 := dkwX11_ceases_0 ++ []
theorem dksX11_ceases_0 : cX11_ceases.data.toList.drop 0 = dktX11_ceases_0 := by decide +kernel
theorem dX11_ceases_0 : decode cX11_ceases 0 = .ok (.aload_n 1, 1) := dk_43 (dk_at dksX11_ceases_0 0 rfl rfl)
theorem dX11_ceases_1 : decode cX11_ceases 1 = .ok (.iconst 1, 1) := dk_4 (dk_at dksX11_ceases_0 1 rfl rfl)
theorem dX11_ceases_2 : decode cX11_ceases 2 = .ok (.iload_n 2, 1) := dk_28 (dk_at dksX11_ceases_0 2 rfl rfl)
theorem dX11_ceases_3 : decode cX11_ceases 3 = .ok (.iadd, 1) := dk_96 (dk_at dksX11_ceases_0 3 rfl rfl)
theorem dX11_ceases_4 : decode cX11_ceases 4 = .ok (.dup2, 1) := dk_92 (dk_at dksX11_ceases_0 4 rfl rfl)
theorem dX11_ceases_5 : decode cX11_ceases 5 = .ok (.iaload, 1) := dk_46 (dk_at dksX11_ceases_0 5 rfl rfl)
theorem dX11_ceases_6 : decode cX11_ceases 6 = .ok (.iconst 1, 1) := dk_4 (dk_at dksX11_ceases_0 6 rfl rfl)
theorem dX11_ceases_7 : decode cX11_ceases 7 = .ok (.iload_n 3, 1) := dk_29 (dk_at dksX11_ceases_0 7 rfl rfl)
theorem dX11_ceases_8 : decode cX11_ceases 8 = .ok (.ishl, 1) := dk_120 (dk_at dksX11_ceases_0 8 rfl rfl)
theorem dX11_ceases_9 : decode cX11_ceases 9 = .ok (.iconst (-1), 1) := dk_2 (dk_at dksX11_ceases_0 9 rfl rfl)
theorem dX11_ceases_10 : decode cX11_ceases 10 = .ok (.ixor, 1) := dk_130 (dk_at dksX11_ceases_0 10 rfl rfl)
theorem dX11_ceases_11 : decode cX11_ceases 11 = .ok (.iand, 1) := dk_126 (dk_at dksX11_ceases_0 11 rfl rfl)
theorem dX11_ceases_12 : decode cX11_ceases 12 = .ok (.iastore, 1) := dk_79 (dk_at dksX11_ceases_0 12 rfl rfl)
theorem dX11_ceases_13 : decode cX11_ceases 13 = .ok (.aload_n 1, 1) := dk_43 (dk_at dksX11_ceases_0 13 rfl rfl)
theorem dX11_ceases_14 : decode cX11_ceases 14 = .ok (.bipush 17, 2) := dk_16 17 (dk_at dksX11_ceases_0 14 rfl rfl)
theorem dX11_ceases_16 : decode cX11_ceases 16 = .ok (.iload_n 2, 1) := dk_28 (dk_at dksX11_ceases_0 16 rfl rfl)
theorem dX11_ceases_17 : decode cX11_ceases 17 = .ok (.iadd, 1) := dk_96 (dk_at dksX11_ceases_0 17 rfl rfl)
theorem dX11_ceases_18 : decode cX11_ceases 18 = .ok (.iload_n 3, 1) := dk_29 (dk_at dksX11_ceases_0 18 rfl rfl)
theorem dX11_ceases_19 : decode cX11_ceases 19 = .ok (.iastore, 1) := dk_79 (dk_at dksX11_ceases_0 19 rfl rfl)
theorem dX11_ceases_20 : decode cX11_ceases 20 = .ok (.return_, 1) := dk_177 (dk_at dksX11_ceases_0 20 rfl rfl)
abbrev cX11_begins : ByteArray := prog_22_method_73_code
def yX11_begins : MethodName := ⟨RX11, "begins", "([III)V"⟩
def dkwX11_begins_1 : List UInt8 := [46, 79, 177]
abbrev dktX11_begins_1 : List UInt8 := dkwX11_begins_1 ++ []
def dkwX11_begins_0 : List UInt8 := [43, 4, 28, 96, 92, 46, 4, 29, 120, 128, 79, 43, 16, 25, 16, 8, 29, 104, 96, 28, 96, 43, 16, 106]
abbrev dktX11_begins_0 : List UInt8 := dkwX11_begins_0 ++ dktX11_begins_1
theorem dksX11_begins_0 : cX11_begins.data.toList.drop 0 = dktX11_begins_0 := by decide +kernel
theorem dksX11_begins_1 : cX11_begins.data.toList.drop 24 = dktX11_begins_1 := dk_seg dksX11_begins_0 24 rfl rfl
theorem dX11_begins_0 : decode cX11_begins 0 = .ok (.aload_n 1, 1) := dk_43 (dk_at dksX11_begins_0 0 rfl rfl)
theorem dX11_begins_1 : decode cX11_begins 1 = .ok (.iconst 1, 1) := dk_4 (dk_at dksX11_begins_0 1 rfl rfl)
theorem dX11_begins_2 : decode cX11_begins 2 = .ok (.iload_n 2, 1) := dk_28 (dk_at dksX11_begins_0 2 rfl rfl)
theorem dX11_begins_3 : decode cX11_begins 3 = .ok (.iadd, 1) := dk_96 (dk_at dksX11_begins_0 3 rfl rfl)
theorem dX11_begins_4 : decode cX11_begins 4 = .ok (.dup2, 1) := dk_92 (dk_at dksX11_begins_0 4 rfl rfl)
theorem dX11_begins_5 : decode cX11_begins 5 = .ok (.iaload, 1) := dk_46 (dk_at dksX11_begins_0 5 rfl rfl)
theorem dX11_begins_6 : decode cX11_begins 6 = .ok (.iconst 1, 1) := dk_4 (dk_at dksX11_begins_0 6 rfl rfl)
theorem dX11_begins_7 : decode cX11_begins 7 = .ok (.iload_n 3, 1) := dk_29 (dk_at dksX11_begins_0 7 rfl rfl)
theorem dX11_begins_8 : decode cX11_begins 8 = .ok (.ishl, 1) := dk_120 (dk_at dksX11_begins_0 8 rfl rfl)
theorem dX11_begins_9 : decode cX11_begins 9 = .ok (.ior, 1) := dk_128 (dk_at dksX11_begins_0 9 rfl rfl)
theorem dX11_begins_10 : decode cX11_begins 10 = .ok (.iastore, 1) := dk_79 (dk_at dksX11_begins_0 10 rfl rfl)
theorem dX11_begins_11 : decode cX11_begins 11 = .ok (.aload_n 1, 1) := dk_43 (dk_at dksX11_begins_0 11 rfl rfl)
theorem dX11_begins_12 : decode cX11_begins 12 = .ok (.bipush 25, 2) := dk_16 25 (dk_at dksX11_begins_0 12 rfl rfl)
theorem dX11_begins_14 : decode cX11_begins 14 = .ok (.bipush 8, 2) := dk_16 8 (dk_at dksX11_begins_0 14 rfl rfl)
theorem dX11_begins_16 : decode cX11_begins 16 = .ok (.iload_n 3, 1) := dk_29 (dk_at dksX11_begins_0 16 rfl rfl)
theorem dX11_begins_17 : decode cX11_begins 17 = .ok (.imul, 1) := dk_104 (dk_at dksX11_begins_0 17 rfl rfl)
theorem dX11_begins_18 : decode cX11_begins 18 = .ok (.iadd, 1) := dk_96 (dk_at dksX11_begins_0 18 rfl rfl)
theorem dX11_begins_19 : decode cX11_begins 19 = .ok (.iload_n 2, 1) := dk_28 (dk_at dksX11_begins_0 19 rfl rfl)
theorem dX11_begins_20 : decode cX11_begins 20 = .ok (.iadd, 1) := dk_96 (dk_at dksX11_begins_0 20 rfl rfl)
theorem dX11_begins_21 : decode cX11_begins 21 = .ok (.aload_n 1, 1) := dk_43 (dk_at dksX11_begins_0 21 rfl rfl)
theorem dX11_begins_22 : decode cX11_begins 22 = .ok (.bipush 106, 2) := dk_16 106 (dk_at dksX11_begins_0 22 rfl rfl)
theorem dX11_begins_24 : decode cX11_begins 24 = .ok (.iaload, 1) := dk_46 (dk_at dksX11_begins_1 0 rfl rfl)
theorem dX11_begins_25 : decode cX11_begins 25 = .ok (.iastore, 1) := dk_79 (dk_at dksX11_begins_1 1 rfl rfl)
theorem dX11_begins_26 : decode cX11_begins 26 = .ok (.return_, 1) := dk_177 (dk_at dksX11_begins_1 2 rfl rfl)
abbrev cX11_undo : ByteArray := prog_22_method_77_code
def yX11_undo : MethodName := ⟨RX11, "undo", "(I)I"⟩
def dkwX11_undo_3 : List UInt8 := [180, 1, 26, 162, 0, 17, 42, 42, 180, 0, 91, 182, 1, 129, 132, 3, 1, 167, 255, 237, 28, 172]
abbrev dktX11_undo_3 : List UInt8 := dkwX11_undo_3 ++ []
def dkwX11_undo_2 : List UInt8 := [89, 180, 1, 26, 28, 100, 181, 1, 26, 42, 180, 0, 94, 42, 180, 0, 91, 184, 1, 10, 3, 62, 29, 42]
abbrev dktX11_undo_2 : List UInt8 := dkwX11_undo_2 ++ dktX11_undo_3
def dkwX11_undo_1 : List UInt8 := [182, 0, 249, 153, 0, 5, 3, 172, 27, 42, 180, 1, 26, 184, 0, 229, 61, 28, 154, 0, 5, 3, 172, 42]
abbrev dktX11_undo_1 : List UInt8 := dkwX11_undo_1 ++ dktX11_undo_2
def dkwX11_undo_0 : List UInt8 := [42, 3, 181, 0, 134, 42, 27, 4, 16, 60, 184, 0, 168, 154, 0, 7, 4, 167, 0, 4, 3, 4, 4]
abbrev dktX11_undo_0 : List UInt8 := dkwX11_undo_0 ++ dktX11_undo_1
theorem dksX11_undo_0 : cX11_undo.data.toList.drop 0 = dktX11_undo_0 := by decide +kernel
theorem dksX11_undo_1 : cX11_undo.data.toList.drop 23 = dktX11_undo_1 := dk_seg dksX11_undo_0 23 rfl rfl
theorem dksX11_undo_2 : cX11_undo.data.toList.drop 47 = dktX11_undo_2 := dk_seg dksX11_undo_1 24 rfl rfl
theorem dksX11_undo_3 : cX11_undo.data.toList.drop 71 = dktX11_undo_3 := dk_seg dksX11_undo_2 24 rfl rfl
theorem dX11_undo_0 : decode cX11_undo 0 = .ok (.aload_n 0, 1) := dk_42 (dk_at dksX11_undo_0 0 rfl rfl)
theorem dX11_undo_1 : decode cX11_undo 1 = .ok (.iconst 0, 1) := dk_3 (dk_at dksX11_undo_0 1 rfl rfl)
theorem dX11_undo_2 : decode cX11_undo 2 = .ok (.putfield 134, 3) := dk_181 0 134 (dk_at dksX11_undo_0 2 rfl rfl)
theorem dX11_undo_5 : decode cX11_undo 5 = .ok (.aload_n 0, 1) := dk_42 (dk_at dksX11_undo_0 5 rfl rfl)
theorem dX11_undo_6 : decode cX11_undo 6 = .ok (.iload_n 1, 1) := dk_27 (dk_at dksX11_undo_0 6 rfl rfl)
theorem dX11_undo_7 : decode cX11_undo 7 = .ok (.iconst 1, 1) := dk_4 (dk_at dksX11_undo_0 7 rfl rfl)
theorem dX11_undo_8 : decode cX11_undo 8 = .ok (.bipush 60, 2) := dk_16 60 (dk_at dksX11_undo_0 8 rfl rfl)
theorem dX11_undo_10 : decode cX11_undo 10 = .ok (.invokestatic 168, 3) := dk_184 0 168 (dk_at dksX11_undo_0 10 rfl rfl)
theorem dX11_undo_13 : decode cX11_undo 13 = .ok (.ifCond .ne 7, 3) := dk_154 0 7 (dk_at dksX11_undo_0 13 rfl rfl)
theorem dX11_undo_16 : decode cX11_undo 16 = .ok (.iconst 1, 1) := dk_4 (dk_at dksX11_undo_0 16 rfl rfl)
theorem dX11_undo_17 : decode cX11_undo 17 = .ok (.goto 4, 3) := dk_167 0 4 (dk_at dksX11_undo_0 17 rfl rfl)
theorem dX11_undo_20 : decode cX11_undo 20 = .ok (.iconst 0, 1) := dk_3 (dk_at dksX11_undo_0 20 rfl rfl)
theorem dX11_undo_21 : decode cX11_undo 21 = .ok (.iconst 1, 1) := dk_4 (dk_at dksX11_undo_0 21 rfl rfl)
theorem dX11_undo_22 : decode cX11_undo 22 = .ok (.iconst 1, 1) := dk_4 (dk_at dksX11_undo_0 22 rfl rfl)
theorem dX11_undo_23 : decode cX11_undo 23 = .ok (.invokevirtual 249, 3) := dk_182 0 249 (dk_at dksX11_undo_1 0 rfl rfl)
theorem dX11_undo_26 : decode cX11_undo 26 = .ok (.ifCond .eq 5, 3) := dk_153 0 5 (dk_at dksX11_undo_1 3 rfl rfl)
theorem dX11_undo_29 : decode cX11_undo 29 = .ok (.iconst 0, 1) := dk_3 (dk_at dksX11_undo_1 6 rfl rfl)
theorem dX11_undo_30 : decode cX11_undo 30 = .ok (.ireturn, 1) := dk_172 (dk_at dksX11_undo_1 7 rfl rfl)
theorem dX11_undo_31 : decode cX11_undo 31 = .ok (.iload_n 1, 1) := dk_27 (dk_at dksX11_undo_1 8 rfl rfl)
theorem dX11_undo_32 : decode cX11_undo 32 = .ok (.aload_n 0, 1) := dk_42 (dk_at dksX11_undo_1 9 rfl rfl)
theorem dX11_undo_33 : decode cX11_undo 33 = .ok (.getfield 282, 3) := dk_180 1 26 (dk_at dksX11_undo_1 10 rfl rfl)
theorem dX11_undo_36 : decode cX11_undo 36 = .ok (.invokestatic 229, 3) := dk_184 0 229 (dk_at dksX11_undo_1 13 rfl rfl)
theorem dX11_undo_39 : decode cX11_undo 39 = .ok (.istore_n 2, 1) := dk_61 (dk_at dksX11_undo_1 16 rfl rfl)
theorem dX11_undo_40 : decode cX11_undo 40 = .ok (.iload_n 2, 1) := dk_28 (dk_at dksX11_undo_1 17 rfl rfl)
theorem dX11_undo_41 : decode cX11_undo 41 = .ok (.ifCond .ne 5, 3) := dk_154 0 5 (dk_at dksX11_undo_1 18 rfl rfl)
theorem dX11_undo_44 : decode cX11_undo 44 = .ok (.iconst 0, 1) := dk_3 (dk_at dksX11_undo_1 21 rfl rfl)
theorem dX11_undo_45 : decode cX11_undo 45 = .ok (.ireturn, 1) := dk_172 (dk_at dksX11_undo_1 22 rfl rfl)
theorem dX11_undo_46 : decode cX11_undo 46 = .ok (.aload_n 0, 1) := dk_42 (dk_at dksX11_undo_1 23 rfl rfl)
theorem dX11_undo_47 : decode cX11_undo 47 = .ok (.dup, 1) := dk_89 (dk_at dksX11_undo_2 0 rfl rfl)
theorem dX11_undo_48 : decode cX11_undo 48 = .ok (.getfield 282, 3) := dk_180 1 26 (dk_at dksX11_undo_2 1 rfl rfl)
theorem dX11_undo_51 : decode cX11_undo 51 = .ok (.iload_n 2, 1) := dk_28 (dk_at dksX11_undo_2 4 rfl rfl)
theorem dX11_undo_52 : decode cX11_undo 52 = .ok (.isub, 1) := dk_100 (dk_at dksX11_undo_2 5 rfl rfl)
theorem dX11_undo_53 : decode cX11_undo 53 = .ok (.putfield 282, 3) := dk_181 1 26 (dk_at dksX11_undo_2 6 rfl rfl)
theorem dX11_undo_56 : decode cX11_undo 56 = .ok (.aload_n 0, 1) := dk_42 (dk_at dksX11_undo_2 9 rfl rfl)
theorem dX11_undo_57 : decode cX11_undo 57 = .ok (.getfield 94, 3) := dk_180 0 94 (dk_at dksX11_undo_2 10 rfl rfl)
theorem dX11_undo_60 : decode cX11_undo 60 = .ok (.aload_n 0, 1) := dk_42 (dk_at dksX11_undo_2 13 rfl rfl)
theorem dX11_undo_61 : decode cX11_undo 61 = .ok (.getfield 91, 3) := dk_180 0 91 (dk_at dksX11_undo_2 14 rfl rfl)
theorem dX11_undo_64 : decode cX11_undo 64 = .ok (.invokestatic 266, 3) := dk_184 1 10 (dk_at dksX11_undo_2 17 rfl rfl)
theorem dX11_undo_67 : decode cX11_undo 67 = .ok (.iconst 0, 1) := dk_3 (dk_at dksX11_undo_2 20 rfl rfl)
theorem dX11_undo_68 : decode cX11_undo 68 = .ok (.istore_n 3, 1) := dk_62 (dk_at dksX11_undo_2 21 rfl rfl)
theorem dX11_undo_69 : decode cX11_undo 69 = .ok (.iload_n 3, 1) := dk_29 (dk_at dksX11_undo_2 22 rfl rfl)
theorem dX11_undo_70 : decode cX11_undo 70 = .ok (.aload_n 0, 1) := dk_42 (dk_at dksX11_undo_2 23 rfl rfl)
theorem dX11_undo_71 : decode cX11_undo 71 = .ok (.getfield 282, 3) := dk_180 1 26 (dk_at dksX11_undo_3 0 rfl rfl)
theorem dX11_undo_74 : decode cX11_undo 74 = .ok (.if_icmp .ge 17, 3) := dk_162 0 17 (dk_at dksX11_undo_3 3 rfl rfl)
theorem dX11_undo_77 : decode cX11_undo 77 = .ok (.aload_n 0, 1) := dk_42 (dk_at dksX11_undo_3 6 rfl rfl)
theorem dX11_undo_78 : decode cX11_undo 78 = .ok (.aload_n 0, 1) := dk_42 (dk_at dksX11_undo_3 7 rfl rfl)
theorem dX11_undo_79 : decode cX11_undo 79 = .ok (.getfield 91, 3) := dk_180 0 91 (dk_at dksX11_undo_3 8 rfl rfl)
theorem dX11_undo_82 : decode cX11_undo 82 = .ok (.invokevirtual 385, 3) := dk_182 1 129 (dk_at dksX11_undo_3 11 rfl rfl)
theorem dX11_undo_85 : decode cX11_undo 85 = .ok (.iinc 3 1, 3) := dk_132 3 1 (dk_at dksX11_undo_3 14 rfl rfl)
theorem dX11_undo_88 : decode cX11_undo 88 = .ok (.goto (-19), 3) := dk_167 255 237 (dk_at dksX11_undo_3 17 rfl rfl)
theorem dX11_undo_91 : decode cX11_undo 91 = .ok (.iload_n 2, 1) := dk_28 (dk_at dksX11_undo_3 20 rfl rfl)
theorem dX11_undo_92 : decode cX11_undo 92 = .ok (.ireturn, 1) := dk_172 (dk_at dksX11_undo_3 21 rfl rfl)
abbrev cX11_since : ByteArray := prog_22_method_78_code
def yX11_since : MethodName := ⟨RX11, "since", "(II)I"⟩
def dkwX11_since_2 : List UInt8 := [96, 28, 96, 46, 172]
abbrev dktX11_since_2 : List UInt8 := dkwX11_since_2 ++ []
def dkwX11_since_1 : List UInt8 := [167, 0, 4, 3, 4, 3, 182, 0, 249, 153, 0, 5, 3, 172, 42, 180, 0, 91, 16, 25, 16, 8, 27, 104]
abbrev dktX11_since_1 : List UInt8 := dkwX11_since_1 ++ dktX11_since_2
def dkwX11_since_0 : List UInt8 := [42, 3, 181, 0, 134, 42, 42, 27, 182, 1, 75, 153, 0, 11, 42, 28, 182, 1, 82, 154, 0, 7, 4]
abbrev dktX11_since_0 : List UInt8 := dkwX11_since_0 ++ dktX11_since_1
theorem dksX11_since_0 : cX11_since.data.toList.drop 0 = dktX11_since_0 := by decide +kernel
theorem dksX11_since_1 : cX11_since.data.toList.drop 23 = dktX11_since_1 := dk_seg dksX11_since_0 23 rfl rfl
theorem dksX11_since_2 : cX11_since.data.toList.drop 47 = dktX11_since_2 := dk_seg dksX11_since_1 24 rfl rfl
theorem dX11_since_0 : decode cX11_since 0 = .ok (.aload_n 0, 1) := dk_42 (dk_at dksX11_since_0 0 rfl rfl)
theorem dX11_since_1 : decode cX11_since 1 = .ok (.iconst 0, 1) := dk_3 (dk_at dksX11_since_0 1 rfl rfl)
theorem dX11_since_2 : decode cX11_since 2 = .ok (.putfield 134, 3) := dk_181 0 134 (dk_at dksX11_since_0 2 rfl rfl)
theorem dX11_since_5 : decode cX11_since 5 = .ok (.aload_n 0, 1) := dk_42 (dk_at dksX11_since_0 5 rfl rfl)
theorem dX11_since_6 : decode cX11_since 6 = .ok (.aload_n 0, 1) := dk_42 (dk_at dksX11_since_0 6 rfl rfl)
theorem dX11_since_7 : decode cX11_since 7 = .ok (.iload_n 1, 1) := dk_27 (dk_at dksX11_since_0 7 rfl rfl)
theorem dX11_since_8 : decode cX11_since 8 = .ok (.invokevirtual 331, 3) := dk_182 1 75 (dk_at dksX11_since_0 8 rfl rfl)
theorem dX11_since_11 : decode cX11_since 11 = .ok (.ifCond .eq 11, 3) := dk_153 0 11 (dk_at dksX11_since_0 11 rfl rfl)
theorem dX11_since_14 : decode cX11_since 14 = .ok (.aload_n 0, 1) := dk_42 (dk_at dksX11_since_0 14 rfl rfl)
theorem dX11_since_15 : decode cX11_since 15 = .ok (.iload_n 2, 1) := dk_28 (dk_at dksX11_since_0 15 rfl rfl)
theorem dX11_since_16 : decode cX11_since 16 = .ok (.invokevirtual 338, 3) := dk_182 1 82 (dk_at dksX11_since_0 16 rfl rfl)
theorem dX11_since_19 : decode cX11_since 19 = .ok (.ifCond .ne 7, 3) := dk_154 0 7 (dk_at dksX11_since_0 19 rfl rfl)
theorem dX11_since_22 : decode cX11_since 22 = .ok (.iconst 1, 1) := dk_4 (dk_at dksX11_since_0 22 rfl rfl)
theorem dX11_since_23 : decode cX11_since 23 = .ok (.goto 4, 3) := dk_167 0 4 (dk_at dksX11_since_1 0 rfl rfl)
theorem dX11_since_26 : decode cX11_since 26 = .ok (.iconst 0, 1) := dk_3 (dk_at dksX11_since_1 3 rfl rfl)
theorem dX11_since_27 : decode cX11_since 27 = .ok (.iconst 1, 1) := dk_4 (dk_at dksX11_since_1 4 rfl rfl)
theorem dX11_since_28 : decode cX11_since 28 = .ok (.iconst 0, 1) := dk_3 (dk_at dksX11_since_1 5 rfl rfl)
theorem dX11_since_29 : decode cX11_since 29 = .ok (.invokevirtual 249, 3) := dk_182 0 249 (dk_at dksX11_since_1 6 rfl rfl)
theorem dX11_since_32 : decode cX11_since 32 = .ok (.ifCond .eq 5, 3) := dk_153 0 5 (dk_at dksX11_since_1 9 rfl rfl)
theorem dX11_since_35 : decode cX11_since 35 = .ok (.iconst 0, 1) := dk_3 (dk_at dksX11_since_1 12 rfl rfl)
theorem dX11_since_36 : decode cX11_since 36 = .ok (.ireturn, 1) := dk_172 (dk_at dksX11_since_1 13 rfl rfl)
theorem dX11_since_37 : decode cX11_since 37 = .ok (.aload_n 0, 1) := dk_42 (dk_at dksX11_since_1 14 rfl rfl)
theorem dX11_since_38 : decode cX11_since 38 = .ok (.getfield 91, 3) := dk_180 0 91 (dk_at dksX11_since_1 15 rfl rfl)
theorem dX11_since_41 : decode cX11_since 41 = .ok (.bipush 25, 2) := dk_16 25 (dk_at dksX11_since_1 18 rfl rfl)
theorem dX11_since_43 : decode cX11_since 43 = .ok (.bipush 8, 2) := dk_16 8 (dk_at dksX11_since_1 20 rfl rfl)
theorem dX11_since_45 : decode cX11_since 45 = .ok (.iload_n 1, 1) := dk_27 (dk_at dksX11_since_1 22 rfl rfl)
theorem dX11_since_46 : decode cX11_since 46 = .ok (.imul, 1) := dk_104 (dk_at dksX11_since_1 23 rfl rfl)
theorem dX11_since_47 : decode cX11_since 47 = .ok (.iadd, 1) := dk_96 (dk_at dksX11_since_2 0 rfl rfl)
theorem dX11_since_48 : decode cX11_since 48 = .ok (.iload_n 2, 1) := dk_28 (dk_at dksX11_since_2 1 rfl rfl)
theorem dX11_since_49 : decode cX11_since 49 = .ok (.iadd, 1) := dk_96 (dk_at dksX11_since_2 2 rfl rfl)
theorem dX11_since_50 : decode cX11_since 50 = .ok (.iaload, 1) := dk_46 (dk_at dksX11_since_2 3 rfl rfl)
theorem dX11_since_51 : decode cX11_since 51 = .ok (.ireturn, 1) := dk_172 (dk_at dksX11_since_2 4 rfl rfl)
abbrev cX11_chose : ByteArray := prog_22_method_79_code
def yX11_chose : MethodName := ⟨RX11, "chose", "(I)I"⟩
def dkwX11_chose_1 : List UInt8 := [153, 0, 5, 3, 172, 42, 180, 0, 91, 16, 97, 27, 96, 46, 172]
abbrev dktX11_chose_1 : List UInt8 := dkwX11_chose_1 ++ []
def dkwX11_chose_0 : List UInt8 := [42, 3, 181, 0, 134, 42, 42, 27, 182, 1, 75, 154, 0, 7, 4, 167, 0, 4, 3, 4, 3, 182, 0, 249]
abbrev dktX11_chose_0 : List UInt8 := dkwX11_chose_0 ++ dktX11_chose_1
theorem dksX11_chose_0 : cX11_chose.data.toList.drop 0 = dktX11_chose_0 := by decide +kernel
theorem dksX11_chose_1 : cX11_chose.data.toList.drop 24 = dktX11_chose_1 := dk_seg dksX11_chose_0 24 rfl rfl
theorem dX11_chose_0 : decode cX11_chose 0 = .ok (.aload_n 0, 1) := dk_42 (dk_at dksX11_chose_0 0 rfl rfl)
theorem dX11_chose_1 : decode cX11_chose 1 = .ok (.iconst 0, 1) := dk_3 (dk_at dksX11_chose_0 1 rfl rfl)
theorem dX11_chose_2 : decode cX11_chose 2 = .ok (.putfield 134, 3) := dk_181 0 134 (dk_at dksX11_chose_0 2 rfl rfl)
theorem dX11_chose_5 : decode cX11_chose 5 = .ok (.aload_n 0, 1) := dk_42 (dk_at dksX11_chose_0 5 rfl rfl)
theorem dX11_chose_6 : decode cX11_chose 6 = .ok (.aload_n 0, 1) := dk_42 (dk_at dksX11_chose_0 6 rfl rfl)
theorem dX11_chose_7 : decode cX11_chose 7 = .ok (.iload_n 1, 1) := dk_27 (dk_at dksX11_chose_0 7 rfl rfl)
theorem dX11_chose_8 : decode cX11_chose 8 = .ok (.invokevirtual 331, 3) := dk_182 1 75 (dk_at dksX11_chose_0 8 rfl rfl)
theorem dX11_chose_11 : decode cX11_chose 11 = .ok (.ifCond .ne 7, 3) := dk_154 0 7 (dk_at dksX11_chose_0 11 rfl rfl)
theorem dX11_chose_14 : decode cX11_chose 14 = .ok (.iconst 1, 1) := dk_4 (dk_at dksX11_chose_0 14 rfl rfl)
theorem dX11_chose_15 : decode cX11_chose 15 = .ok (.goto 4, 3) := dk_167 0 4 (dk_at dksX11_chose_0 15 rfl rfl)
theorem dX11_chose_18 : decode cX11_chose 18 = .ok (.iconst 0, 1) := dk_3 (dk_at dksX11_chose_0 18 rfl rfl)
theorem dX11_chose_19 : decode cX11_chose 19 = .ok (.iconst 1, 1) := dk_4 (dk_at dksX11_chose_0 19 rfl rfl)
theorem dX11_chose_20 : decode cX11_chose 20 = .ok (.iconst 0, 1) := dk_3 (dk_at dksX11_chose_0 20 rfl rfl)
theorem dX11_chose_21 : decode cX11_chose 21 = .ok (.invokevirtual 249, 3) := dk_182 0 249 (dk_at dksX11_chose_0 21 rfl rfl)
theorem dX11_chose_24 : decode cX11_chose 24 = .ok (.ifCond .eq 5, 3) := dk_153 0 5 (dk_at dksX11_chose_1 0 rfl rfl)
theorem dX11_chose_27 : decode cX11_chose 27 = .ok (.iconst 0, 1) := dk_3 (dk_at dksX11_chose_1 3 rfl rfl)
theorem dX11_chose_28 : decode cX11_chose 28 = .ok (.ireturn, 1) := dk_172 (dk_at dksX11_chose_1 4 rfl rfl)
theorem dX11_chose_29 : decode cX11_chose 29 = .ok (.aload_n 0, 1) := dk_42 (dk_at dksX11_chose_1 5 rfl rfl)
theorem dX11_chose_30 : decode cX11_chose 30 = .ok (.getfield 91, 3) := dk_180 0 91 (dk_at dksX11_chose_1 6 rfl rfl)
theorem dX11_chose_33 : decode cX11_chose 33 = .ok (.bipush 97, 2) := dk_16 97 (dk_at dksX11_chose_1 9 rfl rfl)
theorem dX11_chose_35 : decode cX11_chose 35 = .ok (.iload_n 1, 1) := dk_27 (dk_at dksX11_chose_1 11 rfl rfl)
theorem dX11_chose_36 : decode cX11_chose 36 = .ok (.iadd, 1) := dk_96 (dk_at dksX11_chose_1 12 rfl rfl)
theorem dX11_chose_37 : decode cX11_chose 37 = .ok (.iaload, 1) := dk_46 (dk_at dksX11_chose_1 13 rfl rfl)
theorem dX11_chose_38 : decode cX11_chose 38 = .ok (.ireturn, 1) := dk_172 (dk_at dksX11_chose_1 14 rfl rfl)
abbrev cX11_ahead : ByteArray := prog_22_method_80_code
def yX11_ahead : MethodName := ⟨RX11, "ahead", "(II)I"⟩
def dkwX11_ahead_3 : List UInt8 := [42, 180, 0, 100, 182, 1, 129, 132, 3, 1, 167, 255, 240, 42, 180, 0, 100, 4, 27, 96, 46, 172]
abbrev dktX11_ahead_3 : List UInt8 := dkwX11_ahead_3 ++ []
def dkwX11_ahead_2 : List UInt8 := [153, 0, 5, 3, 172, 42, 180, 0, 91, 42, 180, 0, 100, 184, 1, 10, 3, 62, 29, 28, 162, 0, 17, 42]
abbrev dktX11_ahead_2 : List UInt8 := dkwX11_ahead_2 ++ dktX11_ahead_3
def dkwX11_ahead_1 : List UInt8 := [154, 0, 27, 42, 28, 3, 16, 60, 184, 0, 168, 154, 0, 7, 4, 167, 0, 4, 3, 5, 4, 182, 0, 249]
abbrev dktX11_ahead_1 : List UInt8 := dkwX11_ahead_1 ++ dktX11_ahead_2
def dkwX11_ahead_0 : List UInt8 := [42, 3, 181, 0, 134, 42, 42, 27, 182, 1, 82, 154, 0, 7, 4, 167, 0, 4, 3, 4, 3, 182, 0, 249]
abbrev dktX11_ahead_0 : List UInt8 := dkwX11_ahead_0 ++ dktX11_ahead_1
theorem dksX11_ahead_0 : cX11_ahead.data.toList.drop 0 = dktX11_ahead_0 := by decide +kernel
theorem dksX11_ahead_1 : cX11_ahead.data.toList.drop 24 = dktX11_ahead_1 := dk_seg dksX11_ahead_0 24 rfl rfl
theorem dksX11_ahead_2 : cX11_ahead.data.toList.drop 48 = dktX11_ahead_2 := dk_seg dksX11_ahead_1 24 rfl rfl
theorem dksX11_ahead_3 : cX11_ahead.data.toList.drop 72 = dktX11_ahead_3 := dk_seg dksX11_ahead_2 24 rfl rfl
theorem dX11_ahead_0 : decode cX11_ahead 0 = .ok (.aload_n 0, 1) := dk_42 (dk_at dksX11_ahead_0 0 rfl rfl)
theorem dX11_ahead_1 : decode cX11_ahead 1 = .ok (.iconst 0, 1) := dk_3 (dk_at dksX11_ahead_0 1 rfl rfl)
theorem dX11_ahead_2 : decode cX11_ahead 2 = .ok (.putfield 134, 3) := dk_181 0 134 (dk_at dksX11_ahead_0 2 rfl rfl)
theorem dX11_ahead_5 : decode cX11_ahead 5 = .ok (.aload_n 0, 1) := dk_42 (dk_at dksX11_ahead_0 5 rfl rfl)
theorem dX11_ahead_6 : decode cX11_ahead 6 = .ok (.aload_n 0, 1) := dk_42 (dk_at dksX11_ahead_0 6 rfl rfl)
theorem dX11_ahead_7 : decode cX11_ahead 7 = .ok (.iload_n 1, 1) := dk_27 (dk_at dksX11_ahead_0 7 rfl rfl)
theorem dX11_ahead_8 : decode cX11_ahead 8 = .ok (.invokevirtual 338, 3) := dk_182 1 82 (dk_at dksX11_ahead_0 8 rfl rfl)
theorem dX11_ahead_11 : decode cX11_ahead 11 = .ok (.ifCond .ne 7, 3) := dk_154 0 7 (dk_at dksX11_ahead_0 11 rfl rfl)
theorem dX11_ahead_14 : decode cX11_ahead 14 = .ok (.iconst 1, 1) := dk_4 (dk_at dksX11_ahead_0 14 rfl rfl)
theorem dX11_ahead_15 : decode cX11_ahead 15 = .ok (.goto 4, 3) := dk_167 0 4 (dk_at dksX11_ahead_0 15 rfl rfl)
theorem dX11_ahead_18 : decode cX11_ahead 18 = .ok (.iconst 0, 1) := dk_3 (dk_at dksX11_ahead_0 18 rfl rfl)
theorem dX11_ahead_19 : decode cX11_ahead 19 = .ok (.iconst 1, 1) := dk_4 (dk_at dksX11_ahead_0 19 rfl rfl)
theorem dX11_ahead_20 : decode cX11_ahead 20 = .ok (.iconst 0, 1) := dk_3 (dk_at dksX11_ahead_0 20 rfl rfl)
theorem dX11_ahead_21 : decode cX11_ahead 21 = .ok (.invokevirtual 249, 3) := dk_182 0 249 (dk_at dksX11_ahead_0 21 rfl rfl)
theorem dX11_ahead_24 : decode cX11_ahead 24 = .ok (.ifCond .ne 27, 3) := dk_154 0 27 (dk_at dksX11_ahead_1 0 rfl rfl)
theorem dX11_ahead_27 : decode cX11_ahead 27 = .ok (.aload_n 0, 1) := dk_42 (dk_at dksX11_ahead_1 3 rfl rfl)
theorem dX11_ahead_28 : decode cX11_ahead 28 = .ok (.iload_n 2, 1) := dk_28 (dk_at dksX11_ahead_1 4 rfl rfl)
theorem dX11_ahead_29 : decode cX11_ahead 29 = .ok (.iconst 0, 1) := dk_3 (dk_at dksX11_ahead_1 5 rfl rfl)
theorem dX11_ahead_30 : decode cX11_ahead 30 = .ok (.bipush 60, 2) := dk_16 60 (dk_at dksX11_ahead_1 6 rfl rfl)
theorem dX11_ahead_32 : decode cX11_ahead 32 = .ok (.invokestatic 168, 3) := dk_184 0 168 (dk_at dksX11_ahead_1 8 rfl rfl)
theorem dX11_ahead_35 : decode cX11_ahead 35 = .ok (.ifCond .ne 7, 3) := dk_154 0 7 (dk_at dksX11_ahead_1 11 rfl rfl)
theorem dX11_ahead_38 : decode cX11_ahead 38 = .ok (.iconst 1, 1) := dk_4 (dk_at dksX11_ahead_1 14 rfl rfl)
theorem dX11_ahead_39 : decode cX11_ahead 39 = .ok (.goto 4, 3) := dk_167 0 4 (dk_at dksX11_ahead_1 15 rfl rfl)
theorem dX11_ahead_42 : decode cX11_ahead 42 = .ok (.iconst 0, 1) := dk_3 (dk_at dksX11_ahead_1 18 rfl rfl)
theorem dX11_ahead_43 : decode cX11_ahead 43 = .ok (.iconst 2, 1) := dk_5 (dk_at dksX11_ahead_1 19 rfl rfl)
theorem dX11_ahead_44 : decode cX11_ahead 44 = .ok (.iconst 1, 1) := dk_4 (dk_at dksX11_ahead_1 20 rfl rfl)
theorem dX11_ahead_45 : decode cX11_ahead 45 = .ok (.invokevirtual 249, 3) := dk_182 0 249 (dk_at dksX11_ahead_1 21 rfl rfl)
theorem dX11_ahead_48 : decode cX11_ahead 48 = .ok (.ifCond .eq 5, 3) := dk_153 0 5 (dk_at dksX11_ahead_2 0 rfl rfl)
theorem dX11_ahead_51 : decode cX11_ahead 51 = .ok (.iconst 0, 1) := dk_3 (dk_at dksX11_ahead_2 3 rfl rfl)
theorem dX11_ahead_52 : decode cX11_ahead 52 = .ok (.ireturn, 1) := dk_172 (dk_at dksX11_ahead_2 4 rfl rfl)
theorem dX11_ahead_53 : decode cX11_ahead 53 = .ok (.aload_n 0, 1) := dk_42 (dk_at dksX11_ahead_2 5 rfl rfl)
theorem dX11_ahead_54 : decode cX11_ahead 54 = .ok (.getfield 91, 3) := dk_180 0 91 (dk_at dksX11_ahead_2 6 rfl rfl)
theorem dX11_ahead_57 : decode cX11_ahead 57 = .ok (.aload_n 0, 1) := dk_42 (dk_at dksX11_ahead_2 9 rfl rfl)
theorem dX11_ahead_58 : decode cX11_ahead 58 = .ok (.getfield 100, 3) := dk_180 0 100 (dk_at dksX11_ahead_2 10 rfl rfl)
theorem dX11_ahead_61 : decode cX11_ahead 61 = .ok (.invokestatic 266, 3) := dk_184 1 10 (dk_at dksX11_ahead_2 13 rfl rfl)
theorem dX11_ahead_64 : decode cX11_ahead 64 = .ok (.iconst 0, 1) := dk_3 (dk_at dksX11_ahead_2 16 rfl rfl)
theorem dX11_ahead_65 : decode cX11_ahead 65 = .ok (.istore_n 3, 1) := dk_62 (dk_at dksX11_ahead_2 17 rfl rfl)
theorem dX11_ahead_66 : decode cX11_ahead 66 = .ok (.iload_n 3, 1) := dk_29 (dk_at dksX11_ahead_2 18 rfl rfl)
theorem dX11_ahead_67 : decode cX11_ahead 67 = .ok (.iload_n 2, 1) := dk_28 (dk_at dksX11_ahead_2 19 rfl rfl)
theorem dX11_ahead_68 : decode cX11_ahead 68 = .ok (.if_icmp .ge 17, 3) := dk_162 0 17 (dk_at dksX11_ahead_2 20 rfl rfl)
theorem dX11_ahead_71 : decode cX11_ahead 71 = .ok (.aload_n 0, 1) := dk_42 (dk_at dksX11_ahead_2 23 rfl rfl)
theorem dX11_ahead_72 : decode cX11_ahead 72 = .ok (.aload_n 0, 1) := dk_42 (dk_at dksX11_ahead_3 0 rfl rfl)
theorem dX11_ahead_73 : decode cX11_ahead 73 = .ok (.getfield 100, 3) := dk_180 0 100 (dk_at dksX11_ahead_3 1 rfl rfl)
theorem dX11_ahead_76 : decode cX11_ahead 76 = .ok (.invokevirtual 385, 3) := dk_182 1 129 (dk_at dksX11_ahead_3 4 rfl rfl)
theorem dX11_ahead_79 : decode cX11_ahead 79 = .ok (.iinc 3 1, 3) := dk_132 3 1 (dk_at dksX11_ahead_3 7 rfl rfl)
theorem dX11_ahead_82 : decode cX11_ahead 82 = .ok (.goto (-16), 3) := dk_167 255 240 (dk_at dksX11_ahead_3 10 rfl rfl)
theorem dX11_ahead_85 : decode cX11_ahead 85 = .ok (.aload_n 0, 1) := dk_42 (dk_at dksX11_ahead_3 13 rfl rfl)
theorem dX11_ahead_86 : decode cX11_ahead 86 = .ok (.getfield 100, 3) := dk_180 0 100 (dk_at dksX11_ahead_3 14 rfl rfl)
theorem dX11_ahead_89 : decode cX11_ahead 89 = .ok (.iconst 1, 1) := dk_4 (dk_at dksX11_ahead_3 17 rfl rfl)
theorem dX11_ahead_90 : decode cX11_ahead 90 = .ok (.iload_n 1, 1) := dk_27 (dk_at dksX11_ahead_3 18 rfl rfl)
theorem dX11_ahead_91 : decode cX11_ahead 91 = .ok (.iadd, 1) := dk_96 (dk_at dksX11_ahead_3 19 rfl rfl)
theorem dX11_ahead_92 : decode cX11_ahead 92 = .ok (.iaload, 1) := dk_46 (dk_at dksX11_ahead_3 20 rfl rfl)
theorem dX11_ahead_93 : decode cX11_ahead 93 = .ok (.ireturn, 1) := dk_172 (dk_at dksX11_ahead_3 21 rfl rfl)
abbrev cX11_when : ByteArray := prog_22_method_81_code
def yX11_when : MethodName := ⟨RX11, "when", "(II)I"⟩
def dkwX11_when_4 : List UInt8 := [2, 172]
abbrev dktX11_when_4 : List UInt8 := dkwX11_when_4 ++ []
def dkwX11_when_3 : List UInt8 := [28, 96, 46, 27, 184, 0, 242, 153, 0, 11, 42, 180, 0, 100, 16, 106, 46, 172, 132, 3, 1, 167, 255, 216]
abbrev dktX11_when_3 : List UInt8 := dkwX11_when_3 ++ dktX11_when_4
def dkwX11_when_2 : List UInt8 := [184, 1, 10, 3, 62, 29, 16, 60, 162, 0, 40, 42, 42, 180, 0, 100, 182, 1, 129, 42, 180, 0, 100, 4]
abbrev dktX11_when_2 : List UInt8 := dkwX11_when_2 ++ dktX11_when_3
def dkwX11_when_1 : List UInt8 := [167, 0, 4, 3, 4, 3, 182, 0, 249, 153, 0, 5, 3, 172, 42, 180, 0, 91, 42, 180, 0, 100]
abbrev dktX11_when_1 : List UInt8 := dkwX11_when_1 ++ dktX11_when_2
def dkwX11_when_0 : List UInt8 := [42, 3, 181, 0, 134, 42, 42, 27, 182, 1, 75, 153, 0, 11, 42, 28, 182, 1, 82, 154, 0, 7, 4]
abbrev dktX11_when_0 : List UInt8 := dkwX11_when_0 ++ dktX11_when_1
theorem dksX11_when_0 : cX11_when.data.toList.drop 0 = dktX11_when_0 := by decide +kernel
theorem dksX11_when_1 : cX11_when.data.toList.drop 23 = dktX11_when_1 := dk_seg dksX11_when_0 23 rfl rfl
theorem dksX11_when_2 : cX11_when.data.toList.drop 45 = dktX11_when_2 := dk_seg dksX11_when_1 22 rfl rfl
theorem dksX11_when_3 : cX11_when.data.toList.drop 69 = dktX11_when_3 := dk_seg dksX11_when_2 24 rfl rfl
theorem dksX11_when_4 : cX11_when.data.toList.drop 93 = dktX11_when_4 := dk_seg dksX11_when_3 24 rfl rfl
theorem dX11_when_0 : decode cX11_when 0 = .ok (.aload_n 0, 1) := dk_42 (dk_at dksX11_when_0 0 rfl rfl)
theorem dX11_when_1 : decode cX11_when 1 = .ok (.iconst 0, 1) := dk_3 (dk_at dksX11_when_0 1 rfl rfl)
theorem dX11_when_2 : decode cX11_when 2 = .ok (.putfield 134, 3) := dk_181 0 134 (dk_at dksX11_when_0 2 rfl rfl)
theorem dX11_when_5 : decode cX11_when 5 = .ok (.aload_n 0, 1) := dk_42 (dk_at dksX11_when_0 5 rfl rfl)
theorem dX11_when_6 : decode cX11_when 6 = .ok (.aload_n 0, 1) := dk_42 (dk_at dksX11_when_0 6 rfl rfl)
theorem dX11_when_7 : decode cX11_when 7 = .ok (.iload_n 1, 1) := dk_27 (dk_at dksX11_when_0 7 rfl rfl)
theorem dX11_when_8 : decode cX11_when 8 = .ok (.invokevirtual 331, 3) := dk_182 1 75 (dk_at dksX11_when_0 8 rfl rfl)
theorem dX11_when_11 : decode cX11_when 11 = .ok (.ifCond .eq 11, 3) := dk_153 0 11 (dk_at dksX11_when_0 11 rfl rfl)
theorem dX11_when_14 : decode cX11_when 14 = .ok (.aload_n 0, 1) := dk_42 (dk_at dksX11_when_0 14 rfl rfl)
theorem dX11_when_15 : decode cX11_when 15 = .ok (.iload_n 2, 1) := dk_28 (dk_at dksX11_when_0 15 rfl rfl)
theorem dX11_when_16 : decode cX11_when 16 = .ok (.invokevirtual 338, 3) := dk_182 1 82 (dk_at dksX11_when_0 16 rfl rfl)
theorem dX11_when_19 : decode cX11_when 19 = .ok (.ifCond .ne 7, 3) := dk_154 0 7 (dk_at dksX11_when_0 19 rfl rfl)
theorem dX11_when_22 : decode cX11_when 22 = .ok (.iconst 1, 1) := dk_4 (dk_at dksX11_when_0 22 rfl rfl)
theorem dX11_when_23 : decode cX11_when 23 = .ok (.goto 4, 3) := dk_167 0 4 (dk_at dksX11_when_1 0 rfl rfl)
theorem dX11_when_26 : decode cX11_when 26 = .ok (.iconst 0, 1) := dk_3 (dk_at dksX11_when_1 3 rfl rfl)
theorem dX11_when_27 : decode cX11_when 27 = .ok (.iconst 1, 1) := dk_4 (dk_at dksX11_when_1 4 rfl rfl)
theorem dX11_when_28 : decode cX11_when 28 = .ok (.iconst 0, 1) := dk_3 (dk_at dksX11_when_1 5 rfl rfl)
theorem dX11_when_29 : decode cX11_when 29 = .ok (.invokevirtual 249, 3) := dk_182 0 249 (dk_at dksX11_when_1 6 rfl rfl)
theorem dX11_when_32 : decode cX11_when 32 = .ok (.ifCond .eq 5, 3) := dk_153 0 5 (dk_at dksX11_when_1 9 rfl rfl)
theorem dX11_when_35 : decode cX11_when 35 = .ok (.iconst 0, 1) := dk_3 (dk_at dksX11_when_1 12 rfl rfl)
theorem dX11_when_36 : decode cX11_when 36 = .ok (.ireturn, 1) := dk_172 (dk_at dksX11_when_1 13 rfl rfl)
theorem dX11_when_37 : decode cX11_when 37 = .ok (.aload_n 0, 1) := dk_42 (dk_at dksX11_when_1 14 rfl rfl)
theorem dX11_when_38 : decode cX11_when 38 = .ok (.getfield 91, 3) := dk_180 0 91 (dk_at dksX11_when_1 15 rfl rfl)
theorem dX11_when_41 : decode cX11_when 41 = .ok (.aload_n 0, 1) := dk_42 (dk_at dksX11_when_1 18 rfl rfl)
theorem dX11_when_42 : decode cX11_when 42 = .ok (.getfield 100, 3) := dk_180 0 100 (dk_at dksX11_when_1 19 rfl rfl)
theorem dX11_when_45 : decode cX11_when 45 = .ok (.invokestatic 266, 3) := dk_184 1 10 (dk_at dksX11_when_2 0 rfl rfl)
theorem dX11_when_48 : decode cX11_when 48 = .ok (.iconst 0, 1) := dk_3 (dk_at dksX11_when_2 3 rfl rfl)
theorem dX11_when_49 : decode cX11_when 49 = .ok (.istore_n 3, 1) := dk_62 (dk_at dksX11_when_2 4 rfl rfl)
theorem dX11_when_50 : decode cX11_when 50 = .ok (.iload_n 3, 1) := dk_29 (dk_at dksX11_when_2 5 rfl rfl)
theorem dX11_when_51 : decode cX11_when 51 = .ok (.bipush 60, 2) := dk_16 60 (dk_at dksX11_when_2 6 rfl rfl)
theorem dX11_when_53 : decode cX11_when 53 = .ok (.if_icmp .ge 40, 3) := dk_162 0 40 (dk_at dksX11_when_2 8 rfl rfl)
theorem dX11_when_56 : decode cX11_when 56 = .ok (.aload_n 0, 1) := dk_42 (dk_at dksX11_when_2 11 rfl rfl)
theorem dX11_when_57 : decode cX11_when 57 = .ok (.aload_n 0, 1) := dk_42 (dk_at dksX11_when_2 12 rfl rfl)
theorem dX11_when_58 : decode cX11_when 58 = .ok (.getfield 100, 3) := dk_180 0 100 (dk_at dksX11_when_2 13 rfl rfl)
theorem dX11_when_61 : decode cX11_when 61 = .ok (.invokevirtual 385, 3) := dk_182 1 129 (dk_at dksX11_when_2 16 rfl rfl)
theorem dX11_when_64 : decode cX11_when 64 = .ok (.aload_n 0, 1) := dk_42 (dk_at dksX11_when_2 19 rfl rfl)
theorem dX11_when_65 : decode cX11_when 65 = .ok (.getfield 100, 3) := dk_180 0 100 (dk_at dksX11_when_2 20 rfl rfl)
theorem dX11_when_68 : decode cX11_when 68 = .ok (.iconst 1, 1) := dk_4 (dk_at dksX11_when_2 23 rfl rfl)
theorem dX11_when_69 : decode cX11_when 69 = .ok (.iload_n 2, 1) := dk_28 (dk_at dksX11_when_3 0 rfl rfl)
theorem dX11_when_70 : decode cX11_when 70 = .ok (.iadd, 1) := dk_96 (dk_at dksX11_when_3 1 rfl rfl)
theorem dX11_when_71 : decode cX11_when 71 = .ok (.iaload, 1) := dk_46 (dk_at dksX11_when_3 2 rfl rfl)
theorem dX11_when_72 : decode cX11_when 72 = .ok (.iload_n 1, 1) := dk_27 (dk_at dksX11_when_3 3 rfl rfl)
theorem dX11_when_73 : decode cX11_when 73 = .ok (.invokestatic 242, 3) := dk_184 0 242 (dk_at dksX11_when_3 4 rfl rfl)
theorem dX11_when_76 : decode cX11_when 76 = .ok (.ifCond .eq 11, 3) := dk_153 0 11 (dk_at dksX11_when_3 7 rfl rfl)
theorem dX11_when_79 : decode cX11_when 79 = .ok (.aload_n 0, 1) := dk_42 (dk_at dksX11_when_3 10 rfl rfl)
theorem dX11_when_80 : decode cX11_when 80 = .ok (.getfield 100, 3) := dk_180 0 100 (dk_at dksX11_when_3 11 rfl rfl)
theorem dX11_when_83 : decode cX11_when 83 = .ok (.bipush 106, 2) := dk_16 106 (dk_at dksX11_when_3 14 rfl rfl)
theorem dX11_when_85 : decode cX11_when 85 = .ok (.iaload, 1) := dk_46 (dk_at dksX11_when_3 16 rfl rfl)
theorem dX11_when_86 : decode cX11_when 86 = .ok (.ireturn, 1) := dk_172 (dk_at dksX11_when_3 17 rfl rfl)
theorem dX11_when_87 : decode cX11_when 87 = .ok (.iinc 3 1, 3) := dk_132 3 1 (dk_at dksX11_when_3 18 rfl rfl)
theorem dX11_when_90 : decode cX11_when 90 = .ok (.goto (-40), 3) := dk_167 255 216 (dk_at dksX11_when_3 21 rfl rfl)
theorem dX11_when_93 : decode cX11_when 93 = .ok (.iconst (-1), 1) := dk_2 (dk_at dksX11_when_4 0 rfl rfl)
theorem dX11_when_94 : decode cX11_when 94 = .ok (.ireturn, 1) := dk_172 (dk_at dksX11_when_4 1 rfl rfl)
abbrev cX11_last : ByteArray := prog_22_method_82_code
def yX11_last : MethodName := ⟨RX11, "last", "(I)I"⟩
def dkwX11_last_3 : List UInt8 := [16, 106, 46, 172, 132, 2, 1, 167, 255, 219, 2, 172]
abbrev dktX11_last_3 : List UInt8 := dkwX11_last_3 ++ []
def dkwX11_last_2 : List UInt8 := [42, 42, 180, 0, 100, 182, 1, 129, 42, 42, 180, 0, 100, 27, 182, 1, 132, 154, 0, 11, 42, 180, 0, 100]
abbrev dktX11_last_2 : List UInt8 := dkwX11_last_2 ++ dktX11_last_3
def dkwX11_last_1 : List UInt8 := [153, 0, 5, 3, 172, 42, 180, 0, 91, 42, 180, 0, 100, 184, 1, 10, 3, 61, 28, 16, 60, 162, 0, 37]
abbrev dktX11_last_1 : List UInt8 := dkwX11_last_1 ++ dktX11_last_2
def dkwX11_last_0 : List UInt8 := [42, 3, 181, 0, 134, 42, 42, 27, 182, 1, 88, 154, 0, 7, 4, 167, 0, 4, 3, 4, 3, 182, 0, 249]
abbrev dktX11_last_0 : List UInt8 := dkwX11_last_0 ++ dktX11_last_1
theorem dksX11_last_0 : cX11_last.data.toList.drop 0 = dktX11_last_0 := by decide +kernel
theorem dksX11_last_1 : cX11_last.data.toList.drop 24 = dktX11_last_1 := dk_seg dksX11_last_0 24 rfl rfl
theorem dksX11_last_2 : cX11_last.data.toList.drop 48 = dktX11_last_2 := dk_seg dksX11_last_1 24 rfl rfl
theorem dksX11_last_3 : cX11_last.data.toList.drop 72 = dktX11_last_3 := dk_seg dksX11_last_2 24 rfl rfl
theorem dX11_last_0 : decode cX11_last 0 = .ok (.aload_n 0, 1) := dk_42 (dk_at dksX11_last_0 0 rfl rfl)
theorem dX11_last_1 : decode cX11_last 1 = .ok (.iconst 0, 1) := dk_3 (dk_at dksX11_last_0 1 rfl rfl)
theorem dX11_last_2 : decode cX11_last 2 = .ok (.putfield 134, 3) := dk_181 0 134 (dk_at dksX11_last_0 2 rfl rfl)
theorem dX11_last_5 : decode cX11_last 5 = .ok (.aload_n 0, 1) := dk_42 (dk_at dksX11_last_0 5 rfl rfl)
theorem dX11_last_6 : decode cX11_last 6 = .ok (.aload_n 0, 1) := dk_42 (dk_at dksX11_last_0 6 rfl rfl)
theorem dX11_last_7 : decode cX11_last 7 = .ok (.iload_n 1, 1) := dk_27 (dk_at dksX11_last_0 7 rfl rfl)
theorem dX11_last_8 : decode cX11_last 8 = .ok (.invokevirtual 344, 3) := dk_182 1 88 (dk_at dksX11_last_0 8 rfl rfl)
theorem dX11_last_11 : decode cX11_last 11 = .ok (.ifCond .ne 7, 3) := dk_154 0 7 (dk_at dksX11_last_0 11 rfl rfl)
theorem dX11_last_14 : decode cX11_last 14 = .ok (.iconst 1, 1) := dk_4 (dk_at dksX11_last_0 14 rfl rfl)
theorem dX11_last_15 : decode cX11_last 15 = .ok (.goto 4, 3) := dk_167 0 4 (dk_at dksX11_last_0 15 rfl rfl)
theorem dX11_last_18 : decode cX11_last 18 = .ok (.iconst 0, 1) := dk_3 (dk_at dksX11_last_0 18 rfl rfl)
theorem dX11_last_19 : decode cX11_last 19 = .ok (.iconst 1, 1) := dk_4 (dk_at dksX11_last_0 19 rfl rfl)
theorem dX11_last_20 : decode cX11_last 20 = .ok (.iconst 0, 1) := dk_3 (dk_at dksX11_last_0 20 rfl rfl)
theorem dX11_last_21 : decode cX11_last 21 = .ok (.invokevirtual 249, 3) := dk_182 0 249 (dk_at dksX11_last_0 21 rfl rfl)
theorem dX11_last_24 : decode cX11_last 24 = .ok (.ifCond .eq 5, 3) := dk_153 0 5 (dk_at dksX11_last_1 0 rfl rfl)
theorem dX11_last_27 : decode cX11_last 27 = .ok (.iconst 0, 1) := dk_3 (dk_at dksX11_last_1 3 rfl rfl)
theorem dX11_last_28 : decode cX11_last 28 = .ok (.ireturn, 1) := dk_172 (dk_at dksX11_last_1 4 rfl rfl)
theorem dX11_last_29 : decode cX11_last 29 = .ok (.aload_n 0, 1) := dk_42 (dk_at dksX11_last_1 5 rfl rfl)
theorem dX11_last_30 : decode cX11_last 30 = .ok (.getfield 91, 3) := dk_180 0 91 (dk_at dksX11_last_1 6 rfl rfl)
theorem dX11_last_33 : decode cX11_last 33 = .ok (.aload_n 0, 1) := dk_42 (dk_at dksX11_last_1 9 rfl rfl)
theorem dX11_last_34 : decode cX11_last 34 = .ok (.getfield 100, 3) := dk_180 0 100 (dk_at dksX11_last_1 10 rfl rfl)
theorem dX11_last_37 : decode cX11_last 37 = .ok (.invokestatic 266, 3) := dk_184 1 10 (dk_at dksX11_last_1 13 rfl rfl)
theorem dX11_last_40 : decode cX11_last 40 = .ok (.iconst 0, 1) := dk_3 (dk_at dksX11_last_1 16 rfl rfl)
theorem dX11_last_41 : decode cX11_last 41 = .ok (.istore_n 2, 1) := dk_61 (dk_at dksX11_last_1 17 rfl rfl)
theorem dX11_last_42 : decode cX11_last 42 = .ok (.iload_n 2, 1) := dk_28 (dk_at dksX11_last_1 18 rfl rfl)
theorem dX11_last_43 : decode cX11_last 43 = .ok (.bipush 60, 2) := dk_16 60 (dk_at dksX11_last_1 19 rfl rfl)
theorem dX11_last_45 : decode cX11_last 45 = .ok (.if_icmp .ge 37, 3) := dk_162 0 37 (dk_at dksX11_last_1 21 rfl rfl)
theorem dX11_last_48 : decode cX11_last 48 = .ok (.aload_n 0, 1) := dk_42 (dk_at dksX11_last_2 0 rfl rfl)
theorem dX11_last_49 : decode cX11_last 49 = .ok (.aload_n 0, 1) := dk_42 (dk_at dksX11_last_2 1 rfl rfl)
theorem dX11_last_50 : decode cX11_last 50 = .ok (.getfield 100, 3) := dk_180 0 100 (dk_at dksX11_last_2 2 rfl rfl)
theorem dX11_last_53 : decode cX11_last 53 = .ok (.invokevirtual 385, 3) := dk_182 1 129 (dk_at dksX11_last_2 5 rfl rfl)
theorem dX11_last_56 : decode cX11_last 56 = .ok (.aload_n 0, 1) := dk_42 (dk_at dksX11_last_2 8 rfl rfl)
theorem dX11_last_57 : decode cX11_last 57 = .ok (.aload_n 0, 1) := dk_42 (dk_at dksX11_last_2 9 rfl rfl)
theorem dX11_last_58 : decode cX11_last 58 = .ok (.getfield 100, 3) := dk_180 0 100 (dk_at dksX11_last_2 10 rfl rfl)
theorem dX11_last_61 : decode cX11_last 61 = .ok (.iload_n 1, 1) := dk_27 (dk_at dksX11_last_2 13 rfl rfl)
theorem dX11_last_62 : decode cX11_last 62 = .ok (.invokevirtual 388, 3) := dk_182 1 132 (dk_at dksX11_last_2 14 rfl rfl)
theorem dX11_last_65 : decode cX11_last 65 = .ok (.ifCond .ne 11, 3) := dk_154 0 11 (dk_at dksX11_last_2 17 rfl rfl)
theorem dX11_last_68 : decode cX11_last 68 = .ok (.aload_n 0, 1) := dk_42 (dk_at dksX11_last_2 20 rfl rfl)
theorem dX11_last_69 : decode cX11_last 69 = .ok (.getfield 100, 3) := dk_180 0 100 (dk_at dksX11_last_2 21 rfl rfl)
theorem dX11_last_72 : decode cX11_last 72 = .ok (.bipush 106, 2) := dk_16 106 (dk_at dksX11_last_3 0 rfl rfl)
theorem dX11_last_74 : decode cX11_last 74 = .ok (.iaload, 1) := dk_46 (dk_at dksX11_last_3 2 rfl rfl)
theorem dX11_last_75 : decode cX11_last 75 = .ok (.ireturn, 1) := dk_172 (dk_at dksX11_last_3 3 rfl rfl)
theorem dX11_last_76 : decode cX11_last 76 = .ok (.iinc 2 1, 3) := dk_132 2 1 (dk_at dksX11_last_3 4 rfl rfl)
theorem dX11_last_79 : decode cX11_last 79 = .ok (.goto (-37), 3) := dk_167 255 219 (dk_at dksX11_last_3 7 rfl rfl)
theorem dX11_last_82 : decode cX11_last 82 = .ok (.iconst (-1), 1) := dk_2 (dk_at dksX11_last_3 10 rfl rfl)
theorem dX11_last_83 : decode cX11_last 83 = .ok (.ireturn, 1) := dk_172 (dk_at dksX11_last_3 11 rfl rfl)
abbrev cX11_isCast : ByteArray := prog_22_method_93_code
def yX11_isCast : MethodName := ⟨RX11, "isCast", "([II)Z"⟩
def dkwX11_isCast_1 : List UInt8 := [3, 172]
abbrev dktX11_isCast_1 : List UInt8 := dkwX11_isCast_1 ++ []
def dkwX11_isCast_0 : List UInt8 := [42, 28, 3, 182, 1, 152, 42, 43, 42, 43, 182, 1, 68, 4, 182, 1, 155, 158, 0, 7, 4, 167, 0, 4]
abbrev dktX11_isCast_0 : List UInt8 := dkwX11_isCast_0 ++ dktX11_isCast_1
theorem dksX11_isCast_0 : cX11_isCast.data.toList.drop 0 = dktX11_isCast_0 := by decide +kernel
theorem dksX11_isCast_1 : cX11_isCast.data.toList.drop 24 = dktX11_isCast_1 := dk_seg dksX11_isCast_0 24 rfl rfl
theorem dX11_isCast_0 : decode cX11_isCast 0 = .ok (.aload_n 0, 1) := dk_42 (dk_at dksX11_isCast_0 0 rfl rfl)
theorem dX11_isCast_1 : decode cX11_isCast 1 = .ok (.iload_n 2, 1) := dk_28 (dk_at dksX11_isCast_0 1 rfl rfl)
theorem dX11_isCast_2 : decode cX11_isCast 2 = .ok (.iconst 0, 1) := dk_3 (dk_at dksX11_isCast_0 2 rfl rfl)
theorem dX11_isCast_3 : decode cX11_isCast 3 = .ok (.invokevirtual 408, 3) := dk_182 1 152 (dk_at dksX11_isCast_0 3 rfl rfl)
theorem dX11_isCast_6 : decode cX11_isCast 6 = .ok (.aload_n 0, 1) := dk_42 (dk_at dksX11_isCast_0 6 rfl rfl)
theorem dX11_isCast_7 : decode cX11_isCast 7 = .ok (.aload_n 1, 1) := dk_43 (dk_at dksX11_isCast_0 7 rfl rfl)
theorem dX11_isCast_8 : decode cX11_isCast 8 = .ok (.aload_n 0, 1) := dk_42 (dk_at dksX11_isCast_0 8 rfl rfl)
theorem dX11_isCast_9 : decode cX11_isCast 9 = .ok (.aload_n 1, 1) := dk_43 (dk_at dksX11_isCast_0 9 rfl rfl)
theorem dX11_isCast_10 : decode cX11_isCast 10 = .ok (.invokevirtual 324, 3) := dk_182 1 68 (dk_at dksX11_isCast_0 10 rfl rfl)
theorem dX11_isCast_13 : decode cX11_isCast 13 = .ok (.iconst 1, 1) := dk_4 (dk_at dksX11_isCast_0 13 rfl rfl)
theorem dX11_isCast_14 : decode cX11_isCast 14 = .ok (.invokevirtual 411, 3) := dk_182 1 155 (dk_at dksX11_isCast_0 14 rfl rfl)
theorem dX11_isCast_17 : decode cX11_isCast 17 = .ok (.ifCond .le 7, 3) := dk_158 0 7 (dk_at dksX11_isCast_0 17 rfl rfl)
theorem dX11_isCast_20 : decode cX11_isCast 20 = .ok (.iconst 1, 1) := dk_4 (dk_at dksX11_isCast_0 20 rfl rfl)
theorem dX11_isCast_21 : decode cX11_isCast 21 = .ok (.goto 4, 3) := dk_167 0 4 (dk_at dksX11_isCast_0 21 rfl rfl)
theorem dX11_isCast_24 : decode cX11_isCast 24 = .ok (.iconst 0, 1) := dk_3 (dk_at dksX11_isCast_1 0 rfl rfl)
theorem dX11_isCast_25 : decode cX11_isCast 25 = .ok (.ireturn, 1) := dk_172 (dk_at dksX11_isCast_1 1 rfl rfl)
abbrev cX11_sets : ByteArray := prog_22_method_88_code
def yX11_sets : MethodName := ⟨RX11, "sets", "(II)V"⟩
def dkwX11_sets_2 : List UInt8 := [46, 79, 132, 3, 1, 167, 255, 207, 42, 28, 42, 180, 0, 61, 27, 50, 4, 46, 96, 181, 1, 135, 177]
abbrev dktX11_sets_2 : List UInt8 := dkwX11_sets_2 ++ []
def dkwX11_sets_1 : List UInt8 := [180, 0, 61, 27, 50, 5, 29, 96, 46, 79, 42, 180, 0, 109, 28, 29, 96, 42, 180, 0, 61, 27, 50, 3]
abbrev dktX11_sets_1 : List UInt8 := dkwX11_sets_1 ++ dktX11_sets_2
def dkwX11_sets_0 : List UInt8 := [3, 62, 29, 42, 180, 0, 61, 27, 50, 4, 46, 162, 0, 43, 42, 180, 0, 106, 28, 29, 96, 42]
abbrev dktX11_sets_0 : List UInt8 := dkwX11_sets_0 ++ dktX11_sets_1
theorem dksX11_sets_0 : cX11_sets.data.toList.drop 0 = dktX11_sets_0 := by decide +kernel
theorem dksX11_sets_1 : cX11_sets.data.toList.drop 22 = dktX11_sets_1 := dk_seg dksX11_sets_0 22 rfl rfl
theorem dksX11_sets_2 : cX11_sets.data.toList.drop 46 = dktX11_sets_2 := dk_seg dksX11_sets_1 24 rfl rfl
theorem dX11_sets_0 : decode cX11_sets 0 = .ok (.iconst 0, 1) := dk_3 (dk_at dksX11_sets_0 0 rfl rfl)
theorem dX11_sets_1 : decode cX11_sets 1 = .ok (.istore_n 3, 1) := dk_62 (dk_at dksX11_sets_0 1 rfl rfl)
theorem dX11_sets_2 : decode cX11_sets 2 = .ok (.iload_n 3, 1) := dk_29 (dk_at dksX11_sets_0 2 rfl rfl)
theorem dX11_sets_3 : decode cX11_sets 3 = .ok (.aload_n 0, 1) := dk_42 (dk_at dksX11_sets_0 3 rfl rfl)
theorem dX11_sets_4 : decode cX11_sets 4 = .ok (.getfield 61, 3) := dk_180 0 61 (dk_at dksX11_sets_0 4 rfl rfl)
theorem dX11_sets_7 : decode cX11_sets 7 = .ok (.iload_n 1, 1) := dk_27 (dk_at dksX11_sets_0 7 rfl rfl)
theorem dX11_sets_8 : decode cX11_sets 8 = .ok (.aaload, 1) := dk_50 (dk_at dksX11_sets_0 8 rfl rfl)
theorem dX11_sets_9 : decode cX11_sets 9 = .ok (.iconst 1, 1) := dk_4 (dk_at dksX11_sets_0 9 rfl rfl)
theorem dX11_sets_10 : decode cX11_sets 10 = .ok (.iaload, 1) := dk_46 (dk_at dksX11_sets_0 10 rfl rfl)
theorem dX11_sets_11 : decode cX11_sets 11 = .ok (.if_icmp .ge 43, 3) := dk_162 0 43 (dk_at dksX11_sets_0 11 rfl rfl)
theorem dX11_sets_14 : decode cX11_sets 14 = .ok (.aload_n 0, 1) := dk_42 (dk_at dksX11_sets_0 14 rfl rfl)
theorem dX11_sets_15 : decode cX11_sets 15 = .ok (.getfield 106, 3) := dk_180 0 106 (dk_at dksX11_sets_0 15 rfl rfl)
theorem dX11_sets_18 : decode cX11_sets 18 = .ok (.iload_n 2, 1) := dk_28 (dk_at dksX11_sets_0 18 rfl rfl)
theorem dX11_sets_19 : decode cX11_sets 19 = .ok (.iload_n 3, 1) := dk_29 (dk_at dksX11_sets_0 19 rfl rfl)
theorem dX11_sets_20 : decode cX11_sets 20 = .ok (.iadd, 1) := dk_96 (dk_at dksX11_sets_0 20 rfl rfl)
theorem dX11_sets_21 : decode cX11_sets 21 = .ok (.aload_n 0, 1) := dk_42 (dk_at dksX11_sets_0 21 rfl rfl)
theorem dX11_sets_22 : decode cX11_sets 22 = .ok (.getfield 61, 3) := dk_180 0 61 (dk_at dksX11_sets_1 0 rfl rfl)
theorem dX11_sets_25 : decode cX11_sets 25 = .ok (.iload_n 1, 1) := dk_27 (dk_at dksX11_sets_1 3 rfl rfl)
theorem dX11_sets_26 : decode cX11_sets 26 = .ok (.aaload, 1) := dk_50 (dk_at dksX11_sets_1 4 rfl rfl)
theorem dX11_sets_27 : decode cX11_sets 27 = .ok (.iconst 2, 1) := dk_5 (dk_at dksX11_sets_1 5 rfl rfl)
theorem dX11_sets_28 : decode cX11_sets 28 = .ok (.iload_n 3, 1) := dk_29 (dk_at dksX11_sets_1 6 rfl rfl)
theorem dX11_sets_29 : decode cX11_sets 29 = .ok (.iadd, 1) := dk_96 (dk_at dksX11_sets_1 7 rfl rfl)
theorem dX11_sets_30 : decode cX11_sets 30 = .ok (.iaload, 1) := dk_46 (dk_at dksX11_sets_1 8 rfl rfl)
theorem dX11_sets_31 : decode cX11_sets 31 = .ok (.iastore, 1) := dk_79 (dk_at dksX11_sets_1 9 rfl rfl)
theorem dX11_sets_32 : decode cX11_sets 32 = .ok (.aload_n 0, 1) := dk_42 (dk_at dksX11_sets_1 10 rfl rfl)
theorem dX11_sets_33 : decode cX11_sets 33 = .ok (.getfield 109, 3) := dk_180 0 109 (dk_at dksX11_sets_1 11 rfl rfl)
theorem dX11_sets_36 : decode cX11_sets 36 = .ok (.iload_n 2, 1) := dk_28 (dk_at dksX11_sets_1 14 rfl rfl)
theorem dX11_sets_37 : decode cX11_sets 37 = .ok (.iload_n 3, 1) := dk_29 (dk_at dksX11_sets_1 15 rfl rfl)
theorem dX11_sets_38 : decode cX11_sets 38 = .ok (.iadd, 1) := dk_96 (dk_at dksX11_sets_1 16 rfl rfl)
theorem dX11_sets_39 : decode cX11_sets 39 = .ok (.aload_n 0, 1) := dk_42 (dk_at dksX11_sets_1 17 rfl rfl)
theorem dX11_sets_40 : decode cX11_sets 40 = .ok (.getfield 61, 3) := dk_180 0 61 (dk_at dksX11_sets_1 18 rfl rfl)
theorem dX11_sets_43 : decode cX11_sets 43 = .ok (.iload_n 1, 1) := dk_27 (dk_at dksX11_sets_1 21 rfl rfl)
theorem dX11_sets_44 : decode cX11_sets 44 = .ok (.aaload, 1) := dk_50 (dk_at dksX11_sets_1 22 rfl rfl)
theorem dX11_sets_45 : decode cX11_sets 45 = .ok (.iconst 0, 1) := dk_3 (dk_at dksX11_sets_1 23 rfl rfl)
theorem dX11_sets_46 : decode cX11_sets 46 = .ok (.iaload, 1) := dk_46 (dk_at dksX11_sets_2 0 rfl rfl)
theorem dX11_sets_47 : decode cX11_sets 47 = .ok (.iastore, 1) := dk_79 (dk_at dksX11_sets_2 1 rfl rfl)
theorem dX11_sets_48 : decode cX11_sets 48 = .ok (.iinc 3 1, 3) := dk_132 3 1 (dk_at dksX11_sets_2 2 rfl rfl)
theorem dX11_sets_51 : decode cX11_sets 51 = .ok (.goto (-49), 3) := dk_167 255 207 (dk_at dksX11_sets_2 5 rfl rfl)
theorem dX11_sets_54 : decode cX11_sets 54 = .ok (.aload_n 0, 1) := dk_42 (dk_at dksX11_sets_2 8 rfl rfl)
theorem dX11_sets_55 : decode cX11_sets 55 = .ok (.iload_n 2, 1) := dk_28 (dk_at dksX11_sets_2 9 rfl rfl)
theorem dX11_sets_56 : decode cX11_sets 56 = .ok (.aload_n 0, 1) := dk_42 (dk_at dksX11_sets_2 10 rfl rfl)
theorem dX11_sets_57 : decode cX11_sets 57 = .ok (.getfield 61, 3) := dk_180 0 61 (dk_at dksX11_sets_2 11 rfl rfl)
theorem dX11_sets_60 : decode cX11_sets 60 = .ok (.iload_n 1, 1) := dk_27 (dk_at dksX11_sets_2 14 rfl rfl)
theorem dX11_sets_61 : decode cX11_sets 61 = .ok (.aaload, 1) := dk_50 (dk_at dksX11_sets_2 15 rfl rfl)
theorem dX11_sets_62 : decode cX11_sets 62 = .ok (.iconst 1, 1) := dk_4 (dk_at dksX11_sets_2 16 rfl rfl)
theorem dX11_sets_63 : decode cX11_sets 63 = .ok (.iaload, 1) := dk_46 (dk_at dksX11_sets_2 17 rfl rfl)
theorem dX11_sets_64 : decode cX11_sets 64 = .ok (.iadd, 1) := dk_96 (dk_at dksX11_sets_2 18 rfl rfl)
theorem dX11_sets_65 : decode cX11_sets 65 = .ok (.putfield 391, 3) := dk_181 1 135 (dk_at dksX11_sets_2 19 rfl rfl)
theorem dX11_sets_68 : decode cX11_sets 68 = .ok (.return_, 1) := dk_177 (dk_at dksX11_sets_2 22 rfl rfl)
abbrev cX11_castsNow : ByteArray := prog_22_method_91_code
def yX11_castsNow : MethodName := ⟨RX11, "castsNow", "([IIZ)I"⟩
def dkwX11_castsNow_2 : List UInt8 := [29, 182, 1, 147, 42, 180, 1, 138, 19, 1, 151, 184, 0, 229, 172]
abbrev dktX11_castsNow_2 : List UInt8 := dkwX11_castsNow_2 ++ []
def dkwX11_castsNow_1 : List UInt8 := [16, 12, 162, 0, 17, 42, 180, 0, 118, 21, 4, 3, 79, 132, 4, 1, 167, 255, 238, 42, 43, 3, 3, 28]
abbrev dktX11_castsNow_1 : List UInt8 := dkwX11_castsNow_1 ++ dktX11_castsNow_2
def dkwX11_castsNow_0 : List UInt8 := [42, 3, 181, 1, 138, 42, 4, 42, 180, 0, 23, 3, 46, 120, 4, 100, 181, 1, 141, 3, 54, 4, 21, 4]
abbrev dktX11_castsNow_0 : List UInt8 := dkwX11_castsNow_0 ++ dktX11_castsNow_1
theorem dksX11_castsNow_0 : cX11_castsNow.data.toList.drop 0 = dktX11_castsNow_0 := by decide +kernel
theorem dksX11_castsNow_1 : cX11_castsNow.data.toList.drop 24 = dktX11_castsNow_1 := dk_seg dksX11_castsNow_0 24 rfl rfl
theorem dksX11_castsNow_2 : cX11_castsNow.data.toList.drop 48 = dktX11_castsNow_2 := dk_seg dksX11_castsNow_1 24 rfl rfl
theorem dX11_castsNow_0 : decode cX11_castsNow 0 = .ok (.aload_n 0, 1) := dk_42 (dk_at dksX11_castsNow_0 0 rfl rfl)
theorem dX11_castsNow_1 : decode cX11_castsNow 1 = .ok (.iconst 0, 1) := dk_3 (dk_at dksX11_castsNow_0 1 rfl rfl)
theorem dX11_castsNow_2 : decode cX11_castsNow 2 = .ok (.putfield 394, 3) := dk_181 1 138 (dk_at dksX11_castsNow_0 2 rfl rfl)
theorem dX11_castsNow_5 : decode cX11_castsNow 5 = .ok (.aload_n 0, 1) := dk_42 (dk_at dksX11_castsNow_0 5 rfl rfl)
theorem dX11_castsNow_6 : decode cX11_castsNow 6 = .ok (.iconst 1, 1) := dk_4 (dk_at dksX11_castsNow_0 6 rfl rfl)
theorem dX11_castsNow_7 : decode cX11_castsNow 7 = .ok (.aload_n 0, 1) := dk_42 (dk_at dksX11_castsNow_0 7 rfl rfl)
theorem dX11_castsNow_8 : decode cX11_castsNow 8 = .ok (.getfield 23, 3) := dk_180 0 23 (dk_at dksX11_castsNow_0 8 rfl rfl)
theorem dX11_castsNow_11 : decode cX11_castsNow 11 = .ok (.iconst 0, 1) := dk_3 (dk_at dksX11_castsNow_0 11 rfl rfl)
theorem dX11_castsNow_12 : decode cX11_castsNow 12 = .ok (.iaload, 1) := dk_46 (dk_at dksX11_castsNow_0 12 rfl rfl)
theorem dX11_castsNow_13 : decode cX11_castsNow 13 = .ok (.ishl, 1) := dk_120 (dk_at dksX11_castsNow_0 13 rfl rfl)
theorem dX11_castsNow_14 : decode cX11_castsNow 14 = .ok (.iconst 1, 1) := dk_4 (dk_at dksX11_castsNow_0 14 rfl rfl)
theorem dX11_castsNow_15 : decode cX11_castsNow 15 = .ok (.isub, 1) := dk_100 (dk_at dksX11_castsNow_0 15 rfl rfl)
theorem dX11_castsNow_16 : decode cX11_castsNow 16 = .ok (.putfield 397, 3) := dk_181 1 141 (dk_at dksX11_castsNow_0 16 rfl rfl)
theorem dX11_castsNow_19 : decode cX11_castsNow 19 = .ok (.iconst 0, 1) := dk_3 (dk_at dksX11_castsNow_0 19 rfl rfl)
theorem dX11_castsNow_20 : decode cX11_castsNow 20 = .ok (.istore 4, 2) := dk_54 4 (dk_at dksX11_castsNow_0 20 rfl rfl)
theorem dX11_castsNow_22 : decode cX11_castsNow 22 = .ok (.iload 4, 2) := dk_21 4 (dk_at dksX11_castsNow_0 22 rfl rfl)
theorem dX11_castsNow_24 : decode cX11_castsNow 24 = .ok (.bipush 12, 2) := dk_16 12 (dk_at dksX11_castsNow_1 0 rfl rfl)
theorem dX11_castsNow_26 : decode cX11_castsNow 26 = .ok (.if_icmp .ge 17, 3) := dk_162 0 17 (dk_at dksX11_castsNow_1 2 rfl rfl)
theorem dX11_castsNow_29 : decode cX11_castsNow 29 = .ok (.aload_n 0, 1) := dk_42 (dk_at dksX11_castsNow_1 5 rfl rfl)
theorem dX11_castsNow_30 : decode cX11_castsNow 30 = .ok (.getfield 118, 3) := dk_180 0 118 (dk_at dksX11_castsNow_1 6 rfl rfl)
theorem dX11_castsNow_33 : decode cX11_castsNow 33 = .ok (.iload 4, 2) := dk_21 4 (dk_at dksX11_castsNow_1 9 rfl rfl)
theorem dX11_castsNow_35 : decode cX11_castsNow 35 = .ok (.iconst 0, 1) := dk_3 (dk_at dksX11_castsNow_1 11 rfl rfl)
theorem dX11_castsNow_36 : decode cX11_castsNow 36 = .ok (.iastore, 1) := dk_79 (dk_at dksX11_castsNow_1 12 rfl rfl)
theorem dX11_castsNow_37 : decode cX11_castsNow 37 = .ok (.iinc 4 1, 3) := dk_132 4 1 (dk_at dksX11_castsNow_1 13 rfl rfl)
theorem dX11_castsNow_40 : decode cX11_castsNow 40 = .ok (.goto (-18), 3) := dk_167 255 238 (dk_at dksX11_castsNow_1 16 rfl rfl)
theorem dX11_castsNow_43 : decode cX11_castsNow 43 = .ok (.aload_n 0, 1) := dk_42 (dk_at dksX11_castsNow_1 19 rfl rfl)
theorem dX11_castsNow_44 : decode cX11_castsNow 44 = .ok (.aload_n 1, 1) := dk_43 (dk_at dksX11_castsNow_1 20 rfl rfl)
theorem dX11_castsNow_45 : decode cX11_castsNow 45 = .ok (.iconst 0, 1) := dk_3 (dk_at dksX11_castsNow_1 21 rfl rfl)
theorem dX11_castsNow_46 : decode cX11_castsNow 46 = .ok (.iconst 0, 1) := dk_3 (dk_at dksX11_castsNow_1 22 rfl rfl)
theorem dX11_castsNow_47 : decode cX11_castsNow 47 = .ok (.iload_n 2, 1) := dk_28 (dk_at dksX11_castsNow_1 23 rfl rfl)
theorem dX11_castsNow_48 : decode cX11_castsNow 48 = .ok (.iload_n 3, 1) := dk_29 (dk_at dksX11_castsNow_2 0 rfl rfl)
theorem dX11_castsNow_49 : decode cX11_castsNow 49 = .ok (.invokevirtual 403, 3) := dk_182 1 147 (dk_at dksX11_castsNow_2 1 rfl rfl)
theorem dX11_castsNow_52 : decode cX11_castsNow 52 = .ok (.aload_n 0, 1) := dk_42 (dk_at dksX11_castsNow_2 4 rfl rfl)
theorem dX11_castsNow_53 : decode cX11_castsNow 53 = .ok (.getfield 394, 3) := dk_180 1 138 (dk_at dksX11_castsNow_2 5 rfl rfl)
theorem dX11_castsNow_56 : decode cX11_castsNow 56 = .ok (.ldc_w 407, 3) := dk_19 1 151 (dk_at dksX11_castsNow_2 8 rfl rfl)
theorem dX11_castsNow_59 : decode cX11_castsNow 59 = .ok (.invokestatic 229, 3) := dk_184 0 229 (dk_at dksX11_castsNow_2 11 rfl rfl)
theorem dX11_castsNow_62 : decode cX11_castsNow 62 = .ok (.ireturn, 1) := dk_172 (dk_at dksX11_castsNow_2 14 rfl rfl)
abbrev cX11_goesCasting : ByteArray := prog_22_method_90_code
def yX11_goesCasting : MethodName := ⟨RX11, "goesCasting", "([IIIIZ)V"⟩
def dkwX11_goesCasting_9 : List UInt8 := [96, 29, 21, 7, 128, 21, 4, 21, 5, 182, 1, 147, 132, 7, 1, 167, 255, 166, 177]
abbrev dktX11_goesCasting_9 : List UInt8 := dkwX11_goesCasting_9 ++ []
def dkwX11_goesCasting_8 : List UInt8 := [29, 21, 7, 182, 1, 144, 154, 0, 6, 167, 0, 27, 42, 180, 0, 112, 28, 21, 7, 79, 42, 43, 28, 4]
abbrev dktX11_goesCasting_8 : List UInt8 := dkwX11_goesCasting_8 ++ dktX11_goesCasting_9
def dkwX11_goesCasting_7 : List UInt8 := [160, 0, 60, 21, 7, 29, 42, 180, 0, 35, 21, 6, 46, 128, 21, 4, 2, 130, 128, 126, 154, 0, 40, 42]
abbrev dktX11_goesCasting_7 : List UInt8 := dkwX11_goesCasting_7 ++ dktX11_goesCasting_8
def dkwX11_goesCasting_6 : List UInt8 := [180, 0, 23, 3, 46, 120, 162, 0, 83, 21, 7, 184, 0, 246, 42, 180, 0, 55, 21, 6, 50, 4, 46]
abbrev dktX11_goesCasting_6 : List UInt8 := dkwX11_goesCasting_6 ++ dktX11_goesCasting_7
def dkwX11_goesCasting_5 : List UInt8 := [16, 9, 21, 6, 96, 46, 42, 180, 0, 109, 28, 46, 162, 0, 4, 177, 4, 54, 7, 21, 7, 4, 42]
abbrev dktX11_goesCasting_5 : List UInt8 := dkwX11_goesCasting_5 ++ dktX11_goesCasting_6
def dkwX11_goesCasting_4 : List UInt8 := [181, 1, 138, 42, 89, 180, 1, 141, 29, 126, 181, 1, 141, 177, 42, 180, 0, 106, 28, 46, 54, 6, 43]
abbrev dktX11_goesCasting_4 : List UInt8 := dkwX11_goesCasting_4 ++ dktX11_goesCasting_5
def dkwX11_goesCasting_3 : List UInt8 := [46, 42, 180, 0, 112, 21, 6, 46, 128, 79, 132, 6, 1, 167, 255, 196, 42, 89, 180, 1, 138, 4, 96]
abbrev dktX11_goesCasting_3 : List UInt8 := dkwX11_goesCasting_3 ++ dktX11_goesCasting_4
def dkwX11_goesCasting_2 : List UInt8 := [180, 0, 112, 21, 6, 46, 167, 0, 10, 42, 180, 0, 115, 21, 6, 46, 79, 42, 180, 0, 118, 21, 6, 92]
abbrev dktX11_goesCasting_2 : List UInt8 := dkwX11_goesCasting_2 ++ dktX11_goesCasting_3
def dkwX11_goesCasting_1 : List UInt8 := [21, 6, 42, 180, 1, 135, 162, 0, 57, 42, 180, 0, 115, 21, 6, 42, 180, 1, 138, 154, 0, 13, 42]
abbrev dktX11_goesCasting_1 : List UInt8 := dkwX11_goesCasting_1 ++ dktX11_goesCasting_2
def dkwX11_goesCasting_0 : List UInt8 := [21, 5, 153, 0, 11, 42, 180, 1, 138, 158, 0, 4, 177, 28, 42, 180, 1, 135, 160, 0, 90, 3, 54, 6]
abbrev dktX11_goesCasting_0 : List UInt8 := dkwX11_goesCasting_0 ++ dktX11_goesCasting_1
theorem dksX11_goesCasting_0 : cX11_goesCasting.data.toList.drop 0 = dktX11_goesCasting_0 := by decide +kernel
theorem dksX11_goesCasting_1 : cX11_goesCasting.data.toList.drop 24 = dktX11_goesCasting_1 := dk_seg dksX11_goesCasting_0 24 rfl rfl
theorem dksX11_goesCasting_2 : cX11_goesCasting.data.toList.drop 47 = dktX11_goesCasting_2 := dk_seg dksX11_goesCasting_1 23 rfl rfl
theorem dksX11_goesCasting_3 : cX11_goesCasting.data.toList.drop 71 = dktX11_goesCasting_3 := dk_seg dksX11_goesCasting_2 24 rfl rfl
theorem dksX11_goesCasting_4 : cX11_goesCasting.data.toList.drop 94 = dktX11_goesCasting_4 := dk_seg dksX11_goesCasting_3 23 rfl rfl
theorem dksX11_goesCasting_5 : cX11_goesCasting.data.toList.drop 117 = dktX11_goesCasting_5 := dk_seg dksX11_goesCasting_4 23 rfl rfl
theorem dksX11_goesCasting_6 : cX11_goesCasting.data.toList.drop 140 = dktX11_goesCasting_6 := dk_seg dksX11_goesCasting_5 23 rfl rfl
theorem dksX11_goesCasting_7 : cX11_goesCasting.data.toList.drop 163 = dktX11_goesCasting_7 := dk_seg dksX11_goesCasting_6 23 rfl rfl
theorem dksX11_goesCasting_8 : cX11_goesCasting.data.toList.drop 187 = dktX11_goesCasting_8 := dk_seg dksX11_goesCasting_7 24 rfl rfl
theorem dksX11_goesCasting_9 : cX11_goesCasting.data.toList.drop 211 = dktX11_goesCasting_9 := dk_seg dksX11_goesCasting_8 24 rfl rfl
theorem dX11_goesCasting_0 : decode cX11_goesCasting 0 = .ok (.iload 5, 2) := dk_21 5 (dk_at dksX11_goesCasting_0 0 rfl rfl)
theorem dX11_goesCasting_2 : decode cX11_goesCasting 2 = .ok (.ifCond .eq 11, 3) := dk_153 0 11 (dk_at dksX11_goesCasting_0 2 rfl rfl)
theorem dX11_goesCasting_5 : decode cX11_goesCasting 5 = .ok (.aload_n 0, 1) := dk_42 (dk_at dksX11_goesCasting_0 5 rfl rfl)
theorem dX11_goesCasting_6 : decode cX11_goesCasting 6 = .ok (.getfield 394, 3) := dk_180 1 138 (dk_at dksX11_goesCasting_0 6 rfl rfl)
theorem dX11_goesCasting_9 : decode cX11_goesCasting 9 = .ok (.ifCond .le 4, 3) := dk_158 0 4 (dk_at dksX11_goesCasting_0 9 rfl rfl)
theorem dX11_goesCasting_12 : decode cX11_goesCasting 12 = .ok (.return_, 1) := dk_177 (dk_at dksX11_goesCasting_0 12 rfl rfl)
theorem dX11_goesCasting_13 : decode cX11_goesCasting 13 = .ok (.iload_n 2, 1) := dk_28 (dk_at dksX11_goesCasting_0 13 rfl rfl)
theorem dX11_goesCasting_14 : decode cX11_goesCasting 14 = .ok (.aload_n 0, 1) := dk_42 (dk_at dksX11_goesCasting_0 14 rfl rfl)
theorem dX11_goesCasting_15 : decode cX11_goesCasting 15 = .ok (.getfield 391, 3) := dk_180 1 135 (dk_at dksX11_goesCasting_0 15 rfl rfl)
theorem dX11_goesCasting_18 : decode cX11_goesCasting 18 = .ok (.if_icmp .ne 90, 3) := dk_160 0 90 (dk_at dksX11_goesCasting_0 18 rfl rfl)
theorem dX11_goesCasting_21 : decode cX11_goesCasting 21 = .ok (.iconst 0, 1) := dk_3 (dk_at dksX11_goesCasting_0 21 rfl rfl)
theorem dX11_goesCasting_22 : decode cX11_goesCasting 22 = .ok (.istore 6, 2) := dk_54 6 (dk_at dksX11_goesCasting_0 22 rfl rfl)
theorem dX11_goesCasting_24 : decode cX11_goesCasting 24 = .ok (.iload 6, 2) := dk_21 6 (dk_at dksX11_goesCasting_1 0 rfl rfl)
theorem dX11_goesCasting_26 : decode cX11_goesCasting 26 = .ok (.aload_n 0, 1) := dk_42 (dk_at dksX11_goesCasting_1 2 rfl rfl)
theorem dX11_goesCasting_27 : decode cX11_goesCasting 27 = .ok (.getfield 391, 3) := dk_180 1 135 (dk_at dksX11_goesCasting_1 3 rfl rfl)
theorem dX11_goesCasting_30 : decode cX11_goesCasting 30 = .ok (.if_icmp .ge 57, 3) := dk_162 0 57 (dk_at dksX11_goesCasting_1 6 rfl rfl)
theorem dX11_goesCasting_33 : decode cX11_goesCasting 33 = .ok (.aload_n 0, 1) := dk_42 (dk_at dksX11_goesCasting_1 9 rfl rfl)
theorem dX11_goesCasting_34 : decode cX11_goesCasting 34 = .ok (.getfield 115, 3) := dk_180 0 115 (dk_at dksX11_goesCasting_1 10 rfl rfl)
theorem dX11_goesCasting_37 : decode cX11_goesCasting 37 = .ok (.iload 6, 2) := dk_21 6 (dk_at dksX11_goesCasting_1 13 rfl rfl)
theorem dX11_goesCasting_39 : decode cX11_goesCasting 39 = .ok (.aload_n 0, 1) := dk_42 (dk_at dksX11_goesCasting_1 15 rfl rfl)
theorem dX11_goesCasting_40 : decode cX11_goesCasting 40 = .ok (.getfield 394, 3) := dk_180 1 138 (dk_at dksX11_goesCasting_1 16 rfl rfl)
theorem dX11_goesCasting_43 : decode cX11_goesCasting 43 = .ok (.ifCond .ne 13, 3) := dk_154 0 13 (dk_at dksX11_goesCasting_1 19 rfl rfl)
theorem dX11_goesCasting_46 : decode cX11_goesCasting 46 = .ok (.aload_n 0, 1) := dk_42 (dk_at dksX11_goesCasting_1 22 rfl rfl)
theorem dX11_goesCasting_47 : decode cX11_goesCasting 47 = .ok (.getfield 112, 3) := dk_180 0 112 (dk_at dksX11_goesCasting_2 0 rfl rfl)
theorem dX11_goesCasting_50 : decode cX11_goesCasting 50 = .ok (.iload 6, 2) := dk_21 6 (dk_at dksX11_goesCasting_2 3 rfl rfl)
theorem dX11_goesCasting_52 : decode cX11_goesCasting 52 = .ok (.iaload, 1) := dk_46 (dk_at dksX11_goesCasting_2 5 rfl rfl)
theorem dX11_goesCasting_53 : decode cX11_goesCasting 53 = .ok (.goto 10, 3) := dk_167 0 10 (dk_at dksX11_goesCasting_2 6 rfl rfl)
theorem dX11_goesCasting_56 : decode cX11_goesCasting 56 = .ok (.aload_n 0, 1) := dk_42 (dk_at dksX11_goesCasting_2 9 rfl rfl)
theorem dX11_goesCasting_57 : decode cX11_goesCasting 57 = .ok (.getfield 115, 3) := dk_180 0 115 (dk_at dksX11_goesCasting_2 10 rfl rfl)
theorem dX11_goesCasting_60 : decode cX11_goesCasting 60 = .ok (.iload 6, 2) := dk_21 6 (dk_at dksX11_goesCasting_2 13 rfl rfl)
theorem dX11_goesCasting_62 : decode cX11_goesCasting 62 = .ok (.iaload, 1) := dk_46 (dk_at dksX11_goesCasting_2 15 rfl rfl)
theorem dX11_goesCasting_63 : decode cX11_goesCasting 63 = .ok (.iastore, 1) := dk_79 (dk_at dksX11_goesCasting_2 16 rfl rfl)
theorem dX11_goesCasting_64 : decode cX11_goesCasting 64 = .ok (.aload_n 0, 1) := dk_42 (dk_at dksX11_goesCasting_2 17 rfl rfl)
theorem dX11_goesCasting_65 : decode cX11_goesCasting 65 = .ok (.getfield 118, 3) := dk_180 0 118 (dk_at dksX11_goesCasting_2 18 rfl rfl)
theorem dX11_goesCasting_68 : decode cX11_goesCasting 68 = .ok (.iload 6, 2) := dk_21 6 (dk_at dksX11_goesCasting_2 21 rfl rfl)
theorem dX11_goesCasting_70 : decode cX11_goesCasting 70 = .ok (.dup2, 1) := dk_92 (dk_at dksX11_goesCasting_2 23 rfl rfl)
theorem dX11_goesCasting_71 : decode cX11_goesCasting 71 = .ok (.iaload, 1) := dk_46 (dk_at dksX11_goesCasting_3 0 rfl rfl)
theorem dX11_goesCasting_72 : decode cX11_goesCasting 72 = .ok (.aload_n 0, 1) := dk_42 (dk_at dksX11_goesCasting_3 1 rfl rfl)
theorem dX11_goesCasting_73 : decode cX11_goesCasting 73 = .ok (.getfield 112, 3) := dk_180 0 112 (dk_at dksX11_goesCasting_3 2 rfl rfl)
theorem dX11_goesCasting_76 : decode cX11_goesCasting 76 = .ok (.iload 6, 2) := dk_21 6 (dk_at dksX11_goesCasting_3 5 rfl rfl)
theorem dX11_goesCasting_78 : decode cX11_goesCasting 78 = .ok (.iaload, 1) := dk_46 (dk_at dksX11_goesCasting_3 7 rfl rfl)
theorem dX11_goesCasting_79 : decode cX11_goesCasting 79 = .ok (.ior, 1) := dk_128 (dk_at dksX11_goesCasting_3 8 rfl rfl)
theorem dX11_goesCasting_80 : decode cX11_goesCasting 80 = .ok (.iastore, 1) := dk_79 (dk_at dksX11_goesCasting_3 9 rfl rfl)
theorem dX11_goesCasting_81 : decode cX11_goesCasting 81 = .ok (.iinc 6 1, 3) := dk_132 6 1 (dk_at dksX11_goesCasting_3 10 rfl rfl)
theorem dX11_goesCasting_84 : decode cX11_goesCasting 84 = .ok (.goto (-60), 3) := dk_167 255 196 (dk_at dksX11_goesCasting_3 13 rfl rfl)
theorem dX11_goesCasting_87 : decode cX11_goesCasting 87 = .ok (.aload_n 0, 1) := dk_42 (dk_at dksX11_goesCasting_3 16 rfl rfl)
theorem dX11_goesCasting_88 : decode cX11_goesCasting 88 = .ok (.dup, 1) := dk_89 (dk_at dksX11_goesCasting_3 17 rfl rfl)
theorem dX11_goesCasting_89 : decode cX11_goesCasting 89 = .ok (.getfield 394, 3) := dk_180 1 138 (dk_at dksX11_goesCasting_3 18 rfl rfl)
theorem dX11_goesCasting_92 : decode cX11_goesCasting 92 = .ok (.iconst 1, 1) := dk_4 (dk_at dksX11_goesCasting_3 21 rfl rfl)
theorem dX11_goesCasting_93 : decode cX11_goesCasting 93 = .ok (.iadd, 1) := dk_96 (dk_at dksX11_goesCasting_3 22 rfl rfl)
theorem dX11_goesCasting_94 : decode cX11_goesCasting 94 = .ok (.putfield 394, 3) := dk_181 1 138 (dk_at dksX11_goesCasting_4 0 rfl rfl)
theorem dX11_goesCasting_97 : decode cX11_goesCasting 97 = .ok (.aload_n 0, 1) := dk_42 (dk_at dksX11_goesCasting_4 3 rfl rfl)
theorem dX11_goesCasting_98 : decode cX11_goesCasting 98 = .ok (.dup, 1) := dk_89 (dk_at dksX11_goesCasting_4 4 rfl rfl)
theorem dX11_goesCasting_99 : decode cX11_goesCasting 99 = .ok (.getfield 397, 3) := dk_180 1 141 (dk_at dksX11_goesCasting_4 5 rfl rfl)
theorem dX11_goesCasting_102 : decode cX11_goesCasting 102 = .ok (.iload_n 3, 1) := dk_29 (dk_at dksX11_goesCasting_4 8 rfl rfl)
theorem dX11_goesCasting_103 : decode cX11_goesCasting 103 = .ok (.iand, 1) := dk_126 (dk_at dksX11_goesCasting_4 9 rfl rfl)
theorem dX11_goesCasting_104 : decode cX11_goesCasting 104 = .ok (.putfield 397, 3) := dk_181 1 141 (dk_at dksX11_goesCasting_4 10 rfl rfl)
theorem dX11_goesCasting_107 : decode cX11_goesCasting 107 = .ok (.return_, 1) := dk_177 (dk_at dksX11_goesCasting_4 13 rfl rfl)
theorem dX11_goesCasting_108 : decode cX11_goesCasting 108 = .ok (.aload_n 0, 1) := dk_42 (dk_at dksX11_goesCasting_4 14 rfl rfl)
theorem dX11_goesCasting_109 : decode cX11_goesCasting 109 = .ok (.getfield 106, 3) := dk_180 0 106 (dk_at dksX11_goesCasting_4 15 rfl rfl)
theorem dX11_goesCasting_112 : decode cX11_goesCasting 112 = .ok (.iload_n 2, 1) := dk_28 (dk_at dksX11_goesCasting_4 18 rfl rfl)
theorem dX11_goesCasting_113 : decode cX11_goesCasting 113 = .ok (.iaload, 1) := dk_46 (dk_at dksX11_goesCasting_4 19 rfl rfl)
theorem dX11_goesCasting_114 : decode cX11_goesCasting 114 = .ok (.istore 6, 2) := dk_54 6 (dk_at dksX11_goesCasting_4 20 rfl rfl)
theorem dX11_goesCasting_116 : decode cX11_goesCasting 116 = .ok (.aload_n 1, 1) := dk_43 (dk_at dksX11_goesCasting_4 22 rfl rfl)
theorem dX11_goesCasting_117 : decode cX11_goesCasting 117 = .ok (.bipush 9, 2) := dk_16 9 (dk_at dksX11_goesCasting_5 0 rfl rfl)
theorem dX11_goesCasting_119 : decode cX11_goesCasting 119 = .ok (.iload 6, 2) := dk_21 6 (dk_at dksX11_goesCasting_5 2 rfl rfl)
theorem dX11_goesCasting_121 : decode cX11_goesCasting 121 = .ok (.iadd, 1) := dk_96 (dk_at dksX11_goesCasting_5 4 rfl rfl)
theorem dX11_goesCasting_122 : decode cX11_goesCasting 122 = .ok (.iaload, 1) := dk_46 (dk_at dksX11_goesCasting_5 5 rfl rfl)
theorem dX11_goesCasting_123 : decode cX11_goesCasting 123 = .ok (.aload_n 0, 1) := dk_42 (dk_at dksX11_goesCasting_5 6 rfl rfl)
theorem dX11_goesCasting_124 : decode cX11_goesCasting 124 = .ok (.getfield 109, 3) := dk_180 0 109 (dk_at dksX11_goesCasting_5 7 rfl rfl)
theorem dX11_goesCasting_127 : decode cX11_goesCasting 127 = .ok (.iload_n 2, 1) := dk_28 (dk_at dksX11_goesCasting_5 10 rfl rfl)
theorem dX11_goesCasting_128 : decode cX11_goesCasting 128 = .ok (.iaload, 1) := dk_46 (dk_at dksX11_goesCasting_5 11 rfl rfl)
theorem dX11_goesCasting_129 : decode cX11_goesCasting 129 = .ok (.if_icmp .ge 4, 3) := dk_162 0 4 (dk_at dksX11_goesCasting_5 12 rfl rfl)
theorem dX11_goesCasting_132 : decode cX11_goesCasting 132 = .ok (.return_, 1) := dk_177 (dk_at dksX11_goesCasting_5 15 rfl rfl)
theorem dX11_goesCasting_133 : decode cX11_goesCasting 133 = .ok (.iconst 1, 1) := dk_4 (dk_at dksX11_goesCasting_5 16 rfl rfl)
theorem dX11_goesCasting_134 : decode cX11_goesCasting 134 = .ok (.istore 7, 2) := dk_54 7 (dk_at dksX11_goesCasting_5 17 rfl rfl)
theorem dX11_goesCasting_136 : decode cX11_goesCasting 136 = .ok (.iload 7, 2) := dk_21 7 (dk_at dksX11_goesCasting_5 19 rfl rfl)
theorem dX11_goesCasting_138 : decode cX11_goesCasting 138 = .ok (.iconst 1, 1) := dk_4 (dk_at dksX11_goesCasting_5 21 rfl rfl)
theorem dX11_goesCasting_139 : decode cX11_goesCasting 139 = .ok (.aload_n 0, 1) := dk_42 (dk_at dksX11_goesCasting_5 22 rfl rfl)
theorem dX11_goesCasting_140 : decode cX11_goesCasting 140 = .ok (.getfield 23, 3) := dk_180 0 23 (dk_at dksX11_goesCasting_6 0 rfl rfl)
theorem dX11_goesCasting_143 : decode cX11_goesCasting 143 = .ok (.iconst 0, 1) := dk_3 (dk_at dksX11_goesCasting_6 3 rfl rfl)
theorem dX11_goesCasting_144 : decode cX11_goesCasting 144 = .ok (.iaload, 1) := dk_46 (dk_at dksX11_goesCasting_6 4 rfl rfl)
theorem dX11_goesCasting_145 : decode cX11_goesCasting 145 = .ok (.ishl, 1) := dk_120 (dk_at dksX11_goesCasting_6 5 rfl rfl)
theorem dX11_goesCasting_146 : decode cX11_goesCasting 146 = .ok (.if_icmp .ge 83, 3) := dk_162 0 83 (dk_at dksX11_goesCasting_6 6 rfl rfl)
theorem dX11_goesCasting_149 : decode cX11_goesCasting 149 = .ok (.iload 7, 2) := dk_21 7 (dk_at dksX11_goesCasting_6 9 rfl rfl)
theorem dX11_goesCasting_151 : decode cX11_goesCasting 151 = .ok (.invokestatic 246, 3) := dk_184 0 246 (dk_at dksX11_goesCasting_6 11 rfl rfl)
theorem dX11_goesCasting_154 : decode cX11_goesCasting 154 = .ok (.aload_n 0, 1) := dk_42 (dk_at dksX11_goesCasting_6 14 rfl rfl)
theorem dX11_goesCasting_155 : decode cX11_goesCasting 155 = .ok (.getfield 55, 3) := dk_180 0 55 (dk_at dksX11_goesCasting_6 15 rfl rfl)
theorem dX11_goesCasting_158 : decode cX11_goesCasting 158 = .ok (.iload 6, 2) := dk_21 6 (dk_at dksX11_goesCasting_6 18 rfl rfl)
theorem dX11_goesCasting_160 : decode cX11_goesCasting 160 = .ok (.aaload, 1) := dk_50 (dk_at dksX11_goesCasting_6 20 rfl rfl)
theorem dX11_goesCasting_161 : decode cX11_goesCasting 161 = .ok (.iconst 1, 1) := dk_4 (dk_at dksX11_goesCasting_6 21 rfl rfl)
theorem dX11_goesCasting_162 : decode cX11_goesCasting 162 = .ok (.iaload, 1) := dk_46 (dk_at dksX11_goesCasting_6 22 rfl rfl)
theorem dX11_goesCasting_163 : decode cX11_goesCasting 163 = .ok (.if_icmp .ne 60, 3) := dk_160 0 60 (dk_at dksX11_goesCasting_7 0 rfl rfl)
theorem dX11_goesCasting_166 : decode cX11_goesCasting 166 = .ok (.iload 7, 2) := dk_21 7 (dk_at dksX11_goesCasting_7 3 rfl rfl)
theorem dX11_goesCasting_168 : decode cX11_goesCasting 168 = .ok (.iload_n 3, 1) := dk_29 (dk_at dksX11_goesCasting_7 5 rfl rfl)
theorem dX11_goesCasting_169 : decode cX11_goesCasting 169 = .ok (.aload_n 0, 1) := dk_42 (dk_at dksX11_goesCasting_7 6 rfl rfl)
theorem dX11_goesCasting_170 : decode cX11_goesCasting 170 = .ok (.getfield 35, 3) := dk_180 0 35 (dk_at dksX11_goesCasting_7 7 rfl rfl)
theorem dX11_goesCasting_173 : decode cX11_goesCasting 173 = .ok (.iload 6, 2) := dk_21 6 (dk_at dksX11_goesCasting_7 10 rfl rfl)
theorem dX11_goesCasting_175 : decode cX11_goesCasting 175 = .ok (.iaload, 1) := dk_46 (dk_at dksX11_goesCasting_7 12 rfl rfl)
theorem dX11_goesCasting_176 : decode cX11_goesCasting 176 = .ok (.ior, 1) := dk_128 (dk_at dksX11_goesCasting_7 13 rfl rfl)
theorem dX11_goesCasting_177 : decode cX11_goesCasting 177 = .ok (.iload 4, 2) := dk_21 4 (dk_at dksX11_goesCasting_7 14 rfl rfl)
theorem dX11_goesCasting_179 : decode cX11_goesCasting 179 = .ok (.iconst (-1), 1) := dk_2 (dk_at dksX11_goesCasting_7 16 rfl rfl)
theorem dX11_goesCasting_180 : decode cX11_goesCasting 180 = .ok (.ixor, 1) := dk_130 (dk_at dksX11_goesCasting_7 17 rfl rfl)
theorem dX11_goesCasting_181 : decode cX11_goesCasting 181 = .ok (.ior, 1) := dk_128 (dk_at dksX11_goesCasting_7 18 rfl rfl)
theorem dX11_goesCasting_182 : decode cX11_goesCasting 182 = .ok (.iand, 1) := dk_126 (dk_at dksX11_goesCasting_7 19 rfl rfl)
theorem dX11_goesCasting_183 : decode cX11_goesCasting 183 = .ok (.ifCond .ne 40, 3) := dk_154 0 40 (dk_at dksX11_goesCasting_7 20 rfl rfl)
theorem dX11_goesCasting_186 : decode cX11_goesCasting 186 = .ok (.aload_n 0, 1) := dk_42 (dk_at dksX11_goesCasting_7 23 rfl rfl)
theorem dX11_goesCasting_187 : decode cX11_goesCasting 187 = .ok (.iload_n 3, 1) := dk_29 (dk_at dksX11_goesCasting_8 0 rfl rfl)
theorem dX11_goesCasting_188 : decode cX11_goesCasting 188 = .ok (.iload 7, 2) := dk_21 7 (dk_at dksX11_goesCasting_8 1 rfl rfl)
theorem dX11_goesCasting_190 : decode cX11_goesCasting 190 = .ok (.invokevirtual 400, 3) := dk_182 1 144 (dk_at dksX11_goesCasting_8 3 rfl rfl)
theorem dX11_goesCasting_193 : decode cX11_goesCasting 193 = .ok (.ifCond .ne 6, 3) := dk_154 0 6 (dk_at dksX11_goesCasting_8 6 rfl rfl)
theorem dX11_goesCasting_196 : decode cX11_goesCasting 196 = .ok (.goto 27, 3) := dk_167 0 27 (dk_at dksX11_goesCasting_8 9 rfl rfl)
theorem dX11_goesCasting_199 : decode cX11_goesCasting 199 = .ok (.aload_n 0, 1) := dk_42 (dk_at dksX11_goesCasting_8 12 rfl rfl)
theorem dX11_goesCasting_200 : decode cX11_goesCasting 200 = .ok (.getfield 112, 3) := dk_180 0 112 (dk_at dksX11_goesCasting_8 13 rfl rfl)
theorem dX11_goesCasting_203 : decode cX11_goesCasting 203 = .ok (.iload_n 2, 1) := dk_28 (dk_at dksX11_goesCasting_8 16 rfl rfl)
theorem dX11_goesCasting_204 : decode cX11_goesCasting 204 = .ok (.iload 7, 2) := dk_21 7 (dk_at dksX11_goesCasting_8 17 rfl rfl)
theorem dX11_goesCasting_206 : decode cX11_goesCasting 206 = .ok (.iastore, 1) := dk_79 (dk_at dksX11_goesCasting_8 19 rfl rfl)
theorem dX11_goesCasting_207 : decode cX11_goesCasting 207 = .ok (.aload_n 0, 1) := dk_42 (dk_at dksX11_goesCasting_8 20 rfl rfl)
theorem dX11_goesCasting_208 : decode cX11_goesCasting 208 = .ok (.aload_n 1, 1) := dk_43 (dk_at dksX11_goesCasting_8 21 rfl rfl)
theorem dX11_goesCasting_209 : decode cX11_goesCasting 209 = .ok (.iload_n 2, 1) := dk_28 (dk_at dksX11_goesCasting_8 22 rfl rfl)
theorem dX11_goesCasting_210 : decode cX11_goesCasting 210 = .ok (.iconst 1, 1) := dk_4 (dk_at dksX11_goesCasting_8 23 rfl rfl)
theorem dX11_goesCasting_211 : decode cX11_goesCasting 211 = .ok (.iadd, 1) := dk_96 (dk_at dksX11_goesCasting_9 0 rfl rfl)
theorem dX11_goesCasting_212 : decode cX11_goesCasting 212 = .ok (.iload_n 3, 1) := dk_29 (dk_at dksX11_goesCasting_9 1 rfl rfl)
theorem dX11_goesCasting_213 : decode cX11_goesCasting 213 = .ok (.iload 7, 2) := dk_21 7 (dk_at dksX11_goesCasting_9 2 rfl rfl)
theorem dX11_goesCasting_215 : decode cX11_goesCasting 215 = .ok (.ior, 1) := dk_128 (dk_at dksX11_goesCasting_9 4 rfl rfl)
theorem dX11_goesCasting_216 : decode cX11_goesCasting 216 = .ok (.iload 4, 2) := dk_21 4 (dk_at dksX11_goesCasting_9 5 rfl rfl)
theorem dX11_goesCasting_218 : decode cX11_goesCasting 218 = .ok (.iload 5, 2) := dk_21 5 (dk_at dksX11_goesCasting_9 7 rfl rfl)
theorem dX11_goesCasting_220 : decode cX11_goesCasting 220 = .ok (.invokevirtual 403, 3) := dk_182 1 147 (dk_at dksX11_goesCasting_9 9 rfl rfl)
theorem dX11_goesCasting_223 : decode cX11_goesCasting 223 = .ok (.iinc 7 1, 3) := dk_132 7 1 (dk_at dksX11_goesCasting_9 12 rfl rfl)
theorem dX11_goesCasting_226 : decode cX11_goesCasting 226 = .ok (.goto (-90), 3) := dk_167 255 166 (dk_at dksX11_goesCasting_9 15 rfl rfl)
theorem dX11_goesCasting_229 : decode cX11_goesCasting 229 = .ok (.return_, 1) := dk_177 (dk_at dksX11_goesCasting_9 18 rfl rfl)
abbrev cX11_speaksWith : ByteArray := prog_22_method_89_code
def yX11_speaksWith : MethodName := ⟨RX11, "speaksWith", "(II)Z"⟩
def dkwX11_speaksWith_1 : List UInt8 := [29, 46, 27, 28, 128, 126, 153, 0, 5, 3, 172, 132, 3, 1, 167, 255, 220, 4, 172]
abbrev dktX11_speaksWith_1 : List UInt8 := dkwX11_speaksWith_1 ++ []
def dkwX11_speaksWith_0 : List UInt8 := [3, 62, 29, 42, 180, 0, 23, 3, 46, 162, 0, 32, 28, 29, 184, 0, 242, 153, 0, 18, 42, 180, 0, 41]
abbrev dktX11_speaksWith_0 : List UInt8 := dkwX11_speaksWith_0 ++ dktX11_speaksWith_1
theorem dksX11_speaksWith_0 : cX11_speaksWith.data.toList.drop 0 = dktX11_speaksWith_0 := by decide +kernel
theorem dksX11_speaksWith_1 : cX11_speaksWith.data.toList.drop 24 = dktX11_speaksWith_1 := dk_seg dksX11_speaksWith_0 24 rfl rfl
theorem dX11_speaksWith_0 : decode cX11_speaksWith 0 = .ok (.iconst 0, 1) := dk_3 (dk_at dksX11_speaksWith_0 0 rfl rfl)
theorem dX11_speaksWith_1 : decode cX11_speaksWith 1 = .ok (.istore_n 3, 1) := dk_62 (dk_at dksX11_speaksWith_0 1 rfl rfl)
theorem dX11_speaksWith_2 : decode cX11_speaksWith 2 = .ok (.iload_n 3, 1) := dk_29 (dk_at dksX11_speaksWith_0 2 rfl rfl)
theorem dX11_speaksWith_3 : decode cX11_speaksWith 3 = .ok (.aload_n 0, 1) := dk_42 (dk_at dksX11_speaksWith_0 3 rfl rfl)
theorem dX11_speaksWith_4 : decode cX11_speaksWith 4 = .ok (.getfield 23, 3) := dk_180 0 23 (dk_at dksX11_speaksWith_0 4 rfl rfl)
theorem dX11_speaksWith_7 : decode cX11_speaksWith 7 = .ok (.iconst 0, 1) := dk_3 (dk_at dksX11_speaksWith_0 7 rfl rfl)
theorem dX11_speaksWith_8 : decode cX11_speaksWith 8 = .ok (.iaload, 1) := dk_46 (dk_at dksX11_speaksWith_0 8 rfl rfl)
theorem dX11_speaksWith_9 : decode cX11_speaksWith 9 = .ok (.if_icmp .ge 32, 3) := dk_162 0 32 (dk_at dksX11_speaksWith_0 9 rfl rfl)
theorem dX11_speaksWith_12 : decode cX11_speaksWith 12 = .ok (.iload_n 2, 1) := dk_28 (dk_at dksX11_speaksWith_0 12 rfl rfl)
theorem dX11_speaksWith_13 : decode cX11_speaksWith 13 = .ok (.iload_n 3, 1) := dk_29 (dk_at dksX11_speaksWith_0 13 rfl rfl)
theorem dX11_speaksWith_14 : decode cX11_speaksWith 14 = .ok (.invokestatic 242, 3) := dk_184 0 242 (dk_at dksX11_speaksWith_0 14 rfl rfl)
theorem dX11_speaksWith_17 : decode cX11_speaksWith 17 = .ok (.ifCond .eq 18, 3) := dk_153 0 18 (dk_at dksX11_speaksWith_0 17 rfl rfl)
theorem dX11_speaksWith_20 : decode cX11_speaksWith 20 = .ok (.aload_n 0, 1) := dk_42 (dk_at dksX11_speaksWith_0 20 rfl rfl)
theorem dX11_speaksWith_21 : decode cX11_speaksWith 21 = .ok (.getfield 41, 3) := dk_180 0 41 (dk_at dksX11_speaksWith_0 21 rfl rfl)
theorem dX11_speaksWith_24 : decode cX11_speaksWith 24 = .ok (.iload_n 3, 1) := dk_29 (dk_at dksX11_speaksWith_1 0 rfl rfl)
theorem dX11_speaksWith_25 : decode cX11_speaksWith 25 = .ok (.iaload, 1) := dk_46 (dk_at dksX11_speaksWith_1 1 rfl rfl)
theorem dX11_speaksWith_26 : decode cX11_speaksWith 26 = .ok (.iload_n 1, 1) := dk_27 (dk_at dksX11_speaksWith_1 2 rfl rfl)
theorem dX11_speaksWith_27 : decode cX11_speaksWith 27 = .ok (.iload_n 2, 1) := dk_28 (dk_at dksX11_speaksWith_1 3 rfl rfl)
theorem dX11_speaksWith_28 : decode cX11_speaksWith 28 = .ok (.ior, 1) := dk_128 (dk_at dksX11_speaksWith_1 4 rfl rfl)
theorem dX11_speaksWith_29 : decode cX11_speaksWith 29 = .ok (.iand, 1) := dk_126 (dk_at dksX11_speaksWith_1 5 rfl rfl)
theorem dX11_speaksWith_30 : decode cX11_speaksWith 30 = .ok (.ifCond .eq 5, 3) := dk_153 0 5 (dk_at dksX11_speaksWith_1 6 rfl rfl)
theorem dX11_speaksWith_33 : decode cX11_speaksWith 33 = .ok (.iconst 0, 1) := dk_3 (dk_at dksX11_speaksWith_1 9 rfl rfl)
theorem dX11_speaksWith_34 : decode cX11_speaksWith 34 = .ok (.ireturn, 1) := dk_172 (dk_at dksX11_speaksWith_1 10 rfl rfl)
theorem dX11_speaksWith_35 : decode cX11_speaksWith 35 = .ok (.iinc 3 1, 3) := dk_132 3 1 (dk_at dksX11_speaksWith_1 11 rfl rfl)
theorem dX11_speaksWith_38 : decode cX11_speaksWith 38 = .ok (.goto (-36), 3) := dk_167 255 220 (dk_at dksX11_speaksWith_1 14 rfl rfl)
theorem dX11_speaksWith_41 : decode cX11_speaksWith 41 = .ok (.iconst 1, 1) := dk_4 (dk_at dksX11_speaksWith_1 17 rfl rfl)
theorem dX11_speaksWith_42 : decode cX11_speaksWith 42 = .ok (.ireturn, 1) := dk_172 (dk_at dksX11_speaksWith_1 18 rfl rfl)
abbrev cX11_fades : ByteArray := prog_22_method_83_code
def yX11_fades : MethodName := ⟨RX11, "fades", "(I)I"⟩
def dkwX11_fades_4 : List UInt8 := [167, 255, 219, 2, 172]
abbrev dktX11_fades_4 : List UInt8 := dkwX11_fades_4 ++ []
def dkwX11_fades_3 : List UInt8 := [180, 0, 100, 16, 9, 27, 96, 46, 154, 0, 11, 42, 180, 0, 100, 16, 106, 46, 172, 132, 2, 1]
abbrev dktX11_fades_3 : List UInt8 := dkwX11_fades_3 ++ dktX11_fades_4
def dkwX11_fades_2 : List UInt8 := [180, 0, 100, 184, 1, 10, 3, 61, 28, 16, 60, 162, 0, 37, 42, 42, 180, 0, 100, 182, 1, 129, 42]
abbrev dktX11_fades_2 : List UInt8 := dkwX11_fades_2 ++ dktX11_fades_3
def dkwX11_fades_1 : List UInt8 := [153, 0, 5, 3, 172, 42, 180, 0, 91, 16, 9, 27, 96, 46, 154, 0, 5, 3, 172, 42, 180, 0, 91, 42]
abbrev dktX11_fades_1 : List UInt8 := dkwX11_fades_1 ++ dktX11_fades_2
def dkwX11_fades_0 : List UInt8 := [42, 3, 181, 0, 134, 42, 42, 27, 182, 1, 82, 154, 0, 7, 4, 167, 0, 4, 3, 4, 3, 182, 0, 249]
abbrev dktX11_fades_0 : List UInt8 := dkwX11_fades_0 ++ dktX11_fades_1
theorem dksX11_fades_0 : cX11_fades.data.toList.drop 0 = dktX11_fades_0 := by decide +kernel
theorem dksX11_fades_1 : cX11_fades.data.toList.drop 24 = dktX11_fades_1 := dk_seg dksX11_fades_0 24 rfl rfl
theorem dksX11_fades_2 : cX11_fades.data.toList.drop 48 = dktX11_fades_2 := dk_seg dksX11_fades_1 24 rfl rfl
theorem dksX11_fades_3 : cX11_fades.data.toList.drop 71 = dktX11_fades_3 := dk_seg dksX11_fades_2 23 rfl rfl
theorem dksX11_fades_4 : cX11_fades.data.toList.drop 93 = dktX11_fades_4 := dk_seg dksX11_fades_3 22 rfl rfl
theorem dX11_fades_0 : decode cX11_fades 0 = .ok (.aload_n 0, 1) := dk_42 (dk_at dksX11_fades_0 0 rfl rfl)
theorem dX11_fades_1 : decode cX11_fades 1 = .ok (.iconst 0, 1) := dk_3 (dk_at dksX11_fades_0 1 rfl rfl)
theorem dX11_fades_2 : decode cX11_fades 2 = .ok (.putfield 134, 3) := dk_181 0 134 (dk_at dksX11_fades_0 2 rfl rfl)
theorem dX11_fades_5 : decode cX11_fades 5 = .ok (.aload_n 0, 1) := dk_42 (dk_at dksX11_fades_0 5 rfl rfl)
theorem dX11_fades_6 : decode cX11_fades 6 = .ok (.aload_n 0, 1) := dk_42 (dk_at dksX11_fades_0 6 rfl rfl)
theorem dX11_fades_7 : decode cX11_fades 7 = .ok (.iload_n 1, 1) := dk_27 (dk_at dksX11_fades_0 7 rfl rfl)
theorem dX11_fades_8 : decode cX11_fades 8 = .ok (.invokevirtual 338, 3) := dk_182 1 82 (dk_at dksX11_fades_0 8 rfl rfl)
theorem dX11_fades_11 : decode cX11_fades 11 = .ok (.ifCond .ne 7, 3) := dk_154 0 7 (dk_at dksX11_fades_0 11 rfl rfl)
theorem dX11_fades_14 : decode cX11_fades 14 = .ok (.iconst 1, 1) := dk_4 (dk_at dksX11_fades_0 14 rfl rfl)
theorem dX11_fades_15 : decode cX11_fades 15 = .ok (.goto 4, 3) := dk_167 0 4 (dk_at dksX11_fades_0 15 rfl rfl)
theorem dX11_fades_18 : decode cX11_fades 18 = .ok (.iconst 0, 1) := dk_3 (dk_at dksX11_fades_0 18 rfl rfl)
theorem dX11_fades_19 : decode cX11_fades 19 = .ok (.iconst 1, 1) := dk_4 (dk_at dksX11_fades_0 19 rfl rfl)
theorem dX11_fades_20 : decode cX11_fades 20 = .ok (.iconst 0, 1) := dk_3 (dk_at dksX11_fades_0 20 rfl rfl)
theorem dX11_fades_21 : decode cX11_fades 21 = .ok (.invokevirtual 249, 3) := dk_182 0 249 (dk_at dksX11_fades_0 21 rfl rfl)
theorem dX11_fades_24 : decode cX11_fades 24 = .ok (.ifCond .eq 5, 3) := dk_153 0 5 (dk_at dksX11_fades_1 0 rfl rfl)
theorem dX11_fades_27 : decode cX11_fades 27 = .ok (.iconst 0, 1) := dk_3 (dk_at dksX11_fades_1 3 rfl rfl)
theorem dX11_fades_28 : decode cX11_fades 28 = .ok (.ireturn, 1) := dk_172 (dk_at dksX11_fades_1 4 rfl rfl)
theorem dX11_fades_29 : decode cX11_fades 29 = .ok (.aload_n 0, 1) := dk_42 (dk_at dksX11_fades_1 5 rfl rfl)
theorem dX11_fades_30 : decode cX11_fades 30 = .ok (.getfield 91, 3) := dk_180 0 91 (dk_at dksX11_fades_1 6 rfl rfl)
theorem dX11_fades_33 : decode cX11_fades 33 = .ok (.bipush 9, 2) := dk_16 9 (dk_at dksX11_fades_1 9 rfl rfl)
theorem dX11_fades_35 : decode cX11_fades 35 = .ok (.iload_n 1, 1) := dk_27 (dk_at dksX11_fades_1 11 rfl rfl)
theorem dX11_fades_36 : decode cX11_fades 36 = .ok (.iadd, 1) := dk_96 (dk_at dksX11_fades_1 12 rfl rfl)
theorem dX11_fades_37 : decode cX11_fades 37 = .ok (.iaload, 1) := dk_46 (dk_at dksX11_fades_1 13 rfl rfl)
theorem dX11_fades_38 : decode cX11_fades 38 = .ok (.ifCond .ne 5, 3) := dk_154 0 5 (dk_at dksX11_fades_1 14 rfl rfl)
theorem dX11_fades_41 : decode cX11_fades 41 = .ok (.iconst 0, 1) := dk_3 (dk_at dksX11_fades_1 17 rfl rfl)
theorem dX11_fades_42 : decode cX11_fades 42 = .ok (.ireturn, 1) := dk_172 (dk_at dksX11_fades_1 18 rfl rfl)
theorem dX11_fades_43 : decode cX11_fades 43 = .ok (.aload_n 0, 1) := dk_42 (dk_at dksX11_fades_1 19 rfl rfl)
theorem dX11_fades_44 : decode cX11_fades 44 = .ok (.getfield 91, 3) := dk_180 0 91 (dk_at dksX11_fades_1 20 rfl rfl)
theorem dX11_fades_47 : decode cX11_fades 47 = .ok (.aload_n 0, 1) := dk_42 (dk_at dksX11_fades_1 23 rfl rfl)
theorem dX11_fades_48 : decode cX11_fades 48 = .ok (.getfield 100, 3) := dk_180 0 100 (dk_at dksX11_fades_2 0 rfl rfl)
theorem dX11_fades_51 : decode cX11_fades 51 = .ok (.invokestatic 266, 3) := dk_184 1 10 (dk_at dksX11_fades_2 3 rfl rfl)
theorem dX11_fades_54 : decode cX11_fades 54 = .ok (.iconst 0, 1) := dk_3 (dk_at dksX11_fades_2 6 rfl rfl)
theorem dX11_fades_55 : decode cX11_fades 55 = .ok (.istore_n 2, 1) := dk_61 (dk_at dksX11_fades_2 7 rfl rfl)
theorem dX11_fades_56 : decode cX11_fades 56 = .ok (.iload_n 2, 1) := dk_28 (dk_at dksX11_fades_2 8 rfl rfl)
theorem dX11_fades_57 : decode cX11_fades 57 = .ok (.bipush 60, 2) := dk_16 60 (dk_at dksX11_fades_2 9 rfl rfl)
theorem dX11_fades_59 : decode cX11_fades 59 = .ok (.if_icmp .ge 37, 3) := dk_162 0 37 (dk_at dksX11_fades_2 11 rfl rfl)
theorem dX11_fades_62 : decode cX11_fades 62 = .ok (.aload_n 0, 1) := dk_42 (dk_at dksX11_fades_2 14 rfl rfl)
theorem dX11_fades_63 : decode cX11_fades 63 = .ok (.aload_n 0, 1) := dk_42 (dk_at dksX11_fades_2 15 rfl rfl)
theorem dX11_fades_64 : decode cX11_fades 64 = .ok (.getfield 100, 3) := dk_180 0 100 (dk_at dksX11_fades_2 16 rfl rfl)
theorem dX11_fades_67 : decode cX11_fades 67 = .ok (.invokevirtual 385, 3) := dk_182 1 129 (dk_at dksX11_fades_2 19 rfl rfl)
theorem dX11_fades_70 : decode cX11_fades 70 = .ok (.aload_n 0, 1) := dk_42 (dk_at dksX11_fades_2 22 rfl rfl)
theorem dX11_fades_71 : decode cX11_fades 71 = .ok (.getfield 100, 3) := dk_180 0 100 (dk_at dksX11_fades_3 0 rfl rfl)
theorem dX11_fades_74 : decode cX11_fades 74 = .ok (.bipush 9, 2) := dk_16 9 (dk_at dksX11_fades_3 3 rfl rfl)
theorem dX11_fades_76 : decode cX11_fades 76 = .ok (.iload_n 1, 1) := dk_27 (dk_at dksX11_fades_3 5 rfl rfl)
theorem dX11_fades_77 : decode cX11_fades 77 = .ok (.iadd, 1) := dk_96 (dk_at dksX11_fades_3 6 rfl rfl)
theorem dX11_fades_78 : decode cX11_fades 78 = .ok (.iaload, 1) := dk_46 (dk_at dksX11_fades_3 7 rfl rfl)
theorem dX11_fades_79 : decode cX11_fades 79 = .ok (.ifCond .ne 11, 3) := dk_154 0 11 (dk_at dksX11_fades_3 8 rfl rfl)
theorem dX11_fades_82 : decode cX11_fades 82 = .ok (.aload_n 0, 1) := dk_42 (dk_at dksX11_fades_3 11 rfl rfl)
theorem dX11_fades_83 : decode cX11_fades 83 = .ok (.getfield 100, 3) := dk_180 0 100 (dk_at dksX11_fades_3 12 rfl rfl)
theorem dX11_fades_86 : decode cX11_fades 86 = .ok (.bipush 106, 2) := dk_16 106 (dk_at dksX11_fades_3 15 rfl rfl)
theorem dX11_fades_88 : decode cX11_fades 88 = .ok (.iaload, 1) := dk_46 (dk_at dksX11_fades_3 17 rfl rfl)
theorem dX11_fades_89 : decode cX11_fades 89 = .ok (.ireturn, 1) := dk_172 (dk_at dksX11_fades_3 18 rfl rfl)
theorem dX11_fades_90 : decode cX11_fades 90 = .ok (.iinc 2 1, 3) := dk_132 2 1 (dk_at dksX11_fades_3 19 rfl rfl)
theorem dX11_fades_93 : decode cX11_fades 93 = .ok (.goto (-37), 3) := dk_167 255 219 (dk_at dksX11_fades_4 0 rfl rfl)
theorem dX11_fades_96 : decode cX11_fades 96 = .ok (.iconst (-1), 1) := dk_2 (dk_at dksX11_fades_4 3 rfl rfl)
theorem dX11_fades_97 : decode cX11_fades 97 = .ok (.ireturn, 1) := dk_172 (dk_at dksX11_fades_4 4 rfl rfl)
abbrev cX11_dies : ByteArray := prog_22_method_84_code
def yX11_dies : MethodName := ⟨RX11, "dies", "(I)I"⟩
def dkwX11_dies_2 : List UInt8 := [27, 182, 1, 78, 184, 0, 246, 61, 42, 42, 180, 0, 91, 27, 182, 1, 122, 42, 182, 1, 23, 28, 172]
abbrev dktX11_dies_2 : List UInt8 := dkwX11_dies_2 ++ []
def dkwX11_dies_1 : List UInt8 := [153, 0, 5, 3, 172, 42, 42, 180, 0, 91, 27, 182, 1, 64, 154, 0, 5, 2, 172, 42, 42, 180, 0, 91]
abbrev dktX11_dies_1 : List UInt8 := dkwX11_dies_1 ++ dktX11_dies_2
def dkwX11_dies_0 : List UInt8 := [42, 3, 181, 0, 134, 42, 42, 27, 182, 1, 75, 154, 0, 7, 4, 167, 0, 4, 3, 4, 3, 182, 0, 249]
abbrev dktX11_dies_0 : List UInt8 := dkwX11_dies_0 ++ dktX11_dies_1
theorem dksX11_dies_0 : cX11_dies.data.toList.drop 0 = dktX11_dies_0 := by decide +kernel
theorem dksX11_dies_1 : cX11_dies.data.toList.drop 24 = dktX11_dies_1 := dk_seg dksX11_dies_0 24 rfl rfl
theorem dksX11_dies_2 : cX11_dies.data.toList.drop 48 = dktX11_dies_2 := dk_seg dksX11_dies_1 24 rfl rfl
theorem dX11_dies_0 : decode cX11_dies 0 = .ok (.aload_n 0, 1) := dk_42 (dk_at dksX11_dies_0 0 rfl rfl)
theorem dX11_dies_1 : decode cX11_dies 1 = .ok (.iconst 0, 1) := dk_3 (dk_at dksX11_dies_0 1 rfl rfl)
theorem dX11_dies_2 : decode cX11_dies 2 = .ok (.putfield 134, 3) := dk_181 0 134 (dk_at dksX11_dies_0 2 rfl rfl)
theorem dX11_dies_5 : decode cX11_dies 5 = .ok (.aload_n 0, 1) := dk_42 (dk_at dksX11_dies_0 5 rfl rfl)
theorem dX11_dies_6 : decode cX11_dies 6 = .ok (.aload_n 0, 1) := dk_42 (dk_at dksX11_dies_0 6 rfl rfl)
theorem dX11_dies_7 : decode cX11_dies 7 = .ok (.iload_n 1, 1) := dk_27 (dk_at dksX11_dies_0 7 rfl rfl)
theorem dX11_dies_8 : decode cX11_dies 8 = .ok (.invokevirtual 331, 3) := dk_182 1 75 (dk_at dksX11_dies_0 8 rfl rfl)
theorem dX11_dies_11 : decode cX11_dies 11 = .ok (.ifCond .ne 7, 3) := dk_154 0 7 (dk_at dksX11_dies_0 11 rfl rfl)
theorem dX11_dies_14 : decode cX11_dies 14 = .ok (.iconst 1, 1) := dk_4 (dk_at dksX11_dies_0 14 rfl rfl)
theorem dX11_dies_15 : decode cX11_dies 15 = .ok (.goto 4, 3) := dk_167 0 4 (dk_at dksX11_dies_0 15 rfl rfl)
theorem dX11_dies_18 : decode cX11_dies 18 = .ok (.iconst 0, 1) := dk_3 (dk_at dksX11_dies_0 18 rfl rfl)
theorem dX11_dies_19 : decode cX11_dies 19 = .ok (.iconst 1, 1) := dk_4 (dk_at dksX11_dies_0 19 rfl rfl)
theorem dX11_dies_20 : decode cX11_dies 20 = .ok (.iconst 0, 1) := dk_3 (dk_at dksX11_dies_0 20 rfl rfl)
theorem dX11_dies_21 : decode cX11_dies 21 = .ok (.invokevirtual 249, 3) := dk_182 0 249 (dk_at dksX11_dies_0 21 rfl rfl)
theorem dX11_dies_24 : decode cX11_dies 24 = .ok (.ifCond .eq 5, 3) := dk_153 0 5 (dk_at dksX11_dies_1 0 rfl rfl)
theorem dX11_dies_27 : decode cX11_dies 27 = .ok (.iconst 0, 1) := dk_3 (dk_at dksX11_dies_1 3 rfl rfl)
theorem dX11_dies_28 : decode cX11_dies 28 = .ok (.ireturn, 1) := dk_172 (dk_at dksX11_dies_1 4 rfl rfl)
theorem dX11_dies_29 : decode cX11_dies 29 = .ok (.aload_n 0, 1) := dk_42 (dk_at dksX11_dies_1 5 rfl rfl)
theorem dX11_dies_30 : decode cX11_dies 30 = .ok (.aload_n 0, 1) := dk_42 (dk_at dksX11_dies_1 6 rfl rfl)
theorem dX11_dies_31 : decode cX11_dies 31 = .ok (.getfield 91, 3) := dk_180 0 91 (dk_at dksX11_dies_1 7 rfl rfl)
theorem dX11_dies_34 : decode cX11_dies 34 = .ok (.iload_n 1, 1) := dk_27 (dk_at dksX11_dies_1 10 rfl rfl)
theorem dX11_dies_35 : decode cX11_dies 35 = .ok (.invokevirtual 320, 3) := dk_182 1 64 (dk_at dksX11_dies_1 11 rfl rfl)
theorem dX11_dies_38 : decode cX11_dies 38 = .ok (.ifCond .ne 5, 3) := dk_154 0 5 (dk_at dksX11_dies_1 14 rfl rfl)
theorem dX11_dies_41 : decode cX11_dies 41 = .ok (.iconst (-1), 1) := dk_2 (dk_at dksX11_dies_1 17 rfl rfl)
theorem dX11_dies_42 : decode cX11_dies 42 = .ok (.ireturn, 1) := dk_172 (dk_at dksX11_dies_1 18 rfl rfl)
theorem dX11_dies_43 : decode cX11_dies 43 = .ok (.aload_n 0, 1) := dk_42 (dk_at dksX11_dies_1 19 rfl rfl)
theorem dX11_dies_44 : decode cX11_dies 44 = .ok (.aload_n 0, 1) := dk_42 (dk_at dksX11_dies_1 20 rfl rfl)
theorem dX11_dies_45 : decode cX11_dies 45 = .ok (.getfield 91, 3) := dk_180 0 91 (dk_at dksX11_dies_1 21 rfl rfl)
theorem dX11_dies_48 : decode cX11_dies 48 = .ok (.iload_n 1, 1) := dk_27 (dk_at dksX11_dies_2 0 rfl rfl)
theorem dX11_dies_49 : decode cX11_dies 49 = .ok (.invokevirtual 334, 3) := dk_182 1 78 (dk_at dksX11_dies_2 1 rfl rfl)
theorem dX11_dies_52 : decode cX11_dies 52 = .ok (.invokestatic 246, 3) := dk_184 0 246 (dk_at dksX11_dies_2 4 rfl rfl)
theorem dX11_dies_55 : decode cX11_dies 55 = .ok (.istore_n 2, 1) := dk_61 (dk_at dksX11_dies_2 7 rfl rfl)
theorem dX11_dies_56 : decode cX11_dies 56 = .ok (.aload_n 0, 1) := dk_42 (dk_at dksX11_dies_2 8 rfl rfl)
theorem dX11_dies_57 : decode cX11_dies 57 = .ok (.aload_n 0, 1) := dk_42 (dk_at dksX11_dies_2 9 rfl rfl)
theorem dX11_dies_58 : decode cX11_dies 58 = .ok (.getfield 91, 3) := dk_180 0 91 (dk_at dksX11_dies_2 10 rfl rfl)
theorem dX11_dies_61 : decode cX11_dies 61 = .ok (.iload_n 1, 1) := dk_27 (dk_at dksX11_dies_2 13 rfl rfl)
theorem dX11_dies_62 : decode cX11_dies 62 = .ok (.invokevirtual 378, 3) := dk_182 1 122 (dk_at dksX11_dies_2 14 rfl rfl)
theorem dX11_dies_65 : decode cX11_dies 65 = .ok (.aload_n 0, 1) := dk_42 (dk_at dksX11_dies_2 17 rfl rfl)
theorem dX11_dies_66 : decode cX11_dies 66 = .ok (.invokevirtual 279, 3) := dk_182 1 23 (dk_at dksX11_dies_2 18 rfl rfl)
theorem dX11_dies_69 : decode cX11_dies 69 = .ok (.iload_n 2, 1) := dk_28 (dk_at dksX11_dies_2 21 rfl rfl)
theorem dX11_dies_70 : decode cX11_dies 70 = .ok (.ireturn, 1) := dk_172 (dk_at dksX11_dies_2 22 rfl rfl)
abbrev cX11_string : ByteArray := prog_22_method_85_code
def yX11_string : MethodName := ⟨RX11, "string", "(II)I"⟩
def dkwX11_string_3 : List UInt8 := [28, 96, 184, 0, 229, 79, 42, 182, 1, 23, 42, 180, 0, 91, 16, 9, 27, 96, 46, 172]
abbrev dktX11_string_3 : List UInt8 := dkwX11_string_3 ++ []
def dkwX11_string_2 : List UInt8 := [153, 0, 5, 3, 172, 42, 180, 0, 91, 16, 9, 27, 96, 16, 30, 42, 180, 0, 91, 16, 9, 27, 96, 46]
abbrev dktX11_string_2 : List UInt8 := dkwX11_string_2 ++ dktX11_string_3
def dkwX11_string_1 : List UInt8 := [154, 0, 27, 42, 28, 4, 16, 30, 184, 0, 168, 154, 0, 7, 4, 167, 0, 4, 3, 5, 4, 182, 0, 249]
abbrev dktX11_string_1 : List UInt8 := dkwX11_string_1 ++ dktX11_string_2
def dkwX11_string_0 : List UInt8 := [42, 3, 181, 0, 134, 42, 42, 27, 182, 1, 82, 154, 0, 7, 4, 167, 0, 4, 3, 4, 3, 182, 0, 249]
abbrev dktX11_string_0 : List UInt8 := dkwX11_string_0 ++ dktX11_string_1
theorem dksX11_string_0 : cX11_string.data.toList.drop 0 = dktX11_string_0 := by decide +kernel
theorem dksX11_string_1 : cX11_string.data.toList.drop 24 = dktX11_string_1 := dk_seg dksX11_string_0 24 rfl rfl
theorem dksX11_string_2 : cX11_string.data.toList.drop 48 = dktX11_string_2 := dk_seg dksX11_string_1 24 rfl rfl
theorem dksX11_string_3 : cX11_string.data.toList.drop 72 = dktX11_string_3 := dk_seg dksX11_string_2 24 rfl rfl
theorem dX11_string_0 : decode cX11_string 0 = .ok (.aload_n 0, 1) := dk_42 (dk_at dksX11_string_0 0 rfl rfl)
theorem dX11_string_1 : decode cX11_string 1 = .ok (.iconst 0, 1) := dk_3 (dk_at dksX11_string_0 1 rfl rfl)
theorem dX11_string_2 : decode cX11_string 2 = .ok (.putfield 134, 3) := dk_181 0 134 (dk_at dksX11_string_0 2 rfl rfl)
theorem dX11_string_5 : decode cX11_string 5 = .ok (.aload_n 0, 1) := dk_42 (dk_at dksX11_string_0 5 rfl rfl)
theorem dX11_string_6 : decode cX11_string 6 = .ok (.aload_n 0, 1) := dk_42 (dk_at dksX11_string_0 6 rfl rfl)
theorem dX11_string_7 : decode cX11_string 7 = .ok (.iload_n 1, 1) := dk_27 (dk_at dksX11_string_0 7 rfl rfl)
theorem dX11_string_8 : decode cX11_string 8 = .ok (.invokevirtual 338, 3) := dk_182 1 82 (dk_at dksX11_string_0 8 rfl rfl)
theorem dX11_string_11 : decode cX11_string 11 = .ok (.ifCond .ne 7, 3) := dk_154 0 7 (dk_at dksX11_string_0 11 rfl rfl)
theorem dX11_string_14 : decode cX11_string 14 = .ok (.iconst 1, 1) := dk_4 (dk_at dksX11_string_0 14 rfl rfl)
theorem dX11_string_15 : decode cX11_string 15 = .ok (.goto 4, 3) := dk_167 0 4 (dk_at dksX11_string_0 15 rfl rfl)
theorem dX11_string_18 : decode cX11_string 18 = .ok (.iconst 0, 1) := dk_3 (dk_at dksX11_string_0 18 rfl rfl)
theorem dX11_string_19 : decode cX11_string 19 = .ok (.iconst 1, 1) := dk_4 (dk_at dksX11_string_0 19 rfl rfl)
theorem dX11_string_20 : decode cX11_string 20 = .ok (.iconst 0, 1) := dk_3 (dk_at dksX11_string_0 20 rfl rfl)
theorem dX11_string_21 : decode cX11_string 21 = .ok (.invokevirtual 249, 3) := dk_182 0 249 (dk_at dksX11_string_0 21 rfl rfl)
theorem dX11_string_24 : decode cX11_string 24 = .ok (.ifCond .ne 27, 3) := dk_154 0 27 (dk_at dksX11_string_1 0 rfl rfl)
theorem dX11_string_27 : decode cX11_string 27 = .ok (.aload_n 0, 1) := dk_42 (dk_at dksX11_string_1 3 rfl rfl)
theorem dX11_string_28 : decode cX11_string 28 = .ok (.iload_n 2, 1) := dk_28 (dk_at dksX11_string_1 4 rfl rfl)
theorem dX11_string_29 : decode cX11_string 29 = .ok (.iconst 1, 1) := dk_4 (dk_at dksX11_string_1 5 rfl rfl)
theorem dX11_string_30 : decode cX11_string 30 = .ok (.bipush 30, 2) := dk_16 30 (dk_at dksX11_string_1 6 rfl rfl)
theorem dX11_string_32 : decode cX11_string 32 = .ok (.invokestatic 168, 3) := dk_184 0 168 (dk_at dksX11_string_1 8 rfl rfl)
theorem dX11_string_35 : decode cX11_string 35 = .ok (.ifCond .ne 7, 3) := dk_154 0 7 (dk_at dksX11_string_1 11 rfl rfl)
theorem dX11_string_38 : decode cX11_string 38 = .ok (.iconst 1, 1) := dk_4 (dk_at dksX11_string_1 14 rfl rfl)
theorem dX11_string_39 : decode cX11_string 39 = .ok (.goto 4, 3) := dk_167 0 4 (dk_at dksX11_string_1 15 rfl rfl)
theorem dX11_string_42 : decode cX11_string 42 = .ok (.iconst 0, 1) := dk_3 (dk_at dksX11_string_1 18 rfl rfl)
theorem dX11_string_43 : decode cX11_string 43 = .ok (.iconst 2, 1) := dk_5 (dk_at dksX11_string_1 19 rfl rfl)
theorem dX11_string_44 : decode cX11_string 44 = .ok (.iconst 1, 1) := dk_4 (dk_at dksX11_string_1 20 rfl rfl)
theorem dX11_string_45 : decode cX11_string 45 = .ok (.invokevirtual 249, 3) := dk_182 0 249 (dk_at dksX11_string_1 21 rfl rfl)
theorem dX11_string_48 : decode cX11_string 48 = .ok (.ifCond .eq 5, 3) := dk_153 0 5 (dk_at dksX11_string_2 0 rfl rfl)
theorem dX11_string_51 : decode cX11_string 51 = .ok (.iconst 0, 1) := dk_3 (dk_at dksX11_string_2 3 rfl rfl)
theorem dX11_string_52 : decode cX11_string 52 = .ok (.ireturn, 1) := dk_172 (dk_at dksX11_string_2 4 rfl rfl)
theorem dX11_string_53 : decode cX11_string 53 = .ok (.aload_n 0, 1) := dk_42 (dk_at dksX11_string_2 5 rfl rfl)
theorem dX11_string_54 : decode cX11_string 54 = .ok (.getfield 91, 3) := dk_180 0 91 (dk_at dksX11_string_2 6 rfl rfl)
theorem dX11_string_57 : decode cX11_string 57 = .ok (.bipush 9, 2) := dk_16 9 (dk_at dksX11_string_2 9 rfl rfl)
theorem dX11_string_59 : decode cX11_string 59 = .ok (.iload_n 1, 1) := dk_27 (dk_at dksX11_string_2 11 rfl rfl)
theorem dX11_string_60 : decode cX11_string 60 = .ok (.iadd, 1) := dk_96 (dk_at dksX11_string_2 12 rfl rfl)
theorem dX11_string_61 : decode cX11_string 61 = .ok (.bipush 30, 2) := dk_16 30 (dk_at dksX11_string_2 13 rfl rfl)
theorem dX11_string_63 : decode cX11_string 63 = .ok (.aload_n 0, 1) := dk_42 (dk_at dksX11_string_2 15 rfl rfl)
theorem dX11_string_64 : decode cX11_string 64 = .ok (.getfield 91, 3) := dk_180 0 91 (dk_at dksX11_string_2 16 rfl rfl)
theorem dX11_string_67 : decode cX11_string 67 = .ok (.bipush 9, 2) := dk_16 9 (dk_at dksX11_string_2 19 rfl rfl)
theorem dX11_string_69 : decode cX11_string 69 = .ok (.iload_n 1, 1) := dk_27 (dk_at dksX11_string_2 21 rfl rfl)
theorem dX11_string_70 : decode cX11_string 70 = .ok (.iadd, 1) := dk_96 (dk_at dksX11_string_2 22 rfl rfl)
theorem dX11_string_71 : decode cX11_string 71 = .ok (.iaload, 1) := dk_46 (dk_at dksX11_string_2 23 rfl rfl)
theorem dX11_string_72 : decode cX11_string 72 = .ok (.iload_n 2, 1) := dk_28 (dk_at dksX11_string_3 0 rfl rfl)
theorem dX11_string_73 : decode cX11_string 73 = .ok (.iadd, 1) := dk_96 (dk_at dksX11_string_3 1 rfl rfl)
theorem dX11_string_74 : decode cX11_string 74 = .ok (.invokestatic 229, 3) := dk_184 0 229 (dk_at dksX11_string_3 2 rfl rfl)
theorem dX11_string_77 : decode cX11_string 77 = .ok (.iastore, 1) := dk_79 (dk_at dksX11_string_3 5 rfl rfl)
theorem dX11_string_78 : decode cX11_string 78 = .ok (.aload_n 0, 1) := dk_42 (dk_at dksX11_string_3 6 rfl rfl)
theorem dX11_string_79 : decode cX11_string 79 = .ok (.invokevirtual 279, 3) := dk_182 1 23 (dk_at dksX11_string_3 7 rfl rfl)
theorem dX11_string_82 : decode cX11_string 82 = .ok (.aload_n 0, 1) := dk_42 (dk_at dksX11_string_3 10 rfl rfl)
theorem dX11_string_83 : decode cX11_string 83 = .ok (.getfield 91, 3) := dk_180 0 91 (dk_at dksX11_string_3 11 rfl rfl)
theorem dX11_string_86 : decode cX11_string 86 = .ok (.bipush 9, 2) := dk_16 9 (dk_at dksX11_string_3 14 rfl rfl)
theorem dX11_string_88 : decode cX11_string 88 = .ok (.iload_n 1, 1) := dk_27 (dk_at dksX11_string_3 16 rfl rfl)
theorem dX11_string_89 : decode cX11_string 89 = .ok (.iadd, 1) := dk_96 (dk_at dksX11_string_3 17 rfl rfl)
theorem dX11_string_90 : decode cX11_string 90 = .ok (.iaload, 1) := dk_46 (dk_at dksX11_string_3 18 rfl rfl)
theorem dX11_string_91 : decode cX11_string 91 = .ok (.ireturn, 1) := dk_172 (dk_at dksX11_string_3 19 rfl rfl)
abbrev cX11_give : ByteArray := prog_22_method_86_code
def yX11_give : MethodName := ⟨RX11, "give", "(III)I"⟩
def dkwX11_give_4 : List UInt8 := [182, 1, 126, 42, 182, 1, 23, 4, 172]
abbrev dktX11_give_4 : List UInt8 := dkwX11_give_4 ++ []
def dkwX11_give_3 : List UInt8 := [154, 0, 5, 3, 172, 42, 42, 180, 0, 91, 27, 28, 182, 1, 111, 42, 42, 180, 0, 91, 27, 29]
abbrev dktX11_give_3 : List UInt8 := dkwX11_give_3 ++ dktX11_give_4
def dkwX11_give_2 : List UInt8 := [180, 0, 91, 4, 27, 96, 46, 28, 184, 0, 242, 153, 0, 16, 42, 42, 180, 0, 91, 27, 29, 182, 1, 104]
abbrev dktX11_give_2 : List UInt8 := dkwX11_give_2 ++ dktX11_give_3
def dkwX11_give_1 : List UInt8 := [182, 1, 75, 154, 0, 7, 4, 167, 0, 4, 3, 4, 3, 182, 0, 249, 153, 0, 5, 3, 172, 42]
abbrev dktX11_give_1 : List UInt8 := dkwX11_give_1 ++ dktX11_give_2
def dkwX11_give_0 : List UInt8 := [42, 3, 181, 0, 134, 42, 42, 27, 182, 1, 82, 153, 0, 19, 42, 28, 182, 1, 75, 153, 0, 11, 42, 29]
abbrev dktX11_give_0 : List UInt8 := dkwX11_give_0 ++ dktX11_give_1
theorem dksX11_give_0 : cX11_give.data.toList.drop 0 = dktX11_give_0 := by decide +kernel
theorem dksX11_give_1 : cX11_give.data.toList.drop 24 = dktX11_give_1 := dk_seg dksX11_give_0 24 rfl rfl
theorem dksX11_give_2 : cX11_give.data.toList.drop 46 = dktX11_give_2 := dk_seg dksX11_give_1 22 rfl rfl
theorem dksX11_give_3 : cX11_give.data.toList.drop 70 = dktX11_give_3 := dk_seg dksX11_give_2 24 rfl rfl
theorem dksX11_give_4 : cX11_give.data.toList.drop 92 = dktX11_give_4 := dk_seg dksX11_give_3 22 rfl rfl
theorem dX11_give_0 : decode cX11_give 0 = .ok (.aload_n 0, 1) := dk_42 (dk_at dksX11_give_0 0 rfl rfl)
theorem dX11_give_1 : decode cX11_give 1 = .ok (.iconst 0, 1) := dk_3 (dk_at dksX11_give_0 1 rfl rfl)
theorem dX11_give_2 : decode cX11_give 2 = .ok (.putfield 134, 3) := dk_181 0 134 (dk_at dksX11_give_0 2 rfl rfl)
theorem dX11_give_5 : decode cX11_give 5 = .ok (.aload_n 0, 1) := dk_42 (dk_at dksX11_give_0 5 rfl rfl)
theorem dX11_give_6 : decode cX11_give 6 = .ok (.aload_n 0, 1) := dk_42 (dk_at dksX11_give_0 6 rfl rfl)
theorem dX11_give_7 : decode cX11_give 7 = .ok (.iload_n 1, 1) := dk_27 (dk_at dksX11_give_0 7 rfl rfl)
theorem dX11_give_8 : decode cX11_give 8 = .ok (.invokevirtual 338, 3) := dk_182 1 82 (dk_at dksX11_give_0 8 rfl rfl)
theorem dX11_give_11 : decode cX11_give 11 = .ok (.ifCond .eq 19, 3) := dk_153 0 19 (dk_at dksX11_give_0 11 rfl rfl)
theorem dX11_give_14 : decode cX11_give 14 = .ok (.aload_n 0, 1) := dk_42 (dk_at dksX11_give_0 14 rfl rfl)
theorem dX11_give_15 : decode cX11_give 15 = .ok (.iload_n 2, 1) := dk_28 (dk_at dksX11_give_0 15 rfl rfl)
theorem dX11_give_16 : decode cX11_give 16 = .ok (.invokevirtual 331, 3) := dk_182 1 75 (dk_at dksX11_give_0 16 rfl rfl)
theorem dX11_give_19 : decode cX11_give 19 = .ok (.ifCond .eq 11, 3) := dk_153 0 11 (dk_at dksX11_give_0 19 rfl rfl)
theorem dX11_give_22 : decode cX11_give 22 = .ok (.aload_n 0, 1) := dk_42 (dk_at dksX11_give_0 22 rfl rfl)
theorem dX11_give_23 : decode cX11_give 23 = .ok (.iload_n 3, 1) := dk_29 (dk_at dksX11_give_0 23 rfl rfl)
theorem dX11_give_24 : decode cX11_give 24 = .ok (.invokevirtual 331, 3) := dk_182 1 75 (dk_at dksX11_give_1 0 rfl rfl)
theorem dX11_give_27 : decode cX11_give 27 = .ok (.ifCond .ne 7, 3) := dk_154 0 7 (dk_at dksX11_give_1 3 rfl rfl)
theorem dX11_give_30 : decode cX11_give 30 = .ok (.iconst 1, 1) := dk_4 (dk_at dksX11_give_1 6 rfl rfl)
theorem dX11_give_31 : decode cX11_give 31 = .ok (.goto 4, 3) := dk_167 0 4 (dk_at dksX11_give_1 7 rfl rfl)
theorem dX11_give_34 : decode cX11_give 34 = .ok (.iconst 0, 1) := dk_3 (dk_at dksX11_give_1 10 rfl rfl)
theorem dX11_give_35 : decode cX11_give 35 = .ok (.iconst 1, 1) := dk_4 (dk_at dksX11_give_1 11 rfl rfl)
theorem dX11_give_36 : decode cX11_give 36 = .ok (.iconst 0, 1) := dk_3 (dk_at dksX11_give_1 12 rfl rfl)
theorem dX11_give_37 : decode cX11_give 37 = .ok (.invokevirtual 249, 3) := dk_182 0 249 (dk_at dksX11_give_1 13 rfl rfl)
theorem dX11_give_40 : decode cX11_give 40 = .ok (.ifCond .eq 5, 3) := dk_153 0 5 (dk_at dksX11_give_1 16 rfl rfl)
theorem dX11_give_43 : decode cX11_give 43 = .ok (.iconst 0, 1) := dk_3 (dk_at dksX11_give_1 19 rfl rfl)
theorem dX11_give_44 : decode cX11_give 44 = .ok (.ireturn, 1) := dk_172 (dk_at dksX11_give_1 20 rfl rfl)
theorem dX11_give_45 : decode cX11_give 45 = .ok (.aload_n 0, 1) := dk_42 (dk_at dksX11_give_1 21 rfl rfl)
theorem dX11_give_46 : decode cX11_give 46 = .ok (.getfield 91, 3) := dk_180 0 91 (dk_at dksX11_give_2 0 rfl rfl)
theorem dX11_give_49 : decode cX11_give 49 = .ok (.iconst 1, 1) := dk_4 (dk_at dksX11_give_2 3 rfl rfl)
theorem dX11_give_50 : decode cX11_give 50 = .ok (.iload_n 1, 1) := dk_27 (dk_at dksX11_give_2 4 rfl rfl)
theorem dX11_give_51 : decode cX11_give 51 = .ok (.iadd, 1) := dk_96 (dk_at dksX11_give_2 5 rfl rfl)
theorem dX11_give_52 : decode cX11_give 52 = .ok (.iaload, 1) := dk_46 (dk_at dksX11_give_2 6 rfl rfl)
theorem dX11_give_53 : decode cX11_give 53 = .ok (.iload_n 2, 1) := dk_28 (dk_at dksX11_give_2 7 rfl rfl)
theorem dX11_give_54 : decode cX11_give 54 = .ok (.invokestatic 242, 3) := dk_184 0 242 (dk_at dksX11_give_2 8 rfl rfl)
theorem dX11_give_57 : decode cX11_give 57 = .ok (.ifCond .eq 16, 3) := dk_153 0 16 (dk_at dksX11_give_2 11 rfl rfl)
theorem dX11_give_60 : decode cX11_give 60 = .ok (.aload_n 0, 1) := dk_42 (dk_at dksX11_give_2 14 rfl rfl)
theorem dX11_give_61 : decode cX11_give 61 = .ok (.aload_n 0, 1) := dk_42 (dk_at dksX11_give_2 15 rfl rfl)
theorem dX11_give_62 : decode cX11_give 62 = .ok (.getfield 91, 3) := dk_180 0 91 (dk_at dksX11_give_2 16 rfl rfl)
theorem dX11_give_65 : decode cX11_give 65 = .ok (.iload_n 1, 1) := dk_27 (dk_at dksX11_give_2 19 rfl rfl)
theorem dX11_give_66 : decode cX11_give 66 = .ok (.iload_n 3, 1) := dk_29 (dk_at dksX11_give_2 20 rfl rfl)
theorem dX11_give_67 : decode cX11_give 67 = .ok (.invokevirtual 360, 3) := dk_182 1 104 (dk_at dksX11_give_2 21 rfl rfl)
theorem dX11_give_70 : decode cX11_give 70 = .ok (.ifCond .ne 5, 3) := dk_154 0 5 (dk_at dksX11_give_3 0 rfl rfl)
theorem dX11_give_73 : decode cX11_give 73 = .ok (.iconst 0, 1) := dk_3 (dk_at dksX11_give_3 3 rfl rfl)
theorem dX11_give_74 : decode cX11_give 74 = .ok (.ireturn, 1) := dk_172 (dk_at dksX11_give_3 4 rfl rfl)
theorem dX11_give_75 : decode cX11_give 75 = .ok (.aload_n 0, 1) := dk_42 (dk_at dksX11_give_3 5 rfl rfl)
theorem dX11_give_76 : decode cX11_give 76 = .ok (.aload_n 0, 1) := dk_42 (dk_at dksX11_give_3 6 rfl rfl)
theorem dX11_give_77 : decode cX11_give 77 = .ok (.getfield 91, 3) := dk_180 0 91 (dk_at dksX11_give_3 7 rfl rfl)
theorem dX11_give_80 : decode cX11_give 80 = .ok (.iload_n 1, 1) := dk_27 (dk_at dksX11_give_3 10 rfl rfl)
theorem dX11_give_81 : decode cX11_give 81 = .ok (.iload_n 2, 1) := dk_28 (dk_at dksX11_give_3 11 rfl rfl)
theorem dX11_give_82 : decode cX11_give 82 = .ok (.invokevirtual 367, 3) := dk_182 1 111 (dk_at dksX11_give_3 12 rfl rfl)
theorem dX11_give_85 : decode cX11_give 85 = .ok (.aload_n 0, 1) := dk_42 (dk_at dksX11_give_3 15 rfl rfl)
theorem dX11_give_86 : decode cX11_give 86 = .ok (.aload_n 0, 1) := dk_42 (dk_at dksX11_give_3 16 rfl rfl)
theorem dX11_give_87 : decode cX11_give 87 = .ok (.getfield 91, 3) := dk_180 0 91 (dk_at dksX11_give_3 17 rfl rfl)
theorem dX11_give_90 : decode cX11_give 90 = .ok (.iload_n 1, 1) := dk_27 (dk_at dksX11_give_3 20 rfl rfl)
theorem dX11_give_91 : decode cX11_give 91 = .ok (.iload_n 3, 1) := dk_29 (dk_at dksX11_give_3 21 rfl rfl)
theorem dX11_give_92 : decode cX11_give 92 = .ok (.invokevirtual 382, 3) := dk_182 1 126 (dk_at dksX11_give_4 0 rfl rfl)
theorem dX11_give_95 : decode cX11_give 95 = .ok (.aload_n 0, 1) := dk_42 (dk_at dksX11_give_4 3 rfl rfl)
theorem dX11_give_96 : decode cX11_give 96 = .ok (.invokevirtual 279, 3) := dk_182 1 23 (dk_at dksX11_give_4 4 rfl rfl)
theorem dX11_give_99 : decode cX11_give 99 = .ok (.iconst 1, 1) := dk_4 (dk_at dksX11_give_4 7 rfl rfl)
theorem dX11_give_100 : decode cX11_give 100 = .ok (.ireturn, 1) := dk_172 (dk_at dksX11_give_4 8 rfl rfl)
abbrev cX11_heir : ByteArray := prog_22_method_87_code
def yX11_heir : MethodName := ⟨RX11, "heir", "(II)I"⟩
def dkwX11_heir_3 : List UInt8 := [28, 182, 1, 122, 42, 42, 180, 0, 100, 27, 182, 1, 108, 172]
abbrev dktX11_heir_3 : List UInt8 := dkwX11_heir_3 ++ []
def dkwX11_heir_2 : List UInt8 := [184, 0, 242, 154, 0, 5, 2, 172, 42, 180, 0, 91, 42, 180, 0, 100, 184, 1, 10, 42, 42, 180, 0, 100]
abbrev dktX11_heir_2 : List UInt8 := dkwX11_heir_2 ++ dktX11_heir_3
def dkwX11_heir_1 : List UInt8 := [167, 0, 4, 3, 4, 3, 182, 0, 249, 153, 0, 5, 3, 172, 42, 180, 0, 91, 4, 27, 96, 46, 28]
abbrev dktX11_heir_1 : List UInt8 := dkwX11_heir_1 ++ dktX11_heir_2
def dkwX11_heir_0 : List UInt8 := [42, 3, 181, 0, 134, 42, 42, 27, 182, 1, 82, 153, 0, 11, 42, 28, 182, 1, 75, 154, 0, 7, 4]
abbrev dktX11_heir_0 : List UInt8 := dkwX11_heir_0 ++ dktX11_heir_1
theorem dksX11_heir_0 : cX11_heir.data.toList.drop 0 = dktX11_heir_0 := by decide +kernel
theorem dksX11_heir_1 : cX11_heir.data.toList.drop 23 = dktX11_heir_1 := dk_seg dksX11_heir_0 23 rfl rfl
theorem dksX11_heir_2 : cX11_heir.data.toList.drop 46 = dktX11_heir_2 := dk_seg dksX11_heir_1 23 rfl rfl
theorem dksX11_heir_3 : cX11_heir.data.toList.drop 70 = dktX11_heir_3 := dk_seg dksX11_heir_2 24 rfl rfl
theorem dX11_heir_0 : decode cX11_heir 0 = .ok (.aload_n 0, 1) := dk_42 (dk_at dksX11_heir_0 0 rfl rfl)
theorem dX11_heir_1 : decode cX11_heir 1 = .ok (.iconst 0, 1) := dk_3 (dk_at dksX11_heir_0 1 rfl rfl)
theorem dX11_heir_2 : decode cX11_heir 2 = .ok (.putfield 134, 3) := dk_181 0 134 (dk_at dksX11_heir_0 2 rfl rfl)
theorem dX11_heir_5 : decode cX11_heir 5 = .ok (.aload_n 0, 1) := dk_42 (dk_at dksX11_heir_0 5 rfl rfl)
theorem dX11_heir_6 : decode cX11_heir 6 = .ok (.aload_n 0, 1) := dk_42 (dk_at dksX11_heir_0 6 rfl rfl)
theorem dX11_heir_7 : decode cX11_heir 7 = .ok (.iload_n 1, 1) := dk_27 (dk_at dksX11_heir_0 7 rfl rfl)
theorem dX11_heir_8 : decode cX11_heir 8 = .ok (.invokevirtual 338, 3) := dk_182 1 82 (dk_at dksX11_heir_0 8 rfl rfl)
theorem dX11_heir_11 : decode cX11_heir 11 = .ok (.ifCond .eq 11, 3) := dk_153 0 11 (dk_at dksX11_heir_0 11 rfl rfl)
theorem dX11_heir_14 : decode cX11_heir 14 = .ok (.aload_n 0, 1) := dk_42 (dk_at dksX11_heir_0 14 rfl rfl)
theorem dX11_heir_15 : decode cX11_heir 15 = .ok (.iload_n 2, 1) := dk_28 (dk_at dksX11_heir_0 15 rfl rfl)
theorem dX11_heir_16 : decode cX11_heir 16 = .ok (.invokevirtual 331, 3) := dk_182 1 75 (dk_at dksX11_heir_0 16 rfl rfl)
theorem dX11_heir_19 : decode cX11_heir 19 = .ok (.ifCond .ne 7, 3) := dk_154 0 7 (dk_at dksX11_heir_0 19 rfl rfl)
theorem dX11_heir_22 : decode cX11_heir 22 = .ok (.iconst 1, 1) := dk_4 (dk_at dksX11_heir_0 22 rfl rfl)
theorem dX11_heir_23 : decode cX11_heir 23 = .ok (.goto 4, 3) := dk_167 0 4 (dk_at dksX11_heir_1 0 rfl rfl)
theorem dX11_heir_26 : decode cX11_heir 26 = .ok (.iconst 0, 1) := dk_3 (dk_at dksX11_heir_1 3 rfl rfl)
theorem dX11_heir_27 : decode cX11_heir 27 = .ok (.iconst 1, 1) := dk_4 (dk_at dksX11_heir_1 4 rfl rfl)
theorem dX11_heir_28 : decode cX11_heir 28 = .ok (.iconst 0, 1) := dk_3 (dk_at dksX11_heir_1 5 rfl rfl)
theorem dX11_heir_29 : decode cX11_heir 29 = .ok (.invokevirtual 249, 3) := dk_182 0 249 (dk_at dksX11_heir_1 6 rfl rfl)
theorem dX11_heir_32 : decode cX11_heir 32 = .ok (.ifCond .eq 5, 3) := dk_153 0 5 (dk_at dksX11_heir_1 9 rfl rfl)
theorem dX11_heir_35 : decode cX11_heir 35 = .ok (.iconst 0, 1) := dk_3 (dk_at dksX11_heir_1 12 rfl rfl)
theorem dX11_heir_36 : decode cX11_heir 36 = .ok (.ireturn, 1) := dk_172 (dk_at dksX11_heir_1 13 rfl rfl)
theorem dX11_heir_37 : decode cX11_heir 37 = .ok (.aload_n 0, 1) := dk_42 (dk_at dksX11_heir_1 14 rfl rfl)
theorem dX11_heir_38 : decode cX11_heir 38 = .ok (.getfield 91, 3) := dk_180 0 91 (dk_at dksX11_heir_1 15 rfl rfl)
theorem dX11_heir_41 : decode cX11_heir 41 = .ok (.iconst 1, 1) := dk_4 (dk_at dksX11_heir_1 18 rfl rfl)
theorem dX11_heir_42 : decode cX11_heir 42 = .ok (.iload_n 1, 1) := dk_27 (dk_at dksX11_heir_1 19 rfl rfl)
theorem dX11_heir_43 : decode cX11_heir 43 = .ok (.iadd, 1) := dk_96 (dk_at dksX11_heir_1 20 rfl rfl)
theorem dX11_heir_44 : decode cX11_heir 44 = .ok (.iaload, 1) := dk_46 (dk_at dksX11_heir_1 21 rfl rfl)
theorem dX11_heir_45 : decode cX11_heir 45 = .ok (.iload_n 2, 1) := dk_28 (dk_at dksX11_heir_1 22 rfl rfl)
theorem dX11_heir_46 : decode cX11_heir 46 = .ok (.invokestatic 242, 3) := dk_184 0 242 (dk_at dksX11_heir_2 0 rfl rfl)
theorem dX11_heir_49 : decode cX11_heir 49 = .ok (.ifCond .ne 5, 3) := dk_154 0 5 (dk_at dksX11_heir_2 3 rfl rfl)
theorem dX11_heir_52 : decode cX11_heir 52 = .ok (.iconst (-1), 1) := dk_2 (dk_at dksX11_heir_2 6 rfl rfl)
theorem dX11_heir_53 : decode cX11_heir 53 = .ok (.ireturn, 1) := dk_172 (dk_at dksX11_heir_2 7 rfl rfl)
theorem dX11_heir_54 : decode cX11_heir 54 = .ok (.aload_n 0, 1) := dk_42 (dk_at dksX11_heir_2 8 rfl rfl)
theorem dX11_heir_55 : decode cX11_heir 55 = .ok (.getfield 91, 3) := dk_180 0 91 (dk_at dksX11_heir_2 9 rfl rfl)
theorem dX11_heir_58 : decode cX11_heir 58 = .ok (.aload_n 0, 1) := dk_42 (dk_at dksX11_heir_2 12 rfl rfl)
theorem dX11_heir_59 : decode cX11_heir 59 = .ok (.getfield 100, 3) := dk_180 0 100 (dk_at dksX11_heir_2 13 rfl rfl)
theorem dX11_heir_62 : decode cX11_heir 62 = .ok (.invokestatic 266, 3) := dk_184 1 10 (dk_at dksX11_heir_2 16 rfl rfl)
theorem dX11_heir_65 : decode cX11_heir 65 = .ok (.aload_n 0, 1) := dk_42 (dk_at dksX11_heir_2 19 rfl rfl)
theorem dX11_heir_66 : decode cX11_heir 66 = .ok (.aload_n 0, 1) := dk_42 (dk_at dksX11_heir_2 20 rfl rfl)
theorem dX11_heir_67 : decode cX11_heir 67 = .ok (.getfield 100, 3) := dk_180 0 100 (dk_at dksX11_heir_2 21 rfl rfl)
theorem dX11_heir_70 : decode cX11_heir 70 = .ok (.iload_n 2, 1) := dk_28 (dk_at dksX11_heir_3 0 rfl rfl)
theorem dX11_heir_71 : decode cX11_heir 71 = .ok (.invokevirtual 378, 3) := dk_182 1 122 (dk_at dksX11_heir_3 1 rfl rfl)
theorem dX11_heir_74 : decode cX11_heir 74 = .ok (.aload_n 0, 1) := dk_42 (dk_at dksX11_heir_3 4 rfl rfl)
theorem dX11_heir_75 : decode cX11_heir 75 = .ok (.aload_n 0, 1) := dk_42 (dk_at dksX11_heir_3 5 rfl rfl)
theorem dX11_heir_76 : decode cX11_heir 76 = .ok (.getfield 100, 3) := dk_180 0 100 (dk_at dksX11_heir_3 6 rfl rfl)
theorem dX11_heir_79 : decode cX11_heir 79 = .ok (.iload_n 1, 1) := dk_27 (dk_at dksX11_heir_3 9 rfl rfl)
theorem dX11_heir_80 : decode cX11_heir 80 = .ok (.invokevirtual 364, 3) := dk_182 1 108 (dk_at dksX11_heir_3 10 rfl rfl)
theorem dX11_heir_83 : decode cX11_heir 83 = .ok (.ireturn, 1) := dk_172 (dk_at dksX11_heir_3 13 rfl rfl)
abbrev cX11_casts : ByteArray := prog_22_method_94_code
def yX11_casts : MethodName := ⟨RX11, "casts", "(I)I"⟩
def dkwX11_casts_1 : List UInt8 := [153, 0, 5, 3, 172, 42, 27, 182, 1, 159, 172]
abbrev dktX11_casts_1 : List UInt8 := dkwX11_casts_1 ++ []
def dkwX11_casts_0 : List UInt8 := [42, 3, 181, 0, 134, 42, 42, 27, 182, 1, 88, 154, 0, 7, 4, 167, 0, 4, 3, 4, 3, 182, 0, 249]
abbrev dktX11_casts_0 : List UInt8 := dkwX11_casts_0 ++ dktX11_casts_1
theorem dksX11_casts_0 : cX11_casts.data.toList.drop 0 = dktX11_casts_0 := by decide +kernel
theorem dksX11_casts_1 : cX11_casts.data.toList.drop 24 = dktX11_casts_1 := dk_seg dksX11_casts_0 24 rfl rfl
theorem dX11_casts_0 : decode cX11_casts 0 = .ok (.aload_n 0, 1) := dk_42 (dk_at dksX11_casts_0 0 rfl rfl)
theorem dX11_casts_1 : decode cX11_casts 1 = .ok (.iconst 0, 1) := dk_3 (dk_at dksX11_casts_0 1 rfl rfl)
theorem dX11_casts_2 : decode cX11_casts 2 = .ok (.putfield 134, 3) := dk_181 0 134 (dk_at dksX11_casts_0 2 rfl rfl)
theorem dX11_casts_5 : decode cX11_casts 5 = .ok (.aload_n 0, 1) := dk_42 (dk_at dksX11_casts_0 5 rfl rfl)
theorem dX11_casts_6 : decode cX11_casts 6 = .ok (.aload_n 0, 1) := dk_42 (dk_at dksX11_casts_0 6 rfl rfl)
theorem dX11_casts_7 : decode cX11_casts 7 = .ok (.iload_n 1, 1) := dk_27 (dk_at dksX11_casts_0 7 rfl rfl)
theorem dX11_casts_8 : decode cX11_casts 8 = .ok (.invokevirtual 344, 3) := dk_182 1 88 (dk_at dksX11_casts_0 8 rfl rfl)
theorem dX11_casts_11 : decode cX11_casts 11 = .ok (.ifCond .ne 7, 3) := dk_154 0 7 (dk_at dksX11_casts_0 11 rfl rfl)
theorem dX11_casts_14 : decode cX11_casts 14 = .ok (.iconst 1, 1) := dk_4 (dk_at dksX11_casts_0 14 rfl rfl)
theorem dX11_casts_15 : decode cX11_casts 15 = .ok (.goto 4, 3) := dk_167 0 4 (dk_at dksX11_casts_0 15 rfl rfl)
theorem dX11_casts_18 : decode cX11_casts 18 = .ok (.iconst 0, 1) := dk_3 (dk_at dksX11_casts_0 18 rfl rfl)
theorem dX11_casts_19 : decode cX11_casts 19 = .ok (.iconst 1, 1) := dk_4 (dk_at dksX11_casts_0 19 rfl rfl)
theorem dX11_casts_20 : decode cX11_casts 20 = .ok (.iconst 0, 1) := dk_3 (dk_at dksX11_casts_0 20 rfl rfl)
theorem dX11_casts_21 : decode cX11_casts 21 = .ok (.invokevirtual 249, 3) := dk_182 0 249 (dk_at dksX11_casts_0 21 rfl rfl)
theorem dX11_casts_24 : decode cX11_casts 24 = .ok (.ifCond .eq 5, 3) := dk_153 0 5 (dk_at dksX11_casts_1 0 rfl rfl)
theorem dX11_casts_27 : decode cX11_casts 27 = .ok (.iconst 0, 1) := dk_3 (dk_at dksX11_casts_1 3 rfl rfl)
theorem dX11_casts_28 : decode cX11_casts 28 = .ok (.ireturn, 1) := dk_172 (dk_at dksX11_casts_1 4 rfl rfl)
theorem dX11_casts_29 : decode cX11_casts 29 = .ok (.aload_n 0, 1) := dk_42 (dk_at dksX11_casts_1 5 rfl rfl)
theorem dX11_casts_30 : decode cX11_casts 30 = .ok (.iload_n 1, 1) := dk_27 (dk_at dksX11_casts_1 6 rfl rfl)
theorem dX11_casts_31 : decode cX11_casts 31 = .ok (.invokevirtual 415, 3) := dk_182 1 159 (dk_at dksX11_casts_1 7 rfl rfl)
theorem dX11_casts_34 : decode cX11_casts 34 = .ok (.ireturn, 1) := dk_172 (dk_at dksX11_casts_1 10 rfl rfl)
abbrev cX11_castsOf : ByteArray := prog_22_method_92_code
def yX11_castsOf : MethodName := ⟨RX11, "castsOf", "(I)I"⟩
def dkwX11_castsOf_0 : List UInt8 := [42, 27, 3, 182, 1, 152, 42, 42, 180, 0, 91, 42, 42, 180, 0, 91, 182, 1, 68, 3, 182, 1, 155, 172]
abbrev dktX11_castsOf_0 : List UInt8 := dkwX11_castsOf_0 ++ []
theorem dksX11_castsOf_0 : cX11_castsOf.data.toList.drop 0 = dktX11_castsOf_0 := by decide +kernel
theorem dX11_castsOf_0 : decode cX11_castsOf 0 = .ok (.aload_n 0, 1) := dk_42 (dk_at dksX11_castsOf_0 0 rfl rfl)
theorem dX11_castsOf_1 : decode cX11_castsOf 1 = .ok (.iload_n 1, 1) := dk_27 (dk_at dksX11_castsOf_0 1 rfl rfl)
theorem dX11_castsOf_2 : decode cX11_castsOf 2 = .ok (.iconst 0, 1) := dk_3 (dk_at dksX11_castsOf_0 2 rfl rfl)
theorem dX11_castsOf_3 : decode cX11_castsOf 3 = .ok (.invokevirtual 408, 3) := dk_182 1 152 (dk_at dksX11_castsOf_0 3 rfl rfl)
theorem dX11_castsOf_6 : decode cX11_castsOf 6 = .ok (.aload_n 0, 1) := dk_42 (dk_at dksX11_castsOf_0 6 rfl rfl)
theorem dX11_castsOf_7 : decode cX11_castsOf 7 = .ok (.aload_n 0, 1) := dk_42 (dk_at dksX11_castsOf_0 7 rfl rfl)
theorem dX11_castsOf_8 : decode cX11_castsOf 8 = .ok (.getfield 91, 3) := dk_180 0 91 (dk_at dksX11_castsOf_0 8 rfl rfl)
theorem dX11_castsOf_11 : decode cX11_castsOf 11 = .ok (.aload_n 0, 1) := dk_42 (dk_at dksX11_castsOf_0 11 rfl rfl)
theorem dX11_castsOf_12 : decode cX11_castsOf 12 = .ok (.aload_n 0, 1) := dk_42 (dk_at dksX11_castsOf_0 12 rfl rfl)
theorem dX11_castsOf_13 : decode cX11_castsOf 13 = .ok (.getfield 91, 3) := dk_180 0 91 (dk_at dksX11_castsOf_0 13 rfl rfl)
theorem dX11_castsOf_16 : decode cX11_castsOf 16 = .ok (.invokevirtual 324, 3) := dk_182 1 68 (dk_at dksX11_castsOf_0 16 rfl rfl)
theorem dX11_castsOf_19 : decode cX11_castsOf 19 = .ok (.iconst 0, 1) := dk_3 (dk_at dksX11_castsOf_0 19 rfl rfl)
theorem dX11_castsOf_20 : decode cX11_castsOf 20 = .ok (.invokevirtual 411, 3) := dk_182 1 155 (dk_at dksX11_castsOf_0 20 rfl rfl)
theorem dX11_castsOf_23 : decode cX11_castsOf 23 = .ok (.ireturn, 1) := dk_172 (dk_at dksX11_castsOf_0 23 rfl rfl)
abbrev cX11_cast : ByteArray := prog_22_method_95_code
def yX11_cast : MethodName := ⟨RX11, "cast", "(II)I"⟩
def dkwX11_cast_4 : List UInt8 := [132, 3, 1, 167, 255, 228, 3, 172]
abbrev dktX11_cast_4 : List UInt8 := dkwX11_cast_4 ++ []
def dkwX11_cast_3 : List UInt8 := [180, 1, 135, 162, 0, 26, 42, 180, 0, 106, 29, 46, 28, 160, 0, 10, 42, 180, 0, 115, 29, 46, 172]
abbrev dktX11_cast_3 : List UInt8 := dkwX11_cast_3 ++ dktX11_cast_4
def dkwX11_cast_2 : List UInt8 := [180, 0, 91, 42, 42, 180, 0, 91, 182, 1, 68, 4, 182, 1, 155, 154, 0, 5, 3, 172, 3, 62, 29, 42]
abbrev dktX11_cast_2 : List UInt8 := dkwX11_cast_2 ++ dktX11_cast_3
def dkwX11_cast_1 : List UInt8 := [167, 0, 4, 3, 4, 3, 182, 0, 249, 153, 0, 5, 3, 172, 42, 27, 3, 182, 1, 152, 42, 42]
abbrev dktX11_cast_1 : List UInt8 := dkwX11_cast_1 ++ dktX11_cast_2
def dkwX11_cast_0 : List UInt8 := [42, 3, 181, 0, 134, 42, 42, 27, 182, 1, 88, 153, 0, 11, 42, 28, 182, 1, 82, 154, 0, 7, 4]
abbrev dktX11_cast_0 : List UInt8 := dkwX11_cast_0 ++ dktX11_cast_1
theorem dksX11_cast_0 : cX11_cast.data.toList.drop 0 = dktX11_cast_0 := by decide +kernel
theorem dksX11_cast_1 : cX11_cast.data.toList.drop 23 = dktX11_cast_1 := dk_seg dksX11_cast_0 23 rfl rfl
theorem dksX11_cast_2 : cX11_cast.data.toList.drop 45 = dktX11_cast_2 := dk_seg dksX11_cast_1 22 rfl rfl
theorem dksX11_cast_3 : cX11_cast.data.toList.drop 69 = dktX11_cast_3 := dk_seg dksX11_cast_2 24 rfl rfl
theorem dksX11_cast_4 : cX11_cast.data.toList.drop 92 = dktX11_cast_4 := dk_seg dksX11_cast_3 23 rfl rfl
theorem dX11_cast_0 : decode cX11_cast 0 = .ok (.aload_n 0, 1) := dk_42 (dk_at dksX11_cast_0 0 rfl rfl)
theorem dX11_cast_1 : decode cX11_cast 1 = .ok (.iconst 0, 1) := dk_3 (dk_at dksX11_cast_0 1 rfl rfl)
theorem dX11_cast_2 : decode cX11_cast 2 = .ok (.putfield 134, 3) := dk_181 0 134 (dk_at dksX11_cast_0 2 rfl rfl)
theorem dX11_cast_5 : decode cX11_cast 5 = .ok (.aload_n 0, 1) := dk_42 (dk_at dksX11_cast_0 5 rfl rfl)
theorem dX11_cast_6 : decode cX11_cast 6 = .ok (.aload_n 0, 1) := dk_42 (dk_at dksX11_cast_0 6 rfl rfl)
theorem dX11_cast_7 : decode cX11_cast 7 = .ok (.iload_n 1, 1) := dk_27 (dk_at dksX11_cast_0 7 rfl rfl)
theorem dX11_cast_8 : decode cX11_cast 8 = .ok (.invokevirtual 344, 3) := dk_182 1 88 (dk_at dksX11_cast_0 8 rfl rfl)
theorem dX11_cast_11 : decode cX11_cast 11 = .ok (.ifCond .eq 11, 3) := dk_153 0 11 (dk_at dksX11_cast_0 11 rfl rfl)
theorem dX11_cast_14 : decode cX11_cast 14 = .ok (.aload_n 0, 1) := dk_42 (dk_at dksX11_cast_0 14 rfl rfl)
theorem dX11_cast_15 : decode cX11_cast 15 = .ok (.iload_n 2, 1) := dk_28 (dk_at dksX11_cast_0 15 rfl rfl)
theorem dX11_cast_16 : decode cX11_cast 16 = .ok (.invokevirtual 338, 3) := dk_182 1 82 (dk_at dksX11_cast_0 16 rfl rfl)
theorem dX11_cast_19 : decode cX11_cast 19 = .ok (.ifCond .ne 7, 3) := dk_154 0 7 (dk_at dksX11_cast_0 19 rfl rfl)
theorem dX11_cast_22 : decode cX11_cast 22 = .ok (.iconst 1, 1) := dk_4 (dk_at dksX11_cast_0 22 rfl rfl)
theorem dX11_cast_23 : decode cX11_cast 23 = .ok (.goto 4, 3) := dk_167 0 4 (dk_at dksX11_cast_1 0 rfl rfl)
theorem dX11_cast_26 : decode cX11_cast 26 = .ok (.iconst 0, 1) := dk_3 (dk_at dksX11_cast_1 3 rfl rfl)
theorem dX11_cast_27 : decode cX11_cast 27 = .ok (.iconst 1, 1) := dk_4 (dk_at dksX11_cast_1 4 rfl rfl)
theorem dX11_cast_28 : decode cX11_cast 28 = .ok (.iconst 0, 1) := dk_3 (dk_at dksX11_cast_1 5 rfl rfl)
theorem dX11_cast_29 : decode cX11_cast 29 = .ok (.invokevirtual 249, 3) := dk_182 0 249 (dk_at dksX11_cast_1 6 rfl rfl)
theorem dX11_cast_32 : decode cX11_cast 32 = .ok (.ifCond .eq 5, 3) := dk_153 0 5 (dk_at dksX11_cast_1 9 rfl rfl)
theorem dX11_cast_35 : decode cX11_cast 35 = .ok (.iconst 0, 1) := dk_3 (dk_at dksX11_cast_1 12 rfl rfl)
theorem dX11_cast_36 : decode cX11_cast 36 = .ok (.ireturn, 1) := dk_172 (dk_at dksX11_cast_1 13 rfl rfl)
theorem dX11_cast_37 : decode cX11_cast 37 = .ok (.aload_n 0, 1) := dk_42 (dk_at dksX11_cast_1 14 rfl rfl)
theorem dX11_cast_38 : decode cX11_cast 38 = .ok (.iload_n 1, 1) := dk_27 (dk_at dksX11_cast_1 15 rfl rfl)
theorem dX11_cast_39 : decode cX11_cast 39 = .ok (.iconst 0, 1) := dk_3 (dk_at dksX11_cast_1 16 rfl rfl)
theorem dX11_cast_40 : decode cX11_cast 40 = .ok (.invokevirtual 408, 3) := dk_182 1 152 (dk_at dksX11_cast_1 17 rfl rfl)
theorem dX11_cast_43 : decode cX11_cast 43 = .ok (.aload_n 0, 1) := dk_42 (dk_at dksX11_cast_1 20 rfl rfl)
theorem dX11_cast_44 : decode cX11_cast 44 = .ok (.aload_n 0, 1) := dk_42 (dk_at dksX11_cast_1 21 rfl rfl)
theorem dX11_cast_45 : decode cX11_cast 45 = .ok (.getfield 91, 3) := dk_180 0 91 (dk_at dksX11_cast_2 0 rfl rfl)
theorem dX11_cast_48 : decode cX11_cast 48 = .ok (.aload_n 0, 1) := dk_42 (dk_at dksX11_cast_2 3 rfl rfl)
theorem dX11_cast_49 : decode cX11_cast 49 = .ok (.aload_n 0, 1) := dk_42 (dk_at dksX11_cast_2 4 rfl rfl)
theorem dX11_cast_50 : decode cX11_cast 50 = .ok (.getfield 91, 3) := dk_180 0 91 (dk_at dksX11_cast_2 5 rfl rfl)
theorem dX11_cast_53 : decode cX11_cast 53 = .ok (.invokevirtual 324, 3) := dk_182 1 68 (dk_at dksX11_cast_2 8 rfl rfl)
theorem dX11_cast_56 : decode cX11_cast 56 = .ok (.iconst 1, 1) := dk_4 (dk_at dksX11_cast_2 11 rfl rfl)
theorem dX11_cast_57 : decode cX11_cast 57 = .ok (.invokevirtual 411, 3) := dk_182 1 155 (dk_at dksX11_cast_2 12 rfl rfl)
theorem dX11_cast_60 : decode cX11_cast 60 = .ok (.ifCond .ne 5, 3) := dk_154 0 5 (dk_at dksX11_cast_2 15 rfl rfl)
theorem dX11_cast_63 : decode cX11_cast 63 = .ok (.iconst 0, 1) := dk_3 (dk_at dksX11_cast_2 18 rfl rfl)
theorem dX11_cast_64 : decode cX11_cast 64 = .ok (.ireturn, 1) := dk_172 (dk_at dksX11_cast_2 19 rfl rfl)
theorem dX11_cast_65 : decode cX11_cast 65 = .ok (.iconst 0, 1) := dk_3 (dk_at dksX11_cast_2 20 rfl rfl)
theorem dX11_cast_66 : decode cX11_cast 66 = .ok (.istore_n 3, 1) := dk_62 (dk_at dksX11_cast_2 21 rfl rfl)
theorem dX11_cast_67 : decode cX11_cast 67 = .ok (.iload_n 3, 1) := dk_29 (dk_at dksX11_cast_2 22 rfl rfl)
theorem dX11_cast_68 : decode cX11_cast 68 = .ok (.aload_n 0, 1) := dk_42 (dk_at dksX11_cast_2 23 rfl rfl)
theorem dX11_cast_69 : decode cX11_cast 69 = .ok (.getfield 391, 3) := dk_180 1 135 (dk_at dksX11_cast_3 0 rfl rfl)
theorem dX11_cast_72 : decode cX11_cast 72 = .ok (.if_icmp .ge 26, 3) := dk_162 0 26 (dk_at dksX11_cast_3 3 rfl rfl)
theorem dX11_cast_75 : decode cX11_cast 75 = .ok (.aload_n 0, 1) := dk_42 (dk_at dksX11_cast_3 6 rfl rfl)
theorem dX11_cast_76 : decode cX11_cast 76 = .ok (.getfield 106, 3) := dk_180 0 106 (dk_at dksX11_cast_3 7 rfl rfl)
theorem dX11_cast_79 : decode cX11_cast 79 = .ok (.iload_n 3, 1) := dk_29 (dk_at dksX11_cast_3 10 rfl rfl)
theorem dX11_cast_80 : decode cX11_cast 80 = .ok (.iaload, 1) := dk_46 (dk_at dksX11_cast_3 11 rfl rfl)
theorem dX11_cast_81 : decode cX11_cast 81 = .ok (.iload_n 2, 1) := dk_28 (dk_at dksX11_cast_3 12 rfl rfl)
theorem dX11_cast_82 : decode cX11_cast 82 = .ok (.if_icmp .ne 10, 3) := dk_160 0 10 (dk_at dksX11_cast_3 13 rfl rfl)
theorem dX11_cast_85 : decode cX11_cast 85 = .ok (.aload_n 0, 1) := dk_42 (dk_at dksX11_cast_3 16 rfl rfl)
theorem dX11_cast_86 : decode cX11_cast 86 = .ok (.getfield 115, 3) := dk_180 0 115 (dk_at dksX11_cast_3 17 rfl rfl)
theorem dX11_cast_89 : decode cX11_cast 89 = .ok (.iload_n 3, 1) := dk_29 (dk_at dksX11_cast_3 20 rfl rfl)
theorem dX11_cast_90 : decode cX11_cast 90 = .ok (.iaload, 1) := dk_46 (dk_at dksX11_cast_3 21 rfl rfl)
theorem dX11_cast_91 : decode cX11_cast 91 = .ok (.ireturn, 1) := dk_172 (dk_at dksX11_cast_3 22 rfl rfl)
theorem dX11_cast_92 : decode cX11_cast 92 = .ok (.iinc 3 1, 3) := dk_132 3 1 (dk_at dksX11_cast_4 0 rfl rfl)
theorem dX11_cast_95 : decode cX11_cast 95 = .ok (.goto (-28), 3) := dk_167 255 228 (dk_at dksX11_cast_4 3 rfl rfl)
theorem dX11_cast_98 : decode cX11_cast 98 = .ok (.iconst 0, 1) := dk_3 (dk_at dksX11_cast_4 6 rfl rfl)
theorem dX11_cast_99 : decode cX11_cast 99 = .ok (.ireturn, 1) := dk_172 (dk_at dksX11_cast_4 7 rfl rfl)
abbrev cX11_thumbs : ByteArray := prog_22_method_96_code
def yX11_thumbs : MethodName := ⟨RX11, "thumbs", "(I)I"⟩
def dkwX11_thumbs_1 : List UInt8 := [153, 0, 5, 3, 172, 42, 27, 182, 1, 159, 154, 0, 7, 3, 167, 0, 7, 42, 180, 1, 141, 172]
abbrev dktX11_thumbs_1 : List UInt8 := dkwX11_thumbs_1 ++ []
def dkwX11_thumbs_0 : List UInt8 := [42, 3, 181, 0, 134, 42, 42, 27, 182, 1, 88, 154, 0, 7, 4, 167, 0, 4, 3, 4, 3, 182, 0, 249]
abbrev dktX11_thumbs_0 : List UInt8 := dkwX11_thumbs_0 ++ dktX11_thumbs_1
theorem dksX11_thumbs_0 : cX11_thumbs.data.toList.drop 0 = dktX11_thumbs_0 := by decide +kernel
theorem dksX11_thumbs_1 : cX11_thumbs.data.toList.drop 24 = dktX11_thumbs_1 := dk_seg dksX11_thumbs_0 24 rfl rfl
theorem dX11_thumbs_0 : decode cX11_thumbs 0 = .ok (.aload_n 0, 1) := dk_42 (dk_at dksX11_thumbs_0 0 rfl rfl)
theorem dX11_thumbs_1 : decode cX11_thumbs 1 = .ok (.iconst 0, 1) := dk_3 (dk_at dksX11_thumbs_0 1 rfl rfl)
theorem dX11_thumbs_2 : decode cX11_thumbs 2 = .ok (.putfield 134, 3) := dk_181 0 134 (dk_at dksX11_thumbs_0 2 rfl rfl)
theorem dX11_thumbs_5 : decode cX11_thumbs 5 = .ok (.aload_n 0, 1) := dk_42 (dk_at dksX11_thumbs_0 5 rfl rfl)
theorem dX11_thumbs_6 : decode cX11_thumbs 6 = .ok (.aload_n 0, 1) := dk_42 (dk_at dksX11_thumbs_0 6 rfl rfl)
theorem dX11_thumbs_7 : decode cX11_thumbs 7 = .ok (.iload_n 1, 1) := dk_27 (dk_at dksX11_thumbs_0 7 rfl rfl)
theorem dX11_thumbs_8 : decode cX11_thumbs 8 = .ok (.invokevirtual 344, 3) := dk_182 1 88 (dk_at dksX11_thumbs_0 8 rfl rfl)
theorem dX11_thumbs_11 : decode cX11_thumbs 11 = .ok (.ifCond .ne 7, 3) := dk_154 0 7 (dk_at dksX11_thumbs_0 11 rfl rfl)
theorem dX11_thumbs_14 : decode cX11_thumbs 14 = .ok (.iconst 1, 1) := dk_4 (dk_at dksX11_thumbs_0 14 rfl rfl)
theorem dX11_thumbs_15 : decode cX11_thumbs 15 = .ok (.goto 4, 3) := dk_167 0 4 (dk_at dksX11_thumbs_0 15 rfl rfl)
theorem dX11_thumbs_18 : decode cX11_thumbs 18 = .ok (.iconst 0, 1) := dk_3 (dk_at dksX11_thumbs_0 18 rfl rfl)
theorem dX11_thumbs_19 : decode cX11_thumbs 19 = .ok (.iconst 1, 1) := dk_4 (dk_at dksX11_thumbs_0 19 rfl rfl)
theorem dX11_thumbs_20 : decode cX11_thumbs 20 = .ok (.iconst 0, 1) := dk_3 (dk_at dksX11_thumbs_0 20 rfl rfl)
theorem dX11_thumbs_21 : decode cX11_thumbs 21 = .ok (.invokevirtual 249, 3) := dk_182 0 249 (dk_at dksX11_thumbs_0 21 rfl rfl)
theorem dX11_thumbs_24 : decode cX11_thumbs 24 = .ok (.ifCond .eq 5, 3) := dk_153 0 5 (dk_at dksX11_thumbs_1 0 rfl rfl)
theorem dX11_thumbs_27 : decode cX11_thumbs 27 = .ok (.iconst 0, 1) := dk_3 (dk_at dksX11_thumbs_1 3 rfl rfl)
theorem dX11_thumbs_28 : decode cX11_thumbs 28 = .ok (.ireturn, 1) := dk_172 (dk_at dksX11_thumbs_1 4 rfl rfl)
theorem dX11_thumbs_29 : decode cX11_thumbs 29 = .ok (.aload_n 0, 1) := dk_42 (dk_at dksX11_thumbs_1 5 rfl rfl)
theorem dX11_thumbs_30 : decode cX11_thumbs 30 = .ok (.iload_n 1, 1) := dk_27 (dk_at dksX11_thumbs_1 6 rfl rfl)
theorem dX11_thumbs_31 : decode cX11_thumbs 31 = .ok (.invokevirtual 415, 3) := dk_182 1 159 (dk_at dksX11_thumbs_1 7 rfl rfl)
theorem dX11_thumbs_34 : decode cX11_thumbs 34 = .ok (.ifCond .ne 7, 3) := dk_154 0 7 (dk_at dksX11_thumbs_1 10 rfl rfl)
theorem dX11_thumbs_37 : decode cX11_thumbs 37 = .ok (.iconst 0, 1) := dk_3 (dk_at dksX11_thumbs_1 13 rfl rfl)
theorem dX11_thumbs_38 : decode cX11_thumbs 38 = .ok (.goto 7, 3) := dk_167 0 7 (dk_at dksX11_thumbs_1 14 rfl rfl)
theorem dX11_thumbs_41 : decode cX11_thumbs 41 = .ok (.aload_n 0, 1) := dk_42 (dk_at dksX11_thumbs_1 17 rfl rfl)
theorem dX11_thumbs_42 : decode cX11_thumbs 42 = .ok (.getfield 397, 3) := dk_180 1 141 (dk_at dksX11_thumbs_1 18 rfl rfl)
theorem dX11_thumbs_45 : decode cX11_thumbs 45 = .ok (.ireturn, 1) := dk_172 (dk_at dksX11_thumbs_1 21 rfl rfl)
abbrev cX11_reach : ByteArray := prog_22_method_97_code
def yX11_reach : MethodName := ⟨RX11, "reach", "(I)I"⟩
def dkwX11_reach_4 : List UInt8 := [167, 255, 214, 132, 3, 1, 167, 255, 189, 28, 172]
abbrev dktX11_reach_4 : List UInt8 := dkwX11_reach_4 ++ []
def dkwX11_reach_3 : List UInt8 := [184, 0, 242, 153, 0, 15, 4, 42, 180, 0, 106, 21, 4, 46, 120, 167, 0, 4, 3, 128, 61, 132, 4, 1]
abbrev dktX11_reach_3 : List UInt8 := dkwX11_reach_3 ++ dktX11_reach_4
def dkwX11_reach_2 : List UInt8 := [87, 3, 54, 4, 21, 4, 42, 180, 1, 135, 162, 0, 39, 28, 42, 180, 0, 118, 21, 4, 46, 27]
abbrev dktX11_reach_2 : List UInt8 := dkwX11_reach_2 ++ dktX11_reach_3
def dkwX11_reach_1 : List UInt8 := [153, 0, 5, 3, 172, 3, 61, 3, 62, 29, 42, 180, 0, 23, 5, 46, 162, 0, 63, 42, 29, 182, 1, 159]
abbrev dktX11_reach_1 : List UInt8 := dkwX11_reach_1 ++ dktX11_reach_2
def dkwX11_reach_0 : List UInt8 := [42, 3, 181, 0, 134, 42, 42, 27, 182, 1, 75, 154, 0, 7, 4, 167, 0, 4, 3, 4, 3, 182, 0, 249]
abbrev dktX11_reach_0 : List UInt8 := dkwX11_reach_0 ++ dktX11_reach_1
theorem dksX11_reach_0 : cX11_reach.data.toList.drop 0 = dktX11_reach_0 := by decide +kernel
theorem dksX11_reach_1 : cX11_reach.data.toList.drop 24 = dktX11_reach_1 := dk_seg dksX11_reach_0 24 rfl rfl
theorem dksX11_reach_2 : cX11_reach.data.toList.drop 48 = dktX11_reach_2 := dk_seg dksX11_reach_1 24 rfl rfl
theorem dksX11_reach_3 : cX11_reach.data.toList.drop 70 = dktX11_reach_3 := dk_seg dksX11_reach_2 22 rfl rfl
theorem dksX11_reach_4 : cX11_reach.data.toList.drop 94 = dktX11_reach_4 := dk_seg dksX11_reach_3 24 rfl rfl
theorem dX11_reach_0 : decode cX11_reach 0 = .ok (.aload_n 0, 1) := dk_42 (dk_at dksX11_reach_0 0 rfl rfl)
theorem dX11_reach_1 : decode cX11_reach 1 = .ok (.iconst 0, 1) := dk_3 (dk_at dksX11_reach_0 1 rfl rfl)
theorem dX11_reach_2 : decode cX11_reach 2 = .ok (.putfield 134, 3) := dk_181 0 134 (dk_at dksX11_reach_0 2 rfl rfl)
theorem dX11_reach_5 : decode cX11_reach 5 = .ok (.aload_n 0, 1) := dk_42 (dk_at dksX11_reach_0 5 rfl rfl)
theorem dX11_reach_6 : decode cX11_reach 6 = .ok (.aload_n 0, 1) := dk_42 (dk_at dksX11_reach_0 6 rfl rfl)
theorem dX11_reach_7 : decode cX11_reach 7 = .ok (.iload_n 1, 1) := dk_27 (dk_at dksX11_reach_0 7 rfl rfl)
theorem dX11_reach_8 : decode cX11_reach 8 = .ok (.invokevirtual 331, 3) := dk_182 1 75 (dk_at dksX11_reach_0 8 rfl rfl)
theorem dX11_reach_11 : decode cX11_reach 11 = .ok (.ifCond .ne 7, 3) := dk_154 0 7 (dk_at dksX11_reach_0 11 rfl rfl)
theorem dX11_reach_14 : decode cX11_reach 14 = .ok (.iconst 1, 1) := dk_4 (dk_at dksX11_reach_0 14 rfl rfl)
theorem dX11_reach_15 : decode cX11_reach 15 = .ok (.goto 4, 3) := dk_167 0 4 (dk_at dksX11_reach_0 15 rfl rfl)
theorem dX11_reach_18 : decode cX11_reach 18 = .ok (.iconst 0, 1) := dk_3 (dk_at dksX11_reach_0 18 rfl rfl)
theorem dX11_reach_19 : decode cX11_reach 19 = .ok (.iconst 1, 1) := dk_4 (dk_at dksX11_reach_0 19 rfl rfl)
theorem dX11_reach_20 : decode cX11_reach 20 = .ok (.iconst 0, 1) := dk_3 (dk_at dksX11_reach_0 20 rfl rfl)
theorem dX11_reach_21 : decode cX11_reach 21 = .ok (.invokevirtual 249, 3) := dk_182 0 249 (dk_at dksX11_reach_0 21 rfl rfl)
theorem dX11_reach_24 : decode cX11_reach 24 = .ok (.ifCond .eq 5, 3) := dk_153 0 5 (dk_at dksX11_reach_1 0 rfl rfl)
theorem dX11_reach_27 : decode cX11_reach 27 = .ok (.iconst 0, 1) := dk_3 (dk_at dksX11_reach_1 3 rfl rfl)
theorem dX11_reach_28 : decode cX11_reach 28 = .ok (.ireturn, 1) := dk_172 (dk_at dksX11_reach_1 4 rfl rfl)
theorem dX11_reach_29 : decode cX11_reach 29 = .ok (.iconst 0, 1) := dk_3 (dk_at dksX11_reach_1 5 rfl rfl)
theorem dX11_reach_30 : decode cX11_reach 30 = .ok (.istore_n 2, 1) := dk_61 (dk_at dksX11_reach_1 6 rfl rfl)
theorem dX11_reach_31 : decode cX11_reach 31 = .ok (.iconst 0, 1) := dk_3 (dk_at dksX11_reach_1 7 rfl rfl)
theorem dX11_reach_32 : decode cX11_reach 32 = .ok (.istore_n 3, 1) := dk_62 (dk_at dksX11_reach_1 8 rfl rfl)
theorem dX11_reach_33 : decode cX11_reach 33 = .ok (.iload_n 3, 1) := dk_29 (dk_at dksX11_reach_1 9 rfl rfl)
theorem dX11_reach_34 : decode cX11_reach 34 = .ok (.aload_n 0, 1) := dk_42 (dk_at dksX11_reach_1 10 rfl rfl)
theorem dX11_reach_35 : decode cX11_reach 35 = .ok (.getfield 23, 3) := dk_180 0 23 (dk_at dksX11_reach_1 11 rfl rfl)
theorem dX11_reach_38 : decode cX11_reach 38 = .ok (.iconst 2, 1) := dk_5 (dk_at dksX11_reach_1 14 rfl rfl)
theorem dX11_reach_39 : decode cX11_reach 39 = .ok (.iaload, 1) := dk_46 (dk_at dksX11_reach_1 15 rfl rfl)
theorem dX11_reach_40 : decode cX11_reach 40 = .ok (.if_icmp .ge 63, 3) := dk_162 0 63 (dk_at dksX11_reach_1 16 rfl rfl)
theorem dX11_reach_43 : decode cX11_reach 43 = .ok (.aload_n 0, 1) := dk_42 (dk_at dksX11_reach_1 19 rfl rfl)
theorem dX11_reach_44 : decode cX11_reach 44 = .ok (.iload_n 3, 1) := dk_29 (dk_at dksX11_reach_1 20 rfl rfl)
theorem dX11_reach_45 : decode cX11_reach 45 = .ok (.invokevirtual 415, 3) := dk_182 1 159 (dk_at dksX11_reach_1 21 rfl rfl)
theorem dX11_reach_48 : decode cX11_reach 48 = .ok (.pop, 1) := dk_87 (dk_at dksX11_reach_2 0 rfl rfl)
theorem dX11_reach_49 : decode cX11_reach 49 = .ok (.iconst 0, 1) := dk_3 (dk_at dksX11_reach_2 1 rfl rfl)
theorem dX11_reach_50 : decode cX11_reach 50 = .ok (.istore 4, 2) := dk_54 4 (dk_at dksX11_reach_2 2 rfl rfl)
theorem dX11_reach_52 : decode cX11_reach 52 = .ok (.iload 4, 2) := dk_21 4 (dk_at dksX11_reach_2 4 rfl rfl)
theorem dX11_reach_54 : decode cX11_reach 54 = .ok (.aload_n 0, 1) := dk_42 (dk_at dksX11_reach_2 6 rfl rfl)
theorem dX11_reach_55 : decode cX11_reach 55 = .ok (.getfield 391, 3) := dk_180 1 135 (dk_at dksX11_reach_2 7 rfl rfl)
theorem dX11_reach_58 : decode cX11_reach 58 = .ok (.if_icmp .ge 39, 3) := dk_162 0 39 (dk_at dksX11_reach_2 10 rfl rfl)
theorem dX11_reach_61 : decode cX11_reach 61 = .ok (.iload_n 2, 1) := dk_28 (dk_at dksX11_reach_2 13 rfl rfl)
theorem dX11_reach_62 : decode cX11_reach 62 = .ok (.aload_n 0, 1) := dk_42 (dk_at dksX11_reach_2 14 rfl rfl)
theorem dX11_reach_63 : decode cX11_reach 63 = .ok (.getfield 118, 3) := dk_180 0 118 (dk_at dksX11_reach_2 15 rfl rfl)
theorem dX11_reach_66 : decode cX11_reach 66 = .ok (.iload 4, 2) := dk_21 4 (dk_at dksX11_reach_2 18 rfl rfl)
theorem dX11_reach_68 : decode cX11_reach 68 = .ok (.iaload, 1) := dk_46 (dk_at dksX11_reach_2 20 rfl rfl)
theorem dX11_reach_69 : decode cX11_reach 69 = .ok (.iload_n 1, 1) := dk_27 (dk_at dksX11_reach_2 21 rfl rfl)
theorem dX11_reach_70 : decode cX11_reach 70 = .ok (.invokestatic 242, 3) := dk_184 0 242 (dk_at dksX11_reach_3 0 rfl rfl)
theorem dX11_reach_73 : decode cX11_reach 73 = .ok (.ifCond .eq 15, 3) := dk_153 0 15 (dk_at dksX11_reach_3 3 rfl rfl)
theorem dX11_reach_76 : decode cX11_reach 76 = .ok (.iconst 1, 1) := dk_4 (dk_at dksX11_reach_3 6 rfl rfl)
theorem dX11_reach_77 : decode cX11_reach 77 = .ok (.aload_n 0, 1) := dk_42 (dk_at dksX11_reach_3 7 rfl rfl)
theorem dX11_reach_78 : decode cX11_reach 78 = .ok (.getfield 106, 3) := dk_180 0 106 (dk_at dksX11_reach_3 8 rfl rfl)
theorem dX11_reach_81 : decode cX11_reach 81 = .ok (.iload 4, 2) := dk_21 4 (dk_at dksX11_reach_3 11 rfl rfl)
theorem dX11_reach_83 : decode cX11_reach 83 = .ok (.iaload, 1) := dk_46 (dk_at dksX11_reach_3 13 rfl rfl)
theorem dX11_reach_84 : decode cX11_reach 84 = .ok (.ishl, 1) := dk_120 (dk_at dksX11_reach_3 14 rfl rfl)
theorem dX11_reach_85 : decode cX11_reach 85 = .ok (.goto 4, 3) := dk_167 0 4 (dk_at dksX11_reach_3 15 rfl rfl)
theorem dX11_reach_88 : decode cX11_reach 88 = .ok (.iconst 0, 1) := dk_3 (dk_at dksX11_reach_3 18 rfl rfl)
theorem dX11_reach_89 : decode cX11_reach 89 = .ok (.ior, 1) := dk_128 (dk_at dksX11_reach_3 19 rfl rfl)
theorem dX11_reach_90 : decode cX11_reach 90 = .ok (.istore_n 2, 1) := dk_61 (dk_at dksX11_reach_3 20 rfl rfl)
theorem dX11_reach_91 : decode cX11_reach 91 = .ok (.iinc 4 1, 3) := dk_132 4 1 (dk_at dksX11_reach_3 21 rfl rfl)
theorem dX11_reach_94 : decode cX11_reach 94 = .ok (.goto (-42), 3) := dk_167 255 214 (dk_at dksX11_reach_4 0 rfl rfl)
theorem dX11_reach_97 : decode cX11_reach 97 = .ok (.iinc 3 1, 3) := dk_132 3 1 (dk_at dksX11_reach_4 3 rfl rfl)
theorem dX11_reach_100 : decode cX11_reach 100 = .ok (.goto (-67), 3) := dk_167 255 189 (dk_at dksX11_reach_4 6 rfl rfl)
theorem dX11_reach_103 : decode cX11_reach 103 = .ok (.iload_n 2, 1) := dk_28 (dk_at dksX11_reach_4 9 rfl rfl)
theorem dX11_reach_104 : decode cX11_reach 104 = .ok (.ireturn, 1) := dk_172 (dk_at dksX11_reach_4 10 rfl rfl)
abbrev cX11_both : ByteArray := prog_22_method_98_code
def yX11_both : MethodName := ⟨RX11, "both", "(II)Z"⟩
def dkwX11_both_4 : List UInt8 := [180, 0, 91, 42, 42, 180, 0, 91, 182, 1, 68, 4, 182, 1, 155, 158, 0, 7, 4, 167, 0, 4, 3, 172]
abbrev dktX11_both_4 : List UInt8 := dkwX11_both_4 ++ []
def dkwX11_both_3 : List UInt8 := [172, 42, 27, 3, 182, 1, 152, 42, 28, 42, 180, 0, 61, 27, 50, 4, 46, 182, 1, 152, 42, 42]
abbrev dktX11_both_3 : List UInt8 := dkwX11_both_3 ++ dktX11_both_4
def dkwX11_both_2 : List UInt8 := [4, 182, 0, 249, 153, 0, 5, 3, 172, 42, 27, 182, 1, 91, 42, 28, 182, 1, 91, 126, 153, 0, 5, 3]
abbrev dktX11_both_2 : List UInt8 := dkwX11_both_2 ++ dktX11_both_3
def dkwX11_both_1 : List UInt8 := [167, 0, 4, 3, 4, 3, 182, 0, 249, 154, 0, 22, 42, 27, 28, 160, 0, 7, 4, 167, 0, 4, 3, 5]
abbrev dktX11_both_1 : List UInt8 := dkwX11_both_1 ++ dktX11_both_2
def dkwX11_both_0 : List UInt8 := [42, 3, 181, 0, 134, 42, 42, 27, 182, 1, 88, 153, 0, 11, 42, 28, 182, 1, 88, 154, 0, 7, 4]
abbrev dktX11_both_0 : List UInt8 := dkwX11_both_0 ++ dktX11_both_1
theorem dksX11_both_0 : cX11_both.data.toList.drop 0 = dktX11_both_0 := by decide +kernel
theorem dksX11_both_1 : cX11_both.data.toList.drop 23 = dktX11_both_1 := dk_seg dksX11_both_0 23 rfl rfl
theorem dksX11_both_2 : cX11_both.data.toList.drop 47 = dktX11_both_2 := dk_seg dksX11_both_1 24 rfl rfl
theorem dksX11_both_3 : cX11_both.data.toList.drop 71 = dktX11_both_3 := dk_seg dksX11_both_2 24 rfl rfl
theorem dksX11_both_4 : cX11_both.data.toList.drop 93 = dktX11_both_4 := dk_seg dksX11_both_3 22 rfl rfl
theorem dX11_both_0 : decode cX11_both 0 = .ok (.aload_n 0, 1) := dk_42 (dk_at dksX11_both_0 0 rfl rfl)
theorem dX11_both_1 : decode cX11_both 1 = .ok (.iconst 0, 1) := dk_3 (dk_at dksX11_both_0 1 rfl rfl)
theorem dX11_both_2 : decode cX11_both 2 = .ok (.putfield 134, 3) := dk_181 0 134 (dk_at dksX11_both_0 2 rfl rfl)
theorem dX11_both_5 : decode cX11_both 5 = .ok (.aload_n 0, 1) := dk_42 (dk_at dksX11_both_0 5 rfl rfl)
theorem dX11_both_6 : decode cX11_both 6 = .ok (.aload_n 0, 1) := dk_42 (dk_at dksX11_both_0 6 rfl rfl)
theorem dX11_both_7 : decode cX11_both 7 = .ok (.iload_n 1, 1) := dk_27 (dk_at dksX11_both_0 7 rfl rfl)
theorem dX11_both_8 : decode cX11_both 8 = .ok (.invokevirtual 344, 3) := dk_182 1 88 (dk_at dksX11_both_0 8 rfl rfl)
theorem dX11_both_11 : decode cX11_both 11 = .ok (.ifCond .eq 11, 3) := dk_153 0 11 (dk_at dksX11_both_0 11 rfl rfl)
theorem dX11_both_14 : decode cX11_both 14 = .ok (.aload_n 0, 1) := dk_42 (dk_at dksX11_both_0 14 rfl rfl)
theorem dX11_both_15 : decode cX11_both 15 = .ok (.iload_n 2, 1) := dk_28 (dk_at dksX11_both_0 15 rfl rfl)
theorem dX11_both_16 : decode cX11_both 16 = .ok (.invokevirtual 344, 3) := dk_182 1 88 (dk_at dksX11_both_0 16 rfl rfl)
theorem dX11_both_19 : decode cX11_both 19 = .ok (.ifCond .ne 7, 3) := dk_154 0 7 (dk_at dksX11_both_0 19 rfl rfl)
theorem dX11_both_22 : decode cX11_both 22 = .ok (.iconst 1, 1) := dk_4 (dk_at dksX11_both_0 22 rfl rfl)
theorem dX11_both_23 : decode cX11_both 23 = .ok (.goto 4, 3) := dk_167 0 4 (dk_at dksX11_both_1 0 rfl rfl)
theorem dX11_both_26 : decode cX11_both 26 = .ok (.iconst 0, 1) := dk_3 (dk_at dksX11_both_1 3 rfl rfl)
theorem dX11_both_27 : decode cX11_both 27 = .ok (.iconst 1, 1) := dk_4 (dk_at dksX11_both_1 4 rfl rfl)
theorem dX11_both_28 : decode cX11_both 28 = .ok (.iconst 0, 1) := dk_3 (dk_at dksX11_both_1 5 rfl rfl)
theorem dX11_both_29 : decode cX11_both 29 = .ok (.invokevirtual 249, 3) := dk_182 0 249 (dk_at dksX11_both_1 6 rfl rfl)
theorem dX11_both_32 : decode cX11_both 32 = .ok (.ifCond .ne 22, 3) := dk_154 0 22 (dk_at dksX11_both_1 9 rfl rfl)
theorem dX11_both_35 : decode cX11_both 35 = .ok (.aload_n 0, 1) := dk_42 (dk_at dksX11_both_1 12 rfl rfl)
theorem dX11_both_36 : decode cX11_both 36 = .ok (.iload_n 1, 1) := dk_27 (dk_at dksX11_both_1 13 rfl rfl)
theorem dX11_both_37 : decode cX11_both 37 = .ok (.iload_n 2, 1) := dk_28 (dk_at dksX11_both_1 14 rfl rfl)
theorem dX11_both_38 : decode cX11_both 38 = .ok (.if_icmp .ne 7, 3) := dk_160 0 7 (dk_at dksX11_both_1 15 rfl rfl)
theorem dX11_both_41 : decode cX11_both 41 = .ok (.iconst 1, 1) := dk_4 (dk_at dksX11_both_1 18 rfl rfl)
theorem dX11_both_42 : decode cX11_both 42 = .ok (.goto 4, 3) := dk_167 0 4 (dk_at dksX11_both_1 19 rfl rfl)
theorem dX11_both_45 : decode cX11_both 45 = .ok (.iconst 0, 1) := dk_3 (dk_at dksX11_both_1 22 rfl rfl)
theorem dX11_both_46 : decode cX11_both 46 = .ok (.iconst 2, 1) := dk_5 (dk_at dksX11_both_1 23 rfl rfl)
theorem dX11_both_47 : decode cX11_both 47 = .ok (.iconst 1, 1) := dk_4 (dk_at dksX11_both_2 0 rfl rfl)
theorem dX11_both_48 : decode cX11_both 48 = .ok (.invokevirtual 249, 3) := dk_182 0 249 (dk_at dksX11_both_2 1 rfl rfl)
theorem dX11_both_51 : decode cX11_both 51 = .ok (.ifCond .eq 5, 3) := dk_153 0 5 (dk_at dksX11_both_2 4 rfl rfl)
theorem dX11_both_54 : decode cX11_both 54 = .ok (.iconst 0, 1) := dk_3 (dk_at dksX11_both_2 7 rfl rfl)
theorem dX11_both_55 : decode cX11_both 55 = .ok (.ireturn, 1) := dk_172 (dk_at dksX11_both_2 8 rfl rfl)
theorem dX11_both_56 : decode cX11_both 56 = .ok (.aload_n 0, 1) := dk_42 (dk_at dksX11_both_2 9 rfl rfl)
theorem dX11_both_57 : decode cX11_both 57 = .ok (.iload_n 1, 1) := dk_27 (dk_at dksX11_both_2 10 rfl rfl)
theorem dX11_both_58 : decode cX11_both 58 = .ok (.invokevirtual 347, 3) := dk_182 1 91 (dk_at dksX11_both_2 11 rfl rfl)
theorem dX11_both_61 : decode cX11_both 61 = .ok (.aload_n 0, 1) := dk_42 (dk_at dksX11_both_2 14 rfl rfl)
theorem dX11_both_62 : decode cX11_both 62 = .ok (.iload_n 2, 1) := dk_28 (dk_at dksX11_both_2 15 rfl rfl)
theorem dX11_both_63 : decode cX11_both 63 = .ok (.invokevirtual 347, 3) := dk_182 1 91 (dk_at dksX11_both_2 16 rfl rfl)
theorem dX11_both_66 : decode cX11_both 66 = .ok (.iand, 1) := dk_126 (dk_at dksX11_both_2 19 rfl rfl)
theorem dX11_both_67 : decode cX11_both 67 = .ok (.ifCond .eq 5, 3) := dk_153 0 5 (dk_at dksX11_both_2 20 rfl rfl)
theorem dX11_both_70 : decode cX11_both 70 = .ok (.iconst 0, 1) := dk_3 (dk_at dksX11_both_2 23 rfl rfl)
theorem dX11_both_71 : decode cX11_both 71 = .ok (.ireturn, 1) := dk_172 (dk_at dksX11_both_3 0 rfl rfl)
theorem dX11_both_72 : decode cX11_both 72 = .ok (.aload_n 0, 1) := dk_42 (dk_at dksX11_both_3 1 rfl rfl)
theorem dX11_both_73 : decode cX11_both 73 = .ok (.iload_n 1, 1) := dk_27 (dk_at dksX11_both_3 2 rfl rfl)
theorem dX11_both_74 : decode cX11_both 74 = .ok (.iconst 0, 1) := dk_3 (dk_at dksX11_both_3 3 rfl rfl)
theorem dX11_both_75 : decode cX11_both 75 = .ok (.invokevirtual 408, 3) := dk_182 1 152 (dk_at dksX11_both_3 4 rfl rfl)
theorem dX11_both_78 : decode cX11_both 78 = .ok (.aload_n 0, 1) := dk_42 (dk_at dksX11_both_3 7 rfl rfl)
theorem dX11_both_79 : decode cX11_both 79 = .ok (.iload_n 2, 1) := dk_28 (dk_at dksX11_both_3 8 rfl rfl)
theorem dX11_both_80 : decode cX11_both 80 = .ok (.aload_n 0, 1) := dk_42 (dk_at dksX11_both_3 9 rfl rfl)
theorem dX11_both_81 : decode cX11_both 81 = .ok (.getfield 61, 3) := dk_180 0 61 (dk_at dksX11_both_3 10 rfl rfl)
theorem dX11_both_84 : decode cX11_both 84 = .ok (.iload_n 1, 1) := dk_27 (dk_at dksX11_both_3 13 rfl rfl)
theorem dX11_both_85 : decode cX11_both 85 = .ok (.aaload, 1) := dk_50 (dk_at dksX11_both_3 14 rfl rfl)
theorem dX11_both_86 : decode cX11_both 86 = .ok (.iconst 1, 1) := dk_4 (dk_at dksX11_both_3 15 rfl rfl)
theorem dX11_both_87 : decode cX11_both 87 = .ok (.iaload, 1) := dk_46 (dk_at dksX11_both_3 16 rfl rfl)
theorem dX11_both_88 : decode cX11_both 88 = .ok (.invokevirtual 408, 3) := dk_182 1 152 (dk_at dksX11_both_3 17 rfl rfl)
theorem dX11_both_91 : decode cX11_both 91 = .ok (.aload_n 0, 1) := dk_42 (dk_at dksX11_both_3 20 rfl rfl)
theorem dX11_both_92 : decode cX11_both 92 = .ok (.aload_n 0, 1) := dk_42 (dk_at dksX11_both_3 21 rfl rfl)
theorem dX11_both_93 : decode cX11_both 93 = .ok (.getfield 91, 3) := dk_180 0 91 (dk_at dksX11_both_4 0 rfl rfl)
theorem dX11_both_96 : decode cX11_both 96 = .ok (.aload_n 0, 1) := dk_42 (dk_at dksX11_both_4 3 rfl rfl)
theorem dX11_both_97 : decode cX11_both 97 = .ok (.aload_n 0, 1) := dk_42 (dk_at dksX11_both_4 4 rfl rfl)
theorem dX11_both_98 : decode cX11_both 98 = .ok (.getfield 91, 3) := dk_180 0 91 (dk_at dksX11_both_4 5 rfl rfl)
theorem dX11_both_101 : decode cX11_both 101 = .ok (.invokevirtual 324, 3) := dk_182 1 68 (dk_at dksX11_both_4 8 rfl rfl)
theorem dX11_both_104 : decode cX11_both 104 = .ok (.iconst 1, 1) := dk_4 (dk_at dksX11_both_4 11 rfl rfl)
theorem dX11_both_105 : decode cX11_both 105 = .ok (.invokevirtual 411, 3) := dk_182 1 155 (dk_at dksX11_both_4 12 rfl rfl)
theorem dX11_both_108 : decode cX11_both 108 = .ok (.ifCond .le 7, 3) := dk_158 0 7 (dk_at dksX11_both_4 15 rfl rfl)
theorem dX11_both_111 : decode cX11_both 111 = .ok (.iconst 1, 1) := dk_4 (dk_at dksX11_both_4 18 rfl rfl)
theorem dX11_both_112 : decode cX11_both 112 = .ok (.goto 4, 3) := dk_167 0 4 (dk_at dksX11_both_4 19 rfl rfl)
theorem dX11_both_115 : decode cX11_both 115 = .ok (.iconst 0, 1) := dk_3 (dk_at dksX11_both_4 22 rfl rfl)
theorem dX11_both_116 : decode cX11_both 116 = .ok (.ireturn, 1) := dk_172 (dk_at dksX11_both_4 23 rfl rfl)
abbrev cX11_lacking : ByteArray := prog_22_method_99_code
def yX11_lacking : MethodName := ⟨RX11, "lacking", "(I)I"⟩
def dkwX11_lacking_7 : List UInt8 := [164, 0, 8, 21, 4, 167, 0, 4, 28, 61, 132, 4, 1, 167, 255, 122, 28, 172]
abbrev dktX11_lacking_7 : List UInt8 := dkwX11_lacking_7 ++ []
def dkwX11_lacking_6 : List UInt8 := [21, 7, 46, 126, 54, 6, 132, 7, 1, 167, 255, 203, 21, 5, 29, 21, 6, 2, 130, 126, 184, 0, 246]
abbrev dktX11_lacking_6 : List UInt8 := dkwX11_lacking_6 ++ dktX11_lacking_7
def dkwX11_lacking_5 : List UInt8 := [167, 0, 29, 21, 5, 42, 180, 0, 55, 21, 7, 50, 4, 46, 96, 54, 5, 21, 6, 42, 180, 0, 35]
abbrev dktX11_lacking_5 : List UInt8 := dkwX11_lacking_5 ++ dktX11_lacking_6
def dkwX11_lacking_4 : List UInt8 := [3, 54, 7, 21, 7, 42, 180, 0, 23, 4, 46, 162, 0, 48, 21, 4, 21, 7, 184, 0, 242, 154, 0, 6]
abbrev dktX11_lacking_4 : List UInt8 := dkwX11_lacking_4 ++ dktX11_lacking_5
def dkwX11_lacking_3 : List UInt8 := [153, 0, 18, 21, 4, 184, 0, 246, 28, 184, 0, 246, 161, 0, 6, 167, 0, 89, 3, 54, 5, 29, 54, 6]
abbrev dktX11_lacking_3 : List UInt8 := dkwX11_lacking_3 ++ dktX11_lacking_4
def dkwX11_lacking_2 : List UInt8 := [180, 0, 23, 4, 46, 120, 162, 0, 127, 21, 4, 42, 27, 182, 1, 91, 2, 130, 126, 154, 0, 108, 28]
abbrev dktX11_lacking_2 : List UInt8 := dkwX11_lacking_2 ++ dktX11_lacking_3
def dkwX11_lacking_1 : List UInt8 := [153, 0, 5, 3, 172, 3, 61, 42, 42, 180, 0, 91, 182, 1, 68, 62, 4, 54, 4, 21, 4, 4, 42]
abbrev dktX11_lacking_1 : List UInt8 := dkwX11_lacking_1 ++ dktX11_lacking_2
def dkwX11_lacking_0 : List UInt8 := [42, 3, 181, 0, 134, 42, 42, 27, 182, 1, 88, 154, 0, 7, 4, 167, 0, 4, 3, 4, 3, 182, 0, 249]
abbrev dktX11_lacking_0 : List UInt8 := dkwX11_lacking_0 ++ dktX11_lacking_1
theorem dksX11_lacking_0 : cX11_lacking.data.toList.drop 0 = dktX11_lacking_0 := by decide +kernel
theorem dksX11_lacking_1 : cX11_lacking.data.toList.drop 24 = dktX11_lacking_1 := dk_seg dksX11_lacking_0 24 rfl rfl
theorem dksX11_lacking_2 : cX11_lacking.data.toList.drop 47 = dktX11_lacking_2 := dk_seg dksX11_lacking_1 23 rfl rfl
theorem dksX11_lacking_3 : cX11_lacking.data.toList.drop 70 = dktX11_lacking_3 := dk_seg dksX11_lacking_2 23 rfl rfl
theorem dksX11_lacking_4 : cX11_lacking.data.toList.drop 94 = dktX11_lacking_4 := dk_seg dksX11_lacking_3 24 rfl rfl
theorem dksX11_lacking_5 : cX11_lacking.data.toList.drop 118 = dktX11_lacking_5 := dk_seg dksX11_lacking_4 24 rfl rfl
theorem dksX11_lacking_6 : cX11_lacking.data.toList.drop 141 = dktX11_lacking_6 := dk_seg dksX11_lacking_5 23 rfl rfl
theorem dksX11_lacking_7 : cX11_lacking.data.toList.drop 164 = dktX11_lacking_7 := dk_seg dksX11_lacking_6 23 rfl rfl
theorem dX11_lacking_0 : decode cX11_lacking 0 = .ok (.aload_n 0, 1) := dk_42 (dk_at dksX11_lacking_0 0 rfl rfl)
theorem dX11_lacking_1 : decode cX11_lacking 1 = .ok (.iconst 0, 1) := dk_3 (dk_at dksX11_lacking_0 1 rfl rfl)
theorem dX11_lacking_2 : decode cX11_lacking 2 = .ok (.putfield 134, 3) := dk_181 0 134 (dk_at dksX11_lacking_0 2 rfl rfl)
theorem dX11_lacking_5 : decode cX11_lacking 5 = .ok (.aload_n 0, 1) := dk_42 (dk_at dksX11_lacking_0 5 rfl rfl)
theorem dX11_lacking_6 : decode cX11_lacking 6 = .ok (.aload_n 0, 1) := dk_42 (dk_at dksX11_lacking_0 6 rfl rfl)
theorem dX11_lacking_7 : decode cX11_lacking 7 = .ok (.iload_n 1, 1) := dk_27 (dk_at dksX11_lacking_0 7 rfl rfl)
theorem dX11_lacking_8 : decode cX11_lacking 8 = .ok (.invokevirtual 344, 3) := dk_182 1 88 (dk_at dksX11_lacking_0 8 rfl rfl)
theorem dX11_lacking_11 : decode cX11_lacking 11 = .ok (.ifCond .ne 7, 3) := dk_154 0 7 (dk_at dksX11_lacking_0 11 rfl rfl)
theorem dX11_lacking_14 : decode cX11_lacking 14 = .ok (.iconst 1, 1) := dk_4 (dk_at dksX11_lacking_0 14 rfl rfl)
theorem dX11_lacking_15 : decode cX11_lacking 15 = .ok (.goto 4, 3) := dk_167 0 4 (dk_at dksX11_lacking_0 15 rfl rfl)
theorem dX11_lacking_18 : decode cX11_lacking 18 = .ok (.iconst 0, 1) := dk_3 (dk_at dksX11_lacking_0 18 rfl rfl)
theorem dX11_lacking_19 : decode cX11_lacking 19 = .ok (.iconst 1, 1) := dk_4 (dk_at dksX11_lacking_0 19 rfl rfl)
theorem dX11_lacking_20 : decode cX11_lacking 20 = .ok (.iconst 0, 1) := dk_3 (dk_at dksX11_lacking_0 20 rfl rfl)
theorem dX11_lacking_21 : decode cX11_lacking 21 = .ok (.invokevirtual 249, 3) := dk_182 0 249 (dk_at dksX11_lacking_0 21 rfl rfl)
theorem dX11_lacking_24 : decode cX11_lacking 24 = .ok (.ifCond .eq 5, 3) := dk_153 0 5 (dk_at dksX11_lacking_1 0 rfl rfl)
theorem dX11_lacking_27 : decode cX11_lacking 27 = .ok (.iconst 0, 1) := dk_3 (dk_at dksX11_lacking_1 3 rfl rfl)
theorem dX11_lacking_28 : decode cX11_lacking 28 = .ok (.ireturn, 1) := dk_172 (dk_at dksX11_lacking_1 4 rfl rfl)
theorem dX11_lacking_29 : decode cX11_lacking 29 = .ok (.iconst 0, 1) := dk_3 (dk_at dksX11_lacking_1 5 rfl rfl)
theorem dX11_lacking_30 : decode cX11_lacking 30 = .ok (.istore_n 2, 1) := dk_61 (dk_at dksX11_lacking_1 6 rfl rfl)
theorem dX11_lacking_31 : decode cX11_lacking 31 = .ok (.aload_n 0, 1) := dk_42 (dk_at dksX11_lacking_1 7 rfl rfl)
theorem dX11_lacking_32 : decode cX11_lacking 32 = .ok (.aload_n 0, 1) := dk_42 (dk_at dksX11_lacking_1 8 rfl rfl)
theorem dX11_lacking_33 : decode cX11_lacking 33 = .ok (.getfield 91, 3) := dk_180 0 91 (dk_at dksX11_lacking_1 9 rfl rfl)
theorem dX11_lacking_36 : decode cX11_lacking 36 = .ok (.invokevirtual 324, 3) := dk_182 1 68 (dk_at dksX11_lacking_1 12 rfl rfl)
theorem dX11_lacking_39 : decode cX11_lacking 39 = .ok (.istore_n 3, 1) := dk_62 (dk_at dksX11_lacking_1 15 rfl rfl)
theorem dX11_lacking_40 : decode cX11_lacking 40 = .ok (.iconst 1, 1) := dk_4 (dk_at dksX11_lacking_1 16 rfl rfl)
theorem dX11_lacking_41 : decode cX11_lacking 41 = .ok (.istore 4, 2) := dk_54 4 (dk_at dksX11_lacking_1 17 rfl rfl)
theorem dX11_lacking_43 : decode cX11_lacking 43 = .ok (.iload 4, 2) := dk_21 4 (dk_at dksX11_lacking_1 19 rfl rfl)
theorem dX11_lacking_45 : decode cX11_lacking 45 = .ok (.iconst 1, 1) := dk_4 (dk_at dksX11_lacking_1 21 rfl rfl)
theorem dX11_lacking_46 : decode cX11_lacking 46 = .ok (.aload_n 0, 1) := dk_42 (dk_at dksX11_lacking_1 22 rfl rfl)
theorem dX11_lacking_47 : decode cX11_lacking 47 = .ok (.getfield 23, 3) := dk_180 0 23 (dk_at dksX11_lacking_2 0 rfl rfl)
theorem dX11_lacking_50 : decode cX11_lacking 50 = .ok (.iconst 1, 1) := dk_4 (dk_at dksX11_lacking_2 3 rfl rfl)
theorem dX11_lacking_51 : decode cX11_lacking 51 = .ok (.iaload, 1) := dk_46 (dk_at dksX11_lacking_2 4 rfl rfl)
theorem dX11_lacking_52 : decode cX11_lacking 52 = .ok (.ishl, 1) := dk_120 (dk_at dksX11_lacking_2 5 rfl rfl)
theorem dX11_lacking_53 : decode cX11_lacking 53 = .ok (.if_icmp .ge 127, 3) := dk_162 0 127 (dk_at dksX11_lacking_2 6 rfl rfl)
theorem dX11_lacking_56 : decode cX11_lacking 56 = .ok (.iload 4, 2) := dk_21 4 (dk_at dksX11_lacking_2 9 rfl rfl)
theorem dX11_lacking_58 : decode cX11_lacking 58 = .ok (.aload_n 0, 1) := dk_42 (dk_at dksX11_lacking_2 11 rfl rfl)
theorem dX11_lacking_59 : decode cX11_lacking 59 = .ok (.iload_n 1, 1) := dk_27 (dk_at dksX11_lacking_2 12 rfl rfl)
theorem dX11_lacking_60 : decode cX11_lacking 60 = .ok (.invokevirtual 347, 3) := dk_182 1 91 (dk_at dksX11_lacking_2 13 rfl rfl)
theorem dX11_lacking_63 : decode cX11_lacking 63 = .ok (.iconst (-1), 1) := dk_2 (dk_at dksX11_lacking_2 16 rfl rfl)
theorem dX11_lacking_64 : decode cX11_lacking 64 = .ok (.ixor, 1) := dk_130 (dk_at dksX11_lacking_2 17 rfl rfl)
theorem dX11_lacking_65 : decode cX11_lacking 65 = .ok (.iand, 1) := dk_126 (dk_at dksX11_lacking_2 18 rfl rfl)
theorem dX11_lacking_66 : decode cX11_lacking 66 = .ok (.ifCond .ne 108, 3) := dk_154 0 108 (dk_at dksX11_lacking_2 19 rfl rfl)
theorem dX11_lacking_69 : decode cX11_lacking 69 = .ok (.iload_n 2, 1) := dk_28 (dk_at dksX11_lacking_2 22 rfl rfl)
theorem dX11_lacking_70 : decode cX11_lacking 70 = .ok (.ifCond .eq 18, 3) := dk_153 0 18 (dk_at dksX11_lacking_3 0 rfl rfl)
theorem dX11_lacking_73 : decode cX11_lacking 73 = .ok (.iload 4, 2) := dk_21 4 (dk_at dksX11_lacking_3 3 rfl rfl)
theorem dX11_lacking_75 : decode cX11_lacking 75 = .ok (.invokestatic 246, 3) := dk_184 0 246 (dk_at dksX11_lacking_3 5 rfl rfl)
theorem dX11_lacking_78 : decode cX11_lacking 78 = .ok (.iload_n 2, 1) := dk_28 (dk_at dksX11_lacking_3 8 rfl rfl)
theorem dX11_lacking_79 : decode cX11_lacking 79 = .ok (.invokestatic 246, 3) := dk_184 0 246 (dk_at dksX11_lacking_3 9 rfl rfl)
theorem dX11_lacking_82 : decode cX11_lacking 82 = .ok (.if_icmp .lt 6, 3) := dk_161 0 6 (dk_at dksX11_lacking_3 12 rfl rfl)
theorem dX11_lacking_85 : decode cX11_lacking 85 = .ok (.goto 89, 3) := dk_167 0 89 (dk_at dksX11_lacking_3 15 rfl rfl)
theorem dX11_lacking_88 : decode cX11_lacking 88 = .ok (.iconst 0, 1) := dk_3 (dk_at dksX11_lacking_3 18 rfl rfl)
theorem dX11_lacking_89 : decode cX11_lacking 89 = .ok (.istore 5, 2) := dk_54 5 (dk_at dksX11_lacking_3 19 rfl rfl)
theorem dX11_lacking_91 : decode cX11_lacking 91 = .ok (.iload_n 3, 1) := dk_29 (dk_at dksX11_lacking_3 21 rfl rfl)
theorem dX11_lacking_92 : decode cX11_lacking 92 = .ok (.istore 6, 2) := dk_54 6 (dk_at dksX11_lacking_3 22 rfl rfl)
theorem dX11_lacking_94 : decode cX11_lacking 94 = .ok (.iconst 0, 1) := dk_3 (dk_at dksX11_lacking_4 0 rfl rfl)
theorem dX11_lacking_95 : decode cX11_lacking 95 = .ok (.istore 7, 2) := dk_54 7 (dk_at dksX11_lacking_4 1 rfl rfl)
theorem dX11_lacking_97 : decode cX11_lacking 97 = .ok (.iload 7, 2) := dk_21 7 (dk_at dksX11_lacking_4 3 rfl rfl)
theorem dX11_lacking_99 : decode cX11_lacking 99 = .ok (.aload_n 0, 1) := dk_42 (dk_at dksX11_lacking_4 5 rfl rfl)
theorem dX11_lacking_100 : decode cX11_lacking 100 = .ok (.getfield 23, 3) := dk_180 0 23 (dk_at dksX11_lacking_4 6 rfl rfl)
theorem dX11_lacking_103 : decode cX11_lacking 103 = .ok (.iconst 1, 1) := dk_4 (dk_at dksX11_lacking_4 9 rfl rfl)
theorem dX11_lacking_104 : decode cX11_lacking 104 = .ok (.iaload, 1) := dk_46 (dk_at dksX11_lacking_4 10 rfl rfl)
theorem dX11_lacking_105 : decode cX11_lacking 105 = .ok (.if_icmp .ge 48, 3) := dk_162 0 48 (dk_at dksX11_lacking_4 11 rfl rfl)
theorem dX11_lacking_108 : decode cX11_lacking 108 = .ok (.iload 4, 2) := dk_21 4 (dk_at dksX11_lacking_4 14 rfl rfl)
theorem dX11_lacking_110 : decode cX11_lacking 110 = .ok (.iload 7, 2) := dk_21 7 (dk_at dksX11_lacking_4 16 rfl rfl)
theorem dX11_lacking_112 : decode cX11_lacking 112 = .ok (.invokestatic 242, 3) := dk_184 0 242 (dk_at dksX11_lacking_4 18 rfl rfl)
theorem dX11_lacking_115 : decode cX11_lacking 115 = .ok (.ifCond .ne 6, 3) := dk_154 0 6 (dk_at dksX11_lacking_4 21 rfl rfl)
theorem dX11_lacking_118 : decode cX11_lacking 118 = .ok (.goto 29, 3) := dk_167 0 29 (dk_at dksX11_lacking_5 0 rfl rfl)
theorem dX11_lacking_121 : decode cX11_lacking 121 = .ok (.iload 5, 2) := dk_21 5 (dk_at dksX11_lacking_5 3 rfl rfl)
theorem dX11_lacking_123 : decode cX11_lacking 123 = .ok (.aload_n 0, 1) := dk_42 (dk_at dksX11_lacking_5 5 rfl rfl)
theorem dX11_lacking_124 : decode cX11_lacking 124 = .ok (.getfield 55, 3) := dk_180 0 55 (dk_at dksX11_lacking_5 6 rfl rfl)
theorem dX11_lacking_127 : decode cX11_lacking 127 = .ok (.iload 7, 2) := dk_21 7 (dk_at dksX11_lacking_5 9 rfl rfl)
theorem dX11_lacking_129 : decode cX11_lacking 129 = .ok (.aaload, 1) := dk_50 (dk_at dksX11_lacking_5 11 rfl rfl)
theorem dX11_lacking_130 : decode cX11_lacking 130 = .ok (.iconst 1, 1) := dk_4 (dk_at dksX11_lacking_5 12 rfl rfl)
theorem dX11_lacking_131 : decode cX11_lacking 131 = .ok (.iaload, 1) := dk_46 (dk_at dksX11_lacking_5 13 rfl rfl)
theorem dX11_lacking_132 : decode cX11_lacking 132 = .ok (.iadd, 1) := dk_96 (dk_at dksX11_lacking_5 14 rfl rfl)
theorem dX11_lacking_133 : decode cX11_lacking 133 = .ok (.istore 5, 2) := dk_54 5 (dk_at dksX11_lacking_5 15 rfl rfl)
theorem dX11_lacking_135 : decode cX11_lacking 135 = .ok (.iload 6, 2) := dk_21 6 (dk_at dksX11_lacking_5 17 rfl rfl)
theorem dX11_lacking_137 : decode cX11_lacking 137 = .ok (.aload_n 0, 1) := dk_42 (dk_at dksX11_lacking_5 19 rfl rfl)
theorem dX11_lacking_138 : decode cX11_lacking 138 = .ok (.getfield 35, 3) := dk_180 0 35 (dk_at dksX11_lacking_5 20 rfl rfl)
theorem dX11_lacking_141 : decode cX11_lacking 141 = .ok (.iload 7, 2) := dk_21 7 (dk_at dksX11_lacking_6 0 rfl rfl)
theorem dX11_lacking_143 : decode cX11_lacking 143 = .ok (.iaload, 1) := dk_46 (dk_at dksX11_lacking_6 2 rfl rfl)
theorem dX11_lacking_144 : decode cX11_lacking 144 = .ok (.iand, 1) := dk_126 (dk_at dksX11_lacking_6 3 rfl rfl)
theorem dX11_lacking_145 : decode cX11_lacking 145 = .ok (.istore 6, 2) := dk_54 6 (dk_at dksX11_lacking_6 4 rfl rfl)
theorem dX11_lacking_147 : decode cX11_lacking 147 = .ok (.iinc 7 1, 3) := dk_132 7 1 (dk_at dksX11_lacking_6 6 rfl rfl)
theorem dX11_lacking_150 : decode cX11_lacking 150 = .ok (.goto (-53), 3) := dk_167 255 203 (dk_at dksX11_lacking_6 9 rfl rfl)
theorem dX11_lacking_153 : decode cX11_lacking 153 = .ok (.iload 5, 2) := dk_21 5 (dk_at dksX11_lacking_6 12 rfl rfl)
theorem dX11_lacking_155 : decode cX11_lacking 155 = .ok (.iload_n 3, 1) := dk_29 (dk_at dksX11_lacking_6 14 rfl rfl)
theorem dX11_lacking_156 : decode cX11_lacking 156 = .ok (.iload 6, 2) := dk_21 6 (dk_at dksX11_lacking_6 15 rfl rfl)
theorem dX11_lacking_158 : decode cX11_lacking 158 = .ok (.iconst (-1), 1) := dk_2 (dk_at dksX11_lacking_6 17 rfl rfl)
theorem dX11_lacking_159 : decode cX11_lacking 159 = .ok (.ixor, 1) := dk_130 (dk_at dksX11_lacking_6 18 rfl rfl)
theorem dX11_lacking_160 : decode cX11_lacking 160 = .ok (.iand, 1) := dk_126 (dk_at dksX11_lacking_6 19 rfl rfl)
theorem dX11_lacking_161 : decode cX11_lacking 161 = .ok (.invokestatic 246, 3) := dk_184 0 246 (dk_at dksX11_lacking_6 20 rfl rfl)
theorem dX11_lacking_164 : decode cX11_lacking 164 = .ok (.if_icmp .le 8, 3) := dk_164 0 8 (dk_at dksX11_lacking_7 0 rfl rfl)
theorem dX11_lacking_167 : decode cX11_lacking 167 = .ok (.iload 4, 2) := dk_21 4 (dk_at dksX11_lacking_7 3 rfl rfl)
theorem dX11_lacking_169 : decode cX11_lacking 169 = .ok (.goto 4, 3) := dk_167 0 4 (dk_at dksX11_lacking_7 5 rfl rfl)
theorem dX11_lacking_172 : decode cX11_lacking 172 = .ok (.iload_n 2, 1) := dk_28 (dk_at dksX11_lacking_7 8 rfl rfl)
theorem dX11_lacking_173 : decode cX11_lacking 173 = .ok (.istore_n 2, 1) := dk_61 (dk_at dksX11_lacking_7 9 rfl rfl)
theorem dX11_lacking_174 : decode cX11_lacking 174 = .ok (.iinc 4 1, 3) := dk_132 4 1 (dk_at dksX11_lacking_7 10 rfl rfl)
theorem dX11_lacking_177 : decode cX11_lacking 177 = .ok (.goto (-134), 3) := dk_167 255 122 (dk_at dksX11_lacking_7 13 rfl rfl)
theorem dX11_lacking_180 : decode cX11_lacking 180 = .ok (.iload_n 2, 1) := dk_28 (dk_at dksX11_lacking_7 16 rfl rfl)
theorem dX11_lacking_181 : decode cX11_lacking 181 = .ok (.ireturn, 1) := dk_172 (dk_at dksX11_lacking_7 17 rfl rfl)
abbrev cX11_played : ByteArray := prog_22_method_100_code
def yX11_played : MethodName := ⟨RX11, "played", "()I"⟩
def dkwX11_played_2 : List UInt8 := [167, 255, 221, 27, 172]
abbrev dktX11_played_2 : List UInt8 := dkwX11_played_2 ++ []
def dkwX11_played_1 : List UInt8 := [180, 0, 91, 28, 182, 1, 132, 153, 0, 9, 4, 28, 120, 167, 0, 4, 3, 128, 60, 132, 2, 1]
abbrev dktX11_played_1 : List UInt8 := dkwX11_played_1 ++ dktX11_played_2
def dkwX11_played_0 : List UInt8 := [42, 3, 181, 0, 134, 3, 60, 3, 61, 28, 42, 180, 0, 23, 5, 46, 162, 0, 31, 27, 42, 42]
abbrev dktX11_played_0 : List UInt8 := dkwX11_played_0 ++ dktX11_played_1
theorem dksX11_played_0 : cX11_played.data.toList.drop 0 = dktX11_played_0 := by decide +kernel
theorem dksX11_played_1 : cX11_played.data.toList.drop 22 = dktX11_played_1 := dk_seg dksX11_played_0 22 rfl rfl
theorem dksX11_played_2 : cX11_played.data.toList.drop 44 = dktX11_played_2 := dk_seg dksX11_played_1 22 rfl rfl
theorem dX11_played_0 : decode cX11_played 0 = .ok (.aload_n 0, 1) := dk_42 (dk_at dksX11_played_0 0 rfl rfl)
theorem dX11_played_1 : decode cX11_played 1 = .ok (.iconst 0, 1) := dk_3 (dk_at dksX11_played_0 1 rfl rfl)
theorem dX11_played_2 : decode cX11_played 2 = .ok (.putfield 134, 3) := dk_181 0 134 (dk_at dksX11_played_0 2 rfl rfl)
theorem dX11_played_5 : decode cX11_played 5 = .ok (.iconst 0, 1) := dk_3 (dk_at dksX11_played_0 5 rfl rfl)
theorem dX11_played_6 : decode cX11_played 6 = .ok (.istore_n 1, 1) := dk_60 (dk_at dksX11_played_0 6 rfl rfl)
theorem dX11_played_7 : decode cX11_played 7 = .ok (.iconst 0, 1) := dk_3 (dk_at dksX11_played_0 7 rfl rfl)
theorem dX11_played_8 : decode cX11_played 8 = .ok (.istore_n 2, 1) := dk_61 (dk_at dksX11_played_0 8 rfl rfl)
theorem dX11_played_9 : decode cX11_played 9 = .ok (.iload_n 2, 1) := dk_28 (dk_at dksX11_played_0 9 rfl rfl)
theorem dX11_played_10 : decode cX11_played 10 = .ok (.aload_n 0, 1) := dk_42 (dk_at dksX11_played_0 10 rfl rfl)
theorem dX11_played_11 : decode cX11_played 11 = .ok (.getfield 23, 3) := dk_180 0 23 (dk_at dksX11_played_0 11 rfl rfl)
theorem dX11_played_14 : decode cX11_played 14 = .ok (.iconst 2, 1) := dk_5 (dk_at dksX11_played_0 14 rfl rfl)
theorem dX11_played_15 : decode cX11_played 15 = .ok (.iaload, 1) := dk_46 (dk_at dksX11_played_0 15 rfl rfl)
theorem dX11_played_16 : decode cX11_played 16 = .ok (.if_icmp .ge 31, 3) := dk_162 0 31 (dk_at dksX11_played_0 16 rfl rfl)
theorem dX11_played_19 : decode cX11_played 19 = .ok (.iload_n 1, 1) := dk_27 (dk_at dksX11_played_0 19 rfl rfl)
theorem dX11_played_20 : decode cX11_played 20 = .ok (.aload_n 0, 1) := dk_42 (dk_at dksX11_played_0 20 rfl rfl)
theorem dX11_played_21 : decode cX11_played 21 = .ok (.aload_n 0, 1) := dk_42 (dk_at dksX11_played_0 21 rfl rfl)
theorem dX11_played_22 : decode cX11_played 22 = .ok (.getfield 91, 3) := dk_180 0 91 (dk_at dksX11_played_1 0 rfl rfl)
theorem dX11_played_25 : decode cX11_played 25 = .ok (.iload_n 2, 1) := dk_28 (dk_at dksX11_played_1 3 rfl rfl)
theorem dX11_played_26 : decode cX11_played 26 = .ok (.invokevirtual 388, 3) := dk_182 1 132 (dk_at dksX11_played_1 4 rfl rfl)
theorem dX11_played_29 : decode cX11_played 29 = .ok (.ifCond .eq 9, 3) := dk_153 0 9 (dk_at dksX11_played_1 7 rfl rfl)
theorem dX11_played_32 : decode cX11_played 32 = .ok (.iconst 1, 1) := dk_4 (dk_at dksX11_played_1 10 rfl rfl)
theorem dX11_played_33 : decode cX11_played 33 = .ok (.iload_n 2, 1) := dk_28 (dk_at dksX11_played_1 11 rfl rfl)
theorem dX11_played_34 : decode cX11_played 34 = .ok (.ishl, 1) := dk_120 (dk_at dksX11_played_1 12 rfl rfl)
theorem dX11_played_35 : decode cX11_played 35 = .ok (.goto 4, 3) := dk_167 0 4 (dk_at dksX11_played_1 13 rfl rfl)
theorem dX11_played_38 : decode cX11_played 38 = .ok (.iconst 0, 1) := dk_3 (dk_at dksX11_played_1 16 rfl rfl)
theorem dX11_played_39 : decode cX11_played 39 = .ok (.ior, 1) := dk_128 (dk_at dksX11_played_1 17 rfl rfl)
theorem dX11_played_40 : decode cX11_played 40 = .ok (.istore_n 1, 1) := dk_60 (dk_at dksX11_played_1 18 rfl rfl)
theorem dX11_played_41 : decode cX11_played 41 = .ok (.iinc 2 1, 3) := dk_132 2 1 (dk_at dksX11_played_1 19 rfl rfl)
theorem dX11_played_44 : decode cX11_played 44 = .ok (.goto (-35), 3) := dk_167 255 221 (dk_at dksX11_played_2 0 rfl rfl)
theorem dX11_played_47 : decode cX11_played 47 = .ok (.iload_n 1, 1) := dk_27 (dk_at dksX11_played_2 3 rfl rfl)
theorem dX11_played_48 : decode cX11_played 48 = .ok (.ireturn, 1) := dk_172 (dk_at dksX11_played_2 4 rfl rfl)
abbrev cX11_cost : ByteArray := prog_22_method_102_code
def yX11_cost : MethodName := ⟨RX11, "cost", "(I)I"⟩
def dkwX11_cost_1 : List UInt8 := [153, 0, 5, 3, 172, 42, 27, 182, 1, 162, 172]
abbrev dktX11_cost_1 : List UInt8 := dkwX11_cost_1 ++ []
def dkwX11_cost_0 : List UInt8 := [42, 3, 181, 0, 134, 42, 42, 27, 182, 1, 75, 154, 0, 7, 4, 167, 0, 4, 3, 4, 3, 182, 0, 249]
abbrev dktX11_cost_0 : List UInt8 := dkwX11_cost_0 ++ dktX11_cost_1
theorem dksX11_cost_0 : cX11_cost.data.toList.drop 0 = dktX11_cost_0 := by decide +kernel
theorem dksX11_cost_1 : cX11_cost.data.toList.drop 24 = dktX11_cost_1 := dk_seg dksX11_cost_0 24 rfl rfl
theorem dX11_cost_0 : decode cX11_cost 0 = .ok (.aload_n 0, 1) := dk_42 (dk_at dksX11_cost_0 0 rfl rfl)
theorem dX11_cost_1 : decode cX11_cost 1 = .ok (.iconst 0, 1) := dk_3 (dk_at dksX11_cost_0 1 rfl rfl)
theorem dX11_cost_2 : decode cX11_cost 2 = .ok (.putfield 134, 3) := dk_181 0 134 (dk_at dksX11_cost_0 2 rfl rfl)
theorem dX11_cost_5 : decode cX11_cost 5 = .ok (.aload_n 0, 1) := dk_42 (dk_at dksX11_cost_0 5 rfl rfl)
theorem dX11_cost_6 : decode cX11_cost 6 = .ok (.aload_n 0, 1) := dk_42 (dk_at dksX11_cost_0 6 rfl rfl)
theorem dX11_cost_7 : decode cX11_cost 7 = .ok (.iload_n 1, 1) := dk_27 (dk_at dksX11_cost_0 7 rfl rfl)
theorem dX11_cost_8 : decode cX11_cost 8 = .ok (.invokevirtual 331, 3) := dk_182 1 75 (dk_at dksX11_cost_0 8 rfl rfl)
theorem dX11_cost_11 : decode cX11_cost 11 = .ok (.ifCond .ne 7, 3) := dk_154 0 7 (dk_at dksX11_cost_0 11 rfl rfl)
theorem dX11_cost_14 : decode cX11_cost 14 = .ok (.iconst 1, 1) := dk_4 (dk_at dksX11_cost_0 14 rfl rfl)
theorem dX11_cost_15 : decode cX11_cost 15 = .ok (.goto 4, 3) := dk_167 0 4 (dk_at dksX11_cost_0 15 rfl rfl)
theorem dX11_cost_18 : decode cX11_cost 18 = .ok (.iconst 0, 1) := dk_3 (dk_at dksX11_cost_0 18 rfl rfl)
theorem dX11_cost_19 : decode cX11_cost 19 = .ok (.iconst 1, 1) := dk_4 (dk_at dksX11_cost_0 19 rfl rfl)
theorem dX11_cost_20 : decode cX11_cost 20 = .ok (.iconst 0, 1) := dk_3 (dk_at dksX11_cost_0 20 rfl rfl)
theorem dX11_cost_21 : decode cX11_cost 21 = .ok (.invokevirtual 249, 3) := dk_182 0 249 (dk_at dksX11_cost_0 21 rfl rfl)
theorem dX11_cost_24 : decode cX11_cost 24 = .ok (.ifCond .eq 5, 3) := dk_153 0 5 (dk_at dksX11_cost_1 0 rfl rfl)
theorem dX11_cost_27 : decode cX11_cost 27 = .ok (.iconst 0, 1) := dk_3 (dk_at dksX11_cost_1 3 rfl rfl)
theorem dX11_cost_28 : decode cX11_cost 28 = .ok (.ireturn, 1) := dk_172 (dk_at dksX11_cost_1 4 rfl rfl)
theorem dX11_cost_29 : decode cX11_cost 29 = .ok (.aload_n 0, 1) := dk_42 (dk_at dksX11_cost_1 5 rfl rfl)
theorem dX11_cost_30 : decode cX11_cost 30 = .ok (.iload_n 1, 1) := dk_27 (dk_at dksX11_cost_1 6 rfl rfl)
theorem dX11_cost_31 : decode cX11_cost 31 = .ok (.invokevirtual 418, 3) := dk_182 1 162 (dk_at dksX11_cost_1 7 rfl rfl)
theorem dX11_cost_34 : decode cX11_cost 34 = .ok (.ireturn, 1) := dk_172 (dk_at dksX11_cost_1 10 rfl rfl)
abbrev cX11_costOf : ByteArray := prog_22_method_101_code
def yX11_costOf : MethodName := ⟨RX11, "costOf", "(I)I"⟩
def dkwX11_costOf_3 : List UInt8 := [132, 3, 1, 167, 255, 188, 28, 172]
abbrev dktX11_costOf_3 : List UInt8 := dkwX11_costOf_3 ++ []
def dkwX11_costOf_2 : List UInt8 := [182, 1, 68, 4, 27, 120, 2, 130, 126, 4, 182, 1, 155, 154, 0, 7, 4, 167, 0, 4, 3, 96, 61]
abbrev dktX11_costOf_2 : List UInt8 := dkwX11_costOf_2 ++ dktX11_costOf_3
def dkwX11_costOf_1 : List UInt8 := [154, 0, 6, 167, 0, 43, 42, 29, 3, 182, 1, 152, 28, 42, 42, 180, 0, 91, 42, 42, 180, 0, 91]
abbrev dktX11_costOf_1 : List UInt8 := dkwX11_costOf_1 ++ dktX11_costOf_2
def dkwX11_costOf_0 : List UInt8 := [3, 61, 3, 62, 29, 42, 180, 0, 23, 5, 46, 162, 0, 64, 42, 42, 180, 0, 91, 29, 182, 1, 132]
abbrev dktX11_costOf_0 : List UInt8 := dkwX11_costOf_0 ++ dktX11_costOf_1
theorem dksX11_costOf_0 : cX11_costOf.data.toList.drop 0 = dktX11_costOf_0 := by decide +kernel
theorem dksX11_costOf_1 : cX11_costOf.data.toList.drop 23 = dktX11_costOf_1 := dk_seg dksX11_costOf_0 23 rfl rfl
theorem dksX11_costOf_2 : cX11_costOf.data.toList.drop 46 = dktX11_costOf_2 := dk_seg dksX11_costOf_1 23 rfl rfl
theorem dksX11_costOf_3 : cX11_costOf.data.toList.drop 69 = dktX11_costOf_3 := dk_seg dksX11_costOf_2 23 rfl rfl
theorem dX11_costOf_0 : decode cX11_costOf 0 = .ok (.iconst 0, 1) := dk_3 (dk_at dksX11_costOf_0 0 rfl rfl)
theorem dX11_costOf_1 : decode cX11_costOf 1 = .ok (.istore_n 2, 1) := dk_61 (dk_at dksX11_costOf_0 1 rfl rfl)
theorem dX11_costOf_2 : decode cX11_costOf 2 = .ok (.iconst 0, 1) := dk_3 (dk_at dksX11_costOf_0 2 rfl rfl)
theorem dX11_costOf_3 : decode cX11_costOf 3 = .ok (.istore_n 3, 1) := dk_62 (dk_at dksX11_costOf_0 3 rfl rfl)
theorem dX11_costOf_4 : decode cX11_costOf 4 = .ok (.iload_n 3, 1) := dk_29 (dk_at dksX11_costOf_0 4 rfl rfl)
theorem dX11_costOf_5 : decode cX11_costOf 5 = .ok (.aload_n 0, 1) := dk_42 (dk_at dksX11_costOf_0 5 rfl rfl)
theorem dX11_costOf_6 : decode cX11_costOf 6 = .ok (.getfield 23, 3) := dk_180 0 23 (dk_at dksX11_costOf_0 6 rfl rfl)
theorem dX11_costOf_9 : decode cX11_costOf 9 = .ok (.iconst 2, 1) := dk_5 (dk_at dksX11_costOf_0 9 rfl rfl)
theorem dX11_costOf_10 : decode cX11_costOf 10 = .ok (.iaload, 1) := dk_46 (dk_at dksX11_costOf_0 10 rfl rfl)
theorem dX11_costOf_11 : decode cX11_costOf 11 = .ok (.if_icmp .ge 64, 3) := dk_162 0 64 (dk_at dksX11_costOf_0 11 rfl rfl)
theorem dX11_costOf_14 : decode cX11_costOf 14 = .ok (.aload_n 0, 1) := dk_42 (dk_at dksX11_costOf_0 14 rfl rfl)
theorem dX11_costOf_15 : decode cX11_costOf 15 = .ok (.aload_n 0, 1) := dk_42 (dk_at dksX11_costOf_0 15 rfl rfl)
theorem dX11_costOf_16 : decode cX11_costOf 16 = .ok (.getfield 91, 3) := dk_180 0 91 (dk_at dksX11_costOf_0 16 rfl rfl)
theorem dX11_costOf_19 : decode cX11_costOf 19 = .ok (.iload_n 3, 1) := dk_29 (dk_at dksX11_costOf_0 19 rfl rfl)
theorem dX11_costOf_20 : decode cX11_costOf 20 = .ok (.invokevirtual 388, 3) := dk_182 1 132 (dk_at dksX11_costOf_0 20 rfl rfl)
theorem dX11_costOf_23 : decode cX11_costOf 23 = .ok (.ifCond .ne 6, 3) := dk_154 0 6 (dk_at dksX11_costOf_1 0 rfl rfl)
theorem dX11_costOf_26 : decode cX11_costOf 26 = .ok (.goto 43, 3) := dk_167 0 43 (dk_at dksX11_costOf_1 3 rfl rfl)
theorem dX11_costOf_29 : decode cX11_costOf 29 = .ok (.aload_n 0, 1) := dk_42 (dk_at dksX11_costOf_1 6 rfl rfl)
theorem dX11_costOf_30 : decode cX11_costOf 30 = .ok (.iload_n 3, 1) := dk_29 (dk_at dksX11_costOf_1 7 rfl rfl)
theorem dX11_costOf_31 : decode cX11_costOf 31 = .ok (.iconst 0, 1) := dk_3 (dk_at dksX11_costOf_1 8 rfl rfl)
theorem dX11_costOf_32 : decode cX11_costOf 32 = .ok (.invokevirtual 408, 3) := dk_182 1 152 (dk_at dksX11_costOf_1 9 rfl rfl)
theorem dX11_costOf_35 : decode cX11_costOf 35 = .ok (.iload_n 2, 1) := dk_28 (dk_at dksX11_costOf_1 12 rfl rfl)
theorem dX11_costOf_36 : decode cX11_costOf 36 = .ok (.aload_n 0, 1) := dk_42 (dk_at dksX11_costOf_1 13 rfl rfl)
theorem dX11_costOf_37 : decode cX11_costOf 37 = .ok (.aload_n 0, 1) := dk_42 (dk_at dksX11_costOf_1 14 rfl rfl)
theorem dX11_costOf_38 : decode cX11_costOf 38 = .ok (.getfield 91, 3) := dk_180 0 91 (dk_at dksX11_costOf_1 15 rfl rfl)
theorem dX11_costOf_41 : decode cX11_costOf 41 = .ok (.aload_n 0, 1) := dk_42 (dk_at dksX11_costOf_1 18 rfl rfl)
theorem dX11_costOf_42 : decode cX11_costOf 42 = .ok (.aload_n 0, 1) := dk_42 (dk_at dksX11_costOf_1 19 rfl rfl)
theorem dX11_costOf_43 : decode cX11_costOf 43 = .ok (.getfield 91, 3) := dk_180 0 91 (dk_at dksX11_costOf_1 20 rfl rfl)
theorem dX11_costOf_46 : decode cX11_costOf 46 = .ok (.invokevirtual 324, 3) := dk_182 1 68 (dk_at dksX11_costOf_2 0 rfl rfl)
theorem dX11_costOf_49 : decode cX11_costOf 49 = .ok (.iconst 1, 1) := dk_4 (dk_at dksX11_costOf_2 3 rfl rfl)
theorem dX11_costOf_50 : decode cX11_costOf 50 = .ok (.iload_n 1, 1) := dk_27 (dk_at dksX11_costOf_2 4 rfl rfl)
theorem dX11_costOf_51 : decode cX11_costOf 51 = .ok (.ishl, 1) := dk_120 (dk_at dksX11_costOf_2 5 rfl rfl)
theorem dX11_costOf_52 : decode cX11_costOf 52 = .ok (.iconst (-1), 1) := dk_2 (dk_at dksX11_costOf_2 6 rfl rfl)
theorem dX11_costOf_53 : decode cX11_costOf 53 = .ok (.ixor, 1) := dk_130 (dk_at dksX11_costOf_2 7 rfl rfl)
theorem dX11_costOf_54 : decode cX11_costOf 54 = .ok (.iand, 1) := dk_126 (dk_at dksX11_costOf_2 8 rfl rfl)
theorem dX11_costOf_55 : decode cX11_costOf 55 = .ok (.iconst 1, 1) := dk_4 (dk_at dksX11_costOf_2 9 rfl rfl)
theorem dX11_costOf_56 : decode cX11_costOf 56 = .ok (.invokevirtual 411, 3) := dk_182 1 155 (dk_at dksX11_costOf_2 10 rfl rfl)
theorem dX11_costOf_59 : decode cX11_costOf 59 = .ok (.ifCond .ne 7, 3) := dk_154 0 7 (dk_at dksX11_costOf_2 13 rfl rfl)
theorem dX11_costOf_62 : decode cX11_costOf 62 = .ok (.iconst 1, 1) := dk_4 (dk_at dksX11_costOf_2 16 rfl rfl)
theorem dX11_costOf_63 : decode cX11_costOf 63 = .ok (.goto 4, 3) := dk_167 0 4 (dk_at dksX11_costOf_2 17 rfl rfl)
theorem dX11_costOf_66 : decode cX11_costOf 66 = .ok (.iconst 0, 1) := dk_3 (dk_at dksX11_costOf_2 20 rfl rfl)
theorem dX11_costOf_67 : decode cX11_costOf 67 = .ok (.iadd, 1) := dk_96 (dk_at dksX11_costOf_2 21 rfl rfl)
theorem dX11_costOf_68 : decode cX11_costOf 68 = .ok (.istore_n 2, 1) := dk_61 (dk_at dksX11_costOf_2 22 rfl rfl)
theorem dX11_costOf_69 : decode cX11_costOf 69 = .ok (.iinc 3 1, 3) := dk_132 3 1 (dk_at dksX11_costOf_3 0 rfl rfl)
theorem dX11_costOf_72 : decode cX11_costOf 72 = .ok (.goto (-68), 3) := dk_167 255 188 (dk_at dksX11_costOf_3 3 rfl rfl)
theorem dX11_costOf_75 : decode cX11_costOf 75 = .ok (.iload_n 2, 1) := dk_28 (dk_at dksX11_costOf_3 6 rfl rfl)
theorem dX11_costOf_76 : decode cX11_costOf 76 = .ok (.ireturn, 1) := dk_172 (dk_at dksX11_costOf_3 7 rfl rfl)
abbrev cX11_dearest : ByteArray := prog_22_method_103_code
def yX11_dearest : MethodName := ⟨RX11, "dearest", "()I"⟩
def dkwX11_dearest_2 : List UInt8 := [167, 0, 11, 29, 60, 42, 29, 182, 1, 162, 61, 132, 3, 1, 167, 255, 206, 27, 172]
abbrev dktX11_dearest_2 : List UInt8 := dkwX11_dearest_2 ++ []
def dkwX11_dearest_1 : List UInt8 := [180, 0, 91, 29, 182, 1, 64, 153, 0, 28, 27, 2, 159, 0, 15, 42, 29, 182, 1, 162, 28, 163, 0, 6]
abbrev dktX11_dearest_1 : List UInt8 := dkwX11_dearest_1 ++ dktX11_dearest_2
def dkwX11_dearest_0 : List UInt8 := [42, 3, 181, 0, 134, 2, 60, 3, 61, 3, 62, 29, 42, 180, 0, 23, 3, 46, 162, 0, 46, 42, 42]
abbrev dktX11_dearest_0 : List UInt8 := dkwX11_dearest_0 ++ dktX11_dearest_1
theorem dksX11_dearest_0 : cX11_dearest.data.toList.drop 0 = dktX11_dearest_0 := by decide +kernel
theorem dksX11_dearest_1 : cX11_dearest.data.toList.drop 23 = dktX11_dearest_1 := dk_seg dksX11_dearest_0 23 rfl rfl
theorem dksX11_dearest_2 : cX11_dearest.data.toList.drop 47 = dktX11_dearest_2 := dk_seg dksX11_dearest_1 24 rfl rfl
theorem dX11_dearest_0 : decode cX11_dearest 0 = .ok (.aload_n 0, 1) := dk_42 (dk_at dksX11_dearest_0 0 rfl rfl)
theorem dX11_dearest_1 : decode cX11_dearest 1 = .ok (.iconst 0, 1) := dk_3 (dk_at dksX11_dearest_0 1 rfl rfl)
theorem dX11_dearest_2 : decode cX11_dearest 2 = .ok (.putfield 134, 3) := dk_181 0 134 (dk_at dksX11_dearest_0 2 rfl rfl)
theorem dX11_dearest_5 : decode cX11_dearest 5 = .ok (.iconst (-1), 1) := dk_2 (dk_at dksX11_dearest_0 5 rfl rfl)
theorem dX11_dearest_6 : decode cX11_dearest 6 = .ok (.istore_n 1, 1) := dk_60 (dk_at dksX11_dearest_0 6 rfl rfl)
theorem dX11_dearest_7 : decode cX11_dearest 7 = .ok (.iconst 0, 1) := dk_3 (dk_at dksX11_dearest_0 7 rfl rfl)
theorem dX11_dearest_8 : decode cX11_dearest 8 = .ok (.istore_n 2, 1) := dk_61 (dk_at dksX11_dearest_0 8 rfl rfl)
theorem dX11_dearest_9 : decode cX11_dearest 9 = .ok (.iconst 0, 1) := dk_3 (dk_at dksX11_dearest_0 9 rfl rfl)
theorem dX11_dearest_10 : decode cX11_dearest 10 = .ok (.istore_n 3, 1) := dk_62 (dk_at dksX11_dearest_0 10 rfl rfl)
theorem dX11_dearest_11 : decode cX11_dearest 11 = .ok (.iload_n 3, 1) := dk_29 (dk_at dksX11_dearest_0 11 rfl rfl)
theorem dX11_dearest_12 : decode cX11_dearest 12 = .ok (.aload_n 0, 1) := dk_42 (dk_at dksX11_dearest_0 12 rfl rfl)
theorem dX11_dearest_13 : decode cX11_dearest 13 = .ok (.getfield 23, 3) := dk_180 0 23 (dk_at dksX11_dearest_0 13 rfl rfl)
theorem dX11_dearest_16 : decode cX11_dearest 16 = .ok (.iconst 0, 1) := dk_3 (dk_at dksX11_dearest_0 16 rfl rfl)
theorem dX11_dearest_17 : decode cX11_dearest 17 = .ok (.iaload, 1) := dk_46 (dk_at dksX11_dearest_0 17 rfl rfl)
theorem dX11_dearest_18 : decode cX11_dearest 18 = .ok (.if_icmp .ge 46, 3) := dk_162 0 46 (dk_at dksX11_dearest_0 18 rfl rfl)
theorem dX11_dearest_21 : decode cX11_dearest 21 = .ok (.aload_n 0, 1) := dk_42 (dk_at dksX11_dearest_0 21 rfl rfl)
theorem dX11_dearest_22 : decode cX11_dearest 22 = .ok (.aload_n 0, 1) := dk_42 (dk_at dksX11_dearest_0 22 rfl rfl)
theorem dX11_dearest_23 : decode cX11_dearest 23 = .ok (.getfield 91, 3) := dk_180 0 91 (dk_at dksX11_dearest_1 0 rfl rfl)
theorem dX11_dearest_26 : decode cX11_dearest 26 = .ok (.iload_n 3, 1) := dk_29 (dk_at dksX11_dearest_1 3 rfl rfl)
theorem dX11_dearest_27 : decode cX11_dearest 27 = .ok (.invokevirtual 320, 3) := dk_182 1 64 (dk_at dksX11_dearest_1 4 rfl rfl)
theorem dX11_dearest_30 : decode cX11_dearest 30 = .ok (.ifCond .eq 28, 3) := dk_153 0 28 (dk_at dksX11_dearest_1 7 rfl rfl)
theorem dX11_dearest_33 : decode cX11_dearest 33 = .ok (.iload_n 1, 1) := dk_27 (dk_at dksX11_dearest_1 10 rfl rfl)
theorem dX11_dearest_34 : decode cX11_dearest 34 = .ok (.iconst (-1), 1) := dk_2 (dk_at dksX11_dearest_1 11 rfl rfl)
theorem dX11_dearest_35 : decode cX11_dearest 35 = .ok (.if_icmp .eq 15, 3) := dk_159 0 15 (dk_at dksX11_dearest_1 12 rfl rfl)
theorem dX11_dearest_38 : decode cX11_dearest 38 = .ok (.aload_n 0, 1) := dk_42 (dk_at dksX11_dearest_1 15 rfl rfl)
theorem dX11_dearest_39 : decode cX11_dearest 39 = .ok (.iload_n 3, 1) := dk_29 (dk_at dksX11_dearest_1 16 rfl rfl)
theorem dX11_dearest_40 : decode cX11_dearest 40 = .ok (.invokevirtual 418, 3) := dk_182 1 162 (dk_at dksX11_dearest_1 17 rfl rfl)
theorem dX11_dearest_43 : decode cX11_dearest 43 = .ok (.iload_n 2, 1) := dk_28 (dk_at dksX11_dearest_1 20 rfl rfl)
theorem dX11_dearest_44 : decode cX11_dearest 44 = .ok (.if_icmp .gt 6, 3) := dk_163 0 6 (dk_at dksX11_dearest_1 21 rfl rfl)
theorem dX11_dearest_47 : decode cX11_dearest 47 = .ok (.goto 11, 3) := dk_167 0 11 (dk_at dksX11_dearest_2 0 rfl rfl)
theorem dX11_dearest_50 : decode cX11_dearest 50 = .ok (.iload_n 3, 1) := dk_29 (dk_at dksX11_dearest_2 3 rfl rfl)
theorem dX11_dearest_51 : decode cX11_dearest 51 = .ok (.istore_n 1, 1) := dk_60 (dk_at dksX11_dearest_2 4 rfl rfl)
theorem dX11_dearest_52 : decode cX11_dearest 52 = .ok (.aload_n 0, 1) := dk_42 (dk_at dksX11_dearest_2 5 rfl rfl)
theorem dX11_dearest_53 : decode cX11_dearest 53 = .ok (.iload_n 3, 1) := dk_29 (dk_at dksX11_dearest_2 6 rfl rfl)
theorem dX11_dearest_54 : decode cX11_dearest 54 = .ok (.invokevirtual 418, 3) := dk_182 1 162 (dk_at dksX11_dearest_2 7 rfl rfl)
theorem dX11_dearest_57 : decode cX11_dearest 57 = .ok (.istore_n 2, 1) := dk_61 (dk_at dksX11_dearest_2 10 rfl rfl)
theorem dX11_dearest_58 : decode cX11_dearest 58 = .ok (.iinc 3 1, 3) := dk_132 3 1 (dk_at dksX11_dearest_2 11 rfl rfl)
theorem dX11_dearest_61 : decode cX11_dearest 61 = .ok (.goto (-50), 3) := dk_167 255 206 (dk_at dksX11_dearest_2 14 rfl rfl)
theorem dX11_dearest_64 : decode cX11_dearest 64 = .ok (.iload_n 1, 1) := dk_27 (dk_at dksX11_dearest_2 17 rfl rfl)
theorem dX11_dearest_65 : decode cX11_dearest 65 = .ok (.ireturn, 1) := dk_172 (dk_at dksX11_dearest_2 18 rfl rfl)
abbrev cX11_lies : ByteArray := prog_22_method_105_code
def yX11_lies : MethodName := ⟨RX11, "lies", "(II)I"⟩
def dkwX11_lies_1 : List UInt8 := [167, 0, 4, 3, 4, 3, 182, 0, 249, 153, 0, 5, 3, 172, 42, 27, 28, 182, 1, 165, 172]
abbrev dktX11_lies_1 : List UInt8 := dkwX11_lies_1 ++ []
def dkwX11_lies_0 : List UInt8 := [42, 3, 181, 0, 134, 42, 42, 27, 182, 1, 82, 153, 0, 11, 42, 28, 182, 1, 75, 154, 0, 7, 4]
abbrev dktX11_lies_0 : List UInt8 := dkwX11_lies_0 ++ dktX11_lies_1
theorem dksX11_lies_0 : cX11_lies.data.toList.drop 0 = dktX11_lies_0 := by decide +kernel
theorem dksX11_lies_1 : cX11_lies.data.toList.drop 23 = dktX11_lies_1 := dk_seg dksX11_lies_0 23 rfl rfl
theorem dX11_lies_0 : decode cX11_lies 0 = .ok (.aload_n 0, 1) := dk_42 (dk_at dksX11_lies_0 0 rfl rfl)
theorem dX11_lies_1 : decode cX11_lies 1 = .ok (.iconst 0, 1) := dk_3 (dk_at dksX11_lies_0 1 rfl rfl)
theorem dX11_lies_2 : decode cX11_lies 2 = .ok (.putfield 134, 3) := dk_181 0 134 (dk_at dksX11_lies_0 2 rfl rfl)
theorem dX11_lies_5 : decode cX11_lies 5 = .ok (.aload_n 0, 1) := dk_42 (dk_at dksX11_lies_0 5 rfl rfl)
theorem dX11_lies_6 : decode cX11_lies 6 = .ok (.aload_n 0, 1) := dk_42 (dk_at dksX11_lies_0 6 rfl rfl)
theorem dX11_lies_7 : decode cX11_lies 7 = .ok (.iload_n 1, 1) := dk_27 (dk_at dksX11_lies_0 7 rfl rfl)
theorem dX11_lies_8 : decode cX11_lies 8 = .ok (.invokevirtual 338, 3) := dk_182 1 82 (dk_at dksX11_lies_0 8 rfl rfl)
theorem dX11_lies_11 : decode cX11_lies 11 = .ok (.ifCond .eq 11, 3) := dk_153 0 11 (dk_at dksX11_lies_0 11 rfl rfl)
theorem dX11_lies_14 : decode cX11_lies 14 = .ok (.aload_n 0, 1) := dk_42 (dk_at dksX11_lies_0 14 rfl rfl)
theorem dX11_lies_15 : decode cX11_lies 15 = .ok (.iload_n 2, 1) := dk_28 (dk_at dksX11_lies_0 15 rfl rfl)
theorem dX11_lies_16 : decode cX11_lies 16 = .ok (.invokevirtual 331, 3) := dk_182 1 75 (dk_at dksX11_lies_0 16 rfl rfl)
theorem dX11_lies_19 : decode cX11_lies 19 = .ok (.ifCond .ne 7, 3) := dk_154 0 7 (dk_at dksX11_lies_0 19 rfl rfl)
theorem dX11_lies_22 : decode cX11_lies 22 = .ok (.iconst 1, 1) := dk_4 (dk_at dksX11_lies_0 22 rfl rfl)
theorem dX11_lies_23 : decode cX11_lies 23 = .ok (.goto 4, 3) := dk_167 0 4 (dk_at dksX11_lies_1 0 rfl rfl)
theorem dX11_lies_26 : decode cX11_lies 26 = .ok (.iconst 0, 1) := dk_3 (dk_at dksX11_lies_1 3 rfl rfl)
theorem dX11_lies_27 : decode cX11_lies 27 = .ok (.iconst 1, 1) := dk_4 (dk_at dksX11_lies_1 4 rfl rfl)
theorem dX11_lies_28 : decode cX11_lies 28 = .ok (.iconst 0, 1) := dk_3 (dk_at dksX11_lies_1 5 rfl rfl)
theorem dX11_lies_29 : decode cX11_lies 29 = .ok (.invokevirtual 249, 3) := dk_182 0 249 (dk_at dksX11_lies_1 6 rfl rfl)
theorem dX11_lies_32 : decode cX11_lies 32 = .ok (.ifCond .eq 5, 3) := dk_153 0 5 (dk_at dksX11_lies_1 9 rfl rfl)
theorem dX11_lies_35 : decode cX11_lies 35 = .ok (.iconst 0, 1) := dk_3 (dk_at dksX11_lies_1 12 rfl rfl)
theorem dX11_lies_36 : decode cX11_lies 36 = .ok (.ireturn, 1) := dk_172 (dk_at dksX11_lies_1 13 rfl rfl)
theorem dX11_lies_37 : decode cX11_lies 37 = .ok (.aload_n 0, 1) := dk_42 (dk_at dksX11_lies_1 14 rfl rfl)
theorem dX11_lies_38 : decode cX11_lies 38 = .ok (.iload_n 1, 1) := dk_27 (dk_at dksX11_lies_1 15 rfl rfl)
theorem dX11_lies_39 : decode cX11_lies 39 = .ok (.iload_n 2, 1) := dk_28 (dk_at dksX11_lies_1 16 rfl rfl)
theorem dX11_lies_40 : decode cX11_lies 40 = .ok (.invokevirtual 421, 3) := dk_182 1 165 (dk_at dksX11_lies_1 17 rfl rfl)
theorem dX11_lies_43 : decode cX11_lies 43 = .ok (.ireturn, 1) := dk_172 (dk_at dksX11_lies_1 20 rfl rfl)
abbrev cX11_liesOf : ByteArray := prog_22_method_104_code
def yX11_liesOf : MethodName := ⟨RX11, "liesOf", "(II)I"⟩
def dkwX11_liesOf_1 : List UInt8 := [16, 9, 27, 96, 46, 96, 16, 16, 112, 172]
abbrev dktX11_liesOf_1 : List UInt8 := dkwX11_liesOf_1 ++ []
def dkwX11_liesOf_0 : List UInt8 := [42, 180, 0, 55, 27, 50, 3, 46, 6, 42, 180, 0, 49, 28, 50, 3, 46, 104, 96, 42, 180, 0, 91]
abbrev dktX11_liesOf_0 : List UInt8 := dkwX11_liesOf_0 ++ dktX11_liesOf_1
theorem dksX11_liesOf_0 : cX11_liesOf.data.toList.drop 0 = dktX11_liesOf_0 := by decide +kernel
theorem dksX11_liesOf_1 : cX11_liesOf.data.toList.drop 23 = dktX11_liesOf_1 := dk_seg dksX11_liesOf_0 23 rfl rfl
theorem dX11_liesOf_0 : decode cX11_liesOf 0 = .ok (.aload_n 0, 1) := dk_42 (dk_at dksX11_liesOf_0 0 rfl rfl)
theorem dX11_liesOf_1 : decode cX11_liesOf 1 = .ok (.getfield 55, 3) := dk_180 0 55 (dk_at dksX11_liesOf_0 1 rfl rfl)
theorem dX11_liesOf_4 : decode cX11_liesOf 4 = .ok (.iload_n 1, 1) := dk_27 (dk_at dksX11_liesOf_0 4 rfl rfl)
theorem dX11_liesOf_5 : decode cX11_liesOf 5 = .ok (.aaload, 1) := dk_50 (dk_at dksX11_liesOf_0 5 rfl rfl)
theorem dX11_liesOf_6 : decode cX11_liesOf 6 = .ok (.iconst 0, 1) := dk_3 (dk_at dksX11_liesOf_0 6 rfl rfl)
theorem dX11_liesOf_7 : decode cX11_liesOf 7 = .ok (.iaload, 1) := dk_46 (dk_at dksX11_liesOf_0 7 rfl rfl)
theorem dX11_liesOf_8 : decode cX11_liesOf 8 = .ok (.iconst 3, 1) := dk_6 (dk_at dksX11_liesOf_0 8 rfl rfl)
theorem dX11_liesOf_9 : decode cX11_liesOf 9 = .ok (.aload_n 0, 1) := dk_42 (dk_at dksX11_liesOf_0 9 rfl rfl)
theorem dX11_liesOf_10 : decode cX11_liesOf 10 = .ok (.getfield 49, 3) := dk_180 0 49 (dk_at dksX11_liesOf_0 10 rfl rfl)
theorem dX11_liesOf_13 : decode cX11_liesOf 13 = .ok (.iload_n 2, 1) := dk_28 (dk_at dksX11_liesOf_0 13 rfl rfl)
theorem dX11_liesOf_14 : decode cX11_liesOf 14 = .ok (.aaload, 1) := dk_50 (dk_at dksX11_liesOf_0 14 rfl rfl)
theorem dX11_liesOf_15 : decode cX11_liesOf 15 = .ok (.iconst 0, 1) := dk_3 (dk_at dksX11_liesOf_0 15 rfl rfl)
theorem dX11_liesOf_16 : decode cX11_liesOf 16 = .ok (.iaload, 1) := dk_46 (dk_at dksX11_liesOf_0 16 rfl rfl)
theorem dX11_liesOf_17 : decode cX11_liesOf 17 = .ok (.imul, 1) := dk_104 (dk_at dksX11_liesOf_0 17 rfl rfl)
theorem dX11_liesOf_18 : decode cX11_liesOf 18 = .ok (.iadd, 1) := dk_96 (dk_at dksX11_liesOf_0 18 rfl rfl)
theorem dX11_liesOf_19 : decode cX11_liesOf 19 = .ok (.aload_n 0, 1) := dk_42 (dk_at dksX11_liesOf_0 19 rfl rfl)
theorem dX11_liesOf_20 : decode cX11_liesOf 20 = .ok (.getfield 91, 3) := dk_180 0 91 (dk_at dksX11_liesOf_0 20 rfl rfl)
theorem dX11_liesOf_23 : decode cX11_liesOf 23 = .ok (.bipush 9, 2) := dk_16 9 (dk_at dksX11_liesOf_1 0 rfl rfl)
theorem dX11_liesOf_25 : decode cX11_liesOf 25 = .ok (.iload_n 1, 1) := dk_27 (dk_at dksX11_liesOf_1 2 rfl rfl)
theorem dX11_liesOf_26 : decode cX11_liesOf 26 = .ok (.iadd, 1) := dk_96 (dk_at dksX11_liesOf_1 3 rfl rfl)
theorem dX11_liesOf_27 : decode cX11_liesOf 27 = .ok (.iaload, 1) := dk_46 (dk_at dksX11_liesOf_1 4 rfl rfl)
theorem dX11_liesOf_28 : decode cX11_liesOf 28 = .ok (.iadd, 1) := dk_96 (dk_at dksX11_liesOf_1 5 rfl rfl)
theorem dX11_liesOf_29 : decode cX11_liesOf 29 = .ok (.bipush 16, 2) := dk_16 16 (dk_at dksX11_liesOf_1 6 rfl rfl)
theorem dX11_liesOf_31 : decode cX11_liesOf 31 = .ok (.irem, 1) := dk_112 (dk_at dksX11_liesOf_1 8 rfl rfl)
theorem dX11_liesOf_32 : decode cX11_liesOf 32 = .ok (.ireturn, 1) := dk_172 (dk_at dksX11_liesOf_1 9 rfl rfl)
abbrev cX11_dropped : ByteArray := prog_22_method_106_code
def yX11_dropped : MethodName := ⟨RX11, "dropped", "(II)I"⟩
def dkwX11_dropped_4 : List UInt8 := [21, 4, 120, 167, 0, 4, 3, 128, 62, 132, 4, 1, 167, 255, 207, 29, 172]
abbrev dktX11_dropped_4 : List UInt8 := dkwX11_dropped_4 ++ []
def dkwX11_dropped_3 : List UInt8 := [180, 0, 91, 21, 4, 182, 1, 64, 153, 0, 21, 42, 27, 21, 4, 182, 1, 165, 28, 160, 0, 10, 4]
abbrev dktX11_dropped_3 : List UInt8 := dkwX11_dropped_3 ++ dktX11_dropped_4
def dkwX11_dropped_2 : List UInt8 := [153, 0, 5, 3, 172, 3, 62, 3, 54, 4, 21, 4, 42, 180, 0, 23, 3, 46, 162, 0, 44, 29, 42, 42]
abbrev dktX11_dropped_2 : List UInt8 := dkwX11_dropped_2 ++ dktX11_dropped_3
def dkwX11_dropped_1 : List UInt8 := [154, 0, 27, 42, 28, 3, 16, 15, 184, 0, 168, 154, 0, 7, 4, 167, 0, 4, 3, 5, 4, 182, 0, 249]
abbrev dktX11_dropped_1 : List UInt8 := dkwX11_dropped_1 ++ dktX11_dropped_2
def dkwX11_dropped_0 : List UInt8 := [42, 3, 181, 0, 134, 42, 42, 27, 182, 1, 82, 154, 0, 7, 4, 167, 0, 4, 3, 4, 3, 182, 0, 249]
abbrev dktX11_dropped_0 : List UInt8 := dkwX11_dropped_0 ++ dktX11_dropped_1
theorem dksX11_dropped_0 : cX11_dropped.data.toList.drop 0 = dktX11_dropped_0 := by decide +kernel
theorem dksX11_dropped_1 : cX11_dropped.data.toList.drop 24 = dktX11_dropped_1 := dk_seg dksX11_dropped_0 24 rfl rfl
theorem dksX11_dropped_2 : cX11_dropped.data.toList.drop 48 = dktX11_dropped_2 := dk_seg dksX11_dropped_1 24 rfl rfl
theorem dksX11_dropped_3 : cX11_dropped.data.toList.drop 72 = dktX11_dropped_3 := dk_seg dksX11_dropped_2 24 rfl rfl
theorem dksX11_dropped_4 : cX11_dropped.data.toList.drop 95 = dktX11_dropped_4 := dk_seg dksX11_dropped_3 23 rfl rfl
theorem dX11_dropped_0 : decode cX11_dropped 0 = .ok (.aload_n 0, 1) := dk_42 (dk_at dksX11_dropped_0 0 rfl rfl)
theorem dX11_dropped_1 : decode cX11_dropped 1 = .ok (.iconst 0, 1) := dk_3 (dk_at dksX11_dropped_0 1 rfl rfl)
theorem dX11_dropped_2 : decode cX11_dropped 2 = .ok (.putfield 134, 3) := dk_181 0 134 (dk_at dksX11_dropped_0 2 rfl rfl)
theorem dX11_dropped_5 : decode cX11_dropped 5 = .ok (.aload_n 0, 1) := dk_42 (dk_at dksX11_dropped_0 5 rfl rfl)
theorem dX11_dropped_6 : decode cX11_dropped 6 = .ok (.aload_n 0, 1) := dk_42 (dk_at dksX11_dropped_0 6 rfl rfl)
theorem dX11_dropped_7 : decode cX11_dropped 7 = .ok (.iload_n 1, 1) := dk_27 (dk_at dksX11_dropped_0 7 rfl rfl)
theorem dX11_dropped_8 : decode cX11_dropped 8 = .ok (.invokevirtual 338, 3) := dk_182 1 82 (dk_at dksX11_dropped_0 8 rfl rfl)
theorem dX11_dropped_11 : decode cX11_dropped 11 = .ok (.ifCond .ne 7, 3) := dk_154 0 7 (dk_at dksX11_dropped_0 11 rfl rfl)
theorem dX11_dropped_14 : decode cX11_dropped 14 = .ok (.iconst 1, 1) := dk_4 (dk_at dksX11_dropped_0 14 rfl rfl)
theorem dX11_dropped_15 : decode cX11_dropped 15 = .ok (.goto 4, 3) := dk_167 0 4 (dk_at dksX11_dropped_0 15 rfl rfl)
theorem dX11_dropped_18 : decode cX11_dropped 18 = .ok (.iconst 0, 1) := dk_3 (dk_at dksX11_dropped_0 18 rfl rfl)
theorem dX11_dropped_19 : decode cX11_dropped 19 = .ok (.iconst 1, 1) := dk_4 (dk_at dksX11_dropped_0 19 rfl rfl)
theorem dX11_dropped_20 : decode cX11_dropped 20 = .ok (.iconst 0, 1) := dk_3 (dk_at dksX11_dropped_0 20 rfl rfl)
theorem dX11_dropped_21 : decode cX11_dropped 21 = .ok (.invokevirtual 249, 3) := dk_182 0 249 (dk_at dksX11_dropped_0 21 rfl rfl)
theorem dX11_dropped_24 : decode cX11_dropped 24 = .ok (.ifCond .ne 27, 3) := dk_154 0 27 (dk_at dksX11_dropped_1 0 rfl rfl)
theorem dX11_dropped_27 : decode cX11_dropped 27 = .ok (.aload_n 0, 1) := dk_42 (dk_at dksX11_dropped_1 3 rfl rfl)
theorem dX11_dropped_28 : decode cX11_dropped 28 = .ok (.iload_n 2, 1) := dk_28 (dk_at dksX11_dropped_1 4 rfl rfl)
theorem dX11_dropped_29 : decode cX11_dropped 29 = .ok (.iconst 0, 1) := dk_3 (dk_at dksX11_dropped_1 5 rfl rfl)
theorem dX11_dropped_30 : decode cX11_dropped 30 = .ok (.bipush 15, 2) := dk_16 15 (dk_at dksX11_dropped_1 6 rfl rfl)
theorem dX11_dropped_32 : decode cX11_dropped 32 = .ok (.invokestatic 168, 3) := dk_184 0 168 (dk_at dksX11_dropped_1 8 rfl rfl)
theorem dX11_dropped_35 : decode cX11_dropped 35 = .ok (.ifCond .ne 7, 3) := dk_154 0 7 (dk_at dksX11_dropped_1 11 rfl rfl)
theorem dX11_dropped_38 : decode cX11_dropped 38 = .ok (.iconst 1, 1) := dk_4 (dk_at dksX11_dropped_1 14 rfl rfl)
theorem dX11_dropped_39 : decode cX11_dropped 39 = .ok (.goto 4, 3) := dk_167 0 4 (dk_at dksX11_dropped_1 15 rfl rfl)
theorem dX11_dropped_42 : decode cX11_dropped 42 = .ok (.iconst 0, 1) := dk_3 (dk_at dksX11_dropped_1 18 rfl rfl)
theorem dX11_dropped_43 : decode cX11_dropped 43 = .ok (.iconst 2, 1) := dk_5 (dk_at dksX11_dropped_1 19 rfl rfl)
theorem dX11_dropped_44 : decode cX11_dropped 44 = .ok (.iconst 1, 1) := dk_4 (dk_at dksX11_dropped_1 20 rfl rfl)
theorem dX11_dropped_45 : decode cX11_dropped 45 = .ok (.invokevirtual 249, 3) := dk_182 0 249 (dk_at dksX11_dropped_1 21 rfl rfl)
theorem dX11_dropped_48 : decode cX11_dropped 48 = .ok (.ifCond .eq 5, 3) := dk_153 0 5 (dk_at dksX11_dropped_2 0 rfl rfl)
theorem dX11_dropped_51 : decode cX11_dropped 51 = .ok (.iconst 0, 1) := dk_3 (dk_at dksX11_dropped_2 3 rfl rfl)
theorem dX11_dropped_52 : decode cX11_dropped 52 = .ok (.ireturn, 1) := dk_172 (dk_at dksX11_dropped_2 4 rfl rfl)
theorem dX11_dropped_53 : decode cX11_dropped 53 = .ok (.iconst 0, 1) := dk_3 (dk_at dksX11_dropped_2 5 rfl rfl)
theorem dX11_dropped_54 : decode cX11_dropped 54 = .ok (.istore_n 3, 1) := dk_62 (dk_at dksX11_dropped_2 6 rfl rfl)
theorem dX11_dropped_55 : decode cX11_dropped 55 = .ok (.iconst 0, 1) := dk_3 (dk_at dksX11_dropped_2 7 rfl rfl)
theorem dX11_dropped_56 : decode cX11_dropped 56 = .ok (.istore 4, 2) := dk_54 4 (dk_at dksX11_dropped_2 8 rfl rfl)
theorem dX11_dropped_58 : decode cX11_dropped 58 = .ok (.iload 4, 2) := dk_21 4 (dk_at dksX11_dropped_2 10 rfl rfl)
theorem dX11_dropped_60 : decode cX11_dropped 60 = .ok (.aload_n 0, 1) := dk_42 (dk_at dksX11_dropped_2 12 rfl rfl)
theorem dX11_dropped_61 : decode cX11_dropped 61 = .ok (.getfield 23, 3) := dk_180 0 23 (dk_at dksX11_dropped_2 13 rfl rfl)
theorem dX11_dropped_64 : decode cX11_dropped 64 = .ok (.iconst 0, 1) := dk_3 (dk_at dksX11_dropped_2 16 rfl rfl)
theorem dX11_dropped_65 : decode cX11_dropped 65 = .ok (.iaload, 1) := dk_46 (dk_at dksX11_dropped_2 17 rfl rfl)
theorem dX11_dropped_66 : decode cX11_dropped 66 = .ok (.if_icmp .ge 44, 3) := dk_162 0 44 (dk_at dksX11_dropped_2 18 rfl rfl)
theorem dX11_dropped_69 : decode cX11_dropped 69 = .ok (.iload_n 3, 1) := dk_29 (dk_at dksX11_dropped_2 21 rfl rfl)
theorem dX11_dropped_70 : decode cX11_dropped 70 = .ok (.aload_n 0, 1) := dk_42 (dk_at dksX11_dropped_2 22 rfl rfl)
theorem dX11_dropped_71 : decode cX11_dropped 71 = .ok (.aload_n 0, 1) := dk_42 (dk_at dksX11_dropped_2 23 rfl rfl)
theorem dX11_dropped_72 : decode cX11_dropped 72 = .ok (.getfield 91, 3) := dk_180 0 91 (dk_at dksX11_dropped_3 0 rfl rfl)
theorem dX11_dropped_75 : decode cX11_dropped 75 = .ok (.iload 4, 2) := dk_21 4 (dk_at dksX11_dropped_3 3 rfl rfl)
theorem dX11_dropped_77 : decode cX11_dropped 77 = .ok (.invokevirtual 320, 3) := dk_182 1 64 (dk_at dksX11_dropped_3 5 rfl rfl)
theorem dX11_dropped_80 : decode cX11_dropped 80 = .ok (.ifCond .eq 21, 3) := dk_153 0 21 (dk_at dksX11_dropped_3 8 rfl rfl)
theorem dX11_dropped_83 : decode cX11_dropped 83 = .ok (.aload_n 0, 1) := dk_42 (dk_at dksX11_dropped_3 11 rfl rfl)
theorem dX11_dropped_84 : decode cX11_dropped 84 = .ok (.iload_n 1, 1) := dk_27 (dk_at dksX11_dropped_3 12 rfl rfl)
theorem dX11_dropped_85 : decode cX11_dropped 85 = .ok (.iload 4, 2) := dk_21 4 (dk_at dksX11_dropped_3 13 rfl rfl)
theorem dX11_dropped_87 : decode cX11_dropped 87 = .ok (.invokevirtual 421, 3) := dk_182 1 165 (dk_at dksX11_dropped_3 15 rfl rfl)
theorem dX11_dropped_90 : decode cX11_dropped 90 = .ok (.iload_n 2, 1) := dk_28 (dk_at dksX11_dropped_3 18 rfl rfl)
theorem dX11_dropped_91 : decode cX11_dropped 91 = .ok (.if_icmp .ne 10, 3) := dk_160 0 10 (dk_at dksX11_dropped_3 19 rfl rfl)
theorem dX11_dropped_94 : decode cX11_dropped 94 = .ok (.iconst 1, 1) := dk_4 (dk_at dksX11_dropped_3 22 rfl rfl)
theorem dX11_dropped_95 : decode cX11_dropped 95 = .ok (.iload 4, 2) := dk_21 4 (dk_at dksX11_dropped_4 0 rfl rfl)
theorem dX11_dropped_97 : decode cX11_dropped 97 = .ok (.ishl, 1) := dk_120 (dk_at dksX11_dropped_4 2 rfl rfl)
theorem dX11_dropped_98 : decode cX11_dropped 98 = .ok (.goto 4, 3) := dk_167 0 4 (dk_at dksX11_dropped_4 3 rfl rfl)
theorem dX11_dropped_101 : decode cX11_dropped 101 = .ok (.iconst 0, 1) := dk_3 (dk_at dksX11_dropped_4 6 rfl rfl)
theorem dX11_dropped_102 : decode cX11_dropped 102 = .ok (.ior, 1) := dk_128 (dk_at dksX11_dropped_4 7 rfl rfl)
theorem dX11_dropped_103 : decode cX11_dropped 103 = .ok (.istore_n 3, 1) := dk_62 (dk_at dksX11_dropped_4 8 rfl rfl)
theorem dX11_dropped_104 : decode cX11_dropped 104 = .ok (.iinc 4 1, 3) := dk_132 4 1 (dk_at dksX11_dropped_4 9 rfl rfl)
theorem dX11_dropped_107 : decode cX11_dropped 107 = .ok (.goto (-49), 3) := dk_167 255 207 (dk_at dksX11_dropped_4 12 rfl rfl)
theorem dX11_dropped_110 : decode cX11_dropped 110 = .ok (.iload_n 3, 1) := dk_29 (dk_at dksX11_dropped_4 15 rfl rfl)
theorem dX11_dropped_111 : decode cX11_dropped 111 = .ok (.ireturn, 1) := dk_172 (dk_at dksX11_dropped_4 16 rfl rfl)
abbrev cX11_right : ByteArray := prog_22_method_108_code
def yX11_right : MethodName := ⟨RX11, "right", "()I"⟩
def dkwX11_right_0 : List UInt8 := [42, 3, 181, 0, 134, 42, 182, 1, 168, 172]
abbrev dktX11_right_0 : List UInt8 := dkwX11_right_0 ++ []
theorem dksX11_right_0 : cX11_right.data.toList.drop 0 = dktX11_right_0 := by decide +kernel
theorem dX11_right_0 : decode cX11_right 0 = .ok (.aload_n 0, 1) := dk_42 (dk_at dksX11_right_0 0 rfl rfl)
theorem dX11_right_1 : decode cX11_right 1 = .ok (.iconst 0, 1) := dk_3 (dk_at dksX11_right_0 1 rfl rfl)
theorem dX11_right_2 : decode cX11_right 2 = .ok (.putfield 134, 3) := dk_181 0 134 (dk_at dksX11_right_0 2 rfl rfl)
theorem dX11_right_5 : decode cX11_right 5 = .ok (.aload_n 0, 1) := dk_42 (dk_at dksX11_right_0 5 rfl rfl)
theorem dX11_right_6 : decode cX11_right 6 = .ok (.invokevirtual 424, 3) := dk_182 1 168 (dk_at dksX11_right_0 6 rfl rfl)
theorem dX11_right_9 : decode cX11_right 9 = .ok (.ireturn, 1) := dk_172 (dk_at dksX11_right_0 9 rfl rfl)
abbrev cX11_rightLines : ByteArray := prog_22_method_107_code
def yX11_rightLines : MethodName := ⟨RX11, "rightLines", "()I"⟩
def dkwX11_rightLines_7 : List UInt8 := [180, 1, 17, 162, 0, 18, 42, 180, 0, 121, 28, 51, 153, 0, 9, 132, 2, 1, 167, 255, 236, 28, 172]
abbrev dktX11_rightLines_7 : List UInt8 := dkwX11_rightLines_7 ++ []
def dkwX11_rightLines_6 : List UInt8 := [153, 0, 7, 4, 167, 0, 4, 3, 84, 132, 4, 1, 167, 255, 178, 132, 3, 1, 167, 255, 156, 28, 42]
abbrev dktX11_rightLines_6 : List UInt8 := dkwX11_rightLines_6 ++ dktX11_rightLines_7
def dkwX11_rightLines_5 : List UInt8 := [180, 0, 76, 21, 4, 50, 4, 46, 96, 46, 42, 180, 0, 76, 21, 4, 50, 5, 46, 184, 0, 242]
abbrev dktX11_rightLines_5 : List UInt8 := dkwX11_rightLines_5 ++ dktX11_rightLines_6
def dkwX11_rightLines_4 : List UInt8 := [154, 0, 47, 42, 180, 0, 76, 21, 4, 50, 3, 46, 29, 160, 0, 38, 42, 180, 0, 103, 4, 42]
abbrev dktX11_rightLines_4 : List UInt8 := dkwX11_rightLines_4 ++ dktX11_rightLines_5
def dkwX11_rightLines_3 : List UInt8 := [21, 4, 42, 180, 1, 17, 162, 0, 75, 42, 180, 0, 121, 21, 4, 42, 180, 0, 121, 21, 4, 51]
abbrev dktX11_rightLines_3 : List UInt8 := dkwX11_rightLines_3 ++ dktX11_rightLines_4
def dkwX11_rightLines_2 : List UInt8 := [180, 0, 103, 184, 1, 10, 4, 62, 29, 27, 163, 0, 101, 42, 42, 180, 0, 103, 182, 1, 129, 3, 54, 4]
abbrev dktX11_rightLines_2 : List UInt8 := dkwX11_rightLines_2 ++ dktX11_rightLines_3
def dkwX11_rightLines_1 : List UInt8 := [184, 1, 57, 60, 42, 180, 0, 121, 29, 3, 84, 132, 3, 1, 167, 255, 225, 42, 180, 0, 97, 42]
abbrev dktX11_rightLines_1 : List UInt8 := dkwX11_rightLines_1 ++ dktX11_rightLines_2
def dkwX11_rightLines_0 : List UInt8 := [3, 60, 3, 61, 3, 62, 29, 42, 180, 1, 17, 162, 0, 29, 27, 42, 180, 0, 76, 29, 50, 3, 46]
abbrev dktX11_rightLines_0 : List UInt8 := dkwX11_rightLines_0 ++ dktX11_rightLines_1
theorem dksX11_rightLines_0 : cX11_rightLines.data.toList.drop 0 = dktX11_rightLines_0 := by decide +kernel
theorem dksX11_rightLines_1 : cX11_rightLines.data.toList.drop 23 = dktX11_rightLines_1 := dk_seg dksX11_rightLines_0 23 rfl rfl
theorem dksX11_rightLines_2 : cX11_rightLines.data.toList.drop 45 = dktX11_rightLines_2 := dk_seg dksX11_rightLines_1 22 rfl rfl
theorem dksX11_rightLines_3 : cX11_rightLines.data.toList.drop 69 = dktX11_rightLines_3 := dk_seg dksX11_rightLines_2 24 rfl rfl
theorem dksX11_rightLines_4 : cX11_rightLines.data.toList.drop 91 = dktX11_rightLines_4 := dk_seg dksX11_rightLines_3 22 rfl rfl
theorem dksX11_rightLines_5 : cX11_rightLines.data.toList.drop 113 = dktX11_rightLines_5 := dk_seg dksX11_rightLines_4 22 rfl rfl
theorem dksX11_rightLines_6 : cX11_rightLines.data.toList.drop 135 = dktX11_rightLines_6 := dk_seg dksX11_rightLines_5 22 rfl rfl
theorem dksX11_rightLines_7 : cX11_rightLines.data.toList.drop 158 = dktX11_rightLines_7 := dk_seg dksX11_rightLines_6 23 rfl rfl
theorem dX11_rightLines_0 : decode cX11_rightLines 0 = .ok (.iconst 0, 1) := dk_3 (dk_at dksX11_rightLines_0 0 rfl rfl)
theorem dX11_rightLines_1 : decode cX11_rightLines 1 = .ok (.istore_n 1, 1) := dk_60 (dk_at dksX11_rightLines_0 1 rfl rfl)
theorem dX11_rightLines_2 : decode cX11_rightLines 2 = .ok (.iconst 0, 1) := dk_3 (dk_at dksX11_rightLines_0 2 rfl rfl)
theorem dX11_rightLines_3 : decode cX11_rightLines 3 = .ok (.istore_n 2, 1) := dk_61 (dk_at dksX11_rightLines_0 3 rfl rfl)
theorem dX11_rightLines_4 : decode cX11_rightLines 4 = .ok (.iconst 0, 1) := dk_3 (dk_at dksX11_rightLines_0 4 rfl rfl)
theorem dX11_rightLines_5 : decode cX11_rightLines 5 = .ok (.istore_n 3, 1) := dk_62 (dk_at dksX11_rightLines_0 5 rfl rfl)
theorem dX11_rightLines_6 : decode cX11_rightLines 6 = .ok (.iload_n 3, 1) := dk_29 (dk_at dksX11_rightLines_0 6 rfl rfl)
theorem dX11_rightLines_7 : decode cX11_rightLines 7 = .ok (.aload_n 0, 1) := dk_42 (dk_at dksX11_rightLines_0 7 rfl rfl)
theorem dX11_rightLines_8 : decode cX11_rightLines 8 = .ok (.getfield 273, 3) := dk_180 1 17 (dk_at dksX11_rightLines_0 8 rfl rfl)
theorem dX11_rightLines_11 : decode cX11_rightLines 11 = .ok (.if_icmp .ge 29, 3) := dk_162 0 29 (dk_at dksX11_rightLines_0 11 rfl rfl)
theorem dX11_rightLines_14 : decode cX11_rightLines 14 = .ok (.iload_n 1, 1) := dk_27 (dk_at dksX11_rightLines_0 14 rfl rfl)
theorem dX11_rightLines_15 : decode cX11_rightLines 15 = .ok (.aload_n 0, 1) := dk_42 (dk_at dksX11_rightLines_0 15 rfl rfl)
theorem dX11_rightLines_16 : decode cX11_rightLines 16 = .ok (.getfield 76, 3) := dk_180 0 76 (dk_at dksX11_rightLines_0 16 rfl rfl)
theorem dX11_rightLines_19 : decode cX11_rightLines 19 = .ok (.iload_n 3, 1) := dk_29 (dk_at dksX11_rightLines_0 19 rfl rfl)
theorem dX11_rightLines_20 : decode cX11_rightLines 20 = .ok (.aaload, 1) := dk_50 (dk_at dksX11_rightLines_0 20 rfl rfl)
theorem dX11_rightLines_21 : decode cX11_rightLines 21 = .ok (.iconst 0, 1) := dk_3 (dk_at dksX11_rightLines_0 21 rfl rfl)
theorem dX11_rightLines_22 : decode cX11_rightLines 22 = .ok (.iaload, 1) := dk_46 (dk_at dksX11_rightLines_0 22 rfl rfl)
theorem dX11_rightLines_23 : decode cX11_rightLines 23 = .ok (.invokestatic 313, 3) := dk_184 1 57 (dk_at dksX11_rightLines_1 0 rfl rfl)
theorem dX11_rightLines_26 : decode cX11_rightLines 26 = .ok (.istore_n 1, 1) := dk_60 (dk_at dksX11_rightLines_1 3 rfl rfl)
theorem dX11_rightLines_27 : decode cX11_rightLines 27 = .ok (.aload_n 0, 1) := dk_42 (dk_at dksX11_rightLines_1 4 rfl rfl)
theorem dX11_rightLines_28 : decode cX11_rightLines 28 = .ok (.getfield 121, 3) := dk_180 0 121 (dk_at dksX11_rightLines_1 5 rfl rfl)
theorem dX11_rightLines_31 : decode cX11_rightLines 31 = .ok (.iload_n 3, 1) := dk_29 (dk_at dksX11_rightLines_1 8 rfl rfl)
theorem dX11_rightLines_32 : decode cX11_rightLines 32 = .ok (.iconst 0, 1) := dk_3 (dk_at dksX11_rightLines_1 9 rfl rfl)
theorem dX11_rightLines_33 : decode cX11_rightLines 33 = .ok (.bastore, 1) := dk_84 (dk_at dksX11_rightLines_1 10 rfl rfl)
theorem dX11_rightLines_34 : decode cX11_rightLines 34 = .ok (.iinc 3 1, 3) := dk_132 3 1 (dk_at dksX11_rightLines_1 11 rfl rfl)
theorem dX11_rightLines_37 : decode cX11_rightLines 37 = .ok (.goto (-31), 3) := dk_167 255 225 (dk_at dksX11_rightLines_1 14 rfl rfl)
theorem dX11_rightLines_40 : decode cX11_rightLines 40 = .ok (.aload_n 0, 1) := dk_42 (dk_at dksX11_rightLines_1 17 rfl rfl)
theorem dX11_rightLines_41 : decode cX11_rightLines 41 = .ok (.getfield 97, 3) := dk_180 0 97 (dk_at dksX11_rightLines_1 18 rfl rfl)
theorem dX11_rightLines_44 : decode cX11_rightLines 44 = .ok (.aload_n 0, 1) := dk_42 (dk_at dksX11_rightLines_1 21 rfl rfl)
theorem dX11_rightLines_45 : decode cX11_rightLines 45 = .ok (.getfield 103, 3) := dk_180 0 103 (dk_at dksX11_rightLines_2 0 rfl rfl)
theorem dX11_rightLines_48 : decode cX11_rightLines 48 = .ok (.invokestatic 266, 3) := dk_184 1 10 (dk_at dksX11_rightLines_2 3 rfl rfl)
theorem dX11_rightLines_51 : decode cX11_rightLines 51 = .ok (.iconst 1, 1) := dk_4 (dk_at dksX11_rightLines_2 6 rfl rfl)
theorem dX11_rightLines_52 : decode cX11_rightLines 52 = .ok (.istore_n 3, 1) := dk_62 (dk_at dksX11_rightLines_2 7 rfl rfl)
theorem dX11_rightLines_53 : decode cX11_rightLines 53 = .ok (.iload_n 3, 1) := dk_29 (dk_at dksX11_rightLines_2 8 rfl rfl)
theorem dX11_rightLines_54 : decode cX11_rightLines 54 = .ok (.iload_n 1, 1) := dk_27 (dk_at dksX11_rightLines_2 9 rfl rfl)
theorem dX11_rightLines_55 : decode cX11_rightLines 55 = .ok (.if_icmp .gt 101, 3) := dk_163 0 101 (dk_at dksX11_rightLines_2 10 rfl rfl)
theorem dX11_rightLines_58 : decode cX11_rightLines 58 = .ok (.aload_n 0, 1) := dk_42 (dk_at dksX11_rightLines_2 13 rfl rfl)
theorem dX11_rightLines_59 : decode cX11_rightLines 59 = .ok (.aload_n 0, 1) := dk_42 (dk_at dksX11_rightLines_2 14 rfl rfl)
theorem dX11_rightLines_60 : decode cX11_rightLines 60 = .ok (.getfield 103, 3) := dk_180 0 103 (dk_at dksX11_rightLines_2 15 rfl rfl)
theorem dX11_rightLines_63 : decode cX11_rightLines 63 = .ok (.invokevirtual 385, 3) := dk_182 1 129 (dk_at dksX11_rightLines_2 18 rfl rfl)
theorem dX11_rightLines_66 : decode cX11_rightLines 66 = .ok (.iconst 0, 1) := dk_3 (dk_at dksX11_rightLines_2 21 rfl rfl)
theorem dX11_rightLines_67 : decode cX11_rightLines 67 = .ok (.istore 4, 2) := dk_54 4 (dk_at dksX11_rightLines_2 22 rfl rfl)
theorem dX11_rightLines_69 : decode cX11_rightLines 69 = .ok (.iload 4, 2) := dk_21 4 (dk_at dksX11_rightLines_3 0 rfl rfl)
theorem dX11_rightLines_71 : decode cX11_rightLines 71 = .ok (.aload_n 0, 1) := dk_42 (dk_at dksX11_rightLines_3 2 rfl rfl)
theorem dX11_rightLines_72 : decode cX11_rightLines 72 = .ok (.getfield 273, 3) := dk_180 1 17 (dk_at dksX11_rightLines_3 3 rfl rfl)
theorem dX11_rightLines_75 : decode cX11_rightLines 75 = .ok (.if_icmp .ge 75, 3) := dk_162 0 75 (dk_at dksX11_rightLines_3 6 rfl rfl)
theorem dX11_rightLines_78 : decode cX11_rightLines 78 = .ok (.aload_n 0, 1) := dk_42 (dk_at dksX11_rightLines_3 9 rfl rfl)
theorem dX11_rightLines_79 : decode cX11_rightLines 79 = .ok (.getfield 121, 3) := dk_180 0 121 (dk_at dksX11_rightLines_3 10 rfl rfl)
theorem dX11_rightLines_82 : decode cX11_rightLines 82 = .ok (.iload 4, 2) := dk_21 4 (dk_at dksX11_rightLines_3 13 rfl rfl)
theorem dX11_rightLines_84 : decode cX11_rightLines 84 = .ok (.aload_n 0, 1) := dk_42 (dk_at dksX11_rightLines_3 15 rfl rfl)
theorem dX11_rightLines_85 : decode cX11_rightLines 85 = .ok (.getfield 121, 3) := dk_180 0 121 (dk_at dksX11_rightLines_3 16 rfl rfl)
theorem dX11_rightLines_88 : decode cX11_rightLines 88 = .ok (.iload 4, 2) := dk_21 4 (dk_at dksX11_rightLines_3 19 rfl rfl)
theorem dX11_rightLines_90 : decode cX11_rightLines 90 = .ok (.baload, 1) := dk_51 (dk_at dksX11_rightLines_3 21 rfl rfl)
theorem dX11_rightLines_91 : decode cX11_rightLines 91 = .ok (.ifCond .ne 47, 3) := dk_154 0 47 (dk_at dksX11_rightLines_4 0 rfl rfl)
theorem dX11_rightLines_94 : decode cX11_rightLines 94 = .ok (.aload_n 0, 1) := dk_42 (dk_at dksX11_rightLines_4 3 rfl rfl)
theorem dX11_rightLines_95 : decode cX11_rightLines 95 = .ok (.getfield 76, 3) := dk_180 0 76 (dk_at dksX11_rightLines_4 4 rfl rfl)
theorem dX11_rightLines_98 : decode cX11_rightLines 98 = .ok (.iload 4, 2) := dk_21 4 (dk_at dksX11_rightLines_4 7 rfl rfl)
theorem dX11_rightLines_100 : decode cX11_rightLines 100 = .ok (.aaload, 1) := dk_50 (dk_at dksX11_rightLines_4 9 rfl rfl)
theorem dX11_rightLines_101 : decode cX11_rightLines 101 = .ok (.iconst 0, 1) := dk_3 (dk_at dksX11_rightLines_4 10 rfl rfl)
theorem dX11_rightLines_102 : decode cX11_rightLines 102 = .ok (.iaload, 1) := dk_46 (dk_at dksX11_rightLines_4 11 rfl rfl)
theorem dX11_rightLines_103 : decode cX11_rightLines 103 = .ok (.iload_n 3, 1) := dk_29 (dk_at dksX11_rightLines_4 12 rfl rfl)
theorem dX11_rightLines_104 : decode cX11_rightLines 104 = .ok (.if_icmp .ne 38, 3) := dk_160 0 38 (dk_at dksX11_rightLines_4 13 rfl rfl)
theorem dX11_rightLines_107 : decode cX11_rightLines 107 = .ok (.aload_n 0, 1) := dk_42 (dk_at dksX11_rightLines_4 16 rfl rfl)
theorem dX11_rightLines_108 : decode cX11_rightLines 108 = .ok (.getfield 103, 3) := dk_180 0 103 (dk_at dksX11_rightLines_4 17 rfl rfl)
theorem dX11_rightLines_111 : decode cX11_rightLines 111 = .ok (.iconst 1, 1) := dk_4 (dk_at dksX11_rightLines_4 20 rfl rfl)
theorem dX11_rightLines_112 : decode cX11_rightLines 112 = .ok (.aload_n 0, 1) := dk_42 (dk_at dksX11_rightLines_4 21 rfl rfl)
theorem dX11_rightLines_113 : decode cX11_rightLines 113 = .ok (.getfield 76, 3) := dk_180 0 76 (dk_at dksX11_rightLines_5 0 rfl rfl)
theorem dX11_rightLines_116 : decode cX11_rightLines 116 = .ok (.iload 4, 2) := dk_21 4 (dk_at dksX11_rightLines_5 3 rfl rfl)
theorem dX11_rightLines_118 : decode cX11_rightLines 118 = .ok (.aaload, 1) := dk_50 (dk_at dksX11_rightLines_5 5 rfl rfl)
theorem dX11_rightLines_119 : decode cX11_rightLines 119 = .ok (.iconst 1, 1) := dk_4 (dk_at dksX11_rightLines_5 6 rfl rfl)
theorem dX11_rightLines_120 : decode cX11_rightLines 120 = .ok (.iaload, 1) := dk_46 (dk_at dksX11_rightLines_5 7 rfl rfl)
theorem dX11_rightLines_121 : decode cX11_rightLines 121 = .ok (.iadd, 1) := dk_96 (dk_at dksX11_rightLines_5 8 rfl rfl)
theorem dX11_rightLines_122 : decode cX11_rightLines 122 = .ok (.iaload, 1) := dk_46 (dk_at dksX11_rightLines_5 9 rfl rfl)
theorem dX11_rightLines_123 : decode cX11_rightLines 123 = .ok (.aload_n 0, 1) := dk_42 (dk_at dksX11_rightLines_5 10 rfl rfl)
theorem dX11_rightLines_124 : decode cX11_rightLines 124 = .ok (.getfield 76, 3) := dk_180 0 76 (dk_at dksX11_rightLines_5 11 rfl rfl)
theorem dX11_rightLines_127 : decode cX11_rightLines 127 = .ok (.iload 4, 2) := dk_21 4 (dk_at dksX11_rightLines_5 14 rfl rfl)
theorem dX11_rightLines_129 : decode cX11_rightLines 129 = .ok (.aaload, 1) := dk_50 (dk_at dksX11_rightLines_5 16 rfl rfl)
theorem dX11_rightLines_130 : decode cX11_rightLines 130 = .ok (.iconst 2, 1) := dk_5 (dk_at dksX11_rightLines_5 17 rfl rfl)
theorem dX11_rightLines_131 : decode cX11_rightLines 131 = .ok (.iaload, 1) := dk_46 (dk_at dksX11_rightLines_5 18 rfl rfl)
theorem dX11_rightLines_132 : decode cX11_rightLines 132 = .ok (.invokestatic 242, 3) := dk_184 0 242 (dk_at dksX11_rightLines_5 19 rfl rfl)
theorem dX11_rightLines_135 : decode cX11_rightLines 135 = .ok (.ifCond .eq 7, 3) := dk_153 0 7 (dk_at dksX11_rightLines_6 0 rfl rfl)
theorem dX11_rightLines_138 : decode cX11_rightLines 138 = .ok (.iconst 1, 1) := dk_4 (dk_at dksX11_rightLines_6 3 rfl rfl)
theorem dX11_rightLines_139 : decode cX11_rightLines 139 = .ok (.goto 4, 3) := dk_167 0 4 (dk_at dksX11_rightLines_6 4 rfl rfl)
theorem dX11_rightLines_142 : decode cX11_rightLines 142 = .ok (.iconst 0, 1) := dk_3 (dk_at dksX11_rightLines_6 7 rfl rfl)
theorem dX11_rightLines_143 : decode cX11_rightLines 143 = .ok (.bastore, 1) := dk_84 (dk_at dksX11_rightLines_6 8 rfl rfl)
theorem dX11_rightLines_144 : decode cX11_rightLines 144 = .ok (.iinc 4 1, 3) := dk_132 4 1 (dk_at dksX11_rightLines_6 9 rfl rfl)
theorem dX11_rightLines_147 : decode cX11_rightLines 147 = .ok (.goto (-78), 3) := dk_167 255 178 (dk_at dksX11_rightLines_6 12 rfl rfl)
theorem dX11_rightLines_150 : decode cX11_rightLines 150 = .ok (.iinc 3 1, 3) := dk_132 3 1 (dk_at dksX11_rightLines_6 15 rfl rfl)
theorem dX11_rightLines_153 : decode cX11_rightLines 153 = .ok (.goto (-100), 3) := dk_167 255 156 (dk_at dksX11_rightLines_6 18 rfl rfl)
theorem dX11_rightLines_156 : decode cX11_rightLines 156 = .ok (.iload_n 2, 1) := dk_28 (dk_at dksX11_rightLines_6 21 rfl rfl)
theorem dX11_rightLines_157 : decode cX11_rightLines 157 = .ok (.aload_n 0, 1) := dk_42 (dk_at dksX11_rightLines_6 22 rfl rfl)
theorem dX11_rightLines_158 : decode cX11_rightLines 158 = .ok (.getfield 273, 3) := dk_180 1 17 (dk_at dksX11_rightLines_7 0 rfl rfl)
theorem dX11_rightLines_161 : decode cX11_rightLines 161 = .ok (.if_icmp .ge 18, 3) := dk_162 0 18 (dk_at dksX11_rightLines_7 3 rfl rfl)
theorem dX11_rightLines_164 : decode cX11_rightLines 164 = .ok (.aload_n 0, 1) := dk_42 (dk_at dksX11_rightLines_7 6 rfl rfl)
theorem dX11_rightLines_165 : decode cX11_rightLines 165 = .ok (.getfield 121, 3) := dk_180 0 121 (dk_at dksX11_rightLines_7 7 rfl rfl)
theorem dX11_rightLines_168 : decode cX11_rightLines 168 = .ok (.iload_n 2, 1) := dk_28 (dk_at dksX11_rightLines_7 10 rfl rfl)
theorem dX11_rightLines_169 : decode cX11_rightLines 169 = .ok (.baload, 1) := dk_51 (dk_at dksX11_rightLines_7 11 rfl rfl)
theorem dX11_rightLines_170 : decode cX11_rightLines 170 = .ok (.ifCond .eq 9, 3) := dk_153 0 9 (dk_at dksX11_rightLines_7 12 rfl rfl)
theorem dX11_rightLines_173 : decode cX11_rightLines 173 = .ok (.iinc 2 1, 3) := dk_132 2 1 (dk_at dksX11_rightLines_7 15 rfl rfl)
theorem dX11_rightLines_176 : decode cX11_rightLines 176 = .ok (.goto (-20), 3) := dk_167 255 236 (dk_at dksX11_rightLines_7 18 rfl rfl)
theorem dX11_rightLines_179 : decode cX11_rightLines 179 = .ok (.iload_n 2, 1) := dk_28 (dk_at dksX11_rightLines_7 21 rfl rfl)
theorem dX11_rightLines_180 : decode cX11_rightLines 180 = .ok (.ireturn, 1) := dk_172 (dk_at dksX11_rightLines_7 22 rfl rfl)
abbrev cX11_limps : ByteArray := prog_22_method_109_code
def yX11_limps : MethodName := ⟨RX11, "limps", "(I)I"⟩
def dkwX11_limps_4 : List UInt8 := [50, 3, 28, 79, 29, 172]
abbrev dktX11_limps_4 : List UInt8 := dkwX11_limps_4 ++ []
def dkwX11_limps_3 : List UInt8 := [160, 0, 10, 4, 21, 4, 120, 167, 0, 4, 3, 128, 62, 132, 4, 1, 167, 255, 214, 42, 180, 0, 49, 27]
abbrev dktX11_limps_3 : List UInt8 := dkwX11_limps_3 ++ dktX11_limps_4
def dkwX11_limps_2 : List UInt8 := [162, 0, 41, 42, 180, 0, 49, 27, 50, 3, 21, 4, 79, 29, 42, 182, 1, 168, 42, 180, 1, 17]
abbrev dktX11_limps_2 : List UInt8 := dkwX11_limps_2 ++ dktX11_limps_3
def dkwX11_limps_1 : List UInt8 := [153, 0, 5, 3, 172, 42, 180, 0, 49, 27, 50, 3, 46, 61, 3, 62, 3, 54, 4, 21, 4, 16, 10]
abbrev dktX11_limps_1 : List UInt8 := dkwX11_limps_1 ++ dktX11_limps_2
def dkwX11_limps_0 : List UInt8 := [42, 3, 181, 0, 134, 42, 42, 27, 182, 1, 75, 154, 0, 7, 4, 167, 0, 4, 3, 4, 3, 182, 0, 249]
abbrev dktX11_limps_0 : List UInt8 := dkwX11_limps_0 ++ dktX11_limps_1
theorem dksX11_limps_0 : cX11_limps.data.toList.drop 0 = dktX11_limps_0 := by decide +kernel
theorem dksX11_limps_1 : cX11_limps.data.toList.drop 24 = dktX11_limps_1 := dk_seg dksX11_limps_0 24 rfl rfl
theorem dksX11_limps_2 : cX11_limps.data.toList.drop 47 = dktX11_limps_2 := dk_seg dksX11_limps_1 23 rfl rfl
theorem dksX11_limps_3 : cX11_limps.data.toList.drop 69 = dktX11_limps_3 := dk_seg dksX11_limps_2 22 rfl rfl
theorem dksX11_limps_4 : cX11_limps.data.toList.drop 93 = dktX11_limps_4 := dk_seg dksX11_limps_3 24 rfl rfl
theorem dX11_limps_0 : decode cX11_limps 0 = .ok (.aload_n 0, 1) := dk_42 (dk_at dksX11_limps_0 0 rfl rfl)
theorem dX11_limps_1 : decode cX11_limps 1 = .ok (.iconst 0, 1) := dk_3 (dk_at dksX11_limps_0 1 rfl rfl)
theorem dX11_limps_2 : decode cX11_limps 2 = .ok (.putfield 134, 3) := dk_181 0 134 (dk_at dksX11_limps_0 2 rfl rfl)
theorem dX11_limps_5 : decode cX11_limps 5 = .ok (.aload_n 0, 1) := dk_42 (dk_at dksX11_limps_0 5 rfl rfl)
theorem dX11_limps_6 : decode cX11_limps 6 = .ok (.aload_n 0, 1) := dk_42 (dk_at dksX11_limps_0 6 rfl rfl)
theorem dX11_limps_7 : decode cX11_limps 7 = .ok (.iload_n 1, 1) := dk_27 (dk_at dksX11_limps_0 7 rfl rfl)
theorem dX11_limps_8 : decode cX11_limps 8 = .ok (.invokevirtual 331, 3) := dk_182 1 75 (dk_at dksX11_limps_0 8 rfl rfl)
theorem dX11_limps_11 : decode cX11_limps 11 = .ok (.ifCond .ne 7, 3) := dk_154 0 7 (dk_at dksX11_limps_0 11 rfl rfl)
theorem dX11_limps_14 : decode cX11_limps 14 = .ok (.iconst 1, 1) := dk_4 (dk_at dksX11_limps_0 14 rfl rfl)
theorem dX11_limps_15 : decode cX11_limps 15 = .ok (.goto 4, 3) := dk_167 0 4 (dk_at dksX11_limps_0 15 rfl rfl)
theorem dX11_limps_18 : decode cX11_limps 18 = .ok (.iconst 0, 1) := dk_3 (dk_at dksX11_limps_0 18 rfl rfl)
theorem dX11_limps_19 : decode cX11_limps 19 = .ok (.iconst 1, 1) := dk_4 (dk_at dksX11_limps_0 19 rfl rfl)
theorem dX11_limps_20 : decode cX11_limps 20 = .ok (.iconst 0, 1) := dk_3 (dk_at dksX11_limps_0 20 rfl rfl)
theorem dX11_limps_21 : decode cX11_limps 21 = .ok (.invokevirtual 249, 3) := dk_182 0 249 (dk_at dksX11_limps_0 21 rfl rfl)
theorem dX11_limps_24 : decode cX11_limps 24 = .ok (.ifCond .eq 5, 3) := dk_153 0 5 (dk_at dksX11_limps_1 0 rfl rfl)
theorem dX11_limps_27 : decode cX11_limps 27 = .ok (.iconst 0, 1) := dk_3 (dk_at dksX11_limps_1 3 rfl rfl)
theorem dX11_limps_28 : decode cX11_limps 28 = .ok (.ireturn, 1) := dk_172 (dk_at dksX11_limps_1 4 rfl rfl)
theorem dX11_limps_29 : decode cX11_limps 29 = .ok (.aload_n 0, 1) := dk_42 (dk_at dksX11_limps_1 5 rfl rfl)
theorem dX11_limps_30 : decode cX11_limps 30 = .ok (.getfield 49, 3) := dk_180 0 49 (dk_at dksX11_limps_1 6 rfl rfl)
theorem dX11_limps_33 : decode cX11_limps 33 = .ok (.iload_n 1, 1) := dk_27 (dk_at dksX11_limps_1 9 rfl rfl)
theorem dX11_limps_34 : decode cX11_limps 34 = .ok (.aaload, 1) := dk_50 (dk_at dksX11_limps_1 10 rfl rfl)
theorem dX11_limps_35 : decode cX11_limps 35 = .ok (.iconst 0, 1) := dk_3 (dk_at dksX11_limps_1 11 rfl rfl)
theorem dX11_limps_36 : decode cX11_limps 36 = .ok (.iaload, 1) := dk_46 (dk_at dksX11_limps_1 12 rfl rfl)
theorem dX11_limps_37 : decode cX11_limps 37 = .ok (.istore_n 2, 1) := dk_61 (dk_at dksX11_limps_1 13 rfl rfl)
theorem dX11_limps_38 : decode cX11_limps 38 = .ok (.iconst 0, 1) := dk_3 (dk_at dksX11_limps_1 14 rfl rfl)
theorem dX11_limps_39 : decode cX11_limps 39 = .ok (.istore_n 3, 1) := dk_62 (dk_at dksX11_limps_1 15 rfl rfl)
theorem dX11_limps_40 : decode cX11_limps 40 = .ok (.iconst 0, 1) := dk_3 (dk_at dksX11_limps_1 16 rfl rfl)
theorem dX11_limps_41 : decode cX11_limps 41 = .ok (.istore 4, 2) := dk_54 4 (dk_at dksX11_limps_1 17 rfl rfl)
theorem dX11_limps_43 : decode cX11_limps 43 = .ok (.iload 4, 2) := dk_21 4 (dk_at dksX11_limps_1 19 rfl rfl)
theorem dX11_limps_45 : decode cX11_limps 45 = .ok (.bipush 10, 2) := dk_16 10 (dk_at dksX11_limps_1 21 rfl rfl)
theorem dX11_limps_47 : decode cX11_limps 47 = .ok (.if_icmp .ge 41, 3) := dk_162 0 41 (dk_at dksX11_limps_2 0 rfl rfl)
theorem dX11_limps_50 : decode cX11_limps 50 = .ok (.aload_n 0, 1) := dk_42 (dk_at dksX11_limps_2 3 rfl rfl)
theorem dX11_limps_51 : decode cX11_limps 51 = .ok (.getfield 49, 3) := dk_180 0 49 (dk_at dksX11_limps_2 4 rfl rfl)
theorem dX11_limps_54 : decode cX11_limps 54 = .ok (.iload_n 1, 1) := dk_27 (dk_at dksX11_limps_2 7 rfl rfl)
theorem dX11_limps_55 : decode cX11_limps 55 = .ok (.aaload, 1) := dk_50 (dk_at dksX11_limps_2 8 rfl rfl)
theorem dX11_limps_56 : decode cX11_limps 56 = .ok (.iconst 0, 1) := dk_3 (dk_at dksX11_limps_2 9 rfl rfl)
theorem dX11_limps_57 : decode cX11_limps 57 = .ok (.iload 4, 2) := dk_21 4 (dk_at dksX11_limps_2 10 rfl rfl)
theorem dX11_limps_59 : decode cX11_limps 59 = .ok (.iastore, 1) := dk_79 (dk_at dksX11_limps_2 12 rfl rfl)
theorem dX11_limps_60 : decode cX11_limps 60 = .ok (.iload_n 3, 1) := dk_29 (dk_at dksX11_limps_2 13 rfl rfl)
theorem dX11_limps_61 : decode cX11_limps 61 = .ok (.aload_n 0, 1) := dk_42 (dk_at dksX11_limps_2 14 rfl rfl)
theorem dX11_limps_62 : decode cX11_limps 62 = .ok (.invokevirtual 424, 3) := dk_182 1 168 (dk_at dksX11_limps_2 15 rfl rfl)
theorem dX11_limps_65 : decode cX11_limps 65 = .ok (.aload_n 0, 1) := dk_42 (dk_at dksX11_limps_2 18 rfl rfl)
theorem dX11_limps_66 : decode cX11_limps 66 = .ok (.getfield 273, 3) := dk_180 1 17 (dk_at dksX11_limps_2 19 rfl rfl)
theorem dX11_limps_69 : decode cX11_limps 69 = .ok (.if_icmp .ne 10, 3) := dk_160 0 10 (dk_at dksX11_limps_3 0 rfl rfl)
theorem dX11_limps_72 : decode cX11_limps 72 = .ok (.iconst 1, 1) := dk_4 (dk_at dksX11_limps_3 3 rfl rfl)
theorem dX11_limps_73 : decode cX11_limps 73 = .ok (.iload 4, 2) := dk_21 4 (dk_at dksX11_limps_3 4 rfl rfl)
theorem dX11_limps_75 : decode cX11_limps 75 = .ok (.ishl, 1) := dk_120 (dk_at dksX11_limps_3 6 rfl rfl)
theorem dX11_limps_76 : decode cX11_limps 76 = .ok (.goto 4, 3) := dk_167 0 4 (dk_at dksX11_limps_3 7 rfl rfl)
theorem dX11_limps_79 : decode cX11_limps 79 = .ok (.iconst 0, 1) := dk_3 (dk_at dksX11_limps_3 10 rfl rfl)
theorem dX11_limps_80 : decode cX11_limps 80 = .ok (.ior, 1) := dk_128 (dk_at dksX11_limps_3 11 rfl rfl)
theorem dX11_limps_81 : decode cX11_limps 81 = .ok (.istore_n 3, 1) := dk_62 (dk_at dksX11_limps_3 12 rfl rfl)
theorem dX11_limps_82 : decode cX11_limps 82 = .ok (.iinc 4 1, 3) := dk_132 4 1 (dk_at dksX11_limps_3 13 rfl rfl)
theorem dX11_limps_85 : decode cX11_limps 85 = .ok (.goto (-42), 3) := dk_167 255 214 (dk_at dksX11_limps_3 16 rfl rfl)
theorem dX11_limps_88 : decode cX11_limps 88 = .ok (.aload_n 0, 1) := dk_42 (dk_at dksX11_limps_3 19 rfl rfl)
theorem dX11_limps_89 : decode cX11_limps 89 = .ok (.getfield 49, 3) := dk_180 0 49 (dk_at dksX11_limps_3 20 rfl rfl)
theorem dX11_limps_92 : decode cX11_limps 92 = .ok (.iload_n 1, 1) := dk_27 (dk_at dksX11_limps_3 23 rfl rfl)
theorem dX11_limps_93 : decode cX11_limps 93 = .ok (.aaload, 1) := dk_50 (dk_at dksX11_limps_4 0 rfl rfl)
theorem dX11_limps_94 : decode cX11_limps 94 = .ok (.iconst 0, 1) := dk_3 (dk_at dksX11_limps_4 1 rfl rfl)
theorem dX11_limps_95 : decode cX11_limps 95 = .ok (.iload_n 2, 1) := dk_28 (dk_at dksX11_limps_4 2 rfl rfl)
theorem dX11_limps_96 : decode cX11_limps 96 = .ok (.iastore, 1) := dk_79 (dk_at dksX11_limps_4 3 rfl rfl)
theorem dX11_limps_97 : decode cX11_limps 97 = .ok (.iload_n 3, 1) := dk_29 (dk_at dksX11_limps_4 4 rfl rfl)
theorem dX11_limps_98 : decode cX11_limps 98 = .ok (.ireturn, 1) := dk_172 (dk_at dksX11_limps_4 5 rfl rfl)
abbrev cX11_nights : ByteArray := prog_22_method_112_code
def yX11_nights : MethodName := ⟨RX11, "nights", "()I"⟩
def dkwX11_nights_0 : List UInt8 := [42, 3, 181, 0, 134, 42, 182, 1, 174, 172]
abbrev dktX11_nights_0 : List UInt8 := dkwX11_nights_0 ++ []
theorem dksX11_nights_0 : cX11_nights.data.toList.drop 0 = dktX11_nights_0 := by decide +kernel
theorem dX11_nights_0 : decode cX11_nights 0 = .ok (.aload_n 0, 1) := dk_42 (dk_at dksX11_nights_0 0 rfl rfl)
theorem dX11_nights_1 : decode cX11_nights 1 = .ok (.iconst 0, 1) := dk_3 (dk_at dksX11_nights_0 1 rfl rfl)
theorem dX11_nights_2 : decode cX11_nights 2 = .ok (.putfield 134, 3) := dk_181 0 134 (dk_at dksX11_nights_0 2 rfl rfl)
theorem dX11_nights_5 : decode cX11_nights 5 = .ok (.aload_n 0, 1) := dk_42 (dk_at dksX11_nights_0 5 rfl rfl)
theorem dX11_nights_6 : decode cX11_nights 6 = .ok (.invokevirtual 430, 3) := dk_182 1 174 (dk_at dksX11_nights_0 6 rfl rfl)
theorem dX11_nights_9 : decode cX11_nights 9 = .ok (.ireturn, 1) := dk_172 (dk_at dksX11_nights_0 9 rfl rfl)
abbrev cX11_nightsNow : ByteArray := prog_22_method_111_code
def yX11_nightsNow : MethodName := ⟨RX11, "nightsNow", "()I"⟩
def dkwX11_nightsNow_1 : List UInt8 := [167, 255, 243, 27, 172]
abbrev dktX11_nightsNow_1 : List UInt8 := dkwX11_nightsNow_1 ++ []
def dkwX11_nightsNow_0 : List UInt8 := [3, 60, 42, 42, 180, 0, 91, 182, 1, 68, 61, 42, 3, 27, 28, 182, 1, 171, 154, 0, 9, 132, 1, 1]
abbrev dktX11_nightsNow_0 : List UInt8 := dkwX11_nightsNow_0 ++ dktX11_nightsNow_1
theorem dksX11_nightsNow_0 : cX11_nightsNow.data.toList.drop 0 = dktX11_nightsNow_0 := by decide +kernel
theorem dksX11_nightsNow_1 : cX11_nightsNow.data.toList.drop 24 = dktX11_nightsNow_1 := dk_seg dksX11_nightsNow_0 24 rfl rfl
theorem dX11_nightsNow_0 : decode cX11_nightsNow 0 = .ok (.iconst 0, 1) := dk_3 (dk_at dksX11_nightsNow_0 0 rfl rfl)
theorem dX11_nightsNow_1 : decode cX11_nightsNow 1 = .ok (.istore_n 1, 1) := dk_60 (dk_at dksX11_nightsNow_0 1 rfl rfl)
theorem dX11_nightsNow_2 : decode cX11_nightsNow 2 = .ok (.aload_n 0, 1) := dk_42 (dk_at dksX11_nightsNow_0 2 rfl rfl)
theorem dX11_nightsNow_3 : decode cX11_nightsNow 3 = .ok (.aload_n 0, 1) := dk_42 (dk_at dksX11_nightsNow_0 3 rfl rfl)
theorem dX11_nightsNow_4 : decode cX11_nightsNow 4 = .ok (.getfield 91, 3) := dk_180 0 91 (dk_at dksX11_nightsNow_0 4 rfl rfl)
theorem dX11_nightsNow_7 : decode cX11_nightsNow 7 = .ok (.invokevirtual 324, 3) := dk_182 1 68 (dk_at dksX11_nightsNow_0 7 rfl rfl)
theorem dX11_nightsNow_10 : decode cX11_nightsNow 10 = .ok (.istore_n 2, 1) := dk_61 (dk_at dksX11_nightsNow_0 10 rfl rfl)
theorem dX11_nightsNow_11 : decode cX11_nightsNow 11 = .ok (.aload_n 0, 1) := dk_42 (dk_at dksX11_nightsNow_0 11 rfl rfl)
theorem dX11_nightsNow_12 : decode cX11_nightsNow 12 = .ok (.iconst 0, 1) := dk_3 (dk_at dksX11_nightsNow_0 12 rfl rfl)
theorem dX11_nightsNow_13 : decode cX11_nightsNow 13 = .ok (.iload_n 1, 1) := dk_27 (dk_at dksX11_nightsNow_0 13 rfl rfl)
theorem dX11_nightsNow_14 : decode cX11_nightsNow 14 = .ok (.iload_n 2, 1) := dk_28 (dk_at dksX11_nightsNow_0 14 rfl rfl)
theorem dX11_nightsNow_15 : decode cX11_nightsNow 15 = .ok (.invokevirtual 427, 3) := dk_182 1 171 (dk_at dksX11_nightsNow_0 15 rfl rfl)
theorem dX11_nightsNow_18 : decode cX11_nightsNow 18 = .ok (.ifCond .ne 9, 3) := dk_154 0 9 (dk_at dksX11_nightsNow_0 18 rfl rfl)
theorem dX11_nightsNow_21 : decode cX11_nightsNow 21 = .ok (.iinc 1 1, 3) := dk_132 1 1 (dk_at dksX11_nightsNow_0 21 rfl rfl)
theorem dX11_nightsNow_24 : decode cX11_nightsNow 24 = .ok (.goto (-13), 3) := dk_167 255 243 (dk_at dksX11_nightsNow_1 0 rfl rfl)
theorem dX11_nightsNow_27 : decode cX11_nightsNow 27 = .ok (.iload_n 1, 1) := dk_27 (dk_at dksX11_nightsNow_1 3 rfl rfl)
theorem dX11_nightsNow_28 : decode cX11_nightsNow 28 = .ok (.ireturn, 1) := dk_172 (dk_at dksX11_nightsNow_1 4 rfl rfl)
abbrev cX11_sits : ByteArray := prog_22_method_110_code
def yX11_sits : MethodName := ⟨RX11, "sits", "(III)Z"⟩
def dkwX11_sits_6 : List UInt8 := [27, 2, 79, 3, 172]
abbrev dktX11_sits_6 : List UInt8 := dkwX11_sits_6 ++ []
def dkwX11_sits_5 : List UInt8 := [42, 27, 4, 96, 28, 29, 182, 1, 171, 153, 0, 5, 4, 172, 132, 4, 1, 167, 255, 161, 42, 180, 0, 125]
abbrev dktX11_sits_5 : List UInt8 := dkwX11_sits_5 ++ dktX11_sits_6
def dkwX11_sits_4 : List UInt8 := [54, 5, 132, 6, 1, 167, 255, 209, 21, 5, 154, 0, 6, 167, 0, 25, 42, 180, 0, 125, 27, 21, 4, 79]
abbrev dktX11_sits_4 : List UInt8 := dkwX11_sits_4 ++ dktX11_sits_5
def dkwX11_sits_3 : List UInt8 := [184, 0, 242, 153, 0, 15, 42, 180, 0, 125, 21, 6, 46, 21, 4, 159, 0, 7, 4, 167, 0, 4, 3]
abbrev dktX11_sits_3 : List UInt8 := dkwX11_sits_3 ++ dktX11_sits_4
def dkwX11_sits_2 : List UInt8 := [54, 5, 3, 54, 6, 21, 6, 27, 162, 0, 47, 21, 5, 153, 0, 33, 42, 180, 0, 41, 27, 46, 21, 6]
abbrev dktX11_sits_2 : List UInt8 := dkwX11_sits_2 ++ dktX11_sits_3
def dkwX11_sits_1 : List UInt8 := [154, 0, 13, 42, 27, 4, 96, 28, 29, 182, 1, 171, 172, 3, 54, 4, 21, 4, 28, 162, 0, 95, 4]
abbrev dktX11_sits_1 : List UInt8 := dkwX11_sits_1 ++ dktX11_sits_2
def dkwX11_sits_0 : List UInt8 := [27, 42, 180, 0, 23, 3, 46, 160, 0, 5, 4, 172, 42, 180, 0, 125, 27, 2, 79, 29, 27, 184, 0, 242]
abbrev dktX11_sits_0 : List UInt8 := dkwX11_sits_0 ++ dktX11_sits_1
theorem dksX11_sits_0 : cX11_sits.data.toList.drop 0 = dktX11_sits_0 := by decide +kernel
theorem dksX11_sits_1 : cX11_sits.data.toList.drop 24 = dktX11_sits_1 := dk_seg dksX11_sits_0 24 rfl rfl
theorem dksX11_sits_2 : cX11_sits.data.toList.drop 47 = dktX11_sits_2 := dk_seg dksX11_sits_1 23 rfl rfl
theorem dksX11_sits_3 : cX11_sits.data.toList.drop 71 = dktX11_sits_3 := dk_seg dksX11_sits_2 24 rfl rfl
theorem dksX11_sits_4 : cX11_sits.data.toList.drop 94 = dktX11_sits_4 := dk_seg dksX11_sits_3 23 rfl rfl
theorem dksX11_sits_5 : cX11_sits.data.toList.drop 118 = dktX11_sits_5 := dk_seg dksX11_sits_4 24 rfl rfl
theorem dksX11_sits_6 : cX11_sits.data.toList.drop 142 = dktX11_sits_6 := dk_seg dksX11_sits_5 24 rfl rfl
theorem dX11_sits_0 : decode cX11_sits 0 = .ok (.iload_n 1, 1) := dk_27 (dk_at dksX11_sits_0 0 rfl rfl)
theorem dX11_sits_1 : decode cX11_sits 1 = .ok (.aload_n 0, 1) := dk_42 (dk_at dksX11_sits_0 1 rfl rfl)
theorem dX11_sits_2 : decode cX11_sits 2 = .ok (.getfield 23, 3) := dk_180 0 23 (dk_at dksX11_sits_0 2 rfl rfl)
theorem dX11_sits_5 : decode cX11_sits 5 = .ok (.iconst 0, 1) := dk_3 (dk_at dksX11_sits_0 5 rfl rfl)
theorem dX11_sits_6 : decode cX11_sits 6 = .ok (.iaload, 1) := dk_46 (dk_at dksX11_sits_0 6 rfl rfl)
theorem dX11_sits_7 : decode cX11_sits 7 = .ok (.if_icmp .ne 5, 3) := dk_160 0 5 (dk_at dksX11_sits_0 7 rfl rfl)
theorem dX11_sits_10 : decode cX11_sits 10 = .ok (.iconst 1, 1) := dk_4 (dk_at dksX11_sits_0 10 rfl rfl)
theorem dX11_sits_11 : decode cX11_sits 11 = .ok (.ireturn, 1) := dk_172 (dk_at dksX11_sits_0 11 rfl rfl)
theorem dX11_sits_12 : decode cX11_sits 12 = .ok (.aload_n 0, 1) := dk_42 (dk_at dksX11_sits_0 12 rfl rfl)
theorem dX11_sits_13 : decode cX11_sits 13 = .ok (.getfield 125, 3) := dk_180 0 125 (dk_at dksX11_sits_0 13 rfl rfl)
theorem dX11_sits_16 : decode cX11_sits 16 = .ok (.iload_n 1, 1) := dk_27 (dk_at dksX11_sits_0 16 rfl rfl)
theorem dX11_sits_17 : decode cX11_sits 17 = .ok (.iconst (-1), 1) := dk_2 (dk_at dksX11_sits_0 17 rfl rfl)
theorem dX11_sits_18 : decode cX11_sits 18 = .ok (.iastore, 1) := dk_79 (dk_at dksX11_sits_0 18 rfl rfl)
theorem dX11_sits_19 : decode cX11_sits 19 = .ok (.iload_n 3, 1) := dk_29 (dk_at dksX11_sits_0 19 rfl rfl)
theorem dX11_sits_20 : decode cX11_sits 20 = .ok (.iload_n 1, 1) := dk_27 (dk_at dksX11_sits_0 20 rfl rfl)
theorem dX11_sits_21 : decode cX11_sits 21 = .ok (.invokestatic 242, 3) := dk_184 0 242 (dk_at dksX11_sits_0 21 rfl rfl)
theorem dX11_sits_24 : decode cX11_sits 24 = .ok (.ifCond .ne 13, 3) := dk_154 0 13 (dk_at dksX11_sits_1 0 rfl rfl)
theorem dX11_sits_27 : decode cX11_sits 27 = .ok (.aload_n 0, 1) := dk_42 (dk_at dksX11_sits_1 3 rfl rfl)
theorem dX11_sits_28 : decode cX11_sits 28 = .ok (.iload_n 1, 1) := dk_27 (dk_at dksX11_sits_1 4 rfl rfl)
theorem dX11_sits_29 : decode cX11_sits 29 = .ok (.iconst 1, 1) := dk_4 (dk_at dksX11_sits_1 5 rfl rfl)
theorem dX11_sits_30 : decode cX11_sits 30 = .ok (.iadd, 1) := dk_96 (dk_at dksX11_sits_1 6 rfl rfl)
theorem dX11_sits_31 : decode cX11_sits 31 = .ok (.iload_n 2, 1) := dk_28 (dk_at dksX11_sits_1 7 rfl rfl)
theorem dX11_sits_32 : decode cX11_sits 32 = .ok (.iload_n 3, 1) := dk_29 (dk_at dksX11_sits_1 8 rfl rfl)
theorem dX11_sits_33 : decode cX11_sits 33 = .ok (.invokevirtual 427, 3) := dk_182 1 171 (dk_at dksX11_sits_1 9 rfl rfl)
theorem dX11_sits_36 : decode cX11_sits 36 = .ok (.ireturn, 1) := dk_172 (dk_at dksX11_sits_1 12 rfl rfl)
theorem dX11_sits_37 : decode cX11_sits 37 = .ok (.iconst 0, 1) := dk_3 (dk_at dksX11_sits_1 13 rfl rfl)
theorem dX11_sits_38 : decode cX11_sits 38 = .ok (.istore 4, 2) := dk_54 4 (dk_at dksX11_sits_1 14 rfl rfl)
theorem dX11_sits_40 : decode cX11_sits 40 = .ok (.iload 4, 2) := dk_21 4 (dk_at dksX11_sits_1 16 rfl rfl)
theorem dX11_sits_42 : decode cX11_sits 42 = .ok (.iload_n 2, 1) := dk_28 (dk_at dksX11_sits_1 18 rfl rfl)
theorem dX11_sits_43 : decode cX11_sits 43 = .ok (.if_icmp .ge 95, 3) := dk_162 0 95 (dk_at dksX11_sits_1 19 rfl rfl)
theorem dX11_sits_46 : decode cX11_sits 46 = .ok (.iconst 1, 1) := dk_4 (dk_at dksX11_sits_1 22 rfl rfl)
theorem dX11_sits_47 : decode cX11_sits 47 = .ok (.istore 5, 2) := dk_54 5 (dk_at dksX11_sits_2 0 rfl rfl)
theorem dX11_sits_49 : decode cX11_sits 49 = .ok (.iconst 0, 1) := dk_3 (dk_at dksX11_sits_2 2 rfl rfl)
theorem dX11_sits_50 : decode cX11_sits 50 = .ok (.istore 6, 2) := dk_54 6 (dk_at dksX11_sits_2 3 rfl rfl)
theorem dX11_sits_52 : decode cX11_sits 52 = .ok (.iload 6, 2) := dk_21 6 (dk_at dksX11_sits_2 5 rfl rfl)
theorem dX11_sits_54 : decode cX11_sits 54 = .ok (.iload_n 1, 1) := dk_27 (dk_at dksX11_sits_2 7 rfl rfl)
theorem dX11_sits_55 : decode cX11_sits 55 = .ok (.if_icmp .ge 47, 3) := dk_162 0 47 (dk_at dksX11_sits_2 8 rfl rfl)
theorem dX11_sits_58 : decode cX11_sits 58 = .ok (.iload 5, 2) := dk_21 5 (dk_at dksX11_sits_2 11 rfl rfl)
theorem dX11_sits_60 : decode cX11_sits 60 = .ok (.ifCond .eq 33, 3) := dk_153 0 33 (dk_at dksX11_sits_2 13 rfl rfl)
theorem dX11_sits_63 : decode cX11_sits 63 = .ok (.aload_n 0, 1) := dk_42 (dk_at dksX11_sits_2 16 rfl rfl)
theorem dX11_sits_64 : decode cX11_sits 64 = .ok (.getfield 41, 3) := dk_180 0 41 (dk_at dksX11_sits_2 17 rfl rfl)
theorem dX11_sits_67 : decode cX11_sits 67 = .ok (.iload_n 1, 1) := dk_27 (dk_at dksX11_sits_2 20 rfl rfl)
theorem dX11_sits_68 : decode cX11_sits 68 = .ok (.iaload, 1) := dk_46 (dk_at dksX11_sits_2 21 rfl rfl)
theorem dX11_sits_69 : decode cX11_sits 69 = .ok (.iload 6, 2) := dk_21 6 (dk_at dksX11_sits_2 22 rfl rfl)
theorem dX11_sits_71 : decode cX11_sits 71 = .ok (.invokestatic 242, 3) := dk_184 0 242 (dk_at dksX11_sits_3 0 rfl rfl)
theorem dX11_sits_74 : decode cX11_sits 74 = .ok (.ifCond .eq 15, 3) := dk_153 0 15 (dk_at dksX11_sits_3 3 rfl rfl)
theorem dX11_sits_77 : decode cX11_sits 77 = .ok (.aload_n 0, 1) := dk_42 (dk_at dksX11_sits_3 6 rfl rfl)
theorem dX11_sits_78 : decode cX11_sits 78 = .ok (.getfield 125, 3) := dk_180 0 125 (dk_at dksX11_sits_3 7 rfl rfl)
theorem dX11_sits_81 : decode cX11_sits 81 = .ok (.iload 6, 2) := dk_21 6 (dk_at dksX11_sits_3 10 rfl rfl)
theorem dX11_sits_83 : decode cX11_sits 83 = .ok (.iaload, 1) := dk_46 (dk_at dksX11_sits_3 12 rfl rfl)
theorem dX11_sits_84 : decode cX11_sits 84 = .ok (.iload 4, 2) := dk_21 4 (dk_at dksX11_sits_3 13 rfl rfl)
theorem dX11_sits_86 : decode cX11_sits 86 = .ok (.if_icmp .eq 7, 3) := dk_159 0 7 (dk_at dksX11_sits_3 15 rfl rfl)
theorem dX11_sits_89 : decode cX11_sits 89 = .ok (.iconst 1, 1) := dk_4 (dk_at dksX11_sits_3 18 rfl rfl)
theorem dX11_sits_90 : decode cX11_sits 90 = .ok (.goto 4, 3) := dk_167 0 4 (dk_at dksX11_sits_3 19 rfl rfl)
theorem dX11_sits_93 : decode cX11_sits 93 = .ok (.iconst 0, 1) := dk_3 (dk_at dksX11_sits_3 22 rfl rfl)
theorem dX11_sits_94 : decode cX11_sits 94 = .ok (.istore 5, 2) := dk_54 5 (dk_at dksX11_sits_4 0 rfl rfl)
theorem dX11_sits_96 : decode cX11_sits 96 = .ok (.iinc 6 1, 3) := dk_132 6 1 (dk_at dksX11_sits_4 2 rfl rfl)
theorem dX11_sits_99 : decode cX11_sits 99 = .ok (.goto (-47), 3) := dk_167 255 209 (dk_at dksX11_sits_4 5 rfl rfl)
theorem dX11_sits_102 : decode cX11_sits 102 = .ok (.iload 5, 2) := dk_21 5 (dk_at dksX11_sits_4 8 rfl rfl)
theorem dX11_sits_104 : decode cX11_sits 104 = .ok (.ifCond .ne 6, 3) := dk_154 0 6 (dk_at dksX11_sits_4 10 rfl rfl)
theorem dX11_sits_107 : decode cX11_sits 107 = .ok (.goto 25, 3) := dk_167 0 25 (dk_at dksX11_sits_4 13 rfl rfl)
theorem dX11_sits_110 : decode cX11_sits 110 = .ok (.aload_n 0, 1) := dk_42 (dk_at dksX11_sits_4 16 rfl rfl)
theorem dX11_sits_111 : decode cX11_sits 111 = .ok (.getfield 125, 3) := dk_180 0 125 (dk_at dksX11_sits_4 17 rfl rfl)
theorem dX11_sits_114 : decode cX11_sits 114 = .ok (.iload_n 1, 1) := dk_27 (dk_at dksX11_sits_4 20 rfl rfl)
theorem dX11_sits_115 : decode cX11_sits 115 = .ok (.iload 4, 2) := dk_21 4 (dk_at dksX11_sits_4 21 rfl rfl)
theorem dX11_sits_117 : decode cX11_sits 117 = .ok (.iastore, 1) := dk_79 (dk_at dksX11_sits_4 23 rfl rfl)
theorem dX11_sits_118 : decode cX11_sits 118 = .ok (.aload_n 0, 1) := dk_42 (dk_at dksX11_sits_5 0 rfl rfl)
theorem dX11_sits_119 : decode cX11_sits 119 = .ok (.iload_n 1, 1) := dk_27 (dk_at dksX11_sits_5 1 rfl rfl)
theorem dX11_sits_120 : decode cX11_sits 120 = .ok (.iconst 1, 1) := dk_4 (dk_at dksX11_sits_5 2 rfl rfl)
theorem dX11_sits_121 : decode cX11_sits 121 = .ok (.iadd, 1) := dk_96 (dk_at dksX11_sits_5 3 rfl rfl)
theorem dX11_sits_122 : decode cX11_sits 122 = .ok (.iload_n 2, 1) := dk_28 (dk_at dksX11_sits_5 4 rfl rfl)
theorem dX11_sits_123 : decode cX11_sits 123 = .ok (.iload_n 3, 1) := dk_29 (dk_at dksX11_sits_5 5 rfl rfl)
theorem dX11_sits_124 : decode cX11_sits 124 = .ok (.invokevirtual 427, 3) := dk_182 1 171 (dk_at dksX11_sits_5 6 rfl rfl)
theorem dX11_sits_127 : decode cX11_sits 127 = .ok (.ifCond .eq 5, 3) := dk_153 0 5 (dk_at dksX11_sits_5 9 rfl rfl)
theorem dX11_sits_130 : decode cX11_sits 130 = .ok (.iconst 1, 1) := dk_4 (dk_at dksX11_sits_5 12 rfl rfl)
theorem dX11_sits_131 : decode cX11_sits 131 = .ok (.ireturn, 1) := dk_172 (dk_at dksX11_sits_5 13 rfl rfl)
theorem dX11_sits_132 : decode cX11_sits 132 = .ok (.iinc 4 1, 3) := dk_132 4 1 (dk_at dksX11_sits_5 14 rfl rfl)
theorem dX11_sits_135 : decode cX11_sits 135 = .ok (.goto (-95), 3) := dk_167 255 161 (dk_at dksX11_sits_5 17 rfl rfl)
theorem dX11_sits_138 : decode cX11_sits 138 = .ok (.aload_n 0, 1) := dk_42 (dk_at dksX11_sits_5 20 rfl rfl)
theorem dX11_sits_139 : decode cX11_sits 139 = .ok (.getfield 125, 3) := dk_180 0 125 (dk_at dksX11_sits_5 21 rfl rfl)
theorem dX11_sits_142 : decode cX11_sits 142 = .ok (.iload_n 1, 1) := dk_27 (dk_at dksX11_sits_6 0 rfl rfl)
theorem dX11_sits_143 : decode cX11_sits 143 = .ok (.iconst (-1), 1) := dk_2 (dk_at dksX11_sits_6 1 rfl rfl)
theorem dX11_sits_144 : decode cX11_sits 144 = .ok (.iastore, 1) := dk_79 (dk_at dksX11_sits_6 2 rfl rfl)
theorem dX11_sits_145 : decode cX11_sits 145 = .ok (.iconst 0, 1) := dk_3 (dk_at dksX11_sits_6 3 rfl rfl)
theorem dX11_sits_146 : decode cX11_sits 146 = .ok (.ireturn, 1) := dk_172 (dk_at dksX11_sits_6 4 rfl rfl)
abbrev cX11_night : ByteArray := prog_22_method_113_code
def yX11_night : MethodName := ⟨RX11, "night", "(I)I"⟩
def dkwX11_night_1 : List UInt8 := [153, 0, 5, 3, 172, 42, 182, 1, 174, 87, 42, 180, 0, 125, 27, 46, 172]
abbrev dktX11_night_1 : List UInt8 := dkwX11_night_1 ++ []
def dkwX11_night_0 : List UInt8 := [42, 3, 181, 0, 134, 42, 42, 27, 182, 1, 75, 154, 0, 7, 4, 167, 0, 4, 3, 4, 3, 182, 0, 249]
abbrev dktX11_night_0 : List UInt8 := dkwX11_night_0 ++ dktX11_night_1
theorem dksX11_night_0 : cX11_night.data.toList.drop 0 = dktX11_night_0 := by decide +kernel
theorem dksX11_night_1 : cX11_night.data.toList.drop 24 = dktX11_night_1 := dk_seg dksX11_night_0 24 rfl rfl
theorem dX11_night_0 : decode cX11_night 0 = .ok (.aload_n 0, 1) := dk_42 (dk_at dksX11_night_0 0 rfl rfl)
theorem dX11_night_1 : decode cX11_night 1 = .ok (.iconst 0, 1) := dk_3 (dk_at dksX11_night_0 1 rfl rfl)
theorem dX11_night_2 : decode cX11_night 2 = .ok (.putfield 134, 3) := dk_181 0 134 (dk_at dksX11_night_0 2 rfl rfl)
theorem dX11_night_5 : decode cX11_night 5 = .ok (.aload_n 0, 1) := dk_42 (dk_at dksX11_night_0 5 rfl rfl)
theorem dX11_night_6 : decode cX11_night 6 = .ok (.aload_n 0, 1) := dk_42 (dk_at dksX11_night_0 6 rfl rfl)
theorem dX11_night_7 : decode cX11_night 7 = .ok (.iload_n 1, 1) := dk_27 (dk_at dksX11_night_0 7 rfl rfl)
theorem dX11_night_8 : decode cX11_night 8 = .ok (.invokevirtual 331, 3) := dk_182 1 75 (dk_at dksX11_night_0 8 rfl rfl)
theorem dX11_night_11 : decode cX11_night 11 = .ok (.ifCond .ne 7, 3) := dk_154 0 7 (dk_at dksX11_night_0 11 rfl rfl)
theorem dX11_night_14 : decode cX11_night 14 = .ok (.iconst 1, 1) := dk_4 (dk_at dksX11_night_0 14 rfl rfl)
theorem dX11_night_15 : decode cX11_night 15 = .ok (.goto 4, 3) := dk_167 0 4 (dk_at dksX11_night_0 15 rfl rfl)
theorem dX11_night_18 : decode cX11_night 18 = .ok (.iconst 0, 1) := dk_3 (dk_at dksX11_night_0 18 rfl rfl)
theorem dX11_night_19 : decode cX11_night 19 = .ok (.iconst 1, 1) := dk_4 (dk_at dksX11_night_0 19 rfl rfl)
theorem dX11_night_20 : decode cX11_night 20 = .ok (.iconst 0, 1) := dk_3 (dk_at dksX11_night_0 20 rfl rfl)
theorem dX11_night_21 : decode cX11_night 21 = .ok (.invokevirtual 249, 3) := dk_182 0 249 (dk_at dksX11_night_0 21 rfl rfl)
theorem dX11_night_24 : decode cX11_night 24 = .ok (.ifCond .eq 5, 3) := dk_153 0 5 (dk_at dksX11_night_1 0 rfl rfl)
theorem dX11_night_27 : decode cX11_night 27 = .ok (.iconst 0, 1) := dk_3 (dk_at dksX11_night_1 3 rfl rfl)
theorem dX11_night_28 : decode cX11_night 28 = .ok (.ireturn, 1) := dk_172 (dk_at dksX11_night_1 4 rfl rfl)
theorem dX11_night_29 : decode cX11_night 29 = .ok (.aload_n 0, 1) := dk_42 (dk_at dksX11_night_1 5 rfl rfl)
theorem dX11_night_30 : decode cX11_night 30 = .ok (.invokevirtual 430, 3) := dk_182 1 174 (dk_at dksX11_night_1 6 rfl rfl)
theorem dX11_night_33 : decode cX11_night 33 = .ok (.pop, 1) := dk_87 (dk_at dksX11_night_1 9 rfl rfl)
theorem dX11_night_34 : decode cX11_night 34 = .ok (.aload_n 0, 1) := dk_42 (dk_at dksX11_night_1 10 rfl rfl)
theorem dX11_night_35 : decode cX11_night 35 = .ok (.getfield 125, 3) := dk_180 0 125 (dk_at dksX11_night_1 11 rfl rfl)
theorem dX11_night_38 : decode cX11_night 38 = .ok (.iload_n 1, 1) := dk_27 (dk_at dksX11_night_1 14 rfl rfl)
theorem dX11_night_39 : decode cX11_night 39 = .ok (.iaload, 1) := dk_46 (dk_at dksX11_night_1 15 rfl rfl)
theorem dX11_night_40 : decode cX11_night 40 = .ok (.ireturn, 1) := dk_172 (dk_at dksX11_night_1 16 rfl rfl)
abbrev cX11_speaks : ByteArray := prog_22_method_114_code
def yX11_speaks : MethodName := ⟨RX11, "speaks", "()I"⟩
def dkwX11_speaks_3 : List UInt8 := [96, 60, 132, 3, 1, 167, 255, 203, 132, 2, 1, 167, 255, 185, 27, 172]
abbrev dktX11_speaks_3 : List UInt8 := dkwX11_speaks_3 ++ []
def dkwX11_speaks_2 : List UInt8 := [182, 1, 64, 153, 0, 20, 42, 180, 0, 41, 28, 46, 29, 184, 0, 242, 154, 0, 7, 4, 167, 0, 4, 3]
abbrev dktX11_speaks_2 : List UInt8 := dkwX11_speaks_2 ++ dktX11_speaks_3
def dkwX11_speaks_1 : List UInt8 := [162, 0, 54, 27, 42, 42, 180, 0, 91, 28, 182, 1, 64, 153, 0, 32, 42, 42, 180, 0, 91, 29]
abbrev dktX11_speaks_1 : List UInt8 := dkwX11_speaks_1 ++ dktX11_speaks_2
def dkwX11_speaks_0 : List UInt8 := [42, 3, 181, 0, 134, 3, 60, 3, 61, 28, 42, 180, 0, 23, 3, 46, 162, 0, 67, 3, 62, 29, 28]
abbrev dktX11_speaks_0 : List UInt8 := dkwX11_speaks_0 ++ dktX11_speaks_1
theorem dksX11_speaks_0 : cX11_speaks.data.toList.drop 0 = dktX11_speaks_0 := by decide +kernel
theorem dksX11_speaks_1 : cX11_speaks.data.toList.drop 23 = dktX11_speaks_1 := dk_seg dksX11_speaks_0 23 rfl rfl
theorem dksX11_speaks_2 : cX11_speaks.data.toList.drop 45 = dktX11_speaks_2 := dk_seg dksX11_speaks_1 22 rfl rfl
theorem dksX11_speaks_3 : cX11_speaks.data.toList.drop 69 = dktX11_speaks_3 := dk_seg dksX11_speaks_2 24 rfl rfl
theorem dX11_speaks_0 : decode cX11_speaks 0 = .ok (.aload_n 0, 1) := dk_42 (dk_at dksX11_speaks_0 0 rfl rfl)
theorem dX11_speaks_1 : decode cX11_speaks 1 = .ok (.iconst 0, 1) := dk_3 (dk_at dksX11_speaks_0 1 rfl rfl)
theorem dX11_speaks_2 : decode cX11_speaks 2 = .ok (.putfield 134, 3) := dk_181 0 134 (dk_at dksX11_speaks_0 2 rfl rfl)
theorem dX11_speaks_5 : decode cX11_speaks 5 = .ok (.iconst 0, 1) := dk_3 (dk_at dksX11_speaks_0 5 rfl rfl)
theorem dX11_speaks_6 : decode cX11_speaks 6 = .ok (.istore_n 1, 1) := dk_60 (dk_at dksX11_speaks_0 6 rfl rfl)
theorem dX11_speaks_7 : decode cX11_speaks 7 = .ok (.iconst 0, 1) := dk_3 (dk_at dksX11_speaks_0 7 rfl rfl)
theorem dX11_speaks_8 : decode cX11_speaks 8 = .ok (.istore_n 2, 1) := dk_61 (dk_at dksX11_speaks_0 8 rfl rfl)
theorem dX11_speaks_9 : decode cX11_speaks 9 = .ok (.iload_n 2, 1) := dk_28 (dk_at dksX11_speaks_0 9 rfl rfl)
theorem dX11_speaks_10 : decode cX11_speaks 10 = .ok (.aload_n 0, 1) := dk_42 (dk_at dksX11_speaks_0 10 rfl rfl)
theorem dX11_speaks_11 : decode cX11_speaks 11 = .ok (.getfield 23, 3) := dk_180 0 23 (dk_at dksX11_speaks_0 11 rfl rfl)
theorem dX11_speaks_14 : decode cX11_speaks 14 = .ok (.iconst 0, 1) := dk_3 (dk_at dksX11_speaks_0 14 rfl rfl)
theorem dX11_speaks_15 : decode cX11_speaks 15 = .ok (.iaload, 1) := dk_46 (dk_at dksX11_speaks_0 15 rfl rfl)
theorem dX11_speaks_16 : decode cX11_speaks 16 = .ok (.if_icmp .ge 67, 3) := dk_162 0 67 (dk_at dksX11_speaks_0 16 rfl rfl)
theorem dX11_speaks_19 : decode cX11_speaks 19 = .ok (.iconst 0, 1) := dk_3 (dk_at dksX11_speaks_0 19 rfl rfl)
theorem dX11_speaks_20 : decode cX11_speaks 20 = .ok (.istore_n 3, 1) := dk_62 (dk_at dksX11_speaks_0 20 rfl rfl)
theorem dX11_speaks_21 : decode cX11_speaks 21 = .ok (.iload_n 3, 1) := dk_29 (dk_at dksX11_speaks_0 21 rfl rfl)
theorem dX11_speaks_22 : decode cX11_speaks 22 = .ok (.iload_n 2, 1) := dk_28 (dk_at dksX11_speaks_0 22 rfl rfl)
theorem dX11_speaks_23 : decode cX11_speaks 23 = .ok (.if_icmp .ge 54, 3) := dk_162 0 54 (dk_at dksX11_speaks_1 0 rfl rfl)
theorem dX11_speaks_26 : decode cX11_speaks 26 = .ok (.iload_n 1, 1) := dk_27 (dk_at dksX11_speaks_1 3 rfl rfl)
theorem dX11_speaks_27 : decode cX11_speaks 27 = .ok (.aload_n 0, 1) := dk_42 (dk_at dksX11_speaks_1 4 rfl rfl)
theorem dX11_speaks_28 : decode cX11_speaks 28 = .ok (.aload_n 0, 1) := dk_42 (dk_at dksX11_speaks_1 5 rfl rfl)
theorem dX11_speaks_29 : decode cX11_speaks 29 = .ok (.getfield 91, 3) := dk_180 0 91 (dk_at dksX11_speaks_1 6 rfl rfl)
theorem dX11_speaks_32 : decode cX11_speaks 32 = .ok (.iload_n 2, 1) := dk_28 (dk_at dksX11_speaks_1 9 rfl rfl)
theorem dX11_speaks_33 : decode cX11_speaks 33 = .ok (.invokevirtual 320, 3) := dk_182 1 64 (dk_at dksX11_speaks_1 10 rfl rfl)
theorem dX11_speaks_36 : decode cX11_speaks 36 = .ok (.ifCond .eq 32, 3) := dk_153 0 32 (dk_at dksX11_speaks_1 13 rfl rfl)
theorem dX11_speaks_39 : decode cX11_speaks 39 = .ok (.aload_n 0, 1) := dk_42 (dk_at dksX11_speaks_1 16 rfl rfl)
theorem dX11_speaks_40 : decode cX11_speaks 40 = .ok (.aload_n 0, 1) := dk_42 (dk_at dksX11_speaks_1 17 rfl rfl)
theorem dX11_speaks_41 : decode cX11_speaks 41 = .ok (.getfield 91, 3) := dk_180 0 91 (dk_at dksX11_speaks_1 18 rfl rfl)
theorem dX11_speaks_44 : decode cX11_speaks 44 = .ok (.iload_n 3, 1) := dk_29 (dk_at dksX11_speaks_1 21 rfl rfl)
theorem dX11_speaks_45 : decode cX11_speaks 45 = .ok (.invokevirtual 320, 3) := dk_182 1 64 (dk_at dksX11_speaks_2 0 rfl rfl)
theorem dX11_speaks_48 : decode cX11_speaks 48 = .ok (.ifCond .eq 20, 3) := dk_153 0 20 (dk_at dksX11_speaks_2 3 rfl rfl)
theorem dX11_speaks_51 : decode cX11_speaks 51 = .ok (.aload_n 0, 1) := dk_42 (dk_at dksX11_speaks_2 6 rfl rfl)
theorem dX11_speaks_52 : decode cX11_speaks 52 = .ok (.getfield 41, 3) := dk_180 0 41 (dk_at dksX11_speaks_2 7 rfl rfl)
theorem dX11_speaks_55 : decode cX11_speaks 55 = .ok (.iload_n 2, 1) := dk_28 (dk_at dksX11_speaks_2 10 rfl rfl)
theorem dX11_speaks_56 : decode cX11_speaks 56 = .ok (.iaload, 1) := dk_46 (dk_at dksX11_speaks_2 11 rfl rfl)
theorem dX11_speaks_57 : decode cX11_speaks 57 = .ok (.iload_n 3, 1) := dk_29 (dk_at dksX11_speaks_2 12 rfl rfl)
theorem dX11_speaks_58 : decode cX11_speaks 58 = .ok (.invokestatic 242, 3) := dk_184 0 242 (dk_at dksX11_speaks_2 13 rfl rfl)
theorem dX11_speaks_61 : decode cX11_speaks 61 = .ok (.ifCond .ne 7, 3) := dk_154 0 7 (dk_at dksX11_speaks_2 16 rfl rfl)
theorem dX11_speaks_64 : decode cX11_speaks 64 = .ok (.iconst 1, 1) := dk_4 (dk_at dksX11_speaks_2 19 rfl rfl)
theorem dX11_speaks_65 : decode cX11_speaks 65 = .ok (.goto 4, 3) := dk_167 0 4 (dk_at dksX11_speaks_2 20 rfl rfl)
theorem dX11_speaks_68 : decode cX11_speaks 68 = .ok (.iconst 0, 1) := dk_3 (dk_at dksX11_speaks_2 23 rfl rfl)
theorem dX11_speaks_69 : decode cX11_speaks 69 = .ok (.iadd, 1) := dk_96 (dk_at dksX11_speaks_3 0 rfl rfl)
theorem dX11_speaks_70 : decode cX11_speaks 70 = .ok (.istore_n 1, 1) := dk_60 (dk_at dksX11_speaks_3 1 rfl rfl)
theorem dX11_speaks_71 : decode cX11_speaks 71 = .ok (.iinc 3 1, 3) := dk_132 3 1 (dk_at dksX11_speaks_3 2 rfl rfl)
theorem dX11_speaks_74 : decode cX11_speaks 74 = .ok (.goto (-53), 3) := dk_167 255 203 (dk_at dksX11_speaks_3 5 rfl rfl)
theorem dX11_speaks_77 : decode cX11_speaks 77 = .ok (.iinc 2 1, 3) := dk_132 2 1 (dk_at dksX11_speaks_3 8 rfl rfl)
theorem dX11_speaks_80 : decode cX11_speaks 80 = .ok (.goto (-71), 3) := dk_167 255 185 (dk_at dksX11_speaks_3 11 rfl rfl)
theorem dX11_speaks_83 : decode cX11_speaks 83 = .ok (.iload_n 1, 1) := dk_27 (dk_at dksX11_speaks_3 14 rfl rfl)
theorem dX11_speaks_84 : decode cX11_speaks 84 = .ok (.ireturn, 1) := dk_172 (dk_at dksX11_speaks_3 15 rfl rfl)
abbrev cX11_fair : ByteArray := prog_22_method_115_code
def yX11_fair : MethodName := ⟨RX11, "fair", "(I)I"⟩
def dkwX11_fair_6 : List UInt8 := [172]
abbrev dktX11_fair_6 : List UInt8 := dkwX11_fair_6 ++ []
def dkwX11_fair_5 : List UInt8 := [21, 4, 42, 180, 0, 91, 16, 9, 29, 96, 46, 100, 184, 1, 57, 96, 61, 132, 3, 1, 167, 255, 161, 28]
abbrev dktX11_fair_5 : List UInt8 := dkwX11_fair_5 ++ dktX11_fair_6
def dkwX11_fair_4 : List UInt8 := [180, 0, 61, 21, 5, 50, 3, 46, 167, 0, 4, 3, 96, 54, 4, 132, 5, 1, 167, 255, 202, 28, 3]
abbrev dktX11_fair_4 : List UInt8 := dkwX11_fair_4 ++ dktX11_fair_5
def dkwX11_fair_3 : List UInt8 := [27, 21, 5, 184, 0, 242, 153, 0, 28, 42, 21, 5, 182, 1, 91, 29, 184, 0, 242, 153, 0, 15, 42]
abbrev dktX11_fair_3 : List UInt8 := dkwX11_fair_3 ++ dktX11_fair_4
def dkwX11_fair_2 : List UInt8 := [4, 46, 162, 0, 91, 3, 54, 4, 3, 54, 5, 21, 5, 42, 180, 0, 23, 5, 46, 162, 0, 49, 21, 4]
abbrev dktX11_fair_2 : List UInt8 := dkwX11_fair_2 ++ dktX11_fair_3
def dkwX11_fair_1 : List UInt8 := [4, 167, 0, 4, 3, 4, 4, 182, 0, 249, 153, 0, 5, 3, 172, 3, 61, 3, 62, 29, 42, 180, 0, 23]
abbrev dktX11_fair_1 : List UInt8 := dkwX11_fair_1 ++ dktX11_fair_2
def dkwX11_fair_0 : List UInt8 := [42, 3, 181, 0, 134, 42, 27, 3, 4, 42, 180, 0, 23, 5, 46, 120, 4, 100, 184, 0, 168, 154, 0, 7]
abbrev dktX11_fair_0 : List UInt8 := dkwX11_fair_0 ++ dktX11_fair_1
theorem dksX11_fair_0 : cX11_fair.data.toList.drop 0 = dktX11_fair_0 := by decide +kernel
theorem dksX11_fair_1 : cX11_fair.data.toList.drop 24 = dktX11_fair_1 := dk_seg dksX11_fair_0 24 rfl rfl
theorem dksX11_fair_2 : cX11_fair.data.toList.drop 48 = dktX11_fair_2 := dk_seg dksX11_fair_1 24 rfl rfl
theorem dksX11_fair_3 : cX11_fair.data.toList.drop 72 = dktX11_fair_3 := dk_seg dksX11_fair_2 24 rfl rfl
theorem dksX11_fair_4 : cX11_fair.data.toList.drop 95 = dktX11_fair_4 := dk_seg dksX11_fair_3 23 rfl rfl
theorem dksX11_fair_5 : cX11_fair.data.toList.drop 118 = dktX11_fair_5 := dk_seg dksX11_fair_4 23 rfl rfl
theorem dksX11_fair_6 : cX11_fair.data.toList.drop 142 = dktX11_fair_6 := dk_seg dksX11_fair_5 24 rfl rfl
theorem dX11_fair_0 : decode cX11_fair 0 = .ok (.aload_n 0, 1) := dk_42 (dk_at dksX11_fair_0 0 rfl rfl)
theorem dX11_fair_1 : decode cX11_fair 1 = .ok (.iconst 0, 1) := dk_3 (dk_at dksX11_fair_0 1 rfl rfl)
theorem dX11_fair_2 : decode cX11_fair 2 = .ok (.putfield 134, 3) := dk_181 0 134 (dk_at dksX11_fair_0 2 rfl rfl)
theorem dX11_fair_5 : decode cX11_fair 5 = .ok (.aload_n 0, 1) := dk_42 (dk_at dksX11_fair_0 5 rfl rfl)
theorem dX11_fair_6 : decode cX11_fair 6 = .ok (.iload_n 1, 1) := dk_27 (dk_at dksX11_fair_0 6 rfl rfl)
theorem dX11_fair_7 : decode cX11_fair 7 = .ok (.iconst 0, 1) := dk_3 (dk_at dksX11_fair_0 7 rfl rfl)
theorem dX11_fair_8 : decode cX11_fair 8 = .ok (.iconst 1, 1) := dk_4 (dk_at dksX11_fair_0 8 rfl rfl)
theorem dX11_fair_9 : decode cX11_fair 9 = .ok (.aload_n 0, 1) := dk_42 (dk_at dksX11_fair_0 9 rfl rfl)
theorem dX11_fair_10 : decode cX11_fair 10 = .ok (.getfield 23, 3) := dk_180 0 23 (dk_at dksX11_fair_0 10 rfl rfl)
theorem dX11_fair_13 : decode cX11_fair 13 = .ok (.iconst 2, 1) := dk_5 (dk_at dksX11_fair_0 13 rfl rfl)
theorem dX11_fair_14 : decode cX11_fair 14 = .ok (.iaload, 1) := dk_46 (dk_at dksX11_fair_0 14 rfl rfl)
theorem dX11_fair_15 : decode cX11_fair 15 = .ok (.ishl, 1) := dk_120 (dk_at dksX11_fair_0 15 rfl rfl)
theorem dX11_fair_16 : decode cX11_fair 16 = .ok (.iconst 1, 1) := dk_4 (dk_at dksX11_fair_0 16 rfl rfl)
theorem dX11_fair_17 : decode cX11_fair 17 = .ok (.isub, 1) := dk_100 (dk_at dksX11_fair_0 17 rfl rfl)
theorem dX11_fair_18 : decode cX11_fair 18 = .ok (.invokestatic 168, 3) := dk_184 0 168 (dk_at dksX11_fair_0 18 rfl rfl)
theorem dX11_fair_21 : decode cX11_fair 21 = .ok (.ifCond .ne 7, 3) := dk_154 0 7 (dk_at dksX11_fair_0 21 rfl rfl)
theorem dX11_fair_24 : decode cX11_fair 24 = .ok (.iconst 1, 1) := dk_4 (dk_at dksX11_fair_1 0 rfl rfl)
theorem dX11_fair_25 : decode cX11_fair 25 = .ok (.goto 4, 3) := dk_167 0 4 (dk_at dksX11_fair_1 1 rfl rfl)
theorem dX11_fair_28 : decode cX11_fair 28 = .ok (.iconst 0, 1) := dk_3 (dk_at dksX11_fair_1 4 rfl rfl)
theorem dX11_fair_29 : decode cX11_fair 29 = .ok (.iconst 1, 1) := dk_4 (dk_at dksX11_fair_1 5 rfl rfl)
theorem dX11_fair_30 : decode cX11_fair 30 = .ok (.iconst 1, 1) := dk_4 (dk_at dksX11_fair_1 6 rfl rfl)
theorem dX11_fair_31 : decode cX11_fair 31 = .ok (.invokevirtual 249, 3) := dk_182 0 249 (dk_at dksX11_fair_1 7 rfl rfl)
theorem dX11_fair_34 : decode cX11_fair 34 = .ok (.ifCond .eq 5, 3) := dk_153 0 5 (dk_at dksX11_fair_1 10 rfl rfl)
theorem dX11_fair_37 : decode cX11_fair 37 = .ok (.iconst 0, 1) := dk_3 (dk_at dksX11_fair_1 13 rfl rfl)
theorem dX11_fair_38 : decode cX11_fair 38 = .ok (.ireturn, 1) := dk_172 (dk_at dksX11_fair_1 14 rfl rfl)
theorem dX11_fair_39 : decode cX11_fair 39 = .ok (.iconst 0, 1) := dk_3 (dk_at dksX11_fair_1 15 rfl rfl)
theorem dX11_fair_40 : decode cX11_fair 40 = .ok (.istore_n 2, 1) := dk_61 (dk_at dksX11_fair_1 16 rfl rfl)
theorem dX11_fair_41 : decode cX11_fair 41 = .ok (.iconst 0, 1) := dk_3 (dk_at dksX11_fair_1 17 rfl rfl)
theorem dX11_fair_42 : decode cX11_fair 42 = .ok (.istore_n 3, 1) := dk_62 (dk_at dksX11_fair_1 18 rfl rfl)
theorem dX11_fair_43 : decode cX11_fair 43 = .ok (.iload_n 3, 1) := dk_29 (dk_at dksX11_fair_1 19 rfl rfl)
theorem dX11_fair_44 : decode cX11_fair 44 = .ok (.aload_n 0, 1) := dk_42 (dk_at dksX11_fair_1 20 rfl rfl)
theorem dX11_fair_45 : decode cX11_fair 45 = .ok (.getfield 23, 3) := dk_180 0 23 (dk_at dksX11_fair_1 21 rfl rfl)
theorem dX11_fair_48 : decode cX11_fair 48 = .ok (.iconst 1, 1) := dk_4 (dk_at dksX11_fair_2 0 rfl rfl)
theorem dX11_fair_49 : decode cX11_fair 49 = .ok (.iaload, 1) := dk_46 (dk_at dksX11_fair_2 1 rfl rfl)
theorem dX11_fair_50 : decode cX11_fair 50 = .ok (.if_icmp .ge 91, 3) := dk_162 0 91 (dk_at dksX11_fair_2 2 rfl rfl)
theorem dX11_fair_53 : decode cX11_fair 53 = .ok (.iconst 0, 1) := dk_3 (dk_at dksX11_fair_2 5 rfl rfl)
theorem dX11_fair_54 : decode cX11_fair 54 = .ok (.istore 4, 2) := dk_54 4 (dk_at dksX11_fair_2 6 rfl rfl)
theorem dX11_fair_56 : decode cX11_fair 56 = .ok (.iconst 0, 1) := dk_3 (dk_at dksX11_fair_2 8 rfl rfl)
theorem dX11_fair_57 : decode cX11_fair 57 = .ok (.istore 5, 2) := dk_54 5 (dk_at dksX11_fair_2 9 rfl rfl)
theorem dX11_fair_59 : decode cX11_fair 59 = .ok (.iload 5, 2) := dk_21 5 (dk_at dksX11_fair_2 11 rfl rfl)
theorem dX11_fair_61 : decode cX11_fair 61 = .ok (.aload_n 0, 1) := dk_42 (dk_at dksX11_fair_2 13 rfl rfl)
theorem dX11_fair_62 : decode cX11_fair 62 = .ok (.getfield 23, 3) := dk_180 0 23 (dk_at dksX11_fair_2 14 rfl rfl)
theorem dX11_fair_65 : decode cX11_fair 65 = .ok (.iconst 2, 1) := dk_5 (dk_at dksX11_fair_2 17 rfl rfl)
theorem dX11_fair_66 : decode cX11_fair 66 = .ok (.iaload, 1) := dk_46 (dk_at dksX11_fair_2 18 rfl rfl)
theorem dX11_fair_67 : decode cX11_fair 67 = .ok (.if_icmp .ge 49, 3) := dk_162 0 49 (dk_at dksX11_fair_2 19 rfl rfl)
theorem dX11_fair_70 : decode cX11_fair 70 = .ok (.iload 4, 2) := dk_21 4 (dk_at dksX11_fair_2 22 rfl rfl)
theorem dX11_fair_72 : decode cX11_fair 72 = .ok (.iload_n 1, 1) := dk_27 (dk_at dksX11_fair_3 0 rfl rfl)
theorem dX11_fair_73 : decode cX11_fair 73 = .ok (.iload 5, 2) := dk_21 5 (dk_at dksX11_fair_3 1 rfl rfl)
theorem dX11_fair_75 : decode cX11_fair 75 = .ok (.invokestatic 242, 3) := dk_184 0 242 (dk_at dksX11_fair_3 3 rfl rfl)
theorem dX11_fair_78 : decode cX11_fair 78 = .ok (.ifCond .eq 28, 3) := dk_153 0 28 (dk_at dksX11_fair_3 6 rfl rfl)
theorem dX11_fair_81 : decode cX11_fair 81 = .ok (.aload_n 0, 1) := dk_42 (dk_at dksX11_fair_3 9 rfl rfl)
theorem dX11_fair_82 : decode cX11_fair 82 = .ok (.iload 5, 2) := dk_21 5 (dk_at dksX11_fair_3 10 rfl rfl)
theorem dX11_fair_84 : decode cX11_fair 84 = .ok (.invokevirtual 347, 3) := dk_182 1 91 (dk_at dksX11_fair_3 12 rfl rfl)
theorem dX11_fair_87 : decode cX11_fair 87 = .ok (.iload_n 3, 1) := dk_29 (dk_at dksX11_fair_3 15 rfl rfl)
theorem dX11_fair_88 : decode cX11_fair 88 = .ok (.invokestatic 242, 3) := dk_184 0 242 (dk_at dksX11_fair_3 16 rfl rfl)
theorem dX11_fair_91 : decode cX11_fair 91 = .ok (.ifCond .eq 15, 3) := dk_153 0 15 (dk_at dksX11_fair_3 19 rfl rfl)
theorem dX11_fair_94 : decode cX11_fair 94 = .ok (.aload_n 0, 1) := dk_42 (dk_at dksX11_fair_3 22 rfl rfl)
theorem dX11_fair_95 : decode cX11_fair 95 = .ok (.getfield 61, 3) := dk_180 0 61 (dk_at dksX11_fair_4 0 rfl rfl)
theorem dX11_fair_98 : decode cX11_fair 98 = .ok (.iload 5, 2) := dk_21 5 (dk_at dksX11_fair_4 3 rfl rfl)
theorem dX11_fair_100 : decode cX11_fair 100 = .ok (.aaload, 1) := dk_50 (dk_at dksX11_fair_4 5 rfl rfl)
theorem dX11_fair_101 : decode cX11_fair 101 = .ok (.iconst 0, 1) := dk_3 (dk_at dksX11_fair_4 6 rfl rfl)
theorem dX11_fair_102 : decode cX11_fair 102 = .ok (.iaload, 1) := dk_46 (dk_at dksX11_fair_4 7 rfl rfl)
theorem dX11_fair_103 : decode cX11_fair 103 = .ok (.goto 4, 3) := dk_167 0 4 (dk_at dksX11_fair_4 8 rfl rfl)
theorem dX11_fair_106 : decode cX11_fair 106 = .ok (.iconst 0, 1) := dk_3 (dk_at dksX11_fair_4 11 rfl rfl)
theorem dX11_fair_107 : decode cX11_fair 107 = .ok (.iadd, 1) := dk_96 (dk_at dksX11_fair_4 12 rfl rfl)
theorem dX11_fair_108 : decode cX11_fair 108 = .ok (.istore 4, 2) := dk_54 4 (dk_at dksX11_fair_4 13 rfl rfl)
theorem dX11_fair_110 : decode cX11_fair 110 = .ok (.iinc 5 1, 3) := dk_132 5 1 (dk_at dksX11_fair_4 15 rfl rfl)
theorem dX11_fair_113 : decode cX11_fair 113 = .ok (.goto (-54), 3) := dk_167 255 202 (dk_at dksX11_fair_4 18 rfl rfl)
theorem dX11_fair_116 : decode cX11_fair 116 = .ok (.iload_n 2, 1) := dk_28 (dk_at dksX11_fair_4 21 rfl rfl)
theorem dX11_fair_117 : decode cX11_fair 117 = .ok (.iconst 0, 1) := dk_3 (dk_at dksX11_fair_4 22 rfl rfl)
theorem dX11_fair_118 : decode cX11_fair 118 = .ok (.iload 4, 2) := dk_21 4 (dk_at dksX11_fair_5 0 rfl rfl)
theorem dX11_fair_120 : decode cX11_fair 120 = .ok (.aload_n 0, 1) := dk_42 (dk_at dksX11_fair_5 2 rfl rfl)
theorem dX11_fair_121 : decode cX11_fair 121 = .ok (.getfield 91, 3) := dk_180 0 91 (dk_at dksX11_fair_5 3 rfl rfl)
theorem dX11_fair_124 : decode cX11_fair 124 = .ok (.bipush 9, 2) := dk_16 9 (dk_at dksX11_fair_5 6 rfl rfl)
theorem dX11_fair_126 : decode cX11_fair 126 = .ok (.iload_n 3, 1) := dk_29 (dk_at dksX11_fair_5 8 rfl rfl)
theorem dX11_fair_127 : decode cX11_fair 127 = .ok (.iadd, 1) := dk_96 (dk_at dksX11_fair_5 9 rfl rfl)
theorem dX11_fair_128 : decode cX11_fair 128 = .ok (.iaload, 1) := dk_46 (dk_at dksX11_fair_5 10 rfl rfl)
theorem dX11_fair_129 : decode cX11_fair 129 = .ok (.isub, 1) := dk_100 (dk_at dksX11_fair_5 11 rfl rfl)
theorem dX11_fair_130 : decode cX11_fair 130 = .ok (.invokestatic 313, 3) := dk_184 1 57 (dk_at dksX11_fair_5 12 rfl rfl)
theorem dX11_fair_133 : decode cX11_fair 133 = .ok (.iadd, 1) := dk_96 (dk_at dksX11_fair_5 15 rfl rfl)
theorem dX11_fair_134 : decode cX11_fair 134 = .ok (.istore_n 2, 1) := dk_61 (dk_at dksX11_fair_5 16 rfl rfl)
theorem dX11_fair_135 : decode cX11_fair 135 = .ok (.iinc 3 1, 3) := dk_132 3 1 (dk_at dksX11_fair_5 17 rfl rfl)
theorem dX11_fair_138 : decode cX11_fair 138 = .ok (.goto (-95), 3) := dk_167 255 161 (dk_at dksX11_fair_5 20 rfl rfl)
theorem dX11_fair_141 : decode cX11_fair 141 = .ok (.iload_n 2, 1) := dk_28 (dk_at dksX11_fair_5 23 rfl rfl)
theorem dX11_fair_142 : decode cX11_fair 142 = .ok (.ireturn, 1) := dk_172 (dk_at dksX11_fair_6 0 rfl rfl)
abbrev cX11_gets : ByteArray := prog_22_method_118_code
def yX11_gets : MethodName := ⟨RX11, "gets", "(III)I"⟩
def dkwX11_gets_5 : List UInt8 := [167, 255, 241, 21, 5, 42, 27, 182, 1, 177, 184, 0, 229, 172]
abbrev dktX11_gets_5 : List UInt8 := dkwX11_gets_5 ++ []
def dkwX11_gets_4 : List UInt8 := [182, 1, 177, 104, 21, 4, 108, 172, 42, 21, 5, 4, 96, 182, 1, 180, 28, 163, 0, 9, 132, 5, 1]
abbrev dktX11_gets_4 : List UInt8 := dkwX11_gets_4 ++ dktX11_gets_5
def dkwX11_gets_3 : List UInt8 := [3, 54, 5, 28, 21, 4, 161, 0, 9, 42, 27, 182, 1, 177, 172, 29, 154, 0, 14, 28, 42, 27]
abbrev dktX11_gets_3 : List UInt8 := dkwX11_gets_3 ++ dktX11_gets_4
def dkwX11_gets_2 : List UInt8 := [4, 167, 0, 4, 3, 5, 4, 182, 0, 249, 153, 0, 5, 3, 172, 42, 17, 3, 231, 182, 1, 180, 54, 4]
abbrev dktX11_gets_2 : List UInt8 := dkwX11_gets_2 ++ dktX11_gets_3
def dkwX11_gets_1 : List UInt8 := [154, 0, 37, 42, 28, 3, 17, 3, 231, 184, 0, 168, 153, 0, 12, 29, 3, 4, 184, 0, 168, 154, 0, 7]
abbrev dktX11_gets_1 : List UInt8 := dkwX11_gets_1 ++ dktX11_gets_2
def dkwX11_gets_0 : List UInt8 := [42, 3, 181, 0, 134, 42, 42, 27, 182, 1, 75, 154, 0, 7, 4, 167, 0, 4, 3, 4, 3, 182, 0, 249]
abbrev dktX11_gets_0 : List UInt8 := dkwX11_gets_0 ++ dktX11_gets_1
theorem dksX11_gets_0 : cX11_gets.data.toList.drop 0 = dktX11_gets_0 := by decide +kernel
theorem dksX11_gets_1 : cX11_gets.data.toList.drop 24 = dktX11_gets_1 := dk_seg dksX11_gets_0 24 rfl rfl
theorem dksX11_gets_2 : cX11_gets.data.toList.drop 48 = dktX11_gets_2 := dk_seg dksX11_gets_1 24 rfl rfl
theorem dksX11_gets_3 : cX11_gets.data.toList.drop 72 = dktX11_gets_3 := dk_seg dksX11_gets_2 24 rfl rfl
theorem dksX11_gets_4 : cX11_gets.data.toList.drop 94 = dktX11_gets_4 := dk_seg dksX11_gets_3 22 rfl rfl
theorem dksX11_gets_5 : cX11_gets.data.toList.drop 117 = dktX11_gets_5 := dk_seg dksX11_gets_4 23 rfl rfl
theorem dX11_gets_0 : decode cX11_gets 0 = .ok (.aload_n 0, 1) := dk_42 (dk_at dksX11_gets_0 0 rfl rfl)
theorem dX11_gets_1 : decode cX11_gets 1 = .ok (.iconst 0, 1) := dk_3 (dk_at dksX11_gets_0 1 rfl rfl)
theorem dX11_gets_2 : decode cX11_gets 2 = .ok (.putfield 134, 3) := dk_181 0 134 (dk_at dksX11_gets_0 2 rfl rfl)
theorem dX11_gets_5 : decode cX11_gets 5 = .ok (.aload_n 0, 1) := dk_42 (dk_at dksX11_gets_0 5 rfl rfl)
theorem dX11_gets_6 : decode cX11_gets 6 = .ok (.aload_n 0, 1) := dk_42 (dk_at dksX11_gets_0 6 rfl rfl)
theorem dX11_gets_7 : decode cX11_gets 7 = .ok (.iload_n 1, 1) := dk_27 (dk_at dksX11_gets_0 7 rfl rfl)
theorem dX11_gets_8 : decode cX11_gets 8 = .ok (.invokevirtual 331, 3) := dk_182 1 75 (dk_at dksX11_gets_0 8 rfl rfl)
theorem dX11_gets_11 : decode cX11_gets 11 = .ok (.ifCond .ne 7, 3) := dk_154 0 7 (dk_at dksX11_gets_0 11 rfl rfl)
theorem dX11_gets_14 : decode cX11_gets 14 = .ok (.iconst 1, 1) := dk_4 (dk_at dksX11_gets_0 14 rfl rfl)
theorem dX11_gets_15 : decode cX11_gets 15 = .ok (.goto 4, 3) := dk_167 0 4 (dk_at dksX11_gets_0 15 rfl rfl)
theorem dX11_gets_18 : decode cX11_gets 18 = .ok (.iconst 0, 1) := dk_3 (dk_at dksX11_gets_0 18 rfl rfl)
theorem dX11_gets_19 : decode cX11_gets 19 = .ok (.iconst 1, 1) := dk_4 (dk_at dksX11_gets_0 19 rfl rfl)
theorem dX11_gets_20 : decode cX11_gets 20 = .ok (.iconst 0, 1) := dk_3 (dk_at dksX11_gets_0 20 rfl rfl)
theorem dX11_gets_21 : decode cX11_gets 21 = .ok (.invokevirtual 249, 3) := dk_182 0 249 (dk_at dksX11_gets_0 21 rfl rfl)
theorem dX11_gets_24 : decode cX11_gets 24 = .ok (.ifCond .ne 37, 3) := dk_154 0 37 (dk_at dksX11_gets_1 0 rfl rfl)
theorem dX11_gets_27 : decode cX11_gets 27 = .ok (.aload_n 0, 1) := dk_42 (dk_at dksX11_gets_1 3 rfl rfl)
theorem dX11_gets_28 : decode cX11_gets 28 = .ok (.iload_n 2, 1) := dk_28 (dk_at dksX11_gets_1 4 rfl rfl)
theorem dX11_gets_29 : decode cX11_gets 29 = .ok (.iconst 0, 1) := dk_3 (dk_at dksX11_gets_1 5 rfl rfl)
theorem dX11_gets_30 : decode cX11_gets 30 = .ok (.sipush 999, 3) := dk_17 3 231 (dk_at dksX11_gets_1 6 rfl rfl)
theorem dX11_gets_33 : decode cX11_gets 33 = .ok (.invokestatic 168, 3) := dk_184 0 168 (dk_at dksX11_gets_1 9 rfl rfl)
theorem dX11_gets_36 : decode cX11_gets 36 = .ok (.ifCond .eq 12, 3) := dk_153 0 12 (dk_at dksX11_gets_1 12 rfl rfl)
theorem dX11_gets_39 : decode cX11_gets 39 = .ok (.iload_n 3, 1) := dk_29 (dk_at dksX11_gets_1 15 rfl rfl)
theorem dX11_gets_40 : decode cX11_gets 40 = .ok (.iconst 0, 1) := dk_3 (dk_at dksX11_gets_1 16 rfl rfl)
theorem dX11_gets_41 : decode cX11_gets 41 = .ok (.iconst 1, 1) := dk_4 (dk_at dksX11_gets_1 17 rfl rfl)
theorem dX11_gets_42 : decode cX11_gets 42 = .ok (.invokestatic 168, 3) := dk_184 0 168 (dk_at dksX11_gets_1 18 rfl rfl)
theorem dX11_gets_45 : decode cX11_gets 45 = .ok (.ifCond .ne 7, 3) := dk_154 0 7 (dk_at dksX11_gets_1 21 rfl rfl)
theorem dX11_gets_48 : decode cX11_gets 48 = .ok (.iconst 1, 1) := dk_4 (dk_at dksX11_gets_2 0 rfl rfl)
theorem dX11_gets_49 : decode cX11_gets 49 = .ok (.goto 4, 3) := dk_167 0 4 (dk_at dksX11_gets_2 1 rfl rfl)
theorem dX11_gets_52 : decode cX11_gets 52 = .ok (.iconst 0, 1) := dk_3 (dk_at dksX11_gets_2 4 rfl rfl)
theorem dX11_gets_53 : decode cX11_gets 53 = .ok (.iconst 2, 1) := dk_5 (dk_at dksX11_gets_2 5 rfl rfl)
theorem dX11_gets_54 : decode cX11_gets 54 = .ok (.iconst 1, 1) := dk_4 (dk_at dksX11_gets_2 6 rfl rfl)
theorem dX11_gets_55 : decode cX11_gets 55 = .ok (.invokevirtual 249, 3) := dk_182 0 249 (dk_at dksX11_gets_2 7 rfl rfl)
theorem dX11_gets_58 : decode cX11_gets 58 = .ok (.ifCond .eq 5, 3) := dk_153 0 5 (dk_at dksX11_gets_2 10 rfl rfl)
theorem dX11_gets_61 : decode cX11_gets 61 = .ok (.iconst 0, 1) := dk_3 (dk_at dksX11_gets_2 13 rfl rfl)
theorem dX11_gets_62 : decode cX11_gets 62 = .ok (.ireturn, 1) := dk_172 (dk_at dksX11_gets_2 14 rfl rfl)
theorem dX11_gets_63 : decode cX11_gets 63 = .ok (.aload_n 0, 1) := dk_42 (dk_at dksX11_gets_2 15 rfl rfl)
theorem dX11_gets_64 : decode cX11_gets 64 = .ok (.sipush 999, 3) := dk_17 3 231 (dk_at dksX11_gets_2 16 rfl rfl)
theorem dX11_gets_67 : decode cX11_gets 67 = .ok (.invokevirtual 436, 3) := dk_182 1 180 (dk_at dksX11_gets_2 19 rfl rfl)
theorem dX11_gets_70 : decode cX11_gets 70 = .ok (.istore 4, 2) := dk_54 4 (dk_at dksX11_gets_2 22 rfl rfl)
theorem dX11_gets_72 : decode cX11_gets 72 = .ok (.iconst 0, 1) := dk_3 (dk_at dksX11_gets_3 0 rfl rfl)
theorem dX11_gets_73 : decode cX11_gets 73 = .ok (.istore 5, 2) := dk_54 5 (dk_at dksX11_gets_3 1 rfl rfl)
theorem dX11_gets_75 : decode cX11_gets 75 = .ok (.iload_n 2, 1) := dk_28 (dk_at dksX11_gets_3 3 rfl rfl)
theorem dX11_gets_76 : decode cX11_gets 76 = .ok (.iload 4, 2) := dk_21 4 (dk_at dksX11_gets_3 4 rfl rfl)
theorem dX11_gets_78 : decode cX11_gets 78 = .ok (.if_icmp .lt 9, 3) := dk_161 0 9 (dk_at dksX11_gets_3 6 rfl rfl)
theorem dX11_gets_81 : decode cX11_gets 81 = .ok (.aload_n 0, 1) := dk_42 (dk_at dksX11_gets_3 9 rfl rfl)
theorem dX11_gets_82 : decode cX11_gets 82 = .ok (.iload_n 1, 1) := dk_27 (dk_at dksX11_gets_3 10 rfl rfl)
theorem dX11_gets_83 : decode cX11_gets 83 = .ok (.invokevirtual 433, 3) := dk_182 1 177 (dk_at dksX11_gets_3 11 rfl rfl)
theorem dX11_gets_86 : decode cX11_gets 86 = .ok (.ireturn, 1) := dk_172 (dk_at dksX11_gets_3 14 rfl rfl)
theorem dX11_gets_87 : decode cX11_gets 87 = .ok (.iload_n 3, 1) := dk_29 (dk_at dksX11_gets_3 15 rfl rfl)
theorem dX11_gets_88 : decode cX11_gets 88 = .ok (.ifCond .ne 14, 3) := dk_154 0 14 (dk_at dksX11_gets_3 16 rfl rfl)
theorem dX11_gets_91 : decode cX11_gets 91 = .ok (.iload_n 2, 1) := dk_28 (dk_at dksX11_gets_3 19 rfl rfl)
theorem dX11_gets_92 : decode cX11_gets 92 = .ok (.aload_n 0, 1) := dk_42 (dk_at dksX11_gets_3 20 rfl rfl)
theorem dX11_gets_93 : decode cX11_gets 93 = .ok (.iload_n 1, 1) := dk_27 (dk_at dksX11_gets_3 21 rfl rfl)
theorem dX11_gets_94 : decode cX11_gets 94 = .ok (.invokevirtual 433, 3) := dk_182 1 177 (dk_at dksX11_gets_4 0 rfl rfl)
theorem dX11_gets_97 : decode cX11_gets 97 = .ok (.imul, 1) := dk_104 (dk_at dksX11_gets_4 3 rfl rfl)
theorem dX11_gets_98 : decode cX11_gets 98 = .ok (.iload 4, 2) := dk_21 4 (dk_at dksX11_gets_4 4 rfl rfl)
theorem dX11_gets_100 : decode cX11_gets 100 = .ok (.idiv, 1) := dk_108 (dk_at dksX11_gets_4 6 rfl rfl)
theorem dX11_gets_101 : decode cX11_gets 101 = .ok (.ireturn, 1) := dk_172 (dk_at dksX11_gets_4 7 rfl rfl)
theorem dX11_gets_102 : decode cX11_gets 102 = .ok (.aload_n 0, 1) := dk_42 (dk_at dksX11_gets_4 8 rfl rfl)
theorem dX11_gets_103 : decode cX11_gets 103 = .ok (.iload 5, 2) := dk_21 5 (dk_at dksX11_gets_4 9 rfl rfl)
theorem dX11_gets_105 : decode cX11_gets 105 = .ok (.iconst 1, 1) := dk_4 (dk_at dksX11_gets_4 11 rfl rfl)
theorem dX11_gets_106 : decode cX11_gets 106 = .ok (.iadd, 1) := dk_96 (dk_at dksX11_gets_4 12 rfl rfl)
theorem dX11_gets_107 : decode cX11_gets 107 = .ok (.invokevirtual 436, 3) := dk_182 1 180 (dk_at dksX11_gets_4 13 rfl rfl)
theorem dX11_gets_110 : decode cX11_gets 110 = .ok (.iload_n 2, 1) := dk_28 (dk_at dksX11_gets_4 16 rfl rfl)
theorem dX11_gets_111 : decode cX11_gets 111 = .ok (.if_icmp .gt 9, 3) := dk_163 0 9 (dk_at dksX11_gets_4 17 rfl rfl)
theorem dX11_gets_114 : decode cX11_gets 114 = .ok (.iinc 5 1, 3) := dk_132 5 1 (dk_at dksX11_gets_4 20 rfl rfl)
theorem dX11_gets_117 : decode cX11_gets 117 = .ok (.goto (-15), 3) := dk_167 255 241 (dk_at dksX11_gets_5 0 rfl rfl)
theorem dX11_gets_120 : decode cX11_gets 120 = .ok (.iload 5, 2) := dk_21 5 (dk_at dksX11_gets_5 3 rfl rfl)
theorem dX11_gets_122 : decode cX11_gets 122 = .ok (.aload_n 0, 1) := dk_42 (dk_at dksX11_gets_5 5 rfl rfl)
theorem dX11_gets_123 : decode cX11_gets 123 = .ok (.iload_n 1, 1) := dk_27 (dk_at dksX11_gets_5 6 rfl rfl)
theorem dX11_gets_124 : decode cX11_gets 124 = .ok (.invokevirtual 433, 3) := dk_182 1 177 (dk_at dksX11_gets_5 7 rfl rfl)
theorem dX11_gets_127 : decode cX11_gets 127 = .ok (.invokestatic 229, 3) := dk_184 0 229 (dk_at dksX11_gets_5 10 rfl rfl)
theorem dX11_gets_130 : decode cX11_gets 130 = .ok (.ireturn, 1) := dk_172 (dk_at dksX11_gets_5 13 rfl rfl)
abbrev cX11_claimsTo : ByteArray := prog_22_method_117_code
def yX11_claimsTo : MethodName := ⟨RX11, "claimsTo", "(I)I"⟩
def dkwX11_claimsTo_1 : List UInt8 := [96, 61, 132, 3, 1, 167, 255, 231, 28, 172]
abbrev dktX11_claimsTo_1 : List UInt8 := dkwX11_claimsTo_1 ++ []
def dkwX11_claimsTo_0 : List UInt8 := [3, 61, 3, 62, 29, 42, 180, 0, 23, 3, 46, 162, 0, 21, 28, 27, 42, 29, 182, 1, 177, 184, 0, 229]
abbrev dktX11_claimsTo_0 : List UInt8 := dkwX11_claimsTo_0 ++ dktX11_claimsTo_1
theorem dksX11_claimsTo_0 : cX11_claimsTo.data.toList.drop 0 = dktX11_claimsTo_0 := by decide +kernel
theorem dksX11_claimsTo_1 : cX11_claimsTo.data.toList.drop 24 = dktX11_claimsTo_1 := dk_seg dksX11_claimsTo_0 24 rfl rfl
theorem dX11_claimsTo_0 : decode cX11_claimsTo 0 = .ok (.iconst 0, 1) := dk_3 (dk_at dksX11_claimsTo_0 0 rfl rfl)
theorem dX11_claimsTo_1 : decode cX11_claimsTo 1 = .ok (.istore_n 2, 1) := dk_61 (dk_at dksX11_claimsTo_0 1 rfl rfl)
theorem dX11_claimsTo_2 : decode cX11_claimsTo 2 = .ok (.iconst 0, 1) := dk_3 (dk_at dksX11_claimsTo_0 2 rfl rfl)
theorem dX11_claimsTo_3 : decode cX11_claimsTo 3 = .ok (.istore_n 3, 1) := dk_62 (dk_at dksX11_claimsTo_0 3 rfl rfl)
theorem dX11_claimsTo_4 : decode cX11_claimsTo 4 = .ok (.iload_n 3, 1) := dk_29 (dk_at dksX11_claimsTo_0 4 rfl rfl)
theorem dX11_claimsTo_5 : decode cX11_claimsTo 5 = .ok (.aload_n 0, 1) := dk_42 (dk_at dksX11_claimsTo_0 5 rfl rfl)
theorem dX11_claimsTo_6 : decode cX11_claimsTo 6 = .ok (.getfield 23, 3) := dk_180 0 23 (dk_at dksX11_claimsTo_0 6 rfl rfl)
theorem dX11_claimsTo_9 : decode cX11_claimsTo 9 = .ok (.iconst 0, 1) := dk_3 (dk_at dksX11_claimsTo_0 9 rfl rfl)
theorem dX11_claimsTo_10 : decode cX11_claimsTo 10 = .ok (.iaload, 1) := dk_46 (dk_at dksX11_claimsTo_0 10 rfl rfl)
theorem dX11_claimsTo_11 : decode cX11_claimsTo 11 = .ok (.if_icmp .ge 21, 3) := dk_162 0 21 (dk_at dksX11_claimsTo_0 11 rfl rfl)
theorem dX11_claimsTo_14 : decode cX11_claimsTo 14 = .ok (.iload_n 2, 1) := dk_28 (dk_at dksX11_claimsTo_0 14 rfl rfl)
theorem dX11_claimsTo_15 : decode cX11_claimsTo 15 = .ok (.iload_n 1, 1) := dk_27 (dk_at dksX11_claimsTo_0 15 rfl rfl)
theorem dX11_claimsTo_16 : decode cX11_claimsTo 16 = .ok (.aload_n 0, 1) := dk_42 (dk_at dksX11_claimsTo_0 16 rfl rfl)
theorem dX11_claimsTo_17 : decode cX11_claimsTo 17 = .ok (.iload_n 3, 1) := dk_29 (dk_at dksX11_claimsTo_0 17 rfl rfl)
theorem dX11_claimsTo_18 : decode cX11_claimsTo 18 = .ok (.invokevirtual 433, 3) := dk_182 1 177 (dk_at dksX11_claimsTo_0 18 rfl rfl)
theorem dX11_claimsTo_21 : decode cX11_claimsTo 21 = .ok (.invokestatic 229, 3) := dk_184 0 229 (dk_at dksX11_claimsTo_0 21 rfl rfl)
theorem dX11_claimsTo_24 : decode cX11_claimsTo 24 = .ok (.iadd, 1) := dk_96 (dk_at dksX11_claimsTo_1 0 rfl rfl)
theorem dX11_claimsTo_25 : decode cX11_claimsTo 25 = .ok (.istore_n 2, 1) := dk_61 (dk_at dksX11_claimsTo_1 1 rfl rfl)
theorem dX11_claimsTo_26 : decode cX11_claimsTo 26 = .ok (.iinc 3 1, 3) := dk_132 3 1 (dk_at dksX11_claimsTo_1 2 rfl rfl)
theorem dX11_claimsTo_29 : decode cX11_claimsTo 29 = .ok (.goto (-25), 3) := dk_167 255 231 (dk_at dksX11_claimsTo_1 5 rfl rfl)
theorem dX11_claimsTo_32 : decode cX11_claimsTo 32 = .ok (.iload_n 2, 1) := dk_28 (dk_at dksX11_claimsTo_1 8 rfl rfl)
theorem dX11_claimsTo_33 : decode cX11_claimsTo 33 = .ok (.ireturn, 1) := dk_172 (dk_at dksX11_claimsTo_1 9 rfl rfl)
abbrev cX11_claimOf : ByteArray := prog_22_method_116_code
def yX11_claimOf : MethodName := ⟨RX11, "claimOf", "(I)I"⟩
def dkwX11_claimOf_2 : List UInt8 := [29, 96, 46, 167, 0, 4, 3, 96, 61, 132, 3, 1, 167, 255, 200, 28, 172]
abbrev dktX11_claimOf_2 : List UInt8 := dkwX11_claimOf_2 ++ []
def dkwX11_claimOf_1 : List UInt8 := [153, 0, 30, 42, 180, 0, 91, 4, 29, 96, 46, 27, 184, 0, 242, 153, 0, 15, 42, 180, 0, 91, 16, 9]
abbrev dktX11_claimOf_1 : List UInt8 := dkwX11_claimOf_1 ++ dktX11_claimOf_2
def dkwX11_claimOf_0 : List UInt8 := [3, 61, 3, 62, 29, 42, 180, 0, 23, 4, 46, 162, 0, 52, 28, 42, 42, 180, 0, 91, 27, 182, 1, 64]
abbrev dktX11_claimOf_0 : List UInt8 := dkwX11_claimOf_0 ++ dktX11_claimOf_1
theorem dksX11_claimOf_0 : cX11_claimOf.data.toList.drop 0 = dktX11_claimOf_0 := by decide +kernel
theorem dksX11_claimOf_1 : cX11_claimOf.data.toList.drop 24 = dktX11_claimOf_1 := dk_seg dksX11_claimOf_0 24 rfl rfl
theorem dksX11_claimOf_2 : cX11_claimOf.data.toList.drop 48 = dktX11_claimOf_2 := dk_seg dksX11_claimOf_1 24 rfl rfl
theorem dX11_claimOf_0 : decode cX11_claimOf 0 = .ok (.iconst 0, 1) := dk_3 (dk_at dksX11_claimOf_0 0 rfl rfl)
theorem dX11_claimOf_1 : decode cX11_claimOf 1 = .ok (.istore_n 2, 1) := dk_61 (dk_at dksX11_claimOf_0 1 rfl rfl)
theorem dX11_claimOf_2 : decode cX11_claimOf 2 = .ok (.iconst 0, 1) := dk_3 (dk_at dksX11_claimOf_0 2 rfl rfl)
theorem dX11_claimOf_3 : decode cX11_claimOf 3 = .ok (.istore_n 3, 1) := dk_62 (dk_at dksX11_claimOf_0 3 rfl rfl)
theorem dX11_claimOf_4 : decode cX11_claimOf 4 = .ok (.iload_n 3, 1) := dk_29 (dk_at dksX11_claimOf_0 4 rfl rfl)
theorem dX11_claimOf_5 : decode cX11_claimOf 5 = .ok (.aload_n 0, 1) := dk_42 (dk_at dksX11_claimOf_0 5 rfl rfl)
theorem dX11_claimOf_6 : decode cX11_claimOf 6 = .ok (.getfield 23, 3) := dk_180 0 23 (dk_at dksX11_claimOf_0 6 rfl rfl)
theorem dX11_claimOf_9 : decode cX11_claimOf 9 = .ok (.iconst 1, 1) := dk_4 (dk_at dksX11_claimOf_0 9 rfl rfl)
theorem dX11_claimOf_10 : decode cX11_claimOf 10 = .ok (.iaload, 1) := dk_46 (dk_at dksX11_claimOf_0 10 rfl rfl)
theorem dX11_claimOf_11 : decode cX11_claimOf 11 = .ok (.if_icmp .ge 52, 3) := dk_162 0 52 (dk_at dksX11_claimOf_0 11 rfl rfl)
theorem dX11_claimOf_14 : decode cX11_claimOf 14 = .ok (.iload_n 2, 1) := dk_28 (dk_at dksX11_claimOf_0 14 rfl rfl)
theorem dX11_claimOf_15 : decode cX11_claimOf 15 = .ok (.aload_n 0, 1) := dk_42 (dk_at dksX11_claimOf_0 15 rfl rfl)
theorem dX11_claimOf_16 : decode cX11_claimOf 16 = .ok (.aload_n 0, 1) := dk_42 (dk_at dksX11_claimOf_0 16 rfl rfl)
theorem dX11_claimOf_17 : decode cX11_claimOf 17 = .ok (.getfield 91, 3) := dk_180 0 91 (dk_at dksX11_claimOf_0 17 rfl rfl)
theorem dX11_claimOf_20 : decode cX11_claimOf 20 = .ok (.iload_n 1, 1) := dk_27 (dk_at dksX11_claimOf_0 20 rfl rfl)
theorem dX11_claimOf_21 : decode cX11_claimOf 21 = .ok (.invokevirtual 320, 3) := dk_182 1 64 (dk_at dksX11_claimOf_0 21 rfl rfl)
theorem dX11_claimOf_24 : decode cX11_claimOf 24 = .ok (.ifCond .eq 30, 3) := dk_153 0 30 (dk_at dksX11_claimOf_1 0 rfl rfl)
theorem dX11_claimOf_27 : decode cX11_claimOf 27 = .ok (.aload_n 0, 1) := dk_42 (dk_at dksX11_claimOf_1 3 rfl rfl)
theorem dX11_claimOf_28 : decode cX11_claimOf 28 = .ok (.getfield 91, 3) := dk_180 0 91 (dk_at dksX11_claimOf_1 4 rfl rfl)
theorem dX11_claimOf_31 : decode cX11_claimOf 31 = .ok (.iconst 1, 1) := dk_4 (dk_at dksX11_claimOf_1 7 rfl rfl)
theorem dX11_claimOf_32 : decode cX11_claimOf 32 = .ok (.iload_n 3, 1) := dk_29 (dk_at dksX11_claimOf_1 8 rfl rfl)
theorem dX11_claimOf_33 : decode cX11_claimOf 33 = .ok (.iadd, 1) := dk_96 (dk_at dksX11_claimOf_1 9 rfl rfl)
theorem dX11_claimOf_34 : decode cX11_claimOf 34 = .ok (.iaload, 1) := dk_46 (dk_at dksX11_claimOf_1 10 rfl rfl)
theorem dX11_claimOf_35 : decode cX11_claimOf 35 = .ok (.iload_n 1, 1) := dk_27 (dk_at dksX11_claimOf_1 11 rfl rfl)
theorem dX11_claimOf_36 : decode cX11_claimOf 36 = .ok (.invokestatic 242, 3) := dk_184 0 242 (dk_at dksX11_claimOf_1 12 rfl rfl)
theorem dX11_claimOf_39 : decode cX11_claimOf 39 = .ok (.ifCond .eq 15, 3) := dk_153 0 15 (dk_at dksX11_claimOf_1 15 rfl rfl)
theorem dX11_claimOf_42 : decode cX11_claimOf 42 = .ok (.aload_n 0, 1) := dk_42 (dk_at dksX11_claimOf_1 18 rfl rfl)
theorem dX11_claimOf_43 : decode cX11_claimOf 43 = .ok (.getfield 91, 3) := dk_180 0 91 (dk_at dksX11_claimOf_1 19 rfl rfl)
theorem dX11_claimOf_46 : decode cX11_claimOf 46 = .ok (.bipush 9, 2) := dk_16 9 (dk_at dksX11_claimOf_1 22 rfl rfl)
theorem dX11_claimOf_48 : decode cX11_claimOf 48 = .ok (.iload_n 3, 1) := dk_29 (dk_at dksX11_claimOf_2 0 rfl rfl)
theorem dX11_claimOf_49 : decode cX11_claimOf 49 = .ok (.iadd, 1) := dk_96 (dk_at dksX11_claimOf_2 1 rfl rfl)
theorem dX11_claimOf_50 : decode cX11_claimOf 50 = .ok (.iaload, 1) := dk_46 (dk_at dksX11_claimOf_2 2 rfl rfl)
theorem dX11_claimOf_51 : decode cX11_claimOf 51 = .ok (.goto 4, 3) := dk_167 0 4 (dk_at dksX11_claimOf_2 3 rfl rfl)
theorem dX11_claimOf_54 : decode cX11_claimOf 54 = .ok (.iconst 0, 1) := dk_3 (dk_at dksX11_claimOf_2 6 rfl rfl)
theorem dX11_claimOf_55 : decode cX11_claimOf 55 = .ok (.iadd, 1) := dk_96 (dk_at dksX11_claimOf_2 7 rfl rfl)
theorem dX11_claimOf_56 : decode cX11_claimOf 56 = .ok (.istore_n 2, 1) := dk_61 (dk_at dksX11_claimOf_2 8 rfl rfl)
theorem dX11_claimOf_57 : decode cX11_claimOf 57 = .ok (.iinc 3 1, 3) := dk_132 3 1 (dk_at dksX11_claimOf_2 9 rfl rfl)
theorem dX11_claimOf_60 : decode cX11_claimOf 60 = .ok (.goto (-56), 3) := dk_167 255 200 (dk_at dksX11_claimOf_2 12 rfl rfl)
theorem dX11_claimOf_63 : decode cX11_claimOf 63 = .ok (.iload_n 2, 1) := dk_28 (dk_at dksX11_claimOf_2 15 rfl rfl)
theorem dX11_claimOf_64 : decode cX11_claimOf 64 = .ok (.ireturn, 1) := dk_172 (dk_at dksX11_claimOf_2 16 rfl rfl)
abbrev cX11_owes : ByteArray := prog_22_method_119_code
def yX11_owes : MethodName := ⟨RX11, "owes", "(II)I"⟩
def dkwX11_owes_1 : List UInt8 := [167, 0, 4, 3, 4, 3, 182, 0, 249, 153, 0, 5, 3, 172, 42, 180, 0, 67, 27, 50, 28, 46, 172]
abbrev dktX11_owes_1 : List UInt8 := dkwX11_owes_1 ++ []
def dkwX11_owes_0 : List UInt8 := [42, 3, 181, 0, 134, 42, 42, 27, 182, 1, 75, 153, 0, 11, 42, 28, 182, 1, 75, 154, 0, 7, 4]
abbrev dktX11_owes_0 : List UInt8 := dkwX11_owes_0 ++ dktX11_owes_1
theorem dksX11_owes_0 : cX11_owes.data.toList.drop 0 = dktX11_owes_0 := by decide +kernel
theorem dksX11_owes_1 : cX11_owes.data.toList.drop 23 = dktX11_owes_1 := dk_seg dksX11_owes_0 23 rfl rfl
theorem dX11_owes_0 : decode cX11_owes 0 = .ok (.aload_n 0, 1) := dk_42 (dk_at dksX11_owes_0 0 rfl rfl)
theorem dX11_owes_1 : decode cX11_owes 1 = .ok (.iconst 0, 1) := dk_3 (dk_at dksX11_owes_0 1 rfl rfl)
theorem dX11_owes_2 : decode cX11_owes 2 = .ok (.putfield 134, 3) := dk_181 0 134 (dk_at dksX11_owes_0 2 rfl rfl)
theorem dX11_owes_5 : decode cX11_owes 5 = .ok (.aload_n 0, 1) := dk_42 (dk_at dksX11_owes_0 5 rfl rfl)
theorem dX11_owes_6 : decode cX11_owes 6 = .ok (.aload_n 0, 1) := dk_42 (dk_at dksX11_owes_0 6 rfl rfl)
theorem dX11_owes_7 : decode cX11_owes 7 = .ok (.iload_n 1, 1) := dk_27 (dk_at dksX11_owes_0 7 rfl rfl)
theorem dX11_owes_8 : decode cX11_owes 8 = .ok (.invokevirtual 331, 3) := dk_182 1 75 (dk_at dksX11_owes_0 8 rfl rfl)
theorem dX11_owes_11 : decode cX11_owes 11 = .ok (.ifCond .eq 11, 3) := dk_153 0 11 (dk_at dksX11_owes_0 11 rfl rfl)
theorem dX11_owes_14 : decode cX11_owes 14 = .ok (.aload_n 0, 1) := dk_42 (dk_at dksX11_owes_0 14 rfl rfl)
theorem dX11_owes_15 : decode cX11_owes 15 = .ok (.iload_n 2, 1) := dk_28 (dk_at dksX11_owes_0 15 rfl rfl)
theorem dX11_owes_16 : decode cX11_owes 16 = .ok (.invokevirtual 331, 3) := dk_182 1 75 (dk_at dksX11_owes_0 16 rfl rfl)
theorem dX11_owes_19 : decode cX11_owes 19 = .ok (.ifCond .ne 7, 3) := dk_154 0 7 (dk_at dksX11_owes_0 19 rfl rfl)
theorem dX11_owes_22 : decode cX11_owes 22 = .ok (.iconst 1, 1) := dk_4 (dk_at dksX11_owes_0 22 rfl rfl)
theorem dX11_owes_23 : decode cX11_owes 23 = .ok (.goto 4, 3) := dk_167 0 4 (dk_at dksX11_owes_1 0 rfl rfl)
theorem dX11_owes_26 : decode cX11_owes 26 = .ok (.iconst 0, 1) := dk_3 (dk_at dksX11_owes_1 3 rfl rfl)
theorem dX11_owes_27 : decode cX11_owes 27 = .ok (.iconst 1, 1) := dk_4 (dk_at dksX11_owes_1 4 rfl rfl)
theorem dX11_owes_28 : decode cX11_owes 28 = .ok (.iconst 0, 1) := dk_3 (dk_at dksX11_owes_1 5 rfl rfl)
theorem dX11_owes_29 : decode cX11_owes 29 = .ok (.invokevirtual 249, 3) := dk_182 0 249 (dk_at dksX11_owes_1 6 rfl rfl)
theorem dX11_owes_32 : decode cX11_owes 32 = .ok (.ifCond .eq 5, 3) := dk_153 0 5 (dk_at dksX11_owes_1 9 rfl rfl)
theorem dX11_owes_35 : decode cX11_owes 35 = .ok (.iconst 0, 1) := dk_3 (dk_at dksX11_owes_1 12 rfl rfl)
theorem dX11_owes_36 : decode cX11_owes 36 = .ok (.ireturn, 1) := dk_172 (dk_at dksX11_owes_1 13 rfl rfl)
theorem dX11_owes_37 : decode cX11_owes 37 = .ok (.aload_n 0, 1) := dk_42 (dk_at dksX11_owes_1 14 rfl rfl)
theorem dX11_owes_38 : decode cX11_owes 38 = .ok (.getfield 67, 3) := dk_180 0 67 (dk_at dksX11_owes_1 15 rfl rfl)
theorem dX11_owes_41 : decode cX11_owes 41 = .ok (.iload_n 1, 1) := dk_27 (dk_at dksX11_owes_1 18 rfl rfl)
theorem dX11_owes_42 : decode cX11_owes 42 = .ok (.aaload, 1) := dk_50 (dk_at dksX11_owes_1 19 rfl rfl)
theorem dX11_owes_43 : decode cX11_owes 43 = .ok (.iload_n 2, 1) := dk_28 (dk_at dksX11_owes_1 20 rfl rfl)
theorem dX11_owes_44 : decode cX11_owes 44 = .ok (.iaload, 1) := dk_46 (dk_at dksX11_owes_1 21 rfl rfl)
theorem dX11_owes_45 : decode cX11_owes 45 = .ok (.ireturn, 1) := dk_172 (dk_at dksX11_owes_1 22 rfl rfl)
abbrev cX11_net : ByteArray := prog_22_method_121_code
def yX11_net : MethodName := ⟨RX11, "net", "(I)I"⟩
def dkwX11_net_1 : List UInt8 := [153, 0, 5, 3, 172, 42, 27, 182, 1, 183, 172]
abbrev dktX11_net_1 : List UInt8 := dkwX11_net_1 ++ []
def dkwX11_net_0 : List UInt8 := [42, 3, 181, 0, 134, 42, 42, 27, 182, 1, 75, 154, 0, 7, 4, 167, 0, 4, 3, 4, 3, 182, 0, 249]
abbrev dktX11_net_0 : List UInt8 := dkwX11_net_0 ++ dktX11_net_1
theorem dksX11_net_0 : cX11_net.data.toList.drop 0 = dktX11_net_0 := by decide +kernel
theorem dksX11_net_1 : cX11_net.data.toList.drop 24 = dktX11_net_1 := dk_seg dksX11_net_0 24 rfl rfl
theorem dX11_net_0 : decode cX11_net 0 = .ok (.aload_n 0, 1) := dk_42 (dk_at dksX11_net_0 0 rfl rfl)
theorem dX11_net_1 : decode cX11_net 1 = .ok (.iconst 0, 1) := dk_3 (dk_at dksX11_net_0 1 rfl rfl)
theorem dX11_net_2 : decode cX11_net 2 = .ok (.putfield 134, 3) := dk_181 0 134 (dk_at dksX11_net_0 2 rfl rfl)
theorem dX11_net_5 : decode cX11_net 5 = .ok (.aload_n 0, 1) := dk_42 (dk_at dksX11_net_0 5 rfl rfl)
theorem dX11_net_6 : decode cX11_net 6 = .ok (.aload_n 0, 1) := dk_42 (dk_at dksX11_net_0 6 rfl rfl)
theorem dX11_net_7 : decode cX11_net 7 = .ok (.iload_n 1, 1) := dk_27 (dk_at dksX11_net_0 7 rfl rfl)
theorem dX11_net_8 : decode cX11_net 8 = .ok (.invokevirtual 331, 3) := dk_182 1 75 (dk_at dksX11_net_0 8 rfl rfl)
theorem dX11_net_11 : decode cX11_net 11 = .ok (.ifCond .ne 7, 3) := dk_154 0 7 (dk_at dksX11_net_0 11 rfl rfl)
theorem dX11_net_14 : decode cX11_net 14 = .ok (.iconst 1, 1) := dk_4 (dk_at dksX11_net_0 14 rfl rfl)
theorem dX11_net_15 : decode cX11_net 15 = .ok (.goto 4, 3) := dk_167 0 4 (dk_at dksX11_net_0 15 rfl rfl)
theorem dX11_net_18 : decode cX11_net 18 = .ok (.iconst 0, 1) := dk_3 (dk_at dksX11_net_0 18 rfl rfl)
theorem dX11_net_19 : decode cX11_net 19 = .ok (.iconst 1, 1) := dk_4 (dk_at dksX11_net_0 19 rfl rfl)
theorem dX11_net_20 : decode cX11_net 20 = .ok (.iconst 0, 1) := dk_3 (dk_at dksX11_net_0 20 rfl rfl)
theorem dX11_net_21 : decode cX11_net 21 = .ok (.invokevirtual 249, 3) := dk_182 0 249 (dk_at dksX11_net_0 21 rfl rfl)
theorem dX11_net_24 : decode cX11_net 24 = .ok (.ifCond .eq 5, 3) := dk_153 0 5 (dk_at dksX11_net_1 0 rfl rfl)
theorem dX11_net_27 : decode cX11_net 27 = .ok (.iconst 0, 1) := dk_3 (dk_at dksX11_net_1 3 rfl rfl)
theorem dX11_net_28 : decode cX11_net 28 = .ok (.ireturn, 1) := dk_172 (dk_at dksX11_net_1 4 rfl rfl)
theorem dX11_net_29 : decode cX11_net 29 = .ok (.aload_n 0, 1) := dk_42 (dk_at dksX11_net_1 5 rfl rfl)
theorem dX11_net_30 : decode cX11_net 30 = .ok (.iload_n 1, 1) := dk_27 (dk_at dksX11_net_1 6 rfl rfl)
theorem dX11_net_31 : decode cX11_net 31 = .ok (.invokevirtual 439, 3) := dk_182 1 183 (dk_at dksX11_net_1 7 rfl rfl)
theorem dX11_net_34 : decode cX11_net 34 = .ok (.ireturn, 1) := dk_172 (dk_at dksX11_net_1 10 rfl rfl)
abbrev cX11_netOf : ByteArray := prog_22_method_120_code
def yX11_netOf : MethodName := ⟨RX11, "netOf", "(I)I"⟩
def dkwX11_netOf_1 : List UInt8 := [180, 0, 67, 27, 50, 29, 46, 100, 96, 61, 132, 3, 1, 167, 255, 223, 28, 172]
abbrev dktX11_netOf_1 : List UInt8 := dkwX11_netOf_1 ++ []
def dkwX11_netOf_0 : List UInt8 := [3, 61, 3, 62, 29, 42, 180, 0, 23, 3, 46, 162, 0, 29, 28, 42, 180, 0, 67, 29, 50, 27, 46, 42]
abbrev dktX11_netOf_0 : List UInt8 := dkwX11_netOf_0 ++ dktX11_netOf_1
theorem dksX11_netOf_0 : cX11_netOf.data.toList.drop 0 = dktX11_netOf_0 := by decide +kernel
theorem dksX11_netOf_1 : cX11_netOf.data.toList.drop 24 = dktX11_netOf_1 := dk_seg dksX11_netOf_0 24 rfl rfl
theorem dX11_netOf_0 : decode cX11_netOf 0 = .ok (.iconst 0, 1) := dk_3 (dk_at dksX11_netOf_0 0 rfl rfl)
theorem dX11_netOf_1 : decode cX11_netOf 1 = .ok (.istore_n 2, 1) := dk_61 (dk_at dksX11_netOf_0 1 rfl rfl)
theorem dX11_netOf_2 : decode cX11_netOf 2 = .ok (.iconst 0, 1) := dk_3 (dk_at dksX11_netOf_0 2 rfl rfl)
theorem dX11_netOf_3 : decode cX11_netOf 3 = .ok (.istore_n 3, 1) := dk_62 (dk_at dksX11_netOf_0 3 rfl rfl)
theorem dX11_netOf_4 : decode cX11_netOf 4 = .ok (.iload_n 3, 1) := dk_29 (dk_at dksX11_netOf_0 4 rfl rfl)
theorem dX11_netOf_5 : decode cX11_netOf 5 = .ok (.aload_n 0, 1) := dk_42 (dk_at dksX11_netOf_0 5 rfl rfl)
theorem dX11_netOf_6 : decode cX11_netOf 6 = .ok (.getfield 23, 3) := dk_180 0 23 (dk_at dksX11_netOf_0 6 rfl rfl)
theorem dX11_netOf_9 : decode cX11_netOf 9 = .ok (.iconst 0, 1) := dk_3 (dk_at dksX11_netOf_0 9 rfl rfl)
theorem dX11_netOf_10 : decode cX11_netOf 10 = .ok (.iaload, 1) := dk_46 (dk_at dksX11_netOf_0 10 rfl rfl)
theorem dX11_netOf_11 : decode cX11_netOf 11 = .ok (.if_icmp .ge 29, 3) := dk_162 0 29 (dk_at dksX11_netOf_0 11 rfl rfl)
theorem dX11_netOf_14 : decode cX11_netOf 14 = .ok (.iload_n 2, 1) := dk_28 (dk_at dksX11_netOf_0 14 rfl rfl)
theorem dX11_netOf_15 : decode cX11_netOf 15 = .ok (.aload_n 0, 1) := dk_42 (dk_at dksX11_netOf_0 15 rfl rfl)
theorem dX11_netOf_16 : decode cX11_netOf 16 = .ok (.getfield 67, 3) := dk_180 0 67 (dk_at dksX11_netOf_0 16 rfl rfl)
theorem dX11_netOf_19 : decode cX11_netOf 19 = .ok (.iload_n 3, 1) := dk_29 (dk_at dksX11_netOf_0 19 rfl rfl)
theorem dX11_netOf_20 : decode cX11_netOf 20 = .ok (.aaload, 1) := dk_50 (dk_at dksX11_netOf_0 20 rfl rfl)
theorem dX11_netOf_21 : decode cX11_netOf 21 = .ok (.iload_n 1, 1) := dk_27 (dk_at dksX11_netOf_0 21 rfl rfl)
theorem dX11_netOf_22 : decode cX11_netOf 22 = .ok (.iaload, 1) := dk_46 (dk_at dksX11_netOf_0 22 rfl rfl)
theorem dX11_netOf_23 : decode cX11_netOf 23 = .ok (.aload_n 0, 1) := dk_42 (dk_at dksX11_netOf_0 23 rfl rfl)
theorem dX11_netOf_24 : decode cX11_netOf 24 = .ok (.getfield 67, 3) := dk_180 0 67 (dk_at dksX11_netOf_1 0 rfl rfl)
theorem dX11_netOf_27 : decode cX11_netOf 27 = .ok (.iload_n 1, 1) := dk_27 (dk_at dksX11_netOf_1 3 rfl rfl)
theorem dX11_netOf_28 : decode cX11_netOf 28 = .ok (.aaload, 1) := dk_50 (dk_at dksX11_netOf_1 4 rfl rfl)
theorem dX11_netOf_29 : decode cX11_netOf 29 = .ok (.iload_n 3, 1) := dk_29 (dk_at dksX11_netOf_1 5 rfl rfl)
theorem dX11_netOf_30 : decode cX11_netOf 30 = .ok (.iaload, 1) := dk_46 (dk_at dksX11_netOf_1 6 rfl rfl)
theorem dX11_netOf_31 : decode cX11_netOf 31 = .ok (.isub, 1) := dk_100 (dk_at dksX11_netOf_1 7 rfl rfl)
theorem dX11_netOf_32 : decode cX11_netOf 32 = .ok (.iadd, 1) := dk_96 (dk_at dksX11_netOf_1 8 rfl rfl)
theorem dX11_netOf_33 : decode cX11_netOf 33 = .ok (.istore_n 2, 1) := dk_61 (dk_at dksX11_netOf_1 9 rfl rfl)
theorem dX11_netOf_34 : decode cX11_netOf 34 = .ok (.iinc 3 1, 3) := dk_132 3 1 (dk_at dksX11_netOf_1 10 rfl rfl)
theorem dX11_netOf_37 : decode cX11_netOf 37 = .ok (.goto (-33), 3) := dk_167 255 223 (dk_at dksX11_netOf_1 13 rfl rfl)
theorem dX11_netOf_40 : decode cX11_netOf 40 = .ok (.iload_n 2, 1) := dk_28 (dk_at dksX11_netOf_1 16 rfl rfl)
theorem dX11_netOf_41 : decode cX11_netOf 41 = .ok (.ireturn, 1) := dk_172 (dk_at dksX11_netOf_1 17 rfl rfl)
abbrev cX11_first : ByteArray := prog_22_method_122_code
def yX11_first : MethodName := ⟨RX11, "first", "(I)I"⟩
def dkwX11_first_5 : List UInt8 := [28, 172]
abbrev dktX11_first_5 : List UInt8 := dkwX11_first_5 ++ []
def dkwX11_first_4 : List UInt8 := [167, 0, 16, 42, 29, 182, 1, 183, 42, 28, 182, 1, 183, 164, 0, 5, 29, 61, 132, 3, 1, 167, 255, 178]
abbrev dktX11_first_4 : List UInt8 := dkwX11_first_4 ++ dktX11_first_5
def dkwX11_first_3 : List UInt8 := [154, 0, 25, 42, 180, 0, 49, 29, 50, 4, 46, 42, 180, 0, 49, 28, 50, 4, 46, 162, 0, 21]
abbrev dktX11_first_3 : List UInt8 := dkwX11_first_3 ++ dktX11_first_4
def dkwX11_first_2 : List UInt8 := [154, 0, 18, 42, 42, 180, 0, 91, 29, 182, 1, 64, 154, 0, 6, 167, 0, 49, 28, 2, 159, 0, 42, 27]
abbrev dktX11_first_2 : List UInt8 := dkwX11_first_2 ++ dktX11_first_3
def dkwX11_first_1 : List UInt8 := [182, 0, 249, 153, 0, 5, 3, 172, 2, 61, 3, 62, 29, 42, 180, 0, 23, 3, 46, 162, 0, 74, 27]
abbrev dktX11_first_1 : List UInt8 := dkwX11_first_1 ++ dktX11_first_2
def dkwX11_first_0 : List UInt8 := [42, 3, 181, 0, 134, 42, 27, 3, 4, 184, 0, 168, 154, 0, 7, 4, 167, 0, 4, 3, 4, 4]
abbrev dktX11_first_0 : List UInt8 := dkwX11_first_0 ++ dktX11_first_1
theorem dksX11_first_0 : cX11_first.data.toList.drop 0 = dktX11_first_0 := by decide +kernel
theorem dksX11_first_1 : cX11_first.data.toList.drop 22 = dktX11_first_1 := dk_seg dksX11_first_0 22 rfl rfl
theorem dksX11_first_2 : cX11_first.data.toList.drop 45 = dktX11_first_2 := dk_seg dksX11_first_1 23 rfl rfl
theorem dksX11_first_3 : cX11_first.data.toList.drop 69 = dktX11_first_3 := dk_seg dksX11_first_2 24 rfl rfl
theorem dksX11_first_4 : cX11_first.data.toList.drop 91 = dktX11_first_4 := dk_seg dksX11_first_3 22 rfl rfl
theorem dksX11_first_5 : cX11_first.data.toList.drop 115 = dktX11_first_5 := dk_seg dksX11_first_4 24 rfl rfl
theorem dX11_first_0 : decode cX11_first 0 = .ok (.aload_n 0, 1) := dk_42 (dk_at dksX11_first_0 0 rfl rfl)
theorem dX11_first_1 : decode cX11_first 1 = .ok (.iconst 0, 1) := dk_3 (dk_at dksX11_first_0 1 rfl rfl)
theorem dX11_first_2 : decode cX11_first 2 = .ok (.putfield 134, 3) := dk_181 0 134 (dk_at dksX11_first_0 2 rfl rfl)
theorem dX11_first_5 : decode cX11_first 5 = .ok (.aload_n 0, 1) := dk_42 (dk_at dksX11_first_0 5 rfl rfl)
theorem dX11_first_6 : decode cX11_first 6 = .ok (.iload_n 1, 1) := dk_27 (dk_at dksX11_first_0 6 rfl rfl)
theorem dX11_first_7 : decode cX11_first 7 = .ok (.iconst 0, 1) := dk_3 (dk_at dksX11_first_0 7 rfl rfl)
theorem dX11_first_8 : decode cX11_first 8 = .ok (.iconst 1, 1) := dk_4 (dk_at dksX11_first_0 8 rfl rfl)
theorem dX11_first_9 : decode cX11_first 9 = .ok (.invokestatic 168, 3) := dk_184 0 168 (dk_at dksX11_first_0 9 rfl rfl)
theorem dX11_first_12 : decode cX11_first 12 = .ok (.ifCond .ne 7, 3) := dk_154 0 7 (dk_at dksX11_first_0 12 rfl rfl)
theorem dX11_first_15 : decode cX11_first 15 = .ok (.iconst 1, 1) := dk_4 (dk_at dksX11_first_0 15 rfl rfl)
theorem dX11_first_16 : decode cX11_first 16 = .ok (.goto 4, 3) := dk_167 0 4 (dk_at dksX11_first_0 16 rfl rfl)
theorem dX11_first_19 : decode cX11_first 19 = .ok (.iconst 0, 1) := dk_3 (dk_at dksX11_first_0 19 rfl rfl)
theorem dX11_first_20 : decode cX11_first 20 = .ok (.iconst 1, 1) := dk_4 (dk_at dksX11_first_0 20 rfl rfl)
theorem dX11_first_21 : decode cX11_first 21 = .ok (.iconst 1, 1) := dk_4 (dk_at dksX11_first_0 21 rfl rfl)
theorem dX11_first_22 : decode cX11_first 22 = .ok (.invokevirtual 249, 3) := dk_182 0 249 (dk_at dksX11_first_1 0 rfl rfl)
theorem dX11_first_25 : decode cX11_first 25 = .ok (.ifCond .eq 5, 3) := dk_153 0 5 (dk_at dksX11_first_1 3 rfl rfl)
theorem dX11_first_28 : decode cX11_first 28 = .ok (.iconst 0, 1) := dk_3 (dk_at dksX11_first_1 6 rfl rfl)
theorem dX11_first_29 : decode cX11_first 29 = .ok (.ireturn, 1) := dk_172 (dk_at dksX11_first_1 7 rfl rfl)
theorem dX11_first_30 : decode cX11_first 30 = .ok (.iconst (-1), 1) := dk_2 (dk_at dksX11_first_1 8 rfl rfl)
theorem dX11_first_31 : decode cX11_first 31 = .ok (.istore_n 2, 1) := dk_61 (dk_at dksX11_first_1 9 rfl rfl)
theorem dX11_first_32 : decode cX11_first 32 = .ok (.iconst 0, 1) := dk_3 (dk_at dksX11_first_1 10 rfl rfl)
theorem dX11_first_33 : decode cX11_first 33 = .ok (.istore_n 3, 1) := dk_62 (dk_at dksX11_first_1 11 rfl rfl)
theorem dX11_first_34 : decode cX11_first 34 = .ok (.iload_n 3, 1) := dk_29 (dk_at dksX11_first_1 12 rfl rfl)
theorem dX11_first_35 : decode cX11_first 35 = .ok (.aload_n 0, 1) := dk_42 (dk_at dksX11_first_1 13 rfl rfl)
theorem dX11_first_36 : decode cX11_first 36 = .ok (.getfield 23, 3) := dk_180 0 23 (dk_at dksX11_first_1 14 rfl rfl)
theorem dX11_first_39 : decode cX11_first 39 = .ok (.iconst 0, 1) := dk_3 (dk_at dksX11_first_1 17 rfl rfl)
theorem dX11_first_40 : decode cX11_first 40 = .ok (.iaload, 1) := dk_46 (dk_at dksX11_first_1 18 rfl rfl)
theorem dX11_first_41 : decode cX11_first 41 = .ok (.if_icmp .ge 74, 3) := dk_162 0 74 (dk_at dksX11_first_1 19 rfl rfl)
theorem dX11_first_44 : decode cX11_first 44 = .ok (.iload_n 1, 1) := dk_27 (dk_at dksX11_first_1 22 rfl rfl)
theorem dX11_first_45 : decode cX11_first 45 = .ok (.ifCond .ne 18, 3) := dk_154 0 18 (dk_at dksX11_first_2 0 rfl rfl)
theorem dX11_first_48 : decode cX11_first 48 = .ok (.aload_n 0, 1) := dk_42 (dk_at dksX11_first_2 3 rfl rfl)
theorem dX11_first_49 : decode cX11_first 49 = .ok (.aload_n 0, 1) := dk_42 (dk_at dksX11_first_2 4 rfl rfl)
theorem dX11_first_50 : decode cX11_first 50 = .ok (.getfield 91, 3) := dk_180 0 91 (dk_at dksX11_first_2 5 rfl rfl)
theorem dX11_first_53 : decode cX11_first 53 = .ok (.iload_n 3, 1) := dk_29 (dk_at dksX11_first_2 8 rfl rfl)
theorem dX11_first_54 : decode cX11_first 54 = .ok (.invokevirtual 320, 3) := dk_182 1 64 (dk_at dksX11_first_2 9 rfl rfl)
theorem dX11_first_57 : decode cX11_first 57 = .ok (.ifCond .ne 6, 3) := dk_154 0 6 (dk_at dksX11_first_2 12 rfl rfl)
theorem dX11_first_60 : decode cX11_first 60 = .ok (.goto 49, 3) := dk_167 0 49 (dk_at dksX11_first_2 15 rfl rfl)
theorem dX11_first_63 : decode cX11_first 63 = .ok (.iload_n 2, 1) := dk_28 (dk_at dksX11_first_2 18 rfl rfl)
theorem dX11_first_64 : decode cX11_first 64 = .ok (.iconst (-1), 1) := dk_2 (dk_at dksX11_first_2 19 rfl rfl)
theorem dX11_first_65 : decode cX11_first 65 = .ok (.if_icmp .eq 42, 3) := dk_159 0 42 (dk_at dksX11_first_2 20 rfl rfl)
theorem dX11_first_68 : decode cX11_first 68 = .ok (.iload_n 1, 1) := dk_27 (dk_at dksX11_first_2 23 rfl rfl)
theorem dX11_first_69 : decode cX11_first 69 = .ok (.ifCond .ne 25, 3) := dk_154 0 25 (dk_at dksX11_first_3 0 rfl rfl)
theorem dX11_first_72 : decode cX11_first 72 = .ok (.aload_n 0, 1) := dk_42 (dk_at dksX11_first_3 3 rfl rfl)
theorem dX11_first_73 : decode cX11_first 73 = .ok (.getfield 49, 3) := dk_180 0 49 (dk_at dksX11_first_3 4 rfl rfl)
theorem dX11_first_76 : decode cX11_first 76 = .ok (.iload_n 3, 1) := dk_29 (dk_at dksX11_first_3 7 rfl rfl)
theorem dX11_first_77 : decode cX11_first 77 = .ok (.aaload, 1) := dk_50 (dk_at dksX11_first_3 8 rfl rfl)
theorem dX11_first_78 : decode cX11_first 78 = .ok (.iconst 1, 1) := dk_4 (dk_at dksX11_first_3 9 rfl rfl)
theorem dX11_first_79 : decode cX11_first 79 = .ok (.iaload, 1) := dk_46 (dk_at dksX11_first_3 10 rfl rfl)
theorem dX11_first_80 : decode cX11_first 80 = .ok (.aload_n 0, 1) := dk_42 (dk_at dksX11_first_3 11 rfl rfl)
theorem dX11_first_81 : decode cX11_first 81 = .ok (.getfield 49, 3) := dk_180 0 49 (dk_at dksX11_first_3 12 rfl rfl)
theorem dX11_first_84 : decode cX11_first 84 = .ok (.iload_n 2, 1) := dk_28 (dk_at dksX11_first_3 15 rfl rfl)
theorem dX11_first_85 : decode cX11_first 85 = .ok (.aaload, 1) := dk_50 (dk_at dksX11_first_3 16 rfl rfl)
theorem dX11_first_86 : decode cX11_first 86 = .ok (.iconst 1, 1) := dk_4 (dk_at dksX11_first_3 17 rfl rfl)
theorem dX11_first_87 : decode cX11_first 87 = .ok (.iaload, 1) := dk_46 (dk_at dksX11_first_3 18 rfl rfl)
theorem dX11_first_88 : decode cX11_first 88 = .ok (.if_icmp .ge 21, 3) := dk_162 0 21 (dk_at dksX11_first_3 19 rfl rfl)
theorem dX11_first_91 : decode cX11_first 91 = .ok (.goto 16, 3) := dk_167 0 16 (dk_at dksX11_first_4 0 rfl rfl)
theorem dX11_first_94 : decode cX11_first 94 = .ok (.aload_n 0, 1) := dk_42 (dk_at dksX11_first_4 3 rfl rfl)
theorem dX11_first_95 : decode cX11_first 95 = .ok (.iload_n 3, 1) := dk_29 (dk_at dksX11_first_4 4 rfl rfl)
theorem dX11_first_96 : decode cX11_first 96 = .ok (.invokevirtual 439, 3) := dk_182 1 183 (dk_at dksX11_first_4 5 rfl rfl)
theorem dX11_first_99 : decode cX11_first 99 = .ok (.aload_n 0, 1) := dk_42 (dk_at dksX11_first_4 8 rfl rfl)
theorem dX11_first_100 : decode cX11_first 100 = .ok (.iload_n 2, 1) := dk_28 (dk_at dksX11_first_4 9 rfl rfl)
theorem dX11_first_101 : decode cX11_first 101 = .ok (.invokevirtual 439, 3) := dk_182 1 183 (dk_at dksX11_first_4 10 rfl rfl)
theorem dX11_first_104 : decode cX11_first 104 = .ok (.if_icmp .le 5, 3) := dk_164 0 5 (dk_at dksX11_first_4 13 rfl rfl)
theorem dX11_first_107 : decode cX11_first 107 = .ok (.iload_n 3, 1) := dk_29 (dk_at dksX11_first_4 16 rfl rfl)
theorem dX11_first_108 : decode cX11_first 108 = .ok (.istore_n 2, 1) := dk_61 (dk_at dksX11_first_4 17 rfl rfl)
theorem dX11_first_109 : decode cX11_first 109 = .ok (.iinc 3 1, 3) := dk_132 3 1 (dk_at dksX11_first_4 18 rfl rfl)
theorem dX11_first_112 : decode cX11_first 112 = .ok (.goto (-78), 3) := dk_167 255 178 (dk_at dksX11_first_4 21 rfl rfl)
theorem dX11_first_115 : decode cX11_first 115 = .ok (.iload_n 2, 1) := dk_28 (dk_at dksX11_first_5 0 rfl rfl)
theorem dX11_first_116 : decode cX11_first 116 = .ok (.ireturn, 1) := dk_172 (dk_at dksX11_first_5 1 rfl rfl)
abbrev cX11_orphans : ByteArray := prog_22_method_123_code
def yX11_orphans : MethodName := ⟨RX11, "orphans", "()I"⟩
def dkwX11_orphans_2 : List UInt8 := [167, 255, 221, 27, 172]
abbrev dktX11_orphans_2 : List UInt8 := dkwX11_orphans_2 ++ []
def dkwX11_orphans_1 : List UInt8 := [180, 0, 91, 28, 182, 1, 85, 158, 0, 9, 4, 28, 120, 167, 0, 4, 3, 128, 60, 132, 2, 1]
abbrev dktX11_orphans_1 : List UInt8 := dkwX11_orphans_1 ++ dktX11_orphans_2
def dkwX11_orphans_0 : List UInt8 := [42, 3, 181, 0, 134, 3, 60, 3, 61, 28, 42, 180, 0, 23, 4, 46, 162, 0, 31, 27, 42, 42]
abbrev dktX11_orphans_0 : List UInt8 := dkwX11_orphans_0 ++ dktX11_orphans_1
theorem dksX11_orphans_0 : cX11_orphans.data.toList.drop 0 = dktX11_orphans_0 := by decide +kernel
theorem dksX11_orphans_1 : cX11_orphans.data.toList.drop 22 = dktX11_orphans_1 := dk_seg dksX11_orphans_0 22 rfl rfl
theorem dksX11_orphans_2 : cX11_orphans.data.toList.drop 44 = dktX11_orphans_2 := dk_seg dksX11_orphans_1 22 rfl rfl
theorem dX11_orphans_0 : decode cX11_orphans 0 = .ok (.aload_n 0, 1) := dk_42 (dk_at dksX11_orphans_0 0 rfl rfl)
theorem dX11_orphans_1 : decode cX11_orphans 1 = .ok (.iconst 0, 1) := dk_3 (dk_at dksX11_orphans_0 1 rfl rfl)
theorem dX11_orphans_2 : decode cX11_orphans 2 = .ok (.putfield 134, 3) := dk_181 0 134 (dk_at dksX11_orphans_0 2 rfl rfl)
theorem dX11_orphans_5 : decode cX11_orphans 5 = .ok (.iconst 0, 1) := dk_3 (dk_at dksX11_orphans_0 5 rfl rfl)
theorem dX11_orphans_6 : decode cX11_orphans 6 = .ok (.istore_n 1, 1) := dk_60 (dk_at dksX11_orphans_0 6 rfl rfl)
theorem dX11_orphans_7 : decode cX11_orphans 7 = .ok (.iconst 0, 1) := dk_3 (dk_at dksX11_orphans_0 7 rfl rfl)
theorem dX11_orphans_8 : decode cX11_orphans 8 = .ok (.istore_n 2, 1) := dk_61 (dk_at dksX11_orphans_0 8 rfl rfl)
theorem dX11_orphans_9 : decode cX11_orphans 9 = .ok (.iload_n 2, 1) := dk_28 (dk_at dksX11_orphans_0 9 rfl rfl)
theorem dX11_orphans_10 : decode cX11_orphans 10 = .ok (.aload_n 0, 1) := dk_42 (dk_at dksX11_orphans_0 10 rfl rfl)
theorem dX11_orphans_11 : decode cX11_orphans 11 = .ok (.getfield 23, 3) := dk_180 0 23 (dk_at dksX11_orphans_0 11 rfl rfl)
theorem dX11_orphans_14 : decode cX11_orphans 14 = .ok (.iconst 1, 1) := dk_4 (dk_at dksX11_orphans_0 14 rfl rfl)
theorem dX11_orphans_15 : decode cX11_orphans 15 = .ok (.iaload, 1) := dk_46 (dk_at dksX11_orphans_0 15 rfl rfl)
theorem dX11_orphans_16 : decode cX11_orphans 16 = .ok (.if_icmp .ge 31, 3) := dk_162 0 31 (dk_at dksX11_orphans_0 16 rfl rfl)
theorem dX11_orphans_19 : decode cX11_orphans 19 = .ok (.iload_n 1, 1) := dk_27 (dk_at dksX11_orphans_0 19 rfl rfl)
theorem dX11_orphans_20 : decode cX11_orphans 20 = .ok (.aload_n 0, 1) := dk_42 (dk_at dksX11_orphans_0 20 rfl rfl)
theorem dX11_orphans_21 : decode cX11_orphans 21 = .ok (.aload_n 0, 1) := dk_42 (dk_at dksX11_orphans_0 21 rfl rfl)
theorem dX11_orphans_22 : decode cX11_orphans 22 = .ok (.getfield 91, 3) := dk_180 0 91 (dk_at dksX11_orphans_1 0 rfl rfl)
theorem dX11_orphans_25 : decode cX11_orphans 25 = .ok (.iload_n 2, 1) := dk_28 (dk_at dksX11_orphans_1 3 rfl rfl)
theorem dX11_orphans_26 : decode cX11_orphans 26 = .ok (.invokevirtual 341, 3) := dk_182 1 85 (dk_at dksX11_orphans_1 4 rfl rfl)
theorem dX11_orphans_29 : decode cX11_orphans 29 = .ok (.ifCond .le 9, 3) := dk_158 0 9 (dk_at dksX11_orphans_1 7 rfl rfl)
theorem dX11_orphans_32 : decode cX11_orphans 32 = .ok (.iconst 1, 1) := dk_4 (dk_at dksX11_orphans_1 10 rfl rfl)
theorem dX11_orphans_33 : decode cX11_orphans 33 = .ok (.iload_n 2, 1) := dk_28 (dk_at dksX11_orphans_1 11 rfl rfl)
theorem dX11_orphans_34 : decode cX11_orphans 34 = .ok (.ishl, 1) := dk_120 (dk_at dksX11_orphans_1 12 rfl rfl)
theorem dX11_orphans_35 : decode cX11_orphans 35 = .ok (.goto 4, 3) := dk_167 0 4 (dk_at dksX11_orphans_1 13 rfl rfl)
theorem dX11_orphans_38 : decode cX11_orphans 38 = .ok (.iconst 0, 1) := dk_3 (dk_at dksX11_orphans_1 16 rfl rfl)
theorem dX11_orphans_39 : decode cX11_orphans 39 = .ok (.ior, 1) := dk_128 (dk_at dksX11_orphans_1 17 rfl rfl)
theorem dX11_orphans_40 : decode cX11_orphans 40 = .ok (.istore_n 1, 1) := dk_60 (dk_at dksX11_orphans_1 18 rfl rfl)
theorem dX11_orphans_41 : decode cX11_orphans 41 = .ok (.iinc 2 1, 3) := dk_132 2 1 (dk_at dksX11_orphans_1 19 rfl rfl)
theorem dX11_orphans_44 : decode cX11_orphans 44 = .ok (.goto (-35), 3) := dk_167 255 221 (dk_at dksX11_orphans_2 0 rfl rfl)
theorem dX11_orphans_47 : decode cX11_orphans 47 = .ok (.iload_n 1, 1) := dk_27 (dk_at dksX11_orphans_2 3 rfl rfl)
theorem dX11_orphans_48 : decode cX11_orphans 48 = .ok (.ireturn, 1) := dk_172 (dk_at dksX11_orphans_2 4 rfl rfl)
abbrev cX11_idle : ByteArray := prog_22_method_124_code
def yX11_idle : MethodName := ⟨RX11, "idle", "()I"⟩
def dkwX11_idle_2 : List UInt8 := [120, 167, 0, 4, 3, 128, 60, 132, 2, 1, 167, 255, 209, 27, 172]
abbrev dktX11_idle_2 : List UInt8 := dkwX11_idle_2 ++ []
def dkwX11_idle_1 : List UInt8 := [180, 0, 91, 28, 182, 1, 64, 153, 0, 21, 42, 42, 180, 0, 91, 28, 182, 1, 78, 154, 0, 9, 4, 28]
abbrev dktX11_idle_1 : List UInt8 := dkwX11_idle_1 ++ dktX11_idle_2
def dkwX11_idle_0 : List UInt8 := [42, 3, 181, 0, 134, 3, 60, 3, 61, 28, 42, 180, 0, 23, 3, 46, 162, 0, 43, 27, 42, 42]
abbrev dktX11_idle_0 : List UInt8 := dkwX11_idle_0 ++ dktX11_idle_1
theorem dksX11_idle_0 : cX11_idle.data.toList.drop 0 = dktX11_idle_0 := by decide +kernel
theorem dksX11_idle_1 : cX11_idle.data.toList.drop 22 = dktX11_idle_1 := dk_seg dksX11_idle_0 22 rfl rfl
theorem dksX11_idle_2 : cX11_idle.data.toList.drop 46 = dktX11_idle_2 := dk_seg dksX11_idle_1 24 rfl rfl
theorem dX11_idle_0 : decode cX11_idle 0 = .ok (.aload_n 0, 1) := dk_42 (dk_at dksX11_idle_0 0 rfl rfl)
theorem dX11_idle_1 : decode cX11_idle 1 = .ok (.iconst 0, 1) := dk_3 (dk_at dksX11_idle_0 1 rfl rfl)
theorem dX11_idle_2 : decode cX11_idle 2 = .ok (.putfield 134, 3) := dk_181 0 134 (dk_at dksX11_idle_0 2 rfl rfl)
theorem dX11_idle_5 : decode cX11_idle 5 = .ok (.iconst 0, 1) := dk_3 (dk_at dksX11_idle_0 5 rfl rfl)
theorem dX11_idle_6 : decode cX11_idle 6 = .ok (.istore_n 1, 1) := dk_60 (dk_at dksX11_idle_0 6 rfl rfl)
theorem dX11_idle_7 : decode cX11_idle 7 = .ok (.iconst 0, 1) := dk_3 (dk_at dksX11_idle_0 7 rfl rfl)
theorem dX11_idle_8 : decode cX11_idle 8 = .ok (.istore_n 2, 1) := dk_61 (dk_at dksX11_idle_0 8 rfl rfl)
theorem dX11_idle_9 : decode cX11_idle 9 = .ok (.iload_n 2, 1) := dk_28 (dk_at dksX11_idle_0 9 rfl rfl)
theorem dX11_idle_10 : decode cX11_idle 10 = .ok (.aload_n 0, 1) := dk_42 (dk_at dksX11_idle_0 10 rfl rfl)
theorem dX11_idle_11 : decode cX11_idle 11 = .ok (.getfield 23, 3) := dk_180 0 23 (dk_at dksX11_idle_0 11 rfl rfl)
theorem dX11_idle_14 : decode cX11_idle 14 = .ok (.iconst 0, 1) := dk_3 (dk_at dksX11_idle_0 14 rfl rfl)
theorem dX11_idle_15 : decode cX11_idle 15 = .ok (.iaload, 1) := dk_46 (dk_at dksX11_idle_0 15 rfl rfl)
theorem dX11_idle_16 : decode cX11_idle 16 = .ok (.if_icmp .ge 43, 3) := dk_162 0 43 (dk_at dksX11_idle_0 16 rfl rfl)
theorem dX11_idle_19 : decode cX11_idle 19 = .ok (.iload_n 1, 1) := dk_27 (dk_at dksX11_idle_0 19 rfl rfl)
theorem dX11_idle_20 : decode cX11_idle 20 = .ok (.aload_n 0, 1) := dk_42 (dk_at dksX11_idle_0 20 rfl rfl)
theorem dX11_idle_21 : decode cX11_idle 21 = .ok (.aload_n 0, 1) := dk_42 (dk_at dksX11_idle_0 21 rfl rfl)
theorem dX11_idle_22 : decode cX11_idle 22 = .ok (.getfield 91, 3) := dk_180 0 91 (dk_at dksX11_idle_1 0 rfl rfl)
theorem dX11_idle_25 : decode cX11_idle 25 = .ok (.iload_n 2, 1) := dk_28 (dk_at dksX11_idle_1 3 rfl rfl)
theorem dX11_idle_26 : decode cX11_idle 26 = .ok (.invokevirtual 320, 3) := dk_182 1 64 (dk_at dksX11_idle_1 4 rfl rfl)
theorem dX11_idle_29 : decode cX11_idle 29 = .ok (.ifCond .eq 21, 3) := dk_153 0 21 (dk_at dksX11_idle_1 7 rfl rfl)
theorem dX11_idle_32 : decode cX11_idle 32 = .ok (.aload_n 0, 1) := dk_42 (dk_at dksX11_idle_1 10 rfl rfl)
theorem dX11_idle_33 : decode cX11_idle 33 = .ok (.aload_n 0, 1) := dk_42 (dk_at dksX11_idle_1 11 rfl rfl)
theorem dX11_idle_34 : decode cX11_idle 34 = .ok (.getfield 91, 3) := dk_180 0 91 (dk_at dksX11_idle_1 12 rfl rfl)
theorem dX11_idle_37 : decode cX11_idle 37 = .ok (.iload_n 2, 1) := dk_28 (dk_at dksX11_idle_1 15 rfl rfl)
theorem dX11_idle_38 : decode cX11_idle 38 = .ok (.invokevirtual 334, 3) := dk_182 1 78 (dk_at dksX11_idle_1 16 rfl rfl)
theorem dX11_idle_41 : decode cX11_idle 41 = .ok (.ifCond .ne 9, 3) := dk_154 0 9 (dk_at dksX11_idle_1 19 rfl rfl)
theorem dX11_idle_44 : decode cX11_idle 44 = .ok (.iconst 1, 1) := dk_4 (dk_at dksX11_idle_1 22 rfl rfl)
theorem dX11_idle_45 : decode cX11_idle 45 = .ok (.iload_n 2, 1) := dk_28 (dk_at dksX11_idle_1 23 rfl rfl)
theorem dX11_idle_46 : decode cX11_idle 46 = .ok (.ishl, 1) := dk_120 (dk_at dksX11_idle_2 0 rfl rfl)
theorem dX11_idle_47 : decode cX11_idle 47 = .ok (.goto 4, 3) := dk_167 0 4 (dk_at dksX11_idle_2 1 rfl rfl)
theorem dX11_idle_50 : decode cX11_idle 50 = .ok (.iconst 0, 1) := dk_3 (dk_at dksX11_idle_2 4 rfl rfl)
theorem dX11_idle_51 : decode cX11_idle 51 = .ok (.ior, 1) := dk_128 (dk_at dksX11_idle_2 5 rfl rfl)
theorem dX11_idle_52 : decode cX11_idle 52 = .ok (.istore_n 1, 1) := dk_60 (dk_at dksX11_idle_2 6 rfl rfl)
theorem dX11_idle_53 : decode cX11_idle 53 = .ok (.iinc 2 1, 3) := dk_132 2 1 (dk_at dksX11_idle_2 7 rfl rfl)
theorem dX11_idle_56 : decode cX11_idle 56 = .ok (.goto (-47), 3) := dk_167 255 209 (dk_at dksX11_idle_2 10 rfl rfl)
theorem dX11_idle_59 : decode cX11_idle 59 = .ok (.iload_n 1, 1) := dk_27 (dk_at dksX11_idle_2 13 rfl rfl)
theorem dX11_idle_60 : decode cX11_idle 60 = .ok (.ireturn, 1) := dk_172 (dk_at dksX11_idle_2 14 rfl rfl)
abbrev cX11_mute : ByteArray := prog_22_method_125_code
def yX11_mute : MethodName := ⟨RX11, "mute", "()I"⟩
def dkwX11_mute_2 : List UInt8 := [132, 2, 1, 167, 255, 217, 27, 172]
abbrev dktX11_mute_2 : List UInt8 := dkwX11_mute_2 ++ []
def dkwX11_mute_1 : List UInt8 := [180, 0, 91, 4, 28, 96, 46, 182, 1, 144, 154, 0, 9, 4, 28, 120, 167, 0, 4, 3, 128, 60]
abbrev dktX11_mute_1 : List UInt8 := dkwX11_mute_1 ++ dktX11_mute_2
def dkwX11_mute_0 : List UInt8 := [42, 3, 181, 0, 134, 3, 60, 3, 61, 28, 42, 180, 0, 23, 4, 46, 162, 0, 35, 27, 42, 3, 42]
abbrev dktX11_mute_0 : List UInt8 := dkwX11_mute_0 ++ dktX11_mute_1
theorem dksX11_mute_0 : cX11_mute.data.toList.drop 0 = dktX11_mute_0 := by decide +kernel
theorem dksX11_mute_1 : cX11_mute.data.toList.drop 23 = dktX11_mute_1 := dk_seg dksX11_mute_0 23 rfl rfl
theorem dksX11_mute_2 : cX11_mute.data.toList.drop 45 = dktX11_mute_2 := dk_seg dksX11_mute_1 22 rfl rfl
theorem dX11_mute_0 : decode cX11_mute 0 = .ok (.aload_n 0, 1) := dk_42 (dk_at dksX11_mute_0 0 rfl rfl)
theorem dX11_mute_1 : decode cX11_mute 1 = .ok (.iconst 0, 1) := dk_3 (dk_at dksX11_mute_0 1 rfl rfl)
theorem dX11_mute_2 : decode cX11_mute 2 = .ok (.putfield 134, 3) := dk_181 0 134 (dk_at dksX11_mute_0 2 rfl rfl)
theorem dX11_mute_5 : decode cX11_mute 5 = .ok (.iconst 0, 1) := dk_3 (dk_at dksX11_mute_0 5 rfl rfl)
theorem dX11_mute_6 : decode cX11_mute 6 = .ok (.istore_n 1, 1) := dk_60 (dk_at dksX11_mute_0 6 rfl rfl)
theorem dX11_mute_7 : decode cX11_mute 7 = .ok (.iconst 0, 1) := dk_3 (dk_at dksX11_mute_0 7 rfl rfl)
theorem dX11_mute_8 : decode cX11_mute 8 = .ok (.istore_n 2, 1) := dk_61 (dk_at dksX11_mute_0 8 rfl rfl)
theorem dX11_mute_9 : decode cX11_mute 9 = .ok (.iload_n 2, 1) := dk_28 (dk_at dksX11_mute_0 9 rfl rfl)
theorem dX11_mute_10 : decode cX11_mute 10 = .ok (.aload_n 0, 1) := dk_42 (dk_at dksX11_mute_0 10 rfl rfl)
theorem dX11_mute_11 : decode cX11_mute 11 = .ok (.getfield 23, 3) := dk_180 0 23 (dk_at dksX11_mute_0 11 rfl rfl)
theorem dX11_mute_14 : decode cX11_mute 14 = .ok (.iconst 1, 1) := dk_4 (dk_at dksX11_mute_0 14 rfl rfl)
theorem dX11_mute_15 : decode cX11_mute 15 = .ok (.iaload, 1) := dk_46 (dk_at dksX11_mute_0 15 rfl rfl)
theorem dX11_mute_16 : decode cX11_mute 16 = .ok (.if_icmp .ge 35, 3) := dk_162 0 35 (dk_at dksX11_mute_0 16 rfl rfl)
theorem dX11_mute_19 : decode cX11_mute 19 = .ok (.iload_n 1, 1) := dk_27 (dk_at dksX11_mute_0 19 rfl rfl)
theorem dX11_mute_20 : decode cX11_mute 20 = .ok (.aload_n 0, 1) := dk_42 (dk_at dksX11_mute_0 20 rfl rfl)
theorem dX11_mute_21 : decode cX11_mute 21 = .ok (.iconst 0, 1) := dk_3 (dk_at dksX11_mute_0 21 rfl rfl)
theorem dX11_mute_22 : decode cX11_mute 22 = .ok (.aload_n 0, 1) := dk_42 (dk_at dksX11_mute_0 22 rfl rfl)
theorem dX11_mute_23 : decode cX11_mute 23 = .ok (.getfield 91, 3) := dk_180 0 91 (dk_at dksX11_mute_1 0 rfl rfl)
theorem dX11_mute_26 : decode cX11_mute 26 = .ok (.iconst 1, 1) := dk_4 (dk_at dksX11_mute_1 3 rfl rfl)
theorem dX11_mute_27 : decode cX11_mute 27 = .ok (.iload_n 2, 1) := dk_28 (dk_at dksX11_mute_1 4 rfl rfl)
theorem dX11_mute_28 : decode cX11_mute 28 = .ok (.iadd, 1) := dk_96 (dk_at dksX11_mute_1 5 rfl rfl)
theorem dX11_mute_29 : decode cX11_mute 29 = .ok (.iaload, 1) := dk_46 (dk_at dksX11_mute_1 6 rfl rfl)
theorem dX11_mute_30 : decode cX11_mute 30 = .ok (.invokevirtual 400, 3) := dk_182 1 144 (dk_at dksX11_mute_1 7 rfl rfl)
theorem dX11_mute_33 : decode cX11_mute 33 = .ok (.ifCond .ne 9, 3) := dk_154 0 9 (dk_at dksX11_mute_1 10 rfl rfl)
theorem dX11_mute_36 : decode cX11_mute 36 = .ok (.iconst 1, 1) := dk_4 (dk_at dksX11_mute_1 13 rfl rfl)
theorem dX11_mute_37 : decode cX11_mute 37 = .ok (.iload_n 2, 1) := dk_28 (dk_at dksX11_mute_1 14 rfl rfl)
theorem dX11_mute_38 : decode cX11_mute 38 = .ok (.ishl, 1) := dk_120 (dk_at dksX11_mute_1 15 rfl rfl)
theorem dX11_mute_39 : decode cX11_mute 39 = .ok (.goto 4, 3) := dk_167 0 4 (dk_at dksX11_mute_1 16 rfl rfl)
theorem dX11_mute_42 : decode cX11_mute 42 = .ok (.iconst 0, 1) := dk_3 (dk_at dksX11_mute_1 19 rfl rfl)
theorem dX11_mute_43 : decode cX11_mute 43 = .ok (.ior, 1) := dk_128 (dk_at dksX11_mute_1 20 rfl rfl)
theorem dX11_mute_44 : decode cX11_mute 44 = .ok (.istore_n 1, 1) := dk_60 (dk_at dksX11_mute_1 21 rfl rfl)
theorem dX11_mute_45 : decode cX11_mute 45 = .ok (.iinc 2 1, 3) := dk_132 2 1 (dk_at dksX11_mute_2 0 rfl rfl)
theorem dX11_mute_48 : decode cX11_mute 48 = .ok (.goto (-39), 3) := dk_167 255 217 (dk_at dksX11_mute_2 3 rfl rfl)
theorem dX11_mute_51 : decode cX11_mute 51 = .ok (.iload_n 1, 1) := dk_27 (dk_at dksX11_mute_2 6 rfl rfl)
theorem dX11_mute_52 : decode cX11_mute 52 = .ok (.ireturn, 1) := dk_172 (dk_at dksX11_mute_2 7 rfl rfl)
abbrev cX11_slack : ByteArray := prog_22_method_126_code
def yX11_slack : MethodName := ⟨RX11, "slack", "(I)I"⟩
def dkwX11_slack_3 : List UInt8 := [167, 255, 220, 28, 172]
abbrev dktX11_slack_3 : List UInt8 := dkwX11_slack_3 ++ []
def dkwX11_slack_2 : List UInt8 := [180, 0, 91, 16, 9, 29, 96, 46, 27, 162, 0, 9, 4, 29, 120, 167, 0, 4, 3, 128, 61, 132, 3, 1]
abbrev dktX11_slack_2 : List UInt8 := dkwX11_slack_2 ++ dktX11_slack_3
def dkwX11_slack_1 : List UInt8 := [182, 0, 249, 153, 0, 5, 3, 172, 3, 61, 3, 62, 29, 42, 180, 0, 23, 4, 46, 162, 0, 32, 28, 42]
abbrev dktX11_slack_1 : List UInt8 := dkwX11_slack_1 ++ dktX11_slack_2
def dkwX11_slack_0 : List UInt8 := [42, 3, 181, 0, 134, 42, 27, 3, 16, 31, 184, 0, 168, 154, 0, 7, 4, 167, 0, 4, 3, 4, 4]
abbrev dktX11_slack_0 : List UInt8 := dkwX11_slack_0 ++ dktX11_slack_1
theorem dksX11_slack_0 : cX11_slack.data.toList.drop 0 = dktX11_slack_0 := by decide +kernel
theorem dksX11_slack_1 : cX11_slack.data.toList.drop 23 = dktX11_slack_1 := dk_seg dksX11_slack_0 23 rfl rfl
theorem dksX11_slack_2 : cX11_slack.data.toList.drop 47 = dktX11_slack_2 := dk_seg dksX11_slack_1 24 rfl rfl
theorem dksX11_slack_3 : cX11_slack.data.toList.drop 71 = dktX11_slack_3 := dk_seg dksX11_slack_2 24 rfl rfl
theorem dX11_slack_0 : decode cX11_slack 0 = .ok (.aload_n 0, 1) := dk_42 (dk_at dksX11_slack_0 0 rfl rfl)
theorem dX11_slack_1 : decode cX11_slack 1 = .ok (.iconst 0, 1) := dk_3 (dk_at dksX11_slack_0 1 rfl rfl)
theorem dX11_slack_2 : decode cX11_slack 2 = .ok (.putfield 134, 3) := dk_181 0 134 (dk_at dksX11_slack_0 2 rfl rfl)
theorem dX11_slack_5 : decode cX11_slack 5 = .ok (.aload_n 0, 1) := dk_42 (dk_at dksX11_slack_0 5 rfl rfl)
theorem dX11_slack_6 : decode cX11_slack 6 = .ok (.iload_n 1, 1) := dk_27 (dk_at dksX11_slack_0 6 rfl rfl)
theorem dX11_slack_7 : decode cX11_slack 7 = .ok (.iconst 0, 1) := dk_3 (dk_at dksX11_slack_0 7 rfl rfl)
theorem dX11_slack_8 : decode cX11_slack 8 = .ok (.bipush 31, 2) := dk_16 31 (dk_at dksX11_slack_0 8 rfl rfl)
theorem dX11_slack_10 : decode cX11_slack 10 = .ok (.invokestatic 168, 3) := dk_184 0 168 (dk_at dksX11_slack_0 10 rfl rfl)
theorem dX11_slack_13 : decode cX11_slack 13 = .ok (.ifCond .ne 7, 3) := dk_154 0 7 (dk_at dksX11_slack_0 13 rfl rfl)
theorem dX11_slack_16 : decode cX11_slack 16 = .ok (.iconst 1, 1) := dk_4 (dk_at dksX11_slack_0 16 rfl rfl)
theorem dX11_slack_17 : decode cX11_slack 17 = .ok (.goto 4, 3) := dk_167 0 4 (dk_at dksX11_slack_0 17 rfl rfl)
theorem dX11_slack_20 : decode cX11_slack 20 = .ok (.iconst 0, 1) := dk_3 (dk_at dksX11_slack_0 20 rfl rfl)
theorem dX11_slack_21 : decode cX11_slack 21 = .ok (.iconst 1, 1) := dk_4 (dk_at dksX11_slack_0 21 rfl rfl)
theorem dX11_slack_22 : decode cX11_slack 22 = .ok (.iconst 1, 1) := dk_4 (dk_at dksX11_slack_0 22 rfl rfl)
theorem dX11_slack_23 : decode cX11_slack 23 = .ok (.invokevirtual 249, 3) := dk_182 0 249 (dk_at dksX11_slack_1 0 rfl rfl)
theorem dX11_slack_26 : decode cX11_slack 26 = .ok (.ifCond .eq 5, 3) := dk_153 0 5 (dk_at dksX11_slack_1 3 rfl rfl)
theorem dX11_slack_29 : decode cX11_slack 29 = .ok (.iconst 0, 1) := dk_3 (dk_at dksX11_slack_1 6 rfl rfl)
theorem dX11_slack_30 : decode cX11_slack 30 = .ok (.ireturn, 1) := dk_172 (dk_at dksX11_slack_1 7 rfl rfl)
theorem dX11_slack_31 : decode cX11_slack 31 = .ok (.iconst 0, 1) := dk_3 (dk_at dksX11_slack_1 8 rfl rfl)
theorem dX11_slack_32 : decode cX11_slack 32 = .ok (.istore_n 2, 1) := dk_61 (dk_at dksX11_slack_1 9 rfl rfl)
theorem dX11_slack_33 : decode cX11_slack 33 = .ok (.iconst 0, 1) := dk_3 (dk_at dksX11_slack_1 10 rfl rfl)
theorem dX11_slack_34 : decode cX11_slack 34 = .ok (.istore_n 3, 1) := dk_62 (dk_at dksX11_slack_1 11 rfl rfl)
theorem dX11_slack_35 : decode cX11_slack 35 = .ok (.iload_n 3, 1) := dk_29 (dk_at dksX11_slack_1 12 rfl rfl)
theorem dX11_slack_36 : decode cX11_slack 36 = .ok (.aload_n 0, 1) := dk_42 (dk_at dksX11_slack_1 13 rfl rfl)
theorem dX11_slack_37 : decode cX11_slack 37 = .ok (.getfield 23, 3) := dk_180 0 23 (dk_at dksX11_slack_1 14 rfl rfl)
theorem dX11_slack_40 : decode cX11_slack 40 = .ok (.iconst 1, 1) := dk_4 (dk_at dksX11_slack_1 17 rfl rfl)
theorem dX11_slack_41 : decode cX11_slack 41 = .ok (.iaload, 1) := dk_46 (dk_at dksX11_slack_1 18 rfl rfl)
theorem dX11_slack_42 : decode cX11_slack 42 = .ok (.if_icmp .ge 32, 3) := dk_162 0 32 (dk_at dksX11_slack_1 19 rfl rfl)
theorem dX11_slack_45 : decode cX11_slack 45 = .ok (.iload_n 2, 1) := dk_28 (dk_at dksX11_slack_1 22 rfl rfl)
theorem dX11_slack_46 : decode cX11_slack 46 = .ok (.aload_n 0, 1) := dk_42 (dk_at dksX11_slack_1 23 rfl rfl)
theorem dX11_slack_47 : decode cX11_slack 47 = .ok (.getfield 91, 3) := dk_180 0 91 (dk_at dksX11_slack_2 0 rfl rfl)
theorem dX11_slack_50 : decode cX11_slack 50 = .ok (.bipush 9, 2) := dk_16 9 (dk_at dksX11_slack_2 3 rfl rfl)
theorem dX11_slack_52 : decode cX11_slack 52 = .ok (.iload_n 3, 1) := dk_29 (dk_at dksX11_slack_2 5 rfl rfl)
theorem dX11_slack_53 : decode cX11_slack 53 = .ok (.iadd, 1) := dk_96 (dk_at dksX11_slack_2 6 rfl rfl)
theorem dX11_slack_54 : decode cX11_slack 54 = .ok (.iaload, 1) := dk_46 (dk_at dksX11_slack_2 7 rfl rfl)
theorem dX11_slack_55 : decode cX11_slack 55 = .ok (.iload_n 1, 1) := dk_27 (dk_at dksX11_slack_2 8 rfl rfl)
theorem dX11_slack_56 : decode cX11_slack 56 = .ok (.if_icmp .ge 9, 3) := dk_162 0 9 (dk_at dksX11_slack_2 9 rfl rfl)
theorem dX11_slack_59 : decode cX11_slack 59 = .ok (.iconst 1, 1) := dk_4 (dk_at dksX11_slack_2 12 rfl rfl)
theorem dX11_slack_60 : decode cX11_slack 60 = .ok (.iload_n 3, 1) := dk_29 (dk_at dksX11_slack_2 13 rfl rfl)
theorem dX11_slack_61 : decode cX11_slack 61 = .ok (.ishl, 1) := dk_120 (dk_at dksX11_slack_2 14 rfl rfl)
theorem dX11_slack_62 : decode cX11_slack 62 = .ok (.goto 4, 3) := dk_167 0 4 (dk_at dksX11_slack_2 15 rfl rfl)
theorem dX11_slack_65 : decode cX11_slack 65 = .ok (.iconst 0, 1) := dk_3 (dk_at dksX11_slack_2 18 rfl rfl)
theorem dX11_slack_66 : decode cX11_slack 66 = .ok (.ior, 1) := dk_128 (dk_at dksX11_slack_2 19 rfl rfl)
theorem dX11_slack_67 : decode cX11_slack 67 = .ok (.istore_n 2, 1) := dk_61 (dk_at dksX11_slack_2 20 rfl rfl)
theorem dX11_slack_68 : decode cX11_slack 68 = .ok (.iinc 3 1, 3) := dk_132 3 1 (dk_at dksX11_slack_2 21 rfl rfl)
theorem dX11_slack_71 : decode cX11_slack 71 = .ok (.goto (-36), 3) := dk_167 255 220 (dk_at dksX11_slack_3 0 rfl rfl)
theorem dX11_slack_74 : decode cX11_slack 74 = .ok (.iload_n 2, 1) := dk_28 (dk_at dksX11_slack_3 3 rfl rfl)
theorem dX11_slack_75 : decode cX11_slack 75 = .ok (.ireturn, 1) := dk_172 (dk_at dksX11_slack_3 4 rfl rfl)
abbrev cX11_fates : ByteArray := prog_22_method_128_code
def yX11_fates : MethodName := ⟨RX11, "fates", "(IIII)I"⟩
def dkwX11_fates_8 : List UInt8 := [132, 6, 1, 167, 255, 213, 21, 5, 172]
abbrev dktX11_fates_8 : List UInt8 := dkwX11_fates_8 ++ []
def dkwX11_fates_7 : List UInt8 := [21, 5, 42, 42, 180, 0, 100, 21, 6, 182, 1, 132, 153, 0, 7, 4, 167, 0, 4, 3, 96, 54, 5]
abbrev dktX11_fates_7 : List UInt8 := dkwX11_fates_7 ++ dktX11_fates_8
def dkwX11_fates_6 : List UInt8 := [167, 255, 213, 3, 54, 6, 21, 6, 42, 180, 0, 23, 5, 46, 162, 0, 38, 21, 4, 5, 160, 0, 32]
abbrev dktX11_fates_6 : List UInt8 := dkwX11_fates_6 ++ dktX11_fates_7
def dkwX11_fates_5 : List UInt8 := [42, 42, 180, 0, 100, 21, 6, 182, 1, 85, 158, 0, 7, 4, 167, 0, 4, 3, 96, 54, 5, 132, 6, 1]
abbrev dktX11_fates_5 : List UInt8 := dkwX11_fates_5 ++ dktX11_fates_6
def dkwX11_fates_4 : List UInt8 := [54, 5, 3, 54, 6, 21, 6, 42, 180, 0, 23, 4, 46, 162, 0, 38, 21, 4, 4, 160, 0, 32, 21, 5]
abbrev dktX11_fates_4 : List UInt8 := dkwX11_fates_4 ++ dktX11_fates_5
def dkwX11_fates_3 : List UInt8 := [182, 1, 68, 184, 0, 246, 172, 21, 4, 6, 160, 0, 12, 42, 42, 180, 0, 100, 182, 1, 72, 172, 3]
abbrev dktX11_fates_3 : List UInt8 := dkwX11_fates_3 ++ dktX11_fates_4
def dkwX11_fates_2 : List UInt8 := [153, 0, 5, 3, 172, 42, 27, 28, 29, 182, 1, 186, 21, 4, 154, 0, 15, 42, 42, 180, 0, 100]
abbrev dktX11_fates_2 : List UInt8 := dkwX11_fates_2 ++ dktX11_fates_3
def dkwX11_fates_1 : List UInt8 := [153, 0, 13, 21, 4, 3, 6, 184, 0, 168, 154, 0, 7, 4, 167, 0, 4, 3, 4, 4, 182, 0, 249]
abbrev dktX11_fates_1 : List UInt8 := dkwX11_fates_1 ++ dktX11_fates_2
def dkwX11_fates_0 : List UInt8 := [42, 3, 181, 0, 134, 42, 28, 3, 16, 16, 184, 0, 168, 153, 0, 23, 29, 4, 16, 40, 184, 0, 168]
abbrev dktX11_fates_0 : List UInt8 := dkwX11_fates_0 ++ dktX11_fates_1
theorem dksX11_fates_0 : cX11_fates.data.toList.drop 0 = dktX11_fates_0 := by decide +kernel
theorem dksX11_fates_1 : cX11_fates.data.toList.drop 23 = dktX11_fates_1 := dk_seg dksX11_fates_0 23 rfl rfl
theorem dksX11_fates_2 : cX11_fates.data.toList.drop 46 = dktX11_fates_2 := dk_seg dksX11_fates_1 23 rfl rfl
theorem dksX11_fates_3 : cX11_fates.data.toList.drop 68 = dktX11_fates_3 := dk_seg dksX11_fates_2 22 rfl rfl
theorem dksX11_fates_4 : cX11_fates.data.toList.drop 91 = dktX11_fates_4 := dk_seg dksX11_fates_3 23 rfl rfl
theorem dksX11_fates_5 : cX11_fates.data.toList.drop 115 = dktX11_fates_5 := dk_seg dksX11_fates_4 24 rfl rfl
theorem dksX11_fates_6 : cX11_fates.data.toList.drop 139 = dktX11_fates_6 := dk_seg dksX11_fates_5 24 rfl rfl
theorem dksX11_fates_7 : cX11_fates.data.toList.drop 162 = dktX11_fates_7 := dk_seg dksX11_fates_6 23 rfl rfl
theorem dksX11_fates_8 : cX11_fates.data.toList.drop 185 = dktX11_fates_8 := dk_seg dksX11_fates_7 23 rfl rfl
theorem dX11_fates_0 : decode cX11_fates 0 = .ok (.aload_n 0, 1) := dk_42 (dk_at dksX11_fates_0 0 rfl rfl)
theorem dX11_fates_1 : decode cX11_fates 1 = .ok (.iconst 0, 1) := dk_3 (dk_at dksX11_fates_0 1 rfl rfl)
theorem dX11_fates_2 : decode cX11_fates 2 = .ok (.putfield 134, 3) := dk_181 0 134 (dk_at dksX11_fates_0 2 rfl rfl)
theorem dX11_fates_5 : decode cX11_fates 5 = .ok (.aload_n 0, 1) := dk_42 (dk_at dksX11_fates_0 5 rfl rfl)
theorem dX11_fates_6 : decode cX11_fates 6 = .ok (.iload_n 2, 1) := dk_28 (dk_at dksX11_fates_0 6 rfl rfl)
theorem dX11_fates_7 : decode cX11_fates 7 = .ok (.iconst 0, 1) := dk_3 (dk_at dksX11_fates_0 7 rfl rfl)
theorem dX11_fates_8 : decode cX11_fates 8 = .ok (.bipush 16, 2) := dk_16 16 (dk_at dksX11_fates_0 8 rfl rfl)
theorem dX11_fates_10 : decode cX11_fates 10 = .ok (.invokestatic 168, 3) := dk_184 0 168 (dk_at dksX11_fates_0 10 rfl rfl)
theorem dX11_fates_13 : decode cX11_fates 13 = .ok (.ifCond .eq 23, 3) := dk_153 0 23 (dk_at dksX11_fates_0 13 rfl rfl)
theorem dX11_fates_16 : decode cX11_fates 16 = .ok (.iload_n 3, 1) := dk_29 (dk_at dksX11_fates_0 16 rfl rfl)
theorem dX11_fates_17 : decode cX11_fates 17 = .ok (.iconst 1, 1) := dk_4 (dk_at dksX11_fates_0 17 rfl rfl)
theorem dX11_fates_18 : decode cX11_fates 18 = .ok (.bipush 40, 2) := dk_16 40 (dk_at dksX11_fates_0 18 rfl rfl)
theorem dX11_fates_20 : decode cX11_fates 20 = .ok (.invokestatic 168, 3) := dk_184 0 168 (dk_at dksX11_fates_0 20 rfl rfl)
theorem dX11_fates_23 : decode cX11_fates 23 = .ok (.ifCond .eq 13, 3) := dk_153 0 13 (dk_at dksX11_fates_1 0 rfl rfl)
theorem dX11_fates_26 : decode cX11_fates 26 = .ok (.iload 4, 2) := dk_21 4 (dk_at dksX11_fates_1 3 rfl rfl)
theorem dX11_fates_28 : decode cX11_fates 28 = .ok (.iconst 0, 1) := dk_3 (dk_at dksX11_fates_1 5 rfl rfl)
theorem dX11_fates_29 : decode cX11_fates 29 = .ok (.iconst 3, 1) := dk_6 (dk_at dksX11_fates_1 6 rfl rfl)
theorem dX11_fates_30 : decode cX11_fates 30 = .ok (.invokestatic 168, 3) := dk_184 0 168 (dk_at dksX11_fates_1 7 rfl rfl)
theorem dX11_fates_33 : decode cX11_fates 33 = .ok (.ifCond .ne 7, 3) := dk_154 0 7 (dk_at dksX11_fates_1 10 rfl rfl)
theorem dX11_fates_36 : decode cX11_fates 36 = .ok (.iconst 1, 1) := dk_4 (dk_at dksX11_fates_1 13 rfl rfl)
theorem dX11_fates_37 : decode cX11_fates 37 = .ok (.goto 4, 3) := dk_167 0 4 (dk_at dksX11_fates_1 14 rfl rfl)
theorem dX11_fates_40 : decode cX11_fates 40 = .ok (.iconst 0, 1) := dk_3 (dk_at dksX11_fates_1 17 rfl rfl)
theorem dX11_fates_41 : decode cX11_fates 41 = .ok (.iconst 1, 1) := dk_4 (dk_at dksX11_fates_1 18 rfl rfl)
theorem dX11_fates_42 : decode cX11_fates 42 = .ok (.iconst 1, 1) := dk_4 (dk_at dksX11_fates_1 19 rfl rfl)
theorem dX11_fates_43 : decode cX11_fates 43 = .ok (.invokevirtual 249, 3) := dk_182 0 249 (dk_at dksX11_fates_1 20 rfl rfl)
theorem dX11_fates_46 : decode cX11_fates 46 = .ok (.ifCond .eq 5, 3) := dk_153 0 5 (dk_at dksX11_fates_2 0 rfl rfl)
theorem dX11_fates_49 : decode cX11_fates 49 = .ok (.iconst 0, 1) := dk_3 (dk_at dksX11_fates_2 3 rfl rfl)
theorem dX11_fates_50 : decode cX11_fates 50 = .ok (.ireturn, 1) := dk_172 (dk_at dksX11_fates_2 4 rfl rfl)
theorem dX11_fates_51 : decode cX11_fates 51 = .ok (.aload_n 0, 1) := dk_42 (dk_at dksX11_fates_2 5 rfl rfl)
theorem dX11_fates_52 : decode cX11_fates 52 = .ok (.iload_n 1, 1) := dk_27 (dk_at dksX11_fates_2 6 rfl rfl)
theorem dX11_fates_53 : decode cX11_fates 53 = .ok (.iload_n 2, 1) := dk_28 (dk_at dksX11_fates_2 7 rfl rfl)
theorem dX11_fates_54 : decode cX11_fates 54 = .ok (.iload_n 3, 1) := dk_29 (dk_at dksX11_fates_2 8 rfl rfl)
theorem dX11_fates_55 : decode cX11_fates 55 = .ok (.invokevirtual 442, 3) := dk_182 1 186 (dk_at dksX11_fates_2 9 rfl rfl)
theorem dX11_fates_58 : decode cX11_fates 58 = .ok (.iload 4, 2) := dk_21 4 (dk_at dksX11_fates_2 12 rfl rfl)
theorem dX11_fates_60 : decode cX11_fates 60 = .ok (.ifCond .ne 15, 3) := dk_154 0 15 (dk_at dksX11_fates_2 14 rfl rfl)
theorem dX11_fates_63 : decode cX11_fates 63 = .ok (.aload_n 0, 1) := dk_42 (dk_at dksX11_fates_2 17 rfl rfl)
theorem dX11_fates_64 : decode cX11_fates 64 = .ok (.aload_n 0, 1) := dk_42 (dk_at dksX11_fates_2 18 rfl rfl)
theorem dX11_fates_65 : decode cX11_fates 65 = .ok (.getfield 100, 3) := dk_180 0 100 (dk_at dksX11_fates_2 19 rfl rfl)
theorem dX11_fates_68 : decode cX11_fates 68 = .ok (.invokevirtual 324, 3) := dk_182 1 68 (dk_at dksX11_fates_3 0 rfl rfl)
theorem dX11_fates_71 : decode cX11_fates 71 = .ok (.invokestatic 246, 3) := dk_184 0 246 (dk_at dksX11_fates_3 3 rfl rfl)
theorem dX11_fates_74 : decode cX11_fates 74 = .ok (.ireturn, 1) := dk_172 (dk_at dksX11_fates_3 6 rfl rfl)
theorem dX11_fates_75 : decode cX11_fates 75 = .ok (.iload 4, 2) := dk_21 4 (dk_at dksX11_fates_3 7 rfl rfl)
theorem dX11_fates_77 : decode cX11_fates 77 = .ok (.iconst 3, 1) := dk_6 (dk_at dksX11_fates_3 9 rfl rfl)
theorem dX11_fates_78 : decode cX11_fates 78 = .ok (.if_icmp .ne 12, 3) := dk_160 0 12 (dk_at dksX11_fates_3 10 rfl rfl)
theorem dX11_fates_81 : decode cX11_fates 81 = .ok (.aload_n 0, 1) := dk_42 (dk_at dksX11_fates_3 13 rfl rfl)
theorem dX11_fates_82 : decode cX11_fates 82 = .ok (.aload_n 0, 1) := dk_42 (dk_at dksX11_fates_3 14 rfl rfl)
theorem dX11_fates_83 : decode cX11_fates 83 = .ok (.getfield 100, 3) := dk_180 0 100 (dk_at dksX11_fates_3 15 rfl rfl)
theorem dX11_fates_86 : decode cX11_fates 86 = .ok (.invokevirtual 328, 3) := dk_182 1 72 (dk_at dksX11_fates_3 18 rfl rfl)
theorem dX11_fates_89 : decode cX11_fates 89 = .ok (.ireturn, 1) := dk_172 (dk_at dksX11_fates_3 21 rfl rfl)
theorem dX11_fates_90 : decode cX11_fates 90 = .ok (.iconst 0, 1) := dk_3 (dk_at dksX11_fates_3 22 rfl rfl)
theorem dX11_fates_91 : decode cX11_fates 91 = .ok (.istore 5, 2) := dk_54 5 (dk_at dksX11_fates_4 0 rfl rfl)
theorem dX11_fates_93 : decode cX11_fates 93 = .ok (.iconst 0, 1) := dk_3 (dk_at dksX11_fates_4 2 rfl rfl)
theorem dX11_fates_94 : decode cX11_fates 94 = .ok (.istore 6, 2) := dk_54 6 (dk_at dksX11_fates_4 3 rfl rfl)
theorem dX11_fates_96 : decode cX11_fates 96 = .ok (.iload 6, 2) := dk_21 6 (dk_at dksX11_fates_4 5 rfl rfl)
theorem dX11_fates_98 : decode cX11_fates 98 = .ok (.aload_n 0, 1) := dk_42 (dk_at dksX11_fates_4 7 rfl rfl)
theorem dX11_fates_99 : decode cX11_fates 99 = .ok (.getfield 23, 3) := dk_180 0 23 (dk_at dksX11_fates_4 8 rfl rfl)
theorem dX11_fates_102 : decode cX11_fates 102 = .ok (.iconst 1, 1) := dk_4 (dk_at dksX11_fates_4 11 rfl rfl)
theorem dX11_fates_103 : decode cX11_fates 103 = .ok (.iaload, 1) := dk_46 (dk_at dksX11_fates_4 12 rfl rfl)
theorem dX11_fates_104 : decode cX11_fates 104 = .ok (.if_icmp .ge 38, 3) := dk_162 0 38 (dk_at dksX11_fates_4 13 rfl rfl)
theorem dX11_fates_107 : decode cX11_fates 107 = .ok (.iload 4, 2) := dk_21 4 (dk_at dksX11_fates_4 16 rfl rfl)
theorem dX11_fates_109 : decode cX11_fates 109 = .ok (.iconst 1, 1) := dk_4 (dk_at dksX11_fates_4 18 rfl rfl)
theorem dX11_fates_110 : decode cX11_fates 110 = .ok (.if_icmp .ne 32, 3) := dk_160 0 32 (dk_at dksX11_fates_4 19 rfl rfl)
theorem dX11_fates_113 : decode cX11_fates 113 = .ok (.iload 5, 2) := dk_21 5 (dk_at dksX11_fates_4 22 rfl rfl)
theorem dX11_fates_115 : decode cX11_fates 115 = .ok (.aload_n 0, 1) := dk_42 (dk_at dksX11_fates_5 0 rfl rfl)
theorem dX11_fates_116 : decode cX11_fates 116 = .ok (.aload_n 0, 1) := dk_42 (dk_at dksX11_fates_5 1 rfl rfl)
theorem dX11_fates_117 : decode cX11_fates 117 = .ok (.getfield 100, 3) := dk_180 0 100 (dk_at dksX11_fates_5 2 rfl rfl)
theorem dX11_fates_120 : decode cX11_fates 120 = .ok (.iload 6, 2) := dk_21 6 (dk_at dksX11_fates_5 5 rfl rfl)
theorem dX11_fates_122 : decode cX11_fates 122 = .ok (.invokevirtual 341, 3) := dk_182 1 85 (dk_at dksX11_fates_5 7 rfl rfl)
theorem dX11_fates_125 : decode cX11_fates 125 = .ok (.ifCond .le 7, 3) := dk_158 0 7 (dk_at dksX11_fates_5 10 rfl rfl)
theorem dX11_fates_128 : decode cX11_fates 128 = .ok (.iconst 1, 1) := dk_4 (dk_at dksX11_fates_5 13 rfl rfl)
theorem dX11_fates_129 : decode cX11_fates 129 = .ok (.goto 4, 3) := dk_167 0 4 (dk_at dksX11_fates_5 14 rfl rfl)
theorem dX11_fates_132 : decode cX11_fates 132 = .ok (.iconst 0, 1) := dk_3 (dk_at dksX11_fates_5 17 rfl rfl)
theorem dX11_fates_133 : decode cX11_fates 133 = .ok (.iadd, 1) := dk_96 (dk_at dksX11_fates_5 18 rfl rfl)
theorem dX11_fates_134 : decode cX11_fates 134 = .ok (.istore 5, 2) := dk_54 5 (dk_at dksX11_fates_5 19 rfl rfl)
theorem dX11_fates_136 : decode cX11_fates 136 = .ok (.iinc 6 1, 3) := dk_132 6 1 (dk_at dksX11_fates_5 21 rfl rfl)
theorem dX11_fates_139 : decode cX11_fates 139 = .ok (.goto (-43), 3) := dk_167 255 213 (dk_at dksX11_fates_6 0 rfl rfl)
theorem dX11_fates_142 : decode cX11_fates 142 = .ok (.iconst 0, 1) := dk_3 (dk_at dksX11_fates_6 3 rfl rfl)
theorem dX11_fates_143 : decode cX11_fates 143 = .ok (.istore 6, 2) := dk_54 6 (dk_at dksX11_fates_6 4 rfl rfl)
theorem dX11_fates_145 : decode cX11_fates 145 = .ok (.iload 6, 2) := dk_21 6 (dk_at dksX11_fates_6 6 rfl rfl)
theorem dX11_fates_147 : decode cX11_fates 147 = .ok (.aload_n 0, 1) := dk_42 (dk_at dksX11_fates_6 8 rfl rfl)
theorem dX11_fates_148 : decode cX11_fates 148 = .ok (.getfield 23, 3) := dk_180 0 23 (dk_at dksX11_fates_6 9 rfl rfl)
theorem dX11_fates_151 : decode cX11_fates 151 = .ok (.iconst 2, 1) := dk_5 (dk_at dksX11_fates_6 12 rfl rfl)
theorem dX11_fates_152 : decode cX11_fates 152 = .ok (.iaload, 1) := dk_46 (dk_at dksX11_fates_6 13 rfl rfl)
theorem dX11_fates_153 : decode cX11_fates 153 = .ok (.if_icmp .ge 38, 3) := dk_162 0 38 (dk_at dksX11_fates_6 14 rfl rfl)
theorem dX11_fates_156 : decode cX11_fates 156 = .ok (.iload 4, 2) := dk_21 4 (dk_at dksX11_fates_6 17 rfl rfl)
theorem dX11_fates_158 : decode cX11_fates 158 = .ok (.iconst 2, 1) := dk_5 (dk_at dksX11_fates_6 19 rfl rfl)
theorem dX11_fates_159 : decode cX11_fates 159 = .ok (.if_icmp .ne 32, 3) := dk_160 0 32 (dk_at dksX11_fates_6 20 rfl rfl)
theorem dX11_fates_162 : decode cX11_fates 162 = .ok (.iload 5, 2) := dk_21 5 (dk_at dksX11_fates_7 0 rfl rfl)
theorem dX11_fates_164 : decode cX11_fates 164 = .ok (.aload_n 0, 1) := dk_42 (dk_at dksX11_fates_7 2 rfl rfl)
theorem dX11_fates_165 : decode cX11_fates 165 = .ok (.aload_n 0, 1) := dk_42 (dk_at dksX11_fates_7 3 rfl rfl)
theorem dX11_fates_166 : decode cX11_fates 166 = .ok (.getfield 100, 3) := dk_180 0 100 (dk_at dksX11_fates_7 4 rfl rfl)
theorem dX11_fates_169 : decode cX11_fates 169 = .ok (.iload 6, 2) := dk_21 6 (dk_at dksX11_fates_7 7 rfl rfl)
theorem dX11_fates_171 : decode cX11_fates 171 = .ok (.invokevirtual 388, 3) := dk_182 1 132 (dk_at dksX11_fates_7 9 rfl rfl)
theorem dX11_fates_174 : decode cX11_fates 174 = .ok (.ifCond .eq 7, 3) := dk_153 0 7 (dk_at dksX11_fates_7 12 rfl rfl)
theorem dX11_fates_177 : decode cX11_fates 177 = .ok (.iconst 1, 1) := dk_4 (dk_at dksX11_fates_7 15 rfl rfl)
theorem dX11_fates_178 : decode cX11_fates 178 = .ok (.goto 4, 3) := dk_167 0 4 (dk_at dksX11_fates_7 16 rfl rfl)
theorem dX11_fates_181 : decode cX11_fates 181 = .ok (.iconst 0, 1) := dk_3 (dk_at dksX11_fates_7 19 rfl rfl)
theorem dX11_fates_182 : decode cX11_fates 182 = .ok (.iadd, 1) := dk_96 (dk_at dksX11_fates_7 20 rfl rfl)
theorem dX11_fates_183 : decode cX11_fates 183 = .ok (.istore 5, 2) := dk_54 5 (dk_at dksX11_fates_7 21 rfl rfl)
theorem dX11_fates_185 : decode cX11_fates 185 = .ok (.iinc 6 1, 3) := dk_132 6 1 (dk_at dksX11_fates_8 0 rfl rfl)
theorem dX11_fates_188 : decode cX11_fates 188 = .ok (.goto (-43), 3) := dk_167 255 213 (dk_at dksX11_fates_8 3 rfl rfl)
theorem dX11_fates_191 : decode cX11_fates 191 = .ok (.iload 5, 2) := dk_21 5 (dk_at dksX11_fates_8 6 rfl rfl)
theorem dX11_fates_193 : decode cX11_fates 193 = .ok (.ireturn, 1) := dk_172 (dk_at dksX11_fates_8 8 rfl rfl)
abbrev cX11_fatesBy : ByteArray := prog_22_method_127_code
def yX11_fatesBy : MethodName := ⟨RX11, "fatesBy", "(III)V"⟩
def dkwX11_fatesBy_2 : List UInt8 := [181, 1, 115, 177]
abbrev dktX11_fatesBy_2 : List UInt8 := dkwX11_fatesBy_2 ++ []
def dkwX11_fatesBy_1 : List UInt8 := [21, 4, 29, 162, 0, 17, 42, 42, 180, 0, 100, 182, 1, 129, 132, 4, 1, 167, 255, 239, 42, 3]
abbrev dktX11_fatesBy_1 : List UInt8 := dkwX11_fatesBy_1 ++ dktX11_fatesBy_2
def dkwX11_fatesBy_0 : List UInt8 := [42, 180, 0, 91, 42, 180, 0, 100, 184, 1, 10, 42, 27, 181, 1, 118, 42, 28, 181, 1, 115, 3, 54, 4]
abbrev dktX11_fatesBy_0 : List UInt8 := dkwX11_fatesBy_0 ++ dktX11_fatesBy_1
theorem dksX11_fatesBy_0 : cX11_fatesBy.data.toList.drop 0 = dktX11_fatesBy_0 := by decide +kernel
theorem dksX11_fatesBy_1 : cX11_fatesBy.data.toList.drop 24 = dktX11_fatesBy_1 := dk_seg dksX11_fatesBy_0 24 rfl rfl
theorem dksX11_fatesBy_2 : cX11_fatesBy.data.toList.drop 46 = dktX11_fatesBy_2 := dk_seg dksX11_fatesBy_1 22 rfl rfl
theorem dX11_fatesBy_0 : decode cX11_fatesBy 0 = .ok (.aload_n 0, 1) := dk_42 (dk_at dksX11_fatesBy_0 0 rfl rfl)
theorem dX11_fatesBy_1 : decode cX11_fatesBy 1 = .ok (.getfield 91, 3) := dk_180 0 91 (dk_at dksX11_fatesBy_0 1 rfl rfl)
theorem dX11_fatesBy_4 : decode cX11_fatesBy 4 = .ok (.aload_n 0, 1) := dk_42 (dk_at dksX11_fatesBy_0 4 rfl rfl)
theorem dX11_fatesBy_5 : decode cX11_fatesBy 5 = .ok (.getfield 100, 3) := dk_180 0 100 (dk_at dksX11_fatesBy_0 5 rfl rfl)
theorem dX11_fatesBy_8 : decode cX11_fatesBy 8 = .ok (.invokestatic 266, 3) := dk_184 1 10 (dk_at dksX11_fatesBy_0 8 rfl rfl)
theorem dX11_fatesBy_11 : decode cX11_fatesBy 11 = .ok (.aload_n 0, 1) := dk_42 (dk_at dksX11_fatesBy_0 11 rfl rfl)
theorem dX11_fatesBy_12 : decode cX11_fatesBy 12 = .ok (.iload_n 1, 1) := dk_27 (dk_at dksX11_fatesBy_0 12 rfl rfl)
theorem dX11_fatesBy_13 : decode cX11_fatesBy 13 = .ok (.putfield 374, 3) := dk_181 1 118 (dk_at dksX11_fatesBy_0 13 rfl rfl)
theorem dX11_fatesBy_16 : decode cX11_fatesBy 16 = .ok (.aload_n 0, 1) := dk_42 (dk_at dksX11_fatesBy_0 16 rfl rfl)
theorem dX11_fatesBy_17 : decode cX11_fatesBy 17 = .ok (.iload_n 2, 1) := dk_28 (dk_at dksX11_fatesBy_0 17 rfl rfl)
theorem dX11_fatesBy_18 : decode cX11_fatesBy 18 = .ok (.putfield 371, 3) := dk_181 1 115 (dk_at dksX11_fatesBy_0 18 rfl rfl)
theorem dX11_fatesBy_21 : decode cX11_fatesBy 21 = .ok (.iconst 0, 1) := dk_3 (dk_at dksX11_fatesBy_0 21 rfl rfl)
theorem dX11_fatesBy_22 : decode cX11_fatesBy 22 = .ok (.istore 4, 2) := dk_54 4 (dk_at dksX11_fatesBy_0 22 rfl rfl)
theorem dX11_fatesBy_24 : decode cX11_fatesBy 24 = .ok (.iload 4, 2) := dk_21 4 (dk_at dksX11_fatesBy_1 0 rfl rfl)
theorem dX11_fatesBy_26 : decode cX11_fatesBy 26 = .ok (.iload_n 3, 1) := dk_29 (dk_at dksX11_fatesBy_1 2 rfl rfl)
theorem dX11_fatesBy_27 : decode cX11_fatesBy 27 = .ok (.if_icmp .ge 17, 3) := dk_162 0 17 (dk_at dksX11_fatesBy_1 3 rfl rfl)
theorem dX11_fatesBy_30 : decode cX11_fatesBy 30 = .ok (.aload_n 0, 1) := dk_42 (dk_at dksX11_fatesBy_1 6 rfl rfl)
theorem dX11_fatesBy_31 : decode cX11_fatesBy 31 = .ok (.aload_n 0, 1) := dk_42 (dk_at dksX11_fatesBy_1 7 rfl rfl)
theorem dX11_fatesBy_32 : decode cX11_fatesBy 32 = .ok (.getfield 100, 3) := dk_180 0 100 (dk_at dksX11_fatesBy_1 8 rfl rfl)
theorem dX11_fatesBy_35 : decode cX11_fatesBy 35 = .ok (.invokevirtual 385, 3) := dk_182 1 129 (dk_at dksX11_fatesBy_1 11 rfl rfl)
theorem dX11_fatesBy_38 : decode cX11_fatesBy 38 = .ok (.iinc 4 1, 3) := dk_132 4 1 (dk_at dksX11_fatesBy_1 14 rfl rfl)
theorem dX11_fatesBy_41 : decode cX11_fatesBy 41 = .ok (.goto (-17), 3) := dk_167 255 239 (dk_at dksX11_fatesBy_1 17 rfl rfl)
theorem dX11_fatesBy_44 : decode cX11_fatesBy 44 = .ok (.aload_n 0, 1) := dk_42 (dk_at dksX11_fatesBy_1 20 rfl rfl)
theorem dX11_fatesBy_45 : decode cX11_fatesBy 45 = .ok (.iconst 0, 1) := dk_3 (dk_at dksX11_fatesBy_1 21 rfl rfl)
theorem dX11_fatesBy_46 : decode cX11_fatesBy 46 = .ok (.putfield 371, 3) := dk_181 1 115 (dk_at dksX11_fatesBy_2 0 rfl rfl)
theorem dX11_fatesBy_49 : decode cX11_fatesBy 49 = .ok (.return_, 1) := dk_177 (dk_at dksX11_fatesBy_2 3 rfl rfl)
abbrev cX11_span : ByteArray := prog_22_method_129_code
def yX11_span : MethodName := ⟨RX11, "span", "(IIIIII)I"⟩
def dkwX11_span_8 : List UInt8 := [167, 0, 5, 21, 9, 172]
abbrev dktX11_span_8 : List UInt8 := dkwX11_span_8 ++ []
def dkwX11_span_7 : List UInt8 := [132, 10, 1, 167, 255, 171, 21, 5, 154, 0, 8, 21, 7, 167, 0, 16, 21, 5, 4, 160, 0, 8, 21, 8]
abbrev dktX11_span_7 : List UInt8 := dkwX11_span_7 ++ dktX11_span_8
def dkwX11_span_6 : List UInt8 := [21, 9, 42, 42, 180, 0, 100, 21, 6, 182, 1, 64, 153, 0, 7, 4, 167, 0, 4, 3, 96, 54, 9]
abbrev dktX11_span_6 : List UInt8 := dkwX11_span_6 ++ dktX11_span_7
def dkwX11_span_5 : List UInt8 := [21, 11, 167, 0, 10, 21, 7, 21, 11, 184, 0, 229, 54, 7, 21, 8, 21, 11, 184, 1, 57, 54, 8]
abbrev dktX11_span_5 : List UInt8 := dkwX11_span_5 ++ dktX11_span_6
def dkwX11_span_4 : List UInt8 := [21, 4, 182, 1, 186, 42, 42, 180, 0, 100, 182, 1, 68, 184, 0, 246, 54, 11, 21, 7, 2, 160, 0, 8]
abbrev dktX11_span_4 : List UInt8 := dkwX11_span_4 ++ dktX11_span_5
def dkwX11_span_3 : List UInt8 := [2, 54, 7, 3, 54, 8, 3, 54, 9, 3, 54, 10, 21, 10, 28, 162, 0, 85, 42, 27, 21, 10, 96, 29]
abbrev dktX11_span_3 : List UInt8 := dkwX11_span_3 ++ dktX11_span_4
def dkwX11_span_2 : List UInt8 := [42, 21, 6, 182, 1, 75, 154, 0, 7, 4, 167, 0, 4, 3, 4, 4, 182, 0, 249, 153, 0, 5, 3, 172]
abbrev dktX11_span_2 : List UInt8 := dkwX11_span_2 ++ dktX11_span_3
def dkwX11_span_1 : List UInt8 := [153, 0, 33, 21, 4, 4, 16, 40, 184, 0, 168, 153, 0, 22, 21, 5, 3, 5, 184, 0, 168, 153, 0, 12]
abbrev dktX11_span_1 : List UInt8 := dkwX11_span_1 ++ dktX11_span_2
def dkwX11_span_0 : List UInt8 := [42, 3, 181, 0, 134, 42, 28, 4, 16, 20, 184, 0, 168, 153, 0, 43, 29, 3, 16, 16, 184, 0, 168]
abbrev dktX11_span_0 : List UInt8 := dkwX11_span_0 ++ dktX11_span_1
theorem dksX11_span_0 : cX11_span.data.toList.drop 0 = dktX11_span_0 := by decide +kernel
theorem dksX11_span_1 : cX11_span.data.toList.drop 23 = dktX11_span_1 := dk_seg dksX11_span_0 23 rfl rfl
theorem dksX11_span_2 : cX11_span.data.toList.drop 47 = dktX11_span_2 := dk_seg dksX11_span_1 24 rfl rfl
theorem dksX11_span_3 : cX11_span.data.toList.drop 71 = dktX11_span_3 := dk_seg dksX11_span_2 24 rfl rfl
theorem dksX11_span_4 : cX11_span.data.toList.drop 95 = dktX11_span_4 := dk_seg dksX11_span_3 24 rfl rfl
theorem dksX11_span_5 : cX11_span.data.toList.drop 119 = dktX11_span_5 := dk_seg dksX11_span_4 24 rfl rfl
theorem dksX11_span_6 : cX11_span.data.toList.drop 142 = dktX11_span_6 := dk_seg dksX11_span_5 23 rfl rfl
theorem dksX11_span_7 : cX11_span.data.toList.drop 165 = dktX11_span_7 := dk_seg dksX11_span_6 23 rfl rfl
theorem dksX11_span_8 : cX11_span.data.toList.drop 189 = dktX11_span_8 := dk_seg dksX11_span_7 24 rfl rfl
theorem dX11_span_0 : decode cX11_span 0 = .ok (.aload_n 0, 1) := dk_42 (dk_at dksX11_span_0 0 rfl rfl)
theorem dX11_span_1 : decode cX11_span 1 = .ok (.iconst 0, 1) := dk_3 (dk_at dksX11_span_0 1 rfl rfl)
theorem dX11_span_2 : decode cX11_span 2 = .ok (.putfield 134, 3) := dk_181 0 134 (dk_at dksX11_span_0 2 rfl rfl)
theorem dX11_span_5 : decode cX11_span 5 = .ok (.aload_n 0, 1) := dk_42 (dk_at dksX11_span_0 5 rfl rfl)
theorem dX11_span_6 : decode cX11_span 6 = .ok (.iload_n 2, 1) := dk_28 (dk_at dksX11_span_0 6 rfl rfl)
theorem dX11_span_7 : decode cX11_span 7 = .ok (.iconst 1, 1) := dk_4 (dk_at dksX11_span_0 7 rfl rfl)
theorem dX11_span_8 : decode cX11_span 8 = .ok (.bipush 20, 2) := dk_16 20 (dk_at dksX11_span_0 8 rfl rfl)
theorem dX11_span_10 : decode cX11_span 10 = .ok (.invokestatic 168, 3) := dk_184 0 168 (dk_at dksX11_span_0 10 rfl rfl)
theorem dX11_span_13 : decode cX11_span 13 = .ok (.ifCond .eq 43, 3) := dk_153 0 43 (dk_at dksX11_span_0 13 rfl rfl)
theorem dX11_span_16 : decode cX11_span 16 = .ok (.iload_n 3, 1) := dk_29 (dk_at dksX11_span_0 16 rfl rfl)
theorem dX11_span_17 : decode cX11_span 17 = .ok (.iconst 0, 1) := dk_3 (dk_at dksX11_span_0 17 rfl rfl)
theorem dX11_span_18 : decode cX11_span 18 = .ok (.bipush 16, 2) := dk_16 16 (dk_at dksX11_span_0 18 rfl rfl)
theorem dX11_span_20 : decode cX11_span 20 = .ok (.invokestatic 168, 3) := dk_184 0 168 (dk_at dksX11_span_0 20 rfl rfl)
theorem dX11_span_23 : decode cX11_span 23 = .ok (.ifCond .eq 33, 3) := dk_153 0 33 (dk_at dksX11_span_1 0 rfl rfl)
theorem dX11_span_26 : decode cX11_span 26 = .ok (.iload 4, 2) := dk_21 4 (dk_at dksX11_span_1 3 rfl rfl)
theorem dX11_span_28 : decode cX11_span 28 = .ok (.iconst 1, 1) := dk_4 (dk_at dksX11_span_1 5 rfl rfl)
theorem dX11_span_29 : decode cX11_span 29 = .ok (.bipush 40, 2) := dk_16 40 (dk_at dksX11_span_1 6 rfl rfl)
theorem dX11_span_31 : decode cX11_span 31 = .ok (.invokestatic 168, 3) := dk_184 0 168 (dk_at dksX11_span_1 8 rfl rfl)
theorem dX11_span_34 : decode cX11_span 34 = .ok (.ifCond .eq 22, 3) := dk_153 0 22 (dk_at dksX11_span_1 11 rfl rfl)
theorem dX11_span_37 : decode cX11_span 37 = .ok (.iload 5, 2) := dk_21 5 (dk_at dksX11_span_1 14 rfl rfl)
theorem dX11_span_39 : decode cX11_span 39 = .ok (.iconst 0, 1) := dk_3 (dk_at dksX11_span_1 16 rfl rfl)
theorem dX11_span_40 : decode cX11_span 40 = .ok (.iconst 2, 1) := dk_5 (dk_at dksX11_span_1 17 rfl rfl)
theorem dX11_span_41 : decode cX11_span 41 = .ok (.invokestatic 168, 3) := dk_184 0 168 (dk_at dksX11_span_1 18 rfl rfl)
theorem dX11_span_44 : decode cX11_span 44 = .ok (.ifCond .eq 12, 3) := dk_153 0 12 (dk_at dksX11_span_1 21 rfl rfl)
theorem dX11_span_47 : decode cX11_span 47 = .ok (.aload_n 0, 1) := dk_42 (dk_at dksX11_span_2 0 rfl rfl)
theorem dX11_span_48 : decode cX11_span 48 = .ok (.iload 6, 2) := dk_21 6 (dk_at dksX11_span_2 1 rfl rfl)
theorem dX11_span_50 : decode cX11_span 50 = .ok (.invokevirtual 331, 3) := dk_182 1 75 (dk_at dksX11_span_2 3 rfl rfl)
theorem dX11_span_53 : decode cX11_span 53 = .ok (.ifCond .ne 7, 3) := dk_154 0 7 (dk_at dksX11_span_2 6 rfl rfl)
theorem dX11_span_56 : decode cX11_span 56 = .ok (.iconst 1, 1) := dk_4 (dk_at dksX11_span_2 9 rfl rfl)
theorem dX11_span_57 : decode cX11_span 57 = .ok (.goto 4, 3) := dk_167 0 4 (dk_at dksX11_span_2 10 rfl rfl)
theorem dX11_span_60 : decode cX11_span 60 = .ok (.iconst 0, 1) := dk_3 (dk_at dksX11_span_2 13 rfl rfl)
theorem dX11_span_61 : decode cX11_span 61 = .ok (.iconst 1, 1) := dk_4 (dk_at dksX11_span_2 14 rfl rfl)
theorem dX11_span_62 : decode cX11_span 62 = .ok (.iconst 1, 1) := dk_4 (dk_at dksX11_span_2 15 rfl rfl)
theorem dX11_span_63 : decode cX11_span 63 = .ok (.invokevirtual 249, 3) := dk_182 0 249 (dk_at dksX11_span_2 16 rfl rfl)
theorem dX11_span_66 : decode cX11_span 66 = .ok (.ifCond .eq 5, 3) := dk_153 0 5 (dk_at dksX11_span_2 19 rfl rfl)
theorem dX11_span_69 : decode cX11_span 69 = .ok (.iconst 0, 1) := dk_3 (dk_at dksX11_span_2 22 rfl rfl)
theorem dX11_span_70 : decode cX11_span 70 = .ok (.ireturn, 1) := dk_172 (dk_at dksX11_span_2 23 rfl rfl)
theorem dX11_span_71 : decode cX11_span 71 = .ok (.iconst (-1), 1) := dk_2 (dk_at dksX11_span_3 0 rfl rfl)
theorem dX11_span_72 : decode cX11_span 72 = .ok (.istore 7, 2) := dk_54 7 (dk_at dksX11_span_3 1 rfl rfl)
theorem dX11_span_74 : decode cX11_span 74 = .ok (.iconst 0, 1) := dk_3 (dk_at dksX11_span_3 3 rfl rfl)
theorem dX11_span_75 : decode cX11_span 75 = .ok (.istore 8, 2) := dk_54 8 (dk_at dksX11_span_3 4 rfl rfl)
theorem dX11_span_77 : decode cX11_span 77 = .ok (.iconst 0, 1) := dk_3 (dk_at dksX11_span_3 6 rfl rfl)
theorem dX11_span_78 : decode cX11_span 78 = .ok (.istore 9, 2) := dk_54 9 (dk_at dksX11_span_3 7 rfl rfl)
theorem dX11_span_80 : decode cX11_span 80 = .ok (.iconst 0, 1) := dk_3 (dk_at dksX11_span_3 9 rfl rfl)
theorem dX11_span_81 : decode cX11_span 81 = .ok (.istore 10, 2) := dk_54 10 (dk_at dksX11_span_3 10 rfl rfl)
theorem dX11_span_83 : decode cX11_span 83 = .ok (.iload 10, 2) := dk_21 10 (dk_at dksX11_span_3 12 rfl rfl)
theorem dX11_span_85 : decode cX11_span 85 = .ok (.iload_n 2, 1) := dk_28 (dk_at dksX11_span_3 14 rfl rfl)
theorem dX11_span_86 : decode cX11_span 86 = .ok (.if_icmp .ge 85, 3) := dk_162 0 85 (dk_at dksX11_span_3 15 rfl rfl)
theorem dX11_span_89 : decode cX11_span 89 = .ok (.aload_n 0, 1) := dk_42 (dk_at dksX11_span_3 18 rfl rfl)
theorem dX11_span_90 : decode cX11_span 90 = .ok (.iload_n 1, 1) := dk_27 (dk_at dksX11_span_3 19 rfl rfl)
theorem dX11_span_91 : decode cX11_span 91 = .ok (.iload 10, 2) := dk_21 10 (dk_at dksX11_span_3 20 rfl rfl)
theorem dX11_span_93 : decode cX11_span 93 = .ok (.iadd, 1) := dk_96 (dk_at dksX11_span_3 22 rfl rfl)
theorem dX11_span_94 : decode cX11_span 94 = .ok (.iload_n 3, 1) := dk_29 (dk_at dksX11_span_3 23 rfl rfl)
theorem dX11_span_95 : decode cX11_span 95 = .ok (.iload 4, 2) := dk_21 4 (dk_at dksX11_span_4 0 rfl rfl)
theorem dX11_span_97 : decode cX11_span 97 = .ok (.invokevirtual 442, 3) := dk_182 1 186 (dk_at dksX11_span_4 2 rfl rfl)
theorem dX11_span_100 : decode cX11_span 100 = .ok (.aload_n 0, 1) := dk_42 (dk_at dksX11_span_4 5 rfl rfl)
theorem dX11_span_101 : decode cX11_span 101 = .ok (.aload_n 0, 1) := dk_42 (dk_at dksX11_span_4 6 rfl rfl)
theorem dX11_span_102 : decode cX11_span 102 = .ok (.getfield 100, 3) := dk_180 0 100 (dk_at dksX11_span_4 7 rfl rfl)
theorem dX11_span_105 : decode cX11_span 105 = .ok (.invokevirtual 324, 3) := dk_182 1 68 (dk_at dksX11_span_4 10 rfl rfl)
theorem dX11_span_108 : decode cX11_span 108 = .ok (.invokestatic 246, 3) := dk_184 0 246 (dk_at dksX11_span_4 13 rfl rfl)
theorem dX11_span_111 : decode cX11_span 111 = .ok (.istore 11, 2) := dk_54 11 (dk_at dksX11_span_4 16 rfl rfl)
theorem dX11_span_113 : decode cX11_span 113 = .ok (.iload 7, 2) := dk_21 7 (dk_at dksX11_span_4 18 rfl rfl)
theorem dX11_span_115 : decode cX11_span 115 = .ok (.iconst (-1), 1) := dk_2 (dk_at dksX11_span_4 20 rfl rfl)
theorem dX11_span_116 : decode cX11_span 116 = .ok (.if_icmp .ne 8, 3) := dk_160 0 8 (dk_at dksX11_span_4 21 rfl rfl)
theorem dX11_span_119 : decode cX11_span 119 = .ok (.iload 11, 2) := dk_21 11 (dk_at dksX11_span_5 0 rfl rfl)
theorem dX11_span_121 : decode cX11_span 121 = .ok (.goto 10, 3) := dk_167 0 10 (dk_at dksX11_span_5 2 rfl rfl)
theorem dX11_span_124 : decode cX11_span 124 = .ok (.iload 7, 2) := dk_21 7 (dk_at dksX11_span_5 5 rfl rfl)
theorem dX11_span_126 : decode cX11_span 126 = .ok (.iload 11, 2) := dk_21 11 (dk_at dksX11_span_5 7 rfl rfl)
theorem dX11_span_128 : decode cX11_span 128 = .ok (.invokestatic 229, 3) := dk_184 0 229 (dk_at dksX11_span_5 9 rfl rfl)
theorem dX11_span_131 : decode cX11_span 131 = .ok (.istore 7, 2) := dk_54 7 (dk_at dksX11_span_5 12 rfl rfl)
theorem dX11_span_133 : decode cX11_span 133 = .ok (.iload 8, 2) := dk_21 8 (dk_at dksX11_span_5 14 rfl rfl)
theorem dX11_span_135 : decode cX11_span 135 = .ok (.iload 11, 2) := dk_21 11 (dk_at dksX11_span_5 16 rfl rfl)
theorem dX11_span_137 : decode cX11_span 137 = .ok (.invokestatic 313, 3) := dk_184 1 57 (dk_at dksX11_span_5 18 rfl rfl)
theorem dX11_span_140 : decode cX11_span 140 = .ok (.istore 8, 2) := dk_54 8 (dk_at dksX11_span_5 21 rfl rfl)
theorem dX11_span_142 : decode cX11_span 142 = .ok (.iload 9, 2) := dk_21 9 (dk_at dksX11_span_6 0 rfl rfl)
theorem dX11_span_144 : decode cX11_span 144 = .ok (.aload_n 0, 1) := dk_42 (dk_at dksX11_span_6 2 rfl rfl)
theorem dX11_span_145 : decode cX11_span 145 = .ok (.aload_n 0, 1) := dk_42 (dk_at dksX11_span_6 3 rfl rfl)
theorem dX11_span_146 : decode cX11_span 146 = .ok (.getfield 100, 3) := dk_180 0 100 (dk_at dksX11_span_6 4 rfl rfl)
theorem dX11_span_149 : decode cX11_span 149 = .ok (.iload 6, 2) := dk_21 6 (dk_at dksX11_span_6 7 rfl rfl)
theorem dX11_span_151 : decode cX11_span 151 = .ok (.invokevirtual 320, 3) := dk_182 1 64 (dk_at dksX11_span_6 9 rfl rfl)
theorem dX11_span_154 : decode cX11_span 154 = .ok (.ifCond .eq 7, 3) := dk_153 0 7 (dk_at dksX11_span_6 12 rfl rfl)
theorem dX11_span_157 : decode cX11_span 157 = .ok (.iconst 1, 1) := dk_4 (dk_at dksX11_span_6 15 rfl rfl)
theorem dX11_span_158 : decode cX11_span 158 = .ok (.goto 4, 3) := dk_167 0 4 (dk_at dksX11_span_6 16 rfl rfl)
theorem dX11_span_161 : decode cX11_span 161 = .ok (.iconst 0, 1) := dk_3 (dk_at dksX11_span_6 19 rfl rfl)
theorem dX11_span_162 : decode cX11_span 162 = .ok (.iadd, 1) := dk_96 (dk_at dksX11_span_6 20 rfl rfl)
theorem dX11_span_163 : decode cX11_span 163 = .ok (.istore 9, 2) := dk_54 9 (dk_at dksX11_span_6 21 rfl rfl)
theorem dX11_span_165 : decode cX11_span 165 = .ok (.iinc 10 1, 3) := dk_132 10 1 (dk_at dksX11_span_7 0 rfl rfl)
theorem dX11_span_168 : decode cX11_span 168 = .ok (.goto (-85), 3) := dk_167 255 171 (dk_at dksX11_span_7 3 rfl rfl)
theorem dX11_span_171 : decode cX11_span 171 = .ok (.iload 5, 2) := dk_21 5 (dk_at dksX11_span_7 6 rfl rfl)
theorem dX11_span_173 : decode cX11_span 173 = .ok (.ifCond .ne 8, 3) := dk_154 0 8 (dk_at dksX11_span_7 8 rfl rfl)
theorem dX11_span_176 : decode cX11_span 176 = .ok (.iload 7, 2) := dk_21 7 (dk_at dksX11_span_7 11 rfl rfl)
theorem dX11_span_178 : decode cX11_span 178 = .ok (.goto 16, 3) := dk_167 0 16 (dk_at dksX11_span_7 13 rfl rfl)
theorem dX11_span_181 : decode cX11_span 181 = .ok (.iload 5, 2) := dk_21 5 (dk_at dksX11_span_7 16 rfl rfl)
theorem dX11_span_183 : decode cX11_span 183 = .ok (.iconst 1, 1) := dk_4 (dk_at dksX11_span_7 18 rfl rfl)
theorem dX11_span_184 : decode cX11_span 184 = .ok (.if_icmp .ne 8, 3) := dk_160 0 8 (dk_at dksX11_span_7 19 rfl rfl)
theorem dX11_span_187 : decode cX11_span 187 = .ok (.iload 8, 2) := dk_21 8 (dk_at dksX11_span_7 22 rfl rfl)
theorem dX11_span_189 : decode cX11_span 189 = .ok (.goto 5, 3) := dk_167 0 5 (dk_at dksX11_span_8 0 rfl rfl)
theorem dX11_span_192 : decode cX11_span 192 = .ok (.iload 9, 2) := dk_21 9 (dk_at dksX11_span_8 3 rfl rfl)
theorem dX11_span_194 : decode cX11_span 194 = .ok (.ireturn, 1) := dk_172 (dk_at dksX11_span_8 5 rfl rfl)
abbrev cX11_image : ByteArray := prog_22_method_130_code
def yX11_image : MethodName := ⟨RX11, "image", "()I"⟩
def dkwX11_image_1 : List UInt8 := [180, 1, 20, 50, 184, 1, 10, 42, 89, 180, 1, 20, 4, 96, 181, 1, 20, 42, 180, 1, 20, 172]
abbrev dktX11_image_1 : List UInt8 := dkwX11_image_1 ++ []
def dkwX11_image_0 : List UInt8 := [42, 3, 181, 0, 134, 42, 180, 1, 20, 6, 160, 0, 5, 2, 172, 42, 180, 0, 91, 42, 180, 0, 82, 42]
abbrev dktX11_image_0 : List UInt8 := dkwX11_image_0 ++ dktX11_image_1
theorem dksX11_image_0 : cX11_image.data.toList.drop 0 = dktX11_image_0 := by decide +kernel
theorem dksX11_image_1 : cX11_image.data.toList.drop 24 = dktX11_image_1 := dk_seg dksX11_image_0 24 rfl rfl
theorem dX11_image_0 : decode cX11_image 0 = .ok (.aload_n 0, 1) := dk_42 (dk_at dksX11_image_0 0 rfl rfl)
theorem dX11_image_1 : decode cX11_image 1 = .ok (.iconst 0, 1) := dk_3 (dk_at dksX11_image_0 1 rfl rfl)
theorem dX11_image_2 : decode cX11_image 2 = .ok (.putfield 134, 3) := dk_181 0 134 (dk_at dksX11_image_0 2 rfl rfl)
theorem dX11_image_5 : decode cX11_image 5 = .ok (.aload_n 0, 1) := dk_42 (dk_at dksX11_image_0 5 rfl rfl)
theorem dX11_image_6 : decode cX11_image 6 = .ok (.getfield 276, 3) := dk_180 1 20 (dk_at dksX11_image_0 6 rfl rfl)
theorem dX11_image_9 : decode cX11_image 9 = .ok (.iconst 3, 1) := dk_6 (dk_at dksX11_image_0 9 rfl rfl)
theorem dX11_image_10 : decode cX11_image 10 = .ok (.if_icmp .ne 5, 3) := dk_160 0 5 (dk_at dksX11_image_0 10 rfl rfl)
theorem dX11_image_13 : decode cX11_image 13 = .ok (.iconst (-1), 1) := dk_2 (dk_at dksX11_image_0 13 rfl rfl)
theorem dX11_image_14 : decode cX11_image 14 = .ok (.ireturn, 1) := dk_172 (dk_at dksX11_image_0 14 rfl rfl)
theorem dX11_image_15 : decode cX11_image 15 = .ok (.aload_n 0, 1) := dk_42 (dk_at dksX11_image_0 15 rfl rfl)
theorem dX11_image_16 : decode cX11_image 16 = .ok (.getfield 91, 3) := dk_180 0 91 (dk_at dksX11_image_0 16 rfl rfl)
theorem dX11_image_19 : decode cX11_image 19 = .ok (.aload_n 0, 1) := dk_42 (dk_at dksX11_image_0 19 rfl rfl)
theorem dX11_image_20 : decode cX11_image 20 = .ok (.getfield 82, 3) := dk_180 0 82 (dk_at dksX11_image_0 20 rfl rfl)
theorem dX11_image_23 : decode cX11_image 23 = .ok (.aload_n 0, 1) := dk_42 (dk_at dksX11_image_0 23 rfl rfl)
theorem dX11_image_24 : decode cX11_image 24 = .ok (.getfield 276, 3) := dk_180 1 20 (dk_at dksX11_image_1 0 rfl rfl)
theorem dX11_image_27 : decode cX11_image 27 = .ok (.aaload, 1) := dk_50 (dk_at dksX11_image_1 3 rfl rfl)
theorem dX11_image_28 : decode cX11_image 28 = .ok (.invokestatic 266, 3) := dk_184 1 10 (dk_at dksX11_image_1 4 rfl rfl)
theorem dX11_image_31 : decode cX11_image 31 = .ok (.aload_n 0, 1) := dk_42 (dk_at dksX11_image_1 7 rfl rfl)
theorem dX11_image_32 : decode cX11_image 32 = .ok (.dup, 1) := dk_89 (dk_at dksX11_image_1 8 rfl rfl)
theorem dX11_image_33 : decode cX11_image 33 = .ok (.getfield 276, 3) := dk_180 1 20 (dk_at dksX11_image_1 9 rfl rfl)
theorem dX11_image_36 : decode cX11_image 36 = .ok (.iconst 1, 1) := dk_4 (dk_at dksX11_image_1 12 rfl rfl)
theorem dX11_image_37 : decode cX11_image 37 = .ok (.iadd, 1) := dk_96 (dk_at dksX11_image_1 13 rfl rfl)
theorem dX11_image_38 : decode cX11_image 38 = .ok (.putfield 276, 3) := dk_181 1 20 (dk_at dksX11_image_1 14 rfl rfl)
theorem dX11_image_41 : decode cX11_image 41 = .ok (.aload_n 0, 1) := dk_42 (dk_at dksX11_image_1 17 rfl rfl)
theorem dX11_image_42 : decode cX11_image 42 = .ok (.getfield 276, 3) := dk_180 1 20 (dk_at dksX11_image_1 18 rfl rfl)
theorem dX11_image_45 : decode cX11_image 45 = .ok (.ireturn, 1) := dk_172 (dk_at dksX11_image_1 21 rfl rfl)
abbrev cX11_restore : ByteArray := prog_22_method_131_code
def yX11_restore : MethodName := ⟨RX11, "restore", "()I"⟩
def dkwX11_restore_2 : List UInt8 := [172]
abbrev dktX11_restore_2 : List UInt8 := dkwX11_restore_2 ++ []
def dkwX11_restore_1 : List UInt8 := [42, 180, 0, 82, 42, 180, 1, 20, 50, 42, 180, 0, 91, 184, 1, 10, 42, 182, 1, 23, 42, 180, 1, 20]
abbrev dktX11_restore_1 : List UInt8 := dkwX11_restore_1 ++ dktX11_restore_2
def dkwX11_restore_0 : List UInt8 := [42, 3, 181, 0, 134, 42, 180, 1, 20, 154, 0, 5, 2, 172, 42, 89, 180, 1, 20, 4, 100, 181, 1, 20]
abbrev dktX11_restore_0 : List UInt8 := dkwX11_restore_0 ++ dktX11_restore_1
theorem dksX11_restore_0 : cX11_restore.data.toList.drop 0 = dktX11_restore_0 := by decide +kernel
theorem dksX11_restore_1 : cX11_restore.data.toList.drop 24 = dktX11_restore_1 := dk_seg dksX11_restore_0 24 rfl rfl
theorem dksX11_restore_2 : cX11_restore.data.toList.drop 48 = dktX11_restore_2 := dk_seg dksX11_restore_1 24 rfl rfl
theorem dX11_restore_0 : decode cX11_restore 0 = .ok (.aload_n 0, 1) := dk_42 (dk_at dksX11_restore_0 0 rfl rfl)
theorem dX11_restore_1 : decode cX11_restore 1 = .ok (.iconst 0, 1) := dk_3 (dk_at dksX11_restore_0 1 rfl rfl)
theorem dX11_restore_2 : decode cX11_restore 2 = .ok (.putfield 134, 3) := dk_181 0 134 (dk_at dksX11_restore_0 2 rfl rfl)
theorem dX11_restore_5 : decode cX11_restore 5 = .ok (.aload_n 0, 1) := dk_42 (dk_at dksX11_restore_0 5 rfl rfl)
theorem dX11_restore_6 : decode cX11_restore 6 = .ok (.getfield 276, 3) := dk_180 1 20 (dk_at dksX11_restore_0 6 rfl rfl)
theorem dX11_restore_9 : decode cX11_restore 9 = .ok (.ifCond .ne 5, 3) := dk_154 0 5 (dk_at dksX11_restore_0 9 rfl rfl)
theorem dX11_restore_12 : decode cX11_restore 12 = .ok (.iconst (-1), 1) := dk_2 (dk_at dksX11_restore_0 12 rfl rfl)
theorem dX11_restore_13 : decode cX11_restore 13 = .ok (.ireturn, 1) := dk_172 (dk_at dksX11_restore_0 13 rfl rfl)
theorem dX11_restore_14 : decode cX11_restore 14 = .ok (.aload_n 0, 1) := dk_42 (dk_at dksX11_restore_0 14 rfl rfl)
theorem dX11_restore_15 : decode cX11_restore 15 = .ok (.dup, 1) := dk_89 (dk_at dksX11_restore_0 15 rfl rfl)
theorem dX11_restore_16 : decode cX11_restore 16 = .ok (.getfield 276, 3) := dk_180 1 20 (dk_at dksX11_restore_0 16 rfl rfl)
theorem dX11_restore_19 : decode cX11_restore 19 = .ok (.iconst 1, 1) := dk_4 (dk_at dksX11_restore_0 19 rfl rfl)
theorem dX11_restore_20 : decode cX11_restore 20 = .ok (.isub, 1) := dk_100 (dk_at dksX11_restore_0 20 rfl rfl)
theorem dX11_restore_21 : decode cX11_restore 21 = .ok (.putfield 276, 3) := dk_181 1 20 (dk_at dksX11_restore_0 21 rfl rfl)
theorem dX11_restore_24 : decode cX11_restore 24 = .ok (.aload_n 0, 1) := dk_42 (dk_at dksX11_restore_1 0 rfl rfl)
theorem dX11_restore_25 : decode cX11_restore 25 = .ok (.getfield 82, 3) := dk_180 0 82 (dk_at dksX11_restore_1 1 rfl rfl)
theorem dX11_restore_28 : decode cX11_restore 28 = .ok (.aload_n 0, 1) := dk_42 (dk_at dksX11_restore_1 4 rfl rfl)
theorem dX11_restore_29 : decode cX11_restore 29 = .ok (.getfield 276, 3) := dk_180 1 20 (dk_at dksX11_restore_1 5 rfl rfl)
theorem dX11_restore_32 : decode cX11_restore 32 = .ok (.aaload, 1) := dk_50 (dk_at dksX11_restore_1 8 rfl rfl)
theorem dX11_restore_33 : decode cX11_restore 33 = .ok (.aload_n 0, 1) := dk_42 (dk_at dksX11_restore_1 9 rfl rfl)
theorem dX11_restore_34 : decode cX11_restore 34 = .ok (.getfield 91, 3) := dk_180 0 91 (dk_at dksX11_restore_1 10 rfl rfl)
theorem dX11_restore_37 : decode cX11_restore 37 = .ok (.invokestatic 266, 3) := dk_184 1 10 (dk_at dksX11_restore_1 13 rfl rfl)
theorem dX11_restore_40 : decode cX11_restore 40 = .ok (.aload_n 0, 1) := dk_42 (dk_at dksX11_restore_1 16 rfl rfl)
theorem dX11_restore_41 : decode cX11_restore 41 = .ok (.invokevirtual 279, 3) := dk_182 1 23 (dk_at dksX11_restore_1 17 rfl rfl)
theorem dX11_restore_44 : decode cX11_restore 44 = .ok (.aload_n 0, 1) := dk_42 (dk_at dksX11_restore_1 20 rfl rfl)
theorem dX11_restore_45 : decode cX11_restore 45 = .ok (.getfield 276, 3) := dk_180 1 20 (dk_at dksX11_restore_1 21 rfl rfl)
theorem dX11_restore_48 : decode cX11_restore 48 = .ok (.ireturn, 1) := dk_172 (dk_at dksX11_restore_2 0 rfl rfl)
abbrev cX11_status : ByteArray := prog_22_method_132_code
def yX11_status : MethodName := ⟨RX11, "status", "(I)I"⟩
def dkwX11_status_1 : List UInt8 := [172]
abbrev dktX11_status_1 : List UInt8 := dkwX11_status_1 ++ []
def dkwX11_status_0 : List UInt8 := [42, 3, 181, 0, 134, 27, 3, 4, 184, 0, 168, 153, 0, 12, 42, 180, 0, 17, 27, 46, 167, 0, 4, 2]
abbrev dktX11_status_0 : List UInt8 := dkwX11_status_0 ++ dktX11_status_1
theorem dksX11_status_0 : cX11_status.data.toList.drop 0 = dktX11_status_0 := by decide +kernel
theorem dksX11_status_1 : cX11_status.data.toList.drop 24 = dktX11_status_1 := dk_seg dksX11_status_0 24 rfl rfl
theorem dX11_status_0 : decode cX11_status 0 = .ok (.aload_n 0, 1) := dk_42 (dk_at dksX11_status_0 0 rfl rfl)
theorem dX11_status_1 : decode cX11_status 1 = .ok (.iconst 0, 1) := dk_3 (dk_at dksX11_status_0 1 rfl rfl)
theorem dX11_status_2 : decode cX11_status 2 = .ok (.putfield 134, 3) := dk_181 0 134 (dk_at dksX11_status_0 2 rfl rfl)
theorem dX11_status_5 : decode cX11_status 5 = .ok (.iload_n 1, 1) := dk_27 (dk_at dksX11_status_0 5 rfl rfl)
theorem dX11_status_6 : decode cX11_status 6 = .ok (.iconst 0, 1) := dk_3 (dk_at dksX11_status_0 6 rfl rfl)
theorem dX11_status_7 : decode cX11_status 7 = .ok (.iconst 1, 1) := dk_4 (dk_at dksX11_status_0 7 rfl rfl)
theorem dX11_status_8 : decode cX11_status 8 = .ok (.invokestatic 168, 3) := dk_184 0 168 (dk_at dksX11_status_0 8 rfl rfl)
theorem dX11_status_11 : decode cX11_status 11 = .ok (.ifCond .eq 12, 3) := dk_153 0 12 (dk_at dksX11_status_0 11 rfl rfl)
theorem dX11_status_14 : decode cX11_status 14 = .ok (.aload_n 0, 1) := dk_42 (dk_at dksX11_status_0 14 rfl rfl)
theorem dX11_status_15 : decode cX11_status 15 = .ok (.getfield 17, 3) := dk_180 0 17 (dk_at dksX11_status_0 15 rfl rfl)
theorem dX11_status_18 : decode cX11_status 18 = .ok (.iload_n 1, 1) := dk_27 (dk_at dksX11_status_0 18 rfl rfl)
theorem dX11_status_19 : decode cX11_status 19 = .ok (.iaload, 1) := dk_46 (dk_at dksX11_status_0 19 rfl rfl)
theorem dX11_status_20 : decode cX11_status 20 = .ok (.goto 4, 3) := dk_167 0 4 (dk_at dksX11_status_0 20 rfl rfl)
theorem dX11_status_23 : decode cX11_status 23 = .ok (.iconst (-1), 1) := dk_2 (dk_at dksX11_status_0 23 rfl rfl)
theorem dX11_status_24 : decode cX11_status 24 = .ok (.ireturn, 1) := dk_172 (dk_at dksX11_status_1 0 rfl rfl)
abbrev cX11_count : ByteArray := prog_22_method_133_code
def yX11_count : MethodName := ⟨RX11, "count", "(I)I"⟩
def dkwX11_count_1 : List UInt8 := [180, 0, 137, 167, 0, 16, 27, 5, 160, 0, 10, 42, 180, 1, 26, 167, 0, 4, 2, 172]
abbrev dktX11_count_1 : List UInt8 := dkwX11_count_1 ++ []
def dkwX11_count_0 : List UInt8 := [42, 3, 181, 0, 134, 27, 154, 0, 10, 42, 180, 1, 20, 167, 0, 28, 27, 4, 160, 0, 10, 42]
abbrev dktX11_count_0 : List UInt8 := dkwX11_count_0 ++ dktX11_count_1
theorem dksX11_count_0 : cX11_count.data.toList.drop 0 = dktX11_count_0 := by decide +kernel
theorem dksX11_count_1 : cX11_count.data.toList.drop 22 = dktX11_count_1 := dk_seg dksX11_count_0 22 rfl rfl
theorem dX11_count_0 : decode cX11_count 0 = .ok (.aload_n 0, 1) := dk_42 (dk_at dksX11_count_0 0 rfl rfl)
theorem dX11_count_1 : decode cX11_count 1 = .ok (.iconst 0, 1) := dk_3 (dk_at dksX11_count_0 1 rfl rfl)
theorem dX11_count_2 : decode cX11_count 2 = .ok (.putfield 134, 3) := dk_181 0 134 (dk_at dksX11_count_0 2 rfl rfl)
theorem dX11_count_5 : decode cX11_count 5 = .ok (.iload_n 1, 1) := dk_27 (dk_at dksX11_count_0 5 rfl rfl)
theorem dX11_count_6 : decode cX11_count 6 = .ok (.ifCond .ne 10, 3) := dk_154 0 10 (dk_at dksX11_count_0 6 rfl rfl)
theorem dX11_count_9 : decode cX11_count 9 = .ok (.aload_n 0, 1) := dk_42 (dk_at dksX11_count_0 9 rfl rfl)
theorem dX11_count_10 : decode cX11_count 10 = .ok (.getfield 276, 3) := dk_180 1 20 (dk_at dksX11_count_0 10 rfl rfl)
theorem dX11_count_13 : decode cX11_count 13 = .ok (.goto 28, 3) := dk_167 0 28 (dk_at dksX11_count_0 13 rfl rfl)
theorem dX11_count_16 : decode cX11_count 16 = .ok (.iload_n 1, 1) := dk_27 (dk_at dksX11_count_0 16 rfl rfl)
theorem dX11_count_17 : decode cX11_count 17 = .ok (.iconst 1, 1) := dk_4 (dk_at dksX11_count_0 17 rfl rfl)
theorem dX11_count_18 : decode cX11_count 18 = .ok (.if_icmp .ne 10, 3) := dk_160 0 10 (dk_at dksX11_count_0 18 rfl rfl)
theorem dX11_count_21 : decode cX11_count 21 = .ok (.aload_n 0, 1) := dk_42 (dk_at dksX11_count_0 21 rfl rfl)
theorem dX11_count_22 : decode cX11_count 22 = .ok (.getfield 137, 3) := dk_180 0 137 (dk_at dksX11_count_1 0 rfl rfl)
theorem dX11_count_25 : decode cX11_count 25 = .ok (.goto 16, 3) := dk_167 0 16 (dk_at dksX11_count_1 3 rfl rfl)
theorem dX11_count_28 : decode cX11_count 28 = .ok (.iload_n 1, 1) := dk_27 (dk_at dksX11_count_1 6 rfl rfl)
theorem dX11_count_29 : decode cX11_count 29 = .ok (.iconst 2, 1) := dk_5 (dk_at dksX11_count_1 7 rfl rfl)
theorem dX11_count_30 : decode cX11_count 30 = .ok (.if_icmp .ne 10, 3) := dk_160 0 10 (dk_at dksX11_count_1 8 rfl rfl)
theorem dX11_count_33 : decode cX11_count 33 = .ok (.aload_n 0, 1) := dk_42 (dk_at dksX11_count_1 11 rfl rfl)
theorem dX11_count_34 : decode cX11_count 34 = .ok (.getfield 282, 3) := dk_180 1 26 (dk_at dksX11_count_1 12 rfl rfl)
theorem dX11_count_37 : decode cX11_count 37 = .ok (.goto 4, 3) := dk_167 0 4 (dk_at dksX11_count_1 15 rfl rfl)
theorem dX11_count_40 : decode cX11_count 40 = .ok (.iconst (-1), 1) := dk_2 (dk_at dksX11_count_1 18 rfl rfl)
theorem dX11_count_41 : decode cX11_count 41 = .ok (.ireturn, 1) := dk_172 (dk_at dksX11_count_1 19 rfl rfl)
theorem q145 : (Jvm.Cond.initialized "PuppetHeirsModel") ∈ lw_all := lw_g (lw_at lw_m1 30 rfl) rfl
theorem q1367 : (Jvm.Cond.selects "PuppetHeirsModel" ({ cls := "java/lang/Object", name := "getClass", desc := "()Ljava/lang/Class;" } : Jvm.MethodName) ({ cls := "java/lang/Object", name := "getClass", desc := "()Ljava/lang/Class;" } : Jvm.MethodName)) ∈ lw_all := lw_g (lw_at lw_m6 52 rfl) rfl
theorem q1924 : (Jvm.Cond.instantiable "PuppetHeirsModel" (56 : Nat)) ∈ lw_all := lw_g (lw_at lw_m8 129 rfl) rfl
theorem q1926 : (Jvm.Cond.instanceMethod ({ cls := "PuppetHeirsModel", name := "<init>", desc := "()V" } : Jvm.MethodName)) ∈ lw_all := lw_g (lw_at lw_m8 131 rfl) rfl
theorem q1927 : (Jvm.Cond.code ({ cls := "PuppetHeirsModel", name := "<init>", desc := "()V" } : Jvm.MethodName) prog_22_method_1_code (1 : Nat) (Option.none : Option Jvm.ClassFile.FieldType)) ∈ lw_all := lw_g (lw_at lw_m8 132 rfl) rfl
theorem q1928 : (Jvm.Cond.methodLink "PuppetHeirsModel" (1 : Nat) ({ cls := "java/lang/Object", name := "<init>", desc := "()V" } : Jvm.MethodName)) ∈ lw_all := lw_g (lw_at lw_m8 133 rfl) rfl
theorem q1929 : (Jvm.Cond.classLink "PuppetHeirsModel" (44 : Nat) "[[I") ∈ lw_all := lw_g (lw_at lw_m8 134 rfl) rfl
theorem q1931 : (Jvm.Cond.methodLink "PuppetHeirsModel" (128 : Nat) ({ cls := "PuppetHeirsModel", name := "tellsNothing", desc := "()V" } : Jvm.MethodName)) ∈ lw_all := lw_g (lw_at lw_m8 136 rfl) rfl
theorem q1932 : (Jvm.Cond.privateMethod ({ cls := "PuppetHeirsModel", name := "tellsNothing", desc := "()V" } : Jvm.MethodName)) ∈ lw_tbl := lw_at lw_m8 137 rfl
theorem q1933 : (Jvm.Cond.instanceMethod ({ cls := "PuppetHeirsModel", name := "tellsNothing", desc := "()V" } : Jvm.MethodName)) ∈ lw_all := lw_g (lw_at lw_m8 138 rfl) rfl
theorem q1934 : (Jvm.Cond.code ({ cls := "PuppetHeirsModel", name := "tellsNothing", desc := "()V" } : Jvm.MethodName) prog_22_method_2_code (3 : Nat) (Option.none : Option Jvm.ClassFile.FieldType)) ∈ lw_all := lw_g (lw_at lw_m8 139 rfl) rfl
theorem q1935 : (Jvm.Cond.methodLink "PuppetHeirsModel" (131 : Nat) ({ cls := "PuppetHeirsModel", name := "stands", desc := "()V" } : Jvm.MethodName)) ∈ lw_all := lw_g (lw_at lw_m8 140 rfl) rfl
theorem q1936 : (Jvm.Cond.privateMethod ({ cls := "PuppetHeirsModel", name := "stands", desc := "()V" } : Jvm.MethodName)) ∈ lw_tbl := lw_at lw_m8 141 rfl
theorem q1937 : (Jvm.Cond.instanceMethod ({ cls := "PuppetHeirsModel", name := "stands", desc := "()V" } : Jvm.MethodName)) ∈ lw_all := lw_g (lw_at lw_m8 142 rfl) rfl
theorem q1938 : (Jvm.Cond.code ({ cls := "PuppetHeirsModel", name := "stands", desc := "()V" } : Jvm.MethodName) prog_22_method_39_code (3 : Nat) (Option.none : Option Jvm.ClassFile.FieldType)) ∈ lw_all := lw_g (lw_at lw_m8 143 rfl) rfl
theorem q1939 : (Jvm.Cond.methodLink "PuppetHeirsModel" (262 : Nat) ({ cls := "PuppetHeirsModel", name := "lays", desc := "([[I[[II)V" } : Jvm.MethodName)) ∈ lw_all := lw_g (lw_at lw_m8 144 rfl) rfl
theorem q1940 : (Jvm.Cond.static ({ cls := "PuppetHeirsModel", name := "lays", desc := "([[I[[II)V" } : Jvm.MethodName)) ∈ lw_all := lw_g (lw_at lw_m8 145 rfl) rfl
theorem q1941 : (Jvm.Cond.code ({ cls := "PuppetHeirsModel", name := "lays", desc := "([[I[[II)V" } : Jvm.MethodName) prog_22_method_37_code (5 : Nat) (Option.none : Option Jvm.ClassFile.FieldType)) ∈ lw_all := lw_g (lw_at lw_m8 146 rfl) rfl
theorem q1942 : (Jvm.Cond.methodLink "PuppetHeirsModel" (168 : Nat) ({ cls := "PuppetHeirsModel", name := "in", desc := "(III)Z" } : Jvm.MethodName)) ∈ lw_all := lw_g (lw_at lw_m8 147 rfl) rfl
theorem q1943 : (Jvm.Cond.static ({ cls := "PuppetHeirsModel", name := "in", desc := "(III)Z" } : Jvm.MethodName)) ∈ lw_all := lw_g (lw_at lw_m8 148 rfl) rfl
theorem q1944 : (Jvm.Cond.code ({ cls := "PuppetHeirsModel", name := "in", desc := "(III)Z" } : Jvm.MethodName) prog_22_method_5_code (3 : Nat) (Option.some Jvm.ClassFile.FieldType.boolean)) ∈ lw_all := lw_g (lw_at lw_m8 149 rfl) rfl
theorem q1945 : (Jvm.Cond.methodLink "PuppetHeirsModel" (242 : Nat) ({ cls := "PuppetHeirsModel", name := "has", desc := "(II)Z" } : Jvm.MethodName)) ∈ lw_all := lw_g (lw_at lw_m8 150 rfl) rfl
theorem q1946 : (Jvm.Cond.static ({ cls := "PuppetHeirsModel", name := "has", desc := "(II)Z" } : Jvm.MethodName)) ∈ lw_all := lw_g (lw_at lw_m8 151 rfl) rfl
theorem q1947 : (Jvm.Cond.code ({ cls := "PuppetHeirsModel", name := "has", desc := "(II)Z" } : Jvm.MethodName) prog_22_method_8_code (2 : Nat) (Option.some Jvm.ClassFile.FieldType.boolean)) ∈ lw_all := lw_g (lw_at lw_m8 152 rfl) rfl
theorem q1948 : (Jvm.Cond.methodLink "PuppetHeirsModel" (266 : Nat) ({ cls := "PuppetHeirsModel", name := "copies", desc := "([I[I)V" } : Jvm.MethodName)) ∈ lw_all := lw_g (lw_at lw_m8 153 rfl) rfl
theorem q1949 : (Jvm.Cond.static ({ cls := "PuppetHeirsModel", name := "copies", desc := "([I[I)V" } : Jvm.MethodName)) ∈ lw_all := lw_g (lw_at lw_m8 154 rfl) rfl
theorem q1950 : (Jvm.Cond.code ({ cls := "PuppetHeirsModel", name := "copies", desc := "([I[I)V" } : Jvm.MethodName) prog_22_method_38_code (3 : Nat) (Option.none : Option Jvm.ClassFile.FieldType)) ∈ lw_all := lw_g (lw_at lw_m8 155 rfl) rfl
theorem q1951 : (Jvm.Cond.methodLink "PuppetHeirsModel" (279 : Nat) ({ cls := "PuppetHeirsModel", name := "settles", desc := "()V" } : Jvm.MethodName)) ∈ lw_all := lw_g (lw_at lw_m8 156 rfl) rfl
theorem q1952 : (Jvm.Cond.privateMethod ({ cls := "PuppetHeirsModel", name := "settles", desc := "()V" } : Jvm.MethodName)) ∈ lw_tbl := lw_at lw_m8 157 rfl
theorem q1953 : (Jvm.Cond.instanceMethod ({ cls := "PuppetHeirsModel", name := "settles", desc := "()V" } : Jvm.MethodName)) ∈ lw_all := lw_g (lw_at lw_m8 158 rfl) rfl
theorem q1954 : (Jvm.Cond.code ({ cls := "PuppetHeirsModel", name := "settles", desc := "()V" } : Jvm.MethodName) prog_22_method_40_code (1 : Nat) (Option.none : Option Jvm.ClassFile.FieldType)) ∈ lw_all := lw_g (lw_at lw_m8 159 rfl) rfl
theorem q1955 : (Jvm.Cond.fieldLink "PuppetHeirsModel" (134 : Nat) "PuppetHeirsModel" "thrown" "I") ∈ lw_all := lw_g (lw_at lw_m8 160 rfl) rfl
theorem q1956 : (Jvm.Cond.fieldLink "PuppetHeirsModel" (137 : Nat) "PuppetHeirsModel" "tape" "I") ∈ lw_all := lw_g (lw_at lw_m8 161 rfl) rfl
theorem q1957 : (Jvm.Cond.fieldLink "PuppetHeirsModel" (140 : Nat) "PuppetHeirsModel" "size" "I") ∈ lw_all := lw_g (lw_at lw_m8 162 rfl) rfl
theorem q1958 : (Jvm.Cond.fieldLink "PuppetHeirsModel" (9 : Nat) "PuppetHeirsModel" "place" "I") ∈ lw_all := lw_g (lw_at lw_m8 163 rfl) rfl
theorem q1959 : (Jvm.Cond.fieldLink "PuppetHeirsModel" (143 : Nat) "PuppetHeirsModel" "at" "I") ∈ lw_all := lw_g (lw_at lw_m8 164 rfl) rfl
theorem q1960 : (Jvm.Cond.fieldLink "PuppetHeirsModel" (150 : Nat) "PuppetHeirsModel" "fault" "I") ∈ lw_all := lw_g (lw_at lw_m8 165 rfl) rfl
theorem q1961 : (Jvm.Cond.fieldLink "PuppetHeirsModel" (153 : Nat) "PuppetHeirsModel" "faultAt" "I") ∈ lw_all := lw_g (lw_at lw_m8 166 rfl) rfl
theorem q1962 : (Jvm.Cond.fieldLink "PuppetHeirsModel" (196 : Nat) "PuppetHeirsModel" "clauses" "I") ∈ lw_all := lw_g (lw_at lw_m8 167 rfl) rfl
theorem q1963 : (Jvm.Cond.fieldLink "PuppetHeirsModel" (199 : Nat) "PuppetHeirsModel" "open" "I") ∈ lw_all := lw_g (lw_at lw_m8 168 rfl) rfl
theorem q1964 : (Jvm.Cond.fieldLink "PuppetHeirsModel" (13 : Nat) "PuppetHeirsModel" "fed" "[I") ∈ lw_all := lw_g (lw_at lw_m8 169 rfl) rfl
theorem q1965 : (Jvm.Cond.fieldLink "PuppetHeirsModel" (17 : Nat) "PuppetHeirsModel" "refused" "[I") ∈ lw_all := lw_g (lw_at lw_m8 170 rfl) rfl
theorem q1966 : (Jvm.Cond.fieldLink "PuppetHeirsModel" (20 : Nat) "PuppetHeirsModel" "readTold" "[I") ∈ lw_all := lw_g (lw_at lw_m8 171 rfl) rfl
theorem q1967 : (Jvm.Cond.fieldLink "PuppetHeirsModel" (23 : Nat) "PuppetHeirsModel" "told" "[I") ∈ lw_all := lw_g (lw_at lw_m8 172 rfl) rfl
theorem q1968 : (Jvm.Cond.fieldLink "PuppetHeirsModel" (26 : Nat) "PuppetHeirsModel" "readWorks" "[I") ∈ lw_all := lw_g (lw_at lw_m8 173 rfl) rfl
theorem q1969 : (Jvm.Cond.fieldLink "PuppetHeirsModel" (29 : Nat) "PuppetHeirsModel" "works" "[I") ∈ lw_all := lw_g (lw_at lw_m8 174 rfl) rfl
theorem q1970 : (Jvm.Cond.fieldLink "PuppetHeirsModel" (32 : Nat) "PuppetHeirsModel" "readQuarrel" "[I") ∈ lw_all := lw_g (lw_at lw_m8 175 rfl) rfl
theorem q1971 : (Jvm.Cond.fieldLink "PuppetHeirsModel" (35 : Nat) "PuppetHeirsModel" "quarrel" "[I") ∈ lw_all := lw_g (lw_at lw_m8 176 rfl) rfl
theorem q1972 : (Jvm.Cond.fieldLink "PuppetHeirsModel" (38 : Nat) "PuppetHeirsModel" "readSilent" "[I") ∈ lw_all := lw_g (lw_at lw_m8 177 rfl) rfl
theorem q1973 : (Jvm.Cond.fieldLink "PuppetHeirsModel" (41 : Nat) "PuppetHeirsModel" "silent" "[I") ∈ lw_all := lw_g (lw_at lw_m8 178 rfl) rfl
theorem q1974 : (Jvm.Cond.fieldLink "PuppetHeirsModel" (46 : Nat) "PuppetHeirsModel" "readHand" "[[I") ∈ lw_all := lw_g (lw_at lw_m8 179 rfl) rfl
theorem q1975 : (Jvm.Cond.fieldLink "PuppetHeirsModel" (49 : Nat) "PuppetHeirsModel" "hand" "[[I") ∈ lw_all := lw_g (lw_at lw_m8 180 rfl) rfl
theorem q1976 : (Jvm.Cond.fieldLink "PuppetHeirsModel" (52 : Nat) "PuppetHeirsModel" "readPuppet" "[[I") ∈ lw_all := lw_g (lw_at lw_m8 181 rfl) rfl
theorem q1977 : (Jvm.Cond.fieldLink "PuppetHeirsModel" (55 : Nat) "PuppetHeirsModel" "puppet" "[[I") ∈ lw_all := lw_g (lw_at lw_m8 182 rfl) rfl
theorem q1978 : (Jvm.Cond.fieldLink "PuppetHeirsModel" (58 : Nat) "PuppetHeirsModel" "readAct" "[[I") ∈ lw_all := lw_g (lw_at lw_m8 183 rfl) rfl
theorem q1979 : (Jvm.Cond.fieldLink "PuppetHeirsModel" (61 : Nat) "PuppetHeirsModel" "act" "[[I") ∈ lw_all := lw_g (lw_at lw_m8 184 rfl) rfl
theorem q1980 : (Jvm.Cond.fieldLink "PuppetHeirsModel" (64 : Nat) "PuppetHeirsModel" "readOwes" "[[I") ∈ lw_all := lw_g (lw_at lw_m8 185 rfl) rfl
theorem q1981 : (Jvm.Cond.fieldLink "PuppetHeirsModel" (67 : Nat) "PuppetHeirsModel" "owes" "[[I") ∈ lw_all := lw_g (lw_at lw_m8 186 rfl) rfl
theorem q1982 : (Jvm.Cond.fieldLink "PuppetHeirsModel" (270 : Nat) "PuppetHeirsModel" "lawMany" "I") ∈ lw_all := lw_g (lw_at lw_m8 187 rfl) rfl
theorem q1983 : (Jvm.Cond.fieldLink "PuppetHeirsModel" (285 : Nat) "PuppetHeirsModel" "readLawMany" "I") ∈ lw_all := lw_g (lw_at lw_m8 188 rfl) rfl
theorem q1984 : (Jvm.Cond.fieldLink "PuppetHeirsModel" (70 : Nat) "PuppetHeirsModel" "law" "[[I") ∈ lw_all := lw_g (lw_at lw_m8 189 rfl) rfl
theorem q1985 : (Jvm.Cond.fieldLink "PuppetHeirsModel" (73 : Nat) "PuppetHeirsModel" "readLaw" "[[I") ∈ lw_all := lw_g (lw_at lw_m8 190 rfl) rfl
theorem q1986 : (Jvm.Cond.fieldLink "PuppetHeirsModel" (76 : Nat) "PuppetHeirsModel" "book" "[[I") ∈ lw_all := lw_g (lw_at lw_m8 191 rfl) rfl
theorem q1987 : (Jvm.Cond.fieldLink "PuppetHeirsModel" (79 : Nat) "PuppetHeirsModel" "readBook" "[[I") ∈ lw_all := lw_g (lw_at lw_m8 192 rfl) rfl
theorem q1988 : (Jvm.Cond.fieldLink "PuppetHeirsModel" (82 : Nat) "PuppetHeirsModel" "kept" "[[I") ∈ lw_all := lw_g (lw_at lw_m8 193 rfl) rfl
theorem q1989 : (Jvm.Cond.fieldLink "PuppetHeirsModel" (85 : Nat) "PuppetHeirsModel" "stack" "[I") ∈ lw_all := lw_g (lw_at lw_m8 194 rfl) rfl
theorem q1990 : (Jvm.Cond.fieldLink "PuppetHeirsModel" (88 : Nat) "PuppetHeirsModel" "known" "[I") ∈ lw_all := lw_g (lw_at lw_m8 195 rfl) rfl
theorem q1991 : (Jvm.Cond.fieldLink "PuppetHeirsModel" (91 : Nat) "PuppetHeirsModel" "now" "[I") ∈ lw_all := lw_g (lw_at lw_m8 196 rfl) rfl
theorem q1992 : (Jvm.Cond.fieldLink "PuppetHeirsModel" (94 : Nat) "PuppetHeirsModel" "base" "[I") ∈ lw_all := lw_g (lw_at lw_m8 197 rfl) rfl
theorem q1993 : (Jvm.Cond.fieldLink "PuppetHeirsModel" (97 : Nat) "PuppetHeirsModel" "begun" "[I") ∈ lw_all := lw_g (lw_at lw_m8 198 rfl) rfl
theorem q1994 : (Jvm.Cond.fieldLink "PuppetHeirsModel" (100 : Nat) "PuppetHeirsModel" "trial" "[I") ∈ lw_all := lw_g (lw_at lw_m8 199 rfl) rfl
theorem q1995 : (Jvm.Cond.fieldLink "PuppetHeirsModel" (103 : Nat) "PuppetHeirsModel" "tried" "[I") ∈ lw_all := lw_g (lw_at lw_m8 200 rfl) rfl
theorem q1996 : (Jvm.Cond.fieldLink "PuppetHeirsModel" (273 : Nat) "PuppetHeirsModel" "lines" "I") ∈ lw_all := lw_g (lw_at lw_m8 201 rfl) rfl
theorem q1997 : (Jvm.Cond.fieldLink "PuppetHeirsModel" (282 : Nat) "PuppetHeirsModel" "gone" "I") ∈ lw_all := lw_g (lw_at lw_m8 202 rfl) rfl
theorem q1998 : (Jvm.Cond.fieldLink "PuppetHeirsModel" (276 : Nat) "PuppetHeirsModel" "images" "I") ∈ lw_all := lw_g (lw_at lw_m8 203 rfl) rfl
theorem q1999 : (Jvm.Cond.fieldLink "PuppetHeirsModel" (374 : Nat) "PuppetHeirsModel" "lots" "I") ∈ lw_all := lw_g (lw_at lw_m8 204 rfl) rfl
theorem q2000 : (Jvm.Cond.fieldLink "PuppetHeirsModel" (371 : Nat) "PuppetHeirsModel" "lotsBelow" "I") ∈ lw_all := lw_g (lw_at lw_m8 205 rfl) rfl
theorem q2001 : (Jvm.Cond.fieldLink "PuppetHeirsModel" (106 : Nat) "PuppetHeirsModel" "castOf" "[I") ∈ lw_all := lw_g (lw_at lw_m8 206 rfl) rfl
theorem q2002 : (Jvm.Cond.fieldLink "PuppetHeirsModel" (109 : Nat) "PuppetHeirsModel" "castLaughs" "[I") ∈ lw_all := lw_g (lw_at lw_m8 207 rfl) rfl
theorem q2003 : (Jvm.Cond.fieldLink "PuppetHeirsModel" (112 : Nat) "PuppetHeirsModel" "castBy" "[I") ∈ lw_all := lw_g (lw_at lw_m8 208 rfl) rfl
theorem q2004 : (Jvm.Cond.fieldLink "PuppetHeirsModel" (115 : Nat) "PuppetHeirsModel" "firstBy" "[I") ∈ lw_all := lw_g (lw_at lw_m8 209 rfl) rfl
theorem q2005 : (Jvm.Cond.fieldLink "PuppetHeirsModel" (118 : Nat) "PuppetHeirsModel" "reached" "[I") ∈ lw_all := lw_g (lw_at lw_m8 210 rfl) rfl
theorem q2006 : (Jvm.Cond.fieldLink "PuppetHeirsModel" (391 : Nat) "PuppetHeirsModel" "castMany" "I") ∈ lw_all := lw_g (lw_at lw_m8 211 rfl) rfl
theorem q2007 : (Jvm.Cond.fieldLink "PuppetHeirsModel" (394 : Nat) "PuppetHeirsModel" "ways" "I") ∈ lw_all := lw_g (lw_at lw_m8 212 rfl) rfl
theorem q2008 : (Jvm.Cond.fieldLink "PuppetHeirsModel" (397 : Nat) "PuppetHeirsModel" "always" "I") ∈ lw_all := lw_g (lw_at lw_m8 213 rfl) rfl
theorem q2009 : (Jvm.Cond.fieldLink "PuppetHeirsModel" (121 : Nat) "PuppetHeirsModel" "isRight" "[Z") ∈ lw_all := lw_g (lw_at lw_m8 214 rfl) rfl
theorem q2010 : (Jvm.Cond.fieldLink "PuppetHeirsModel" (125 : Nat) "PuppetHeirsModel" "nightOf" "[I") ∈ lw_all := lw_g (lw_at lw_m8 215 rfl) rfl
theorem q2011 : (Jvm.Cond.lays "PuppetHeirsModel" "PuppetHeirsModel" "thrown" "I") ∈ lw_all := lw_g (lw_at lw_m8 216 rfl) rfl
theorem q2012 : (Jvm.Cond.soleField "PuppetHeirsModel" "thrown") ∈ lw_all := lw_g (lw_at lw_m8 217 rfl) rfl
theorem q2013 : (Jvm.Cond.lays "PuppetHeirsModel" "PuppetHeirsModel" "tape" "I") ∈ lw_all := lw_g (lw_at lw_m8 218 rfl) rfl
theorem q2014 : (Jvm.Cond.soleField "PuppetHeirsModel" "tape") ∈ lw_all := lw_g (lw_at lw_m8 219 rfl) rfl
theorem q2015 : (Jvm.Cond.lays "PuppetHeirsModel" "PuppetHeirsModel" "size" "I") ∈ lw_all := lw_g (lw_at lw_m8 220 rfl) rfl
theorem q2016 : (Jvm.Cond.soleField "PuppetHeirsModel" "size") ∈ lw_all := lw_g (lw_at lw_m8 221 rfl) rfl
theorem q2017 : (Jvm.Cond.lays "PuppetHeirsModel" "PuppetHeirsModel" "place" "I") ∈ lw_all := lw_g (lw_at lw_m8 222 rfl) rfl
theorem q2018 : (Jvm.Cond.soleField "PuppetHeirsModel" "place") ∈ lw_all := lw_g (lw_at lw_m8 223 rfl) rfl
theorem q2019 : (Jvm.Cond.lays "PuppetHeirsModel" "PuppetHeirsModel" "at" "I") ∈ lw_all := lw_g (lw_at lw_m8 224 rfl) rfl
theorem q2020 : (Jvm.Cond.soleField "PuppetHeirsModel" "at") ∈ lw_all := lw_g (lw_at lw_m8 225 rfl) rfl
theorem q2021 : (Jvm.Cond.lays "PuppetHeirsModel" "PuppetHeirsModel" "fault" "I") ∈ lw_all := lw_g (lw_at lw_m8 226 rfl) rfl
theorem q2022 : (Jvm.Cond.soleField "PuppetHeirsModel" "fault") ∈ lw_all := lw_g (lw_at lw_m8 227 rfl) rfl
theorem q2023 : (Jvm.Cond.lays "PuppetHeirsModel" "PuppetHeirsModel" "faultAt" "I") ∈ lw_all := lw_g (lw_at lw_m8 228 rfl) rfl
theorem q2024 : (Jvm.Cond.soleField "PuppetHeirsModel" "faultAt") ∈ lw_all := lw_g (lw_at lw_m8 229 rfl) rfl
theorem q2025 : (Jvm.Cond.lays "PuppetHeirsModel" "PuppetHeirsModel" "clauses" "I") ∈ lw_all := lw_g (lw_at lw_m8 230 rfl) rfl
theorem q2026 : (Jvm.Cond.soleField "PuppetHeirsModel" "clauses") ∈ lw_all := lw_g (lw_at lw_m8 231 rfl) rfl
theorem q2027 : (Jvm.Cond.lays "PuppetHeirsModel" "PuppetHeirsModel" "open" "I") ∈ lw_all := lw_g (lw_at lw_m8 232 rfl) rfl
theorem q2028 : (Jvm.Cond.soleField "PuppetHeirsModel" "open") ∈ lw_all := lw_g (lw_at lw_m8 233 rfl) rfl
theorem q2029 : (Jvm.Cond.laysFinal "PuppetHeirsModel" "PuppetHeirsModel" "fed" "[I") ∈ lw_all := lw_g (lw_at lw_m8 234 rfl) rfl
theorem q2030 : (Jvm.Cond.soleField "PuppetHeirsModel" "fed") ∈ lw_all := lw_g (lw_at lw_m8 235 rfl) rfl
theorem q2031 : (Jvm.Cond.laysFinal "PuppetHeirsModel" "PuppetHeirsModel" "refused" "[I") ∈ lw_all := lw_g (lw_at lw_m8 236 rfl) rfl
theorem q2032 : (Jvm.Cond.soleField "PuppetHeirsModel" "refused") ∈ lw_all := lw_g (lw_at lw_m8 237 rfl) rfl
theorem q2033 : (Jvm.Cond.laysFinal "PuppetHeirsModel" "PuppetHeirsModel" "readTold" "[I") ∈ lw_all := lw_g (lw_at lw_m8 238 rfl) rfl
theorem q2034 : (Jvm.Cond.soleField "PuppetHeirsModel" "readTold") ∈ lw_all := lw_g (lw_at lw_m8 239 rfl) rfl
theorem q2035 : (Jvm.Cond.laysFinal "PuppetHeirsModel" "PuppetHeirsModel" "told" "[I") ∈ lw_all := lw_g (lw_at lw_m9 0 rfl) rfl
theorem q2036 : (Jvm.Cond.soleField "PuppetHeirsModel" "told") ∈ lw_all := lw_g (lw_at lw_m9 1 rfl) rfl
theorem q2037 : (Jvm.Cond.laysFinal "PuppetHeirsModel" "PuppetHeirsModel" "readWorks" "[I") ∈ lw_all := lw_g (lw_at lw_m9 2 rfl) rfl
theorem q2038 : (Jvm.Cond.soleField "PuppetHeirsModel" "readWorks") ∈ lw_all := lw_g (lw_at lw_m9 3 rfl) rfl
theorem q2039 : (Jvm.Cond.laysFinal "PuppetHeirsModel" "PuppetHeirsModel" "works" "[I") ∈ lw_all := lw_g (lw_at lw_m9 4 rfl) rfl
theorem q2040 : (Jvm.Cond.soleField "PuppetHeirsModel" "works") ∈ lw_all := lw_g (lw_at lw_m9 5 rfl) rfl
theorem q2041 : (Jvm.Cond.laysFinal "PuppetHeirsModel" "PuppetHeirsModel" "readQuarrel" "[I") ∈ lw_all := lw_g (lw_at lw_m9 6 rfl) rfl
theorem q2042 : (Jvm.Cond.soleField "PuppetHeirsModel" "readQuarrel") ∈ lw_all := lw_g (lw_at lw_m9 7 rfl) rfl
theorem q2043 : (Jvm.Cond.laysFinal "PuppetHeirsModel" "PuppetHeirsModel" "quarrel" "[I") ∈ lw_all := lw_g (lw_at lw_m9 8 rfl) rfl
theorem q2044 : (Jvm.Cond.soleField "PuppetHeirsModel" "quarrel") ∈ lw_all := lw_g (lw_at lw_m9 9 rfl) rfl
theorem q2045 : (Jvm.Cond.laysFinal "PuppetHeirsModel" "PuppetHeirsModel" "readSilent" "[I") ∈ lw_all := lw_g (lw_at lw_m9 10 rfl) rfl
theorem q2046 : (Jvm.Cond.soleField "PuppetHeirsModel" "readSilent") ∈ lw_all := lw_g (lw_at lw_m9 11 rfl) rfl
theorem q2047 : (Jvm.Cond.laysFinal "PuppetHeirsModel" "PuppetHeirsModel" "silent" "[I") ∈ lw_all := lw_g (lw_at lw_m9 12 rfl) rfl
theorem q2048 : (Jvm.Cond.soleField "PuppetHeirsModel" "silent") ∈ lw_all := lw_g (lw_at lw_m9 13 rfl) rfl
theorem q2049 : (Jvm.Cond.laysFinal "PuppetHeirsModel" "PuppetHeirsModel" "readHand" "[[I") ∈ lw_all := lw_g (lw_at lw_m9 14 rfl) rfl
theorem q2050 : (Jvm.Cond.soleField "PuppetHeirsModel" "readHand") ∈ lw_all := lw_g (lw_at lw_m9 15 rfl) rfl
theorem q2051 : (Jvm.Cond.laysFinal "PuppetHeirsModel" "PuppetHeirsModel" "hand" "[[I") ∈ lw_all := lw_g (lw_at lw_m9 16 rfl) rfl
theorem q2052 : (Jvm.Cond.soleField "PuppetHeirsModel" "hand") ∈ lw_all := lw_g (lw_at lw_m9 17 rfl) rfl
theorem q2053 : (Jvm.Cond.laysFinal "PuppetHeirsModel" "PuppetHeirsModel" "readPuppet" "[[I") ∈ lw_all := lw_g (lw_at lw_m9 18 rfl) rfl
theorem q2054 : (Jvm.Cond.soleField "PuppetHeirsModel" "readPuppet") ∈ lw_all := lw_g (lw_at lw_m9 19 rfl) rfl
theorem q2055 : (Jvm.Cond.laysFinal "PuppetHeirsModel" "PuppetHeirsModel" "puppet" "[[I") ∈ lw_all := lw_g (lw_at lw_m9 20 rfl) rfl
theorem q2056 : (Jvm.Cond.soleField "PuppetHeirsModel" "puppet") ∈ lw_all := lw_g (lw_at lw_m9 21 rfl) rfl
theorem q2057 : (Jvm.Cond.laysFinal "PuppetHeirsModel" "PuppetHeirsModel" "readAct" "[[I") ∈ lw_all := lw_g (lw_at lw_m9 22 rfl) rfl
theorem q2058 : (Jvm.Cond.soleField "PuppetHeirsModel" "readAct") ∈ lw_all := lw_g (lw_at lw_m9 23 rfl) rfl
theorem q2059 : (Jvm.Cond.laysFinal "PuppetHeirsModel" "PuppetHeirsModel" "act" "[[I") ∈ lw_all := lw_g (lw_at lw_m9 24 rfl) rfl
theorem q2060 : (Jvm.Cond.soleField "PuppetHeirsModel" "act") ∈ lw_all := lw_g (lw_at lw_m9 25 rfl) rfl
theorem q2061 : (Jvm.Cond.laysFinal "PuppetHeirsModel" "PuppetHeirsModel" "readOwes" "[[I") ∈ lw_all := lw_g (lw_at lw_m9 26 rfl) rfl
theorem q2062 : (Jvm.Cond.soleField "PuppetHeirsModel" "readOwes") ∈ lw_all := lw_g (lw_at lw_m9 27 rfl) rfl
theorem q2063 : (Jvm.Cond.laysFinal "PuppetHeirsModel" "PuppetHeirsModel" "owes" "[[I") ∈ lw_all := lw_g (lw_at lw_m9 28 rfl) rfl
theorem q2064 : (Jvm.Cond.soleField "PuppetHeirsModel" "owes") ∈ lw_all := lw_g (lw_at lw_m9 29 rfl) rfl
theorem q2065 : (Jvm.Cond.lays "PuppetHeirsModel" "PuppetHeirsModel" "lawMany" "I") ∈ lw_all := lw_g (lw_at lw_m9 30 rfl) rfl
theorem q2066 : (Jvm.Cond.soleField "PuppetHeirsModel" "lawMany") ∈ lw_all := lw_g (lw_at lw_m9 31 rfl) rfl
theorem q2067 : (Jvm.Cond.lays "PuppetHeirsModel" "PuppetHeirsModel" "readLawMany" "I") ∈ lw_all := lw_g (lw_at lw_m9 32 rfl) rfl
theorem q2068 : (Jvm.Cond.soleField "PuppetHeirsModel" "readLawMany") ∈ lw_all := lw_g (lw_at lw_m9 33 rfl) rfl
theorem q2069 : (Jvm.Cond.laysFinal "PuppetHeirsModel" "PuppetHeirsModel" "law" "[[I") ∈ lw_all := lw_g (lw_at lw_m9 34 rfl) rfl
theorem q2070 : (Jvm.Cond.soleField "PuppetHeirsModel" "law") ∈ lw_all := lw_g (lw_at lw_m9 35 rfl) rfl
theorem q2071 : (Jvm.Cond.laysFinal "PuppetHeirsModel" "PuppetHeirsModel" "readLaw" "[[I") ∈ lw_all := lw_g (lw_at lw_m9 36 rfl) rfl
theorem q2072 : (Jvm.Cond.soleField "PuppetHeirsModel" "readLaw") ∈ lw_all := lw_g (lw_at lw_m9 37 rfl) rfl
theorem q2073 : (Jvm.Cond.laysFinal "PuppetHeirsModel" "PuppetHeirsModel" "book" "[[I") ∈ lw_all := lw_g (lw_at lw_m9 38 rfl) rfl
theorem q2074 : (Jvm.Cond.soleField "PuppetHeirsModel" "book") ∈ lw_all := lw_g (lw_at lw_m9 39 rfl) rfl
theorem q2075 : (Jvm.Cond.laysFinal "PuppetHeirsModel" "PuppetHeirsModel" "readBook" "[[I") ∈ lw_all := lw_g (lw_at lw_m9 40 rfl) rfl
theorem q2076 : (Jvm.Cond.soleField "PuppetHeirsModel" "readBook") ∈ lw_all := lw_g (lw_at lw_m9 41 rfl) rfl
theorem q2077 : (Jvm.Cond.laysFinal "PuppetHeirsModel" "PuppetHeirsModel" "kept" "[[I") ∈ lw_all := lw_g (lw_at lw_m9 42 rfl) rfl
theorem q2078 : (Jvm.Cond.soleField "PuppetHeirsModel" "kept") ∈ lw_all := lw_g (lw_at lw_m9 43 rfl) rfl
theorem q2079 : (Jvm.Cond.laysFinal "PuppetHeirsModel" "PuppetHeirsModel" "stack" "[I") ∈ lw_all := lw_g (lw_at lw_m9 44 rfl) rfl
theorem q2080 : (Jvm.Cond.soleField "PuppetHeirsModel" "stack") ∈ lw_all := lw_g (lw_at lw_m9 45 rfl) rfl
theorem q2081 : (Jvm.Cond.laysFinal "PuppetHeirsModel" "PuppetHeirsModel" "known" "[I") ∈ lw_all := lw_g (lw_at lw_m9 46 rfl) rfl
theorem q2082 : (Jvm.Cond.soleField "PuppetHeirsModel" "known") ∈ lw_all := lw_g (lw_at lw_m9 47 rfl) rfl
theorem q2083 : (Jvm.Cond.laysFinal "PuppetHeirsModel" "PuppetHeirsModel" "now" "[I") ∈ lw_all := lw_g (lw_at lw_m9 48 rfl) rfl
theorem q2084 : (Jvm.Cond.soleField "PuppetHeirsModel" "now") ∈ lw_all := lw_g (lw_at lw_m9 49 rfl) rfl
theorem q2085 : (Jvm.Cond.laysFinal "PuppetHeirsModel" "PuppetHeirsModel" "base" "[I") ∈ lw_all := lw_g (lw_at lw_m9 50 rfl) rfl
theorem q2086 : (Jvm.Cond.soleField "PuppetHeirsModel" "base") ∈ lw_all := lw_g (lw_at lw_m9 51 rfl) rfl
theorem q2087 : (Jvm.Cond.laysFinal "PuppetHeirsModel" "PuppetHeirsModel" "begun" "[I") ∈ lw_all := lw_g (lw_at lw_m9 52 rfl) rfl
theorem q2088 : (Jvm.Cond.soleField "PuppetHeirsModel" "begun") ∈ lw_all := lw_g (lw_at lw_m9 53 rfl) rfl
theorem q2089 : (Jvm.Cond.laysFinal "PuppetHeirsModel" "PuppetHeirsModel" "trial" "[I") ∈ lw_all := lw_g (lw_at lw_m9 54 rfl) rfl
theorem q2090 : (Jvm.Cond.soleField "PuppetHeirsModel" "trial") ∈ lw_all := lw_g (lw_at lw_m9 55 rfl) rfl
theorem q2091 : (Jvm.Cond.laysFinal "PuppetHeirsModel" "PuppetHeirsModel" "tried" "[I") ∈ lw_all := lw_g (lw_at lw_m9 56 rfl) rfl
theorem q2092 : (Jvm.Cond.soleField "PuppetHeirsModel" "tried") ∈ lw_all := lw_g (lw_at lw_m9 57 rfl) rfl
theorem q2093 : (Jvm.Cond.lays "PuppetHeirsModel" "PuppetHeirsModel" "lines" "I") ∈ lw_all := lw_g (lw_at lw_m9 58 rfl) rfl
theorem q2094 : (Jvm.Cond.soleField "PuppetHeirsModel" "lines") ∈ lw_all := lw_g (lw_at lw_m9 59 rfl) rfl
theorem q2095 : (Jvm.Cond.lays "PuppetHeirsModel" "PuppetHeirsModel" "gone" "I") ∈ lw_all := lw_g (lw_at lw_m9 60 rfl) rfl
theorem q2096 : (Jvm.Cond.soleField "PuppetHeirsModel" "gone") ∈ lw_all := lw_g (lw_at lw_m9 61 rfl) rfl
theorem q2097 : (Jvm.Cond.lays "PuppetHeirsModel" "PuppetHeirsModel" "images" "I") ∈ lw_all := lw_g (lw_at lw_m9 62 rfl) rfl
theorem q2098 : (Jvm.Cond.soleField "PuppetHeirsModel" "images") ∈ lw_all := lw_g (lw_at lw_m9 63 rfl) rfl
theorem q2099 : (Jvm.Cond.lays "PuppetHeirsModel" "PuppetHeirsModel" "lots" "I") ∈ lw_all := lw_g (lw_at lw_m9 64 rfl) rfl
theorem q2100 : (Jvm.Cond.soleField "PuppetHeirsModel" "lots") ∈ lw_all := lw_g (lw_at lw_m9 65 rfl) rfl
theorem q2101 : (Jvm.Cond.lays "PuppetHeirsModel" "PuppetHeirsModel" "lotsBelow" "I") ∈ lw_all := lw_g (lw_at lw_m9 66 rfl) rfl
theorem q2102 : (Jvm.Cond.soleField "PuppetHeirsModel" "lotsBelow") ∈ lw_all := lw_g (lw_at lw_m9 67 rfl) rfl
theorem q2103 : (Jvm.Cond.laysFinal "PuppetHeirsModel" "PuppetHeirsModel" "castOf" "[I") ∈ lw_all := lw_g (lw_at lw_m9 68 rfl) rfl
theorem q2104 : (Jvm.Cond.soleField "PuppetHeirsModel" "castOf") ∈ lw_all := lw_g (lw_at lw_m9 69 rfl) rfl
theorem q2105 : (Jvm.Cond.laysFinal "PuppetHeirsModel" "PuppetHeirsModel" "castLaughs" "[I") ∈ lw_all := lw_g (lw_at lw_m9 70 rfl) rfl
theorem q2106 : (Jvm.Cond.soleField "PuppetHeirsModel" "castLaughs") ∈ lw_all := lw_g (lw_at lw_m9 71 rfl) rfl
theorem q2107 : (Jvm.Cond.laysFinal "PuppetHeirsModel" "PuppetHeirsModel" "castBy" "[I") ∈ lw_all := lw_g (lw_at lw_m9 72 rfl) rfl
theorem q2108 : (Jvm.Cond.soleField "PuppetHeirsModel" "castBy") ∈ lw_all := lw_g (lw_at lw_m9 73 rfl) rfl
theorem q2109 : (Jvm.Cond.laysFinal "PuppetHeirsModel" "PuppetHeirsModel" "firstBy" "[I") ∈ lw_all := lw_g (lw_at lw_m9 74 rfl) rfl
theorem q2110 : (Jvm.Cond.soleField "PuppetHeirsModel" "firstBy") ∈ lw_all := lw_g (lw_at lw_m9 75 rfl) rfl
theorem q2111 : (Jvm.Cond.laysFinal "PuppetHeirsModel" "PuppetHeirsModel" "reached" "[I") ∈ lw_all := lw_g (lw_at lw_m9 76 rfl) rfl
theorem q2112 : (Jvm.Cond.soleField "PuppetHeirsModel" "reached") ∈ lw_all := lw_g (lw_at lw_m9 77 rfl) rfl
theorem q2113 : (Jvm.Cond.lays "PuppetHeirsModel" "PuppetHeirsModel" "castMany" "I") ∈ lw_all := lw_g (lw_at lw_m9 78 rfl) rfl
theorem q2114 : (Jvm.Cond.soleField "PuppetHeirsModel" "castMany") ∈ lw_all := lw_g (lw_at lw_m9 79 rfl) rfl
theorem q2115 : (Jvm.Cond.lays "PuppetHeirsModel" "PuppetHeirsModel" "ways" "I") ∈ lw_all := lw_g (lw_at lw_m9 80 rfl) rfl
theorem q2116 : (Jvm.Cond.soleField "PuppetHeirsModel" "ways") ∈ lw_all := lw_g (lw_at lw_m9 81 rfl) rfl
theorem q2117 : (Jvm.Cond.lays "PuppetHeirsModel" "PuppetHeirsModel" "always" "I") ∈ lw_all := lw_g (lw_at lw_m9 82 rfl) rfl
theorem q2118 : (Jvm.Cond.soleField "PuppetHeirsModel" "always") ∈ lw_all := lw_g (lw_at lw_m9 83 rfl) rfl
theorem q2119 : (Jvm.Cond.laysFinal "PuppetHeirsModel" "PuppetHeirsModel" "isRight" "[Z") ∈ lw_all := lw_g (lw_at lw_m9 84 rfl) rfl
theorem q2120 : (Jvm.Cond.soleField "PuppetHeirsModel" "isRight") ∈ lw_all := lw_g (lw_at lw_m9 85 rfl) rfl
theorem q2121 : (Jvm.Cond.laysFinal "PuppetHeirsModel" "PuppetHeirsModel" "nightOf" "[I") ∈ lw_all := lw_g (lw_at lw_m9 86 rfl) rfl
theorem q2122 : (Jvm.Cond.soleField "PuppetHeirsModel" "nightOf") ∈ lw_all := lw_g (lw_at lw_m9 87 rfl) rfl
theorem q2123 : (Jvm.Cond.superclass "PuppetHeirsModel" "java/lang/Object") ∈ lw_all := lw_g (lw_at lw_m9 88 rfl) rfl
theorem q2126 : (Jvm.Cond.instanceMethod ({ cls := "PuppetHeirsModel", name := "thrown", desc := "()I" } : Jvm.MethodName)) ∈ lw_all := lw_g (lw_at lw_m9 91 rfl) rfl
theorem q2127 : (Jvm.Cond.selects "PuppetHeirsModel" ({ cls := "PuppetHeirsModel", name := "thrown", desc := "()I" } : Jvm.MethodName) ({ cls := "PuppetHeirsModel", name := "thrown", desc := "()I" } : Jvm.MethodName)) ∈ lw_all := lw_g (lw_at lw_m9 92 rfl) rfl
theorem q2128 : (Jvm.Cond.code ({ cls := "PuppetHeirsModel", name := "thrown", desc := "()I" } : Jvm.MethodName) prog_22_method_3_code (1 : Nat) (Option.some Jvm.ClassFile.FieldType.int)) ∈ lw_all := lw_g (lw_at lw_m9 93 rfl) rfl
theorem q2130 : (Jvm.Cond.instanceMethod ({ cls := "PuppetHeirsModel", name := "feed", desc := "(IIIII)I" } : Jvm.MethodName)) ∈ lw_all := lw_g (lw_at lw_m9 95 rfl) rfl
theorem q2131 : (Jvm.Cond.selects "PuppetHeirsModel" ({ cls := "PuppetHeirsModel", name := "feed", desc := "(IIIII)I" } : Jvm.MethodName) ({ cls := "PuppetHeirsModel", name := "feed", desc := "(IIIII)I" } : Jvm.MethodName)) ∈ lw_all := lw_g (lw_at lw_m9 96 rfl) rfl
theorem q2132 : (Jvm.Cond.code ({ cls := "PuppetHeirsModel", name := "feed", desc := "(IIIII)I" } : Jvm.MethodName) prog_22_method_10_code (8 : Nat) (Option.some Jvm.ClassFile.FieldType.int)) ∈ lw_all := lw_g (lw_at lw_m9 97 rfl) rfl
theorem q2134 : (Jvm.Cond.instanceMethod ({ cls := "PuppetHeirsModel", name := "family", desc := "(I)I" } : Jvm.MethodName)) ∈ lw_all := lw_g (lw_at lw_m9 99 rfl) rfl
theorem q2135 : (Jvm.Cond.selects "PuppetHeirsModel" ({ cls := "PuppetHeirsModel", name := "family", desc := "(I)I" } : Jvm.MethodName) ({ cls := "PuppetHeirsModel", name := "family", desc := "(I)I" } : Jvm.MethodName)) ∈ lw_all := lw_g (lw_at lw_m9 100 rfl) rfl
theorem q2136 : (Jvm.Cond.code ({ cls := "PuppetHeirsModel", name := "family", desc := "(I)I" } : Jvm.MethodName) prog_22_method_36_code (2 : Nat) (Option.some Jvm.ClassFile.FieldType.int)) ∈ lw_all := lw_g (lw_at lw_m9 101 rfl) rfl
theorem q2137 : (Jvm.Cond.methodLink "PuppetHeirsModel" (249 : Nat) ({ cls := "PuppetHeirsModel", name := "bad", desc := "(ZII)Z" } : Jvm.MethodName)) ∈ lw_all := lw_g (lw_at lw_m9 102 rfl) rfl
theorem q2138 : (Jvm.Cond.privateMethod ({ cls := "PuppetHeirsModel", name := "bad", desc := "(ZII)Z" } : Jvm.MethodName)) ∈ lw_tbl := lw_at lw_m9 103 rfl
theorem q2139 : (Jvm.Cond.instanceMethod ({ cls := "PuppetHeirsModel", name := "bad", desc := "(ZII)Z" } : Jvm.MethodName)) ∈ lw_all := lw_g (lw_at lw_m9 104 rfl) rfl
theorem q2140 : (Jvm.Cond.code ({ cls := "PuppetHeirsModel", name := "bad", desc := "(ZII)Z" } : Jvm.MethodName) prog_22_method_4_code (4 : Nat) (Option.some Jvm.ClassFile.FieldType.boolean)) ∈ lw_all := lw_g (lw_at lw_m9 105 rfl) rfl
theorem q2141 : (Jvm.Cond.methodLink "PuppetHeirsModel" (253 : Nat) ({ cls := "PuppetHeirsModel", name := "starts", desc := "(I)V" } : Jvm.MethodName)) ∈ lw_all := lw_g (lw_at lw_m9 106 rfl) rfl
theorem q2142 : (Jvm.Cond.privateMethod ({ cls := "PuppetHeirsModel", name := "starts", desc := "(I)V" } : Jvm.MethodName)) ∈ lw_tbl := lw_at lw_m9 107 rfl
theorem q2143 : (Jvm.Cond.instanceMethod ({ cls := "PuppetHeirsModel", name := "starts", desc := "(I)V" } : Jvm.MethodName)) ∈ lw_all := lw_g (lw_at lw_m9 108 rfl) rfl
theorem q2144 : (Jvm.Cond.code ({ cls := "PuppetHeirsModel", name := "starts", desc := "(I)V" } : Jvm.MethodName) prog_22_method_25_code (2 : Nat) (Option.none : Option Jvm.ClassFile.FieldType)) ∈ lw_all := lw_g (lw_at lw_m9 109 rfl) rfl
theorem q2145 : (Jvm.Cond.methodLink "PuppetHeirsModel" (156 : Nat) ({ cls := "PuppetHeirsModel", name := "blanks", desc := "()V" } : Jvm.MethodName)) ∈ lw_all := lw_g (lw_at lw_m9 110 rfl) rfl
theorem q2146 : (Jvm.Cond.privateMethod ({ cls := "PuppetHeirsModel", name := "blanks", desc := "()V" } : Jvm.MethodName)) ∈ lw_tbl := lw_at lw_m9 111 rfl
theorem q2147 : (Jvm.Cond.instanceMethod ({ cls := "PuppetHeirsModel", name := "blanks", desc := "()V" } : Jvm.MethodName)) ∈ lw_all := lw_g (lw_at lw_m9 112 rfl) rfl
theorem q2148 : (Jvm.Cond.code ({ cls := "PuppetHeirsModel", name := "blanks", desc := "()V" } : Jvm.MethodName) prog_22_method_12_code (1 : Nat) (Option.none : Option Jvm.ClassFile.FieldType)) ∈ lw_all := lw_g (lw_at lw_m9 113 rfl) rfl
theorem q2149 : (Jvm.Cond.methodLink "PuppetHeirsModel" (146 : Nat) ({ cls := "PuppetHeirsModel", name := "byteAt", desc := "(I)I" } : Jvm.MethodName)) ∈ lw_all := lw_g (lw_at lw_m9 114 rfl) rfl
theorem q2150 : (Jvm.Cond.privateMethod ({ cls := "PuppetHeirsModel", name := "byteAt", desc := "(I)I" } : Jvm.MethodName)) ∈ lw_tbl := lw_at lw_m9 115 rfl
theorem q2151 : (Jvm.Cond.instanceMethod ({ cls := "PuppetHeirsModel", name := "byteAt", desc := "(I)I" } : Jvm.MethodName)) ∈ lw_all := lw_g (lw_at lw_m9 116 rfl) rfl
theorem q2152 : (Jvm.Cond.code ({ cls := "PuppetHeirsModel", name := "byteAt", desc := "(I)I" } : Jvm.MethodName) prog_22_method_11_code (2 : Nat) (Option.some Jvm.ClassFile.FieldType.int)) ∈ lw_all := lw_g (lw_at lw_m9 117 rfl) rfl
theorem q2153 : (Jvm.Cond.methodLink "PuppetHeirsModel" (256 : Nat) ({ cls := "PuppetHeirsModel", name := "clause", desc := "()V" } : Jvm.MethodName)) ∈ lw_all := lw_g (lw_at lw_m9 118 rfl) rfl
theorem q2154 : (Jvm.Cond.privateMethod ({ cls := "PuppetHeirsModel", name := "clause", desc := "()V" } : Jvm.MethodName)) ∈ lw_tbl := lw_at lw_m9 119 rfl
theorem q2155 : (Jvm.Cond.instanceMethod ({ cls := "PuppetHeirsModel", name := "clause", desc := "()V" } : Jvm.MethodName)) ∈ lw_all := lw_g (lw_at lw_m9 120 rfl) rfl
theorem q2156 : (Jvm.Cond.code ({ cls := "PuppetHeirsModel", name := "clause", desc := "()V" } : Jvm.MethodName) prog_22_method_30_code (5 : Nat) (Option.none : Option Jvm.ClassFile.FieldType)) ∈ lw_all := lw_g (lw_at lw_m9 121 rfl) rfl
theorem q2157 : (Jvm.Cond.methodLink "PuppetHeirsModel" (206 : Nat) ({ cls := "PuppetHeirsModel", name := "kindHere", desc := "()I" } : Jvm.MethodName)) ∈ lw_all := lw_g (lw_at lw_m9 122 rfl) rfl
theorem q2158 : (Jvm.Cond.privateMethod ({ cls := "PuppetHeirsModel", name := "kindHere", desc := "()I" } : Jvm.MethodName)) ∈ lw_tbl := lw_at lw_m9 123 rfl
theorem q2159 : (Jvm.Cond.instanceMethod ({ cls := "PuppetHeirsModel", name := "kindHere", desc := "()I" } : Jvm.MethodName)) ∈ lw_all := lw_g (lw_at lw_m9 124 rfl) rfl
theorem q2160 : (Jvm.Cond.code ({ cls := "PuppetHeirsModel", name := "kindHere", desc := "()I" } : Jvm.MethodName) prog_22_method_27_code (1 : Nat) (Option.some Jvm.ClassFile.FieldType.int)) ∈ lw_all := lw_g (lw_at lw_m9 125 rfl) rfl
theorem q2161 : (Jvm.Cond.methodLink "PuppetHeirsModel" (189 : Nat) ({ cls := "PuppetHeirsModel", name := "isWord", desc := "(IIIIIII)Z" } : Jvm.MethodName)) ∈ lw_all := lw_g (lw_at lw_m9 126 rfl) rfl
theorem q2162 : (Jvm.Cond.privateMethod ({ cls := "PuppetHeirsModel", name := "isWord", desc := "(IIIIIII)Z" } : Jvm.MethodName)) ∈ lw_tbl := lw_at lw_m9 127 rfl
theorem q2163 : (Jvm.Cond.instanceMethod ({ cls := "PuppetHeirsModel", name := "isWord", desc := "(IIIIIII)Z" } : Jvm.MethodName)) ∈ lw_all := lw_g (lw_at lw_m9 128 rfl) rfl
theorem q2164 : (Jvm.Cond.code ({ cls := "PuppetHeirsModel", name := "isWord", desc := "(IIIIIII)Z" } : Jvm.MethodName) prog_22_method_20_code (8 : Nat) (Option.some Jvm.ClassFile.FieldType.boolean)) ∈ lw_all := lw_g (lw_at lw_m9 129 rfl) rfl
theorem q2165 : (Jvm.Cond.methodLink "PuppetHeirsModel" (181 : Nat) ({ cls := "PuppetHeirsModel", name := "wordHere", desc := "()J" } : Jvm.MethodName)) ∈ lw_all := lw_g (lw_at lw_m9 130 rfl) rfl
theorem q2166 : (Jvm.Cond.privateMethod ({ cls := "PuppetHeirsModel", name := "wordHere", desc := "()J" } : Jvm.MethodName)) ∈ lw_tbl := lw_at lw_m9 131 rfl
theorem q2167 : (Jvm.Cond.instanceMethod ({ cls := "PuppetHeirsModel", name := "wordHere", desc := "()J" } : Jvm.MethodName)) ∈ lw_all := lw_g (lw_at lw_m9 132 rfl) rfl
theorem q2168 : (Jvm.Cond.code ({ cls := "PuppetHeirsModel", name := "wordHere", desc := "()J" } : Jvm.MethodName) prog_22_method_18_code (4 : Nat) (Option.some Jvm.ClassFile.FieldType.long)) ∈ lw_all := lw_g (lw_at lw_m9 133 rfl) rfl
theorem q2169 : (Jvm.Cond.methodLink "PuppetHeirsModel" (172 : Nat) ({ cls := "PuppetHeirsModel", name := "isSmall", desc := "(I)Z" } : Jvm.MethodName)) ∈ lw_all := lw_g (lw_at lw_m9 134 rfl) rfl
theorem q2170 : (Jvm.Cond.static ({ cls := "PuppetHeirsModel", name := "isSmall", desc := "(I)Z" } : Jvm.MethodName)) ∈ lw_all := lw_g (lw_at lw_m9 135 rfl) rfl
theorem q2171 : (Jvm.Cond.code ({ cls := "PuppetHeirsModel", name := "isSmall", desc := "(I)Z" } : Jvm.MethodName) prog_22_method_15_code (1 : Nat) (Option.some Jvm.ClassFile.FieldType.boolean)) ∈ lw_all := lw_g (lw_at lw_m9 136 rfl) rfl
theorem q2172 : (Jvm.Cond.constantLong "PuppetHeirsModel" (175 : Nat) (27 : Int64)) ∈ lw_all := lw_g (lw_at lw_m9 137 rfl) rfl
theorem q2173 : (Jvm.Cond.constantLong "PuppetHeirsModel" (177 : Nat) (97 : Int64)) ∈ lw_all := lw_g (lw_at lw_m9 138 rfl) rfl
theorem q2174 : (Jvm.Cond.constantLong "PuppetHeirsModel" (179 : Nat) (-1 : Int64)) ∈ lw_all := lw_g (lw_at lw_m9 139 rfl) rfl
theorem q2175 : (Jvm.Cond.methodLink "PuppetHeirsModel" (185 : Nat) ({ cls := "PuppetHeirsModel", name := "seven", desc := "(IIIIIII)J" } : Jvm.MethodName)) ∈ lw_all := lw_g (lw_at lw_m9 140 rfl) rfl
theorem q2176 : (Jvm.Cond.static ({ cls := "PuppetHeirsModel", name := "seven", desc := "(IIIIIII)J" } : Jvm.MethodName)) ∈ lw_all := lw_g (lw_at lw_m9 141 rfl) rfl
theorem q2177 : (Jvm.Cond.code ({ cls := "PuppetHeirsModel", name := "seven", desc := "(IIIIIII)J" } : Jvm.MethodName) prog_22_method_19_code (9 : Nat) (Option.some Jvm.ClassFile.FieldType.long)) ∈ lw_all := lw_g (lw_at lw_m9 142 rfl) rfl
theorem q2178 : (Jvm.Cond.methodLink "PuppetHeirsModel" (163 : Nat) ({ cls := "PuppetHeirsModel", name := "wrong", desc := "(II)V" } : Jvm.MethodName)) ∈ lw_all := lw_g (lw_at lw_m9 143 rfl) rfl
theorem q2179 : (Jvm.Cond.privateMethod ({ cls := "PuppetHeirsModel", name := "wrong", desc := "(II)V" } : Jvm.MethodName)) ∈ lw_tbl := lw_at lw_m9 144 rfl
theorem q2180 : (Jvm.Cond.instanceMethod ({ cls := "PuppetHeirsModel", name := "wrong", desc := "(II)V" } : Jvm.MethodName)) ∈ lw_all := lw_g (lw_at lw_m9 145 rfl) rfl
theorem q2181 : (Jvm.Cond.code ({ cls := "PuppetHeirsModel", name := "wrong", desc := "(II)V" } : Jvm.MethodName) prog_22_method_13_code (3 : Nat) (Option.none : Option Jvm.ClassFile.FieldType)) ∈ lw_all := lw_g (lw_at lw_m9 146 rfl) rfl
theorem q2182 : (Jvm.Cond.methodLink "PuppetHeirsModel" (193 : Nat) ({ cls := "PuppetHeirsModel", name := "skipWord", desc := "()V" } : Jvm.MethodName)) ∈ lw_all := lw_g (lw_at lw_m9 147 rfl) rfl
theorem q2183 : (Jvm.Cond.privateMethod ({ cls := "PuppetHeirsModel", name := "skipWord", desc := "()V" } : Jvm.MethodName)) ∈ lw_tbl := lw_at lw_m9 148 rfl
theorem q2184 : (Jvm.Cond.instanceMethod ({ cls := "PuppetHeirsModel", name := "skipWord", desc := "()V" } : Jvm.MethodName)) ∈ lw_all := lw_g (lw_at lw_m9 149 rfl) rfl
theorem q2185 : (Jvm.Cond.code ({ cls := "PuppetHeirsModel", name := "skipWord", desc := "()V" } : Jvm.MethodName) prog_22_method_21_code (1 : Nat) (Option.none : Option Jvm.ClassFile.FieldType)) ∈ lw_all := lw_g (lw_at lw_m9 150 rfl) rfl
theorem q2186 : (Jvm.Cond.methodLink "PuppetHeirsModel" (210 : Nat) ({ cls := "PuppetHeirsModel", name := "bornHere", desc := "([I)V" } : Jvm.MethodName)) ∈ lw_all := lw_g (lw_at lw_m9 151 rfl) rfl
theorem q2187 : (Jvm.Cond.privateMethod ({ cls := "PuppetHeirsModel", name := "bornHere", desc := "([I)V" } : Jvm.MethodName)) ∈ lw_tbl := lw_at lw_m9 152 rfl
theorem q2188 : (Jvm.Cond.instanceMethod ({ cls := "PuppetHeirsModel", name := "bornHere", desc := "([I)V" } : Jvm.MethodName)) ∈ lw_all := lw_g (lw_at lw_m9 153 rfl) rfl
theorem q2189 : (Jvm.Cond.code ({ cls := "PuppetHeirsModel", name := "bornHere", desc := "([I)V" } : Jvm.MethodName) prog_22_method_31_code (3 : Nat) (Option.none : Option Jvm.ClassFile.FieldType)) ∈ lw_all := lw_g (lw_at lw_m9 154 rfl) rfl
theorem q2190 : (Jvm.Cond.methodLink "PuppetHeirsModel" (202 : Nat) ({ cls := "PuppetHeirsModel", name := "number", desc := "(II)I" } : Jvm.MethodName)) ∈ lw_all := lw_g (lw_at lw_m9 155 rfl) rfl
theorem q2191 : (Jvm.Cond.privateMethod ({ cls := "PuppetHeirsModel", name := "number", desc := "(II)I" } : Jvm.MethodName)) ∈ lw_tbl := lw_at lw_m9 156 rfl
theorem q2192 : (Jvm.Cond.instanceMethod ({ cls := "PuppetHeirsModel", name := "number", desc := "(II)I" } : Jvm.MethodName)) ∈ lw_all := lw_g (lw_at lw_m9 157 rfl) rfl
theorem q2193 : (Jvm.Cond.code ({ cls := "PuppetHeirsModel", name := "number", desc := "(II)I" } : Jvm.MethodName) prog_22_method_16_code (5 : Nat) (Option.some Jvm.ClassFile.FieldType.int)) ∈ lw_all := lw_g (lw_at lw_m9 158 rfl) rfl
theorem q2194 : (Jvm.Cond.methodLink "PuppetHeirsModel" (159 : Nat) ({ cls := "PuppetHeirsModel", name := "isDigit", desc := "(I)Z" } : Jvm.MethodName)) ∈ lw_all := lw_g (lw_at lw_m9 159 rfl) rfl
theorem q2195 : (Jvm.Cond.static ({ cls := "PuppetHeirsModel", name := "isDigit", desc := "(I)Z" } : Jvm.MethodName)) ∈ lw_all := lw_g (lw_at lw_m9 160 rfl) rfl
theorem q2196 : (Jvm.Cond.code ({ cls := "PuppetHeirsModel", name := "isDigit", desc := "(I)Z" } : Jvm.MethodName) prog_22_method_14_code (1 : Nat) (Option.some Jvm.ClassFile.FieldType.boolean)) ∈ lw_all := lw_g (lw_at lw_m9 161 rfl) rfl
theorem q2197 : (Jvm.Cond.constant "PuppetHeirsModel" (167 : Nat) (100000 : Int32)) ∈ lw_all := lw_g (lw_at lw_m9 162 rfl) rfl
theorem q2198 : (Jvm.Cond.methodLink "PuppetHeirsModel" (236 : Nat) ({ cls := "PuppetHeirsModel", name := "placeHere", desc := "()I" } : Jvm.MethodName)) ∈ lw_all := lw_g (lw_at lw_m9 163 rfl) rfl
theorem q2199 : (Jvm.Cond.privateMethod ({ cls := "PuppetHeirsModel", name := "placeHere", desc := "()I" } : Jvm.MethodName)) ∈ lw_tbl := lw_at lw_m9 164 rfl
theorem q2200 : (Jvm.Cond.instanceMethod ({ cls := "PuppetHeirsModel", name := "placeHere", desc := "()I" } : Jvm.MethodName)) ∈ lw_all := lw_g (lw_at lw_m9 165 rfl) rfl
theorem q2201 : (Jvm.Cond.code ({ cls := "PuppetHeirsModel", name := "placeHere", desc := "()I" } : Jvm.MethodName) prog_22_method_17_code (1 : Nat) (Option.some Jvm.ClassFile.FieldType.int)) ∈ lw_all := lw_g (lw_at lw_m9 166 rfl) rfl
theorem q2202 : (Jvm.Cond.methodLink "PuppetHeirsModel" (214 : Nat) ({ cls := "PuppetHeirsModel", name := "actHere", desc := "([I)V" } : Jvm.MethodName)) ∈ lw_all := lw_g (lw_at lw_m9 167 rfl) rfl
theorem q2203 : (Jvm.Cond.privateMethod ({ cls := "PuppetHeirsModel", name := "actHere", desc := "([I)V" } : Jvm.MethodName)) ∈ lw_tbl := lw_at lw_m9 168 rfl
theorem q2204 : (Jvm.Cond.instanceMethod ({ cls := "PuppetHeirsModel", name := "actHere", desc := "([I)V" } : Jvm.MethodName)) ∈ lw_all := lw_g (lw_at lw_m9 169 rfl) rfl
theorem q2205 : (Jvm.Cond.code ({ cls := "PuppetHeirsModel", name := "actHere", desc := "([I)V" } : Jvm.MethodName) prog_22_method_35_code (5 : Nat) (Option.none : Option Jvm.ClassFile.FieldType)) ∈ lw_all := lw_g (lw_at lw_m9 170 rfl) rfl
theorem q2206 : (Jvm.Cond.methodLink "PuppetHeirsModel" (239 : Nat) ({ cls := "PuppetHeirsModel", name := "puppetHere", desc := "()I" } : Jvm.MethodName)) ∈ lw_all := lw_g (lw_at lw_m9 171 rfl) rfl
theorem q2207 : (Jvm.Cond.privateMethod ({ cls := "PuppetHeirsModel", name := "puppetHere", desc := "()I" } : Jvm.MethodName)) ∈ lw_tbl := lw_at lw_m9 172 rfl
theorem q2208 : (Jvm.Cond.instanceMethod ({ cls := "PuppetHeirsModel", name := "puppetHere", desc := "()I" } : Jvm.MethodName)) ∈ lw_all := lw_g (lw_at lw_m9 173 rfl) rfl
theorem q2209 : (Jvm.Cond.code ({ cls := "PuppetHeirsModel", name := "puppetHere", desc := "()I" } : Jvm.MethodName) prog_22_method_29_code (1 : Nat) (Option.some Jvm.ClassFile.FieldType.int)) ∈ lw_all := lw_g (lw_at lw_m9 174 rfl) rfl
theorem q2210 : (Jvm.Cond.methodLink "PuppetHeirsModel" (217 : Nat) ({ cls := "PuppetHeirsModel", name := "worksHere", desc := "()V" } : Jvm.MethodName)) ∈ lw_all := lw_g (lw_at lw_m9 175 rfl) rfl
theorem q2211 : (Jvm.Cond.privateMethod ({ cls := "PuppetHeirsModel", name := "worksHere", desc := "()V" } : Jvm.MethodName)) ∈ lw_tbl := lw_at lw_m9 176 rfl
theorem q2212 : (Jvm.Cond.instanceMethod ({ cls := "PuppetHeirsModel", name := "worksHere", desc := "()V" } : Jvm.MethodName)) ∈ lw_all := lw_g (lw_at lw_m9 177 rfl) rfl
theorem q2213 : (Jvm.Cond.code ({ cls := "PuppetHeirsModel", name := "worksHere", desc := "()V" } : Jvm.MethodName) prog_22_method_33_code (4 : Nat) (Option.none : Option Jvm.ClassFile.FieldType)) ∈ lw_all := lw_g (lw_at lw_m9 178 rfl) rfl
theorem q2214 : (Jvm.Cond.methodLink "PuppetHeirsModel" (223 : Nat) ({ cls := "PuppetHeirsModel", name := "handHere", desc := "()I" } : Jvm.MethodName)) ∈ lw_all := lw_g (lw_at lw_m9 179 rfl) rfl
theorem q2215 : (Jvm.Cond.privateMethod ({ cls := "PuppetHeirsModel", name := "handHere", desc := "()I" } : Jvm.MethodName)) ∈ lw_tbl := lw_at lw_m9 180 rfl
theorem q2216 : (Jvm.Cond.instanceMethod ({ cls := "PuppetHeirsModel", name := "handHere", desc := "()I" } : Jvm.MethodName)) ∈ lw_all := lw_g (lw_at lw_m9 181 rfl) rfl
theorem q2217 : (Jvm.Cond.code ({ cls := "PuppetHeirsModel", name := "handHere", desc := "()I" } : Jvm.MethodName) prog_22_method_28_code (1 : Nat) (Option.some Jvm.ClassFile.FieldType.int)) ∈ lw_all := lw_g (lw_at lw_m9 182 rfl) rfl
theorem q2218 : (Jvm.Cond.methodLink "PuppetHeirsModel" (246 : Nat) ({ cls := "PuppetHeirsModel", name := "ones", desc := "(I)I" } : Jvm.MethodName)) ∈ lw_all := lw_g (lw_at lw_m9 183 rfl) rfl
theorem q2219 : (Jvm.Cond.static ({ cls := "PuppetHeirsModel", name := "ones", desc := "(I)I" } : Jvm.MethodName)) ∈ lw_all := lw_g (lw_at lw_m9 184 rfl) rfl
theorem q2220 : (Jvm.Cond.code ({ cls := "PuppetHeirsModel", name := "ones", desc := "(I)I" } : Jvm.MethodName) prog_22_method_9_code (3 : Nat) (Option.some Jvm.ClassFile.FieldType.int)) ∈ lw_all := lw_g (lw_at lw_m9 185 rfl) rfl
theorem q2221 : (Jvm.Cond.methodLink "PuppetHeirsModel" (220 : Nat) ({ cls := "PuppetHeirsModel", name := "quarrelHere", desc := "()V" } : Jvm.MethodName)) ∈ lw_all := lw_g (lw_at lw_m9 186 rfl) rfl
theorem q2222 : (Jvm.Cond.privateMethod ({ cls := "PuppetHeirsModel", name := "quarrelHere", desc := "()V" } : Jvm.MethodName)) ∈ lw_tbl := lw_at lw_m9 187 rfl
theorem q2223 : (Jvm.Cond.instanceMethod ({ cls := "PuppetHeirsModel", name := "quarrelHere", desc := "()V" } : Jvm.MethodName)) ∈ lw_all := lw_g (lw_at lw_m9 188 rfl) rfl
theorem q2224 : (Jvm.Cond.code ({ cls := "PuppetHeirsModel", name := "quarrelHere", desc := "()V" } : Jvm.MethodName) prog_22_method_34_code (4 : Nat) (Option.none : Option Jvm.ClassFile.FieldType)) ∈ lw_all := lw_g (lw_at lw_m9 189 rfl) rfl
theorem q2225 : (Jvm.Cond.methodLink "PuppetHeirsModel" (226 : Nat) ({ cls := "PuppetHeirsModel", name := "otherHere", desc := "(I)I" } : Jvm.MethodName)) ∈ lw_all := lw_g (lw_at lw_m9 190 rfl) rfl
theorem q2226 : (Jvm.Cond.privateMethod ({ cls := "PuppetHeirsModel", name := "otherHere", desc := "(I)I" } : Jvm.MethodName)) ∈ lw_tbl := lw_at lw_m9 191 rfl
theorem q2227 : (Jvm.Cond.instanceMethod ({ cls := "PuppetHeirsModel", name := "otherHere", desc := "(I)I" } : Jvm.MethodName)) ∈ lw_all := lw_g (lw_at lw_m9 192 rfl) rfl
theorem q2228 : (Jvm.Cond.code ({ cls := "PuppetHeirsModel", name := "otherHere", desc := "(I)I" } : Jvm.MethodName) prog_22_method_32_code (4 : Nat) (Option.some Jvm.ClassFile.FieldType.int)) ∈ lw_all := lw_g (lw_at lw_m9 193 rfl) rfl
theorem q2229 : (Jvm.Cond.methodLink "PuppetHeirsModel" (229 : Nat) ({ cls := "PuppetHeirsModel", name := "less", desc := "(II)I" } : Jvm.MethodName)) ∈ lw_all := lw_g (lw_at lw_m9 194 rfl) rfl
theorem q2230 : (Jvm.Cond.static ({ cls := "PuppetHeirsModel", name := "less", desc := "(II)I" } : Jvm.MethodName)) ∈ lw_all := lw_g (lw_at lw_m9 195 rfl) rfl
theorem q2231 : (Jvm.Cond.code ({ cls := "PuppetHeirsModel", name := "less", desc := "(II)I" } : Jvm.MethodName) prog_22_method_6_code (2 : Nat) (Option.some Jvm.ClassFile.FieldType.int)) ∈ lw_all := lw_g (lw_at lw_m9 196 rfl) rfl
theorem q2232 : (Jvm.Cond.methodLink "PuppetHeirsModel" (232 : Nat) ({ cls := "PuppetHeirsModel", name := "sign", desc := "(I)V" } : Jvm.MethodName)) ∈ lw_all := lw_g (lw_at lw_m9 197 rfl) rfl
theorem q2233 : (Jvm.Cond.privateMethod ({ cls := "PuppetHeirsModel", name := "sign", desc := "(I)V" } : Jvm.MethodName)) ∈ lw_tbl := lw_at lw_m9 198 rfl
theorem q2234 : (Jvm.Cond.instanceMethod ({ cls := "PuppetHeirsModel", name := "sign", desc := "(I)V" } : Jvm.MethodName)) ∈ lw_all := lw_g (lw_at lw_m9 199 rfl) rfl
theorem q2235 : (Jvm.Cond.code ({ cls := "PuppetHeirsModel", name := "sign", desc := "(I)V" } : Jvm.MethodName) prog_22_method_23_code (2 : Nat) (Option.none : Option Jvm.ClassFile.FieldType)) ∈ lw_all := lw_g (lw_at lw_m9 200 rfl) rfl
theorem q2236 : (Jvm.Cond.methodLink "PuppetHeirsModel" (259 : Nat) ({ cls := "PuppetHeirsModel", name := "ends", desc := "()I" } : Jvm.MethodName)) ∈ lw_all := lw_g (lw_at lw_m9 201 rfl) rfl
theorem q2237 : (Jvm.Cond.privateMethod ({ cls := "PuppetHeirsModel", name := "ends", desc := "()I" } : Jvm.MethodName)) ∈ lw_tbl := lw_at lw_m9 202 rfl
theorem q2238 : (Jvm.Cond.instanceMethod ({ cls := "PuppetHeirsModel", name := "ends", desc := "()I" } : Jvm.MethodName)) ∈ lw_all := lw_g (lw_at lw_m9 203 rfl) rfl
theorem q2239 : (Jvm.Cond.code ({ cls := "PuppetHeirsModel", name := "ends", desc := "()I" } : Jvm.MethodName) prog_22_method_26_code (1 : Nat) (Option.some Jvm.ClassFile.FieldType.int)) ∈ lw_all := lw_g (lw_at lw_m9 204 rfl) rfl
theorem q2241 : (Jvm.Cond.instanceMethod ({ cls := "PuppetHeirsModel", name := "law", desc := "(I)I" } : Jvm.MethodName)) ∈ lw_all := lw_g (lw_at lw_m9 206 rfl) rfl
theorem q2242 : (Jvm.Cond.selects "PuppetHeirsModel" ({ cls := "PuppetHeirsModel", name := "law", desc := "(I)I" } : Jvm.MethodName) ({ cls := "PuppetHeirsModel", name := "law", desc := "(I)I" } : Jvm.MethodName)) ∈ lw_all := lw_g (lw_at lw_m9 207 rfl) rfl
theorem q2243 : (Jvm.Cond.code ({ cls := "PuppetHeirsModel", name := "law", desc := "(I)I" } : Jvm.MethodName) prog_22_method_47_code (2 : Nat) (Option.some Jvm.ClassFile.FieldType.int)) ∈ lw_all := lw_g (lw_at lw_m9 208 rfl) rfl
theorem q2244 : (Jvm.Cond.methodLink "PuppetHeirsModel" (307 : Nat) ({ cls := "PuppetHeirsModel", name := "sum", desc := "()V" } : Jvm.MethodName)) ∈ lw_all := lw_g (lw_at lw_m9 209 rfl) rfl
theorem q2245 : (Jvm.Cond.privateMethod ({ cls := "PuppetHeirsModel", name := "sum", desc := "()V" } : Jvm.MethodName)) ∈ lw_tbl := lw_at lw_m9 210 rfl
theorem q2246 : (Jvm.Cond.instanceMethod ({ cls := "PuppetHeirsModel", name := "sum", desc := "()V" } : Jvm.MethodName)) ∈ lw_all := lw_g (lw_at lw_m9 211 rfl) rfl
theorem q2247 : (Jvm.Cond.code ({ cls := "PuppetHeirsModel", name := "sum", desc := "()V" } : Jvm.MethodName) prog_22_method_43_code (2 : Nat) (Option.none : Option Jvm.ClassFile.FieldType)) ∈ lw_all := lw_g (lw_at lw_m9 212 rfl) rfl
theorem q2248 : (Jvm.Cond.methodLink "PuppetHeirsModel" (288 : Nat) ({ cls := "PuppetHeirsModel", name := "product", desc := "()V" } : Jvm.MethodName)) ∈ lw_all := lw_g (lw_at lw_m9 213 rfl) rfl
theorem q2249 : (Jvm.Cond.privateMethod ({ cls := "PuppetHeirsModel", name := "product", desc := "()V" } : Jvm.MethodName)) ∈ lw_tbl := lw_at lw_m9 214 rfl
theorem q2250 : (Jvm.Cond.instanceMethod ({ cls := "PuppetHeirsModel", name := "product", desc := "()V" } : Jvm.MethodName)) ∈ lw_all := lw_g (lw_at lw_m9 215 rfl) rfl
theorem q2251 : (Jvm.Cond.code ({ cls := "PuppetHeirsModel", name := "product", desc := "()V" } : Jvm.MethodName) prog_22_method_44_code (2 : Nat) (Option.none : Option Jvm.ClassFile.FieldType)) ∈ lw_all := lw_g (lw_at lw_m9 216 rfl) rfl
theorem q2252 : (Jvm.Cond.methodLink "PuppetHeirsModel" (297 : Nat) ({ cls := "PuppetHeirsModel", name := "one", desc := "()V" } : Jvm.MethodName)) ∈ lw_all := lw_g (lw_at lw_m9 217 rfl) rfl
theorem q2253 : (Jvm.Cond.privateMethod ({ cls := "PuppetHeirsModel", name := "one", desc := "()V" } : Jvm.MethodName)) ∈ lw_tbl := lw_at lw_m9 218 rfl
theorem q2254 : (Jvm.Cond.instanceMethod ({ cls := "PuppetHeirsModel", name := "one", desc := "()V" } : Jvm.MethodName)) ∈ lw_all := lw_g (lw_at lw_m9 219 rfl) rfl
theorem q2255 : (Jvm.Cond.code ({ cls := "PuppetHeirsModel", name := "one", desc := "()V" } : Jvm.MethodName) prog_22_method_46_code (3 : Nat) (Option.none : Option Jvm.ClassFile.FieldType)) ∈ lw_all := lw_g (lw_at lw_m9 220 rfl) rfl
theorem q2256 : (Jvm.Cond.methodLink "PuppetHeirsModel" (303 : Nat) ({ cls := "PuppetHeirsModel", name := "opens", desc := "()Z" } : Jvm.MethodName)) ∈ lw_all := lw_g (lw_at lw_m9 221 rfl) rfl
theorem q2257 : (Jvm.Cond.privateMethod ({ cls := "PuppetHeirsModel", name := "opens", desc := "()Z" } : Jvm.MethodName)) ∈ lw_tbl := lw_at lw_m9 222 rfl
theorem q2258 : (Jvm.Cond.instanceMethod ({ cls := "PuppetHeirsModel", name := "opens", desc := "()Z" } : Jvm.MethodName)) ∈ lw_all := lw_g (lw_at lw_m9 223 rfl) rfl
theorem q2259 : (Jvm.Cond.code ({ cls := "PuppetHeirsModel", name := "opens", desc := "()Z" } : Jvm.MethodName) prog_22_method_42_code (1 : Nat) (Option.some Jvm.ClassFile.FieldType.boolean)) ∈ lw_all := lw_g (lw_at lw_m9 224 rfl) rfl
theorem q2260 : (Jvm.Cond.methodLink "PuppetHeirsModel" (294 : Nat) ({ cls := "PuppetHeirsModel", name := "notes", desc := "(II)V" } : Jvm.MethodName)) ∈ lw_all := lw_g (lw_at lw_m9 225 rfl) rfl
theorem q2261 : (Jvm.Cond.privateMethod ({ cls := "PuppetHeirsModel", name := "notes", desc := "(II)V" } : Jvm.MethodName)) ∈ lw_tbl := lw_at lw_m9 226 rfl
theorem q2262 : (Jvm.Cond.instanceMethod ({ cls := "PuppetHeirsModel", name := "notes", desc := "(II)V" } : Jvm.MethodName)) ∈ lw_all := lw_g (lw_at lw_m9 227 rfl) rfl
theorem q2263 : (Jvm.Cond.code ({ cls := "PuppetHeirsModel", name := "notes", desc := "(II)V" } : Jvm.MethodName) prog_22_method_41_code (3 : Nat) (Option.none : Option Jvm.ClassFile.FieldType)) ∈ lw_all := lw_g (lw_at lw_m9 228 rfl) rfl
theorem q2264 : (Jvm.Cond.methodLink "PuppetHeirsModel" (310 : Nat) ({ cls := "PuppetHeirsModel", name := "knownHere", desc := "()I" } : Jvm.MethodName)) ∈ lw_all := lw_g (lw_at lw_m9 229 rfl) rfl
theorem q2265 : (Jvm.Cond.privateMethod ({ cls := "PuppetHeirsModel", name := "knownHere", desc := "()I" } : Jvm.MethodName)) ∈ lw_tbl := lw_at lw_m9 230 rfl
theorem q2266 : (Jvm.Cond.instanceMethod ({ cls := "PuppetHeirsModel", name := "knownHere", desc := "()I" } : Jvm.MethodName)) ∈ lw_all := lw_g (lw_at lw_m9 231 rfl) rfl
theorem q2267 : (Jvm.Cond.code ({ cls := "PuppetHeirsModel", name := "knownHere", desc := "()I" } : Jvm.MethodName) prog_22_method_45_code (1 : Nat) (Option.some Jvm.ClassFile.FieldType.int)) ∈ lw_all := lw_g (lw_at lw_m9 232 rfl) rfl
theorem q2268 : (Jvm.Cond.methodLink "PuppetHeirsModel" (300 : Nat) ({ cls := "PuppetHeirsModel", name := "takes", desc := "(IIIIIII)Z" } : Jvm.MethodName)) ∈ lw_all := lw_g (lw_at lw_m9 233 rfl) rfl
theorem q2269 : (Jvm.Cond.privateMethod ({ cls := "PuppetHeirsModel", name := "takes", desc := "(IIIIIII)Z" } : Jvm.MethodName)) ∈ lw_tbl := lw_at lw_m9 234 rfl
theorem q2270 : (Jvm.Cond.instanceMethod ({ cls := "PuppetHeirsModel", name := "takes", desc := "(IIIIIII)Z" } : Jvm.MethodName)) ∈ lw_all := lw_g (lw_at lw_m9 235 rfl) rfl
theorem q2271 : (Jvm.Cond.code ({ cls := "PuppetHeirsModel", name := "takes", desc := "(IIIIIII)Z" } : Jvm.MethodName) prog_22_method_22_code (9 : Nat) (Option.some Jvm.ClassFile.FieldType.boolean)) ∈ lw_all := lw_g (lw_at lw_m9 236 rfl) rfl
theorem q2272 : (Jvm.Cond.methodLink "PuppetHeirsModel" (291 : Nat) ({ cls := "PuppetHeirsModel", name := "takesSign", desc := "(I)Z" } : Jvm.MethodName)) ∈ lw_all := lw_g (lw_at lw_m9 237 rfl) rfl
theorem q2273 : (Jvm.Cond.privateMethod ({ cls := "PuppetHeirsModel", name := "takesSign", desc := "(I)Z" } : Jvm.MethodName)) ∈ lw_tbl := lw_at lw_m9 238 rfl
theorem q2274 : (Jvm.Cond.instanceMethod ({ cls := "PuppetHeirsModel", name := "takesSign", desc := "(I)Z" } : Jvm.MethodName)) ∈ lw_all := lw_g (lw_at lw_m9 239 rfl) rfl
theorem q2275 : (Jvm.Cond.code ({ cls := "PuppetHeirsModel", name := "takesSign", desc := "(I)Z" } : Jvm.MethodName) prog_22_method_24_code (3 : Nat) (Option.some Jvm.ClassFile.FieldType.boolean)) ∈ lw_all := lw_g (lw_at lw_m10 0 rfl) rfl
theorem q2277 : (Jvm.Cond.instanceMethod ({ cls := "PuppetHeirsModel", name := "book", desc := "(I)I" } : Jvm.MethodName)) ∈ lw_all := lw_g (lw_at lw_m10 2 rfl) rfl
theorem q2278 : (Jvm.Cond.selects "PuppetHeirsModel" ({ cls := "PuppetHeirsModel", name := "book", desc := "(I)I" } : Jvm.MethodName) ({ cls := "PuppetHeirsModel", name := "book", desc := "(I)I" } : Jvm.MethodName)) ∈ lw_all := lw_g (lw_at lw_m10 3 rfl) rfl
theorem q2279 : (Jvm.Cond.code ({ cls := "PuppetHeirsModel", name := "book", desc := "(I)I" } : Jvm.MethodName) prog_22_method_50_code (7 : Nat) (Option.some Jvm.ClassFile.FieldType.int)) ∈ lw_all := lw_g (lw_at lw_m10 4 rfl) rfl
theorem q2281 : (Jvm.Cond.instanceMethod ({ cls := "PuppetHeirsModel", name := "fault", desc := "()I" } : Jvm.MethodName)) ∈ lw_all := lw_g (lw_at lw_m10 6 rfl) rfl
theorem q2282 : (Jvm.Cond.selects "PuppetHeirsModel" ({ cls := "PuppetHeirsModel", name := "fault", desc := "()I" } : Jvm.MethodName) ({ cls := "PuppetHeirsModel", name := "fault", desc := "()I" } : Jvm.MethodName)) ∈ lw_all := lw_g (lw_at lw_m10 7 rfl) rfl
theorem q2283 : (Jvm.Cond.code ({ cls := "PuppetHeirsModel", name := "fault", desc := "()I" } : Jvm.MethodName) prog_22_method_51_code (1 : Nat) (Option.some Jvm.ClassFile.FieldType.int)) ∈ lw_all := lw_g (lw_at lw_m10 8 rfl) rfl
theorem q2285 : (Jvm.Cond.instanceMethod ({ cls := "PuppetHeirsModel", name := "told", desc := "(I)I" } : Jvm.MethodName)) ∈ lw_all := lw_g (lw_at lw_m10 10 rfl) rfl
theorem q2286 : (Jvm.Cond.selects "PuppetHeirsModel" ({ cls := "PuppetHeirsModel", name := "told", desc := "(I)I" } : Jvm.MethodName) ({ cls := "PuppetHeirsModel", name := "told", desc := "(I)I" } : Jvm.MethodName)) ∈ lw_all := lw_g (lw_at lw_m10 11 rfl) rfl
theorem q2287 : (Jvm.Cond.code ({ cls := "PuppetHeirsModel", name := "told", desc := "(I)I" } : Jvm.MethodName) prog_22_method_58_code (2 : Nat) (Option.some Jvm.ClassFile.FieldType.int)) ∈ lw_all := lw_g (lw_at lw_m10 12 rfl) rfl
theorem q2288 : (Jvm.Cond.methodLink "PuppetHeirsModel" (324 : Nat) ({ cls := "PuppetHeirsModel", name := "aliveOf", desc := "([I)I" } : Jvm.MethodName)) ∈ lw_all := lw_g (lw_at lw_m10 13 rfl) rfl
theorem q2289 : (Jvm.Cond.privateMethod ({ cls := "PuppetHeirsModel", name := "aliveOf", desc := "([I)I" } : Jvm.MethodName)) ∈ lw_tbl := lw_at lw_m10 14 rfl
theorem q2290 : (Jvm.Cond.instanceMethod ({ cls := "PuppetHeirsModel", name := "aliveOf", desc := "([I)I" } : Jvm.MethodName)) ∈ lw_all := lw_g (lw_at lw_m10 15 rfl) rfl
theorem q2291 : (Jvm.Cond.code ({ cls := "PuppetHeirsModel", name := "aliveOf", desc := "([I)I" } : Jvm.MethodName) prog_22_method_56_code (4 : Nat) (Option.some Jvm.ClassFile.FieldType.int)) ∈ lw_all := lw_g (lw_at lw_m10 16 rfl) rfl
theorem q2292 : (Jvm.Cond.methodLink "PuppetHeirsModel" (320 : Nat) ({ cls := "PuppetHeirsModel", name := "isAlive", desc := "([II)Z" } : Jvm.MethodName)) ∈ lw_all := lw_g (lw_at lw_m10 17 rfl) rfl
theorem q2293 : (Jvm.Cond.privateMethod ({ cls := "PuppetHeirsModel", name := "isAlive", desc := "([II)Z" } : Jvm.MethodName)) ∈ lw_tbl := lw_at lw_m10 18 rfl
theorem q2294 : (Jvm.Cond.instanceMethod ({ cls := "PuppetHeirsModel", name := "isAlive", desc := "([II)Z" } : Jvm.MethodName)) ∈ lw_all := lw_g (lw_at lw_m10 19 rfl) rfl
theorem q2295 : (Jvm.Cond.code ({ cls := "PuppetHeirsModel", name := "isAlive", desc := "([II)Z" } : Jvm.MethodName) prog_22_method_55_code (3 : Nat) (Option.some Jvm.ClassFile.FieldType.boolean)) ∈ lw_all := lw_g (lw_at lw_m10 20 rfl) rfl
theorem q2296 : (Jvm.Cond.methodLink "PuppetHeirsModel" (328 : Nat) ({ cls := "PuppetHeirsModel", name := "stringsOf", desc := "([I)I" } : Jvm.MethodName)) ∈ lw_all := lw_g (lw_at lw_m10 21 rfl) rfl
theorem q2297 : (Jvm.Cond.privateMethod ({ cls := "PuppetHeirsModel", name := "stringsOf", desc := "([I)I" } : Jvm.MethodName)) ∈ lw_tbl := lw_at lw_m10 22 rfl
theorem q2298 : (Jvm.Cond.instanceMethod ({ cls := "PuppetHeirsModel", name := "stringsOf", desc := "([I)I" } : Jvm.MethodName)) ∈ lw_all := lw_g (lw_at lw_m10 23 rfl) rfl
theorem q2299 : (Jvm.Cond.code ({ cls := "PuppetHeirsModel", name := "stringsOf", desc := "([I)I" } : Jvm.MethodName) prog_22_method_57_code (4 : Nat) (Option.some Jvm.ClassFile.FieldType.int)) ∈ lw_all := lw_g (lw_at lw_m10 24 rfl) rfl
theorem q2301 : (Jvm.Cond.instanceMethod ({ cls := "PuppetHeirsModel", name := "hand", desc := "(II)I" } : Jvm.MethodName)) ∈ lw_all := lw_g (lw_at lw_m10 26 rfl) rfl
theorem q2302 : (Jvm.Cond.selects "PuppetHeirsModel" ({ cls := "PuppetHeirsModel", name := "hand", desc := "(II)I" } : Jvm.MethodName) ({ cls := "PuppetHeirsModel", name := "hand", desc := "(II)I" } : Jvm.MethodName)) ∈ lw_all := lw_g (lw_at lw_m10 27 rfl) rfl
theorem q2303 : (Jvm.Cond.code ({ cls := "PuppetHeirsModel", name := "hand", desc := "(II)I" } : Jvm.MethodName) prog_22_method_60_code (3 : Nat) (Option.some Jvm.ClassFile.FieldType.int)) ∈ lw_all := lw_g (lw_at lw_m10 28 rfl) rfl
theorem q2304 : (Jvm.Cond.methodLink "PuppetHeirsModel" (331 : Nat) ({ cls := "PuppetHeirsModel", name := "isHand", desc := "(I)Z" } : Jvm.MethodName)) ∈ lw_all := lw_g (lw_at lw_m10 29 rfl) rfl
theorem q2305 : (Jvm.Cond.privateMethod ({ cls := "PuppetHeirsModel", name := "isHand", desc := "(I)Z" } : Jvm.MethodName)) ∈ lw_tbl := lw_at lw_m10 30 rfl
theorem q2306 : (Jvm.Cond.instanceMethod ({ cls := "PuppetHeirsModel", name := "isHand", desc := "(I)Z" } : Jvm.MethodName)) ∈ lw_all := lw_g (lw_at lw_m10 31 rfl) rfl
theorem q2307 : (Jvm.Cond.code ({ cls := "PuppetHeirsModel", name := "isHand", desc := "(I)Z" } : Jvm.MethodName) prog_22_method_52_code (2 : Nat) (Option.some Jvm.ClassFile.FieldType.boolean)) ∈ lw_all := lw_g (lw_at lw_m10 32 rfl) rfl
theorem q2308 : (Jvm.Cond.methodLink "PuppetHeirsModel" (334 : Nat) ({ cls := "PuppetHeirsModel", name := "workOf", desc := "([II)I" } : Jvm.MethodName)) ∈ lw_all := lw_g (lw_at lw_m10 33 rfl) rfl
theorem q2309 : (Jvm.Cond.privateMethod ({ cls := "PuppetHeirsModel", name := "workOf", desc := "([II)I" } : Jvm.MethodName)) ∈ lw_tbl := lw_at lw_m10 34 rfl
theorem q2310 : (Jvm.Cond.instanceMethod ({ cls := "PuppetHeirsModel", name := "workOf", desc := "([II)I" } : Jvm.MethodName)) ∈ lw_all := lw_g (lw_at lw_m10 35 rfl) rfl
theorem q2311 : (Jvm.Cond.code ({ cls := "PuppetHeirsModel", name := "workOf", desc := "([II)I" } : Jvm.MethodName) prog_22_method_59_code (5 : Nat) (Option.some Jvm.ClassFile.FieldType.int)) ∈ lw_all := lw_g (lw_at lw_m10 36 rfl) rfl
theorem q2312 : (Jvm.Cond.methodLink "PuppetHeirsModel" (313 : Nat) ({ cls := "PuppetHeirsModel", name := "more", desc := "(II)I" } : Jvm.MethodName)) ∈ lw_all := lw_g (lw_at lw_m10 37 rfl) rfl
theorem q2313 : (Jvm.Cond.static ({ cls := "PuppetHeirsModel", name := "more", desc := "(II)I" } : Jvm.MethodName)) ∈ lw_all := lw_g (lw_at lw_m10 38 rfl) rfl
theorem q2314 : (Jvm.Cond.code ({ cls := "PuppetHeirsModel", name := "more", desc := "(II)I" } : Jvm.MethodName) prog_22_method_7_code (2 : Nat) (Option.some Jvm.ClassFile.FieldType.int)) ∈ lw_all := lw_g (lw_at lw_m10 39 rfl) rfl
theorem q2316 : (Jvm.Cond.instanceMethod ({ cls := "PuppetHeirsModel", name := "puppet", desc := "(II)I" } : Jvm.MethodName)) ∈ lw_all := lw_g (lw_at lw_m10 41 rfl) rfl
theorem q2317 : (Jvm.Cond.selects "PuppetHeirsModel" ({ cls := "PuppetHeirsModel", name := "puppet", desc := "(II)I" } : Jvm.MethodName) ({ cls := "PuppetHeirsModel", name := "puppet", desc := "(II)I" } : Jvm.MethodName)) ∈ lw_all := lw_g (lw_at lw_m10 42 rfl) rfl
theorem q2318 : (Jvm.Cond.code ({ cls := "PuppetHeirsModel", name := "puppet", desc := "(II)I" } : Jvm.MethodName) prog_22_method_62_code (3 : Nat) (Option.some Jvm.ClassFile.FieldType.int)) ∈ lw_all := lw_g (lw_at lw_m10 43 rfl) rfl
theorem q2319 : (Jvm.Cond.methodLink "PuppetHeirsModel" (338 : Nat) ({ cls := "PuppetHeirsModel", name := "isPuppet", desc := "(I)Z" } : Jvm.MethodName)) ∈ lw_all := lw_g (lw_at lw_m10 44 rfl) rfl
theorem q2320 : (Jvm.Cond.privateMethod ({ cls := "PuppetHeirsModel", name := "isPuppet", desc := "(I)Z" } : Jvm.MethodName)) ∈ lw_tbl := lw_at lw_m10 45 rfl
theorem q2321 : (Jvm.Cond.instanceMethod ({ cls := "PuppetHeirsModel", name := "isPuppet", desc := "(I)Z" } : Jvm.MethodName)) ∈ lw_all := lw_g (lw_at lw_m10 46 rfl) rfl
theorem q2322 : (Jvm.Cond.code ({ cls := "PuppetHeirsModel", name := "isPuppet", desc := "(I)Z" } : Jvm.MethodName) prog_22_method_53_code (2 : Nat) (Option.some Jvm.ClassFile.FieldType.boolean)) ∈ lw_all := lw_g (lw_at lw_m10 47 rfl) rfl
theorem q2323 : (Jvm.Cond.methodLink "PuppetHeirsModel" (341 : Nat) ({ cls := "PuppetHeirsModel", name := "lacksOf", desc := "([II)I" } : Jvm.MethodName)) ∈ lw_all := lw_g (lw_at lw_m10 48 rfl) rfl
theorem q2324 : (Jvm.Cond.privateMethod ({ cls := "PuppetHeirsModel", name := "lacksOf", desc := "([II)I" } : Jvm.MethodName)) ∈ lw_tbl := lw_at lw_m10 49 rfl
theorem q2325 : (Jvm.Cond.instanceMethod ({ cls := "PuppetHeirsModel", name := "lacksOf", desc := "([II)I" } : Jvm.MethodName)) ∈ lw_all := lw_g (lw_at lw_m10 50 rfl) rfl
theorem q2326 : (Jvm.Cond.code ({ cls := "PuppetHeirsModel", name := "lacksOf", desc := "([II)I" } : Jvm.MethodName) prog_22_method_61_code (3 : Nat) (Option.some Jvm.ClassFile.FieldType.int)) ∈ lw_all := lw_g (lw_at lw_m10 51 rfl) rfl
theorem q2328 : (Jvm.Cond.instanceMethod ({ cls := "PuppetHeirsModel", name := "act", desc := "(II)I" } : Jvm.MethodName)) ∈ lw_all := lw_g (lw_at lw_m10 53 rfl) rfl
theorem q2329 : (Jvm.Cond.selects "PuppetHeirsModel" ({ cls := "PuppetHeirsModel", name := "act", desc := "(II)I" } : Jvm.MethodName) ({ cls := "PuppetHeirsModel", name := "act", desc := "(II)I" } : Jvm.MethodName)) ∈ lw_all := lw_g (lw_at lw_m10 54 rfl) rfl
theorem q2330 : (Jvm.Cond.code ({ cls := "PuppetHeirsModel", name := "act", desc := "(II)I" } : Jvm.MethodName) prog_22_method_63_code (5 : Nat) (Option.some Jvm.ClassFile.FieldType.int)) ∈ lw_all := lw_g (lw_at lw_m10 55 rfl) rfl
theorem q2331 : (Jvm.Cond.methodLink "PuppetHeirsModel" (344 : Nat) ({ cls := "PuppetHeirsModel", name := "isAct", desc := "(I)Z" } : Jvm.MethodName)) ∈ lw_all := lw_g (lw_at lw_m10 56 rfl) rfl
theorem q2332 : (Jvm.Cond.privateMethod ({ cls := "PuppetHeirsModel", name := "isAct", desc := "(I)Z" } : Jvm.MethodName)) ∈ lw_tbl := lw_at lw_m10 57 rfl
theorem q2333 : (Jvm.Cond.instanceMethod ({ cls := "PuppetHeirsModel", name := "isAct", desc := "(I)Z" } : Jvm.MethodName)) ∈ lw_all := lw_g (lw_at lw_m10 58 rfl) rfl
theorem q2334 : (Jvm.Cond.code ({ cls := "PuppetHeirsModel", name := "isAct", desc := "(I)Z" } : Jvm.MethodName) prog_22_method_54_code (2 : Nat) (Option.some Jvm.ClassFile.FieldType.boolean)) ∈ lw_all := lw_g (lw_at lw_m10 59 rfl) rfl
theorem q2335 : (Jvm.Cond.methodLink "PuppetHeirsModel" (347 : Nat) ({ cls := "PuppetHeirsModel", name := "bitsOf", desc := "(I)I" } : Jvm.MethodName)) ∈ lw_all := lw_g (lw_at lw_m10 60 rfl) rfl
theorem q2336 : (Jvm.Cond.privateMethod ({ cls := "PuppetHeirsModel", name := "bitsOf", desc := "(I)I" } : Jvm.MethodName)) ∈ lw_tbl := lw_at lw_m10 61 rfl
theorem q2337 : (Jvm.Cond.instanceMethod ({ cls := "PuppetHeirsModel", name := "bitsOf", desc := "(I)I" } : Jvm.MethodName)) ∈ lw_all := lw_g (lw_at lw_m10 62 rfl) rfl
theorem q2338 : (Jvm.Cond.code ({ cls := "PuppetHeirsModel", name := "bitsOf", desc := "(I)I" } : Jvm.MethodName) prog_22_method_64_code (4 : Nat) (Option.some Jvm.ClassFile.FieldType.int)) ∈ lw_all := lw_g (lw_at lw_m10 63 rfl) rfl
theorem q2340 : (Jvm.Cond.instanceMethod ({ cls := "PuppetHeirsModel", name := "score", desc := "(II)I" } : Jvm.MethodName)) ∈ lw_all := lw_g (lw_at lw_m10 65 rfl) rfl
theorem q2341 : (Jvm.Cond.selects "PuppetHeirsModel" ({ cls := "PuppetHeirsModel", name := "score", desc := "(II)I" } : Jvm.MethodName) ({ cls := "PuppetHeirsModel", name := "score", desc := "(II)I" } : Jvm.MethodName)) ∈ lw_all := lw_g (lw_at lw_m10 66 rfl) rfl
theorem q2342 : (Jvm.Cond.code ({ cls := "PuppetHeirsModel", name := "score", desc := "(II)I" } : Jvm.MethodName) prog_22_method_67_code (3 : Nat) (Option.some Jvm.ClassFile.FieldType.int)) ∈ lw_all := lw_g (lw_at lw_m10 67 rfl) rfl
theorem q2343 : (Jvm.Cond.methodLink "PuppetHeirsModel" (357 : Nat) ({ cls := "PuppetHeirsModel", name := "scoreOf", desc := "([III)I" } : Jvm.MethodName)) ∈ lw_all := lw_g (lw_at lw_m10 68 rfl) rfl
theorem q2344 : (Jvm.Cond.privateMethod ({ cls := "PuppetHeirsModel", name := "scoreOf", desc := "([III)I" } : Jvm.MethodName)) ∈ lw_tbl := lw_at lw_m10 69 rfl
theorem q2345 : (Jvm.Cond.instanceMethod ({ cls := "PuppetHeirsModel", name := "scoreOf", desc := "([III)I" } : Jvm.MethodName)) ∈ lw_all := lw_g (lw_at lw_m10 70 rfl) rfl
theorem q2346 : (Jvm.Cond.code ({ cls := "PuppetHeirsModel", name := "scoreOf", desc := "([III)I" } : Jvm.MethodName) prog_22_method_66_code (4 : Nat) (Option.some Jvm.ClassFile.FieldType.int)) ∈ lw_all := lw_g (lw_at lw_m10 71 rfl) rfl
theorem q2347 : (Jvm.Cond.methodLink "PuppetHeirsModel" (350 : Nat) ({ cls := "PuppetHeirsModel", name := "kinOf", desc := "([III)I" } : Jvm.MethodName)) ∈ lw_all := lw_g (lw_at lw_m10 72 rfl) rfl
theorem q2348 : (Jvm.Cond.privateMethod ({ cls := "PuppetHeirsModel", name := "kinOf", desc := "([III)I" } : Jvm.MethodName)) ∈ lw_tbl := lw_at lw_m10 73 rfl
theorem q2349 : (Jvm.Cond.instanceMethod ({ cls := "PuppetHeirsModel", name := "kinOf", desc := "([III)I" } : Jvm.MethodName)) ∈ lw_all := lw_g (lw_at lw_m10 74 rfl) rfl
theorem q2350 : (Jvm.Cond.code ({ cls := "PuppetHeirsModel", name := "kinOf", desc := "([III)I" } : Jvm.MethodName) prog_22_method_65_code (6 : Nat) (Option.some Jvm.ClassFile.FieldType.int)) ∈ lw_all := lw_g (lw_at lw_m10 75 rfl) rfl
theorem q2351 : (Jvm.Cond.methodLink "PuppetHeirsModel" (354 : Nat) ({ cls := "PuppetHeirsModel", name := "byLaw", desc := "()I" } : Jvm.MethodName)) ∈ lw_all := lw_g (lw_at lw_m10 76 rfl) rfl
theorem q2352 : (Jvm.Cond.privateMethod ({ cls := "PuppetHeirsModel", name := "byLaw", desc := "()I" } : Jvm.MethodName)) ∈ lw_tbl := lw_at lw_m10 77 rfl
theorem q2353 : (Jvm.Cond.instanceMethod ({ cls := "PuppetHeirsModel", name := "byLaw", desc := "()I" } : Jvm.MethodName)) ∈ lw_all := lw_g (lw_at lw_m10 78 rfl) rfl
theorem q2354 : (Jvm.Cond.code ({ cls := "PuppetHeirsModel", name := "byLaw", desc := "()I" } : Jvm.MethodName) prog_22_method_49_code (3 : Nat) (Option.some Jvm.ClassFile.FieldType.int)) ∈ lw_all := lw_g (lw_at lw_m10 79 rfl) rfl
theorem q2355 : (Jvm.Cond.methodLink "PuppetHeirsModel" (316 : Nat) ({ cls := "PuppetHeirsModel", name := "by", desc := "(III)I" } : Jvm.MethodName)) ∈ lw_all := lw_g (lw_at lw_m10 80 rfl) rfl
theorem q2356 : (Jvm.Cond.static ({ cls := "PuppetHeirsModel", name := "by", desc := "(III)I" } : Jvm.MethodName)) ∈ lw_all := lw_g (lw_at lw_m10 81 rfl) rfl
theorem q2357 : (Jvm.Cond.code ({ cls := "PuppetHeirsModel", name := "by", desc := "(III)I" } : Jvm.MethodName) prog_22_method_48_code (3 : Nat) (Option.some Jvm.ClassFile.FieldType.int)) ∈ lw_all := lw_g (lw_at lw_m10 82 rfl) rfl
theorem q2359 : (Jvm.Cond.instanceMethod ({ cls := "PuppetHeirsModel", name := "chooses", desc := "(I)I" } : Jvm.MethodName)) ∈ lw_all := lw_g (lw_at lw_m10 84 rfl) rfl
theorem q2360 : (Jvm.Cond.selects "PuppetHeirsModel" ({ cls := "PuppetHeirsModel", name := "chooses", desc := "(I)I" } : Jvm.MethodName) ({ cls := "PuppetHeirsModel", name := "chooses", desc := "(I)I" } : Jvm.MethodName)) ∈ lw_all := lw_g (lw_at lw_m10 85 rfl) rfl
theorem q2361 : (Jvm.Cond.code ({ cls := "PuppetHeirsModel", name := "chooses", desc := "(I)I" } : Jvm.MethodName) prog_22_method_70_code (2 : Nat) (Option.some Jvm.ClassFile.FieldType.int)) ∈ lw_all := lw_g (lw_at lw_m10 86 rfl) rfl
theorem q2362 : (Jvm.Cond.methodLink "PuppetHeirsModel" (364 : Nat) ({ cls := "PuppetHeirsModel", name := "chosen", desc := "([II)I" } : Jvm.MethodName)) ∈ lw_all := lw_g (lw_at lw_m10 87 rfl) rfl
theorem q2363 : (Jvm.Cond.privateMethod ({ cls := "PuppetHeirsModel", name := "chosen", desc := "([II)I" } : Jvm.MethodName)) ∈ lw_tbl := lw_at lw_m10 88 rfl
theorem q2364 : (Jvm.Cond.instanceMethod ({ cls := "PuppetHeirsModel", name := "chosen", desc := "([II)I" } : Jvm.MethodName)) ∈ lw_all := lw_g (lw_at lw_m10 89 rfl) rfl
theorem q2365 : (Jvm.Cond.code ({ cls := "PuppetHeirsModel", name := "chosen", desc := "([II)I" } : Jvm.MethodName) prog_22_method_69_code (5 : Nat) (Option.some Jvm.ClassFile.FieldType.int)) ∈ lw_all := lw_g (lw_at lw_m10 90 rfl) rfl
theorem q2366 : (Jvm.Cond.methodLink "PuppetHeirsModel" (360 : Nat) ({ cls := "PuppetHeirsModel", name := "mayWork", desc := "([III)Z" } : Jvm.MethodName)) ∈ lw_all := lw_g (lw_at lw_m10 91 rfl) rfl
theorem q2367 : (Jvm.Cond.privateMethod ({ cls := "PuppetHeirsModel", name := "mayWork", desc := "([III)Z" } : Jvm.MethodName)) ∈ lw_tbl := lw_at lw_m10 92 rfl
theorem q2368 : (Jvm.Cond.instanceMethod ({ cls := "PuppetHeirsModel", name := "mayWork", desc := "([III)Z" } : Jvm.MethodName)) ∈ lw_all := lw_g (lw_at lw_m10 93 rfl) rfl
theorem q2369 : (Jvm.Cond.code ({ cls := "PuppetHeirsModel", name := "mayWork", desc := "([III)Z" } : Jvm.MethodName) prog_22_method_68_code (4 : Nat) (Option.some Jvm.ClassFile.FieldType.boolean)) ∈ lw_all := lw_g (lw_at lw_m10 94 rfl) rfl
theorem q2371 : (Jvm.Cond.instanceMethod ({ cls := "PuppetHeirsModel", name := "practise", desc := "(II)I" } : Jvm.MethodName)) ∈ lw_all := lw_g (lw_at lw_m10 96 rfl) rfl
theorem q2372 : (Jvm.Cond.selects "PuppetHeirsModel" ({ cls := "PuppetHeirsModel", name := "practise", desc := "(II)I" } : Jvm.MethodName) ({ cls := "PuppetHeirsModel", name := "practise", desc := "(II)I" } : Jvm.MethodName)) ∈ lw_all := lw_g (lw_at lw_m10 97 rfl) rfl
theorem q2373 : (Jvm.Cond.code ({ cls := "PuppetHeirsModel", name := "practise", desc := "(II)I" } : Jvm.MethodName) prog_22_method_71_code (6 : Nat) (Option.some Jvm.ClassFile.FieldType.int)) ∈ lw_all := lw_g (lw_at lw_m10 98 rfl) rfl
theorem q2375 : (Jvm.Cond.instanceMethod ({ cls := "PuppetHeirsModel", name := "years", desc := "(I)I" } : Jvm.MethodName)) ∈ lw_all := lw_g (lw_at lw_m10 100 rfl) rfl
theorem q2376 : (Jvm.Cond.selects "PuppetHeirsModel" ({ cls := "PuppetHeirsModel", name := "years", desc := "(I)I" } : Jvm.MethodName) ({ cls := "PuppetHeirsModel", name := "years", desc := "(I)I" } : Jvm.MethodName)) ∈ lw_all := lw_g (lw_at lw_m10 101 rfl) rfl
theorem q2377 : (Jvm.Cond.code ({ cls := "PuppetHeirsModel", name := "years", desc := "(I)I" } : Jvm.MethodName) prog_22_method_76_code (3 : Nat) (Option.some Jvm.ClassFile.FieldType.int)) ∈ lw_all := lw_g (lw_at lw_m10 102 rfl) rfl
theorem q2378 : (Jvm.Cond.methodLink "PuppetHeirsModel" (385 : Nat) ({ cls := "PuppetHeirsModel", name := "goes", desc := "([I)V" } : Jvm.MethodName)) ∈ lw_all := lw_g (lw_at lw_m10 103 rfl) rfl
theorem q2379 : (Jvm.Cond.privateMethod ({ cls := "PuppetHeirsModel", name := "goes", desc := "([I)V" } : Jvm.MethodName)) ∈ lw_tbl := lw_at lw_m10 104 rfl
theorem q2380 : (Jvm.Cond.instanceMethod ({ cls := "PuppetHeirsModel", name := "goes", desc := "([I)V" } : Jvm.MethodName)) ∈ lw_all := lw_g (lw_at lw_m10 105 rfl) rfl
theorem q2381 : (Jvm.Cond.code ({ cls := "PuppetHeirsModel", name := "goes", desc := "([I)V" } : Jvm.MethodName) prog_22_method_75_code (5 : Nat) (Option.none : Option Jvm.ClassFile.FieldType)) ∈ lw_all := lw_g (lw_at lw_m10 106 rfl) rfl
theorem q2382 : (Jvm.Cond.constant "PuppetHeirsModel" (377 : Nat) (1103515245 : Int32)) ∈ lw_all := lw_g (lw_at lw_m10 107 rfl) rfl
theorem q2383 : (Jvm.Cond.methodLink "PuppetHeirsModel" (378 : Nat) ({ cls := "PuppetHeirsModel", name := "diesOf", desc := "([II)V" } : Jvm.MethodName)) ∈ lw_all := lw_g (lw_at lw_m10 108 rfl) rfl
theorem q2384 : (Jvm.Cond.privateMethod ({ cls := "PuppetHeirsModel", name := "diesOf", desc := "([II)V" } : Jvm.MethodName)) ∈ lw_tbl := lw_at lw_m10 109 rfl
theorem q2385 : (Jvm.Cond.instanceMethod ({ cls := "PuppetHeirsModel", name := "diesOf", desc := "([II)V" } : Jvm.MethodName)) ∈ lw_all := lw_g (lw_at lw_m10 110 rfl) rfl
theorem q2386 : (Jvm.Cond.code ({ cls := "PuppetHeirsModel", name := "diesOf", desc := "([II)V" } : Jvm.MethodName) prog_22_method_74_code (4 : Nat) (Option.none : Option Jvm.ClassFile.FieldType)) ∈ lw_all := lw_g (lw_at lw_m10 111 rfl) rfl
theorem q2387 : (Jvm.Cond.methodLink "PuppetHeirsModel" (367 : Nat) ({ cls := "PuppetHeirsModel", name := "ceases", desc := "([III)V" } : Jvm.MethodName)) ∈ lw_all := lw_g (lw_at lw_m10 112 rfl) rfl
theorem q2388 : (Jvm.Cond.privateMethod ({ cls := "PuppetHeirsModel", name := "ceases", desc := "([III)V" } : Jvm.MethodName)) ∈ lw_tbl := lw_at lw_m10 113 rfl
theorem q2389 : (Jvm.Cond.instanceMethod ({ cls := "PuppetHeirsModel", name := "ceases", desc := "([III)V" } : Jvm.MethodName)) ∈ lw_all := lw_g (lw_at lw_m10 114 rfl) rfl
theorem q2390 : (Jvm.Cond.code ({ cls := "PuppetHeirsModel", name := "ceases", desc := "([III)V" } : Jvm.MethodName) prog_22_method_72_code (4 : Nat) (Option.none : Option Jvm.ClassFile.FieldType)) ∈ lw_all := lw_g (lw_at lw_m10 115 rfl) rfl
theorem q2391 : (Jvm.Cond.methodLink "PuppetHeirsModel" (382 : Nat) ({ cls := "PuppetHeirsModel", name := "begins", desc := "([III)V" } : Jvm.MethodName)) ∈ lw_all := lw_g (lw_at lw_m10 116 rfl) rfl
theorem q2392 : (Jvm.Cond.privateMethod ({ cls := "PuppetHeirsModel", name := "begins", desc := "([III)V" } : Jvm.MethodName)) ∈ lw_tbl := lw_at lw_m10 117 rfl
theorem q2393 : (Jvm.Cond.instanceMethod ({ cls := "PuppetHeirsModel", name := "begins", desc := "([III)V" } : Jvm.MethodName)) ∈ lw_all := lw_g (lw_at lw_m10 118 rfl) rfl
theorem q2394 : (Jvm.Cond.code ({ cls := "PuppetHeirsModel", name := "begins", desc := "([III)V" } : Jvm.MethodName) prog_22_method_73_code (4 : Nat) (Option.none : Option Jvm.ClassFile.FieldType)) ∈ lw_all := lw_g (lw_at lw_m10 119 rfl) rfl
theorem q2396 : (Jvm.Cond.instanceMethod ({ cls := "PuppetHeirsModel", name := "undo", desc := "(I)I" } : Jvm.MethodName)) ∈ lw_all := lw_g (lw_at lw_m10 121 rfl) rfl
theorem q2397 : (Jvm.Cond.selects "PuppetHeirsModel" ({ cls := "PuppetHeirsModel", name := "undo", desc := "(I)I" } : Jvm.MethodName) ({ cls := "PuppetHeirsModel", name := "undo", desc := "(I)I" } : Jvm.MethodName)) ∈ lw_all := lw_g (lw_at lw_m10 122 rfl) rfl
theorem q2398 : (Jvm.Cond.code ({ cls := "PuppetHeirsModel", name := "undo", desc := "(I)I" } : Jvm.MethodName) prog_22_method_77_code (4 : Nat) (Option.some Jvm.ClassFile.FieldType.int)) ∈ lw_all := lw_g (lw_at lw_m10 123 rfl) rfl
theorem q2400 : (Jvm.Cond.instanceMethod ({ cls := "PuppetHeirsModel", name := "since", desc := "(II)I" } : Jvm.MethodName)) ∈ lw_all := lw_g (lw_at lw_m10 125 rfl) rfl
theorem q2401 : (Jvm.Cond.selects "PuppetHeirsModel" ({ cls := "PuppetHeirsModel", name := "since", desc := "(II)I" } : Jvm.MethodName) ({ cls := "PuppetHeirsModel", name := "since", desc := "(II)I" } : Jvm.MethodName)) ∈ lw_all := lw_g (lw_at lw_m10 126 rfl) rfl
theorem q2402 : (Jvm.Cond.code ({ cls := "PuppetHeirsModel", name := "since", desc := "(II)I" } : Jvm.MethodName) prog_22_method_78_code (3 : Nat) (Option.some Jvm.ClassFile.FieldType.int)) ∈ lw_all := lw_g (lw_at lw_m10 127 rfl) rfl
theorem q2404 : (Jvm.Cond.instanceMethod ({ cls := "PuppetHeirsModel", name := "chose", desc := "(I)I" } : Jvm.MethodName)) ∈ lw_all := lw_g (lw_at lw_m10 129 rfl) rfl
theorem q2405 : (Jvm.Cond.selects "PuppetHeirsModel" ({ cls := "PuppetHeirsModel", name := "chose", desc := "(I)I" } : Jvm.MethodName) ({ cls := "PuppetHeirsModel", name := "chose", desc := "(I)I" } : Jvm.MethodName)) ∈ lw_all := lw_g (lw_at lw_m10 130 rfl) rfl
theorem q2406 : (Jvm.Cond.code ({ cls := "PuppetHeirsModel", name := "chose", desc := "(I)I" } : Jvm.MethodName) prog_22_method_79_code (2 : Nat) (Option.some Jvm.ClassFile.FieldType.int)) ∈ lw_all := lw_g (lw_at lw_m10 131 rfl) rfl
theorem q2408 : (Jvm.Cond.instanceMethod ({ cls := "PuppetHeirsModel", name := "ahead", desc := "(II)I" } : Jvm.MethodName)) ∈ lw_all := lw_g (lw_at lw_m10 133 rfl) rfl
theorem q2409 : (Jvm.Cond.selects "PuppetHeirsModel" ({ cls := "PuppetHeirsModel", name := "ahead", desc := "(II)I" } : Jvm.MethodName) ({ cls := "PuppetHeirsModel", name := "ahead", desc := "(II)I" } : Jvm.MethodName)) ∈ lw_all := lw_g (lw_at lw_m10 134 rfl) rfl
theorem q2410 : (Jvm.Cond.code ({ cls := "PuppetHeirsModel", name := "ahead", desc := "(II)I" } : Jvm.MethodName) prog_22_method_80_code (4 : Nat) (Option.some Jvm.ClassFile.FieldType.int)) ∈ lw_all := lw_g (lw_at lw_m10 135 rfl) rfl
theorem q2412 : (Jvm.Cond.instanceMethod ({ cls := "PuppetHeirsModel", name := "when", desc := "(II)I" } : Jvm.MethodName)) ∈ lw_all := lw_g (lw_at lw_m10 137 rfl) rfl
theorem q2413 : (Jvm.Cond.selects "PuppetHeirsModel" ({ cls := "PuppetHeirsModel", name := "when", desc := "(II)I" } : Jvm.MethodName) ({ cls := "PuppetHeirsModel", name := "when", desc := "(II)I" } : Jvm.MethodName)) ∈ lw_all := lw_g (lw_at lw_m10 138 rfl) rfl
theorem q2414 : (Jvm.Cond.code ({ cls := "PuppetHeirsModel", name := "when", desc := "(II)I" } : Jvm.MethodName) prog_22_method_81_code (4 : Nat) (Option.some Jvm.ClassFile.FieldType.int)) ∈ lw_all := lw_g (lw_at lw_m10 139 rfl) rfl
theorem q2416 : (Jvm.Cond.instanceMethod ({ cls := "PuppetHeirsModel", name := "last", desc := "(I)I" } : Jvm.MethodName)) ∈ lw_all := lw_g (lw_at lw_m10 141 rfl) rfl
theorem q2417 : (Jvm.Cond.selects "PuppetHeirsModel" ({ cls := "PuppetHeirsModel", name := "last", desc := "(I)I" } : Jvm.MethodName) ({ cls := "PuppetHeirsModel", name := "last", desc := "(I)I" } : Jvm.MethodName)) ∈ lw_all := lw_g (lw_at lw_m10 142 rfl) rfl
theorem q2418 : (Jvm.Cond.code ({ cls := "PuppetHeirsModel", name := "last", desc := "(I)I" } : Jvm.MethodName) prog_22_method_82_code (3 : Nat) (Option.some Jvm.ClassFile.FieldType.int)) ∈ lw_all := lw_g (lw_at lw_m10 143 rfl) rfl
theorem q2419 : (Jvm.Cond.methodLink "PuppetHeirsModel" (388 : Nat) ({ cls := "PuppetHeirsModel", name := "isCast", desc := "([II)Z" } : Jvm.MethodName)) ∈ lw_all := lw_g (lw_at lw_m10 144 rfl) rfl
theorem q2420 : (Jvm.Cond.privateMethod ({ cls := "PuppetHeirsModel", name := "isCast", desc := "([II)Z" } : Jvm.MethodName)) ∈ lw_tbl := lw_at lw_m10 145 rfl
theorem q2421 : (Jvm.Cond.instanceMethod ({ cls := "PuppetHeirsModel", name := "isCast", desc := "([II)Z" } : Jvm.MethodName)) ∈ lw_all := lw_g (lw_at lw_m10 146 rfl) rfl
theorem q2422 : (Jvm.Cond.code ({ cls := "PuppetHeirsModel", name := "isCast", desc := "([II)Z" } : Jvm.MethodName) prog_22_method_93_code (3 : Nat) (Option.some Jvm.ClassFile.FieldType.boolean)) ∈ lw_all := lw_g (lw_at lw_m10 147 rfl) rfl
theorem q2423 : (Jvm.Cond.methodLink "PuppetHeirsModel" (408 : Nat) ({ cls := "PuppetHeirsModel", name := "sets", desc := "(II)V" } : Jvm.MethodName)) ∈ lw_all := lw_g (lw_at lw_m10 148 rfl) rfl
theorem q2424 : (Jvm.Cond.privateMethod ({ cls := "PuppetHeirsModel", name := "sets", desc := "(II)V" } : Jvm.MethodName)) ∈ lw_tbl := lw_at lw_m10 149 rfl
theorem q2425 : (Jvm.Cond.instanceMethod ({ cls := "PuppetHeirsModel", name := "sets", desc := "(II)V" } : Jvm.MethodName)) ∈ lw_all := lw_g (lw_at lw_m10 150 rfl) rfl
theorem q2426 : (Jvm.Cond.code ({ cls := "PuppetHeirsModel", name := "sets", desc := "(II)V" } : Jvm.MethodName) prog_22_method_88_code (4 : Nat) (Option.none : Option Jvm.ClassFile.FieldType)) ∈ lw_all := lw_g (lw_at lw_m10 151 rfl) rfl
theorem q2427 : (Jvm.Cond.methodLink "PuppetHeirsModel" (411 : Nat) ({ cls := "PuppetHeirsModel", name := "castsNow", desc := "([IIZ)I" } : Jvm.MethodName)) ∈ lw_all := lw_g (lw_at lw_m10 152 rfl) rfl
theorem q2428 : (Jvm.Cond.privateMethod ({ cls := "PuppetHeirsModel", name := "castsNow", desc := "([IIZ)I" } : Jvm.MethodName)) ∈ lw_tbl := lw_at lw_m10 153 rfl
theorem q2429 : (Jvm.Cond.instanceMethod ({ cls := "PuppetHeirsModel", name := "castsNow", desc := "([IIZ)I" } : Jvm.MethodName)) ∈ lw_all := lw_g (lw_at lw_m10 154 rfl) rfl
theorem q2430 : (Jvm.Cond.code ({ cls := "PuppetHeirsModel", name := "castsNow", desc := "([IIZ)I" } : Jvm.MethodName) prog_22_method_91_code (5 : Nat) (Option.some Jvm.ClassFile.FieldType.int)) ∈ lw_all := lw_g (lw_at lw_m10 155 rfl) rfl
theorem q2431 : (Jvm.Cond.methodLink "PuppetHeirsModel" (403 : Nat) ({ cls := "PuppetHeirsModel", name := "goesCasting", desc := "([IIIIZ)V" } : Jvm.MethodName)) ∈ lw_all := lw_g (lw_at lw_m10 156 rfl) rfl
theorem q2432 : (Jvm.Cond.privateMethod ({ cls := "PuppetHeirsModel", name := "goesCasting", desc := "([IIIIZ)V" } : Jvm.MethodName)) ∈ lw_tbl := lw_at lw_m10 157 rfl
theorem q2433 : (Jvm.Cond.instanceMethod ({ cls := "PuppetHeirsModel", name := "goesCasting", desc := "([IIIIZ)V" } : Jvm.MethodName)) ∈ lw_all := lw_g (lw_at lw_m10 158 rfl) rfl
theorem q2434 : (Jvm.Cond.code ({ cls := "PuppetHeirsModel", name := "goesCasting", desc := "([IIIIZ)V" } : Jvm.MethodName) prog_22_method_90_code (8 : Nat) (Option.none : Option Jvm.ClassFile.FieldType)) ∈ lw_all := lw_g (lw_at lw_m10 159 rfl) rfl
theorem q2435 : (Jvm.Cond.methodLink "PuppetHeirsModel" (400 : Nat) ({ cls := "PuppetHeirsModel", name := "speaksWith", desc := "(II)Z" } : Jvm.MethodName)) ∈ lw_all := lw_g (lw_at lw_m10 160 rfl) rfl
theorem q2436 : (Jvm.Cond.privateMethod ({ cls := "PuppetHeirsModel", name := "speaksWith", desc := "(II)Z" } : Jvm.MethodName)) ∈ lw_tbl := lw_at lw_m10 161 rfl
theorem q2437 : (Jvm.Cond.instanceMethod ({ cls := "PuppetHeirsModel", name := "speaksWith", desc := "(II)Z" } : Jvm.MethodName)) ∈ lw_all := lw_g (lw_at lw_m10 162 rfl) rfl
theorem q2438 : (Jvm.Cond.code ({ cls := "PuppetHeirsModel", name := "speaksWith", desc := "(II)Z" } : Jvm.MethodName) prog_22_method_89_code (4 : Nat) (Option.some Jvm.ClassFile.FieldType.boolean)) ∈ lw_all := lw_g (lw_at lw_m10 163 rfl) rfl
theorem q2439 : (Jvm.Cond.constant "PuppetHeirsModel" (407 : Nat) (1000000 : Int32)) ∈ lw_all := lw_g (lw_at lw_m10 164 rfl) rfl
theorem q2441 : (Jvm.Cond.instanceMethod ({ cls := "PuppetHeirsModel", name := "fades", desc := "(I)I" } : Jvm.MethodName)) ∈ lw_all := lw_g (lw_at lw_m10 166 rfl) rfl
theorem q2442 : (Jvm.Cond.selects "PuppetHeirsModel" ({ cls := "PuppetHeirsModel", name := "fades", desc := "(I)I" } : Jvm.MethodName) ({ cls := "PuppetHeirsModel", name := "fades", desc := "(I)I" } : Jvm.MethodName)) ∈ lw_all := lw_g (lw_at lw_m10 167 rfl) rfl
theorem q2443 : (Jvm.Cond.code ({ cls := "PuppetHeirsModel", name := "fades", desc := "(I)I" } : Jvm.MethodName) prog_22_method_83_code (3 : Nat) (Option.some Jvm.ClassFile.FieldType.int)) ∈ lw_all := lw_g (lw_at lw_m10 168 rfl) rfl
theorem q2445 : (Jvm.Cond.instanceMethod ({ cls := "PuppetHeirsModel", name := "dies", desc := "(I)I" } : Jvm.MethodName)) ∈ lw_all := lw_g (lw_at lw_m10 170 rfl) rfl
theorem q2446 : (Jvm.Cond.selects "PuppetHeirsModel" ({ cls := "PuppetHeirsModel", name := "dies", desc := "(I)I" } : Jvm.MethodName) ({ cls := "PuppetHeirsModel", name := "dies", desc := "(I)I" } : Jvm.MethodName)) ∈ lw_all := lw_g (lw_at lw_m10 171 rfl) rfl
theorem q2447 : (Jvm.Cond.code ({ cls := "PuppetHeirsModel", name := "dies", desc := "(I)I" } : Jvm.MethodName) prog_22_method_84_code (3 : Nat) (Option.some Jvm.ClassFile.FieldType.int)) ∈ lw_all := lw_g (lw_at lw_m10 172 rfl) rfl
theorem q2449 : (Jvm.Cond.instanceMethod ({ cls := "PuppetHeirsModel", name := "string", desc := "(II)I" } : Jvm.MethodName)) ∈ lw_all := lw_g (lw_at lw_m10 174 rfl) rfl
theorem q2450 : (Jvm.Cond.selects "PuppetHeirsModel" ({ cls := "PuppetHeirsModel", name := "string", desc := "(II)I" } : Jvm.MethodName) ({ cls := "PuppetHeirsModel", name := "string", desc := "(II)I" } : Jvm.MethodName)) ∈ lw_all := lw_g (lw_at lw_m10 175 rfl) rfl
theorem q2451 : (Jvm.Cond.code ({ cls := "PuppetHeirsModel", name := "string", desc := "(II)I" } : Jvm.MethodName) prog_22_method_85_code (3 : Nat) (Option.some Jvm.ClassFile.FieldType.int)) ∈ lw_all := lw_g (lw_at lw_m10 176 rfl) rfl
theorem q2453 : (Jvm.Cond.instanceMethod ({ cls := "PuppetHeirsModel", name := "give", desc := "(III)I" } : Jvm.MethodName)) ∈ lw_all := lw_g (lw_at lw_m10 178 rfl) rfl
theorem q2454 : (Jvm.Cond.selects "PuppetHeirsModel" ({ cls := "PuppetHeirsModel", name := "give", desc := "(III)I" } : Jvm.MethodName) ({ cls := "PuppetHeirsModel", name := "give", desc := "(III)I" } : Jvm.MethodName)) ∈ lw_all := lw_g (lw_at lw_m10 179 rfl) rfl
theorem q2455 : (Jvm.Cond.code ({ cls := "PuppetHeirsModel", name := "give", desc := "(III)I" } : Jvm.MethodName) prog_22_method_86_code (4 : Nat) (Option.some Jvm.ClassFile.FieldType.int)) ∈ lw_all := lw_g (lw_at lw_m10 180 rfl) rfl
theorem q2457 : (Jvm.Cond.instanceMethod ({ cls := "PuppetHeirsModel", name := "heir", desc := "(II)I" } : Jvm.MethodName)) ∈ lw_all := lw_g (lw_at lw_m10 182 rfl) rfl
theorem q2458 : (Jvm.Cond.selects "PuppetHeirsModel" ({ cls := "PuppetHeirsModel", name := "heir", desc := "(II)I" } : Jvm.MethodName) ({ cls := "PuppetHeirsModel", name := "heir", desc := "(II)I" } : Jvm.MethodName)) ∈ lw_all := lw_g (lw_at lw_m10 183 rfl) rfl
theorem q2459 : (Jvm.Cond.code ({ cls := "PuppetHeirsModel", name := "heir", desc := "(II)I" } : Jvm.MethodName) prog_22_method_87_code (3 : Nat) (Option.some Jvm.ClassFile.FieldType.int)) ∈ lw_all := lw_g (lw_at lw_m10 184 rfl) rfl
theorem q2461 : (Jvm.Cond.instanceMethod ({ cls := "PuppetHeirsModel", name := "casts", desc := "(I)I" } : Jvm.MethodName)) ∈ lw_all := lw_g (lw_at lw_m10 186 rfl) rfl
theorem q2462 : (Jvm.Cond.selects "PuppetHeirsModel" ({ cls := "PuppetHeirsModel", name := "casts", desc := "(I)I" } : Jvm.MethodName) ({ cls := "PuppetHeirsModel", name := "casts", desc := "(I)I" } : Jvm.MethodName)) ∈ lw_all := lw_g (lw_at lw_m10 187 rfl) rfl
theorem q2463 : (Jvm.Cond.code ({ cls := "PuppetHeirsModel", name := "casts", desc := "(I)I" } : Jvm.MethodName) prog_22_method_94_code (2 : Nat) (Option.some Jvm.ClassFile.FieldType.int)) ∈ lw_all := lw_g (lw_at lw_m10 188 rfl) rfl
theorem q2464 : (Jvm.Cond.methodLink "PuppetHeirsModel" (415 : Nat) ({ cls := "PuppetHeirsModel", name := "castsOf", desc := "(I)I" } : Jvm.MethodName)) ∈ lw_all := lw_g (lw_at lw_m10 189 rfl) rfl
theorem q2465 : (Jvm.Cond.privateMethod ({ cls := "PuppetHeirsModel", name := "castsOf", desc := "(I)I" } : Jvm.MethodName)) ∈ lw_tbl := lw_at lw_m10 190 rfl
theorem q2466 : (Jvm.Cond.instanceMethod ({ cls := "PuppetHeirsModel", name := "castsOf", desc := "(I)I" } : Jvm.MethodName)) ∈ lw_all := lw_g (lw_at lw_m10 191 rfl) rfl
theorem q2467 : (Jvm.Cond.code ({ cls := "PuppetHeirsModel", name := "castsOf", desc := "(I)I" } : Jvm.MethodName) prog_22_method_92_code (2 : Nat) (Option.some Jvm.ClassFile.FieldType.int)) ∈ lw_all := lw_g (lw_at lw_m10 192 rfl) rfl
theorem q2469 : (Jvm.Cond.instanceMethod ({ cls := "PuppetHeirsModel", name := "cast", desc := "(II)I" } : Jvm.MethodName)) ∈ lw_all := lw_g (lw_at lw_m10 194 rfl) rfl
theorem q2470 : (Jvm.Cond.selects "PuppetHeirsModel" ({ cls := "PuppetHeirsModel", name := "cast", desc := "(II)I" } : Jvm.MethodName) ({ cls := "PuppetHeirsModel", name := "cast", desc := "(II)I" } : Jvm.MethodName)) ∈ lw_all := lw_g (lw_at lw_m10 195 rfl) rfl
theorem q2471 : (Jvm.Cond.code ({ cls := "PuppetHeirsModel", name := "cast", desc := "(II)I" } : Jvm.MethodName) prog_22_method_95_code (4 : Nat) (Option.some Jvm.ClassFile.FieldType.int)) ∈ lw_all := lw_g (lw_at lw_m10 196 rfl) rfl
theorem q2473 : (Jvm.Cond.instanceMethod ({ cls := "PuppetHeirsModel", name := "thumbs", desc := "(I)I" } : Jvm.MethodName)) ∈ lw_all := lw_g (lw_at lw_m10 198 rfl) rfl
theorem q2474 : (Jvm.Cond.selects "PuppetHeirsModel" ({ cls := "PuppetHeirsModel", name := "thumbs", desc := "(I)I" } : Jvm.MethodName) ({ cls := "PuppetHeirsModel", name := "thumbs", desc := "(I)I" } : Jvm.MethodName)) ∈ lw_all := lw_g (lw_at lw_m10 199 rfl) rfl
theorem q2475 : (Jvm.Cond.code ({ cls := "PuppetHeirsModel", name := "thumbs", desc := "(I)I" } : Jvm.MethodName) prog_22_method_96_code (2 : Nat) (Option.some Jvm.ClassFile.FieldType.int)) ∈ lw_all := lw_g (lw_at lw_m10 200 rfl) rfl
theorem q2477 : (Jvm.Cond.instanceMethod ({ cls := "PuppetHeirsModel", name := "reach", desc := "(I)I" } : Jvm.MethodName)) ∈ lw_all := lw_g (lw_at lw_m10 202 rfl) rfl
theorem q2478 : (Jvm.Cond.selects "PuppetHeirsModel" ({ cls := "PuppetHeirsModel", name := "reach", desc := "(I)I" } : Jvm.MethodName) ({ cls := "PuppetHeirsModel", name := "reach", desc := "(I)I" } : Jvm.MethodName)) ∈ lw_all := lw_g (lw_at lw_m10 203 rfl) rfl
theorem q2479 : (Jvm.Cond.code ({ cls := "PuppetHeirsModel", name := "reach", desc := "(I)I" } : Jvm.MethodName) prog_22_method_97_code (5 : Nat) (Option.some Jvm.ClassFile.FieldType.int)) ∈ lw_all := lw_g (lw_at lw_m10 204 rfl) rfl
theorem q2481 : (Jvm.Cond.instanceMethod ({ cls := "PuppetHeirsModel", name := "both", desc := "(II)Z" } : Jvm.MethodName)) ∈ lw_all := lw_g (lw_at lw_m10 206 rfl) rfl
theorem q2482 : (Jvm.Cond.selects "PuppetHeirsModel" ({ cls := "PuppetHeirsModel", name := "both", desc := "(II)Z" } : Jvm.MethodName) ({ cls := "PuppetHeirsModel", name := "both", desc := "(II)Z" } : Jvm.MethodName)) ∈ lw_all := lw_g (lw_at lw_m10 207 rfl) rfl
theorem q2483 : (Jvm.Cond.code ({ cls := "PuppetHeirsModel", name := "both", desc := "(II)Z" } : Jvm.MethodName) prog_22_method_98_code (3 : Nat) (Option.some Jvm.ClassFile.FieldType.boolean)) ∈ lw_all := lw_g (lw_at lw_m10 208 rfl) rfl
theorem q2485 : (Jvm.Cond.instanceMethod ({ cls := "PuppetHeirsModel", name := "lacking", desc := "(I)I" } : Jvm.MethodName)) ∈ lw_all := lw_g (lw_at lw_m10 210 rfl) rfl
theorem q2486 : (Jvm.Cond.selects "PuppetHeirsModel" ({ cls := "PuppetHeirsModel", name := "lacking", desc := "(I)I" } : Jvm.MethodName) ({ cls := "PuppetHeirsModel", name := "lacking", desc := "(I)I" } : Jvm.MethodName)) ∈ lw_all := lw_g (lw_at lw_m10 211 rfl) rfl
theorem q2487 : (Jvm.Cond.code ({ cls := "PuppetHeirsModel", name := "lacking", desc := "(I)I" } : Jvm.MethodName) prog_22_method_99_code (8 : Nat) (Option.some Jvm.ClassFile.FieldType.int)) ∈ lw_all := lw_g (lw_at lw_m10 212 rfl) rfl
theorem q2489 : (Jvm.Cond.instanceMethod ({ cls := "PuppetHeirsModel", name := "played", desc := "()I" } : Jvm.MethodName)) ∈ lw_all := lw_g (lw_at lw_m10 214 rfl) rfl
theorem q2490 : (Jvm.Cond.selects "PuppetHeirsModel" ({ cls := "PuppetHeirsModel", name := "played", desc := "()I" } : Jvm.MethodName) ({ cls := "PuppetHeirsModel", name := "played", desc := "()I" } : Jvm.MethodName)) ∈ lw_all := lw_g (lw_at lw_m10 215 rfl) rfl
theorem q2491 : (Jvm.Cond.code ({ cls := "PuppetHeirsModel", name := "played", desc := "()I" } : Jvm.MethodName) prog_22_method_100_code (3 : Nat) (Option.some Jvm.ClassFile.FieldType.int)) ∈ lw_all := lw_g (lw_at lw_m10 216 rfl) rfl
theorem q2493 : (Jvm.Cond.instanceMethod ({ cls := "PuppetHeirsModel", name := "cost", desc := "(I)I" } : Jvm.MethodName)) ∈ lw_all := lw_g (lw_at lw_m10 218 rfl) rfl
theorem q2494 : (Jvm.Cond.selects "PuppetHeirsModel" ({ cls := "PuppetHeirsModel", name := "cost", desc := "(I)I" } : Jvm.MethodName) ({ cls := "PuppetHeirsModel", name := "cost", desc := "(I)I" } : Jvm.MethodName)) ∈ lw_all := lw_g (lw_at lw_m10 219 rfl) rfl
theorem q2495 : (Jvm.Cond.code ({ cls := "PuppetHeirsModel", name := "cost", desc := "(I)I" } : Jvm.MethodName) prog_22_method_102_code (2 : Nat) (Option.some Jvm.ClassFile.FieldType.int)) ∈ lw_all := lw_g (lw_at lw_m10 220 rfl) rfl
theorem q2496 : (Jvm.Cond.methodLink "PuppetHeirsModel" (418 : Nat) ({ cls := "PuppetHeirsModel", name := "costOf", desc := "(I)I" } : Jvm.MethodName)) ∈ lw_all := lw_g (lw_at lw_m10 221 rfl) rfl
theorem q2497 : (Jvm.Cond.privateMethod ({ cls := "PuppetHeirsModel", name := "costOf", desc := "(I)I" } : Jvm.MethodName)) ∈ lw_tbl := lw_at lw_m10 222 rfl
theorem q2498 : (Jvm.Cond.instanceMethod ({ cls := "PuppetHeirsModel", name := "costOf", desc := "(I)I" } : Jvm.MethodName)) ∈ lw_all := lw_g (lw_at lw_m10 223 rfl) rfl
theorem q2499 : (Jvm.Cond.code ({ cls := "PuppetHeirsModel", name := "costOf", desc := "(I)I" } : Jvm.MethodName) prog_22_method_101_code (4 : Nat) (Option.some Jvm.ClassFile.FieldType.int)) ∈ lw_all := lw_g (lw_at lw_m10 224 rfl) rfl
theorem q2501 : (Jvm.Cond.instanceMethod ({ cls := "PuppetHeirsModel", name := "dearest", desc := "()I" } : Jvm.MethodName)) ∈ lw_all := lw_g (lw_at lw_m10 226 rfl) rfl
theorem q2502 : (Jvm.Cond.selects "PuppetHeirsModel" ({ cls := "PuppetHeirsModel", name := "dearest", desc := "()I" } : Jvm.MethodName) ({ cls := "PuppetHeirsModel", name := "dearest", desc := "()I" } : Jvm.MethodName)) ∈ lw_all := lw_g (lw_at lw_m10 227 rfl) rfl
theorem q2503 : (Jvm.Cond.code ({ cls := "PuppetHeirsModel", name := "dearest", desc := "()I" } : Jvm.MethodName) prog_22_method_103_code (4 : Nat) (Option.some Jvm.ClassFile.FieldType.int)) ∈ lw_all := lw_g (lw_at lw_m10 228 rfl) rfl
theorem q2505 : (Jvm.Cond.instanceMethod ({ cls := "PuppetHeirsModel", name := "lies", desc := "(II)I" } : Jvm.MethodName)) ∈ lw_all := lw_g (lw_at lw_m10 230 rfl) rfl
theorem q2506 : (Jvm.Cond.selects "PuppetHeirsModel" ({ cls := "PuppetHeirsModel", name := "lies", desc := "(II)I" } : Jvm.MethodName) ({ cls := "PuppetHeirsModel", name := "lies", desc := "(II)I" } : Jvm.MethodName)) ∈ lw_all := lw_g (lw_at lw_m10 231 rfl) rfl
theorem q2507 : (Jvm.Cond.code ({ cls := "PuppetHeirsModel", name := "lies", desc := "(II)I" } : Jvm.MethodName) prog_22_method_105_code (3 : Nat) (Option.some Jvm.ClassFile.FieldType.int)) ∈ lw_all := lw_g (lw_at lw_m10 232 rfl) rfl
theorem q2508 : (Jvm.Cond.methodLink "PuppetHeirsModel" (421 : Nat) ({ cls := "PuppetHeirsModel", name := "liesOf", desc := "(II)I" } : Jvm.MethodName)) ∈ lw_all := lw_g (lw_at lw_m10 233 rfl) rfl
theorem q2509 : (Jvm.Cond.privateMethod ({ cls := "PuppetHeirsModel", name := "liesOf", desc := "(II)I" } : Jvm.MethodName)) ∈ lw_tbl := lw_at lw_m10 234 rfl
theorem q2510 : (Jvm.Cond.instanceMethod ({ cls := "PuppetHeirsModel", name := "liesOf", desc := "(II)I" } : Jvm.MethodName)) ∈ lw_all := lw_g (lw_at lw_m10 235 rfl) rfl
theorem q2511 : (Jvm.Cond.code ({ cls := "PuppetHeirsModel", name := "liesOf", desc := "(II)I" } : Jvm.MethodName) prog_22_method_104_code (3 : Nat) (Option.some Jvm.ClassFile.FieldType.int)) ∈ lw_all := lw_g (lw_at lw_m10 236 rfl) rfl
theorem q2513 : (Jvm.Cond.instanceMethod ({ cls := "PuppetHeirsModel", name := "dropped", desc := "(II)I" } : Jvm.MethodName)) ∈ lw_all := lw_g (lw_at lw_m10 238 rfl) rfl
theorem q2514 : (Jvm.Cond.selects "PuppetHeirsModel" ({ cls := "PuppetHeirsModel", name := "dropped", desc := "(II)I" } : Jvm.MethodName) ({ cls := "PuppetHeirsModel", name := "dropped", desc := "(II)I" } : Jvm.MethodName)) ∈ lw_all := lw_g (lw_at lw_m10 239 rfl) rfl
theorem q2515 : (Jvm.Cond.code ({ cls := "PuppetHeirsModel", name := "dropped", desc := "(II)I" } : Jvm.MethodName) prog_22_method_106_code (5 : Nat) (Option.some Jvm.ClassFile.FieldType.int)) ∈ lw_all := lw_g (lw_at lw_m11 0 rfl) rfl
theorem q2517 : (Jvm.Cond.instanceMethod ({ cls := "PuppetHeirsModel", name := "right", desc := "()I" } : Jvm.MethodName)) ∈ lw_all := lw_g (lw_at lw_m11 2 rfl) rfl
theorem q2518 : (Jvm.Cond.selects "PuppetHeirsModel" ({ cls := "PuppetHeirsModel", name := "right", desc := "()I" } : Jvm.MethodName) ({ cls := "PuppetHeirsModel", name := "right", desc := "()I" } : Jvm.MethodName)) ∈ lw_all := lw_g (lw_at lw_m11 3 rfl) rfl
theorem q2519 : (Jvm.Cond.code ({ cls := "PuppetHeirsModel", name := "right", desc := "()I" } : Jvm.MethodName) prog_22_method_108_code (1 : Nat) (Option.some Jvm.ClassFile.FieldType.int)) ∈ lw_all := lw_g (lw_at lw_m11 4 rfl) rfl
theorem q2520 : (Jvm.Cond.methodLink "PuppetHeirsModel" (424 : Nat) ({ cls := "PuppetHeirsModel", name := "rightLines", desc := "()I" } : Jvm.MethodName)) ∈ lw_all := lw_g (lw_at lw_m11 5 rfl) rfl
theorem q2521 : (Jvm.Cond.privateMethod ({ cls := "PuppetHeirsModel", name := "rightLines", desc := "()I" } : Jvm.MethodName)) ∈ lw_tbl := lw_at lw_m11 6 rfl
theorem q2522 : (Jvm.Cond.instanceMethod ({ cls := "PuppetHeirsModel", name := "rightLines", desc := "()I" } : Jvm.MethodName)) ∈ lw_all := lw_g (lw_at lw_m11 7 rfl) rfl
theorem q2523 : (Jvm.Cond.code ({ cls := "PuppetHeirsModel", name := "rightLines", desc := "()I" } : Jvm.MethodName) prog_22_method_107_code (5 : Nat) (Option.some Jvm.ClassFile.FieldType.int)) ∈ lw_all := lw_g (lw_at lw_m11 8 rfl) rfl
theorem q2525 : (Jvm.Cond.instanceMethod ({ cls := "PuppetHeirsModel", name := "limps", desc := "(I)I" } : Jvm.MethodName)) ∈ lw_all := lw_g (lw_at lw_m11 10 rfl) rfl
theorem q2526 : (Jvm.Cond.selects "PuppetHeirsModel" ({ cls := "PuppetHeirsModel", name := "limps", desc := "(I)I" } : Jvm.MethodName) ({ cls := "PuppetHeirsModel", name := "limps", desc := "(I)I" } : Jvm.MethodName)) ∈ lw_all := lw_g (lw_at lw_m11 11 rfl) rfl
theorem q2527 : (Jvm.Cond.code ({ cls := "PuppetHeirsModel", name := "limps", desc := "(I)I" } : Jvm.MethodName) prog_22_method_109_code (5 : Nat) (Option.some Jvm.ClassFile.FieldType.int)) ∈ lw_all := lw_g (lw_at lw_m11 12 rfl) rfl
theorem q2529 : (Jvm.Cond.instanceMethod ({ cls := "PuppetHeirsModel", name := "nights", desc := "()I" } : Jvm.MethodName)) ∈ lw_all := lw_g (lw_at lw_m11 14 rfl) rfl
theorem q2530 : (Jvm.Cond.selects "PuppetHeirsModel" ({ cls := "PuppetHeirsModel", name := "nights", desc := "()I" } : Jvm.MethodName) ({ cls := "PuppetHeirsModel", name := "nights", desc := "()I" } : Jvm.MethodName)) ∈ lw_all := lw_g (lw_at lw_m11 15 rfl) rfl
theorem q2531 : (Jvm.Cond.code ({ cls := "PuppetHeirsModel", name := "nights", desc := "()I" } : Jvm.MethodName) prog_22_method_112_code (1 : Nat) (Option.some Jvm.ClassFile.FieldType.int)) ∈ lw_all := lw_g (lw_at lw_m11 16 rfl) rfl
theorem q2532 : (Jvm.Cond.methodLink "PuppetHeirsModel" (430 : Nat) ({ cls := "PuppetHeirsModel", name := "nightsNow", desc := "()I" } : Jvm.MethodName)) ∈ lw_all := lw_g (lw_at lw_m11 17 rfl) rfl
theorem q2533 : (Jvm.Cond.privateMethod ({ cls := "PuppetHeirsModel", name := "nightsNow", desc := "()I" } : Jvm.MethodName)) ∈ lw_tbl := lw_at lw_m11 18 rfl
theorem q2534 : (Jvm.Cond.instanceMethod ({ cls := "PuppetHeirsModel", name := "nightsNow", desc := "()I" } : Jvm.MethodName)) ∈ lw_all := lw_g (lw_at lw_m11 19 rfl) rfl
theorem q2535 : (Jvm.Cond.code ({ cls := "PuppetHeirsModel", name := "nightsNow", desc := "()I" } : Jvm.MethodName) prog_22_method_111_code (3 : Nat) (Option.some Jvm.ClassFile.FieldType.int)) ∈ lw_all := lw_g (lw_at lw_m11 20 rfl) rfl
theorem q2536 : (Jvm.Cond.methodLink "PuppetHeirsModel" (427 : Nat) ({ cls := "PuppetHeirsModel", name := "sits", desc := "(III)Z" } : Jvm.MethodName)) ∈ lw_all := lw_g (lw_at lw_m11 21 rfl) rfl
theorem q2537 : (Jvm.Cond.privateMethod ({ cls := "PuppetHeirsModel", name := "sits", desc := "(III)Z" } : Jvm.MethodName)) ∈ lw_tbl := lw_at lw_m11 22 rfl
theorem q2538 : (Jvm.Cond.instanceMethod ({ cls := "PuppetHeirsModel", name := "sits", desc := "(III)Z" } : Jvm.MethodName)) ∈ lw_all := lw_g (lw_at lw_m11 23 rfl) rfl
theorem q2539 : (Jvm.Cond.code ({ cls := "PuppetHeirsModel", name := "sits", desc := "(III)Z" } : Jvm.MethodName) prog_22_method_110_code (7 : Nat) (Option.some Jvm.ClassFile.FieldType.boolean)) ∈ lw_all := lw_g (lw_at lw_m11 24 rfl) rfl
theorem q2541 : (Jvm.Cond.instanceMethod ({ cls := "PuppetHeirsModel", name := "night", desc := "(I)I" } : Jvm.MethodName)) ∈ lw_all := lw_g (lw_at lw_m11 26 rfl) rfl
theorem q2542 : (Jvm.Cond.selects "PuppetHeirsModel" ({ cls := "PuppetHeirsModel", name := "night", desc := "(I)I" } : Jvm.MethodName) ({ cls := "PuppetHeirsModel", name := "night", desc := "(I)I" } : Jvm.MethodName)) ∈ lw_all := lw_g (lw_at lw_m11 27 rfl) rfl
theorem q2543 : (Jvm.Cond.code ({ cls := "PuppetHeirsModel", name := "night", desc := "(I)I" } : Jvm.MethodName) prog_22_method_113_code (2 : Nat) (Option.some Jvm.ClassFile.FieldType.int)) ∈ lw_all := lw_g (lw_at lw_m11 28 rfl) rfl
theorem q2545 : (Jvm.Cond.instanceMethod ({ cls := "PuppetHeirsModel", name := "speaks", desc := "()I" } : Jvm.MethodName)) ∈ lw_all := lw_g (lw_at lw_m11 30 rfl) rfl
theorem q2546 : (Jvm.Cond.selects "PuppetHeirsModel" ({ cls := "PuppetHeirsModel", name := "speaks", desc := "()I" } : Jvm.MethodName) ({ cls := "PuppetHeirsModel", name := "speaks", desc := "()I" } : Jvm.MethodName)) ∈ lw_all := lw_g (lw_at lw_m11 31 rfl) rfl
theorem q2547 : (Jvm.Cond.code ({ cls := "PuppetHeirsModel", name := "speaks", desc := "()I" } : Jvm.MethodName) prog_22_method_114_code (4 : Nat) (Option.some Jvm.ClassFile.FieldType.int)) ∈ lw_all := lw_g (lw_at lw_m11 32 rfl) rfl
theorem q2549 : (Jvm.Cond.instanceMethod ({ cls := "PuppetHeirsModel", name := "fair", desc := "(I)I" } : Jvm.MethodName)) ∈ lw_all := lw_g (lw_at lw_m11 34 rfl) rfl
theorem q2550 : (Jvm.Cond.selects "PuppetHeirsModel" ({ cls := "PuppetHeirsModel", name := "fair", desc := "(I)I" } : Jvm.MethodName) ({ cls := "PuppetHeirsModel", name := "fair", desc := "(I)I" } : Jvm.MethodName)) ∈ lw_all := lw_g (lw_at lw_m11 35 rfl) rfl
theorem q2551 : (Jvm.Cond.code ({ cls := "PuppetHeirsModel", name := "fair", desc := "(I)I" } : Jvm.MethodName) prog_22_method_115_code (6 : Nat) (Option.some Jvm.ClassFile.FieldType.int)) ∈ lw_all := lw_g (lw_at lw_m11 36 rfl) rfl
theorem q2553 : (Jvm.Cond.instanceMethod ({ cls := "PuppetHeirsModel", name := "gets", desc := "(III)I" } : Jvm.MethodName)) ∈ lw_all := lw_g (lw_at lw_m11 38 rfl) rfl
theorem q2554 : (Jvm.Cond.selects "PuppetHeirsModel" ({ cls := "PuppetHeirsModel", name := "gets", desc := "(III)I" } : Jvm.MethodName) ({ cls := "PuppetHeirsModel", name := "gets", desc := "(III)I" } : Jvm.MethodName)) ∈ lw_all := lw_g (lw_at lw_m11 39 rfl) rfl
theorem q2555 : (Jvm.Cond.code ({ cls := "PuppetHeirsModel", name := "gets", desc := "(III)I" } : Jvm.MethodName) prog_22_method_118_code (6 : Nat) (Option.some Jvm.ClassFile.FieldType.int)) ∈ lw_all := lw_g (lw_at lw_m11 40 rfl) rfl
theorem q2556 : (Jvm.Cond.methodLink "PuppetHeirsModel" (436 : Nat) ({ cls := "PuppetHeirsModel", name := "claimsTo", desc := "(I)I" } : Jvm.MethodName)) ∈ lw_all := lw_g (lw_at lw_m11 41 rfl) rfl
theorem q2557 : (Jvm.Cond.privateMethod ({ cls := "PuppetHeirsModel", name := "claimsTo", desc := "(I)I" } : Jvm.MethodName)) ∈ lw_tbl := lw_at lw_m11 42 rfl
theorem q2558 : (Jvm.Cond.instanceMethod ({ cls := "PuppetHeirsModel", name := "claimsTo", desc := "(I)I" } : Jvm.MethodName)) ∈ lw_all := lw_g (lw_at lw_m11 43 rfl) rfl
theorem q2559 : (Jvm.Cond.code ({ cls := "PuppetHeirsModel", name := "claimsTo", desc := "(I)I" } : Jvm.MethodName) prog_22_method_117_code (4 : Nat) (Option.some Jvm.ClassFile.FieldType.int)) ∈ lw_all := lw_g (lw_at lw_m11 44 rfl) rfl
theorem q2560 : (Jvm.Cond.methodLink "PuppetHeirsModel" (433 : Nat) ({ cls := "PuppetHeirsModel", name := "claimOf", desc := "(I)I" } : Jvm.MethodName)) ∈ lw_all := lw_g (lw_at lw_m11 45 rfl) rfl
theorem q2561 : (Jvm.Cond.privateMethod ({ cls := "PuppetHeirsModel", name := "claimOf", desc := "(I)I" } : Jvm.MethodName)) ∈ lw_tbl := lw_at lw_m11 46 rfl
theorem q2562 : (Jvm.Cond.instanceMethod ({ cls := "PuppetHeirsModel", name := "claimOf", desc := "(I)I" } : Jvm.MethodName)) ∈ lw_all := lw_g (lw_at lw_m11 47 rfl) rfl
theorem q2563 : (Jvm.Cond.code ({ cls := "PuppetHeirsModel", name := "claimOf", desc := "(I)I" } : Jvm.MethodName) prog_22_method_116_code (4 : Nat) (Option.some Jvm.ClassFile.FieldType.int)) ∈ lw_all := lw_g (lw_at lw_m11 48 rfl) rfl
theorem q2565 : (Jvm.Cond.instanceMethod ({ cls := "PuppetHeirsModel", name := "owes", desc := "(II)I" } : Jvm.MethodName)) ∈ lw_all := lw_g (lw_at lw_m11 50 rfl) rfl
theorem q2566 : (Jvm.Cond.selects "PuppetHeirsModel" ({ cls := "PuppetHeirsModel", name := "owes", desc := "(II)I" } : Jvm.MethodName) ({ cls := "PuppetHeirsModel", name := "owes", desc := "(II)I" } : Jvm.MethodName)) ∈ lw_all := lw_g (lw_at lw_m11 51 rfl) rfl
theorem q2567 : (Jvm.Cond.code ({ cls := "PuppetHeirsModel", name := "owes", desc := "(II)I" } : Jvm.MethodName) prog_22_method_119_code (3 : Nat) (Option.some Jvm.ClassFile.FieldType.int)) ∈ lw_all := lw_g (lw_at lw_m11 52 rfl) rfl
theorem q2569 : (Jvm.Cond.instanceMethod ({ cls := "PuppetHeirsModel", name := "net", desc := "(I)I" } : Jvm.MethodName)) ∈ lw_all := lw_g (lw_at lw_m11 54 rfl) rfl
theorem q2570 : (Jvm.Cond.selects "PuppetHeirsModel" ({ cls := "PuppetHeirsModel", name := "net", desc := "(I)I" } : Jvm.MethodName) ({ cls := "PuppetHeirsModel", name := "net", desc := "(I)I" } : Jvm.MethodName)) ∈ lw_all := lw_g (lw_at lw_m11 55 rfl) rfl
theorem q2571 : (Jvm.Cond.code ({ cls := "PuppetHeirsModel", name := "net", desc := "(I)I" } : Jvm.MethodName) prog_22_method_121_code (2 : Nat) (Option.some Jvm.ClassFile.FieldType.int)) ∈ lw_all := lw_g (lw_at lw_m11 56 rfl) rfl
theorem q2572 : (Jvm.Cond.methodLink "PuppetHeirsModel" (439 : Nat) ({ cls := "PuppetHeirsModel", name := "netOf", desc := "(I)I" } : Jvm.MethodName)) ∈ lw_all := lw_g (lw_at lw_m11 57 rfl) rfl
theorem q2573 : (Jvm.Cond.privateMethod ({ cls := "PuppetHeirsModel", name := "netOf", desc := "(I)I" } : Jvm.MethodName)) ∈ lw_tbl := lw_at lw_m11 58 rfl
theorem q2574 : (Jvm.Cond.instanceMethod ({ cls := "PuppetHeirsModel", name := "netOf", desc := "(I)I" } : Jvm.MethodName)) ∈ lw_all := lw_g (lw_at lw_m11 59 rfl) rfl
theorem q2575 : (Jvm.Cond.code ({ cls := "PuppetHeirsModel", name := "netOf", desc := "(I)I" } : Jvm.MethodName) prog_22_method_120_code (4 : Nat) (Option.some Jvm.ClassFile.FieldType.int)) ∈ lw_all := lw_g (lw_at lw_m11 60 rfl) rfl
theorem q2577 : (Jvm.Cond.instanceMethod ({ cls := "PuppetHeirsModel", name := "first", desc := "(I)I" } : Jvm.MethodName)) ∈ lw_all := lw_g (lw_at lw_m11 62 rfl) rfl
theorem q2578 : (Jvm.Cond.selects "PuppetHeirsModel" ({ cls := "PuppetHeirsModel", name := "first", desc := "(I)I" } : Jvm.MethodName) ({ cls := "PuppetHeirsModel", name := "first", desc := "(I)I" } : Jvm.MethodName)) ∈ lw_all := lw_g (lw_at lw_m11 63 rfl) rfl
theorem q2579 : (Jvm.Cond.code ({ cls := "PuppetHeirsModel", name := "first", desc := "(I)I" } : Jvm.MethodName) prog_22_method_122_code (4 : Nat) (Option.some Jvm.ClassFile.FieldType.int)) ∈ lw_all := lw_g (lw_at lw_m11 64 rfl) rfl
theorem q2581 : (Jvm.Cond.instanceMethod ({ cls := "PuppetHeirsModel", name := "orphans", desc := "()I" } : Jvm.MethodName)) ∈ lw_all := lw_g (lw_at lw_m11 66 rfl) rfl
theorem q2582 : (Jvm.Cond.selects "PuppetHeirsModel" ({ cls := "PuppetHeirsModel", name := "orphans", desc := "()I" } : Jvm.MethodName) ({ cls := "PuppetHeirsModel", name := "orphans", desc := "()I" } : Jvm.MethodName)) ∈ lw_all := lw_g (lw_at lw_m11 67 rfl) rfl
theorem q2583 : (Jvm.Cond.code ({ cls := "PuppetHeirsModel", name := "orphans", desc := "()I" } : Jvm.MethodName) prog_22_method_123_code (3 : Nat) (Option.some Jvm.ClassFile.FieldType.int)) ∈ lw_all := lw_g (lw_at lw_m11 68 rfl) rfl
theorem q2585 : (Jvm.Cond.instanceMethod ({ cls := "PuppetHeirsModel", name := "idle", desc := "()I" } : Jvm.MethodName)) ∈ lw_all := lw_g (lw_at lw_m11 70 rfl) rfl
theorem q2586 : (Jvm.Cond.selects "PuppetHeirsModel" ({ cls := "PuppetHeirsModel", name := "idle", desc := "()I" } : Jvm.MethodName) ({ cls := "PuppetHeirsModel", name := "idle", desc := "()I" } : Jvm.MethodName)) ∈ lw_all := lw_g (lw_at lw_m11 71 rfl) rfl
theorem q2587 : (Jvm.Cond.code ({ cls := "PuppetHeirsModel", name := "idle", desc := "()I" } : Jvm.MethodName) prog_22_method_124_code (3 : Nat) (Option.some Jvm.ClassFile.FieldType.int)) ∈ lw_all := lw_g (lw_at lw_m11 72 rfl) rfl
theorem q2589 : (Jvm.Cond.instanceMethod ({ cls := "PuppetHeirsModel", name := "mute", desc := "()I" } : Jvm.MethodName)) ∈ lw_all := lw_g (lw_at lw_m11 74 rfl) rfl
theorem q2590 : (Jvm.Cond.selects "PuppetHeirsModel" ({ cls := "PuppetHeirsModel", name := "mute", desc := "()I" } : Jvm.MethodName) ({ cls := "PuppetHeirsModel", name := "mute", desc := "()I" } : Jvm.MethodName)) ∈ lw_all := lw_g (lw_at lw_m11 75 rfl) rfl
theorem q2591 : (Jvm.Cond.code ({ cls := "PuppetHeirsModel", name := "mute", desc := "()I" } : Jvm.MethodName) prog_22_method_125_code (3 : Nat) (Option.some Jvm.ClassFile.FieldType.int)) ∈ lw_all := lw_g (lw_at lw_m11 76 rfl) rfl
theorem q2593 : (Jvm.Cond.instanceMethod ({ cls := "PuppetHeirsModel", name := "slack", desc := "(I)I" } : Jvm.MethodName)) ∈ lw_all := lw_g (lw_at lw_m11 78 rfl) rfl
theorem q2594 : (Jvm.Cond.selects "PuppetHeirsModel" ({ cls := "PuppetHeirsModel", name := "slack", desc := "(I)I" } : Jvm.MethodName) ({ cls := "PuppetHeirsModel", name := "slack", desc := "(I)I" } : Jvm.MethodName)) ∈ lw_all := lw_g (lw_at lw_m11 79 rfl) rfl
theorem q2595 : (Jvm.Cond.code ({ cls := "PuppetHeirsModel", name := "slack", desc := "(I)I" } : Jvm.MethodName) prog_22_method_126_code (4 : Nat) (Option.some Jvm.ClassFile.FieldType.int)) ∈ lw_all := lw_g (lw_at lw_m11 80 rfl) rfl
theorem q2597 : (Jvm.Cond.instanceMethod ({ cls := "PuppetHeirsModel", name := "fates", desc := "(IIII)I" } : Jvm.MethodName)) ∈ lw_all := lw_g (lw_at lw_m11 82 rfl) rfl
theorem q2598 : (Jvm.Cond.selects "PuppetHeirsModel" ({ cls := "PuppetHeirsModel", name := "fates", desc := "(IIII)I" } : Jvm.MethodName) ({ cls := "PuppetHeirsModel", name := "fates", desc := "(IIII)I" } : Jvm.MethodName)) ∈ lw_all := lw_g (lw_at lw_m11 83 rfl) rfl
theorem q2599 : (Jvm.Cond.code ({ cls := "PuppetHeirsModel", name := "fates", desc := "(IIII)I" } : Jvm.MethodName) prog_22_method_128_code (7 : Nat) (Option.some Jvm.ClassFile.FieldType.int)) ∈ lw_all := lw_g (lw_at lw_m11 84 rfl) rfl
theorem q2600 : (Jvm.Cond.methodLink "PuppetHeirsModel" (442 : Nat) ({ cls := "PuppetHeirsModel", name := "fatesBy", desc := "(III)V" } : Jvm.MethodName)) ∈ lw_all := lw_g (lw_at lw_m11 85 rfl) rfl
theorem q2601 : (Jvm.Cond.privateMethod ({ cls := "PuppetHeirsModel", name := "fatesBy", desc := "(III)V" } : Jvm.MethodName)) ∈ lw_tbl := lw_at lw_m11 86 rfl
theorem q2602 : (Jvm.Cond.instanceMethod ({ cls := "PuppetHeirsModel", name := "fatesBy", desc := "(III)V" } : Jvm.MethodName)) ∈ lw_all := lw_g (lw_at lw_m11 87 rfl) rfl
theorem q2603 : (Jvm.Cond.code ({ cls := "PuppetHeirsModel", name := "fatesBy", desc := "(III)V" } : Jvm.MethodName) prog_22_method_127_code (5 : Nat) (Option.none : Option Jvm.ClassFile.FieldType)) ∈ lw_all := lw_g (lw_at lw_m11 88 rfl) rfl
theorem q2605 : (Jvm.Cond.instanceMethod ({ cls := "PuppetHeirsModel", name := "span", desc := "(IIIIII)I" } : Jvm.MethodName)) ∈ lw_all := lw_g (lw_at lw_m11 90 rfl) rfl
theorem q2606 : (Jvm.Cond.selects "PuppetHeirsModel" ({ cls := "PuppetHeirsModel", name := "span", desc := "(IIIIII)I" } : Jvm.MethodName) ({ cls := "PuppetHeirsModel", name := "span", desc := "(IIIIII)I" } : Jvm.MethodName)) ∈ lw_all := lw_g (lw_at lw_m11 91 rfl) rfl
theorem q2607 : (Jvm.Cond.code ({ cls := "PuppetHeirsModel", name := "span", desc := "(IIIIII)I" } : Jvm.MethodName) prog_22_method_129_code (12 : Nat) (Option.some Jvm.ClassFile.FieldType.int)) ∈ lw_all := lw_g (lw_at lw_m11 92 rfl) rfl
theorem q2609 : (Jvm.Cond.instanceMethod ({ cls := "PuppetHeirsModel", name := "image", desc := "()I" } : Jvm.MethodName)) ∈ lw_all := lw_g (lw_at lw_m11 94 rfl) rfl
theorem q2610 : (Jvm.Cond.selects "PuppetHeirsModel" ({ cls := "PuppetHeirsModel", name := "image", desc := "()I" } : Jvm.MethodName) ({ cls := "PuppetHeirsModel", name := "image", desc := "()I" } : Jvm.MethodName)) ∈ lw_all := lw_g (lw_at lw_m11 95 rfl) rfl
theorem q2611 : (Jvm.Cond.code ({ cls := "PuppetHeirsModel", name := "image", desc := "()I" } : Jvm.MethodName) prog_22_method_130_code (1 : Nat) (Option.some Jvm.ClassFile.FieldType.int)) ∈ lw_all := lw_g (lw_at lw_m11 96 rfl) rfl
theorem q2613 : (Jvm.Cond.instanceMethod ({ cls := "PuppetHeirsModel", name := "restore", desc := "()I" } : Jvm.MethodName)) ∈ lw_all := lw_g (lw_at lw_m11 98 rfl) rfl
theorem q2614 : (Jvm.Cond.selects "PuppetHeirsModel" ({ cls := "PuppetHeirsModel", name := "restore", desc := "()I" } : Jvm.MethodName) ({ cls := "PuppetHeirsModel", name := "restore", desc := "()I" } : Jvm.MethodName)) ∈ lw_all := lw_g (lw_at lw_m11 99 rfl) rfl
theorem q2615 : (Jvm.Cond.code ({ cls := "PuppetHeirsModel", name := "restore", desc := "()I" } : Jvm.MethodName) prog_22_method_131_code (1 : Nat) (Option.some Jvm.ClassFile.FieldType.int)) ∈ lw_all := lw_g (lw_at lw_m11 100 rfl) rfl
theorem q2617 : (Jvm.Cond.instanceMethod ({ cls := "PuppetHeirsModel", name := "status", desc := "(I)I" } : Jvm.MethodName)) ∈ lw_all := lw_g (lw_at lw_m11 102 rfl) rfl
theorem q2618 : (Jvm.Cond.selects "PuppetHeirsModel" ({ cls := "PuppetHeirsModel", name := "status", desc := "(I)I" } : Jvm.MethodName) ({ cls := "PuppetHeirsModel", name := "status", desc := "(I)I" } : Jvm.MethodName)) ∈ lw_all := lw_g (lw_at lw_m11 103 rfl) rfl
theorem q2619 : (Jvm.Cond.code ({ cls := "PuppetHeirsModel", name := "status", desc := "(I)I" } : Jvm.MethodName) prog_22_method_132_code (2 : Nat) (Option.some Jvm.ClassFile.FieldType.int)) ∈ lw_all := lw_g (lw_at lw_m11 104 rfl) rfl
theorem q2621 : (Jvm.Cond.instanceMethod ({ cls := "PuppetHeirsModel", name := "count", desc := "(I)I" } : Jvm.MethodName)) ∈ lw_all := lw_g (lw_at lw_m11 106 rfl) rfl
theorem q2622 : (Jvm.Cond.selects "PuppetHeirsModel" ({ cls := "PuppetHeirsModel", name := "count", desc := "(I)I" } : Jvm.MethodName) ({ cls := "PuppetHeirsModel", name := "count", desc := "(I)I" } : Jvm.MethodName)) ∈ lw_all := lw_g (lw_at lw_m11 107 rfl) rfl
theorem q2623 : (Jvm.Cond.code ({ cls := "PuppetHeirsModel", name := "count", desc := "(I)I" } : Jvm.MethodName) prog_22_method_133_code (2 : Nat) (Option.some Jvm.ClassFile.FieldType.int)) ∈ lw_all := lw_g (lw_at lw_m11 108 rfl) rfl
theorem q2657 : (Jvm.Cond.castable "PuppetHeirsModel" "java/lang/Object") ∈ lw_tbl := lw_at lw_m11 142 rfl
theorem in_X11 : ∀ w ∈ wsX110, w ∈ lw_all := lw_in wsX110 [2011, 2013, 2015, 2017, 2019, 2021, 2023, 2025, 2027, 2029, 2031, 2033, 2035, 2037, 2039, 2041, 2043, 2045, 2047, 2049, 2051, 2053, 2055, 2057, 2059, 2061, 2063, 2065, 2067, 2069, 2071, 2073, 2075, 2077, 2079, 2081, 2083, 2085, 2087, 2089, 2091, 2093, 2095, 2097, 2099, 2101, 2103, 2105, 2107, 2109, 2111, 2113, 2115, 2117, 2119, 2121] (by decide +kernel) (by decide +kernel)
