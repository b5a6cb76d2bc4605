/-! PuppetHeirs -/
set_option maxRecDepth 100000
def RX1 : String := "PuppetHeirs"
def TX1 : u_T := fun k => match k with
  | 0 => ("PuppetHeirs", "told", "LPuppetHeirs$Told;", false)
  | 1 => ("PuppetHeirs", "law", "LPuppetHeirs$Term;", false)
  | 2 => ("PuppetHeirs", "facts", "[I", true)
  | 3 => ("PuppetHeirs", "lines", "[I", true)
  | 4 => ("PuppetHeirs", "refused", "[I", true)
  | 5 => ("PuppetHeirs", "now", "LPuppetHeirs$Troupe;", true)
  | 6 => ("PuppetHeirs", "base", "LPuppetHeirs$Troupe;", true)
  | 7 => ("PuppetHeirs", "probe", "LPuppetHeirs$Troupe;", true)
  | 8 => ("PuppetHeirs", "images", "[LPuppetHeirs$Troupe;", true)
  | 9 => ("PuppetHeirs", "otherHand", "I", false)
  | 10 => ("PuppetHeirs", "otherLimp", "I", false)
  | 11 => ("PuppetHeirs", "lineMany", "I", false)
  | 12 => ("PuppetHeirs", "seedNow", "I", false)
  | 13 => ("PuppetHeirs", "taped", "I", false)
  | 14 => ("PuppetHeirs", "faultAt", "I", false)
  | 15 => ("PuppetHeirs", "imageMany", "I", false)
  | 16 => ("PuppetHeirs", "tape", "[B", true)
  | 17 => ("PuppetHeirs", "castNow", "[I", true)
  | 18 => ("PuppetHeirs", "castFirst", "[I", true)
  | 19 => ("PuppetHeirs", "castMany", "I", false)
  | 20 => ("PuppetHeirs", "workedIn", "[I", true)
  | _ => ("PuppetHeirs", "nightOf", "[I", true)
def tyX1 : Nat → FieldType := fun k => match k with
  | 0 => .object "PuppetHeirs$Told"
  | 1 => .object "PuppetHeirs$Term"
  | 2 => .array .int
  | 3 => .array .int
  | 4 => .array .int
  | 5 => .object "PuppetHeirs$Troupe"
  | 6 => .object "PuppetHeirs$Troupe"
  | 7 => .object "PuppetHeirs$Troupe"
  | 8 => .array (.object "PuppetHeirs$Troupe")
  | 9 => .int
  | 10 => .int
  | 11 => .int
  | 12 => .int
  | 13 => .int
  | 14 => .int
  | 15 => .int
  | 16 => .array .byte
  | 17 => .array .int
  | 18 => .array .int
  | 19 => .int
  | 20 => .array .int
  | _ => .array .int
abbrev wsX10 : List Cond := u_ws RX1 TX1 22
set_option maxRecDepth 100000 in
theorem nmX1 : ∀ a, a < 22 → ∀ b, b < 22 → a ≠ b → (TX1 a).2.1 ≠ (TX1 b).2.1 := by decide +kernel
set_option maxRecDepth 100000 in
theorem tyX1_ok : ∀ k, k < 22 → parseFieldDescriptor (TX1 k).2.2.1 = some (tyX1 k) := by decide +kernel
abbrev cX1_init : ByteArray := prog_1_method_2_code
def yX1_init : MethodName := ⟨RX1, "<init>", "()V"⟩
def dkwX1_init_6 : List UInt8 := [42, 182, 0, 95, 177]
abbrev dktX1_init_6 : List UInt8 := dkwX1_init_6 ++ []
def dkwX1_init_5 : List UInt8 := [16, 6, 188, 10, 181, 0, 86, 42, 17, 1, 232, 188, 10, 181, 0, 89, 42, 16, 9, 188, 10, 181, 0, 92]
abbrev dktX1_init_5 : List UInt8 := dkwX1_init_5 ++ dktX1_init_6
def dkwX1_init_4 : List UInt8 := [42, 2, 181, 0, 76, 42, 17, 2, 88, 188, 8, 181, 0, 79, 42, 16, 6, 188, 10, 181, 0, 83, 42]
abbrev dktX1_init_4 : List UInt8 := dkwX1_init_4 ++ dktX1_init_5
def dkwX1_init_3 : List UInt8 := [187, 0, 53, 89, 42, 183, 0, 55, 181, 0, 65, 42, 6, 189, 0, 53, 181, 0, 68, 42, 2, 181, 0, 72]
abbrev dktX1_init_3 : List UInt8 := dkwX1_init_3 ++ dktX1_init_4
def dkwX1_init_2 : List UInt8 := [187, 0, 53, 89, 42, 183, 0, 55, 181, 0, 58, 42, 187, 0, 53, 89, 42, 183, 0, 55, 181, 0, 62, 42]
abbrev dktX1_init_2 : List UInt8 := dkwX1_init_2 ++ dktX1_init_3
def dkwX1_init_1 : List UInt8 := [16, 9, 188, 10, 181, 0, 43, 42, 16, 36, 188, 10, 181, 0, 47, 42, 5, 188, 10, 181, 0, 50, 42]
abbrev dktX1_init_1 : List UInt8 := dkwX1_init_1 ++ dktX1_init_2
def dkwX1_init_0 : List UInt8 := [42, 183, 0, 23, 42, 187, 0, 28, 89, 183, 0, 30, 181, 0, 31, 42, 184, 0, 35, 181, 0, 39, 42]
abbrev dktX1_init_0 : List UInt8 := dkwX1_init_0 ++ dktX1_init_1
theorem dksX1_init_0 : cX1_init.data.toList.drop 0 = dktX1_init_0 := by decide +kernel
theorem dksX1_init_1 : cX1_init.data.toList.drop 23 = dktX1_init_1 := dk_seg dksX1_init_0 23 rfl rfl
theorem dksX1_init_2 : cX1_init.data.toList.drop 46 = dktX1_init_2 := dk_seg dksX1_init_1 23 rfl rfl
theorem dksX1_init_3 : cX1_init.data.toList.drop 70 = dktX1_init_3 := dk_seg dksX1_init_2 24 rfl rfl
theorem dksX1_init_4 : cX1_init.data.toList.drop 94 = dktX1_init_4 := dk_seg dksX1_init_3 24 rfl rfl
theorem dksX1_init_5 : cX1_init.data.toList.drop 117 = dktX1_init_5 := dk_seg dksX1_init_4 23 rfl rfl
theorem dksX1_init_6 : cX1_init.data.toList.drop 141 = dktX1_init_6 := dk_seg dksX1_init_5 24 rfl rfl
theorem dX1_init_0 : decode cX1_init 0 = .ok (.aload_n 0, 1) := dk_42 (dk_at dksX1_init_0 0 rfl rfl)
theorem dX1_init_1 : decode cX1_init 1 = .ok (.invokespecial 23, 3) := dk_183 0 23 (dk_at dksX1_init_0 1 rfl rfl)
theorem dX1_init_4 : decode cX1_init 4 = .ok (.aload_n 0, 1) := dk_42 (dk_at dksX1_init_0 4 rfl rfl)
theorem dX1_init_5 : decode cX1_init 5 = .ok (.new 28, 3) := dk_187 0 28 (dk_at dksX1_init_0 5 rfl rfl)
theorem dX1_init_8 : decode cX1_init 8 = .ok (.dup, 1) := dk_89 (dk_at dksX1_init_0 8 rfl rfl)
theorem dX1_init_9 : decode cX1_init 9 = .ok (.invokespecial 30, 3) := dk_183 0 30 (dk_at dksX1_init_0 9 rfl rfl)
theorem dX1_init_12 : decode cX1_init 12 = .ok (.putfield 31, 3) := dk_181 0 31 (dk_at dksX1_init_0 12 rfl rfl)
theorem dX1_init_15 : decode cX1_init 15 = .ok (.aload_n 0, 1) := dk_42 (dk_at dksX1_init_0 15 rfl rfl)
theorem dX1_init_16 : decode cX1_init 16 = .ok (.invokestatic 35, 3) := dk_184 0 35 (dk_at dksX1_init_0 16 rfl rfl)
theorem dX1_init_19 : decode cX1_init 19 = .ok (.putfield 39, 3) := dk_181 0 39 (dk_at dksX1_init_0 19 rfl rfl)
theorem dX1_init_22 : decode cX1_init 22 = .ok (.aload_n 0, 1) := dk_42 (dk_at dksX1_init_0 22 rfl rfl)
theorem dX1_init_23 : decode cX1_init 23 = .ok (.bipush 9, 2) := dk_16 9 (dk_at dksX1_init_1 0 rfl rfl)
theorem dX1_init_25 : decode cX1_init 25 = .ok (.newarray .int, 2) := dk_188_10 (dk_at dksX1_init_1 2 rfl rfl)
theorem dX1_init_27 : decode cX1_init 27 = .ok (.putfield 43, 3) := dk_181 0 43 (dk_at dksX1_init_1 4 rfl rfl)
theorem dX1_init_30 : decode cX1_init 30 = .ok (.aload_n 0, 1) := dk_42 (dk_at dksX1_init_1 7 rfl rfl)
theorem dX1_init_31 : decode cX1_init 31 = .ok (.bipush 36, 2) := dk_16 36 (dk_at dksX1_init_1 8 rfl rfl)
theorem dX1_init_33 : decode cX1_init 33 = .ok (.newarray .int, 2) := dk_188_10 (dk_at dksX1_init_1 10 rfl rfl)
theorem dX1_init_35 : decode cX1_init 35 = .ok (.putfield 47, 3) := dk_181 0 47 (dk_at dksX1_init_1 12 rfl rfl)
theorem dX1_init_38 : decode cX1_init 38 = .ok (.aload_n 0, 1) := dk_42 (dk_at dksX1_init_1 15 rfl rfl)
theorem dX1_init_39 : decode cX1_init 39 = .ok (.iconst 2, 1) := dk_5 (dk_at dksX1_init_1 16 rfl rfl)
theorem dX1_init_40 : decode cX1_init 40 = .ok (.newarray .int, 2) := dk_188_10 (dk_at dksX1_init_1 17 rfl rfl)
theorem dX1_init_42 : decode cX1_init 42 = .ok (.putfield 50, 3) := dk_181 0 50 (dk_at dksX1_init_1 19 rfl rfl)
theorem dX1_init_45 : decode cX1_init 45 = .ok (.aload_n 0, 1) := dk_42 (dk_at dksX1_init_1 22 rfl rfl)
theorem dX1_init_46 : decode cX1_init 46 = .ok (.new 53, 3) := dk_187 0 53 (dk_at dksX1_init_2 0 rfl rfl)
theorem dX1_init_49 : decode cX1_init 49 = .ok (.dup, 1) := dk_89 (dk_at dksX1_init_2 3 rfl rfl)
theorem dX1_init_50 : decode cX1_init 50 = .ok (.aload_n 0, 1) := dk_42 (dk_at dksX1_init_2 4 rfl rfl)
theorem dX1_init_51 : decode cX1_init 51 = .ok (.invokespecial 55, 3) := dk_183 0 55 (dk_at dksX1_init_2 5 rfl rfl)
theorem dX1_init_54 : decode cX1_init 54 = .ok (.putfield 58, 3) := dk_181 0 58 (dk_at dksX1_init_2 8 rfl rfl)
theorem dX1_init_57 : decode cX1_init 57 = .ok (.aload_n 0, 1) := dk_42 (dk_at dksX1_init_2 11 rfl rfl)
theorem dX1_init_58 : decode cX1_init 58 = .ok (.new 53, 3) := dk_187 0 53 (dk_at dksX1_init_2 12 rfl rfl)
theorem dX1_init_61 : decode cX1_init 61 = .ok (.dup, 1) := dk_89 (dk_at dksX1_init_2 15 rfl rfl)
theorem dX1_init_62 : decode cX1_init 62 = .ok (.aload_n 0, 1) := dk_42 (dk_at dksX1_init_2 16 rfl rfl)
theorem dX1_init_63 : decode cX1_init 63 = .ok (.invokespecial 55, 3) := dk_183 0 55 (dk_at dksX1_init_2 17 rfl rfl)
theorem dX1_init_66 : decode cX1_init 66 = .ok (.putfield 62, 3) := dk_181 0 62 (dk_at dksX1_init_2 20 rfl rfl)
theorem dX1_init_69 : decode cX1_init 69 = .ok (.aload_n 0, 1) := dk_42 (dk_at dksX1_init_2 23 rfl rfl)
theorem dX1_init_70 : decode cX1_init 70 = .ok (.new 53, 3) := dk_187 0 53 (dk_at dksX1_init_3 0 rfl rfl)
theorem dX1_init_73 : decode cX1_init 73 = .ok (.dup, 1) := dk_89 (dk_at dksX1_init_3 3 rfl rfl)
theorem dX1_init_74 : decode cX1_init 74 = .ok (.aload_n 0, 1) := dk_42 (dk_at dksX1_init_3 4 rfl rfl)
theorem dX1_init_75 : decode cX1_init 75 = .ok (.invokespecial 55, 3) := dk_183 0 55 (dk_at dksX1_init_3 5 rfl rfl)
theorem dX1_init_78 : decode cX1_init 78 = .ok (.putfield 65, 3) := dk_181 0 65 (dk_at dksX1_init_3 8 rfl rfl)
theorem dX1_init_81 : decode cX1_init 81 = .ok (.aload_n 0, 1) := dk_42 (dk_at dksX1_init_3 11 rfl rfl)
theorem dX1_init_82 : decode cX1_init 82 = .ok (.iconst 3, 1) := dk_6 (dk_at dksX1_init_3 12 rfl rfl)
theorem dX1_init_83 : decode cX1_init 83 = .ok (.anewarray 53, 3) := dk_189 0 53 (dk_at dksX1_init_3 13 rfl rfl)
theorem dX1_init_86 : decode cX1_init 86 = .ok (.putfield 68, 3) := dk_181 0 68 (dk_at dksX1_init_3 16 rfl rfl)
theorem dX1_init_89 : decode cX1_init 89 = .ok (.aload_n 0, 1) := dk_42 (dk_at dksX1_init_3 19 rfl rfl)
theorem dX1_init_90 : decode cX1_init 90 = .ok (.iconst (-1), 1) := dk_2 (dk_at dksX1_init_3 20 rfl rfl)
theorem dX1_init_91 : decode cX1_init 91 = .ok (.putfield 72, 3) := dk_181 0 72 (dk_at dksX1_init_3 21 rfl rfl)
theorem dX1_init_94 : decode cX1_init 94 = .ok (.aload_n 0, 1) := dk_42 (dk_at dksX1_init_4 0 rfl rfl)
theorem dX1_init_95 : decode cX1_init 95 = .ok (.iconst (-1), 1) := dk_2 (dk_at dksX1_init_4 1 rfl rfl)
theorem dX1_init_96 : decode cX1_init 96 = .ok (.putfield 76, 3) := dk_181 0 76 (dk_at dksX1_init_4 2 rfl rfl)
theorem dX1_init_99 : decode cX1_init 99 = .ok (.aload_n 0, 1) := dk_42 (dk_at dksX1_init_4 5 rfl rfl)
theorem dX1_init_100 : decode cX1_init 100 = .ok (.sipush 600, 3) := dk_17 2 88 (dk_at dksX1_init_4 6 rfl rfl)
theorem dX1_init_103 : decode cX1_init 103 = .ok (.newarray .byte, 2) := dk_188_8 (dk_at dksX1_init_4 9 rfl rfl)
theorem dX1_init_105 : decode cX1_init 105 = .ok (.putfield 79, 3) := dk_181 0 79 (dk_at dksX1_init_4 11 rfl rfl)
theorem dX1_init_108 : decode cX1_init 108 = .ok (.aload_n 0, 1) := dk_42 (dk_at dksX1_init_4 14 rfl rfl)
theorem dX1_init_109 : decode cX1_init 109 = .ok (.bipush 6, 2) := dk_16 6 (dk_at dksX1_init_4 15 rfl rfl)
theorem dX1_init_111 : decode cX1_init 111 = .ok (.newarray .int, 2) := dk_188_10 (dk_at dksX1_init_4 17 rfl rfl)
theorem dX1_init_113 : decode cX1_init 113 = .ok (.putfield 83, 3) := dk_181 0 83 (dk_at dksX1_init_4 19 rfl rfl)
theorem dX1_init_116 : decode cX1_init 116 = .ok (.aload_n 0, 1) := dk_42 (dk_at dksX1_init_4 22 rfl rfl)
theorem dX1_init_117 : decode cX1_init 117 = .ok (.bipush 6, 2) := dk_16 6 (dk_at dksX1_init_5 0 rfl rfl)
theorem dX1_init_119 : decode cX1_init 119 = .ok (.newarray .int, 2) := dk_188_10 (dk_at dksX1_init_5 2 rfl rfl)
theorem dX1_init_121 : decode cX1_init 121 = .ok (.putfield 86, 3) := dk_181 0 86 (dk_at dksX1_init_5 4 rfl rfl)
theorem dX1_init_124 : decode cX1_init 124 = .ok (.aload_n 0, 1) := dk_42 (dk_at dksX1_init_5 7 rfl rfl)
theorem dX1_init_125 : decode cX1_init 125 = .ok (.sipush 488, 3) := dk_17 1 232 (dk_at dksX1_init_5 8 rfl rfl)
theorem dX1_init_128 : decode cX1_init 128 = .ok (.newarray .int, 2) := dk_188_10 (dk_at dksX1_init_5 11 rfl rfl)
theorem dX1_init_130 : decode cX1_init 130 = .ok (.putfield 89, 3) := dk_181 0 89 (dk_at dksX1_init_5 13 rfl rfl)
theorem dX1_init_133 : decode cX1_init 133 = .ok (.aload_n 0, 1) := dk_42 (dk_at dksX1_init_5 16 rfl rfl)
theorem dX1_init_134 : decode cX1_init 134 = .ok (.bipush 9, 2) := dk_16 9 (dk_at dksX1_init_5 17 rfl rfl)
theorem dX1_init_136 : decode cX1_init 136 = .ok (.newarray .int, 2) := dk_188_10 (dk_at dksX1_init_5 19 rfl rfl)
theorem dX1_init_138 : decode cX1_init 138 = .ok (.putfield 92, 3) := dk_181 0 92 (dk_at dksX1_init_5 21 rfl rfl)
theorem dX1_init_141 : decode cX1_init 141 = .ok (.aload_n 0, 1) := dk_42 (dk_at dksX1_init_6 0 rfl rfl)
theorem dX1_init_142 : decode cX1_init 142 = .ok (.invokevirtual 95, 3) := dk_182 0 95 (dk_at dksX1_init_6 1 rfl rfl)
theorem dX1_init_145 : decode cX1_init 145 = .ok (.return_, 1) := dk_177 (dk_at dksX1_init_6 4 rfl rfl)
abbrev cX1_custom : ByteArray := prog_1_method_1_code
def yX1_custom : MethodName := ⟨RX1, "custom", "()LPuppetHeirs$Term;"⟩
def dkwX1_custom_2 : List UInt8 := [183, 0, 17, 183, 0, 18, 183, 0, 21, 187, 0, 9, 89, 16, 8, 183, 0, 11, 183, 0, 22, 176]
abbrev dktX1_custom_2 : List UInt8 := dkwX1_custom_2 ++ []
def dkwX1_custom_1 : List UInt8 := [5, 183, 0, 17, 183, 0, 18, 187, 0, 7, 89, 187, 0, 9, 89, 6, 183, 0, 11, 187, 0, 15, 89, 6]
abbrev dktX1_custom_1 : List UInt8 := dkwX1_custom_1 ++ dktX1_custom_2
def dkwX1_custom_0 : List UInt8 := [187, 0, 3, 89, 187, 0, 5, 89, 187, 0, 7, 89, 187, 0, 9, 89, 3, 183, 0, 11, 187, 0, 15, 89]
abbrev dktX1_custom_0 : List UInt8 := dkwX1_custom_0 ++ dktX1_custom_1
theorem dksX1_custom_0 : cX1_custom.data.toList.drop 0 = dktX1_custom_0 := by decide +kernel
theorem dksX1_custom_1 : cX1_custom.data.toList.drop 24 = dktX1_custom_1 := dk_seg dksX1_custom_0 24 rfl rfl
theorem dksX1_custom_2 : cX1_custom.data.toList.drop 48 = dktX1_custom_2 := dk_seg dksX1_custom_1 24 rfl rfl
theorem dX1_custom_0 : decode cX1_custom 0 = .ok (.new 3, 3) := dk_187 0 3 (dk_at dksX1_custom_0 0 rfl rfl)
theorem dX1_custom_3 : decode cX1_custom 3 = .ok (.dup, 1) := dk_89 (dk_at dksX1_custom_0 3 rfl rfl)
theorem dX1_custom_4 : decode cX1_custom 4 = .ok (.new 5, 3) := dk_187 0 5 (dk_at dksX1_custom_0 4 rfl rfl)
theorem dX1_custom_7 : decode cX1_custom 7 = .ok (.dup, 1) := dk_89 (dk_at dksX1_custom_0 7 rfl rfl)
theorem dX1_custom_8 : decode cX1_custom 8 = .ok (.new 7, 3) := dk_187 0 7 (dk_at dksX1_custom_0 8 rfl rfl)
theorem dX1_custom_11 : decode cX1_custom 11 = .ok (.dup, 1) := dk_89 (dk_at dksX1_custom_0 11 rfl rfl)
theorem dX1_custom_12 : decode cX1_custom 12 = .ok (.new 9, 3) := dk_187 0 9 (dk_at dksX1_custom_0 12 rfl rfl)
theorem dX1_custom_15 : decode cX1_custom 15 = .ok (.dup, 1) := dk_89 (dk_at dksX1_custom_0 15 rfl rfl)
theorem dX1_custom_16 : decode cX1_custom 16 = .ok (.iconst 0, 1) := dk_3 (dk_at dksX1_custom_0 16 rfl rfl)
theorem dX1_custom_17 : decode cX1_custom 17 = .ok (.invokespecial 11, 3) := dk_183 0 11 (dk_at dksX1_custom_0 17 rfl rfl)
theorem dX1_custom_20 : decode cX1_custom 20 = .ok (.new 15, 3) := dk_187 0 15 (dk_at dksX1_custom_0 20 rfl rfl)
theorem dX1_custom_23 : decode cX1_custom 23 = .ok (.dup, 1) := dk_89 (dk_at dksX1_custom_0 23 rfl rfl)
theorem dX1_custom_24 : decode cX1_custom 24 = .ok (.iconst 2, 1) := dk_5 (dk_at dksX1_custom_1 0 rfl rfl)
theorem dX1_custom_25 : decode cX1_custom 25 = .ok (.invokespecial 17, 3) := dk_183 0 17 (dk_at dksX1_custom_1 1 rfl rfl)
theorem dX1_custom_28 : decode cX1_custom 28 = .ok (.invokespecial 18, 3) := dk_183 0 18 (dk_at dksX1_custom_1 4 rfl rfl)
theorem dX1_custom_31 : decode cX1_custom 31 = .ok (.new 7, 3) := dk_187 0 7 (dk_at dksX1_custom_1 7 rfl rfl)
theorem dX1_custom_34 : decode cX1_custom 34 = .ok (.dup, 1) := dk_89 (dk_at dksX1_custom_1 10 rfl rfl)
theorem dX1_custom_35 : decode cX1_custom 35 = .ok (.new 9, 3) := dk_187 0 9 (dk_at dksX1_custom_1 11 rfl rfl)
theorem dX1_custom_38 : decode cX1_custom 38 = .ok (.dup, 1) := dk_89 (dk_at dksX1_custom_1 14 rfl rfl)
theorem dX1_custom_39 : decode cX1_custom 39 = .ok (.iconst 3, 1) := dk_6 (dk_at dksX1_custom_1 15 rfl rfl)
theorem dX1_custom_40 : decode cX1_custom 40 = .ok (.invokespecial 11, 3) := dk_183 0 11 (dk_at dksX1_custom_1 16 rfl rfl)
theorem dX1_custom_43 : decode cX1_custom 43 = .ok (.new 15, 3) := dk_187 0 15 (dk_at dksX1_custom_1 19 rfl rfl)
theorem dX1_custom_46 : decode cX1_custom 46 = .ok (.dup, 1) := dk_89 (dk_at dksX1_custom_1 22 rfl rfl)
theorem dX1_custom_47 : decode cX1_custom 47 = .ok (.iconst 3, 1) := dk_6 (dk_at dksX1_custom_1 23 rfl rfl)
theorem dX1_custom_48 : decode cX1_custom 48 = .ok (.invokespecial 17, 3) := dk_183 0 17 (dk_at dksX1_custom_2 0 rfl rfl)
theorem dX1_custom_51 : decode cX1_custom 51 = .ok (.invokespecial 18, 3) := dk_183 0 18 (dk_at dksX1_custom_2 3 rfl rfl)
theorem dX1_custom_54 : decode cX1_custom 54 = .ok (.invokespecial 21, 3) := dk_183 0 21 (dk_at dksX1_custom_2 6 rfl rfl)
theorem dX1_custom_57 : decode cX1_custom 57 = .ok (.new 9, 3) := dk_187 0 9 (dk_at dksX1_custom_2 9 rfl rfl)
theorem dX1_custom_60 : decode cX1_custom 60 = .ok (.dup, 1) := dk_89 (dk_at dksX1_custom_2 12 rfl rfl)
theorem dX1_custom_61 : decode cX1_custom 61 = .ok (.bipush 8, 2) := dk_16 8 (dk_at dksX1_custom_2 13 rfl rfl)
theorem dX1_custom_63 : decode cX1_custom 63 = .ok (.invokespecial 11, 3) := dk_183 0 11 (dk_at dksX1_custom_2 15 rfl rfl)
theorem dX1_custom_66 : decode cX1_custom 66 = .ok (.invokespecial 22, 3) := dk_183 0 22 (dk_at dksX1_custom_2 18 rfl rfl)
theorem dX1_custom_69 : decode cX1_custom 69 = .ok (.areturn, 1) := dk_176 (dk_at dksX1_custom_2 21 rfl rfl)
abbrev cX1_begins : ByteArray := prog_1_method_3_code
def yX1_begins : MethodName := ⟨RX1, "begins", "()V"⟩
def dkwX1_begins_1 : List UInt8 := [42, 3, 181, 0, 107, 177]
abbrev dktX1_begins_1 : List UInt8 := dkwX1_begins_1 ++ []
def dkwX1_begins_0 : List UInt8 := [42, 184, 0, 35, 181, 0, 39, 42, 180, 0, 58, 182, 0, 98, 87, 42, 182, 0, 101, 42, 3, 181, 0, 104]
abbrev dktX1_begins_0 : List UInt8 := dkwX1_begins_0 ++ dktX1_begins_1
theorem dksX1_begins_0 : cX1_begins.data.toList.drop 0 = dktX1_begins_0 := by decide +kernel
theorem dksX1_begins_1 : cX1_begins.data.toList.drop 24 = dktX1_begins_1 := dk_seg dksX1_begins_0 24 rfl rfl
theorem dX1_begins_0 : decode cX1_begins 0 = .ok (.aload_n 0, 1) := dk_42 (dk_at dksX1_begins_0 0 rfl rfl)
theorem dX1_begins_1 : decode cX1_begins 1 = .ok (.invokestatic 35, 3) := dk_184 0 35 (dk_at dksX1_begins_0 1 rfl rfl)
theorem dX1_begins_4 : decode cX1_begins 4 = .ok (.putfield 39, 3) := dk_181 0 39 (dk_at dksX1_begins_0 4 rfl rfl)
theorem dX1_begins_7 : decode cX1_begins 7 = .ok (.aload_n 0, 1) := dk_42 (dk_at dksX1_begins_0 7 rfl rfl)
theorem dX1_begins_8 : decode cX1_begins 8 = .ok (.getfield 58, 3) := dk_180 0 58 (dk_at dksX1_begins_0 8 rfl rfl)
theorem dX1_begins_11 : decode cX1_begins 11 = .ok (.invokevirtual 98, 3) := dk_182 0 98 (dk_at dksX1_begins_0 11 rfl rfl)
theorem dX1_begins_14 : decode cX1_begins 14 = .ok (.pop, 1) := dk_87 (dk_at dksX1_begins_0 14 rfl rfl)
theorem dX1_begins_15 : decode cX1_begins 15 = .ok (.aload_n 0, 1) := dk_42 (dk_at dksX1_begins_0 15 rfl rfl)
theorem dX1_begins_16 : decode cX1_begins 16 = .ok (.invokevirtual 101, 3) := dk_182 0 101 (dk_at dksX1_begins_0 16 rfl rfl)
theorem dX1_begins_19 : decode cX1_begins 19 = .ok (.aload_n 0, 1) := dk_42 (dk_at dksX1_begins_0 19 rfl rfl)
theorem dX1_begins_20 : decode cX1_begins 20 = .ok (.iconst 0, 1) := dk_3 (dk_at dksX1_begins_0 20 rfl rfl)
theorem dX1_begins_21 : decode cX1_begins 21 = .ok (.putfield 104, 3) := dk_181 0 104 (dk_at dksX1_begins_0 21 rfl rfl)
theorem dX1_begins_24 : decode cX1_begins 24 = .ok (.aload_n 0, 1) := dk_42 (dk_at dksX1_begins_1 0 rfl rfl)
theorem dX1_begins_25 : decode cX1_begins 25 = .ok (.iconst 0, 1) := dk_3 (dk_at dksX1_begins_1 1 rfl rfl)
theorem dX1_begins_26 : decode cX1_begins 26 = .ok (.putfield 107, 3) := dk_181 0 107 (dk_at dksX1_begins_1 2 rfl rfl)
theorem dX1_begins_29 : decode cX1_begins 29 = .ok (.return_, 1) := dk_177 (dk_at dksX1_begins_1 5 rfl rfl)
abbrev cX1_keepsBase : ByteArray := prog_1_method_4_code
def yX1_keepsBase : MethodName := ⟨RX1, "keepsBase", "()V"⟩
def dkwX1_keepsBase_0 : List UInt8 := [42, 180, 0, 62, 42, 180, 0, 58, 182, 0, 110, 87, 177]
abbrev dktX1_keepsBase_0 : List UInt8 := dkwX1_keepsBase_0 ++ []
theorem dksX1_keepsBase_0 : cX1_keepsBase.data.toList.drop 0 = dktX1_keepsBase_0 := by decide +kernel
theorem dX1_keepsBase_0 : decode cX1_keepsBase 0 = .ok (.aload_n 0, 1) := dk_42 (dk_at dksX1_keepsBase_0 0 rfl rfl)
theorem dX1_keepsBase_1 : decode cX1_keepsBase 1 = .ok (.getfield 62, 3) := dk_180 0 62 (dk_at dksX1_keepsBase_0 1 rfl rfl)
theorem dX1_keepsBase_4 : decode cX1_keepsBase 4 = .ok (.aload_n 0, 1) := dk_42 (dk_at dksX1_keepsBase_0 4 rfl rfl)
theorem dX1_keepsBase_5 : decode cX1_keepsBase 5 = .ok (.getfield 58, 3) := dk_180 0 58 (dk_at dksX1_keepsBase_0 5 rfl rfl)
theorem dX1_keepsBase_8 : decode cX1_keepsBase 8 = .ok (.invokevirtual 110, 3) := dk_182 0 110 (dk_at dksX1_keepsBase_0 8 rfl rfl)
theorem dX1_keepsBase_11 : decode cX1_keepsBase 11 = .ok (.pop, 1) := dk_87 (dk_at dksX1_keepsBase_0 11 rfl rfl)
theorem dX1_keepsBase_12 : decode cX1_keepsBase 12 = .ok (.return_, 1) := dk_177 (dk_at dksX1_keepsBase_0 12 rfl rfl)
abbrev cX1_feed : ByteArray := prog_1_method_12_code
def yX1_feed : MethodName := ⟨RX1, "feed", "(IIIII)I"⟩
def dkwX1_feed_2 : List UInt8 := [172]
abbrev dktX1_feed_2 : List UInt8 := dkwX1_feed_2 ++ []
def dkwX1_feed_1 : List UInt8 := [182, 0, 149, 42, 29, 182, 0, 149, 42, 21, 4, 182, 0, 149, 42, 21, 5, 182, 0, 149, 42, 180, 0, 146]
abbrev dktX1_feed_1 : List UInt8 := dkwX1_feed_1 ++ dktX1_feed_2
def dkwX1_feed_0 : List UInt8 := [42, 180, 0, 146, 16, 20, 96, 17, 2, 88, 164, 0, 5, 2, 172, 42, 27, 182, 0, 149, 42, 28]
abbrev dktX1_feed_0 : List UInt8 := dkwX1_feed_0 ++ dktX1_feed_1
theorem dksX1_feed_0 : cX1_feed.data.toList.drop 0 = dktX1_feed_0 := by decide +kernel
theorem dksX1_feed_1 : cX1_feed.data.toList.drop 22 = dktX1_feed_1 := dk_seg dksX1_feed_0 22 rfl rfl
theorem dksX1_feed_2 : cX1_feed.data.toList.drop 46 = dktX1_feed_2 := dk_seg dksX1_feed_1 24 rfl rfl
theorem dX1_feed_0 : decode cX1_feed 0 = .ok (.aload_n 0, 1) := dk_42 (dk_at dksX1_feed_0 0 rfl rfl)
theorem dX1_feed_1 : decode cX1_feed 1 = .ok (.getfield 146, 3) := dk_180 0 146 (dk_at dksX1_feed_0 1 rfl rfl)
theorem dX1_feed_4 : decode cX1_feed 4 = .ok (.bipush 20, 2) := dk_16 20 (dk_at dksX1_feed_0 4 rfl rfl)
theorem dX1_feed_6 : decode cX1_feed 6 = .ok (.iadd, 1) := dk_96 (dk_at dksX1_feed_0 6 rfl rfl)
theorem dX1_feed_7 : decode cX1_feed 7 = .ok (.sipush 600, 3) := dk_17 2 88 (dk_at dksX1_feed_0 7 rfl rfl)
theorem dX1_feed_10 : decode cX1_feed 10 = .ok (.if_icmp .le 5, 3) := dk_164 0 5 (dk_at dksX1_feed_0 10 rfl rfl)
theorem dX1_feed_13 : decode cX1_feed 13 = .ok (.iconst (-1), 1) := dk_2 (dk_at dksX1_feed_0 13 rfl rfl)
theorem dX1_feed_14 : decode cX1_feed 14 = .ok (.ireturn, 1) := dk_172 (dk_at dksX1_feed_0 14 rfl rfl)
theorem dX1_feed_15 : decode cX1_feed 15 = .ok (.aload_n 0, 1) := dk_42 (dk_at dksX1_feed_0 15 rfl rfl)
theorem dX1_feed_16 : decode cX1_feed 16 = .ok (.iload_n 1, 1) := dk_27 (dk_at dksX1_feed_0 16 rfl rfl)
theorem dX1_feed_17 : decode cX1_feed 17 = .ok (.invokevirtual 149, 3) := dk_182 0 149 (dk_at dksX1_feed_0 17 rfl rfl)
theorem dX1_feed_20 : decode cX1_feed 20 = .ok (.aload_n 0, 1) := dk_42 (dk_at dksX1_feed_0 20 rfl rfl)
theorem dX1_feed_21 : decode cX1_feed 21 = .ok (.iload_n 2, 1) := dk_28 (dk_at dksX1_feed_0 21 rfl rfl)
theorem dX1_feed_22 : decode cX1_feed 22 = .ok (.invokevirtual 149, 3) := dk_182 0 149 (dk_at dksX1_feed_1 0 rfl rfl)
theorem dX1_feed_25 : decode cX1_feed 25 = .ok (.aload_n 0, 1) := dk_42 (dk_at dksX1_feed_1 3 rfl rfl)
theorem dX1_feed_26 : decode cX1_feed 26 = .ok (.iload_n 3, 1) := dk_29 (dk_at dksX1_feed_1 4 rfl rfl)
theorem dX1_feed_27 : decode cX1_feed 27 = .ok (.invokevirtual 149, 3) := dk_182 0 149 (dk_at dksX1_feed_1 5 rfl rfl)
theorem dX1_feed_30 : decode cX1_feed 30 = .ok (.aload_n 0, 1) := dk_42 (dk_at dksX1_feed_1 8 rfl rfl)
theorem dX1_feed_31 : decode cX1_feed 31 = .ok (.iload 4, 2) := dk_21 4 (dk_at dksX1_feed_1 9 rfl rfl)
theorem dX1_feed_33 : decode cX1_feed 33 = .ok (.invokevirtual 149, 3) := dk_182 0 149 (dk_at dksX1_feed_1 11 rfl rfl)
theorem dX1_feed_36 : decode cX1_feed 36 = .ok (.aload_n 0, 1) := dk_42 (dk_at dksX1_feed_1 14 rfl rfl)
theorem dX1_feed_37 : decode cX1_feed 37 = .ok (.iload 5, 2) := dk_21 5 (dk_at dksX1_feed_1 15 rfl rfl)
theorem dX1_feed_39 : decode cX1_feed 39 = .ok (.invokevirtual 149, 3) := dk_182 0 149 (dk_at dksX1_feed_1 17 rfl rfl)
theorem dX1_feed_42 : decode cX1_feed 42 = .ok (.aload_n 0, 1) := dk_42 (dk_at dksX1_feed_1 20 rfl rfl)
theorem dX1_feed_43 : decode cX1_feed 43 = .ok (.getfield 146, 3) := dk_180 0 146 (dk_at dksX1_feed_1 21 rfl rfl)
theorem dX1_feed_46 : decode cX1_feed 46 = .ok (.ireturn, 1) := dk_172 (dk_at dksX1_feed_2 0 rfl rfl)
abbrev cX1_put : ByteArray := prog_1_method_13_code
def yX1_put : MethodName := ⟨RX1, "put", "(I)V"⟩
def dkwX1_put_1 : List UInt8 := [180, 0, 146, 4, 96, 181, 0, 146, 132, 2, 248, 167, 255, 226, 177]
abbrev dktX1_put_1 : List UInt8 := dkwX1_put_1 ++ []
def dkwX1_put_0 : List UInt8 := [16, 24, 61, 28, 155, 0, 32, 42, 180, 0, 79, 42, 180, 0, 146, 27, 28, 122, 145, 84, 42, 89]
abbrev dktX1_put_0 : List UInt8 := dkwX1_put_0 ++ dktX1_put_1
theorem dksX1_put_0 : cX1_put.data.toList.drop 0 = dktX1_put_0 := by decide +kernel
theorem dksX1_put_1 : cX1_put.data.toList.drop 22 = dktX1_put_1 := dk_seg dksX1_put_0 22 rfl rfl
theorem dX1_put_0 : decode cX1_put 0 = .ok (.bipush 24, 2) := dk_16 24 (dk_at dksX1_put_0 0 rfl rfl)
theorem dX1_put_2 : decode cX1_put 2 = .ok (.istore_n 2, 1) := dk_61 (dk_at dksX1_put_0 2 rfl rfl)
theorem dX1_put_3 : decode cX1_put 3 = .ok (.iload_n 2, 1) := dk_28 (dk_at dksX1_put_0 3 rfl rfl)
theorem dX1_put_4 : decode cX1_put 4 = .ok (.ifCond .lt 32, 3) := dk_155 0 32 (dk_at dksX1_put_0 4 rfl rfl)
theorem dX1_put_7 : decode cX1_put 7 = .ok (.aload_n 0, 1) := dk_42 (dk_at dksX1_put_0 7 rfl rfl)
theorem dX1_put_8 : decode cX1_put 8 = .ok (.getfield 79, 3) := dk_180 0 79 (dk_at dksX1_put_0 8 rfl rfl)
theorem dX1_put_11 : decode cX1_put 11 = .ok (.aload_n 0, 1) := dk_42 (dk_at dksX1_put_0 11 rfl rfl)
theorem dX1_put_12 : decode cX1_put 12 = .ok (.getfield 146, 3) := dk_180 0 146 (dk_at dksX1_put_0 12 rfl rfl)
theorem dX1_put_15 : decode cX1_put 15 = .ok (.iload_n 1, 1) := dk_27 (dk_at dksX1_put_0 15 rfl rfl)
theorem dX1_put_16 : decode cX1_put 16 = .ok (.iload_n 2, 1) := dk_28 (dk_at dksX1_put_0 16 rfl rfl)
theorem dX1_put_17 : decode cX1_put 17 = .ok (.ishr, 1) := dk_122 (dk_at dksX1_put_0 17 rfl rfl)
theorem dX1_put_18 : decode cX1_put 18 = .ok (.i2b, 1) := dk_145 (dk_at dksX1_put_0 18 rfl rfl)
theorem dX1_put_19 : decode cX1_put 19 = .ok (.bastore, 1) := dk_84 (dk_at dksX1_put_0 19 rfl rfl)
theorem dX1_put_20 : decode cX1_put 20 = .ok (.aload_n 0, 1) := dk_42 (dk_at dksX1_put_0 20 rfl rfl)
theorem dX1_put_21 : decode cX1_put 21 = .ok (.dup, 1) := dk_89 (dk_at dksX1_put_0 21 rfl rfl)
theorem dX1_put_22 : decode cX1_put 22 = .ok (.getfield 146, 3) := dk_180 0 146 (dk_at dksX1_put_1 0 rfl rfl)
theorem dX1_put_25 : decode cX1_put 25 = .ok (.iconst 1, 1) := dk_4 (dk_at dksX1_put_1 3 rfl rfl)
theorem dX1_put_26 : decode cX1_put 26 = .ok (.iadd, 1) := dk_96 (dk_at dksX1_put_1 4 rfl rfl)
theorem dX1_put_27 : decode cX1_put 27 = .ok (.putfield 146, 3) := dk_181 0 146 (dk_at dksX1_put_1 5 rfl rfl)
theorem dX1_put_30 : decode cX1_put 30 = .ok (.iinc 2 (-8), 3) := dk_132 2 248 (dk_at dksX1_put_1 8 rfl rfl)
theorem dX1_put_33 : decode cX1_put 33 = .ok (.goto (-30), 3) := dk_167 255 226 (dk_at dksX1_put_1 11 rfl rfl)
theorem dX1_put_36 : decode cX1_put 36 = .ok (.return_, 1) := dk_177 (dk_at dksX1_put_1 14 rfl rfl)
abbrev cX1_fault : ByteArray := prog_1_method_18_code
def yX1_fault : MethodName := ⟨RX1, "fault", "()I"⟩
theorem dX1_fault_0 : decode cX1_fault 0 = .ok (.aload_n 0, 1) := by decide +kernel
theorem dX1_fault_1 : decode cX1_fault 1 = .ok (.getfield 76, 3) := by decide +kernel
theorem dX1_fault_4 : decode cX1_fault 4 = .ok (.ireturn, 1) := by decide +kernel
abbrev cX1_played : ByteArray := prog_1_method_46_code
def yX1_played : MethodName := ⟨RX1, "played", "()I"⟩
def dkwX1_played_0 : List UInt8 := [42, 42, 180, 0, 58, 42, 180, 0, 58, 182, 0, 204, 182, 1, 93, 172]
abbrev dktX1_played_0 : List UInt8 := dkwX1_played_0 ++ []
theorem dksX1_played_0 : cX1_played.data.toList.drop 0 = dktX1_played_0 := by decide +kernel
theorem dX1_played_0 : decode cX1_played 0 = .ok (.aload_n 0, 1) := dk_42 (dk_at dksX1_played_0 0 rfl rfl)
theorem dX1_played_1 : decode cX1_played 1 = .ok (.aload_n 0, 1) := dk_42 (dk_at dksX1_played_0 1 rfl rfl)
theorem dX1_played_2 : decode cX1_played 2 = .ok (.getfield 58, 3) := dk_180 0 58 (dk_at dksX1_played_0 2 rfl rfl)
theorem dX1_played_5 : decode cX1_played 5 = .ok (.aload_n 0, 1) := dk_42 (dk_at dksX1_played_0 5 rfl rfl)
theorem dX1_played_6 : decode cX1_played 6 = .ok (.getfield 58, 3) := dk_180 0 58 (dk_at dksX1_played_0 6 rfl rfl)
theorem dX1_played_9 : decode cX1_played 9 = .ok (.invokevirtual 204, 3) := dk_182 0 204 (dk_at dksX1_played_0 9 rfl rfl)
theorem dX1_played_12 : decode cX1_played 12 = .ok (.invokevirtual 349, 3) := dk_182 1 93 (dk_at dksX1_played_0 12 rfl rfl)
theorem dX1_played_15 : decode cX1_played 15 = .ok (.ireturn, 1) := dk_172 (dk_at dksX1_played_0 15 rfl rfl)
abbrev cX1_playedBy : ByteArray := prog_1_method_45_code
def yX1_playedBy : MethodName := ⟨RX1, "playedBy", "(LPuppetHeirs$Troupe;I)I"⟩
def dkwX1_playedBy_2 : List UInt8 := [167, 255, 216, 29, 172]
abbrev dktX1_playedBy_2 : List UInt8 := dkwX1_playedBy_2 ++ []
def dkwX1_playedBy_1 : List UInt8 := [21, 4, 28, 182, 1, 51, 153, 0, 10, 4, 21, 4, 120, 167, 0, 4, 3, 128, 62, 132, 4, 1]
abbrev dktX1_playedBy_1 : List UInt8 := dkwX1_playedBy_1 ++ dktX1_playedBy_2
def dkwX1_playedBy_0 : List UInt8 := [3, 62, 3, 54, 4, 21, 4, 42, 180, 0, 31, 180, 0, 136, 182, 0, 140, 162, 0, 31, 29, 42, 43]
abbrev dktX1_playedBy_0 : List UInt8 := dkwX1_playedBy_0 ++ dktX1_playedBy_1
theorem dksX1_playedBy_0 : cX1_playedBy.data.toList.drop 0 = dktX1_playedBy_0 := by decide +kernel
theorem dksX1_playedBy_1 : cX1_playedBy.data.toList.drop 23 = dktX1_playedBy_1 := dk_seg dksX1_playedBy_0 23 rfl rfl
theorem dksX1_playedBy_2 : cX1_playedBy.data.toList.drop 45 = dktX1_playedBy_2 := dk_seg dksX1_playedBy_1 22 rfl rfl
theorem dX1_playedBy_0 : decode cX1_playedBy 0 = .ok (.iconst 0, 1) := dk_3 (dk_at dksX1_playedBy_0 0 rfl rfl)
theorem dX1_playedBy_1 : decode cX1_playedBy 1 = .ok (.istore_n 3, 1) := dk_62 (dk_at dksX1_playedBy_0 1 rfl rfl)
theorem dX1_playedBy_2 : decode cX1_playedBy 2 = .ok (.iconst 0, 1) := dk_3 (dk_at dksX1_playedBy_0 2 rfl rfl)
theorem dX1_playedBy_3 : decode cX1_playedBy 3 = .ok (.istore 4, 2) := dk_54 4 (dk_at dksX1_playedBy_0 3 rfl rfl)
theorem dX1_playedBy_5 : decode cX1_playedBy 5 = .ok (.iload 4, 2) := dk_21 4 (dk_at dksX1_playedBy_0 5 rfl rfl)
theorem dX1_playedBy_7 : decode cX1_playedBy 7 = .ok (.aload_n 0, 1) := dk_42 (dk_at dksX1_playedBy_0 7 rfl rfl)
theorem dX1_playedBy_8 : decode cX1_playedBy 8 = .ok (.getfield 31, 3) := dk_180 0 31 (dk_at dksX1_playedBy_0 8 rfl rfl)
theorem dX1_playedBy_11 : decode cX1_playedBy 11 = .ok (.getfield 136, 3) := dk_180 0 136 (dk_at dksX1_playedBy_0 11 rfl rfl)
theorem dX1_playedBy_14 : decode cX1_playedBy 14 = .ok (.invokevirtual 140, 3) := dk_182 0 140 (dk_at dksX1_playedBy_0 14 rfl rfl)
theorem dX1_playedBy_17 : decode cX1_playedBy 17 = .ok (.if_icmp .ge 31, 3) := dk_162 0 31 (dk_at dksX1_playedBy_0 17 rfl rfl)
theorem dX1_playedBy_20 : decode cX1_playedBy 20 = .ok (.iload_n 3, 1) := dk_29 (dk_at dksX1_playedBy_0 20 rfl rfl)
theorem dX1_playedBy_21 : decode cX1_playedBy 21 = .ok (.aload_n 0, 1) := dk_42 (dk_at dksX1_playedBy_0 21 rfl rfl)
theorem dX1_playedBy_22 : decode cX1_playedBy 22 = .ok (.aload_n 1, 1) := dk_43 (dk_at dksX1_playedBy_0 22 rfl rfl)
theorem dX1_playedBy_23 : decode cX1_playedBy 23 = .ok (.iload 4, 2) := dk_21 4 (dk_at dksX1_playedBy_1 0 rfl rfl)
theorem dX1_playedBy_25 : decode cX1_playedBy 25 = .ok (.iload_n 2, 1) := dk_28 (dk_at dksX1_playedBy_1 2 rfl rfl)
theorem dX1_playedBy_26 : decode cX1_playedBy 26 = .ok (.invokevirtual 307, 3) := dk_182 1 51 (dk_at dksX1_playedBy_1 3 rfl rfl)
theorem dX1_playedBy_29 : decode cX1_playedBy 29 = .ok (.ifCond .eq 10, 3) := dk_153 0 10 (dk_at dksX1_playedBy_1 6 rfl rfl)
theorem dX1_playedBy_32 : decode cX1_playedBy 32 = .ok (.iconst 1, 1) := dk_4 (dk_at dksX1_playedBy_1 9 rfl rfl)
theorem dX1_playedBy_33 : decode cX1_playedBy 33 = .ok (.iload 4, 2) := dk_21 4 (dk_at dksX1_playedBy_1 10 rfl rfl)
theorem dX1_playedBy_35 : decode cX1_playedBy 35 = .ok (.ishl, 1) := dk_120 (dk_at dksX1_playedBy_1 12 rfl rfl)
theorem dX1_playedBy_36 : decode cX1_playedBy 36 = .ok (.goto 4, 3) := dk_167 0 4 (dk_at dksX1_playedBy_1 13 rfl rfl)
theorem dX1_playedBy_39 : decode cX1_playedBy 39 = .ok (.iconst 0, 1) := dk_3 (dk_at dksX1_playedBy_1 16 rfl rfl)
theorem dX1_playedBy_40 : decode cX1_playedBy 40 = .ok (.ior, 1) := dk_128 (dk_at dksX1_playedBy_1 17 rfl rfl)
theorem dX1_playedBy_41 : decode cX1_playedBy 41 = .ok (.istore_n 3, 1) := dk_62 (dk_at dksX1_playedBy_1 18 rfl rfl)
theorem dX1_playedBy_42 : decode cX1_playedBy 42 = .ok (.iinc 4 1, 3) := dk_132 4 1 (dk_at dksX1_playedBy_1 19 rfl rfl)
theorem dX1_playedBy_45 : decode cX1_playedBy 45 = .ok (.goto (-40), 3) := dk_167 255 216 (dk_at dksX1_playedBy_2 0 rfl rfl)
theorem dX1_playedBy_48 : decode cX1_playedBy 48 = .ok (.iload_n 3, 1) := dk_29 (dk_at dksX1_playedBy_2 3 rfl rfl)
theorem dX1_playedBy_49 : decode cX1_playedBy 49 = .ok (.ireturn, 1) := dk_172 (dk_at dksX1_playedBy_2 4 rfl rfl)
abbrev cX1_isCast : ByteArray := prog_1_method_41_code
def yX1_isCast : MethodName := ⟨RX1, "isCast", "(LPuppetHeirs$Troupe;II)Z"⟩
def dkwX1_isCast_0 : List UInt8 := [42, 43, 28, 29, 4, 182, 1, 88, 158, 0, 7, 4, 167, 0, 4, 3, 172]
abbrev dktX1_isCast_0 : List UInt8 := dkwX1_isCast_0 ++ []
theorem dksX1_isCast_0 : cX1_isCast.data.toList.drop 0 = dktX1_isCast_0 := by decide +kernel
theorem dX1_isCast_0 : decode cX1_isCast 0 = .ok (.aload_n 0, 1) := dk_42 (dk_at dksX1_isCast_0 0 rfl rfl)
theorem dX1_isCast_1 : decode cX1_isCast 1 = .ok (.aload_n 1, 1) := dk_43 (dk_at dksX1_isCast_0 1 rfl rfl)
theorem dX1_isCast_2 : decode cX1_isCast 2 = .ok (.iload_n 2, 1) := dk_28 (dk_at dksX1_isCast_0 2 rfl rfl)
theorem dX1_isCast_3 : decode cX1_isCast 3 = .ok (.iload_n 3, 1) := dk_29 (dk_at dksX1_isCast_0 3 rfl rfl)
theorem dX1_isCast_4 : decode cX1_isCast 4 = .ok (.iconst 1, 1) := dk_4 (dk_at dksX1_isCast_0 4 rfl rfl)
theorem dX1_isCast_5 : decode cX1_isCast 5 = .ok (.invokevirtual 344, 3) := dk_182 1 88 (dk_at dksX1_isCast_0 5 rfl rfl)
theorem dX1_isCast_8 : decode cX1_isCast 8 = .ok (.ifCond .le 7, 3) := dk_158 0 7 (dk_at dksX1_isCast_0 8 rfl rfl)
theorem dX1_isCast_11 : decode cX1_isCast 11 = .ok (.iconst 1, 1) := dk_4 (dk_at dksX1_isCast_0 11 rfl rfl)
theorem dX1_isCast_12 : decode cX1_isCast 12 = .ok (.goto 4, 3) := dk_167 0 4 (dk_at dksX1_isCast_0 12 rfl rfl)
theorem dX1_isCast_15 : decode cX1_isCast 15 = .ok (.iconst 0, 1) := dk_3 (dk_at dksX1_isCast_0 15 rfl rfl)
theorem dX1_isCast_16 : decode cX1_isCast 16 = .ok (.ireturn, 1) := dk_172 (dk_at dksX1_isCast_0 16 rfl rfl)
abbrev cX1_castsOf : ByteArray := prog_1_method_40_code
def yX1_castsOf : MethodName := ⟨RX1, "castsOf", "(LPuppetHeirs$Troupe;III)I"⟩
def dkwX1_castsOf_2 : List UInt8 := [3, 172, 132, 6, 1, 167, 255, 220, 42, 25, 5, 3, 29, 3, 21, 4, 182, 1, 84, 42, 180, 1, 69, 172]
abbrev dktX1_castsOf_2 : List UInt8 := dkwX1_castsOf_2 ++ []
def dkwX1_castsOf_1 : List UInt8 := [162, 0, 32, 43, 180, 0, 198, 25, 5, 180, 1, 75, 21, 6, 46, 46, 25, 5, 180, 1, 13, 162, 0, 5]
abbrev dktX1_castsOf_1 : List UInt8 := dkwX1_castsOf_1 ++ dktX1_castsOf_2
def dkwX1_castsOf_0 : List UInt8 := [42, 28, 182, 1, 9, 58, 5, 42, 3, 181, 1, 69, 3, 54, 6, 21, 6, 25, 5, 180, 1, 72]
abbrev dktX1_castsOf_0 : List UInt8 := dkwX1_castsOf_0 ++ dktX1_castsOf_1
theorem dksX1_castsOf_0 : cX1_castsOf.data.toList.drop 0 = dktX1_castsOf_0 := by decide +kernel
theorem dksX1_castsOf_1 : cX1_castsOf.data.toList.drop 22 = dktX1_castsOf_1 := dk_seg dksX1_castsOf_0 22 rfl rfl
theorem dksX1_castsOf_2 : cX1_castsOf.data.toList.drop 46 = dktX1_castsOf_2 := dk_seg dksX1_castsOf_1 24 rfl rfl
theorem dX1_castsOf_0 : decode cX1_castsOf 0 = .ok (.aload_n 0, 1) := dk_42 (dk_at dksX1_castsOf_0 0 rfl rfl)
theorem dX1_castsOf_1 : decode cX1_castsOf 1 = .ok (.iload_n 2, 1) := dk_28 (dk_at dksX1_castsOf_0 1 rfl rfl)
theorem dX1_castsOf_2 : decode cX1_castsOf 2 = .ok (.invokevirtual 265, 3) := dk_182 1 9 (dk_at dksX1_castsOf_0 2 rfl rfl)
theorem dX1_castsOf_5 : decode cX1_castsOf 5 = .ok (.astore 5, 2) := dk_58 5 (dk_at dksX1_castsOf_0 5 rfl rfl)
theorem dX1_castsOf_7 : decode cX1_castsOf 7 = .ok (.aload_n 0, 1) := dk_42 (dk_at dksX1_castsOf_0 7 rfl rfl)
theorem dX1_castsOf_8 : decode cX1_castsOf 8 = .ok (.iconst 0, 1) := dk_3 (dk_at dksX1_castsOf_0 8 rfl rfl)
theorem dX1_castsOf_9 : decode cX1_castsOf 9 = .ok (.putfield 325, 3) := dk_181 1 69 (dk_at dksX1_castsOf_0 9 rfl rfl)
theorem dX1_castsOf_12 : decode cX1_castsOf 12 = .ok (.iconst 0, 1) := dk_3 (dk_at dksX1_castsOf_0 12 rfl rfl)
theorem dX1_castsOf_13 : decode cX1_castsOf 13 = .ok (.istore 6, 2) := dk_54 6 (dk_at dksX1_castsOf_0 13 rfl rfl)
theorem dX1_castsOf_15 : decode cX1_castsOf 15 = .ok (.iload 6, 2) := dk_21 6 (dk_at dksX1_castsOf_0 15 rfl rfl)
theorem dX1_castsOf_17 : decode cX1_castsOf 17 = .ok (.aload 5, 2) := dk_25 5 (dk_at dksX1_castsOf_0 17 rfl rfl)
theorem dX1_castsOf_19 : decode cX1_castsOf 19 = .ok (.getfield 328, 3) := dk_180 1 72 (dk_at dksX1_castsOf_0 19 rfl rfl)
theorem dX1_castsOf_22 : decode cX1_castsOf 22 = .ok (.if_icmp .ge 32, 3) := dk_162 0 32 (dk_at dksX1_castsOf_1 0 rfl rfl)
theorem dX1_castsOf_25 : decode cX1_castsOf 25 = .ok (.aload_n 1, 1) := dk_43 (dk_at dksX1_castsOf_1 3 rfl rfl)
theorem dX1_castsOf_26 : decode cX1_castsOf 26 = .ok (.getfield 198, 3) := dk_180 0 198 (dk_at dksX1_castsOf_1 4 rfl rfl)
theorem dX1_castsOf_29 : decode cX1_castsOf 29 = .ok (.aload 5, 2) := dk_25 5 (dk_at dksX1_castsOf_1 7 rfl rfl)
theorem dX1_castsOf_31 : decode cX1_castsOf 31 = .ok (.getfield 331, 3) := dk_180 1 75 (dk_at dksX1_castsOf_1 9 rfl rfl)
theorem dX1_castsOf_34 : decode cX1_castsOf 34 = .ok (.iload 6, 2) := dk_21 6 (dk_at dksX1_castsOf_1 12 rfl rfl)
theorem dX1_castsOf_36 : decode cX1_castsOf 36 = .ok (.iaload, 1) := dk_46 (dk_at dksX1_castsOf_1 14 rfl rfl)
theorem dX1_castsOf_37 : decode cX1_castsOf 37 = .ok (.iaload, 1) := dk_46 (dk_at dksX1_castsOf_1 15 rfl rfl)
theorem dX1_castsOf_38 : decode cX1_castsOf 38 = .ok (.aload 5, 2) := dk_25 5 (dk_at dksX1_castsOf_1 16 rfl rfl)
theorem dX1_castsOf_40 : decode cX1_castsOf 40 = .ok (.getfield 269, 3) := dk_180 1 13 (dk_at dksX1_castsOf_1 18 rfl rfl)
theorem dX1_castsOf_43 : decode cX1_castsOf 43 = .ok (.if_icmp .ge 5, 3) := dk_162 0 5 (dk_at dksX1_castsOf_1 21 rfl rfl)
theorem dX1_castsOf_46 : decode cX1_castsOf 46 = .ok (.iconst 0, 1) := dk_3 (dk_at dksX1_castsOf_2 0 rfl rfl)
theorem dX1_castsOf_47 : decode cX1_castsOf 47 = .ok (.ireturn, 1) := dk_172 (dk_at dksX1_castsOf_2 1 rfl rfl)
theorem dX1_castsOf_48 : decode cX1_castsOf 48 = .ok (.iinc 6 1, 3) := dk_132 6 1 (dk_at dksX1_castsOf_2 2 rfl rfl)
theorem dX1_castsOf_51 : decode cX1_castsOf 51 = .ok (.goto (-36), 3) := dk_167 255 220 (dk_at dksX1_castsOf_2 5 rfl rfl)
theorem dX1_castsOf_54 : decode cX1_castsOf 54 = .ok (.aload_n 0, 1) := dk_42 (dk_at dksX1_castsOf_2 8 rfl rfl)
theorem dX1_castsOf_55 : decode cX1_castsOf 55 = .ok (.aload 5, 2) := dk_25 5 (dk_at dksX1_castsOf_2 9 rfl rfl)
theorem dX1_castsOf_57 : decode cX1_castsOf 57 = .ok (.iconst 0, 1) := dk_3 (dk_at dksX1_castsOf_2 11 rfl rfl)
theorem dX1_castsOf_58 : decode cX1_castsOf 58 = .ok (.iload_n 3, 1) := dk_29 (dk_at dksX1_castsOf_2 12 rfl rfl)
theorem dX1_castsOf_59 : decode cX1_castsOf 59 = .ok (.iconst 0, 1) := dk_3 (dk_at dksX1_castsOf_2 13 rfl rfl)
theorem dX1_castsOf_60 : decode cX1_castsOf 60 = .ok (.iload 4, 2) := dk_21 4 (dk_at dksX1_castsOf_2 14 rfl rfl)
theorem dX1_castsOf_62 : decode cX1_castsOf 62 = .ok (.invokevirtual 340, 3) := dk_182 1 84 (dk_at dksX1_castsOf_2 16 rfl rfl)
theorem dX1_castsOf_65 : decode cX1_castsOf 65 = .ok (.aload_n 0, 1) := dk_42 (dk_at dksX1_castsOf_2 19 rfl rfl)
theorem dX1_castsOf_66 : decode cX1_castsOf 66 = .ok (.getfield 325, 3) := dk_180 1 69 (dk_at dksX1_castsOf_2 20 rfl rfl)
theorem dX1_castsOf_69 : decode cX1_castsOf 69 = .ok (.ireturn, 1) := dk_172 (dk_at dksX1_castsOf_2 23 rfl rfl)
abbrev cX1_actOf : ByteArray := prog_1_method_23_code
def yX1_actOf : MethodName := ⟨RX1, "actOf", "(I)LPuppetHeirs$Act;"⟩
def dkwX1_actOf_0 : List UInt8 := [42, 180, 0, 31, 180, 0, 136, 27, 182, 1, 0, 192, 1, 4, 176]
abbrev dktX1_actOf_0 : List UInt8 := dkwX1_actOf_0 ++ []
theorem dksX1_actOf_0 : cX1_actOf.data.toList.drop 0 = dktX1_actOf_0 := by decide +kernel
theorem dX1_actOf_0 : decode cX1_actOf 0 = .ok (.aload_n 0, 1) := dk_42 (dk_at dksX1_actOf_0 0 rfl rfl)
theorem dX1_actOf_1 : decode cX1_actOf 1 = .ok (.getfield 31, 3) := dk_180 0 31 (dk_at dksX1_actOf_0 1 rfl rfl)
theorem dX1_actOf_4 : decode cX1_actOf 4 = .ok (.getfield 136, 3) := dk_180 0 136 (dk_at dksX1_actOf_0 4 rfl rfl)
theorem dX1_actOf_7 : decode cX1_actOf 7 = .ok (.iload_n 1, 1) := dk_27 (dk_at dksX1_actOf_0 7 rfl rfl)
theorem dX1_actOf_8 : decode cX1_actOf 8 = .ok (.invokevirtual 256, 3) := dk_182 1 0 (dk_at dksX1_actOf_0 8 rfl rfl)
theorem dX1_actOf_11 : decode cX1_actOf 11 = .ok (.checkcast 260, 3) := dk_192 1 4 (dk_at dksX1_actOf_0 11 rfl rfl)
theorem dX1_actOf_14 : decode cX1_actOf 14 = .ok (.areturn, 1) := dk_176 (dk_at dksX1_actOf_0 14 rfl rfl)
abbrev cX1_castsOn : ByteArray := prog_1_method_39_code
def yX1_castsOn : MethodName := ⟨RX1, "castsOn", "(LPuppetHeirs$Act;IIII)V"⟩
def dkwX1_castsOn_6 : List UInt8 := [96, 29, 21, 8, 2, 130, 126, 21, 4, 21, 8, 128, 21, 5, 182, 1, 84, 132, 8, 1, 167, 255, 173, 177]
abbrev dktX1_castsOn_6 : List UInt8 := dkwX1_castsOn_6 ++ []
def dkwX1_castsOn_5 : List UInt8 := [21, 8, 128, 182, 1, 81, 153, 0, 6, 167, 0, 32, 42, 180, 0, 83, 28, 21, 8, 79, 42, 43, 28, 4]
abbrev dktX1_castsOn_5 : List UInt8 := dkwX1_castsOn_5 ++ dktX1_castsOn_6
def dkwX1_castsOn_4 : List UInt8 := [154, 0, 65, 21, 8, 184, 0, 207, 42, 180, 0, 31, 180, 0, 244, 21, 6, 46, 160, 0, 47, 42, 21, 4]
abbrev dktX1_castsOn_4 : List UInt8 := dkwX1_castsOn_4 ++ dktX1_castsOn_5
def dkwX1_castsOn_3 : List UInt8 := [2, 130, 126, 54, 7, 4, 54, 8, 21, 8, 17, 2, 0, 162, 0, 81, 21, 8, 21, 7, 2, 130, 126]
abbrev dktX1_castsOn_3 : List UInt8 := dkwX1_castsOn_3 ++ dktX1_castsOn_4
def dkwX1_castsOn_2 : List UInt8 := [96, 181, 1, 69, 177, 43, 180, 1, 75, 28, 46, 54, 6, 29, 42, 180, 0, 31, 180, 1, 78, 21, 6, 46]
abbrev dktX1_castsOn_2 : List UInt8 := dkwX1_castsOn_2 ++ dktX1_castsOn_3
def dkwX1_castsOn_1 : List UInt8 := [154, 0, 18, 42, 180, 0, 83, 3, 42, 180, 0, 86, 3, 16, 6, 184, 0, 192, 42, 89, 180, 1, 69, 4]
abbrev dktX1_castsOn_1 : List UInt8 := dkwX1_castsOn_1 ++ dktX1_castsOn_2
def dkwX1_castsOn_0 : List UInt8 := [42, 180, 1, 69, 21, 5, 161, 0, 4, 177, 28, 43, 180, 1, 72, 160, 0, 36, 42, 180, 1, 69]
abbrev dktX1_castsOn_0 : List UInt8 := dkwX1_castsOn_0 ++ dktX1_castsOn_1
theorem dksX1_castsOn_0 : cX1_castsOn.data.toList.drop 0 = dktX1_castsOn_0 := by decide +kernel
theorem dksX1_castsOn_1 : cX1_castsOn.data.toList.drop 22 = dktX1_castsOn_1 := dk_seg dksX1_castsOn_0 22 rfl rfl
theorem dksX1_castsOn_2 : cX1_castsOn.data.toList.drop 46 = dktX1_castsOn_2 := dk_seg dksX1_castsOn_1 24 rfl rfl
theorem dksX1_castsOn_3 : cX1_castsOn.data.toList.drop 70 = dktX1_castsOn_3 := dk_seg dksX1_castsOn_2 24 rfl rfl
theorem dksX1_castsOn_4 : cX1_castsOn.data.toList.drop 93 = dktX1_castsOn_4 := dk_seg dksX1_castsOn_3 23 rfl rfl
theorem dksX1_castsOn_5 : cX1_castsOn.data.toList.drop 117 = dktX1_castsOn_5 := dk_seg dksX1_castsOn_4 24 rfl rfl
theorem dksX1_castsOn_6 : cX1_castsOn.data.toList.drop 141 = dktX1_castsOn_6 := dk_seg dksX1_castsOn_5 24 rfl rfl
theorem dX1_castsOn_0 : decode cX1_castsOn 0 = .ok (.aload_n 0, 1) := dk_42 (dk_at dksX1_castsOn_0 0 rfl rfl)
theorem dX1_castsOn_1 : decode cX1_castsOn 1 = .ok (.getfield 325, 3) := dk_180 1 69 (dk_at dksX1_castsOn_0 1 rfl rfl)
theorem dX1_castsOn_4 : decode cX1_castsOn 4 = .ok (.iload 5, 2) := dk_21 5 (dk_at dksX1_castsOn_0 4 rfl rfl)
theorem dX1_castsOn_6 : decode cX1_castsOn 6 = .ok (.if_icmp .lt 4, 3) := dk_161 0 4 (dk_at dksX1_castsOn_0 6 rfl rfl)
theorem dX1_castsOn_9 : decode cX1_castsOn 9 = .ok (.return_, 1) := dk_177 (dk_at dksX1_castsOn_0 9 rfl rfl)
theorem dX1_castsOn_10 : decode cX1_castsOn 10 = .ok (.iload_n 2, 1) := dk_28 (dk_at dksX1_castsOn_0 10 rfl rfl)
theorem dX1_castsOn_11 : decode cX1_castsOn 11 = .ok (.aload_n 1, 1) := dk_43 (dk_at dksX1_castsOn_0 11 rfl rfl)
theorem dX1_castsOn_12 : decode cX1_castsOn 12 = .ok (.getfield 328, 3) := dk_180 1 72 (dk_at dksX1_castsOn_0 12 rfl rfl)
theorem dX1_castsOn_15 : decode cX1_castsOn 15 = .ok (.if_icmp .ne 36, 3) := dk_160 0 36 (dk_at dksX1_castsOn_0 15 rfl rfl)
theorem dX1_castsOn_18 : decode cX1_castsOn 18 = .ok (.aload_n 0, 1) := dk_42 (dk_at dksX1_castsOn_0 18 rfl rfl)
theorem dX1_castsOn_19 : decode cX1_castsOn 19 = .ok (.getfield 325, 3) := dk_180 1 69 (dk_at dksX1_castsOn_0 19 rfl rfl)
theorem dX1_castsOn_22 : decode cX1_castsOn 22 = .ok (.ifCond .ne 18, 3) := dk_154 0 18 (dk_at dksX1_castsOn_1 0 rfl rfl)
theorem dX1_castsOn_25 : decode cX1_castsOn 25 = .ok (.aload_n 0, 1) := dk_42 (dk_at dksX1_castsOn_1 3 rfl rfl)
theorem dX1_castsOn_26 : decode cX1_castsOn 26 = .ok (.getfield 83, 3) := dk_180 0 83 (dk_at dksX1_castsOn_1 4 rfl rfl)
theorem dX1_castsOn_29 : decode cX1_castsOn 29 = .ok (.iconst 0, 1) := dk_3 (dk_at dksX1_castsOn_1 7 rfl rfl)
theorem dX1_castsOn_30 : decode cX1_castsOn 30 = .ok (.aload_n 0, 1) := dk_42 (dk_at dksX1_castsOn_1 8 rfl rfl)
theorem dX1_castsOn_31 : decode cX1_castsOn 31 = .ok (.getfield 86, 3) := dk_180 0 86 (dk_at dksX1_castsOn_1 9 rfl rfl)
theorem dX1_castsOn_34 : decode cX1_castsOn 34 = .ok (.iconst 0, 1) := dk_3 (dk_at dksX1_castsOn_1 12 rfl rfl)
theorem dX1_castsOn_35 : decode cX1_castsOn 35 = .ok (.bipush 6, 2) := dk_16 6 (dk_at dksX1_castsOn_1 13 rfl rfl)
theorem dX1_castsOn_37 : decode cX1_castsOn 37 = .ok (.invokestatic 192, 3) := dk_184 0 192 (dk_at dksX1_castsOn_1 15 rfl rfl)
theorem dX1_castsOn_40 : decode cX1_castsOn 40 = .ok (.aload_n 0, 1) := dk_42 (dk_at dksX1_castsOn_1 18 rfl rfl)
theorem dX1_castsOn_41 : decode cX1_castsOn 41 = .ok (.dup, 1) := dk_89 (dk_at dksX1_castsOn_1 19 rfl rfl)
theorem dX1_castsOn_42 : decode cX1_castsOn 42 = .ok (.getfield 325, 3) := dk_180 1 69 (dk_at dksX1_castsOn_1 20 rfl rfl)
theorem dX1_castsOn_45 : decode cX1_castsOn 45 = .ok (.iconst 1, 1) := dk_4 (dk_at dksX1_castsOn_1 23 rfl rfl)
theorem dX1_castsOn_46 : decode cX1_castsOn 46 = .ok (.iadd, 1) := dk_96 (dk_at dksX1_castsOn_2 0 rfl rfl)
theorem dX1_castsOn_47 : decode cX1_castsOn 47 = .ok (.putfield 325, 3) := dk_181 1 69 (dk_at dksX1_castsOn_2 1 rfl rfl)
theorem dX1_castsOn_50 : decode cX1_castsOn 50 = .ok (.return_, 1) := dk_177 (dk_at dksX1_castsOn_2 4 rfl rfl)
theorem dX1_castsOn_51 : decode cX1_castsOn 51 = .ok (.aload_n 1, 1) := dk_43 (dk_at dksX1_castsOn_2 5 rfl rfl)
theorem dX1_castsOn_52 : decode cX1_castsOn 52 = .ok (.getfield 331, 3) := dk_180 1 75 (dk_at dksX1_castsOn_2 6 rfl rfl)
theorem dX1_castsOn_55 : decode cX1_castsOn 55 = .ok (.iload_n 2, 1) := dk_28 (dk_at dksX1_castsOn_2 9 rfl rfl)
theorem dX1_castsOn_56 : decode cX1_castsOn 56 = .ok (.iaload, 1) := dk_46 (dk_at dksX1_castsOn_2 10 rfl rfl)
theorem dX1_castsOn_57 : decode cX1_castsOn 57 = .ok (.istore 6, 2) := dk_54 6 (dk_at dksX1_castsOn_2 11 rfl rfl)
theorem dX1_castsOn_59 : decode cX1_castsOn 59 = .ok (.iload_n 3, 1) := dk_29 (dk_at dksX1_castsOn_2 13 rfl rfl)
theorem dX1_castsOn_60 : decode cX1_castsOn 60 = .ok (.aload_n 0, 1) := dk_42 (dk_at dksX1_castsOn_2 14 rfl rfl)
theorem dX1_castsOn_61 : decode cX1_castsOn 61 = .ok (.getfield 31, 3) := dk_180 0 31 (dk_at dksX1_castsOn_2 15 rfl rfl)
theorem dX1_castsOn_64 : decode cX1_castsOn 64 = .ok (.getfield 334, 3) := dk_180 1 78 (dk_at dksX1_castsOn_2 18 rfl rfl)
theorem dX1_castsOn_67 : decode cX1_castsOn 67 = .ok (.iload 6, 2) := dk_21 6 (dk_at dksX1_castsOn_2 21 rfl rfl)
theorem dX1_castsOn_69 : decode cX1_castsOn 69 = .ok (.iaload, 1) := dk_46 (dk_at dksX1_castsOn_2 23 rfl rfl)
theorem dX1_castsOn_70 : decode cX1_castsOn 70 = .ok (.iconst (-1), 1) := dk_2 (dk_at dksX1_castsOn_3 0 rfl rfl)
theorem dX1_castsOn_71 : decode cX1_castsOn 71 = .ok (.ixor, 1) := dk_130 (dk_at dksX1_castsOn_3 1 rfl rfl)
theorem dX1_castsOn_72 : decode cX1_castsOn 72 = .ok (.iand, 1) := dk_126 (dk_at dksX1_castsOn_3 2 rfl rfl)
theorem dX1_castsOn_73 : decode cX1_castsOn 73 = .ok (.istore 7, 2) := dk_54 7 (dk_at dksX1_castsOn_3 3 rfl rfl)
theorem dX1_castsOn_75 : decode cX1_castsOn 75 = .ok (.iconst 1, 1) := dk_4 (dk_at dksX1_castsOn_3 5 rfl rfl)
theorem dX1_castsOn_76 : decode cX1_castsOn 76 = .ok (.istore 8, 2) := dk_54 8 (dk_at dksX1_castsOn_3 6 rfl rfl)
theorem dX1_castsOn_78 : decode cX1_castsOn 78 = .ok (.iload 8, 2) := dk_21 8 (dk_at dksX1_castsOn_3 8 rfl rfl)
theorem dX1_castsOn_80 : decode cX1_castsOn 80 = .ok (.sipush 512, 3) := dk_17 2 0 (dk_at dksX1_castsOn_3 10 rfl rfl)
theorem dX1_castsOn_83 : decode cX1_castsOn 83 = .ok (.if_icmp .ge 81, 3) := dk_162 0 81 (dk_at dksX1_castsOn_3 13 rfl rfl)
theorem dX1_castsOn_86 : decode cX1_castsOn 86 = .ok (.iload 8, 2) := dk_21 8 (dk_at dksX1_castsOn_3 16 rfl rfl)
theorem dX1_castsOn_88 : decode cX1_castsOn 88 = .ok (.iload 7, 2) := dk_21 7 (dk_at dksX1_castsOn_3 18 rfl rfl)
theorem dX1_castsOn_90 : decode cX1_castsOn 90 = .ok (.iconst (-1), 1) := dk_2 (dk_at dksX1_castsOn_3 20 rfl rfl)
theorem dX1_castsOn_91 : decode cX1_castsOn 91 = .ok (.ixor, 1) := dk_130 (dk_at dksX1_castsOn_3 21 rfl rfl)
theorem dX1_castsOn_92 : decode cX1_castsOn 92 = .ok (.iand, 1) := dk_126 (dk_at dksX1_castsOn_3 22 rfl rfl)
theorem dX1_castsOn_93 : decode cX1_castsOn 93 = .ok (.ifCond .ne 65, 3) := dk_154 0 65 (dk_at dksX1_castsOn_4 0 rfl rfl)
theorem dX1_castsOn_96 : decode cX1_castsOn 96 = .ok (.iload 8, 2) := dk_21 8 (dk_at dksX1_castsOn_4 3 rfl rfl)
theorem dX1_castsOn_98 : decode cX1_castsOn 98 = .ok (.invokestatic 207, 3) := dk_184 0 207 (dk_at dksX1_castsOn_4 5 rfl rfl)
theorem dX1_castsOn_101 : decode cX1_castsOn 101 = .ok (.aload_n 0, 1) := dk_42 (dk_at dksX1_castsOn_4 8 rfl rfl)
theorem dX1_castsOn_102 : decode cX1_castsOn 102 = .ok (.getfield 31, 3) := dk_180 0 31 (dk_at dksX1_castsOn_4 9 rfl rfl)
theorem dX1_castsOn_105 : decode cX1_castsOn 105 = .ok (.getfield 244, 3) := dk_180 0 244 (dk_at dksX1_castsOn_4 12 rfl rfl)
theorem dX1_castsOn_108 : decode cX1_castsOn 108 = .ok (.iload 6, 2) := dk_21 6 (dk_at dksX1_castsOn_4 15 rfl rfl)
theorem dX1_castsOn_110 : decode cX1_castsOn 110 = .ok (.iaload, 1) := dk_46 (dk_at dksX1_castsOn_4 17 rfl rfl)
theorem dX1_castsOn_111 : decode cX1_castsOn 111 = .ok (.if_icmp .ne 47, 3) := dk_160 0 47 (dk_at dksX1_castsOn_4 18 rfl rfl)
theorem dX1_castsOn_114 : decode cX1_castsOn 114 = .ok (.aload_n 0, 1) := dk_42 (dk_at dksX1_castsOn_4 21 rfl rfl)
theorem dX1_castsOn_115 : decode cX1_castsOn 115 = .ok (.iload 4, 2) := dk_21 4 (dk_at dksX1_castsOn_4 22 rfl rfl)
theorem dX1_castsOn_117 : decode cX1_castsOn 117 = .ok (.iload 8, 2) := dk_21 8 (dk_at dksX1_castsOn_5 0 rfl rfl)
theorem dX1_castsOn_119 : decode cX1_castsOn 119 = .ok (.ior, 1) := dk_128 (dk_at dksX1_castsOn_5 2 rfl rfl)
theorem dX1_castsOn_120 : decode cX1_castsOn 120 = .ok (.invokevirtual 337, 3) := dk_182 1 81 (dk_at dksX1_castsOn_5 3 rfl rfl)
theorem dX1_castsOn_123 : decode cX1_castsOn 123 = .ok (.ifCond .eq 6, 3) := dk_153 0 6 (dk_at dksX1_castsOn_5 6 rfl rfl)
theorem dX1_castsOn_126 : decode cX1_castsOn 126 = .ok (.goto 32, 3) := dk_167 0 32 (dk_at dksX1_castsOn_5 9 rfl rfl)
theorem dX1_castsOn_129 : decode cX1_castsOn 129 = .ok (.aload_n 0, 1) := dk_42 (dk_at dksX1_castsOn_5 12 rfl rfl)
theorem dX1_castsOn_130 : decode cX1_castsOn 130 = .ok (.getfield 83, 3) := dk_180 0 83 (dk_at dksX1_castsOn_5 13 rfl rfl)
theorem dX1_castsOn_133 : decode cX1_castsOn 133 = .ok (.iload_n 2, 1) := dk_28 (dk_at dksX1_castsOn_5 16 rfl rfl)
theorem dX1_castsOn_134 : decode cX1_castsOn 134 = .ok (.iload 8, 2) := dk_21 8 (dk_at dksX1_castsOn_5 17 rfl rfl)
theorem dX1_castsOn_136 : decode cX1_castsOn 136 = .ok (.iastore, 1) := dk_79 (dk_at dksX1_castsOn_5 19 rfl rfl)
theorem dX1_castsOn_137 : decode cX1_castsOn 137 = .ok (.aload_n 0, 1) := dk_42 (dk_at dksX1_castsOn_5 20 rfl rfl)
theorem dX1_castsOn_138 : decode cX1_castsOn 138 = .ok (.aload_n 1, 1) := dk_43 (dk_at dksX1_castsOn_5 21 rfl rfl)
theorem dX1_castsOn_139 : decode cX1_castsOn 139 = .ok (.iload_n 2, 1) := dk_28 (dk_at dksX1_castsOn_5 22 rfl rfl)
theorem dX1_castsOn_140 : decode cX1_castsOn 140 = .ok (.iconst 1, 1) := dk_4 (dk_at dksX1_castsOn_5 23 rfl rfl)
theorem dX1_castsOn_141 : decode cX1_castsOn 141 = .ok (.iadd, 1) := dk_96 (dk_at dksX1_castsOn_6 0 rfl rfl)
theorem dX1_castsOn_142 : decode cX1_castsOn 142 = .ok (.iload_n 3, 1) := dk_29 (dk_at dksX1_castsOn_6 1 rfl rfl)
theorem dX1_castsOn_143 : decode cX1_castsOn 143 = .ok (.iload 8, 2) := dk_21 8 (dk_at dksX1_castsOn_6 2 rfl rfl)
theorem dX1_castsOn_145 : decode cX1_castsOn 145 = .ok (.iconst (-1), 1) := dk_2 (dk_at dksX1_castsOn_6 4 rfl rfl)
theorem dX1_castsOn_146 : decode cX1_castsOn 146 = .ok (.ixor, 1) := dk_130 (dk_at dksX1_castsOn_6 5 rfl rfl)
theorem dX1_castsOn_147 : decode cX1_castsOn 147 = .ok (.iand, 1) := dk_126 (dk_at dksX1_castsOn_6 6 rfl rfl)
theorem dX1_castsOn_148 : decode cX1_castsOn 148 = .ok (.iload 4, 2) := dk_21 4 (dk_at dksX1_castsOn_6 7 rfl rfl)
theorem dX1_castsOn_150 : decode cX1_castsOn 150 = .ok (.iload 8, 2) := dk_21 8 (dk_at dksX1_castsOn_6 9 rfl rfl)
theorem dX1_castsOn_152 : decode cX1_castsOn 152 = .ok (.ior, 1) := dk_128 (dk_at dksX1_castsOn_6 11 rfl rfl)
theorem dX1_castsOn_153 : decode cX1_castsOn 153 = .ok (.iload 5, 2) := dk_21 5 (dk_at dksX1_castsOn_6 12 rfl rfl)
theorem dX1_castsOn_155 : decode cX1_castsOn 155 = .ok (.invokevirtual 340, 3) := dk_182 1 84 (dk_at dksX1_castsOn_6 14 rfl rfl)
theorem dX1_castsOn_158 : decode cX1_castsOn 158 = .ok (.iinc 8 1, 3) := dk_132 8 1 (dk_at dksX1_castsOn_6 17 rfl rfl)
theorem dX1_castsOn_161 : decode cX1_castsOn 161 = .ok (.goto (-83), 3) := dk_167 255 173 (dk_at dksX1_castsOn_6 20 rfl rfl)
theorem dX1_castsOn_164 : decode cX1_castsOn 164 = .ok (.return_, 1) := dk_177 (dk_at dksX1_castsOn_6 23 rfl rfl)
abbrev cX1_isSilent : ByteArray := prog_1_method_38_code
def yX1_isSilent : MethodName := ⟨RX1, "isSilent", "(I)Z"⟩
def dkwX1_isSilent_1 : List UInt8 := [180, 0, 31, 180, 1, 66, 28, 46, 27, 126, 153, 0, 5, 4, 172, 132, 2, 1, 167, 255, 217, 3, 172]
abbrev dktX1_isSilent_1 : List UInt8 := dkwX1_isSilent_1 ++ []
def dkwX1_isSilent_0 : List UInt8 := [3, 61, 28, 42, 180, 0, 31, 180, 0, 126, 162, 0, 34, 27, 28, 122, 4, 126, 4, 160, 0, 19, 42]
abbrev dktX1_isSilent_0 : List UInt8 := dkwX1_isSilent_0 ++ dktX1_isSilent_1
theorem dksX1_isSilent_0 : cX1_isSilent.data.toList.drop 0 = dktX1_isSilent_0 := by decide +kernel
theorem dksX1_isSilent_1 : cX1_isSilent.data.toList.drop 23 = dktX1_isSilent_1 := dk_seg dksX1_isSilent_0 23 rfl rfl
theorem dX1_isSilent_0 : decode cX1_isSilent 0 = .ok (.iconst 0, 1) := dk_3 (dk_at dksX1_isSilent_0 0 rfl rfl)
theorem dX1_isSilent_1 : decode cX1_isSilent 1 = .ok (.istore_n 2, 1) := dk_61 (dk_at dksX1_isSilent_0 1 rfl rfl)
theorem dX1_isSilent_2 : decode cX1_isSilent 2 = .ok (.iload_n 2, 1) := dk_28 (dk_at dksX1_isSilent_0 2 rfl rfl)
theorem dX1_isSilent_3 : decode cX1_isSilent 3 = .ok (.aload_n 0, 1) := dk_42 (dk_at dksX1_isSilent_0 3 rfl rfl)
theorem dX1_isSilent_4 : decode cX1_isSilent 4 = .ok (.getfield 31, 3) := dk_180 0 31 (dk_at dksX1_isSilent_0 4 rfl rfl)
theorem dX1_isSilent_7 : decode cX1_isSilent 7 = .ok (.getfield 126, 3) := dk_180 0 126 (dk_at dksX1_isSilent_0 7 rfl rfl)
theorem dX1_isSilent_10 : decode cX1_isSilent 10 = .ok (.if_icmp .ge 34, 3) := dk_162 0 34 (dk_at dksX1_isSilent_0 10 rfl rfl)
theorem dX1_isSilent_13 : decode cX1_isSilent 13 = .ok (.iload_n 1, 1) := dk_27 (dk_at dksX1_isSilent_0 13 rfl rfl)
theorem dX1_isSilent_14 : decode cX1_isSilent 14 = .ok (.iload_n 2, 1) := dk_28 (dk_at dksX1_isSilent_0 14 rfl rfl)
theorem dX1_isSilent_15 : decode cX1_isSilent 15 = .ok (.ishr, 1) := dk_122 (dk_at dksX1_isSilent_0 15 rfl rfl)
theorem dX1_isSilent_16 : decode cX1_isSilent 16 = .ok (.iconst 1, 1) := dk_4 (dk_at dksX1_isSilent_0 16 rfl rfl)
theorem dX1_isSilent_17 : decode cX1_isSilent 17 = .ok (.iand, 1) := dk_126 (dk_at dksX1_isSilent_0 17 rfl rfl)
theorem dX1_isSilent_18 : decode cX1_isSilent 18 = .ok (.iconst 1, 1) := dk_4 (dk_at dksX1_isSilent_0 18 rfl rfl)
theorem dX1_isSilent_19 : decode cX1_isSilent 19 = .ok (.if_icmp .ne 19, 3) := dk_160 0 19 (dk_at dksX1_isSilent_0 19 rfl rfl)
theorem dX1_isSilent_22 : decode cX1_isSilent 22 = .ok (.aload_n 0, 1) := dk_42 (dk_at dksX1_isSilent_0 22 rfl rfl)
theorem dX1_isSilent_23 : decode cX1_isSilent 23 = .ok (.getfield 31, 3) := dk_180 0 31 (dk_at dksX1_isSilent_1 0 rfl rfl)
theorem dX1_isSilent_26 : decode cX1_isSilent 26 = .ok (.getfield 322, 3) := dk_180 1 66 (dk_at dksX1_isSilent_1 3 rfl rfl)
theorem dX1_isSilent_29 : decode cX1_isSilent 29 = .ok (.iload_n 2, 1) := dk_28 (dk_at dksX1_isSilent_1 6 rfl rfl)
theorem dX1_isSilent_30 : decode cX1_isSilent 30 = .ok (.iaload, 1) := dk_46 (dk_at dksX1_isSilent_1 7 rfl rfl)
theorem dX1_isSilent_31 : decode cX1_isSilent 31 = .ok (.iload_n 1, 1) := dk_27 (dk_at dksX1_isSilent_1 8 rfl rfl)
theorem dX1_isSilent_32 : decode cX1_isSilent 32 = .ok (.iand, 1) := dk_126 (dk_at dksX1_isSilent_1 9 rfl rfl)
theorem dX1_isSilent_33 : decode cX1_isSilent 33 = .ok (.ifCond .eq 5, 3) := dk_153 0 5 (dk_at dksX1_isSilent_1 10 rfl rfl)
theorem dX1_isSilent_36 : decode cX1_isSilent 36 = .ok (.iconst 1, 1) := dk_4 (dk_at dksX1_isSilent_1 13 rfl rfl)
theorem dX1_isSilent_37 : decode cX1_isSilent 37 = .ok (.ireturn, 1) := dk_172 (dk_at dksX1_isSilent_1 14 rfl rfl)
theorem dX1_isSilent_38 : decode cX1_isSilent 38 = .ok (.iinc 2 1, 3) := dk_132 2 1 (dk_at dksX1_isSilent_1 15 rfl rfl)
theorem dX1_isSilent_41 : decode cX1_isSilent 41 = .ok (.goto (-39), 3) := dk_167 255 217 (dk_at dksX1_isSilent_1 18 rfl rfl)
theorem dX1_isSilent_44 : decode cX1_isSilent 44 = .ok (.iconst 0, 1) := dk_3 (dk_at dksX1_isSilent_1 21 rfl rfl)
theorem dX1_isSilent_45 : decode cX1_isSilent 45 = .ok (.ireturn, 1) := dk_172 (dk_at dksX1_isSilent_1 22 rfl rfl)
abbrev cX1_dearest : ByteArray := prog_1_method_49_code
def yX1_dearest : MethodName := ⟨RX1, "dearest", "()I"⟩
def dkwX1_dearest_2 : List UInt8 := [132, 2, 1, 167, 255, 209, 27, 172]
abbrev dktX1_dearest_2 : List UInt8 := dkwX1_dearest_2 ++ []
def dkwX1_dearest_1 : List UInt8 := [4, 160, 0, 23, 27, 2, 159, 0, 16, 42, 28, 182, 1, 97, 42, 27, 182, 1, 97, 164, 0, 5, 28, 60]
abbrev dktX1_dearest_1 : List UInt8 := dkwX1_dearest_1 ++ dktX1_dearest_2
def dkwX1_dearest_0 : List UInt8 := [2, 60, 3, 61, 28, 42, 180, 0, 31, 180, 0, 126, 162, 0, 42, 42, 180, 0, 58, 180, 0, 226, 28, 46]
abbrev dktX1_dearest_0 : List UInt8 := dkwX1_dearest_0 ++ dktX1_dearest_1
theorem dksX1_dearest_0 : cX1_dearest.data.toList.drop 0 = dktX1_dearest_0 := by decide +kernel
theorem dksX1_dearest_1 : cX1_dearest.data.toList.drop 24 = dktX1_dearest_1 := dk_seg dksX1_dearest_0 24 rfl rfl
theorem dksX1_dearest_2 : cX1_dearest.data.toList.drop 48 = dktX1_dearest_2 := dk_seg dksX1_dearest_1 24 rfl rfl
theorem dX1_dearest_0 : decode cX1_dearest 0 = .ok (.iconst (-1), 1) := dk_2 (dk_at dksX1_dearest_0 0 rfl rfl)
theorem dX1_dearest_1 : decode cX1_dearest 1 = .ok (.istore_n 1, 1) := dk_60 (dk_at dksX1_dearest_0 1 rfl rfl)
theorem dX1_dearest_2 : decode cX1_dearest 2 = .ok (.iconst 0, 1) := dk_3 (dk_at dksX1_dearest_0 2 rfl rfl)
theorem dX1_dearest_3 : decode cX1_dearest 3 = .ok (.istore_n 2, 1) := dk_61 (dk_at dksX1_dearest_0 3 rfl rfl)
theorem dX1_dearest_4 : decode cX1_dearest 4 = .ok (.iload_n 2, 1) := dk_28 (dk_at dksX1_dearest_0 4 rfl rfl)
theorem dX1_dearest_5 : decode cX1_dearest 5 = .ok (.aload_n 0, 1) := dk_42 (dk_at dksX1_dearest_0 5 rfl rfl)
theorem dX1_dearest_6 : decode cX1_dearest 6 = .ok (.getfield 31, 3) := dk_180 0 31 (dk_at dksX1_dearest_0 6 rfl rfl)
theorem dX1_dearest_9 : decode cX1_dearest 9 = .ok (.getfield 126, 3) := dk_180 0 126 (dk_at dksX1_dearest_0 9 rfl rfl)
theorem dX1_dearest_12 : decode cX1_dearest 12 = .ok (.if_icmp .ge 42, 3) := dk_162 0 42 (dk_at dksX1_dearest_0 12 rfl rfl)
theorem dX1_dearest_15 : decode cX1_dearest 15 = .ok (.aload_n 0, 1) := dk_42 (dk_at dksX1_dearest_0 15 rfl rfl)
theorem dX1_dearest_16 : decode cX1_dearest 16 = .ok (.getfield 58, 3) := dk_180 0 58 (dk_at dksX1_dearest_0 16 rfl rfl)
theorem dX1_dearest_19 : decode cX1_dearest 19 = .ok (.getfield 226, 3) := dk_180 0 226 (dk_at dksX1_dearest_0 19 rfl rfl)
theorem dX1_dearest_22 : decode cX1_dearest 22 = .ok (.iload_n 2, 1) := dk_28 (dk_at dksX1_dearest_0 22 rfl rfl)
theorem dX1_dearest_23 : decode cX1_dearest 23 = .ok (.iaload, 1) := dk_46 (dk_at dksX1_dearest_0 23 rfl rfl)
theorem dX1_dearest_24 : decode cX1_dearest 24 = .ok (.iconst 1, 1) := dk_4 (dk_at dksX1_dearest_1 0 rfl rfl)
theorem dX1_dearest_25 : decode cX1_dearest 25 = .ok (.if_icmp .ne 23, 3) := dk_160 0 23 (dk_at dksX1_dearest_1 1 rfl rfl)
theorem dX1_dearest_28 : decode cX1_dearest 28 = .ok (.iload_n 1, 1) := dk_27 (dk_at dksX1_dearest_1 4 rfl rfl)
theorem dX1_dearest_29 : decode cX1_dearest 29 = .ok (.iconst (-1), 1) := dk_2 (dk_at dksX1_dearest_1 5 rfl rfl)
theorem dX1_dearest_30 : decode cX1_dearest 30 = .ok (.if_icmp .eq 16, 3) := dk_159 0 16 (dk_at dksX1_dearest_1 6 rfl rfl)
theorem dX1_dearest_33 : decode cX1_dearest 33 = .ok (.aload_n 0, 1) := dk_42 (dk_at dksX1_dearest_1 9 rfl rfl)
theorem dX1_dearest_34 : decode cX1_dearest 34 = .ok (.iload_n 2, 1) := dk_28 (dk_at dksX1_dearest_1 10 rfl rfl)
theorem dX1_dearest_35 : decode cX1_dearest 35 = .ok (.invokevirtual 353, 3) := dk_182 1 97 (dk_at dksX1_dearest_1 11 rfl rfl)
theorem dX1_dearest_38 : decode cX1_dearest 38 = .ok (.aload_n 0, 1) := dk_42 (dk_at dksX1_dearest_1 14 rfl rfl)
theorem dX1_dearest_39 : decode cX1_dearest 39 = .ok (.iload_n 1, 1) := dk_27 (dk_at dksX1_dearest_1 15 rfl rfl)
theorem dX1_dearest_40 : decode cX1_dearest 40 = .ok (.invokevirtual 353, 3) := dk_182 1 97 (dk_at dksX1_dearest_1 16 rfl rfl)
theorem dX1_dearest_43 : decode cX1_dearest 43 = .ok (.if_icmp .le 5, 3) := dk_164 0 5 (dk_at dksX1_dearest_1 19 rfl rfl)
theorem dX1_dearest_46 : decode cX1_dearest 46 = .ok (.iload_n 2, 1) := dk_28 (dk_at dksX1_dearest_1 22 rfl rfl)
theorem dX1_dearest_47 : decode cX1_dearest 47 = .ok (.istore_n 1, 1) := dk_60 (dk_at dksX1_dearest_1 23 rfl rfl)
theorem dX1_dearest_48 : decode cX1_dearest 48 = .ok (.iinc 2 1, 3) := dk_132 2 1 (dk_at dksX1_dearest_2 0 rfl rfl)
theorem dX1_dearest_51 : decode cX1_dearest 51 = .ok (.goto (-47), 3) := dk_167 255 209 (dk_at dksX1_dearest_2 3 rfl rfl)
theorem dX1_dearest_54 : decode cX1_dearest 54 = .ok (.iload_n 1, 1) := dk_27 (dk_at dksX1_dearest_2 6 rfl rfl)
theorem dX1_dearest_55 : decode cX1_dearest 55 = .ok (.ireturn, 1) := dk_172 (dk_at dksX1_dearest_2 7 rfl rfl)
abbrev cX1_costOf : ByteArray := prog_1_method_47_code
def yX1_costOf : MethodName := ⟨RX1, "costOf", "(I)I"⟩
def dkwX1_costOf_1 : List UInt8 := [182, 0, 204, 4, 27, 120, 2, 130, 126, 182, 1, 93, 2, 130, 126, 184, 0, 207, 172]
abbrev dktX1_costOf_1 : List UInt8 := dkwX1_costOf_1 ++ []
def dkwX1_costOf_0 : List UInt8 := [42, 42, 180, 0, 58, 42, 180, 0, 58, 182, 0, 204, 182, 1, 93, 42, 42, 180, 0, 58, 42, 180, 0, 58]
abbrev dktX1_costOf_0 : List UInt8 := dkwX1_costOf_0 ++ dktX1_costOf_1
theorem dksX1_costOf_0 : cX1_costOf.data.toList.drop 0 = dktX1_costOf_0 := by decide +kernel
theorem dksX1_costOf_1 : cX1_costOf.data.toList.drop 24 = dktX1_costOf_1 := dk_seg dksX1_costOf_0 24 rfl rfl
theorem dX1_costOf_0 : decode cX1_costOf 0 = .ok (.aload_n 0, 1) := dk_42 (dk_at dksX1_costOf_0 0 rfl rfl)
theorem dX1_costOf_1 : decode cX1_costOf 1 = .ok (.aload_n 0, 1) := dk_42 (dk_at dksX1_costOf_0 1 rfl rfl)
theorem dX1_costOf_2 : decode cX1_costOf 2 = .ok (.getfield 58, 3) := dk_180 0 58 (dk_at dksX1_costOf_0 2 rfl rfl)
theorem dX1_costOf_5 : decode cX1_costOf 5 = .ok (.aload_n 0, 1) := dk_42 (dk_at dksX1_costOf_0 5 rfl rfl)
theorem dX1_costOf_6 : decode cX1_costOf 6 = .ok (.getfield 58, 3) := dk_180 0 58 (dk_at dksX1_costOf_0 6 rfl rfl)
theorem dX1_costOf_9 : decode cX1_costOf 9 = .ok (.invokevirtual 204, 3) := dk_182 0 204 (dk_at dksX1_costOf_0 9 rfl rfl)
theorem dX1_costOf_12 : decode cX1_costOf 12 = .ok (.invokevirtual 349, 3) := dk_182 1 93 (dk_at dksX1_costOf_0 12 rfl rfl)
theorem dX1_costOf_15 : decode cX1_costOf 15 = .ok (.aload_n 0, 1) := dk_42 (dk_at dksX1_costOf_0 15 rfl rfl)
theorem dX1_costOf_16 : decode cX1_costOf 16 = .ok (.aload_n 0, 1) := dk_42 (dk_at dksX1_costOf_0 16 rfl rfl)
theorem dX1_costOf_17 : decode cX1_costOf 17 = .ok (.getfield 58, 3) := dk_180 0 58 (dk_at dksX1_costOf_0 17 rfl rfl)
theorem dX1_costOf_20 : decode cX1_costOf 20 = .ok (.aload_n 0, 1) := dk_42 (dk_at dksX1_costOf_0 20 rfl rfl)
theorem dX1_costOf_21 : decode cX1_costOf 21 = .ok (.getfield 58, 3) := dk_180 0 58 (dk_at dksX1_costOf_0 21 rfl rfl)
theorem dX1_costOf_24 : decode cX1_costOf 24 = .ok (.invokevirtual 204, 3) := dk_182 0 204 (dk_at dksX1_costOf_1 0 rfl rfl)
theorem dX1_costOf_27 : decode cX1_costOf 27 = .ok (.iconst 1, 1) := dk_4 (dk_at dksX1_costOf_1 3 rfl rfl)
theorem dX1_costOf_28 : decode cX1_costOf 28 = .ok (.iload_n 1, 1) := dk_27 (dk_at dksX1_costOf_1 4 rfl rfl)
theorem dX1_costOf_29 : decode cX1_costOf 29 = .ok (.ishl, 1) := dk_120 (dk_at dksX1_costOf_1 5 rfl rfl)
theorem dX1_costOf_30 : decode cX1_costOf 30 = .ok (.iconst (-1), 1) := dk_2 (dk_at dksX1_costOf_1 6 rfl rfl)
theorem dX1_costOf_31 : decode cX1_costOf 31 = .ok (.ixor, 1) := dk_130 (dk_at dksX1_costOf_1 7 rfl rfl)
theorem dX1_costOf_32 : decode cX1_costOf 32 = .ok (.iand, 1) := dk_126 (dk_at dksX1_costOf_1 8 rfl rfl)
theorem dX1_costOf_33 : decode cX1_costOf 33 = .ok (.invokevirtual 349, 3) := dk_182 1 93 (dk_at dksX1_costOf_1 9 rfl rfl)
theorem dX1_costOf_36 : decode cX1_costOf 36 = .ok (.iconst (-1), 1) := dk_2 (dk_at dksX1_costOf_1 12 rfl rfl)
theorem dX1_costOf_37 : decode cX1_costOf 37 = .ok (.ixor, 1) := dk_130 (dk_at dksX1_costOf_1 13 rfl rfl)
theorem dX1_costOf_38 : decode cX1_costOf 38 = .ok (.iand, 1) := dk_126 (dk_at dksX1_costOf_1 14 rfl rfl)
theorem dX1_costOf_39 : decode cX1_costOf 39 = .ok (.invokestatic 207, 3) := dk_184 0 207 (dk_at dksX1_costOf_1 15 rfl rfl)
theorem dX1_costOf_42 : decode cX1_costOf 42 = .ok (.ireturn, 1) := dk_172 (dk_at dksX1_costOf_1 18 rfl rfl)
abbrev cX1_right : ByteArray := prog_1_method_54_code
def yX1_right : MethodName := ⟨RX1, "right", "()I"⟩
theorem dX1_right_0 : decode cX1_right 0 = .ok (.aload_n 0, 1) := by decide +kernel
theorem dX1_right_1 : decode cX1_right 1 = .ok (.invokevirtual 359, 3) := by decide +kernel
theorem dX1_right_4 : decode cX1_right 4 = .ok (.ireturn, 1) := by decide +kernel
abbrev cX1_rightNow : ByteArray := prog_1_method_53_code
def yX1_rightNow : MethodName := ⟨RX1, "rightNow", "()I"⟩
def dkwX1_rightNow_4 : List UInt8 := [126, 4, 160, 0, 9, 132, 2, 1, 167, 255, 201, 28, 172]
abbrev dktX1_rightNow_4 : List UInt8 := dkwX1_rightNow_4 ++ []
def dkwX1_rightNow_3 : List UInt8 := [42, 180, 0, 47, 6, 28, 104, 4, 96, 46, 96, 46, 42, 180, 0, 47, 6, 28, 104, 5, 96, 46, 122, 4]
abbrev dktX1_rightNow_3 : List UInt8 := dkwX1_rightNow_3 ++ dktX1_rightNow_4
def dkwX1_rightNow_2 : List UInt8 := [61, 28, 42, 180, 0, 104, 162, 0, 53, 42, 180, 0, 89, 16, 8, 42, 180, 0, 47, 6, 28, 104, 46, 104]
abbrev dktX1_rightNow_2 : List UInt8 := dkwX1_rightNow_2 ++ dktX1_rightNow_3
def dkwX1_rightNow_1 : List UInt8 := [180, 0, 247, 3, 42, 180, 0, 89, 16, 8, 28, 104, 16, 8, 184, 0, 192, 132, 2, 1, 167, 255, 224, 3]
abbrev dktX1_rightNow_1 : List UInt8 := dkwX1_rightNow_1 ++ dktX1_rightNow_2
def dkwX1_rightNow_0 : List UInt8 := [42, 180, 0, 65, 182, 0, 98, 76, 4, 61, 28, 16, 60, 163, 0, 32, 43, 182, 1, 45, 87, 43]
abbrev dktX1_rightNow_0 : List UInt8 := dkwX1_rightNow_0 ++ dktX1_rightNow_1
theorem dksX1_rightNow_0 : cX1_rightNow.data.toList.drop 0 = dktX1_rightNow_0 := by decide +kernel
theorem dksX1_rightNow_1 : cX1_rightNow.data.toList.drop 22 = dktX1_rightNow_1 := dk_seg dksX1_rightNow_0 22 rfl rfl
theorem dksX1_rightNow_2 : cX1_rightNow.data.toList.drop 46 = dktX1_rightNow_2 := dk_seg dksX1_rightNow_1 24 rfl rfl
theorem dksX1_rightNow_3 : cX1_rightNow.data.toList.drop 70 = dktX1_rightNow_3 := dk_seg dksX1_rightNow_2 24 rfl rfl
theorem dksX1_rightNow_4 : cX1_rightNow.data.toList.drop 94 = dktX1_rightNow_4 := dk_seg dksX1_rightNow_3 24 rfl rfl
theorem dX1_rightNow_0 : decode cX1_rightNow 0 = .ok (.aload_n 0, 1) := dk_42 (dk_at dksX1_rightNow_0 0 rfl rfl)
theorem dX1_rightNow_1 : decode cX1_rightNow 1 = .ok (.getfield 65, 3) := dk_180 0 65 (dk_at dksX1_rightNow_0 1 rfl rfl)
theorem dX1_rightNow_4 : decode cX1_rightNow 4 = .ok (.invokevirtual 98, 3) := dk_182 0 98 (dk_at dksX1_rightNow_0 4 rfl rfl)
theorem dX1_rightNow_7 : decode cX1_rightNow 7 = .ok (.astore_n 1, 1) := dk_76 (dk_at dksX1_rightNow_0 7 rfl rfl)
theorem dX1_rightNow_8 : decode cX1_rightNow 8 = .ok (.iconst 1, 1) := dk_4 (dk_at dksX1_rightNow_0 8 rfl rfl)
theorem dX1_rightNow_9 : decode cX1_rightNow 9 = .ok (.istore_n 2, 1) := dk_61 (dk_at dksX1_rightNow_0 9 rfl rfl)
theorem dX1_rightNow_10 : decode cX1_rightNow 10 = .ok (.iload_n 2, 1) := dk_28 (dk_at dksX1_rightNow_0 10 rfl rfl)
theorem dX1_rightNow_11 : decode cX1_rightNow 11 = .ok (.bipush 60, 2) := dk_16 60 (dk_at dksX1_rightNow_0 11 rfl rfl)
theorem dX1_rightNow_13 : decode cX1_rightNow 13 = .ok (.if_icmp .gt 32, 3) := dk_163 0 32 (dk_at dksX1_rightNow_0 13 rfl rfl)
theorem dX1_rightNow_16 : decode cX1_rightNow 16 = .ok (.aload_n 1, 1) := dk_43 (dk_at dksX1_rightNow_0 16 rfl rfl)
theorem dX1_rightNow_17 : decode cX1_rightNow 17 = .ok (.invokevirtual 301, 3) := dk_182 1 45 (dk_at dksX1_rightNow_0 17 rfl rfl)
theorem dX1_rightNow_20 : decode cX1_rightNow 20 = .ok (.pop, 1) := dk_87 (dk_at dksX1_rightNow_0 20 rfl rfl)
theorem dX1_rightNow_21 : decode cX1_rightNow 21 = .ok (.aload_n 1, 1) := dk_43 (dk_at dksX1_rightNow_0 21 rfl rfl)
theorem dX1_rightNow_22 : decode cX1_rightNow 22 = .ok (.getfield 247, 3) := dk_180 0 247 (dk_at dksX1_rightNow_1 0 rfl rfl)
theorem dX1_rightNow_25 : decode cX1_rightNow 25 = .ok (.iconst 0, 1) := dk_3 (dk_at dksX1_rightNow_1 3 rfl rfl)
theorem dX1_rightNow_26 : decode cX1_rightNow 26 = .ok (.aload_n 0, 1) := dk_42 (dk_at dksX1_rightNow_1 4 rfl rfl)
theorem dX1_rightNow_27 : decode cX1_rightNow 27 = .ok (.getfield 89, 3) := dk_180 0 89 (dk_at dksX1_rightNow_1 5 rfl rfl)
theorem dX1_rightNow_30 : decode cX1_rightNow 30 = .ok (.bipush 8, 2) := dk_16 8 (dk_at dksX1_rightNow_1 8 rfl rfl)
theorem dX1_rightNow_32 : decode cX1_rightNow 32 = .ok (.iload_n 2, 1) := dk_28 (dk_at dksX1_rightNow_1 10 rfl rfl)
theorem dX1_rightNow_33 : decode cX1_rightNow 33 = .ok (.imul, 1) := dk_104 (dk_at dksX1_rightNow_1 11 rfl rfl)
theorem dX1_rightNow_34 : decode cX1_rightNow 34 = .ok (.bipush 8, 2) := dk_16 8 (dk_at dksX1_rightNow_1 12 rfl rfl)
theorem dX1_rightNow_36 : decode cX1_rightNow 36 = .ok (.invokestatic 192, 3) := dk_184 0 192 (dk_at dksX1_rightNow_1 14 rfl rfl)
theorem dX1_rightNow_39 : decode cX1_rightNow 39 = .ok (.iinc 2 1, 3) := dk_132 2 1 (dk_at dksX1_rightNow_1 17 rfl rfl)
theorem dX1_rightNow_42 : decode cX1_rightNow 42 = .ok (.goto (-32), 3) := dk_167 255 224 (dk_at dksX1_rightNow_1 20 rfl rfl)
theorem dX1_rightNow_45 : decode cX1_rightNow 45 = .ok (.iconst 0, 1) := dk_3 (dk_at dksX1_rightNow_1 23 rfl rfl)
theorem dX1_rightNow_46 : decode cX1_rightNow 46 = .ok (.istore_n 2, 1) := dk_61 (dk_at dksX1_rightNow_2 0 rfl rfl)
theorem dX1_rightNow_47 : decode cX1_rightNow 47 = .ok (.iload_n 2, 1) := dk_28 (dk_at dksX1_rightNow_2 1 rfl rfl)
theorem dX1_rightNow_48 : decode cX1_rightNow 48 = .ok (.aload_n 0, 1) := dk_42 (dk_at dksX1_rightNow_2 2 rfl rfl)
theorem dX1_rightNow_49 : decode cX1_rightNow 49 = .ok (.getfield 104, 3) := dk_180 0 104 (dk_at dksX1_rightNow_2 3 rfl rfl)
theorem dX1_rightNow_52 : decode cX1_rightNow 52 = .ok (.if_icmp .ge 53, 3) := dk_162 0 53 (dk_at dksX1_rightNow_2 6 rfl rfl)
theorem dX1_rightNow_55 : decode cX1_rightNow 55 = .ok (.aload_n 0, 1) := dk_42 (dk_at dksX1_rightNow_2 9 rfl rfl)
theorem dX1_rightNow_56 : decode cX1_rightNow 56 = .ok (.getfield 89, 3) := dk_180 0 89 (dk_at dksX1_rightNow_2 10 rfl rfl)
theorem dX1_rightNow_59 : decode cX1_rightNow 59 = .ok (.bipush 8, 2) := dk_16 8 (dk_at dksX1_rightNow_2 13 rfl rfl)
theorem dX1_rightNow_61 : decode cX1_rightNow 61 = .ok (.aload_n 0, 1) := dk_42 (dk_at dksX1_rightNow_2 15 rfl rfl)
theorem dX1_rightNow_62 : decode cX1_rightNow 62 = .ok (.getfield 47, 3) := dk_180 0 47 (dk_at dksX1_rightNow_2 16 rfl rfl)
theorem dX1_rightNow_65 : decode cX1_rightNow 65 = .ok (.iconst 3, 1) := dk_6 (dk_at dksX1_rightNow_2 19 rfl rfl)
theorem dX1_rightNow_66 : decode cX1_rightNow 66 = .ok (.iload_n 2, 1) := dk_28 (dk_at dksX1_rightNow_2 20 rfl rfl)
theorem dX1_rightNow_67 : decode cX1_rightNow 67 = .ok (.imul, 1) := dk_104 (dk_at dksX1_rightNow_2 21 rfl rfl)
theorem dX1_rightNow_68 : decode cX1_rightNow 68 = .ok (.iaload, 1) := dk_46 (dk_at dksX1_rightNow_2 22 rfl rfl)
theorem dX1_rightNow_69 : decode cX1_rightNow 69 = .ok (.imul, 1) := dk_104 (dk_at dksX1_rightNow_2 23 rfl rfl)
theorem dX1_rightNow_70 : decode cX1_rightNow 70 = .ok (.aload_n 0, 1) := dk_42 (dk_at dksX1_rightNow_3 0 rfl rfl)
theorem dX1_rightNow_71 : decode cX1_rightNow 71 = .ok (.getfield 47, 3) := dk_180 0 47 (dk_at dksX1_rightNow_3 1 rfl rfl)
theorem dX1_rightNow_74 : decode cX1_rightNow 74 = .ok (.iconst 3, 1) := dk_6 (dk_at dksX1_rightNow_3 4 rfl rfl)
theorem dX1_rightNow_75 : decode cX1_rightNow 75 = .ok (.iload_n 2, 1) := dk_28 (dk_at dksX1_rightNow_3 5 rfl rfl)
theorem dX1_rightNow_76 : decode cX1_rightNow 76 = .ok (.imul, 1) := dk_104 (dk_at dksX1_rightNow_3 6 rfl rfl)
theorem dX1_rightNow_77 : decode cX1_rightNow 77 = .ok (.iconst 1, 1) := dk_4 (dk_at dksX1_rightNow_3 7 rfl rfl)
theorem dX1_rightNow_78 : decode cX1_rightNow 78 = .ok (.iadd, 1) := dk_96 (dk_at dksX1_rightNow_3 8 rfl rfl)
theorem dX1_rightNow_79 : decode cX1_rightNow 79 = .ok (.iaload, 1) := dk_46 (dk_at dksX1_rightNow_3 9 rfl rfl)
theorem dX1_rightNow_80 : decode cX1_rightNow 80 = .ok (.iadd, 1) := dk_96 (dk_at dksX1_rightNow_3 10 rfl rfl)
theorem dX1_rightNow_81 : decode cX1_rightNow 81 = .ok (.iaload, 1) := dk_46 (dk_at dksX1_rightNow_3 11 rfl rfl)
theorem dX1_rightNow_82 : decode cX1_rightNow 82 = .ok (.aload_n 0, 1) := dk_42 (dk_at dksX1_rightNow_3 12 rfl rfl)
theorem dX1_rightNow_83 : decode cX1_rightNow 83 = .ok (.getfield 47, 3) := dk_180 0 47 (dk_at dksX1_rightNow_3 13 rfl rfl)
theorem dX1_rightNow_86 : decode cX1_rightNow 86 = .ok (.iconst 3, 1) := dk_6 (dk_at dksX1_rightNow_3 16 rfl rfl)
theorem dX1_rightNow_87 : decode cX1_rightNow 87 = .ok (.iload_n 2, 1) := dk_28 (dk_at dksX1_rightNow_3 17 rfl rfl)
theorem dX1_rightNow_88 : decode cX1_rightNow 88 = .ok (.imul, 1) := dk_104 (dk_at dksX1_rightNow_3 18 rfl rfl)
theorem dX1_rightNow_89 : decode cX1_rightNow 89 = .ok (.iconst 2, 1) := dk_5 (dk_at dksX1_rightNow_3 19 rfl rfl)
theorem dX1_rightNow_90 : decode cX1_rightNow 90 = .ok (.iadd, 1) := dk_96 (dk_at dksX1_rightNow_3 20 rfl rfl)
theorem dX1_rightNow_91 : decode cX1_rightNow 91 = .ok (.iaload, 1) := dk_46 (dk_at dksX1_rightNow_3 21 rfl rfl)
theorem dX1_rightNow_92 : decode cX1_rightNow 92 = .ok (.ishr, 1) := dk_122 (dk_at dksX1_rightNow_3 22 rfl rfl)
theorem dX1_rightNow_93 : decode cX1_rightNow 93 = .ok (.iconst 1, 1) := dk_4 (dk_at dksX1_rightNow_3 23 rfl rfl)
theorem dX1_rightNow_94 : decode cX1_rightNow 94 = .ok (.iand, 1) := dk_126 (dk_at dksX1_rightNow_4 0 rfl rfl)
theorem dX1_rightNow_95 : decode cX1_rightNow 95 = .ok (.iconst 1, 1) := dk_4 (dk_at dksX1_rightNow_4 1 rfl rfl)
theorem dX1_rightNow_96 : decode cX1_rightNow 96 = .ok (.if_icmp .ne 9, 3) := dk_160 0 9 (dk_at dksX1_rightNow_4 2 rfl rfl)
theorem dX1_rightNow_99 : decode cX1_rightNow 99 = .ok (.iinc 2 1, 3) := dk_132 2 1 (dk_at dksX1_rightNow_4 5 rfl rfl)
theorem dX1_rightNow_102 : decode cX1_rightNow 102 = .ok (.goto (-55), 3) := dk_167 255 201 (dk_at dksX1_rightNow_4 8 rfl rfl)
theorem dX1_rightNow_105 : decode cX1_rightNow 105 = .ok (.iload_n 2, 1) := dk_28 (dk_at dksX1_rightNow_4 11 rfl rfl)
theorem dX1_rightNow_106 : decode cX1_rightNow 106 = .ok (.ireturn, 1) := dk_172 (dk_at dksX1_rightNow_4 12 rfl rfl)
abbrev cX1_limpOf : ByteArray := prog_1_method_5_code
def yX1_limpOf : MethodName := ⟨RX1, "limpOf", "(I)I"⟩
def dkwX1_limpOf_1 : List UInt8 := [172]
abbrev dktX1_limpOf_1 : List UInt8 := dkwX1_limpOf_1 ++ []
def dkwX1_limpOf_0 : List UInt8 := [27, 42, 180, 0, 72, 160, 0, 10, 42, 180, 0, 114, 167, 0, 12, 42, 180, 0, 31, 180, 0, 117, 27, 46]
abbrev dktX1_limpOf_0 : List UInt8 := dkwX1_limpOf_0 ++ dktX1_limpOf_1
theorem dksX1_limpOf_0 : cX1_limpOf.data.toList.drop 0 = dktX1_limpOf_0 := by decide +kernel
theorem dksX1_limpOf_1 : cX1_limpOf.data.toList.drop 24 = dktX1_limpOf_1 := dk_seg dksX1_limpOf_0 24 rfl rfl
theorem dX1_limpOf_0 : decode cX1_limpOf 0 = .ok (.iload_n 1, 1) := dk_27 (dk_at dksX1_limpOf_0 0 rfl rfl)
theorem dX1_limpOf_1 : decode cX1_limpOf 1 = .ok (.aload_n 0, 1) := dk_42 (dk_at dksX1_limpOf_0 1 rfl rfl)
theorem dX1_limpOf_2 : decode cX1_limpOf 2 = .ok (.getfield 72, 3) := dk_180 0 72 (dk_at dksX1_limpOf_0 2 rfl rfl)
theorem dX1_limpOf_5 : decode cX1_limpOf 5 = .ok (.if_icmp .ne 10, 3) := dk_160 0 10 (dk_at dksX1_limpOf_0 5 rfl rfl)
theorem dX1_limpOf_8 : decode cX1_limpOf 8 = .ok (.aload_n 0, 1) := dk_42 (dk_at dksX1_limpOf_0 8 rfl rfl)
theorem dX1_limpOf_9 : decode cX1_limpOf 9 = .ok (.getfield 114, 3) := dk_180 0 114 (dk_at dksX1_limpOf_0 9 rfl rfl)
theorem dX1_limpOf_12 : decode cX1_limpOf 12 = .ok (.goto 12, 3) := dk_167 0 12 (dk_at dksX1_limpOf_0 12 rfl rfl)
theorem dX1_limpOf_15 : decode cX1_limpOf 15 = .ok (.aload_n 0, 1) := dk_42 (dk_at dksX1_limpOf_0 15 rfl rfl)
theorem dX1_limpOf_16 : decode cX1_limpOf 16 = .ok (.getfield 31, 3) := dk_180 0 31 (dk_at dksX1_limpOf_0 16 rfl rfl)
theorem dX1_limpOf_19 : decode cX1_limpOf 19 = .ok (.getfield 117, 3) := dk_180 0 117 (dk_at dksX1_limpOf_0 19 rfl rfl)
theorem dX1_limpOf_22 : decode cX1_limpOf 22 = .ok (.iload_n 1, 1) := dk_27 (dk_at dksX1_limpOf_0 22 rfl rfl)
theorem dX1_limpOf_23 : decode cX1_limpOf 23 = .ok (.iaload, 1) := dk_46 (dk_at dksX1_limpOf_0 23 rfl rfl)
theorem dX1_limpOf_24 : decode cX1_limpOf 24 = .ok (.ireturn, 1) := dk_172 (dk_at dksX1_limpOf_1 0 rfl rfl)
abbrev cX1_nights : ByteArray := prog_1_method_58_code
def yX1_nights : MethodName := ⟨RX1, "nights", "()I"⟩
theorem dX1_nights_0 : decode cX1_nights 0 = .ok (.aload_n 0, 1) := by decide +kernel
theorem dX1_nights_1 : decode cX1_nights 1 = .ok (.invokevirtual 365, 3) := by decide +kernel
theorem dX1_nights_4 : decode cX1_nights 4 = .ok (.ireturn, 1) := by decide +kernel
abbrev cX1_findNights : ByteArray := prog_1_method_57_code
def yX1_findNights : MethodName := ⟨RX1, "findNights", "()I"⟩
def dkwX1_findNights_0 : List UInt8 := [3, 60, 42, 3, 27, 182, 1, 106, 154, 0, 9, 132, 1, 1, 167, 255, 244, 27, 172]
abbrev dktX1_findNights_0 : List UInt8 := dkwX1_findNights_0 ++ []
theorem dksX1_findNights_0 : cX1_findNights.data.toList.drop 0 = dktX1_findNights_0 := by decide +kernel
theorem dX1_findNights_0 : decode cX1_findNights 0 = .ok (.iconst 0, 1) := dk_3 (dk_at dksX1_findNights_0 0 rfl rfl)
theorem dX1_findNights_1 : decode cX1_findNights 1 = .ok (.istore_n 1, 1) := dk_60 (dk_at dksX1_findNights_0 1 rfl rfl)
theorem dX1_findNights_2 : decode cX1_findNights 2 = .ok (.aload_n 0, 1) := dk_42 (dk_at dksX1_findNights_0 2 rfl rfl)
theorem dX1_findNights_3 : decode cX1_findNights 3 = .ok (.iconst 0, 1) := dk_3 (dk_at dksX1_findNights_0 3 rfl rfl)
theorem dX1_findNights_4 : decode cX1_findNights 4 = .ok (.iload_n 1, 1) := dk_27 (dk_at dksX1_findNights_0 4 rfl rfl)
theorem dX1_findNights_5 : decode cX1_findNights 5 = .ok (.invokevirtual 362, 3) := dk_182 1 106 (dk_at dksX1_findNights_0 5 rfl rfl)
theorem dX1_findNights_8 : decode cX1_findNights 8 = .ok (.ifCond .ne 9, 3) := dk_154 0 9 (dk_at dksX1_findNights_0 8 rfl rfl)
theorem dX1_findNights_11 : decode cX1_findNights 11 = .ok (.iinc 1 1, 3) := dk_132 1 1 (dk_at dksX1_findNights_0 11 rfl rfl)
theorem dX1_findNights_14 : decode cX1_findNights 14 = .ok (.goto (-12), 3) := dk_167 255 244 (dk_at dksX1_findNights_0 14 rfl rfl)
theorem dX1_findNights_17 : decode cX1_findNights 17 = .ok (.iload_n 1, 1) := dk_27 (dk_at dksX1_findNights_0 17 rfl rfl)
theorem dX1_findNights_18 : decode cX1_findNights 18 = .ok (.ireturn, 1) := dk_172 (dk_at dksX1_findNights_0 18 rfl rfl)
abbrev cX1_fitsOn : ByteArray := prog_1_method_56_code
def yX1_fitsOn : MethodName := ⟨RX1, "fitsOn", "(II)Z"⟩
def dkwX1_fitsOn_6 : List UInt8 := [2, 79, 132, 3, 1, 167, 255, 155, 3, 172]
abbrev dktX1_fitsOn_6 : List UInt8 := dkwX1_fitsOn_6 ++ []
def dkwX1_fitsOn_5 : List UInt8 := [180, 0, 92, 27, 29, 79, 42, 27, 4, 96, 28, 182, 1, 106, 153, 0, 5, 4, 172, 42, 180, 0, 92, 27]
abbrev dktX1_fitsOn_5 : List UInt8 := dkwX1_fitsOn_5 ++ dktX1_fitsOn_6
def dkwX1_fitsOn_4 : List UInt8 := [4, 167, 0, 4, 3, 54, 4, 132, 5, 1, 167, 255, 207, 21, 4, 154, 0, 6, 167, 0, 30, 42]
abbrev dktX1_fitsOn_4 : List UInt8 := dkwX1_fitsOn_4 ++ dktX1_fitsOn_5
def dkwX1_fitsOn_3 : List UInt8 := [21, 5, 46, 29, 160, 0, 20, 42, 180, 0, 31, 180, 1, 66, 27, 46, 21, 5, 122, 4, 126, 154, 0, 7]
abbrev dktX1_fitsOn_3 : List UInt8 := dkwX1_fitsOn_3 ++ dktX1_fitsOn_4
def dkwX1_fitsOn_2 : List UInt8 := [162, 0, 102, 4, 54, 4, 3, 54, 5, 21, 5, 27, 162, 0, 49, 21, 4, 153, 0, 35, 42, 180, 0, 92]
abbrev dktX1_fitsOn_2 : List UInt8 := dkwX1_fitsOn_2 ++ dktX1_fitsOn_3
def dkwX1_fitsOn_1 : List UInt8 := [180, 0, 226, 27, 46, 4, 159, 0, 12, 42, 27, 4, 96, 28, 182, 1, 106, 172, 3, 62, 29, 28]
abbrev dktX1_fitsOn_1 : List UInt8 := dkwX1_fitsOn_1 ++ dktX1_fitsOn_2
def dkwX1_fitsOn_0 : List UInt8 := [27, 42, 180, 0, 31, 180, 0, 126, 160, 0, 5, 4, 172, 42, 180, 0, 92, 27, 2, 79, 42, 180, 0, 58]
abbrev dktX1_fitsOn_0 : List UInt8 := dkwX1_fitsOn_0 ++ dktX1_fitsOn_1
theorem dksX1_fitsOn_0 : cX1_fitsOn.data.toList.drop 0 = dktX1_fitsOn_0 := by decide +kernel
theorem dksX1_fitsOn_1 : cX1_fitsOn.data.toList.drop 24 = dktX1_fitsOn_1 := dk_seg dksX1_fitsOn_0 24 rfl rfl
theorem dksX1_fitsOn_2 : cX1_fitsOn.data.toList.drop 46 = dktX1_fitsOn_2 := dk_seg dksX1_fitsOn_1 22 rfl rfl
theorem dksX1_fitsOn_3 : cX1_fitsOn.data.toList.drop 70 = dktX1_fitsOn_3 := dk_seg dksX1_fitsOn_2 24 rfl rfl
theorem dksX1_fitsOn_4 : cX1_fitsOn.data.toList.drop 94 = dktX1_fitsOn_4 := dk_seg dksX1_fitsOn_3 24 rfl rfl
theorem dksX1_fitsOn_5 : cX1_fitsOn.data.toList.drop 116 = dktX1_fitsOn_5 := dk_seg dksX1_fitsOn_4 22 rfl rfl
theorem dksX1_fitsOn_6 : cX1_fitsOn.data.toList.drop 140 = dktX1_fitsOn_6 := dk_seg dksX1_fitsOn_5 24 rfl rfl
theorem dX1_fitsOn_0 : decode cX1_fitsOn 0 = .ok (.iload_n 1, 1) := dk_27 (dk_at dksX1_fitsOn_0 0 rfl rfl)
theorem dX1_fitsOn_1 : decode cX1_fitsOn 1 = .ok (.aload_n 0, 1) := dk_42 (dk_at dksX1_fitsOn_0 1 rfl rfl)
theorem dX1_fitsOn_2 : decode cX1_fitsOn 2 = .ok (.getfield 31, 3) := dk_180 0 31 (dk_at dksX1_fitsOn_0 2 rfl rfl)
theorem dX1_fitsOn_5 : decode cX1_fitsOn 5 = .ok (.getfield 126, 3) := dk_180 0 126 (dk_at dksX1_fitsOn_0 5 rfl rfl)
theorem dX1_fitsOn_8 : decode cX1_fitsOn 8 = .ok (.if_icmp .ne 5, 3) := dk_160 0 5 (dk_at dksX1_fitsOn_0 8 rfl rfl)
theorem dX1_fitsOn_11 : decode cX1_fitsOn 11 = .ok (.iconst 1, 1) := dk_4 (dk_at dksX1_fitsOn_0 11 rfl rfl)
theorem dX1_fitsOn_12 : decode cX1_fitsOn 12 = .ok (.ireturn, 1) := dk_172 (dk_at dksX1_fitsOn_0 12 rfl rfl)
theorem dX1_fitsOn_13 : decode cX1_fitsOn 13 = .ok (.aload_n 0, 1) := dk_42 (dk_at dksX1_fitsOn_0 13 rfl rfl)
theorem dX1_fitsOn_14 : decode cX1_fitsOn 14 = .ok (.getfield 92, 3) := dk_180 0 92 (dk_at dksX1_fitsOn_0 14 rfl rfl)
theorem dX1_fitsOn_17 : decode cX1_fitsOn 17 = .ok (.iload_n 1, 1) := dk_27 (dk_at dksX1_fitsOn_0 17 rfl rfl)
theorem dX1_fitsOn_18 : decode cX1_fitsOn 18 = .ok (.iconst (-1), 1) := dk_2 (dk_at dksX1_fitsOn_0 18 rfl rfl)
theorem dX1_fitsOn_19 : decode cX1_fitsOn 19 = .ok (.iastore, 1) := dk_79 (dk_at dksX1_fitsOn_0 19 rfl rfl)
theorem dX1_fitsOn_20 : decode cX1_fitsOn 20 = .ok (.aload_n 0, 1) := dk_42 (dk_at dksX1_fitsOn_0 20 rfl rfl)
theorem dX1_fitsOn_21 : decode cX1_fitsOn 21 = .ok (.getfield 58, 3) := dk_180 0 58 (dk_at dksX1_fitsOn_0 21 rfl rfl)
theorem dX1_fitsOn_24 : decode cX1_fitsOn 24 = .ok (.getfield 226, 3) := dk_180 0 226 (dk_at dksX1_fitsOn_1 0 rfl rfl)
theorem dX1_fitsOn_27 : decode cX1_fitsOn 27 = .ok (.iload_n 1, 1) := dk_27 (dk_at dksX1_fitsOn_1 3 rfl rfl)
theorem dX1_fitsOn_28 : decode cX1_fitsOn 28 = .ok (.iaload, 1) := dk_46 (dk_at dksX1_fitsOn_1 4 rfl rfl)
theorem dX1_fitsOn_29 : decode cX1_fitsOn 29 = .ok (.iconst 1, 1) := dk_4 (dk_at dksX1_fitsOn_1 5 rfl rfl)
theorem dX1_fitsOn_30 : decode cX1_fitsOn 30 = .ok (.if_icmp .eq 12, 3) := dk_159 0 12 (dk_at dksX1_fitsOn_1 6 rfl rfl)
theorem dX1_fitsOn_33 : decode cX1_fitsOn 33 = .ok (.aload_n 0, 1) := dk_42 (dk_at dksX1_fitsOn_1 9 rfl rfl)
theorem dX1_fitsOn_34 : decode cX1_fitsOn 34 = .ok (.iload_n 1, 1) := dk_27 (dk_at dksX1_fitsOn_1 10 rfl rfl)
theorem dX1_fitsOn_35 : decode cX1_fitsOn 35 = .ok (.iconst 1, 1) := dk_4 (dk_at dksX1_fitsOn_1 11 rfl rfl)
theorem dX1_fitsOn_36 : decode cX1_fitsOn 36 = .ok (.iadd, 1) := dk_96 (dk_at dksX1_fitsOn_1 12 rfl rfl)
theorem dX1_fitsOn_37 : decode cX1_fitsOn 37 = .ok (.iload_n 2, 1) := dk_28 (dk_at dksX1_fitsOn_1 13 rfl rfl)
theorem dX1_fitsOn_38 : decode cX1_fitsOn 38 = .ok (.invokevirtual 362, 3) := dk_182 1 106 (dk_at dksX1_fitsOn_1 14 rfl rfl)
theorem dX1_fitsOn_41 : decode cX1_fitsOn 41 = .ok (.ireturn, 1) := dk_172 (dk_at dksX1_fitsOn_1 17 rfl rfl)
theorem dX1_fitsOn_42 : decode cX1_fitsOn 42 = .ok (.iconst 0, 1) := dk_3 (dk_at dksX1_fitsOn_1 18 rfl rfl)
theorem dX1_fitsOn_43 : decode cX1_fitsOn 43 = .ok (.istore_n 3, 1) := dk_62 (dk_at dksX1_fitsOn_1 19 rfl rfl)
theorem dX1_fitsOn_44 : decode cX1_fitsOn 44 = .ok (.iload_n 3, 1) := dk_29 (dk_at dksX1_fitsOn_1 20 rfl rfl)
theorem dX1_fitsOn_45 : decode cX1_fitsOn 45 = .ok (.iload_n 2, 1) := dk_28 (dk_at dksX1_fitsOn_1 21 rfl rfl)
theorem dX1_fitsOn_46 : decode cX1_fitsOn 46 = .ok (.if_icmp .ge 102, 3) := dk_162 0 102 (dk_at dksX1_fitsOn_2 0 rfl rfl)
theorem dX1_fitsOn_49 : decode cX1_fitsOn 49 = .ok (.iconst 1, 1) := dk_4 (dk_at dksX1_fitsOn_2 3 rfl rfl)
theorem dX1_fitsOn_50 : decode cX1_fitsOn 50 = .ok (.istore 4, 2) := dk_54 4 (dk_at dksX1_fitsOn_2 4 rfl rfl)
theorem dX1_fitsOn_52 : decode cX1_fitsOn 52 = .ok (.iconst 0, 1) := dk_3 (dk_at dksX1_fitsOn_2 6 rfl rfl)
theorem dX1_fitsOn_53 : decode cX1_fitsOn 53 = .ok (.istore 5, 2) := dk_54 5 (dk_at dksX1_fitsOn_2 7 rfl rfl)
theorem dX1_fitsOn_55 : decode cX1_fitsOn 55 = .ok (.iload 5, 2) := dk_21 5 (dk_at dksX1_fitsOn_2 9 rfl rfl)
theorem dX1_fitsOn_57 : decode cX1_fitsOn 57 = .ok (.iload_n 1, 1) := dk_27 (dk_at dksX1_fitsOn_2 11 rfl rfl)
theorem dX1_fitsOn_58 : decode cX1_fitsOn 58 = .ok (.if_icmp .ge 49, 3) := dk_162 0 49 (dk_at dksX1_fitsOn_2 12 rfl rfl)
theorem dX1_fitsOn_61 : decode cX1_fitsOn 61 = .ok (.iload 4, 2) := dk_21 4 (dk_at dksX1_fitsOn_2 15 rfl rfl)
theorem dX1_fitsOn_63 : decode cX1_fitsOn 63 = .ok (.ifCond .eq 35, 3) := dk_153 0 35 (dk_at dksX1_fitsOn_2 17 rfl rfl)
theorem dX1_fitsOn_66 : decode cX1_fitsOn 66 = .ok (.aload_n 0, 1) := dk_42 (dk_at dksX1_fitsOn_2 20 rfl rfl)
theorem dX1_fitsOn_67 : decode cX1_fitsOn 67 = .ok (.getfield 92, 3) := dk_180 0 92 (dk_at dksX1_fitsOn_2 21 rfl rfl)
theorem dX1_fitsOn_70 : decode cX1_fitsOn 70 = .ok (.iload 5, 2) := dk_21 5 (dk_at dksX1_fitsOn_3 0 rfl rfl)
theorem dX1_fitsOn_72 : decode cX1_fitsOn 72 = .ok (.iaload, 1) := dk_46 (dk_at dksX1_fitsOn_3 2 rfl rfl)
theorem dX1_fitsOn_73 : decode cX1_fitsOn 73 = .ok (.iload_n 3, 1) := dk_29 (dk_at dksX1_fitsOn_3 3 rfl rfl)
theorem dX1_fitsOn_74 : decode cX1_fitsOn 74 = .ok (.if_icmp .ne 20, 3) := dk_160 0 20 (dk_at dksX1_fitsOn_3 4 rfl rfl)
theorem dX1_fitsOn_77 : decode cX1_fitsOn 77 = .ok (.aload_n 0, 1) := dk_42 (dk_at dksX1_fitsOn_3 7 rfl rfl)
theorem dX1_fitsOn_78 : decode cX1_fitsOn 78 = .ok (.getfield 31, 3) := dk_180 0 31 (dk_at dksX1_fitsOn_3 8 rfl rfl)
theorem dX1_fitsOn_81 : decode cX1_fitsOn 81 = .ok (.getfield 322, 3) := dk_180 1 66 (dk_at dksX1_fitsOn_3 11 rfl rfl)
theorem dX1_fitsOn_84 : decode cX1_fitsOn 84 = .ok (.iload_n 1, 1) := dk_27 (dk_at dksX1_fitsOn_3 14 rfl rfl)
theorem dX1_fitsOn_85 : decode cX1_fitsOn 85 = .ok (.iaload, 1) := dk_46 (dk_at dksX1_fitsOn_3 15 rfl rfl)
theorem dX1_fitsOn_86 : decode cX1_fitsOn 86 = .ok (.iload 5, 2) := dk_21 5 (dk_at dksX1_fitsOn_3 16 rfl rfl)
theorem dX1_fitsOn_88 : decode cX1_fitsOn 88 = .ok (.ishr, 1) := dk_122 (dk_at dksX1_fitsOn_3 18 rfl rfl)
theorem dX1_fitsOn_89 : decode cX1_fitsOn 89 = .ok (.iconst 1, 1) := dk_4 (dk_at dksX1_fitsOn_3 19 rfl rfl)
theorem dX1_fitsOn_90 : decode cX1_fitsOn 90 = .ok (.iand, 1) := dk_126 (dk_at dksX1_fitsOn_3 20 rfl rfl)
theorem dX1_fitsOn_91 : decode cX1_fitsOn 91 = .ok (.ifCond .ne 7, 3) := dk_154 0 7 (dk_at dksX1_fitsOn_3 21 rfl rfl)
theorem dX1_fitsOn_94 : decode cX1_fitsOn 94 = .ok (.iconst 1, 1) := dk_4 (dk_at dksX1_fitsOn_4 0 rfl rfl)
theorem dX1_fitsOn_95 : decode cX1_fitsOn 95 = .ok (.goto 4, 3) := dk_167 0 4 (dk_at dksX1_fitsOn_4 1 rfl rfl)
theorem dX1_fitsOn_98 : decode cX1_fitsOn 98 = .ok (.iconst 0, 1) := dk_3 (dk_at dksX1_fitsOn_4 4 rfl rfl)
theorem dX1_fitsOn_99 : decode cX1_fitsOn 99 = .ok (.istore 4, 2) := dk_54 4 (dk_at dksX1_fitsOn_4 5 rfl rfl)
theorem dX1_fitsOn_101 : decode cX1_fitsOn 101 = .ok (.iinc 5 1, 3) := dk_132 5 1 (dk_at dksX1_fitsOn_4 7 rfl rfl)
theorem dX1_fitsOn_104 : decode cX1_fitsOn 104 = .ok (.goto (-49), 3) := dk_167 255 207 (dk_at dksX1_fitsOn_4 10 rfl rfl)
theorem dX1_fitsOn_107 : decode cX1_fitsOn 107 = .ok (.iload 4, 2) := dk_21 4 (dk_at dksX1_fitsOn_4 13 rfl rfl)
theorem dX1_fitsOn_109 : decode cX1_fitsOn 109 = .ok (.ifCond .ne 6, 3) := dk_154 0 6 (dk_at dksX1_fitsOn_4 15 rfl rfl)
theorem dX1_fitsOn_112 : decode cX1_fitsOn 112 = .ok (.goto 30, 3) := dk_167 0 30 (dk_at dksX1_fitsOn_4 18 rfl rfl)
theorem dX1_fitsOn_115 : decode cX1_fitsOn 115 = .ok (.aload_n 0, 1) := dk_42 (dk_at dksX1_fitsOn_4 21 rfl rfl)
theorem dX1_fitsOn_116 : decode cX1_fitsOn 116 = .ok (.getfield 92, 3) := dk_180 0 92 (dk_at dksX1_fitsOn_5 0 rfl rfl)
theorem dX1_fitsOn_119 : decode cX1_fitsOn 119 = .ok (.iload_n 1, 1) := dk_27 (dk_at dksX1_fitsOn_5 3 rfl rfl)
theorem dX1_fitsOn_120 : decode cX1_fitsOn 120 = .ok (.iload_n 3, 1) := dk_29 (dk_at dksX1_fitsOn_5 4 rfl rfl)
theorem dX1_fitsOn_121 : decode cX1_fitsOn 121 = .ok (.iastore, 1) := dk_79 (dk_at dksX1_fitsOn_5 5 rfl rfl)
theorem dX1_fitsOn_122 : decode cX1_fitsOn 122 = .ok (.aload_n 0, 1) := dk_42 (dk_at dksX1_fitsOn_5 6 rfl rfl)
theorem dX1_fitsOn_123 : decode cX1_fitsOn 123 = .ok (.iload_n 1, 1) := dk_27 (dk_at dksX1_fitsOn_5 7 rfl rfl)
theorem dX1_fitsOn_124 : decode cX1_fitsOn 124 = .ok (.iconst 1, 1) := dk_4 (dk_at dksX1_fitsOn_5 8 rfl rfl)
theorem dX1_fitsOn_125 : decode cX1_fitsOn 125 = .ok (.iadd, 1) := dk_96 (dk_at dksX1_fitsOn_5 9 rfl rfl)
theorem dX1_fitsOn_126 : decode cX1_fitsOn 126 = .ok (.iload_n 2, 1) := dk_28 (dk_at dksX1_fitsOn_5 10 rfl rfl)
theorem dX1_fitsOn_127 : decode cX1_fitsOn 127 = .ok (.invokevirtual 362, 3) := dk_182 1 106 (dk_at dksX1_fitsOn_5 11 rfl rfl)
theorem dX1_fitsOn_130 : decode cX1_fitsOn 130 = .ok (.ifCond .eq 5, 3) := dk_153 0 5 (dk_at dksX1_fitsOn_5 14 rfl rfl)
theorem dX1_fitsOn_133 : decode cX1_fitsOn 133 = .ok (.iconst 1, 1) := dk_4 (dk_at dksX1_fitsOn_5 17 rfl rfl)
theorem dX1_fitsOn_134 : decode cX1_fitsOn 134 = .ok (.ireturn, 1) := dk_172 (dk_at dksX1_fitsOn_5 18 rfl rfl)
theorem dX1_fitsOn_135 : decode cX1_fitsOn 135 = .ok (.aload_n 0, 1) := dk_42 (dk_at dksX1_fitsOn_5 19 rfl rfl)
theorem dX1_fitsOn_136 : decode cX1_fitsOn 136 = .ok (.getfield 92, 3) := dk_180 0 92 (dk_at dksX1_fitsOn_5 20 rfl rfl)
theorem dX1_fitsOn_139 : decode cX1_fitsOn 139 = .ok (.iload_n 1, 1) := dk_27 (dk_at dksX1_fitsOn_5 23 rfl rfl)
theorem dX1_fitsOn_140 : decode cX1_fitsOn 140 = .ok (.iconst (-1), 1) := dk_2 (dk_at dksX1_fitsOn_6 0 rfl rfl)
theorem dX1_fitsOn_141 : decode cX1_fitsOn 141 = .ok (.iastore, 1) := dk_79 (dk_at dksX1_fitsOn_6 1 rfl rfl)
theorem dX1_fitsOn_142 : decode cX1_fitsOn 142 = .ok (.iinc 3 1, 3) := dk_132 3 1 (dk_at dksX1_fitsOn_6 2 rfl rfl)
theorem dX1_fitsOn_145 : decode cX1_fitsOn 145 = .ok (.goto (-101), 3) := dk_167 255 155 (dk_at dksX1_fitsOn_6 5 rfl rfl)
theorem dX1_fitsOn_148 : decode cX1_fitsOn 148 = .ok (.iconst 0, 1) := dk_3 (dk_at dksX1_fitsOn_6 8 rfl rfl)
theorem dX1_fitsOn_149 : decode cX1_fitsOn 149 = .ok (.ireturn, 1) := dk_172 (dk_at dksX1_fitsOn_6 9 rfl rfl)
abbrev cX1_orphans : ByteArray := prog_1_method_68_code
def yX1_orphans : MethodName := ⟨RX1, "orphans", "()I"⟩
def dkwX1_orphans_1 : List UInt8 := [158, 0, 9, 4, 28, 120, 167, 0, 4, 3, 128, 60, 132, 2, 1, 167, 255, 221, 27, 172]
abbrev dktX1_orphans_1 : List UInt8 := dkwX1_orphans_1 ++ []
def dkwX1_orphans_0 : List UInt8 := [3, 60, 3, 61, 28, 42, 180, 0, 31, 180, 0, 133, 162, 0, 30, 27, 42, 180, 0, 58, 28, 182, 0, 250]
abbrev dktX1_orphans_0 : List UInt8 := dkwX1_orphans_0 ++ dktX1_orphans_1
theorem dksX1_orphans_0 : cX1_orphans.data.toList.drop 0 = dktX1_orphans_0 := by decide +kernel
theorem dksX1_orphans_1 : cX1_orphans.data.toList.drop 24 = dktX1_orphans_1 := dk_seg dksX1_orphans_0 24 rfl rfl
theorem dX1_orphans_0 : decode cX1_orphans 0 = .ok (.iconst 0, 1) := dk_3 (dk_at dksX1_orphans_0 0 rfl rfl)
theorem dX1_orphans_1 : decode cX1_orphans 1 = .ok (.istore_n 1, 1) := dk_60 (dk_at dksX1_orphans_0 1 rfl rfl)
theorem dX1_orphans_2 : decode cX1_orphans 2 = .ok (.iconst 0, 1) := dk_3 (dk_at dksX1_orphans_0 2 rfl rfl)
theorem dX1_orphans_3 : decode cX1_orphans 3 = .ok (.istore_n 2, 1) := dk_61 (dk_at dksX1_orphans_0 3 rfl rfl)
theorem dX1_orphans_4 : decode cX1_orphans 4 = .ok (.iload_n 2, 1) := dk_28 (dk_at dksX1_orphans_0 4 rfl rfl)
theorem dX1_orphans_5 : decode cX1_orphans 5 = .ok (.aload_n 0, 1) := dk_42 (dk_at dksX1_orphans_0 5 rfl rfl)
theorem dX1_orphans_6 : decode cX1_orphans 6 = .ok (.getfield 31, 3) := dk_180 0 31 (dk_at dksX1_orphans_0 6 rfl rfl)
theorem dX1_orphans_9 : decode cX1_orphans 9 = .ok (.getfield 133, 3) := dk_180 0 133 (dk_at dksX1_orphans_0 9 rfl rfl)
theorem dX1_orphans_12 : decode cX1_orphans 12 = .ok (.if_icmp .ge 30, 3) := dk_162 0 30 (dk_at dksX1_orphans_0 12 rfl rfl)
theorem dX1_orphans_15 : decode cX1_orphans 15 = .ok (.iload_n 1, 1) := dk_27 (dk_at dksX1_orphans_0 15 rfl rfl)
theorem dX1_orphans_16 : decode cX1_orphans 16 = .ok (.aload_n 0, 1) := dk_42 (dk_at dksX1_orphans_0 16 rfl rfl)
theorem dX1_orphans_17 : decode cX1_orphans 17 = .ok (.getfield 58, 3) := dk_180 0 58 (dk_at dksX1_orphans_0 17 rfl rfl)
theorem dX1_orphans_20 : decode cX1_orphans 20 = .ok (.iload_n 2, 1) := dk_28 (dk_at dksX1_orphans_0 20 rfl rfl)
theorem dX1_orphans_21 : decode cX1_orphans 21 = .ok (.invokevirtual 250, 3) := dk_182 0 250 (dk_at dksX1_orphans_0 21 rfl rfl)
theorem dX1_orphans_24 : decode cX1_orphans 24 = .ok (.ifCond .le 9, 3) := dk_158 0 9 (dk_at dksX1_orphans_1 0 rfl rfl)
theorem dX1_orphans_27 : decode cX1_orphans 27 = .ok (.iconst 1, 1) := dk_4 (dk_at dksX1_orphans_1 3 rfl rfl)
theorem dX1_orphans_28 : decode cX1_orphans 28 = .ok (.iload_n 2, 1) := dk_28 (dk_at dksX1_orphans_1 4 rfl rfl)
theorem dX1_orphans_29 : decode cX1_orphans 29 = .ok (.ishl, 1) := dk_120 (dk_at dksX1_orphans_1 5 rfl rfl)
theorem dX1_orphans_30 : decode cX1_orphans 30 = .ok (.goto 4, 3) := dk_167 0 4 (dk_at dksX1_orphans_1 6 rfl rfl)
theorem dX1_orphans_33 : decode cX1_orphans 33 = .ok (.iconst 0, 1) := dk_3 (dk_at dksX1_orphans_1 9 rfl rfl)
theorem dX1_orphans_34 : decode cX1_orphans 34 = .ok (.ior, 1) := dk_128 (dk_at dksX1_orphans_1 10 rfl rfl)
theorem dX1_orphans_35 : decode cX1_orphans 35 = .ok (.istore_n 1, 1) := dk_60 (dk_at dksX1_orphans_1 11 rfl rfl)
theorem dX1_orphans_36 : decode cX1_orphans 36 = .ok (.iinc 2 1, 3) := dk_132 2 1 (dk_at dksX1_orphans_1 12 rfl rfl)
theorem dX1_orphans_39 : decode cX1_orphans 39 = .ok (.goto (-35), 3) := dk_167 255 221 (dk_at dksX1_orphans_1 15 rfl rfl)
theorem dX1_orphans_42 : decode cX1_orphans 42 = .ok (.iload_n 1, 1) := dk_27 (dk_at dksX1_orphans_1 18 rfl rfl)
theorem dX1_orphans_43 : decode cX1_orphans 43 = .ok (.ireturn, 1) := dk_172 (dk_at dksX1_orphans_1 19 rfl rfl)
abbrev cX1_idle : ByteArray := prog_1_method_69_code
def yX1_idle : MethodName := ⟨RX1, "idle", "()I"⟩
def dkwX1_idle_2 : List UInt8 := [60, 132, 2, 1, 167, 255, 208, 27, 172]
abbrev dktX1_idle_2 : List UInt8 := dkwX1_idle_2 ++ []
def dkwX1_idle_1 : List UInt8 := [46, 4, 160, 0, 20, 42, 180, 0, 58, 28, 182, 0, 229, 154, 0, 9, 4, 28, 120, 167, 0, 4, 3, 128]
abbrev dktX1_idle_1 : List UInt8 := dkwX1_idle_1 ++ dktX1_idle_2
def dkwX1_idle_0 : List UInt8 := [3, 60, 3, 61, 28, 42, 180, 0, 31, 180, 0, 126, 162, 0, 43, 27, 42, 180, 0, 58, 180, 0, 226, 28]
abbrev dktX1_idle_0 : List UInt8 := dkwX1_idle_0 ++ dktX1_idle_1
theorem dksX1_idle_0 : cX1_idle.data.toList.drop 0 = dktX1_idle_0 := by decide +kernel
theorem dksX1_idle_1 : cX1_idle.data.toList.drop 24 = dktX1_idle_1 := dk_seg dksX1_idle_0 24 rfl rfl
theorem dksX1_idle_2 : cX1_idle.data.toList.drop 48 = dktX1_idle_2 := dk_seg dksX1_idle_1 24 rfl rfl
theorem dX1_idle_0 : decode cX1_idle 0 = .ok (.iconst 0, 1) := dk_3 (dk_at dksX1_idle_0 0 rfl rfl)
theorem dX1_idle_1 : decode cX1_idle 1 = .ok (.istore_n 1, 1) := dk_60 (dk_at dksX1_idle_0 1 rfl rfl)
theorem dX1_idle_2 : decode cX1_idle 2 = .ok (.iconst 0, 1) := dk_3 (dk_at dksX1_idle_0 2 rfl rfl)
theorem dX1_idle_3 : decode cX1_idle 3 = .ok (.istore_n 2, 1) := dk_61 (dk_at dksX1_idle_0 3 rfl rfl)
theorem dX1_idle_4 : decode cX1_idle 4 = .ok (.iload_n 2, 1) := dk_28 (dk_at dksX1_idle_0 4 rfl rfl)
theorem dX1_idle_5 : decode cX1_idle 5 = .ok (.aload_n 0, 1) := dk_42 (dk_at dksX1_idle_0 5 rfl rfl)
theorem dX1_idle_6 : decode cX1_idle 6 = .ok (.getfield 31, 3) := dk_180 0 31 (dk_at dksX1_idle_0 6 rfl rfl)
theorem dX1_idle_9 : decode cX1_idle 9 = .ok (.getfield 126, 3) := dk_180 0 126 (dk_at dksX1_idle_0 9 rfl rfl)
theorem dX1_idle_12 : decode cX1_idle 12 = .ok (.if_icmp .ge 43, 3) := dk_162 0 43 (dk_at dksX1_idle_0 12 rfl rfl)
theorem dX1_idle_15 : decode cX1_idle 15 = .ok (.iload_n 1, 1) := dk_27 (dk_at dksX1_idle_0 15 rfl rfl)
theorem dX1_idle_16 : decode cX1_idle 16 = .ok (.aload_n 0, 1) := dk_42 (dk_at dksX1_idle_0 16 rfl rfl)
theorem dX1_idle_17 : decode cX1_idle 17 = .ok (.getfield 58, 3) := dk_180 0 58 (dk_at dksX1_idle_0 17 rfl rfl)
theorem dX1_idle_20 : decode cX1_idle 20 = .ok (.getfield 226, 3) := dk_180 0 226 (dk_at dksX1_idle_0 20 rfl rfl)
theorem dX1_idle_23 : decode cX1_idle 23 = .ok (.iload_n 2, 1) := dk_28 (dk_at dksX1_idle_0 23 rfl rfl)
theorem dX1_idle_24 : decode cX1_idle 24 = .ok (.iaload, 1) := dk_46 (dk_at dksX1_idle_1 0 rfl rfl)
theorem dX1_idle_25 : decode cX1_idle 25 = .ok (.iconst 1, 1) := dk_4 (dk_at dksX1_idle_1 1 rfl rfl)
theorem dX1_idle_26 : decode cX1_idle 26 = .ok (.if_icmp .ne 20, 3) := dk_160 0 20 (dk_at dksX1_idle_1 2 rfl rfl)
theorem dX1_idle_29 : decode cX1_idle 29 = .ok (.aload_n 0, 1) := dk_42 (dk_at dksX1_idle_1 5 rfl rfl)
theorem dX1_idle_30 : decode cX1_idle 30 = .ok (.getfield 58, 3) := dk_180 0 58 (dk_at dksX1_idle_1 6 rfl rfl)
theorem dX1_idle_33 : decode cX1_idle 33 = .ok (.iload_n 2, 1) := dk_28 (dk_at dksX1_idle_1 9 rfl rfl)
theorem dX1_idle_34 : decode cX1_idle 34 = .ok (.invokevirtual 229, 3) := dk_182 0 229 (dk_at dksX1_idle_1 10 rfl rfl)
theorem dX1_idle_37 : decode cX1_idle 37 = .ok (.ifCond .ne 9, 3) := dk_154 0 9 (dk_at dksX1_idle_1 13 rfl rfl)
theorem dX1_idle_40 : decode cX1_idle 40 = .ok (.iconst 1, 1) := dk_4 (dk_at dksX1_idle_1 16 rfl rfl)
theorem dX1_idle_41 : decode cX1_idle 41 = .ok (.iload_n 2, 1) := dk_28 (dk_at dksX1_idle_1 17 rfl rfl)
theorem dX1_idle_42 : decode cX1_idle 42 = .ok (.ishl, 1) := dk_120 (dk_at dksX1_idle_1 18 rfl rfl)
theorem dX1_idle_43 : decode cX1_idle 43 = .ok (.goto 4, 3) := dk_167 0 4 (dk_at dksX1_idle_1 19 rfl rfl)
theorem dX1_idle_46 : decode cX1_idle 46 = .ok (.iconst 0, 1) := dk_3 (dk_at dksX1_idle_1 22 rfl rfl)
theorem dX1_idle_47 : decode cX1_idle 47 = .ok (.ior, 1) := dk_128 (dk_at dksX1_idle_1 23 rfl rfl)
theorem dX1_idle_48 : decode cX1_idle 48 = .ok (.istore_n 1, 1) := dk_60 (dk_at dksX1_idle_2 0 rfl rfl)
theorem dX1_idle_49 : decode cX1_idle 49 = .ok (.iinc 2 1, 3) := dk_132 2 1 (dk_at dksX1_idle_2 1 rfl rfl)
theorem dX1_idle_52 : decode cX1_idle 52 = .ok (.goto (-48), 3) := dk_167 255 208 (dk_at dksX1_idle_2 4 rfl rfl)
theorem dX1_idle_55 : decode cX1_idle 55 = .ok (.iload_n 1, 1) := dk_27 (dk_at dksX1_idle_2 7 rfl rfl)
theorem dX1_idle_56 : decode cX1_idle 56 = .ok (.ireturn, 1) := dk_172 (dk_at dksX1_idle_2 8 rfl rfl)
abbrev cX1_mute : ByteArray := prog_1_method_71_code
def yX1_mute : MethodName := ⟨RX1, "mute", "()I"⟩
def dkwX1_mute_2 : List UInt8 := [172]
abbrev dktX1_mute_2 : List UInt8 := dkwX1_mute_2 ++ []
def dkwX1_mute_1 : List UInt8 := [28, 46, 182, 1, 81, 153, 0, 9, 4, 28, 120, 167, 0, 4, 3, 128, 60, 132, 2, 1, 167, 255, 216, 27]
abbrev dktX1_mute_1 : List UInt8 := dkwX1_mute_1 ++ dktX1_mute_2
def dkwX1_mute_0 : List UInt8 := [3, 60, 3, 61, 28, 42, 180, 0, 31, 180, 0, 133, 162, 0, 35, 27, 42, 42, 180, 0, 58, 180, 0, 247]
abbrev dktX1_mute_0 : List UInt8 := dkwX1_mute_0 ++ dktX1_mute_1
theorem dksX1_mute_0 : cX1_mute.data.toList.drop 0 = dktX1_mute_0 := by decide +kernel
theorem dksX1_mute_1 : cX1_mute.data.toList.drop 24 = dktX1_mute_1 := dk_seg dksX1_mute_0 24 rfl rfl
theorem dksX1_mute_2 : cX1_mute.data.toList.drop 48 = dktX1_mute_2 := dk_seg dksX1_mute_1 24 rfl rfl
theorem dX1_mute_0 : decode cX1_mute 0 = .ok (.iconst 0, 1) := dk_3 (dk_at dksX1_mute_0 0 rfl rfl)
theorem dX1_mute_1 : decode cX1_mute 1 = .ok (.istore_n 1, 1) := dk_60 (dk_at dksX1_mute_0 1 rfl rfl)
theorem dX1_mute_2 : decode cX1_mute 2 = .ok (.iconst 0, 1) := dk_3 (dk_at dksX1_mute_0 2 rfl rfl)
theorem dX1_mute_3 : decode cX1_mute 3 = .ok (.istore_n 2, 1) := dk_61 (dk_at dksX1_mute_0 3 rfl rfl)
theorem dX1_mute_4 : decode cX1_mute 4 = .ok (.iload_n 2, 1) := dk_28 (dk_at dksX1_mute_0 4 rfl rfl)
theorem dX1_mute_5 : decode cX1_mute 5 = .ok (.aload_n 0, 1) := dk_42 (dk_at dksX1_mute_0 5 rfl rfl)
theorem dX1_mute_6 : decode cX1_mute 6 = .ok (.getfield 31, 3) := dk_180 0 31 (dk_at dksX1_mute_0 6 rfl rfl)
theorem dX1_mute_9 : decode cX1_mute 9 = .ok (.getfield 133, 3) := dk_180 0 133 (dk_at dksX1_mute_0 9 rfl rfl)
theorem dX1_mute_12 : decode cX1_mute 12 = .ok (.if_icmp .ge 35, 3) := dk_162 0 35 (dk_at dksX1_mute_0 12 rfl rfl)
theorem dX1_mute_15 : decode cX1_mute 15 = .ok (.iload_n 1, 1) := dk_27 (dk_at dksX1_mute_0 15 rfl rfl)
theorem dX1_mute_16 : decode cX1_mute 16 = .ok (.aload_n 0, 1) := dk_42 (dk_at dksX1_mute_0 16 rfl rfl)
theorem dX1_mute_17 : decode cX1_mute 17 = .ok (.aload_n 0, 1) := dk_42 (dk_at dksX1_mute_0 17 rfl rfl)
theorem dX1_mute_18 : decode cX1_mute 18 = .ok (.getfield 58, 3) := dk_180 0 58 (dk_at dksX1_mute_0 18 rfl rfl)
theorem dX1_mute_21 : decode cX1_mute 21 = .ok (.getfield 247, 3) := dk_180 0 247 (dk_at dksX1_mute_0 21 rfl rfl)
theorem dX1_mute_24 : decode cX1_mute 24 = .ok (.iload_n 2, 1) := dk_28 (dk_at dksX1_mute_1 0 rfl rfl)
theorem dX1_mute_25 : decode cX1_mute 25 = .ok (.iaload, 1) := dk_46 (dk_at dksX1_mute_1 1 rfl rfl)
theorem dX1_mute_26 : decode cX1_mute 26 = .ok (.invokevirtual 337, 3) := dk_182 1 81 (dk_at dksX1_mute_1 2 rfl rfl)
theorem dX1_mute_29 : decode cX1_mute 29 = .ok (.ifCond .eq 9, 3) := dk_153 0 9 (dk_at dksX1_mute_1 5 rfl rfl)
theorem dX1_mute_32 : decode cX1_mute 32 = .ok (.iconst 1, 1) := dk_4 (dk_at dksX1_mute_1 8 rfl rfl)
theorem dX1_mute_33 : decode cX1_mute 33 = .ok (.iload_n 2, 1) := dk_28 (dk_at dksX1_mute_1 9 rfl rfl)
theorem dX1_mute_34 : decode cX1_mute 34 = .ok (.ishl, 1) := dk_120 (dk_at dksX1_mute_1 10 rfl rfl)
theorem dX1_mute_35 : decode cX1_mute 35 = .ok (.goto 4, 3) := dk_167 0 4 (dk_at dksX1_mute_1 11 rfl rfl)
theorem dX1_mute_38 : decode cX1_mute 38 = .ok (.iconst 0, 1) := dk_3 (dk_at dksX1_mute_1 14 rfl rfl)
theorem dX1_mute_39 : decode cX1_mute 39 = .ok (.ior, 1) := dk_128 (dk_at dksX1_mute_1 15 rfl rfl)
theorem dX1_mute_40 : decode cX1_mute 40 = .ok (.istore_n 1, 1) := dk_60 (dk_at dksX1_mute_1 16 rfl rfl)
theorem dX1_mute_41 : decode cX1_mute 41 = .ok (.iinc 2 1, 3) := dk_132 2 1 (dk_at dksX1_mute_1 17 rfl rfl)
theorem dX1_mute_44 : decode cX1_mute 44 = .ok (.goto (-40), 3) := dk_167 255 216 (dk_at dksX1_mute_1 20 rfl rfl)
theorem dX1_mute_47 : decode cX1_mute 47 = .ok (.iload_n 1, 1) := dk_27 (dk_at dksX1_mute_1 23 rfl rfl)
theorem dX1_mute_48 : decode cX1_mute 48 = .ok (.ireturn, 1) := dk_172 (dk_at dksX1_mute_2 0 rfl rfl)
abbrev cX1_speaks : ByteArray := prog_1_method_81_code
def yX1_speaks : MethodName := ⟨RX1, "speaks", "()I"⟩
def dkwX1_speaks_3 : List UInt8 := [154, 0, 7, 4, 167, 0, 4, 3, 96, 60, 132, 3, 1, 167, 255, 192, 132, 2, 1, 167, 255, 171, 27, 172]
abbrev dktX1_speaks_3 : List UInt8 := dkwX1_speaks_3 ++ []
def dkwX1_speaks_2 : List UInt8 := [180, 0, 226, 29, 46, 4, 160, 0, 23, 42, 180, 0, 31, 180, 1, 66, 28, 46, 29, 122, 4, 126]
abbrev dktX1_speaks_2 : List UInt8 := dkwX1_speaks_2 ++ dktX1_speaks_3
def dkwX1_speaks_1 : List UInt8 := [180, 0, 126, 162, 0, 59, 27, 42, 180, 0, 58, 180, 0, 226, 28, 46, 4, 160, 0, 36, 42, 180, 0, 58]
abbrev dktX1_speaks_1 : List UInt8 := dkwX1_speaks_1 ++ dktX1_speaks_2
def dkwX1_speaks_0 : List UInt8 := [3, 60, 3, 61, 28, 42, 180, 0, 31, 180, 0, 126, 162, 0, 80, 28, 4, 96, 62, 29, 42, 180, 0, 31]
abbrev dktX1_speaks_0 : List UInt8 := dkwX1_speaks_0 ++ dktX1_speaks_1
theorem dksX1_speaks_0 : cX1_speaks.data.toList.drop 0 = dktX1_speaks_0 := by decide +kernel
theorem dksX1_speaks_1 : cX1_speaks.data.toList.drop 24 = dktX1_speaks_1 := dk_seg dksX1_speaks_0 24 rfl rfl
theorem dksX1_speaks_2 : cX1_speaks.data.toList.drop 48 = dktX1_speaks_2 := dk_seg dksX1_speaks_1 24 rfl rfl
theorem dksX1_speaks_3 : cX1_speaks.data.toList.drop 70 = dktX1_speaks_3 := dk_seg dksX1_speaks_2 22 rfl rfl
theorem dX1_speaks_0 : decode cX1_speaks 0 = .ok (.iconst 0, 1) := dk_3 (dk_at dksX1_speaks_0 0 rfl rfl)
theorem dX1_speaks_1 : decode cX1_speaks 1 = .ok (.istore_n 1, 1) := dk_60 (dk_at dksX1_speaks_0 1 rfl rfl)
theorem dX1_speaks_2 : decode cX1_speaks 2 = .ok (.iconst 0, 1) := dk_3 (dk_at dksX1_speaks_0 2 rfl rfl)
theorem dX1_speaks_3 : decode cX1_speaks 3 = .ok (.istore_n 2, 1) := dk_61 (dk_at dksX1_speaks_0 3 rfl rfl)
theorem dX1_speaks_4 : decode cX1_speaks 4 = .ok (.iload_n 2, 1) := dk_28 (dk_at dksX1_speaks_0 4 rfl rfl)
theorem dX1_speaks_5 : decode cX1_speaks 5 = .ok (.aload_n 0, 1) := dk_42 (dk_at dksX1_speaks_0 5 rfl rfl)
theorem dX1_speaks_6 : decode cX1_speaks 6 = .ok (.getfield 31, 3) := dk_180 0 31 (dk_at dksX1_speaks_0 6 rfl rfl)
theorem dX1_speaks_9 : decode cX1_speaks 9 = .ok (.getfield 126, 3) := dk_180 0 126 (dk_at dksX1_speaks_0 9 rfl rfl)
theorem dX1_speaks_12 : decode cX1_speaks 12 = .ok (.if_icmp .ge 80, 3) := dk_162 0 80 (dk_at dksX1_speaks_0 12 rfl rfl)
theorem dX1_speaks_15 : decode cX1_speaks 15 = .ok (.iload_n 2, 1) := dk_28 (dk_at dksX1_speaks_0 15 rfl rfl)
theorem dX1_speaks_16 : decode cX1_speaks 16 = .ok (.iconst 1, 1) := dk_4 (dk_at dksX1_speaks_0 16 rfl rfl)
theorem dX1_speaks_17 : decode cX1_speaks 17 = .ok (.iadd, 1) := dk_96 (dk_at dksX1_speaks_0 17 rfl rfl)
theorem dX1_speaks_18 : decode cX1_speaks 18 = .ok (.istore_n 3, 1) := dk_62 (dk_at dksX1_speaks_0 18 rfl rfl)
theorem dX1_speaks_19 : decode cX1_speaks 19 = .ok (.iload_n 3, 1) := dk_29 (dk_at dksX1_speaks_0 19 rfl rfl)
theorem dX1_speaks_20 : decode cX1_speaks 20 = .ok (.aload_n 0, 1) := dk_42 (dk_at dksX1_speaks_0 20 rfl rfl)
theorem dX1_speaks_21 : decode cX1_speaks 21 = .ok (.getfield 31, 3) := dk_180 0 31 (dk_at dksX1_speaks_0 21 rfl rfl)
theorem dX1_speaks_24 : decode cX1_speaks 24 = .ok (.getfield 126, 3) := dk_180 0 126 (dk_at dksX1_speaks_1 0 rfl rfl)
theorem dX1_speaks_27 : decode cX1_speaks 27 = .ok (.if_icmp .ge 59, 3) := dk_162 0 59 (dk_at dksX1_speaks_1 3 rfl rfl)
theorem dX1_speaks_30 : decode cX1_speaks 30 = .ok (.iload_n 1, 1) := dk_27 (dk_at dksX1_speaks_1 6 rfl rfl)
theorem dX1_speaks_31 : decode cX1_speaks 31 = .ok (.aload_n 0, 1) := dk_42 (dk_at dksX1_speaks_1 7 rfl rfl)
theorem dX1_speaks_32 : decode cX1_speaks 32 = .ok (.getfield 58, 3) := dk_180 0 58 (dk_at dksX1_speaks_1 8 rfl rfl)
theorem dX1_speaks_35 : decode cX1_speaks 35 = .ok (.getfield 226, 3) := dk_180 0 226 (dk_at dksX1_speaks_1 11 rfl rfl)
theorem dX1_speaks_38 : decode cX1_speaks 38 = .ok (.iload_n 2, 1) := dk_28 (dk_at dksX1_speaks_1 14 rfl rfl)
theorem dX1_speaks_39 : decode cX1_speaks 39 = .ok (.iaload, 1) := dk_46 (dk_at dksX1_speaks_1 15 rfl rfl)
theorem dX1_speaks_40 : decode cX1_speaks 40 = .ok (.iconst 1, 1) := dk_4 (dk_at dksX1_speaks_1 16 rfl rfl)
theorem dX1_speaks_41 : decode cX1_speaks 41 = .ok (.if_icmp .ne 36, 3) := dk_160 0 36 (dk_at dksX1_speaks_1 17 rfl rfl)
theorem dX1_speaks_44 : decode cX1_speaks 44 = .ok (.aload_n 0, 1) := dk_42 (dk_at dksX1_speaks_1 20 rfl rfl)
theorem dX1_speaks_45 : decode cX1_speaks 45 = .ok (.getfield 58, 3) := dk_180 0 58 (dk_at dksX1_speaks_1 21 rfl rfl)
theorem dX1_speaks_48 : decode cX1_speaks 48 = .ok (.getfield 226, 3) := dk_180 0 226 (dk_at dksX1_speaks_2 0 rfl rfl)
theorem dX1_speaks_51 : decode cX1_speaks 51 = .ok (.iload_n 3, 1) := dk_29 (dk_at dksX1_speaks_2 3 rfl rfl)
theorem dX1_speaks_52 : decode cX1_speaks 52 = .ok (.iaload, 1) := dk_46 (dk_at dksX1_speaks_2 4 rfl rfl)
theorem dX1_speaks_53 : decode cX1_speaks 53 = .ok (.iconst 1, 1) := dk_4 (dk_at dksX1_speaks_2 5 rfl rfl)
theorem dX1_speaks_54 : decode cX1_speaks 54 = .ok (.if_icmp .ne 23, 3) := dk_160 0 23 (dk_at dksX1_speaks_2 6 rfl rfl)
theorem dX1_speaks_57 : decode cX1_speaks 57 = .ok (.aload_n 0, 1) := dk_42 (dk_at dksX1_speaks_2 9 rfl rfl)
theorem dX1_speaks_58 : decode cX1_speaks 58 = .ok (.getfield 31, 3) := dk_180 0 31 (dk_at dksX1_speaks_2 10 rfl rfl)
theorem dX1_speaks_61 : decode cX1_speaks 61 = .ok (.getfield 322, 3) := dk_180 1 66 (dk_at dksX1_speaks_2 13 rfl rfl)
theorem dX1_speaks_64 : decode cX1_speaks 64 = .ok (.iload_n 2, 1) := dk_28 (dk_at dksX1_speaks_2 16 rfl rfl)
theorem dX1_speaks_65 : decode cX1_speaks 65 = .ok (.iaload, 1) := dk_46 (dk_at dksX1_speaks_2 17 rfl rfl)
theorem dX1_speaks_66 : decode cX1_speaks 66 = .ok (.iload_n 3, 1) := dk_29 (dk_at dksX1_speaks_2 18 rfl rfl)
theorem dX1_speaks_67 : decode cX1_speaks 67 = .ok (.ishr, 1) := dk_122 (dk_at dksX1_speaks_2 19 rfl rfl)
theorem dX1_speaks_68 : decode cX1_speaks 68 = .ok (.iconst 1, 1) := dk_4 (dk_at dksX1_speaks_2 20 rfl rfl)
theorem dX1_speaks_69 : decode cX1_speaks 69 = .ok (.iand, 1) := dk_126 (dk_at dksX1_speaks_2 21 rfl rfl)
theorem dX1_speaks_70 : decode cX1_speaks 70 = .ok (.ifCond .ne 7, 3) := dk_154 0 7 (dk_at dksX1_speaks_3 0 rfl rfl)
theorem dX1_speaks_73 : decode cX1_speaks 73 = .ok (.iconst 1, 1) := dk_4 (dk_at dksX1_speaks_3 3 rfl rfl)
theorem dX1_speaks_74 : decode cX1_speaks 74 = .ok (.goto 4, 3) := dk_167 0 4 (dk_at dksX1_speaks_3 4 rfl rfl)
theorem dX1_speaks_77 : decode cX1_speaks 77 = .ok (.iconst 0, 1) := dk_3 (dk_at dksX1_speaks_3 7 rfl rfl)
theorem dX1_speaks_78 : decode cX1_speaks 78 = .ok (.iadd, 1) := dk_96 (dk_at dksX1_speaks_3 8 rfl rfl)
theorem dX1_speaks_79 : decode cX1_speaks 79 = .ok (.istore_n 1, 1) := dk_60 (dk_at dksX1_speaks_3 9 rfl rfl)
theorem dX1_speaks_80 : decode cX1_speaks 80 = .ok (.iinc 3 1, 3) := dk_132 3 1 (dk_at dksX1_speaks_3 10 rfl rfl)
theorem dX1_speaks_83 : decode cX1_speaks 83 = .ok (.goto (-64), 3) := dk_167 255 192 (dk_at dksX1_speaks_3 13 rfl rfl)
theorem dX1_speaks_86 : decode cX1_speaks 86 = .ok (.iinc 2 1, 3) := dk_132 2 1 (dk_at dksX1_speaks_3 16 rfl rfl)
theorem dX1_speaks_89 : decode cX1_speaks 89 = .ok (.goto (-85), 3) := dk_167 255 171 (dk_at dksX1_speaks_3 19 rfl rfl)
theorem dX1_speaks_92 : decode cX1_speaks 92 = .ok (.iload_n 1, 1) := dk_27 (dk_at dksX1_speaks_3 22 rfl rfl)
theorem dX1_speaks_93 : decode cX1_speaks 93 = .ok (.ireturn, 1) := dk_172 (dk_at dksX1_speaks_3 23 rfl rfl)
abbrev cX1_image : ByteArray := prog_1_method_87_code
def yX1_image : MethodName := ⟨RX1, "image", "()I"⟩
def dkwX1_image_2 : List UInt8 := [50, 42, 180, 0, 58, 182, 0, 110, 87, 42, 89, 180, 0, 107, 4, 96, 181, 0, 107, 42, 180, 0, 107, 172]
abbrev dktX1_image_2 : List UInt8 := dkwX1_image_2 ++ []
def dkwX1_image_1 : List UInt8 := [180, 0, 68, 42, 180, 0, 107, 187, 0, 53, 89, 42, 183, 0, 55, 83, 42, 180, 0, 68, 42, 180, 0, 107]
abbrev dktX1_image_1 : List UInt8 := dkwX1_image_1 ++ dktX1_image_2
def dkwX1_image_0 : List UInt8 := [42, 180, 0, 107, 6, 160, 0, 5, 2, 172, 42, 180, 0, 68, 42, 180, 0, 107, 50, 199, 0, 20, 42]
abbrev dktX1_image_0 : List UInt8 := dkwX1_image_0 ++ dktX1_image_1
theorem dksX1_image_0 : cX1_image.data.toList.drop 0 = dktX1_image_0 := by decide +kernel
theorem dksX1_image_1 : cX1_image.data.toList.drop 23 = dktX1_image_1 := dk_seg dksX1_image_0 23 rfl rfl
theorem dksX1_image_2 : cX1_image.data.toList.drop 47 = dktX1_image_2 := dk_seg dksX1_image_1 24 rfl rfl
theorem dX1_image_0 : decode cX1_image 0 = .ok (.aload_n 0, 1) := dk_42 (dk_at dksX1_image_0 0 rfl rfl)
theorem dX1_image_1 : decode cX1_image 1 = .ok (.getfield 107, 3) := dk_180 0 107 (dk_at dksX1_image_0 1 rfl rfl)
theorem dX1_image_4 : decode cX1_image 4 = .ok (.iconst 3, 1) := dk_6 (dk_at dksX1_image_0 4 rfl rfl)
theorem dX1_image_5 : decode cX1_image 5 = .ok (.if_icmp .ne 5, 3) := dk_160 0 5 (dk_at dksX1_image_0 5 rfl rfl)
theorem dX1_image_8 : decode cX1_image 8 = .ok (.iconst (-1), 1) := dk_2 (dk_at dksX1_image_0 8 rfl rfl)
theorem dX1_image_9 : decode cX1_image 9 = .ok (.ireturn, 1) := dk_172 (dk_at dksX1_image_0 9 rfl rfl)
theorem dX1_image_10 : decode cX1_image 10 = .ok (.aload_n 0, 1) := dk_42 (dk_at dksX1_image_0 10 rfl rfl)
theorem dX1_image_11 : decode cX1_image 11 = .ok (.getfield 68, 3) := dk_180 0 68 (dk_at dksX1_image_0 11 rfl rfl)
theorem dX1_image_14 : decode cX1_image 14 = .ok (.aload_n 0, 1) := dk_42 (dk_at dksX1_image_0 14 rfl rfl)
theorem dX1_image_15 : decode cX1_image 15 = .ok (.getfield 107, 3) := dk_180 0 107 (dk_at dksX1_image_0 15 rfl rfl)
theorem dX1_image_18 : decode cX1_image 18 = .ok (.aaload, 1) := dk_50 (dk_at dksX1_image_0 18 rfl rfl)
theorem dX1_image_19 : decode cX1_image 19 = .ok (.ifnonnull 20, 3) := dk_199 0 20 (dk_at dksX1_image_0 19 rfl rfl)
theorem dX1_image_22 : decode cX1_image 22 = .ok (.aload_n 0, 1) := dk_42 (dk_at dksX1_image_0 22 rfl rfl)
theorem dX1_image_23 : decode cX1_image 23 = .ok (.getfield 68, 3) := dk_180 0 68 (dk_at dksX1_image_1 0 rfl rfl)
theorem dX1_image_26 : decode cX1_image 26 = .ok (.aload_n 0, 1) := dk_42 (dk_at dksX1_image_1 3 rfl rfl)
theorem dX1_image_27 : decode cX1_image 27 = .ok (.getfield 107, 3) := dk_180 0 107 (dk_at dksX1_image_1 4 rfl rfl)
theorem dX1_image_30 : decode cX1_image 30 = .ok (.new 53, 3) := dk_187 0 53 (dk_at dksX1_image_1 7 rfl rfl)
theorem dX1_image_33 : decode cX1_image 33 = .ok (.dup, 1) := dk_89 (dk_at dksX1_image_1 10 rfl rfl)
theorem dX1_image_34 : decode cX1_image 34 = .ok (.aload_n 0, 1) := dk_42 (dk_at dksX1_image_1 11 rfl rfl)
theorem dX1_image_35 : decode cX1_image 35 = .ok (.invokespecial 55, 3) := dk_183 0 55 (dk_at dksX1_image_1 12 rfl rfl)
theorem dX1_image_38 : decode cX1_image 38 = .ok (.aastore, 1) := dk_83 (dk_at dksX1_image_1 15 rfl rfl)
theorem dX1_image_39 : decode cX1_image 39 = .ok (.aload_n 0, 1) := dk_42 (dk_at dksX1_image_1 16 rfl rfl)
theorem dX1_image_40 : decode cX1_image 40 = .ok (.getfield 68, 3) := dk_180 0 68 (dk_at dksX1_image_1 17 rfl rfl)
theorem dX1_image_43 : decode cX1_image 43 = .ok (.aload_n 0, 1) := dk_42 (dk_at dksX1_image_1 20 rfl rfl)
theorem dX1_image_44 : decode cX1_image 44 = .ok (.getfield 107, 3) := dk_180 0 107 (dk_at dksX1_image_1 21 rfl rfl)
theorem dX1_image_47 : decode cX1_image 47 = .ok (.aaload, 1) := dk_50 (dk_at dksX1_image_2 0 rfl rfl)
theorem dX1_image_48 : decode cX1_image 48 = .ok (.aload_n 0, 1) := dk_42 (dk_at dksX1_image_2 1 rfl rfl)
theorem dX1_image_49 : decode cX1_image 49 = .ok (.getfield 58, 3) := dk_180 0 58 (dk_at dksX1_image_2 2 rfl rfl)
theorem dX1_image_52 : decode cX1_image 52 = .ok (.invokevirtual 110, 3) := dk_182 0 110 (dk_at dksX1_image_2 5 rfl rfl)
theorem dX1_image_55 : decode cX1_image 55 = .ok (.pop, 1) := dk_87 (dk_at dksX1_image_2 8 rfl rfl)
theorem dX1_image_56 : decode cX1_image 56 = .ok (.aload_n 0, 1) := dk_42 (dk_at dksX1_image_2 9 rfl rfl)
theorem dX1_image_57 : decode cX1_image 57 = .ok (.dup, 1) := dk_89 (dk_at dksX1_image_2 10 rfl rfl)
theorem dX1_image_58 : decode cX1_image 58 = .ok (.getfield 107, 3) := dk_180 0 107 (dk_at dksX1_image_2 11 rfl rfl)
theorem dX1_image_61 : decode cX1_image 61 = .ok (.iconst 1, 1) := dk_4 (dk_at dksX1_image_2 14 rfl rfl)
theorem dX1_image_62 : decode cX1_image 62 = .ok (.iadd, 1) := dk_96 (dk_at dksX1_image_2 15 rfl rfl)
theorem dX1_image_63 : decode cX1_image 63 = .ok (.putfield 107, 3) := dk_181 0 107 (dk_at dksX1_image_2 16 rfl rfl)
theorem dX1_image_66 : decode cX1_image 66 = .ok (.aload_n 0, 1) := dk_42 (dk_at dksX1_image_2 19 rfl rfl)
theorem dX1_image_67 : decode cX1_image 67 = .ok (.getfield 107, 3) := dk_180 0 107 (dk_at dksX1_image_2 20 rfl rfl)
theorem dX1_image_70 : decode cX1_image 70 = .ok (.ireturn, 1) := dk_172 (dk_at dksX1_image_2 23 rfl rfl)
abbrev cX1_restore : ByteArray := prog_1_method_88_code
def yX1_restore : MethodName := ⟨RX1, "restore", "()I"⟩
def dkwX1_restore_1 : List UInt8 := [180, 0, 68, 42, 180, 0, 107, 50, 182, 0, 110, 87, 42, 182, 0, 101, 42, 180, 0, 107, 172]
abbrev dktX1_restore_1 : List UInt8 := dkwX1_restore_1 ++ []
def dkwX1_restore_0 : List UInt8 := [42, 180, 0, 107, 154, 0, 5, 2, 172, 42, 89, 180, 0, 107, 4, 100, 181, 0, 107, 42, 180, 0, 58, 42]
abbrev dktX1_restore_0 : List UInt8 := dkwX1_restore_0 ++ dktX1_restore_1
theorem dksX1_restore_0 : cX1_restore.data.toList.drop 0 = dktX1_restore_0 := by decide +kernel
theorem dksX1_restore_1 : cX1_restore.data.toList.drop 24 = dktX1_restore_1 := dk_seg dksX1_restore_0 24 rfl rfl
theorem dX1_restore_0 : decode cX1_restore 0 = .ok (.aload_n 0, 1) := dk_42 (dk_at dksX1_restore_0 0 rfl rfl)
theorem dX1_restore_1 : decode cX1_restore 1 = .ok (.getfield 107, 3) := dk_180 0 107 (dk_at dksX1_restore_0 1 rfl rfl)
theorem dX1_restore_4 : decode cX1_restore 4 = .ok (.ifCond .ne 5, 3) := dk_154 0 5 (dk_at dksX1_restore_0 4 rfl rfl)
theorem dX1_restore_7 : decode cX1_restore 7 = .ok (.iconst (-1), 1) := dk_2 (dk_at dksX1_restore_0 7 rfl rfl)
theorem dX1_restore_8 : decode cX1_restore 8 = .ok (.ireturn, 1) := dk_172 (dk_at dksX1_restore_0 8 rfl rfl)
theorem dX1_restore_9 : decode cX1_restore 9 = .ok (.aload_n 0, 1) := dk_42 (dk_at dksX1_restore_0 9 rfl rfl)
theorem dX1_restore_10 : decode cX1_restore 10 = .ok (.dup, 1) := dk_89 (dk_at dksX1_restore_0 10 rfl rfl)
theorem dX1_restore_11 : decode cX1_restore 11 = .ok (.getfield 107, 3) := dk_180 0 107 (dk_at dksX1_restore_0 11 rfl rfl)
theorem dX1_restore_14 : decode cX1_restore 14 = .ok (.iconst 1, 1) := dk_4 (dk_at dksX1_restore_0 14 rfl rfl)
theorem dX1_restore_15 : decode cX1_restore 15 = .ok (.isub, 1) := dk_100 (dk_at dksX1_restore_0 15 rfl rfl)
theorem dX1_restore_16 : decode cX1_restore 16 = .ok (.putfield 107, 3) := dk_181 0 107 (dk_at dksX1_restore_0 16 rfl rfl)
theorem dX1_restore_19 : decode cX1_restore 19 = .ok (.aload_n 0, 1) := dk_42 (dk_at dksX1_restore_0 19 rfl rfl)
theorem dX1_restore_20 : decode cX1_restore 20 = .ok (.getfield 58, 3) := dk_180 0 58 (dk_at dksX1_restore_0 20 rfl rfl)
theorem dX1_restore_23 : decode cX1_restore 23 = .ok (.aload_n 0, 1) := dk_42 (dk_at dksX1_restore_0 23 rfl rfl)
theorem dX1_restore_24 : decode cX1_restore 24 = .ok (.getfield 68, 3) := dk_180 0 68 (dk_at dksX1_restore_1 0 rfl rfl)
theorem dX1_restore_27 : decode cX1_restore 27 = .ok (.aload_n 0, 1) := dk_42 (dk_at dksX1_restore_1 3 rfl rfl)
theorem dX1_restore_28 : decode cX1_restore 28 = .ok (.getfield 107, 3) := dk_180 0 107 (dk_at dksX1_restore_1 4 rfl rfl)
theorem dX1_restore_31 : decode cX1_restore 31 = .ok (.aaload, 1) := dk_50 (dk_at dksX1_restore_1 7 rfl rfl)
theorem dX1_restore_32 : decode cX1_restore 32 = .ok (.invokevirtual 110, 3) := dk_182 0 110 (dk_at dksX1_restore_1 8 rfl rfl)
theorem dX1_restore_35 : decode cX1_restore 35 = .ok (.pop, 1) := dk_87 (dk_at dksX1_restore_1 11 rfl rfl)
theorem dX1_restore_36 : decode cX1_restore 36 = .ok (.aload_n 0, 1) := dk_42 (dk_at dksX1_restore_1 12 rfl rfl)
theorem dX1_restore_37 : decode cX1_restore 37 = .ok (.invokevirtual 101, 3) := dk_182 0 101 (dk_at dksX1_restore_1 13 rfl rfl)
theorem dX1_restore_40 : decode cX1_restore 40 = .ok (.aload_n 0, 1) := dk_42 (dk_at dksX1_restore_1 16 rfl rfl)
theorem dX1_restore_41 : decode cX1_restore 41 = .ok (.getfield 107, 3) := dk_180 0 107 (dk_at dksX1_restore_1 17 rfl rfl)
theorem dX1_restore_44 : decode cX1_restore 44 = .ok (.ireturn, 1) := dk_172 (dk_at dksX1_restore_1 20 rfl rfl)
abbrev cX1_status : ByteArray := prog_1_method_89_code
def yX1_status : MethodName := ⟨RX1, "status", "(I)I"⟩
def dkwX1_status_0 : List UInt8 := [27, 153, 0, 8, 27, 4, 160, 0, 12, 42, 180, 0, 50, 27, 46, 167, 0, 4, 2, 172]
abbrev dktX1_status_0 : List UInt8 := dkwX1_status_0 ++ []
theorem dksX1_status_0 : cX1_status.data.toList.drop 0 = dktX1_status_0 := by decide +kernel
theorem dX1_status_0 : decode cX1_status 0 = .ok (.iload_n 1, 1) := dk_27 (dk_at dksX1_status_0 0 rfl rfl)
theorem dX1_status_1 : decode cX1_status 1 = .ok (.ifCond .eq 8, 3) := dk_153 0 8 (dk_at dksX1_status_0 1 rfl rfl)
theorem dX1_status_4 : decode cX1_status 4 = .ok (.iload_n 1, 1) := dk_27 (dk_at dksX1_status_0 4 rfl rfl)
theorem dX1_status_5 : decode cX1_status 5 = .ok (.iconst 1, 1) := dk_4 (dk_at dksX1_status_0 5 rfl rfl)
theorem dX1_status_6 : decode cX1_status 6 = .ok (.if_icmp .ne 12, 3) := dk_160 0 12 (dk_at dksX1_status_0 6 rfl rfl)
theorem dX1_status_9 : decode cX1_status 9 = .ok (.aload_n 0, 1) := dk_42 (dk_at dksX1_status_0 9 rfl rfl)
theorem dX1_status_10 : decode cX1_status 10 = .ok (.getfield 50, 3) := dk_180 0 50 (dk_at dksX1_status_0 10 rfl rfl)
theorem dX1_status_13 : decode cX1_status 13 = .ok (.iload_n 1, 1) := dk_27 (dk_at dksX1_status_0 13 rfl rfl)
theorem dX1_status_14 : decode cX1_status 14 = .ok (.iaload, 1) := dk_46 (dk_at dksX1_status_0 14 rfl rfl)
theorem dX1_status_15 : decode cX1_status 15 = .ok (.goto 4, 3) := dk_167 0 4 (dk_at dksX1_status_0 15 rfl rfl)
theorem dX1_status_18 : decode cX1_status 18 = .ok (.iconst (-1), 1) := dk_2 (dk_at dksX1_status_0 18 rfl rfl)
theorem dX1_status_19 : decode cX1_status 19 = .ok (.ireturn, 1) := dk_172 (dk_at dksX1_status_0 19 rfl rfl)
abbrev cX1_count : ByteArray := prog_1_method_90_code
def yX1_count : MethodName := ⟨RX1, "count", "(I)I"⟩
def dkwX1_count_1 : List UInt8 := [5, 160, 0, 21, 42, 180, 0, 58, 180, 0, 201, 42, 180, 0, 62, 180, 0, 201, 100, 167, 0, 4, 2, 172]
abbrev dktX1_count_1 : List UInt8 := dkwX1_count_1 ++ []
def dkwX1_count_0 : List UInt8 := [27, 154, 0, 10, 42, 180, 0, 107, 167, 0, 39, 27, 4, 160, 0, 10, 42, 180, 0, 146, 167, 0, 27, 27]
abbrev dktX1_count_0 : List UInt8 := dkwX1_count_0 ++ dktX1_count_1
theorem dksX1_count_0 : cX1_count.data.toList.drop 0 = dktX1_count_0 := by decide +kernel
theorem dksX1_count_1 : cX1_count.data.toList.drop 24 = dktX1_count_1 := dk_seg dksX1_count_0 24 rfl rfl
theorem dX1_count_0 : decode cX1_count 0 = .ok (.iload_n 1, 1) := dk_27 (dk_at dksX1_count_0 0 rfl rfl)
theorem dX1_count_1 : decode cX1_count 1 = .ok (.ifCond .ne 10, 3) := dk_154 0 10 (dk_at dksX1_count_0 1 rfl rfl)
theorem dX1_count_4 : decode cX1_count 4 = .ok (.aload_n 0, 1) := dk_42 (dk_at dksX1_count_0 4 rfl rfl)
theorem dX1_count_5 : decode cX1_count 5 = .ok (.getfield 107, 3) := dk_180 0 107 (dk_at dksX1_count_0 5 rfl rfl)
theorem dX1_count_8 : decode cX1_count 8 = .ok (.goto 39, 3) := dk_167 0 39 (dk_at dksX1_count_0 8 rfl rfl)
theorem dX1_count_11 : decode cX1_count 11 = .ok (.iload_n 1, 1) := dk_27 (dk_at dksX1_count_0 11 rfl rfl)
theorem dX1_count_12 : decode cX1_count 12 = .ok (.iconst 1, 1) := dk_4 (dk_at dksX1_count_0 12 rfl rfl)
theorem dX1_count_13 : decode cX1_count 13 = .ok (.if_icmp .ne 10, 3) := dk_160 0 10 (dk_at dksX1_count_0 13 rfl rfl)
theorem dX1_count_16 : decode cX1_count 16 = .ok (.aload_n 0, 1) := dk_42 (dk_at dksX1_count_0 16 rfl rfl)
theorem dX1_count_17 : decode cX1_count 17 = .ok (.getfield 146, 3) := dk_180 0 146 (dk_at dksX1_count_0 17 rfl rfl)
theorem dX1_count_20 : decode cX1_count 20 = .ok (.goto 27, 3) := dk_167 0 27 (dk_at dksX1_count_0 20 rfl rfl)
theorem dX1_count_23 : decode cX1_count 23 = .ok (.iload_n 1, 1) := dk_27 (dk_at dksX1_count_0 23 rfl rfl)
theorem dX1_count_24 : decode cX1_count 24 = .ok (.iconst 2, 1) := dk_5 (dk_at dksX1_count_1 0 rfl rfl)
theorem dX1_count_25 : decode cX1_count 25 = .ok (.if_icmp .ne 21, 3) := dk_160 0 21 (dk_at dksX1_count_1 1 rfl rfl)
theorem dX1_count_28 : decode cX1_count 28 = .ok (.aload_n 0, 1) := dk_42 (dk_at dksX1_count_1 4 rfl rfl)
theorem dX1_count_29 : decode cX1_count 29 = .ok (.getfield 58, 3) := dk_180 0 58 (dk_at dksX1_count_1 5 rfl rfl)
theorem dX1_count_32 : decode cX1_count 32 = .ok (.getfield 201, 3) := dk_180 0 201 (dk_at dksX1_count_1 8 rfl rfl)
theorem dX1_count_35 : decode cX1_count 35 = .ok (.aload_n 0, 1) := dk_42 (dk_at dksX1_count_1 11 rfl rfl)
theorem dX1_count_36 : decode cX1_count 36 = .ok (.getfield 62, 3) := dk_180 0 62 (dk_at dksX1_count_1 12 rfl rfl)
theorem dX1_count_39 : decode cX1_count 39 = .ok (.getfield 201, 3) := dk_180 0 201 (dk_at dksX1_count_1 15 rfl rfl)
theorem dX1_count_42 : decode cX1_count 42 = .ok (.isub, 1) := dk_100 (dk_at dksX1_count_1 18 rfl rfl)
theorem dX1_count_43 : decode cX1_count 43 = .ok (.goto 4, 3) := dk_167 0 4 (dk_at dksX1_count_1 19 rfl rfl)
theorem dX1_count_46 : decode cX1_count 46 = .ok (.iconst (-1), 1) := dk_2 (dk_at dksX1_count_1 22 rfl rfl)
theorem dX1_count_47 : decode cX1_count 47 = .ok (.ireturn, 1) := dk_172 (dk_at dksX1_count_1 23 rfl rfl)
abbrev cX1_family : ByteArray := prog_1_method_15_code
def yX1_family : MethodName := ⟨RX1, "family", "(I)I"⟩
def dkwX1_family_3 : List UInt8 := [62, 42, 3, 181, 0, 146, 29, 172, 58, 4, 42, 3, 181, 0, 146, 25, 4, 191]
abbrev dktX1_family_3 : List UInt8 := dkwX1_family_3 ++ []
def dkwX1_family_2 : List UInt8 := [182, 0, 95, 42, 180, 0, 31, 180, 0, 133, 61, 42, 3, 181, 0, 146, 28, 172, 77, 42, 44, 182, 0, 173]
abbrev dktX1_family_2 : List UInt8 := dkwX1_family_2 ++ dktX1_family_3
def dkwX1_family_1 : List UInt8 := [181, 0, 76, 42, 187, 0, 164, 89, 42, 180, 0, 79, 27, 183, 0, 166, 182, 0, 169, 181, 0, 31, 42]
abbrev dktX1_family_1 : List UInt8 := dkwX1_family_1 ++ dktX1_family_2
def dkwX1_family_0 : List UInt8 := [42, 27, 155, 0, 15, 27, 42, 180, 0, 146, 163, 0, 7, 4, 167, 0, 4, 3, 182, 0, 160, 42, 2]
abbrev dktX1_family_0 : List UInt8 := dkwX1_family_0 ++ dktX1_family_1
theorem dksX1_family_0 : cX1_family.data.toList.drop 0 = dktX1_family_0 := by decide +kernel
theorem dksX1_family_1 : cX1_family.data.toList.drop 23 = dktX1_family_1 := dk_seg dksX1_family_0 23 rfl rfl
theorem dksX1_family_2 : cX1_family.data.toList.drop 46 = dktX1_family_2 := dk_seg dksX1_family_1 23 rfl rfl
theorem dksX1_family_3 : cX1_family.data.toList.drop 70 = dktX1_family_3 := dk_seg dksX1_family_2 24 rfl rfl
theorem dX1_family_0 : decode cX1_family 0 = .ok (.aload_n 0, 1) := dk_42 (dk_at dksX1_family_0 0 rfl rfl)
theorem dX1_family_1 : decode cX1_family 1 = .ok (.iload_n 1, 1) := dk_27 (dk_at dksX1_family_0 1 rfl rfl)
theorem dX1_family_2 : decode cX1_family 2 = .ok (.ifCond .lt 15, 3) := dk_155 0 15 (dk_at dksX1_family_0 2 rfl rfl)
theorem dX1_family_5 : decode cX1_family 5 = .ok (.iload_n 1, 1) := dk_27 (dk_at dksX1_family_0 5 rfl rfl)
theorem dX1_family_6 : decode cX1_family 6 = .ok (.aload_n 0, 1) := dk_42 (dk_at dksX1_family_0 6 rfl rfl)
theorem dX1_family_7 : decode cX1_family 7 = .ok (.getfield 146, 3) := dk_180 0 146 (dk_at dksX1_family_0 7 rfl rfl)
theorem dX1_family_10 : decode cX1_family 10 = .ok (.if_icmp .gt 7, 3) := dk_163 0 7 (dk_at dksX1_family_0 10 rfl rfl)
theorem dX1_family_13 : decode cX1_family 13 = .ok (.iconst 1, 1) := dk_4 (dk_at dksX1_family_0 13 rfl rfl)
theorem dX1_family_14 : decode cX1_family 14 = .ok (.goto 4, 3) := dk_167 0 4 (dk_at dksX1_family_0 14 rfl rfl)
theorem dX1_family_17 : decode cX1_family 17 = .ok (.iconst 0, 1) := dk_3 (dk_at dksX1_family_0 17 rfl rfl)
theorem dX1_family_18 : decode cX1_family 18 = .ok (.invokevirtual 160, 3) := dk_182 0 160 (dk_at dksX1_family_0 18 rfl rfl)
theorem dX1_family_21 : decode cX1_family 21 = .ok (.aload_n 0, 1) := dk_42 (dk_at dksX1_family_0 21 rfl rfl)
theorem dX1_family_22 : decode cX1_family 22 = .ok (.iconst (-1), 1) := dk_2 (dk_at dksX1_family_0 22 rfl rfl)
theorem dX1_family_23 : decode cX1_family 23 = .ok (.putfield 76, 3) := dk_181 0 76 (dk_at dksX1_family_1 0 rfl rfl)
theorem dX1_family_26 : decode cX1_family 26 = .ok (.aload_n 0, 1) := dk_42 (dk_at dksX1_family_1 3 rfl rfl)
theorem dX1_family_27 : decode cX1_family 27 = .ok (.new 164, 3) := dk_187 0 164 (dk_at dksX1_family_1 4 rfl rfl)
theorem dX1_family_30 : decode cX1_family 30 = .ok (.dup, 1) := dk_89 (dk_at dksX1_family_1 7 rfl rfl)
theorem dX1_family_31 : decode cX1_family 31 = .ok (.aload_n 0, 1) := dk_42 (dk_at dksX1_family_1 8 rfl rfl)
theorem dX1_family_32 : decode cX1_family 32 = .ok (.getfield 79, 3) := dk_180 0 79 (dk_at dksX1_family_1 9 rfl rfl)
theorem dX1_family_35 : decode cX1_family 35 = .ok (.iload_n 1, 1) := dk_27 (dk_at dksX1_family_1 12 rfl rfl)
theorem dX1_family_36 : decode cX1_family 36 = .ok (.invokespecial 166, 3) := dk_183 0 166 (dk_at dksX1_family_1 13 rfl rfl)
theorem dX1_family_39 : decode cX1_family 39 = .ok (.invokevirtual 169, 3) := dk_182 0 169 (dk_at dksX1_family_1 16 rfl rfl)
theorem dX1_family_42 : decode cX1_family 42 = .ok (.putfield 31, 3) := dk_181 0 31 (dk_at dksX1_family_1 19 rfl rfl)
theorem dX1_family_45 : decode cX1_family 45 = .ok (.aload_n 0, 1) := dk_42 (dk_at dksX1_family_1 22 rfl rfl)
theorem dX1_family_46 : decode cX1_family 46 = .ok (.invokevirtual 95, 3) := dk_182 0 95 (dk_at dksX1_family_2 0 rfl rfl)
theorem dX1_family_49 : decode cX1_family 49 = .ok (.aload_n 0, 1) := dk_42 (dk_at dksX1_family_2 3 rfl rfl)
theorem dX1_family_50 : decode cX1_family 50 = .ok (.getfield 31, 3) := dk_180 0 31 (dk_at dksX1_family_2 4 rfl rfl)
theorem dX1_family_53 : decode cX1_family 53 = .ok (.getfield 133, 3) := dk_180 0 133 (dk_at dksX1_family_2 7 rfl rfl)
theorem dX1_family_56 : decode cX1_family 56 = .ok (.istore_n 2, 1) := dk_61 (dk_at dksX1_family_2 10 rfl rfl)
theorem dX1_family_57 : decode cX1_family 57 = .ok (.aload_n 0, 1) := dk_42 (dk_at dksX1_family_2 11 rfl rfl)
theorem dX1_family_58 : decode cX1_family 58 = .ok (.iconst 0, 1) := dk_3 (dk_at dksX1_family_2 12 rfl rfl)
theorem dX1_family_59 : decode cX1_family 59 = .ok (.putfield 146, 3) := dk_181 0 146 (dk_at dksX1_family_2 13 rfl rfl)
theorem dX1_family_62 : decode cX1_family 62 = .ok (.iload_n 2, 1) := dk_28 (dk_at dksX1_family_2 16 rfl rfl)
theorem dX1_family_63 : decode cX1_family 63 = .ok (.ireturn, 1) := dk_172 (dk_at dksX1_family_2 17 rfl rfl)
theorem dX1_family_64 : decode cX1_family 64 = .ok (.astore_n 2, 1) := dk_77 (dk_at dksX1_family_2 18 rfl rfl)
theorem dX1_family_65 : decode cX1_family 65 = .ok (.aload_n 0, 1) := dk_42 (dk_at dksX1_family_2 19 rfl rfl)
theorem dX1_family_66 : decode cX1_family 66 = .ok (.aload_n 2, 1) := dk_44 (dk_at dksX1_family_2 20 rfl rfl)
theorem dX1_family_67 : decode cX1_family 67 = .ok (.invokevirtual 173, 3) := dk_182 0 173 (dk_at dksX1_family_2 21 rfl rfl)
theorem dX1_family_70 : decode cX1_family 70 = .ok (.istore_n 3, 1) := dk_62 (dk_at dksX1_family_3 0 rfl rfl)
theorem dX1_family_71 : decode cX1_family 71 = .ok (.aload_n 0, 1) := dk_42 (dk_at dksX1_family_3 1 rfl rfl)
theorem dX1_family_72 : decode cX1_family 72 = .ok (.iconst 0, 1) := dk_3 (dk_at dksX1_family_3 2 rfl rfl)
theorem dX1_family_73 : decode cX1_family 73 = .ok (.putfield 146, 3) := dk_181 0 146 (dk_at dksX1_family_3 3 rfl rfl)
theorem dX1_family_76 : decode cX1_family 76 = .ok (.iload_n 3, 1) := dk_29 (dk_at dksX1_family_3 6 rfl rfl)
theorem dX1_family_77 : decode cX1_family 77 = .ok (.ireturn, 1) := dk_172 (dk_at dksX1_family_3 7 rfl rfl)
theorem dX1_family_78 : decode cX1_family 78 = .ok (.astore 4, 2) := dk_58 4 (dk_at dksX1_family_3 8 rfl rfl)
theorem dX1_family_80 : decode cX1_family 80 = .ok (.aload_n 0, 1) := dk_42 (dk_at dksX1_family_3 10 rfl rfl)
theorem dX1_family_81 : decode cX1_family 81 = .ok (.iconst 0, 1) := dk_3 (dk_at dksX1_family_3 11 rfl rfl)
theorem dX1_family_82 : decode cX1_family 82 = .ok (.putfield 146, 3) := dk_181 0 146 (dk_at dksX1_family_3 12 rfl rfl)
theorem dX1_family_85 : decode cX1_family 85 = .ok (.aload 4, 2) := dk_25 4 (dk_at dksX1_family_3 15 rfl rfl)
theorem dX1_family_87 : decode cX1_family 87 = .ok (.athrow, 1) := dk_191 (dk_at dksX1_family_3 17 rfl rfl)
abbrev cX1_need : ByteArray := prog_1_method_6_code
def yX1_need : MethodName := ⟨RX1, "need", "(Z)V"⟩
def dkwX1_need_0 : List UInt8 := [27, 153, 0, 4, 177, 42, 180, 0, 50, 4, 92, 46, 4, 96, 79, 187, 0, 120, 89, 183, 0, 122, 191]
abbrev dktX1_need_0 : List UInt8 := dkwX1_need_0 ++ []
theorem dksX1_need_0 : cX1_need.data.toList.drop 0 = dktX1_need_0 := by decide +kernel
theorem dX1_need_0 : decode cX1_need 0 = .ok (.iload_n 1, 1) := dk_27 (dk_at dksX1_need_0 0 rfl rfl)
theorem dX1_need_1 : decode cX1_need 1 = .ok (.ifCond .eq 4, 3) := dk_153 0 4 (dk_at dksX1_need_0 1 rfl rfl)
theorem dX1_need_4 : decode cX1_need 4 = .ok (.return_, 1) := dk_177 (dk_at dksX1_need_0 4 rfl rfl)
theorem dX1_need_5 : decode cX1_need 5 = .ok (.aload_n 0, 1) := dk_42 (dk_at dksX1_need_0 5 rfl rfl)
theorem dX1_need_6 : decode cX1_need 6 = .ok (.getfield 50, 3) := dk_180 0 50 (dk_at dksX1_need_0 6 rfl rfl)
theorem dX1_need_9 : decode cX1_need 9 = .ok (.iconst 1, 1) := dk_4 (dk_at dksX1_need_0 9 rfl rfl)
theorem dX1_need_10 : decode cX1_need 10 = .ok (.dup2, 1) := dk_92 (dk_at dksX1_need_0 10 rfl rfl)
theorem dX1_need_11 : decode cX1_need 11 = .ok (.iaload, 1) := dk_46 (dk_at dksX1_need_0 11 rfl rfl)
theorem dX1_need_12 : decode cX1_need 12 = .ok (.iconst 1, 1) := dk_4 (dk_at dksX1_need_0 12 rfl rfl)
theorem dX1_need_13 : decode cX1_need 13 = .ok (.iadd, 1) := dk_96 (dk_at dksX1_need_0 13 rfl rfl)
theorem dX1_need_14 : decode cX1_need 14 = .ok (.iastore, 1) := dk_79 (dk_at dksX1_need_0 14 rfl rfl)
theorem dX1_need_15 : decode cX1_need 15 = .ok (.new 120, 3) := dk_187 0 120 (dk_at dksX1_need_0 15 rfl rfl)
theorem dX1_need_18 : decode cX1_need 18 = .ok (.dup, 1) := dk_89 (dk_at dksX1_need_0 18 rfl rfl)
theorem dX1_need_19 : decode cX1_need 19 = .ok (.invokespecial 122, 3) := dk_183 0 122 (dk_at dksX1_need_0 19 rfl rfl)
theorem dX1_need_22 : decode cX1_need 22 = .ok (.athrow, 1) := dk_191 (dk_at dksX1_need_0 22 rfl rfl)
abbrev cX1_failed : ByteArray := prog_1_method_14_code
def yX1_failed : MethodName := ⟨RX1, "failed", "(LPuppetHeirs$Wrong;)I"⟩
def dkwX1_failed_0 : List UInt8 := [42, 43, 180, 0, 152, 181, 0, 76, 43, 180, 0, 157, 16, 10, 100, 172]
abbrev dktX1_failed_0 : List UInt8 := dkwX1_failed_0 ++ []
theorem dksX1_failed_0 : cX1_failed.data.toList.drop 0 = dktX1_failed_0 := by decide +kernel
theorem dX1_failed_0 : decode cX1_failed 0 = .ok (.aload_n 0, 1) := dk_42 (dk_at dksX1_failed_0 0 rfl rfl)
theorem dX1_failed_1 : decode cX1_failed 1 = .ok (.aload_n 1, 1) := dk_43 (dk_at dksX1_failed_0 1 rfl rfl)
theorem dX1_failed_2 : decode cX1_failed 2 = .ok (.getfield 152, 3) := dk_180 0 152 (dk_at dksX1_failed_0 2 rfl rfl)
theorem dX1_failed_5 : decode cX1_failed 5 = .ok (.putfield 76, 3) := dk_181 0 76 (dk_at dksX1_failed_0 5 rfl rfl)
theorem dX1_failed_8 : decode cX1_failed 8 = .ok (.aload_n 1, 1) := dk_43 (dk_at dksX1_failed_0 8 rfl rfl)
theorem dX1_failed_9 : decode cX1_failed 9 = .ok (.getfield 157, 3) := dk_180 0 157 (dk_at dksX1_failed_0 9 rfl rfl)
theorem dX1_failed_12 : decode cX1_failed 12 = .ok (.bipush 10, 2) := dk_16 10 (dk_at dksX1_failed_0 12 rfl rfl)
theorem dX1_failed_14 : decode cX1_failed 14 = .ok (.isub, 1) := dk_100 (dk_at dksX1_failed_0 14 rfl rfl)
theorem dX1_failed_15 : decode cX1_failed 15 = .ok (.ireturn, 1) := dk_172 (dk_at dksX1_failed_0 15 rfl rfl)
abbrev cX1_law : ByteArray := prog_1_method_16_code
def yX1_law : MethodName := ⟨RX1, "law", "(I)I"⟩
def dkwX1_law_3 : List UInt8 := [182, 0, 173, 62, 42, 3, 181, 0, 146, 29, 172, 58, 4, 42, 3, 181, 0, 146, 25, 4, 191]
abbrev dktX1_law_3 : List UInt8 := dkwX1_law_3 ++ []
def dkwX1_law_2 : List UInt8 := [182, 0, 180, 181, 0, 39, 42, 182, 0, 101, 4, 61, 42, 3, 181, 0, 146, 28, 172, 77, 42, 44]
abbrev dktX1_law_2 : List UInt8 := dkwX1_law_2 ++ dktX1_law_3
def dkwX1_law_1 : List UInt8 := [3, 182, 0, 160, 42, 2, 181, 0, 76, 42, 187, 0, 177, 89, 42, 180, 0, 79, 27, 183, 0, 179]
abbrev dktX1_law_1 : List UInt8 := dkwX1_law_1 ++ dktX1_law_2
def dkwX1_law_0 : List UInt8 := [42, 27, 155, 0, 22, 27, 42, 180, 0, 146, 163, 0, 14, 27, 17, 0, 150, 163, 0, 7, 4, 167, 0, 4]
abbrev dktX1_law_0 : List UInt8 := dkwX1_law_0 ++ dktX1_law_1
theorem dksX1_law_0 : cX1_law.data.toList.drop 0 = dktX1_law_0 := by decide +kernel
theorem dksX1_law_1 : cX1_law.data.toList.drop 24 = dktX1_law_1 := dk_seg dksX1_law_0 24 rfl rfl
theorem dksX1_law_2 : cX1_law.data.toList.drop 46 = dktX1_law_2 := dk_seg dksX1_law_1 22 rfl rfl
theorem dksX1_law_3 : cX1_law.data.toList.drop 68 = dktX1_law_3 := dk_seg dksX1_law_2 22 rfl rfl
theorem dX1_law_0 : decode cX1_law 0 = .ok (.aload_n 0, 1) := dk_42 (dk_at dksX1_law_0 0 rfl rfl)
theorem dX1_law_1 : decode cX1_law 1 = .ok (.iload_n 1, 1) := dk_27 (dk_at dksX1_law_0 1 rfl rfl)
theorem dX1_law_2 : decode cX1_law 2 = .ok (.ifCond .lt 22, 3) := dk_155 0 22 (dk_at dksX1_law_0 2 rfl rfl)
theorem dX1_law_5 : decode cX1_law 5 = .ok (.iload_n 1, 1) := dk_27 (dk_at dksX1_law_0 5 rfl rfl)
theorem dX1_law_6 : decode cX1_law 6 = .ok (.aload_n 0, 1) := dk_42 (dk_at dksX1_law_0 6 rfl rfl)
theorem dX1_law_7 : decode cX1_law 7 = .ok (.getfield 146, 3) := dk_180 0 146 (dk_at dksX1_law_0 7 rfl rfl)
theorem dX1_law_10 : decode cX1_law 10 = .ok (.if_icmp .gt 14, 3) := dk_163 0 14 (dk_at dksX1_law_0 10 rfl rfl)
theorem dX1_law_13 : decode cX1_law 13 = .ok (.iload_n 1, 1) := dk_27 (dk_at dksX1_law_0 13 rfl rfl)
theorem dX1_law_14 : decode cX1_law 14 = .ok (.sipush 150, 3) := dk_17 0 150 (dk_at dksX1_law_0 14 rfl rfl)
theorem dX1_law_17 : decode cX1_law 17 = .ok (.if_icmp .gt 7, 3) := dk_163 0 7 (dk_at dksX1_law_0 17 rfl rfl)
theorem dX1_law_20 : decode cX1_law 20 = .ok (.iconst 1, 1) := dk_4 (dk_at dksX1_law_0 20 rfl rfl)
theorem dX1_law_21 : decode cX1_law 21 = .ok (.goto 4, 3) := dk_167 0 4 (dk_at dksX1_law_0 21 rfl rfl)
theorem dX1_law_24 : decode cX1_law 24 = .ok (.iconst 0, 1) := dk_3 (dk_at dksX1_law_1 0 rfl rfl)
theorem dX1_law_25 : decode cX1_law 25 = .ok (.invokevirtual 160, 3) := dk_182 0 160 (dk_at dksX1_law_1 1 rfl rfl)
theorem dX1_law_28 : decode cX1_law 28 = .ok (.aload_n 0, 1) := dk_42 (dk_at dksX1_law_1 4 rfl rfl)
theorem dX1_law_29 : decode cX1_law 29 = .ok (.iconst (-1), 1) := dk_2 (dk_at dksX1_law_1 5 rfl rfl)
theorem dX1_law_30 : decode cX1_law 30 = .ok (.putfield 76, 3) := dk_181 0 76 (dk_at dksX1_law_1 6 rfl rfl)
theorem dX1_law_33 : decode cX1_law 33 = .ok (.aload_n 0, 1) := dk_42 (dk_at dksX1_law_1 9 rfl rfl)
theorem dX1_law_34 : decode cX1_law 34 = .ok (.new 177, 3) := dk_187 0 177 (dk_at dksX1_law_1 10 rfl rfl)
theorem dX1_law_37 : decode cX1_law 37 = .ok (.dup, 1) := dk_89 (dk_at dksX1_law_1 13 rfl rfl)
theorem dX1_law_38 : decode cX1_law 38 = .ok (.aload_n 0, 1) := dk_42 (dk_at dksX1_law_1 14 rfl rfl)
theorem dX1_law_39 : decode cX1_law 39 = .ok (.getfield 79, 3) := dk_180 0 79 (dk_at dksX1_law_1 15 rfl rfl)
theorem dX1_law_42 : decode cX1_law 42 = .ok (.iload_n 1, 1) := dk_27 (dk_at dksX1_law_1 18 rfl rfl)
theorem dX1_law_43 : decode cX1_law 43 = .ok (.invokespecial 179, 3) := dk_183 0 179 (dk_at dksX1_law_1 19 rfl rfl)
theorem dX1_law_46 : decode cX1_law 46 = .ok (.invokevirtual 180, 3) := dk_182 0 180 (dk_at dksX1_law_2 0 rfl rfl)
theorem dX1_law_49 : decode cX1_law 49 = .ok (.putfield 39, 3) := dk_181 0 39 (dk_at dksX1_law_2 3 rfl rfl)
theorem dX1_law_52 : decode cX1_law 52 = .ok (.aload_n 0, 1) := dk_42 (dk_at dksX1_law_2 6 rfl rfl)
theorem dX1_law_53 : decode cX1_law 53 = .ok (.invokevirtual 101, 3) := dk_182 0 101 (dk_at dksX1_law_2 7 rfl rfl)
theorem dX1_law_56 : decode cX1_law 56 = .ok (.iconst 1, 1) := dk_4 (dk_at dksX1_law_2 10 rfl rfl)
theorem dX1_law_57 : decode cX1_law 57 = .ok (.istore_n 2, 1) := dk_61 (dk_at dksX1_law_2 11 rfl rfl)
theorem dX1_law_58 : decode cX1_law 58 = .ok (.aload_n 0, 1) := dk_42 (dk_at dksX1_law_2 12 rfl rfl)
theorem dX1_law_59 : decode cX1_law 59 = .ok (.iconst 0, 1) := dk_3 (dk_at dksX1_law_2 13 rfl rfl)
theorem dX1_law_60 : decode cX1_law 60 = .ok (.putfield 146, 3) := dk_181 0 146 (dk_at dksX1_law_2 14 rfl rfl)
theorem dX1_law_63 : decode cX1_law 63 = .ok (.iload_n 2, 1) := dk_28 (dk_at dksX1_law_2 17 rfl rfl)
theorem dX1_law_64 : decode cX1_law 64 = .ok (.ireturn, 1) := dk_172 (dk_at dksX1_law_2 18 rfl rfl)
theorem dX1_law_65 : decode cX1_law 65 = .ok (.astore_n 2, 1) := dk_77 (dk_at dksX1_law_2 19 rfl rfl)
theorem dX1_law_66 : decode cX1_law 66 = .ok (.aload_n 0, 1) := dk_42 (dk_at dksX1_law_2 20 rfl rfl)
theorem dX1_law_67 : decode cX1_law 67 = .ok (.aload_n 2, 1) := dk_44 (dk_at dksX1_law_2 21 rfl rfl)
theorem dX1_law_68 : decode cX1_law 68 = .ok (.invokevirtual 173, 3) := dk_182 0 173 (dk_at dksX1_law_3 0 rfl rfl)
theorem dX1_law_71 : decode cX1_law 71 = .ok (.istore_n 3, 1) := dk_62 (dk_at dksX1_law_3 3 rfl rfl)
theorem dX1_law_72 : decode cX1_law 72 = .ok (.aload_n 0, 1) := dk_42 (dk_at dksX1_law_3 4 rfl rfl)
theorem dX1_law_73 : decode cX1_law 73 = .ok (.iconst 0, 1) := dk_3 (dk_at dksX1_law_3 5 rfl rfl)
theorem dX1_law_74 : decode cX1_law 74 = .ok (.putfield 146, 3) := dk_181 0 146 (dk_at dksX1_law_3 6 rfl rfl)
theorem dX1_law_77 : decode cX1_law 77 = .ok (.iload_n 3, 1) := dk_29 (dk_at dksX1_law_3 9 rfl rfl)
theorem dX1_law_78 : decode cX1_law 78 = .ok (.ireturn, 1) := dk_172 (dk_at dksX1_law_3 10 rfl rfl)
theorem dX1_law_79 : decode cX1_law 79 = .ok (.astore 4, 2) := dk_58 4 (dk_at dksX1_law_3 11 rfl rfl)
theorem dX1_law_81 : decode cX1_law 81 = .ok (.aload_n 0, 1) := dk_42 (dk_at dksX1_law_3 13 rfl rfl)
theorem dX1_law_82 : decode cX1_law 82 = .ok (.iconst 0, 1) := dk_3 (dk_at dksX1_law_3 14 rfl rfl)
theorem dX1_law_83 : decode cX1_law 83 = .ok (.putfield 146, 3) := dk_181 0 146 (dk_at dksX1_law_3 15 rfl rfl)
theorem dX1_law_86 : decode cX1_law 86 = .ok (.aload 4, 2) := dk_25 4 (dk_at dksX1_law_3 18 rfl rfl)
theorem dX1_law_88 : decode cX1_law 88 = .ok (.athrow, 1) := dk_191 (dk_at dksX1_law_3 20 rfl rfl)
abbrev cX1_book : ByteArray := prog_1_method_17_code
def yX1_book : MethodName := ⟨RX1, "book", "(I)I"⟩
def dkwX1_book_4 : List UInt8 := [182, 0, 173, 62, 42, 3, 181, 0, 146, 29, 172, 58, 5, 42, 3, 181, 0, 146, 25, 5, 191]
abbrev dktX1_book_4 : List UInt8 := dkwX1_book_4 ++ []
def dkwX1_book_3 : List UInt8 := [184, 0, 192, 42, 29, 181, 0, 104, 29, 54, 4, 42, 3, 181, 0, 146, 21, 4, 172, 77, 42, 44]
abbrev dktX1_book_3 : List UInt8 := dkwX1_book_3 ++ dktX1_book_4
def dkwX1_book_2 : List UInt8 := [183, 0, 184, 77, 44, 182, 0, 187, 62, 44, 180, 0, 189, 3, 42, 180, 0, 47, 3, 6, 29, 104]
abbrev dktX1_book_2 : List UInt8 := dkwX1_book_2 ++ dktX1_book_3
def dkwX1_book_1 : List UInt8 := [3, 182, 0, 160, 42, 2, 181, 0, 76, 187, 0, 182, 89, 42, 180, 0, 79, 27, 42, 180, 0, 31]
abbrev dktX1_book_1 : List UInt8 := dkwX1_book_1 ++ dktX1_book_2
def dkwX1_book_0 : List UInt8 := [42, 27, 155, 0, 22, 27, 42, 180, 0, 146, 163, 0, 14, 27, 17, 0, 150, 163, 0, 7, 4, 167, 0, 4]
abbrev dktX1_book_0 : List UInt8 := dkwX1_book_0 ++ dktX1_book_1
theorem dksX1_book_0 : cX1_book.data.toList.drop 0 = dktX1_book_0 := by decide +kernel
theorem dksX1_book_1 : cX1_book.data.toList.drop 24 = dktX1_book_1 := dk_seg dksX1_book_0 24 rfl rfl
theorem dksX1_book_2 : cX1_book.data.toList.drop 46 = dktX1_book_2 := dk_seg dksX1_book_1 22 rfl rfl
theorem dksX1_book_3 : cX1_book.data.toList.drop 68 = dktX1_book_3 := dk_seg dksX1_book_2 22 rfl rfl
theorem dksX1_book_4 : cX1_book.data.toList.drop 90 = dktX1_book_4 := dk_seg dksX1_book_3 22 rfl rfl
theorem dX1_book_0 : decode cX1_book 0 = .ok (.aload_n 0, 1) := dk_42 (dk_at dksX1_book_0 0 rfl rfl)
theorem dX1_book_1 : decode cX1_book 1 = .ok (.iload_n 1, 1) := dk_27 (dk_at dksX1_book_0 1 rfl rfl)
theorem dX1_book_2 : decode cX1_book 2 = .ok (.ifCond .lt 22, 3) := dk_155 0 22 (dk_at dksX1_book_0 2 rfl rfl)
theorem dX1_book_5 : decode cX1_book 5 = .ok (.iload_n 1, 1) := dk_27 (dk_at dksX1_book_0 5 rfl rfl)
theorem dX1_book_6 : decode cX1_book 6 = .ok (.aload_n 0, 1) := dk_42 (dk_at dksX1_book_0 6 rfl rfl)
theorem dX1_book_7 : decode cX1_book 7 = .ok (.getfield 146, 3) := dk_180 0 146 (dk_at dksX1_book_0 7 rfl rfl)
theorem dX1_book_10 : decode cX1_book 10 = .ok (.if_icmp .gt 14, 3) := dk_163 0 14 (dk_at dksX1_book_0 10 rfl rfl)
theorem dX1_book_13 : decode cX1_book 13 = .ok (.iload_n 1, 1) := dk_27 (dk_at dksX1_book_0 13 rfl rfl)
theorem dX1_book_14 : decode cX1_book 14 = .ok (.sipush 150, 3) := dk_17 0 150 (dk_at dksX1_book_0 14 rfl rfl)
theorem dX1_book_17 : decode cX1_book 17 = .ok (.if_icmp .gt 7, 3) := dk_163 0 7 (dk_at dksX1_book_0 17 rfl rfl)
theorem dX1_book_20 : decode cX1_book 20 = .ok (.iconst 1, 1) := dk_4 (dk_at dksX1_book_0 20 rfl rfl)
theorem dX1_book_21 : decode cX1_book 21 = .ok (.goto 4, 3) := dk_167 0 4 (dk_at dksX1_book_0 21 rfl rfl)
theorem dX1_book_24 : decode cX1_book 24 = .ok (.iconst 0, 1) := dk_3 (dk_at dksX1_book_1 0 rfl rfl)
theorem dX1_book_25 : decode cX1_book 25 = .ok (.invokevirtual 160, 3) := dk_182 0 160 (dk_at dksX1_book_1 1 rfl rfl)
theorem dX1_book_28 : decode cX1_book 28 = .ok (.aload_n 0, 1) := dk_42 (dk_at dksX1_book_1 4 rfl rfl)
theorem dX1_book_29 : decode cX1_book 29 = .ok (.iconst (-1), 1) := dk_2 (dk_at dksX1_book_1 5 rfl rfl)
theorem dX1_book_30 : decode cX1_book 30 = .ok (.putfield 76, 3) := dk_181 0 76 (dk_at dksX1_book_1 6 rfl rfl)
theorem dX1_book_33 : decode cX1_book 33 = .ok (.new 182, 3) := dk_187 0 182 (dk_at dksX1_book_1 9 rfl rfl)
theorem dX1_book_36 : decode cX1_book 36 = .ok (.dup, 1) := dk_89 (dk_at dksX1_book_1 12 rfl rfl)
theorem dX1_book_37 : decode cX1_book 37 = .ok (.aload_n 0, 1) := dk_42 (dk_at dksX1_book_1 13 rfl rfl)
theorem dX1_book_38 : decode cX1_book 38 = .ok (.getfield 79, 3) := dk_180 0 79 (dk_at dksX1_book_1 14 rfl rfl)
theorem dX1_book_41 : decode cX1_book 41 = .ok (.iload_n 1, 1) := dk_27 (dk_at dksX1_book_1 17 rfl rfl)
theorem dX1_book_42 : decode cX1_book 42 = .ok (.aload_n 0, 1) := dk_42 (dk_at dksX1_book_1 18 rfl rfl)
theorem dX1_book_43 : decode cX1_book 43 = .ok (.getfield 31, 3) := dk_180 0 31 (dk_at dksX1_book_1 19 rfl rfl)
theorem dX1_book_46 : decode cX1_book 46 = .ok (.invokespecial 184, 3) := dk_183 0 184 (dk_at dksX1_book_2 0 rfl rfl)
theorem dX1_book_49 : decode cX1_book 49 = .ok (.astore_n 2, 1) := dk_77 (dk_at dksX1_book_2 3 rfl rfl)
theorem dX1_book_50 : decode cX1_book 50 = .ok (.aload_n 2, 1) := dk_44 (dk_at dksX1_book_2 4 rfl rfl)
theorem dX1_book_51 : decode cX1_book 51 = .ok (.invokevirtual 187, 3) := dk_182 0 187 (dk_at dksX1_book_2 5 rfl rfl)
theorem dX1_book_54 : decode cX1_book 54 = .ok (.istore_n 3, 1) := dk_62 (dk_at dksX1_book_2 8 rfl rfl)
theorem dX1_book_55 : decode cX1_book 55 = .ok (.aload_n 2, 1) := dk_44 (dk_at dksX1_book_2 9 rfl rfl)
theorem dX1_book_56 : decode cX1_book 56 = .ok (.getfield 189, 3) := dk_180 0 189 (dk_at dksX1_book_2 10 rfl rfl)
theorem dX1_book_59 : decode cX1_book 59 = .ok (.iconst 0, 1) := dk_3 (dk_at dksX1_book_2 13 rfl rfl)
theorem dX1_book_60 : decode cX1_book 60 = .ok (.aload_n 0, 1) := dk_42 (dk_at dksX1_book_2 14 rfl rfl)
theorem dX1_book_61 : decode cX1_book 61 = .ok (.getfield 47, 3) := dk_180 0 47 (dk_at dksX1_book_2 15 rfl rfl)
theorem dX1_book_64 : decode cX1_book 64 = .ok (.iconst 0, 1) := dk_3 (dk_at dksX1_book_2 18 rfl rfl)
theorem dX1_book_65 : decode cX1_book 65 = .ok (.iconst 3, 1) := dk_6 (dk_at dksX1_book_2 19 rfl rfl)
theorem dX1_book_66 : decode cX1_book 66 = .ok (.iload_n 3, 1) := dk_29 (dk_at dksX1_book_2 20 rfl rfl)
theorem dX1_book_67 : decode cX1_book 67 = .ok (.imul, 1) := dk_104 (dk_at dksX1_book_2 21 rfl rfl)
theorem dX1_book_68 : decode cX1_book 68 = .ok (.invokestatic 192, 3) := dk_184 0 192 (dk_at dksX1_book_3 0 rfl rfl)
theorem dX1_book_71 : decode cX1_book 71 = .ok (.aload_n 0, 1) := dk_42 (dk_at dksX1_book_3 3 rfl rfl)
theorem dX1_book_72 : decode cX1_book 72 = .ok (.iload_n 3, 1) := dk_29 (dk_at dksX1_book_3 4 rfl rfl)
theorem dX1_book_73 : decode cX1_book 73 = .ok (.putfield 104, 3) := dk_181 0 104 (dk_at dksX1_book_3 5 rfl rfl)
theorem dX1_book_76 : decode cX1_book 76 = .ok (.iload_n 3, 1) := dk_29 (dk_at dksX1_book_3 8 rfl rfl)
theorem dX1_book_77 : decode cX1_book 77 = .ok (.istore 4, 2) := dk_54 4 (dk_at dksX1_book_3 9 rfl rfl)
theorem dX1_book_79 : decode cX1_book 79 = .ok (.aload_n 0, 1) := dk_42 (dk_at dksX1_book_3 11 rfl rfl)
theorem dX1_book_80 : decode cX1_book 80 = .ok (.iconst 0, 1) := dk_3 (dk_at dksX1_book_3 12 rfl rfl)
theorem dX1_book_81 : decode cX1_book 81 = .ok (.putfield 146, 3) := dk_181 0 146 (dk_at dksX1_book_3 13 rfl rfl)
theorem dX1_book_84 : decode cX1_book 84 = .ok (.iload 4, 2) := dk_21 4 (dk_at dksX1_book_3 16 rfl rfl)
theorem dX1_book_86 : decode cX1_book 86 = .ok (.ireturn, 1) := dk_172 (dk_at dksX1_book_3 18 rfl rfl)
theorem dX1_book_87 : decode cX1_book 87 = .ok (.astore_n 2, 1) := dk_77 (dk_at dksX1_book_3 19 rfl rfl)
theorem dX1_book_88 : decode cX1_book 88 = .ok (.aload_n 0, 1) := dk_42 (dk_at dksX1_book_3 20 rfl rfl)
theorem dX1_book_89 : decode cX1_book 89 = .ok (.aload_n 2, 1) := dk_44 (dk_at dksX1_book_3 21 rfl rfl)
theorem dX1_book_90 : decode cX1_book 90 = .ok (.invokevirtual 173, 3) := dk_182 0 173 (dk_at dksX1_book_4 0 rfl rfl)
theorem dX1_book_93 : decode cX1_book 93 = .ok (.istore_n 3, 1) := dk_62 (dk_at dksX1_book_4 3 rfl rfl)
theorem dX1_book_94 : decode cX1_book 94 = .ok (.aload_n 0, 1) := dk_42 (dk_at dksX1_book_4 4 rfl rfl)
theorem dX1_book_95 : decode cX1_book 95 = .ok (.iconst 0, 1) := dk_3 (dk_at dksX1_book_4 5 rfl rfl)
theorem dX1_book_96 : decode cX1_book 96 = .ok (.putfield 146, 3) := dk_181 0 146 (dk_at dksX1_book_4 6 rfl rfl)
theorem dX1_book_99 : decode cX1_book 99 = .ok (.iload_n 3, 1) := dk_29 (dk_at dksX1_book_4 9 rfl rfl)
theorem dX1_book_100 : decode cX1_book 100 = .ok (.ireturn, 1) := dk_172 (dk_at dksX1_book_4 10 rfl rfl)
theorem dX1_book_101 : decode cX1_book 101 = .ok (.astore 5, 2) := dk_58 5 (dk_at dksX1_book_4 11 rfl rfl)
theorem dX1_book_103 : decode cX1_book 103 = .ok (.aload_n 0, 1) := dk_42 (dk_at dksX1_book_4 13 rfl rfl)
theorem dX1_book_104 : decode cX1_book 104 = .ok (.iconst 0, 1) := dk_3 (dk_at dksX1_book_4 14 rfl rfl)
theorem dX1_book_105 : decode cX1_book 105 = .ok (.putfield 146, 3) := dk_181 0 146 (dk_at dksX1_book_4 15 rfl rfl)
theorem dX1_book_108 : decode cX1_book 108 = .ok (.aload 5, 2) := dk_25 5 (dk_at dksX1_book_4 18 rfl rfl)
theorem dX1_book_110 : decode cX1_book 110 = .ok (.athrow, 1) := dk_191 (dk_at dksX1_book_4 20 rfl rfl)
abbrev cX1_told : ByteArray := prog_1_method_20_code
def yX1_told : MethodName := ⟨RX1, "told", "(I)I"⟩
def dkwX1_told_4 : List UInt8 := [42, 180, 0, 58, 182, 0, 213, 172, 42, 180, 0, 104, 172]
abbrev dktX1_told_4 : List UInt8 := dkwX1_told_4 ++ []
def dkwX1_told_3 : List UInt8 := [182, 0, 140, 172, 42, 180, 0, 58, 180, 0, 201, 172, 42, 180, 0, 58, 182, 0, 204, 184, 0, 207, 172, 42]
abbrev dktX1_told_3 : List UInt8 := dkwX1_told_3 ++ dktX1_told_4
def dkwX1_told_2 : List UInt8 := [42, 180, 0, 31, 180, 0, 126, 172, 42, 180, 0, 31, 180, 0, 133, 172, 42, 180, 0, 31, 180, 0, 136]
abbrev dktX1_told_2 : List UInt8 := dkwX1_told_2 ++ dktX1_told_3
def dkwX1_told_1 : List UInt8 := [170, 0, 0, 0, 0, 0, 0, 95, 0, 0, 0, 0, 0, 0, 0, 5, 0, 0, 0, 40, 0, 0, 0, 48, 0, 0, 0, 56, 0, 0, 0, 67, 0, 0, 0, 75, 0, 0, 0, 86]
abbrev dktX1_told_1 : List UInt8 := dkwX1_told_1 ++ dktX1_told_2
def dkwX1_told_0 : List UInt8 := [42, 27, 155, 0, 13, 27, 16, 6, 163, 0, 7, 4, 167, 0, 4, 3, 182, 0, 160, 27]
abbrev dktX1_told_0 : List UInt8 := dkwX1_told_0 ++ dktX1_told_1
theorem dksX1_told_0 : cX1_told.data.toList.drop 0 = dktX1_told_0 := by decide +kernel
theorem dksX1_told_1 : cX1_told.data.toList.drop 20 = dktX1_told_1 := dk_seg dksX1_told_0 20 rfl rfl
theorem dksX1_told_2 : cX1_told.data.toList.drop 60 = dktX1_told_2 := dk_seg dksX1_told_1 40 rfl rfl
theorem dksX1_told_3 : cX1_told.data.toList.drop 83 = dktX1_told_3 := dk_seg dksX1_told_2 23 rfl rfl
theorem dksX1_told_4 : cX1_told.data.toList.drop 107 = dktX1_told_4 := dk_seg dksX1_told_3 24 rfl rfl
theorem dX1_told_0 : decode cX1_told 0 = .ok (.aload_n 0, 1) := dk_42 (dk_at dksX1_told_0 0 rfl rfl)
theorem dX1_told_1 : decode cX1_told 1 = .ok (.iload_n 1, 1) := dk_27 (dk_at dksX1_told_0 1 rfl rfl)
theorem dX1_told_2 : decode cX1_told 2 = .ok (.ifCond .lt 13, 3) := dk_155 0 13 (dk_at dksX1_told_0 2 rfl rfl)
theorem dX1_told_5 : decode cX1_told 5 = .ok (.iload_n 1, 1) := dk_27 (dk_at dksX1_told_0 5 rfl rfl)
theorem dX1_told_6 : decode cX1_told 6 = .ok (.bipush 6, 2) := dk_16 6 (dk_at dksX1_told_0 6 rfl rfl)
theorem dX1_told_8 : decode cX1_told 8 = .ok (.if_icmp .gt 7, 3) := dk_163 0 7 (dk_at dksX1_told_0 8 rfl rfl)
theorem dX1_told_11 : decode cX1_told 11 = .ok (.iconst 1, 1) := dk_4 (dk_at dksX1_told_0 11 rfl rfl)
theorem dX1_told_12 : decode cX1_told 12 = .ok (.goto 4, 3) := dk_167 0 4 (dk_at dksX1_told_0 12 rfl rfl)
theorem dX1_told_15 : decode cX1_told 15 = .ok (.iconst 0, 1) := dk_3 (dk_at dksX1_told_0 15 rfl rfl)
theorem dX1_told_16 : decode cX1_told 16 = .ok (.invokevirtual 160, 3) := dk_182 0 160 (dk_at dksX1_told_0 16 rfl rfl)
theorem dX1_told_19 : decode cX1_told 19 = .ok (.iload_n 1, 1) := dk_27 (dk_at dksX1_told_0 19 rfl rfl)
theorem dX1_told_20 : decode cX1_told 20 = .ok (.tableswitch 95 0 5 #[40, 48, 56, 67, 75, 86], 40) := by decide +kernel
theorem dX1_told_60 : decode cX1_told 60 = .ok (.aload_n 0, 1) := dk_42 (dk_at dksX1_told_2 0 rfl rfl)
theorem dX1_told_61 : decode cX1_told 61 = .ok (.getfield 31, 3) := dk_180 0 31 (dk_at dksX1_told_2 1 rfl rfl)
theorem dX1_told_64 : decode cX1_told 64 = .ok (.getfield 126, 3) := dk_180 0 126 (dk_at dksX1_told_2 4 rfl rfl)
theorem dX1_told_67 : decode cX1_told 67 = .ok (.ireturn, 1) := dk_172 (dk_at dksX1_told_2 7 rfl rfl)
theorem dX1_told_68 : decode cX1_told 68 = .ok (.aload_n 0, 1) := dk_42 (dk_at dksX1_told_2 8 rfl rfl)
theorem dX1_told_69 : decode cX1_told 69 = .ok (.getfield 31, 3) := dk_180 0 31 (dk_at dksX1_told_2 9 rfl rfl)
theorem dX1_told_72 : decode cX1_told 72 = .ok (.getfield 133, 3) := dk_180 0 133 (dk_at dksX1_told_2 12 rfl rfl)
theorem dX1_told_75 : decode cX1_told 75 = .ok (.ireturn, 1) := dk_172 (dk_at dksX1_told_2 15 rfl rfl)
theorem dX1_told_76 : decode cX1_told 76 = .ok (.aload_n 0, 1) := dk_42 (dk_at dksX1_told_2 16 rfl rfl)
theorem dX1_told_77 : decode cX1_told 77 = .ok (.getfield 31, 3) := dk_180 0 31 (dk_at dksX1_told_2 17 rfl rfl)
theorem dX1_told_80 : decode cX1_told 80 = .ok (.getfield 136, 3) := dk_180 0 136 (dk_at dksX1_told_2 20 rfl rfl)
theorem dX1_told_83 : decode cX1_told 83 = .ok (.invokevirtual 140, 3) := dk_182 0 140 (dk_at dksX1_told_3 0 rfl rfl)
theorem dX1_told_86 : decode cX1_told 86 = .ok (.ireturn, 1) := dk_172 (dk_at dksX1_told_3 3 rfl rfl)
theorem dX1_told_87 : decode cX1_told 87 = .ok (.aload_n 0, 1) := dk_42 (dk_at dksX1_told_3 4 rfl rfl)
theorem dX1_told_88 : decode cX1_told 88 = .ok (.getfield 58, 3) := dk_180 0 58 (dk_at dksX1_told_3 5 rfl rfl)
theorem dX1_told_91 : decode cX1_told 91 = .ok (.getfield 201, 3) := dk_180 0 201 (dk_at dksX1_told_3 8 rfl rfl)
theorem dX1_told_94 : decode cX1_told 94 = .ok (.ireturn, 1) := dk_172 (dk_at dksX1_told_3 11 rfl rfl)
theorem dX1_told_95 : decode cX1_told 95 = .ok (.aload_n 0, 1) := dk_42 (dk_at dksX1_told_3 12 rfl rfl)
theorem dX1_told_96 : decode cX1_told 96 = .ok (.getfield 58, 3) := dk_180 0 58 (dk_at dksX1_told_3 13 rfl rfl)
theorem dX1_told_99 : decode cX1_told 99 = .ok (.invokevirtual 204, 3) := dk_182 0 204 (dk_at dksX1_told_3 16 rfl rfl)
theorem dX1_told_102 : decode cX1_told 102 = .ok (.invokestatic 207, 3) := dk_184 0 207 (dk_at dksX1_told_3 19 rfl rfl)
theorem dX1_told_105 : decode cX1_told 105 = .ok (.ireturn, 1) := dk_172 (dk_at dksX1_told_3 22 rfl rfl)
theorem dX1_told_106 : decode cX1_told 106 = .ok (.aload_n 0, 1) := dk_42 (dk_at dksX1_told_3 23 rfl rfl)
theorem dX1_told_107 : decode cX1_told 107 = .ok (.aload_n 0, 1) := dk_42 (dk_at dksX1_told_4 0 rfl rfl)
theorem dX1_told_108 : decode cX1_told 108 = .ok (.getfield 58, 3) := dk_180 0 58 (dk_at dksX1_told_4 1 rfl rfl)
theorem dX1_told_111 : decode cX1_told 111 = .ok (.invokevirtual 213, 3) := dk_182 0 213 (dk_at dksX1_told_4 4 rfl rfl)
theorem dX1_told_114 : decode cX1_told 114 = .ok (.ireturn, 1) := dk_172 (dk_at dksX1_told_4 7 rfl rfl)
theorem dX1_told_115 : decode cX1_told 115 = .ok (.aload_n 0, 1) := dk_42 (dk_at dksX1_told_4 8 rfl rfl)
theorem dX1_told_116 : decode cX1_told 116 = .ok (.getfield 104, 3) := dk_180 0 104 (dk_at dksX1_told_4 9 rfl rfl)
theorem dX1_told_119 : decode cX1_told 119 = .ok (.ireturn, 1) := dk_172 (dk_at dksX1_told_4 12 rfl rfl)
abbrev cX1_stringsOf : ByteArray := prog_1_method_19_code
def yX1_stringsOf : MethodName := ⟨RX1, "stringsOf", "(LPuppetHeirs$Troupe;)I"⟩
def dkwX1_stringsOf_1 : List UInt8 := [132, 3, 1, 167, 255, 233, 28, 172]
abbrev dktX1_stringsOf_1 : List UInt8 := dkwX1_stringsOf_1 ++ []
def dkwX1_stringsOf_0 : List UInt8 := [3, 61, 3, 62, 29, 42, 180, 0, 31, 180, 0, 133, 162, 0, 18, 28, 43, 180, 0, 198, 29, 46, 96, 61]
abbrev dktX1_stringsOf_0 : List UInt8 := dkwX1_stringsOf_0 ++ dktX1_stringsOf_1
theorem dksX1_stringsOf_0 : cX1_stringsOf.data.toList.drop 0 = dktX1_stringsOf_0 := by decide +kernel
theorem dksX1_stringsOf_1 : cX1_stringsOf.data.toList.drop 24 = dktX1_stringsOf_1 := dk_seg dksX1_stringsOf_0 24 rfl rfl
theorem dX1_stringsOf_0 : decode cX1_stringsOf 0 = .ok (.iconst 0, 1) := dk_3 (dk_at dksX1_stringsOf_0 0 rfl rfl)
theorem dX1_stringsOf_1 : decode cX1_stringsOf 1 = .ok (.istore_n 2, 1) := dk_61 (dk_at dksX1_stringsOf_0 1 rfl rfl)
theorem dX1_stringsOf_2 : decode cX1_stringsOf 2 = .ok (.iconst 0, 1) := dk_3 (dk_at dksX1_stringsOf_0 2 rfl rfl)
theorem dX1_stringsOf_3 : decode cX1_stringsOf 3 = .ok (.istore_n 3, 1) := dk_62 (dk_at dksX1_stringsOf_0 3 rfl rfl)
theorem dX1_stringsOf_4 : decode cX1_stringsOf 4 = .ok (.iload_n 3, 1) := dk_29 (dk_at dksX1_stringsOf_0 4 rfl rfl)
theorem dX1_stringsOf_5 : decode cX1_stringsOf 5 = .ok (.aload_n 0, 1) := dk_42 (dk_at dksX1_stringsOf_0 5 rfl rfl)
theorem dX1_stringsOf_6 : decode cX1_stringsOf 6 = .ok (.getfield 31, 3) := dk_180 0 31 (dk_at dksX1_stringsOf_0 6 rfl rfl)
theorem dX1_stringsOf_9 : decode cX1_stringsOf 9 = .ok (.getfield 133, 3) := dk_180 0 133 (dk_at dksX1_stringsOf_0 9 rfl rfl)
theorem dX1_stringsOf_12 : decode cX1_stringsOf 12 = .ok (.if_icmp .ge 18, 3) := dk_162 0 18 (dk_at dksX1_stringsOf_0 12 rfl rfl)
theorem dX1_stringsOf_15 : decode cX1_stringsOf 15 = .ok (.iload_n 2, 1) := dk_28 (dk_at dksX1_stringsOf_0 15 rfl rfl)
theorem dX1_stringsOf_16 : decode cX1_stringsOf 16 = .ok (.aload_n 1, 1) := dk_43 (dk_at dksX1_stringsOf_0 16 rfl rfl)
theorem dX1_stringsOf_17 : decode cX1_stringsOf 17 = .ok (.getfield 198, 3) := dk_180 0 198 (dk_at dksX1_stringsOf_0 17 rfl rfl)
theorem dX1_stringsOf_20 : decode cX1_stringsOf 20 = .ok (.iload_n 3, 1) := dk_29 (dk_at dksX1_stringsOf_0 20 rfl rfl)
theorem dX1_stringsOf_21 : decode cX1_stringsOf 21 = .ok (.iaload, 1) := dk_46 (dk_at dksX1_stringsOf_0 21 rfl rfl)
theorem dX1_stringsOf_22 : decode cX1_stringsOf 22 = .ok (.iadd, 1) := dk_96 (dk_at dksX1_stringsOf_0 22 rfl rfl)
theorem dX1_stringsOf_23 : decode cX1_stringsOf 23 = .ok (.istore_n 2, 1) := dk_61 (dk_at dksX1_stringsOf_0 23 rfl rfl)
theorem dX1_stringsOf_24 : decode cX1_stringsOf 24 = .ok (.iinc 3 1, 3) := dk_132 3 1 (dk_at dksX1_stringsOf_1 0 rfl rfl)
theorem dX1_stringsOf_27 : decode cX1_stringsOf 27 = .ok (.goto (-23), 3) := dk_167 255 233 (dk_at dksX1_stringsOf_1 3 rfl rfl)
theorem dX1_stringsOf_30 : decode cX1_stringsOf 30 = .ok (.iload_n 2, 1) := dk_28 (dk_at dksX1_stringsOf_1 6 rfl rfl)
theorem dX1_stringsOf_31 : decode cX1_stringsOf 31 = .ok (.ireturn, 1) := dk_172 (dk_at dksX1_stringsOf_1 7 rfl rfl)
abbrev cX1_hand : ByteArray := prog_1_method_21_code
def yX1_hand : MethodName := ⟨RX1, "hand", "(II)I"⟩
def dkwX1_hand_4 : List UInt8 := [172, 3, 42, 180, 0, 58, 180, 0, 201, 42, 180, 0, 31, 180, 0, 220, 27, 46, 100, 184, 0, 232, 172]
abbrev dktX1_hand_4 : List UInt8 := dkwX1_hand_4 ++ []
def dkwX1_hand_3 : List UInt8 := [180, 0, 223, 27, 46, 172, 42, 180, 0, 58, 180, 0, 226, 27, 46, 172, 42, 180, 0, 58, 27, 182, 0, 229]
abbrev dktX1_hand_3 : List UInt8 := dkwX1_hand_3 ++ dktX1_hand_4
def dkwX1_hand_2 : List UInt8 := [42, 180, 0, 31, 180, 0, 117, 27, 46, 172, 42, 180, 0, 31, 180, 0, 220, 27, 46, 172, 42, 180, 0, 31]
abbrev dktX1_hand_2 : List UInt8 := dkwX1_hand_2 ++ dktX1_hand_3
def dkwX1_hand_1 : List UInt8 := [170, 0, 0, 0, 0, 0, 0, 85, 0, 0, 0, 0, 0, 0, 0, 4, 0, 0, 0, 36, 0, 0, 0, 46, 0, 0, 0, 56, 0, 0, 0, 66, 0, 0, 0, 76]
abbrev dktX1_hand_1 : List UInt8 := dkwX1_hand_1 ++ dktX1_hand_2
def dkwX1_hand_0 : List UInt8 := [42, 27, 182, 0, 217, 42, 28, 155, 0, 12, 28, 8, 163, 0, 7, 4, 167, 0, 4, 3, 182, 0, 160, 28]
abbrev dktX1_hand_0 : List UInt8 := dkwX1_hand_0 ++ dktX1_hand_1
theorem dksX1_hand_0 : cX1_hand.data.toList.drop 0 = dktX1_hand_0 := by decide +kernel
theorem dksX1_hand_1 : cX1_hand.data.toList.drop 24 = dktX1_hand_1 := dk_seg dksX1_hand_0 24 rfl rfl
theorem dksX1_hand_2 : cX1_hand.data.toList.drop 60 = dktX1_hand_2 := dk_seg dksX1_hand_1 36 rfl rfl
theorem dksX1_hand_3 : cX1_hand.data.toList.drop 84 = dktX1_hand_3 := dk_seg dksX1_hand_2 24 rfl rfl
theorem dksX1_hand_4 : cX1_hand.data.toList.drop 108 = dktX1_hand_4 := dk_seg dksX1_hand_3 24 rfl rfl
theorem dX1_hand_0 : decode cX1_hand 0 = .ok (.aload_n 0, 1) := dk_42 (dk_at dksX1_hand_0 0 rfl rfl)
theorem dX1_hand_1 : decode cX1_hand 1 = .ok (.iload_n 1, 1) := dk_27 (dk_at dksX1_hand_0 1 rfl rfl)
theorem dX1_hand_2 : decode cX1_hand 2 = .ok (.invokevirtual 217, 3) := dk_182 0 217 (dk_at dksX1_hand_0 2 rfl rfl)
theorem dX1_hand_5 : decode cX1_hand 5 = .ok (.aload_n 0, 1) := dk_42 (dk_at dksX1_hand_0 5 rfl rfl)
theorem dX1_hand_6 : decode cX1_hand 6 = .ok (.iload_n 2, 1) := dk_28 (dk_at dksX1_hand_0 6 rfl rfl)
theorem dX1_hand_7 : decode cX1_hand 7 = .ok (.ifCond .lt 12, 3) := dk_155 0 12 (dk_at dksX1_hand_0 7 rfl rfl)
theorem dX1_hand_10 : decode cX1_hand 10 = .ok (.iload_n 2, 1) := dk_28 (dk_at dksX1_hand_0 10 rfl rfl)
theorem dX1_hand_11 : decode cX1_hand 11 = .ok (.iconst 5, 1) := dk_8 (dk_at dksX1_hand_0 11 rfl rfl)
theorem dX1_hand_12 : decode cX1_hand 12 = .ok (.if_icmp .gt 7, 3) := dk_163 0 7 (dk_at dksX1_hand_0 12 rfl rfl)
theorem dX1_hand_15 : decode cX1_hand 15 = .ok (.iconst 1, 1) := dk_4 (dk_at dksX1_hand_0 15 rfl rfl)
theorem dX1_hand_16 : decode cX1_hand 16 = .ok (.goto 4, 3) := dk_167 0 4 (dk_at dksX1_hand_0 16 rfl rfl)
theorem dX1_hand_19 : decode cX1_hand 19 = .ok (.iconst 0, 1) := dk_3 (dk_at dksX1_hand_0 19 rfl rfl)
theorem dX1_hand_20 : decode cX1_hand 20 = .ok (.invokevirtual 160, 3) := dk_182 0 160 (dk_at dksX1_hand_0 20 rfl rfl)
theorem dX1_hand_23 : decode cX1_hand 23 = .ok (.iload_n 2, 1) := dk_28 (dk_at dksX1_hand_0 23 rfl rfl)
theorem dX1_hand_24 : decode cX1_hand 24 = .ok (.tableswitch 85 0 4 #[36, 46, 56, 66, 76], 36) := by decide +kernel
theorem dX1_hand_60 : decode cX1_hand 60 = .ok (.aload_n 0, 1) := dk_42 (dk_at dksX1_hand_2 0 rfl rfl)
theorem dX1_hand_61 : decode cX1_hand 61 = .ok (.getfield 31, 3) := dk_180 0 31 (dk_at dksX1_hand_2 1 rfl rfl)
theorem dX1_hand_64 : decode cX1_hand 64 = .ok (.getfield 117, 3) := dk_180 0 117 (dk_at dksX1_hand_2 4 rfl rfl)
theorem dX1_hand_67 : decode cX1_hand 67 = .ok (.iload_n 1, 1) := dk_27 (dk_at dksX1_hand_2 7 rfl rfl)
theorem dX1_hand_68 : decode cX1_hand 68 = .ok (.iaload, 1) := dk_46 (dk_at dksX1_hand_2 8 rfl rfl)
theorem dX1_hand_69 : decode cX1_hand 69 = .ok (.ireturn, 1) := dk_172 (dk_at dksX1_hand_2 9 rfl rfl)
theorem dX1_hand_70 : decode cX1_hand 70 = .ok (.aload_n 0, 1) := dk_42 (dk_at dksX1_hand_2 10 rfl rfl)
theorem dX1_hand_71 : decode cX1_hand 71 = .ok (.getfield 31, 3) := dk_180 0 31 (dk_at dksX1_hand_2 11 rfl rfl)
theorem dX1_hand_74 : decode cX1_hand 74 = .ok (.getfield 220, 3) := dk_180 0 220 (dk_at dksX1_hand_2 14 rfl rfl)
theorem dX1_hand_77 : decode cX1_hand 77 = .ok (.iload_n 1, 1) := dk_27 (dk_at dksX1_hand_2 17 rfl rfl)
theorem dX1_hand_78 : decode cX1_hand 78 = .ok (.iaload, 1) := dk_46 (dk_at dksX1_hand_2 18 rfl rfl)
theorem dX1_hand_79 : decode cX1_hand 79 = .ok (.ireturn, 1) := dk_172 (dk_at dksX1_hand_2 19 rfl rfl)
theorem dX1_hand_80 : decode cX1_hand 80 = .ok (.aload_n 0, 1) := dk_42 (dk_at dksX1_hand_2 20 rfl rfl)
theorem dX1_hand_81 : decode cX1_hand 81 = .ok (.getfield 31, 3) := dk_180 0 31 (dk_at dksX1_hand_2 21 rfl rfl)
theorem dX1_hand_84 : decode cX1_hand 84 = .ok (.getfield 223, 3) := dk_180 0 223 (dk_at dksX1_hand_3 0 rfl rfl)
theorem dX1_hand_87 : decode cX1_hand 87 = .ok (.iload_n 1, 1) := dk_27 (dk_at dksX1_hand_3 3 rfl rfl)
theorem dX1_hand_88 : decode cX1_hand 88 = .ok (.iaload, 1) := dk_46 (dk_at dksX1_hand_3 4 rfl rfl)
theorem dX1_hand_89 : decode cX1_hand 89 = .ok (.ireturn, 1) := dk_172 (dk_at dksX1_hand_3 5 rfl rfl)
theorem dX1_hand_90 : decode cX1_hand 90 = .ok (.aload_n 0, 1) := dk_42 (dk_at dksX1_hand_3 6 rfl rfl)
theorem dX1_hand_91 : decode cX1_hand 91 = .ok (.getfield 58, 3) := dk_180 0 58 (dk_at dksX1_hand_3 7 rfl rfl)
theorem dX1_hand_94 : decode cX1_hand 94 = .ok (.getfield 226, 3) := dk_180 0 226 (dk_at dksX1_hand_3 10 rfl rfl)
theorem dX1_hand_97 : decode cX1_hand 97 = .ok (.iload_n 1, 1) := dk_27 (dk_at dksX1_hand_3 13 rfl rfl)
theorem dX1_hand_98 : decode cX1_hand 98 = .ok (.iaload, 1) := dk_46 (dk_at dksX1_hand_3 14 rfl rfl)
theorem dX1_hand_99 : decode cX1_hand 99 = .ok (.ireturn, 1) := dk_172 (dk_at dksX1_hand_3 15 rfl rfl)
theorem dX1_hand_100 : decode cX1_hand 100 = .ok (.aload_n 0, 1) := dk_42 (dk_at dksX1_hand_3 16 rfl rfl)
theorem dX1_hand_101 : decode cX1_hand 101 = .ok (.getfield 58, 3) := dk_180 0 58 (dk_at dksX1_hand_3 17 rfl rfl)
theorem dX1_hand_104 : decode cX1_hand 104 = .ok (.iload_n 1, 1) := dk_27 (dk_at dksX1_hand_3 20 rfl rfl)
theorem dX1_hand_105 : decode cX1_hand 105 = .ok (.invokevirtual 229, 3) := dk_182 0 229 (dk_at dksX1_hand_3 21 rfl rfl)
theorem dX1_hand_108 : decode cX1_hand 108 = .ok (.ireturn, 1) := dk_172 (dk_at dksX1_hand_4 0 rfl rfl)
theorem dX1_hand_109 : decode cX1_hand 109 = .ok (.iconst 0, 1) := dk_3 (dk_at dksX1_hand_4 1 rfl rfl)
theorem dX1_hand_110 : decode cX1_hand 110 = .ok (.aload_n 0, 1) := dk_42 (dk_at dksX1_hand_4 2 rfl rfl)
theorem dX1_hand_111 : decode cX1_hand 111 = .ok (.getfield 58, 3) := dk_180 0 58 (dk_at dksX1_hand_4 3 rfl rfl)
theorem dX1_hand_114 : decode cX1_hand 114 = .ok (.getfield 201, 3) := dk_180 0 201 (dk_at dksX1_hand_4 6 rfl rfl)
theorem dX1_hand_117 : decode cX1_hand 117 = .ok (.aload_n 0, 1) := dk_42 (dk_at dksX1_hand_4 9 rfl rfl)
theorem dX1_hand_118 : decode cX1_hand 118 = .ok (.getfield 31, 3) := dk_180 0 31 (dk_at dksX1_hand_4 10 rfl rfl)
theorem dX1_hand_121 : decode cX1_hand 121 = .ok (.getfield 220, 3) := dk_180 0 220 (dk_at dksX1_hand_4 13 rfl rfl)
theorem dX1_hand_124 : decode cX1_hand 124 = .ok (.iload_n 1, 1) := dk_27 (dk_at dksX1_hand_4 16 rfl rfl)
theorem dX1_hand_125 : decode cX1_hand 125 = .ok (.iaload, 1) := dk_46 (dk_at dksX1_hand_4 17 rfl rfl)
theorem dX1_hand_126 : decode cX1_hand 126 = .ok (.isub, 1) := dk_100 (dk_at dksX1_hand_4 18 rfl rfl)
theorem dX1_hand_127 : decode cX1_hand 127 = .ok (.invokestatic 232, 3) := dk_184 0 232 (dk_at dksX1_hand_4 19 rfl rfl)
theorem dX1_hand_130 : decode cX1_hand 130 = .ok (.ireturn, 1) := dk_172 (dk_at dksX1_hand_4 22 rfl rfl)
abbrev cX1_needHand : ByteArray := prog_1_method_8_code
def yX1_needHand : MethodName := ⟨RX1, "needHand", "(I)V"⟩
def dkwX1_needHand_0 : List UInt8 := [42, 27, 42, 180, 0, 31, 180, 0, 126, 182, 0, 129, 177]
abbrev dktX1_needHand_0 : List UInt8 := dkwX1_needHand_0 ++ []
theorem dksX1_needHand_0 : cX1_needHand.data.toList.drop 0 = dktX1_needHand_0 := by decide +kernel
theorem dX1_needHand_0 : decode cX1_needHand 0 = .ok (.aload_n 0, 1) := dk_42 (dk_at dksX1_needHand_0 0 rfl rfl)
theorem dX1_needHand_1 : decode cX1_needHand 1 = .ok (.iload_n 1, 1) := dk_27 (dk_at dksX1_needHand_0 1 rfl rfl)
theorem dX1_needHand_2 : decode cX1_needHand 2 = .ok (.aload_n 0, 1) := dk_42 (dk_at dksX1_needHand_0 2 rfl rfl)
theorem dX1_needHand_3 : decode cX1_needHand 3 = .ok (.getfield 31, 3) := dk_180 0 31 (dk_at dksX1_needHand_0 3 rfl rfl)
theorem dX1_needHand_6 : decode cX1_needHand 6 = .ok (.getfield 126, 3) := dk_180 0 126 (dk_at dksX1_needHand_0 6 rfl rfl)
theorem dX1_needHand_9 : decode cX1_needHand 9 = .ok (.invokevirtual 129, 3) := dk_182 0 129 (dk_at dksX1_needHand_0 9 rfl rfl)
theorem dX1_needHand_12 : decode cX1_needHand 12 = .ok (.return_, 1) := dk_177 (dk_at dksX1_needHand_0 12 rfl rfl)
abbrev cX1_needThere : ByteArray := prog_1_method_7_code
def yX1_needThere : MethodName := ⟨RX1, "needThere", "(II)V"⟩
def dkwX1_needThere_1 : List UInt8 := [183, 0, 125, 191]
abbrev dktX1_needThere_1 : List UInt8 := dkwX1_needThere_1 ++ []
def dkwX1_needThere_0 : List UInt8 := [27, 155, 0, 9, 27, 28, 162, 0, 4, 177, 42, 180, 0, 50, 3, 92, 46, 4, 96, 79, 187, 0, 123, 89]
abbrev dktX1_needThere_0 : List UInt8 := dkwX1_needThere_0 ++ dktX1_needThere_1
theorem dksX1_needThere_0 : cX1_needThere.data.toList.drop 0 = dktX1_needThere_0 := by decide +kernel
theorem dksX1_needThere_1 : cX1_needThere.data.toList.drop 24 = dktX1_needThere_1 := dk_seg dksX1_needThere_0 24 rfl rfl
theorem dX1_needThere_0 : decode cX1_needThere 0 = .ok (.iload_n 1, 1) := dk_27 (dk_at dksX1_needThere_0 0 rfl rfl)
theorem dX1_needThere_1 : decode cX1_needThere 1 = .ok (.ifCond .lt 9, 3) := dk_155 0 9 (dk_at dksX1_needThere_0 1 rfl rfl)
theorem dX1_needThere_4 : decode cX1_needThere 4 = .ok (.iload_n 1, 1) := dk_27 (dk_at dksX1_needThere_0 4 rfl rfl)
theorem dX1_needThere_5 : decode cX1_needThere 5 = .ok (.iload_n 2, 1) := dk_28 (dk_at dksX1_needThere_0 5 rfl rfl)
theorem dX1_needThere_6 : decode cX1_needThere 6 = .ok (.if_icmp .ge 4, 3) := dk_162 0 4 (dk_at dksX1_needThere_0 6 rfl rfl)
theorem dX1_needThere_9 : decode cX1_needThere 9 = .ok (.return_, 1) := dk_177 (dk_at dksX1_needThere_0 9 rfl rfl)
theorem dX1_needThere_10 : decode cX1_needThere 10 = .ok (.aload_n 0, 1) := dk_42 (dk_at dksX1_needThere_0 10 rfl rfl)
theorem dX1_needThere_11 : decode cX1_needThere 11 = .ok (.getfield 50, 3) := dk_180 0 50 (dk_at dksX1_needThere_0 11 rfl rfl)
theorem dX1_needThere_14 : decode cX1_needThere 14 = .ok (.iconst 0, 1) := dk_3 (dk_at dksX1_needThere_0 14 rfl rfl)
theorem dX1_needThere_15 : decode cX1_needThere 15 = .ok (.dup2, 1) := dk_92 (dk_at dksX1_needThere_0 15 rfl rfl)
theorem dX1_needThere_16 : decode cX1_needThere 16 = .ok (.iaload, 1) := dk_46 (dk_at dksX1_needThere_0 16 rfl rfl)
theorem dX1_needThere_17 : decode cX1_needThere 17 = .ok (.iconst 1, 1) := dk_4 (dk_at dksX1_needThere_0 17 rfl rfl)
theorem dX1_needThere_18 : decode cX1_needThere 18 = .ok (.iadd, 1) := dk_96 (dk_at dksX1_needThere_0 18 rfl rfl)
theorem dX1_needThere_19 : decode cX1_needThere 19 = .ok (.iastore, 1) := dk_79 (dk_at dksX1_needThere_0 19 rfl rfl)
theorem dX1_needThere_20 : decode cX1_needThere 20 = .ok (.new 123, 3) := dk_187 0 123 (dk_at dksX1_needThere_0 20 rfl rfl)
theorem dX1_needThere_23 : decode cX1_needThere 23 = .ok (.dup, 1) := dk_89 (dk_at dksX1_needThere_0 23 rfl rfl)
theorem dX1_needThere_24 : decode cX1_needThere 24 = .ok (.invokespecial 125, 3) := dk_183 0 125 (dk_at dksX1_needThere_1 0 rfl rfl)
theorem dX1_needThere_27 : decode cX1_needThere 27 = .ok (.athrow, 1) := dk_191 (dk_at dksX1_needThere_1 3 rfl rfl)
abbrev cX1_puppet : ByteArray := prog_1_method_22_code
def yX1_puppet : MethodName := ⟨RX1, "puppet", "(II)I"⟩
def dkwX1_puppet_4 : List UInt8 := [172, 42, 180, 0, 58, 180, 0, 253, 27, 46, 172]
abbrev dktX1_puppet_4 : List UInt8 := dkwX1_puppet_4 ++ []
def dkwX1_puppet_3 : List UInt8 := [180, 0, 198, 27, 46, 172, 42, 180, 0, 58, 180, 0, 247, 27, 46, 172, 42, 180, 0, 58, 27, 182, 0, 250]
abbrev dktX1_puppet_3 : List UInt8 := dkwX1_puppet_3 ++ dktX1_puppet_4
def dkwX1_puppet_2 : List UInt8 := [42, 180, 0, 31, 180, 0, 241, 27, 46, 172, 42, 180, 0, 31, 180, 0, 244, 27, 46, 172, 42, 180, 0, 58]
abbrev dktX1_puppet_2 : List UInt8 := dkwX1_puppet_2 ++ dktX1_puppet_3
def dkwX1_puppet_1 : List UInt8 := [170, 0, 0, 0, 0, 0, 0, 85, 0, 0, 0, 0, 0, 0, 0, 4, 0, 0, 0, 36, 0, 0, 0, 46, 0, 0, 0, 56, 0, 0, 0, 66, 0, 0, 0, 76]
abbrev dktX1_puppet_1 : List UInt8 := dkwX1_puppet_1 ++ dktX1_puppet_2
def dkwX1_puppet_0 : List UInt8 := [42, 27, 182, 0, 238, 42, 28, 155, 0, 12, 28, 8, 163, 0, 7, 4, 167, 0, 4, 3, 182, 0, 160, 28]
abbrev dktX1_puppet_0 : List UInt8 := dkwX1_puppet_0 ++ dktX1_puppet_1
theorem dksX1_puppet_0 : cX1_puppet.data.toList.drop 0 = dktX1_puppet_0 := by decide +kernel
theorem dksX1_puppet_1 : cX1_puppet.data.toList.drop 24 = dktX1_puppet_1 := dk_seg dksX1_puppet_0 24 rfl rfl
theorem dksX1_puppet_2 : cX1_puppet.data.toList.drop 60 = dktX1_puppet_2 := dk_seg dksX1_puppet_1 36 rfl rfl
theorem dksX1_puppet_3 : cX1_puppet.data.toList.drop 84 = dktX1_puppet_3 := dk_seg dksX1_puppet_2 24 rfl rfl
theorem dksX1_puppet_4 : cX1_puppet.data.toList.drop 108 = dktX1_puppet_4 := dk_seg dksX1_puppet_3 24 rfl rfl
theorem dX1_puppet_0 : decode cX1_puppet 0 = .ok (.aload_n 0, 1) := dk_42 (dk_at dksX1_puppet_0 0 rfl rfl)
theorem dX1_puppet_1 : decode cX1_puppet 1 = .ok (.iload_n 1, 1) := dk_27 (dk_at dksX1_puppet_0 1 rfl rfl)
theorem dX1_puppet_2 : decode cX1_puppet 2 = .ok (.invokevirtual 238, 3) := dk_182 0 238 (dk_at dksX1_puppet_0 2 rfl rfl)
theorem dX1_puppet_5 : decode cX1_puppet 5 = .ok (.aload_n 0, 1) := dk_42 (dk_at dksX1_puppet_0 5 rfl rfl)
theorem dX1_puppet_6 : decode cX1_puppet 6 = .ok (.iload_n 2, 1) := dk_28 (dk_at dksX1_puppet_0 6 rfl rfl)
theorem dX1_puppet_7 : decode cX1_puppet 7 = .ok (.ifCond .lt 12, 3) := dk_155 0 12 (dk_at dksX1_puppet_0 7 rfl rfl)
theorem dX1_puppet_10 : decode cX1_puppet 10 = .ok (.iload_n 2, 1) := dk_28 (dk_at dksX1_puppet_0 10 rfl rfl)
theorem dX1_puppet_11 : decode cX1_puppet 11 = .ok (.iconst 5, 1) := dk_8 (dk_at dksX1_puppet_0 11 rfl rfl)
theorem dX1_puppet_12 : decode cX1_puppet 12 = .ok (.if_icmp .gt 7, 3) := dk_163 0 7 (dk_at dksX1_puppet_0 12 rfl rfl)
theorem dX1_puppet_15 : decode cX1_puppet 15 = .ok (.iconst 1, 1) := dk_4 (dk_at dksX1_puppet_0 15 rfl rfl)
theorem dX1_puppet_16 : decode cX1_puppet 16 = .ok (.goto 4, 3) := dk_167 0 4 (dk_at dksX1_puppet_0 16 rfl rfl)
theorem dX1_puppet_19 : decode cX1_puppet 19 = .ok (.iconst 0, 1) := dk_3 (dk_at dksX1_puppet_0 19 rfl rfl)
theorem dX1_puppet_20 : decode cX1_puppet 20 = .ok (.invokevirtual 160, 3) := dk_182 0 160 (dk_at dksX1_puppet_0 20 rfl rfl)
theorem dX1_puppet_23 : decode cX1_puppet 23 = .ok (.iload_n 2, 1) := dk_28 (dk_at dksX1_puppet_0 23 rfl rfl)
theorem dX1_puppet_24 : decode cX1_puppet 24 = .ok (.tableswitch 85 0 4 #[36, 46, 56, 66, 76], 36) := by decide +kernel
theorem dX1_puppet_60 : decode cX1_puppet 60 = .ok (.aload_n 0, 1) := dk_42 (dk_at dksX1_puppet_2 0 rfl rfl)
theorem dX1_puppet_61 : decode cX1_puppet 61 = .ok (.getfield 31, 3) := dk_180 0 31 (dk_at dksX1_puppet_2 1 rfl rfl)
theorem dX1_puppet_64 : decode cX1_puppet 64 = .ok (.getfield 241, 3) := dk_180 0 241 (dk_at dksX1_puppet_2 4 rfl rfl)
theorem dX1_puppet_67 : decode cX1_puppet 67 = .ok (.iload_n 1, 1) := dk_27 (dk_at dksX1_puppet_2 7 rfl rfl)
theorem dX1_puppet_68 : decode cX1_puppet 68 = .ok (.iaload, 1) := dk_46 (dk_at dksX1_puppet_2 8 rfl rfl)
theorem dX1_puppet_69 : decode cX1_puppet 69 = .ok (.ireturn, 1) := dk_172 (dk_at dksX1_puppet_2 9 rfl rfl)
theorem dX1_puppet_70 : decode cX1_puppet 70 = .ok (.aload_n 0, 1) := dk_42 (dk_at dksX1_puppet_2 10 rfl rfl)
theorem dX1_puppet_71 : decode cX1_puppet 71 = .ok (.getfield 31, 3) := dk_180 0 31 (dk_at dksX1_puppet_2 11 rfl rfl)
theorem dX1_puppet_74 : decode cX1_puppet 74 = .ok (.getfield 244, 3) := dk_180 0 244 (dk_at dksX1_puppet_2 14 rfl rfl)
theorem dX1_puppet_77 : decode cX1_puppet 77 = .ok (.iload_n 1, 1) := dk_27 (dk_at dksX1_puppet_2 17 rfl rfl)
theorem dX1_puppet_78 : decode cX1_puppet 78 = .ok (.iaload, 1) := dk_46 (dk_at dksX1_puppet_2 18 rfl rfl)
theorem dX1_puppet_79 : decode cX1_puppet 79 = .ok (.ireturn, 1) := dk_172 (dk_at dksX1_puppet_2 19 rfl rfl)
theorem dX1_puppet_80 : decode cX1_puppet 80 = .ok (.aload_n 0, 1) := dk_42 (dk_at dksX1_puppet_2 20 rfl rfl)
theorem dX1_puppet_81 : decode cX1_puppet 81 = .ok (.getfield 58, 3) := dk_180 0 58 (dk_at dksX1_puppet_2 21 rfl rfl)
theorem dX1_puppet_84 : decode cX1_puppet 84 = .ok (.getfield 198, 3) := dk_180 0 198 (dk_at dksX1_puppet_3 0 rfl rfl)
theorem dX1_puppet_87 : decode cX1_puppet 87 = .ok (.iload_n 1, 1) := dk_27 (dk_at dksX1_puppet_3 3 rfl rfl)
theorem dX1_puppet_88 : decode cX1_puppet 88 = .ok (.iaload, 1) := dk_46 (dk_at dksX1_puppet_3 4 rfl rfl)
theorem dX1_puppet_89 : decode cX1_puppet 89 = .ok (.ireturn, 1) := dk_172 (dk_at dksX1_puppet_3 5 rfl rfl)
theorem dX1_puppet_90 : decode cX1_puppet 90 = .ok (.aload_n 0, 1) := dk_42 (dk_at dksX1_puppet_3 6 rfl rfl)
theorem dX1_puppet_91 : decode cX1_puppet 91 = .ok (.getfield 58, 3) := dk_180 0 58 (dk_at dksX1_puppet_3 7 rfl rfl)
theorem dX1_puppet_94 : decode cX1_puppet 94 = .ok (.getfield 247, 3) := dk_180 0 247 (dk_at dksX1_puppet_3 10 rfl rfl)
theorem dX1_puppet_97 : decode cX1_puppet 97 = .ok (.iload_n 1, 1) := dk_27 (dk_at dksX1_puppet_3 13 rfl rfl)
theorem dX1_puppet_98 : decode cX1_puppet 98 = .ok (.iaload, 1) := dk_46 (dk_at dksX1_puppet_3 14 rfl rfl)
theorem dX1_puppet_99 : decode cX1_puppet 99 = .ok (.ireturn, 1) := dk_172 (dk_at dksX1_puppet_3 15 rfl rfl)
theorem dX1_puppet_100 : decode cX1_puppet 100 = .ok (.aload_n 0, 1) := dk_42 (dk_at dksX1_puppet_3 16 rfl rfl)
theorem dX1_puppet_101 : decode cX1_puppet 101 = .ok (.getfield 58, 3) := dk_180 0 58 (dk_at dksX1_puppet_3 17 rfl rfl)
theorem dX1_puppet_104 : decode cX1_puppet 104 = .ok (.iload_n 1, 1) := dk_27 (dk_at dksX1_puppet_3 20 rfl rfl)
theorem dX1_puppet_105 : decode cX1_puppet 105 = .ok (.invokevirtual 250, 3) := dk_182 0 250 (dk_at dksX1_puppet_3 21 rfl rfl)
theorem dX1_puppet_108 : decode cX1_puppet 108 = .ok (.ireturn, 1) := dk_172 (dk_at dksX1_puppet_4 0 rfl rfl)
theorem dX1_puppet_109 : decode cX1_puppet 109 = .ok (.aload_n 0, 1) := dk_42 (dk_at dksX1_puppet_4 1 rfl rfl)
theorem dX1_puppet_110 : decode cX1_puppet 110 = .ok (.getfield 58, 3) := dk_180 0 58 (dk_at dksX1_puppet_4 2 rfl rfl)
theorem dX1_puppet_113 : decode cX1_puppet 113 = .ok (.getfield 253, 3) := dk_180 0 253 (dk_at dksX1_puppet_4 5 rfl rfl)
theorem dX1_puppet_116 : decode cX1_puppet 116 = .ok (.iload_n 1, 1) := dk_27 (dk_at dksX1_puppet_4 8 rfl rfl)
theorem dX1_puppet_117 : decode cX1_puppet 117 = .ok (.iaload, 1) := dk_46 (dk_at dksX1_puppet_4 9 rfl rfl)
theorem dX1_puppet_118 : decode cX1_puppet 118 = .ok (.ireturn, 1) := dk_172 (dk_at dksX1_puppet_4 10 rfl rfl)
abbrev cX1_needPuppet : ByteArray := prog_1_method_9_code
def yX1_needPuppet : MethodName := ⟨RX1, "needPuppet", "(I)V"⟩
def dkwX1_needPuppet_0 : List UInt8 := [42, 27, 42, 180, 0, 31, 180, 0, 133, 182, 0, 129, 177]
abbrev dktX1_needPuppet_0 : List UInt8 := dkwX1_needPuppet_0 ++ []
theorem dksX1_needPuppet_0 : cX1_needPuppet.data.toList.drop 0 = dktX1_needPuppet_0 := by decide +kernel
theorem dX1_needPuppet_0 : decode cX1_needPuppet 0 = .ok (.aload_n 0, 1) := dk_42 (dk_at dksX1_needPuppet_0 0 rfl rfl)
theorem dX1_needPuppet_1 : decode cX1_needPuppet 1 = .ok (.iload_n 1, 1) := dk_27 (dk_at dksX1_needPuppet_0 1 rfl rfl)
theorem dX1_needPuppet_2 : decode cX1_needPuppet 2 = .ok (.aload_n 0, 1) := dk_42 (dk_at dksX1_needPuppet_0 2 rfl rfl)
theorem dX1_needPuppet_3 : decode cX1_needPuppet 3 = .ok (.getfield 31, 3) := dk_180 0 31 (dk_at dksX1_needPuppet_0 3 rfl rfl)
theorem dX1_needPuppet_6 : decode cX1_needPuppet 6 = .ok (.getfield 133, 3) := dk_180 0 133 (dk_at dksX1_needPuppet_0 6 rfl rfl)
theorem dX1_needPuppet_9 : decode cX1_needPuppet 9 = .ok (.invokevirtual 129, 3) := dk_182 0 129 (dk_at dksX1_needPuppet_0 9 rfl rfl)
theorem dX1_needPuppet_12 : decode cX1_needPuppet 12 = .ok (.return_, 1) := dk_177 (dk_at dksX1_needPuppet_0 12 rfl rfl)
abbrev cX1_act : ByteArray := prog_1_method_25_code
def yX1_act : MethodName := ⟨RX1, "act", "(II)I"⟩
def dkwX1_act_2 : List UInt8 := [180, 1, 16, 167, 0, 11, 42, 45, 180, 1, 16, 182, 1, 19, 172]
abbrev dktX1_act_2 : List UInt8 := dkwX1_act_2 ++ []
def dkwX1_act_1 : List UInt8 := [27, 182, 1, 9, 78, 28, 154, 0, 10, 45, 180, 1, 13, 167, 0, 23, 28, 4, 160, 0, 10, 45]
abbrev dktX1_act_1 : List UInt8 := dkwX1_act_1 ++ dktX1_act_2
def dkwX1_act_0 : List UInt8 := [42, 27, 182, 1, 6, 42, 28, 155, 0, 12, 28, 5, 163, 0, 7, 4, 167, 0, 4, 3, 182, 0, 160, 42]
abbrev dktX1_act_0 : List UInt8 := dkwX1_act_0 ++ dktX1_act_1
theorem dksX1_act_0 : cX1_act.data.toList.drop 0 = dktX1_act_0 := by decide +kernel
theorem dksX1_act_1 : cX1_act.data.toList.drop 24 = dktX1_act_1 := dk_seg dksX1_act_0 24 rfl rfl
theorem dksX1_act_2 : cX1_act.data.toList.drop 46 = dktX1_act_2 := dk_seg dksX1_act_1 22 rfl rfl
theorem dX1_act_0 : decode cX1_act 0 = .ok (.aload_n 0, 1) := dk_42 (dk_at dksX1_act_0 0 rfl rfl)
theorem dX1_act_1 : decode cX1_act 1 = .ok (.iload_n 1, 1) := dk_27 (dk_at dksX1_act_0 1 rfl rfl)
theorem dX1_act_2 : decode cX1_act 2 = .ok (.invokevirtual 262, 3) := dk_182 1 6 (dk_at dksX1_act_0 2 rfl rfl)
theorem dX1_act_5 : decode cX1_act 5 = .ok (.aload_n 0, 1) := dk_42 (dk_at dksX1_act_0 5 rfl rfl)
theorem dX1_act_6 : decode cX1_act 6 = .ok (.iload_n 2, 1) := dk_28 (dk_at dksX1_act_0 6 rfl rfl)
theorem dX1_act_7 : decode cX1_act 7 = .ok (.ifCond .lt 12, 3) := dk_155 0 12 (dk_at dksX1_act_0 7 rfl rfl)
theorem dX1_act_10 : decode cX1_act 10 = .ok (.iload_n 2, 1) := dk_28 (dk_at dksX1_act_0 10 rfl rfl)
theorem dX1_act_11 : decode cX1_act 11 = .ok (.iconst 2, 1) := dk_5 (dk_at dksX1_act_0 11 rfl rfl)
theorem dX1_act_12 : decode cX1_act 12 = .ok (.if_icmp .gt 7, 3) := dk_163 0 7 (dk_at dksX1_act_0 12 rfl rfl)
theorem dX1_act_15 : decode cX1_act 15 = .ok (.iconst 1, 1) := dk_4 (dk_at dksX1_act_0 15 rfl rfl)
theorem dX1_act_16 : decode cX1_act 16 = .ok (.goto 4, 3) := dk_167 0 4 (dk_at dksX1_act_0 16 rfl rfl)
theorem dX1_act_19 : decode cX1_act 19 = .ok (.iconst 0, 1) := dk_3 (dk_at dksX1_act_0 19 rfl rfl)
theorem dX1_act_20 : decode cX1_act 20 = .ok (.invokevirtual 160, 3) := dk_182 0 160 (dk_at dksX1_act_0 20 rfl rfl)
theorem dX1_act_23 : decode cX1_act 23 = .ok (.aload_n 0, 1) := dk_42 (dk_at dksX1_act_0 23 rfl rfl)
theorem dX1_act_24 : decode cX1_act 24 = .ok (.iload_n 1, 1) := dk_27 (dk_at dksX1_act_1 0 rfl rfl)
theorem dX1_act_25 : decode cX1_act 25 = .ok (.invokevirtual 265, 3) := dk_182 1 9 (dk_at dksX1_act_1 1 rfl rfl)
theorem dX1_act_28 : decode cX1_act 28 = .ok (.astore_n 3, 1) := dk_78 (dk_at dksX1_act_1 4 rfl rfl)
theorem dX1_act_29 : decode cX1_act 29 = .ok (.iload_n 2, 1) := dk_28 (dk_at dksX1_act_1 5 rfl rfl)
theorem dX1_act_30 : decode cX1_act 30 = .ok (.ifCond .ne 10, 3) := dk_154 0 10 (dk_at dksX1_act_1 6 rfl rfl)
theorem dX1_act_33 : decode cX1_act 33 = .ok (.aload_n 3, 1) := dk_45 (dk_at dksX1_act_1 9 rfl rfl)
theorem dX1_act_34 : decode cX1_act 34 = .ok (.getfield 269, 3) := dk_180 1 13 (dk_at dksX1_act_1 10 rfl rfl)
theorem dX1_act_37 : decode cX1_act 37 = .ok (.goto 23, 3) := dk_167 0 23 (dk_at dksX1_act_1 13 rfl rfl)
theorem dX1_act_40 : decode cX1_act 40 = .ok (.iload_n 2, 1) := dk_28 (dk_at dksX1_act_1 16 rfl rfl)
theorem dX1_act_41 : decode cX1_act 41 = .ok (.iconst 1, 1) := dk_4 (dk_at dksX1_act_1 17 rfl rfl)
theorem dX1_act_42 : decode cX1_act 42 = .ok (.if_icmp .ne 10, 3) := dk_160 0 10 (dk_at dksX1_act_1 18 rfl rfl)
theorem dX1_act_45 : decode cX1_act 45 = .ok (.aload_n 3, 1) := dk_45 (dk_at dksX1_act_1 21 rfl rfl)
theorem dX1_act_46 : decode cX1_act 46 = .ok (.getfield 272, 3) := dk_180 1 16 (dk_at dksX1_act_2 0 rfl rfl)
theorem dX1_act_49 : decode cX1_act 49 = .ok (.goto 11, 3) := dk_167 0 11 (dk_at dksX1_act_2 3 rfl rfl)
theorem dX1_act_52 : decode cX1_act 52 = .ok (.aload_n 0, 1) := dk_42 (dk_at dksX1_act_2 6 rfl rfl)
theorem dX1_act_53 : decode cX1_act 53 = .ok (.aload_n 3, 1) := dk_45 (dk_at dksX1_act_2 7 rfl rfl)
theorem dX1_act_54 : decode cX1_act 54 = .ok (.getfield 272, 3) := dk_180 1 16 (dk_at dksX1_act_2 8 rfl rfl)
theorem dX1_act_57 : decode cX1_act 57 = .ok (.invokevirtual 275, 3) := dk_182 1 19 (dk_at dksX1_act_2 11 rfl rfl)
theorem dX1_act_60 : decode cX1_act 60 = .ok (.ireturn, 1) := dk_172 (dk_at dksX1_act_2 14 rfl rfl)
abbrev cX1_needAct : ByteArray := prog_1_method_10_code
def yX1_needAct : MethodName := ⟨RX1, "needAct", "(I)V"⟩
def dkwX1_needAct_0 : List UInt8 := [42, 27, 42, 180, 0, 31, 180, 0, 136, 182, 0, 140, 182, 0, 129, 177]
abbrev dktX1_needAct_0 : List UInt8 := dkwX1_needAct_0 ++ []
theorem dksX1_needAct_0 : cX1_needAct.data.toList.drop 0 = dktX1_needAct_0 := by decide +kernel
theorem dX1_needAct_0 : decode cX1_needAct 0 = .ok (.aload_n 0, 1) := dk_42 (dk_at dksX1_needAct_0 0 rfl rfl)
theorem dX1_needAct_1 : decode cX1_needAct 1 = .ok (.iload_n 1, 1) := dk_27 (dk_at dksX1_needAct_0 1 rfl rfl)
theorem dX1_needAct_2 : decode cX1_needAct 2 = .ok (.aload_n 0, 1) := dk_42 (dk_at dksX1_needAct_0 2 rfl rfl)
theorem dX1_needAct_3 : decode cX1_needAct 3 = .ok (.getfield 31, 3) := dk_180 0 31 (dk_at dksX1_needAct_0 3 rfl rfl)
theorem dX1_needAct_6 : decode cX1_needAct 6 = .ok (.getfield 136, 3) := dk_180 0 136 (dk_at dksX1_needAct_0 6 rfl rfl)
theorem dX1_needAct_9 : decode cX1_needAct 9 = .ok (.invokevirtual 140, 3) := dk_182 0 140 (dk_at dksX1_needAct_0 9 rfl rfl)
theorem dX1_needAct_12 : decode cX1_needAct 12 = .ok (.invokevirtual 129, 3) := dk_182 0 129 (dk_at dksX1_needAct_0 12 rfl rfl)
theorem dX1_needAct_15 : decode cX1_needAct 15 = .ok (.return_, 1) := dk_177 (dk_at dksX1_needAct_0 15 rfl rfl)
abbrev cX1_needsOf : ByteArray := prog_1_method_24_code
def yX1_needsOf : MethodName := ⟨RX1, "needsOf", "(I)I"⟩
def dkwX1_needsOf_2 : List UInt8 := [28, 172]
abbrev dktX1_needsOf_2 : List UInt8 := dkwX1_needsOf_2 ++ []
def dkwX1_needsOf_1 : List UInt8 := [160, 0, 15, 42, 180, 0, 31, 180, 0, 244, 29, 46, 167, 0, 4, 3, 96, 61, 132, 3, 1, 167, 255, 217]
abbrev dktX1_needsOf_1 : List UInt8 := dkwX1_needsOf_1 ++ dktX1_needsOf_2
def dkwX1_needsOf_0 : List UInt8 := [3, 61, 3, 62, 29, 42, 180, 0, 31, 180, 0, 133, 162, 0, 34, 28, 27, 29, 122, 4, 126, 4]
abbrev dktX1_needsOf_0 : List UInt8 := dkwX1_needsOf_0 ++ dktX1_needsOf_1
theorem dksX1_needsOf_0 : cX1_needsOf.data.toList.drop 0 = dktX1_needsOf_0 := by decide +kernel
theorem dksX1_needsOf_1 : cX1_needsOf.data.toList.drop 22 = dktX1_needsOf_1 := dk_seg dksX1_needsOf_0 22 rfl rfl
theorem dksX1_needsOf_2 : cX1_needsOf.data.toList.drop 46 = dktX1_needsOf_2 := dk_seg dksX1_needsOf_1 24 rfl rfl
theorem dX1_needsOf_0 : decode cX1_needsOf 0 = .ok (.iconst 0, 1) := dk_3 (dk_at dksX1_needsOf_0 0 rfl rfl)
theorem dX1_needsOf_1 : decode cX1_needsOf 1 = .ok (.istore_n 2, 1) := dk_61 (dk_at dksX1_needsOf_0 1 rfl rfl)
theorem dX1_needsOf_2 : decode cX1_needsOf 2 = .ok (.iconst 0, 1) := dk_3 (dk_at dksX1_needsOf_0 2 rfl rfl)
theorem dX1_needsOf_3 : decode cX1_needsOf 3 = .ok (.istore_n 3, 1) := dk_62 (dk_at dksX1_needsOf_0 3 rfl rfl)
theorem dX1_needsOf_4 : decode cX1_needsOf 4 = .ok (.iload_n 3, 1) := dk_29 (dk_at dksX1_needsOf_0 4 rfl rfl)
theorem dX1_needsOf_5 : decode cX1_needsOf 5 = .ok (.aload_n 0, 1) := dk_42 (dk_at dksX1_needsOf_0 5 rfl rfl)
theorem dX1_needsOf_6 : decode cX1_needsOf 6 = .ok (.getfield 31, 3) := dk_180 0 31 (dk_at dksX1_needsOf_0 6 rfl rfl)
theorem dX1_needsOf_9 : decode cX1_needsOf 9 = .ok (.getfield 133, 3) := dk_180 0 133 (dk_at dksX1_needsOf_0 9 rfl rfl)
theorem dX1_needsOf_12 : decode cX1_needsOf 12 = .ok (.if_icmp .ge 34, 3) := dk_162 0 34 (dk_at dksX1_needsOf_0 12 rfl rfl)
theorem dX1_needsOf_15 : decode cX1_needsOf 15 = .ok (.iload_n 2, 1) := dk_28 (dk_at dksX1_needsOf_0 15 rfl rfl)
theorem dX1_needsOf_16 : decode cX1_needsOf 16 = .ok (.iload_n 1, 1) := dk_27 (dk_at dksX1_needsOf_0 16 rfl rfl)
theorem dX1_needsOf_17 : decode cX1_needsOf 17 = .ok (.iload_n 3, 1) := dk_29 (dk_at dksX1_needsOf_0 17 rfl rfl)
theorem dX1_needsOf_18 : decode cX1_needsOf 18 = .ok (.ishr, 1) := dk_122 (dk_at dksX1_needsOf_0 18 rfl rfl)
theorem dX1_needsOf_19 : decode cX1_needsOf 19 = .ok (.iconst 1, 1) := dk_4 (dk_at dksX1_needsOf_0 19 rfl rfl)
theorem dX1_needsOf_20 : decode cX1_needsOf 20 = .ok (.iand, 1) := dk_126 (dk_at dksX1_needsOf_0 20 rfl rfl)
theorem dX1_needsOf_21 : decode cX1_needsOf 21 = .ok (.iconst 1, 1) := dk_4 (dk_at dksX1_needsOf_0 21 rfl rfl)
theorem dX1_needsOf_22 : decode cX1_needsOf 22 = .ok (.if_icmp .ne 15, 3) := dk_160 0 15 (dk_at dksX1_needsOf_1 0 rfl rfl)
theorem dX1_needsOf_25 : decode cX1_needsOf 25 = .ok (.aload_n 0, 1) := dk_42 (dk_at dksX1_needsOf_1 3 rfl rfl)
theorem dX1_needsOf_26 : decode cX1_needsOf 26 = .ok (.getfield 31, 3) := dk_180 0 31 (dk_at dksX1_needsOf_1 4 rfl rfl)
theorem dX1_needsOf_29 : decode cX1_needsOf 29 = .ok (.getfield 244, 3) := dk_180 0 244 (dk_at dksX1_needsOf_1 7 rfl rfl)
theorem dX1_needsOf_32 : decode cX1_needsOf 32 = .ok (.iload_n 3, 1) := dk_29 (dk_at dksX1_needsOf_1 10 rfl rfl)
theorem dX1_needsOf_33 : decode cX1_needsOf 33 = .ok (.iaload, 1) := dk_46 (dk_at dksX1_needsOf_1 11 rfl rfl)
theorem dX1_needsOf_34 : decode cX1_needsOf 34 = .ok (.goto 4, 3) := dk_167 0 4 (dk_at dksX1_needsOf_1 12 rfl rfl)
theorem dX1_needsOf_37 : decode cX1_needsOf 37 = .ok (.iconst 0, 1) := dk_3 (dk_at dksX1_needsOf_1 15 rfl rfl)
theorem dX1_needsOf_38 : decode cX1_needsOf 38 = .ok (.iadd, 1) := dk_96 (dk_at dksX1_needsOf_1 16 rfl rfl)
theorem dX1_needsOf_39 : decode cX1_needsOf 39 = .ok (.istore_n 2, 1) := dk_61 (dk_at dksX1_needsOf_1 17 rfl rfl)
theorem dX1_needsOf_40 : decode cX1_needsOf 40 = .ok (.iinc 3 1, 3) := dk_132 3 1 (dk_at dksX1_needsOf_1 18 rfl rfl)
theorem dX1_needsOf_43 : decode cX1_needsOf 43 = .ok (.goto (-39), 3) := dk_167 255 217 (dk_at dksX1_needsOf_1 21 rfl rfl)
theorem dX1_needsOf_46 : decode cX1_needsOf 46 = .ok (.iload_n 2, 1) := dk_28 (dk_at dksX1_needsOf_2 0 rfl rfl)
theorem dX1_needsOf_47 : decode cX1_needsOf 47 = .ok (.ireturn, 1) := dk_172 (dk_at dksX1_needsOf_2 1 rfl rfl)
abbrev cX1_score : ByteArray := prog_1_method_26_code
def yX1_score : MethodName := ⟨RX1, "score", "(II)I"⟩
def dkwX1_score_0 : List UInt8 := [42, 27, 182, 0, 238, 42, 28, 182, 0, 217, 42, 180, 0, 58, 27, 28, 182, 1, 22, 172]
abbrev dktX1_score_0 : List UInt8 := dkwX1_score_0 ++ []
theorem dksX1_score_0 : cX1_score.data.toList.drop 0 = dktX1_score_0 := by decide +kernel
theorem dX1_score_0 : decode cX1_score 0 = .ok (.aload_n 0, 1) := dk_42 (dk_at dksX1_score_0 0 rfl rfl)
theorem dX1_score_1 : decode cX1_score 1 = .ok (.iload_n 1, 1) := dk_27 (dk_at dksX1_score_0 1 rfl rfl)
theorem dX1_score_2 : decode cX1_score 2 = .ok (.invokevirtual 238, 3) := dk_182 0 238 (dk_at dksX1_score_0 2 rfl rfl)
theorem dX1_score_5 : decode cX1_score 5 = .ok (.aload_n 0, 1) := dk_42 (dk_at dksX1_score_0 5 rfl rfl)
theorem dX1_score_6 : decode cX1_score 6 = .ok (.iload_n 2, 1) := dk_28 (dk_at dksX1_score_0 6 rfl rfl)
theorem dX1_score_7 : decode cX1_score 7 = .ok (.invokevirtual 217, 3) := dk_182 0 217 (dk_at dksX1_score_0 7 rfl rfl)
theorem dX1_score_10 : decode cX1_score 10 = .ok (.aload_n 0, 1) := dk_42 (dk_at dksX1_score_0 10 rfl rfl)
theorem dX1_score_11 : decode cX1_score 11 = .ok (.getfield 58, 3) := dk_180 0 58 (dk_at dksX1_score_0 11 rfl rfl)
theorem dX1_score_14 : decode cX1_score 14 = .ok (.iload_n 1, 1) := dk_27 (dk_at dksX1_score_0 14 rfl rfl)
theorem dX1_score_15 : decode cX1_score 15 = .ok (.iload_n 2, 1) := dk_28 (dk_at dksX1_score_0 15 rfl rfl)
theorem dX1_score_16 : decode cX1_score 16 = .ok (.invokevirtual 278, 3) := dk_182 1 22 (dk_at dksX1_score_0 16 rfl rfl)
theorem dX1_score_19 : decode cX1_score 19 = .ok (.ireturn, 1) := dk_172 (dk_at dksX1_score_0 19 rfl rfl)
abbrev cX1_chooses : ByteArray := prog_1_method_27_code
def yX1_chooses : MethodName := ⟨RX1, "chooses", "(I)I"⟩
def dkwX1_chooses_0 : List UInt8 := [42, 27, 182, 0, 238, 42, 180, 0, 58, 27, 182, 1, 25, 172]
abbrev dktX1_chooses_0 : List UInt8 := dkwX1_chooses_0 ++ []
theorem dksX1_chooses_0 : cX1_chooses.data.toList.drop 0 = dktX1_chooses_0 := by decide +kernel
theorem dX1_chooses_0 : decode cX1_chooses 0 = .ok (.aload_n 0, 1) := dk_42 (dk_at dksX1_chooses_0 0 rfl rfl)
theorem dX1_chooses_1 : decode cX1_chooses 1 = .ok (.iload_n 1, 1) := dk_27 (dk_at dksX1_chooses_0 1 rfl rfl)
theorem dX1_chooses_2 : decode cX1_chooses 2 = .ok (.invokevirtual 238, 3) := dk_182 0 238 (dk_at dksX1_chooses_0 2 rfl rfl)
theorem dX1_chooses_5 : decode cX1_chooses 5 = .ok (.aload_n 0, 1) := dk_42 (dk_at dksX1_chooses_0 5 rfl rfl)
theorem dX1_chooses_6 : decode cX1_chooses 6 = .ok (.getfield 58, 3) := dk_180 0 58 (dk_at dksX1_chooses_0 6 rfl rfl)
theorem dX1_chooses_9 : decode cX1_chooses 9 = .ok (.iload_n 1, 1) := dk_27 (dk_at dksX1_chooses_0 9 rfl rfl)
theorem dX1_chooses_10 : decode cX1_chooses 10 = .ok (.invokevirtual 281, 3) := dk_182 1 25 (dk_at dksX1_chooses_0 10 rfl rfl)
theorem dX1_chooses_13 : decode cX1_chooses 13 = .ok (.ireturn, 1) := dk_172 (dk_at dksX1_chooses_0 13 rfl rfl)
abbrev cX1_years : ByteArray := prog_1_method_28_code
def yX1_years : MethodName := ⟨RX1, "years", "(I)I"⟩
def dkwX1_years_1 : List UInt8 := [184, 1, 32, 182, 1, 35, 87, 42, 180, 0, 58, 180, 0, 201, 172]
abbrev dktX1_years_1 : List UInt8 := dkwX1_years_1 ++ []
def dkwX1_years_0 : List UInt8 := [42, 27, 184, 1, 28, 182, 0, 160, 42, 180, 0, 58, 27, 17, 0, 200, 42, 180, 0, 58, 180, 0, 201, 100]
abbrev dktX1_years_0 : List UInt8 := dkwX1_years_0 ++ dktX1_years_1
theorem dksX1_years_0 : cX1_years.data.toList.drop 0 = dktX1_years_0 := by decide +kernel
theorem dksX1_years_1 : cX1_years.data.toList.drop 24 = dktX1_years_1 := dk_seg dksX1_years_0 24 rfl rfl
theorem dX1_years_0 : decode cX1_years 0 = .ok (.aload_n 0, 1) := dk_42 (dk_at dksX1_years_0 0 rfl rfl)
theorem dX1_years_1 : decode cX1_years 1 = .ok (.iload_n 1, 1) := dk_27 (dk_at dksX1_years_0 1 rfl rfl)
theorem dX1_years_2 : decode cX1_years 2 = .ok (.invokestatic 284, 3) := dk_184 1 28 (dk_at dksX1_years_0 2 rfl rfl)
theorem dX1_years_5 : decode cX1_years 5 = .ok (.invokevirtual 160, 3) := dk_182 0 160 (dk_at dksX1_years_0 5 rfl rfl)
theorem dX1_years_8 : decode cX1_years 8 = .ok (.aload_n 0, 1) := dk_42 (dk_at dksX1_years_0 8 rfl rfl)
theorem dX1_years_9 : decode cX1_years 9 = .ok (.getfield 58, 3) := dk_180 0 58 (dk_at dksX1_years_0 9 rfl rfl)
theorem dX1_years_12 : decode cX1_years 12 = .ok (.iload_n 1, 1) := dk_27 (dk_at dksX1_years_0 12 rfl rfl)
theorem dX1_years_13 : decode cX1_years 13 = .ok (.sipush 200, 3) := dk_17 0 200 (dk_at dksX1_years_0 13 rfl rfl)
theorem dX1_years_16 : decode cX1_years 16 = .ok (.aload_n 0, 1) := dk_42 (dk_at dksX1_years_0 16 rfl rfl)
theorem dX1_years_17 : decode cX1_years 17 = .ok (.getfield 58, 3) := dk_180 0 58 (dk_at dksX1_years_0 17 rfl rfl)
theorem dX1_years_20 : decode cX1_years 20 = .ok (.getfield 201, 3) := dk_180 0 201 (dk_at dksX1_years_0 20 rfl rfl)
theorem dX1_years_23 : decode cX1_years 23 = .ok (.isub, 1) := dk_100 (dk_at dksX1_years_0 23 rfl rfl)
theorem dX1_years_24 : decode cX1_years 24 = .ok (.invokestatic 288, 3) := dk_184 1 32 (dk_at dksX1_years_1 0 rfl rfl)
theorem dX1_years_27 : decode cX1_years 27 = .ok (.invokevirtual 291, 3) := dk_182 1 35 (dk_at dksX1_years_1 3 rfl rfl)
theorem dX1_years_30 : decode cX1_years 30 = .ok (.pop, 1) := dk_87 (dk_at dksX1_years_1 6 rfl rfl)
theorem dX1_years_31 : decode cX1_years 31 = .ok (.aload_n 0, 1) := dk_42 (dk_at dksX1_years_1 7 rfl rfl)
theorem dX1_years_32 : decode cX1_years 32 = .ok (.getfield 58, 3) := dk_180 0 58 (dk_at dksX1_years_1 8 rfl rfl)
theorem dX1_years_35 : decode cX1_years 35 = .ok (.getfield 201, 3) := dk_180 0 201 (dk_at dksX1_years_1 11 rfl rfl)
theorem dX1_years_38 : decode cX1_years 38 = .ok (.ireturn, 1) := dk_172 (dk_at dksX1_years_1 14 rfl rfl)
abbrev cX1_isYear : ByteArray := prog_1_method_11_code
def yX1_isYear : MethodName := ⟨RX1, "isYear", "(I)Z"⟩
def dkwX1_isYear_0 : List UInt8 := [26, 4, 161, 0, 13, 26, 16, 60, 163, 0, 7, 4, 167, 0, 4, 3, 172]
abbrev dktX1_isYear_0 : List UInt8 := dkwX1_isYear_0 ++ []
theorem dksX1_isYear_0 : cX1_isYear.data.toList.drop 0 = dktX1_isYear_0 := by decide +kernel
theorem dX1_isYear_0 : decode cX1_isYear 0 = .ok (.iload_n 0, 1) := dk_26 (dk_at dksX1_isYear_0 0 rfl rfl)
theorem dX1_isYear_1 : decode cX1_isYear 1 = .ok (.iconst 1, 1) := dk_4 (dk_at dksX1_isYear_0 1 rfl rfl)
theorem dX1_isYear_2 : decode cX1_isYear 2 = .ok (.if_icmp .lt 13, 3) := dk_161 0 13 (dk_at dksX1_isYear_0 2 rfl rfl)
theorem dX1_isYear_5 : decode cX1_isYear 5 = .ok (.iload_n 0, 1) := dk_26 (dk_at dksX1_isYear_0 5 rfl rfl)
theorem dX1_isYear_6 : decode cX1_isYear 6 = .ok (.bipush 60, 2) := dk_16 60 (dk_at dksX1_isYear_0 6 rfl rfl)
theorem dX1_isYear_8 : decode cX1_isYear 8 = .ok (.if_icmp .gt 7, 3) := dk_163 0 7 (dk_at dksX1_isYear_0 8 rfl rfl)
theorem dX1_isYear_11 : decode cX1_isYear 11 = .ok (.iconst 1, 1) := dk_4 (dk_at dksX1_isYear_0 11 rfl rfl)
theorem dX1_isYear_12 : decode cX1_isYear 12 = .ok (.goto 4, 3) := dk_167 0 4 (dk_at dksX1_isYear_0 12 rfl rfl)
theorem dX1_isYear_15 : decode cX1_isYear 15 = .ok (.iconst 0, 1) := dk_3 (dk_at dksX1_isYear_0 15 rfl rfl)
theorem dX1_isYear_16 : decode cX1_isYear 16 = .ok (.ireturn, 1) := dk_172 (dk_at dksX1_isYear_0 16 rfl rfl)
abbrev cX1_undo : ByteArray := prog_1_method_29_code
def yX1_undo : MethodName := ⟨RX1, "undo", "(I)I"⟩
def dkwX1_undo_2 : List UInt8 := [182, 1, 35, 87, 29, 172]
abbrev dktX1_undo_2 : List UInt8 := dkwX1_undo_2 ++ []
def dkwX1_undo_1 : List UInt8 := [27, 28, 184, 1, 32, 62, 29, 158, 0, 21, 42, 180, 0, 58, 42, 180, 0, 62, 182, 0, 110, 28, 29, 100]
abbrev dktX1_undo_1 : List UInt8 := dkwX1_undo_1 ++ dktX1_undo_2
def dkwX1_undo_0 : List UInt8 := [42, 27, 184, 1, 28, 182, 0, 160, 42, 180, 0, 58, 180, 0, 201, 42, 180, 0, 62, 180, 0, 201, 100, 61]
abbrev dktX1_undo_0 : List UInt8 := dkwX1_undo_0 ++ dktX1_undo_1
theorem dksX1_undo_0 : cX1_undo.data.toList.drop 0 = dktX1_undo_0 := by decide +kernel
theorem dksX1_undo_1 : cX1_undo.data.toList.drop 24 = dktX1_undo_1 := dk_seg dksX1_undo_0 24 rfl rfl
theorem dksX1_undo_2 : cX1_undo.data.toList.drop 48 = dktX1_undo_2 := dk_seg dksX1_undo_1 24 rfl rfl
theorem dX1_undo_0 : decode cX1_undo 0 = .ok (.aload_n 0, 1) := dk_42 (dk_at dksX1_undo_0 0 rfl rfl)
theorem dX1_undo_1 : decode cX1_undo 1 = .ok (.iload_n 1, 1) := dk_27 (dk_at dksX1_undo_0 1 rfl rfl)
theorem dX1_undo_2 : decode cX1_undo 2 = .ok (.invokestatic 284, 3) := dk_184 1 28 (dk_at dksX1_undo_0 2 rfl rfl)
theorem dX1_undo_5 : decode cX1_undo 5 = .ok (.invokevirtual 160, 3) := dk_182 0 160 (dk_at dksX1_undo_0 5 rfl rfl)
theorem dX1_undo_8 : decode cX1_undo 8 = .ok (.aload_n 0, 1) := dk_42 (dk_at dksX1_undo_0 8 rfl rfl)
theorem dX1_undo_9 : decode cX1_undo 9 = .ok (.getfield 58, 3) := dk_180 0 58 (dk_at dksX1_undo_0 9 rfl rfl)
theorem dX1_undo_12 : decode cX1_undo 12 = .ok (.getfield 201, 3) := dk_180 0 201 (dk_at dksX1_undo_0 12 rfl rfl)
theorem dX1_undo_15 : decode cX1_undo 15 = .ok (.aload_n 0, 1) := dk_42 (dk_at dksX1_undo_0 15 rfl rfl)
theorem dX1_undo_16 : decode cX1_undo 16 = .ok (.getfield 62, 3) := dk_180 0 62 (dk_at dksX1_undo_0 16 rfl rfl)
theorem dX1_undo_19 : decode cX1_undo 19 = .ok (.getfield 201, 3) := dk_180 0 201 (dk_at dksX1_undo_0 19 rfl rfl)
theorem dX1_undo_22 : decode cX1_undo 22 = .ok (.isub, 1) := dk_100 (dk_at dksX1_undo_0 22 rfl rfl)
theorem dX1_undo_23 : decode cX1_undo 23 = .ok (.istore_n 2, 1) := dk_61 (dk_at dksX1_undo_0 23 rfl rfl)
theorem dX1_undo_24 : decode cX1_undo 24 = .ok (.iload_n 1, 1) := dk_27 (dk_at dksX1_undo_1 0 rfl rfl)
theorem dX1_undo_25 : decode cX1_undo 25 = .ok (.iload_n 2, 1) := dk_28 (dk_at dksX1_undo_1 1 rfl rfl)
theorem dX1_undo_26 : decode cX1_undo 26 = .ok (.invokestatic 288, 3) := dk_184 1 32 (dk_at dksX1_undo_1 2 rfl rfl)
theorem dX1_undo_29 : decode cX1_undo 29 = .ok (.istore_n 3, 1) := dk_62 (dk_at dksX1_undo_1 5 rfl rfl)
theorem dX1_undo_30 : decode cX1_undo 30 = .ok (.iload_n 3, 1) := dk_29 (dk_at dksX1_undo_1 6 rfl rfl)
theorem dX1_undo_31 : decode cX1_undo 31 = .ok (.ifCond .le 21, 3) := dk_158 0 21 (dk_at dksX1_undo_1 7 rfl rfl)
theorem dX1_undo_34 : decode cX1_undo 34 = .ok (.aload_n 0, 1) := dk_42 (dk_at dksX1_undo_1 10 rfl rfl)
theorem dX1_undo_35 : decode cX1_undo 35 = .ok (.getfield 58, 3) := dk_180 0 58 (dk_at dksX1_undo_1 11 rfl rfl)
theorem dX1_undo_38 : decode cX1_undo 38 = .ok (.aload_n 0, 1) := dk_42 (dk_at dksX1_undo_1 14 rfl rfl)
theorem dX1_undo_39 : decode cX1_undo 39 = .ok (.getfield 62, 3) := dk_180 0 62 (dk_at dksX1_undo_1 15 rfl rfl)
theorem dX1_undo_42 : decode cX1_undo 42 = .ok (.invokevirtual 110, 3) := dk_182 0 110 (dk_at dksX1_undo_1 18 rfl rfl)
theorem dX1_undo_45 : decode cX1_undo 45 = .ok (.iload_n 2, 1) := dk_28 (dk_at dksX1_undo_1 21 rfl rfl)
theorem dX1_undo_46 : decode cX1_undo 46 = .ok (.iload_n 3, 1) := dk_29 (dk_at dksX1_undo_1 22 rfl rfl)
theorem dX1_undo_47 : decode cX1_undo 47 = .ok (.isub, 1) := dk_100 (dk_at dksX1_undo_1 23 rfl rfl)
theorem dX1_undo_48 : decode cX1_undo 48 = .ok (.invokevirtual 291, 3) := dk_182 1 35 (dk_at dksX1_undo_2 0 rfl rfl)
theorem dX1_undo_51 : decode cX1_undo 51 = .ok (.pop, 1) := dk_87 (dk_at dksX1_undo_2 3 rfl rfl)
theorem dX1_undo_52 : decode cX1_undo 52 = .ok (.iload_n 3, 1) := dk_29 (dk_at dksX1_undo_2 4 rfl rfl)
theorem dX1_undo_53 : decode cX1_undo 53 = .ok (.ireturn, 1) := dk_172 (dk_at dksX1_undo_2 5 rfl rfl)
abbrev cX1_since : ByteArray := prog_1_method_30_code
def yX1_since : MethodName := ⟨RX1, "since", "(II)I"⟩
def dkwX1_since_1 : List UInt8 := [172]
abbrev dktX1_since_1 : List UInt8 := dkwX1_since_1 ++ []
def dkwX1_since_0 : List UInt8 := [42, 27, 182, 0, 217, 42, 28, 182, 0, 238, 42, 180, 0, 58, 180, 1, 39, 16, 8, 27, 104, 28, 96, 46]
abbrev dktX1_since_0 : List UInt8 := dkwX1_since_0 ++ dktX1_since_1
theorem dksX1_since_0 : cX1_since.data.toList.drop 0 = dktX1_since_0 := by decide +kernel
theorem dksX1_since_1 : cX1_since.data.toList.drop 24 = dktX1_since_1 := dk_seg dksX1_since_0 24 rfl rfl
theorem dX1_since_0 : decode cX1_since 0 = .ok (.aload_n 0, 1) := dk_42 (dk_at dksX1_since_0 0 rfl rfl)
theorem dX1_since_1 : decode cX1_since 1 = .ok (.iload_n 1, 1) := dk_27 (dk_at dksX1_since_0 1 rfl rfl)
theorem dX1_since_2 : decode cX1_since 2 = .ok (.invokevirtual 217, 3) := dk_182 0 217 (dk_at dksX1_since_0 2 rfl rfl)
theorem dX1_since_5 : decode cX1_since 5 = .ok (.aload_n 0, 1) := dk_42 (dk_at dksX1_since_0 5 rfl rfl)
theorem dX1_since_6 : decode cX1_since 6 = .ok (.iload_n 2, 1) := dk_28 (dk_at dksX1_since_0 6 rfl rfl)
theorem dX1_since_7 : decode cX1_since 7 = .ok (.invokevirtual 238, 3) := dk_182 0 238 (dk_at dksX1_since_0 7 rfl rfl)
theorem dX1_since_10 : decode cX1_since 10 = .ok (.aload_n 0, 1) := dk_42 (dk_at dksX1_since_0 10 rfl rfl)
theorem dX1_since_11 : decode cX1_since 11 = .ok (.getfield 58, 3) := dk_180 0 58 (dk_at dksX1_since_0 11 rfl rfl)
theorem dX1_since_14 : decode cX1_since 14 = .ok (.getfield 295, 3) := dk_180 1 39 (dk_at dksX1_since_0 14 rfl rfl)
theorem dX1_since_17 : decode cX1_since 17 = .ok (.bipush 8, 2) := dk_16 8 (dk_at dksX1_since_0 17 rfl rfl)
theorem dX1_since_19 : decode cX1_since 19 = .ok (.iload_n 1, 1) := dk_27 (dk_at dksX1_since_0 19 rfl rfl)
theorem dX1_since_20 : decode cX1_since 20 = .ok (.imul, 1) := dk_104 (dk_at dksX1_since_0 20 rfl rfl)
theorem dX1_since_21 : decode cX1_since 21 = .ok (.iload_n 2, 1) := dk_28 (dk_at dksX1_since_0 21 rfl rfl)
theorem dX1_since_22 : decode cX1_since 22 = .ok (.iadd, 1) := dk_96 (dk_at dksX1_since_0 22 rfl rfl)
theorem dX1_since_23 : decode cX1_since 23 = .ok (.iaload, 1) := dk_46 (dk_at dksX1_since_0 23 rfl rfl)
theorem dX1_since_24 : decode cX1_since 24 = .ok (.ireturn, 1) := dk_172 (dk_at dksX1_since_1 0 rfl rfl)
abbrev cX1_chose : ByteArray := prog_1_method_31_code
def yX1_chose : MethodName := ⟨RX1, "chose", "(I)I"⟩
def dkwX1_chose_0 : List UInt8 := [42, 27, 182, 0, 217, 42, 180, 0, 58, 180, 1, 42, 27, 46, 172]
abbrev dktX1_chose_0 : List UInt8 := dkwX1_chose_0 ++ []
theorem dksX1_chose_0 : cX1_chose.data.toList.drop 0 = dktX1_chose_0 := by decide +kernel
theorem dX1_chose_0 : decode cX1_chose 0 = .ok (.aload_n 0, 1) := dk_42 (dk_at dksX1_chose_0 0 rfl rfl)
theorem dX1_chose_1 : decode cX1_chose 1 = .ok (.iload_n 1, 1) := dk_27 (dk_at dksX1_chose_0 1 rfl rfl)
theorem dX1_chose_2 : decode cX1_chose 2 = .ok (.invokevirtual 217, 3) := dk_182 0 217 (dk_at dksX1_chose_0 2 rfl rfl)
theorem dX1_chose_5 : decode cX1_chose 5 = .ok (.aload_n 0, 1) := dk_42 (dk_at dksX1_chose_0 5 rfl rfl)
theorem dX1_chose_6 : decode cX1_chose 6 = .ok (.getfield 58, 3) := dk_180 0 58 (dk_at dksX1_chose_0 6 rfl rfl)
theorem dX1_chose_9 : decode cX1_chose 9 = .ok (.getfield 298, 3) := dk_180 1 42 (dk_at dksX1_chose_0 9 rfl rfl)
theorem dX1_chose_12 : decode cX1_chose 12 = .ok (.iload_n 1, 1) := dk_27 (dk_at dksX1_chose_0 12 rfl rfl)
theorem dX1_chose_13 : decode cX1_chose 13 = .ok (.iaload, 1) := dk_46 (dk_at dksX1_chose_0 13 rfl rfl)
theorem dX1_chose_14 : decode cX1_chose 14 = .ok (.ireturn, 1) := dk_172 (dk_at dksX1_chose_0 14 rfl rfl)
abbrev cX1_ahead : ByteArray := prog_1_method_32_code
def yX1_ahead : MethodName := ⟨RX1, "ahead", "(II)I"⟩
def dkwX1_ahead_1 : List UInt8 := [42, 180, 0, 65, 42, 180, 0, 58, 182, 0, 110, 28, 182, 1, 35, 180, 0, 247, 27, 46, 172]
abbrev dktX1_ahead_1 : List UInt8 := dkwX1_ahead_1 ++ []
def dkwX1_ahead_0 : List UInt8 := [42, 27, 182, 0, 238, 42, 28, 155, 0, 13, 28, 16, 60, 163, 0, 7, 4, 167, 0, 4, 3, 182, 0, 160]
abbrev dktX1_ahead_0 : List UInt8 := dkwX1_ahead_0 ++ dktX1_ahead_1
theorem dksX1_ahead_0 : cX1_ahead.data.toList.drop 0 = dktX1_ahead_0 := by decide +kernel
theorem dksX1_ahead_1 : cX1_ahead.data.toList.drop 24 = dktX1_ahead_1 := dk_seg dksX1_ahead_0 24 rfl rfl
theorem dX1_ahead_0 : decode cX1_ahead 0 = .ok (.aload_n 0, 1) := dk_42 (dk_at dksX1_ahead_0 0 rfl rfl)
theorem dX1_ahead_1 : decode cX1_ahead 1 = .ok (.iload_n 1, 1) := dk_27 (dk_at dksX1_ahead_0 1 rfl rfl)
theorem dX1_ahead_2 : decode cX1_ahead 2 = .ok (.invokevirtual 238, 3) := dk_182 0 238 (dk_at dksX1_ahead_0 2 rfl rfl)
theorem dX1_ahead_5 : decode cX1_ahead 5 = .ok (.aload_n 0, 1) := dk_42 (dk_at dksX1_ahead_0 5 rfl rfl)
theorem dX1_ahead_6 : decode cX1_ahead 6 = .ok (.iload_n 2, 1) := dk_28 (dk_at dksX1_ahead_0 6 rfl rfl)
theorem dX1_ahead_7 : decode cX1_ahead 7 = .ok (.ifCond .lt 13, 3) := dk_155 0 13 (dk_at dksX1_ahead_0 7 rfl rfl)
theorem dX1_ahead_10 : decode cX1_ahead 10 = .ok (.iload_n 2, 1) := dk_28 (dk_at dksX1_ahead_0 10 rfl rfl)
theorem dX1_ahead_11 : decode cX1_ahead 11 = .ok (.bipush 60, 2) := dk_16 60 (dk_at dksX1_ahead_0 11 rfl rfl)
theorem dX1_ahead_13 : decode cX1_ahead 13 = .ok (.if_icmp .gt 7, 3) := dk_163 0 7 (dk_at dksX1_ahead_0 13 rfl rfl)
theorem dX1_ahead_16 : decode cX1_ahead 16 = .ok (.iconst 1, 1) := dk_4 (dk_at dksX1_ahead_0 16 rfl rfl)
theorem dX1_ahead_17 : decode cX1_ahead 17 = .ok (.goto 4, 3) := dk_167 0 4 (dk_at dksX1_ahead_0 17 rfl rfl)
theorem dX1_ahead_20 : decode cX1_ahead 20 = .ok (.iconst 0, 1) := dk_3 (dk_at dksX1_ahead_0 20 rfl rfl)
theorem dX1_ahead_21 : decode cX1_ahead 21 = .ok (.invokevirtual 160, 3) := dk_182 0 160 (dk_at dksX1_ahead_0 21 rfl rfl)
theorem dX1_ahead_24 : decode cX1_ahead 24 = .ok (.aload_n 0, 1) := dk_42 (dk_at dksX1_ahead_1 0 rfl rfl)
theorem dX1_ahead_25 : decode cX1_ahead 25 = .ok (.getfield 65, 3) := dk_180 0 65 (dk_at dksX1_ahead_1 1 rfl rfl)
theorem dX1_ahead_28 : decode cX1_ahead 28 = .ok (.aload_n 0, 1) := dk_42 (dk_at dksX1_ahead_1 4 rfl rfl)
theorem dX1_ahead_29 : decode cX1_ahead 29 = .ok (.getfield 58, 3) := dk_180 0 58 (dk_at dksX1_ahead_1 5 rfl rfl)
theorem dX1_ahead_32 : decode cX1_ahead 32 = .ok (.invokevirtual 110, 3) := dk_182 0 110 (dk_at dksX1_ahead_1 8 rfl rfl)
theorem dX1_ahead_35 : decode cX1_ahead 35 = .ok (.iload_n 2, 1) := dk_28 (dk_at dksX1_ahead_1 11 rfl rfl)
theorem dX1_ahead_36 : decode cX1_ahead 36 = .ok (.invokevirtual 291, 3) := dk_182 1 35 (dk_at dksX1_ahead_1 12 rfl rfl)
theorem dX1_ahead_39 : decode cX1_ahead 39 = .ok (.getfield 247, 3) := dk_180 0 247 (dk_at dksX1_ahead_1 15 rfl rfl)
theorem dX1_ahead_42 : decode cX1_ahead 42 = .ok (.iload_n 1, 1) := dk_27 (dk_at dksX1_ahead_1 18 rfl rfl)
theorem dX1_ahead_43 : decode cX1_ahead 43 = .ok (.iaload, 1) := dk_46 (dk_at dksX1_ahead_1 19 rfl rfl)
theorem dX1_ahead_44 : decode cX1_ahead 44 = .ok (.ireturn, 1) := dk_172 (dk_at dksX1_ahead_1 20 rfl rfl)
abbrev cX1_when : ByteArray := prog_1_method_33_code
def yX1_when : MethodName := ⟨RX1, "when", "(II)I"⟩
def dkwX1_when_2 : List UInt8 := [180, 0, 201, 172, 132, 4, 1, 167, 255, 229, 2, 172]
abbrev dktX1_when_2 : List UInt8 := dkwX1_when_2 ++ []
def dkwX1_when_1 : List UInt8 := [54, 4, 21, 4, 16, 60, 162, 0, 26, 45, 182, 1, 45, 28, 27, 182, 1, 47, 153, 0, 8, 45]
abbrev dktX1_when_1 : List UInt8 := dkwX1_when_1 ++ dktX1_when_2
def dkwX1_when_0 : List UInt8 := [42, 27, 182, 0, 217, 42, 28, 182, 0, 238, 42, 180, 0, 65, 42, 180, 0, 58, 182, 0, 110, 78, 3]
abbrev dktX1_when_0 : List UInt8 := dkwX1_when_0 ++ dktX1_when_1
theorem dksX1_when_0 : cX1_when.data.toList.drop 0 = dktX1_when_0 := by decide +kernel
theorem dksX1_when_1 : cX1_when.data.toList.drop 23 = dktX1_when_1 := dk_seg dksX1_when_0 23 rfl rfl
theorem dksX1_when_2 : cX1_when.data.toList.drop 45 = dktX1_when_2 := dk_seg dksX1_when_1 22 rfl rfl
theorem dX1_when_0 : decode cX1_when 0 = .ok (.aload_n 0, 1) := dk_42 (dk_at dksX1_when_0 0 rfl rfl)
theorem dX1_when_1 : decode cX1_when 1 = .ok (.iload_n 1, 1) := dk_27 (dk_at dksX1_when_0 1 rfl rfl)
theorem dX1_when_2 : decode cX1_when 2 = .ok (.invokevirtual 217, 3) := dk_182 0 217 (dk_at dksX1_when_0 2 rfl rfl)
theorem dX1_when_5 : decode cX1_when 5 = .ok (.aload_n 0, 1) := dk_42 (dk_at dksX1_when_0 5 rfl rfl)
theorem dX1_when_6 : decode cX1_when 6 = .ok (.iload_n 2, 1) := dk_28 (dk_at dksX1_when_0 6 rfl rfl)
theorem dX1_when_7 : decode cX1_when 7 = .ok (.invokevirtual 238, 3) := dk_182 0 238 (dk_at dksX1_when_0 7 rfl rfl)
theorem dX1_when_10 : decode cX1_when 10 = .ok (.aload_n 0, 1) := dk_42 (dk_at dksX1_when_0 10 rfl rfl)
theorem dX1_when_11 : decode cX1_when 11 = .ok (.getfield 65, 3) := dk_180 0 65 (dk_at dksX1_when_0 11 rfl rfl)
theorem dX1_when_14 : decode cX1_when 14 = .ok (.aload_n 0, 1) := dk_42 (dk_at dksX1_when_0 14 rfl rfl)
theorem dX1_when_15 : decode cX1_when 15 = .ok (.getfield 58, 3) := dk_180 0 58 (dk_at dksX1_when_0 15 rfl rfl)
theorem dX1_when_18 : decode cX1_when 18 = .ok (.invokevirtual 110, 3) := dk_182 0 110 (dk_at dksX1_when_0 18 rfl rfl)
theorem dX1_when_21 : decode cX1_when 21 = .ok (.astore_n 3, 1) := dk_78 (dk_at dksX1_when_0 21 rfl rfl)
theorem dX1_when_22 : decode cX1_when 22 = .ok (.iconst 0, 1) := dk_3 (dk_at dksX1_when_0 22 rfl rfl)
theorem dX1_when_23 : decode cX1_when 23 = .ok (.istore 4, 2) := dk_54 4 (dk_at dksX1_when_1 0 rfl rfl)
theorem dX1_when_25 : decode cX1_when 25 = .ok (.iload 4, 2) := dk_21 4 (dk_at dksX1_when_1 2 rfl rfl)
theorem dX1_when_27 : decode cX1_when 27 = .ok (.bipush 60, 2) := dk_16 60 (dk_at dksX1_when_1 4 rfl rfl)
theorem dX1_when_29 : decode cX1_when 29 = .ok (.if_icmp .ge 26, 3) := dk_162 0 26 (dk_at dksX1_when_1 6 rfl rfl)
theorem dX1_when_32 : decode cX1_when 32 = .ok (.aload_n 3, 1) := dk_45 (dk_at dksX1_when_1 9 rfl rfl)
theorem dX1_when_33 : decode cX1_when 33 = .ok (.invokevirtual 301, 3) := dk_182 1 45 (dk_at dksX1_when_1 10 rfl rfl)
theorem dX1_when_36 : decode cX1_when 36 = .ok (.iload_n 2, 1) := dk_28 (dk_at dksX1_when_1 13 rfl rfl)
theorem dX1_when_37 : decode cX1_when 37 = .ok (.iload_n 1, 1) := dk_27 (dk_at dksX1_when_1 14 rfl rfl)
theorem dX1_when_38 : decode cX1_when 38 = .ok (.invokevirtual 303, 3) := dk_182 1 47 (dk_at dksX1_when_1 15 rfl rfl)
theorem dX1_when_41 : decode cX1_when 41 = .ok (.ifCond .eq 8, 3) := dk_153 0 8 (dk_at dksX1_when_1 18 rfl rfl)
theorem dX1_when_44 : decode cX1_when 44 = .ok (.aload_n 3, 1) := dk_45 (dk_at dksX1_when_1 21 rfl rfl)
theorem dX1_when_45 : decode cX1_when 45 = .ok (.getfield 201, 3) := dk_180 0 201 (dk_at dksX1_when_2 0 rfl rfl)
theorem dX1_when_48 : decode cX1_when 48 = .ok (.ireturn, 1) := dk_172 (dk_at dksX1_when_2 3 rfl rfl)
theorem dX1_when_49 : decode cX1_when 49 = .ok (.iinc 4 1, 3) := dk_132 4 1 (dk_at dksX1_when_2 4 rfl rfl)
theorem dX1_when_52 : decode cX1_when 52 = .ok (.goto (-27), 3) := dk_167 255 229 (dk_at dksX1_when_2 7 rfl rfl)
theorem dX1_when_55 : decode cX1_when 55 = .ok (.iconst (-1), 1) := dk_2 (dk_at dksX1_when_2 10 rfl rfl)
theorem dX1_when_56 : decode cX1_when 56 = .ok (.ireturn, 1) := dk_172 (dk_at dksX1_when_2 11 rfl rfl)
abbrev cX1_last : ByteArray := prog_1_method_34_code
def yX1_last : MethodName := ⟨RX1, "last", "(I)I"⟩
def dkwX1_last_2 : List UInt8 := [180, 0, 201, 172, 132, 3, 1, 167, 255, 224, 2, 172]
abbrev dktX1_last_2 : List UInt8 := dkwX1_last_2 ++ []
def dkwX1_last_1 : List UInt8 := [162, 0, 32, 44, 182, 1, 45, 87, 42, 44, 27, 44, 182, 0, 204, 182, 1, 51, 154, 0, 8, 44]
abbrev dktX1_last_1 : List UInt8 := dkwX1_last_1 ++ dktX1_last_2
def dkwX1_last_0 : List UInt8 := [42, 27, 182, 1, 6, 42, 180, 0, 65, 42, 180, 0, 58, 182, 0, 110, 77, 3, 62, 29, 16, 60]
abbrev dktX1_last_0 : List UInt8 := dkwX1_last_0 ++ dktX1_last_1
theorem dksX1_last_0 : cX1_last.data.toList.drop 0 = dktX1_last_0 := by decide +kernel
theorem dksX1_last_1 : cX1_last.data.toList.drop 22 = dktX1_last_1 := dk_seg dksX1_last_0 22 rfl rfl
theorem dksX1_last_2 : cX1_last.data.toList.drop 44 = dktX1_last_2 := dk_seg dksX1_last_1 22 rfl rfl
theorem dX1_last_0 : decode cX1_last 0 = .ok (.aload_n 0, 1) := dk_42 (dk_at dksX1_last_0 0 rfl rfl)
theorem dX1_last_1 : decode cX1_last 1 = .ok (.iload_n 1, 1) := dk_27 (dk_at dksX1_last_0 1 rfl rfl)
theorem dX1_last_2 : decode cX1_last 2 = .ok (.invokevirtual 262, 3) := dk_182 1 6 (dk_at dksX1_last_0 2 rfl rfl)
theorem dX1_last_5 : decode cX1_last 5 = .ok (.aload_n 0, 1) := dk_42 (dk_at dksX1_last_0 5 rfl rfl)
theorem dX1_last_6 : decode cX1_last 6 = .ok (.getfield 65, 3) := dk_180 0 65 (dk_at dksX1_last_0 6 rfl rfl)
theorem dX1_last_9 : decode cX1_last 9 = .ok (.aload_n 0, 1) := dk_42 (dk_at dksX1_last_0 9 rfl rfl)
theorem dX1_last_10 : decode cX1_last 10 = .ok (.getfield 58, 3) := dk_180 0 58 (dk_at dksX1_last_0 10 rfl rfl)
theorem dX1_last_13 : decode cX1_last 13 = .ok (.invokevirtual 110, 3) := dk_182 0 110 (dk_at dksX1_last_0 13 rfl rfl)
theorem dX1_last_16 : decode cX1_last 16 = .ok (.astore_n 2, 1) := dk_77 (dk_at dksX1_last_0 16 rfl rfl)
theorem dX1_last_17 : decode cX1_last 17 = .ok (.iconst 0, 1) := dk_3 (dk_at dksX1_last_0 17 rfl rfl)
theorem dX1_last_18 : decode cX1_last 18 = .ok (.istore_n 3, 1) := dk_62 (dk_at dksX1_last_0 18 rfl rfl)
theorem dX1_last_19 : decode cX1_last 19 = .ok (.iload_n 3, 1) := dk_29 (dk_at dksX1_last_0 19 rfl rfl)
theorem dX1_last_20 : decode cX1_last 20 = .ok (.bipush 60, 2) := dk_16 60 (dk_at dksX1_last_0 20 rfl rfl)
theorem dX1_last_22 : decode cX1_last 22 = .ok (.if_icmp .ge 32, 3) := dk_162 0 32 (dk_at dksX1_last_1 0 rfl rfl)
theorem dX1_last_25 : decode cX1_last 25 = .ok (.aload_n 2, 1) := dk_44 (dk_at dksX1_last_1 3 rfl rfl)
theorem dX1_last_26 : decode cX1_last 26 = .ok (.invokevirtual 301, 3) := dk_182 1 45 (dk_at dksX1_last_1 4 rfl rfl)
theorem dX1_last_29 : decode cX1_last 29 = .ok (.pop, 1) := dk_87 (dk_at dksX1_last_1 7 rfl rfl)
theorem dX1_last_30 : decode cX1_last 30 = .ok (.aload_n 0, 1) := dk_42 (dk_at dksX1_last_1 8 rfl rfl)
theorem dX1_last_31 : decode cX1_last 31 = .ok (.aload_n 2, 1) := dk_44 (dk_at dksX1_last_1 9 rfl rfl)
theorem dX1_last_32 : decode cX1_last 32 = .ok (.iload_n 1, 1) := dk_27 (dk_at dksX1_last_1 10 rfl rfl)
theorem dX1_last_33 : decode cX1_last 33 = .ok (.aload_n 2, 1) := dk_44 (dk_at dksX1_last_1 11 rfl rfl)
theorem dX1_last_34 : decode cX1_last 34 = .ok (.invokevirtual 204, 3) := dk_182 0 204 (dk_at dksX1_last_1 12 rfl rfl)
theorem dX1_last_37 : decode cX1_last 37 = .ok (.invokevirtual 307, 3) := dk_182 1 51 (dk_at dksX1_last_1 15 rfl rfl)
theorem dX1_last_40 : decode cX1_last 40 = .ok (.ifCond .ne 8, 3) := dk_154 0 8 (dk_at dksX1_last_1 18 rfl rfl)
theorem dX1_last_43 : decode cX1_last 43 = .ok (.aload_n 2, 1) := dk_44 (dk_at dksX1_last_1 21 rfl rfl)
theorem dX1_last_44 : decode cX1_last 44 = .ok (.getfield 201, 3) := dk_180 0 201 (dk_at dksX1_last_2 0 rfl rfl)
theorem dX1_last_47 : decode cX1_last 47 = .ok (.ireturn, 1) := dk_172 (dk_at dksX1_last_2 3 rfl rfl)
theorem dX1_last_48 : decode cX1_last 48 = .ok (.iinc 3 1, 3) := dk_132 3 1 (dk_at dksX1_last_2 4 rfl rfl)
theorem dX1_last_51 : decode cX1_last 51 = .ok (.goto (-32), 3) := dk_167 255 224 (dk_at dksX1_last_2 7 rfl rfl)
theorem dX1_last_54 : decode cX1_last 54 = .ok (.iconst (-1), 1) := dk_2 (dk_at dksX1_last_2 10 rfl rfl)
theorem dX1_last_55 : decode cX1_last 55 = .ok (.ireturn, 1) := dk_172 (dk_at dksX1_last_2 11 rfl rfl)
abbrev cX1_dies : ByteArray := prog_1_method_35_code
def yX1_dies : MethodName := ⟨RX1, "dies", "(I)I"⟩
def dkwX1_dies_1 : List UInt8 := [27, 182, 1, 55, 61, 42, 182, 0, 101, 28, 172]
abbrev dktX1_dies_1 : List UInt8 := dkwX1_dies_1 ++ []
def dkwX1_dies_0 : List UInt8 := [42, 27, 182, 0, 217, 42, 180, 0, 58, 180, 0, 226, 27, 46, 4, 159, 0, 5, 2, 172, 42, 180, 0, 58]
abbrev dktX1_dies_0 : List UInt8 := dkwX1_dies_0 ++ dktX1_dies_1
theorem dksX1_dies_0 : cX1_dies.data.toList.drop 0 = dktX1_dies_0 := by decide +kernel
theorem dksX1_dies_1 : cX1_dies.data.toList.drop 24 = dktX1_dies_1 := dk_seg dksX1_dies_0 24 rfl rfl
theorem dX1_dies_0 : decode cX1_dies 0 = .ok (.aload_n 0, 1) := dk_42 (dk_at dksX1_dies_0 0 rfl rfl)
theorem dX1_dies_1 : decode cX1_dies 1 = .ok (.iload_n 1, 1) := dk_27 (dk_at dksX1_dies_0 1 rfl rfl)
theorem dX1_dies_2 : decode cX1_dies 2 = .ok (.invokevirtual 217, 3) := dk_182 0 217 (dk_at dksX1_dies_0 2 rfl rfl)
theorem dX1_dies_5 : decode cX1_dies 5 = .ok (.aload_n 0, 1) := dk_42 (dk_at dksX1_dies_0 5 rfl rfl)
theorem dX1_dies_6 : decode cX1_dies 6 = .ok (.getfield 58, 3) := dk_180 0 58 (dk_at dksX1_dies_0 6 rfl rfl)
theorem dX1_dies_9 : decode cX1_dies 9 = .ok (.getfield 226, 3) := dk_180 0 226 (dk_at dksX1_dies_0 9 rfl rfl)
theorem dX1_dies_12 : decode cX1_dies 12 = .ok (.iload_n 1, 1) := dk_27 (dk_at dksX1_dies_0 12 rfl rfl)
theorem dX1_dies_13 : decode cX1_dies 13 = .ok (.iaload, 1) := dk_46 (dk_at dksX1_dies_0 13 rfl rfl)
theorem dX1_dies_14 : decode cX1_dies 14 = .ok (.iconst 1, 1) := dk_4 (dk_at dksX1_dies_0 14 rfl rfl)
theorem dX1_dies_15 : decode cX1_dies 15 = .ok (.if_icmp .eq 5, 3) := dk_159 0 5 (dk_at dksX1_dies_0 15 rfl rfl)
theorem dX1_dies_18 : decode cX1_dies 18 = .ok (.iconst (-1), 1) := dk_2 (dk_at dksX1_dies_0 18 rfl rfl)
theorem dX1_dies_19 : decode cX1_dies 19 = .ok (.ireturn, 1) := dk_172 (dk_at dksX1_dies_0 19 rfl rfl)
theorem dX1_dies_20 : decode cX1_dies 20 = .ok (.aload_n 0, 1) := dk_42 (dk_at dksX1_dies_0 20 rfl rfl)
theorem dX1_dies_21 : decode cX1_dies 21 = .ok (.getfield 58, 3) := dk_180 0 58 (dk_at dksX1_dies_0 21 rfl rfl)
theorem dX1_dies_24 : decode cX1_dies 24 = .ok (.iload_n 1, 1) := dk_27 (dk_at dksX1_dies_1 0 rfl rfl)
theorem dX1_dies_25 : decode cX1_dies 25 = .ok (.invokevirtual 311, 3) := dk_182 1 55 (dk_at dksX1_dies_1 1 rfl rfl)
theorem dX1_dies_28 : decode cX1_dies 28 = .ok (.istore_n 2, 1) := dk_61 (dk_at dksX1_dies_1 4 rfl rfl)
theorem dX1_dies_29 : decode cX1_dies 29 = .ok (.aload_n 0, 1) := dk_42 (dk_at dksX1_dies_1 5 rfl rfl)
theorem dX1_dies_30 : decode cX1_dies 30 = .ok (.invokevirtual 101, 3) := dk_182 0 101 (dk_at dksX1_dies_1 6 rfl rfl)
theorem dX1_dies_33 : decode cX1_dies 33 = .ok (.iload_n 2, 1) := dk_28 (dk_at dksX1_dies_1 9 rfl rfl)
theorem dX1_dies_34 : decode cX1_dies 34 = .ok (.ireturn, 1) := dk_172 (dk_at dksX1_dies_1 10 rfl rfl)
abbrev cX1_string : ByteArray := prog_1_method_36_code
def yX1_string : MethodName := ⟨RX1, "string", "(II)I"⟩
def dkwX1_string_2 : List UInt8 := [184, 1, 32, 79, 42, 182, 0, 101, 42, 180, 0, 58, 180, 0, 198, 27, 46, 172]
abbrev dktX1_string_2 : List UInt8 := dkwX1_string_2 ++ []
def dkwX1_string_1 : List UInt8 := [182, 0, 160, 42, 180, 0, 58, 180, 0, 198, 27, 16, 30, 42, 180, 0, 58, 180, 0, 198, 27, 46, 28, 96]
abbrev dktX1_string_1 : List UInt8 := dkwX1_string_1 ++ dktX1_string_2
def dkwX1_string_0 : List UInt8 := [42, 27, 182, 0, 238, 42, 28, 4, 161, 0, 13, 28, 16, 30, 163, 0, 7, 4, 167, 0, 4, 3]
abbrev dktX1_string_0 : List UInt8 := dkwX1_string_0 ++ dktX1_string_1
theorem dksX1_string_0 : cX1_string.data.toList.drop 0 = dktX1_string_0 := by decide +kernel
theorem dksX1_string_1 : cX1_string.data.toList.drop 22 = dktX1_string_1 := dk_seg dksX1_string_0 22 rfl rfl
theorem dksX1_string_2 : cX1_string.data.toList.drop 46 = dktX1_string_2 := dk_seg dksX1_string_1 24 rfl rfl
theorem dX1_string_0 : decode cX1_string 0 = .ok (.aload_n 0, 1) := dk_42 (dk_at dksX1_string_0 0 rfl rfl)
theorem dX1_string_1 : decode cX1_string 1 = .ok (.iload_n 1, 1) := dk_27 (dk_at dksX1_string_0 1 rfl rfl)
theorem dX1_string_2 : decode cX1_string 2 = .ok (.invokevirtual 238, 3) := dk_182 0 238 (dk_at dksX1_string_0 2 rfl rfl)
theorem dX1_string_5 : decode cX1_string 5 = .ok (.aload_n 0, 1) := dk_42 (dk_at dksX1_string_0 5 rfl rfl)
theorem dX1_string_6 : decode cX1_string 6 = .ok (.iload_n 2, 1) := dk_28 (dk_at dksX1_string_0 6 rfl rfl)
theorem dX1_string_7 : decode cX1_string 7 = .ok (.iconst 1, 1) := dk_4 (dk_at dksX1_string_0 7 rfl rfl)
theorem dX1_string_8 : decode cX1_string 8 = .ok (.if_icmp .lt 13, 3) := dk_161 0 13 (dk_at dksX1_string_0 8 rfl rfl)
theorem dX1_string_11 : decode cX1_string 11 = .ok (.iload_n 2, 1) := dk_28 (dk_at dksX1_string_0 11 rfl rfl)
theorem dX1_string_12 : decode cX1_string 12 = .ok (.bipush 30, 2) := dk_16 30 (dk_at dksX1_string_0 12 rfl rfl)
theorem dX1_string_14 : decode cX1_string 14 = .ok (.if_icmp .gt 7, 3) := dk_163 0 7 (dk_at dksX1_string_0 14 rfl rfl)
theorem dX1_string_17 : decode cX1_string 17 = .ok (.iconst 1, 1) := dk_4 (dk_at dksX1_string_0 17 rfl rfl)
theorem dX1_string_18 : decode cX1_string 18 = .ok (.goto 4, 3) := dk_167 0 4 (dk_at dksX1_string_0 18 rfl rfl)
theorem dX1_string_21 : decode cX1_string 21 = .ok (.iconst 0, 1) := dk_3 (dk_at dksX1_string_0 21 rfl rfl)
theorem dX1_string_22 : decode cX1_string 22 = .ok (.invokevirtual 160, 3) := dk_182 0 160 (dk_at dksX1_string_1 0 rfl rfl)
theorem dX1_string_25 : decode cX1_string 25 = .ok (.aload_n 0, 1) := dk_42 (dk_at dksX1_string_1 3 rfl rfl)
theorem dX1_string_26 : decode cX1_string 26 = .ok (.getfield 58, 3) := dk_180 0 58 (dk_at dksX1_string_1 4 rfl rfl)
theorem dX1_string_29 : decode cX1_string 29 = .ok (.getfield 198, 3) := dk_180 0 198 (dk_at dksX1_string_1 7 rfl rfl)
theorem dX1_string_32 : decode cX1_string 32 = .ok (.iload_n 1, 1) := dk_27 (dk_at dksX1_string_1 10 rfl rfl)
theorem dX1_string_33 : decode cX1_string 33 = .ok (.bipush 30, 2) := dk_16 30 (dk_at dksX1_string_1 11 rfl rfl)
theorem dX1_string_35 : decode cX1_string 35 = .ok (.aload_n 0, 1) := dk_42 (dk_at dksX1_string_1 13 rfl rfl)
theorem dX1_string_36 : decode cX1_string 36 = .ok (.getfield 58, 3) := dk_180 0 58 (dk_at dksX1_string_1 14 rfl rfl)
theorem dX1_string_39 : decode cX1_string 39 = .ok (.getfield 198, 3) := dk_180 0 198 (dk_at dksX1_string_1 17 rfl rfl)
theorem dX1_string_42 : decode cX1_string 42 = .ok (.iload_n 1, 1) := dk_27 (dk_at dksX1_string_1 20 rfl rfl)
theorem dX1_string_43 : decode cX1_string 43 = .ok (.iaload, 1) := dk_46 (dk_at dksX1_string_1 21 rfl rfl)
theorem dX1_string_44 : decode cX1_string 44 = .ok (.iload_n 2, 1) := dk_28 (dk_at dksX1_string_1 22 rfl rfl)
theorem dX1_string_45 : decode cX1_string 45 = .ok (.iadd, 1) := dk_96 (dk_at dksX1_string_1 23 rfl rfl)
theorem dX1_string_46 : decode cX1_string 46 = .ok (.invokestatic 288, 3) := dk_184 1 32 (dk_at dksX1_string_2 0 rfl rfl)
theorem dX1_string_49 : decode cX1_string 49 = .ok (.iastore, 1) := dk_79 (dk_at dksX1_string_2 3 rfl rfl)
theorem dX1_string_50 : decode cX1_string 50 = .ok (.aload_n 0, 1) := dk_42 (dk_at dksX1_string_2 4 rfl rfl)
theorem dX1_string_51 : decode cX1_string 51 = .ok (.invokevirtual 101, 3) := dk_182 0 101 (dk_at dksX1_string_2 5 rfl rfl)
theorem dX1_string_54 : decode cX1_string 54 = .ok (.aload_n 0, 1) := dk_42 (dk_at dksX1_string_2 8 rfl rfl)
theorem dX1_string_55 : decode cX1_string 55 = .ok (.getfield 58, 3) := dk_180 0 58 (dk_at dksX1_string_2 9 rfl rfl)
theorem dX1_string_58 : decode cX1_string 58 = .ok (.getfield 198, 3) := dk_180 0 198 (dk_at dksX1_string_2 12 rfl rfl)
theorem dX1_string_61 : decode cX1_string 61 = .ok (.iload_n 1, 1) := dk_27 (dk_at dksX1_string_2 15 rfl rfl)
theorem dX1_string_62 : decode cX1_string 62 = .ok (.iaload, 1) := dk_46 (dk_at dksX1_string_2 16 rfl rfl)
theorem dX1_string_63 : decode cX1_string 63 = .ok (.ireturn, 1) := dk_172 (dk_at dksX1_string_2 17 rfl rfl)
abbrev cX1_give : ByteArray := prog_1_method_37_code
def yX1_give : MethodName := ⟨RX1, "give", "(III)I"⟩
def dkwX1_give_2 : List UInt8 := [182, 1, 60, 42, 180, 0, 58, 27, 29, 182, 1, 63, 42, 182, 0, 101, 4, 172]
abbrev dktX1_give_2 : List UInt8 := dkwX1_give_2 ++ []
def dkwX1_give_1 : List UInt8 := [153, 0, 15, 42, 180, 0, 58, 27, 29, 182, 1, 57, 154, 0, 5, 3, 172, 42, 180, 0, 58, 27, 28]
abbrev dktX1_give_1 : List UInt8 := dkwX1_give_1 ++ dktX1_give_2
def dkwX1_give_0 : List UInt8 := [42, 27, 182, 0, 238, 42, 28, 182, 0, 217, 42, 29, 182, 0, 217, 42, 180, 0, 58, 27, 28, 182, 1, 47]
abbrev dktX1_give_0 : List UInt8 := dkwX1_give_0 ++ dktX1_give_1
theorem dksX1_give_0 : cX1_give.data.toList.drop 0 = dktX1_give_0 := by decide +kernel
theorem dksX1_give_1 : cX1_give.data.toList.drop 24 = dktX1_give_1 := dk_seg dksX1_give_0 24 rfl rfl
theorem dksX1_give_2 : cX1_give.data.toList.drop 47 = dktX1_give_2 := dk_seg dksX1_give_1 23 rfl rfl
theorem dX1_give_0 : decode cX1_give 0 = .ok (.aload_n 0, 1) := dk_42 (dk_at dksX1_give_0 0 rfl rfl)
theorem dX1_give_1 : decode cX1_give 1 = .ok (.iload_n 1, 1) := dk_27 (dk_at dksX1_give_0 1 rfl rfl)
theorem dX1_give_2 : decode cX1_give 2 = .ok (.invokevirtual 238, 3) := dk_182 0 238 (dk_at dksX1_give_0 2 rfl rfl)
theorem dX1_give_5 : decode cX1_give 5 = .ok (.aload_n 0, 1) := dk_42 (dk_at dksX1_give_0 5 rfl rfl)
theorem dX1_give_6 : decode cX1_give 6 = .ok (.iload_n 2, 1) := dk_28 (dk_at dksX1_give_0 6 rfl rfl)
theorem dX1_give_7 : decode cX1_give 7 = .ok (.invokevirtual 217, 3) := dk_182 0 217 (dk_at dksX1_give_0 7 rfl rfl)
theorem dX1_give_10 : decode cX1_give 10 = .ok (.aload_n 0, 1) := dk_42 (dk_at dksX1_give_0 10 rfl rfl)
theorem dX1_give_11 : decode cX1_give 11 = .ok (.iload_n 3, 1) := dk_29 (dk_at dksX1_give_0 11 rfl rfl)
theorem dX1_give_12 : decode cX1_give 12 = .ok (.invokevirtual 217, 3) := dk_182 0 217 (dk_at dksX1_give_0 12 rfl rfl)
theorem dX1_give_15 : decode cX1_give 15 = .ok (.aload_n 0, 1) := dk_42 (dk_at dksX1_give_0 15 rfl rfl)
theorem dX1_give_16 : decode cX1_give 16 = .ok (.getfield 58, 3) := dk_180 0 58 (dk_at dksX1_give_0 16 rfl rfl)
theorem dX1_give_19 : decode cX1_give 19 = .ok (.iload_n 1, 1) := dk_27 (dk_at dksX1_give_0 19 rfl rfl)
theorem dX1_give_20 : decode cX1_give 20 = .ok (.iload_n 2, 1) := dk_28 (dk_at dksX1_give_0 20 rfl rfl)
theorem dX1_give_21 : decode cX1_give 21 = .ok (.invokevirtual 303, 3) := dk_182 1 47 (dk_at dksX1_give_0 21 rfl rfl)
theorem dX1_give_24 : decode cX1_give 24 = .ok (.ifCond .eq 15, 3) := dk_153 0 15 (dk_at dksX1_give_1 0 rfl rfl)
theorem dX1_give_27 : decode cX1_give 27 = .ok (.aload_n 0, 1) := dk_42 (dk_at dksX1_give_1 3 rfl rfl)
theorem dX1_give_28 : decode cX1_give 28 = .ok (.getfield 58, 3) := dk_180 0 58 (dk_at dksX1_give_1 4 rfl rfl)
theorem dX1_give_31 : decode cX1_give 31 = .ok (.iload_n 1, 1) := dk_27 (dk_at dksX1_give_1 7 rfl rfl)
theorem dX1_give_32 : decode cX1_give 32 = .ok (.iload_n 3, 1) := dk_29 (dk_at dksX1_give_1 8 rfl rfl)
theorem dX1_give_33 : decode cX1_give 33 = .ok (.invokevirtual 313, 3) := dk_182 1 57 (dk_at dksX1_give_1 9 rfl rfl)
theorem dX1_give_36 : decode cX1_give 36 = .ok (.ifCond .ne 5, 3) := dk_154 0 5 (dk_at dksX1_give_1 12 rfl rfl)
theorem dX1_give_39 : decode cX1_give 39 = .ok (.iconst 0, 1) := dk_3 (dk_at dksX1_give_1 15 rfl rfl)
theorem dX1_give_40 : decode cX1_give 40 = .ok (.ireturn, 1) := dk_172 (dk_at dksX1_give_1 16 rfl rfl)
theorem dX1_give_41 : decode cX1_give 41 = .ok (.aload_n 0, 1) := dk_42 (dk_at dksX1_give_1 17 rfl rfl)
theorem dX1_give_42 : decode cX1_give 42 = .ok (.getfield 58, 3) := dk_180 0 58 (dk_at dksX1_give_1 18 rfl rfl)
theorem dX1_give_45 : decode cX1_give 45 = .ok (.iload_n 1, 1) := dk_27 (dk_at dksX1_give_1 21 rfl rfl)
theorem dX1_give_46 : decode cX1_give 46 = .ok (.iload_n 2, 1) := dk_28 (dk_at dksX1_give_1 22 rfl rfl)
theorem dX1_give_47 : decode cX1_give 47 = .ok (.invokevirtual 316, 3) := dk_182 1 60 (dk_at dksX1_give_2 0 rfl rfl)
theorem dX1_give_50 : decode cX1_give 50 = .ok (.aload_n 0, 1) := dk_42 (dk_at dksX1_give_2 3 rfl rfl)
theorem dX1_give_51 : decode cX1_give 51 = .ok (.getfield 58, 3) := dk_180 0 58 (dk_at dksX1_give_2 4 rfl rfl)
theorem dX1_give_54 : decode cX1_give 54 = .ok (.iload_n 1, 1) := dk_27 (dk_at dksX1_give_2 7 rfl rfl)
theorem dX1_give_55 : decode cX1_give 55 = .ok (.iload_n 3, 1) := dk_29 (dk_at dksX1_give_2 8 rfl rfl)
theorem dX1_give_56 : decode cX1_give 56 = .ok (.invokevirtual 319, 3) := dk_182 1 63 (dk_at dksX1_give_2 9 rfl rfl)
theorem dX1_give_59 : decode cX1_give 59 = .ok (.aload_n 0, 1) := dk_42 (dk_at dksX1_give_2 12 rfl rfl)
theorem dX1_give_60 : decode cX1_give 60 = .ok (.invokevirtual 101, 3) := dk_182 0 101 (dk_at dksX1_give_2 13 rfl rfl)
theorem dX1_give_63 : decode cX1_give 63 = .ok (.iconst 1, 1) := dk_4 (dk_at dksX1_give_2 16 rfl rfl)
theorem dX1_give_64 : decode cX1_give 64 = .ok (.ireturn, 1) := dk_172 (dk_at dksX1_give_2 17 rfl rfl)
abbrev cX1_casts : ByteArray := prog_1_method_42_code
def yX1_casts : MethodName := ⟨RX1, "casts", "(I)I"⟩
def dkwX1_casts_1 : List UInt8 := [172]
abbrev dktX1_casts_1 : List UInt8 := dkwX1_casts_1 ++ []
def dkwX1_casts_0 : List UInt8 := [42, 27, 182, 1, 6, 42, 42, 180, 0, 58, 27, 42, 180, 0, 58, 182, 0, 204, 19, 1, 92, 182, 1, 88]
abbrev dktX1_casts_0 : List UInt8 := dkwX1_casts_0 ++ dktX1_casts_1
theorem dksX1_casts_0 : cX1_casts.data.toList.drop 0 = dktX1_casts_0 := by decide +kernel
theorem dksX1_casts_1 : cX1_casts.data.toList.drop 24 = dktX1_casts_1 := dk_seg dksX1_casts_0 24 rfl rfl
theorem dX1_casts_0 : decode cX1_casts 0 = .ok (.aload_n 0, 1) := dk_42 (dk_at dksX1_casts_0 0 rfl rfl)
theorem dX1_casts_1 : decode cX1_casts 1 = .ok (.iload_n 1, 1) := dk_27 (dk_at dksX1_casts_0 1 rfl rfl)
theorem dX1_casts_2 : decode cX1_casts 2 = .ok (.invokevirtual 262, 3) := dk_182 1 6 (dk_at dksX1_casts_0 2 rfl rfl)
theorem dX1_casts_5 : decode cX1_casts 5 = .ok (.aload_n 0, 1) := dk_42 (dk_at dksX1_casts_0 5 rfl rfl)
theorem dX1_casts_6 : decode cX1_casts 6 = .ok (.aload_n 0, 1) := dk_42 (dk_at dksX1_casts_0 6 rfl rfl)
theorem dX1_casts_7 : decode cX1_casts 7 = .ok (.getfield 58, 3) := dk_180 0 58 (dk_at dksX1_casts_0 7 rfl rfl)
theorem dX1_casts_10 : decode cX1_casts 10 = .ok (.iload_n 1, 1) := dk_27 (dk_at dksX1_casts_0 10 rfl rfl)
theorem dX1_casts_11 : decode cX1_casts 11 = .ok (.aload_n 0, 1) := dk_42 (dk_at dksX1_casts_0 11 rfl rfl)
theorem dX1_casts_12 : decode cX1_casts 12 = .ok (.getfield 58, 3) := dk_180 0 58 (dk_at dksX1_casts_0 12 rfl rfl)
theorem dX1_casts_15 : decode cX1_casts 15 = .ok (.invokevirtual 204, 3) := dk_182 0 204 (dk_at dksX1_casts_0 15 rfl rfl)
theorem dX1_casts_18 : decode cX1_casts 18 = .ok (.ldc_w 348, 3) := dk_19 1 92 (dk_at dksX1_casts_0 18 rfl rfl)
theorem dX1_casts_21 : decode cX1_casts 21 = .ok (.invokevirtual 344, 3) := dk_182 1 88 (dk_at dksX1_casts_0 21 rfl rfl)
theorem dX1_casts_24 : decode cX1_casts 24 = .ok (.ireturn, 1) := dk_172 (dk_at dksX1_casts_1 0 rfl rfl)
abbrev cX1_cast : ByteArray := prog_1_method_43_code
def yX1_cast : MethodName := ⟨RX1, "cast", "(II)I"⟩
def dkwX1_cast_3 : List UInt8 := [132, 4, 1, 167, 255, 225, 3, 172]
abbrev dktX1_cast_3 : List UInt8 := dkwX1_cast_3 ++ []
def dkwX1_cast_2 : List UInt8 := [162, 0, 28, 45, 180, 1, 75, 21, 4, 46, 28, 160, 0, 11, 42, 180, 0, 86, 21, 4, 46, 172]
abbrev dktX1_cast_2 : List UInt8 := dkwX1_cast_2 ++ dktX1_cast_3
def dkwX1_cast_1 : List UInt8 := [182, 1, 51, 154, 0, 5, 3, 172, 42, 27, 182, 1, 9, 78, 3, 54, 4, 21, 4, 45, 180, 1, 72]
abbrev dktX1_cast_1 : List UInt8 := dkwX1_cast_1 ++ dktX1_cast_2
def dkwX1_cast_0 : List UInt8 := [42, 27, 182, 1, 6, 42, 28, 182, 0, 238, 42, 42, 180, 0, 58, 27, 42, 180, 0, 58, 182, 0, 204]
abbrev dktX1_cast_0 : List UInt8 := dkwX1_cast_0 ++ dktX1_cast_1
theorem dksX1_cast_0 : cX1_cast.data.toList.drop 0 = dktX1_cast_0 := by decide +kernel
theorem dksX1_cast_1 : cX1_cast.data.toList.drop 23 = dktX1_cast_1 := dk_seg dksX1_cast_0 23 rfl rfl
theorem dksX1_cast_2 : cX1_cast.data.toList.drop 46 = dktX1_cast_2 := dk_seg dksX1_cast_1 23 rfl rfl
theorem dksX1_cast_3 : cX1_cast.data.toList.drop 68 = dktX1_cast_3 := dk_seg dksX1_cast_2 22 rfl rfl
theorem dX1_cast_0 : decode cX1_cast 0 = .ok (.aload_n 0, 1) := dk_42 (dk_at dksX1_cast_0 0 rfl rfl)
theorem dX1_cast_1 : decode cX1_cast 1 = .ok (.iload_n 1, 1) := dk_27 (dk_at dksX1_cast_0 1 rfl rfl)
theorem dX1_cast_2 : decode cX1_cast 2 = .ok (.invokevirtual 262, 3) := dk_182 1 6 (dk_at dksX1_cast_0 2 rfl rfl)
theorem dX1_cast_5 : decode cX1_cast 5 = .ok (.aload_n 0, 1) := dk_42 (dk_at dksX1_cast_0 5 rfl rfl)
theorem dX1_cast_6 : decode cX1_cast 6 = .ok (.iload_n 2, 1) := dk_28 (dk_at dksX1_cast_0 6 rfl rfl)
theorem dX1_cast_7 : decode cX1_cast 7 = .ok (.invokevirtual 238, 3) := dk_182 0 238 (dk_at dksX1_cast_0 7 rfl rfl)
theorem dX1_cast_10 : decode cX1_cast 10 = .ok (.aload_n 0, 1) := dk_42 (dk_at dksX1_cast_0 10 rfl rfl)
theorem dX1_cast_11 : decode cX1_cast 11 = .ok (.aload_n 0, 1) := dk_42 (dk_at dksX1_cast_0 11 rfl rfl)
theorem dX1_cast_12 : decode cX1_cast 12 = .ok (.getfield 58, 3) := dk_180 0 58 (dk_at dksX1_cast_0 12 rfl rfl)
theorem dX1_cast_15 : decode cX1_cast 15 = .ok (.iload_n 1, 1) := dk_27 (dk_at dksX1_cast_0 15 rfl rfl)
theorem dX1_cast_16 : decode cX1_cast 16 = .ok (.aload_n 0, 1) := dk_42 (dk_at dksX1_cast_0 16 rfl rfl)
theorem dX1_cast_17 : decode cX1_cast 17 = .ok (.getfield 58, 3) := dk_180 0 58 (dk_at dksX1_cast_0 17 rfl rfl)
theorem dX1_cast_20 : decode cX1_cast 20 = .ok (.invokevirtual 204, 3) := dk_182 0 204 (dk_at dksX1_cast_0 20 rfl rfl)
theorem dX1_cast_23 : decode cX1_cast 23 = .ok (.invokevirtual 307, 3) := dk_182 1 51 (dk_at dksX1_cast_1 0 rfl rfl)
theorem dX1_cast_26 : decode cX1_cast 26 = .ok (.ifCond .ne 5, 3) := dk_154 0 5 (dk_at dksX1_cast_1 3 rfl rfl)
theorem dX1_cast_29 : decode cX1_cast 29 = .ok (.iconst 0, 1) := dk_3 (dk_at dksX1_cast_1 6 rfl rfl)
theorem dX1_cast_30 : decode cX1_cast 30 = .ok (.ireturn, 1) := dk_172 (dk_at dksX1_cast_1 7 rfl rfl)
theorem dX1_cast_31 : decode cX1_cast 31 = .ok (.aload_n 0, 1) := dk_42 (dk_at dksX1_cast_1 8 rfl rfl)
theorem dX1_cast_32 : decode cX1_cast 32 = .ok (.iload_n 1, 1) := dk_27 (dk_at dksX1_cast_1 9 rfl rfl)
theorem dX1_cast_33 : decode cX1_cast 33 = .ok (.invokevirtual 265, 3) := dk_182 1 9 (dk_at dksX1_cast_1 10 rfl rfl)
theorem dX1_cast_36 : decode cX1_cast 36 = .ok (.astore_n 3, 1) := dk_78 (dk_at dksX1_cast_1 13 rfl rfl)
theorem dX1_cast_37 : decode cX1_cast 37 = .ok (.iconst 0, 1) := dk_3 (dk_at dksX1_cast_1 14 rfl rfl)
theorem dX1_cast_38 : decode cX1_cast 38 = .ok (.istore 4, 2) := dk_54 4 (dk_at dksX1_cast_1 15 rfl rfl)
theorem dX1_cast_40 : decode cX1_cast 40 = .ok (.iload 4, 2) := dk_21 4 (dk_at dksX1_cast_1 17 rfl rfl)
theorem dX1_cast_42 : decode cX1_cast 42 = .ok (.aload_n 3, 1) := dk_45 (dk_at dksX1_cast_1 19 rfl rfl)
theorem dX1_cast_43 : decode cX1_cast 43 = .ok (.getfield 328, 3) := dk_180 1 72 (dk_at dksX1_cast_1 20 rfl rfl)
theorem dX1_cast_46 : decode cX1_cast 46 = .ok (.if_icmp .ge 28, 3) := dk_162 0 28 (dk_at dksX1_cast_2 0 rfl rfl)
theorem dX1_cast_49 : decode cX1_cast 49 = .ok (.aload_n 3, 1) := dk_45 (dk_at dksX1_cast_2 3 rfl rfl)
theorem dX1_cast_50 : decode cX1_cast 50 = .ok (.getfield 331, 3) := dk_180 1 75 (dk_at dksX1_cast_2 4 rfl rfl)
theorem dX1_cast_53 : decode cX1_cast 53 = .ok (.iload 4, 2) := dk_21 4 (dk_at dksX1_cast_2 7 rfl rfl)
theorem dX1_cast_55 : decode cX1_cast 55 = .ok (.iaload, 1) := dk_46 (dk_at dksX1_cast_2 9 rfl rfl)
theorem dX1_cast_56 : decode cX1_cast 56 = .ok (.iload_n 2, 1) := dk_28 (dk_at dksX1_cast_2 10 rfl rfl)
theorem dX1_cast_57 : decode cX1_cast 57 = .ok (.if_icmp .ne 11, 3) := dk_160 0 11 (dk_at dksX1_cast_2 11 rfl rfl)
theorem dX1_cast_60 : decode cX1_cast 60 = .ok (.aload_n 0, 1) := dk_42 (dk_at dksX1_cast_2 14 rfl rfl)
theorem dX1_cast_61 : decode cX1_cast 61 = .ok (.getfield 86, 3) := dk_180 0 86 (dk_at dksX1_cast_2 15 rfl rfl)
theorem dX1_cast_64 : decode cX1_cast 64 = .ok (.iload 4, 2) := dk_21 4 (dk_at dksX1_cast_2 18 rfl rfl)
theorem dX1_cast_66 : decode cX1_cast 66 = .ok (.iaload, 1) := dk_46 (dk_at dksX1_cast_2 20 rfl rfl)
theorem dX1_cast_67 : decode cX1_cast 67 = .ok (.ireturn, 1) := dk_172 (dk_at dksX1_cast_2 21 rfl rfl)
theorem dX1_cast_68 : decode cX1_cast 68 = .ok (.iinc 4 1, 3) := dk_132 4 1 (dk_at dksX1_cast_3 0 rfl rfl)
theorem dX1_cast_71 : decode cX1_cast 71 = .ok (.goto (-31), 3) := dk_167 255 225 (dk_at dksX1_cast_3 3 rfl rfl)
theorem dX1_cast_74 : decode cX1_cast 74 = .ok (.iconst 0, 1) := dk_3 (dk_at dksX1_cast_3 6 rfl rfl)
theorem dX1_cast_75 : decode cX1_cast 75 = .ok (.ireturn, 1) := dk_172 (dk_at dksX1_cast_3 7 rfl rfl)
abbrev cX1_lacking : ByteArray := prog_1_method_44_code
def yX1_lacking : MethodName := ⟨RX1, "lacking", "(I)I"⟩
def dkwX1_lacking_6 : List UInt8 := [167, 255, 134, 29, 172]
abbrev dktX1_lacking_6 : List UInt8 := dkwX1_lacking_6 ++ []
def dkwX1_lacking_5 : List UInt8 := [42, 180, 0, 58, 182, 0, 204, 21, 5, 2, 130, 126, 184, 0, 207, 164, 0, 6, 21, 4, 62, 132, 4, 1]
abbrev dktX1_lacking_5 : List UInt8 := dkwX1_lacking_5 ++ dktX1_lacking_6
def dkwX1_lacking_4 : List UInt8 := [180, 0, 31, 180, 1, 78, 21, 6, 46, 126, 54, 5, 132, 6, 1, 167, 255, 215, 42, 21, 4, 182, 1, 19]
abbrev dktX1_lacking_4 : List UInt8 := dkwX1_lacking_4 ++ dktX1_lacking_5
def dkwX1_lacking_3 : List UInt8 := [180, 0, 31, 180, 0, 133, 162, 0, 35, 21, 4, 21, 6, 122, 4, 126, 4, 160, 0, 18, 21, 5, 42]
abbrev dktX1_lacking_3 : List UInt8 := dkwX1_lacking_3 ++ dktX1_lacking_4
def dkwX1_lacking_2 : List UInt8 := [184, 0, 207, 161, 0, 6, 167, 0, 86, 42, 180, 0, 58, 182, 0, 204, 54, 5, 3, 54, 6, 21, 6, 42]
abbrev dktX1_lacking_2 : List UInt8 := dkwX1_lacking_2 ++ dktX1_lacking_3
def dkwX1_lacking_1 : List UInt8 := [162, 0, 120, 21, 4, 28, 2, 130, 126, 154, 0, 105, 29, 153, 0, 18, 21, 4, 184, 0, 207, 29]
abbrev dktX1_lacking_1 : List UInt8 := dkwX1_lacking_1 ++ dktX1_lacking_2
def dkwX1_lacking_0 : List UInt8 := [42, 27, 182, 1, 6, 42, 27, 182, 1, 9, 180, 1, 16, 61, 3, 62, 4, 54, 4, 21, 4, 17, 1, 0]
abbrev dktX1_lacking_0 : List UInt8 := dkwX1_lacking_0 ++ dktX1_lacking_1
theorem dksX1_lacking_0 : cX1_lacking.data.toList.drop 0 = dktX1_lacking_0 := by decide +kernel
theorem dksX1_lacking_1 : cX1_lacking.data.toList.drop 24 = dktX1_lacking_1 := dk_seg dksX1_lacking_0 24 rfl rfl
theorem dksX1_lacking_2 : cX1_lacking.data.toList.drop 46 = dktX1_lacking_2 := dk_seg dksX1_lacking_1 22 rfl rfl
theorem dksX1_lacking_3 : cX1_lacking.data.toList.drop 70 = dktX1_lacking_3 := dk_seg dksX1_lacking_2 24 rfl rfl
theorem dksX1_lacking_4 : cX1_lacking.data.toList.drop 93 = dktX1_lacking_4 := dk_seg dksX1_lacking_3 23 rfl rfl
theorem dksX1_lacking_5 : cX1_lacking.data.toList.drop 117 = dktX1_lacking_5 := dk_seg dksX1_lacking_4 24 rfl rfl
theorem dksX1_lacking_6 : cX1_lacking.data.toList.drop 141 = dktX1_lacking_6 := dk_seg dksX1_lacking_5 24 rfl rfl
theorem dX1_lacking_0 : decode cX1_lacking 0 = .ok (.aload_n 0, 1) := dk_42 (dk_at dksX1_lacking_0 0 rfl rfl)
theorem dX1_lacking_1 : decode cX1_lacking 1 = .ok (.iload_n 1, 1) := dk_27 (dk_at dksX1_lacking_0 1 rfl rfl)
theorem dX1_lacking_2 : decode cX1_lacking 2 = .ok (.invokevirtual 262, 3) := dk_182 1 6 (dk_at dksX1_lacking_0 2 rfl rfl)
theorem dX1_lacking_5 : decode cX1_lacking 5 = .ok (.aload_n 0, 1) := dk_42 (dk_at dksX1_lacking_0 5 rfl rfl)
theorem dX1_lacking_6 : decode cX1_lacking 6 = .ok (.iload_n 1, 1) := dk_27 (dk_at dksX1_lacking_0 6 rfl rfl)
theorem dX1_lacking_7 : decode cX1_lacking 7 = .ok (.invokevirtual 265, 3) := dk_182 1 9 (dk_at dksX1_lacking_0 7 rfl rfl)
theorem dX1_lacking_10 : decode cX1_lacking 10 = .ok (.getfield 272, 3) := dk_180 1 16 (dk_at dksX1_lacking_0 10 rfl rfl)
theorem dX1_lacking_13 : decode cX1_lacking 13 = .ok (.istore_n 2, 1) := dk_61 (dk_at dksX1_lacking_0 13 rfl rfl)
theorem dX1_lacking_14 : decode cX1_lacking 14 = .ok (.iconst 0, 1) := dk_3 (dk_at dksX1_lacking_0 14 rfl rfl)
theorem dX1_lacking_15 : decode cX1_lacking 15 = .ok (.istore_n 3, 1) := dk_62 (dk_at dksX1_lacking_0 15 rfl rfl)
theorem dX1_lacking_16 : decode cX1_lacking 16 = .ok (.iconst 1, 1) := dk_4 (dk_at dksX1_lacking_0 16 rfl rfl)
theorem dX1_lacking_17 : decode cX1_lacking 17 = .ok (.istore 4, 2) := dk_54 4 (dk_at dksX1_lacking_0 17 rfl rfl)
theorem dX1_lacking_19 : decode cX1_lacking 19 = .ok (.iload 4, 2) := dk_21 4 (dk_at dksX1_lacking_0 19 rfl rfl)
theorem dX1_lacking_21 : decode cX1_lacking 21 = .ok (.sipush 256, 3) := dk_17 1 0 (dk_at dksX1_lacking_0 21 rfl rfl)
theorem dX1_lacking_24 : decode cX1_lacking 24 = .ok (.if_icmp .ge 120, 3) := dk_162 0 120 (dk_at dksX1_lacking_1 0 rfl rfl)
theorem dX1_lacking_27 : decode cX1_lacking 27 = .ok (.iload 4, 2) := dk_21 4 (dk_at dksX1_lacking_1 3 rfl rfl)
theorem dX1_lacking_29 : decode cX1_lacking 29 = .ok (.iload_n 2, 1) := dk_28 (dk_at dksX1_lacking_1 5 rfl rfl)
theorem dX1_lacking_30 : decode cX1_lacking 30 = .ok (.iconst (-1), 1) := dk_2 (dk_at dksX1_lacking_1 6 rfl rfl)
theorem dX1_lacking_31 : decode cX1_lacking 31 = .ok (.ixor, 1) := dk_130 (dk_at dksX1_lacking_1 7 rfl rfl)
theorem dX1_lacking_32 : decode cX1_lacking 32 = .ok (.iand, 1) := dk_126 (dk_at dksX1_lacking_1 8 rfl rfl)
theorem dX1_lacking_33 : decode cX1_lacking 33 = .ok (.ifCond .ne 105, 3) := dk_154 0 105 (dk_at dksX1_lacking_1 9 rfl rfl)
theorem dX1_lacking_36 : decode cX1_lacking 36 = .ok (.iload_n 3, 1) := dk_29 (dk_at dksX1_lacking_1 12 rfl rfl)
theorem dX1_lacking_37 : decode cX1_lacking 37 = .ok (.ifCond .eq 18, 3) := dk_153 0 18 (dk_at dksX1_lacking_1 13 rfl rfl)
theorem dX1_lacking_40 : decode cX1_lacking 40 = .ok (.iload 4, 2) := dk_21 4 (dk_at dksX1_lacking_1 16 rfl rfl)
theorem dX1_lacking_42 : decode cX1_lacking 42 = .ok (.invokestatic 207, 3) := dk_184 0 207 (dk_at dksX1_lacking_1 18 rfl rfl)
theorem dX1_lacking_45 : decode cX1_lacking 45 = .ok (.iload_n 3, 1) := dk_29 (dk_at dksX1_lacking_1 21 rfl rfl)
theorem dX1_lacking_46 : decode cX1_lacking 46 = .ok (.invokestatic 207, 3) := dk_184 0 207 (dk_at dksX1_lacking_2 0 rfl rfl)
theorem dX1_lacking_49 : decode cX1_lacking 49 = .ok (.if_icmp .lt 6, 3) := dk_161 0 6 (dk_at dksX1_lacking_2 3 rfl rfl)
theorem dX1_lacking_52 : decode cX1_lacking 52 = .ok (.goto 86, 3) := dk_167 0 86 (dk_at dksX1_lacking_2 6 rfl rfl)
theorem dX1_lacking_55 : decode cX1_lacking 55 = .ok (.aload_n 0, 1) := dk_42 (dk_at dksX1_lacking_2 9 rfl rfl)
theorem dX1_lacking_56 : decode cX1_lacking 56 = .ok (.getfield 58, 3) := dk_180 0 58 (dk_at dksX1_lacking_2 10 rfl rfl)
theorem dX1_lacking_59 : decode cX1_lacking 59 = .ok (.invokevirtual 204, 3) := dk_182 0 204 (dk_at dksX1_lacking_2 13 rfl rfl)
theorem dX1_lacking_62 : decode cX1_lacking 62 = .ok (.istore 5, 2) := dk_54 5 (dk_at dksX1_lacking_2 16 rfl rfl)
theorem dX1_lacking_64 : decode cX1_lacking 64 = .ok (.iconst 0, 1) := dk_3 (dk_at dksX1_lacking_2 18 rfl rfl)
theorem dX1_lacking_65 : decode cX1_lacking 65 = .ok (.istore 6, 2) := dk_54 6 (dk_at dksX1_lacking_2 19 rfl rfl)
theorem dX1_lacking_67 : decode cX1_lacking 67 = .ok (.iload 6, 2) := dk_21 6 (dk_at dksX1_lacking_2 21 rfl rfl)
theorem dX1_lacking_69 : decode cX1_lacking 69 = .ok (.aload_n 0, 1) := dk_42 (dk_at dksX1_lacking_2 23 rfl rfl)
theorem dX1_lacking_70 : decode cX1_lacking 70 = .ok (.getfield 31, 3) := dk_180 0 31 (dk_at dksX1_lacking_3 0 rfl rfl)
theorem dX1_lacking_73 : decode cX1_lacking 73 = .ok (.getfield 133, 3) := dk_180 0 133 (dk_at dksX1_lacking_3 3 rfl rfl)
theorem dX1_lacking_76 : decode cX1_lacking 76 = .ok (.if_icmp .ge 35, 3) := dk_162 0 35 (dk_at dksX1_lacking_3 6 rfl rfl)
theorem dX1_lacking_79 : decode cX1_lacking 79 = .ok (.iload 4, 2) := dk_21 4 (dk_at dksX1_lacking_3 9 rfl rfl)
theorem dX1_lacking_81 : decode cX1_lacking 81 = .ok (.iload 6, 2) := dk_21 6 (dk_at dksX1_lacking_3 11 rfl rfl)
theorem dX1_lacking_83 : decode cX1_lacking 83 = .ok (.ishr, 1) := dk_122 (dk_at dksX1_lacking_3 13 rfl rfl)
theorem dX1_lacking_84 : decode cX1_lacking 84 = .ok (.iconst 1, 1) := dk_4 (dk_at dksX1_lacking_3 14 rfl rfl)
theorem dX1_lacking_85 : decode cX1_lacking 85 = .ok (.iand, 1) := dk_126 (dk_at dksX1_lacking_3 15 rfl rfl)
theorem dX1_lacking_86 : decode cX1_lacking 86 = .ok (.iconst 1, 1) := dk_4 (dk_at dksX1_lacking_3 16 rfl rfl)
theorem dX1_lacking_87 : decode cX1_lacking 87 = .ok (.if_icmp .ne 18, 3) := dk_160 0 18 (dk_at dksX1_lacking_3 17 rfl rfl)
theorem dX1_lacking_90 : decode cX1_lacking 90 = .ok (.iload 5, 2) := dk_21 5 (dk_at dksX1_lacking_3 20 rfl rfl)
theorem dX1_lacking_92 : decode cX1_lacking 92 = .ok (.aload_n 0, 1) := dk_42 (dk_at dksX1_lacking_3 22 rfl rfl)
theorem dX1_lacking_93 : decode cX1_lacking 93 = .ok (.getfield 31, 3) := dk_180 0 31 (dk_at dksX1_lacking_4 0 rfl rfl)
theorem dX1_lacking_96 : decode cX1_lacking 96 = .ok (.getfield 334, 3) := dk_180 1 78 (dk_at dksX1_lacking_4 3 rfl rfl)
theorem dX1_lacking_99 : decode cX1_lacking 99 = .ok (.iload 6, 2) := dk_21 6 (dk_at dksX1_lacking_4 6 rfl rfl)
theorem dX1_lacking_101 : decode cX1_lacking 101 = .ok (.iaload, 1) := dk_46 (dk_at dksX1_lacking_4 8 rfl rfl)
theorem dX1_lacking_102 : decode cX1_lacking 102 = .ok (.iand, 1) := dk_126 (dk_at dksX1_lacking_4 9 rfl rfl)
theorem dX1_lacking_103 : decode cX1_lacking 103 = .ok (.istore 5, 2) := dk_54 5 (dk_at dksX1_lacking_4 10 rfl rfl)
theorem dX1_lacking_105 : decode cX1_lacking 105 = .ok (.iinc 6 1, 3) := dk_132 6 1 (dk_at dksX1_lacking_4 12 rfl rfl)
theorem dX1_lacking_108 : decode cX1_lacking 108 = .ok (.goto (-41), 3) := dk_167 255 215 (dk_at dksX1_lacking_4 15 rfl rfl)
theorem dX1_lacking_111 : decode cX1_lacking 111 = .ok (.aload_n 0, 1) := dk_42 (dk_at dksX1_lacking_4 18 rfl rfl)
theorem dX1_lacking_112 : decode cX1_lacking 112 = .ok (.iload 4, 2) := dk_21 4 (dk_at dksX1_lacking_4 19 rfl rfl)
theorem dX1_lacking_114 : decode cX1_lacking 114 = .ok (.invokevirtual 275, 3) := dk_182 1 19 (dk_at dksX1_lacking_4 21 rfl rfl)
theorem dX1_lacking_117 : decode cX1_lacking 117 = .ok (.aload_n 0, 1) := dk_42 (dk_at dksX1_lacking_5 0 rfl rfl)
theorem dX1_lacking_118 : decode cX1_lacking 118 = .ok (.getfield 58, 3) := dk_180 0 58 (dk_at dksX1_lacking_5 1 rfl rfl)
theorem dX1_lacking_121 : decode cX1_lacking 121 = .ok (.invokevirtual 204, 3) := dk_182 0 204 (dk_at dksX1_lacking_5 4 rfl rfl)
theorem dX1_lacking_124 : decode cX1_lacking 124 = .ok (.iload 5, 2) := dk_21 5 (dk_at dksX1_lacking_5 7 rfl rfl)
theorem dX1_lacking_126 : decode cX1_lacking 126 = .ok (.iconst (-1), 1) := dk_2 (dk_at dksX1_lacking_5 9 rfl rfl)
theorem dX1_lacking_127 : decode cX1_lacking 127 = .ok (.ixor, 1) := dk_130 (dk_at dksX1_lacking_5 10 rfl rfl)
theorem dX1_lacking_128 : decode cX1_lacking 128 = .ok (.iand, 1) := dk_126 (dk_at dksX1_lacking_5 11 rfl rfl)
theorem dX1_lacking_129 : decode cX1_lacking 129 = .ok (.invokestatic 207, 3) := dk_184 0 207 (dk_at dksX1_lacking_5 12 rfl rfl)
theorem dX1_lacking_132 : decode cX1_lacking 132 = .ok (.if_icmp .le 6, 3) := dk_164 0 6 (dk_at dksX1_lacking_5 15 rfl rfl)
theorem dX1_lacking_135 : decode cX1_lacking 135 = .ok (.iload 4, 2) := dk_21 4 (dk_at dksX1_lacking_5 18 rfl rfl)
theorem dX1_lacking_137 : decode cX1_lacking 137 = .ok (.istore_n 3, 1) := dk_62 (dk_at dksX1_lacking_5 20 rfl rfl)
theorem dX1_lacking_138 : decode cX1_lacking 138 = .ok (.iinc 4 1, 3) := dk_132 4 1 (dk_at dksX1_lacking_5 21 rfl rfl)
theorem dX1_lacking_141 : decode cX1_lacking 141 = .ok (.goto (-122), 3) := dk_167 255 134 (dk_at dksX1_lacking_6 0 rfl rfl)
theorem dX1_lacking_144 : decode cX1_lacking 144 = .ok (.iload_n 3, 1) := dk_29 (dk_at dksX1_lacking_6 3 rfl rfl)
theorem dX1_lacking_145 : decode cX1_lacking 145 = .ok (.ireturn, 1) := dk_172 (dk_at dksX1_lacking_6 4 rfl rfl)
abbrev cX1_cost : ByteArray := prog_1_method_48_code
def yX1_cost : MethodName := ⟨RX1, "cost", "(I)I"⟩
def dkwX1_cost_0 : List UInt8 := [42, 27, 182, 0, 217, 42, 27, 182, 1, 97, 172]
abbrev dktX1_cost_0 : List UInt8 := dkwX1_cost_0 ++ []
theorem dksX1_cost_0 : cX1_cost.data.toList.drop 0 = dktX1_cost_0 := by decide +kernel
theorem dX1_cost_0 : decode cX1_cost 0 = .ok (.aload_n 0, 1) := dk_42 (dk_at dksX1_cost_0 0 rfl rfl)
theorem dX1_cost_1 : decode cX1_cost 1 = .ok (.iload_n 1, 1) := dk_27 (dk_at dksX1_cost_0 1 rfl rfl)
theorem dX1_cost_2 : decode cX1_cost 2 = .ok (.invokevirtual 217, 3) := dk_182 0 217 (dk_at dksX1_cost_0 2 rfl rfl)
theorem dX1_cost_5 : decode cX1_cost 5 = .ok (.aload_n 0, 1) := dk_42 (dk_at dksX1_cost_0 5 rfl rfl)
theorem dX1_cost_6 : decode cX1_cost 6 = .ok (.iload_n 1, 1) := dk_27 (dk_at dksX1_cost_0 6 rfl rfl)
theorem dX1_cost_7 : decode cX1_cost 7 = .ok (.invokevirtual 353, 3) := dk_182 1 97 (dk_at dksX1_cost_0 7 rfl rfl)
theorem dX1_cost_10 : decode cX1_cost 10 = .ok (.ireturn, 1) := dk_172 (dk_at dksX1_cost_0 10 rfl rfl)
abbrev cX1_lies : ByteArray := prog_1_method_51_code
def yX1_lies : MethodName := ⟨RX1, "lies", "(II)I"⟩
def dkwX1_lies_0 : List UInt8 := [42, 27, 182, 0, 238, 42, 28, 182, 0, 217, 42, 27, 28, 182, 1, 100, 172]
abbrev dktX1_lies_0 : List UInt8 := dkwX1_lies_0 ++ []
theorem dksX1_lies_0 : cX1_lies.data.toList.drop 0 = dktX1_lies_0 := by decide +kernel
theorem dX1_lies_0 : decode cX1_lies 0 = .ok (.aload_n 0, 1) := dk_42 (dk_at dksX1_lies_0 0 rfl rfl)
theorem dX1_lies_1 : decode cX1_lies 1 = .ok (.iload_n 1, 1) := dk_27 (dk_at dksX1_lies_0 1 rfl rfl)
theorem dX1_lies_2 : decode cX1_lies 2 = .ok (.invokevirtual 238, 3) := dk_182 0 238 (dk_at dksX1_lies_0 2 rfl rfl)
theorem dX1_lies_5 : decode cX1_lies 5 = .ok (.aload_n 0, 1) := dk_42 (dk_at dksX1_lies_0 5 rfl rfl)
theorem dX1_lies_6 : decode cX1_lies 6 = .ok (.iload_n 2, 1) := dk_28 (dk_at dksX1_lies_0 6 rfl rfl)
theorem dX1_lies_7 : decode cX1_lies 7 = .ok (.invokevirtual 217, 3) := dk_182 0 217 (dk_at dksX1_lies_0 7 rfl rfl)
theorem dX1_lies_10 : decode cX1_lies 10 = .ok (.aload_n 0, 1) := dk_42 (dk_at dksX1_lies_0 10 rfl rfl)
theorem dX1_lies_11 : decode cX1_lies 11 = .ok (.iload_n 1, 1) := dk_27 (dk_at dksX1_lies_0 11 rfl rfl)
theorem dX1_lies_12 : decode cX1_lies 12 = .ok (.iload_n 2, 1) := dk_28 (dk_at dksX1_lies_0 12 rfl rfl)
theorem dX1_lies_13 : decode cX1_lies 13 = .ok (.invokevirtual 356, 3) := dk_182 1 100 (dk_at dksX1_lies_0 13 rfl rfl)
theorem dX1_lies_16 : decode cX1_lies 16 = .ok (.ireturn, 1) := dk_172 (dk_at dksX1_lies_0 16 rfl rfl)
abbrev cX1_liesBy : ByteArray := prog_1_method_50_code
def yX1_liesBy : MethodName := ⟨RX1, "liesBy", "(II)I"⟩
def dkwX1_liesBy_1 : List UInt8 := [180, 0, 58, 180, 0, 198, 27, 46, 96, 16, 16, 112, 172]
abbrev dktX1_liesBy_1 : List UInt8 := dkwX1_liesBy_1 ++ []
def dkwX1_liesBy_0 : List UInt8 := [42, 180, 0, 31, 180, 0, 241, 27, 46, 6, 42, 180, 0, 31, 180, 0, 117, 28, 46, 104, 96, 42]
abbrev dktX1_liesBy_0 : List UInt8 := dkwX1_liesBy_0 ++ dktX1_liesBy_1
theorem dksX1_liesBy_0 : cX1_liesBy.data.toList.drop 0 = dktX1_liesBy_0 := by decide +kernel
theorem dksX1_liesBy_1 : cX1_liesBy.data.toList.drop 22 = dktX1_liesBy_1 := dk_seg dksX1_liesBy_0 22 rfl rfl
theorem dX1_liesBy_0 : decode cX1_liesBy 0 = .ok (.aload_n 0, 1) := dk_42 (dk_at dksX1_liesBy_0 0 rfl rfl)
theorem dX1_liesBy_1 : decode cX1_liesBy 1 = .ok (.getfield 31, 3) := dk_180 0 31 (dk_at dksX1_liesBy_0 1 rfl rfl)
theorem dX1_liesBy_4 : decode cX1_liesBy 4 = .ok (.getfield 241, 3) := dk_180 0 241 (dk_at dksX1_liesBy_0 4 rfl rfl)
theorem dX1_liesBy_7 : decode cX1_liesBy 7 = .ok (.iload_n 1, 1) := dk_27 (dk_at dksX1_liesBy_0 7 rfl rfl)
theorem dX1_liesBy_8 : decode cX1_liesBy 8 = .ok (.iaload, 1) := dk_46 (dk_at dksX1_liesBy_0 8 rfl rfl)
theorem dX1_liesBy_9 : decode cX1_liesBy 9 = .ok (.iconst 3, 1) := dk_6 (dk_at dksX1_liesBy_0 9 rfl rfl)
theorem dX1_liesBy_10 : decode cX1_liesBy 10 = .ok (.aload_n 0, 1) := dk_42 (dk_at dksX1_liesBy_0 10 rfl rfl)
theorem dX1_liesBy_11 : decode cX1_liesBy 11 = .ok (.getfield 31, 3) := dk_180 0 31 (dk_at dksX1_liesBy_0 11 rfl rfl)
theorem dX1_liesBy_14 : decode cX1_liesBy 14 = .ok (.getfield 117, 3) := dk_180 0 117 (dk_at dksX1_liesBy_0 14 rfl rfl)
theorem dX1_liesBy_17 : decode cX1_liesBy 17 = .ok (.iload_n 2, 1) := dk_28 (dk_at dksX1_liesBy_0 17 rfl rfl)
theorem dX1_liesBy_18 : decode cX1_liesBy 18 = .ok (.iaload, 1) := dk_46 (dk_at dksX1_liesBy_0 18 rfl rfl)
theorem dX1_liesBy_19 : decode cX1_liesBy 19 = .ok (.imul, 1) := dk_104 (dk_at dksX1_liesBy_0 19 rfl rfl)
theorem dX1_liesBy_20 : decode cX1_liesBy 20 = .ok (.iadd, 1) := dk_96 (dk_at dksX1_liesBy_0 20 rfl rfl)
theorem dX1_liesBy_21 : decode cX1_liesBy 21 = .ok (.aload_n 0, 1) := dk_42 (dk_at dksX1_liesBy_0 21 rfl rfl)
theorem dX1_liesBy_22 : decode cX1_liesBy 22 = .ok (.getfield 58, 3) := dk_180 0 58 (dk_at dksX1_liesBy_1 0 rfl rfl)
theorem dX1_liesBy_25 : decode cX1_liesBy 25 = .ok (.getfield 198, 3) := dk_180 0 198 (dk_at dksX1_liesBy_1 3 rfl rfl)
theorem dX1_liesBy_28 : decode cX1_liesBy 28 = .ok (.iload_n 1, 1) := dk_27 (dk_at dksX1_liesBy_1 6 rfl rfl)
theorem dX1_liesBy_29 : decode cX1_liesBy 29 = .ok (.iaload, 1) := dk_46 (dk_at dksX1_liesBy_1 7 rfl rfl)
theorem dX1_liesBy_30 : decode cX1_liesBy 30 = .ok (.iadd, 1) := dk_96 (dk_at dksX1_liesBy_1 8 rfl rfl)
theorem dX1_liesBy_31 : decode cX1_liesBy 31 = .ok (.bipush 16, 2) := dk_16 16 (dk_at dksX1_liesBy_1 9 rfl rfl)
theorem dX1_liesBy_33 : decode cX1_liesBy 33 = .ok (.irem, 1) := dk_112 (dk_at dksX1_liesBy_1 11 rfl rfl)
theorem dX1_liesBy_34 : decode cX1_liesBy 34 = .ok (.ireturn, 1) := dk_172 (dk_at dksX1_liesBy_1 12 rfl rfl)
abbrev cX1_dropped : ByteArray := prog_1_method_52_code
def yX1_dropped : MethodName := ⟨RX1, "dropped", "(II)I"⟩
def dkwX1_dropped_3 : List UInt8 := [120, 167, 0, 4, 3, 128, 62, 132, 4, 1, 167, 255, 205, 29, 172]
abbrev dktX1_dropped_3 : List UInt8 := dkwX1_dropped_3 ++ []
def dkwX1_dropped_2 : List UInt8 := [180, 0, 226, 21, 4, 46, 4, 160, 0, 21, 42, 27, 21, 4, 182, 1, 100, 28, 160, 0, 10, 4, 21, 4]
abbrev dktX1_dropped_2 : List UInt8 := dkwX1_dropped_2 ++ dktX1_dropped_3
def dkwX1_dropped_1 : List UInt8 := [3, 62, 3, 54, 4, 21, 4, 42, 180, 0, 31, 180, 0, 126, 162, 0, 45, 29, 42, 180, 0, 58]
abbrev dktX1_dropped_1 : List UInt8 := dkwX1_dropped_1 ++ dktX1_dropped_2
def dkwX1_dropped_0 : List UInt8 := [42, 27, 182, 0, 238, 42, 28, 155, 0, 13, 28, 16, 16, 162, 0, 7, 4, 167, 0, 4, 3, 182, 0, 160]
abbrev dktX1_dropped_0 : List UInt8 := dkwX1_dropped_0 ++ dktX1_dropped_1
theorem dksX1_dropped_0 : cX1_dropped.data.toList.drop 0 = dktX1_dropped_0 := by decide +kernel
theorem dksX1_dropped_1 : cX1_dropped.data.toList.drop 24 = dktX1_dropped_1 := dk_seg dksX1_dropped_0 24 rfl rfl
theorem dksX1_dropped_2 : cX1_dropped.data.toList.drop 46 = dktX1_dropped_2 := dk_seg dksX1_dropped_1 22 rfl rfl
theorem dksX1_dropped_3 : cX1_dropped.data.toList.drop 70 = dktX1_dropped_3 := dk_seg dksX1_dropped_2 24 rfl rfl
theorem dX1_dropped_0 : decode cX1_dropped 0 = .ok (.aload_n 0, 1) := dk_42 (dk_at dksX1_dropped_0 0 rfl rfl)
theorem dX1_dropped_1 : decode cX1_dropped 1 = .ok (.iload_n 1, 1) := dk_27 (dk_at dksX1_dropped_0 1 rfl rfl)
theorem dX1_dropped_2 : decode cX1_dropped 2 = .ok (.invokevirtual 238, 3) := dk_182 0 238 (dk_at dksX1_dropped_0 2 rfl rfl)
theorem dX1_dropped_5 : decode cX1_dropped 5 = .ok (.aload_n 0, 1) := dk_42 (dk_at dksX1_dropped_0 5 rfl rfl)
theorem dX1_dropped_6 : decode cX1_dropped 6 = .ok (.iload_n 2, 1) := dk_28 (dk_at dksX1_dropped_0 6 rfl rfl)
theorem dX1_dropped_7 : decode cX1_dropped 7 = .ok (.ifCond .lt 13, 3) := dk_155 0 13 (dk_at dksX1_dropped_0 7 rfl rfl)
theorem dX1_dropped_10 : decode cX1_dropped 10 = .ok (.iload_n 2, 1) := dk_28 (dk_at dksX1_dropped_0 10 rfl rfl)
theorem dX1_dropped_11 : decode cX1_dropped 11 = .ok (.bipush 16, 2) := dk_16 16 (dk_at dksX1_dropped_0 11 rfl rfl)
theorem dX1_dropped_13 : decode cX1_dropped 13 = .ok (.if_icmp .ge 7, 3) := dk_162 0 7 (dk_at dksX1_dropped_0 13 rfl rfl)
theorem dX1_dropped_16 : decode cX1_dropped 16 = .ok (.iconst 1, 1) := dk_4 (dk_at dksX1_dropped_0 16 rfl rfl)
theorem dX1_dropped_17 : decode cX1_dropped 17 = .ok (.goto 4, 3) := dk_167 0 4 (dk_at dksX1_dropped_0 17 rfl rfl)
theorem dX1_dropped_20 : decode cX1_dropped 20 = .ok (.iconst 0, 1) := dk_3 (dk_at dksX1_dropped_0 20 rfl rfl)
theorem dX1_dropped_21 : decode cX1_dropped 21 = .ok (.invokevirtual 160, 3) := dk_182 0 160 (dk_at dksX1_dropped_0 21 rfl rfl)
theorem dX1_dropped_24 : decode cX1_dropped 24 = .ok (.iconst 0, 1) := dk_3 (dk_at dksX1_dropped_1 0 rfl rfl)
theorem dX1_dropped_25 : decode cX1_dropped 25 = .ok (.istore_n 3, 1) := dk_62 (dk_at dksX1_dropped_1 1 rfl rfl)
theorem dX1_dropped_26 : decode cX1_dropped 26 = .ok (.iconst 0, 1) := dk_3 (dk_at dksX1_dropped_1 2 rfl rfl)
theorem dX1_dropped_27 : decode cX1_dropped 27 = .ok (.istore 4, 2) := dk_54 4 (dk_at dksX1_dropped_1 3 rfl rfl)
theorem dX1_dropped_29 : decode cX1_dropped 29 = .ok (.iload 4, 2) := dk_21 4 (dk_at dksX1_dropped_1 5 rfl rfl)
theorem dX1_dropped_31 : decode cX1_dropped 31 = .ok (.aload_n 0, 1) := dk_42 (dk_at dksX1_dropped_1 7 rfl rfl)
theorem dX1_dropped_32 : decode cX1_dropped 32 = .ok (.getfield 31, 3) := dk_180 0 31 (dk_at dksX1_dropped_1 8 rfl rfl)
theorem dX1_dropped_35 : decode cX1_dropped 35 = .ok (.getfield 126, 3) := dk_180 0 126 (dk_at dksX1_dropped_1 11 rfl rfl)
theorem dX1_dropped_38 : decode cX1_dropped 38 = .ok (.if_icmp .ge 45, 3) := dk_162 0 45 (dk_at dksX1_dropped_1 14 rfl rfl)
theorem dX1_dropped_41 : decode cX1_dropped 41 = .ok (.iload_n 3, 1) := dk_29 (dk_at dksX1_dropped_1 17 rfl rfl)
theorem dX1_dropped_42 : decode cX1_dropped 42 = .ok (.aload_n 0, 1) := dk_42 (dk_at dksX1_dropped_1 18 rfl rfl)
theorem dX1_dropped_43 : decode cX1_dropped 43 = .ok (.getfield 58, 3) := dk_180 0 58 (dk_at dksX1_dropped_1 19 rfl rfl)
theorem dX1_dropped_46 : decode cX1_dropped 46 = .ok (.getfield 226, 3) := dk_180 0 226 (dk_at dksX1_dropped_2 0 rfl rfl)
theorem dX1_dropped_49 : decode cX1_dropped 49 = .ok (.iload 4, 2) := dk_21 4 (dk_at dksX1_dropped_2 3 rfl rfl)
theorem dX1_dropped_51 : decode cX1_dropped 51 = .ok (.iaload, 1) := dk_46 (dk_at dksX1_dropped_2 5 rfl rfl)
theorem dX1_dropped_52 : decode cX1_dropped 52 = .ok (.iconst 1, 1) := dk_4 (dk_at dksX1_dropped_2 6 rfl rfl)
theorem dX1_dropped_53 : decode cX1_dropped 53 = .ok (.if_icmp .ne 21, 3) := dk_160 0 21 (dk_at dksX1_dropped_2 7 rfl rfl)
theorem dX1_dropped_56 : decode cX1_dropped 56 = .ok (.aload_n 0, 1) := dk_42 (dk_at dksX1_dropped_2 10 rfl rfl)
theorem dX1_dropped_57 : decode cX1_dropped 57 = .ok (.iload_n 1, 1) := dk_27 (dk_at dksX1_dropped_2 11 rfl rfl)
theorem dX1_dropped_58 : decode cX1_dropped 58 = .ok (.iload 4, 2) := dk_21 4 (dk_at dksX1_dropped_2 12 rfl rfl)
theorem dX1_dropped_60 : decode cX1_dropped 60 = .ok (.invokevirtual 356, 3) := dk_182 1 100 (dk_at dksX1_dropped_2 14 rfl rfl)
theorem dX1_dropped_63 : decode cX1_dropped 63 = .ok (.iload_n 2, 1) := dk_28 (dk_at dksX1_dropped_2 17 rfl rfl)
theorem dX1_dropped_64 : decode cX1_dropped 64 = .ok (.if_icmp .ne 10, 3) := dk_160 0 10 (dk_at dksX1_dropped_2 18 rfl rfl)
theorem dX1_dropped_67 : decode cX1_dropped 67 = .ok (.iconst 1, 1) := dk_4 (dk_at dksX1_dropped_2 21 rfl rfl)
theorem dX1_dropped_68 : decode cX1_dropped 68 = .ok (.iload 4, 2) := dk_21 4 (dk_at dksX1_dropped_2 22 rfl rfl)
theorem dX1_dropped_70 : decode cX1_dropped 70 = .ok (.ishl, 1) := dk_120 (dk_at dksX1_dropped_3 0 rfl rfl)
theorem dX1_dropped_71 : decode cX1_dropped 71 = .ok (.goto 4, 3) := dk_167 0 4 (dk_at dksX1_dropped_3 1 rfl rfl)
theorem dX1_dropped_74 : decode cX1_dropped 74 = .ok (.iconst 0, 1) := dk_3 (dk_at dksX1_dropped_3 4 rfl rfl)
theorem dX1_dropped_75 : decode cX1_dropped 75 = .ok (.ior, 1) := dk_128 (dk_at dksX1_dropped_3 5 rfl rfl)
theorem dX1_dropped_76 : decode cX1_dropped 76 = .ok (.istore_n 3, 1) := dk_62 (dk_at dksX1_dropped_3 6 rfl rfl)
theorem dX1_dropped_77 : decode cX1_dropped 77 = .ok (.iinc 4 1, 3) := dk_132 4 1 (dk_at dksX1_dropped_3 7 rfl rfl)
theorem dX1_dropped_80 : decode cX1_dropped 80 = .ok (.goto (-51), 3) := dk_167 255 205 (dk_at dksX1_dropped_3 10 rfl rfl)
theorem dX1_dropped_83 : decode cX1_dropped 83 = .ok (.iload_n 3, 1) := dk_29 (dk_at dksX1_dropped_3 13 rfl rfl)
theorem dX1_dropped_84 : decode cX1_dropped 84 = .ok (.ireturn, 1) := dk_172 (dk_at dksX1_dropped_3 14 rfl rfl)
abbrev cX1_limps : ByteArray := prog_1_method_55_code
def yX1_limps : MethodName := ⟨RX1, "limps", "(I)I"⟩
def dkwX1_limps_2 : List UInt8 := [3, 128, 61, 42, 89, 180, 0, 114, 4, 96, 181, 0, 114, 167, 255, 213, 42, 2, 181, 0, 72, 28, 172]
abbrev dktX1_limps_2 : List UInt8 := dkwX1_limps_2 ++ []
def dkwX1_limps_1 : List UInt8 := [162, 0, 40, 28, 42, 182, 1, 103, 42, 180, 0, 104, 160, 0, 12, 4, 42, 180, 0, 114, 120, 167, 0, 4]
abbrev dktX1_limps_1 : List UInt8 := dkwX1_limps_1 ++ dktX1_limps_2
def dkwX1_limps_0 : List UInt8 := [42, 27, 182, 0, 217, 3, 61, 42, 27, 181, 0, 72, 42, 3, 181, 0, 114, 42, 180, 0, 114, 16, 10]
abbrev dktX1_limps_0 : List UInt8 := dkwX1_limps_0 ++ dktX1_limps_1
theorem dksX1_limps_0 : cX1_limps.data.toList.drop 0 = dktX1_limps_0 := by decide +kernel
theorem dksX1_limps_1 : cX1_limps.data.toList.drop 23 = dktX1_limps_1 := dk_seg dksX1_limps_0 23 rfl rfl
theorem dksX1_limps_2 : cX1_limps.data.toList.drop 47 = dktX1_limps_2 := dk_seg dksX1_limps_1 24 rfl rfl
theorem dX1_limps_0 : decode cX1_limps 0 = .ok (.aload_n 0, 1) := dk_42 (dk_at dksX1_limps_0 0 rfl rfl)
theorem dX1_limps_1 : decode cX1_limps 1 = .ok (.iload_n 1, 1) := dk_27 (dk_at dksX1_limps_0 1 rfl rfl)
theorem dX1_limps_2 : decode cX1_limps 2 = .ok (.invokevirtual 217, 3) := dk_182 0 217 (dk_at dksX1_limps_0 2 rfl rfl)
theorem dX1_limps_5 : decode cX1_limps 5 = .ok (.iconst 0, 1) := dk_3 (dk_at dksX1_limps_0 5 rfl rfl)
theorem dX1_limps_6 : decode cX1_limps 6 = .ok (.istore_n 2, 1) := dk_61 (dk_at dksX1_limps_0 6 rfl rfl)
theorem dX1_limps_7 : decode cX1_limps 7 = .ok (.aload_n 0, 1) := dk_42 (dk_at dksX1_limps_0 7 rfl rfl)
theorem dX1_limps_8 : decode cX1_limps 8 = .ok (.iload_n 1, 1) := dk_27 (dk_at dksX1_limps_0 8 rfl rfl)
theorem dX1_limps_9 : decode cX1_limps 9 = .ok (.putfield 72, 3) := dk_181 0 72 (dk_at dksX1_limps_0 9 rfl rfl)
theorem dX1_limps_12 : decode cX1_limps 12 = .ok (.aload_n 0, 1) := dk_42 (dk_at dksX1_limps_0 12 rfl rfl)
theorem dX1_limps_13 : decode cX1_limps 13 = .ok (.iconst 0, 1) := dk_3 (dk_at dksX1_limps_0 13 rfl rfl)
theorem dX1_limps_14 : decode cX1_limps 14 = .ok (.putfield 114, 3) := dk_181 0 114 (dk_at dksX1_limps_0 14 rfl rfl)
theorem dX1_limps_17 : decode cX1_limps 17 = .ok (.aload_n 0, 1) := dk_42 (dk_at dksX1_limps_0 17 rfl rfl)
theorem dX1_limps_18 : decode cX1_limps 18 = .ok (.getfield 114, 3) := dk_180 0 114 (dk_at dksX1_limps_0 18 rfl rfl)
theorem dX1_limps_21 : decode cX1_limps 21 = .ok (.bipush 10, 2) := dk_16 10 (dk_at dksX1_limps_0 21 rfl rfl)
theorem dX1_limps_23 : decode cX1_limps 23 = .ok (.if_icmp .ge 40, 3) := dk_162 0 40 (dk_at dksX1_limps_1 0 rfl rfl)
theorem dX1_limps_26 : decode cX1_limps 26 = .ok (.iload_n 2, 1) := dk_28 (dk_at dksX1_limps_1 3 rfl rfl)
theorem dX1_limps_27 : decode cX1_limps 27 = .ok (.aload_n 0, 1) := dk_42 (dk_at dksX1_limps_1 4 rfl rfl)
theorem dX1_limps_28 : decode cX1_limps 28 = .ok (.invokevirtual 359, 3) := dk_182 1 103 (dk_at dksX1_limps_1 5 rfl rfl)
theorem dX1_limps_31 : decode cX1_limps 31 = .ok (.aload_n 0, 1) := dk_42 (dk_at dksX1_limps_1 8 rfl rfl)
theorem dX1_limps_32 : decode cX1_limps 32 = .ok (.getfield 104, 3) := dk_180 0 104 (dk_at dksX1_limps_1 9 rfl rfl)
theorem dX1_limps_35 : decode cX1_limps 35 = .ok (.if_icmp .ne 12, 3) := dk_160 0 12 (dk_at dksX1_limps_1 12 rfl rfl)
theorem dX1_limps_38 : decode cX1_limps 38 = .ok (.iconst 1, 1) := dk_4 (dk_at dksX1_limps_1 15 rfl rfl)
theorem dX1_limps_39 : decode cX1_limps 39 = .ok (.aload_n 0, 1) := dk_42 (dk_at dksX1_limps_1 16 rfl rfl)
theorem dX1_limps_40 : decode cX1_limps 40 = .ok (.getfield 114, 3) := dk_180 0 114 (dk_at dksX1_limps_1 17 rfl rfl)
theorem dX1_limps_43 : decode cX1_limps 43 = .ok (.ishl, 1) := dk_120 (dk_at dksX1_limps_1 20 rfl rfl)
theorem dX1_limps_44 : decode cX1_limps 44 = .ok (.goto 4, 3) := dk_167 0 4 (dk_at dksX1_limps_1 21 rfl rfl)
theorem dX1_limps_47 : decode cX1_limps 47 = .ok (.iconst 0, 1) := dk_3 (dk_at dksX1_limps_2 0 rfl rfl)
theorem dX1_limps_48 : decode cX1_limps 48 = .ok (.ior, 1) := dk_128 (dk_at dksX1_limps_2 1 rfl rfl)
theorem dX1_limps_49 : decode cX1_limps 49 = .ok (.istore_n 2, 1) := dk_61 (dk_at dksX1_limps_2 2 rfl rfl)
theorem dX1_limps_50 : decode cX1_limps 50 = .ok (.aload_n 0, 1) := dk_42 (dk_at dksX1_limps_2 3 rfl rfl)
theorem dX1_limps_51 : decode cX1_limps 51 = .ok (.dup, 1) := dk_89 (dk_at dksX1_limps_2 4 rfl rfl)
theorem dX1_limps_52 : decode cX1_limps 52 = .ok (.getfield 114, 3) := dk_180 0 114 (dk_at dksX1_limps_2 5 rfl rfl)
theorem dX1_limps_55 : decode cX1_limps 55 = .ok (.iconst 1, 1) := dk_4 (dk_at dksX1_limps_2 8 rfl rfl)
theorem dX1_limps_56 : decode cX1_limps 56 = .ok (.iadd, 1) := dk_96 (dk_at dksX1_limps_2 9 rfl rfl)
theorem dX1_limps_57 : decode cX1_limps 57 = .ok (.putfield 114, 3) := dk_181 0 114 (dk_at dksX1_limps_2 10 rfl rfl)
theorem dX1_limps_60 : decode cX1_limps 60 = .ok (.goto (-43), 3) := dk_167 255 213 (dk_at dksX1_limps_2 13 rfl rfl)
theorem dX1_limps_63 : decode cX1_limps 63 = .ok (.aload_n 0, 1) := dk_42 (dk_at dksX1_limps_2 16 rfl rfl)
theorem dX1_limps_64 : decode cX1_limps 64 = .ok (.iconst (-1), 1) := dk_2 (dk_at dksX1_limps_2 17 rfl rfl)
theorem dX1_limps_65 : decode cX1_limps 65 = .ok (.putfield 72, 3) := dk_181 0 72 (dk_at dksX1_limps_2 18 rfl rfl)
theorem dX1_limps_68 : decode cX1_limps 68 = .ok (.iload_n 2, 1) := dk_28 (dk_at dksX1_limps_2 21 rfl rfl)
theorem dX1_limps_69 : decode cX1_limps 69 = .ok (.ireturn, 1) := dk_172 (dk_at dksX1_limps_2 22 rfl rfl)
abbrev cX1_night : ByteArray := prog_1_method_59_code
def yX1_night : MethodName := ⟨RX1, "night", "(I)I"⟩
def dkwX1_night_0 : List UInt8 := [42, 27, 182, 0, 217, 42, 182, 1, 109, 87, 42, 180, 0, 92, 27, 46, 172]
abbrev dktX1_night_0 : List UInt8 := dkwX1_night_0 ++ []
theorem dksX1_night_0 : cX1_night.data.toList.drop 0 = dktX1_night_0 := by decide +kernel
theorem dX1_night_0 : decode cX1_night 0 = .ok (.aload_n 0, 1) := dk_42 (dk_at dksX1_night_0 0 rfl rfl)
theorem dX1_night_1 : decode cX1_night 1 = .ok (.iload_n 1, 1) := dk_27 (dk_at dksX1_night_0 1 rfl rfl)
theorem dX1_night_2 : decode cX1_night 2 = .ok (.invokevirtual 217, 3) := dk_182 0 217 (dk_at dksX1_night_0 2 rfl rfl)
theorem dX1_night_5 : decode cX1_night 5 = .ok (.aload_n 0, 1) := dk_42 (dk_at dksX1_night_0 5 rfl rfl)
theorem dX1_night_6 : decode cX1_night 6 = .ok (.invokevirtual 365, 3) := dk_182 1 109 (dk_at dksX1_night_0 6 rfl rfl)
theorem dX1_night_9 : decode cX1_night 9 = .ok (.pop, 1) := dk_87 (dk_at dksX1_night_0 9 rfl rfl)
theorem dX1_night_10 : decode cX1_night 10 = .ok (.aload_n 0, 1) := dk_42 (dk_at dksX1_night_0 10 rfl rfl)
theorem dX1_night_11 : decode cX1_night 11 = .ok (.getfield 92, 3) := dk_180 0 92 (dk_at dksX1_night_0 11 rfl rfl)
theorem dX1_night_14 : decode cX1_night 14 = .ok (.iload_n 1, 1) := dk_27 (dk_at dksX1_night_0 14 rfl rfl)
theorem dX1_night_15 : decode cX1_night 15 = .ok (.iaload, 1) := dk_46 (dk_at dksX1_night_0 15 rfl rfl)
theorem dX1_night_16 : decode cX1_night 16 = .ok (.ireturn, 1) := dk_172 (dk_at dksX1_night_0 16 rfl rfl)
abbrev cX1_fair : ByteArray := prog_1_method_60_code
def yX1_fair : MethodName := ⟨RX1, "fair", "(I)I"⟩
def dkwX1_fair_6 : List UInt8 := [132, 3, 1, 167, 255, 151, 28, 172]
abbrev dktX1_fair_6 : List UInt8 := dkwX1_fair_6 ++ []
def dkwX1_fair_5 : List UInt8 := [167, 255, 193, 28, 3, 21, 4, 42, 180, 0, 58, 180, 0, 198, 29, 46, 100, 184, 0, 232, 96, 61]
abbrev dktX1_fair_5 : List UInt8 := dkwX1_fair_5 ++ dktX1_fair_6
def dkwX1_fair_4 : List UInt8 := [160, 0, 15, 42, 21, 5, 182, 1, 9, 180, 1, 13, 167, 0, 4, 3, 96, 54, 4, 132, 5, 1]
abbrev dktX1_fair_4 : List UInt8 := dkwX1_fair_4 ++ dktX1_fair_5
def dkwX1_fair_3 : List UInt8 := [21, 5, 122, 4, 126, 4, 160, 0, 32, 42, 21, 5, 182, 1, 9, 180, 1, 16, 29, 122, 4, 126, 4]
abbrev dktX1_fair_3 : List UInt8 := dkwX1_fair_3 ++ dktX1_fair_4
def dkwX1_fair_2 : List UInt8 := [54, 4, 3, 54, 5, 21, 5, 42, 180, 0, 31, 180, 0, 136, 182, 0, 140, 162, 0, 54, 21, 4, 27]
abbrev dktX1_fair_2 : List UInt8 := dkwX1_fair_2 ++ dktX1_fair_3
def dkwX1_fair_1 : List UInt8 := [167, 0, 4, 3, 182, 0, 160, 3, 61, 3, 62, 29, 42, 180, 0, 31, 180, 0, 133, 162, 0, 100, 3]
abbrev dktX1_fair_1 : List UInt8 := dkwX1_fair_1 ++ dktX1_fair_2
def dkwX1_fair_0 : List UInt8 := [42, 27, 155, 0, 23, 27, 4, 42, 180, 0, 31, 180, 0, 136, 182, 0, 140, 120, 162, 0, 7, 4]
abbrev dktX1_fair_0 : List UInt8 := dkwX1_fair_0 ++ dktX1_fair_1
theorem dksX1_fair_0 : cX1_fair.data.toList.drop 0 = dktX1_fair_0 := by decide +kernel
theorem dksX1_fair_1 : cX1_fair.data.toList.drop 22 = dktX1_fair_1 := dk_seg dksX1_fair_0 22 rfl rfl
theorem dksX1_fair_2 : cX1_fair.data.toList.drop 45 = dktX1_fair_2 := dk_seg dksX1_fair_1 23 rfl rfl
theorem dksX1_fair_3 : cX1_fair.data.toList.drop 68 = dktX1_fair_3 := dk_seg dksX1_fair_2 23 rfl rfl
theorem dksX1_fair_4 : cX1_fair.data.toList.drop 91 = dktX1_fair_4 := dk_seg dksX1_fair_3 23 rfl rfl
theorem dksX1_fair_5 : cX1_fair.data.toList.drop 113 = dktX1_fair_5 := dk_seg dksX1_fair_4 22 rfl rfl
theorem dksX1_fair_6 : cX1_fair.data.toList.drop 135 = dktX1_fair_6 := dk_seg dksX1_fair_5 22 rfl rfl
theorem dX1_fair_0 : decode cX1_fair 0 = .ok (.aload_n 0, 1) := dk_42 (dk_at dksX1_fair_0 0 rfl rfl)
theorem dX1_fair_1 : decode cX1_fair 1 = .ok (.iload_n 1, 1) := dk_27 (dk_at dksX1_fair_0 1 rfl rfl)
theorem dX1_fair_2 : decode cX1_fair 2 = .ok (.ifCond .lt 23, 3) := dk_155 0 23 (dk_at dksX1_fair_0 2 rfl rfl)
theorem dX1_fair_5 : decode cX1_fair 5 = .ok (.iload_n 1, 1) := dk_27 (dk_at dksX1_fair_0 5 rfl rfl)
theorem dX1_fair_6 : decode cX1_fair 6 = .ok (.iconst 1, 1) := dk_4 (dk_at dksX1_fair_0 6 rfl rfl)
theorem dX1_fair_7 : decode cX1_fair 7 = .ok (.aload_n 0, 1) := dk_42 (dk_at dksX1_fair_0 7 rfl rfl)
theorem dX1_fair_8 : decode cX1_fair 8 = .ok (.getfield 31, 3) := dk_180 0 31 (dk_at dksX1_fair_0 8 rfl rfl)
theorem dX1_fair_11 : decode cX1_fair 11 = .ok (.getfield 136, 3) := dk_180 0 136 (dk_at dksX1_fair_0 11 rfl rfl)
theorem dX1_fair_14 : decode cX1_fair 14 = .ok (.invokevirtual 140, 3) := dk_182 0 140 (dk_at dksX1_fair_0 14 rfl rfl)
theorem dX1_fair_17 : decode cX1_fair 17 = .ok (.ishl, 1) := dk_120 (dk_at dksX1_fair_0 17 rfl rfl)
theorem dX1_fair_18 : decode cX1_fair 18 = .ok (.if_icmp .ge 7, 3) := dk_162 0 7 (dk_at dksX1_fair_0 18 rfl rfl)
theorem dX1_fair_21 : decode cX1_fair 21 = .ok (.iconst 1, 1) := dk_4 (dk_at dksX1_fair_0 21 rfl rfl)
theorem dX1_fair_22 : decode cX1_fair 22 = .ok (.goto 4, 3) := dk_167 0 4 (dk_at dksX1_fair_1 0 rfl rfl)
theorem dX1_fair_25 : decode cX1_fair 25 = .ok (.iconst 0, 1) := dk_3 (dk_at dksX1_fair_1 3 rfl rfl)
theorem dX1_fair_26 : decode cX1_fair 26 = .ok (.invokevirtual 160, 3) := dk_182 0 160 (dk_at dksX1_fair_1 4 rfl rfl)
theorem dX1_fair_29 : decode cX1_fair 29 = .ok (.iconst 0, 1) := dk_3 (dk_at dksX1_fair_1 7 rfl rfl)
theorem dX1_fair_30 : decode cX1_fair 30 = .ok (.istore_n 2, 1) := dk_61 (dk_at dksX1_fair_1 8 rfl rfl)
theorem dX1_fair_31 : decode cX1_fair 31 = .ok (.iconst 0, 1) := dk_3 (dk_at dksX1_fair_1 9 rfl rfl)
theorem dX1_fair_32 : decode cX1_fair 32 = .ok (.istore_n 3, 1) := dk_62 (dk_at dksX1_fair_1 10 rfl rfl)
theorem dX1_fair_33 : decode cX1_fair 33 = .ok (.iload_n 3, 1) := dk_29 (dk_at dksX1_fair_1 11 rfl rfl)
theorem dX1_fair_34 : decode cX1_fair 34 = .ok (.aload_n 0, 1) := dk_42 (dk_at dksX1_fair_1 12 rfl rfl)
theorem dX1_fair_35 : decode cX1_fair 35 = .ok (.getfield 31, 3) := dk_180 0 31 (dk_at dksX1_fair_1 13 rfl rfl)
theorem dX1_fair_38 : decode cX1_fair 38 = .ok (.getfield 133, 3) := dk_180 0 133 (dk_at dksX1_fair_1 16 rfl rfl)
theorem dX1_fair_41 : decode cX1_fair 41 = .ok (.if_icmp .ge 100, 3) := dk_162 0 100 (dk_at dksX1_fair_1 19 rfl rfl)
theorem dX1_fair_44 : decode cX1_fair 44 = .ok (.iconst 0, 1) := dk_3 (dk_at dksX1_fair_1 22 rfl rfl)
theorem dX1_fair_45 : decode cX1_fair 45 = .ok (.istore 4, 2) := dk_54 4 (dk_at dksX1_fair_2 0 rfl rfl)
theorem dX1_fair_47 : decode cX1_fair 47 = .ok (.iconst 0, 1) := dk_3 (dk_at dksX1_fair_2 2 rfl rfl)
theorem dX1_fair_48 : decode cX1_fair 48 = .ok (.istore 5, 2) := dk_54 5 (dk_at dksX1_fair_2 3 rfl rfl)
theorem dX1_fair_50 : decode cX1_fair 50 = .ok (.iload 5, 2) := dk_21 5 (dk_at dksX1_fair_2 5 rfl rfl)
theorem dX1_fair_52 : decode cX1_fair 52 = .ok (.aload_n 0, 1) := dk_42 (dk_at dksX1_fair_2 7 rfl rfl)
theorem dX1_fair_53 : decode cX1_fair 53 = .ok (.getfield 31, 3) := dk_180 0 31 (dk_at dksX1_fair_2 8 rfl rfl)
theorem dX1_fair_56 : decode cX1_fair 56 = .ok (.getfield 136, 3) := dk_180 0 136 (dk_at dksX1_fair_2 11 rfl rfl)
theorem dX1_fair_59 : decode cX1_fair 59 = .ok (.invokevirtual 140, 3) := dk_182 0 140 (dk_at dksX1_fair_2 14 rfl rfl)
theorem dX1_fair_62 : decode cX1_fair 62 = .ok (.if_icmp .ge 54, 3) := dk_162 0 54 (dk_at dksX1_fair_2 17 rfl rfl)
theorem dX1_fair_65 : decode cX1_fair 65 = .ok (.iload 4, 2) := dk_21 4 (dk_at dksX1_fair_2 20 rfl rfl)
theorem dX1_fair_67 : decode cX1_fair 67 = .ok (.iload_n 1, 1) := dk_27 (dk_at dksX1_fair_2 22 rfl rfl)
theorem dX1_fair_68 : decode cX1_fair 68 = .ok (.iload 5, 2) := dk_21 5 (dk_at dksX1_fair_3 0 rfl rfl)
theorem dX1_fair_70 : decode cX1_fair 70 = .ok (.ishr, 1) := dk_122 (dk_at dksX1_fair_3 2 rfl rfl)
theorem dX1_fair_71 : decode cX1_fair 71 = .ok (.iconst 1, 1) := dk_4 (dk_at dksX1_fair_3 3 rfl rfl)
theorem dX1_fair_72 : decode cX1_fair 72 = .ok (.iand, 1) := dk_126 (dk_at dksX1_fair_3 4 rfl rfl)
theorem dX1_fair_73 : decode cX1_fair 73 = .ok (.iconst 1, 1) := dk_4 (dk_at dksX1_fair_3 5 rfl rfl)
theorem dX1_fair_74 : decode cX1_fair 74 = .ok (.if_icmp .ne 32, 3) := dk_160 0 32 (dk_at dksX1_fair_3 6 rfl rfl)
theorem dX1_fair_77 : decode cX1_fair 77 = .ok (.aload_n 0, 1) := dk_42 (dk_at dksX1_fair_3 9 rfl rfl)
theorem dX1_fair_78 : decode cX1_fair 78 = .ok (.iload 5, 2) := dk_21 5 (dk_at dksX1_fair_3 10 rfl rfl)
theorem dX1_fair_80 : decode cX1_fair 80 = .ok (.invokevirtual 265, 3) := dk_182 1 9 (dk_at dksX1_fair_3 12 rfl rfl)
theorem dX1_fair_83 : decode cX1_fair 83 = .ok (.getfield 272, 3) := dk_180 1 16 (dk_at dksX1_fair_3 15 rfl rfl)
theorem dX1_fair_86 : decode cX1_fair 86 = .ok (.iload_n 3, 1) := dk_29 (dk_at dksX1_fair_3 18 rfl rfl)
theorem dX1_fair_87 : decode cX1_fair 87 = .ok (.ishr, 1) := dk_122 (dk_at dksX1_fair_3 19 rfl rfl)
theorem dX1_fair_88 : decode cX1_fair 88 = .ok (.iconst 1, 1) := dk_4 (dk_at dksX1_fair_3 20 rfl rfl)
theorem dX1_fair_89 : decode cX1_fair 89 = .ok (.iand, 1) := dk_126 (dk_at dksX1_fair_3 21 rfl rfl)
theorem dX1_fair_90 : decode cX1_fair 90 = .ok (.iconst 1, 1) := dk_4 (dk_at dksX1_fair_3 22 rfl rfl)
theorem dX1_fair_91 : decode cX1_fair 91 = .ok (.if_icmp .ne 15, 3) := dk_160 0 15 (dk_at dksX1_fair_4 0 rfl rfl)
theorem dX1_fair_94 : decode cX1_fair 94 = .ok (.aload_n 0, 1) := dk_42 (dk_at dksX1_fair_4 3 rfl rfl)
theorem dX1_fair_95 : decode cX1_fair 95 = .ok (.iload 5, 2) := dk_21 5 (dk_at dksX1_fair_4 4 rfl rfl)
theorem dX1_fair_97 : decode cX1_fair 97 = .ok (.invokevirtual 265, 3) := dk_182 1 9 (dk_at dksX1_fair_4 6 rfl rfl)
theorem dX1_fair_100 : decode cX1_fair 100 = .ok (.getfield 269, 3) := dk_180 1 13 (dk_at dksX1_fair_4 9 rfl rfl)
theorem dX1_fair_103 : decode cX1_fair 103 = .ok (.goto 4, 3) := dk_167 0 4 (dk_at dksX1_fair_4 12 rfl rfl)
theorem dX1_fair_106 : decode cX1_fair 106 = .ok (.iconst 0, 1) := dk_3 (dk_at dksX1_fair_4 15 rfl rfl)
theorem dX1_fair_107 : decode cX1_fair 107 = .ok (.iadd, 1) := dk_96 (dk_at dksX1_fair_4 16 rfl rfl)
theorem dX1_fair_108 : decode cX1_fair 108 = .ok (.istore 4, 2) := dk_54 4 (dk_at dksX1_fair_4 17 rfl rfl)
theorem dX1_fair_110 : decode cX1_fair 110 = .ok (.iinc 5 1, 3) := dk_132 5 1 (dk_at dksX1_fair_4 19 rfl rfl)
theorem dX1_fair_113 : decode cX1_fair 113 = .ok (.goto (-63), 3) := dk_167 255 193 (dk_at dksX1_fair_5 0 rfl rfl)
theorem dX1_fair_116 : decode cX1_fair 116 = .ok (.iload_n 2, 1) := dk_28 (dk_at dksX1_fair_5 3 rfl rfl)
theorem dX1_fair_117 : decode cX1_fair 117 = .ok (.iconst 0, 1) := dk_3 (dk_at dksX1_fair_5 4 rfl rfl)
theorem dX1_fair_118 : decode cX1_fair 118 = .ok (.iload 4, 2) := dk_21 4 (dk_at dksX1_fair_5 5 rfl rfl)
theorem dX1_fair_120 : decode cX1_fair 120 = .ok (.aload_n 0, 1) := dk_42 (dk_at dksX1_fair_5 7 rfl rfl)
theorem dX1_fair_121 : decode cX1_fair 121 = .ok (.getfield 58, 3) := dk_180 0 58 (dk_at dksX1_fair_5 8 rfl rfl)
theorem dX1_fair_124 : decode cX1_fair 124 = .ok (.getfield 198, 3) := dk_180 0 198 (dk_at dksX1_fair_5 11 rfl rfl)
theorem dX1_fair_127 : decode cX1_fair 127 = .ok (.iload_n 3, 1) := dk_29 (dk_at dksX1_fair_5 14 rfl rfl)
theorem dX1_fair_128 : decode cX1_fair 128 = .ok (.iaload, 1) := dk_46 (dk_at dksX1_fair_5 15 rfl rfl)
theorem dX1_fair_129 : decode cX1_fair 129 = .ok (.isub, 1) := dk_100 (dk_at dksX1_fair_5 16 rfl rfl)
theorem dX1_fair_130 : decode cX1_fair 130 = .ok (.invokestatic 232, 3) := dk_184 0 232 (dk_at dksX1_fair_5 17 rfl rfl)
theorem dX1_fair_133 : decode cX1_fair 133 = .ok (.iadd, 1) := dk_96 (dk_at dksX1_fair_5 20 rfl rfl)
theorem dX1_fair_134 : decode cX1_fair 134 = .ok (.istore_n 2, 1) := dk_61 (dk_at dksX1_fair_5 21 rfl rfl)
theorem dX1_fair_135 : decode cX1_fair 135 = .ok (.iinc 3 1, 3) := dk_132 3 1 (dk_at dksX1_fair_6 0 rfl rfl)
theorem dX1_fair_138 : decode cX1_fair 138 = .ok (.goto (-105), 3) := dk_167 255 151 (dk_at dksX1_fair_6 3 rfl rfl)
theorem dX1_fair_141 : decode cX1_fair 141 = .ok (.iload_n 2, 1) := dk_28 (dk_at dksX1_fair_6 6 rfl rfl)
theorem dX1_fair_142 : decode cX1_fair 142 = .ok (.ireturn, 1) := dk_172 (dk_at dksX1_fair_6 7 rfl rfl)
abbrev cX1_gets : ByteArray := prog_1_method_63_code
def yX1_gets : MethodName := ⟨RX1, "gets", "(III)I"⟩
def dkwX1_gets_4 : List UInt8 := [21, 4, 21, 6, 184, 1, 32, 172]
abbrev dktX1_gets_4 : List UInt8 := dkwX1_gets_4 ++ []
def dkwX1_gets_3 : List UInt8 := [108, 172, 3, 54, 6, 42, 21, 6, 4, 96, 182, 1, 115, 28, 163, 0, 9, 132, 6, 1, 167, 255, 241]
abbrev dktX1_gets_3 : List UInt8 := dkwX1_gets_3 ++ dktX1_gets_4
def dkwX1_gets_2 : List UInt8 := [182, 1, 115, 54, 5, 28, 21, 5, 161, 0, 6, 21, 4, 172, 29, 154, 0, 11, 28, 21, 4, 104, 21, 5]
abbrev dktX1_gets_2 : List UInt8 := dkwX1_gets_2 ++ dktX1_gets_3
def dkwX1_gets_1 : List UInt8 := [160, 0, 7, 4, 167, 0, 4, 3, 182, 0, 160, 42, 27, 182, 1, 112, 54, 4, 42, 17, 3, 231]
abbrev dktX1_gets_1 : List UInt8 := dkwX1_gets_1 ++ dktX1_gets_2
def dkwX1_gets_0 : List UInt8 := [42, 27, 182, 0, 217, 42, 28, 155, 0, 23, 28, 17, 3, 231, 163, 0, 16, 29, 153, 0, 8, 29, 4]
abbrev dktX1_gets_0 : List UInt8 := dkwX1_gets_0 ++ dktX1_gets_1
theorem dksX1_gets_0 : cX1_gets.data.toList.drop 0 = dktX1_gets_0 := by decide +kernel
theorem dksX1_gets_1 : cX1_gets.data.toList.drop 23 = dktX1_gets_1 := dk_seg dksX1_gets_0 23 rfl rfl
theorem dksX1_gets_2 : cX1_gets.data.toList.drop 45 = dktX1_gets_2 := dk_seg dksX1_gets_1 22 rfl rfl
theorem dksX1_gets_3 : cX1_gets.data.toList.drop 69 = dktX1_gets_3 := dk_seg dksX1_gets_2 24 rfl rfl
theorem dksX1_gets_4 : cX1_gets.data.toList.drop 92 = dktX1_gets_4 := dk_seg dksX1_gets_3 23 rfl rfl
theorem dX1_gets_0 : decode cX1_gets 0 = .ok (.aload_n 0, 1) := dk_42 (dk_at dksX1_gets_0 0 rfl rfl)
theorem dX1_gets_1 : decode cX1_gets 1 = .ok (.iload_n 1, 1) := dk_27 (dk_at dksX1_gets_0 1 rfl rfl)
theorem dX1_gets_2 : decode cX1_gets 2 = .ok (.invokevirtual 217, 3) := dk_182 0 217 (dk_at dksX1_gets_0 2 rfl rfl)
theorem dX1_gets_5 : decode cX1_gets 5 = .ok (.aload_n 0, 1) := dk_42 (dk_at dksX1_gets_0 5 rfl rfl)
theorem dX1_gets_6 : decode cX1_gets 6 = .ok (.iload_n 2, 1) := dk_28 (dk_at dksX1_gets_0 6 rfl rfl)
theorem dX1_gets_7 : decode cX1_gets 7 = .ok (.ifCond .lt 23, 3) := dk_155 0 23 (dk_at dksX1_gets_0 7 rfl rfl)
theorem dX1_gets_10 : decode cX1_gets 10 = .ok (.iload_n 2, 1) := dk_28 (dk_at dksX1_gets_0 10 rfl rfl)
theorem dX1_gets_11 : decode cX1_gets 11 = .ok (.sipush 999, 3) := dk_17 3 231 (dk_at dksX1_gets_0 11 rfl rfl)
theorem dX1_gets_14 : decode cX1_gets 14 = .ok (.if_icmp .gt 16, 3) := dk_163 0 16 (dk_at dksX1_gets_0 14 rfl rfl)
theorem dX1_gets_17 : decode cX1_gets 17 = .ok (.iload_n 3, 1) := dk_29 (dk_at dksX1_gets_0 17 rfl rfl)
theorem dX1_gets_18 : decode cX1_gets 18 = .ok (.ifCond .eq 8, 3) := dk_153 0 8 (dk_at dksX1_gets_0 18 rfl rfl)
theorem dX1_gets_21 : decode cX1_gets 21 = .ok (.iload_n 3, 1) := dk_29 (dk_at dksX1_gets_0 21 rfl rfl)
theorem dX1_gets_22 : decode cX1_gets 22 = .ok (.iconst 1, 1) := dk_4 (dk_at dksX1_gets_0 22 rfl rfl)
theorem dX1_gets_23 : decode cX1_gets 23 = .ok (.if_icmp .ne 7, 3) := dk_160 0 7 (dk_at dksX1_gets_1 0 rfl rfl)
theorem dX1_gets_26 : decode cX1_gets 26 = .ok (.iconst 1, 1) := dk_4 (dk_at dksX1_gets_1 3 rfl rfl)
theorem dX1_gets_27 : decode cX1_gets 27 = .ok (.goto 4, 3) := dk_167 0 4 (dk_at dksX1_gets_1 4 rfl rfl)
theorem dX1_gets_30 : decode cX1_gets 30 = .ok (.iconst 0, 1) := dk_3 (dk_at dksX1_gets_1 7 rfl rfl)
theorem dX1_gets_31 : decode cX1_gets 31 = .ok (.invokevirtual 160, 3) := dk_182 0 160 (dk_at dksX1_gets_1 8 rfl rfl)
theorem dX1_gets_34 : decode cX1_gets 34 = .ok (.aload_n 0, 1) := dk_42 (dk_at dksX1_gets_1 11 rfl rfl)
theorem dX1_gets_35 : decode cX1_gets 35 = .ok (.iload_n 1, 1) := dk_27 (dk_at dksX1_gets_1 12 rfl rfl)
theorem dX1_gets_36 : decode cX1_gets 36 = .ok (.invokevirtual 368, 3) := dk_182 1 112 (dk_at dksX1_gets_1 13 rfl rfl)
theorem dX1_gets_39 : decode cX1_gets 39 = .ok (.istore 4, 2) := dk_54 4 (dk_at dksX1_gets_1 16 rfl rfl)
theorem dX1_gets_41 : decode cX1_gets 41 = .ok (.aload_n 0, 1) := dk_42 (dk_at dksX1_gets_1 18 rfl rfl)
theorem dX1_gets_42 : decode cX1_gets 42 = .ok (.sipush 999, 3) := dk_17 3 231 (dk_at dksX1_gets_1 19 rfl rfl)
theorem dX1_gets_45 : decode cX1_gets 45 = .ok (.invokevirtual 371, 3) := dk_182 1 115 (dk_at dksX1_gets_2 0 rfl rfl)
theorem dX1_gets_48 : decode cX1_gets 48 = .ok (.istore 5, 2) := dk_54 5 (dk_at dksX1_gets_2 3 rfl rfl)
theorem dX1_gets_50 : decode cX1_gets 50 = .ok (.iload_n 2, 1) := dk_28 (dk_at dksX1_gets_2 5 rfl rfl)
theorem dX1_gets_51 : decode cX1_gets 51 = .ok (.iload 5, 2) := dk_21 5 (dk_at dksX1_gets_2 6 rfl rfl)
theorem dX1_gets_53 : decode cX1_gets 53 = .ok (.if_icmp .lt 6, 3) := dk_161 0 6 (dk_at dksX1_gets_2 8 rfl rfl)
theorem dX1_gets_56 : decode cX1_gets 56 = .ok (.iload 4, 2) := dk_21 4 (dk_at dksX1_gets_2 11 rfl rfl)
theorem dX1_gets_58 : decode cX1_gets 58 = .ok (.ireturn, 1) := dk_172 (dk_at dksX1_gets_2 13 rfl rfl)
theorem dX1_gets_59 : decode cX1_gets 59 = .ok (.iload_n 3, 1) := dk_29 (dk_at dksX1_gets_2 14 rfl rfl)
theorem dX1_gets_60 : decode cX1_gets 60 = .ok (.ifCond .ne 11, 3) := dk_154 0 11 (dk_at dksX1_gets_2 15 rfl rfl)
theorem dX1_gets_63 : decode cX1_gets 63 = .ok (.iload_n 2, 1) := dk_28 (dk_at dksX1_gets_2 18 rfl rfl)
theorem dX1_gets_64 : decode cX1_gets 64 = .ok (.iload 4, 2) := dk_21 4 (dk_at dksX1_gets_2 19 rfl rfl)
theorem dX1_gets_66 : decode cX1_gets 66 = .ok (.imul, 1) := dk_104 (dk_at dksX1_gets_2 21 rfl rfl)
theorem dX1_gets_67 : decode cX1_gets 67 = .ok (.iload 5, 2) := dk_21 5 (dk_at dksX1_gets_2 22 rfl rfl)
theorem dX1_gets_69 : decode cX1_gets 69 = .ok (.idiv, 1) := dk_108 (dk_at dksX1_gets_3 0 rfl rfl)
theorem dX1_gets_70 : decode cX1_gets 70 = .ok (.ireturn, 1) := dk_172 (dk_at dksX1_gets_3 1 rfl rfl)
theorem dX1_gets_71 : decode cX1_gets 71 = .ok (.iconst 0, 1) := dk_3 (dk_at dksX1_gets_3 2 rfl rfl)
theorem dX1_gets_72 : decode cX1_gets 72 = .ok (.istore 6, 2) := dk_54 6 (dk_at dksX1_gets_3 3 rfl rfl)
theorem dX1_gets_74 : decode cX1_gets 74 = .ok (.aload_n 0, 1) := dk_42 (dk_at dksX1_gets_3 5 rfl rfl)
theorem dX1_gets_75 : decode cX1_gets 75 = .ok (.iload 6, 2) := dk_21 6 (dk_at dksX1_gets_3 6 rfl rfl)
theorem dX1_gets_77 : decode cX1_gets 77 = .ok (.iconst 1, 1) := dk_4 (dk_at dksX1_gets_3 8 rfl rfl)
theorem dX1_gets_78 : decode cX1_gets 78 = .ok (.iadd, 1) := dk_96 (dk_at dksX1_gets_3 9 rfl rfl)
theorem dX1_gets_79 : decode cX1_gets 79 = .ok (.invokevirtual 371, 3) := dk_182 1 115 (dk_at dksX1_gets_3 10 rfl rfl)
theorem dX1_gets_82 : decode cX1_gets 82 = .ok (.iload_n 2, 1) := dk_28 (dk_at dksX1_gets_3 13 rfl rfl)
theorem dX1_gets_83 : decode cX1_gets 83 = .ok (.if_icmp .gt 9, 3) := dk_163 0 9 (dk_at dksX1_gets_3 14 rfl rfl)
theorem dX1_gets_86 : decode cX1_gets 86 = .ok (.iinc 6 1, 3) := dk_132 6 1 (dk_at dksX1_gets_3 17 rfl rfl)
theorem dX1_gets_89 : decode cX1_gets 89 = .ok (.goto (-15), 3) := dk_167 255 241 (dk_at dksX1_gets_3 20 rfl rfl)
theorem dX1_gets_92 : decode cX1_gets 92 = .ok (.iload 4, 2) := dk_21 4 (dk_at dksX1_gets_4 0 rfl rfl)
theorem dX1_gets_94 : decode cX1_gets 94 = .ok (.iload 6, 2) := dk_21 6 (dk_at dksX1_gets_4 2 rfl rfl)
theorem dX1_gets_96 : decode cX1_gets 96 = .ok (.invokestatic 288, 3) := dk_184 1 32 (dk_at dksX1_gets_4 4 rfl rfl)
theorem dX1_gets_99 : decode cX1_gets 99 = .ok (.ireturn, 1) := dk_172 (dk_at dksX1_gets_4 7 rfl rfl)
abbrev cX1_claimOf : ByteArray := prog_1_method_61_code
def yX1_claimOf : MethodName := ⟨RX1, "claimOf", "(I)I"⟩
def dkwX1_claimOf_2 : List UInt8 := [167, 255, 214, 28, 172]
abbrev dktX1_claimOf_2 : List UInt8 := dkwX1_claimOf_2 ++ []
def dkwX1_claimOf_1 : List UInt8 := [182, 1, 47, 153, 0, 15, 42, 180, 0, 58, 180, 0, 198, 29, 46, 167, 0, 4, 3, 96, 61, 132, 3, 1]
abbrev dktX1_claimOf_1 : List UInt8 := dkwX1_claimOf_1 ++ dktX1_claimOf_2
def dkwX1_claimOf_0 : List UInt8 := [3, 61, 3, 62, 29, 42, 180, 0, 31, 180, 0, 133, 162, 0, 37, 28, 42, 180, 0, 58, 29, 27]
abbrev dktX1_claimOf_0 : List UInt8 := dkwX1_claimOf_0 ++ dktX1_claimOf_1
theorem dksX1_claimOf_0 : cX1_claimOf.data.toList.drop 0 = dktX1_claimOf_0 := by decide +kernel
theorem dksX1_claimOf_1 : cX1_claimOf.data.toList.drop 22 = dktX1_claimOf_1 := dk_seg dksX1_claimOf_0 22 rfl rfl
theorem dksX1_claimOf_2 : cX1_claimOf.data.toList.drop 46 = dktX1_claimOf_2 := dk_seg dksX1_claimOf_1 24 rfl rfl
theorem dX1_claimOf_0 : decode cX1_claimOf 0 = .ok (.iconst 0, 1) := dk_3 (dk_at dksX1_claimOf_0 0 rfl rfl)
theorem dX1_claimOf_1 : decode cX1_claimOf 1 = .ok (.istore_n 2, 1) := dk_61 (dk_at dksX1_claimOf_0 1 rfl rfl)
theorem dX1_claimOf_2 : decode cX1_claimOf 2 = .ok (.iconst 0, 1) := dk_3 (dk_at dksX1_claimOf_0 2 rfl rfl)
theorem dX1_claimOf_3 : decode cX1_claimOf 3 = .ok (.istore_n 3, 1) := dk_62 (dk_at dksX1_claimOf_0 3 rfl rfl)
theorem dX1_claimOf_4 : decode cX1_claimOf 4 = .ok (.iload_n 3, 1) := dk_29 (dk_at dksX1_claimOf_0 4 rfl rfl)
theorem dX1_claimOf_5 : decode cX1_claimOf 5 = .ok (.aload_n 0, 1) := dk_42 (dk_at dksX1_claimOf_0 5 rfl rfl)
theorem dX1_claimOf_6 : decode cX1_claimOf 6 = .ok (.getfield 31, 3) := dk_180 0 31 (dk_at dksX1_claimOf_0 6 rfl rfl)
theorem dX1_claimOf_9 : decode cX1_claimOf 9 = .ok (.getfield 133, 3) := dk_180 0 133 (dk_at dksX1_claimOf_0 9 rfl rfl)
theorem dX1_claimOf_12 : decode cX1_claimOf 12 = .ok (.if_icmp .ge 37, 3) := dk_162 0 37 (dk_at dksX1_claimOf_0 12 rfl rfl)
theorem dX1_claimOf_15 : decode cX1_claimOf 15 = .ok (.iload_n 2, 1) := dk_28 (dk_at dksX1_claimOf_0 15 rfl rfl)
theorem dX1_claimOf_16 : decode cX1_claimOf 16 = .ok (.aload_n 0, 1) := dk_42 (dk_at dksX1_claimOf_0 16 rfl rfl)
theorem dX1_claimOf_17 : decode cX1_claimOf 17 = .ok (.getfield 58, 3) := dk_180 0 58 (dk_at dksX1_claimOf_0 17 rfl rfl)
theorem dX1_claimOf_20 : decode cX1_claimOf 20 = .ok (.iload_n 3, 1) := dk_29 (dk_at dksX1_claimOf_0 20 rfl rfl)
theorem dX1_claimOf_21 : decode cX1_claimOf 21 = .ok (.iload_n 1, 1) := dk_27 (dk_at dksX1_claimOf_0 21 rfl rfl)
theorem dX1_claimOf_22 : decode cX1_claimOf 22 = .ok (.invokevirtual 303, 3) := dk_182 1 47 (dk_at dksX1_claimOf_1 0 rfl rfl)
theorem dX1_claimOf_25 : decode cX1_claimOf 25 = .ok (.ifCond .eq 15, 3) := dk_153 0 15 (dk_at dksX1_claimOf_1 3 rfl rfl)
theorem dX1_claimOf_28 : decode cX1_claimOf 28 = .ok (.aload_n 0, 1) := dk_42 (dk_at dksX1_claimOf_1 6 rfl rfl)
theorem dX1_claimOf_29 : decode cX1_claimOf 29 = .ok (.getfield 58, 3) := dk_180 0 58 (dk_at dksX1_claimOf_1 7 rfl rfl)
theorem dX1_claimOf_32 : decode cX1_claimOf 32 = .ok (.getfield 198, 3) := dk_180 0 198 (dk_at dksX1_claimOf_1 10 rfl rfl)
theorem dX1_claimOf_35 : decode cX1_claimOf 35 = .ok (.iload_n 3, 1) := dk_29 (dk_at dksX1_claimOf_1 13 rfl rfl)
theorem dX1_claimOf_36 : decode cX1_claimOf 36 = .ok (.iaload, 1) := dk_46 (dk_at dksX1_claimOf_1 14 rfl rfl)
theorem dX1_claimOf_37 : decode cX1_claimOf 37 = .ok (.goto 4, 3) := dk_167 0 4 (dk_at dksX1_claimOf_1 15 rfl rfl)
theorem dX1_claimOf_40 : decode cX1_claimOf 40 = .ok (.iconst 0, 1) := dk_3 (dk_at dksX1_claimOf_1 18 rfl rfl)
theorem dX1_claimOf_41 : decode cX1_claimOf 41 = .ok (.iadd, 1) := dk_96 (dk_at dksX1_claimOf_1 19 rfl rfl)
theorem dX1_claimOf_42 : decode cX1_claimOf 42 = .ok (.istore_n 2, 1) := dk_61 (dk_at dksX1_claimOf_1 20 rfl rfl)
theorem dX1_claimOf_43 : decode cX1_claimOf 43 = .ok (.iinc 3 1, 3) := dk_132 3 1 (dk_at dksX1_claimOf_1 21 rfl rfl)
theorem dX1_claimOf_46 : decode cX1_claimOf 46 = .ok (.goto (-42), 3) := dk_167 255 214 (dk_at dksX1_claimOf_2 0 rfl rfl)
theorem dX1_claimOf_49 : decode cX1_claimOf 49 = .ok (.iload_n 2, 1) := dk_28 (dk_at dksX1_claimOf_2 3 rfl rfl)
theorem dX1_claimOf_50 : decode cX1_claimOf 50 = .ok (.ireturn, 1) := dk_172 (dk_at dksX1_claimOf_2 4 rfl rfl)
abbrev cX1_levelled : ByteArray := prog_1_method_62_code
def yX1_levelled : MethodName := ⟨RX1, "levelled", "(I)I"⟩
def dkwX1_levelled_1 : List UInt8 := [184, 1, 32, 96, 61, 132, 3, 1, 167, 255, 230, 28, 172]
abbrev dktX1_levelled_1 : List UInt8 := dkwX1_levelled_1 ++ []
def dkwX1_levelled_0 : List UInt8 := [3, 61, 3, 62, 29, 42, 180, 0, 31, 180, 0, 126, 162, 0, 21, 28, 42, 29, 182, 1, 112, 27]
abbrev dktX1_levelled_0 : List UInt8 := dkwX1_levelled_0 ++ dktX1_levelled_1
theorem dksX1_levelled_0 : cX1_levelled.data.toList.drop 0 = dktX1_levelled_0 := by decide +kernel
theorem dksX1_levelled_1 : cX1_levelled.data.toList.drop 22 = dktX1_levelled_1 := dk_seg dksX1_levelled_0 22 rfl rfl
theorem dX1_levelled_0 : decode cX1_levelled 0 = .ok (.iconst 0, 1) := dk_3 (dk_at dksX1_levelled_0 0 rfl rfl)
theorem dX1_levelled_1 : decode cX1_levelled 1 = .ok (.istore_n 2, 1) := dk_61 (dk_at dksX1_levelled_0 1 rfl rfl)
theorem dX1_levelled_2 : decode cX1_levelled 2 = .ok (.iconst 0, 1) := dk_3 (dk_at dksX1_levelled_0 2 rfl rfl)
theorem dX1_levelled_3 : decode cX1_levelled 3 = .ok (.istore_n 3, 1) := dk_62 (dk_at dksX1_levelled_0 3 rfl rfl)
theorem dX1_levelled_4 : decode cX1_levelled 4 = .ok (.iload_n 3, 1) := dk_29 (dk_at dksX1_levelled_0 4 rfl rfl)
theorem dX1_levelled_5 : decode cX1_levelled 5 = .ok (.aload_n 0, 1) := dk_42 (dk_at dksX1_levelled_0 5 rfl rfl)
theorem dX1_levelled_6 : decode cX1_levelled 6 = .ok (.getfield 31, 3) := dk_180 0 31 (dk_at dksX1_levelled_0 6 rfl rfl)
theorem dX1_levelled_9 : decode cX1_levelled 9 = .ok (.getfield 126, 3) := dk_180 0 126 (dk_at dksX1_levelled_0 9 rfl rfl)
theorem dX1_levelled_12 : decode cX1_levelled 12 = .ok (.if_icmp .ge 21, 3) := dk_162 0 21 (dk_at dksX1_levelled_0 12 rfl rfl)
theorem dX1_levelled_15 : decode cX1_levelled 15 = .ok (.iload_n 2, 1) := dk_28 (dk_at dksX1_levelled_0 15 rfl rfl)
theorem dX1_levelled_16 : decode cX1_levelled 16 = .ok (.aload_n 0, 1) := dk_42 (dk_at dksX1_levelled_0 16 rfl rfl)
theorem dX1_levelled_17 : decode cX1_levelled 17 = .ok (.iload_n 3, 1) := dk_29 (dk_at dksX1_levelled_0 17 rfl rfl)
theorem dX1_levelled_18 : decode cX1_levelled 18 = .ok (.invokevirtual 368, 3) := dk_182 1 112 (dk_at dksX1_levelled_0 18 rfl rfl)
theorem dX1_levelled_21 : decode cX1_levelled 21 = .ok (.iload_n 1, 1) := dk_27 (dk_at dksX1_levelled_0 21 rfl rfl)
theorem dX1_levelled_22 : decode cX1_levelled 22 = .ok (.invokestatic 288, 3) := dk_184 1 32 (dk_at dksX1_levelled_1 0 rfl rfl)
theorem dX1_levelled_25 : decode cX1_levelled 25 = .ok (.iadd, 1) := dk_96 (dk_at dksX1_levelled_1 3 rfl rfl)
theorem dX1_levelled_26 : decode cX1_levelled 26 = .ok (.istore_n 2, 1) := dk_61 (dk_at dksX1_levelled_1 4 rfl rfl)
theorem dX1_levelled_27 : decode cX1_levelled 27 = .ok (.iinc 3 1, 3) := dk_132 3 1 (dk_at dksX1_levelled_1 5 rfl rfl)
theorem dX1_levelled_30 : decode cX1_levelled 30 = .ok (.goto (-26), 3) := dk_167 255 230 (dk_at dksX1_levelled_1 8 rfl rfl)
theorem dX1_levelled_33 : decode cX1_levelled 33 = .ok (.iload_n 2, 1) := dk_28 (dk_at dksX1_levelled_1 11 rfl rfl)
theorem dX1_levelled_34 : decode cX1_levelled 34 = .ok (.ireturn, 1) := dk_172 (dk_at dksX1_levelled_1 12 rfl rfl)
abbrev cX1_owes : ByteArray := prog_1_method_64_code
def yX1_owes : MethodName := ⟨RX1, "owes", "(II)I"⟩
def dkwX1_owes_1 : List UInt8 := [172]
abbrev dktX1_owes_1 : List UInt8 := dkwX1_owes_1 ++ []
def dkwX1_owes_0 : List UInt8 := [42, 27, 182, 0, 217, 42, 28, 182, 0, 217, 42, 180, 0, 31, 180, 1, 118, 16, 9, 27, 104, 28, 96, 46]
abbrev dktX1_owes_0 : List UInt8 := dkwX1_owes_0 ++ dktX1_owes_1
theorem dksX1_owes_0 : cX1_owes.data.toList.drop 0 = dktX1_owes_0 := by decide +kernel
theorem dksX1_owes_1 : cX1_owes.data.toList.drop 24 = dktX1_owes_1 := dk_seg dksX1_owes_0 24 rfl rfl
theorem dX1_owes_0 : decode cX1_owes 0 = .ok (.aload_n 0, 1) := dk_42 (dk_at dksX1_owes_0 0 rfl rfl)
theorem dX1_owes_1 : decode cX1_owes 1 = .ok (.iload_n 1, 1) := dk_27 (dk_at dksX1_owes_0 1 rfl rfl)
theorem dX1_owes_2 : decode cX1_owes 2 = .ok (.invokevirtual 217, 3) := dk_182 0 217 (dk_at dksX1_owes_0 2 rfl rfl)
theorem dX1_owes_5 : decode cX1_owes 5 = .ok (.aload_n 0, 1) := dk_42 (dk_at dksX1_owes_0 5 rfl rfl)
theorem dX1_owes_6 : decode cX1_owes 6 = .ok (.iload_n 2, 1) := dk_28 (dk_at dksX1_owes_0 6 rfl rfl)
theorem dX1_owes_7 : decode cX1_owes 7 = .ok (.invokevirtual 217, 3) := dk_182 0 217 (dk_at dksX1_owes_0 7 rfl rfl)
theorem dX1_owes_10 : decode cX1_owes 10 = .ok (.aload_n 0, 1) := dk_42 (dk_at dksX1_owes_0 10 rfl rfl)
theorem dX1_owes_11 : decode cX1_owes 11 = .ok (.getfield 31, 3) := dk_180 0 31 (dk_at dksX1_owes_0 11 rfl rfl)
theorem dX1_owes_14 : decode cX1_owes 14 = .ok (.getfield 374, 3) := dk_180 1 118 (dk_at dksX1_owes_0 14 rfl rfl)
theorem dX1_owes_17 : decode cX1_owes 17 = .ok (.bipush 9, 2) := dk_16 9 (dk_at dksX1_owes_0 17 rfl rfl)
theorem dX1_owes_19 : decode cX1_owes 19 = .ok (.iload_n 1, 1) := dk_27 (dk_at dksX1_owes_0 19 rfl rfl)
theorem dX1_owes_20 : decode cX1_owes 20 = .ok (.imul, 1) := dk_104 (dk_at dksX1_owes_0 20 rfl rfl)
theorem dX1_owes_21 : decode cX1_owes 21 = .ok (.iload_n 2, 1) := dk_28 (dk_at dksX1_owes_0 21 rfl rfl)
theorem dX1_owes_22 : decode cX1_owes 22 = .ok (.iadd, 1) := dk_96 (dk_at dksX1_owes_0 22 rfl rfl)
theorem dX1_owes_23 : decode cX1_owes 23 = .ok (.iaload, 1) := dk_46 (dk_at dksX1_owes_0 23 rfl rfl)
theorem dX1_owes_24 : decode cX1_owes 24 = .ok (.ireturn, 1) := dk_172 (dk_at dksX1_owes_1 0 rfl rfl)
abbrev cX1_net : ByteArray := prog_1_method_65_code
def yX1_net : MethodName := ⟨RX1, "net", "(I)I"⟩
def dkwX1_net_0 : List UInt8 := [42, 27, 182, 0, 217, 42, 27, 182, 1, 121, 172]
abbrev dktX1_net_0 : List UInt8 := dkwX1_net_0 ++ []
theorem dksX1_net_0 : cX1_net.data.toList.drop 0 = dktX1_net_0 := by decide +kernel
theorem dX1_net_0 : decode cX1_net 0 = .ok (.aload_n 0, 1) := dk_42 (dk_at dksX1_net_0 0 rfl rfl)
theorem dX1_net_1 : decode cX1_net 1 = .ok (.iload_n 1, 1) := dk_27 (dk_at dksX1_net_0 1 rfl rfl)
theorem dX1_net_2 : decode cX1_net 2 = .ok (.invokevirtual 217, 3) := dk_182 0 217 (dk_at dksX1_net_0 2 rfl rfl)
theorem dX1_net_5 : decode cX1_net 5 = .ok (.aload_n 0, 1) := dk_42 (dk_at dksX1_net_0 5 rfl rfl)
theorem dX1_net_6 : decode cX1_net 6 = .ok (.iload_n 1, 1) := dk_27 (dk_at dksX1_net_0 6 rfl rfl)
theorem dX1_net_7 : decode cX1_net 7 = .ok (.invokevirtual 377, 3) := dk_182 1 121 (dk_at dksX1_net_0 7 rfl rfl)
theorem dX1_net_10 : decode cX1_net 10 = .ok (.ireturn, 1) := dk_172 (dk_at dksX1_net_0 10 rfl rfl)
abbrev cX1_netOf : ByteArray := prog_1_method_66_code
def yX1_netOf : MethodName := ⟨RX1, "netOf", "(I)I"⟩
def dkwX1_netOf_2 : List UInt8 := [132, 3, 1, 167, 255, 210, 28, 172]
abbrev dktX1_netOf_2 : List UInt8 := dkwX1_netOf_2 ++ []
def dkwX1_netOf_1 : List UInt8 := [16, 9, 29, 104, 27, 96, 46, 42, 180, 0, 31, 180, 1, 118, 16, 9, 27, 104, 29, 96, 46, 100, 96, 61]
abbrev dktX1_netOf_1 : List UInt8 := dkwX1_netOf_1 ++ dktX1_netOf_2
def dkwX1_netOf_0 : List UInt8 := [3, 61, 3, 62, 29, 42, 180, 0, 31, 180, 0, 126, 162, 0, 41, 28, 42, 180, 0, 31, 180, 1, 118]
abbrev dktX1_netOf_0 : List UInt8 := dkwX1_netOf_0 ++ dktX1_netOf_1
theorem dksX1_netOf_0 : cX1_netOf.data.toList.drop 0 = dktX1_netOf_0 := by decide +kernel
theorem dksX1_netOf_1 : cX1_netOf.data.toList.drop 23 = dktX1_netOf_1 := dk_seg dksX1_netOf_0 23 rfl rfl
theorem dksX1_netOf_2 : cX1_netOf.data.toList.drop 47 = dktX1_netOf_2 := dk_seg dksX1_netOf_1 24 rfl rfl
theorem dX1_netOf_0 : decode cX1_netOf 0 = .ok (.iconst 0, 1) := dk_3 (dk_at dksX1_netOf_0 0 rfl rfl)
theorem dX1_netOf_1 : decode cX1_netOf 1 = .ok (.istore_n 2, 1) := dk_61 (dk_at dksX1_netOf_0 1 rfl rfl)
theorem dX1_netOf_2 : decode cX1_netOf 2 = .ok (.iconst 0, 1) := dk_3 (dk_at dksX1_netOf_0 2 rfl rfl)
theorem dX1_netOf_3 : decode cX1_netOf 3 = .ok (.istore_n 3, 1) := dk_62 (dk_at dksX1_netOf_0 3 rfl rfl)
theorem dX1_netOf_4 : decode cX1_netOf 4 = .ok (.iload_n 3, 1) := dk_29 (dk_at dksX1_netOf_0 4 rfl rfl)
theorem dX1_netOf_5 : decode cX1_netOf 5 = .ok (.aload_n 0, 1) := dk_42 (dk_at dksX1_netOf_0 5 rfl rfl)
theorem dX1_netOf_6 : decode cX1_netOf 6 = .ok (.getfield 31, 3) := dk_180 0 31 (dk_at dksX1_netOf_0 6 rfl rfl)
theorem dX1_netOf_9 : decode cX1_netOf 9 = .ok (.getfield 126, 3) := dk_180 0 126 (dk_at dksX1_netOf_0 9 rfl rfl)
theorem dX1_netOf_12 : decode cX1_netOf 12 = .ok (.if_icmp .ge 41, 3) := dk_162 0 41 (dk_at dksX1_netOf_0 12 rfl rfl)
theorem dX1_netOf_15 : decode cX1_netOf 15 = .ok (.iload_n 2, 1) := dk_28 (dk_at dksX1_netOf_0 15 rfl rfl)
theorem dX1_netOf_16 : decode cX1_netOf 16 = .ok (.aload_n 0, 1) := dk_42 (dk_at dksX1_netOf_0 16 rfl rfl)
theorem dX1_netOf_17 : decode cX1_netOf 17 = .ok (.getfield 31, 3) := dk_180 0 31 (dk_at dksX1_netOf_0 17 rfl rfl)
theorem dX1_netOf_20 : decode cX1_netOf 20 = .ok (.getfield 374, 3) := dk_180 1 118 (dk_at dksX1_netOf_0 20 rfl rfl)
theorem dX1_netOf_23 : decode cX1_netOf 23 = .ok (.bipush 9, 2) := dk_16 9 (dk_at dksX1_netOf_1 0 rfl rfl)
theorem dX1_netOf_25 : decode cX1_netOf 25 = .ok (.iload_n 3, 1) := dk_29 (dk_at dksX1_netOf_1 2 rfl rfl)
theorem dX1_netOf_26 : decode cX1_netOf 26 = .ok (.imul, 1) := dk_104 (dk_at dksX1_netOf_1 3 rfl rfl)
theorem dX1_netOf_27 : decode cX1_netOf 27 = .ok (.iload_n 1, 1) := dk_27 (dk_at dksX1_netOf_1 4 rfl rfl)
theorem dX1_netOf_28 : decode cX1_netOf 28 = .ok (.iadd, 1) := dk_96 (dk_at dksX1_netOf_1 5 rfl rfl)
theorem dX1_netOf_29 : decode cX1_netOf 29 = .ok (.iaload, 1) := dk_46 (dk_at dksX1_netOf_1 6 rfl rfl)
theorem dX1_netOf_30 : decode cX1_netOf 30 = .ok (.aload_n 0, 1) := dk_42 (dk_at dksX1_netOf_1 7 rfl rfl)
theorem dX1_netOf_31 : decode cX1_netOf 31 = .ok (.getfield 31, 3) := dk_180 0 31 (dk_at dksX1_netOf_1 8 rfl rfl)
theorem dX1_netOf_34 : decode cX1_netOf 34 = .ok (.getfield 374, 3) := dk_180 1 118 (dk_at dksX1_netOf_1 11 rfl rfl)
theorem dX1_netOf_37 : decode cX1_netOf 37 = .ok (.bipush 9, 2) := dk_16 9 (dk_at dksX1_netOf_1 14 rfl rfl)
theorem dX1_netOf_39 : decode cX1_netOf 39 = .ok (.iload_n 1, 1) := dk_27 (dk_at dksX1_netOf_1 16 rfl rfl)
theorem dX1_netOf_40 : decode cX1_netOf 40 = .ok (.imul, 1) := dk_104 (dk_at dksX1_netOf_1 17 rfl rfl)
theorem dX1_netOf_41 : decode cX1_netOf 41 = .ok (.iload_n 3, 1) := dk_29 (dk_at dksX1_netOf_1 18 rfl rfl)
theorem dX1_netOf_42 : decode cX1_netOf 42 = .ok (.iadd, 1) := dk_96 (dk_at dksX1_netOf_1 19 rfl rfl)
theorem dX1_netOf_43 : decode cX1_netOf 43 = .ok (.iaload, 1) := dk_46 (dk_at dksX1_netOf_1 20 rfl rfl)
theorem dX1_netOf_44 : decode cX1_netOf 44 = .ok (.isub, 1) := dk_100 (dk_at dksX1_netOf_1 21 rfl rfl)
theorem dX1_netOf_45 : decode cX1_netOf 45 = .ok (.iadd, 1) := dk_96 (dk_at dksX1_netOf_1 22 rfl rfl)
theorem dX1_netOf_46 : decode cX1_netOf 46 = .ok (.istore_n 2, 1) := dk_61 (dk_at dksX1_netOf_1 23 rfl rfl)
theorem dX1_netOf_47 : decode cX1_netOf 47 = .ok (.iinc 3 1, 3) := dk_132 3 1 (dk_at dksX1_netOf_2 0 rfl rfl)
theorem dX1_netOf_50 : decode cX1_netOf 50 = .ok (.goto (-46), 3) := dk_167 255 210 (dk_at dksX1_netOf_2 3 rfl rfl)
theorem dX1_netOf_53 : decode cX1_netOf 53 = .ok (.iload_n 2, 1) := dk_28 (dk_at dksX1_netOf_2 6 rfl rfl)
theorem dX1_netOf_54 : decode cX1_netOf 54 = .ok (.ireturn, 1) := dk_172 (dk_at dksX1_netOf_2 7 rfl rfl)
abbrev cX1_heir : ByteArray := prog_1_method_67_code
def yX1_heir : MethodName := ⟨RX1, "heir", "(II)I"⟩
def dkwX1_heir_1 : List UInt8 := [42, 180, 0, 65, 42, 180, 0, 58, 182, 0, 110, 78, 45, 28, 182, 1, 55, 87, 45, 27, 182, 1, 25, 172]
abbrev dktX1_heir_1 : List UInt8 := dkwX1_heir_1 ++ []
def dkwX1_heir_0 : List UInt8 := [42, 27, 182, 0, 238, 42, 28, 182, 0, 217, 42, 180, 0, 58, 27, 28, 182, 1, 47, 154, 0, 5, 2, 172]
abbrev dktX1_heir_0 : List UInt8 := dkwX1_heir_0 ++ dktX1_heir_1
theorem dksX1_heir_0 : cX1_heir.data.toList.drop 0 = dktX1_heir_0 := by decide +kernel
theorem dksX1_heir_1 : cX1_heir.data.toList.drop 24 = dktX1_heir_1 := dk_seg dksX1_heir_0 24 rfl rfl
theorem dX1_heir_0 : decode cX1_heir 0 = .ok (.aload_n 0, 1) := dk_42 (dk_at dksX1_heir_0 0 rfl rfl)
theorem dX1_heir_1 : decode cX1_heir 1 = .ok (.iload_n 1, 1) := dk_27 (dk_at dksX1_heir_0 1 rfl rfl)
theorem dX1_heir_2 : decode cX1_heir 2 = .ok (.invokevirtual 238, 3) := dk_182 0 238 (dk_at dksX1_heir_0 2 rfl rfl)
theorem dX1_heir_5 : decode cX1_heir 5 = .ok (.aload_n 0, 1) := dk_42 (dk_at dksX1_heir_0 5 rfl rfl)
theorem dX1_heir_6 : decode cX1_heir 6 = .ok (.iload_n 2, 1) := dk_28 (dk_at dksX1_heir_0 6 rfl rfl)
theorem dX1_heir_7 : decode cX1_heir 7 = .ok (.invokevirtual 217, 3) := dk_182 0 217 (dk_at dksX1_heir_0 7 rfl rfl)
theorem dX1_heir_10 : decode cX1_heir 10 = .ok (.aload_n 0, 1) := dk_42 (dk_at dksX1_heir_0 10 rfl rfl)
theorem dX1_heir_11 : decode cX1_heir 11 = .ok (.getfield 58, 3) := dk_180 0 58 (dk_at dksX1_heir_0 11 rfl rfl)
theorem dX1_heir_14 : decode cX1_heir 14 = .ok (.iload_n 1, 1) := dk_27 (dk_at dksX1_heir_0 14 rfl rfl)
theorem dX1_heir_15 : decode cX1_heir 15 = .ok (.iload_n 2, 1) := dk_28 (dk_at dksX1_heir_0 15 rfl rfl)
theorem dX1_heir_16 : decode cX1_heir 16 = .ok (.invokevirtual 303, 3) := dk_182 1 47 (dk_at dksX1_heir_0 16 rfl rfl)
theorem dX1_heir_19 : decode cX1_heir 19 = .ok (.ifCond .ne 5, 3) := dk_154 0 5 (dk_at dksX1_heir_0 19 rfl rfl)
theorem dX1_heir_22 : decode cX1_heir 22 = .ok (.iconst (-1), 1) := dk_2 (dk_at dksX1_heir_0 22 rfl rfl)
theorem dX1_heir_23 : decode cX1_heir 23 = .ok (.ireturn, 1) := dk_172 (dk_at dksX1_heir_0 23 rfl rfl)
theorem dX1_heir_24 : decode cX1_heir 24 = .ok (.aload_n 0, 1) := dk_42 (dk_at dksX1_heir_1 0 rfl rfl)
theorem dX1_heir_25 : decode cX1_heir 25 = .ok (.getfield 65, 3) := dk_180 0 65 (dk_at dksX1_heir_1 1 rfl rfl)
theorem dX1_heir_28 : decode cX1_heir 28 = .ok (.aload_n 0, 1) := dk_42 (dk_at dksX1_heir_1 4 rfl rfl)
theorem dX1_heir_29 : decode cX1_heir 29 = .ok (.getfield 58, 3) := dk_180 0 58 (dk_at dksX1_heir_1 5 rfl rfl)
theorem dX1_heir_32 : decode cX1_heir 32 = .ok (.invokevirtual 110, 3) := dk_182 0 110 (dk_at dksX1_heir_1 8 rfl rfl)
theorem dX1_heir_35 : decode cX1_heir 35 = .ok (.astore_n 3, 1) := dk_78 (dk_at dksX1_heir_1 11 rfl rfl)
theorem dX1_heir_36 : decode cX1_heir 36 = .ok (.aload_n 3, 1) := dk_45 (dk_at dksX1_heir_1 12 rfl rfl)
theorem dX1_heir_37 : decode cX1_heir 37 = .ok (.iload_n 2, 1) := dk_28 (dk_at dksX1_heir_1 13 rfl rfl)
theorem dX1_heir_38 : decode cX1_heir 38 = .ok (.invokevirtual 311, 3) := dk_182 1 55 (dk_at dksX1_heir_1 14 rfl rfl)
theorem dX1_heir_41 : decode cX1_heir 41 = .ok (.pop, 1) := dk_87 (dk_at dksX1_heir_1 17 rfl rfl)
theorem dX1_heir_42 : decode cX1_heir 42 = .ok (.aload_n 3, 1) := dk_45 (dk_at dksX1_heir_1 18 rfl rfl)
theorem dX1_heir_43 : decode cX1_heir 43 = .ok (.iload_n 1, 1) := dk_27 (dk_at dksX1_heir_1 19 rfl rfl)
theorem dX1_heir_44 : decode cX1_heir 44 = .ok (.invokevirtual 281, 3) := dk_182 1 25 (dk_at dksX1_heir_1 20 rfl rfl)
theorem dX1_heir_47 : decode cX1_heir 47 = .ok (.ireturn, 1) := dk_172 (dk_at dksX1_heir_1 23 rfl rfl)
abbrev cX1_practise : ByteArray := prog_1_method_70_code
def yX1_practise : MethodName := ⟨RX1, "practise", "(II)I"⟩
def dkwX1_practise_2 : List UInt8 := [89, 180, 0, 114, 4, 100, 181, 0, 114, 167, 255, 222, 42, 2, 181, 0, 72, 29, 172]
abbrev dktX1_practise_2 : List UInt8 := dkwX1_practise_2 ++ []
def dkwX1_practise_1 : List UInt8 := [180, 0, 114, 155, 0, 33, 42, 180, 0, 58, 28, 182, 1, 25, 27, 160, 0, 8, 42, 180, 0, 114, 62, 42]
abbrev dktX1_practise_1 : List UInt8 := dkwX1_practise_1 ++ dktX1_practise_2
def dkwX1_practise_0 : List UInt8 := [42, 27, 182, 0, 217, 42, 28, 182, 0, 238, 2, 62, 42, 27, 181, 0, 72, 42, 16, 9, 181, 0, 114, 42]
abbrev dktX1_practise_0 : List UInt8 := dkwX1_practise_0 ++ dktX1_practise_1
theorem dksX1_practise_0 : cX1_practise.data.toList.drop 0 = dktX1_practise_0 := by decide +kernel
theorem dksX1_practise_1 : cX1_practise.data.toList.drop 24 = dktX1_practise_1 := dk_seg dksX1_practise_0 24 rfl rfl
theorem dksX1_practise_2 : cX1_practise.data.toList.drop 48 = dktX1_practise_2 := dk_seg dksX1_practise_1 24 rfl rfl
theorem dX1_practise_0 : decode cX1_practise 0 = .ok (.aload_n 0, 1) := dk_42 (dk_at dksX1_practise_0 0 rfl rfl)
theorem dX1_practise_1 : decode cX1_practise 1 = .ok (.iload_n 1, 1) := dk_27 (dk_at dksX1_practise_0 1 rfl rfl)
theorem dX1_practise_2 : decode cX1_practise 2 = .ok (.invokevirtual 217, 3) := dk_182 0 217 (dk_at dksX1_practise_0 2 rfl rfl)
theorem dX1_practise_5 : decode cX1_practise 5 = .ok (.aload_n 0, 1) := dk_42 (dk_at dksX1_practise_0 5 rfl rfl)
theorem dX1_practise_6 : decode cX1_practise 6 = .ok (.iload_n 2, 1) := dk_28 (dk_at dksX1_practise_0 6 rfl rfl)
theorem dX1_practise_7 : decode cX1_practise 7 = .ok (.invokevirtual 238, 3) := dk_182 0 238 (dk_at dksX1_practise_0 7 rfl rfl)
theorem dX1_practise_10 : decode cX1_practise 10 = .ok (.iconst (-1), 1) := dk_2 (dk_at dksX1_practise_0 10 rfl rfl)
theorem dX1_practise_11 : decode cX1_practise 11 = .ok (.istore_n 3, 1) := dk_62 (dk_at dksX1_practise_0 11 rfl rfl)
theorem dX1_practise_12 : decode cX1_practise 12 = .ok (.aload_n 0, 1) := dk_42 (dk_at dksX1_practise_0 12 rfl rfl)
theorem dX1_practise_13 : decode cX1_practise 13 = .ok (.iload_n 1, 1) := dk_27 (dk_at dksX1_practise_0 13 rfl rfl)
theorem dX1_practise_14 : decode cX1_practise 14 = .ok (.putfield 72, 3) := dk_181 0 72 (dk_at dksX1_practise_0 14 rfl rfl)
theorem dX1_practise_17 : decode cX1_practise 17 = .ok (.aload_n 0, 1) := dk_42 (dk_at dksX1_practise_0 17 rfl rfl)
theorem dX1_practise_18 : decode cX1_practise 18 = .ok (.bipush 9, 2) := dk_16 9 (dk_at dksX1_practise_0 18 rfl rfl)
theorem dX1_practise_20 : decode cX1_practise 20 = .ok (.putfield 114, 3) := dk_181 0 114 (dk_at dksX1_practise_0 20 rfl rfl)
theorem dX1_practise_23 : decode cX1_practise 23 = .ok (.aload_n 0, 1) := dk_42 (dk_at dksX1_practise_0 23 rfl rfl)
theorem dX1_practise_24 : decode cX1_practise 24 = .ok (.getfield 114, 3) := dk_180 0 114 (dk_at dksX1_practise_1 0 rfl rfl)
theorem dX1_practise_27 : decode cX1_practise 27 = .ok (.ifCond .lt 33, 3) := dk_155 0 33 (dk_at dksX1_practise_1 3 rfl rfl)
theorem dX1_practise_30 : decode cX1_practise 30 = .ok (.aload_n 0, 1) := dk_42 (dk_at dksX1_practise_1 6 rfl rfl)
theorem dX1_practise_31 : decode cX1_practise 31 = .ok (.getfield 58, 3) := dk_180 0 58 (dk_at dksX1_practise_1 7 rfl rfl)
theorem dX1_practise_34 : decode cX1_practise 34 = .ok (.iload_n 2, 1) := dk_28 (dk_at dksX1_practise_1 10 rfl rfl)
theorem dX1_practise_35 : decode cX1_practise 35 = .ok (.invokevirtual 281, 3) := dk_182 1 25 (dk_at dksX1_practise_1 11 rfl rfl)
theorem dX1_practise_38 : decode cX1_practise 38 = .ok (.iload_n 1, 1) := dk_27 (dk_at dksX1_practise_1 14 rfl rfl)
theorem dX1_practise_39 : decode cX1_practise 39 = .ok (.if_icmp .ne 8, 3) := dk_160 0 8 (dk_at dksX1_practise_1 15 rfl rfl)
theorem dX1_practise_42 : decode cX1_practise 42 = .ok (.aload_n 0, 1) := dk_42 (dk_at dksX1_practise_1 18 rfl rfl)
theorem dX1_practise_43 : decode cX1_practise 43 = .ok (.getfield 114, 3) := dk_180 0 114 (dk_at dksX1_practise_1 19 rfl rfl)
theorem dX1_practise_46 : decode cX1_practise 46 = .ok (.istore_n 3, 1) := dk_62 (dk_at dksX1_practise_1 22 rfl rfl)
theorem dX1_practise_47 : decode cX1_practise 47 = .ok (.aload_n 0, 1) := dk_42 (dk_at dksX1_practise_1 23 rfl rfl)
theorem dX1_practise_48 : decode cX1_practise 48 = .ok (.dup, 1) := dk_89 (dk_at dksX1_practise_2 0 rfl rfl)
theorem dX1_practise_49 : decode cX1_practise 49 = .ok (.getfield 114, 3) := dk_180 0 114 (dk_at dksX1_practise_2 1 rfl rfl)
theorem dX1_practise_52 : decode cX1_practise 52 = .ok (.iconst 1, 1) := dk_4 (dk_at dksX1_practise_2 4 rfl rfl)
theorem dX1_practise_53 : decode cX1_practise 53 = .ok (.isub, 1) := dk_100 (dk_at dksX1_practise_2 5 rfl rfl)
theorem dX1_practise_54 : decode cX1_practise 54 = .ok (.putfield 114, 3) := dk_181 0 114 (dk_at dksX1_practise_2 6 rfl rfl)
theorem dX1_practise_57 : decode cX1_practise 57 = .ok (.goto (-34), 3) := dk_167 255 222 (dk_at dksX1_practise_2 9 rfl rfl)
theorem dX1_practise_60 : decode cX1_practise 60 = .ok (.aload_n 0, 1) := dk_42 (dk_at dksX1_practise_2 12 rfl rfl)
theorem dX1_practise_61 : decode cX1_practise 61 = .ok (.iconst (-1), 1) := dk_2 (dk_at dksX1_practise_2 13 rfl rfl)
theorem dX1_practise_62 : decode cX1_practise 62 = .ok (.putfield 72, 3) := dk_181 0 72 (dk_at dksX1_practise_2 14 rfl rfl)
theorem dX1_practise_65 : decode cX1_practise 65 = .ok (.iload_n 3, 1) := dk_29 (dk_at dksX1_practise_2 17 rfl rfl)
theorem dX1_practise_66 : decode cX1_practise 66 = .ok (.ireturn, 1) := dk_172 (dk_at dksX1_practise_2 18 rfl rfl)
abbrev cX1_slack : ByteArray := prog_1_method_72_code
def yX1_slack : MethodName := ⟨RX1, "slack", "(I)I"⟩
def dkwX1_slack_2 : List UInt8 := [4, 29, 120, 167, 0, 4, 3, 128, 61, 132, 3, 1, 167, 255, 219, 28, 172]
abbrev dktX1_slack_2 : List UInt8 := dkwX1_slack_2 ++ []
def dkwX1_slack_1 : List UInt8 := [42, 180, 0, 31, 180, 0, 133, 162, 0, 32, 28, 42, 180, 0, 58, 180, 0, 198, 29, 46, 27, 162, 0, 9]
abbrev dktX1_slack_1 : List UInt8 := dkwX1_slack_1 ++ dktX1_slack_2
def dkwX1_slack_0 : List UInt8 := [42, 27, 155, 0, 13, 27, 16, 31, 163, 0, 7, 4, 167, 0, 4, 3, 182, 0, 160, 3, 61, 3, 62, 29]
abbrev dktX1_slack_0 : List UInt8 := dkwX1_slack_0 ++ dktX1_slack_1
theorem dksX1_slack_0 : cX1_slack.data.toList.drop 0 = dktX1_slack_0 := by decide +kernel
theorem dksX1_slack_1 : cX1_slack.data.toList.drop 24 = dktX1_slack_1 := dk_seg dksX1_slack_0 24 rfl rfl
theorem dksX1_slack_2 : cX1_slack.data.toList.drop 48 = dktX1_slack_2 := dk_seg dksX1_slack_1 24 rfl rfl
theorem dX1_slack_0 : decode cX1_slack 0 = .ok (.aload_n 0, 1) := dk_42 (dk_at dksX1_slack_0 0 rfl rfl)
theorem dX1_slack_1 : decode cX1_slack 1 = .ok (.iload_n 1, 1) := dk_27 (dk_at dksX1_slack_0 1 rfl rfl)
theorem dX1_slack_2 : decode cX1_slack 2 = .ok (.ifCond .lt 13, 3) := dk_155 0 13 (dk_at dksX1_slack_0 2 rfl rfl)
theorem dX1_slack_5 : decode cX1_slack 5 = .ok (.iload_n 1, 1) := dk_27 (dk_at dksX1_slack_0 5 rfl rfl)
theorem dX1_slack_6 : decode cX1_slack 6 = .ok (.bipush 31, 2) := dk_16 31 (dk_at dksX1_slack_0 6 rfl rfl)
theorem dX1_slack_8 : decode cX1_slack 8 = .ok (.if_icmp .gt 7, 3) := dk_163 0 7 (dk_at dksX1_slack_0 8 rfl rfl)
theorem dX1_slack_11 : decode cX1_slack 11 = .ok (.iconst 1, 1) := dk_4 (dk_at dksX1_slack_0 11 rfl rfl)
theorem dX1_slack_12 : decode cX1_slack 12 = .ok (.goto 4, 3) := dk_167 0 4 (dk_at dksX1_slack_0 12 rfl rfl)
theorem dX1_slack_15 : decode cX1_slack 15 = .ok (.iconst 0, 1) := dk_3 (dk_at dksX1_slack_0 15 rfl rfl)
theorem dX1_slack_16 : decode cX1_slack 16 = .ok (.invokevirtual 160, 3) := dk_182 0 160 (dk_at dksX1_slack_0 16 rfl rfl)
theorem dX1_slack_19 : decode cX1_slack 19 = .ok (.iconst 0, 1) := dk_3 (dk_at dksX1_slack_0 19 rfl rfl)
theorem dX1_slack_20 : decode cX1_slack 20 = .ok (.istore_n 2, 1) := dk_61 (dk_at dksX1_slack_0 20 rfl rfl)
theorem dX1_slack_21 : decode cX1_slack 21 = .ok (.iconst 0, 1) := dk_3 (dk_at dksX1_slack_0 21 rfl rfl)
theorem dX1_slack_22 : decode cX1_slack 22 = .ok (.istore_n 3, 1) := dk_62 (dk_at dksX1_slack_0 22 rfl rfl)
theorem dX1_slack_23 : decode cX1_slack 23 = .ok (.iload_n 3, 1) := dk_29 (dk_at dksX1_slack_0 23 rfl rfl)
theorem dX1_slack_24 : decode cX1_slack 24 = .ok (.aload_n 0, 1) := dk_42 (dk_at dksX1_slack_1 0 rfl rfl)
theorem dX1_slack_25 : decode cX1_slack 25 = .ok (.getfield 31, 3) := dk_180 0 31 (dk_at dksX1_slack_1 1 rfl rfl)
theorem dX1_slack_28 : decode cX1_slack 28 = .ok (.getfield 133, 3) := dk_180 0 133 (dk_at dksX1_slack_1 4 rfl rfl)
theorem dX1_slack_31 : decode cX1_slack 31 = .ok (.if_icmp .ge 32, 3) := dk_162 0 32 (dk_at dksX1_slack_1 7 rfl rfl)
theorem dX1_slack_34 : decode cX1_slack 34 = .ok (.iload_n 2, 1) := dk_28 (dk_at dksX1_slack_1 10 rfl rfl)
theorem dX1_slack_35 : decode cX1_slack 35 = .ok (.aload_n 0, 1) := dk_42 (dk_at dksX1_slack_1 11 rfl rfl)
theorem dX1_slack_36 : decode cX1_slack 36 = .ok (.getfield 58, 3) := dk_180 0 58 (dk_at dksX1_slack_1 12 rfl rfl)
theorem dX1_slack_39 : decode cX1_slack 39 = .ok (.getfield 198, 3) := dk_180 0 198 (dk_at dksX1_slack_1 15 rfl rfl)
theorem dX1_slack_42 : decode cX1_slack 42 = .ok (.iload_n 3, 1) := dk_29 (dk_at dksX1_slack_1 18 rfl rfl)
theorem dX1_slack_43 : decode cX1_slack 43 = .ok (.iaload, 1) := dk_46 (dk_at dksX1_slack_1 19 rfl rfl)
theorem dX1_slack_44 : decode cX1_slack 44 = .ok (.iload_n 1, 1) := dk_27 (dk_at dksX1_slack_1 20 rfl rfl)
theorem dX1_slack_45 : decode cX1_slack 45 = .ok (.if_icmp .ge 9, 3) := dk_162 0 9 (dk_at dksX1_slack_1 21 rfl rfl)
theorem dX1_slack_48 : decode cX1_slack 48 = .ok (.iconst 1, 1) := dk_4 (dk_at dksX1_slack_2 0 rfl rfl)
theorem dX1_slack_49 : decode cX1_slack 49 = .ok (.iload_n 3, 1) := dk_29 (dk_at dksX1_slack_2 1 rfl rfl)
theorem dX1_slack_50 : decode cX1_slack 50 = .ok (.ishl, 1) := dk_120 (dk_at dksX1_slack_2 2 rfl rfl)
theorem dX1_slack_51 : decode cX1_slack 51 = .ok (.goto 4, 3) := dk_167 0 4 (dk_at dksX1_slack_2 3 rfl rfl)
theorem dX1_slack_54 : decode cX1_slack 54 = .ok (.iconst 0, 1) := dk_3 (dk_at dksX1_slack_2 6 rfl rfl)
theorem dX1_slack_55 : decode cX1_slack 55 = .ok (.ior, 1) := dk_128 (dk_at dksX1_slack_2 7 rfl rfl)
theorem dX1_slack_56 : decode cX1_slack 56 = .ok (.istore_n 2, 1) := dk_61 (dk_at dksX1_slack_2 8 rfl rfl)
theorem dX1_slack_57 : decode cX1_slack 57 = .ok (.iinc 3 1, 3) := dk_132 3 1 (dk_at dksX1_slack_2 9 rfl rfl)
theorem dX1_slack_60 : decode cX1_slack 60 = .ok (.goto (-37), 3) := dk_167 255 219 (dk_at dksX1_slack_2 12 rfl rfl)
theorem dX1_slack_63 : decode cX1_slack 63 = .ok (.iload_n 2, 1) := dk_28 (dk_at dksX1_slack_2 15 rfl rfl)
theorem dX1_slack_64 : decode cX1_slack 64 = .ok (.ireturn, 1) := dk_172 (dk_at dksX1_slack_2 16 rfl rfl)
abbrev cX1_fades : ByteArray := prog_1_method_73_code
def yX1_fades : MethodName := ⟨RX1, "fades", "(I)I"⟩
def dkwX1_fades_2 : List UInt8 := [154, 0, 8, 44, 180, 0, 201, 172, 132, 3, 1, 167, 255, 230, 2, 172]
abbrev dktX1_fades_2 : List UInt8 := dkwX1_fades_2 ++ []
def dkwX1_fades_1 : List UInt8 := [180, 0, 58, 182, 0, 110, 77, 3, 62, 29, 16, 60, 162, 0, 26, 44, 182, 1, 45, 180, 0, 198, 27, 46]
abbrev dktX1_fades_1 : List UInt8 := dkwX1_fades_1 ++ dktX1_fades_2
def dkwX1_fades_0 : List UInt8 := [42, 27, 182, 0, 238, 42, 180, 0, 58, 180, 0, 198, 27, 46, 154, 0, 5, 3, 172, 42, 180, 0, 65, 42]
abbrev dktX1_fades_0 : List UInt8 := dkwX1_fades_0 ++ dktX1_fades_1
theorem dksX1_fades_0 : cX1_fades.data.toList.drop 0 = dktX1_fades_0 := by decide +kernel
theorem dksX1_fades_1 : cX1_fades.data.toList.drop 24 = dktX1_fades_1 := dk_seg dksX1_fades_0 24 rfl rfl
theorem dksX1_fades_2 : cX1_fades.data.toList.drop 48 = dktX1_fades_2 := dk_seg dksX1_fades_1 24 rfl rfl
theorem dX1_fades_0 : decode cX1_fades 0 = .ok (.aload_n 0, 1) := dk_42 (dk_at dksX1_fades_0 0 rfl rfl)
theorem dX1_fades_1 : decode cX1_fades 1 = .ok (.iload_n 1, 1) := dk_27 (dk_at dksX1_fades_0 1 rfl rfl)
theorem dX1_fades_2 : decode cX1_fades 2 = .ok (.invokevirtual 238, 3) := dk_182 0 238 (dk_at dksX1_fades_0 2 rfl rfl)
theorem dX1_fades_5 : decode cX1_fades 5 = .ok (.aload_n 0, 1) := dk_42 (dk_at dksX1_fades_0 5 rfl rfl)
theorem dX1_fades_6 : decode cX1_fades 6 = .ok (.getfield 58, 3) := dk_180 0 58 (dk_at dksX1_fades_0 6 rfl rfl)
theorem dX1_fades_9 : decode cX1_fades 9 = .ok (.getfield 198, 3) := dk_180 0 198 (dk_at dksX1_fades_0 9 rfl rfl)
theorem dX1_fades_12 : decode cX1_fades 12 = .ok (.iload_n 1, 1) := dk_27 (dk_at dksX1_fades_0 12 rfl rfl)
theorem dX1_fades_13 : decode cX1_fades 13 = .ok (.iaload, 1) := dk_46 (dk_at dksX1_fades_0 13 rfl rfl)
theorem dX1_fades_14 : decode cX1_fades 14 = .ok (.ifCond .ne 5, 3) := dk_154 0 5 (dk_at dksX1_fades_0 14 rfl rfl)
theorem dX1_fades_17 : decode cX1_fades 17 = .ok (.iconst 0, 1) := dk_3 (dk_at dksX1_fades_0 17 rfl rfl)
theorem dX1_fades_18 : decode cX1_fades 18 = .ok (.ireturn, 1) := dk_172 (dk_at dksX1_fades_0 18 rfl rfl)
theorem dX1_fades_19 : decode cX1_fades 19 = .ok (.aload_n 0, 1) := dk_42 (dk_at dksX1_fades_0 19 rfl rfl)
theorem dX1_fades_20 : decode cX1_fades 20 = .ok (.getfield 65, 3) := dk_180 0 65 (dk_at dksX1_fades_0 20 rfl rfl)
theorem dX1_fades_23 : decode cX1_fades 23 = .ok (.aload_n 0, 1) := dk_42 (dk_at dksX1_fades_0 23 rfl rfl)
theorem dX1_fades_24 : decode cX1_fades 24 = .ok (.getfield 58, 3) := dk_180 0 58 (dk_at dksX1_fades_1 0 rfl rfl)
theorem dX1_fades_27 : decode cX1_fades 27 = .ok (.invokevirtual 110, 3) := dk_182 0 110 (dk_at dksX1_fades_1 3 rfl rfl)
theorem dX1_fades_30 : decode cX1_fades 30 = .ok (.astore_n 2, 1) := dk_77 (dk_at dksX1_fades_1 6 rfl rfl)
theorem dX1_fades_31 : decode cX1_fades 31 = .ok (.iconst 0, 1) := dk_3 (dk_at dksX1_fades_1 7 rfl rfl)
theorem dX1_fades_32 : decode cX1_fades 32 = .ok (.istore_n 3, 1) := dk_62 (dk_at dksX1_fades_1 8 rfl rfl)
theorem dX1_fades_33 : decode cX1_fades 33 = .ok (.iload_n 3, 1) := dk_29 (dk_at dksX1_fades_1 9 rfl rfl)
theorem dX1_fades_34 : decode cX1_fades 34 = .ok (.bipush 60, 2) := dk_16 60 (dk_at dksX1_fades_1 10 rfl rfl)
theorem dX1_fades_36 : decode cX1_fades 36 = .ok (.if_icmp .ge 26, 3) := dk_162 0 26 (dk_at dksX1_fades_1 12 rfl rfl)
theorem dX1_fades_39 : decode cX1_fades 39 = .ok (.aload_n 2, 1) := dk_44 (dk_at dksX1_fades_1 15 rfl rfl)
theorem dX1_fades_40 : decode cX1_fades 40 = .ok (.invokevirtual 301, 3) := dk_182 1 45 (dk_at dksX1_fades_1 16 rfl rfl)
theorem dX1_fades_43 : decode cX1_fades 43 = .ok (.getfield 198, 3) := dk_180 0 198 (dk_at dksX1_fades_1 19 rfl rfl)
theorem dX1_fades_46 : decode cX1_fades 46 = .ok (.iload_n 1, 1) := dk_27 (dk_at dksX1_fades_1 22 rfl rfl)
theorem dX1_fades_47 : decode cX1_fades 47 = .ok (.iaload, 1) := dk_46 (dk_at dksX1_fades_1 23 rfl rfl)
theorem dX1_fades_48 : decode cX1_fades 48 = .ok (.ifCond .ne 8, 3) := dk_154 0 8 (dk_at dksX1_fades_2 0 rfl rfl)
theorem dX1_fades_51 : decode cX1_fades 51 = .ok (.aload_n 2, 1) := dk_44 (dk_at dksX1_fades_2 3 rfl rfl)
theorem dX1_fades_52 : decode cX1_fades 52 = .ok (.getfield 201, 3) := dk_180 0 201 (dk_at dksX1_fades_2 4 rfl rfl)
theorem dX1_fades_55 : decode cX1_fades 55 = .ok (.ireturn, 1) := dk_172 (dk_at dksX1_fades_2 7 rfl rfl)
theorem dX1_fades_56 : decode cX1_fades 56 = .ok (.iinc 3 1, 3) := dk_132 3 1 (dk_at dksX1_fades_2 8 rfl rfl)
theorem dX1_fades_59 : decode cX1_fades 59 = .ok (.goto (-26), 3) := dk_167 255 230 (dk_at dksX1_fades_2 11 rfl rfl)
theorem dX1_fades_62 : decode cX1_fades 62 = .ok (.iconst (-1), 1) := dk_2 (dk_at dksX1_fades_2 14 rfl rfl)
theorem dX1_fades_63 : decode cX1_fades 63 = .ok (.ireturn, 1) := dk_172 (dk_at dksX1_fades_2 15 rfl rfl)
abbrev cX1_both : ByteArray := prog_1_method_76_code
def yX1_both : MethodName := ⟨RX1, "both", "(II)Z"⟩
def dkwX1_both_3 : List UInt8 := [3, 42, 180, 0, 58, 182, 0, 204, 3, 182, 1, 124, 153, 0, 7, 4, 167, 0, 4, 3, 172]
abbrev dktX1_both_3 : List UInt8 := dkwX1_both_3 ++ []
def dkwX1_both_2 : List UInt8 := [154, 0, 43, 42, 45, 182, 1, 128, 153, 0, 35, 42, 25, 4, 182, 1, 128, 153, 0, 26, 42, 45, 25, 4]
abbrev dktX1_both_2 : List UInt8 := dkwX1_both_2 ++ dktX1_both_3
def dkwX1_both_1 : List UInt8 := [42, 27, 182, 1, 9, 78, 42, 28, 182, 1, 9, 58, 4, 45, 180, 1, 16, 25, 4, 180, 1, 16, 126]
abbrev dktX1_both_1 : List UInt8 := dkwX1_both_1 ++ dktX1_both_2
def dkwX1_both_0 : List UInt8 := [42, 27, 182, 1, 6, 42, 28, 182, 1, 6, 42, 27, 28, 159, 0, 7, 4, 167, 0, 4, 3, 182, 0, 160]
abbrev dktX1_both_0 : List UInt8 := dkwX1_both_0 ++ dktX1_both_1
theorem dksX1_both_0 : cX1_both.data.toList.drop 0 = dktX1_both_0 := by decide +kernel
theorem dksX1_both_1 : cX1_both.data.toList.drop 24 = dktX1_both_1 := dk_seg dksX1_both_0 24 rfl rfl
theorem dksX1_both_2 : cX1_both.data.toList.drop 47 = dktX1_both_2 := dk_seg dksX1_both_1 23 rfl rfl
theorem dksX1_both_3 : cX1_both.data.toList.drop 71 = dktX1_both_3 := dk_seg dksX1_both_2 24 rfl rfl
theorem dX1_both_0 : decode cX1_both 0 = .ok (.aload_n 0, 1) := dk_42 (dk_at dksX1_both_0 0 rfl rfl)
theorem dX1_both_1 : decode cX1_both 1 = .ok (.iload_n 1, 1) := dk_27 (dk_at dksX1_both_0 1 rfl rfl)
theorem dX1_both_2 : decode cX1_both 2 = .ok (.invokevirtual 262, 3) := dk_182 1 6 (dk_at dksX1_both_0 2 rfl rfl)
theorem dX1_both_5 : decode cX1_both 5 = .ok (.aload_n 0, 1) := dk_42 (dk_at dksX1_both_0 5 rfl rfl)
theorem dX1_both_6 : decode cX1_both 6 = .ok (.iload_n 2, 1) := dk_28 (dk_at dksX1_both_0 6 rfl rfl)
theorem dX1_both_7 : decode cX1_both 7 = .ok (.invokevirtual 262, 3) := dk_182 1 6 (dk_at dksX1_both_0 7 rfl rfl)
theorem dX1_both_10 : decode cX1_both 10 = .ok (.aload_n 0, 1) := dk_42 (dk_at dksX1_both_0 10 rfl rfl)
theorem dX1_both_11 : decode cX1_both 11 = .ok (.iload_n 1, 1) := dk_27 (dk_at dksX1_both_0 11 rfl rfl)
theorem dX1_both_12 : decode cX1_both 12 = .ok (.iload_n 2, 1) := dk_28 (dk_at dksX1_both_0 12 rfl rfl)
theorem dX1_both_13 : decode cX1_both 13 = .ok (.if_icmp .eq 7, 3) := dk_159 0 7 (dk_at dksX1_both_0 13 rfl rfl)
theorem dX1_both_16 : decode cX1_both 16 = .ok (.iconst 1, 1) := dk_4 (dk_at dksX1_both_0 16 rfl rfl)
theorem dX1_both_17 : decode cX1_both 17 = .ok (.goto 4, 3) := dk_167 0 4 (dk_at dksX1_both_0 17 rfl rfl)
theorem dX1_both_20 : decode cX1_both 20 = .ok (.iconst 0, 1) := dk_3 (dk_at dksX1_both_0 20 rfl rfl)
theorem dX1_both_21 : decode cX1_both 21 = .ok (.invokevirtual 160, 3) := dk_182 0 160 (dk_at dksX1_both_0 21 rfl rfl)
theorem dX1_both_24 : decode cX1_both 24 = .ok (.aload_n 0, 1) := dk_42 (dk_at dksX1_both_1 0 rfl rfl)
theorem dX1_both_25 : decode cX1_both 25 = .ok (.iload_n 1, 1) := dk_27 (dk_at dksX1_both_1 1 rfl rfl)
theorem dX1_both_26 : decode cX1_both 26 = .ok (.invokevirtual 265, 3) := dk_182 1 9 (dk_at dksX1_both_1 2 rfl rfl)
theorem dX1_both_29 : decode cX1_both 29 = .ok (.astore_n 3, 1) := dk_78 (dk_at dksX1_both_1 5 rfl rfl)
theorem dX1_both_30 : decode cX1_both 30 = .ok (.aload_n 0, 1) := dk_42 (dk_at dksX1_both_1 6 rfl rfl)
theorem dX1_both_31 : decode cX1_both 31 = .ok (.iload_n 2, 1) := dk_28 (dk_at dksX1_both_1 7 rfl rfl)
theorem dX1_both_32 : decode cX1_both 32 = .ok (.invokevirtual 265, 3) := dk_182 1 9 (dk_at dksX1_both_1 8 rfl rfl)
theorem dX1_both_35 : decode cX1_both 35 = .ok (.astore 4, 2) := dk_58 4 (dk_at dksX1_both_1 11 rfl rfl)
theorem dX1_both_37 : decode cX1_both 37 = .ok (.aload_n 3, 1) := dk_45 (dk_at dksX1_both_1 13 rfl rfl)
theorem dX1_both_38 : decode cX1_both 38 = .ok (.getfield 272, 3) := dk_180 1 16 (dk_at dksX1_both_1 14 rfl rfl)
theorem dX1_both_41 : decode cX1_both 41 = .ok (.aload 4, 2) := dk_25 4 (dk_at dksX1_both_1 17 rfl rfl)
theorem dX1_both_43 : decode cX1_both 43 = .ok (.getfield 272, 3) := dk_180 1 16 (dk_at dksX1_both_1 19 rfl rfl)
theorem dX1_both_46 : decode cX1_both 46 = .ok (.iand, 1) := dk_126 (dk_at dksX1_both_1 22 rfl rfl)
theorem dX1_both_47 : decode cX1_both 47 = .ok (.ifCond .ne 43, 3) := dk_154 0 43 (dk_at dksX1_both_2 0 rfl rfl)
theorem dX1_both_50 : decode cX1_both 50 = .ok (.aload_n 0, 1) := dk_42 (dk_at dksX1_both_2 3 rfl rfl)
theorem dX1_both_51 : decode cX1_both 51 = .ok (.aload_n 3, 1) := dk_45 (dk_at dksX1_both_2 4 rfl rfl)
theorem dX1_both_52 : decode cX1_both 52 = .ok (.invokevirtual 384, 3) := dk_182 1 128 (dk_at dksX1_both_2 5 rfl rfl)
theorem dX1_both_55 : decode cX1_both 55 = .ok (.ifCond .eq 35, 3) := dk_153 0 35 (dk_at dksX1_both_2 8 rfl rfl)
theorem dX1_both_58 : decode cX1_both 58 = .ok (.aload_n 0, 1) := dk_42 (dk_at dksX1_both_2 11 rfl rfl)
theorem dX1_both_59 : decode cX1_both 59 = .ok (.aload 4, 2) := dk_25 4 (dk_at dksX1_both_2 12 rfl rfl)
theorem dX1_both_61 : decode cX1_both 61 = .ok (.invokevirtual 384, 3) := dk_182 1 128 (dk_at dksX1_both_2 14 rfl rfl)
theorem dX1_both_64 : decode cX1_both 64 = .ok (.ifCond .eq 26, 3) := dk_153 0 26 (dk_at dksX1_both_2 17 rfl rfl)
theorem dX1_both_67 : decode cX1_both 67 = .ok (.aload_n 0, 1) := dk_42 (dk_at dksX1_both_2 20 rfl rfl)
theorem dX1_both_68 : decode cX1_both 68 = .ok (.aload_n 3, 1) := dk_45 (dk_at dksX1_both_2 21 rfl rfl)
theorem dX1_both_69 : decode cX1_both 69 = .ok (.aload 4, 2) := dk_25 4 (dk_at dksX1_both_2 22 rfl rfl)
theorem dX1_both_71 : decode cX1_both 71 = .ok (.iconst 0, 1) := dk_3 (dk_at dksX1_both_3 0 rfl rfl)
theorem dX1_both_72 : decode cX1_both 72 = .ok (.aload_n 0, 1) := dk_42 (dk_at dksX1_both_3 1 rfl rfl)
theorem dX1_both_73 : decode cX1_both 73 = .ok (.getfield 58, 3) := dk_180 0 58 (dk_at dksX1_both_3 2 rfl rfl)
theorem dX1_both_76 : decode cX1_both 76 = .ok (.invokevirtual 204, 3) := dk_182 0 204 (dk_at dksX1_both_3 5 rfl rfl)
theorem dX1_both_79 : decode cX1_both 79 = .ok (.iconst 0, 1) := dk_3 (dk_at dksX1_both_3 8 rfl rfl)
theorem dX1_both_80 : decode cX1_both 80 = .ok (.invokevirtual 380, 3) := dk_182 1 124 (dk_at dksX1_both_3 9 rfl rfl)
theorem dX1_both_83 : decode cX1_both 83 = .ok (.ifCond .eq 7, 3) := dk_153 0 7 (dk_at dksX1_both_3 12 rfl rfl)
theorem dX1_both_86 : decode cX1_both 86 = .ok (.iconst 1, 1) := dk_4 (dk_at dksX1_both_3 15 rfl rfl)
theorem dX1_both_87 : decode cX1_both 87 = .ok (.goto 4, 3) := dk_167 0 4 (dk_at dksX1_both_3 16 rfl rfl)
theorem dX1_both_90 : decode cX1_both 90 = .ok (.iconst 0, 1) := dk_3 (dk_at dksX1_both_3 19 rfl rfl)
theorem dX1_both_91 : decode cX1_both 91 = .ok (.ireturn, 1) := dk_172 (dk_at dksX1_both_3 20 rfl rfl)
abbrev cX1_isStrung : ByteArray := prog_1_method_74_code
def yX1_isStrung : MethodName := ⟨RX1, "isStrung", "(LPuppetHeirs$Act;)Z"⟩
def dkwX1_isStrung_1 : List UInt8 := [43, 180, 1, 13, 162, 0, 5, 3, 172, 132, 2, 1, 167, 255, 222, 4, 172]
abbrev dktX1_isStrung_1 : List UInt8 := dkwX1_isStrung_1 ++ []
def dkwX1_isStrung_0 : List UInt8 := [3, 61, 28, 43, 180, 1, 72, 162, 0, 32, 42, 180, 0, 58, 180, 0, 198, 43, 180, 1, 75, 28, 46, 46]
abbrev dktX1_isStrung_0 : List UInt8 := dkwX1_isStrung_0 ++ dktX1_isStrung_1
theorem dksX1_isStrung_0 : cX1_isStrung.data.toList.drop 0 = dktX1_isStrung_0 := by decide +kernel
theorem dksX1_isStrung_1 : cX1_isStrung.data.toList.drop 24 = dktX1_isStrung_1 := dk_seg dksX1_isStrung_0 24 rfl rfl
theorem dX1_isStrung_0 : decode cX1_isStrung 0 = .ok (.iconst 0, 1) := dk_3 (dk_at dksX1_isStrung_0 0 rfl rfl)
theorem dX1_isStrung_1 : decode cX1_isStrung 1 = .ok (.istore_n 2, 1) := dk_61 (dk_at dksX1_isStrung_0 1 rfl rfl)
theorem dX1_isStrung_2 : decode cX1_isStrung 2 = .ok (.iload_n 2, 1) := dk_28 (dk_at dksX1_isStrung_0 2 rfl rfl)
theorem dX1_isStrung_3 : decode cX1_isStrung 3 = .ok (.aload_n 1, 1) := dk_43 (dk_at dksX1_isStrung_0 3 rfl rfl)
theorem dX1_isStrung_4 : decode cX1_isStrung 4 = .ok (.getfield 328, 3) := dk_180 1 72 (dk_at dksX1_isStrung_0 4 rfl rfl)
theorem dX1_isStrung_7 : decode cX1_isStrung 7 = .ok (.if_icmp .ge 32, 3) := dk_162 0 32 (dk_at dksX1_isStrung_0 7 rfl rfl)
theorem dX1_isStrung_10 : decode cX1_isStrung 10 = .ok (.aload_n 0, 1) := dk_42 (dk_at dksX1_isStrung_0 10 rfl rfl)
theorem dX1_isStrung_11 : decode cX1_isStrung 11 = .ok (.getfield 58, 3) := dk_180 0 58 (dk_at dksX1_isStrung_0 11 rfl rfl)
theorem dX1_isStrung_14 : decode cX1_isStrung 14 = .ok (.getfield 198, 3) := dk_180 0 198 (dk_at dksX1_isStrung_0 14 rfl rfl)
theorem dX1_isStrung_17 : decode cX1_isStrung 17 = .ok (.aload_n 1, 1) := dk_43 (dk_at dksX1_isStrung_0 17 rfl rfl)
theorem dX1_isStrung_18 : decode cX1_isStrung 18 = .ok (.getfield 331, 3) := dk_180 1 75 (dk_at dksX1_isStrung_0 18 rfl rfl)
theorem dX1_isStrung_21 : decode cX1_isStrung 21 = .ok (.iload_n 2, 1) := dk_28 (dk_at dksX1_isStrung_0 21 rfl rfl)
theorem dX1_isStrung_22 : decode cX1_isStrung 22 = .ok (.iaload, 1) := dk_46 (dk_at dksX1_isStrung_0 22 rfl rfl)
theorem dX1_isStrung_23 : decode cX1_isStrung 23 = .ok (.iaload, 1) := dk_46 (dk_at dksX1_isStrung_0 23 rfl rfl)
theorem dX1_isStrung_24 : decode cX1_isStrung 24 = .ok (.aload_n 1, 1) := dk_43 (dk_at dksX1_isStrung_1 0 rfl rfl)
theorem dX1_isStrung_25 : decode cX1_isStrung 25 = .ok (.getfield 269, 3) := dk_180 1 13 (dk_at dksX1_isStrung_1 1 rfl rfl)
theorem dX1_isStrung_28 : decode cX1_isStrung 28 = .ok (.if_icmp .ge 5, 3) := dk_162 0 5 (dk_at dksX1_isStrung_1 4 rfl rfl)
theorem dX1_isStrung_31 : decode cX1_isStrung 31 = .ok (.iconst 0, 1) := dk_3 (dk_at dksX1_isStrung_1 7 rfl rfl)
theorem dX1_isStrung_32 : decode cX1_isStrung 32 = .ok (.ireturn, 1) := dk_172 (dk_at dksX1_isStrung_1 8 rfl rfl)
theorem dX1_isStrung_33 : decode cX1_isStrung 33 = .ok (.iinc 2 1, 3) := dk_132 2 1 (dk_at dksX1_isStrung_1 9 rfl rfl)
theorem dX1_isStrung_36 : decode cX1_isStrung 36 = .ok (.goto (-34), 3) := dk_167 255 222 (dk_at dksX1_isStrung_1 12 rfl rfl)
theorem dX1_isStrung_39 : decode cX1_isStrung 39 = .ok (.iconst 1, 1) := dk_4 (dk_at dksX1_isStrung_1 15 rfl rfl)
theorem dX1_isStrung_40 : decode cX1_isStrung 40 = .ok (.ireturn, 1) := dk_172 (dk_at dksX1_isStrung_1 16 rfl rfl)
abbrev cX1_bothOn : ByteArray := prog_1_method_75_code
def yX1_bothOn : MethodName := ⟨RX1, "bothOn", "(LPuppetHeirs$Act;LPuppetHeirs$Act;III)Z"⟩
def dkwX1_bothOn_6 : List UInt8 := [4, 172, 132, 8, 1, 167, 255, 176, 3, 172]
abbrev dktX1_bothOn_6 : List UInt8 := dkwX1_bothOn_6 ++ []
def dkwX1_bothOn_5 : List UInt8 := [42, 43, 44, 29, 4, 96, 21, 4, 21, 8, 2, 130, 126, 21, 5, 21, 8, 128, 182, 1, 124, 153, 0, 5]
abbrev dktX1_bothOn_5 : List UInt8 := dkwX1_bothOn_5 ++ dktX1_bothOn_6
def dkwX1_bothOn_4 : List UInt8 := [180, 0, 244, 21, 6, 46, 160, 0, 44, 42, 21, 5, 21, 8, 128, 182, 1, 81, 153, 0, 6, 167, 0, 29]
abbrev dktX1_bothOn_4 : List UInt8 := dkwX1_bothOn_4 ++ dktX1_bothOn_5
def dkwX1_bothOn_3 : List UInt8 := [162, 0, 78, 21, 8, 21, 7, 2, 130, 126, 154, 0, 62, 21, 8, 184, 0, 207, 42, 180, 0, 31]
abbrev dktX1_bothOn_3 : List UInt8 := dkwX1_bothOn_3 ++ dktX1_bothOn_4
def dkwX1_bothOn_2 : List UInt8 := [180, 0, 31, 180, 1, 78, 21, 6, 46, 2, 130, 126, 54, 7, 4, 54, 8, 21, 8, 17, 2, 0]
abbrev dktX1_bothOn_2 : List UInt8 := dkwX1_bothOn_2 ++ dktX1_bothOn_3
def dkwX1_bothOn_1 : List UInt8 := [180, 1, 75, 29, 46, 167, 0, 14, 44, 180, 1, 75, 29, 43, 180, 1, 72, 100, 46, 54, 6, 21, 4, 42]
abbrev dktX1_bothOn_1 : List UInt8 := dkwX1_bothOn_1 ++ dktX1_bothOn_2
def dkwX1_bothOn_0 : List UInt8 := [29, 43, 180, 1, 72, 44, 180, 1, 72, 96, 160, 0, 5, 4, 172, 29, 43, 180, 1, 72, 162, 0, 12, 43]
abbrev dktX1_bothOn_0 : List UInt8 := dkwX1_bothOn_0 ++ dktX1_bothOn_1
theorem dksX1_bothOn_0 : cX1_bothOn.data.toList.drop 0 = dktX1_bothOn_0 := by decide +kernel
theorem dksX1_bothOn_1 : cX1_bothOn.data.toList.drop 24 = dktX1_bothOn_1 := dk_seg dksX1_bothOn_0 24 rfl rfl
theorem dksX1_bothOn_2 : cX1_bothOn.data.toList.drop 48 = dktX1_bothOn_2 := dk_seg dksX1_bothOn_1 24 rfl rfl
theorem dksX1_bothOn_3 : cX1_bothOn.data.toList.drop 70 = dktX1_bothOn_3 := dk_seg dksX1_bothOn_2 22 rfl rfl
theorem dksX1_bothOn_4 : cX1_bothOn.data.toList.drop 92 = dktX1_bothOn_4 := dk_seg dksX1_bothOn_3 22 rfl rfl
theorem dksX1_bothOn_5 : cX1_bothOn.data.toList.drop 116 = dktX1_bothOn_5 := dk_seg dksX1_bothOn_4 24 rfl rfl
theorem dksX1_bothOn_6 : cX1_bothOn.data.toList.drop 140 = dktX1_bothOn_6 := dk_seg dksX1_bothOn_5 24 rfl rfl
theorem dX1_bothOn_0 : decode cX1_bothOn 0 = .ok (.iload_n 3, 1) := dk_29 (dk_at dksX1_bothOn_0 0 rfl rfl)
theorem dX1_bothOn_1 : decode cX1_bothOn 1 = .ok (.aload_n 1, 1) := dk_43 (dk_at dksX1_bothOn_0 1 rfl rfl)
theorem dX1_bothOn_2 : decode cX1_bothOn 2 = .ok (.getfield 328, 3) := dk_180 1 72 (dk_at dksX1_bothOn_0 2 rfl rfl)
theorem dX1_bothOn_5 : decode cX1_bothOn 5 = .ok (.aload_n 2, 1) := dk_44 (dk_at dksX1_bothOn_0 5 rfl rfl)
theorem dX1_bothOn_6 : decode cX1_bothOn 6 = .ok (.getfield 328, 3) := dk_180 1 72 (dk_at dksX1_bothOn_0 6 rfl rfl)
theorem dX1_bothOn_9 : decode cX1_bothOn 9 = .ok (.iadd, 1) := dk_96 (dk_at dksX1_bothOn_0 9 rfl rfl)
theorem dX1_bothOn_10 : decode cX1_bothOn 10 = .ok (.if_icmp .ne 5, 3) := dk_160 0 5 (dk_at dksX1_bothOn_0 10 rfl rfl)
theorem dX1_bothOn_13 : decode cX1_bothOn 13 = .ok (.iconst 1, 1) := dk_4 (dk_at dksX1_bothOn_0 13 rfl rfl)
theorem dX1_bothOn_14 : decode cX1_bothOn 14 = .ok (.ireturn, 1) := dk_172 (dk_at dksX1_bothOn_0 14 rfl rfl)
theorem dX1_bothOn_15 : decode cX1_bothOn 15 = .ok (.iload_n 3, 1) := dk_29 (dk_at dksX1_bothOn_0 15 rfl rfl)
theorem dX1_bothOn_16 : decode cX1_bothOn 16 = .ok (.aload_n 1, 1) := dk_43 (dk_at dksX1_bothOn_0 16 rfl rfl)
theorem dX1_bothOn_17 : decode cX1_bothOn 17 = .ok (.getfield 328, 3) := dk_180 1 72 (dk_at dksX1_bothOn_0 17 rfl rfl)
theorem dX1_bothOn_20 : decode cX1_bothOn 20 = .ok (.if_icmp .ge 12, 3) := dk_162 0 12 (dk_at dksX1_bothOn_0 20 rfl rfl)
theorem dX1_bothOn_23 : decode cX1_bothOn 23 = .ok (.aload_n 1, 1) := dk_43 (dk_at dksX1_bothOn_0 23 rfl rfl)
theorem dX1_bothOn_24 : decode cX1_bothOn 24 = .ok (.getfield 331, 3) := dk_180 1 75 (dk_at dksX1_bothOn_1 0 rfl rfl)
theorem dX1_bothOn_27 : decode cX1_bothOn 27 = .ok (.iload_n 3, 1) := dk_29 (dk_at dksX1_bothOn_1 3 rfl rfl)
theorem dX1_bothOn_28 : decode cX1_bothOn 28 = .ok (.iaload, 1) := dk_46 (dk_at dksX1_bothOn_1 4 rfl rfl)
theorem dX1_bothOn_29 : decode cX1_bothOn 29 = .ok (.goto 14, 3) := dk_167 0 14 (dk_at dksX1_bothOn_1 5 rfl rfl)
theorem dX1_bothOn_32 : decode cX1_bothOn 32 = .ok (.aload_n 2, 1) := dk_44 (dk_at dksX1_bothOn_1 8 rfl rfl)
theorem dX1_bothOn_33 : decode cX1_bothOn 33 = .ok (.getfield 331, 3) := dk_180 1 75 (dk_at dksX1_bothOn_1 9 rfl rfl)
theorem dX1_bothOn_36 : decode cX1_bothOn 36 = .ok (.iload_n 3, 1) := dk_29 (dk_at dksX1_bothOn_1 12 rfl rfl)
theorem dX1_bothOn_37 : decode cX1_bothOn 37 = .ok (.aload_n 1, 1) := dk_43 (dk_at dksX1_bothOn_1 13 rfl rfl)
theorem dX1_bothOn_38 : decode cX1_bothOn 38 = .ok (.getfield 328, 3) := dk_180 1 72 (dk_at dksX1_bothOn_1 14 rfl rfl)
theorem dX1_bothOn_41 : decode cX1_bothOn 41 = .ok (.isub, 1) := dk_100 (dk_at dksX1_bothOn_1 17 rfl rfl)
theorem dX1_bothOn_42 : decode cX1_bothOn 42 = .ok (.iaload, 1) := dk_46 (dk_at dksX1_bothOn_1 18 rfl rfl)
theorem dX1_bothOn_43 : decode cX1_bothOn 43 = .ok (.istore 6, 2) := dk_54 6 (dk_at dksX1_bothOn_1 19 rfl rfl)
theorem dX1_bothOn_45 : decode cX1_bothOn 45 = .ok (.iload 4, 2) := dk_21 4 (dk_at dksX1_bothOn_1 21 rfl rfl)
theorem dX1_bothOn_47 : decode cX1_bothOn 47 = .ok (.aload_n 0, 1) := dk_42 (dk_at dksX1_bothOn_1 23 rfl rfl)
theorem dX1_bothOn_48 : decode cX1_bothOn 48 = .ok (.getfield 31, 3) := dk_180 0 31 (dk_at dksX1_bothOn_2 0 rfl rfl)
theorem dX1_bothOn_51 : decode cX1_bothOn 51 = .ok (.getfield 334, 3) := dk_180 1 78 (dk_at dksX1_bothOn_2 3 rfl rfl)
theorem dX1_bothOn_54 : decode cX1_bothOn 54 = .ok (.iload 6, 2) := dk_21 6 (dk_at dksX1_bothOn_2 6 rfl rfl)
theorem dX1_bothOn_56 : decode cX1_bothOn 56 = .ok (.iaload, 1) := dk_46 (dk_at dksX1_bothOn_2 8 rfl rfl)
theorem dX1_bothOn_57 : decode cX1_bothOn 57 = .ok (.iconst (-1), 1) := dk_2 (dk_at dksX1_bothOn_2 9 rfl rfl)
theorem dX1_bothOn_58 : decode cX1_bothOn 58 = .ok (.ixor, 1) := dk_130 (dk_at dksX1_bothOn_2 10 rfl rfl)
theorem dX1_bothOn_59 : decode cX1_bothOn 59 = .ok (.iand, 1) := dk_126 (dk_at dksX1_bothOn_2 11 rfl rfl)
theorem dX1_bothOn_60 : decode cX1_bothOn 60 = .ok (.istore 7, 2) := dk_54 7 (dk_at dksX1_bothOn_2 12 rfl rfl)
theorem dX1_bothOn_62 : decode cX1_bothOn 62 = .ok (.iconst 1, 1) := dk_4 (dk_at dksX1_bothOn_2 14 rfl rfl)
theorem dX1_bothOn_63 : decode cX1_bothOn 63 = .ok (.istore 8, 2) := dk_54 8 (dk_at dksX1_bothOn_2 15 rfl rfl)
theorem dX1_bothOn_65 : decode cX1_bothOn 65 = .ok (.iload 8, 2) := dk_21 8 (dk_at dksX1_bothOn_2 17 rfl rfl)
theorem dX1_bothOn_67 : decode cX1_bothOn 67 = .ok (.sipush 512, 3) := dk_17 2 0 (dk_at dksX1_bothOn_2 19 rfl rfl)
theorem dX1_bothOn_70 : decode cX1_bothOn 70 = .ok (.if_icmp .ge 78, 3) := dk_162 0 78 (dk_at dksX1_bothOn_3 0 rfl rfl)
theorem dX1_bothOn_73 : decode cX1_bothOn 73 = .ok (.iload 8, 2) := dk_21 8 (dk_at dksX1_bothOn_3 3 rfl rfl)
theorem dX1_bothOn_75 : decode cX1_bothOn 75 = .ok (.iload 7, 2) := dk_21 7 (dk_at dksX1_bothOn_3 5 rfl rfl)
theorem dX1_bothOn_77 : decode cX1_bothOn 77 = .ok (.iconst (-1), 1) := dk_2 (dk_at dksX1_bothOn_3 7 rfl rfl)
theorem dX1_bothOn_78 : decode cX1_bothOn 78 = .ok (.ixor, 1) := dk_130 (dk_at dksX1_bothOn_3 8 rfl rfl)
theorem dX1_bothOn_79 : decode cX1_bothOn 79 = .ok (.iand, 1) := dk_126 (dk_at dksX1_bothOn_3 9 rfl rfl)
theorem dX1_bothOn_80 : decode cX1_bothOn 80 = .ok (.ifCond .ne 62, 3) := dk_154 0 62 (dk_at dksX1_bothOn_3 10 rfl rfl)
theorem dX1_bothOn_83 : decode cX1_bothOn 83 = .ok (.iload 8, 2) := dk_21 8 (dk_at dksX1_bothOn_3 13 rfl rfl)
theorem dX1_bothOn_85 : decode cX1_bothOn 85 = .ok (.invokestatic 207, 3) := dk_184 0 207 (dk_at dksX1_bothOn_3 15 rfl rfl)
theorem dX1_bothOn_88 : decode cX1_bothOn 88 = .ok (.aload_n 0, 1) := dk_42 (dk_at dksX1_bothOn_3 18 rfl rfl)
theorem dX1_bothOn_89 : decode cX1_bothOn 89 = .ok (.getfield 31, 3) := dk_180 0 31 (dk_at dksX1_bothOn_3 19 rfl rfl)
theorem dX1_bothOn_92 : decode cX1_bothOn 92 = .ok (.getfield 244, 3) := dk_180 0 244 (dk_at dksX1_bothOn_4 0 rfl rfl)
theorem dX1_bothOn_95 : decode cX1_bothOn 95 = .ok (.iload 6, 2) := dk_21 6 (dk_at dksX1_bothOn_4 3 rfl rfl)
theorem dX1_bothOn_97 : decode cX1_bothOn 97 = .ok (.iaload, 1) := dk_46 (dk_at dksX1_bothOn_4 5 rfl rfl)
theorem dX1_bothOn_98 : decode cX1_bothOn 98 = .ok (.if_icmp .ne 44, 3) := dk_160 0 44 (dk_at dksX1_bothOn_4 6 rfl rfl)
theorem dX1_bothOn_101 : decode cX1_bothOn 101 = .ok (.aload_n 0, 1) := dk_42 (dk_at dksX1_bothOn_4 9 rfl rfl)
theorem dX1_bothOn_102 : decode cX1_bothOn 102 = .ok (.iload 5, 2) := dk_21 5 (dk_at dksX1_bothOn_4 10 rfl rfl)
theorem dX1_bothOn_104 : decode cX1_bothOn 104 = .ok (.iload 8, 2) := dk_21 8 (dk_at dksX1_bothOn_4 12 rfl rfl)
theorem dX1_bothOn_106 : decode cX1_bothOn 106 = .ok (.ior, 1) := dk_128 (dk_at dksX1_bothOn_4 14 rfl rfl)
theorem dX1_bothOn_107 : decode cX1_bothOn 107 = .ok (.invokevirtual 337, 3) := dk_182 1 81 (dk_at dksX1_bothOn_4 15 rfl rfl)
theorem dX1_bothOn_110 : decode cX1_bothOn 110 = .ok (.ifCond .eq 6, 3) := dk_153 0 6 (dk_at dksX1_bothOn_4 18 rfl rfl)
theorem dX1_bothOn_113 : decode cX1_bothOn 113 = .ok (.goto 29, 3) := dk_167 0 29 (dk_at dksX1_bothOn_4 21 rfl rfl)
theorem dX1_bothOn_116 : decode cX1_bothOn 116 = .ok (.aload_n 0, 1) := dk_42 (dk_at dksX1_bothOn_5 0 rfl rfl)
theorem dX1_bothOn_117 : decode cX1_bothOn 117 = .ok (.aload_n 1, 1) := dk_43 (dk_at dksX1_bothOn_5 1 rfl rfl)
theorem dX1_bothOn_118 : decode cX1_bothOn 118 = .ok (.aload_n 2, 1) := dk_44 (dk_at dksX1_bothOn_5 2 rfl rfl)
theorem dX1_bothOn_119 : decode cX1_bothOn 119 = .ok (.iload_n 3, 1) := dk_29 (dk_at dksX1_bothOn_5 3 rfl rfl)
theorem dX1_bothOn_120 : decode cX1_bothOn 120 = .ok (.iconst 1, 1) := dk_4 (dk_at dksX1_bothOn_5 4 rfl rfl)
theorem dX1_bothOn_121 : decode cX1_bothOn 121 = .ok (.iadd, 1) := dk_96 (dk_at dksX1_bothOn_5 5 rfl rfl)
theorem dX1_bothOn_122 : decode cX1_bothOn 122 = .ok (.iload 4, 2) := dk_21 4 (dk_at dksX1_bothOn_5 6 rfl rfl)
theorem dX1_bothOn_124 : decode cX1_bothOn 124 = .ok (.iload 8, 2) := dk_21 8 (dk_at dksX1_bothOn_5 8 rfl rfl)
theorem dX1_bothOn_126 : decode cX1_bothOn 126 = .ok (.iconst (-1), 1) := dk_2 (dk_at dksX1_bothOn_5 10 rfl rfl)
theorem dX1_bothOn_127 : decode cX1_bothOn 127 = .ok (.ixor, 1) := dk_130 (dk_at dksX1_bothOn_5 11 rfl rfl)
theorem dX1_bothOn_128 : decode cX1_bothOn 128 = .ok (.iand, 1) := dk_126 (dk_at dksX1_bothOn_5 12 rfl rfl)
theorem dX1_bothOn_129 : decode cX1_bothOn 129 = .ok (.iload 5, 2) := dk_21 5 (dk_at dksX1_bothOn_5 13 rfl rfl)
theorem dX1_bothOn_131 : decode cX1_bothOn 131 = .ok (.iload 8, 2) := dk_21 8 (dk_at dksX1_bothOn_5 15 rfl rfl)
theorem dX1_bothOn_133 : decode cX1_bothOn 133 = .ok (.ior, 1) := dk_128 (dk_at dksX1_bothOn_5 17 rfl rfl)
theorem dX1_bothOn_134 : decode cX1_bothOn 134 = .ok (.invokevirtual 380, 3) := dk_182 1 124 (dk_at dksX1_bothOn_5 18 rfl rfl)
theorem dX1_bothOn_137 : decode cX1_bothOn 137 = .ok (.ifCond .eq 5, 3) := dk_153 0 5 (dk_at dksX1_bothOn_5 21 rfl rfl)
theorem dX1_bothOn_140 : decode cX1_bothOn 140 = .ok (.iconst 1, 1) := dk_4 (dk_at dksX1_bothOn_6 0 rfl rfl)
theorem dX1_bothOn_141 : decode cX1_bothOn 141 = .ok (.ireturn, 1) := dk_172 (dk_at dksX1_bothOn_6 1 rfl rfl)
theorem dX1_bothOn_142 : decode cX1_bothOn 142 = .ok (.iinc 8 1, 3) := dk_132 8 1 (dk_at dksX1_bothOn_6 2 rfl rfl)
theorem dX1_bothOn_145 : decode cX1_bothOn 145 = .ok (.goto (-80), 3) := dk_167 255 176 (dk_at dksX1_bothOn_6 5 rfl rfl)
theorem dX1_bothOn_148 : decode cX1_bothOn 148 = .ok (.iconst 0, 1) := dk_3 (dk_at dksX1_bothOn_6 8 rfl rfl)
theorem dX1_bothOn_149 : decode cX1_bothOn 149 = .ok (.ireturn, 1) := dk_172 (dk_at dksX1_bothOn_6 9 rfl rfl)
abbrev cX1_thumbs : ByteArray := prog_1_method_77_code
def yX1_thumbs : MethodName := ⟨RX1, "thumbs", "(I)I"⟩
def dkwX1_thumbs_4 : List UInt8 := [167, 255, 194, 28, 172]
abbrev dktX1_thumbs_4 : List UInt8 := dkwX1_thumbs_4 ++ []
def dkwX1_thumbs_3 : List UInt8 := [120, 2, 130, 126, 182, 1, 51, 154, 0, 9, 4, 29, 120, 167, 0, 4, 3, 128, 61, 132, 3, 1]
abbrev dktX1_thumbs_3 : List UInt8 := dkwX1_thumbs_3 ++ dktX1_thumbs_4
def dkwX1_thumbs_2 : List UInt8 := [180, 0, 226, 29, 46, 4, 160, 0, 34, 42, 42, 180, 0, 58, 27, 42, 180, 0, 58, 182, 0, 204, 4, 29]
abbrev dktX1_thumbs_2 : List UInt8 := dkwX1_thumbs_2 ++ dktX1_thumbs_3
def dkwX1_thumbs_1 : List UInt8 := [3, 172, 3, 61, 3, 62, 29, 42, 180, 0, 31, 180, 0, 126, 162, 0, 57, 28, 42, 180, 0, 58]
abbrev dktX1_thumbs_1 : List UInt8 := dkwX1_thumbs_1 ++ dktX1_thumbs_2
def dkwX1_thumbs_0 : List UInt8 := [42, 27, 182, 1, 6, 42, 42, 180, 0, 58, 27, 42, 180, 0, 58, 182, 0, 204, 182, 1, 51, 154, 0, 5]
abbrev dktX1_thumbs_0 : List UInt8 := dkwX1_thumbs_0 ++ dktX1_thumbs_1
theorem dksX1_thumbs_0 : cX1_thumbs.data.toList.drop 0 = dktX1_thumbs_0 := by decide +kernel
theorem dksX1_thumbs_1 : cX1_thumbs.data.toList.drop 24 = dktX1_thumbs_1 := dk_seg dksX1_thumbs_0 24 rfl rfl
theorem dksX1_thumbs_2 : cX1_thumbs.data.toList.drop 46 = dktX1_thumbs_2 := dk_seg dksX1_thumbs_1 22 rfl rfl
theorem dksX1_thumbs_3 : cX1_thumbs.data.toList.drop 70 = dktX1_thumbs_3 := dk_seg dksX1_thumbs_2 24 rfl rfl
theorem dksX1_thumbs_4 : cX1_thumbs.data.toList.drop 92 = dktX1_thumbs_4 := dk_seg dksX1_thumbs_3 22 rfl rfl
theorem dX1_thumbs_0 : decode cX1_thumbs 0 = .ok (.aload_n 0, 1) := dk_42 (dk_at dksX1_thumbs_0 0 rfl rfl)
theorem dX1_thumbs_1 : decode cX1_thumbs 1 = .ok (.iload_n 1, 1) := dk_27 (dk_at dksX1_thumbs_0 1 rfl rfl)
theorem dX1_thumbs_2 : decode cX1_thumbs 2 = .ok (.invokevirtual 262, 3) := dk_182 1 6 (dk_at dksX1_thumbs_0 2 rfl rfl)
theorem dX1_thumbs_5 : decode cX1_thumbs 5 = .ok (.aload_n 0, 1) := dk_42 (dk_at dksX1_thumbs_0 5 rfl rfl)
theorem dX1_thumbs_6 : decode cX1_thumbs 6 = .ok (.aload_n 0, 1) := dk_42 (dk_at dksX1_thumbs_0 6 rfl rfl)
theorem dX1_thumbs_7 : decode cX1_thumbs 7 = .ok (.getfield 58, 3) := dk_180 0 58 (dk_at dksX1_thumbs_0 7 rfl rfl)
theorem dX1_thumbs_10 : decode cX1_thumbs 10 = .ok (.iload_n 1, 1) := dk_27 (dk_at dksX1_thumbs_0 10 rfl rfl)
theorem dX1_thumbs_11 : decode cX1_thumbs 11 = .ok (.aload_n 0, 1) := dk_42 (dk_at dksX1_thumbs_0 11 rfl rfl)
theorem dX1_thumbs_12 : decode cX1_thumbs 12 = .ok (.getfield 58, 3) := dk_180 0 58 (dk_at dksX1_thumbs_0 12 rfl rfl)
theorem dX1_thumbs_15 : decode cX1_thumbs 15 = .ok (.invokevirtual 204, 3) := dk_182 0 204 (dk_at dksX1_thumbs_0 15 rfl rfl)
theorem dX1_thumbs_18 : decode cX1_thumbs 18 = .ok (.invokevirtual 307, 3) := dk_182 1 51 (dk_at dksX1_thumbs_0 18 rfl rfl)
theorem dX1_thumbs_21 : decode cX1_thumbs 21 = .ok (.ifCond .ne 5, 3) := dk_154 0 5 (dk_at dksX1_thumbs_0 21 rfl rfl)
theorem dX1_thumbs_24 : decode cX1_thumbs 24 = .ok (.iconst 0, 1) := dk_3 (dk_at dksX1_thumbs_1 0 rfl rfl)
theorem dX1_thumbs_25 : decode cX1_thumbs 25 = .ok (.ireturn, 1) := dk_172 (dk_at dksX1_thumbs_1 1 rfl rfl)
theorem dX1_thumbs_26 : decode cX1_thumbs 26 = .ok (.iconst 0, 1) := dk_3 (dk_at dksX1_thumbs_1 2 rfl rfl)
theorem dX1_thumbs_27 : decode cX1_thumbs 27 = .ok (.istore_n 2, 1) := dk_61 (dk_at dksX1_thumbs_1 3 rfl rfl)
theorem dX1_thumbs_28 : decode cX1_thumbs 28 = .ok (.iconst 0, 1) := dk_3 (dk_at dksX1_thumbs_1 4 rfl rfl)
theorem dX1_thumbs_29 : decode cX1_thumbs 29 = .ok (.istore_n 3, 1) := dk_62 (dk_at dksX1_thumbs_1 5 rfl rfl)
theorem dX1_thumbs_30 : decode cX1_thumbs 30 = .ok (.iload_n 3, 1) := dk_29 (dk_at dksX1_thumbs_1 6 rfl rfl)
theorem dX1_thumbs_31 : decode cX1_thumbs 31 = .ok (.aload_n 0, 1) := dk_42 (dk_at dksX1_thumbs_1 7 rfl rfl)
theorem dX1_thumbs_32 : decode cX1_thumbs 32 = .ok (.getfield 31, 3) := dk_180 0 31 (dk_at dksX1_thumbs_1 8 rfl rfl)
theorem dX1_thumbs_35 : decode cX1_thumbs 35 = .ok (.getfield 126, 3) := dk_180 0 126 (dk_at dksX1_thumbs_1 11 rfl rfl)
theorem dX1_thumbs_38 : decode cX1_thumbs 38 = .ok (.if_icmp .ge 57, 3) := dk_162 0 57 (dk_at dksX1_thumbs_1 14 rfl rfl)
theorem dX1_thumbs_41 : decode cX1_thumbs 41 = .ok (.iload_n 2, 1) := dk_28 (dk_at dksX1_thumbs_1 17 rfl rfl)
theorem dX1_thumbs_42 : decode cX1_thumbs 42 = .ok (.aload_n 0, 1) := dk_42 (dk_at dksX1_thumbs_1 18 rfl rfl)
theorem dX1_thumbs_43 : decode cX1_thumbs 43 = .ok (.getfield 58, 3) := dk_180 0 58 (dk_at dksX1_thumbs_1 19 rfl rfl)
theorem dX1_thumbs_46 : decode cX1_thumbs 46 = .ok (.getfield 226, 3) := dk_180 0 226 (dk_at dksX1_thumbs_2 0 rfl rfl)
theorem dX1_thumbs_49 : decode cX1_thumbs 49 = .ok (.iload_n 3, 1) := dk_29 (dk_at dksX1_thumbs_2 3 rfl rfl)
theorem dX1_thumbs_50 : decode cX1_thumbs 50 = .ok (.iaload, 1) := dk_46 (dk_at dksX1_thumbs_2 4 rfl rfl)
theorem dX1_thumbs_51 : decode cX1_thumbs 51 = .ok (.iconst 1, 1) := dk_4 (dk_at dksX1_thumbs_2 5 rfl rfl)
theorem dX1_thumbs_52 : decode cX1_thumbs 52 = .ok (.if_icmp .ne 34, 3) := dk_160 0 34 (dk_at dksX1_thumbs_2 6 rfl rfl)
theorem dX1_thumbs_55 : decode cX1_thumbs 55 = .ok (.aload_n 0, 1) := dk_42 (dk_at dksX1_thumbs_2 9 rfl rfl)
theorem dX1_thumbs_56 : decode cX1_thumbs 56 = .ok (.aload_n 0, 1) := dk_42 (dk_at dksX1_thumbs_2 10 rfl rfl)
theorem dX1_thumbs_57 : decode cX1_thumbs 57 = .ok (.getfield 58, 3) := dk_180 0 58 (dk_at dksX1_thumbs_2 11 rfl rfl)
theorem dX1_thumbs_60 : decode cX1_thumbs 60 = .ok (.iload_n 1, 1) := dk_27 (dk_at dksX1_thumbs_2 14 rfl rfl)
theorem dX1_thumbs_61 : decode cX1_thumbs 61 = .ok (.aload_n 0, 1) := dk_42 (dk_at dksX1_thumbs_2 15 rfl rfl)
theorem dX1_thumbs_62 : decode cX1_thumbs 62 = .ok (.getfield 58, 3) := dk_180 0 58 (dk_at dksX1_thumbs_2 16 rfl rfl)
theorem dX1_thumbs_65 : decode cX1_thumbs 65 = .ok (.invokevirtual 204, 3) := dk_182 0 204 (dk_at dksX1_thumbs_2 19 rfl rfl)
theorem dX1_thumbs_68 : decode cX1_thumbs 68 = .ok (.iconst 1, 1) := dk_4 (dk_at dksX1_thumbs_2 22 rfl rfl)
theorem dX1_thumbs_69 : decode cX1_thumbs 69 = .ok (.iload_n 3, 1) := dk_29 (dk_at dksX1_thumbs_2 23 rfl rfl)
theorem dX1_thumbs_70 : decode cX1_thumbs 70 = .ok (.ishl, 1) := dk_120 (dk_at dksX1_thumbs_3 0 rfl rfl)
theorem dX1_thumbs_71 : decode cX1_thumbs 71 = .ok (.iconst (-1), 1) := dk_2 (dk_at dksX1_thumbs_3 1 rfl rfl)
theorem dX1_thumbs_72 : decode cX1_thumbs 72 = .ok (.ixor, 1) := dk_130 (dk_at dksX1_thumbs_3 2 rfl rfl)
theorem dX1_thumbs_73 : decode cX1_thumbs 73 = .ok (.iand, 1) := dk_126 (dk_at dksX1_thumbs_3 3 rfl rfl)
theorem dX1_thumbs_74 : decode cX1_thumbs 74 = .ok (.invokevirtual 307, 3) := dk_182 1 51 (dk_at dksX1_thumbs_3 4 rfl rfl)
theorem dX1_thumbs_77 : decode cX1_thumbs 77 = .ok (.ifCond .ne 9, 3) := dk_154 0 9 (dk_at dksX1_thumbs_3 7 rfl rfl)
theorem dX1_thumbs_80 : decode cX1_thumbs 80 = .ok (.iconst 1, 1) := dk_4 (dk_at dksX1_thumbs_3 10 rfl rfl)
theorem dX1_thumbs_81 : decode cX1_thumbs 81 = .ok (.iload_n 3, 1) := dk_29 (dk_at dksX1_thumbs_3 11 rfl rfl)
theorem dX1_thumbs_82 : decode cX1_thumbs 82 = .ok (.ishl, 1) := dk_120 (dk_at dksX1_thumbs_3 12 rfl rfl)
theorem dX1_thumbs_83 : decode cX1_thumbs 83 = .ok (.goto 4, 3) := dk_167 0 4 (dk_at dksX1_thumbs_3 13 rfl rfl)
theorem dX1_thumbs_86 : decode cX1_thumbs 86 = .ok (.iconst 0, 1) := dk_3 (dk_at dksX1_thumbs_3 16 rfl rfl)
theorem dX1_thumbs_87 : decode cX1_thumbs 87 = .ok (.ior, 1) := dk_128 (dk_at dksX1_thumbs_3 17 rfl rfl)
theorem dX1_thumbs_88 : decode cX1_thumbs 88 = .ok (.istore_n 2, 1) := dk_61 (dk_at dksX1_thumbs_3 18 rfl rfl)
theorem dX1_thumbs_89 : decode cX1_thumbs 89 = .ok (.iinc 3 1, 3) := dk_132 3 1 (dk_at dksX1_thumbs_3 19 rfl rfl)
theorem dX1_thumbs_92 : decode cX1_thumbs 92 = .ok (.goto (-62), 3) := dk_167 255 194 (dk_at dksX1_thumbs_4 0 rfl rfl)
theorem dX1_thumbs_95 : decode cX1_thumbs 95 = .ok (.iload_n 2, 1) := dk_28 (dk_at dksX1_thumbs_4 3 rfl rfl)
theorem dX1_thumbs_96 : decode cX1_thumbs 96 = .ok (.ireturn, 1) := dk_172 (dk_at dksX1_thumbs_4 4 rfl rfl)
abbrev cX1_first : ByteArray := prog_1_method_78_code
def yX1_first : MethodName := ⟨RX1, "first", "(I)I"⟩
def dkwX1_first_4 : List UInt8 := [182, 1, 121, 164, 0, 5, 29, 61, 132, 3, 1, 167, 255, 174, 28, 172]
abbrev dktX1_first_4 : List UInt8 := dkwX1_first_4 ++ []
def dkwX1_first_3 : List UInt8 := [42, 180, 0, 31, 180, 0, 220, 28, 46, 162, 0, 21, 167, 0, 16, 42, 29, 182, 1, 121, 42, 28]
abbrev dktX1_first_3 : List UInt8 := dkwX1_first_3 ++ dktX1_first_4
def dkwX1_first_2 : List UInt8 := [159, 0, 6, 167, 0, 51, 28, 2, 159, 0, 44, 27, 154, 0, 27, 42, 180, 0, 31, 180, 0, 220, 29, 46]
abbrev dktX1_first_2 : List UInt8 := dkwX1_first_2 ++ dktX1_first_3
def dkwX1_first_1 : List UInt8 := [180, 0, 31, 180, 0, 126, 162, 0, 77, 27, 154, 0, 19, 42, 180, 0, 58, 180, 0, 226, 29, 46, 4]
abbrev dktX1_first_1 : List UInt8 := dkwX1_first_1 ++ dktX1_first_2
def dkwX1_first_0 : List UInt8 := [42, 27, 153, 0, 8, 27, 4, 160, 0, 7, 4, 167, 0, 4, 3, 182, 0, 160, 2, 61, 3, 62, 29, 42]
abbrev dktX1_first_0 : List UInt8 := dkwX1_first_0 ++ dktX1_first_1
theorem dksX1_first_0 : cX1_first.data.toList.drop 0 = dktX1_first_0 := by decide +kernel
theorem dksX1_first_1 : cX1_first.data.toList.drop 24 = dktX1_first_1 := dk_seg dksX1_first_0 24 rfl rfl
theorem dksX1_first_2 : cX1_first.data.toList.drop 47 = dktX1_first_2 := dk_seg dksX1_first_1 23 rfl rfl
theorem dksX1_first_3 : cX1_first.data.toList.drop 71 = dktX1_first_3 := dk_seg dksX1_first_2 24 rfl rfl
theorem dksX1_first_4 : cX1_first.data.toList.drop 93 = dktX1_first_4 := dk_seg dksX1_first_3 22 rfl rfl
theorem dX1_first_0 : decode cX1_first 0 = .ok (.aload_n 0, 1) := dk_42 (dk_at dksX1_first_0 0 rfl rfl)
theorem dX1_first_1 : decode cX1_first 1 = .ok (.iload_n 1, 1) := dk_27 (dk_at dksX1_first_0 1 rfl rfl)
theorem dX1_first_2 : decode cX1_first 2 = .ok (.ifCond .eq 8, 3) := dk_153 0 8 (dk_at dksX1_first_0 2 rfl rfl)
theorem dX1_first_5 : decode cX1_first 5 = .ok (.iload_n 1, 1) := dk_27 (dk_at dksX1_first_0 5 rfl rfl)
theorem dX1_first_6 : decode cX1_first 6 = .ok (.iconst 1, 1) := dk_4 (dk_at dksX1_first_0 6 rfl rfl)
theorem dX1_first_7 : decode cX1_first 7 = .ok (.if_icmp .ne 7, 3) := dk_160 0 7 (dk_at dksX1_first_0 7 rfl rfl)
theorem dX1_first_10 : decode cX1_first 10 = .ok (.iconst 1, 1) := dk_4 (dk_at dksX1_first_0 10 rfl rfl)
theorem dX1_first_11 : decode cX1_first 11 = .ok (.goto 4, 3) := dk_167 0 4 (dk_at dksX1_first_0 11 rfl rfl)
theorem dX1_first_14 : decode cX1_first 14 = .ok (.iconst 0, 1) := dk_3 (dk_at dksX1_first_0 14 rfl rfl)
theorem dX1_first_15 : decode cX1_first 15 = .ok (.invokevirtual 160, 3) := dk_182 0 160 (dk_at dksX1_first_0 15 rfl rfl)
theorem dX1_first_18 : decode cX1_first 18 = .ok (.iconst (-1), 1) := dk_2 (dk_at dksX1_first_0 18 rfl rfl)
theorem dX1_first_19 : decode cX1_first 19 = .ok (.istore_n 2, 1) := dk_61 (dk_at dksX1_first_0 19 rfl rfl)
theorem dX1_first_20 : decode cX1_first 20 = .ok (.iconst 0, 1) := dk_3 (dk_at dksX1_first_0 20 rfl rfl)
theorem dX1_first_21 : decode cX1_first 21 = .ok (.istore_n 3, 1) := dk_62 (dk_at dksX1_first_0 21 rfl rfl)
theorem dX1_first_22 : decode cX1_first 22 = .ok (.iload_n 3, 1) := dk_29 (dk_at dksX1_first_0 22 rfl rfl)
theorem dX1_first_23 : decode cX1_first 23 = .ok (.aload_n 0, 1) := dk_42 (dk_at dksX1_first_0 23 rfl rfl)
theorem dX1_first_24 : decode cX1_first 24 = .ok (.getfield 31, 3) := dk_180 0 31 (dk_at dksX1_first_1 0 rfl rfl)
theorem dX1_first_27 : decode cX1_first 27 = .ok (.getfield 126, 3) := dk_180 0 126 (dk_at dksX1_first_1 3 rfl rfl)
theorem dX1_first_30 : decode cX1_first 30 = .ok (.if_icmp .ge 77, 3) := dk_162 0 77 (dk_at dksX1_first_1 6 rfl rfl)
theorem dX1_first_33 : decode cX1_first 33 = .ok (.iload_n 1, 1) := dk_27 (dk_at dksX1_first_1 9 rfl rfl)
theorem dX1_first_34 : decode cX1_first 34 = .ok (.ifCond .ne 19, 3) := dk_154 0 19 (dk_at dksX1_first_1 10 rfl rfl)
theorem dX1_first_37 : decode cX1_first 37 = .ok (.aload_n 0, 1) := dk_42 (dk_at dksX1_first_1 13 rfl rfl)
theorem dX1_first_38 : decode cX1_first 38 = .ok (.getfield 58, 3) := dk_180 0 58 (dk_at dksX1_first_1 14 rfl rfl)
theorem dX1_first_41 : decode cX1_first 41 = .ok (.getfield 226, 3) := dk_180 0 226 (dk_at dksX1_first_1 17 rfl rfl)
theorem dX1_first_44 : decode cX1_first 44 = .ok (.iload_n 3, 1) := dk_29 (dk_at dksX1_first_1 20 rfl rfl)
theorem dX1_first_45 : decode cX1_first 45 = .ok (.iaload, 1) := dk_46 (dk_at dksX1_first_1 21 rfl rfl)
theorem dX1_first_46 : decode cX1_first 46 = .ok (.iconst 1, 1) := dk_4 (dk_at dksX1_first_1 22 rfl rfl)
theorem dX1_first_47 : decode cX1_first 47 = .ok (.if_icmp .eq 6, 3) := dk_159 0 6 (dk_at dksX1_first_2 0 rfl rfl)
theorem dX1_first_50 : decode cX1_first 50 = .ok (.goto 51, 3) := dk_167 0 51 (dk_at dksX1_first_2 3 rfl rfl)
theorem dX1_first_53 : decode cX1_first 53 = .ok (.iload_n 2, 1) := dk_28 (dk_at dksX1_first_2 6 rfl rfl)
theorem dX1_first_54 : decode cX1_first 54 = .ok (.iconst (-1), 1) := dk_2 (dk_at dksX1_first_2 7 rfl rfl)
theorem dX1_first_55 : decode cX1_first 55 = .ok (.if_icmp .eq 44, 3) := dk_159 0 44 (dk_at dksX1_first_2 8 rfl rfl)
theorem dX1_first_58 : decode cX1_first 58 = .ok (.iload_n 1, 1) := dk_27 (dk_at dksX1_first_2 11 rfl rfl)
theorem dX1_first_59 : decode cX1_first 59 = .ok (.ifCond .ne 27, 3) := dk_154 0 27 (dk_at dksX1_first_2 12 rfl rfl)
theorem dX1_first_62 : decode cX1_first 62 = .ok (.aload_n 0, 1) := dk_42 (dk_at dksX1_first_2 15 rfl rfl)
theorem dX1_first_63 : decode cX1_first 63 = .ok (.getfield 31, 3) := dk_180 0 31 (dk_at dksX1_first_2 16 rfl rfl)
theorem dX1_first_66 : decode cX1_first 66 = .ok (.getfield 220, 3) := dk_180 0 220 (dk_at dksX1_first_2 19 rfl rfl)
theorem dX1_first_69 : decode cX1_first 69 = .ok (.iload_n 3, 1) := dk_29 (dk_at dksX1_first_2 22 rfl rfl)
theorem dX1_first_70 : decode cX1_first 70 = .ok (.iaload, 1) := dk_46 (dk_at dksX1_first_2 23 rfl rfl)
theorem dX1_first_71 : decode cX1_first 71 = .ok (.aload_n 0, 1) := dk_42 (dk_at dksX1_first_3 0 rfl rfl)
theorem dX1_first_72 : decode cX1_first 72 = .ok (.getfield 31, 3) := dk_180 0 31 (dk_at dksX1_first_3 1 rfl rfl)
theorem dX1_first_75 : decode cX1_first 75 = .ok (.getfield 220, 3) := dk_180 0 220 (dk_at dksX1_first_3 4 rfl rfl)
theorem dX1_first_78 : decode cX1_first 78 = .ok (.iload_n 2, 1) := dk_28 (dk_at dksX1_first_3 7 rfl rfl)
theorem dX1_first_79 : decode cX1_first 79 = .ok (.iaload, 1) := dk_46 (dk_at dksX1_first_3 8 rfl rfl)
theorem dX1_first_80 : decode cX1_first 80 = .ok (.if_icmp .ge 21, 3) := dk_162 0 21 (dk_at dksX1_first_3 9 rfl rfl)
theorem dX1_first_83 : decode cX1_first 83 = .ok (.goto 16, 3) := dk_167 0 16 (dk_at dksX1_first_3 12 rfl rfl)
theorem dX1_first_86 : decode cX1_first 86 = .ok (.aload_n 0, 1) := dk_42 (dk_at dksX1_first_3 15 rfl rfl)
theorem dX1_first_87 : decode cX1_first 87 = .ok (.iload_n 3, 1) := dk_29 (dk_at dksX1_first_3 16 rfl rfl)
theorem dX1_first_88 : decode cX1_first 88 = .ok (.invokevirtual 377, 3) := dk_182 1 121 (dk_at dksX1_first_3 17 rfl rfl)
theorem dX1_first_91 : decode cX1_first 91 = .ok (.aload_n 0, 1) := dk_42 (dk_at dksX1_first_3 20 rfl rfl)
theorem dX1_first_92 : decode cX1_first 92 = .ok (.iload_n 2, 1) := dk_28 (dk_at dksX1_first_3 21 rfl rfl)
theorem dX1_first_93 : decode cX1_first 93 = .ok (.invokevirtual 377, 3) := dk_182 1 121 (dk_at dksX1_first_4 0 rfl rfl)
theorem dX1_first_96 : decode cX1_first 96 = .ok (.if_icmp .le 5, 3) := dk_164 0 5 (dk_at dksX1_first_4 3 rfl rfl)
theorem dX1_first_99 : decode cX1_first 99 = .ok (.iload_n 3, 1) := dk_29 (dk_at dksX1_first_4 6 rfl rfl)
theorem dX1_first_100 : decode cX1_first 100 = .ok (.istore_n 2, 1) := dk_61 (dk_at dksX1_first_4 7 rfl rfl)
theorem dX1_first_101 : decode cX1_first 101 = .ok (.iinc 3 1, 3) := dk_132 3 1 (dk_at dksX1_first_4 8 rfl rfl)
theorem dX1_first_104 : decode cX1_first 104 = .ok (.goto (-82), 3) := dk_167 255 174 (dk_at dksX1_first_4 11 rfl rfl)
theorem dX1_first_107 : decode cX1_first 107 = .ok (.iload_n 2, 1) := dk_28 (dk_at dksX1_first_4 14 rfl rfl)
theorem dX1_first_108 : decode cX1_first 108 = .ok (.ireturn, 1) := dk_172 (dk_at dksX1_first_4 15 rfl rfl)
abbrev cX1_reach : ByteArray := prog_1_method_80_code
def yX1_reach : MethodName := ⟨RX1, "reach", "(I)I"⟩
def dkwX1_reach_5 : List UInt8 := [167, 255, 149, 28, 172]
abbrev dktX1_reach_5 : List UInt8 := dkwX1_reach_5 ++ []
def dkwX1_reach_4 : List UInt8 := [28, 4, 25, 4, 180, 1, 75, 21, 5, 46, 120, 128, 61, 132, 5, 1, 167, 255, 179, 132, 3, 1]
abbrev dktX1_reach_4 : List UInt8 := dkwX1_reach_4 ++ dktX1_reach_5
def dkwX1_reach_3 : List UInt8 := [3, 42, 180, 0, 58, 182, 0, 204, 3, 27, 25, 4, 180, 1, 75, 21, 5, 46, 182, 1, 132, 153, 0, 16]
abbrev dktX1_reach_3 : List UInt8 := dkwX1_reach_3 ++ dktX1_reach_4
def dkwX1_reach_2 : List UInt8 := [180, 1, 75, 21, 5, 46, 122, 4, 126, 154, 0, 52, 42, 25, 4, 182, 1, 128, 153, 0, 43, 42, 25, 4]
abbrev dktX1_reach_2 : List UInt8 := dkwX1_reach_2 ++ dktX1_reach_3
def dkwX1_reach_1 : List UInt8 := [29, 182, 1, 9, 58, 4, 3, 54, 5, 21, 5, 25, 4, 180, 1, 72, 162, 0, 73, 28, 25, 4]
abbrev dktX1_reach_1 : List UInt8 := dkwX1_reach_1 ++ dktX1_reach_2
def dkwX1_reach_0 : List UInt8 := [42, 27, 182, 0, 217, 3, 61, 3, 62, 29, 42, 180, 0, 31, 180, 0, 136, 182, 0, 140, 162, 0, 99, 42]
abbrev dktX1_reach_0 : List UInt8 := dkwX1_reach_0 ++ dktX1_reach_1
theorem dksX1_reach_0 : cX1_reach.data.toList.drop 0 = dktX1_reach_0 := by decide +kernel
theorem dksX1_reach_1 : cX1_reach.data.toList.drop 24 = dktX1_reach_1 := dk_seg dksX1_reach_0 24 rfl rfl
theorem dksX1_reach_2 : cX1_reach.data.toList.drop 46 = dktX1_reach_2 := dk_seg dksX1_reach_1 22 rfl rfl
theorem dksX1_reach_3 : cX1_reach.data.toList.drop 70 = dktX1_reach_3 := dk_seg dksX1_reach_2 24 rfl rfl
theorem dksX1_reach_4 : cX1_reach.data.toList.drop 94 = dktX1_reach_4 := dk_seg dksX1_reach_3 24 rfl rfl
theorem dksX1_reach_5 : cX1_reach.data.toList.drop 116 = dktX1_reach_5 := dk_seg dksX1_reach_4 22 rfl rfl
theorem dX1_reach_0 : decode cX1_reach 0 = .ok (.aload_n 0, 1) := dk_42 (dk_at dksX1_reach_0 0 rfl rfl)
theorem dX1_reach_1 : decode cX1_reach 1 = .ok (.iload_n 1, 1) := dk_27 (dk_at dksX1_reach_0 1 rfl rfl)
theorem dX1_reach_2 : decode cX1_reach 2 = .ok (.invokevirtual 217, 3) := dk_182 0 217 (dk_at dksX1_reach_0 2 rfl rfl)
theorem dX1_reach_5 : decode cX1_reach 5 = .ok (.iconst 0, 1) := dk_3 (dk_at dksX1_reach_0 5 rfl rfl)
theorem dX1_reach_6 : decode cX1_reach 6 = .ok (.istore_n 2, 1) := dk_61 (dk_at dksX1_reach_0 6 rfl rfl)
theorem dX1_reach_7 : decode cX1_reach 7 = .ok (.iconst 0, 1) := dk_3 (dk_at dksX1_reach_0 7 rfl rfl)
theorem dX1_reach_8 : decode cX1_reach 8 = .ok (.istore_n 3, 1) := dk_62 (dk_at dksX1_reach_0 8 rfl rfl)
theorem dX1_reach_9 : decode cX1_reach 9 = .ok (.iload_n 3, 1) := dk_29 (dk_at dksX1_reach_0 9 rfl rfl)
theorem dX1_reach_10 : decode cX1_reach 10 = .ok (.aload_n 0, 1) := dk_42 (dk_at dksX1_reach_0 10 rfl rfl)
theorem dX1_reach_11 : decode cX1_reach 11 = .ok (.getfield 31, 3) := dk_180 0 31 (dk_at dksX1_reach_0 11 rfl rfl)
theorem dX1_reach_14 : decode cX1_reach 14 = .ok (.getfield 136, 3) := dk_180 0 136 (dk_at dksX1_reach_0 14 rfl rfl)
theorem dX1_reach_17 : decode cX1_reach 17 = .ok (.invokevirtual 140, 3) := dk_182 0 140 (dk_at dksX1_reach_0 17 rfl rfl)
theorem dX1_reach_20 : decode cX1_reach 20 = .ok (.if_icmp .ge 99, 3) := dk_162 0 99 (dk_at dksX1_reach_0 20 rfl rfl)
theorem dX1_reach_23 : decode cX1_reach 23 = .ok (.aload_n 0, 1) := dk_42 (dk_at dksX1_reach_0 23 rfl rfl)
theorem dX1_reach_24 : decode cX1_reach 24 = .ok (.iload_n 3, 1) := dk_29 (dk_at dksX1_reach_1 0 rfl rfl)
theorem dX1_reach_25 : decode cX1_reach 25 = .ok (.invokevirtual 265, 3) := dk_182 1 9 (dk_at dksX1_reach_1 1 rfl rfl)
theorem dX1_reach_28 : decode cX1_reach 28 = .ok (.astore 4, 2) := dk_58 4 (dk_at dksX1_reach_1 4 rfl rfl)
theorem dX1_reach_30 : decode cX1_reach 30 = .ok (.iconst 0, 1) := dk_3 (dk_at dksX1_reach_1 6 rfl rfl)
theorem dX1_reach_31 : decode cX1_reach 31 = .ok (.istore 5, 2) := dk_54 5 (dk_at dksX1_reach_1 7 rfl rfl)
theorem dX1_reach_33 : decode cX1_reach 33 = .ok (.iload 5, 2) := dk_21 5 (dk_at dksX1_reach_1 9 rfl rfl)
theorem dX1_reach_35 : decode cX1_reach 35 = .ok (.aload 4, 2) := dk_25 4 (dk_at dksX1_reach_1 11 rfl rfl)
theorem dX1_reach_37 : decode cX1_reach 37 = .ok (.getfield 328, 3) := dk_180 1 72 (dk_at dksX1_reach_1 13 rfl rfl)
theorem dX1_reach_40 : decode cX1_reach 40 = .ok (.if_icmp .ge 73, 3) := dk_162 0 73 (dk_at dksX1_reach_1 16 rfl rfl)
theorem dX1_reach_43 : decode cX1_reach 43 = .ok (.iload_n 2, 1) := dk_28 (dk_at dksX1_reach_1 19 rfl rfl)
theorem dX1_reach_44 : decode cX1_reach 44 = .ok (.aload 4, 2) := dk_25 4 (dk_at dksX1_reach_1 20 rfl rfl)
theorem dX1_reach_46 : decode cX1_reach 46 = .ok (.getfield 331, 3) := dk_180 1 75 (dk_at dksX1_reach_2 0 rfl rfl)
theorem dX1_reach_49 : decode cX1_reach 49 = .ok (.iload 5, 2) := dk_21 5 (dk_at dksX1_reach_2 3 rfl rfl)
theorem dX1_reach_51 : decode cX1_reach 51 = .ok (.iaload, 1) := dk_46 (dk_at dksX1_reach_2 5 rfl rfl)
theorem dX1_reach_52 : decode cX1_reach 52 = .ok (.ishr, 1) := dk_122 (dk_at dksX1_reach_2 6 rfl rfl)
theorem dX1_reach_53 : decode cX1_reach 53 = .ok (.iconst 1, 1) := dk_4 (dk_at dksX1_reach_2 7 rfl rfl)
theorem dX1_reach_54 : decode cX1_reach 54 = .ok (.iand, 1) := dk_126 (dk_at dksX1_reach_2 8 rfl rfl)
theorem dX1_reach_55 : decode cX1_reach 55 = .ok (.ifCond .ne 52, 3) := dk_154 0 52 (dk_at dksX1_reach_2 9 rfl rfl)
theorem dX1_reach_58 : decode cX1_reach 58 = .ok (.aload_n 0, 1) := dk_42 (dk_at dksX1_reach_2 12 rfl rfl)
theorem dX1_reach_59 : decode cX1_reach 59 = .ok (.aload 4, 2) := dk_25 4 (dk_at dksX1_reach_2 13 rfl rfl)
theorem dX1_reach_61 : decode cX1_reach 61 = .ok (.invokevirtual 384, 3) := dk_182 1 128 (dk_at dksX1_reach_2 15 rfl rfl)
theorem dX1_reach_64 : decode cX1_reach 64 = .ok (.ifCond .eq 43, 3) := dk_153 0 43 (dk_at dksX1_reach_2 18 rfl rfl)
theorem dX1_reach_67 : decode cX1_reach 67 = .ok (.aload_n 0, 1) := dk_42 (dk_at dksX1_reach_2 21 rfl rfl)
theorem dX1_reach_68 : decode cX1_reach 68 = .ok (.aload 4, 2) := dk_25 4 (dk_at dksX1_reach_2 22 rfl rfl)
theorem dX1_reach_70 : decode cX1_reach 70 = .ok (.iconst 0, 1) := dk_3 (dk_at dksX1_reach_3 0 rfl rfl)
theorem dX1_reach_71 : decode cX1_reach 71 = .ok (.aload_n 0, 1) := dk_42 (dk_at dksX1_reach_3 1 rfl rfl)
theorem dX1_reach_72 : decode cX1_reach 72 = .ok (.getfield 58, 3) := dk_180 0 58 (dk_at dksX1_reach_3 2 rfl rfl)
theorem dX1_reach_75 : decode cX1_reach 75 = .ok (.invokevirtual 204, 3) := dk_182 0 204 (dk_at dksX1_reach_3 5 rfl rfl)
theorem dX1_reach_78 : decode cX1_reach 78 = .ok (.iconst 0, 1) := dk_3 (dk_at dksX1_reach_3 8 rfl rfl)
theorem dX1_reach_79 : decode cX1_reach 79 = .ok (.iload_n 1, 1) := dk_27 (dk_at dksX1_reach_3 9 rfl rfl)
theorem dX1_reach_80 : decode cX1_reach 80 = .ok (.aload 4, 2) := dk_25 4 (dk_at dksX1_reach_3 10 rfl rfl)
theorem dX1_reach_82 : decode cX1_reach 82 = .ok (.getfield 331, 3) := dk_180 1 75 (dk_at dksX1_reach_3 12 rfl rfl)
theorem dX1_reach_85 : decode cX1_reach 85 = .ok (.iload 5, 2) := dk_21 5 (dk_at dksX1_reach_3 15 rfl rfl)
theorem dX1_reach_87 : decode cX1_reach 87 = .ok (.iaload, 1) := dk_46 (dk_at dksX1_reach_3 17 rfl rfl)
theorem dX1_reach_88 : decode cX1_reach 88 = .ok (.invokevirtual 388, 3) := dk_182 1 132 (dk_at dksX1_reach_3 18 rfl rfl)
theorem dX1_reach_91 : decode cX1_reach 91 = .ok (.ifCond .eq 16, 3) := dk_153 0 16 (dk_at dksX1_reach_3 21 rfl rfl)
theorem dX1_reach_94 : decode cX1_reach 94 = .ok (.iload_n 2, 1) := dk_28 (dk_at dksX1_reach_4 0 rfl rfl)
theorem dX1_reach_95 : decode cX1_reach 95 = .ok (.iconst 1, 1) := dk_4 (dk_at dksX1_reach_4 1 rfl rfl)
theorem dX1_reach_96 : decode cX1_reach 96 = .ok (.aload 4, 2) := dk_25 4 (dk_at dksX1_reach_4 2 rfl rfl)
theorem dX1_reach_98 : decode cX1_reach 98 = .ok (.getfield 331, 3) := dk_180 1 75 (dk_at dksX1_reach_4 4 rfl rfl)
theorem dX1_reach_101 : decode cX1_reach 101 = .ok (.iload 5, 2) := dk_21 5 (dk_at dksX1_reach_4 7 rfl rfl)
theorem dX1_reach_103 : decode cX1_reach 103 = .ok (.iaload, 1) := dk_46 (dk_at dksX1_reach_4 9 rfl rfl)
theorem dX1_reach_104 : decode cX1_reach 104 = .ok (.ishl, 1) := dk_120 (dk_at dksX1_reach_4 10 rfl rfl)
theorem dX1_reach_105 : decode cX1_reach 105 = .ok (.ior, 1) := dk_128 (dk_at dksX1_reach_4 11 rfl rfl)
theorem dX1_reach_106 : decode cX1_reach 106 = .ok (.istore_n 2, 1) := dk_61 (dk_at dksX1_reach_4 12 rfl rfl)
theorem dX1_reach_107 : decode cX1_reach 107 = .ok (.iinc 5 1, 3) := dk_132 5 1 (dk_at dksX1_reach_4 13 rfl rfl)
theorem dX1_reach_110 : decode cX1_reach 110 = .ok (.goto (-77), 3) := dk_167 255 179 (dk_at dksX1_reach_4 16 rfl rfl)
theorem dX1_reach_113 : decode cX1_reach 113 = .ok (.iinc 3 1, 3) := dk_132 3 1 (dk_at dksX1_reach_4 19 rfl rfl)
theorem dX1_reach_116 : decode cX1_reach 116 = .ok (.goto (-107), 3) := dk_167 255 149 (dk_at dksX1_reach_5 0 rfl rfl)
theorem dX1_reach_119 : decode cX1_reach 119 = .ok (.iload_n 2, 1) := dk_28 (dk_at dksX1_reach_5 3 rfl rfl)
theorem dX1_reach_120 : decode cX1_reach 120 = .ok (.ireturn, 1) := dk_172 (dk_at dksX1_reach_5 4 rfl rfl)
abbrev cX1_isIn : ByteArray := prog_1_method_79_code
def yX1_isIn : MethodName := ⟨RX1, "isIn", "(LPuppetHeirs$Act;IIIII)Z"⟩
def dkwX1_isIn_6 : List UInt8 := [21, 6, 182, 1, 132, 153, 0, 5, 4, 172, 132, 9, 1, 167, 255, 140, 3, 172]
abbrev dktX1_isIn_6 : List UInt8 := dkwX1_isIn_6 ++ []
def dkwX1_isIn_5 : List UInt8 := [159, 0, 6, 167, 0, 31, 42, 43, 28, 4, 96, 29, 21, 9, 2, 130, 126, 21, 4, 21, 9, 128, 21, 5]
abbrev dktX1_isIn_5 : List UInt8 := dkwX1_isIn_5 ++ dktX1_isIn_6
def dkwX1_isIn_4 : List UInt8 := [160, 0, 7, 4, 167, 0, 4, 3, 21, 9, 21, 5, 122, 4, 126, 4, 160, 0, 7, 4, 167, 0, 4, 3]
abbrev dktX1_isIn_4 : List UInt8 := dkwX1_isIn_4 ++ dktX1_isIn_5
def dkwX1_isIn_3 : List UInt8 := [160, 0, 80, 42, 21, 4, 21, 9, 128, 182, 1, 81, 153, 0, 6, 167, 0, 65, 21, 7, 21, 6]
abbrev dktX1_isIn_3 : List UInt8 := dkwX1_isIn_3 ++ dktX1_isIn_4
def dkwX1_isIn_2 : List UInt8 := [21, 8, 2, 130, 126, 154, 0, 98, 21, 9, 184, 0, 207, 42, 180, 0, 31, 180, 0, 244, 21, 7, 46]
abbrev dktX1_isIn_2 : List UInt8 := dkwX1_isIn_2 ++ dktX1_isIn_3
def dkwX1_isIn_1 : List UInt8 := [180, 1, 78, 21, 7, 46, 2, 130, 126, 54, 8, 4, 54, 9, 21, 9, 17, 2, 0, 162, 0, 114, 21, 9]
abbrev dktX1_isIn_1 : List UInt8 := dkwX1_isIn_1 ++ dktX1_isIn_2
def dkwX1_isIn_0 : List UInt8 := [28, 43, 180, 1, 72, 160, 0, 5, 4, 172, 43, 180, 1, 75, 28, 46, 54, 7, 29, 42, 180, 0, 31]
abbrev dktX1_isIn_0 : List UInt8 := dkwX1_isIn_0 ++ dktX1_isIn_1
theorem dksX1_isIn_0 : cX1_isIn.data.toList.drop 0 = dktX1_isIn_0 := by decide +kernel
theorem dksX1_isIn_1 : cX1_isIn.data.toList.drop 23 = dktX1_isIn_1 := dk_seg dksX1_isIn_0 23 rfl rfl
theorem dksX1_isIn_2 : cX1_isIn.data.toList.drop 47 = dktX1_isIn_2 := dk_seg dksX1_isIn_1 24 rfl rfl
theorem dksX1_isIn_3 : cX1_isIn.data.toList.drop 70 = dktX1_isIn_3 := dk_seg dksX1_isIn_2 23 rfl rfl
theorem dksX1_isIn_4 : cX1_isIn.data.toList.drop 92 = dktX1_isIn_4 := dk_seg dksX1_isIn_3 22 rfl rfl
theorem dksX1_isIn_5 : cX1_isIn.data.toList.drop 116 = dktX1_isIn_5 := dk_seg dksX1_isIn_4 24 rfl rfl
theorem dksX1_isIn_6 : cX1_isIn.data.toList.drop 140 = dktX1_isIn_6 := dk_seg dksX1_isIn_5 24 rfl rfl
theorem dX1_isIn_0 : decode cX1_isIn 0 = .ok (.iload_n 2, 1) := dk_28 (dk_at dksX1_isIn_0 0 rfl rfl)
theorem dX1_isIn_1 : decode cX1_isIn 1 = .ok (.aload_n 1, 1) := dk_43 (dk_at dksX1_isIn_0 1 rfl rfl)
theorem dX1_isIn_2 : decode cX1_isIn 2 = .ok (.getfield 328, 3) := dk_180 1 72 (dk_at dksX1_isIn_0 2 rfl rfl)
theorem dX1_isIn_5 : decode cX1_isIn 5 = .ok (.if_icmp .ne 5, 3) := dk_160 0 5 (dk_at dksX1_isIn_0 5 rfl rfl)
theorem dX1_isIn_8 : decode cX1_isIn 8 = .ok (.iconst 1, 1) := dk_4 (dk_at dksX1_isIn_0 8 rfl rfl)
theorem dX1_isIn_9 : decode cX1_isIn 9 = .ok (.ireturn, 1) := dk_172 (dk_at dksX1_isIn_0 9 rfl rfl)
theorem dX1_isIn_10 : decode cX1_isIn 10 = .ok (.aload_n 1, 1) := dk_43 (dk_at dksX1_isIn_0 10 rfl rfl)
theorem dX1_isIn_11 : decode cX1_isIn 11 = .ok (.getfield 331, 3) := dk_180 1 75 (dk_at dksX1_isIn_0 11 rfl rfl)
theorem dX1_isIn_14 : decode cX1_isIn 14 = .ok (.iload_n 2, 1) := dk_28 (dk_at dksX1_isIn_0 14 rfl rfl)
theorem dX1_isIn_15 : decode cX1_isIn 15 = .ok (.iaload, 1) := dk_46 (dk_at dksX1_isIn_0 15 rfl rfl)
theorem dX1_isIn_16 : decode cX1_isIn 16 = .ok (.istore 7, 2) := dk_54 7 (dk_at dksX1_isIn_0 16 rfl rfl)
theorem dX1_isIn_18 : decode cX1_isIn 18 = .ok (.iload_n 3, 1) := dk_29 (dk_at dksX1_isIn_0 18 rfl rfl)
theorem dX1_isIn_19 : decode cX1_isIn 19 = .ok (.aload_n 0, 1) := dk_42 (dk_at dksX1_isIn_0 19 rfl rfl)
theorem dX1_isIn_20 : decode cX1_isIn 20 = .ok (.getfield 31, 3) := dk_180 0 31 (dk_at dksX1_isIn_0 20 rfl rfl)
theorem dX1_isIn_23 : decode cX1_isIn 23 = .ok (.getfield 334, 3) := dk_180 1 78 (dk_at dksX1_isIn_1 0 rfl rfl)
theorem dX1_isIn_26 : decode cX1_isIn 26 = .ok (.iload 7, 2) := dk_21 7 (dk_at dksX1_isIn_1 3 rfl rfl)
theorem dX1_isIn_28 : decode cX1_isIn 28 = .ok (.iaload, 1) := dk_46 (dk_at dksX1_isIn_1 5 rfl rfl)
theorem dX1_isIn_29 : decode cX1_isIn 29 = .ok (.iconst (-1), 1) := dk_2 (dk_at dksX1_isIn_1 6 rfl rfl)
theorem dX1_isIn_30 : decode cX1_isIn 30 = .ok (.ixor, 1) := dk_130 (dk_at dksX1_isIn_1 7 rfl rfl)
theorem dX1_isIn_31 : decode cX1_isIn 31 = .ok (.iand, 1) := dk_126 (dk_at dksX1_isIn_1 8 rfl rfl)
theorem dX1_isIn_32 : decode cX1_isIn 32 = .ok (.istore 8, 2) := dk_54 8 (dk_at dksX1_isIn_1 9 rfl rfl)
theorem dX1_isIn_34 : decode cX1_isIn 34 = .ok (.iconst 1, 1) := dk_4 (dk_at dksX1_isIn_1 11 rfl rfl)
theorem dX1_isIn_35 : decode cX1_isIn 35 = .ok (.istore 9, 2) := dk_54 9 (dk_at dksX1_isIn_1 12 rfl rfl)
theorem dX1_isIn_37 : decode cX1_isIn 37 = .ok (.iload 9, 2) := dk_21 9 (dk_at dksX1_isIn_1 14 rfl rfl)
theorem dX1_isIn_39 : decode cX1_isIn 39 = .ok (.sipush 512, 3) := dk_17 2 0 (dk_at dksX1_isIn_1 16 rfl rfl)
theorem dX1_isIn_42 : decode cX1_isIn 42 = .ok (.if_icmp .ge 114, 3) := dk_162 0 114 (dk_at dksX1_isIn_1 19 rfl rfl)
theorem dX1_isIn_45 : decode cX1_isIn 45 = .ok (.iload 9, 2) := dk_21 9 (dk_at dksX1_isIn_1 22 rfl rfl)
theorem dX1_isIn_47 : decode cX1_isIn 47 = .ok (.iload 8, 2) := dk_21 8 (dk_at dksX1_isIn_2 0 rfl rfl)
theorem dX1_isIn_49 : decode cX1_isIn 49 = .ok (.iconst (-1), 1) := dk_2 (dk_at dksX1_isIn_2 2 rfl rfl)
theorem dX1_isIn_50 : decode cX1_isIn 50 = .ok (.ixor, 1) := dk_130 (dk_at dksX1_isIn_2 3 rfl rfl)
theorem dX1_isIn_51 : decode cX1_isIn 51 = .ok (.iand, 1) := dk_126 (dk_at dksX1_isIn_2 4 rfl rfl)
theorem dX1_isIn_52 : decode cX1_isIn 52 = .ok (.ifCond .ne 98, 3) := dk_154 0 98 (dk_at dksX1_isIn_2 5 rfl rfl)
theorem dX1_isIn_55 : decode cX1_isIn 55 = .ok (.iload 9, 2) := dk_21 9 (dk_at dksX1_isIn_2 8 rfl rfl)
theorem dX1_isIn_57 : decode cX1_isIn 57 = .ok (.invokestatic 207, 3) := dk_184 0 207 (dk_at dksX1_isIn_2 10 rfl rfl)
theorem dX1_isIn_60 : decode cX1_isIn 60 = .ok (.aload_n 0, 1) := dk_42 (dk_at dksX1_isIn_2 13 rfl rfl)
theorem dX1_isIn_61 : decode cX1_isIn 61 = .ok (.getfield 31, 3) := dk_180 0 31 (dk_at dksX1_isIn_2 14 rfl rfl)
theorem dX1_isIn_64 : decode cX1_isIn 64 = .ok (.getfield 244, 3) := dk_180 0 244 (dk_at dksX1_isIn_2 17 rfl rfl)
theorem dX1_isIn_67 : decode cX1_isIn 67 = .ok (.iload 7, 2) := dk_21 7 (dk_at dksX1_isIn_2 20 rfl rfl)
theorem dX1_isIn_69 : decode cX1_isIn 69 = .ok (.iaload, 1) := dk_46 (dk_at dksX1_isIn_2 22 rfl rfl)
theorem dX1_isIn_70 : decode cX1_isIn 70 = .ok (.if_icmp .ne 80, 3) := dk_160 0 80 (dk_at dksX1_isIn_3 0 rfl rfl)
theorem dX1_isIn_73 : decode cX1_isIn 73 = .ok (.aload_n 0, 1) := dk_42 (dk_at dksX1_isIn_3 3 rfl rfl)
theorem dX1_isIn_74 : decode cX1_isIn 74 = .ok (.iload 4, 2) := dk_21 4 (dk_at dksX1_isIn_3 4 rfl rfl)
theorem dX1_isIn_76 : decode cX1_isIn 76 = .ok (.iload 9, 2) := dk_21 9 (dk_at dksX1_isIn_3 6 rfl rfl)
theorem dX1_isIn_78 : decode cX1_isIn 78 = .ok (.ior, 1) := dk_128 (dk_at dksX1_isIn_3 8 rfl rfl)
theorem dX1_isIn_79 : decode cX1_isIn 79 = .ok (.invokevirtual 337, 3) := dk_182 1 81 (dk_at dksX1_isIn_3 9 rfl rfl)
theorem dX1_isIn_82 : decode cX1_isIn 82 = .ok (.ifCond .eq 6, 3) := dk_153 0 6 (dk_at dksX1_isIn_3 12 rfl rfl)
theorem dX1_isIn_85 : decode cX1_isIn 85 = .ok (.goto 65, 3) := dk_167 0 65 (dk_at dksX1_isIn_3 15 rfl rfl)
theorem dX1_isIn_88 : decode cX1_isIn 88 = .ok (.iload 7, 2) := dk_21 7 (dk_at dksX1_isIn_3 18 rfl rfl)
theorem dX1_isIn_90 : decode cX1_isIn 90 = .ok (.iload 6, 2) := dk_21 6 (dk_at dksX1_isIn_3 20 rfl rfl)
theorem dX1_isIn_92 : decode cX1_isIn 92 = .ok (.if_icmp .ne 7, 3) := dk_160 0 7 (dk_at dksX1_isIn_4 0 rfl rfl)
theorem dX1_isIn_95 : decode cX1_isIn 95 = .ok (.iconst 1, 1) := dk_4 (dk_at dksX1_isIn_4 3 rfl rfl)
theorem dX1_isIn_96 : decode cX1_isIn 96 = .ok (.goto 4, 3) := dk_167 0 4 (dk_at dksX1_isIn_4 4 rfl rfl)
theorem dX1_isIn_99 : decode cX1_isIn 99 = .ok (.iconst 0, 1) := dk_3 (dk_at dksX1_isIn_4 7 rfl rfl)
theorem dX1_isIn_100 : decode cX1_isIn 100 = .ok (.iload 9, 2) := dk_21 9 (dk_at dksX1_isIn_4 8 rfl rfl)
theorem dX1_isIn_102 : decode cX1_isIn 102 = .ok (.iload 5, 2) := dk_21 5 (dk_at dksX1_isIn_4 10 rfl rfl)
theorem dX1_isIn_104 : decode cX1_isIn 104 = .ok (.ishr, 1) := dk_122 (dk_at dksX1_isIn_4 12 rfl rfl)
theorem dX1_isIn_105 : decode cX1_isIn 105 = .ok (.iconst 1, 1) := dk_4 (dk_at dksX1_isIn_4 13 rfl rfl)
theorem dX1_isIn_106 : decode cX1_isIn 106 = .ok (.iand, 1) := dk_126 (dk_at dksX1_isIn_4 14 rfl rfl)
theorem dX1_isIn_107 : decode cX1_isIn 107 = .ok (.iconst 1, 1) := dk_4 (dk_at dksX1_isIn_4 15 rfl rfl)
theorem dX1_isIn_108 : decode cX1_isIn 108 = .ok (.if_icmp .ne 7, 3) := dk_160 0 7 (dk_at dksX1_isIn_4 16 rfl rfl)
theorem dX1_isIn_111 : decode cX1_isIn 111 = .ok (.iconst 1, 1) := dk_4 (dk_at dksX1_isIn_4 19 rfl rfl)
theorem dX1_isIn_112 : decode cX1_isIn 112 = .ok (.goto 4, 3) := dk_167 0 4 (dk_at dksX1_isIn_4 20 rfl rfl)
theorem dX1_isIn_115 : decode cX1_isIn 115 = .ok (.iconst 0, 1) := dk_3 (dk_at dksX1_isIn_4 23 rfl rfl)
theorem dX1_isIn_116 : decode cX1_isIn 116 = .ok (.if_icmp .eq 6, 3) := dk_159 0 6 (dk_at dksX1_isIn_5 0 rfl rfl)
theorem dX1_isIn_119 : decode cX1_isIn 119 = .ok (.goto 31, 3) := dk_167 0 31 (dk_at dksX1_isIn_5 3 rfl rfl)
theorem dX1_isIn_122 : decode cX1_isIn 122 = .ok (.aload_n 0, 1) := dk_42 (dk_at dksX1_isIn_5 6 rfl rfl)
theorem dX1_isIn_123 : decode cX1_isIn 123 = .ok (.aload_n 1, 1) := dk_43 (dk_at dksX1_isIn_5 7 rfl rfl)
theorem dX1_isIn_124 : decode cX1_isIn 124 = .ok (.iload_n 2, 1) := dk_28 (dk_at dksX1_isIn_5 8 rfl rfl)
theorem dX1_isIn_125 : decode cX1_isIn 125 = .ok (.iconst 1, 1) := dk_4 (dk_at dksX1_isIn_5 9 rfl rfl)
theorem dX1_isIn_126 : decode cX1_isIn 126 = .ok (.iadd, 1) := dk_96 (dk_at dksX1_isIn_5 10 rfl rfl)
theorem dX1_isIn_127 : decode cX1_isIn 127 = .ok (.iload_n 3, 1) := dk_29 (dk_at dksX1_isIn_5 11 rfl rfl)
theorem dX1_isIn_128 : decode cX1_isIn 128 = .ok (.iload 9, 2) := dk_21 9 (dk_at dksX1_isIn_5 12 rfl rfl)
theorem dX1_isIn_130 : decode cX1_isIn 130 = .ok (.iconst (-1), 1) := dk_2 (dk_at dksX1_isIn_5 14 rfl rfl)
theorem dX1_isIn_131 : decode cX1_isIn 131 = .ok (.ixor, 1) := dk_130 (dk_at dksX1_isIn_5 15 rfl rfl)
theorem dX1_isIn_132 : decode cX1_isIn 132 = .ok (.iand, 1) := dk_126 (dk_at dksX1_isIn_5 16 rfl rfl)
theorem dX1_isIn_133 : decode cX1_isIn 133 = .ok (.iload 4, 2) := dk_21 4 (dk_at dksX1_isIn_5 17 rfl rfl)
theorem dX1_isIn_135 : decode cX1_isIn 135 = .ok (.iload 9, 2) := dk_21 9 (dk_at dksX1_isIn_5 19 rfl rfl)
theorem dX1_isIn_137 : decode cX1_isIn 137 = .ok (.ior, 1) := dk_128 (dk_at dksX1_isIn_5 21 rfl rfl)
theorem dX1_isIn_138 : decode cX1_isIn 138 = .ok (.iload 5, 2) := dk_21 5 (dk_at dksX1_isIn_5 22 rfl rfl)
theorem dX1_isIn_140 : decode cX1_isIn 140 = .ok (.iload 6, 2) := dk_21 6 (dk_at dksX1_isIn_6 0 rfl rfl)
theorem dX1_isIn_142 : decode cX1_isIn 142 = .ok (.invokevirtual 388, 3) := dk_182 1 132 (dk_at dksX1_isIn_6 2 rfl rfl)
theorem dX1_isIn_145 : decode cX1_isIn 145 = .ok (.ifCond .eq 5, 3) := dk_153 0 5 (dk_at dksX1_isIn_6 5 rfl rfl)
theorem dX1_isIn_148 : decode cX1_isIn 148 = .ok (.iconst 1, 1) := dk_4 (dk_at dksX1_isIn_6 8 rfl rfl)
theorem dX1_isIn_149 : decode cX1_isIn 149 = .ok (.ireturn, 1) := dk_172 (dk_at dksX1_isIn_6 9 rfl rfl)
theorem dX1_isIn_150 : decode cX1_isIn 150 = .ok (.iinc 9 1, 3) := dk_132 9 1 (dk_at dksX1_isIn_6 10 rfl rfl)
theorem dX1_isIn_153 : decode cX1_isIn 153 = .ok (.goto (-116), 3) := dk_167 255 140 (dk_at dksX1_isIn_6 13 rfl rfl)
theorem dX1_isIn_156 : decode cX1_isIn 156 = .ok (.iconst 0, 1) := dk_3 (dk_at dksX1_isIn_6 16 rfl rfl)
theorem dX1_isIn_157 : decode cX1_isIn 157 = .ok (.ireturn, 1) := dk_172 (dk_at dksX1_isIn_6 17 rfl rfl)
abbrev cX1_fates : ByteArray := prog_1_method_85_code
def yX1_fates : MethodName := ⟨RX1, "fates", "(IIII)I"⟩
def dkwX1_fates_5 : List UInt8 := [167, 0, 4, 3, 96, 54, 6, 132, 7, 1, 167, 255, 221, 21, 6, 172]
abbrev dktX1_fates_5 : List UInt8 := dkwX1_fates_5 ++ []
def dkwX1_fates_4 : List UInt8 := [180, 0, 31, 180, 0, 133, 162, 0, 29, 21, 6, 25, 5, 21, 7, 182, 0, 250, 158, 0, 7, 4]
abbrev dktX1_fates_4 : List UInt8 := dkwX1_fates_4 ++ dktX1_fates_5
def dkwX1_fates_3 : List UInt8 := [172, 21, 4, 6, 160, 0, 10, 42, 25, 5, 182, 0, 213, 172, 3, 54, 6, 3, 54, 7, 21, 7, 42]
abbrev dktX1_fates_3 : List UInt8 := dkwX1_fates_3 ++ dktX1_fates_4
def dkwX1_fates_2 : List UInt8 := [184, 0, 207, 172, 21, 4, 5, 160, 0, 18, 42, 25, 5, 25, 5, 182, 0, 204, 182, 1, 93, 184, 0, 207]
abbrev dktX1_fates_2 : List UInt8 := dkwX1_fates_2 ++ dktX1_fates_3
def dkwX1_fates_1 : List UInt8 := [3, 182, 0, 160, 42, 27, 28, 29, 182, 1, 152, 58, 5, 21, 4, 154, 0, 12, 25, 5, 182, 0, 204]
abbrev dktX1_fates_1 : List UInt8 := dkwX1_fates_1 ++ dktX1_fates_2
def dkwX1_fates_0 : List UInt8 := [42, 28, 29, 184, 1, 149, 153, 0, 18, 21, 4, 155, 0, 13, 21, 4, 6, 163, 0, 7, 4, 167, 0, 4]
abbrev dktX1_fates_0 : List UInt8 := dkwX1_fates_0 ++ dktX1_fates_1
theorem dksX1_fates_0 : cX1_fates.data.toList.drop 0 = dktX1_fates_0 := by decide +kernel
theorem dksX1_fates_1 : cX1_fates.data.toList.drop 24 = dktX1_fates_1 := dk_seg dksX1_fates_0 24 rfl rfl
theorem dksX1_fates_2 : cX1_fates.data.toList.drop 47 = dktX1_fates_2 := dk_seg dksX1_fates_1 23 rfl rfl
theorem dksX1_fates_3 : cX1_fates.data.toList.drop 71 = dktX1_fates_3 := dk_seg dksX1_fates_2 24 rfl rfl
theorem dksX1_fates_4 : cX1_fates.data.toList.drop 94 = dktX1_fates_4 := dk_seg dksX1_fates_3 23 rfl rfl
theorem dksX1_fates_5 : cX1_fates.data.toList.drop 116 = dktX1_fates_5 := dk_seg dksX1_fates_4 22 rfl rfl
theorem dX1_fates_0 : decode cX1_fates 0 = .ok (.aload_n 0, 1) := dk_42 (dk_at dksX1_fates_0 0 rfl rfl)
theorem dX1_fates_1 : decode cX1_fates 1 = .ok (.iload_n 2, 1) := dk_28 (dk_at dksX1_fates_0 1 rfl rfl)
theorem dX1_fates_2 : decode cX1_fates 2 = .ok (.iload_n 3, 1) := dk_29 (dk_at dksX1_fates_0 2 rfl rfl)
theorem dX1_fates_3 : decode cX1_fates 3 = .ok (.invokestatic 405, 3) := dk_184 1 149 (dk_at dksX1_fates_0 3 rfl rfl)
theorem dX1_fates_6 : decode cX1_fates 6 = .ok (.ifCond .eq 18, 3) := dk_153 0 18 (dk_at dksX1_fates_0 6 rfl rfl)
theorem dX1_fates_9 : decode cX1_fates 9 = .ok (.iload 4, 2) := dk_21 4 (dk_at dksX1_fates_0 9 rfl rfl)
theorem dX1_fates_11 : decode cX1_fates 11 = .ok (.ifCond .lt 13, 3) := dk_155 0 13 (dk_at dksX1_fates_0 11 rfl rfl)
theorem dX1_fates_14 : decode cX1_fates 14 = .ok (.iload 4, 2) := dk_21 4 (dk_at dksX1_fates_0 14 rfl rfl)
theorem dX1_fates_16 : decode cX1_fates 16 = .ok (.iconst 3, 1) := dk_6 (dk_at dksX1_fates_0 16 rfl rfl)
theorem dX1_fates_17 : decode cX1_fates 17 = .ok (.if_icmp .gt 7, 3) := dk_163 0 7 (dk_at dksX1_fates_0 17 rfl rfl)
theorem dX1_fates_20 : decode cX1_fates 20 = .ok (.iconst 1, 1) := dk_4 (dk_at dksX1_fates_0 20 rfl rfl)
theorem dX1_fates_21 : decode cX1_fates 21 = .ok (.goto 4, 3) := dk_167 0 4 (dk_at dksX1_fates_0 21 rfl rfl)
theorem dX1_fates_24 : decode cX1_fates 24 = .ok (.iconst 0, 1) := dk_3 (dk_at dksX1_fates_1 0 rfl rfl)
theorem dX1_fates_25 : decode cX1_fates 25 = .ok (.invokevirtual 160, 3) := dk_182 0 160 (dk_at dksX1_fates_1 1 rfl rfl)
theorem dX1_fates_28 : decode cX1_fates 28 = .ok (.aload_n 0, 1) := dk_42 (dk_at dksX1_fates_1 4 rfl rfl)
theorem dX1_fates_29 : decode cX1_fates 29 = .ok (.iload_n 1, 1) := dk_27 (dk_at dksX1_fates_1 5 rfl rfl)
theorem dX1_fates_30 : decode cX1_fates 30 = .ok (.iload_n 2, 1) := dk_28 (dk_at dksX1_fates_1 6 rfl rfl)
theorem dX1_fates_31 : decode cX1_fates 31 = .ok (.iload_n 3, 1) := dk_29 (dk_at dksX1_fates_1 7 rfl rfl)
theorem dX1_fates_32 : decode cX1_fates 32 = .ok (.invokevirtual 408, 3) := dk_182 1 152 (dk_at dksX1_fates_1 8 rfl rfl)
theorem dX1_fates_35 : decode cX1_fates 35 = .ok (.astore 5, 2) := dk_58 5 (dk_at dksX1_fates_1 11 rfl rfl)
theorem dX1_fates_37 : decode cX1_fates 37 = .ok (.iload 4, 2) := dk_21 4 (dk_at dksX1_fates_1 13 rfl rfl)
theorem dX1_fates_39 : decode cX1_fates 39 = .ok (.ifCond .ne 12, 3) := dk_154 0 12 (dk_at dksX1_fates_1 15 rfl rfl)
theorem dX1_fates_42 : decode cX1_fates 42 = .ok (.aload 5, 2) := dk_25 5 (dk_at dksX1_fates_1 18 rfl rfl)
theorem dX1_fates_44 : decode cX1_fates 44 = .ok (.invokevirtual 204, 3) := dk_182 0 204 (dk_at dksX1_fates_1 20 rfl rfl)
theorem dX1_fates_47 : decode cX1_fates 47 = .ok (.invokestatic 207, 3) := dk_184 0 207 (dk_at dksX1_fates_2 0 rfl rfl)
theorem dX1_fates_50 : decode cX1_fates 50 = .ok (.ireturn, 1) := dk_172 (dk_at dksX1_fates_2 3 rfl rfl)
theorem dX1_fates_51 : decode cX1_fates 51 = .ok (.iload 4, 2) := dk_21 4 (dk_at dksX1_fates_2 4 rfl rfl)
theorem dX1_fates_53 : decode cX1_fates 53 = .ok (.iconst 2, 1) := dk_5 (dk_at dksX1_fates_2 6 rfl rfl)
theorem dX1_fates_54 : decode cX1_fates 54 = .ok (.if_icmp .ne 18, 3) := dk_160 0 18 (dk_at dksX1_fates_2 7 rfl rfl)
theorem dX1_fates_57 : decode cX1_fates 57 = .ok (.aload_n 0, 1) := dk_42 (dk_at dksX1_fates_2 10 rfl rfl)
theorem dX1_fates_58 : decode cX1_fates 58 = .ok (.aload 5, 2) := dk_25 5 (dk_at dksX1_fates_2 11 rfl rfl)
theorem dX1_fates_60 : decode cX1_fates 60 = .ok (.aload 5, 2) := dk_25 5 (dk_at dksX1_fates_2 13 rfl rfl)
theorem dX1_fates_62 : decode cX1_fates 62 = .ok (.invokevirtual 204, 3) := dk_182 0 204 (dk_at dksX1_fates_2 15 rfl rfl)
theorem dX1_fates_65 : decode cX1_fates 65 = .ok (.invokevirtual 349, 3) := dk_182 1 93 (dk_at dksX1_fates_2 18 rfl rfl)
theorem dX1_fates_68 : decode cX1_fates 68 = .ok (.invokestatic 207, 3) := dk_184 0 207 (dk_at dksX1_fates_2 21 rfl rfl)
theorem dX1_fates_71 : decode cX1_fates 71 = .ok (.ireturn, 1) := dk_172 (dk_at dksX1_fates_3 0 rfl rfl)
theorem dX1_fates_72 : decode cX1_fates 72 = .ok (.iload 4, 2) := dk_21 4 (dk_at dksX1_fates_3 1 rfl rfl)
theorem dX1_fates_74 : decode cX1_fates 74 = .ok (.iconst 3, 1) := dk_6 (dk_at dksX1_fates_3 3 rfl rfl)
theorem dX1_fates_75 : decode cX1_fates 75 = .ok (.if_icmp .ne 10, 3) := dk_160 0 10 (dk_at dksX1_fates_3 4 rfl rfl)
theorem dX1_fates_78 : decode cX1_fates 78 = .ok (.aload_n 0, 1) := dk_42 (dk_at dksX1_fates_3 7 rfl rfl)
theorem dX1_fates_79 : decode cX1_fates 79 = .ok (.aload 5, 2) := dk_25 5 (dk_at dksX1_fates_3 8 rfl rfl)
theorem dX1_fates_81 : decode cX1_fates 81 = .ok (.invokevirtual 213, 3) := dk_182 0 213 (dk_at dksX1_fates_3 10 rfl rfl)
theorem dX1_fates_84 : decode cX1_fates 84 = .ok (.ireturn, 1) := dk_172 (dk_at dksX1_fates_3 13 rfl rfl)
theorem dX1_fates_85 : decode cX1_fates 85 = .ok (.iconst 0, 1) := dk_3 (dk_at dksX1_fates_3 14 rfl rfl)
theorem dX1_fates_86 : decode cX1_fates 86 = .ok (.istore 6, 2) := dk_54 6 (dk_at dksX1_fates_3 15 rfl rfl)
theorem dX1_fates_88 : decode cX1_fates 88 = .ok (.iconst 0, 1) := dk_3 (dk_at dksX1_fates_3 17 rfl rfl)
theorem dX1_fates_89 : decode cX1_fates 89 = .ok (.istore 7, 2) := dk_54 7 (dk_at dksX1_fates_3 18 rfl rfl)
theorem dX1_fates_91 : decode cX1_fates 91 = .ok (.iload 7, 2) := dk_21 7 (dk_at dksX1_fates_3 20 rfl rfl)
theorem dX1_fates_93 : decode cX1_fates 93 = .ok (.aload_n 0, 1) := dk_42 (dk_at dksX1_fates_3 22 rfl rfl)
theorem dX1_fates_94 : decode cX1_fates 94 = .ok (.getfield 31, 3) := dk_180 0 31 (dk_at dksX1_fates_4 0 rfl rfl)
theorem dX1_fates_97 : decode cX1_fates 97 = .ok (.getfield 133, 3) := dk_180 0 133 (dk_at dksX1_fates_4 3 rfl rfl)
theorem dX1_fates_100 : decode cX1_fates 100 = .ok (.if_icmp .ge 29, 3) := dk_162 0 29 (dk_at dksX1_fates_4 6 rfl rfl)
theorem dX1_fates_103 : decode cX1_fates 103 = .ok (.iload 6, 2) := dk_21 6 (dk_at dksX1_fates_4 9 rfl rfl)
theorem dX1_fates_105 : decode cX1_fates 105 = .ok (.aload 5, 2) := dk_25 5 (dk_at dksX1_fates_4 11 rfl rfl)
theorem dX1_fates_107 : decode cX1_fates 107 = .ok (.iload 7, 2) := dk_21 7 (dk_at dksX1_fates_4 13 rfl rfl)
theorem dX1_fates_109 : decode cX1_fates 109 = .ok (.invokevirtual 250, 3) := dk_182 0 250 (dk_at dksX1_fates_4 15 rfl rfl)
theorem dX1_fates_112 : decode cX1_fates 112 = .ok (.ifCond .le 7, 3) := dk_158 0 7 (dk_at dksX1_fates_4 18 rfl rfl)
theorem dX1_fates_115 : decode cX1_fates 115 = .ok (.iconst 1, 1) := dk_4 (dk_at dksX1_fates_4 21 rfl rfl)
theorem dX1_fates_116 : decode cX1_fates 116 = .ok (.goto 4, 3) := dk_167 0 4 (dk_at dksX1_fates_5 0 rfl rfl)
theorem dX1_fates_119 : decode cX1_fates 119 = .ok (.iconst 0, 1) := dk_3 (dk_at dksX1_fates_5 3 rfl rfl)
theorem dX1_fates_120 : decode cX1_fates 120 = .ok (.iadd, 1) := dk_96 (dk_at dksX1_fates_5 4 rfl rfl)
theorem dX1_fates_121 : decode cX1_fates 121 = .ok (.istore 6, 2) := dk_54 6 (dk_at dksX1_fates_5 5 rfl rfl)
theorem dX1_fates_123 : decode cX1_fates 123 = .ok (.iinc 7 1, 3) := dk_132 7 1 (dk_at dksX1_fates_5 7 rfl rfl)
theorem dX1_fates_126 : decode cX1_fates 126 = .ok (.goto (-35), 3) := dk_167 255 221 (dk_at dksX1_fates_5 10 rfl rfl)
theorem dX1_fates_129 : decode cX1_fates 129 = .ok (.iload 6, 2) := dk_21 6 (dk_at dksX1_fates_5 13 rfl rfl)
theorem dX1_fates_131 : decode cX1_fates 131 = .ok (.ireturn, 1) := dk_172 (dk_at dksX1_fates_5 15 rfl rfl)
abbrev cX1_isFate : ByteArray := prog_1_method_84_code
def yX1_isFate : MethodName := ⟨RX1, "isFate", "(II)Z"⟩
def dkwX1_isFate_1 : List UInt8 := [167, 0, 4, 3, 172]
abbrev dktX1_isFate_1 : List UInt8 := dkwX1_isFate_1 ++ []
def dkwX1_isFate_0 : List UInt8 := [26, 155, 0, 24, 26, 16, 16, 163, 0, 18, 27, 4, 161, 0, 13, 27, 16, 40, 163, 0, 7, 4]
abbrev dktX1_isFate_0 : List UInt8 := dkwX1_isFate_0 ++ dktX1_isFate_1
theorem dksX1_isFate_0 : cX1_isFate.data.toList.drop 0 = dktX1_isFate_0 := by decide +kernel
theorem dksX1_isFate_1 : cX1_isFate.data.toList.drop 22 = dktX1_isFate_1 := dk_seg dksX1_isFate_0 22 rfl rfl
theorem dX1_isFate_0 : decode cX1_isFate 0 = .ok (.iload_n 0, 1) := dk_26 (dk_at dksX1_isFate_0 0 rfl rfl)
theorem dX1_isFate_1 : decode cX1_isFate 1 = .ok (.ifCond .lt 24, 3) := dk_155 0 24 (dk_at dksX1_isFate_0 1 rfl rfl)
theorem dX1_isFate_4 : decode cX1_isFate 4 = .ok (.iload_n 0, 1) := dk_26 (dk_at dksX1_isFate_0 4 rfl rfl)
theorem dX1_isFate_5 : decode cX1_isFate 5 = .ok (.bipush 16, 2) := dk_16 16 (dk_at dksX1_isFate_0 5 rfl rfl)
theorem dX1_isFate_7 : decode cX1_isFate 7 = .ok (.if_icmp .gt 18, 3) := dk_163 0 18 (dk_at dksX1_isFate_0 7 rfl rfl)
theorem dX1_isFate_10 : decode cX1_isFate 10 = .ok (.iload_n 1, 1) := dk_27 (dk_at dksX1_isFate_0 10 rfl rfl)
theorem dX1_isFate_11 : decode cX1_isFate 11 = .ok (.iconst 1, 1) := dk_4 (dk_at dksX1_isFate_0 11 rfl rfl)
theorem dX1_isFate_12 : decode cX1_isFate 12 = .ok (.if_icmp .lt 13, 3) := dk_161 0 13 (dk_at dksX1_isFate_0 12 rfl rfl)
theorem dX1_isFate_15 : decode cX1_isFate 15 = .ok (.iload_n 1, 1) := dk_27 (dk_at dksX1_isFate_0 15 rfl rfl)
theorem dX1_isFate_16 : decode cX1_isFate 16 = .ok (.bipush 40, 2) := dk_16 40 (dk_at dksX1_isFate_0 16 rfl rfl)
theorem dX1_isFate_18 : decode cX1_isFate 18 = .ok (.if_icmp .gt 7, 3) := dk_163 0 7 (dk_at dksX1_isFate_0 18 rfl rfl)
theorem dX1_isFate_21 : decode cX1_isFate 21 = .ok (.iconst 1, 1) := dk_4 (dk_at dksX1_isFate_0 21 rfl rfl)
theorem dX1_isFate_22 : decode cX1_isFate 22 = .ok (.goto 4, 3) := dk_167 0 4 (dk_at dksX1_isFate_1 0 rfl rfl)
theorem dX1_isFate_25 : decode cX1_isFate 25 = .ok (.iconst 0, 1) := dk_3 (dk_at dksX1_isFate_1 3 rfl rfl)
theorem dX1_isFate_26 : decode cX1_isFate 26 = .ok (.ireturn, 1) := dk_172 (dk_at dksX1_isFate_1 4 rfl rfl)
abbrev cX1_fated : ByteArray := prog_1_method_83_code
def yX1_fated : MethodName := ⟨RX1, "fated", "(III)LPuppetHeirs$Troupe;"⟩
def dkwX1_fated_7 : List UInt8 := [132, 5, 1, 167, 255, 112, 25, 4, 176]
abbrev dktX1_fated_7 : List UInt8 := dkwX1_fated_7 ++ []
def dkwX1_fated_6 : List UInt8 := [160, 0, 11, 25, 4, 21, 7, 182, 1, 55, 87, 132, 7, 1, 167, 255, 192, 25, 4, 182, 1, 146]
abbrev dktX1_fated_6 : List UInt8 := dkwX1_fated_6 ++ dktX1_fated_7
def dkwX1_fated_5 : List UInt8 := [21, 7, 122, 4, 126, 4, 159, 0, 21, 42, 180, 0, 31, 180, 0, 223, 21, 7, 46, 25, 4, 180, 0, 201]
abbrev dktX1_fated_5 : List UInt8 := dkwX1_fated_5 ++ dktX1_fated_6
def dkwX1_fated_4 : List UInt8 := [180, 0, 31, 180, 0, 126, 162, 0, 58, 25, 4, 180, 0, 226, 21, 7, 46, 4, 160, 0, 40, 21, 6]
abbrev dktX1_fated_4 : List UInt8 := dkwX1_fated_4 ++ dktX1_fated_5
def dkwX1_fated_3 : List UInt8 := [162, 0, 12, 21, 6, 4, 21, 7, 120, 128, 54, 6, 132, 7, 1, 167, 255, 210, 3, 54, 7, 21, 7, 42]
abbrev dktX1_fated_3 : List UInt8 := dkwX1_fated_3 ++ dktX1_fated_4
def dkwX1_fated_2 : List UInt8 := [162, 0, 40, 25, 4, 180, 0, 226, 21, 7, 46, 4, 160, 0, 22, 42, 16, 16, 182, 1, 143, 28]
abbrev dktX1_fated_2 : List UInt8 := dkwX1_fated_2 ++ dktX1_fated_3
def dkwX1_fated_1 : List UInt8 := [162, 0, 144, 25, 4, 182, 1, 140, 3, 54, 6, 3, 54, 7, 21, 7, 42, 180, 0, 31, 180, 0, 126]
abbrev dktX1_fated_1 : List UInt8 := dkwX1_fated_1 ++ dktX1_fated_2
def dkwX1_fated_0 : List UInt8 := [42, 180, 0, 65, 42, 180, 0, 58, 182, 0, 110, 58, 4, 42, 27, 181, 1, 136, 3, 54, 5, 21, 5, 29]
abbrev dktX1_fated_0 : List UInt8 := dkwX1_fated_0 ++ dktX1_fated_1
theorem dksX1_fated_0 : cX1_fated.data.toList.drop 0 = dktX1_fated_0 := by decide +kernel
theorem dksX1_fated_1 : cX1_fated.data.toList.drop 24 = dktX1_fated_1 := dk_seg dksX1_fated_0 24 rfl rfl
theorem dksX1_fated_2 : cX1_fated.data.toList.drop 47 = dktX1_fated_2 := dk_seg dksX1_fated_1 23 rfl rfl
theorem dksX1_fated_3 : cX1_fated.data.toList.drop 69 = dktX1_fated_3 := dk_seg dksX1_fated_2 22 rfl rfl
theorem dksX1_fated_4 : cX1_fated.data.toList.drop 93 = dktX1_fated_4 := dk_seg dksX1_fated_3 24 rfl rfl
theorem dksX1_fated_5 : cX1_fated.data.toList.drop 116 = dktX1_fated_5 := dk_seg dksX1_fated_4 23 rfl rfl
theorem dksX1_fated_6 : cX1_fated.data.toList.drop 140 = dktX1_fated_6 := dk_seg dksX1_fated_5 24 rfl rfl
theorem dksX1_fated_7 : cX1_fated.data.toList.drop 162 = dktX1_fated_7 := dk_seg dksX1_fated_6 22 rfl rfl
theorem dX1_fated_0 : decode cX1_fated 0 = .ok (.aload_n 0, 1) := dk_42 (dk_at dksX1_fated_0 0 rfl rfl)
theorem dX1_fated_1 : decode cX1_fated 1 = .ok (.getfield 65, 3) := dk_180 0 65 (dk_at dksX1_fated_0 1 rfl rfl)
theorem dX1_fated_4 : decode cX1_fated 4 = .ok (.aload_n 0, 1) := dk_42 (dk_at dksX1_fated_0 4 rfl rfl)
theorem dX1_fated_5 : decode cX1_fated 5 = .ok (.getfield 58, 3) := dk_180 0 58 (dk_at dksX1_fated_0 5 rfl rfl)
theorem dX1_fated_8 : decode cX1_fated 8 = .ok (.invokevirtual 110, 3) := dk_182 0 110 (dk_at dksX1_fated_0 8 rfl rfl)
theorem dX1_fated_11 : decode cX1_fated 11 = .ok (.astore 4, 2) := dk_58 4 (dk_at dksX1_fated_0 11 rfl rfl)
theorem dX1_fated_13 : decode cX1_fated 13 = .ok (.aload_n 0, 1) := dk_42 (dk_at dksX1_fated_0 13 rfl rfl)
theorem dX1_fated_14 : decode cX1_fated 14 = .ok (.iload_n 1, 1) := dk_27 (dk_at dksX1_fated_0 14 rfl rfl)
theorem dX1_fated_15 : decode cX1_fated 15 = .ok (.putfield 392, 3) := dk_181 1 136 (dk_at dksX1_fated_0 15 rfl rfl)
theorem dX1_fated_18 : decode cX1_fated 18 = .ok (.iconst 0, 1) := dk_3 (dk_at dksX1_fated_0 18 rfl rfl)
theorem dX1_fated_19 : decode cX1_fated 19 = .ok (.istore 5, 2) := dk_54 5 (dk_at dksX1_fated_0 19 rfl rfl)
theorem dX1_fated_21 : decode cX1_fated 21 = .ok (.iload 5, 2) := dk_21 5 (dk_at dksX1_fated_0 21 rfl rfl)
theorem dX1_fated_23 : decode cX1_fated 23 = .ok (.iload_n 3, 1) := dk_29 (dk_at dksX1_fated_0 23 rfl rfl)
theorem dX1_fated_24 : decode cX1_fated 24 = .ok (.if_icmp .ge 144, 3) := dk_162 0 144 (dk_at dksX1_fated_1 0 rfl rfl)
theorem dX1_fated_27 : decode cX1_fated 27 = .ok (.aload 4, 2) := dk_25 4 (dk_at dksX1_fated_1 3 rfl rfl)
theorem dX1_fated_29 : decode cX1_fated 29 = .ok (.invokevirtual 396, 3) := dk_182 1 140 (dk_at dksX1_fated_1 5 rfl rfl)
theorem dX1_fated_32 : decode cX1_fated 32 = .ok (.iconst 0, 1) := dk_3 (dk_at dksX1_fated_1 8 rfl rfl)
theorem dX1_fated_33 : decode cX1_fated 33 = .ok (.istore 6, 2) := dk_54 6 (dk_at dksX1_fated_1 9 rfl rfl)
theorem dX1_fated_35 : decode cX1_fated 35 = .ok (.iconst 0, 1) := dk_3 (dk_at dksX1_fated_1 11 rfl rfl)
theorem dX1_fated_36 : decode cX1_fated 36 = .ok (.istore 7, 2) := dk_54 7 (dk_at dksX1_fated_1 12 rfl rfl)
theorem dX1_fated_38 : decode cX1_fated 38 = .ok (.iload 7, 2) := dk_21 7 (dk_at dksX1_fated_1 14 rfl rfl)
theorem dX1_fated_40 : decode cX1_fated 40 = .ok (.aload_n 0, 1) := dk_42 (dk_at dksX1_fated_1 16 rfl rfl)
theorem dX1_fated_41 : decode cX1_fated 41 = .ok (.getfield 31, 3) := dk_180 0 31 (dk_at dksX1_fated_1 17 rfl rfl)
theorem dX1_fated_44 : decode cX1_fated 44 = .ok (.getfield 126, 3) := dk_180 0 126 (dk_at dksX1_fated_1 20 rfl rfl)
theorem dX1_fated_47 : decode cX1_fated 47 = .ok (.if_icmp .ge 40, 3) := dk_162 0 40 (dk_at dksX1_fated_2 0 rfl rfl)
theorem dX1_fated_50 : decode cX1_fated 50 = .ok (.aload 4, 2) := dk_25 4 (dk_at dksX1_fated_2 3 rfl rfl)
theorem dX1_fated_52 : decode cX1_fated 52 = .ok (.getfield 226, 3) := dk_180 0 226 (dk_at dksX1_fated_2 5 rfl rfl)
theorem dX1_fated_55 : decode cX1_fated 55 = .ok (.iload 7, 2) := dk_21 7 (dk_at dksX1_fated_2 8 rfl rfl)
theorem dX1_fated_57 : decode cX1_fated 57 = .ok (.iaload, 1) := dk_46 (dk_at dksX1_fated_2 10 rfl rfl)
theorem dX1_fated_58 : decode cX1_fated 58 = .ok (.iconst 1, 1) := dk_4 (dk_at dksX1_fated_2 11 rfl rfl)
theorem dX1_fated_59 : decode cX1_fated 59 = .ok (.if_icmp .ne 22, 3) := dk_160 0 22 (dk_at dksX1_fated_2 12 rfl rfl)
theorem dX1_fated_62 : decode cX1_fated 62 = .ok (.aload_n 0, 1) := dk_42 (dk_at dksX1_fated_2 15 rfl rfl)
theorem dX1_fated_63 : decode cX1_fated 63 = .ok (.bipush 16, 2) := dk_16 16 (dk_at dksX1_fated_2 16 rfl rfl)
theorem dX1_fated_65 : decode cX1_fated 65 = .ok (.invokevirtual 399, 3) := dk_182 1 143 (dk_at dksX1_fated_2 18 rfl rfl)
theorem dX1_fated_68 : decode cX1_fated 68 = .ok (.iload_n 2, 1) := dk_28 (dk_at dksX1_fated_2 21 rfl rfl)
theorem dX1_fated_69 : decode cX1_fated 69 = .ok (.if_icmp .ge 12, 3) := dk_162 0 12 (dk_at dksX1_fated_3 0 rfl rfl)
theorem dX1_fated_72 : decode cX1_fated 72 = .ok (.iload 6, 2) := dk_21 6 (dk_at dksX1_fated_3 3 rfl rfl)
theorem dX1_fated_74 : decode cX1_fated 74 = .ok (.iconst 1, 1) := dk_4 (dk_at dksX1_fated_3 5 rfl rfl)
theorem dX1_fated_75 : decode cX1_fated 75 = .ok (.iload 7, 2) := dk_21 7 (dk_at dksX1_fated_3 6 rfl rfl)
theorem dX1_fated_77 : decode cX1_fated 77 = .ok (.ishl, 1) := dk_120 (dk_at dksX1_fated_3 8 rfl rfl)
theorem dX1_fated_78 : decode cX1_fated 78 = .ok (.ior, 1) := dk_128 (dk_at dksX1_fated_3 9 rfl rfl)
theorem dX1_fated_79 : decode cX1_fated 79 = .ok (.istore 6, 2) := dk_54 6 (dk_at dksX1_fated_3 10 rfl rfl)
theorem dX1_fated_81 : decode cX1_fated 81 = .ok (.iinc 7 1, 3) := dk_132 7 1 (dk_at dksX1_fated_3 12 rfl rfl)
theorem dX1_fated_84 : decode cX1_fated 84 = .ok (.goto (-46), 3) := dk_167 255 210 (dk_at dksX1_fated_3 15 rfl rfl)
theorem dX1_fated_87 : decode cX1_fated 87 = .ok (.iconst 0, 1) := dk_3 (dk_at dksX1_fated_3 18 rfl rfl)
theorem dX1_fated_88 : decode cX1_fated 88 = .ok (.istore 7, 2) := dk_54 7 (dk_at dksX1_fated_3 19 rfl rfl)
theorem dX1_fated_90 : decode cX1_fated 90 = .ok (.iload 7, 2) := dk_21 7 (dk_at dksX1_fated_3 21 rfl rfl)
theorem dX1_fated_92 : decode cX1_fated 92 = .ok (.aload_n 0, 1) := dk_42 (dk_at dksX1_fated_3 23 rfl rfl)
theorem dX1_fated_93 : decode cX1_fated 93 = .ok (.getfield 31, 3) := dk_180 0 31 (dk_at dksX1_fated_4 0 rfl rfl)
theorem dX1_fated_96 : decode cX1_fated 96 = .ok (.getfield 126, 3) := dk_180 0 126 (dk_at dksX1_fated_4 3 rfl rfl)
theorem dX1_fated_99 : decode cX1_fated 99 = .ok (.if_icmp .ge 58, 3) := dk_162 0 58 (dk_at dksX1_fated_4 6 rfl rfl)
theorem dX1_fated_102 : decode cX1_fated 102 = .ok (.aload 4, 2) := dk_25 4 (dk_at dksX1_fated_4 9 rfl rfl)
theorem dX1_fated_104 : decode cX1_fated 104 = .ok (.getfield 226, 3) := dk_180 0 226 (dk_at dksX1_fated_4 11 rfl rfl)
theorem dX1_fated_107 : decode cX1_fated 107 = .ok (.iload 7, 2) := dk_21 7 (dk_at dksX1_fated_4 14 rfl rfl)
theorem dX1_fated_109 : decode cX1_fated 109 = .ok (.iaload, 1) := dk_46 (dk_at dksX1_fated_4 16 rfl rfl)
theorem dX1_fated_110 : decode cX1_fated 110 = .ok (.iconst 1, 1) := dk_4 (dk_at dksX1_fated_4 17 rfl rfl)
theorem dX1_fated_111 : decode cX1_fated 111 = .ok (.if_icmp .ne 40, 3) := dk_160 0 40 (dk_at dksX1_fated_4 18 rfl rfl)
theorem dX1_fated_114 : decode cX1_fated 114 = .ok (.iload 6, 2) := dk_21 6 (dk_at dksX1_fated_4 21 rfl rfl)
theorem dX1_fated_116 : decode cX1_fated 116 = .ok (.iload 7, 2) := dk_21 7 (dk_at dksX1_fated_5 0 rfl rfl)
theorem dX1_fated_118 : decode cX1_fated 118 = .ok (.ishr, 1) := dk_122 (dk_at dksX1_fated_5 2 rfl rfl)
theorem dX1_fated_119 : decode cX1_fated 119 = .ok (.iconst 1, 1) := dk_4 (dk_at dksX1_fated_5 3 rfl rfl)
theorem dX1_fated_120 : decode cX1_fated 120 = .ok (.iand, 1) := dk_126 (dk_at dksX1_fated_5 4 rfl rfl)
theorem dX1_fated_121 : decode cX1_fated 121 = .ok (.iconst 1, 1) := dk_4 (dk_at dksX1_fated_5 5 rfl rfl)
theorem dX1_fated_122 : decode cX1_fated 122 = .ok (.if_icmp .eq 21, 3) := dk_159 0 21 (dk_at dksX1_fated_5 6 rfl rfl)
theorem dX1_fated_125 : decode cX1_fated 125 = .ok (.aload_n 0, 1) := dk_42 (dk_at dksX1_fated_5 9 rfl rfl)
theorem dX1_fated_126 : decode cX1_fated 126 = .ok (.getfield 31, 3) := dk_180 0 31 (dk_at dksX1_fated_5 10 rfl rfl)
theorem dX1_fated_129 : decode cX1_fated 129 = .ok (.getfield 223, 3) := dk_180 0 223 (dk_at dksX1_fated_5 13 rfl rfl)
theorem dX1_fated_132 : decode cX1_fated 132 = .ok (.iload 7, 2) := dk_21 7 (dk_at dksX1_fated_5 16 rfl rfl)
theorem dX1_fated_134 : decode cX1_fated 134 = .ok (.iaload, 1) := dk_46 (dk_at dksX1_fated_5 18 rfl rfl)
theorem dX1_fated_135 : decode cX1_fated 135 = .ok (.aload 4, 2) := dk_25 4 (dk_at dksX1_fated_5 19 rfl rfl)
theorem dX1_fated_137 : decode cX1_fated 137 = .ok (.getfield 201, 3) := dk_180 0 201 (dk_at dksX1_fated_5 21 rfl rfl)
theorem dX1_fated_140 : decode cX1_fated 140 = .ok (.if_icmp .ne 11, 3) := dk_160 0 11 (dk_at dksX1_fated_6 0 rfl rfl)
theorem dX1_fated_143 : decode cX1_fated 143 = .ok (.aload 4, 2) := dk_25 4 (dk_at dksX1_fated_6 3 rfl rfl)
theorem dX1_fated_145 : decode cX1_fated 145 = .ok (.iload 7, 2) := dk_21 7 (dk_at dksX1_fated_6 5 rfl rfl)
theorem dX1_fated_147 : decode cX1_fated 147 = .ok (.invokevirtual 311, 3) := dk_182 1 55 (dk_at dksX1_fated_6 7 rfl rfl)
theorem dX1_fated_150 : decode cX1_fated 150 = .ok (.pop, 1) := dk_87 (dk_at dksX1_fated_6 10 rfl rfl)
theorem dX1_fated_151 : decode cX1_fated 151 = .ok (.iinc 7 1, 3) := dk_132 7 1 (dk_at dksX1_fated_6 11 rfl rfl)
theorem dX1_fated_154 : decode cX1_fated 154 = .ok (.goto (-64), 3) := dk_167 255 192 (dk_at dksX1_fated_6 14 rfl rfl)
theorem dX1_fated_157 : decode cX1_fated 157 = .ok (.aload 4, 2) := dk_25 4 (dk_at dksX1_fated_6 17 rfl rfl)
theorem dX1_fated_159 : decode cX1_fated 159 = .ok (.invokevirtual 402, 3) := dk_182 1 146 (dk_at dksX1_fated_6 19 rfl rfl)
theorem dX1_fated_162 : decode cX1_fated 162 = .ok (.iinc 5 1, 3) := dk_132 5 1 (dk_at dksX1_fated_7 0 rfl rfl)
theorem dX1_fated_165 : decode cX1_fated 165 = .ok (.goto (-144), 3) := dk_167 255 112 (dk_at dksX1_fated_7 3 rfl rfl)
theorem dX1_fated_168 : decode cX1_fated 168 = .ok (.aload 4, 2) := dk_25 4 (dk_at dksX1_fated_7 6 rfl rfl)
theorem dX1_fated_170 : decode cX1_fated 170 = .ok (.areturn, 1) := dk_176 (dk_at dksX1_fated_7 8 rfl rfl)
abbrev cX1_draw : ByteArray := prog_1_method_82_code
def yX1_draw : MethodName := ⟨RX1, "draw", "(I)I"⟩
def dkwX1_draw_1 : List UInt8 := [17, 127, 255, 126, 27, 112, 172]
abbrev dktX1_draw_1 : List UInt8 := dkwX1_draw_1 ++ []
def dkwX1_draw_0 : List UInt8 := [42, 42, 180, 1, 136, 19, 1, 139, 104, 17, 48, 57, 96, 181, 1, 136, 42, 180, 1, 136, 16, 16, 122]
abbrev dktX1_draw_0 : List UInt8 := dkwX1_draw_0 ++ dktX1_draw_1
theorem dksX1_draw_0 : cX1_draw.data.toList.drop 0 = dktX1_draw_0 := by decide +kernel
theorem dksX1_draw_1 : cX1_draw.data.toList.drop 23 = dktX1_draw_1 := dk_seg dksX1_draw_0 23 rfl rfl
theorem dX1_draw_0 : decode cX1_draw 0 = .ok (.aload_n 0, 1) := dk_42 (dk_at dksX1_draw_0 0 rfl rfl)
theorem dX1_draw_1 : decode cX1_draw 1 = .ok (.aload_n 0, 1) := dk_42 (dk_at dksX1_draw_0 1 rfl rfl)
theorem dX1_draw_2 : decode cX1_draw 2 = .ok (.getfield 392, 3) := dk_180 1 136 (dk_at dksX1_draw_0 2 rfl rfl)
theorem dX1_draw_5 : decode cX1_draw 5 = .ok (.ldc_w 395, 3) := dk_19 1 139 (dk_at dksX1_draw_0 5 rfl rfl)
theorem dX1_draw_8 : decode cX1_draw 8 = .ok (.imul, 1) := dk_104 (dk_at dksX1_draw_0 8 rfl rfl)
theorem dX1_draw_9 : decode cX1_draw 9 = .ok (.sipush 12345, 3) := dk_17 48 57 (dk_at dksX1_draw_0 9 rfl rfl)
theorem dX1_draw_12 : decode cX1_draw 12 = .ok (.iadd, 1) := dk_96 (dk_at dksX1_draw_0 12 rfl rfl)
theorem dX1_draw_13 : decode cX1_draw 13 = .ok (.putfield 392, 3) := dk_181 1 136 (dk_at dksX1_draw_0 13 rfl rfl)
theorem dX1_draw_16 : decode cX1_draw 16 = .ok (.aload_n 0, 1) := dk_42 (dk_at dksX1_draw_0 16 rfl rfl)
theorem dX1_draw_17 : decode cX1_draw 17 = .ok (.getfield 392, 3) := dk_180 1 136 (dk_at dksX1_draw_0 17 rfl rfl)
theorem dX1_draw_20 : decode cX1_draw 20 = .ok (.bipush 16, 2) := dk_16 16 (dk_at dksX1_draw_0 20 rfl rfl)
theorem dX1_draw_22 : decode cX1_draw 22 = .ok (.ishr, 1) := dk_122 (dk_at dksX1_draw_0 22 rfl rfl)
theorem dX1_draw_23 : decode cX1_draw 23 = .ok (.sipush 32767, 3) := dk_17 127 255 (dk_at dksX1_draw_1 0 rfl rfl)
theorem dX1_draw_26 : decode cX1_draw 26 = .ok (.iand, 1) := dk_126 (dk_at dksX1_draw_1 3 rfl rfl)
theorem dX1_draw_27 : decode cX1_draw 27 = .ok (.iload_n 1, 1) := dk_27 (dk_at dksX1_draw_1 4 rfl rfl)
theorem dX1_draw_28 : decode cX1_draw 28 = .ok (.irem, 1) := dk_112 (dk_at dksX1_draw_1 5 rfl rfl)
theorem dX1_draw_29 : decode cX1_draw 29 = .ok (.ireturn, 1) := dk_172 (dk_at dksX1_draw_1 6 rfl rfl)
abbrev cX1_span : ByteArray := prog_1_method_86_code
def yX1_span : MethodName := ⟨RX1, "span", "(IIIIII)I"⟩
def dkwX1_span_7 : List UInt8 := [167, 0, 5, 21, 9, 172]
abbrev dktX1_span_7 : List UInt8 := dkwX1_span_7 ++ []
def dkwX1_span_6 : List UInt8 := [132, 10, 1, 167, 255, 183, 21, 5, 154, 0, 8, 21, 7, 167, 0, 16, 21, 5, 4, 160, 0, 8, 21, 8]
abbrev dktX1_span_6 : List UInt8 := dkwX1_span_6 ++ dktX1_span_7
def dkwX1_span_5 : List UInt8 := [54, 7, 21, 8, 21, 12, 184, 0, 232, 54, 8, 21, 9, 21, 11, 21, 6, 122, 4, 126, 96, 54, 9]
abbrev dktX1_span_5 : List UInt8 := dkwX1_span_5 ++ dktX1_span_6
def dkwX1_span_4 : List UInt8 := [184, 0, 207, 54, 12, 21, 7, 2, 160, 0, 8, 21, 12, 167, 0, 10, 21, 7, 21, 12, 184, 1, 32]
abbrev dktX1_span_4 : List UInt8 := dkwX1_span_4 ++ dktX1_span_5
def dkwX1_span_3 : List UInt8 := [21, 10, 28, 162, 0, 73, 42, 27, 21, 10, 96, 29, 21, 4, 182, 1, 152, 182, 0, 204, 54, 11, 21, 11]
abbrev dktX1_span_3 : List UInt8 := dkwX1_span_3 ++ dktX1_span_4
def dkwX1_span_2 : List UInt8 := [162, 0, 7, 4, 167, 0, 4, 3, 182, 0, 160, 2, 54, 7, 3, 54, 8, 3, 54, 9, 3, 54, 10]
abbrev dktX1_span_2 : List UInt8 := dkwX1_span_2 ++ dktX1_span_3
def dkwX1_span_1 : List UInt8 := [155, 0, 30, 21, 5, 5, 163, 0, 24, 21, 6, 155, 0, 19, 21, 6, 42, 180, 0, 31, 180, 0, 126]
abbrev dktX1_span_1 : List UInt8 := dkwX1_span_1 ++ dktX1_span_2
def dkwX1_span_0 : List UInt8 := [42, 28, 4, 161, 0, 50, 28, 16, 20, 163, 0, 44, 29, 21, 4, 184, 1, 149, 153, 0, 35, 21, 5]
abbrev dktX1_span_0 : List UInt8 := dkwX1_span_0 ++ dktX1_span_1
theorem dksX1_span_0 : cX1_span.data.toList.drop 0 = dktX1_span_0 := by decide +kernel
theorem dksX1_span_1 : cX1_span.data.toList.drop 23 = dktX1_span_1 := dk_seg dksX1_span_0 23 rfl rfl
theorem dksX1_span_2 : cX1_span.data.toList.drop 46 = dktX1_span_2 := dk_seg dksX1_span_1 23 rfl rfl
theorem dksX1_span_3 : cX1_span.data.toList.drop 69 = dktX1_span_3 := dk_seg dksX1_span_2 23 rfl rfl
theorem dksX1_span_4 : cX1_span.data.toList.drop 93 = dktX1_span_4 := dk_seg dksX1_span_3 24 rfl rfl
theorem dksX1_span_5 : cX1_span.data.toList.drop 116 = dktX1_span_5 := dk_seg dksX1_span_4 23 rfl rfl
theorem dksX1_span_6 : cX1_span.data.toList.drop 139 = dktX1_span_6 := dk_seg dksX1_span_5 23 rfl rfl
theorem dksX1_span_7 : cX1_span.data.toList.drop 163 = dktX1_span_7 := dk_seg dksX1_span_6 24 rfl rfl
theorem dX1_span_0 : decode cX1_span 0 = .ok (.aload_n 0, 1) := dk_42 (dk_at dksX1_span_0 0 rfl rfl)
theorem dX1_span_1 : decode cX1_span 1 = .ok (.iload_n 2, 1) := dk_28 (dk_at dksX1_span_0 1 rfl rfl)
theorem dX1_span_2 : decode cX1_span 2 = .ok (.iconst 1, 1) := dk_4 (dk_at dksX1_span_0 2 rfl rfl)
theorem dX1_span_3 : decode cX1_span 3 = .ok (.if_icmp .lt 50, 3) := dk_161 0 50 (dk_at dksX1_span_0 3 rfl rfl)
theorem dX1_span_6 : decode cX1_span 6 = .ok (.iload_n 2, 1) := dk_28 (dk_at dksX1_span_0 6 rfl rfl)
theorem dX1_span_7 : decode cX1_span 7 = .ok (.bipush 20, 2) := dk_16 20 (dk_at dksX1_span_0 7 rfl rfl)
theorem dX1_span_9 : decode cX1_span 9 = .ok (.if_icmp .gt 44, 3) := dk_163 0 44 (dk_at dksX1_span_0 9 rfl rfl)
theorem dX1_span_12 : decode cX1_span 12 = .ok (.iload_n 3, 1) := dk_29 (dk_at dksX1_span_0 12 rfl rfl)
theorem dX1_span_13 : decode cX1_span 13 = .ok (.iload 4, 2) := dk_21 4 (dk_at dksX1_span_0 13 rfl rfl)
theorem dX1_span_15 : decode cX1_span 15 = .ok (.invokestatic 405, 3) := dk_184 1 149 (dk_at dksX1_span_0 15 rfl rfl)
theorem dX1_span_18 : decode cX1_span 18 = .ok (.ifCond .eq 35, 3) := dk_153 0 35 (dk_at dksX1_span_0 18 rfl rfl)
theorem dX1_span_21 : decode cX1_span 21 = .ok (.iload 5, 2) := dk_21 5 (dk_at dksX1_span_0 21 rfl rfl)
theorem dX1_span_23 : decode cX1_span 23 = .ok (.ifCond .lt 30, 3) := dk_155 0 30 (dk_at dksX1_span_1 0 rfl rfl)
theorem dX1_span_26 : decode cX1_span 26 = .ok (.iload 5, 2) := dk_21 5 (dk_at dksX1_span_1 3 rfl rfl)
theorem dX1_span_28 : decode cX1_span 28 = .ok (.iconst 2, 1) := dk_5 (dk_at dksX1_span_1 5 rfl rfl)
theorem dX1_span_29 : decode cX1_span 29 = .ok (.if_icmp .gt 24, 3) := dk_163 0 24 (dk_at dksX1_span_1 6 rfl rfl)
theorem dX1_span_32 : decode cX1_span 32 = .ok (.iload 6, 2) := dk_21 6 (dk_at dksX1_span_1 9 rfl rfl)
theorem dX1_span_34 : decode cX1_span 34 = .ok (.ifCond .lt 19, 3) := dk_155 0 19 (dk_at dksX1_span_1 11 rfl rfl)
theorem dX1_span_37 : decode cX1_span 37 = .ok (.iload 6, 2) := dk_21 6 (dk_at dksX1_span_1 14 rfl rfl)
theorem dX1_span_39 : decode cX1_span 39 = .ok (.aload_n 0, 1) := dk_42 (dk_at dksX1_span_1 16 rfl rfl)
theorem dX1_span_40 : decode cX1_span 40 = .ok (.getfield 31, 3) := dk_180 0 31 (dk_at dksX1_span_1 17 rfl rfl)
theorem dX1_span_43 : decode cX1_span 43 = .ok (.getfield 126, 3) := dk_180 0 126 (dk_at dksX1_span_1 20 rfl rfl)
theorem dX1_span_46 : decode cX1_span 46 = .ok (.if_icmp .ge 7, 3) := dk_162 0 7 (dk_at dksX1_span_2 0 rfl rfl)
theorem dX1_span_49 : decode cX1_span 49 = .ok (.iconst 1, 1) := dk_4 (dk_at dksX1_span_2 3 rfl rfl)
theorem dX1_span_50 : decode cX1_span 50 = .ok (.goto 4, 3) := dk_167 0 4 (dk_at dksX1_span_2 4 rfl rfl)
theorem dX1_span_53 : decode cX1_span 53 = .ok (.iconst 0, 1) := dk_3 (dk_at dksX1_span_2 7 rfl rfl)
theorem dX1_span_54 : decode cX1_span 54 = .ok (.invokevirtual 160, 3) := dk_182 0 160 (dk_at dksX1_span_2 8 rfl rfl)
theorem dX1_span_57 : decode cX1_span 57 = .ok (.iconst (-1), 1) := dk_2 (dk_at dksX1_span_2 11 rfl rfl)
theorem dX1_span_58 : decode cX1_span 58 = .ok (.istore 7, 2) := dk_54 7 (dk_at dksX1_span_2 12 rfl rfl)
theorem dX1_span_60 : decode cX1_span 60 = .ok (.iconst 0, 1) := dk_3 (dk_at dksX1_span_2 14 rfl rfl)
theorem dX1_span_61 : decode cX1_span 61 = .ok (.istore 8, 2) := dk_54 8 (dk_at dksX1_span_2 15 rfl rfl)
theorem dX1_span_63 : decode cX1_span 63 = .ok (.iconst 0, 1) := dk_3 (dk_at dksX1_span_2 17 rfl rfl)
theorem dX1_span_64 : decode cX1_span 64 = .ok (.istore 9, 2) := dk_54 9 (dk_at dksX1_span_2 18 rfl rfl)
theorem dX1_span_66 : decode cX1_span 66 = .ok (.iconst 0, 1) := dk_3 (dk_at dksX1_span_2 20 rfl rfl)
theorem dX1_span_67 : decode cX1_span 67 = .ok (.istore 10, 2) := dk_54 10 (dk_at dksX1_span_2 21 rfl rfl)
theorem dX1_span_69 : decode cX1_span 69 = .ok (.iload 10, 2) := dk_21 10 (dk_at dksX1_span_3 0 rfl rfl)
theorem dX1_span_71 : decode cX1_span 71 = .ok (.iload_n 2, 1) := dk_28 (dk_at dksX1_span_3 2 rfl rfl)
theorem dX1_span_72 : decode cX1_span 72 = .ok (.if_icmp .ge 73, 3) := dk_162 0 73 (dk_at dksX1_span_3 3 rfl rfl)
theorem dX1_span_75 : decode cX1_span 75 = .ok (.aload_n 0, 1) := dk_42 (dk_at dksX1_span_3 6 rfl rfl)
theorem dX1_span_76 : decode cX1_span 76 = .ok (.iload_n 1, 1) := dk_27 (dk_at dksX1_span_3 7 rfl rfl)
theorem dX1_span_77 : decode cX1_span 77 = .ok (.iload 10, 2) := dk_21 10 (dk_at dksX1_span_3 8 rfl rfl)
theorem dX1_span_79 : decode cX1_span 79 = .ok (.iadd, 1) := dk_96 (dk_at dksX1_span_3 10 rfl rfl)
theorem dX1_span_80 : decode cX1_span 80 = .ok (.iload_n 3, 1) := dk_29 (dk_at dksX1_span_3 11 rfl rfl)
theorem dX1_span_81 : decode cX1_span 81 = .ok (.iload 4, 2) := dk_21 4 (dk_at dksX1_span_3 12 rfl rfl)
theorem dX1_span_83 : decode cX1_span 83 = .ok (.invokevirtual 408, 3) := dk_182 1 152 (dk_at dksX1_span_3 14 rfl rfl)
theorem dX1_span_86 : decode cX1_span 86 = .ok (.invokevirtual 204, 3) := dk_182 0 204 (dk_at dksX1_span_3 17 rfl rfl)
theorem dX1_span_89 : decode cX1_span 89 = .ok (.istore 11, 2) := dk_54 11 (dk_at dksX1_span_3 20 rfl rfl)
theorem dX1_span_91 : decode cX1_span 91 = .ok (.iload 11, 2) := dk_21 11 (dk_at dksX1_span_3 22 rfl rfl)
theorem dX1_span_93 : decode cX1_span 93 = .ok (.invokestatic 207, 3) := dk_184 0 207 (dk_at dksX1_span_4 0 rfl rfl)
theorem dX1_span_96 : decode cX1_span 96 = .ok (.istore 12, 2) := dk_54 12 (dk_at dksX1_span_4 3 rfl rfl)
theorem dX1_span_98 : decode cX1_span 98 = .ok (.iload 7, 2) := dk_21 7 (dk_at dksX1_span_4 5 rfl rfl)
theorem dX1_span_100 : decode cX1_span 100 = .ok (.iconst (-1), 1) := dk_2 (dk_at dksX1_span_4 7 rfl rfl)
theorem dX1_span_101 : decode cX1_span 101 = .ok (.if_icmp .ne 8, 3) := dk_160 0 8 (dk_at dksX1_span_4 8 rfl rfl)
theorem dX1_span_104 : decode cX1_span 104 = .ok (.iload 12, 2) := dk_21 12 (dk_at dksX1_span_4 11 rfl rfl)
theorem dX1_span_106 : decode cX1_span 106 = .ok (.goto 10, 3) := dk_167 0 10 (dk_at dksX1_span_4 13 rfl rfl)
theorem dX1_span_109 : decode cX1_span 109 = .ok (.iload 7, 2) := dk_21 7 (dk_at dksX1_span_4 16 rfl rfl)
theorem dX1_span_111 : decode cX1_span 111 = .ok (.iload 12, 2) := dk_21 12 (dk_at dksX1_span_4 18 rfl rfl)
theorem dX1_span_113 : decode cX1_span 113 = .ok (.invokestatic 288, 3) := dk_184 1 32 (dk_at dksX1_span_4 20 rfl rfl)
theorem dX1_span_116 : decode cX1_span 116 = .ok (.istore 7, 2) := dk_54 7 (dk_at dksX1_span_5 0 rfl rfl)
theorem dX1_span_118 : decode cX1_span 118 = .ok (.iload 8, 2) := dk_21 8 (dk_at dksX1_span_5 2 rfl rfl)
theorem dX1_span_120 : decode cX1_span 120 = .ok (.iload 12, 2) := dk_21 12 (dk_at dksX1_span_5 4 rfl rfl)
theorem dX1_span_122 : decode cX1_span 122 = .ok (.invokestatic 232, 3) := dk_184 0 232 (dk_at dksX1_span_5 6 rfl rfl)
theorem dX1_span_125 : decode cX1_span 125 = .ok (.istore 8, 2) := dk_54 8 (dk_at dksX1_span_5 9 rfl rfl)
theorem dX1_span_127 : decode cX1_span 127 = .ok (.iload 9, 2) := dk_21 9 (dk_at dksX1_span_5 11 rfl rfl)
theorem dX1_span_129 : decode cX1_span 129 = .ok (.iload 11, 2) := dk_21 11 (dk_at dksX1_span_5 13 rfl rfl)
theorem dX1_span_131 : decode cX1_span 131 = .ok (.iload 6, 2) := dk_21 6 (dk_at dksX1_span_5 15 rfl rfl)
theorem dX1_span_133 : decode cX1_span 133 = .ok (.ishr, 1) := dk_122 (dk_at dksX1_span_5 17 rfl rfl)
theorem dX1_span_134 : decode cX1_span 134 = .ok (.iconst 1, 1) := dk_4 (dk_at dksX1_span_5 18 rfl rfl)
theorem dX1_span_135 : decode cX1_span 135 = .ok (.iand, 1) := dk_126 (dk_at dksX1_span_5 19 rfl rfl)
theorem dX1_span_136 : decode cX1_span 136 = .ok (.iadd, 1) := dk_96 (dk_at dksX1_span_5 20 rfl rfl)
theorem dX1_span_137 : decode cX1_span 137 = .ok (.istore 9, 2) := dk_54 9 (dk_at dksX1_span_5 21 rfl rfl)
theorem dX1_span_139 : decode cX1_span 139 = .ok (.iinc 10 1, 3) := dk_132 10 1 (dk_at dksX1_span_6 0 rfl rfl)
theorem dX1_span_142 : decode cX1_span 142 = .ok (.goto (-73), 3) := dk_167 255 183 (dk_at dksX1_span_6 3 rfl rfl)
theorem dX1_span_145 : decode cX1_span 145 = .ok (.iload 5, 2) := dk_21 5 (dk_at dksX1_span_6 6 rfl rfl)
theorem dX1_span_147 : decode cX1_span 147 = .ok (.ifCond .ne 8, 3) := dk_154 0 8 (dk_at dksX1_span_6 8 rfl rfl)
theorem dX1_span_150 : decode cX1_span 150 = .ok (.iload 7, 2) := dk_21 7 (dk_at dksX1_span_6 11 rfl rfl)
theorem dX1_span_152 : decode cX1_span 152 = .ok (.goto 16, 3) := dk_167 0 16 (dk_at dksX1_span_6 13 rfl rfl)
theorem dX1_span_155 : decode cX1_span 155 = .ok (.iload 5, 2) := dk_21 5 (dk_at dksX1_span_6 16 rfl rfl)
theorem dX1_span_157 : decode cX1_span 157 = .ok (.iconst 1, 1) := dk_4 (dk_at dksX1_span_6 18 rfl rfl)
theorem dX1_span_158 : decode cX1_span 158 = .ok (.if_icmp .ne 8, 3) := dk_160 0 8 (dk_at dksX1_span_6 19 rfl rfl)
theorem dX1_span_161 : decode cX1_span 161 = .ok (.iload 8, 2) := dk_21 8 (dk_at dksX1_span_6 22 rfl rfl)
theorem dX1_span_163 : decode cX1_span 163 = .ok (.goto 5, 3) := dk_167 0 5 (dk_at dksX1_span_7 0 rfl rfl)
theorem dX1_span_166 : decode cX1_span 166 = .ok (.iload 9, 2) := dk_21 9 (dk_at dksX1_span_7 3 rfl rfl)
theorem dX1_span_168 : decode cX1_span 168 = .ok (.ireturn, 1) := dk_172 (dk_at dksX1_span_7 5 rfl rfl)
theorem q116 : (Jvm.Cond.initialized "PuppetHeirs") ∈ lw_all := lw_g (lw_at lw_m1 1 rfl) rfl
theorem q159 : (Jvm.Cond.instantiable "PuppetHeirs" (22 : Nat)) ∈ lw_all := lw_g (lw_at lw_m1 44 rfl) rfl
theorem q161 : (Jvm.Cond.instanceMethod ({ cls := "PuppetHeirs", name := "<init>", desc := "()V" } : Jvm.MethodName)) ∈ lw_all := lw_g (lw_at lw_m1 46 rfl) rfl
theorem q162 : (Jvm.Cond.code ({ cls := "PuppetHeirs", name := "<init>", desc := "()V" } : Jvm.MethodName) prog_1_method_2_code (1 : Nat) (Option.none : Option Jvm.ClassFile.FieldType)) ∈ lw_all := lw_g (lw_at lw_m1 47 rfl) rfl
theorem q163 : (Jvm.Cond.methodLink "PuppetHeirs" (23 : Nat) ({ cls := "java/lang/Object", name := "<init>", desc := "()V" } : Jvm.MethodName)) ∈ lw_all := lw_g (lw_at lw_m1 48 rfl) rfl
theorem q166 : (Jvm.Cond.classLink "PuppetHeirs" (28 : Nat) "PuppetHeirs$Told") ∈ lw_all := lw_g (lw_at lw_m1 51 rfl) rfl
theorem q168 : (Jvm.Cond.methodLinkNest "PuppetHeirs" (30 : Nat) ({ cls := "PuppetHeirs$Told", name := "<init>", desc := "()V" } : Jvm.MethodName) "PuppetHeirs") ∈ lw_tbl := lw_at lw_m1 53 rfl
theorem q516 : (Jvm.Cond.fieldLinkNest "PuppetHeirs" (117 : Nat) "PuppetHeirs$Told" "limp" "[I" "PuppetHeirs") ∈ lw_tbl := lw_at lw_m2 161 rfl
theorem q521 : (Jvm.Cond.fieldLinkNest "PuppetHeirs" (220 : Nat) "PuppetHeirs$Told" "born" "[I" "PuppetHeirs") ∈ lw_tbl := lw_at lw_m2 166 rfl
theorem q525 : (Jvm.Cond.fieldLinkNest "PuppetHeirs" (223 : Nat) "PuppetHeirs$Told" "dies" "[I" "PuppetHeirs") ∈ lw_tbl := lw_at lw_m2 170 rfl
theorem q528 : (Jvm.Cond.fieldLinkNest "PuppetHeirs" (322 : Nat) "PuppetHeirs$Told" "silent" "[I" "PuppetHeirs") ∈ lw_tbl := lw_at lw_m2 173 rfl
theorem q531 : (Jvm.Cond.fieldLinkNest "PuppetHeirs" (374 : Nat) "PuppetHeirs$Told" "wood" "[I" "PuppetHeirs") ∈ lw_tbl := lw_at lw_m2 176 rfl
theorem q535 : (Jvm.Cond.fieldLinkNest "PuppetHeirs" (241 : Nat) "PuppetHeirs$Told" "fall" "[I" "PuppetHeirs") ∈ lw_tbl := lw_at lw_m2 180 rfl
theorem q539 : (Jvm.Cond.fieldLinkNest "PuppetHeirs" (244 : Nat) "PuppetHeirs$Told" "needs" "[I" "PuppetHeirs") ∈ lw_tbl := lw_at lw_m2 184 rfl
theorem q549 : (Jvm.Cond.fieldLinkNest "PuppetHeirs" (334 : Nat) "PuppetHeirs$Told" "quarrels" "[I" "PuppetHeirs") ∈ lw_tbl := lw_at lw_m2 194 rfl
theorem q552 : (Jvm.Cond.fieldLinkNest "PuppetHeirs" (136 : Nat) "PuppetHeirs$Told" "acts" "Ljava/util/ArrayList;" "PuppetHeirs") ∈ lw_tbl := lw_at lw_m2 197 rfl
theorem q556 : (Jvm.Cond.fieldLinkNest "PuppetHeirs" (126 : Nat) "PuppetHeirs$Told" "hands" "I" "PuppetHeirs") ∈ lw_tbl := lw_at lw_m2 201 rfl
theorem q560 : (Jvm.Cond.fieldLinkNest "PuppetHeirs" (133 : Nat) "PuppetHeirs$Told" "puppets" "I" "PuppetHeirs") ∈ lw_tbl := lw_at lw_m2 205 rfl
theorem q596 : (Jvm.Cond.methodLink "PuppetHeirs" (35 : Nat) ({ cls := "PuppetHeirs", name := "custom", desc := "()LPuppetHeirs$Term;" } : Jvm.MethodName)) ∈ lw_all := lw_g (lw_at lw_m3 1 rfl) rfl
theorem q597 : (Jvm.Cond.static ({ cls := "PuppetHeirs", name := "custom", desc := "()LPuppetHeirs$Term;" } : Jvm.MethodName)) ∈ lw_all := lw_g (lw_at lw_m3 2 rfl) rfl
theorem q598 : (Jvm.Cond.code ({ cls := "PuppetHeirs", name := "custom", desc := "()LPuppetHeirs$Term;" } : Jvm.MethodName) prog_1_method_1_code (0 : Nat) (Option.some (Jvm.ClassFile.FieldType.object "PuppetHeirs$Term"))) ∈ lw_all := lw_g (lw_at lw_m3 3 rfl) rfl
theorem q599 : (Jvm.Cond.classLink "PuppetHeirs" (3 : Nat) "PuppetHeirs$Plus") ∈ lw_all := lw_g (lw_at lw_m3 4 rfl) rfl
theorem q601 : (Jvm.Cond.classLink "PuppetHeirs" (5 : Nat) "PuppetHeirs$Minus") ∈ lw_all := lw_g (lw_at lw_m3 6 rfl) rfl
theorem q603 : (Jvm.Cond.classLink "PuppetHeirs" (7 : Nat) "PuppetHeirs$Times") ∈ lw_all := lw_g (lw_at lw_m3 8 rfl) rfl
theorem q605 : (Jvm.Cond.classLink "PuppetHeirs" (9 : Nat) "PuppetHeirs$Fact") ∈ lw_all := lw_g (lw_at lw_m3 10 rfl) rfl
theorem q607 : (Jvm.Cond.methodLink "PuppetHeirs" (11 : Nat) ({ cls := "PuppetHeirs$Fact", name := "<init>", desc := "(I)V" } : Jvm.MethodName)) ∈ lw_all := lw_g (lw_at lw_m3 12 rfl) rfl
theorem q618 : (Jvm.Cond.classLink "PuppetHeirs" (15 : Nat) "PuppetHeirs$Plain") ∈ lw_all := lw_g (lw_at lw_m3 23 rfl) rfl
theorem q620 : (Jvm.Cond.methodLink "PuppetHeirs" (17 : Nat) ({ cls := "PuppetHeirs$Plain", name := "<init>", desc := "(I)V" } : Jvm.MethodName)) ∈ lw_all := lw_g (lw_at lw_m3 25 rfl) rfl
theorem q628 : (Jvm.Cond.methodLink "PuppetHeirs" (18 : Nat) ({ cls := "PuppetHeirs$Times", name := "<init>", desc := "(LPuppetHeirs$Term;LPuppetHeirs$Term;)V" } : Jvm.MethodName)) ∈ lw_all := lw_g (lw_at lw_m3 33 rfl) rfl
theorem q642 : (Jvm.Cond.methodLink "PuppetHeirs" (21 : Nat) ({ cls := "PuppetHeirs$Minus", name := "<init>", desc := "(LPuppetHeirs$Term;LPuppetHeirs$Term;)V" } : Jvm.MethodName)) ∈ lw_all := lw_g (lw_at lw_m3 47 rfl) rfl
theorem q649 : (Jvm.Cond.methodLink "PuppetHeirs" (22 : Nat) ({ cls := "PuppetHeirs$Plus", name := "<init>", desc := "(LPuppetHeirs$Term;LPuppetHeirs$Term;)V" } : Jvm.MethodName)) ∈ lw_all := lw_g (lw_at lw_m3 54 rfl) rfl
theorem q656 : (Jvm.Cond.classLink "PuppetHeirs" (53 : Nat) "PuppetHeirs$Troupe") ∈ lw_all := lw_g (lw_at lw_m3 61 rfl) rfl
theorem q658 : (Jvm.Cond.methodLinkNest "PuppetHeirs" (55 : Nat) ({ cls := "PuppetHeirs$Troupe", name := "<init>", desc := "(LPuppetHeirs;)V" } : Jvm.MethodName) "PuppetHeirs") ∈ lw_tbl := lw_at lw_m3 63 rfl
theorem q663 : (Jvm.Cond.fieldLinkNest "PuppetHeirs" (226 : Nat) "PuppetHeirs$Troupe" "is" "[I" "PuppetHeirs") ∈ lw_tbl := lw_at lw_m3 68 rfl
theorem q665 : (Jvm.Cond.fieldLinkNest "PuppetHeirs" (247 : Nat) "PuppetHeirs$Troupe" "works" "[I" "PuppetHeirs") ∈ lw_tbl := lw_at lw_m3 70 rfl
theorem q667 : (Jvm.Cond.fieldLinkNest "PuppetHeirs" (253 : Nat) "PuppetHeirs$Troupe" "latest" "[I" "PuppetHeirs") ∈ lw_tbl := lw_at lw_m3 72 rfl
theorem q669 : (Jvm.Cond.fieldLinkNest "PuppetHeirs" (198 : Nat) "PuppetHeirs$Troupe" "strings" "[I" "PuppetHeirs") ∈ lw_tbl := lw_at lw_m3 74 rfl
theorem q671 : (Jvm.Cond.fieldLinkNest "PuppetHeirs" (295 : Nat) "PuppetHeirs$Troupe" "since" "[I" "PuppetHeirs") ∈ lw_tbl := lw_at lw_m3 76 rfl
theorem q673 : (Jvm.Cond.fieldLinkNest "PuppetHeirs" (298 : Nat) "PuppetHeirs$Troupe" "chose" "[I" "PuppetHeirs") ∈ lw_tbl := lw_at lw_m3 78 rfl
theorem q675 : (Jvm.Cond.fieldLinkNest "PuppetHeirs" (201 : Nat) "PuppetHeirs$Troupe" "year" "I" "PuppetHeirs") ∈ lw_tbl := lw_at lw_m3 80 rfl
theorem q695 : (Jvm.Cond.methodLink "PuppetHeirs" (95 : Nat) ({ cls := "PuppetHeirs", name := "begins", desc := "()V" } : Jvm.MethodName)) ∈ lw_all := lw_g (lw_at lw_m3 100 rfl) rfl
theorem q696 : (Jvm.Cond.privateMethod ({ cls := "PuppetHeirs", name := "begins", desc := "()V" } : Jvm.MethodName)) ∈ lw_tbl := lw_at lw_m3 101 rfl
theorem q697 : (Jvm.Cond.instanceMethod ({ cls := "PuppetHeirs", name := "begins", desc := "()V" } : Jvm.MethodName)) ∈ lw_all := lw_g (lw_at lw_m3 102 rfl) rfl
theorem q698 : (Jvm.Cond.code ({ cls := "PuppetHeirs", name := "begins", desc := "()V" } : Jvm.MethodName) prog_1_method_3_code (1 : Nat) (Option.none : Option Jvm.ClassFile.FieldType)) ∈ lw_all := lw_g (lw_at lw_m3 103 rfl) rfl
theorem q699 : (Jvm.Cond.methodLink "PuppetHeirs" (98 : Nat) ({ cls := "PuppetHeirs$Troupe", name := "begins", desc := "()LPuppetHeirs$Troupe;" } : Jvm.MethodName)) ∈ lw_all := lw_g (lw_at lw_m3 104 rfl) rfl
theorem q707 : (Jvm.Cond.methodLink "PuppetHeirs" (101 : Nat) ({ cls := "PuppetHeirs", name := "keepsBase", desc := "()V" } : Jvm.MethodName)) ∈ lw_all := lw_g (lw_at lw_m3 112 rfl) rfl
theorem q708 : (Jvm.Cond.privateMethod ({ cls := "PuppetHeirs", name := "keepsBase", desc := "()V" } : Jvm.MethodName)) ∈ lw_tbl := lw_at lw_m3 113 rfl
theorem q709 : (Jvm.Cond.instanceMethod ({ cls := "PuppetHeirs", name := "keepsBase", desc := "()V" } : Jvm.MethodName)) ∈ lw_all := lw_g (lw_at lw_m3 114 rfl) rfl
theorem q710 : (Jvm.Cond.code ({ cls := "PuppetHeirs", name := "keepsBase", desc := "()V" } : Jvm.MethodName) prog_1_method_4_code (1 : Nat) (Option.none : Option Jvm.ClassFile.FieldType)) ∈ lw_all := lw_g (lw_at lw_m3 115 rfl) rfl
theorem q711 : (Jvm.Cond.methodLink "PuppetHeirs" (110 : Nat) ({ cls := "PuppetHeirs$Troupe", name := "becomes", desc := "(LPuppetHeirs$Troupe;)LPuppetHeirs$Troupe;" } : Jvm.MethodName)) ∈ lw_all := lw_g (lw_at lw_m3 116 rfl) rfl
theorem q716 : (Jvm.Cond.fieldLink "PuppetHeirs" (31 : Nat) "PuppetHeirs" "told" "LPuppetHeirs$Told;") ∈ lw_all := lw_g (lw_at lw_m3 121 rfl) rfl
theorem q718 : (Jvm.Cond.fieldLink "PuppetHeirs" (39 : Nat) "PuppetHeirs" "law" "LPuppetHeirs$Term;") ∈ lw_all := lw_g (lw_at lw_m3 123 rfl) rfl
theorem q720 : (Jvm.Cond.fieldLink "PuppetHeirs" (43 : Nat) "PuppetHeirs" "facts" "[I") ∈ lw_all := lw_g (lw_at lw_m3 125 rfl) rfl
theorem q722 : (Jvm.Cond.fieldLink "PuppetHeirs" (47 : Nat) "PuppetHeirs" "lines" "[I") ∈ lw_all := lw_g (lw_at lw_m3 127 rfl) rfl
theorem q723 : (Jvm.Cond.fieldLink "PuppetHeirs" (50 : Nat) "PuppetHeirs" "refused" "[I") ∈ lw_all := lw_g (lw_at lw_m3 128 rfl) rfl
theorem q724 : (Jvm.Cond.fieldLink "PuppetHeirs" (58 : Nat) "PuppetHeirs" "now" "LPuppetHeirs$Troupe;") ∈ lw_all := lw_g (lw_at lw_m3 129 rfl) rfl
theorem q725 : (Jvm.Cond.fieldLink "PuppetHeirs" (62 : Nat) "PuppetHeirs" "base" "LPuppetHeirs$Troupe;") ∈ lw_all := lw_g (lw_at lw_m3 130 rfl) rfl
theorem q726 : (Jvm.Cond.fieldLink "PuppetHeirs" (65 : Nat) "PuppetHeirs" "probe" "LPuppetHeirs$Troupe;") ∈ lw_all := lw_g (lw_at lw_m3 131 rfl) rfl
theorem q727 : (Jvm.Cond.fieldLink "PuppetHeirs" (68 : Nat) "PuppetHeirs" "images" "[LPuppetHeirs$Troupe;") ∈ lw_all := lw_g (lw_at lw_m3 132 rfl) rfl
theorem q728 : (Jvm.Cond.fieldLink "PuppetHeirs" (72 : Nat) "PuppetHeirs" "otherHand" "I") ∈ lw_all := lw_g (lw_at lw_m3 133 rfl) rfl
theorem q729 : (Jvm.Cond.fieldLink "PuppetHeirs" (114 : Nat) "PuppetHeirs" "otherLimp" "I") ∈ lw_all := lw_g (lw_at lw_m3 134 rfl) rfl
theorem q730 : (Jvm.Cond.fieldLink "PuppetHeirs" (104 : Nat) "PuppetHeirs" "lineMany" "I") ∈ lw_all := lw_g (lw_at lw_m3 135 rfl) rfl
theorem q731 : (Jvm.Cond.fieldLink "PuppetHeirs" (392 : Nat) "PuppetHeirs" "seedNow" "I") ∈ lw_all := lw_g (lw_at lw_m3 136 rfl) rfl
theorem q732 : (Jvm.Cond.fieldLink "PuppetHeirs" (146 : Nat) "PuppetHeirs" "taped" "I") ∈ lw_all := lw_g (lw_at lw_m3 137 rfl) rfl
theorem q733 : (Jvm.Cond.fieldLink "PuppetHeirs" (76 : Nat) "PuppetHeirs" "faultAt" "I") ∈ lw_all := lw_g (lw_at lw_m3 138 rfl) rfl
theorem q734 : (Jvm.Cond.fieldLink "PuppetHeirs" (107 : Nat) "PuppetHeirs" "imageMany" "I") ∈ lw_all := lw_g (lw_at lw_m3 139 rfl) rfl
theorem q735 : (Jvm.Cond.fieldLink "PuppetHeirs" (79 : Nat) "PuppetHeirs" "tape" "[B") ∈ lw_all := lw_g (lw_at lw_m3 140 rfl) rfl
theorem q736 : (Jvm.Cond.fieldLink "PuppetHeirs" (83 : Nat) "PuppetHeirs" "castNow" "[I") ∈ lw_all := lw_g (lw_at lw_m3 141 rfl) rfl
theorem q737 : (Jvm.Cond.fieldLink "PuppetHeirs" (86 : Nat) "PuppetHeirs" "castFirst" "[I") ∈ lw_all := lw_g (lw_at lw_m3 142 rfl) rfl
theorem q738 : (Jvm.Cond.fieldLink "PuppetHeirs" (325 : Nat) "PuppetHeirs" "castMany" "I") ∈ lw_all := lw_g (lw_at lw_m3 143 rfl) rfl
theorem q739 : (Jvm.Cond.fieldLink "PuppetHeirs" (89 : Nat) "PuppetHeirs" "workedIn" "[I") ∈ lw_all := lw_g (lw_at lw_m3 144 rfl) rfl
theorem q740 : (Jvm.Cond.fieldLink "PuppetHeirs" (92 : Nat) "PuppetHeirs" "nightOf" "[I") ∈ lw_all := lw_g (lw_at lw_m3 145 rfl) rfl
theorem q741 : (Jvm.Cond.lays "PuppetHeirs" "PuppetHeirs" "told" "LPuppetHeirs$Told;") ∈ lw_all := lw_g (lw_at lw_m3 146 rfl) rfl
theorem q742 : (Jvm.Cond.soleField "PuppetHeirs" "told") ∈ lw_all := lw_g (lw_at lw_m3 147 rfl) rfl
theorem q743 : (Jvm.Cond.lays "PuppetHeirs" "PuppetHeirs" "law" "LPuppetHeirs$Term;") ∈ lw_all := lw_g (lw_at lw_m3 148 rfl) rfl
theorem q744 : (Jvm.Cond.soleField "PuppetHeirs" "law") ∈ lw_all := lw_g (lw_at lw_m3 149 rfl) rfl
theorem q745 : (Jvm.Cond.laysFinal "PuppetHeirs" "PuppetHeirs" "facts" "[I") ∈ lw_all := lw_g (lw_at lw_m3 150 rfl) rfl
theorem q746 : (Jvm.Cond.soleField "PuppetHeirs" "facts") ∈ lw_all := lw_g (lw_at lw_m3 151 rfl) rfl
theorem q747 : (Jvm.Cond.laysFinal "PuppetHeirs" "PuppetHeirs" "lines" "[I") ∈ lw_all := lw_g (lw_at lw_m3 152 rfl) rfl
theorem q748 : (Jvm.Cond.soleField "PuppetHeirs" "lines") ∈ lw_all := lw_g (lw_at lw_m3 153 rfl) rfl
theorem q749 : (Jvm.Cond.laysFinal "PuppetHeirs" "PuppetHeirs" "refused" "[I") ∈ lw_all := lw_g (lw_at lw_m3 154 rfl) rfl
theorem q750 : (Jvm.Cond.soleField "PuppetHeirs" "refused") ∈ lw_all := lw_g (lw_at lw_m3 155 rfl) rfl
theorem q751 : (Jvm.Cond.laysFinal "PuppetHeirs" "PuppetHeirs" "now" "LPuppetHeirs$Troupe;") ∈ lw_all := lw_g (lw_at lw_m3 156 rfl) rfl
theorem q752 : (Jvm.Cond.soleField "PuppetHeirs" "now") ∈ lw_all := lw_g (lw_at lw_m3 157 rfl) rfl
theorem q753 : (Jvm.Cond.laysFinal "PuppetHeirs" "PuppetHeirs" "base" "LPuppetHeirs$Troupe;") ∈ lw_all := lw_g (lw_at lw_m3 158 rfl) rfl
theorem q754 : (Jvm.Cond.soleField "PuppetHeirs" "base") ∈ lw_all := lw_g (lw_at lw_m3 159 rfl) rfl
theorem q755 : (Jvm.Cond.laysFinal "PuppetHeirs" "PuppetHeirs" "probe" "LPuppetHeirs$Troupe;") ∈ lw_all := lw_g (lw_at lw_m3 160 rfl) rfl
theorem q756 : (Jvm.Cond.soleField "PuppetHeirs" "probe") ∈ lw_all := lw_g (lw_at lw_m3 161 rfl) rfl
theorem q757 : (Jvm.Cond.laysFinal "PuppetHeirs" "PuppetHeirs" "images" "[LPuppetHeirs$Troupe;") ∈ lw_all := lw_g (lw_at lw_m3 162 rfl) rfl
theorem q758 : (Jvm.Cond.soleField "PuppetHeirs" "images") ∈ lw_all := lw_g (lw_at lw_m3 163 rfl) rfl
theorem q759 : (Jvm.Cond.lays "PuppetHeirs" "PuppetHeirs" "otherHand" "I") ∈ lw_all := lw_g (lw_at lw_m3 164 rfl) rfl
theorem q760 : (Jvm.Cond.soleField "PuppetHeirs" "otherHand") ∈ lw_all := lw_g (lw_at lw_m3 165 rfl) rfl
theorem q761 : (Jvm.Cond.lays "PuppetHeirs" "PuppetHeirs" "otherLimp" "I") ∈ lw_all := lw_g (lw_at lw_m3 166 rfl) rfl
theorem q762 : (Jvm.Cond.soleField "PuppetHeirs" "otherLimp") ∈ lw_all := lw_g (lw_at lw_m3 167 rfl) rfl
theorem q763 : (Jvm.Cond.lays "PuppetHeirs" "PuppetHeirs" "lineMany" "I") ∈ lw_all := lw_g (lw_at lw_m3 168 rfl) rfl
theorem q764 : (Jvm.Cond.soleField "PuppetHeirs" "lineMany") ∈ lw_all := lw_g (lw_at lw_m3 169 rfl) rfl
theorem q765 : (Jvm.Cond.lays "PuppetHeirs" "PuppetHeirs" "seedNow" "I") ∈ lw_all := lw_g (lw_at lw_m3 170 rfl) rfl
theorem q766 : (Jvm.Cond.soleField "PuppetHeirs" "seedNow") ∈ lw_all := lw_g (lw_at lw_m3 171 rfl) rfl
theorem q767 : (Jvm.Cond.lays "PuppetHeirs" "PuppetHeirs" "taped" "I") ∈ lw_all := lw_g (lw_at lw_m3 172 rfl) rfl
theorem q768 : (Jvm.Cond.soleField "PuppetHeirs" "taped") ∈ lw_all := lw_g (lw_at lw_m3 173 rfl) rfl
theorem q769 : (Jvm.Cond.lays "PuppetHeirs" "PuppetHeirs" "faultAt" "I") ∈ lw_all := lw_g (lw_at lw_m3 174 rfl) rfl
theorem q770 : (Jvm.Cond.soleField "PuppetHeirs" "faultAt") ∈ lw_all := lw_g (lw_at lw_m3 175 rfl) rfl
theorem q771 : (Jvm.Cond.lays "PuppetHeirs" "PuppetHeirs" "imageMany" "I") ∈ lw_all := lw_g (lw_at lw_m3 176 rfl) rfl
theorem q772 : (Jvm.Cond.soleField "PuppetHeirs" "imageMany") ∈ lw_all := lw_g (lw_at lw_m3 177 rfl) rfl
theorem q773 : (Jvm.Cond.laysFinal "PuppetHeirs" "PuppetHeirs" "tape" "[B") ∈ lw_all := lw_g (lw_at lw_m3 178 rfl) rfl
theorem q774 : (Jvm.Cond.soleField "PuppetHeirs" "tape") ∈ lw_all := lw_g (lw_at lw_m3 179 rfl) rfl
theorem q775 : (Jvm.Cond.laysFinal "PuppetHeirs" "PuppetHeirs" "castNow" "[I") ∈ lw_all := lw_g (lw_at lw_m3 180 rfl) rfl
theorem q776 : (Jvm.Cond.soleField "PuppetHeirs" "castNow") ∈ lw_all := lw_g (lw_at lw_m3 181 rfl) rfl
theorem q777 : (Jvm.Cond.laysFinal "PuppetHeirs" "PuppetHeirs" "castFirst" "[I") ∈ lw_all := lw_g (lw_at lw_m3 182 rfl) rfl
theorem q778 : (Jvm.Cond.soleField "PuppetHeirs" "castFirst") ∈ lw_all := lw_g (lw_at lw_m3 183 rfl) rfl
theorem q779 : (Jvm.Cond.lays "PuppetHeirs" "PuppetHeirs" "castMany" "I") ∈ lw_all := lw_g (lw_at lw_m3 184 rfl) rfl
theorem q780 : (Jvm.Cond.soleField "PuppetHeirs" "castMany") ∈ lw_all := lw_g (lw_at lw_m3 185 rfl) rfl
theorem q781 : (Jvm.Cond.laysFinal "PuppetHeirs" "PuppetHeirs" "workedIn" "[I") ∈ lw_all := lw_g (lw_at lw_m3 186 rfl) rfl
theorem q782 : (Jvm.Cond.soleField "PuppetHeirs" "workedIn") ∈ lw_all := lw_g (lw_at lw_m3 187 rfl) rfl
theorem q783 : (Jvm.Cond.laysFinal "PuppetHeirs" "PuppetHeirs" "nightOf" "[I") ∈ lw_all := lw_g (lw_at lw_m3 188 rfl) rfl
theorem q784 : (Jvm.Cond.soleField "PuppetHeirs" "nightOf") ∈ lw_all := lw_g (lw_at lw_m3 189 rfl) rfl
theorem q785 : (Jvm.Cond.superclass "PuppetHeirs" "java/lang/Object") ∈ lw_all := lw_g (lw_at lw_m3 190 rfl) rfl
theorem q787 : (Jvm.Cond.instanceMethod ({ cls := "PuppetHeirs", name := "feed", desc := "(IIIII)I" } : Jvm.MethodName)) ∈ lw_all := lw_g (lw_at lw_m3 192 rfl) rfl
theorem q788 : (Jvm.Cond.selects "PuppetHeirs" ({ cls := "PuppetHeirs", name := "feed", desc := "(IIIII)I" } : Jvm.MethodName) ({ cls := "PuppetHeirs", name := "feed", desc := "(IIIII)I" } : Jvm.MethodName)) ∈ lw_all := lw_g (lw_at lw_m3 193 rfl) rfl
theorem q789 : (Jvm.Cond.code ({ cls := "PuppetHeirs", name := "feed", desc := "(IIIII)I" } : Jvm.MethodName) prog_1_method_12_code (6 : Nat) (Option.some Jvm.ClassFile.FieldType.int)) ∈ lw_all := lw_g (lw_at lw_m3 194 rfl) rfl
theorem q790 : (Jvm.Cond.methodLink "PuppetHeirs" (149 : Nat) ({ cls := "PuppetHeirs", name := "put", desc := "(I)V" } : Jvm.MethodName)) ∈ lw_all := lw_g (lw_at lw_m3 195 rfl) rfl
theorem q791 : (Jvm.Cond.privateMethod ({ cls := "PuppetHeirs", name := "put", desc := "(I)V" } : Jvm.MethodName)) ∈ lw_tbl := lw_at lw_m3 196 rfl
theorem q792 : (Jvm.Cond.instanceMethod ({ cls := "PuppetHeirs", name := "put", desc := "(I)V" } : Jvm.MethodName)) ∈ lw_all := lw_g (lw_at lw_m3 197 rfl) rfl
theorem q793 : (Jvm.Cond.code ({ cls := "PuppetHeirs", name := "put", desc := "(I)V" } : Jvm.MethodName) prog_1_method_13_code (3 : Nat) (Option.none : Option Jvm.ClassFile.FieldType)) ∈ lw_all := lw_g (lw_at lw_m3 198 rfl) rfl
theorem q795 : (Jvm.Cond.instanceMethod ({ cls := "PuppetHeirs", name := "fault", desc := "()I" } : Jvm.MethodName)) ∈ lw_all := lw_g (lw_at lw_m3 200 rfl) rfl
theorem q796 : (Jvm.Cond.selects "PuppetHeirs" ({ cls := "PuppetHeirs", name := "fault", desc := "()I" } : Jvm.MethodName) ({ cls := "PuppetHeirs", name := "fault", desc := "()I" } : Jvm.MethodName)) ∈ lw_all := lw_g (lw_at lw_m3 201 rfl) rfl
theorem q797 : (Jvm.Cond.code ({ cls := "PuppetHeirs", name := "fault", desc := "()I" } : Jvm.MethodName) prog_1_method_18_code (1 : Nat) (Option.some Jvm.ClassFile.FieldType.int)) ∈ lw_all := lw_g (lw_at lw_m3 202 rfl) rfl
theorem q799 : (Jvm.Cond.instanceMethod ({ cls := "PuppetHeirs", name := "played", desc := "()I" } : Jvm.MethodName)) ∈ lw_all := lw_g (lw_at lw_m3 204 rfl) rfl
theorem q800 : (Jvm.Cond.selects "PuppetHeirs" ({ cls := "PuppetHeirs", name := "played", desc := "()I" } : Jvm.MethodName) ({ cls := "PuppetHeirs", name := "played", desc := "()I" } : Jvm.MethodName)) ∈ lw_all := lw_g (lw_at lw_m3 205 rfl) rfl
theorem q801 : (Jvm.Cond.code ({ cls := "PuppetHeirs", name := "played", desc := "()I" } : Jvm.MethodName) prog_1_method_46_code (1 : Nat) (Option.some Jvm.ClassFile.FieldType.int)) ∈ lw_all := lw_g (lw_at lw_m3 206 rfl) rfl
theorem q802 : (Jvm.Cond.methodLink "PuppetHeirs" (204 : Nat) ({ cls := "PuppetHeirs$Troupe", name := "alive", desc := "()I" } : Jvm.MethodName)) ∈ lw_all := lw_g (lw_at lw_m3 207 rfl) rfl
theorem q806 : (Jvm.Cond.methodLink "PuppetHeirs" (349 : Nat) ({ cls := "PuppetHeirs", name := "playedBy", desc := "(LPuppetHeirs$Troupe;I)I" } : Jvm.MethodName)) ∈ lw_all := lw_g (lw_at lw_m3 211 rfl) rfl
theorem q807 : (Jvm.Cond.privateMethod ({ cls := "PuppetHeirs", name := "playedBy", desc := "(LPuppetHeirs$Troupe;I)I" } : Jvm.MethodName)) ∈ lw_tbl := lw_at lw_m3 212 rfl
theorem q808 : (Jvm.Cond.instanceMethod ({ cls := "PuppetHeirs", name := "playedBy", desc := "(LPuppetHeirs$Troupe;I)I" } : Jvm.MethodName)) ∈ lw_all := lw_g (lw_at lw_m3 213 rfl) rfl
theorem q809 : (Jvm.Cond.code ({ cls := "PuppetHeirs", name := "playedBy", desc := "(LPuppetHeirs$Troupe;I)I" } : Jvm.MethodName) prog_1_method_45_code (5 : Nat) (Option.some Jvm.ClassFile.FieldType.int)) ∈ lw_all := lw_g (lw_at lw_m3 214 rfl) rfl
theorem q810 : (Jvm.Cond.methodLink "PuppetHeirs" (140 : Nat) ({ cls := "java/util/ArrayList", name := "size", desc := "()I" } : Jvm.MethodName)) ∈ lw_all := lw_g (lw_at lw_m3 215 rfl) rfl
theorem q814 : (Jvm.Cond.methodLink "PuppetHeirs" (307 : Nat) ({ cls := "PuppetHeirs", name := "isCast", desc := "(LPuppetHeirs$Troupe;II)Z" } : Jvm.MethodName)) ∈ lw_all := lw_g (lw_at lw_m3 219 rfl) rfl
theorem q815 : (Jvm.Cond.privateMethod ({ cls := "PuppetHeirs", name := "isCast", desc := "(LPuppetHeirs$Troupe;II)Z" } : Jvm.MethodName)) ∈ lw_tbl := lw_at lw_m3 220 rfl
theorem q816 : (Jvm.Cond.instanceMethod ({ cls := "PuppetHeirs", name := "isCast", desc := "(LPuppetHeirs$Troupe;II)Z" } : Jvm.MethodName)) ∈ lw_all := lw_g (lw_at lw_m3 221 rfl) rfl
theorem q817 : (Jvm.Cond.code ({ cls := "PuppetHeirs", name := "isCast", desc := "(LPuppetHeirs$Troupe;II)Z" } : Jvm.MethodName) prog_1_method_41_code (4 : Nat) (Option.some Jvm.ClassFile.FieldType.boolean)) ∈ lw_all := lw_g (lw_at lw_m3 222 rfl) rfl
theorem q818 : (Jvm.Cond.methodLink "PuppetHeirs" (344 : Nat) ({ cls := "PuppetHeirs", name := "castsOf", desc := "(LPuppetHeirs$Troupe;III)I" } : Jvm.MethodName)) ∈ lw_all := lw_g (lw_at lw_m3 223 rfl) rfl
theorem q819 : (Jvm.Cond.privateMethod ({ cls := "PuppetHeirs", name := "castsOf", desc := "(LPuppetHeirs$Troupe;III)I" } : Jvm.MethodName)) ∈ lw_tbl := lw_at lw_m3 224 rfl
theorem q820 : (Jvm.Cond.instanceMethod ({ cls := "PuppetHeirs", name := "castsOf", desc := "(LPuppetHeirs$Troupe;III)I" } : Jvm.MethodName)) ∈ lw_all := lw_g (lw_at lw_m3 225 rfl) rfl
theorem q821 : (Jvm.Cond.code ({ cls := "PuppetHeirs", name := "castsOf", desc := "(LPuppetHeirs$Troupe;III)I" } : Jvm.MethodName) prog_1_method_40_code (7 : Nat) (Option.some Jvm.ClassFile.FieldType.int)) ∈ lw_all := lw_g (lw_at lw_m3 226 rfl) rfl
theorem q822 : (Jvm.Cond.methodLink "PuppetHeirs" (265 : Nat) ({ cls := "PuppetHeirs", name := "actOf", desc := "(I)LPuppetHeirs$Act;" } : Jvm.MethodName)) ∈ lw_all := lw_g (lw_at lw_m3 227 rfl) rfl
theorem q823 : (Jvm.Cond.privateMethod ({ cls := "PuppetHeirs", name := "actOf", desc := "(I)LPuppetHeirs$Act;" } : Jvm.MethodName)) ∈ lw_tbl := lw_at lw_m3 228 rfl
theorem q824 : (Jvm.Cond.instanceMethod ({ cls := "PuppetHeirs", name := "actOf", desc := "(I)LPuppetHeirs$Act;" } : Jvm.MethodName)) ∈ lw_all := lw_g (lw_at lw_m3 229 rfl) rfl
theorem q825 : (Jvm.Cond.code ({ cls := "PuppetHeirs", name := "actOf", desc := "(I)LPuppetHeirs$Act;" } : Jvm.MethodName) prog_1_method_23_code (2 : Nat) (Option.some (Jvm.ClassFile.FieldType.object "PuppetHeirs$Act"))) ∈ lw_all := lw_g (lw_at lw_m3 230 rfl) rfl
theorem q826 : (Jvm.Cond.methodLink "PuppetHeirs" (256 : Nat) ({ cls := "java/util/ArrayList", name := "get", desc := "(I)Ljava/lang/Object;" } : Jvm.MethodName)) ∈ lw_all := lw_g (lw_at lw_m3 231 rfl) rfl
theorem q840 : (Jvm.Cond.classLink "PuppetHeirs" (260 : Nat) "PuppetHeirs$Act") ∈ lw_all := lw_g (lw_at lw_m4 5 rfl) rfl
theorem q841 : (Jvm.Cond.methodLink "PuppetHeirs" (340 : Nat) ({ cls := "PuppetHeirs", name := "castsOn", desc := "(LPuppetHeirs$Act;IIII)V" } : Jvm.MethodName)) ∈ lw_all := lw_g (lw_at lw_m4 6 rfl) rfl
theorem q842 : (Jvm.Cond.privateMethod ({ cls := "PuppetHeirs", name := "castsOn", desc := "(LPuppetHeirs$Act;IIII)V" } : Jvm.MethodName)) ∈ lw_tbl := lw_at lw_m4 7 rfl
theorem q843 : (Jvm.Cond.instanceMethod ({ cls := "PuppetHeirs", name := "castsOn", desc := "(LPuppetHeirs$Act;IIII)V" } : Jvm.MethodName)) ∈ lw_all := lw_g (lw_at lw_m4 8 rfl) rfl
theorem q844 : (Jvm.Cond.code ({ cls := "PuppetHeirs", name := "castsOn", desc := "(LPuppetHeirs$Act;IIII)V" } : Jvm.MethodName) prog_1_method_39_code (9 : Nat) (Option.none : Option Jvm.ClassFile.FieldType)) ∈ lw_all := lw_g (lw_at lw_m4 9 rfl) rfl
theorem q845 : (Jvm.Cond.methodLink "PuppetHeirs" (192 : Nat) ({ cls := "java/lang/System", name := "arraycopy", desc := "(Ljava/lang/Object;ILjava/lang/Object;II)V" } : Jvm.MethodName)) ∈ lw_all := lw_g (lw_at lw_m4 10 rfl) rfl
theorem q846 : (Jvm.Cond.methodLink "PuppetHeirs" (207 : Nat) ({ cls := "java/lang/Integer", name := "bitCount", desc := "(I)I" } : Jvm.MethodName)) ∈ lw_all := lw_g (lw_at lw_m4 11 rfl) rfl
theorem q852 : (Jvm.Cond.methodLink "PuppetHeirs" (337 : Nat) ({ cls := "PuppetHeirs", name := "isSilent", desc := "(I)Z" } : Jvm.MethodName)) ∈ lw_all := lw_g (lw_at lw_m4 17 rfl) rfl
theorem q853 : (Jvm.Cond.privateMethod ({ cls := "PuppetHeirs", name := "isSilent", desc := "(I)Z" } : Jvm.MethodName)) ∈ lw_tbl := lw_at lw_m4 18 rfl
theorem q854 : (Jvm.Cond.instanceMethod ({ cls := "PuppetHeirs", name := "isSilent", desc := "(I)Z" } : Jvm.MethodName)) ∈ lw_all := lw_g (lw_at lw_m4 19 rfl) rfl
theorem q855 : (Jvm.Cond.code ({ cls := "PuppetHeirs", name := "isSilent", desc := "(I)Z" } : Jvm.MethodName) prog_1_method_38_code (3 : Nat) (Option.some Jvm.ClassFile.FieldType.boolean)) ∈ lw_all := lw_g (lw_at lw_m4 20 rfl) rfl
theorem q857 : (Jvm.Cond.instanceMethod ({ cls := "PuppetHeirs", name := "dearest", desc := "()I" } : Jvm.MethodName)) ∈ lw_all := lw_g (lw_at lw_m4 22 rfl) rfl
theorem q858 : (Jvm.Cond.selects "PuppetHeirs" ({ cls := "PuppetHeirs", name := "dearest", desc := "()I" } : Jvm.MethodName) ({ cls := "PuppetHeirs", name := "dearest", desc := "()I" } : Jvm.MethodName)) ∈ lw_all := lw_g (lw_at lw_m4 23 rfl) rfl
theorem q859 : (Jvm.Cond.code ({ cls := "PuppetHeirs", name := "dearest", desc := "()I" } : Jvm.MethodName) prog_1_method_49_code (3 : Nat) (Option.some Jvm.ClassFile.FieldType.int)) ∈ lw_all := lw_g (lw_at lw_m4 24 rfl) rfl
theorem q860 : (Jvm.Cond.methodLink "PuppetHeirs" (353 : Nat) ({ cls := "PuppetHeirs", name := "costOf", desc := "(I)I" } : Jvm.MethodName)) ∈ lw_all := lw_g (lw_at lw_m4 25 rfl) rfl
theorem q861 : (Jvm.Cond.privateMethod ({ cls := "PuppetHeirs", name := "costOf", desc := "(I)I" } : Jvm.MethodName)) ∈ lw_tbl := lw_at lw_m4 26 rfl
theorem q862 : (Jvm.Cond.instanceMethod ({ cls := "PuppetHeirs", name := "costOf", desc := "(I)I" } : Jvm.MethodName)) ∈ lw_all := lw_g (lw_at lw_m4 27 rfl) rfl
theorem q863 : (Jvm.Cond.code ({ cls := "PuppetHeirs", name := "costOf", desc := "(I)I" } : Jvm.MethodName) prog_1_method_47_code (2 : Nat) (Option.some Jvm.ClassFile.FieldType.int)) ∈ lw_all := lw_g (lw_at lw_m4 28 rfl) rfl
theorem q865 : (Jvm.Cond.instanceMethod ({ cls := "PuppetHeirs", name := "right", desc := "()I" } : Jvm.MethodName)) ∈ lw_all := lw_g (lw_at lw_m4 30 rfl) rfl
theorem q866 : (Jvm.Cond.selects "PuppetHeirs" ({ cls := "PuppetHeirs", name := "right", desc := "()I" } : Jvm.MethodName) ({ cls := "PuppetHeirs", name := "right", desc := "()I" } : Jvm.MethodName)) ∈ lw_all := lw_g (lw_at lw_m4 31 rfl) rfl
theorem q867 : (Jvm.Cond.code ({ cls := "PuppetHeirs", name := "right", desc := "()I" } : Jvm.MethodName) prog_1_method_54_code (1 : Nat) (Option.some Jvm.ClassFile.FieldType.int)) ∈ lw_all := lw_g (lw_at lw_m4 32 rfl) rfl
theorem q868 : (Jvm.Cond.methodLink "PuppetHeirs" (359 : Nat) ({ cls := "PuppetHeirs", name := "rightNow", desc := "()I" } : Jvm.MethodName)) ∈ lw_all := lw_g (lw_at lw_m4 33 rfl) rfl
theorem q869 : (Jvm.Cond.privateMethod ({ cls := "PuppetHeirs", name := "rightNow", desc := "()I" } : Jvm.MethodName)) ∈ lw_tbl := lw_at lw_m4 34 rfl
theorem q870 : (Jvm.Cond.instanceMethod ({ cls := "PuppetHeirs", name := "rightNow", desc := "()I" } : Jvm.MethodName)) ∈ lw_all := lw_g (lw_at lw_m4 35 rfl) rfl
theorem q871 : (Jvm.Cond.code ({ cls := "PuppetHeirs", name := "rightNow", desc := "()I" } : Jvm.MethodName) prog_1_method_53_code (3 : Nat) (Option.some Jvm.ClassFile.FieldType.int)) ∈ lw_all := lw_g (lw_at lw_m4 36 rfl) rfl
theorem q872 : (Jvm.Cond.methodLink "PuppetHeirs" (301 : Nat) ({ cls := "PuppetHeirs$Troupe", name := "goes", desc := "()LPuppetHeirs$Troupe;" } : Jvm.MethodName)) ∈ lw_all := lw_g (lw_at lw_m4 37 rfl) rfl
theorem q919 : (Jvm.Cond.privateMethod ({ cls := "PuppetHeirs", name := "limpOf", desc := "(I)I" } : Jvm.MethodName)) ∈ lw_tbl := lw_at lw_m4 84 rfl
theorem q920 : (Jvm.Cond.instanceMethod ({ cls := "PuppetHeirs", name := "limpOf", desc := "(I)I" } : Jvm.MethodName)) ∈ lw_all := lw_g (lw_at lw_m4 85 rfl) rfl
theorem q921 : (Jvm.Cond.code ({ cls := "PuppetHeirs", name := "limpOf", desc := "(I)I" } : Jvm.MethodName) prog_1_method_5_code (2 : Nat) (Option.some Jvm.ClassFile.FieldType.int)) ∈ lw_all := lw_g (lw_at lw_m4 86 rfl) rfl
theorem q976 : (Jvm.Cond.instanceMethod ({ cls := "PuppetHeirs", name := "nights", desc := "()I" } : Jvm.MethodName)) ∈ lw_all := lw_g (lw_at lw_m4 141 rfl) rfl
theorem q977 : (Jvm.Cond.selects "PuppetHeirs" ({ cls := "PuppetHeirs", name := "nights", desc := "()I" } : Jvm.MethodName) ({ cls := "PuppetHeirs", name := "nights", desc := "()I" } : Jvm.MethodName)) ∈ lw_all := lw_g (lw_at lw_m4 142 rfl) rfl
theorem q978 : (Jvm.Cond.code ({ cls := "PuppetHeirs", name := "nights", desc := "()I" } : Jvm.MethodName) prog_1_method_58_code (1 : Nat) (Option.some Jvm.ClassFile.FieldType.int)) ∈ lw_all := lw_g (lw_at lw_m4 143 rfl) rfl
theorem q979 : (Jvm.Cond.methodLink "PuppetHeirs" (365 : Nat) ({ cls := "PuppetHeirs", name := "findNights", desc := "()I" } : Jvm.MethodName)) ∈ lw_all := lw_g (lw_at lw_m4 144 rfl) rfl
theorem q980 : (Jvm.Cond.privateMethod ({ cls := "PuppetHeirs", name := "findNights", desc := "()I" } : Jvm.MethodName)) ∈ lw_tbl := lw_at lw_m4 145 rfl
theorem q981 : (Jvm.Cond.instanceMethod ({ cls := "PuppetHeirs", name := "findNights", desc := "()I" } : Jvm.MethodName)) ∈ lw_all := lw_g (lw_at lw_m4 146 rfl) rfl
theorem q982 : (Jvm.Cond.code ({ cls := "PuppetHeirs", name := "findNights", desc := "()I" } : Jvm.MethodName) prog_1_method_57_code (2 : Nat) (Option.some Jvm.ClassFile.FieldType.int)) ∈ lw_all := lw_g (lw_at lw_m4 147 rfl) rfl
theorem q983 : (Jvm.Cond.methodLink "PuppetHeirs" (362 : Nat) ({ cls := "PuppetHeirs", name := "fitsOn", desc := "(II)Z" } : Jvm.MethodName)) ∈ lw_all := lw_g (lw_at lw_m4 148 rfl) rfl
theorem q984 : (Jvm.Cond.privateMethod ({ cls := "PuppetHeirs", name := "fitsOn", desc := "(II)Z" } : Jvm.MethodName)) ∈ lw_tbl := lw_at lw_m4 149 rfl
theorem q985 : (Jvm.Cond.instanceMethod ({ cls := "PuppetHeirs", name := "fitsOn", desc := "(II)Z" } : Jvm.MethodName)) ∈ lw_all := lw_g (lw_at lw_m4 150 rfl) rfl
theorem q986 : (Jvm.Cond.code ({ cls := "PuppetHeirs", name := "fitsOn", desc := "(II)Z" } : Jvm.MethodName) prog_1_method_56_code (6 : Nat) (Option.some Jvm.ClassFile.FieldType.boolean)) ∈ lw_all := lw_g (lw_at lw_m4 151 rfl) rfl
theorem q988 : (Jvm.Cond.instanceMethod ({ cls := "PuppetHeirs", name := "orphans", desc := "()I" } : Jvm.MethodName)) ∈ lw_all := lw_g (lw_at lw_m4 153 rfl) rfl
theorem q989 : (Jvm.Cond.selects "PuppetHeirs" ({ cls := "PuppetHeirs", name := "orphans", desc := "()I" } : Jvm.MethodName) ({ cls := "PuppetHeirs", name := "orphans", desc := "()I" } : Jvm.MethodName)) ∈ lw_all := lw_g (lw_at lw_m4 154 rfl) rfl
theorem q990 : (Jvm.Cond.code ({ cls := "PuppetHeirs", name := "orphans", desc := "()I" } : Jvm.MethodName) prog_1_method_68_code (3 : Nat) (Option.some Jvm.ClassFile.FieldType.int)) ∈ lw_all := lw_g (lw_at lw_m4 155 rfl) rfl
theorem q991 : (Jvm.Cond.methodLink "PuppetHeirs" (250 : Nat) ({ cls := "PuppetHeirs$Troupe", name := "lacks", desc := "(I)I" } : Jvm.MethodName)) ∈ lw_all := lw_g (lw_at lw_m4 156 rfl) rfl
theorem q993 : (Jvm.Cond.instanceMethod ({ cls := "PuppetHeirs", name := "idle", desc := "()I" } : Jvm.MethodName)) ∈ lw_all := lw_g (lw_at lw_m4 158 rfl) rfl
theorem q994 : (Jvm.Cond.selects "PuppetHeirs" ({ cls := "PuppetHeirs", name := "idle", desc := "()I" } : Jvm.MethodName) ({ cls := "PuppetHeirs", name := "idle", desc := "()I" } : Jvm.MethodName)) ∈ lw_all := lw_g (lw_at lw_m4 159 rfl) rfl
theorem q995 : (Jvm.Cond.code ({ cls := "PuppetHeirs", name := "idle", desc := "()I" } : Jvm.MethodName) prog_1_method_69_code (3 : Nat) (Option.some Jvm.ClassFile.FieldType.int)) ∈ lw_all := lw_g (lw_at lw_m4 160 rfl) rfl
theorem q996 : (Jvm.Cond.methodLink "PuppetHeirs" (229 : Nat) ({ cls := "PuppetHeirs$Troupe", name := "workedBy", desc := "(I)I" } : Jvm.MethodName)) ∈ lw_all := lw_g (lw_at lw_m4 161 rfl) rfl
theorem q998 : (Jvm.Cond.instanceMethod ({ cls := "PuppetHeirs", name := "mute", desc := "()I" } : Jvm.MethodName)) ∈ lw_all := lw_g (lw_at lw_m4 163 rfl) rfl
theorem q999 : (Jvm.Cond.selects "PuppetHeirs" ({ cls := "PuppetHeirs", name := "mute", desc := "()I" } : Jvm.MethodName) ({ cls := "PuppetHeirs", name := "mute", desc := "()I" } : Jvm.MethodName)) ∈ lw_all := lw_g (lw_at lw_m4 164 rfl) rfl
theorem q1000 : (Jvm.Cond.code ({ cls := "PuppetHeirs", name := "mute", desc := "()I" } : Jvm.MethodName) prog_1_method_71_code (3 : Nat) (Option.some Jvm.ClassFile.FieldType.int)) ∈ lw_all := lw_g (lw_at lw_m4 165 rfl) rfl
theorem q1002 : (Jvm.Cond.instanceMethod ({ cls := "PuppetHeirs", name := "speaks", desc := "()I" } : Jvm.MethodName)) ∈ lw_all := lw_g (lw_at lw_m4 167 rfl) rfl
theorem q1003 : (Jvm.Cond.selects "PuppetHeirs" ({ cls := "PuppetHeirs", name := "speaks", desc := "()I" } : Jvm.MethodName) ({ cls := "PuppetHeirs", name := "speaks", desc := "()I" } : Jvm.MethodName)) ∈ lw_all := lw_g (lw_at lw_m4 168 rfl) rfl
theorem q1004 : (Jvm.Cond.code ({ cls := "PuppetHeirs", name := "speaks", desc := "()I" } : Jvm.MethodName) prog_1_method_81_code (4 : Nat) (Option.some Jvm.ClassFile.FieldType.int)) ∈ lw_all := lw_g (lw_at lw_m4 169 rfl) rfl
theorem q1006 : (Jvm.Cond.instanceMethod ({ cls := "PuppetHeirs", name := "image", desc := "()I" } : Jvm.MethodName)) ∈ lw_all := lw_g (lw_at lw_m4 171 rfl) rfl
theorem q1007 : (Jvm.Cond.selects "PuppetHeirs" ({ cls := "PuppetHeirs", name := "image", desc := "()I" } : Jvm.MethodName) ({ cls := "PuppetHeirs", name := "image", desc := "()I" } : Jvm.MethodName)) ∈ lw_all := lw_g (lw_at lw_m4 172 rfl) rfl
theorem q1008 : (Jvm.Cond.code ({ cls := "PuppetHeirs", name := "image", desc := "()I" } : Jvm.MethodName) prog_1_method_87_code (1 : Nat) (Option.some Jvm.ClassFile.FieldType.int)) ∈ lw_all := lw_g (lw_at lw_m4 173 rfl) rfl
theorem q1010 : (Jvm.Cond.instanceMethod ({ cls := "PuppetHeirs", name := "restore", desc := "()I" } : Jvm.MethodName)) ∈ lw_all := lw_g (lw_at lw_m4 175 rfl) rfl
theorem q1011 : (Jvm.Cond.selects "PuppetHeirs" ({ cls := "PuppetHeirs", name := "restore", desc := "()I" } : Jvm.MethodName) ({ cls := "PuppetHeirs", name := "restore", desc := "()I" } : Jvm.MethodName)) ∈ lw_all := lw_g (lw_at lw_m4 176 rfl) rfl
theorem q1012 : (Jvm.Cond.code ({ cls := "PuppetHeirs", name := "restore", desc := "()I" } : Jvm.MethodName) prog_1_method_88_code (1 : Nat) (Option.some Jvm.ClassFile.FieldType.int)) ∈ lw_all := lw_g (lw_at lw_m4 177 rfl) rfl
theorem q1014 : (Jvm.Cond.instanceMethod ({ cls := "PuppetHeirs", name := "status", desc := "(I)I" } : Jvm.MethodName)) ∈ lw_all := lw_g (lw_at lw_m4 179 rfl) rfl
theorem q1015 : (Jvm.Cond.selects "PuppetHeirs" ({ cls := "PuppetHeirs", name := "status", desc := "(I)I" } : Jvm.MethodName) ({ cls := "PuppetHeirs", name := "status", desc := "(I)I" } : Jvm.MethodName)) ∈ lw_all := lw_g (lw_at lw_m4 180 rfl) rfl
theorem q1016 : (Jvm.Cond.code ({ cls := "PuppetHeirs", name := "status", desc := "(I)I" } : Jvm.MethodName) prog_1_method_89_code (2 : Nat) (Option.some Jvm.ClassFile.FieldType.int)) ∈ lw_all := lw_g (lw_at lw_m4 181 rfl) rfl
theorem q1018 : (Jvm.Cond.instanceMethod ({ cls := "PuppetHeirs", name := "count", desc := "(I)I" } : Jvm.MethodName)) ∈ lw_all := lw_g (lw_at lw_m4 183 rfl) rfl
theorem q1019 : (Jvm.Cond.selects "PuppetHeirs" ({ cls := "PuppetHeirs", name := "count", desc := "(I)I" } : Jvm.MethodName) ({ cls := "PuppetHeirs", name := "count", desc := "(I)I" } : Jvm.MethodName)) ∈ lw_all := lw_g (lw_at lw_m4 184 rfl) rfl
theorem q1020 : (Jvm.Cond.code ({ cls := "PuppetHeirs", name := "count", desc := "(I)I" } : Jvm.MethodName) prog_1_method_90_code (2 : Nat) (Option.some Jvm.ClassFile.FieldType.int)) ∈ lw_all := lw_g (lw_at lw_m4 185 rfl) rfl
theorem q1026 : (Jvm.Cond.instanceMethod ({ cls := "PuppetHeirs", name := "family", desc := "(I)I" } : Jvm.MethodName)) ∈ lw_all := lw_g (lw_at lw_m4 191 rfl) rfl
theorem q1027 : (Jvm.Cond.selects "PuppetHeirs" ({ cls := "PuppetHeirs", name := "family", desc := "(I)I" } : Jvm.MethodName) ({ cls := "PuppetHeirs", name := "family", desc := "(I)I" } : Jvm.MethodName)) ∈ lw_all := lw_g (lw_at lw_m4 192 rfl) rfl
theorem q1028 : (Jvm.Cond.codeWith ({ cls := "PuppetHeirs", name := "family", desc := "(I)I" } : Jvm.MethodName) prog_1_method_15_code (5 : Nat) (Option.some Jvm.ClassFile.FieldType.int) [((21 : Nat), (57 : Nat), (64 : Nat), (153 : Nat)), ((21 : Nat), (57 : Nat), (78 : Nat), (0 : Nat)), ((64 : Nat), (71 : Nat), (78 : Nat), (0 : Nat)), ((78 : Nat), (80 : Nat), (78 : Nat), (0 : Nat))]) ∈ lw_all := lw_g (lw_at lw_m4 193 rfl) rfl
theorem q1029 : (Jvm.Cond.classLink "PuppetHeirs" (153 : Nat) "PuppetHeirs$Wrong") ∈ lw_all := lw_g (lw_at lw_m4 194 rfl) rfl
theorem q1030 : (Jvm.Cond.methodLink "PuppetHeirs" (160 : Nat) ({ cls := "PuppetHeirs", name := "need", desc := "(Z)V" } : Jvm.MethodName)) ∈ lw_all := lw_g (lw_at lw_m4 195 rfl) rfl
theorem q1031 : (Jvm.Cond.privateMethod ({ cls := "PuppetHeirs", name := "need", desc := "(Z)V" } : Jvm.MethodName)) ∈ lw_tbl := lw_at lw_m4 196 rfl
theorem q1032 : (Jvm.Cond.instanceMethod ({ cls := "PuppetHeirs", name := "need", desc := "(Z)V" } : Jvm.MethodName)) ∈ lw_all := lw_g (lw_at lw_m4 197 rfl) rfl
theorem q1033 : (Jvm.Cond.code ({ cls := "PuppetHeirs", name := "need", desc := "(Z)V" } : Jvm.MethodName) prog_1_method_6_code (2 : Nat) (Option.none : Option Jvm.ClassFile.FieldType)) ∈ lw_all := lw_g (lw_at lw_m4 198 rfl) rfl
theorem q1034 : (Jvm.Cond.classLink "PuppetHeirs" (120 : Nat) "java/lang/IllegalArgumentException") ∈ lw_all := lw_g (lw_at lw_m4 199 rfl) rfl
theorem q1035 : (Jvm.Cond.methodLink "PuppetHeirs" (122 : Nat) ({ cls := "java/lang/IllegalArgumentException", name := "<init>", desc := "()V" } : Jvm.MethodName)) ∈ lw_all := lw_g (lw_at lw_m4 200 rfl) rfl
theorem q1045 : (Jvm.Cond.classLink "PuppetHeirs" (164 : Nat) "PuppetHeirs$FamilyReader") ∈ lw_all := lw_g (lw_at lw_m4 210 rfl) rfl
theorem q1047 : (Jvm.Cond.methodLink "PuppetHeirs" (166 : Nat) ({ cls := "PuppetHeirs$FamilyReader", name := "<init>", desc := "([BI)V" } : Jvm.MethodName)) ∈ lw_all := lw_g (lw_at lw_m4 212 rfl) rfl
theorem q1093 : (Jvm.Cond.methodLink "PuppetHeirs" (169 : Nat) ({ cls := "PuppetHeirs$FamilyReader", name := "reads", desc := "()LPuppetHeirs$Told;" } : Jvm.MethodName)) ∈ lw_all := lw_g (lw_at lw_m5 18 rfl) rfl
theorem q1240 : (Jvm.Cond.fieldLinkNest "PuppetHeirs" (157 : Nat) "PuppetHeirs$Wrong" "kind" "I" "PuppetHeirs") ∈ lw_tbl := lw_at lw_m5 165 rfl
theorem q1242 : (Jvm.Cond.fieldLinkNest "PuppetHeirs" (152 : Nat) "PuppetHeirs$Wrong" "place" "I" "PuppetHeirs") ∈ lw_tbl := lw_at lw_m5 167 rfl
theorem q1302 : (Jvm.Cond.fieldLinkNest "PuppetHeirs" (269 : Nat) "PuppetHeirs$Act" "laughs" "I" "PuppetHeirs") ∈ lw_tbl := lw_at lw_m5 227 rfl
theorem q1304 : (Jvm.Cond.fieldLinkNest "PuppetHeirs" (331 : Nat) "PuppetHeirs$Act" "puppet" "[I" "PuppetHeirs") ∈ lw_tbl := lw_at lw_m5 229 rfl
theorem q1307 : (Jvm.Cond.fieldLinkNest "PuppetHeirs" (328 : Nat) "PuppetHeirs$Act" "many" "I" "PuppetHeirs") ∈ lw_tbl := lw_at lw_m5 232 rfl
theorem q1310 : (Jvm.Cond.fieldLinkNest "PuppetHeirs" (272 : Nat) "PuppetHeirs$Act" "bits" "I" "PuppetHeirs") ∈ lw_tbl := lw_at lw_m5 235 rfl
theorem q1350 : (Jvm.Cond.selects "PuppetHeirs" ({ cls := "java/lang/Object", name := "getClass", desc := "()Ljava/lang/Class;" } : Jvm.MethodName) ({ cls := "java/lang/Object", name := "getClass", desc := "()Ljava/lang/Class;" } : Jvm.MethodName)) ∈ lw_all := lw_g (lw_at lw_m6 35 rfl) rfl
theorem q1388 : (Jvm.Cond.methodLink "PuppetHeirs" (173 : Nat) ({ cls := "PuppetHeirs", name := "failed", desc := "(LPuppetHeirs$Wrong;)I" } : Jvm.MethodName)) ∈ lw_all := lw_g (lw_at lw_m6 73 rfl) rfl
theorem q1389 : (Jvm.Cond.privateMethod ({ cls := "PuppetHeirs", name := "failed", desc := "(LPuppetHeirs$Wrong;)I" } : Jvm.MethodName)) ∈ lw_tbl := lw_at lw_m6 74 rfl
theorem q1390 : (Jvm.Cond.instanceMethod ({ cls := "PuppetHeirs", name := "failed", desc := "(LPuppetHeirs$Wrong;)I" } : Jvm.MethodName)) ∈ lw_all := lw_g (lw_at lw_m6 75 rfl) rfl
theorem q1391 : (Jvm.Cond.code ({ cls := "PuppetHeirs", name := "failed", desc := "(LPuppetHeirs$Wrong;)I" } : Jvm.MethodName) prog_1_method_14_code (2 : Nat) (Option.some Jvm.ClassFile.FieldType.int)) ∈ lw_all := lw_g (lw_at lw_m6 76 rfl) rfl
theorem q1396 : (Jvm.Cond.instanceMethod ({ cls := "PuppetHeirs", name := "law", desc := "(I)I" } : Jvm.MethodName)) ∈ lw_all := lw_g (lw_at lw_m6 81 rfl) rfl
theorem q1397 : (Jvm.Cond.selects "PuppetHeirs" ({ cls := "PuppetHeirs", name := "law", desc := "(I)I" } : Jvm.MethodName) ({ cls := "PuppetHeirs", name := "law", desc := "(I)I" } : Jvm.MethodName)) ∈ lw_all := lw_g (lw_at lw_m6 82 rfl) rfl
theorem q1398 : (Jvm.Cond.codeWith ({ cls := "PuppetHeirs", name := "law", desc := "(I)I" } : Jvm.MethodName) prog_1_method_16_code (5 : Nat) (Option.some Jvm.ClassFile.FieldType.int) [((28 : Nat), (58 : Nat), (65 : Nat), (153 : Nat)), ((28 : Nat), (58 : Nat), (79 : Nat), (0 : Nat)), ((65 : Nat), (72 : Nat), (79 : Nat), (0 : Nat)), ((79 : Nat), (81 : Nat), (79 : Nat), (0 : Nat))]) ∈ lw_all := lw_g (lw_at lw_m6 83 rfl) rfl
theorem q1399 : (Jvm.Cond.classLink "PuppetHeirs" (177 : Nat) "PuppetHeirs$LawReader") ∈ lw_all := lw_g (lw_at lw_m6 84 rfl) rfl
theorem q1401 : (Jvm.Cond.methodLink "PuppetHeirs" (179 : Nat) ({ cls := "PuppetHeirs$LawReader", name := "<init>", desc := "([BI)V" } : Jvm.MethodName)) ∈ lw_all := lw_g (lw_at lw_m6 86 rfl) rfl
theorem q1411 : (Jvm.Cond.methodLink "PuppetHeirs" (180 : Nat) ({ cls := "PuppetHeirs$LawReader", name := "reads", desc := "()LPuppetHeirs$Term;" } : Jvm.MethodName)) ∈ lw_all := lw_g (lw_at lw_m6 96 rfl) rfl
theorem q1520 : (Jvm.Cond.instanceMethod ({ cls := "PuppetHeirs", name := "book", desc := "(I)I" } : Jvm.MethodName)) ∈ lw_all := lw_g (lw_at lw_m6 205 rfl) rfl
theorem q1521 : (Jvm.Cond.selects "PuppetHeirs" ({ cls := "PuppetHeirs", name := "book", desc := "(I)I" } : Jvm.MethodName) ({ cls := "PuppetHeirs", name := "book", desc := "(I)I" } : Jvm.MethodName)) ∈ lw_all := lw_g (lw_at lw_m6 206 rfl) rfl
theorem q1522 : (Jvm.Cond.codeWith ({ cls := "PuppetHeirs", name := "book", desc := "(I)I" } : Jvm.MethodName) prog_1_method_17_code (6 : Nat) (Option.some Jvm.ClassFile.FieldType.int) [((28 : Nat), (79 : Nat), (87 : Nat), (153 : Nat)), ((28 : Nat), (79 : Nat), (101 : Nat), (0 : Nat)), ((87 : Nat), (94 : Nat), (101 : Nat), (0 : Nat)), ((101 : Nat), (103 : Nat), (101 : Nat), (0 : Nat))]) ∈ lw_all := lw_g (lw_at lw_m6 207 rfl) rfl
theorem q1523 : (Jvm.Cond.classLink "PuppetHeirs" (182 : Nat) "PuppetHeirs$BookReader") ∈ lw_all := lw_g (lw_at lw_m6 208 rfl) rfl
theorem q1525 : (Jvm.Cond.methodLink "PuppetHeirs" (184 : Nat) ({ cls := "PuppetHeirs$BookReader", name := "<init>", desc := "([BILPuppetHeirs$Told;)V" } : Jvm.MethodName)) ∈ lw_all := lw_g (lw_at lw_m6 210 rfl) rfl
theorem q1531 : (Jvm.Cond.fieldLinkNest "PuppetHeirs" (189 : Nat) "PuppetHeirs$BookReader" "read" "[I" "PuppetHeirs") ∈ lw_tbl := lw_at lw_m6 216 rfl
theorem q1542 : (Jvm.Cond.methodLink "PuppetHeirs" (187 : Nat) ({ cls := "PuppetHeirs$BookReader", name := "reads", desc := "()I" } : Jvm.MethodName)) ∈ lw_all := lw_g (lw_at lw_m6 227 rfl) rfl
theorem q1561 : (Jvm.Cond.instanceMethod ({ cls := "PuppetHeirs", name := "told", desc := "(I)I" } : Jvm.MethodName)) ∈ lw_all := lw_g (lw_at lw_m7 6 rfl) rfl
theorem q1562 : (Jvm.Cond.selects "PuppetHeirs" ({ cls := "PuppetHeirs", name := "told", desc := "(I)I" } : Jvm.MethodName) ({ cls := "PuppetHeirs", name := "told", desc := "(I)I" } : Jvm.MethodName)) ∈ lw_all := lw_g (lw_at lw_m7 7 rfl) rfl
theorem q1563 : (Jvm.Cond.code ({ cls := "PuppetHeirs", name := "told", desc := "(I)I" } : Jvm.MethodName) prog_1_method_20_code (2 : Nat) (Option.some Jvm.ClassFile.FieldType.int)) ∈ lw_all := lw_g (lw_at lw_m7 8 rfl) rfl
theorem q1564 : (Jvm.Cond.methodLink "PuppetHeirs" (213 : Nat) ({ cls := "PuppetHeirs", name := "stringsOf", desc := "(LPuppetHeirs$Troupe;)I" } : Jvm.MethodName)) ∈ lw_all := lw_g (lw_at lw_m7 9 rfl) rfl
theorem q1565 : (Jvm.Cond.privateMethod ({ cls := "PuppetHeirs", name := "stringsOf", desc := "(LPuppetHeirs$Troupe;)I" } : Jvm.MethodName)) ∈ lw_tbl := lw_at lw_m7 10 rfl
theorem q1566 : (Jvm.Cond.instanceMethod ({ cls := "PuppetHeirs", name := "stringsOf", desc := "(LPuppetHeirs$Troupe;)I" } : Jvm.MethodName)) ∈ lw_all := lw_g (lw_at lw_m7 11 rfl) rfl
theorem q1567 : (Jvm.Cond.code ({ cls := "PuppetHeirs", name := "stringsOf", desc := "(LPuppetHeirs$Troupe;)I" } : Jvm.MethodName) prog_1_method_19_code (4 : Nat) (Option.some Jvm.ClassFile.FieldType.int)) ∈ lw_all := lw_g (lw_at lw_m7 12 rfl) rfl
theorem q1573 : (Jvm.Cond.instanceMethod ({ cls := "PuppetHeirs", name := "hand", desc := "(II)I" } : Jvm.MethodName)) ∈ lw_all := lw_g (lw_at lw_m7 18 rfl) rfl
theorem q1574 : (Jvm.Cond.selects "PuppetHeirs" ({ cls := "PuppetHeirs", name := "hand", desc := "(II)I" } : Jvm.MethodName) ({ cls := "PuppetHeirs", name := "hand", desc := "(II)I" } : Jvm.MethodName)) ∈ lw_all := lw_g (lw_at lw_m7 19 rfl) rfl
theorem q1575 : (Jvm.Cond.code ({ cls := "PuppetHeirs", name := "hand", desc := "(II)I" } : Jvm.MethodName) prog_1_method_21_code (3 : Nat) (Option.some Jvm.ClassFile.FieldType.int)) ∈ lw_all := lw_g (lw_at lw_m7 20 rfl) rfl
theorem q1576 : (Jvm.Cond.methodLink "PuppetHeirs" (217 : Nat) ({ cls := "PuppetHeirs", name := "needHand", desc := "(I)V" } : Jvm.MethodName)) ∈ lw_all := lw_g (lw_at lw_m7 21 rfl) rfl
theorem q1577 : (Jvm.Cond.privateMethod ({ cls := "PuppetHeirs", name := "needHand", desc := "(I)V" } : Jvm.MethodName)) ∈ lw_tbl := lw_at lw_m7 22 rfl
theorem q1578 : (Jvm.Cond.instanceMethod ({ cls := "PuppetHeirs", name := "needHand", desc := "(I)V" } : Jvm.MethodName)) ∈ lw_all := lw_g (lw_at lw_m7 23 rfl) rfl
theorem q1579 : (Jvm.Cond.code ({ cls := "PuppetHeirs", name := "needHand", desc := "(I)V" } : Jvm.MethodName) prog_1_method_8_code (2 : Nat) (Option.none : Option Jvm.ClassFile.FieldType)) ∈ lw_all := lw_g (lw_at lw_m7 24 rfl) rfl
theorem q1580 : (Jvm.Cond.methodLink "PuppetHeirs" (129 : Nat) ({ cls := "PuppetHeirs", name := "needThere", desc := "(II)V" } : Jvm.MethodName)) ∈ lw_all := lw_g (lw_at lw_m7 25 rfl) rfl
theorem q1581 : (Jvm.Cond.privateMethod ({ cls := "PuppetHeirs", name := "needThere", desc := "(II)V" } : Jvm.MethodName)) ∈ lw_tbl := lw_at lw_m7 26 rfl
theorem q1582 : (Jvm.Cond.instanceMethod ({ cls := "PuppetHeirs", name := "needThere", desc := "(II)V" } : Jvm.MethodName)) ∈ lw_all := lw_g (lw_at lw_m7 27 rfl) rfl
theorem q1583 : (Jvm.Cond.code ({ cls := "PuppetHeirs", name := "needThere", desc := "(II)V" } : Jvm.MethodName) prog_1_method_7_code (3 : Nat) (Option.none : Option Jvm.ClassFile.FieldType)) ∈ lw_all := lw_g (lw_at lw_m7 28 rfl) rfl
theorem q1584 : (Jvm.Cond.classLink "PuppetHeirs" (123 : Nat) "java/util/NoSuchElementException") ∈ lw_all := lw_g (lw_at lw_m7 29 rfl) rfl
theorem q1593 : (Jvm.Cond.methodLink "PuppetHeirs" (125 : Nat) ({ cls := "java/util/NoSuchElementException", name := "<init>", desc := "()V" } : Jvm.MethodName)) ∈ lw_all := lw_g (lw_at lw_m7 38 rfl) rfl
theorem q1599 : (Jvm.Cond.methodLink "PuppetHeirs" (232 : Nat) ({ cls := "java/lang/Math", name := "max", desc := "(II)I" } : Jvm.MethodName)) ∈ lw_all := lw_g (lw_at lw_m7 44 rfl) rfl
theorem q1604 : (Jvm.Cond.instanceMethod ({ cls := "PuppetHeirs", name := "puppet", desc := "(II)I" } : Jvm.MethodName)) ∈ lw_all := lw_g (lw_at lw_m7 49 rfl) rfl
theorem q1605 : (Jvm.Cond.selects "PuppetHeirs" ({ cls := "PuppetHeirs", name := "puppet", desc := "(II)I" } : Jvm.MethodName) ({ cls := "PuppetHeirs", name := "puppet", desc := "(II)I" } : Jvm.MethodName)) ∈ lw_all := lw_g (lw_at lw_m7 50 rfl) rfl
theorem q1606 : (Jvm.Cond.code ({ cls := "PuppetHeirs", name := "puppet", desc := "(II)I" } : Jvm.MethodName) prog_1_method_22_code (3 : Nat) (Option.some Jvm.ClassFile.FieldType.int)) ∈ lw_all := lw_g (lw_at lw_m7 51 rfl) rfl
theorem q1607 : (Jvm.Cond.methodLink "PuppetHeirs" (238 : Nat) ({ cls := "PuppetHeirs", name := "needPuppet", desc := "(I)V" } : Jvm.MethodName)) ∈ lw_all := lw_g (lw_at lw_m7 52 rfl) rfl
theorem q1608 : (Jvm.Cond.privateMethod ({ cls := "PuppetHeirs", name := "needPuppet", desc := "(I)V" } : Jvm.MethodName)) ∈ lw_tbl := lw_at lw_m7 53 rfl
theorem q1609 : (Jvm.Cond.instanceMethod ({ cls := "PuppetHeirs", name := "needPuppet", desc := "(I)V" } : Jvm.MethodName)) ∈ lw_all := lw_g (lw_at lw_m7 54 rfl) rfl
theorem q1610 : (Jvm.Cond.code ({ cls := "PuppetHeirs", name := "needPuppet", desc := "(I)V" } : Jvm.MethodName) prog_1_method_9_code (2 : Nat) (Option.none : Option Jvm.ClassFile.FieldType)) ∈ lw_all := lw_g (lw_at lw_m7 55 rfl) rfl
theorem q1615 : (Jvm.Cond.instanceMethod ({ cls := "PuppetHeirs", name := "act", desc := "(II)I" } : Jvm.MethodName)) ∈ lw_all := lw_g (lw_at lw_m7 60 rfl) rfl
theorem q1616 : (Jvm.Cond.selects "PuppetHeirs" ({ cls := "PuppetHeirs", name := "act", desc := "(II)I" } : Jvm.MethodName) ({ cls := "PuppetHeirs", name := "act", desc := "(II)I" } : Jvm.MethodName)) ∈ lw_all := lw_g (lw_at lw_m7 61 rfl) rfl
theorem q1617 : (Jvm.Cond.code ({ cls := "PuppetHeirs", name := "act", desc := "(II)I" } : Jvm.MethodName) prog_1_method_25_code (4 : Nat) (Option.some Jvm.ClassFile.FieldType.int)) ∈ lw_all := lw_g (lw_at lw_m7 62 rfl) rfl
theorem q1618 : (Jvm.Cond.methodLink "PuppetHeirs" (262 : Nat) ({ cls := "PuppetHeirs", name := "needAct", desc := "(I)V" } : Jvm.MethodName)) ∈ lw_all := lw_g (lw_at lw_m7 63 rfl) rfl
theorem q1619 : (Jvm.Cond.privateMethod ({ cls := "PuppetHeirs", name := "needAct", desc := "(I)V" } : Jvm.MethodName)) ∈ lw_tbl := lw_at lw_m7 64 rfl
theorem q1620 : (Jvm.Cond.instanceMethod ({ cls := "PuppetHeirs", name := "needAct", desc := "(I)V" } : Jvm.MethodName)) ∈ lw_all := lw_g (lw_at lw_m7 65 rfl) rfl
theorem q1621 : (Jvm.Cond.code ({ cls := "PuppetHeirs", name := "needAct", desc := "(I)V" } : Jvm.MethodName) prog_1_method_10_code (2 : Nat) (Option.none : Option Jvm.ClassFile.FieldType)) ∈ lw_all := lw_g (lw_at lw_m7 66 rfl) rfl
theorem q1622 : (Jvm.Cond.methodLink "PuppetHeirs" (275 : Nat) ({ cls := "PuppetHeirs", name := "needsOf", desc := "(I)I" } : Jvm.MethodName)) ∈ lw_all := lw_g (lw_at lw_m7 67 rfl) rfl
theorem q1623 : (Jvm.Cond.privateMethod ({ cls := "PuppetHeirs", name := "needsOf", desc := "(I)I" } : Jvm.MethodName)) ∈ lw_tbl := lw_at lw_m7 68 rfl
theorem q1624 : (Jvm.Cond.instanceMethod ({ cls := "PuppetHeirs", name := "needsOf", desc := "(I)I" } : Jvm.MethodName)) ∈ lw_all := lw_g (lw_at lw_m7 69 rfl) rfl
theorem q1625 : (Jvm.Cond.code ({ cls := "PuppetHeirs", name := "needsOf", desc := "(I)I" } : Jvm.MethodName) prog_1_method_24_code (4 : Nat) (Option.some Jvm.ClassFile.FieldType.int)) ∈ lw_all := lw_g (lw_at lw_m7 70 rfl) rfl
theorem q1630 : (Jvm.Cond.instanceMethod ({ cls := "PuppetHeirs", name := "score", desc := "(II)I" } : Jvm.MethodName)) ∈ lw_all := lw_g (lw_at lw_m7 75 rfl) rfl
theorem q1631 : (Jvm.Cond.selects "PuppetHeirs" ({ cls := "PuppetHeirs", name := "score", desc := "(II)I" } : Jvm.MethodName) ({ cls := "PuppetHeirs", name := "score", desc := "(II)I" } : Jvm.MethodName)) ∈ lw_all := lw_g (lw_at lw_m7 76 rfl) rfl
theorem q1632 : (Jvm.Cond.code ({ cls := "PuppetHeirs", name := "score", desc := "(II)I" } : Jvm.MethodName) prog_1_method_26_code (3 : Nat) (Option.some Jvm.ClassFile.FieldType.int)) ∈ lw_all := lw_g (lw_at lw_m7 77 rfl) rfl
theorem q1633 : (Jvm.Cond.methodLink "PuppetHeirs" (278 : Nat) ({ cls := "PuppetHeirs$Troupe", name := "score", desc := "(II)I" } : Jvm.MethodName)) ∈ lw_all := lw_g (lw_at lw_m7 78 rfl) rfl
theorem q1638 : (Jvm.Cond.instanceMethod ({ cls := "PuppetHeirs", name := "chooses", desc := "(I)I" } : Jvm.MethodName)) ∈ lw_all := lw_g (lw_at lw_m7 83 rfl) rfl
theorem q1639 : (Jvm.Cond.selects "PuppetHeirs" ({ cls := "PuppetHeirs", name := "chooses", desc := "(I)I" } : Jvm.MethodName) ({ cls := "PuppetHeirs", name := "chooses", desc := "(I)I" } : Jvm.MethodName)) ∈ lw_all := lw_g (lw_at lw_m7 84 rfl) rfl
theorem q1640 : (Jvm.Cond.code ({ cls := "PuppetHeirs", name := "chooses", desc := "(I)I" } : Jvm.MethodName) prog_1_method_27_code (2 : Nat) (Option.some Jvm.ClassFile.FieldType.int)) ∈ lw_all := lw_g (lw_at lw_m7 85 rfl) rfl
theorem q1641 : (Jvm.Cond.methodLink "PuppetHeirs" (281 : Nat) ({ cls := "PuppetHeirs$Troupe", name := "chooses", desc := "(I)I" } : Jvm.MethodName)) ∈ lw_all := lw_g (lw_at lw_m7 86 rfl) rfl
theorem q1646 : (Jvm.Cond.instanceMethod ({ cls := "PuppetHeirs", name := "years", desc := "(I)I" } : Jvm.MethodName)) ∈ lw_all := lw_g (lw_at lw_m7 91 rfl) rfl
theorem q1647 : (Jvm.Cond.selects "PuppetHeirs" ({ cls := "PuppetHeirs", name := "years", desc := "(I)I" } : Jvm.MethodName) ({ cls := "PuppetHeirs", name := "years", desc := "(I)I" } : Jvm.MethodName)) ∈ lw_all := lw_g (lw_at lw_m7 92 rfl) rfl
theorem q1648 : (Jvm.Cond.code ({ cls := "PuppetHeirs", name := "years", desc := "(I)I" } : Jvm.MethodName) prog_1_method_28_code (2 : Nat) (Option.some Jvm.ClassFile.FieldType.int)) ∈ lw_all := lw_g (lw_at lw_m7 93 rfl) rfl
theorem q1649 : (Jvm.Cond.methodLink "PuppetHeirs" (284 : Nat) ({ cls := "PuppetHeirs", name := "isYear", desc := "(I)Z" } : Jvm.MethodName)) ∈ lw_all := lw_g (lw_at lw_m7 94 rfl) rfl
theorem q1650 : (Jvm.Cond.static ({ cls := "PuppetHeirs", name := "isYear", desc := "(I)Z" } : Jvm.MethodName)) ∈ lw_all := lw_g (lw_at lw_m7 95 rfl) rfl
theorem q1651 : (Jvm.Cond.code ({ cls := "PuppetHeirs", name := "isYear", desc := "(I)Z" } : Jvm.MethodName) prog_1_method_11_code (1 : Nat) (Option.some Jvm.ClassFile.FieldType.boolean)) ∈ lw_all := lw_g (lw_at lw_m7 96 rfl) rfl
theorem q1652 : (Jvm.Cond.methodLink "PuppetHeirs" (288 : Nat) ({ cls := "java/lang/Math", name := "min", desc := "(II)I" } : Jvm.MethodName)) ∈ lw_all := lw_g (lw_at lw_m7 97 rfl) rfl
theorem q1653 : (Jvm.Cond.methodLink "PuppetHeirs" (291 : Nat) ({ cls := "PuppetHeirs$Troupe", name := "goes", desc := "(I)LPuppetHeirs$Troupe;" } : Jvm.MethodName)) ∈ lw_all := lw_g (lw_at lw_m7 98 rfl) rfl
theorem q1662 : (Jvm.Cond.instanceMethod ({ cls := "PuppetHeirs", name := "undo", desc := "(I)I" } : Jvm.MethodName)) ∈ lw_all := lw_g (lw_at lw_m7 107 rfl) rfl
theorem q1663 : (Jvm.Cond.selects "PuppetHeirs" ({ cls := "PuppetHeirs", name := "undo", desc := "(I)I" } : Jvm.MethodName) ({ cls := "PuppetHeirs", name := "undo", desc := "(I)I" } : Jvm.MethodName)) ∈ lw_all := lw_g (lw_at lw_m7 108 rfl) rfl
theorem q1664 : (Jvm.Cond.code ({ cls := "PuppetHeirs", name := "undo", desc := "(I)I" } : Jvm.MethodName) prog_1_method_29_code (4 : Nat) (Option.some Jvm.ClassFile.FieldType.int)) ∈ lw_all := lw_g (lw_at lw_m7 109 rfl) rfl
theorem q1669 : (Jvm.Cond.instanceMethod ({ cls := "PuppetHeirs", name := "since", desc := "(II)I" } : Jvm.MethodName)) ∈ lw_all := lw_g (lw_at lw_m7 114 rfl) rfl
theorem q1670 : (Jvm.Cond.selects "PuppetHeirs" ({ cls := "PuppetHeirs", name := "since", desc := "(II)I" } : Jvm.MethodName) ({ cls := "PuppetHeirs", name := "since", desc := "(II)I" } : Jvm.MethodName)) ∈ lw_all := lw_g (lw_at lw_m7 115 rfl) rfl
theorem q1671 : (Jvm.Cond.code ({ cls := "PuppetHeirs", name := "since", desc := "(II)I" } : Jvm.MethodName) prog_1_method_30_code (3 : Nat) (Option.some Jvm.ClassFile.FieldType.int)) ∈ lw_all := lw_g (lw_at lw_m7 116 rfl) rfl
theorem q1676 : (Jvm.Cond.instanceMethod ({ cls := "PuppetHeirs", name := "chose", desc := "(I)I" } : Jvm.MethodName)) ∈ lw_all := lw_g (lw_at lw_m7 121 rfl) rfl
theorem q1677 : (Jvm.Cond.selects "PuppetHeirs" ({ cls := "PuppetHeirs", name := "chose", desc := "(I)I" } : Jvm.MethodName) ({ cls := "PuppetHeirs", name := "chose", desc := "(I)I" } : Jvm.MethodName)) ∈ lw_all := lw_g (lw_at lw_m7 122 rfl) rfl
theorem q1678 : (Jvm.Cond.code ({ cls := "PuppetHeirs", name := "chose", desc := "(I)I" } : Jvm.MethodName) prog_1_method_31_code (2 : Nat) (Option.some Jvm.ClassFile.FieldType.int)) ∈ lw_all := lw_g (lw_at lw_m7 123 rfl) rfl
theorem q1683 : (Jvm.Cond.instanceMethod ({ cls := "PuppetHeirs", name := "ahead", desc := "(II)I" } : Jvm.MethodName)) ∈ lw_all := lw_g (lw_at lw_m7 128 rfl) rfl
theorem q1684 : (Jvm.Cond.selects "PuppetHeirs" ({ cls := "PuppetHeirs", name := "ahead", desc := "(II)I" } : Jvm.MethodName) ({ cls := "PuppetHeirs", name := "ahead", desc := "(II)I" } : Jvm.MethodName)) ∈ lw_all := lw_g (lw_at lw_m7 129 rfl) rfl
theorem q1685 : (Jvm.Cond.code ({ cls := "PuppetHeirs", name := "ahead", desc := "(II)I" } : Jvm.MethodName) prog_1_method_32_code (3 : Nat) (Option.some Jvm.ClassFile.FieldType.int)) ∈ lw_all := lw_g (lw_at lw_m7 130 rfl) rfl
theorem q1690 : (Jvm.Cond.instanceMethod ({ cls := "PuppetHeirs", name := "when", desc := "(II)I" } : Jvm.MethodName)) ∈ lw_all := lw_g (lw_at lw_m7 135 rfl) rfl
theorem q1691 : (Jvm.Cond.selects "PuppetHeirs" ({ cls := "PuppetHeirs", name := "when", desc := "(II)I" } : Jvm.MethodName) ({ cls := "PuppetHeirs", name := "when", desc := "(II)I" } : Jvm.MethodName)) ∈ lw_all := lw_g (lw_at lw_m7 136 rfl) rfl
theorem q1692 : (Jvm.Cond.code ({ cls := "PuppetHeirs", name := "when", desc := "(II)I" } : Jvm.MethodName) prog_1_method_33_code (5 : Nat) (Option.some Jvm.ClassFile.FieldType.int)) ∈ lw_all := lw_g (lw_at lw_m7 137 rfl) rfl
theorem q1693 : (Jvm.Cond.methodLink "PuppetHeirs" (303 : Nat) ({ cls := "PuppetHeirs$Troupe", name := "isOf", desc := "(II)Z" } : Jvm.MethodName)) ∈ lw_all := lw_g (lw_at lw_m7 138 rfl) rfl
theorem q1698 : (Jvm.Cond.instanceMethod ({ cls := "PuppetHeirs", name := "last", desc := "(I)I" } : Jvm.MethodName)) ∈ lw_all := lw_g (lw_at lw_m7 143 rfl) rfl
theorem q1699 : (Jvm.Cond.selects "PuppetHeirs" ({ cls := "PuppetHeirs", name := "last", desc := "(I)I" } : Jvm.MethodName) ({ cls := "PuppetHeirs", name := "last", desc := "(I)I" } : Jvm.MethodName)) ∈ lw_all := lw_g (lw_at lw_m7 144 rfl) rfl
theorem q1700 : (Jvm.Cond.code ({ cls := "PuppetHeirs", name := "last", desc := "(I)I" } : Jvm.MethodName) prog_1_method_34_code (4 : Nat) (Option.some Jvm.ClassFile.FieldType.int)) ∈ lw_all := lw_g (lw_at lw_m7 145 rfl) rfl
theorem q1705 : (Jvm.Cond.instanceMethod ({ cls := "PuppetHeirs", name := "dies", desc := "(I)I" } : Jvm.MethodName)) ∈ lw_all := lw_g (lw_at lw_m7 150 rfl) rfl
theorem q1706 : (Jvm.Cond.selects "PuppetHeirs" ({ cls := "PuppetHeirs", name := "dies", desc := "(I)I" } : Jvm.MethodName) ({ cls := "PuppetHeirs", name := "dies", desc := "(I)I" } : Jvm.MethodName)) ∈ lw_all := lw_g (lw_at lw_m7 151 rfl) rfl
theorem q1707 : (Jvm.Cond.code ({ cls := "PuppetHeirs", name := "dies", desc := "(I)I" } : Jvm.MethodName) prog_1_method_35_code (3 : Nat) (Option.some Jvm.ClassFile.FieldType.int)) ∈ lw_all := lw_g (lw_at lw_m7 152 rfl) rfl
theorem q1708 : (Jvm.Cond.methodLink "PuppetHeirs" (311 : Nat) ({ cls := "PuppetHeirs$Troupe", name := "dies", desc := "(I)I" } : Jvm.MethodName)) ∈ lw_all := lw_g (lw_at lw_m7 153 rfl) rfl
theorem q1713 : (Jvm.Cond.instanceMethod ({ cls := "PuppetHeirs", name := "string", desc := "(II)I" } : Jvm.MethodName)) ∈ lw_all := lw_g (lw_at lw_m7 158 rfl) rfl
theorem q1714 : (Jvm.Cond.selects "PuppetHeirs" ({ cls := "PuppetHeirs", name := "string", desc := "(II)I" } : Jvm.MethodName) ({ cls := "PuppetHeirs", name := "string", desc := "(II)I" } : Jvm.MethodName)) ∈ lw_all := lw_g (lw_at lw_m7 159 rfl) rfl
theorem q1715 : (Jvm.Cond.code ({ cls := "PuppetHeirs", name := "string", desc := "(II)I" } : Jvm.MethodName) prog_1_method_36_code (3 : Nat) (Option.some Jvm.ClassFile.FieldType.int)) ∈ lw_all := lw_g (lw_at lw_m7 160 rfl) rfl
theorem q1720 : (Jvm.Cond.instanceMethod ({ cls := "PuppetHeirs", name := "give", desc := "(III)I" } : Jvm.MethodName)) ∈ lw_all := lw_g (lw_at lw_m7 165 rfl) rfl
theorem q1721 : (Jvm.Cond.selects "PuppetHeirs" ({ cls := "PuppetHeirs", name := "give", desc := "(III)I" } : Jvm.MethodName) ({ cls := "PuppetHeirs", name := "give", desc := "(III)I" } : Jvm.MethodName)) ∈ lw_all := lw_g (lw_at lw_m7 166 rfl) rfl
theorem q1722 : (Jvm.Cond.code ({ cls := "PuppetHeirs", name := "give", desc := "(III)I" } : Jvm.MethodName) prog_1_method_37_code (4 : Nat) (Option.some Jvm.ClassFile.FieldType.int)) ∈ lw_all := lw_g (lw_at lw_m7 167 rfl) rfl
theorem q1723 : (Jvm.Cond.methodLink "PuppetHeirs" (313 : Nat) ({ cls := "PuppetHeirs$Troupe", name := "may", desc := "(II)Z" } : Jvm.MethodName)) ∈ lw_all := lw_g (lw_at lw_m7 168 rfl) rfl
theorem q1724 : (Jvm.Cond.methodLink "PuppetHeirs" (316 : Nat) ({ cls := "PuppetHeirs$Troupe", name := "leaves", desc := "(II)V" } : Jvm.MethodName)) ∈ lw_all := lw_g (lw_at lw_m7 169 rfl) rfl
theorem q1725 : (Jvm.Cond.methodLink "PuppetHeirs" (319 : Nat) ({ cls := "PuppetHeirs$Troupe", name := "takes", desc := "(II)V" } : Jvm.MethodName)) ∈ lw_all := lw_g (lw_at lw_m7 170 rfl) rfl
theorem q1730 : (Jvm.Cond.instanceMethod ({ cls := "PuppetHeirs", name := "casts", desc := "(I)I" } : Jvm.MethodName)) ∈ lw_all := lw_g (lw_at lw_m7 175 rfl) rfl
theorem q1731 : (Jvm.Cond.selects "PuppetHeirs" ({ cls := "PuppetHeirs", name := "casts", desc := "(I)I" } : Jvm.MethodName) ({ cls := "PuppetHeirs", name := "casts", desc := "(I)I" } : Jvm.MethodName)) ∈ lw_all := lw_g (lw_at lw_m7 176 rfl) rfl
theorem q1732 : (Jvm.Cond.code ({ cls := "PuppetHeirs", name := "casts", desc := "(I)I" } : Jvm.MethodName) prog_1_method_42_code (2 : Nat) (Option.some Jvm.ClassFile.FieldType.int)) ∈ lw_all := lw_g (lw_at lw_m7 177 rfl) rfl
theorem q1733 : (Jvm.Cond.constant "PuppetHeirs" (348 : Nat) (1000000 : Int32)) ∈ lw_all := lw_g (lw_at lw_m7 178 rfl) rfl
theorem q1738 : (Jvm.Cond.instanceMethod ({ cls := "PuppetHeirs", name := "cast", desc := "(II)I" } : Jvm.MethodName)) ∈ lw_all := lw_g (lw_at lw_m7 183 rfl) rfl
theorem q1739 : (Jvm.Cond.selects "PuppetHeirs" ({ cls := "PuppetHeirs", name := "cast", desc := "(II)I" } : Jvm.MethodName) ({ cls := "PuppetHeirs", name := "cast", desc := "(II)I" } : Jvm.MethodName)) ∈ lw_all := lw_g (lw_at lw_m7 184 rfl) rfl
theorem q1740 : (Jvm.Cond.code ({ cls := "PuppetHeirs", name := "cast", desc := "(II)I" } : Jvm.MethodName) prog_1_method_43_code (5 : Nat) (Option.some Jvm.ClassFile.FieldType.int)) ∈ lw_all := lw_g (lw_at lw_m7 185 rfl) rfl
theorem q1745 : (Jvm.Cond.instanceMethod ({ cls := "PuppetHeirs", name := "lacking", desc := "(I)I" } : Jvm.MethodName)) ∈ lw_all := lw_g (lw_at lw_m7 190 rfl) rfl
theorem q1746 : (Jvm.Cond.selects "PuppetHeirs" ({ cls := "PuppetHeirs", name := "lacking", desc := "(I)I" } : Jvm.MethodName) ({ cls := "PuppetHeirs", name := "lacking", desc := "(I)I" } : Jvm.MethodName)) ∈ lw_all := lw_g (lw_at lw_m7 191 rfl) rfl
theorem q1747 : (Jvm.Cond.code ({ cls := "PuppetHeirs", name := "lacking", desc := "(I)I" } : Jvm.MethodName) prog_1_method_44_code (7 : Nat) (Option.some Jvm.ClassFile.FieldType.int)) ∈ lw_all := lw_g (lw_at lw_m7 192 rfl) rfl
theorem q1752 : (Jvm.Cond.instanceMethod ({ cls := "PuppetHeirs", name := "cost", desc := "(I)I" } : Jvm.MethodName)) ∈ lw_all := lw_g (lw_at lw_m7 197 rfl) rfl
theorem q1753 : (Jvm.Cond.selects "PuppetHeirs" ({ cls := "PuppetHeirs", name := "cost", desc := "(I)I" } : Jvm.MethodName) ({ cls := "PuppetHeirs", name := "cost", desc := "(I)I" } : Jvm.MethodName)) ∈ lw_all := lw_g (lw_at lw_m7 198 rfl) rfl
theorem q1754 : (Jvm.Cond.code ({ cls := "PuppetHeirs", name := "cost", desc := "(I)I" } : Jvm.MethodName) prog_1_method_48_code (2 : Nat) (Option.some Jvm.ClassFile.FieldType.int)) ∈ lw_all := lw_g (lw_at lw_m7 199 rfl) rfl
theorem q1759 : (Jvm.Cond.instanceMethod ({ cls := "PuppetHeirs", name := "lies", desc := "(II)I" } : Jvm.MethodName)) ∈ lw_all := lw_g (lw_at lw_m7 204 rfl) rfl
theorem q1760 : (Jvm.Cond.selects "PuppetHeirs" ({ cls := "PuppetHeirs", name := "lies", desc := "(II)I" } : Jvm.MethodName) ({ cls := "PuppetHeirs", name := "lies", desc := "(II)I" } : Jvm.MethodName)) ∈ lw_all := lw_g (lw_at lw_m7 205 rfl) rfl
theorem q1761 : (Jvm.Cond.code ({ cls := "PuppetHeirs", name := "lies", desc := "(II)I" } : Jvm.MethodName) prog_1_method_51_code (3 : Nat) (Option.some Jvm.ClassFile.FieldType.int)) ∈ lw_all := lw_g (lw_at lw_m7 206 rfl) rfl
theorem q1762 : (Jvm.Cond.methodLink "PuppetHeirs" (356 : Nat) ({ cls := "PuppetHeirs", name := "liesBy", desc := "(II)I" } : Jvm.MethodName)) ∈ lw_all := lw_g (lw_at lw_m7 207 rfl) rfl
theorem q1763 : (Jvm.Cond.privateMethod ({ cls := "PuppetHeirs", name := "liesBy", desc := "(II)I" } : Jvm.MethodName)) ∈ lw_tbl := lw_at lw_m7 208 rfl
theorem q1764 : (Jvm.Cond.instanceMethod ({ cls := "PuppetHeirs", name := "liesBy", desc := "(II)I" } : Jvm.MethodName)) ∈ lw_all := lw_g (lw_at lw_m7 209 rfl) rfl
theorem q1765 : (Jvm.Cond.code ({ cls := "PuppetHeirs", name := "liesBy", desc := "(II)I" } : Jvm.MethodName) prog_1_method_50_code (3 : Nat) (Option.some Jvm.ClassFile.FieldType.int)) ∈ lw_all := lw_g (lw_at lw_m7 210 rfl) rfl
theorem q1770 : (Jvm.Cond.instanceMethod ({ cls := "PuppetHeirs", name := "dropped", desc := "(II)I" } : Jvm.MethodName)) ∈ lw_all := lw_g (lw_at lw_m7 215 rfl) rfl
theorem q1771 : (Jvm.Cond.selects "PuppetHeirs" ({ cls := "PuppetHeirs", name := "dropped", desc := "(II)I" } : Jvm.MethodName) ({ cls := "PuppetHeirs", name := "dropped", desc := "(II)I" } : Jvm.MethodName)) ∈ lw_all := lw_g (lw_at lw_m7 216 rfl) rfl
theorem q1772 : (Jvm.Cond.code ({ cls := "PuppetHeirs", name := "dropped", desc := "(II)I" } : Jvm.MethodName) prog_1_method_52_code (5 : Nat) (Option.some Jvm.ClassFile.FieldType.int)) ∈ lw_all := lw_g (lw_at lw_m7 217 rfl) rfl
theorem q1777 : (Jvm.Cond.instanceMethod ({ cls := "PuppetHeirs", name := "limps", desc := "(I)I" } : Jvm.MethodName)) ∈ lw_all := lw_g (lw_at lw_m7 222 rfl) rfl
theorem q1778 : (Jvm.Cond.selects "PuppetHeirs" ({ cls := "PuppetHeirs", name := "limps", desc := "(I)I" } : Jvm.MethodName) ({ cls := "PuppetHeirs", name := "limps", desc := "(I)I" } : Jvm.MethodName)) ∈ lw_all := lw_g (lw_at lw_m7 223 rfl) rfl
theorem q1779 : (Jvm.Cond.code ({ cls := "PuppetHeirs", name := "limps", desc := "(I)I" } : Jvm.MethodName) prog_1_method_55_code (3 : Nat) (Option.some Jvm.ClassFile.FieldType.int)) ∈ lw_all := lw_g (lw_at lw_m7 224 rfl) rfl
theorem q1784 : (Jvm.Cond.instanceMethod ({ cls := "PuppetHeirs", name := "night", desc := "(I)I" } : Jvm.MethodName)) ∈ lw_all := lw_g (lw_at lw_m7 229 rfl) rfl
theorem q1785 : (Jvm.Cond.selects "PuppetHeirs" ({ cls := "PuppetHeirs", name := "night", desc := "(I)I" } : Jvm.MethodName) ({ cls := "PuppetHeirs", name := "night", desc := "(I)I" } : Jvm.MethodName)) ∈ lw_all := lw_g (lw_at lw_m7 230 rfl) rfl
theorem q1786 : (Jvm.Cond.code ({ cls := "PuppetHeirs", name := "night", desc := "(I)I" } : Jvm.MethodName) prog_1_method_59_code (2 : Nat) (Option.some Jvm.ClassFile.FieldType.int)) ∈ lw_all := lw_g (lw_at lw_m7 231 rfl) rfl
theorem q1791 : (Jvm.Cond.instanceMethod ({ cls := "PuppetHeirs", name := "fair", desc := "(I)I" } : Jvm.MethodName)) ∈ lw_all := lw_g (lw_at lw_m7 236 rfl) rfl
theorem q1792 : (Jvm.Cond.selects "PuppetHeirs" ({ cls := "PuppetHeirs", name := "fair", desc := "(I)I" } : Jvm.MethodName) ({ cls := "PuppetHeirs", name := "fair", desc := "(I)I" } : Jvm.MethodName)) ∈ lw_all := lw_g (lw_at lw_m7 237 rfl) rfl
theorem q1793 : (Jvm.Cond.code ({ cls := "PuppetHeirs", name := "fair", desc := "(I)I" } : Jvm.MethodName) prog_1_method_60_code (6 : Nat) (Option.some Jvm.ClassFile.FieldType.int)) ∈ lw_all := lw_g (lw_at lw_m7 238 rfl) rfl
theorem q1798 : (Jvm.Cond.instanceMethod ({ cls := "PuppetHeirs", name := "gets", desc := "(III)I" } : Jvm.MethodName)) ∈ lw_all := lw_g (lw_at lw_m8 3 rfl) rfl
theorem q1799 : (Jvm.Cond.selects "PuppetHeirs" ({ cls := "PuppetHeirs", name := "gets", desc := "(III)I" } : Jvm.MethodName) ({ cls := "PuppetHeirs", name := "gets", desc := "(III)I" } : Jvm.MethodName)) ∈ lw_all := lw_g (lw_at lw_m8 4 rfl) rfl
theorem q1800 : (Jvm.Cond.code ({ cls := "PuppetHeirs", name := "gets", desc := "(III)I" } : Jvm.MethodName) prog_1_method_63_code (7 : Nat) (Option.some Jvm.ClassFile.FieldType.int)) ∈ lw_all := lw_g (lw_at lw_m8 5 rfl) rfl
theorem q1801 : (Jvm.Cond.methodLink "PuppetHeirs" (368 : Nat) ({ cls := "PuppetHeirs", name := "claimOf", desc := "(I)I" } : Jvm.MethodName)) ∈ lw_all := lw_g (lw_at lw_m8 6 rfl) rfl
theorem q1802 : (Jvm.Cond.privateMethod ({ cls := "PuppetHeirs", name := "claimOf", desc := "(I)I" } : Jvm.MethodName)) ∈ lw_tbl := lw_at lw_m8 7 rfl
theorem q1803 : (Jvm.Cond.instanceMethod ({ cls := "PuppetHeirs", name := "claimOf", desc := "(I)I" } : Jvm.MethodName)) ∈ lw_all := lw_g (lw_at lw_m8 8 rfl) rfl
theorem q1804 : (Jvm.Cond.code ({ cls := "PuppetHeirs", name := "claimOf", desc := "(I)I" } : Jvm.MethodName) prog_1_method_61_code (4 : Nat) (Option.some Jvm.ClassFile.FieldType.int)) ∈ lw_all := lw_g (lw_at lw_m8 9 rfl) rfl
theorem q1805 : (Jvm.Cond.methodLink "PuppetHeirs" (371 : Nat) ({ cls := "PuppetHeirs", name := "levelled", desc := "(I)I" } : Jvm.MethodName)) ∈ lw_all := lw_g (lw_at lw_m8 10 rfl) rfl
theorem q1806 : (Jvm.Cond.privateMethod ({ cls := "PuppetHeirs", name := "levelled", desc := "(I)I" } : Jvm.MethodName)) ∈ lw_tbl := lw_at lw_m8 11 rfl
theorem q1807 : (Jvm.Cond.instanceMethod ({ cls := "PuppetHeirs", name := "levelled", desc := "(I)I" } : Jvm.MethodName)) ∈ lw_all := lw_g (lw_at lw_m8 12 rfl) rfl
theorem q1808 : (Jvm.Cond.code ({ cls := "PuppetHeirs", name := "levelled", desc := "(I)I" } : Jvm.MethodName) prog_1_method_62_code (4 : Nat) (Option.some Jvm.ClassFile.FieldType.int)) ∈ lw_all := lw_g (lw_at lw_m8 13 rfl) rfl
theorem q1813 : (Jvm.Cond.instanceMethod ({ cls := "PuppetHeirs", name := "owes", desc := "(II)I" } : Jvm.MethodName)) ∈ lw_all := lw_g (lw_at lw_m8 18 rfl) rfl
theorem q1814 : (Jvm.Cond.selects "PuppetHeirs" ({ cls := "PuppetHeirs", name := "owes", desc := "(II)I" } : Jvm.MethodName) ({ cls := "PuppetHeirs", name := "owes", desc := "(II)I" } : Jvm.MethodName)) ∈ lw_all := lw_g (lw_at lw_m8 19 rfl) rfl
theorem q1815 : (Jvm.Cond.code ({ cls := "PuppetHeirs", name := "owes", desc := "(II)I" } : Jvm.MethodName) prog_1_method_64_code (3 : Nat) (Option.some Jvm.ClassFile.FieldType.int)) ∈ lw_all := lw_g (lw_at lw_m8 20 rfl) rfl
theorem q1820 : (Jvm.Cond.instanceMethod ({ cls := "PuppetHeirs", name := "net", desc := "(I)I" } : Jvm.MethodName)) ∈ lw_all := lw_g (lw_at lw_m8 25 rfl) rfl
theorem q1821 : (Jvm.Cond.selects "PuppetHeirs" ({ cls := "PuppetHeirs", name := "net", desc := "(I)I" } : Jvm.MethodName) ({ cls := "PuppetHeirs", name := "net", desc := "(I)I" } : Jvm.MethodName)) ∈ lw_all := lw_g (lw_at lw_m8 26 rfl) rfl
theorem q1822 : (Jvm.Cond.code ({ cls := "PuppetHeirs", name := "net", desc := "(I)I" } : Jvm.MethodName) prog_1_method_65_code (2 : Nat) (Option.some Jvm.ClassFile.FieldType.int)) ∈ lw_all := lw_g (lw_at lw_m8 27 rfl) rfl
theorem q1823 : (Jvm.Cond.methodLink "PuppetHeirs" (377 : Nat) ({ cls := "PuppetHeirs", name := "netOf", desc := "(I)I" } : Jvm.MethodName)) ∈ lw_all := lw_g (lw_at lw_m8 28 rfl) rfl
theorem q1824 : (Jvm.Cond.privateMethod ({ cls := "PuppetHeirs", name := "netOf", desc := "(I)I" } : Jvm.MethodName)) ∈ lw_tbl := lw_at lw_m8 29 rfl
theorem q1825 : (Jvm.Cond.instanceMethod ({ cls := "PuppetHeirs", name := "netOf", desc := "(I)I" } : Jvm.MethodName)) ∈ lw_all := lw_g (lw_at lw_m8 30 rfl) rfl
theorem q1826 : (Jvm.Cond.code ({ cls := "PuppetHeirs", name := "netOf", desc := "(I)I" } : Jvm.MethodName) prog_1_method_66_code (4 : Nat) (Option.some Jvm.ClassFile.FieldType.int)) ∈ lw_all := lw_g (lw_at lw_m8 31 rfl) rfl
theorem q1831 : (Jvm.Cond.instanceMethod ({ cls := "PuppetHeirs", name := "heir", desc := "(II)I" } : Jvm.MethodName)) ∈ lw_all := lw_g (lw_at lw_m8 36 rfl) rfl
theorem q1832 : (Jvm.Cond.selects "PuppetHeirs" ({ cls := "PuppetHeirs", name := "heir", desc := "(II)I" } : Jvm.MethodName) ({ cls := "PuppetHeirs", name := "heir", desc := "(II)I" } : Jvm.MethodName)) ∈ lw_all := lw_g (lw_at lw_m8 37 rfl) rfl
theorem q1833 : (Jvm.Cond.code ({ cls := "PuppetHeirs", name := "heir", desc := "(II)I" } : Jvm.MethodName) prog_1_method_67_code (4 : Nat) (Option.some Jvm.ClassFile.FieldType.int)) ∈ lw_all := lw_g (lw_at lw_m8 38 rfl) rfl
theorem q1838 : (Jvm.Cond.instanceMethod ({ cls := "PuppetHeirs", name := "practise", desc := "(II)I" } : Jvm.MethodName)) ∈ lw_all := lw_g (lw_at lw_m8 43 rfl) rfl
theorem q1839 : (Jvm.Cond.selects "PuppetHeirs" ({ cls := "PuppetHeirs", name := "practise", desc := "(II)I" } : Jvm.MethodName) ({ cls := "PuppetHeirs", name := "practise", desc := "(II)I" } : Jvm.MethodName)) ∈ lw_all := lw_g (lw_at lw_m8 44 rfl) rfl
theorem q1840 : (Jvm.Cond.code ({ cls := "PuppetHeirs", name := "practise", desc := "(II)I" } : Jvm.MethodName) prog_1_method_70_code (4 : Nat) (Option.some Jvm.ClassFile.FieldType.int)) ∈ lw_all := lw_g (lw_at lw_m8 45 rfl) rfl
theorem q1845 : (Jvm.Cond.instanceMethod ({ cls := "PuppetHeirs", name := "slack", desc := "(I)I" } : Jvm.MethodName)) ∈ lw_all := lw_g (lw_at lw_m8 50 rfl) rfl
theorem q1846 : (Jvm.Cond.selects "PuppetHeirs" ({ cls := "PuppetHeirs", name := "slack", desc := "(I)I" } : Jvm.MethodName) ({ cls := "PuppetHeirs", name := "slack", desc := "(I)I" } : Jvm.MethodName)) ∈ lw_all := lw_g (lw_at lw_m8 51 rfl) rfl
theorem q1847 : (Jvm.Cond.code ({ cls := "PuppetHeirs", name := "slack", desc := "(I)I" } : Jvm.MethodName) prog_1_method_72_code (4 : Nat) (Option.some Jvm.ClassFile.FieldType.int)) ∈ lw_all := lw_g (lw_at lw_m8 52 rfl) rfl
theorem q1852 : (Jvm.Cond.instanceMethod ({ cls := "PuppetHeirs", name := "fades", desc := "(I)I" } : Jvm.MethodName)) ∈ lw_all := lw_g (lw_at lw_m8 57 rfl) rfl
theorem q1853 : (Jvm.Cond.selects "PuppetHeirs" ({ cls := "PuppetHeirs", name := "fades", desc := "(I)I" } : Jvm.MethodName) ({ cls := "PuppetHeirs", name := "fades", desc := "(I)I" } : Jvm.MethodName)) ∈ lw_all := lw_g (lw_at lw_m8 58 rfl) rfl
theorem q1854 : (Jvm.Cond.code ({ cls := "PuppetHeirs", name := "fades", desc := "(I)I" } : Jvm.MethodName) prog_1_method_73_code (4 : Nat) (Option.some Jvm.ClassFile.FieldType.int)) ∈ lw_all := lw_g (lw_at lw_m8 59 rfl) rfl
theorem q1859 : (Jvm.Cond.instanceMethod ({ cls := "PuppetHeirs", name := "both", desc := "(II)Z" } : Jvm.MethodName)) ∈ lw_all := lw_g (lw_at lw_m8 64 rfl) rfl
theorem q1860 : (Jvm.Cond.selects "PuppetHeirs" ({ cls := "PuppetHeirs", name := "both", desc := "(II)Z" } : Jvm.MethodName) ({ cls := "PuppetHeirs", name := "both", desc := "(II)Z" } : Jvm.MethodName)) ∈ lw_all := lw_g (lw_at lw_m8 65 rfl) rfl
theorem q1861 : (Jvm.Cond.code ({ cls := "PuppetHeirs", name := "both", desc := "(II)Z" } : Jvm.MethodName) prog_1_method_76_code (5 : Nat) (Option.some Jvm.ClassFile.FieldType.boolean)) ∈ lw_all := lw_g (lw_at lw_m8 66 rfl) rfl
theorem q1862 : (Jvm.Cond.methodLink "PuppetHeirs" (384 : Nat) ({ cls := "PuppetHeirs", name := "isStrung", desc := "(LPuppetHeirs$Act;)Z" } : Jvm.MethodName)) ∈ lw_all := lw_g (lw_at lw_m8 67 rfl) rfl
theorem q1863 : (Jvm.Cond.privateMethod ({ cls := "PuppetHeirs", name := "isStrung", desc := "(LPuppetHeirs$Act;)Z" } : Jvm.MethodName)) ∈ lw_tbl := lw_at lw_m8 68 rfl
theorem q1864 : (Jvm.Cond.instanceMethod ({ cls := "PuppetHeirs", name := "isStrung", desc := "(LPuppetHeirs$Act;)Z" } : Jvm.MethodName)) ∈ lw_all := lw_g (lw_at lw_m8 69 rfl) rfl
theorem q1865 : (Jvm.Cond.code ({ cls := "PuppetHeirs", name := "isStrung", desc := "(LPuppetHeirs$Act;)Z" } : Jvm.MethodName) prog_1_method_74_code (3 : Nat) (Option.some Jvm.ClassFile.FieldType.boolean)) ∈ lw_all := lw_g (lw_at lw_m8 70 rfl) rfl
theorem q1866 : (Jvm.Cond.methodLink "PuppetHeirs" (380 : Nat) ({ cls := "PuppetHeirs", name := "bothOn", desc := "(LPuppetHeirs$Act;LPuppetHeirs$Act;III)Z" } : Jvm.MethodName)) ∈ lw_all := lw_g (lw_at lw_m8 71 rfl) rfl
theorem q1867 : (Jvm.Cond.privateMethod ({ cls := "PuppetHeirs", name := "bothOn", desc := "(LPuppetHeirs$Act;LPuppetHeirs$Act;III)Z" } : Jvm.MethodName)) ∈ lw_tbl := lw_at lw_m8 72 rfl
theorem q1868 : (Jvm.Cond.instanceMethod ({ cls := "PuppetHeirs", name := "bothOn", desc := "(LPuppetHeirs$Act;LPuppetHeirs$Act;III)Z" } : Jvm.MethodName)) ∈ lw_all := lw_g (lw_at lw_m8 73 rfl) rfl
theorem q1869 : (Jvm.Cond.code ({ cls := "PuppetHeirs", name := "bothOn", desc := "(LPuppetHeirs$Act;LPuppetHeirs$Act;III)Z" } : Jvm.MethodName) prog_1_method_75_code (9 : Nat) (Option.some Jvm.ClassFile.FieldType.boolean)) ∈ lw_all := lw_g (lw_at lw_m8 74 rfl) rfl
theorem q1874 : (Jvm.Cond.instanceMethod ({ cls := "PuppetHeirs", name := "thumbs", desc := "(I)I" } : Jvm.MethodName)) ∈ lw_all := lw_g (lw_at lw_m8 79 rfl) rfl
theorem q1875 : (Jvm.Cond.selects "PuppetHeirs" ({ cls := "PuppetHeirs", name := "thumbs", desc := "(I)I" } : Jvm.MethodName) ({ cls := "PuppetHeirs", name := "thumbs", desc := "(I)I" } : Jvm.MethodName)) ∈ lw_all := lw_g (lw_at lw_m8 80 rfl) rfl
theorem q1876 : (Jvm.Cond.code ({ cls := "PuppetHeirs", name := "thumbs", desc := "(I)I" } : Jvm.MethodName) prog_1_method_77_code (4 : Nat) (Option.some Jvm.ClassFile.FieldType.int)) ∈ lw_all := lw_g (lw_at lw_m8 81 rfl) rfl
theorem q1881 : (Jvm.Cond.instanceMethod ({ cls := "PuppetHeirs", name := "first", desc := "(I)I" } : Jvm.MethodName)) ∈ lw_all := lw_g (lw_at lw_m8 86 rfl) rfl
theorem q1882 : (Jvm.Cond.selects "PuppetHeirs" ({ cls := "PuppetHeirs", name := "first", desc := "(I)I" } : Jvm.MethodName) ({ cls := "PuppetHeirs", name := "first", desc := "(I)I" } : Jvm.MethodName)) ∈ lw_all := lw_g (lw_at lw_m8 87 rfl) rfl
theorem q1883 : (Jvm.Cond.code ({ cls := "PuppetHeirs", name := "first", desc := "(I)I" } : Jvm.MethodName) prog_1_method_78_code (4 : Nat) (Option.some Jvm.ClassFile.FieldType.int)) ∈ lw_all := lw_g (lw_at lw_m8 88 rfl) rfl
theorem q1888 : (Jvm.Cond.instanceMethod ({ cls := "PuppetHeirs", name := "reach", desc := "(I)I" } : Jvm.MethodName)) ∈ lw_all := lw_g (lw_at lw_m8 93 rfl) rfl
theorem q1889 : (Jvm.Cond.selects "PuppetHeirs" ({ cls := "PuppetHeirs", name := "reach", desc := "(I)I" } : Jvm.MethodName) ({ cls := "PuppetHeirs", name := "reach", desc := "(I)I" } : Jvm.MethodName)) ∈ lw_all := lw_g (lw_at lw_m8 94 rfl) rfl
theorem q1890 : (Jvm.Cond.code ({ cls := "PuppetHeirs", name := "reach", desc := "(I)I" } : Jvm.MethodName) prog_1_method_80_code (6 : Nat) (Option.some Jvm.ClassFile.FieldType.int)) ∈ lw_all := lw_g (lw_at lw_m8 95 rfl) rfl
theorem q1891 : (Jvm.Cond.methodLink "PuppetHeirs" (388 : Nat) ({ cls := "PuppetHeirs", name := "isIn", desc := "(LPuppetHeirs$Act;IIIII)Z" } : Jvm.MethodName)) ∈ lw_all := lw_g (lw_at lw_m8 96 rfl) rfl
theorem q1892 : (Jvm.Cond.privateMethod ({ cls := "PuppetHeirs", name := "isIn", desc := "(LPuppetHeirs$Act;IIIII)Z" } : Jvm.MethodName)) ∈ lw_tbl := lw_at lw_m8 97 rfl
theorem q1893 : (Jvm.Cond.instanceMethod ({ cls := "PuppetHeirs", name := "isIn", desc := "(LPuppetHeirs$Act;IIIII)Z" } : Jvm.MethodName)) ∈ lw_all := lw_g (lw_at lw_m8 98 rfl) rfl
theorem q1894 : (Jvm.Cond.code ({ cls := "PuppetHeirs", name := "isIn", desc := "(LPuppetHeirs$Act;IIIII)Z" } : Jvm.MethodName) prog_1_method_79_code (10 : Nat) (Option.some Jvm.ClassFile.FieldType.boolean)) ∈ lw_all := lw_g (lw_at lw_m8 99 rfl) rfl
theorem q1899 : (Jvm.Cond.instanceMethod ({ cls := "PuppetHeirs", name := "fates", desc := "(IIII)I" } : Jvm.MethodName)) ∈ lw_all := lw_g (lw_at lw_m8 104 rfl) rfl
theorem q1900 : (Jvm.Cond.selects "PuppetHeirs" ({ cls := "PuppetHeirs", name := "fates", desc := "(IIII)I" } : Jvm.MethodName) ({ cls := "PuppetHeirs", name := "fates", desc := "(IIII)I" } : Jvm.MethodName)) ∈ lw_all := lw_g (lw_at lw_m8 105 rfl) rfl
theorem q1901 : (Jvm.Cond.code ({ cls := "PuppetHeirs", name := "fates", desc := "(IIII)I" } : Jvm.MethodName) prog_1_method_85_code (8 : Nat) (Option.some Jvm.ClassFile.FieldType.int)) ∈ lw_all := lw_g (lw_at lw_m8 106 rfl) rfl
theorem q1902 : (Jvm.Cond.methodLink "PuppetHeirs" (405 : Nat) ({ cls := "PuppetHeirs", name := "isFate", desc := "(II)Z" } : Jvm.MethodName)) ∈ lw_all := lw_g (lw_at lw_m8 107 rfl) rfl
theorem q1903 : (Jvm.Cond.static ({ cls := "PuppetHeirs", name := "isFate", desc := "(II)Z" } : Jvm.MethodName)) ∈ lw_all := lw_g (lw_at lw_m8 108 rfl) rfl
theorem q1904 : (Jvm.Cond.code ({ cls := "PuppetHeirs", name := "isFate", desc := "(II)Z" } : Jvm.MethodName) prog_1_method_84_code (2 : Nat) (Option.some Jvm.ClassFile.FieldType.boolean)) ∈ lw_all := lw_g (lw_at lw_m8 109 rfl) rfl
theorem q1905 : (Jvm.Cond.methodLink "PuppetHeirs" (408 : Nat) ({ cls := "PuppetHeirs", name := "fated", desc := "(III)LPuppetHeirs$Troupe;" } : Jvm.MethodName)) ∈ lw_all := lw_g (lw_at lw_m8 110 rfl) rfl
theorem q1906 : (Jvm.Cond.privateMethod ({ cls := "PuppetHeirs", name := "fated", desc := "(III)LPuppetHeirs$Troupe;" } : Jvm.MethodName)) ∈ lw_tbl := lw_at lw_m8 111 rfl
theorem q1907 : (Jvm.Cond.instanceMethod ({ cls := "PuppetHeirs", name := "fated", desc := "(III)LPuppetHeirs$Troupe;" } : Jvm.MethodName)) ∈ lw_all := lw_g (lw_at lw_m8 112 rfl) rfl
theorem q1908 : (Jvm.Cond.code ({ cls := "PuppetHeirs", name := "fated", desc := "(III)LPuppetHeirs$Troupe;" } : Jvm.MethodName) prog_1_method_83_code (8 : Nat) (Option.some (Jvm.ClassFile.FieldType.object "PuppetHeirs$Troupe"))) ∈ lw_all := lw_g (lw_at lw_m8 113 rfl) rfl
theorem q1909 : (Jvm.Cond.methodLink "PuppetHeirs" (396 : Nat) ({ cls := "PuppetHeirs$Troupe", name := "begin", desc := "()V" } : Jvm.MethodName)) ∈ lw_all := lw_g (lw_at lw_m8 114 rfl) rfl
theorem q1910 : (Jvm.Cond.methodLink "PuppetHeirs" (399 : Nat) ({ cls := "PuppetHeirs", name := "draw", desc := "(I)I" } : Jvm.MethodName)) ∈ lw_all := lw_g (lw_at lw_m8 115 rfl) rfl
theorem q1911 : (Jvm.Cond.privateMethod ({ cls := "PuppetHeirs", name := "draw", desc := "(I)I" } : Jvm.MethodName)) ∈ lw_tbl := lw_at lw_m8 116 rfl
theorem q1912 : (Jvm.Cond.instanceMethod ({ cls := "PuppetHeirs", name := "draw", desc := "(I)I" } : Jvm.MethodName)) ∈ lw_all := lw_g (lw_at lw_m8 117 rfl) rfl
theorem q1913 : (Jvm.Cond.code ({ cls := "PuppetHeirs", name := "draw", desc := "(I)I" } : Jvm.MethodName) prog_1_method_82_code (2 : Nat) (Option.some Jvm.ClassFile.FieldType.int)) ∈ lw_all := lw_g (lw_at lw_m8 118 rfl) rfl
theorem q1914 : (Jvm.Cond.constant "PuppetHeirs" (395 : Nat) (1103515245 : Int32)) ∈ lw_all := lw_g (lw_at lw_m8 119 rfl) rfl
theorem q1915 : (Jvm.Cond.methodLink "PuppetHeirs" (402 : Nat) ({ cls := "PuppetHeirs$Troupe", name := "choices", desc := "()V" } : Jvm.MethodName)) ∈ lw_all := lw_g (lw_at lw_m8 120 rfl) rfl
theorem q1920 : (Jvm.Cond.instanceMethod ({ cls := "PuppetHeirs", name := "span", desc := "(IIIIII)I" } : Jvm.MethodName)) ∈ lw_all := lw_g (lw_at lw_m8 125 rfl) rfl
theorem q1921 : (Jvm.Cond.selects "PuppetHeirs" ({ cls := "PuppetHeirs", name := "span", desc := "(IIIIII)I" } : Jvm.MethodName) ({ cls := "PuppetHeirs", name := "span", desc := "(IIIIII)I" } : Jvm.MethodName)) ∈ lw_all := lw_g (lw_at lw_m8 126 rfl) rfl
theorem q1922 : (Jvm.Cond.code ({ cls := "PuppetHeirs", name := "span", desc := "(IIIIII)I" } : Jvm.MethodName) prog_1_method_86_code (13 : Nat) (Option.some Jvm.ClassFile.FieldType.int)) ∈ lw_all := lw_g (lw_at lw_m8 127 rfl) rfl
theorem q2646 : (Jvm.Cond.castable "PuppetHeirs" "java/lang/Object") ∈ lw_tbl := lw_at lw_m11 131 rfl
theorem in_X1 : ∀ w ∈ wsX10, w ∈ lw_all := lw_in wsX10 [741, 743, 745, 747, 749, 751, 753, 755, 757, 759, 761, 763, 765, 767, 769, 771, 773, 775, 777, 779, 781, 783] (by decide +kernel) (by decide +kernel)
