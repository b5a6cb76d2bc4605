/-! PuppetHeirs$Told -/
set_option maxRecDepth 100000
def RX2 : String := "PuppetHeirs$Told"
def TX2 : u_T := fun k => match k with
  | 0 => ("PuppetHeirs$Told", "limp", "[I", true)
  | 1 => ("PuppetHeirs$Told", "born", "[I", true)
  | 2 => ("PuppetHeirs$Told", "dies", "[I", true)
  | 3 => ("PuppetHeirs$Told", "silent", "[I", true)
  | 4 => ("PuppetHeirs$Told", "wood", "[I", true)
  | 5 => ("PuppetHeirs$Told", "fall", "[I", true)
  | 6 => ("PuppetHeirs$Told", "needs", "[I", true)
  | 7 => ("PuppetHeirs$Told", "strings", "[I", true)
  | 8 => ("PuppetHeirs$Told", "first", "[I", true)
  | 9 => ("PuppetHeirs$Told", "quarrels", "[I", true)
  | 10 => ("PuppetHeirs$Told", "acts", "Ljava/util/ArrayList;", true)
  | 11 => ("PuppetHeirs$Told", "hands", "I", false)
  | 12 => ("PuppetHeirs$Told", "puppets", "I", false)
  | 13 => ("PuppetHeirs$Told", "wear", "I", false)
  | _ => ("PuppetHeirs$Told", "clauses", "I", false)
def tyX2 : Nat → FieldType := fun k => match k with
  | 0 => .array .int
  | 1 => .array .int
  | 2 => .array .int
  | 3 => .array .int
  | 4 => .array .int
  | 5 => .array .int
  | 6 => .array .int
  | 7 => .array .int
  | 8 => .array .int
  | 9 => .array .int
  | 10 => .object "java/util/ArrayList"
  | 11 => .int
  | 12 => .int
  | 13 => .int
  | _ => .int
abbrev wsX20 : List Cond := u_ws RX2 TX2 15
set_option maxRecDepth 100000 in
theorem nmX2 : ∀ a, a < 15 → ∀ b, b < 15 → a ≠ b → (TX2 a).2.1 ≠ (TX2 b).2.1 := by decide +kernel
set_option maxRecDepth 100000 in
theorem tyX2_ok : ∀ k, k < 15 → parseFieldDescriptor (TX2 k).2.2.1 = some (tyX2 k) := by decide +kernel
abbrev cX2_init : ByteArray := prog_17_method_1_code
def yX2_init : MethodName := ⟨RX2, "<init>", "()V"⟩
def dkwX2_init_4 : List UInt8 := [181, 0, 47, 42, 4, 181, 0, 51, 177]
abbrev dktX2_init_4 : List UInt8 := dkwX2_init_4 ++ []
def dkwX2_init_3 : List UInt8 := [188, 10, 181, 0, 36, 42, 16, 8, 188, 10, 181, 0, 39, 42, 187, 0, 42, 89, 4, 183, 0, 44]
abbrev dktX2_init_3 : List UInt8 := dkwX2_init_3 ++ dktX2_init_4
def dkwX2_init_2 : List UInt8 := [188, 10, 181, 0, 27, 42, 16, 8, 188, 10, 181, 0, 30, 42, 16, 8, 188, 10, 181, 0, 33, 42, 16, 8]
abbrev dktX2_init_2 : List UInt8 := dkwX2_init_2 ++ dktX2_init_3
def dkwX2_init_1 : List UInt8 := [188, 10, 181, 0, 18, 42, 16, 9, 188, 10, 181, 0, 21, 42, 16, 81, 188, 10, 181, 0, 24, 42, 16, 8]
abbrev dktX2_init_1 : List UInt8 := dkwX2_init_1 ++ dktX2_init_2
def dkwX2_init_0 : List UInt8 := [42, 183, 0, 3, 42, 16, 9, 188, 10, 181, 0, 9, 42, 16, 9, 188, 10, 181, 0, 15, 42, 16, 9]
abbrev dktX2_init_0 : List UInt8 := dkwX2_init_0 ++ dktX2_init_1
theorem dksX2_init_0 : cX2_init.data.toList.drop 0 = dktX2_init_0 := by decide +kernel
theorem dksX2_init_1 : cX2_init.data.toList.drop 23 = dktX2_init_1 := dk_seg dksX2_init_0 23 rfl rfl
theorem dksX2_init_2 : cX2_init.data.toList.drop 47 = dktX2_init_2 := dk_seg dksX2_init_1 24 rfl rfl
theorem dksX2_init_3 : cX2_init.data.toList.drop 71 = dktX2_init_3 := dk_seg dksX2_init_2 24 rfl rfl
theorem dksX2_init_4 : cX2_init.data.toList.drop 93 = dktX2_init_4 := dk_seg dksX2_init_3 22 rfl rfl
theorem dX2_init_0 : decode cX2_init 0 = .ok (.aload_n 0, 1) := dk_42 (dk_at dksX2_init_0 0 rfl rfl)
theorem dX2_init_1 : decode cX2_init 1 = .ok (.invokespecial 3, 3) := dk_183 0 3 (dk_at dksX2_init_0 1 rfl rfl)
theorem dX2_init_4 : decode cX2_init 4 = .ok (.aload_n 0, 1) := dk_42 (dk_at dksX2_init_0 4 rfl rfl)
theorem dX2_init_5 : decode cX2_init 5 = .ok (.bipush 9, 2) := dk_16 9 (dk_at dksX2_init_0 5 rfl rfl)
theorem dX2_init_7 : decode cX2_init 7 = .ok (.newarray .int, 2) := dk_188_10 (dk_at dksX2_init_0 7 rfl rfl)
theorem dX2_init_9 : decode cX2_init 9 = .ok (.putfield 9, 3) := dk_181 0 9 (dk_at dksX2_init_0 9 rfl rfl)
theorem dX2_init_12 : decode cX2_init 12 = .ok (.aload_n 0, 1) := dk_42 (dk_at dksX2_init_0 12 rfl rfl)
theorem dX2_init_13 : decode cX2_init 13 = .ok (.bipush 9, 2) := dk_16 9 (dk_at dksX2_init_0 13 rfl rfl)
theorem dX2_init_15 : decode cX2_init 15 = .ok (.newarray .int, 2) := dk_188_10 (dk_at dksX2_init_0 15 rfl rfl)
theorem dX2_init_17 : decode cX2_init 17 = .ok (.putfield 15, 3) := dk_181 0 15 (dk_at dksX2_init_0 17 rfl rfl)
theorem dX2_init_20 : decode cX2_init 20 = .ok (.aload_n 0, 1) := dk_42 (dk_at dksX2_init_0 20 rfl rfl)
theorem dX2_init_21 : decode cX2_init 21 = .ok (.bipush 9, 2) := dk_16 9 (dk_at dksX2_init_0 21 rfl rfl)
theorem dX2_init_23 : decode cX2_init 23 = .ok (.newarray .int, 2) := dk_188_10 (dk_at dksX2_init_1 0 rfl rfl)
theorem dX2_init_25 : decode cX2_init 25 = .ok (.putfield 18, 3) := dk_181 0 18 (dk_at dksX2_init_1 2 rfl rfl)
theorem dX2_init_28 : decode cX2_init 28 = .ok (.aload_n 0, 1) := dk_42 (dk_at dksX2_init_1 5 rfl rfl)
theorem dX2_init_29 : decode cX2_init 29 = .ok (.bipush 9, 2) := dk_16 9 (dk_at dksX2_init_1 6 rfl rfl)
theorem dX2_init_31 : decode cX2_init 31 = .ok (.newarray .int, 2) := dk_188_10 (dk_at dksX2_init_1 8 rfl rfl)
theorem dX2_init_33 : decode cX2_init 33 = .ok (.putfield 21, 3) := dk_181 0 21 (dk_at dksX2_init_1 10 rfl rfl)
theorem dX2_init_36 : decode cX2_init 36 = .ok (.aload_n 0, 1) := dk_42 (dk_at dksX2_init_1 13 rfl rfl)
theorem dX2_init_37 : decode cX2_init 37 = .ok (.bipush 81, 2) := dk_16 81 (dk_at dksX2_init_1 14 rfl rfl)
theorem dX2_init_39 : decode cX2_init 39 = .ok (.newarray .int, 2) := dk_188_10 (dk_at dksX2_init_1 16 rfl rfl)
theorem dX2_init_41 : decode cX2_init 41 = .ok (.putfield 24, 3) := dk_181 0 24 (dk_at dksX2_init_1 18 rfl rfl)
theorem dX2_init_44 : decode cX2_init 44 = .ok (.aload_n 0, 1) := dk_42 (dk_at dksX2_init_1 21 rfl rfl)
theorem dX2_init_45 : decode cX2_init 45 = .ok (.bipush 8, 2) := dk_16 8 (dk_at dksX2_init_1 22 rfl rfl)
theorem dX2_init_47 : decode cX2_init 47 = .ok (.newarray .int, 2) := dk_188_10 (dk_at dksX2_init_2 0 rfl rfl)
theorem dX2_init_49 : decode cX2_init 49 = .ok (.putfield 27, 3) := dk_181 0 27 (dk_at dksX2_init_2 2 rfl rfl)
theorem dX2_init_52 : decode cX2_init 52 = .ok (.aload_n 0, 1) := dk_42 (dk_at dksX2_init_2 5 rfl rfl)
theorem dX2_init_53 : decode cX2_init 53 = .ok (.bipush 8, 2) := dk_16 8 (dk_at dksX2_init_2 6 rfl rfl)
theorem dX2_init_55 : decode cX2_init 55 = .ok (.newarray .int, 2) := dk_188_10 (dk_at dksX2_init_2 8 rfl rfl)
theorem dX2_init_57 : decode cX2_init 57 = .ok (.putfield 30, 3) := dk_181 0 30 (dk_at dksX2_init_2 10 rfl rfl)
theorem dX2_init_60 : decode cX2_init 60 = .ok (.aload_n 0, 1) := dk_42 (dk_at dksX2_init_2 13 rfl rfl)
theorem dX2_init_61 : decode cX2_init 61 = .ok (.bipush 8, 2) := dk_16 8 (dk_at dksX2_init_2 14 rfl rfl)
theorem dX2_init_63 : decode cX2_init 63 = .ok (.newarray .int, 2) := dk_188_10 (dk_at dksX2_init_2 16 rfl rfl)
theorem dX2_init_65 : decode cX2_init 65 = .ok (.putfield 33, 3) := dk_181 0 33 (dk_at dksX2_init_2 18 rfl rfl)
theorem dX2_init_68 : decode cX2_init 68 = .ok (.aload_n 0, 1) := dk_42 (dk_at dksX2_init_2 21 rfl rfl)
theorem dX2_init_69 : decode cX2_init 69 = .ok (.bipush 8, 2) := dk_16 8 (dk_at dksX2_init_2 22 rfl rfl)
theorem dX2_init_71 : decode cX2_init 71 = .ok (.newarray .int, 2) := dk_188_10 (dk_at dksX2_init_3 0 rfl rfl)
theorem dX2_init_73 : decode cX2_init 73 = .ok (.putfield 36, 3) := dk_181 0 36 (dk_at dksX2_init_3 2 rfl rfl)
theorem dX2_init_76 : decode cX2_init 76 = .ok (.aload_n 0, 1) := dk_42 (dk_at dksX2_init_3 5 rfl rfl)
theorem dX2_init_77 : decode cX2_init 77 = .ok (.bipush 8, 2) := dk_16 8 (dk_at dksX2_init_3 6 rfl rfl)
theorem dX2_init_79 : decode cX2_init 79 = .ok (.newarray .int, 2) := dk_188_10 (dk_at dksX2_init_3 8 rfl rfl)
theorem dX2_init_81 : decode cX2_init 81 = .ok (.putfield 39, 3) := dk_181 0 39 (dk_at dksX2_init_3 10 rfl rfl)
theorem dX2_init_84 : decode cX2_init 84 = .ok (.aload_n 0, 1) := dk_42 (dk_at dksX2_init_3 13 rfl rfl)
theorem dX2_init_85 : decode cX2_init 85 = .ok (.new 42, 3) := dk_187 0 42 (dk_at dksX2_init_3 14 rfl rfl)
theorem dX2_init_88 : decode cX2_init 88 = .ok (.dup, 1) := dk_89 (dk_at dksX2_init_3 17 rfl rfl)
theorem dX2_init_89 : decode cX2_init 89 = .ok (.iconst 1, 1) := dk_4 (dk_at dksX2_init_3 18 rfl rfl)
theorem dX2_init_90 : decode cX2_init 90 = .ok (.invokespecial 44, 3) := dk_183 0 44 (dk_at dksX2_init_3 19 rfl rfl)
theorem dX2_init_93 : decode cX2_init 93 = .ok (.putfield 47, 3) := dk_181 0 47 (dk_at dksX2_init_4 0 rfl rfl)
theorem dX2_init_96 : decode cX2_init 96 = .ok (.aload_n 0, 1) := dk_42 (dk_at dksX2_init_4 3 rfl rfl)
theorem dX2_init_97 : decode cX2_init 97 = .ok (.iconst 1, 1) := dk_4 (dk_at dksX2_init_4 4 rfl rfl)
theorem dX2_init_98 : decode cX2_init 98 = .ok (.putfield 51, 3) := dk_181 0 51 (dk_at dksX2_init_4 5 rfl rfl)
theorem dX2_init_101 : decode cX2_init 101 = .ok (.return_, 1) := dk_177 (dk_at dksX2_init_4 8 rfl rfl)
theorem q117 : (Jvm.Cond.initialized "PuppetHeirs$Told") ∈ lw_all := lw_g (lw_at lw_m1 2 rfl) rfl
theorem q167 : (Jvm.Cond.instantiable "PuppetHeirs$Told" (15 : Nat)) ∈ lw_all := lw_g (lw_at lw_m1 52 rfl) rfl
theorem q169 : (Jvm.Cond.instanceMethod ({ cls := "PuppetHeirs$Told", name := "<init>", desc := "()V" } : Jvm.MethodName)) ∈ lw_all := lw_g (lw_at lw_m1 54 rfl) rfl
theorem q170 : (Jvm.Cond.code ({ cls := "PuppetHeirs$Told", name := "<init>", desc := "()V" } : Jvm.MethodName) prog_17_method_1_code (1 : Nat) (Option.none : Option Jvm.ClassFile.FieldType)) ∈ lw_all := lw_g (lw_at lw_m1 55 rfl) rfl
theorem q171 : (Jvm.Cond.methodLink "PuppetHeirs$Told" (3 : Nat) ({ cls := "java/lang/Object", name := "<init>", desc := "()V" } : Jvm.MethodName)) ∈ lw_all := lw_g (lw_at lw_m1 56 rfl) rfl
theorem q172 : (Jvm.Cond.classLink "PuppetHeirs$Told" (42 : Nat) "java/util/ArrayList") ∈ lw_all := lw_g (lw_at lw_m1 57 rfl) rfl
theorem q174 : (Jvm.Cond.methodLink "PuppetHeirs$Told" (44 : Nat) ({ cls := "java/util/ArrayList", name := "<init>", desc := "(I)V" } : Jvm.MethodName)) ∈ lw_all := lw_g (lw_at lw_m1 59 rfl) rfl
theorem q515 : (Jvm.Cond.fieldLink "PuppetHeirs$Told" (9 : Nat) "PuppetHeirs$Told" "limp" "[I") ∈ lw_all := lw_g (lw_at lw_m2 160 rfl) rfl
theorem q518 : (Jvm.Cond.fieldLink "PuppetHeirs$Told" (15 : Nat) "PuppetHeirs$Told" "born" "[I") ∈ lw_all := lw_g (lw_at lw_m2 163 rfl) rfl
theorem q522 : (Jvm.Cond.fieldLink "PuppetHeirs$Told" (18 : Nat) "PuppetHeirs$Told" "dies" "[I") ∈ lw_all := lw_g (lw_at lw_m2 167 rfl) rfl
theorem q526 : (Jvm.Cond.fieldLink "PuppetHeirs$Told" (21 : Nat) "PuppetHeirs$Told" "silent" "[I") ∈ lw_all := lw_g (lw_at lw_m2 171 rfl) rfl
theorem q529 : (Jvm.Cond.fieldLink "PuppetHeirs$Told" (24 : Nat) "PuppetHeirs$Told" "wood" "[I") ∈ lw_all := lw_g (lw_at lw_m2 174 rfl) rfl
theorem q532 : (Jvm.Cond.fieldLink "PuppetHeirs$Told" (27 : Nat) "PuppetHeirs$Told" "fall" "[I") ∈ lw_all := lw_g (lw_at lw_m2 177 rfl) rfl
theorem q536 : (Jvm.Cond.fieldLink "PuppetHeirs$Told" (30 : Nat) "PuppetHeirs$Told" "needs" "[I") ∈ lw_all := lw_g (lw_at lw_m2 181 rfl) rfl
theorem q540 : (Jvm.Cond.fieldLink "PuppetHeirs$Told" (33 : Nat) "PuppetHeirs$Told" "strings" "[I") ∈ lw_all := lw_g (lw_at lw_m2 185 rfl) rfl
theorem q543 : (Jvm.Cond.fieldLink "PuppetHeirs$Told" (36 : Nat) "PuppetHeirs$Told" "first" "[I") ∈ lw_all := lw_g (lw_at lw_m2 188 rfl) rfl
theorem q546 : (Jvm.Cond.fieldLink "PuppetHeirs$Told" (39 : Nat) "PuppetHeirs$Told" "quarrels" "[I") ∈ lw_all := lw_g (lw_at lw_m2 191 rfl) rfl
theorem q550 : (Jvm.Cond.fieldLink "PuppetHeirs$Told" (47 : Nat) "PuppetHeirs$Told" "acts" "Ljava/util/ArrayList;") ∈ lw_all := lw_g (lw_at lw_m2 195 rfl) rfl
theorem q561 : (Jvm.Cond.fieldLink "PuppetHeirs$Told" (51 : Nat) "PuppetHeirs$Told" "wear" "I") ∈ lw_all := lw_g (lw_at lw_m2 206 rfl) rfl
theorem q565 : (Jvm.Cond.laysFinal "PuppetHeirs$Told" "PuppetHeirs$Told" "limp" "[I") ∈ lw_all := lw_g (lw_at lw_m2 210 rfl) rfl
theorem q566 : (Jvm.Cond.soleField "PuppetHeirs$Told" "limp") ∈ lw_all := lw_g (lw_at lw_m2 211 rfl) rfl
theorem q567 : (Jvm.Cond.laysFinal "PuppetHeirs$Told" "PuppetHeirs$Told" "born" "[I") ∈ lw_all := lw_g (lw_at lw_m2 212 rfl) rfl
theorem q568 : (Jvm.Cond.soleField "PuppetHeirs$Told" "born") ∈ lw_all := lw_g (lw_at lw_m2 213 rfl) rfl
theorem q569 : (Jvm.Cond.laysFinal "PuppetHeirs$Told" "PuppetHeirs$Told" "dies" "[I") ∈ lw_all := lw_g (lw_at lw_m2 214 rfl) rfl
theorem q570 : (Jvm.Cond.soleField "PuppetHeirs$Told" "dies") ∈ lw_all := lw_g (lw_at lw_m2 215 rfl) rfl
theorem q571 : (Jvm.Cond.laysFinal "PuppetHeirs$Told" "PuppetHeirs$Told" "silent" "[I") ∈ lw_all := lw_g (lw_at lw_m2 216 rfl) rfl
theorem q572 : (Jvm.Cond.soleField "PuppetHeirs$Told" "silent") ∈ lw_all := lw_g (lw_at lw_m2 217 rfl) rfl
theorem q573 : (Jvm.Cond.laysFinal "PuppetHeirs$Told" "PuppetHeirs$Told" "wood" "[I") ∈ lw_all := lw_g (lw_at lw_m2 218 rfl) rfl
theorem q574 : (Jvm.Cond.soleField "PuppetHeirs$Told" "wood") ∈ lw_all := lw_g (lw_at lw_m2 219 rfl) rfl
theorem q575 : (Jvm.Cond.laysFinal "PuppetHeirs$Told" "PuppetHeirs$Told" "fall" "[I") ∈ lw_all := lw_g (lw_at lw_m2 220 rfl) rfl
theorem q576 : (Jvm.Cond.soleField "PuppetHeirs$Told" "fall") ∈ lw_all := lw_g (lw_at lw_m2 221 rfl) rfl
theorem q577 : (Jvm.Cond.laysFinal "PuppetHeirs$Told" "PuppetHeirs$Told" "needs" "[I") ∈ lw_all := lw_g (lw_at lw_m2 222 rfl) rfl
theorem q578 : (Jvm.Cond.soleField "PuppetHeirs$Told" "needs") ∈ lw_all := lw_g (lw_at lw_m2 223 rfl) rfl
theorem q579 : (Jvm.Cond.laysFinal "PuppetHeirs$Told" "PuppetHeirs$Told" "strings" "[I") ∈ lw_all := lw_g (lw_at lw_m2 224 rfl) rfl
theorem q580 : (Jvm.Cond.soleField "PuppetHeirs$Told" "strings") ∈ lw_all := lw_g (lw_at lw_m2 225 rfl) rfl
theorem q581 : (Jvm.Cond.laysFinal "PuppetHeirs$Told" "PuppetHeirs$Told" "first" "[I") ∈ lw_all := lw_g (lw_at lw_m2 226 rfl) rfl
theorem q582 : (Jvm.Cond.soleField "PuppetHeirs$Told" "first") ∈ lw_all := lw_g (lw_at lw_m2 227 rfl) rfl
theorem q583 : (Jvm.Cond.laysFinal "PuppetHeirs$Told" "PuppetHeirs$Told" "quarrels" "[I") ∈ lw_all := lw_g (lw_at lw_m2 228 rfl) rfl
theorem q584 : (Jvm.Cond.soleField "PuppetHeirs$Told" "quarrels") ∈ lw_all := lw_g (lw_at lw_m2 229 rfl) rfl
theorem q585 : (Jvm.Cond.laysFinal "PuppetHeirs$Told" "PuppetHeirs$Told" "acts" "Ljava/util/ArrayList;") ∈ lw_all := lw_g (lw_at lw_m2 230 rfl) rfl
theorem q586 : (Jvm.Cond.soleField "PuppetHeirs$Told" "acts") ∈ lw_all := lw_g (lw_at lw_m2 231 rfl) rfl
theorem q587 : (Jvm.Cond.lays "PuppetHeirs$Told" "PuppetHeirs$Told" "hands" "I") ∈ lw_all := lw_g (lw_at lw_m2 232 rfl) rfl
theorem q588 : (Jvm.Cond.soleField "PuppetHeirs$Told" "hands") ∈ lw_all := lw_g (lw_at lw_m2 233 rfl) rfl
theorem q589 : (Jvm.Cond.lays "PuppetHeirs$Told" "PuppetHeirs$Told" "puppets" "I") ∈ lw_all := lw_g (lw_at lw_m2 234 rfl) rfl
theorem q590 : (Jvm.Cond.soleField "PuppetHeirs$Told" "puppets") ∈ lw_all := lw_g (lw_at lw_m2 235 rfl) rfl
theorem q591 : (Jvm.Cond.lays "PuppetHeirs$Told" "PuppetHeirs$Told" "wear" "I") ∈ lw_all := lw_g (lw_at lw_m2 236 rfl) rfl
theorem q592 : (Jvm.Cond.soleField "PuppetHeirs$Told" "wear") ∈ lw_all := lw_g (lw_at lw_m2 237 rfl) rfl
theorem q593 : (Jvm.Cond.lays "PuppetHeirs$Told" "PuppetHeirs$Told" "clauses" "I") ∈ lw_all := lw_g (lw_at lw_m2 238 rfl) rfl
theorem q594 : (Jvm.Cond.soleField "PuppetHeirs$Told" "clauses") ∈ lw_all := lw_g (lw_at lw_m2 239 rfl) rfl
theorem q595 : (Jvm.Cond.superclass "PuppetHeirs$Told" "java/lang/Object") ∈ lw_all := lw_g (lw_at lw_m3 0 rfl) rfl
theorem q1364 : (Jvm.Cond.selects "PuppetHeirs$Told" ({ cls := "java/lang/Object", name := "getClass", desc := "()Ljava/lang/Class;" } : Jvm.MethodName) ({ cls := "java/lang/Object", name := "getClass", desc := "()Ljava/lang/Class;" } : Jvm.MethodName)) ∈ lw_all := lw_g (lw_at lw_m6 49 rfl) rfl
theorem q2647 : (Jvm.Cond.castable "PuppetHeirs$Told" "java/lang/Object") ∈ lw_tbl := lw_at lw_m11 132 rfl
theorem in_X2 : ∀ w ∈ wsX20, w ∈ lw_all := lw_in wsX20 [565, 567, 569, 571, 573, 575, 577, 579, 581, 583, 585, 587, 589, 591, 593] (by decide +kernel) (by decide +kernel)

/-! PuppetHeirs$Term -/
set_option maxRecDepth 100000
def RX3 : String := "PuppetHeirs$Term"
abbrev cX3_init : ByteArray := prog_15_method_1_code
def yX3_init : MethodName := ⟨RX3, "<init>", "()V"⟩
theorem dX3_init_0 : decode cX3_init 0 = .ok (.aload_n 0, 1) := by decide +kernel
theorem dX3_init_1 : decode cX3_init 1 = .ok (.invokespecial 1, 3) := by decide +kernel
theorem dX3_init_4 : decode cX3_init 4 = .ok (.return_, 1) := by decide +kernel
theorem q137 : (Jvm.Cond.initialized "PuppetHeirs$Term") ∈ lw_all := lw_g (lw_at lw_m1 22 rfl) rfl
theorem q611 : (Jvm.Cond.instanceMethod ({ cls := "PuppetHeirs$Term", name := "<init>", desc := "()V" } : Jvm.MethodName)) ∈ lw_all := lw_g (lw_at lw_m3 16 rfl) rfl
theorem q612 : (Jvm.Cond.code ({ cls := "PuppetHeirs$Term", name := "<init>", desc := "()V" } : Jvm.MethodName) prog_15_method_1_code (1 : Nat) (Option.none : Option Jvm.ClassFile.FieldType)) ∈ lw_all := lw_g (lw_at lw_m3 17 rfl) rfl
theorem q613 : (Jvm.Cond.methodLink "PuppetHeirs$Term" (1 : Nat) ({ cls := "java/lang/Object", name := "<init>", desc := "()V" } : Jvm.MethodName)) ∈ lw_all := lw_g (lw_at lw_m3 18 rfl) rfl
theorem q927 : (Jvm.Cond.declares ({ cls := "PuppetHeirs$Term", name := "of", desc := "([I)I" } : Jvm.MethodName)) ∈ lw_tbl := lw_at lw_m4 92 rfl
theorem q928 : (Jvm.Cond.sameMethod "PuppetHeirs$Term" "PuppetHeirs$Term" "of" "([I)I") ∈ lw_all := lw_g (lw_at lw_m4 93 rfl) rfl

/-! PuppetHeirs$Two -/
set_option maxRecDepth 100000
def RX4 : String := "PuppetHeirs$Two"
abbrev cX4_init : ByteArray := prog_19_method_1_code
def yX4_init : MethodName := ⟨RX4, "<init>", "(LPuppetHeirs$Term;LPuppetHeirs$Term;)V"⟩
def dkwX4_init_0 : List UInt8 := [42, 183, 0, 1, 42, 43, 181, 0, 7, 42, 44, 181, 0, 13, 177]
abbrev dktX4_init_0 : List UInt8 := dkwX4_init_0 ++ []
theorem dksX4_init_0 : cX4_init.data.toList.drop 0 = dktX4_init_0 := by decide +kernel
theorem dX4_init_0 : decode cX4_init 0 = .ok (.aload_n 0, 1) := dk_42 (dk_at dksX4_init_0 0 rfl rfl)
theorem dX4_init_1 : decode cX4_init 1 = .ok (.invokespecial 1, 3) := dk_183 0 1 (dk_at dksX4_init_0 1 rfl rfl)
theorem dX4_init_4 : decode cX4_init 4 = .ok (.aload_n 0, 1) := dk_42 (dk_at dksX4_init_0 4 rfl rfl)
theorem dX4_init_5 : decode cX4_init 5 = .ok (.aload_n 1, 1) := dk_43 (dk_at dksX4_init_0 5 rfl rfl)
theorem dX4_init_6 : decode cX4_init 6 = .ok (.putfield 7, 3) := dk_181 0 7 (dk_at dksX4_init_0 6 rfl rfl)
theorem dX4_init_9 : decode cX4_init 9 = .ok (.aload_n 0, 1) := dk_42 (dk_at dksX4_init_0 9 rfl rfl)
theorem dX4_init_10 : decode cX4_init 10 = .ok (.aload_n 2, 1) := dk_44 (dk_at dksX4_init_0 10 rfl rfl)
theorem dX4_init_11 : decode cX4_init 11 = .ok (.putfield 13, 3) := dk_181 0 13 (dk_at dksX4_init_0 11 rfl rfl)
theorem dX4_init_14 : decode cX4_init 14 = .ok (.return_, 1) := dk_177 (dk_at dksX4_init_0 14 rfl rfl)
abbrev cX4_of : ByteArray := prog_19_method_3_code
def yX4_of : MethodName := ⟨RX4, "of", "([I)I"⟩
def dkwX4_of_0 : List UInt8 := [42, 42, 180, 0, 7, 43, 182, 0, 16, 42, 180, 0, 13, 43, 182, 0, 16, 182, 0, 20, 172]
abbrev dktX4_of_0 : List UInt8 := dkwX4_of_0 ++ []
theorem dksX4_of_0 : cX4_of.data.toList.drop 0 = dktX4_of_0 := by decide +kernel
theorem dX4_of_0 : decode cX4_of 0 = .ok (.aload_n 0, 1) := dk_42 (dk_at dksX4_of_0 0 rfl rfl)
theorem dX4_of_1 : decode cX4_of 1 = .ok (.aload_n 0, 1) := dk_42 (dk_at dksX4_of_0 1 rfl rfl)
theorem dX4_of_2 : decode cX4_of 2 = .ok (.getfield 7, 3) := dk_180 0 7 (dk_at dksX4_of_0 2 rfl rfl)
theorem dX4_of_5 : decode cX4_of 5 = .ok (.aload_n 1, 1) := dk_43 (dk_at dksX4_of_0 5 rfl rfl)
theorem dX4_of_6 : decode cX4_of 6 = .ok (.invokevirtual 16, 3) := dk_182 0 16 (dk_at dksX4_of_0 6 rfl rfl)
theorem dX4_of_9 : decode cX4_of 9 = .ok (.aload_n 0, 1) := dk_42 (dk_at dksX4_of_0 9 rfl rfl)
theorem dX4_of_10 : decode cX4_of 10 = .ok (.getfield 13, 3) := dk_180 0 13 (dk_at dksX4_of_0 10 rfl rfl)
theorem dX4_of_13 : decode cX4_of 13 = .ok (.aload_n 1, 1) := dk_43 (dk_at dksX4_of_0 13 rfl rfl)
theorem dX4_of_14 : decode cX4_of 14 = .ok (.invokevirtual 16, 3) := dk_182 0 16 (dk_at dksX4_of_0 14 rfl rfl)
theorem dX4_of_17 : decode cX4_of 17 = .ok (.invokevirtual 20, 3) := dk_182 0 20 (dk_at dksX4_of_0 17 rfl rfl)
theorem dX4_of_20 : decode cX4_of 20 = .ok (.ireturn, 1) := dk_172 (dk_at dksX4_of_0 20 rfl rfl)
theorem q138 : (Jvm.Cond.initialized "PuppetHeirs$Two") ∈ lw_all := lw_g (lw_at lw_m1 23 rfl) rfl
theorem q632 : (Jvm.Cond.instanceMethod ({ cls := "PuppetHeirs$Two", name := "<init>", desc := "(LPuppetHeirs$Term;LPuppetHeirs$Term;)V" } : Jvm.MethodName)) ∈ lw_all := lw_g (lw_at lw_m3 37 rfl) rfl
theorem q633 : (Jvm.Cond.code ({ cls := "PuppetHeirs$Two", name := "<init>", desc := "(LPuppetHeirs$Term;LPuppetHeirs$Term;)V" } : Jvm.MethodName) prog_19_method_1_code (3 : Nat) (Option.none : Option Jvm.ClassFile.FieldType)) ∈ lw_all := lw_g (lw_at lw_m3 38 rfl) rfl
theorem q634 : (Jvm.Cond.methodLinkNest "PuppetHeirs$Two" (1 : Nat) ({ cls := "PuppetHeirs$Term", name := "<init>", desc := "()V" } : Jvm.MethodName) "PuppetHeirs") ∈ lw_tbl := lw_at lw_m3 39 rfl
theorem q635 : (Jvm.Cond.fieldLink "PuppetHeirs$Two" (7 : Nat) "PuppetHeirs$Two" "a" "LPuppetHeirs$Term;") ∈ lw_all := lw_g (lw_at lw_m3 40 rfl) rfl
theorem q636 : (Jvm.Cond.fieldLink "PuppetHeirs$Two" (13 : Nat) "PuppetHeirs$Two" "b" "LPuppetHeirs$Term;") ∈ lw_all := lw_g (lw_at lw_m3 41 rfl) rfl
theorem q638 : (Jvm.Cond.soleField "PuppetHeirs$Two" "a") ∈ lw_all := lw_g (lw_at lw_m3 43 rfl) rfl
theorem q640 : (Jvm.Cond.soleField "PuppetHeirs$Two" "b") ∈ lw_all := lw_g (lw_at lw_m3 45 rfl) rfl
theorem q930 : (Jvm.Cond.instanceMethod ({ cls := "PuppetHeirs$Two", name := "of", desc := "([I)I" } : Jvm.MethodName)) ∈ lw_all := lw_g (lw_at lw_m4 95 rfl) rfl
theorem q931 : (Jvm.Cond.code ({ cls := "PuppetHeirs$Two", name := "of", desc := "([I)I" } : Jvm.MethodName) prog_19_method_3_code (2 : Nat) (Option.some Jvm.ClassFile.FieldType.int)) ∈ lw_all := lw_g (lw_at lw_m4 96 rfl) rfl
theorem q932 : (Jvm.Cond.methodLink "PuppetHeirs$Two" (16 : Nat) ({ cls := "PuppetHeirs$Term", name := "of", desc := "([I)I" } : Jvm.MethodName)) ∈ lw_all := lw_g (lw_at lw_m4 97 rfl) rfl
theorem q937 : (Jvm.Cond.methodLink "PuppetHeirs$Two" (20 : Nat) ({ cls := "PuppetHeirs$Two", name := "with", desc := "(II)I" } : Jvm.MethodName)) ∈ lw_all := lw_g (lw_at lw_m4 102 rfl) rfl
theorem q938 : (Jvm.Cond.declares ({ cls := "PuppetHeirs$Two", name := "with", desc := "(II)I" } : Jvm.MethodName)) ∈ lw_tbl := lw_at lw_m4 103 rfl
theorem q939 : (Jvm.Cond.sameMethod "PuppetHeirs$Two" "PuppetHeirs$Two" "with" "(II)I") ∈ lw_all := lw_g (lw_at lw_m4 104 rfl) rfl

/-! PuppetHeirs$Plus -/
set_option maxRecDepth 100000
def RX5 : String := "PuppetHeirs$Plus"
def TX5 : u_T := fun k => match k with
  | 0 => ("PuppetHeirs$Two", "a", "LPuppetHeirs$Term;", true)
  | _ => ("PuppetHeirs$Two", "b", "LPuppetHeirs$Term;", true)
def tyX5 : Nat → FieldType := fun k => match k with
  | 0 => .object "PuppetHeirs$Term"
  | _ => .object "PuppetHeirs$Term"
abbrev wsX50 : List Cond := u_ws RX5 TX5 2
theorem nmX5 : ∀ a, a < 2 → ∀ b, b < 2 → a ≠ b → (TX5 a).2.1 ≠ (TX5 b).2.1 := by decide +kernel
theorem tyX5_ok : ∀ k, k < 2 → parseFieldDescriptor (TX5 k).2.2.1 = some (tyX5 k) := by decide +kernel
abbrev cX5_init : ByteArray := prog_13_method_1_code
def yX5_init : MethodName := ⟨RX5, "<init>", "(LPuppetHeirs$Term;LPuppetHeirs$Term;)V"⟩
def dkwX5_init_0 : List UInt8 := [42, 43, 44, 183, 0, 1, 177]
abbrev dktX5_init_0 : List UInt8 := dkwX5_init_0 ++ []
theorem dksX5_init_0 : cX5_init.data.toList.drop 0 = dktX5_init_0 := by decide +kernel
theorem dX5_init_0 : decode cX5_init 0 = .ok (.aload_n 0, 1) := dk_42 (dk_at dksX5_init_0 0 rfl rfl)
theorem dX5_init_1 : decode cX5_init 1 = .ok (.aload_n 1, 1) := dk_43 (dk_at dksX5_init_0 1 rfl rfl)
theorem dX5_init_2 : decode cX5_init 2 = .ok (.aload_n 2, 1) := dk_44 (dk_at dksX5_init_0 2 rfl rfl)
theorem dX5_init_3 : decode cX5_init 3 = .ok (.invokespecial 1, 3) := dk_183 0 1 (dk_at dksX5_init_0 3 rfl rfl)
theorem dX5_init_6 : decode cX5_init 6 = .ok (.return_, 1) := dk_177 (dk_at dksX5_init_0 6 rfl rfl)
abbrev cX5_with : ByteArray := prog_13_method_2_code
def yX5_with : MethodName := ⟨RX5, "with", "(II)I"⟩
def dkwX5_with_0 : List UInt8 := [27, 28, 96, 172]
abbrev dktX5_with_0 : List UInt8 := dkwX5_with_0 ++ []
theorem dksX5_with_0 : cX5_with.data.toList.drop 0 = dktX5_with_0 := by decide +kernel
theorem dX5_with_0 : decode cX5_with 0 = .ok (.iload_n 1, 1) := dk_27 (dk_at dksX5_with_0 0 rfl rfl)
theorem dX5_with_1 : decode cX5_with 1 = .ok (.iload_n 2, 1) := dk_28 (dk_at dksX5_with_0 1 rfl rfl)
theorem dX5_with_2 : decode cX5_with 2 = .ok (.iadd, 1) := dk_96 (dk_at dksX5_with_0 2 rfl rfl)
theorem dX5_with_3 : decode cX5_with 3 = .ok (.ireturn, 1) := dk_172 (dk_at dksX5_with_0 3 rfl rfl)
theorem q139 : (Jvm.Cond.initialized "PuppetHeirs$Plus") ∈ lw_all := lw_g (lw_at lw_m1 24 rfl) rfl
theorem q600 : (Jvm.Cond.instantiable "PuppetHeirs$Plus" (2 : Nat)) ∈ lw_all := lw_g (lw_at lw_m3 5 rfl) rfl
theorem q650 : (Jvm.Cond.instanceMethod ({ cls := "PuppetHeirs$Plus", name := "<init>", desc := "(LPuppetHeirs$Term;LPuppetHeirs$Term;)V" } : Jvm.MethodName)) ∈ lw_all := lw_g (lw_at lw_m3 55 rfl) rfl
theorem q651 : (Jvm.Cond.code ({ cls := "PuppetHeirs$Plus", name := "<init>", desc := "(LPuppetHeirs$Term;LPuppetHeirs$Term;)V" } : Jvm.MethodName) prog_13_method_1_code (3 : Nat) (Option.none : Option Jvm.ClassFile.FieldType)) ∈ lw_all := lw_g (lw_at lw_m3 56 rfl) rfl
theorem q652 : (Jvm.Cond.methodLink "PuppetHeirs$Plus" (1 : Nat) ({ cls := "PuppetHeirs$Two", name := "<init>", desc := "(LPuppetHeirs$Term;LPuppetHeirs$Term;)V" } : Jvm.MethodName)) ∈ lw_all := lw_g (lw_at lw_m3 57 rfl) rfl
theorem q653 : (Jvm.Cond.laysFinal "PuppetHeirs$Plus" "PuppetHeirs$Two" "a" "LPuppetHeirs$Term;") ∈ lw_all := lw_g (lw_at lw_m3 58 rfl) rfl
theorem q654 : (Jvm.Cond.laysFinal "PuppetHeirs$Plus" "PuppetHeirs$Two" "b" "LPuppetHeirs$Term;") ∈ lw_all := lw_g (lw_at lw_m3 59 rfl) rfl
theorem q655 : (Jvm.Cond.superclass "PuppetHeirs$Plus" "PuppetHeirs$Two") ∈ lw_all := lw_g (lw_at lw_m3 60 rfl) rfl
theorem q957 : (Jvm.Cond.selects "PuppetHeirs$Plus" ({ cls := "PuppetHeirs$Two", name := "with", desc := "(II)I" } : Jvm.MethodName) ({ cls := "PuppetHeirs$Plus", name := "with", desc := "(II)I" } : Jvm.MethodName)) ∈ lw_all := lw_g (lw_at lw_m4 122 rfl) rfl
theorem q958 : (Jvm.Cond.instanceMethod ({ cls := "PuppetHeirs$Plus", name := "with", desc := "(II)I" } : Jvm.MethodName)) ∈ lw_all := lw_g (lw_at lw_m4 123 rfl) rfl
theorem q959 : (Jvm.Cond.code ({ cls := "PuppetHeirs$Plus", name := "with", desc := "(II)I" } : Jvm.MethodName) prog_13_method_2_code (3 : Nat) (Option.some Jvm.ClassFile.FieldType.int)) ∈ lw_all := lw_g (lw_at lw_m4 124 rfl) rfl
theorem q969 : (Jvm.Cond.selects "PuppetHeirs$Plus" ({ cls := "PuppetHeirs$Term", name := "of", desc := "([I)I" } : Jvm.MethodName) ({ cls := "PuppetHeirs$Two", name := "of", desc := "([I)I" } : Jvm.MethodName)) ∈ lw_all := lw_g (lw_at lw_m4 134 rfl) rfl
theorem q1362 : (Jvm.Cond.selects "PuppetHeirs$Plus" ({ cls := "java/lang/Object", name := "getClass", desc := "()Ljava/lang/Class;" } : Jvm.MethodName) ({ cls := "java/lang/Object", name := "getClass", desc := "()Ljava/lang/Class;" } : Jvm.MethodName)) ∈ lw_all := lw_g (lw_at lw_m6 47 rfl) rfl
theorem q2652 : (Jvm.Cond.castable "PuppetHeirs$Plus" "java/lang/Object") ∈ lw_tbl := lw_at lw_m11 137 rfl
theorem in_X5 : ∀ w ∈ wsX50, w ∈ lw_all := lw_in wsX50 [653, 654] (by decide +kernel) (by decide +kernel)

/-! PuppetHeirs$Minus -/
set_option maxRecDepth 100000
def RX6 : String := "PuppetHeirs$Minus"
def TX6 : u_T := fun k => match k with
  | 0 => ("PuppetHeirs$Two", "a", "LPuppetHeirs$Term;", true)
  | _ => ("PuppetHeirs$Two", "b", "LPuppetHeirs$Term;", true)
def tyX6 : Nat → FieldType := fun k => match k with
  | 0 => .object "PuppetHeirs$Term"
  | _ => .object "PuppetHeirs$Term"
abbrev wsX60 : List Cond := u_ws RX6 TX6 2
theorem nmX6 : ∀ a, a < 2 → ∀ b, b < 2 → a ≠ b → (TX6 a).2.1 ≠ (TX6 b).2.1 := by decide +kernel
theorem tyX6_ok : ∀ k, k < 2 → parseFieldDescriptor (TX6 k).2.2.1 = some (tyX6 k) := by decide +kernel
abbrev cX6_init : ByteArray := prog_10_method_1_code
def yX6_init : MethodName := ⟨RX6, "<init>", "(LPuppetHeirs$Term;LPuppetHeirs$Term;)V"⟩
def dkwX6_init_0 : List UInt8 := [42, 43, 44, 183, 0, 1, 177]
abbrev dktX6_init_0 : List UInt8 := dkwX6_init_0 ++ []
theorem dksX6_init_0 : cX6_init.data.toList.drop 0 = dktX6_init_0 := by decide +kernel
theorem dX6_init_0 : decode cX6_init 0 = .ok (.aload_n 0, 1) := dk_42 (dk_at dksX6_init_0 0 rfl rfl)
theorem dX6_init_1 : decode cX6_init 1 = .ok (.aload_n 1, 1) := dk_43 (dk_at dksX6_init_0 1 rfl rfl)
theorem dX6_init_2 : decode cX6_init 2 = .ok (.aload_n 2, 1) := dk_44 (dk_at dksX6_init_0 2 rfl rfl)
theorem dX6_init_3 : decode cX6_init 3 = .ok (.invokespecial 1, 3) := dk_183 0 1 (dk_at dksX6_init_0 3 rfl rfl)
theorem dX6_init_6 : decode cX6_init 6 = .ok (.return_, 1) := dk_177 (dk_at dksX6_init_0 6 rfl rfl)
abbrev cX6_with : ByteArray := prog_10_method_2_code
def yX6_with : MethodName := ⟨RX6, "with", "(II)I"⟩
def dkwX6_with_0 : List UInt8 := [27, 28, 100, 172]
abbrev dktX6_with_0 : List UInt8 := dkwX6_with_0 ++ []
theorem dksX6_with_0 : cX6_with.data.toList.drop 0 = dktX6_with_0 := by decide +kernel
theorem dX6_with_0 : decode cX6_with 0 = .ok (.iload_n 1, 1) := dk_27 (dk_at dksX6_with_0 0 rfl rfl)
theorem dX6_with_1 : decode cX6_with 1 = .ok (.iload_n 2, 1) := dk_28 (dk_at dksX6_with_0 1 rfl rfl)
theorem dX6_with_2 : decode cX6_with 2 = .ok (.isub, 1) := dk_100 (dk_at dksX6_with_0 2 rfl rfl)
theorem dX6_with_3 : decode cX6_with 3 = .ok (.ireturn, 1) := dk_172 (dk_at dksX6_with_0 3 rfl rfl)
theorem q140 : (Jvm.Cond.initialized "PuppetHeirs$Minus") ∈ lw_all := lw_g (lw_at lw_m1 25 rfl) rfl
theorem q602 : (Jvm.Cond.instantiable "PuppetHeirs$Minus" (2 : Nat)) ∈ lw_all := lw_g (lw_at lw_m3 7 rfl) rfl
theorem q643 : (Jvm.Cond.instanceMethod ({ cls := "PuppetHeirs$Minus", name := "<init>", desc := "(LPuppetHeirs$Term;LPuppetHeirs$Term;)V" } : Jvm.MethodName)) ∈ lw_all := lw_g (lw_at lw_m3 48 rfl) rfl
theorem q644 : (Jvm.Cond.code ({ cls := "PuppetHeirs$Minus", name := "<init>", desc := "(LPuppetHeirs$Term;LPuppetHeirs$Term;)V" } : Jvm.MethodName) prog_10_method_1_code (3 : Nat) (Option.none : Option Jvm.ClassFile.FieldType)) ∈ lw_all := lw_g (lw_at lw_m3 49 rfl) rfl
theorem q645 : (Jvm.Cond.methodLink "PuppetHeirs$Minus" (1 : Nat) ({ cls := "PuppetHeirs$Two", name := "<init>", desc := "(LPuppetHeirs$Term;LPuppetHeirs$Term;)V" } : Jvm.MethodName)) ∈ lw_all := lw_g (lw_at lw_m3 50 rfl) rfl
theorem q646 : (Jvm.Cond.laysFinal "PuppetHeirs$Minus" "PuppetHeirs$Two" "a" "LPuppetHeirs$Term;") ∈ lw_all := lw_g (lw_at lw_m3 51 rfl) rfl
theorem q647 : (Jvm.Cond.laysFinal "PuppetHeirs$Minus" "PuppetHeirs$Two" "b" "LPuppetHeirs$Term;") ∈ lw_all := lw_g (lw_at lw_m3 52 rfl) rfl
theorem q648 : (Jvm.Cond.superclass "PuppetHeirs$Minus" "PuppetHeirs$Two") ∈ lw_all := lw_g (lw_at lw_m3 53 rfl) rfl
theorem q950 : (Jvm.Cond.selects "PuppetHeirs$Minus" ({ cls := "PuppetHeirs$Two", name := "with", desc := "(II)I" } : Jvm.MethodName) ({ cls := "PuppetHeirs$Minus", name := "with", desc := "(II)I" } : Jvm.MethodName)) ∈ lw_all := lw_g (lw_at lw_m4 115 rfl) rfl
theorem q951 : (Jvm.Cond.instanceMethod ({ cls := "PuppetHeirs$Minus", name := "with", desc := "(II)I" } : Jvm.MethodName)) ∈ lw_all := lw_g (lw_at lw_m4 116 rfl) rfl
theorem q952 : (Jvm.Cond.code ({ cls := "PuppetHeirs$Minus", name := "with", desc := "(II)I" } : Jvm.MethodName) prog_10_method_2_code (3 : Nat) (Option.some Jvm.ClassFile.FieldType.int)) ∈ lw_all := lw_g (lw_at lw_m4 117 rfl) rfl
theorem q966 : (Jvm.Cond.selects "PuppetHeirs$Minus" ({ cls := "PuppetHeirs$Term", name := "of", desc := "([I)I" } : Jvm.MethodName) ({ cls := "PuppetHeirs$Two", name := "of", desc := "([I)I" } : Jvm.MethodName)) ∈ lw_all := lw_g (lw_at lw_m4 131 rfl) rfl
theorem q1359 : (Jvm.Cond.selects "PuppetHeirs$Minus" ({ cls := "java/lang/Object", name := "getClass", desc := "()Ljava/lang/Class;" } : Jvm.MethodName) ({ cls := "java/lang/Object", name := "getClass", desc := "()Ljava/lang/Class;" } : Jvm.MethodName)) ∈ lw_all := lw_g (lw_at lw_m6 44 rfl) rfl
theorem q2653 : (Jvm.Cond.castable "PuppetHeirs$Minus" "java/lang/Object") ∈ lw_tbl := lw_at lw_m11 138 rfl
theorem in_X6 : ∀ w ∈ wsX60, w ∈ lw_all := lw_in wsX60 [646, 647] (by decide +kernel) (by decide +kernel)

/-! PuppetHeirs$Times -/
set_option maxRecDepth 100000
def RX7 : String := "PuppetHeirs$Times"
def TX7 : u_T := fun k => match k with
  | 0 => ("PuppetHeirs$Two", "a", "LPuppetHeirs$Term;", true)
  | _ => ("PuppetHeirs$Two", "b", "LPuppetHeirs$Term;", true)
def tyX7 : Nat → FieldType := fun k => match k with
  | 0 => .object "PuppetHeirs$Term"
  | _ => .object "PuppetHeirs$Term"
abbrev wsX70 : List Cond := u_ws RX7 TX7 2
theorem nmX7 : ∀ a, a < 2 → ∀ b, b < 2 → a ≠ b → (TX7 a).2.1 ≠ (TX7 b).2.1 := by decide +kernel
theorem tyX7_ok : ∀ k, k < 2 → parseFieldDescriptor (TX7 k).2.2.1 = some (tyX7 k) := by decide +kernel
abbrev cX7_init : ByteArray := prog_16_method_1_code
def yX7_init : MethodName := ⟨RX7, "<init>", "(LPuppetHeirs$Term;LPuppetHeirs$Term;)V"⟩
def dkwX7_init_0 : List UInt8 := [42, 43, 44, 183, 0, 1, 177]
abbrev dktX7_init_0 : List UInt8 := dkwX7_init_0 ++ []
theorem dksX7_init_0 : cX7_init.data.toList.drop 0 = dktX7_init_0 := by decide +kernel
theorem dX7_init_0 : decode cX7_init 0 = .ok (.aload_n 0, 1) := dk_42 (dk_at dksX7_init_0 0 rfl rfl)
theorem dX7_init_1 : decode cX7_init 1 = .ok (.aload_n 1, 1) := dk_43 (dk_at dksX7_init_0 1 rfl rfl)
theorem dX7_init_2 : decode cX7_init 2 = .ok (.aload_n 2, 1) := dk_44 (dk_at dksX7_init_0 2 rfl rfl)
theorem dX7_init_3 : decode cX7_init 3 = .ok (.invokespecial 1, 3) := dk_183 0 1 (dk_at dksX7_init_0 3 rfl rfl)
theorem dX7_init_6 : decode cX7_init 6 = .ok (.return_, 1) := dk_177 (dk_at dksX7_init_0 6 rfl rfl)
abbrev cX7_with : ByteArray := prog_16_method_2_code
def yX7_with : MethodName := ⟨RX7, "with", "(II)I"⟩
def dkwX7_with_0 : List UInt8 := [27, 28, 104, 172]
abbrev dktX7_with_0 : List UInt8 := dkwX7_with_0 ++ []
theorem dksX7_with_0 : cX7_with.data.toList.drop 0 = dktX7_with_0 := by decide +kernel
theorem dX7_with_0 : decode cX7_with 0 = .ok (.iload_n 1, 1) := dk_27 (dk_at dksX7_with_0 0 rfl rfl)
theorem dX7_with_1 : decode cX7_with 1 = .ok (.iload_n 2, 1) := dk_28 (dk_at dksX7_with_0 1 rfl rfl)
theorem dX7_with_2 : decode cX7_with 2 = .ok (.imul, 1) := dk_104 (dk_at dksX7_with_0 2 rfl rfl)
theorem dX7_with_3 : decode cX7_with 3 = .ok (.ireturn, 1) := dk_172 (dk_at dksX7_with_0 3 rfl rfl)
theorem q141 : (Jvm.Cond.initialized "PuppetHeirs$Times") ∈ lw_all := lw_g (lw_at lw_m1 26 rfl) rfl
theorem q604 : (Jvm.Cond.instantiable "PuppetHeirs$Times" (2 : Nat)) ∈ lw_all := lw_g (lw_at lw_m3 9 rfl) rfl
theorem q629 : (Jvm.Cond.instanceMethod ({ cls := "PuppetHeirs$Times", name := "<init>", desc := "(LPuppetHeirs$Term;LPuppetHeirs$Term;)V" } : Jvm.MethodName)) ∈ lw_all := lw_g (lw_at lw_m3 34 rfl) rfl
theorem q630 : (Jvm.Cond.code ({ cls := "PuppetHeirs$Times", name := "<init>", desc := "(LPuppetHeirs$Term;LPuppetHeirs$Term;)V" } : Jvm.MethodName) prog_16_method_1_code (3 : Nat) (Option.none : Option Jvm.ClassFile.FieldType)) ∈ lw_all := lw_g (lw_at lw_m3 35 rfl) rfl
theorem q631 : (Jvm.Cond.methodLink "PuppetHeirs$Times" (1 : Nat) ({ cls := "PuppetHeirs$Two", name := "<init>", desc := "(LPuppetHeirs$Term;LPuppetHeirs$Term;)V" } : Jvm.MethodName)) ∈ lw_all := lw_g (lw_at lw_m3 36 rfl) rfl
theorem q637 : (Jvm.Cond.laysFinal "PuppetHeirs$Times" "PuppetHeirs$Two" "a" "LPuppetHeirs$Term;") ∈ lw_all := lw_g (lw_at lw_m3 42 rfl) rfl
theorem q639 : (Jvm.Cond.laysFinal "PuppetHeirs$Times" "PuppetHeirs$Two" "b" "LPuppetHeirs$Term;") ∈ lw_all := lw_g (lw_at lw_m3 44 rfl) rfl
theorem q641 : (Jvm.Cond.superclass "PuppetHeirs$Times" "PuppetHeirs$Two") ∈ lw_all := lw_g (lw_at lw_m3 46 rfl) rfl
theorem q960 : (Jvm.Cond.selects "PuppetHeirs$Times" ({ cls := "PuppetHeirs$Two", name := "with", desc := "(II)I" } : Jvm.MethodName) ({ cls := "PuppetHeirs$Times", name := "with", desc := "(II)I" } : Jvm.MethodName)) ∈ lw_all := lw_g (lw_at lw_m4 125 rfl) rfl
theorem q961 : (Jvm.Cond.instanceMethod ({ cls := "PuppetHeirs$Times", name := "with", desc := "(II)I" } : Jvm.MethodName)) ∈ lw_all := lw_g (lw_at lw_m4 126 rfl) rfl
theorem q962 : (Jvm.Cond.code ({ cls := "PuppetHeirs$Times", name := "with", desc := "(II)I" } : Jvm.MethodName) prog_16_method_2_code (3 : Nat) (Option.some Jvm.ClassFile.FieldType.int)) ∈ lw_all := lw_g (lw_at lw_m4 127 rfl) rfl
theorem q970 : (Jvm.Cond.selects "PuppetHeirs$Times" ({ cls := "PuppetHeirs$Term", name := "of", desc := "([I)I" } : Jvm.MethodName) ({ cls := "PuppetHeirs$Two", name := "of", desc := "([I)I" } : Jvm.MethodName)) ∈ lw_all := lw_g (lw_at lw_m4 135 rfl) rfl
theorem q1363 : (Jvm.Cond.selects "PuppetHeirs$Times" ({ cls := "java/lang/Object", name := "getClass", desc := "()Ljava/lang/Class;" } : Jvm.MethodName) ({ cls := "java/lang/Object", name := "getClass", desc := "()Ljava/lang/Class;" } : Jvm.MethodName)) ∈ lw_all := lw_g (lw_at lw_m6 48 rfl) rfl
theorem q2654 : (Jvm.Cond.castable "PuppetHeirs$Times" "java/lang/Object") ∈ lw_tbl := lw_at lw_m11 139 rfl
theorem in_X7 : ∀ w ∈ wsX70, w ∈ lw_all := lw_in wsX70 [637, 639] (by decide +kernel) (by decide +kernel)

/-! PuppetHeirs$Fact -/
set_option maxRecDepth 100000
def RX8 : String := "PuppetHeirs$Fact"
def TX8 : u_T := fun k => match k with
  | _ => ("PuppetHeirs$Fact", "which", "I", true)
def tyX8 : Nat → FieldType := fun k => match k with
  | _ => .int
abbrev wsX80 : List Cond := u_ws RX8 TX8 1
theorem nmX8 : ∀ a, a < 1 → ∀ b, b < 1 → a ≠ b → (TX8 a).2.1 ≠ (TX8 b).2.1 := by decide +kernel
theorem tyX8_ok : ∀ k, k < 1 → parseFieldDescriptor (TX8 k).2.2.1 = some (tyX8 k) := by decide +kernel
abbrev cX8_init : ByteArray := prog_5_method_1_code
def yX8_init : MethodName := ⟨RX8, "<init>", "(I)V"⟩
def dkwX8_init_0 : List UInt8 := [42, 183, 0, 1, 42, 27, 181, 0, 7, 177]
abbrev dktX8_init_0 : List UInt8 := dkwX8_init_0 ++ []
theorem dksX8_init_0 : cX8_init.data.toList.drop 0 = dktX8_init_0 := by decide +kernel
theorem dX8_init_0 : decode cX8_init 0 = .ok (.aload_n 0, 1) := dk_42 (dk_at dksX8_init_0 0 rfl rfl)
theorem dX8_init_1 : decode cX8_init 1 = .ok (.invokespecial 1, 3) := dk_183 0 1 (dk_at dksX8_init_0 1 rfl rfl)
theorem dX8_init_4 : decode cX8_init 4 = .ok (.aload_n 0, 1) := dk_42 (dk_at dksX8_init_0 4 rfl rfl)
theorem dX8_init_5 : decode cX8_init 5 = .ok (.iload_n 1, 1) := dk_27 (dk_at dksX8_init_0 5 rfl rfl)
theorem dX8_init_6 : decode cX8_init 6 = .ok (.putfield 7, 3) := dk_181 0 7 (dk_at dksX8_init_0 6 rfl rfl)
theorem dX8_init_9 : decode cX8_init 9 = .ok (.return_, 1) := dk_177 (dk_at dksX8_init_0 9 rfl rfl)
abbrev cX8_of : ByteArray := prog_5_method_2_code
def yX8_of : MethodName := ⟨RX8, "of", "([I)I"⟩
def dkwX8_of_0 : List UInt8 := [43, 42, 180, 0, 7, 46, 172]
abbrev dktX8_of_0 : List UInt8 := dkwX8_of_0 ++ []
theorem dksX8_of_0 : cX8_of.data.toList.drop 0 = dktX8_of_0 := by decide +kernel
theorem dX8_of_0 : decode cX8_of 0 = .ok (.aload_n 1, 1) := dk_43 (dk_at dksX8_of_0 0 rfl rfl)
theorem dX8_of_1 : decode cX8_of 1 = .ok (.aload_n 0, 1) := dk_42 (dk_at dksX8_of_0 1 rfl rfl)
theorem dX8_of_2 : decode cX8_of 2 = .ok (.getfield 7, 3) := dk_180 0 7 (dk_at dksX8_of_0 2 rfl rfl)
theorem dX8_of_5 : decode cX8_of 5 = .ok (.iaload, 1) := dk_46 (dk_at dksX8_of_0 5 rfl rfl)
theorem dX8_of_6 : decode cX8_of 6 = .ok (.ireturn, 1) := dk_172 (dk_at dksX8_of_0 6 rfl rfl)
theorem q142 : (Jvm.Cond.initialized "PuppetHeirs$Fact") ∈ lw_all := lw_g (lw_at lw_m1 27 rfl) rfl
theorem q606 : (Jvm.Cond.instantiable "PuppetHeirs$Fact" (1 : Nat)) ∈ lw_all := lw_g (lw_at lw_m3 11 rfl) rfl
theorem q608 : (Jvm.Cond.instanceMethod ({ cls := "PuppetHeirs$Fact", name := "<init>", desc := "(I)V" } : Jvm.MethodName)) ∈ lw_all := lw_g (lw_at lw_m3 13 rfl) rfl
theorem q609 : (Jvm.Cond.code ({ cls := "PuppetHeirs$Fact", name := "<init>", desc := "(I)V" } : Jvm.MethodName) prog_5_method_1_code (2 : Nat) (Option.none : Option Jvm.ClassFile.FieldType)) ∈ lw_all := lw_g (lw_at lw_m3 14 rfl) rfl
theorem q610 : (Jvm.Cond.methodLinkNest "PuppetHeirs$Fact" (1 : Nat) ({ cls := "PuppetHeirs$Term", name := "<init>", desc := "()V" } : Jvm.MethodName) "PuppetHeirs") ∈ lw_tbl := lw_at lw_m3 15 rfl
theorem q614 : (Jvm.Cond.fieldLink "PuppetHeirs$Fact" (7 : Nat) "PuppetHeirs$Fact" "which" "I") ∈ lw_all := lw_g (lw_at lw_m3 19 rfl) rfl
theorem q615 : (Jvm.Cond.laysFinal "PuppetHeirs$Fact" "PuppetHeirs$Fact" "which" "I") ∈ lw_all := lw_g (lw_at lw_m3 20 rfl) rfl
theorem q616 : (Jvm.Cond.soleField "PuppetHeirs$Fact" "which") ∈ lw_all := lw_g (lw_at lw_m3 21 rfl) rfl
theorem q617 : (Jvm.Cond.superclass "PuppetHeirs$Fact" "PuppetHeirs$Term") ∈ lw_all := lw_g (lw_at lw_m3 22 rfl) rfl
theorem q933 : (Jvm.Cond.instanceMethod ({ cls := "PuppetHeirs$Fact", name := "of", desc := "([I)I" } : Jvm.MethodName)) ∈ lw_all := lw_g (lw_at lw_m4 98 rfl) rfl
theorem q934 : (Jvm.Cond.code ({ cls := "PuppetHeirs$Fact", name := "of", desc := "([I)I" } : Jvm.MethodName) prog_5_method_2_code (2 : Nat) (Option.some Jvm.ClassFile.FieldType.int)) ∈ lw_all := lw_g (lw_at lw_m4 99 rfl) rfl
theorem q963 : (Jvm.Cond.selects "PuppetHeirs$Fact" ({ cls := "PuppetHeirs$Term", name := "of", desc := "([I)I" } : Jvm.MethodName) ({ cls := "PuppetHeirs$Fact", name := "of", desc := "([I)I" } : Jvm.MethodName)) ∈ lw_all := lw_g (lw_at lw_m4 128 rfl) rfl
theorem q1354 : (Jvm.Cond.selects "PuppetHeirs$Fact" ({ cls := "java/lang/Object", name := "getClass", desc := "()Ljava/lang/Class;" } : Jvm.MethodName) ({ cls := "java/lang/Object", name := "getClass", desc := "()Ljava/lang/Class;" } : Jvm.MethodName)) ∈ lw_all := lw_g (lw_at lw_m6 39 rfl) rfl
theorem q2655 : (Jvm.Cond.castable "PuppetHeirs$Fact" "java/lang/Object") ∈ lw_tbl := lw_at lw_m11 140 rfl
theorem in_X8 : ∀ w ∈ wsX80, w ∈ lw_all := lw_in wsX80 [615] (by decide +kernel) (by decide +kernel)

/-! PuppetHeirs$Plain -/
set_option maxRecDepth 100000
def RX9 : String := "PuppetHeirs$Plain"
def TX9 : u_T := fun k => match k with
  | _ => ("PuppetHeirs$Plain", "n", "I", true)
def tyX9 : Nat → FieldType := fun k => match k with
  | _ => .int
abbrev wsX90 : List Cond := u_ws RX9 TX9 1
theorem nmX9 : ∀ a, a < 1 → ∀ b, b < 1 → a ≠ b → (TX9 a).2.1 ≠ (TX9 b).2.1 := by decide +kernel
theorem tyX9_ok : ∀ k, k < 1 → parseFieldDescriptor (TX9 k).2.2.1 = some (tyX9 k) := by decide +kernel
abbrev cX9_init : ByteArray := prog_12_method_1_code
def yX9_init : MethodName := ⟨RX9, "<init>", "(I)V"⟩
def dkwX9_init_0 : List UInt8 := [42, 183, 0, 1, 42, 27, 181, 0, 7, 177]
abbrev dktX9_init_0 : List UInt8 := dkwX9_init_0 ++ []
theorem dksX9_init_0 : cX9_init.data.toList.drop 0 = dktX9_init_0 := by decide +kernel
theorem dX9_init_0 : decode cX9_init 0 = .ok (.aload_n 0, 1) := dk_42 (dk_at dksX9_init_0 0 rfl rfl)
theorem dX9_init_1 : decode cX9_init 1 = .ok (.invokespecial 1, 3) := dk_183 0 1 (dk_at dksX9_init_0 1 rfl rfl)
theorem dX9_init_4 : decode cX9_init 4 = .ok (.aload_n 0, 1) := dk_42 (dk_at dksX9_init_0 4 rfl rfl)
theorem dX9_init_5 : decode cX9_init 5 = .ok (.iload_n 1, 1) := dk_27 (dk_at dksX9_init_0 5 rfl rfl)
theorem dX9_init_6 : decode cX9_init 6 = .ok (.putfield 7, 3) := dk_181 0 7 (dk_at dksX9_init_0 6 rfl rfl)
theorem dX9_init_9 : decode cX9_init 9 = .ok (.return_, 1) := dk_177 (dk_at dksX9_init_0 9 rfl rfl)
abbrev cX9_of : ByteArray := prog_12_method_2_code
def yX9_of : MethodName := ⟨RX9, "of", "([I)I"⟩
theorem dX9_of_0 : decode cX9_of 0 = .ok (.aload_n 0, 1) := by decide +kernel
theorem dX9_of_1 : decode cX9_of 1 = .ok (.getfield 7, 3) := by decide +kernel
theorem dX9_of_4 : decode cX9_of 4 = .ok (.ireturn, 1) := by decide +kernel
theorem q143 : (Jvm.Cond.initialized "PuppetHeirs$Plain") ∈ lw_all := lw_g (lw_at lw_m1 28 rfl) rfl
theorem q619 : (Jvm.Cond.instantiable "PuppetHeirs$Plain" (1 : Nat)) ∈ lw_all := lw_g (lw_at lw_m3 24 rfl) rfl
theorem q621 : (Jvm.Cond.instanceMethod ({ cls := "PuppetHeirs$Plain", name := "<init>", desc := "(I)V" } : Jvm.MethodName)) ∈ lw_all := lw_g (lw_at lw_m3 26 rfl) rfl
theorem q622 : (Jvm.Cond.code ({ cls := "PuppetHeirs$Plain", name := "<init>", desc := "(I)V" } : Jvm.MethodName) prog_12_method_1_code (2 : Nat) (Option.none : Option Jvm.ClassFile.FieldType)) ∈ lw_all := lw_g (lw_at lw_m3 27 rfl) rfl
theorem q623 : (Jvm.Cond.methodLinkNest "PuppetHeirs$Plain" (1 : Nat) ({ cls := "PuppetHeirs$Term", name := "<init>", desc := "()V" } : Jvm.MethodName) "PuppetHeirs") ∈ lw_tbl := lw_at lw_m3 28 rfl
theorem q624 : (Jvm.Cond.fieldLink "PuppetHeirs$Plain" (7 : Nat) "PuppetHeirs$Plain" "n" "I") ∈ lw_all := lw_g (lw_at lw_m3 29 rfl) rfl
theorem q625 : (Jvm.Cond.laysFinal "PuppetHeirs$Plain" "PuppetHeirs$Plain" "n" "I") ∈ lw_all := lw_g (lw_at lw_m3 30 rfl) rfl
theorem q626 : (Jvm.Cond.soleField "PuppetHeirs$Plain" "n") ∈ lw_all := lw_g (lw_at lw_m3 31 rfl) rfl
theorem q627 : (Jvm.Cond.superclass "PuppetHeirs$Plain" "PuppetHeirs$Term") ∈ lw_all := lw_g (lw_at lw_m3 32 rfl) rfl
theorem q935 : (Jvm.Cond.instanceMethod ({ cls := "PuppetHeirs$Plain", name := "of", desc := "([I)I" } : Jvm.MethodName)) ∈ lw_all := lw_g (lw_at lw_m4 100 rfl) rfl
theorem q936 : (Jvm.Cond.code ({ cls := "PuppetHeirs$Plain", name := "of", desc := "([I)I" } : Jvm.MethodName) prog_12_method_2_code (2 : Nat) (Option.some Jvm.ClassFile.FieldType.int)) ∈ lw_all := lw_g (lw_at lw_m4 101 rfl) rfl
theorem q968 : (Jvm.Cond.selects "PuppetHeirs$Plain" ({ cls := "PuppetHeirs$Term", name := "of", desc := "([I)I" } : Jvm.MethodName) ({ cls := "PuppetHeirs$Plain", name := "of", desc := "([I)I" } : Jvm.MethodName)) ∈ lw_all := lw_g (lw_at lw_m4 133 rfl) rfl
theorem q1361 : (Jvm.Cond.selects "PuppetHeirs$Plain" ({ cls := "java/lang/Object", name := "getClass", desc := "()Ljava/lang/Class;" } : Jvm.MethodName) ({ cls := "java/lang/Object", name := "getClass", desc := "()Ljava/lang/Class;" } : Jvm.MethodName)) ∈ lw_all := lw_g (lw_at lw_m6 46 rfl) rfl
theorem q2656 : (Jvm.Cond.castable "PuppetHeirs$Plain" "java/lang/Object") ∈ lw_tbl := lw_at lw_m11 141 rfl
theorem in_X9 : ∀ w ∈ wsX90, w ∈ lw_all := lw_in wsX90 [625] (by decide +kernel) (by decide +kernel)

/-! PuppetHeirs$Troupe -/
set_option maxRecDepth 100000
def RX10 : String := "PuppetHeirs$Troupe"
def TX10 : u_T := fun k => match k with
  | 0 => ("PuppetHeirs$Troupe", "is", "[I", true)
  | 1 => ("PuppetHeirs$Troupe", "works", "[I", true)
  | 2 => ("PuppetHeirs$Troupe", "latest", "[I", true)
  | 3 => ("PuppetHeirs$Troupe", "strings", "[I", true)
  | 4 => ("PuppetHeirs$Troupe", "since", "[I", true)
  | 5 => ("PuppetHeirs$Troupe", "chose", "[I", true)
  | 6 => ("PuppetHeirs$Troupe", "year", "I", false)
  | _ => ("PuppetHeirs$Troupe", "this$0", "LPuppetHeirs;", true)
def tyX10 : Nat → FieldType := fun k => match k with
  | 0 => .array .int
  | 1 => .array .int
  | 2 => .array .int
  | 3 => .array .int
  | 4 => .array .int
  | 5 => .array .int
  | 6 => .int
  | _ => .object "PuppetHeirs"
abbrev wsX100 : List Cond := u_ws RX10 TX10 8
theorem nmX10 : ∀ a, a < 8 → ∀ b, b < 8 → a ≠ b → (TX10 a).2.1 ≠ (TX10 b).2.1 := by decide +kernel
theorem tyX10_ok : ∀ k, k < 8 → parseFieldDescriptor (TX10 k).2.2.1 = some (tyX10 k) := by decide +kernel
abbrev cX10_init : ByteArray := prog_18_method_1_code
def yX10_init : MethodName := ⟨RX10, "<init>", "(LPuppetHeirs;)V"⟩
def dkwX10_init_2 : List UInt8 := [181, 0, 28, 42, 16, 9, 188, 10, 181, 0, 31, 177]
abbrev dktX10_init_2 : List UInt8 := dkwX10_init_2 ++ []
def dkwX10_init_1 : List UInt8 := [181, 0, 19, 42, 16, 8, 188, 10, 181, 0, 22, 42, 16, 8, 188, 10, 181, 0, 25, 42, 16, 72, 188, 10]
abbrev dktX10_init_1 : List UInt8 := dkwX10_init_1 ++ dktX10_init_2
def dkwX10_init_0 : List UInt8 := [42, 43, 181, 0, 3, 42, 183, 0, 9, 42, 16, 9, 188, 10, 181, 0, 15, 42, 16, 8, 188, 10]
abbrev dktX10_init_0 : List UInt8 := dkwX10_init_0 ++ dktX10_init_1
theorem dksX10_init_0 : cX10_init.data.toList.drop 0 = dktX10_init_0 := by decide +kernel
theorem dksX10_init_1 : cX10_init.data.toList.drop 22 = dktX10_init_1 := dk_seg dksX10_init_0 22 rfl rfl
theorem dksX10_init_2 : cX10_init.data.toList.drop 46 = dktX10_init_2 := dk_seg dksX10_init_1 24 rfl rfl
theorem dX10_init_0 : decode cX10_init 0 = .ok (.aload_n 0, 1) := dk_42 (dk_at dksX10_init_0 0 rfl rfl)
theorem dX10_init_1 : decode cX10_init 1 = .ok (.aload_n 1, 1) := dk_43 (dk_at dksX10_init_0 1 rfl rfl)
theorem dX10_init_2 : decode cX10_init 2 = .ok (.putfield 3, 3) := dk_181 0 3 (dk_at dksX10_init_0 2 rfl rfl)
theorem dX10_init_5 : decode cX10_init 5 = .ok (.aload_n 0, 1) := dk_42 (dk_at dksX10_init_0 5 rfl rfl)
theorem dX10_init_6 : decode cX10_init 6 = .ok (.invokespecial 9, 3) := dk_183 0 9 (dk_at dksX10_init_0 6 rfl rfl)
theorem dX10_init_9 : decode cX10_init 9 = .ok (.aload_n 0, 1) := dk_42 (dk_at dksX10_init_0 9 rfl rfl)
theorem dX10_init_10 : decode cX10_init 10 = .ok (.bipush 9, 2) := dk_16 9 (dk_at dksX10_init_0 10 rfl rfl)
theorem dX10_init_12 : decode cX10_init 12 = .ok (.newarray .int, 2) := dk_188_10 (dk_at dksX10_init_0 12 rfl rfl)
theorem dX10_init_14 : decode cX10_init 14 = .ok (.putfield 15, 3) := dk_181 0 15 (dk_at dksX10_init_0 14 rfl rfl)
theorem dX10_init_17 : decode cX10_init 17 = .ok (.aload_n 0, 1) := dk_42 (dk_at dksX10_init_0 17 rfl rfl)
theorem dX10_init_18 : decode cX10_init 18 = .ok (.bipush 8, 2) := dk_16 8 (dk_at dksX10_init_0 18 rfl rfl)
theorem dX10_init_20 : decode cX10_init 20 = .ok (.newarray .int, 2) := dk_188_10 (dk_at dksX10_init_0 20 rfl rfl)
theorem dX10_init_22 : decode cX10_init 22 = .ok (.putfield 19, 3) := dk_181 0 19 (dk_at dksX10_init_1 0 rfl rfl)
theorem dX10_init_25 : decode cX10_init 25 = .ok (.aload_n 0, 1) := dk_42 (dk_at dksX10_init_1 3 rfl rfl)
theorem dX10_init_26 : decode cX10_init 26 = .ok (.bipush 8, 2) := dk_16 8 (dk_at dksX10_init_1 4 rfl rfl)
theorem dX10_init_28 : decode cX10_init 28 = .ok (.newarray .int, 2) := dk_188_10 (dk_at dksX10_init_1 6 rfl rfl)
theorem dX10_init_30 : decode cX10_init 30 = .ok (.putfield 22, 3) := dk_181 0 22 (dk_at dksX10_init_1 8 rfl rfl)
theorem dX10_init_33 : decode cX10_init 33 = .ok (.aload_n 0, 1) := dk_42 (dk_at dksX10_init_1 11 rfl rfl)
theorem dX10_init_34 : decode cX10_init 34 = .ok (.bipush 8, 2) := dk_16 8 (dk_at dksX10_init_1 12 rfl rfl)
theorem dX10_init_36 : decode cX10_init 36 = .ok (.newarray .int, 2) := dk_188_10 (dk_at dksX10_init_1 14 rfl rfl)
theorem dX10_init_38 : decode cX10_init 38 = .ok (.putfield 25, 3) := dk_181 0 25 (dk_at dksX10_init_1 16 rfl rfl)
theorem dX10_init_41 : decode cX10_init 41 = .ok (.aload_n 0, 1) := dk_42 (dk_at dksX10_init_1 19 rfl rfl)
theorem dX10_init_42 : decode cX10_init 42 = .ok (.bipush 72, 2) := dk_16 72 (dk_at dksX10_init_1 20 rfl rfl)
theorem dX10_init_44 : decode cX10_init 44 = .ok (.newarray .int, 2) := dk_188_10 (dk_at dksX10_init_1 22 rfl rfl)
theorem dX10_init_46 : decode cX10_init 46 = .ok (.putfield 28, 3) := dk_181 0 28 (dk_at dksX10_init_2 0 rfl rfl)
theorem dX10_init_49 : decode cX10_init 49 = .ok (.aload_n 0, 1) := dk_42 (dk_at dksX10_init_2 3 rfl rfl)
theorem dX10_init_50 : decode cX10_init 50 = .ok (.bipush 9, 2) := dk_16 9 (dk_at dksX10_init_2 4 rfl rfl)
theorem dX10_init_52 : decode cX10_init 52 = .ok (.newarray .int, 2) := dk_188_10 (dk_at dksX10_init_2 6 rfl rfl)
theorem dX10_init_54 : decode cX10_init 54 = .ok (.putfield 31, 3) := dk_181 0 31 (dk_at dksX10_init_2 8 rfl rfl)
theorem dX10_init_57 : decode cX10_init 57 = .ok (.return_, 1) := dk_177 (dk_at dksX10_init_2 11 rfl rfl)
abbrev cX10_begins : ByteArray := prog_18_method_2_code
def yX10_begins : MethodName := ⟨RX10, "begins", "()LPuppetHeirs$Troupe;"⟩
def dkwX10_begins_7 : List UInt8 := [132, 2, 1, 167, 255, 226, 132, 1, 1, 167, 255, 169, 42, 176]
abbrev dktX10_begins_7 : List UInt8 := dkwX10_begins_7 ++ []
def dkwX10_begins_6 : List UInt8 := [162, 0, 30, 42, 27, 28, 182, 0, 54, 153, 0, 15, 42, 180, 0, 28, 16, 8, 28, 104, 27, 96, 3, 79]
abbrev dktX10_begins_6 : List UInt8 := dkwX10_begins_6 ++ dktX10_begins_7
def dkwX10_begins_5 : List UInt8 := [79, 42, 180, 0, 25, 27, 42, 180, 0, 3, 180, 0, 38, 180, 0, 53, 27, 46, 79, 3, 61, 28, 16, 9]
abbrev dktX10_begins_5 : List UInt8 := dkwX10_begins_5 ++ dktX10_begins_6
def dkwX10_begins_4 : List UInt8 := [42, 180, 0, 19, 27, 42, 180, 0, 3, 180, 0, 38, 180, 0, 50, 27, 46, 79, 42, 180, 0, 22, 27, 2]
abbrev dktX10_begins_4 : List UInt8 := dkwX10_begins_4 ++ dktX10_begins_5
def dkwX10_begins_3 : List UInt8 := [162, 0, 16, 42, 180, 0, 28, 27, 2, 79, 132, 1, 1, 167, 255, 240, 3, 60, 27, 16, 8, 162, 0, 87]
abbrev dktX10_begins_3 : List UInt8 := dkwX10_begins_3 ++ dktX10_begins_4
def dkwX10_begins_2 : List UInt8 := [4, 167, 0, 4, 3, 79, 42, 180, 0, 31, 27, 2, 79, 132, 1, 1, 167, 255, 200, 3, 60, 27, 16, 72]
abbrev dktX10_begins_2 : List UInt8 := dkwX10_begins_2 ++ dktX10_begins_3
def dkwX10_begins_1 : List UInt8 := [180, 0, 38, 180, 0, 42, 162, 0, 22, 42, 180, 0, 3, 180, 0, 38, 180, 0, 47, 27, 46, 154, 0, 7]
abbrev dktX10_begins_1 : List UInt8 := dkwX10_begins_1 ++ dktX10_begins_2
def dkwX10_begins_0 : List UInt8 := [42, 3, 181, 0, 34, 3, 60, 27, 16, 9, 162, 0, 56, 42, 180, 0, 15, 27, 27, 42, 180, 0, 3]
abbrev dktX10_begins_0 : List UInt8 := dkwX10_begins_0 ++ dktX10_begins_1
theorem dksX10_begins_0 : cX10_begins.data.toList.drop 0 = dktX10_begins_0 := by decide +kernel
theorem dksX10_begins_1 : cX10_begins.data.toList.drop 23 = dktX10_begins_1 := dk_seg dksX10_begins_0 23 rfl rfl
theorem dksX10_begins_2 : cX10_begins.data.toList.drop 47 = dktX10_begins_2 := dk_seg dksX10_begins_1 24 rfl rfl
theorem dksX10_begins_3 : cX10_begins.data.toList.drop 71 = dktX10_begins_3 := dk_seg dksX10_begins_2 24 rfl rfl
theorem dksX10_begins_4 : cX10_begins.data.toList.drop 95 = dktX10_begins_4 := dk_seg dksX10_begins_3 24 rfl rfl
theorem dksX10_begins_5 : cX10_begins.data.toList.drop 119 = dktX10_begins_5 := dk_seg dksX10_begins_4 24 rfl rfl
theorem dksX10_begins_6 : cX10_begins.data.toList.drop 143 = dktX10_begins_6 := dk_seg dksX10_begins_5 24 rfl rfl
theorem dksX10_begins_7 : cX10_begins.data.toList.drop 167 = dktX10_begins_7 := dk_seg dksX10_begins_6 24 rfl rfl
theorem dX10_begins_0 : decode cX10_begins 0 = .ok (.aload_n 0, 1) := dk_42 (dk_at dksX10_begins_0 0 rfl rfl)
theorem dX10_begins_1 : decode cX10_begins 1 = .ok (.iconst 0, 1) := dk_3 (dk_at dksX10_begins_0 1 rfl rfl)
theorem dX10_begins_2 : decode cX10_begins 2 = .ok (.putfield 34, 3) := dk_181 0 34 (dk_at dksX10_begins_0 2 rfl rfl)
theorem dX10_begins_5 : decode cX10_begins 5 = .ok (.iconst 0, 1) := dk_3 (dk_at dksX10_begins_0 5 rfl rfl)
theorem dX10_begins_6 : decode cX10_begins 6 = .ok (.istore_n 1, 1) := dk_60 (dk_at dksX10_begins_0 6 rfl rfl)
theorem dX10_begins_7 : decode cX10_begins 7 = .ok (.iload_n 1, 1) := dk_27 (dk_at dksX10_begins_0 7 rfl rfl)
theorem dX10_begins_8 : decode cX10_begins 8 = .ok (.bipush 9, 2) := dk_16 9 (dk_at dksX10_begins_0 8 rfl rfl)
theorem dX10_begins_10 : decode cX10_begins 10 = .ok (.if_icmp .ge 56, 3) := dk_162 0 56 (dk_at dksX10_begins_0 10 rfl rfl)
theorem dX10_begins_13 : decode cX10_begins 13 = .ok (.aload_n 0, 1) := dk_42 (dk_at dksX10_begins_0 13 rfl rfl)
theorem dX10_begins_14 : decode cX10_begins 14 = .ok (.getfield 15, 3) := dk_180 0 15 (dk_at dksX10_begins_0 14 rfl rfl)
theorem dX10_begins_17 : decode cX10_begins 17 = .ok (.iload_n 1, 1) := dk_27 (dk_at dksX10_begins_0 17 rfl rfl)
theorem dX10_begins_18 : decode cX10_begins 18 = .ok (.iload_n 1, 1) := dk_27 (dk_at dksX10_begins_0 18 rfl rfl)
theorem dX10_begins_19 : decode cX10_begins 19 = .ok (.aload_n 0, 1) := dk_42 (dk_at dksX10_begins_0 19 rfl rfl)
theorem dX10_begins_20 : decode cX10_begins 20 = .ok (.getfield 3, 3) := dk_180 0 3 (dk_at dksX10_begins_0 20 rfl rfl)
theorem dX10_begins_23 : decode cX10_begins 23 = .ok (.getfield 38, 3) := dk_180 0 38 (dk_at dksX10_begins_1 0 rfl rfl)
theorem dX10_begins_26 : decode cX10_begins 26 = .ok (.getfield 42, 3) := dk_180 0 42 (dk_at dksX10_begins_1 3 rfl rfl)
theorem dX10_begins_29 : decode cX10_begins 29 = .ok (.if_icmp .ge 22, 3) := dk_162 0 22 (dk_at dksX10_begins_1 6 rfl rfl)
theorem dX10_begins_32 : decode cX10_begins 32 = .ok (.aload_n 0, 1) := dk_42 (dk_at dksX10_begins_1 9 rfl rfl)
theorem dX10_begins_33 : decode cX10_begins 33 = .ok (.getfield 3, 3) := dk_180 0 3 (dk_at dksX10_begins_1 10 rfl rfl)
theorem dX10_begins_36 : decode cX10_begins 36 = .ok (.getfield 38, 3) := dk_180 0 38 (dk_at dksX10_begins_1 13 rfl rfl)
theorem dX10_begins_39 : decode cX10_begins 39 = .ok (.getfield 47, 3) := dk_180 0 47 (dk_at dksX10_begins_1 16 rfl rfl)
theorem dX10_begins_42 : decode cX10_begins 42 = .ok (.iload_n 1, 1) := dk_27 (dk_at dksX10_begins_1 19 rfl rfl)
theorem dX10_begins_43 : decode cX10_begins 43 = .ok (.iaload, 1) := dk_46 (dk_at dksX10_begins_1 20 rfl rfl)
theorem dX10_begins_44 : decode cX10_begins 44 = .ok (.ifCond .ne 7, 3) := dk_154 0 7 (dk_at dksX10_begins_1 21 rfl rfl)
theorem dX10_begins_47 : decode cX10_begins 47 = .ok (.iconst 1, 1) := dk_4 (dk_at dksX10_begins_2 0 rfl rfl)
theorem dX10_begins_48 : decode cX10_begins 48 = .ok (.goto 4, 3) := dk_167 0 4 (dk_at dksX10_begins_2 1 rfl rfl)
theorem dX10_begins_51 : decode cX10_begins 51 = .ok (.iconst 0, 1) := dk_3 (dk_at dksX10_begins_2 4 rfl rfl)
theorem dX10_begins_52 : decode cX10_begins 52 = .ok (.iastore, 1) := dk_79 (dk_at dksX10_begins_2 5 rfl rfl)
theorem dX10_begins_53 : decode cX10_begins 53 = .ok (.aload_n 0, 1) := dk_42 (dk_at dksX10_begins_2 6 rfl rfl)
theorem dX10_begins_54 : decode cX10_begins 54 = .ok (.getfield 31, 3) := dk_180 0 31 (dk_at dksX10_begins_2 7 rfl rfl)
theorem dX10_begins_57 : decode cX10_begins 57 = .ok (.iload_n 1, 1) := dk_27 (dk_at dksX10_begins_2 10 rfl rfl)
theorem dX10_begins_58 : decode cX10_begins 58 = .ok (.iconst (-1), 1) := dk_2 (dk_at dksX10_begins_2 11 rfl rfl)
theorem dX10_begins_59 : decode cX10_begins 59 = .ok (.iastore, 1) := dk_79 (dk_at dksX10_begins_2 12 rfl rfl)
theorem dX10_begins_60 : decode cX10_begins 60 = .ok (.iinc 1 1, 3) := dk_132 1 1 (dk_at dksX10_begins_2 13 rfl rfl)
theorem dX10_begins_63 : decode cX10_begins 63 = .ok (.goto (-56), 3) := dk_167 255 200 (dk_at dksX10_begins_2 16 rfl rfl)
theorem dX10_begins_66 : decode cX10_begins 66 = .ok (.iconst 0, 1) := dk_3 (dk_at dksX10_begins_2 19 rfl rfl)
theorem dX10_begins_67 : decode cX10_begins 67 = .ok (.istore_n 1, 1) := dk_60 (dk_at dksX10_begins_2 20 rfl rfl)
theorem dX10_begins_68 : decode cX10_begins 68 = .ok (.iload_n 1, 1) := dk_27 (dk_at dksX10_begins_2 21 rfl rfl)
theorem dX10_begins_69 : decode cX10_begins 69 = .ok (.bipush 72, 2) := dk_16 72 (dk_at dksX10_begins_2 22 rfl rfl)
theorem dX10_begins_71 : decode cX10_begins 71 = .ok (.if_icmp .ge 16, 3) := dk_162 0 16 (dk_at dksX10_begins_3 0 rfl rfl)
theorem dX10_begins_74 : decode cX10_begins 74 = .ok (.aload_n 0, 1) := dk_42 (dk_at dksX10_begins_3 3 rfl rfl)
theorem dX10_begins_75 : decode cX10_begins 75 = .ok (.getfield 28, 3) := dk_180 0 28 (dk_at dksX10_begins_3 4 rfl rfl)
theorem dX10_begins_78 : decode cX10_begins 78 = .ok (.iload_n 1, 1) := dk_27 (dk_at dksX10_begins_3 7 rfl rfl)
theorem dX10_begins_79 : decode cX10_begins 79 = .ok (.iconst (-1), 1) := dk_2 (dk_at dksX10_begins_3 8 rfl rfl)
theorem dX10_begins_80 : decode cX10_begins 80 = .ok (.iastore, 1) := dk_79 (dk_at dksX10_begins_3 9 rfl rfl)
theorem dX10_begins_81 : decode cX10_begins 81 = .ok (.iinc 1 1, 3) := dk_132 1 1 (dk_at dksX10_begins_3 10 rfl rfl)
theorem dX10_begins_84 : decode cX10_begins 84 = .ok (.goto (-16), 3) := dk_167 255 240 (dk_at dksX10_begins_3 13 rfl rfl)
theorem dX10_begins_87 : decode cX10_begins 87 = .ok (.iconst 0, 1) := dk_3 (dk_at dksX10_begins_3 16 rfl rfl)
theorem dX10_begins_88 : decode cX10_begins 88 = .ok (.istore_n 1, 1) := dk_60 (dk_at dksX10_begins_3 17 rfl rfl)
theorem dX10_begins_89 : decode cX10_begins 89 = .ok (.iload_n 1, 1) := dk_27 (dk_at dksX10_begins_3 18 rfl rfl)
theorem dX10_begins_90 : decode cX10_begins 90 = .ok (.bipush 8, 2) := dk_16 8 (dk_at dksX10_begins_3 19 rfl rfl)
theorem dX10_begins_92 : decode cX10_begins 92 = .ok (.if_icmp .ge 87, 3) := dk_162 0 87 (dk_at dksX10_begins_3 21 rfl rfl)
theorem dX10_begins_95 : decode cX10_begins 95 = .ok (.aload_n 0, 1) := dk_42 (dk_at dksX10_begins_4 0 rfl rfl)
theorem dX10_begins_96 : decode cX10_begins 96 = .ok (.getfield 19, 3) := dk_180 0 19 (dk_at dksX10_begins_4 1 rfl rfl)
theorem dX10_begins_99 : decode cX10_begins 99 = .ok (.iload_n 1, 1) := dk_27 (dk_at dksX10_begins_4 4 rfl rfl)
theorem dX10_begins_100 : decode cX10_begins 100 = .ok (.aload_n 0, 1) := dk_42 (dk_at dksX10_begins_4 5 rfl rfl)
theorem dX10_begins_101 : decode cX10_begins 101 = .ok (.getfield 3, 3) := dk_180 0 3 (dk_at dksX10_begins_4 6 rfl rfl)
theorem dX10_begins_104 : decode cX10_begins 104 = .ok (.getfield 38, 3) := dk_180 0 38 (dk_at dksX10_begins_4 9 rfl rfl)
theorem dX10_begins_107 : decode cX10_begins 107 = .ok (.getfield 50, 3) := dk_180 0 50 (dk_at dksX10_begins_4 12 rfl rfl)
theorem dX10_begins_110 : decode cX10_begins 110 = .ok (.iload_n 1, 1) := dk_27 (dk_at dksX10_begins_4 15 rfl rfl)
theorem dX10_begins_111 : decode cX10_begins 111 = .ok (.iaload, 1) := dk_46 (dk_at dksX10_begins_4 16 rfl rfl)
theorem dX10_begins_112 : decode cX10_begins 112 = .ok (.iastore, 1) := dk_79 (dk_at dksX10_begins_4 17 rfl rfl)
theorem dX10_begins_113 : decode cX10_begins 113 = .ok (.aload_n 0, 1) := dk_42 (dk_at dksX10_begins_4 18 rfl rfl)
theorem dX10_begins_114 : decode cX10_begins 114 = .ok (.getfield 22, 3) := dk_180 0 22 (dk_at dksX10_begins_4 19 rfl rfl)
theorem dX10_begins_117 : decode cX10_begins 117 = .ok (.iload_n 1, 1) := dk_27 (dk_at dksX10_begins_4 22 rfl rfl)
theorem dX10_begins_118 : decode cX10_begins 118 = .ok (.iconst (-1), 1) := dk_2 (dk_at dksX10_begins_4 23 rfl rfl)
theorem dX10_begins_119 : decode cX10_begins 119 = .ok (.iastore, 1) := dk_79 (dk_at dksX10_begins_5 0 rfl rfl)
theorem dX10_begins_120 : decode cX10_begins 120 = .ok (.aload_n 0, 1) := dk_42 (dk_at dksX10_begins_5 1 rfl rfl)
theorem dX10_begins_121 : decode cX10_begins 121 = .ok (.getfield 25, 3) := dk_180 0 25 (dk_at dksX10_begins_5 2 rfl rfl)
theorem dX10_begins_124 : decode cX10_begins 124 = .ok (.iload_n 1, 1) := dk_27 (dk_at dksX10_begins_5 5 rfl rfl)
theorem dX10_begins_125 : decode cX10_begins 125 = .ok (.aload_n 0, 1) := dk_42 (dk_at dksX10_begins_5 6 rfl rfl)
theorem dX10_begins_126 : decode cX10_begins 126 = .ok (.getfield 3, 3) := dk_180 0 3 (dk_at dksX10_begins_5 7 rfl rfl)
theorem dX10_begins_129 : decode cX10_begins 129 = .ok (.getfield 38, 3) := dk_180 0 38 (dk_at dksX10_begins_5 10 rfl rfl)
theorem dX10_begins_132 : decode cX10_begins 132 = .ok (.getfield 53, 3) := dk_180 0 53 (dk_at dksX10_begins_5 13 rfl rfl)
theorem dX10_begins_135 : decode cX10_begins 135 = .ok (.iload_n 1, 1) := dk_27 (dk_at dksX10_begins_5 16 rfl rfl)
theorem dX10_begins_136 : decode cX10_begins 136 = .ok (.iaload, 1) := dk_46 (dk_at dksX10_begins_5 17 rfl rfl)
theorem dX10_begins_137 : decode cX10_begins 137 = .ok (.iastore, 1) := dk_79 (dk_at dksX10_begins_5 18 rfl rfl)
theorem dX10_begins_138 : decode cX10_begins 138 = .ok (.iconst 0, 1) := dk_3 (dk_at dksX10_begins_5 19 rfl rfl)
theorem dX10_begins_139 : decode cX10_begins 139 = .ok (.istore_n 2, 1) := dk_61 (dk_at dksX10_begins_5 20 rfl rfl)
theorem dX10_begins_140 : decode cX10_begins 140 = .ok (.iload_n 2, 1) := dk_28 (dk_at dksX10_begins_5 21 rfl rfl)
theorem dX10_begins_141 : decode cX10_begins 141 = .ok (.bipush 9, 2) := dk_16 9 (dk_at dksX10_begins_5 22 rfl rfl)
theorem dX10_begins_143 : decode cX10_begins 143 = .ok (.if_icmp .ge 30, 3) := dk_162 0 30 (dk_at dksX10_begins_6 0 rfl rfl)
theorem dX10_begins_146 : decode cX10_begins 146 = .ok (.aload_n 0, 1) := dk_42 (dk_at dksX10_begins_6 3 rfl rfl)
theorem dX10_begins_147 : decode cX10_begins 147 = .ok (.iload_n 1, 1) := dk_27 (dk_at dksX10_begins_6 4 rfl rfl)
theorem dX10_begins_148 : decode cX10_begins 148 = .ok (.iload_n 2, 1) := dk_28 (dk_at dksX10_begins_6 5 rfl rfl)
theorem dX10_begins_149 : decode cX10_begins 149 = .ok (.invokevirtual 54, 3) := dk_182 0 54 (dk_at dksX10_begins_6 6 rfl rfl)
theorem dX10_begins_152 : decode cX10_begins 152 = .ok (.ifCond .eq 15, 3) := dk_153 0 15 (dk_at dksX10_begins_6 9 rfl rfl)
theorem dX10_begins_155 : decode cX10_begins 155 = .ok (.aload_n 0, 1) := dk_42 (dk_at dksX10_begins_6 12 rfl rfl)
theorem dX10_begins_156 : decode cX10_begins 156 = .ok (.getfield 28, 3) := dk_180 0 28 (dk_at dksX10_begins_6 13 rfl rfl)
theorem dX10_begins_159 : decode cX10_begins 159 = .ok (.bipush 8, 2) := dk_16 8 (dk_at dksX10_begins_6 16 rfl rfl)
theorem dX10_begins_161 : decode cX10_begins 161 = .ok (.iload_n 2, 1) := dk_28 (dk_at dksX10_begins_6 18 rfl rfl)
theorem dX10_begins_162 : decode cX10_begins 162 = .ok (.imul, 1) := dk_104 (dk_at dksX10_begins_6 19 rfl rfl)
theorem dX10_begins_163 : decode cX10_begins 163 = .ok (.iload_n 1, 1) := dk_27 (dk_at dksX10_begins_6 20 rfl rfl)
theorem dX10_begins_164 : decode cX10_begins 164 = .ok (.iadd, 1) := dk_96 (dk_at dksX10_begins_6 21 rfl rfl)
theorem dX10_begins_165 : decode cX10_begins 165 = .ok (.iconst 0, 1) := dk_3 (dk_at dksX10_begins_6 22 rfl rfl)
theorem dX10_begins_166 : decode cX10_begins 166 = .ok (.iastore, 1) := dk_79 (dk_at dksX10_begins_6 23 rfl rfl)
theorem dX10_begins_167 : decode cX10_begins 167 = .ok (.iinc 2 1, 3) := dk_132 2 1 (dk_at dksX10_begins_7 0 rfl rfl)
theorem dX10_begins_170 : decode cX10_begins 170 = .ok (.goto (-30), 3) := dk_167 255 226 (dk_at dksX10_begins_7 3 rfl rfl)
theorem dX10_begins_173 : decode cX10_begins 173 = .ok (.iinc 1 1, 3) := dk_132 1 1 (dk_at dksX10_begins_7 6 rfl rfl)
theorem dX10_begins_176 : decode cX10_begins 176 = .ok (.goto (-87), 3) := dk_167 255 169 (dk_at dksX10_begins_7 9 rfl rfl)
theorem dX10_begins_179 : decode cX10_begins 179 = .ok (.aload_n 0, 1) := dk_42 (dk_at dksX10_begins_7 12 rfl rfl)
theorem dX10_begins_180 : decode cX10_begins 180 = .ok (.areturn, 1) := dk_176 (dk_at dksX10_begins_7 13 rfl rfl)
abbrev cX10_isOf : ByteArray := prog_18_method_4_code
def yX10_isOf : MethodName := ⟨RX10, "isOf", "(II)Z"⟩
def dkwX10_isOf_0 : List UInt8 := [42, 180, 0, 19, 27, 46, 28, 122, 4, 126, 4, 160, 0, 7, 4, 167, 0, 4, 3, 172]
abbrev dktX10_isOf_0 : List UInt8 := dkwX10_isOf_0 ++ []
theorem dksX10_isOf_0 : cX10_isOf.data.toList.drop 0 = dktX10_isOf_0 := by decide +kernel
theorem dX10_isOf_0 : decode cX10_isOf 0 = .ok (.aload_n 0, 1) := dk_42 (dk_at dksX10_isOf_0 0 rfl rfl)
theorem dX10_isOf_1 : decode cX10_isOf 1 = .ok (.getfield 19, 3) := dk_180 0 19 (dk_at dksX10_isOf_0 1 rfl rfl)
theorem dX10_isOf_4 : decode cX10_isOf 4 = .ok (.iload_n 1, 1) := dk_27 (dk_at dksX10_isOf_0 4 rfl rfl)
theorem dX10_isOf_5 : decode cX10_isOf 5 = .ok (.iaload, 1) := dk_46 (dk_at dksX10_isOf_0 5 rfl rfl)
theorem dX10_isOf_6 : decode cX10_isOf 6 = .ok (.iload_n 2, 1) := dk_28 (dk_at dksX10_isOf_0 6 rfl rfl)
theorem dX10_isOf_7 : decode cX10_isOf 7 = .ok (.ishr, 1) := dk_122 (dk_at dksX10_isOf_0 7 rfl rfl)
theorem dX10_isOf_8 : decode cX10_isOf 8 = .ok (.iconst 1, 1) := dk_4 (dk_at dksX10_isOf_0 8 rfl rfl)
theorem dX10_isOf_9 : decode cX10_isOf 9 = .ok (.iand, 1) := dk_126 (dk_at dksX10_isOf_0 9 rfl rfl)
theorem dX10_isOf_10 : decode cX10_isOf 10 = .ok (.iconst 1, 1) := dk_4 (dk_at dksX10_isOf_0 10 rfl rfl)
theorem dX10_isOf_11 : decode cX10_isOf 11 = .ok (.if_icmp .ne 7, 3) := dk_160 0 7 (dk_at dksX10_isOf_0 11 rfl rfl)
theorem dX10_isOf_14 : decode cX10_isOf 14 = .ok (.iconst 1, 1) := dk_4 (dk_at dksX10_isOf_0 14 rfl rfl)
theorem dX10_isOf_15 : decode cX10_isOf 15 = .ok (.goto 4, 3) := dk_167 0 4 (dk_at dksX10_isOf_0 15 rfl rfl)
theorem dX10_isOf_18 : decode cX10_isOf 18 = .ok (.iconst 0, 1) := dk_3 (dk_at dksX10_isOf_0 18 rfl rfl)
theorem dX10_isOf_19 : decode cX10_isOf 19 = .ok (.ireturn, 1) := dk_172 (dk_at dksX10_isOf_0 19 rfl rfl)
abbrev cX10_becomes : ByteArray := prog_18_method_3_code
def yX10_becomes : MethodName := ⟨RX10, "becomes", "(LPuppetHeirs$Troupe;)LPuppetHeirs$Troupe;"⟩
def dkwX10_becomes_4 : List UInt8 := [180, 0, 34, 181, 0, 34, 42, 176]
abbrev dktX10_becomes_4 : List UInt8 := dkwX10_becomes_4 ++ []
def dkwX10_becomes_3 : List UInt8 := [16, 72, 184, 0, 58, 43, 180, 0, 31, 3, 42, 180, 0, 31, 3, 16, 9, 184, 0, 58, 42, 43]
abbrev dktX10_becomes_3 : List UInt8 := dkwX10_becomes_3 ++ dktX10_becomes_4
def dkwX10_becomes_2 : List UInt8 := [180, 0, 25, 3, 42, 180, 0, 25, 3, 16, 8, 184, 0, 58, 43, 180, 0, 28, 3, 42, 180, 0, 28, 3]
abbrev dktX10_becomes_2 : List UInt8 := dkwX10_becomes_2 ++ dktX10_becomes_3
def dkwX10_becomes_1 : List UInt8 := [3, 16, 8, 184, 0, 58, 43, 180, 0, 22, 3, 42, 180, 0, 22, 3, 16, 8, 184, 0, 58, 43]
abbrev dktX10_becomes_1 : List UInt8 := dkwX10_becomes_1 ++ dktX10_becomes_2
def dkwX10_becomes_0 : List UInt8 := [43, 180, 0, 15, 3, 42, 180, 0, 15, 3, 16, 9, 184, 0, 58, 43, 180, 0, 19, 3, 42, 180, 0, 19]
abbrev dktX10_becomes_0 : List UInt8 := dkwX10_becomes_0 ++ dktX10_becomes_1
theorem dksX10_becomes_0 : cX10_becomes.data.toList.drop 0 = dktX10_becomes_0 := by decide +kernel
theorem dksX10_becomes_1 : cX10_becomes.data.toList.drop 24 = dktX10_becomes_1 := dk_seg dksX10_becomes_0 24 rfl rfl
theorem dksX10_becomes_2 : cX10_becomes.data.toList.drop 46 = dktX10_becomes_2 := dk_seg dksX10_becomes_1 22 rfl rfl
theorem dksX10_becomes_3 : cX10_becomes.data.toList.drop 70 = dktX10_becomes_3 := dk_seg dksX10_becomes_2 24 rfl rfl
theorem dksX10_becomes_4 : cX10_becomes.data.toList.drop 92 = dktX10_becomes_4 := dk_seg dksX10_becomes_3 22 rfl rfl
theorem dX10_becomes_0 : decode cX10_becomes 0 = .ok (.aload_n 1, 1) := dk_43 (dk_at dksX10_becomes_0 0 rfl rfl)
theorem dX10_becomes_1 : decode cX10_becomes 1 = .ok (.getfield 15, 3) := dk_180 0 15 (dk_at dksX10_becomes_0 1 rfl rfl)
theorem dX10_becomes_4 : decode cX10_becomes 4 = .ok (.iconst 0, 1) := dk_3 (dk_at dksX10_becomes_0 4 rfl rfl)
theorem dX10_becomes_5 : decode cX10_becomes 5 = .ok (.aload_n 0, 1) := dk_42 (dk_at dksX10_becomes_0 5 rfl rfl)
theorem dX10_becomes_6 : decode cX10_becomes 6 = .ok (.getfield 15, 3) := dk_180 0 15 (dk_at dksX10_becomes_0 6 rfl rfl)
theorem dX10_becomes_9 : decode cX10_becomes 9 = .ok (.iconst 0, 1) := dk_3 (dk_at dksX10_becomes_0 9 rfl rfl)
theorem dX10_becomes_10 : decode cX10_becomes 10 = .ok (.bipush 9, 2) := dk_16 9 (dk_at dksX10_becomes_0 10 rfl rfl)
theorem dX10_becomes_12 : decode cX10_becomes 12 = .ok (.invokestatic 58, 3) := dk_184 0 58 (dk_at dksX10_becomes_0 12 rfl rfl)
theorem dX10_becomes_15 : decode cX10_becomes 15 = .ok (.aload_n 1, 1) := dk_43 (dk_at dksX10_becomes_0 15 rfl rfl)
theorem dX10_becomes_16 : decode cX10_becomes 16 = .ok (.getfield 19, 3) := dk_180 0 19 (dk_at dksX10_becomes_0 16 rfl rfl)
theorem dX10_becomes_19 : decode cX10_becomes 19 = .ok (.iconst 0, 1) := dk_3 (dk_at dksX10_becomes_0 19 rfl rfl)
theorem dX10_becomes_20 : decode cX10_becomes 20 = .ok (.aload_n 0, 1) := dk_42 (dk_at dksX10_becomes_0 20 rfl rfl)
theorem dX10_becomes_21 : decode cX10_becomes 21 = .ok (.getfield 19, 3) := dk_180 0 19 (dk_at dksX10_becomes_0 21 rfl rfl)
theorem dX10_becomes_24 : decode cX10_becomes 24 = .ok (.iconst 0, 1) := dk_3 (dk_at dksX10_becomes_1 0 rfl rfl)
theorem dX10_becomes_25 : decode cX10_becomes 25 = .ok (.bipush 8, 2) := dk_16 8 (dk_at dksX10_becomes_1 1 rfl rfl)
theorem dX10_becomes_27 : decode cX10_becomes 27 = .ok (.invokestatic 58, 3) := dk_184 0 58 (dk_at dksX10_becomes_1 3 rfl rfl)
theorem dX10_becomes_30 : decode cX10_becomes 30 = .ok (.aload_n 1, 1) := dk_43 (dk_at dksX10_becomes_1 6 rfl rfl)
theorem dX10_becomes_31 : decode cX10_becomes 31 = .ok (.getfield 22, 3) := dk_180 0 22 (dk_at dksX10_becomes_1 7 rfl rfl)
theorem dX10_becomes_34 : decode cX10_becomes 34 = .ok (.iconst 0, 1) := dk_3 (dk_at dksX10_becomes_1 10 rfl rfl)
theorem dX10_becomes_35 : decode cX10_becomes 35 = .ok (.aload_n 0, 1) := dk_42 (dk_at dksX10_becomes_1 11 rfl rfl)
theorem dX10_becomes_36 : decode cX10_becomes 36 = .ok (.getfield 22, 3) := dk_180 0 22 (dk_at dksX10_becomes_1 12 rfl rfl)
theorem dX10_becomes_39 : decode cX10_becomes 39 = .ok (.iconst 0, 1) := dk_3 (dk_at dksX10_becomes_1 15 rfl rfl)
theorem dX10_becomes_40 : decode cX10_becomes 40 = .ok (.bipush 8, 2) := dk_16 8 (dk_at dksX10_becomes_1 16 rfl rfl)
theorem dX10_becomes_42 : decode cX10_becomes 42 = .ok (.invokestatic 58, 3) := dk_184 0 58 (dk_at dksX10_becomes_1 18 rfl rfl)
theorem dX10_becomes_45 : decode cX10_becomes 45 = .ok (.aload_n 1, 1) := dk_43 (dk_at dksX10_becomes_1 21 rfl rfl)
theorem dX10_becomes_46 : decode cX10_becomes 46 = .ok (.getfield 25, 3) := dk_180 0 25 (dk_at dksX10_becomes_2 0 rfl rfl)
theorem dX10_becomes_49 : decode cX10_becomes 49 = .ok (.iconst 0, 1) := dk_3 (dk_at dksX10_becomes_2 3 rfl rfl)
theorem dX10_becomes_50 : decode cX10_becomes 50 = .ok (.aload_n 0, 1) := dk_42 (dk_at dksX10_becomes_2 4 rfl rfl)
theorem dX10_becomes_51 : decode cX10_becomes 51 = .ok (.getfield 25, 3) := dk_180 0 25 (dk_at dksX10_becomes_2 5 rfl rfl)
theorem dX10_becomes_54 : decode cX10_becomes 54 = .ok (.iconst 0, 1) := dk_3 (dk_at dksX10_becomes_2 8 rfl rfl)
theorem dX10_becomes_55 : decode cX10_becomes 55 = .ok (.bipush 8, 2) := dk_16 8 (dk_at dksX10_becomes_2 9 rfl rfl)
theorem dX10_becomes_57 : decode cX10_becomes 57 = .ok (.invokestatic 58, 3) := dk_184 0 58 (dk_at dksX10_becomes_2 11 rfl rfl)
theorem dX10_becomes_60 : decode cX10_becomes 60 = .ok (.aload_n 1, 1) := dk_43 (dk_at dksX10_becomes_2 14 rfl rfl)
theorem dX10_becomes_61 : decode cX10_becomes 61 = .ok (.getfield 28, 3) := dk_180 0 28 (dk_at dksX10_becomes_2 15 rfl rfl)
theorem dX10_becomes_64 : decode cX10_becomes 64 = .ok (.iconst 0, 1) := dk_3 (dk_at dksX10_becomes_2 18 rfl rfl)
theorem dX10_becomes_65 : decode cX10_becomes 65 = .ok (.aload_n 0, 1) := dk_42 (dk_at dksX10_becomes_2 19 rfl rfl)
theorem dX10_becomes_66 : decode cX10_becomes 66 = .ok (.getfield 28, 3) := dk_180 0 28 (dk_at dksX10_becomes_2 20 rfl rfl)
theorem dX10_becomes_69 : decode cX10_becomes 69 = .ok (.iconst 0, 1) := dk_3 (dk_at dksX10_becomes_2 23 rfl rfl)
theorem dX10_becomes_70 : decode cX10_becomes 70 = .ok (.bipush 72, 2) := dk_16 72 (dk_at dksX10_becomes_3 0 rfl rfl)
theorem dX10_becomes_72 : decode cX10_becomes 72 = .ok (.invokestatic 58, 3) := dk_184 0 58 (dk_at dksX10_becomes_3 2 rfl rfl)
theorem dX10_becomes_75 : decode cX10_becomes 75 = .ok (.aload_n 1, 1) := dk_43 (dk_at dksX10_becomes_3 5 rfl rfl)
theorem dX10_becomes_76 : decode cX10_becomes 76 = .ok (.getfield 31, 3) := dk_180 0 31 (dk_at dksX10_becomes_3 6 rfl rfl)
theorem dX10_becomes_79 : decode cX10_becomes 79 = .ok (.iconst 0, 1) := dk_3 (dk_at dksX10_becomes_3 9 rfl rfl)
theorem dX10_becomes_80 : decode cX10_becomes 80 = .ok (.aload_n 0, 1) := dk_42 (dk_at dksX10_becomes_3 10 rfl rfl)
theorem dX10_becomes_81 : decode cX10_becomes 81 = .ok (.getfield 31, 3) := dk_180 0 31 (dk_at dksX10_becomes_3 11 rfl rfl)
theorem dX10_becomes_84 : decode cX10_becomes 84 = .ok (.iconst 0, 1) := dk_3 (dk_at dksX10_becomes_3 14 rfl rfl)
theorem dX10_becomes_85 : decode cX10_becomes 85 = .ok (.bipush 9, 2) := dk_16 9 (dk_at dksX10_becomes_3 15 rfl rfl)
theorem dX10_becomes_87 : decode cX10_becomes 87 = .ok (.invokestatic 58, 3) := dk_184 0 58 (dk_at dksX10_becomes_3 17 rfl rfl)
theorem dX10_becomes_90 : decode cX10_becomes 90 = .ok (.aload_n 0, 1) := dk_42 (dk_at dksX10_becomes_3 20 rfl rfl)
theorem dX10_becomes_91 : decode cX10_becomes 91 = .ok (.aload_n 1, 1) := dk_43 (dk_at dksX10_becomes_3 21 rfl rfl)
theorem dX10_becomes_92 : decode cX10_becomes 92 = .ok (.getfield 34, 3) := dk_180 0 34 (dk_at dksX10_becomes_4 0 rfl rfl)
theorem dX10_becomes_95 : decode cX10_becomes 95 = .ok (.putfield 34, 3) := dk_181 0 34 (dk_at dksX10_becomes_4 3 rfl rfl)
theorem dX10_becomes_98 : decode cX10_becomes 98 = .ok (.aload_n 0, 1) := dk_42 (dk_at dksX10_becomes_4 6 rfl rfl)
theorem dX10_becomes_99 : decode cX10_becomes 99 = .ok (.areturn, 1) := dk_176 (dk_at dksX10_becomes_4 7 rfl rfl)
abbrev cX10_alive : ByteArray := prog_18_method_6_code
def yX10_alive : MethodName := ⟨RX10, "alive", "()I"⟩
def dkwX10_alive_1 : List UInt8 := [46, 4, 160, 0, 9, 4, 28, 120, 167, 0, 4, 3, 128, 60, 132, 2, 1, 167, 255, 219, 27, 172]
abbrev dktX10_alive_1 : List UInt8 := dkwX10_alive_1 ++ []
def dkwX10_alive_0 : List UInt8 := [3, 60, 3, 61, 28, 42, 180, 0, 3, 180, 0, 38, 180, 0, 42, 162, 0, 29, 27, 42, 180, 0, 15, 28]
abbrev dktX10_alive_0 : List UInt8 := dkwX10_alive_0 ++ dktX10_alive_1
theorem dksX10_alive_0 : cX10_alive.data.toList.drop 0 = dktX10_alive_0 := by decide +kernel
theorem dksX10_alive_1 : cX10_alive.data.toList.drop 24 = dktX10_alive_1 := dk_seg dksX10_alive_0 24 rfl rfl
theorem dX10_alive_0 : decode cX10_alive 0 = .ok (.iconst 0, 1) := dk_3 (dk_at dksX10_alive_0 0 rfl rfl)
theorem dX10_alive_1 : decode cX10_alive 1 = .ok (.istore_n 1, 1) := dk_60 (dk_at dksX10_alive_0 1 rfl rfl)
theorem dX10_alive_2 : decode cX10_alive 2 = .ok (.iconst 0, 1) := dk_3 (dk_at dksX10_alive_0 2 rfl rfl)
theorem dX10_alive_3 : decode cX10_alive 3 = .ok (.istore_n 2, 1) := dk_61 (dk_at dksX10_alive_0 3 rfl rfl)
theorem dX10_alive_4 : decode cX10_alive 4 = .ok (.iload_n 2, 1) := dk_28 (dk_at dksX10_alive_0 4 rfl rfl)
theorem dX10_alive_5 : decode cX10_alive 5 = .ok (.aload_n 0, 1) := dk_42 (dk_at dksX10_alive_0 5 rfl rfl)
theorem dX10_alive_6 : decode cX10_alive 6 = .ok (.getfield 3, 3) := dk_180 0 3 (dk_at dksX10_alive_0 6 rfl rfl)
theorem dX10_alive_9 : decode cX10_alive 9 = .ok (.getfield 38, 3) := dk_180 0 38 (dk_at dksX10_alive_0 9 rfl rfl)
theorem dX10_alive_12 : decode cX10_alive 12 = .ok (.getfield 42, 3) := dk_180 0 42 (dk_at dksX10_alive_0 12 rfl rfl)
theorem dX10_alive_15 : decode cX10_alive 15 = .ok (.if_icmp .ge 29, 3) := dk_162 0 29 (dk_at dksX10_alive_0 15 rfl rfl)
theorem dX10_alive_18 : decode cX10_alive 18 = .ok (.iload_n 1, 1) := dk_27 (dk_at dksX10_alive_0 18 rfl rfl)
theorem dX10_alive_19 : decode cX10_alive 19 = .ok (.aload_n 0, 1) := dk_42 (dk_at dksX10_alive_0 19 rfl rfl)
theorem dX10_alive_20 : decode cX10_alive 20 = .ok (.getfield 15, 3) := dk_180 0 15 (dk_at dksX10_alive_0 20 rfl rfl)
theorem dX10_alive_23 : decode cX10_alive 23 = .ok (.iload_n 2, 1) := dk_28 (dk_at dksX10_alive_0 23 rfl rfl)
theorem dX10_alive_24 : decode cX10_alive 24 = .ok (.iaload, 1) := dk_46 (dk_at dksX10_alive_1 0 rfl rfl)
theorem dX10_alive_25 : decode cX10_alive 25 = .ok (.iconst 1, 1) := dk_4 (dk_at dksX10_alive_1 1 rfl rfl)
theorem dX10_alive_26 : decode cX10_alive 26 = .ok (.if_icmp .ne 9, 3) := dk_160 0 9 (dk_at dksX10_alive_1 2 rfl rfl)
theorem dX10_alive_29 : decode cX10_alive 29 = .ok (.iconst 1, 1) := dk_4 (dk_at dksX10_alive_1 5 rfl rfl)
theorem dX10_alive_30 : decode cX10_alive 30 = .ok (.iload_n 2, 1) := dk_28 (dk_at dksX10_alive_1 6 rfl rfl)
theorem dX10_alive_31 : decode cX10_alive 31 = .ok (.ishl, 1) := dk_120 (dk_at dksX10_alive_1 7 rfl rfl)
theorem dX10_alive_32 : decode cX10_alive 32 = .ok (.goto 4, 3) := dk_167 0 4 (dk_at dksX10_alive_1 8 rfl rfl)
theorem dX10_alive_35 : decode cX10_alive 35 = .ok (.iconst 0, 1) := dk_3 (dk_at dksX10_alive_1 11 rfl rfl)
theorem dX10_alive_36 : decode cX10_alive 36 = .ok (.ior, 1) := dk_128 (dk_at dksX10_alive_1 12 rfl rfl)
theorem dX10_alive_37 : decode cX10_alive 37 = .ok (.istore_n 1, 1) := dk_60 (dk_at dksX10_alive_1 13 rfl rfl)
theorem dX10_alive_38 : decode cX10_alive 38 = .ok (.iinc 2 1, 3) := dk_132 2 1 (dk_at dksX10_alive_1 14 rfl rfl)
theorem dX10_alive_41 : decode cX10_alive 41 = .ok (.goto (-37), 3) := dk_167 255 219 (dk_at dksX10_alive_1 17 rfl rfl)
theorem dX10_alive_44 : decode cX10_alive 44 = .ok (.iload_n 1, 1) := dk_27 (dk_at dksX10_alive_1 20 rfl rfl)
theorem dX10_alive_45 : decode cX10_alive 45 = .ok (.ireturn, 1) := dk_172 (dk_at dksX10_alive_1 21 rfl rfl)
abbrev cX10_goes : ByteArray := prog_18_method_18_code
def yX10_goes : MethodName := ⟨RX10, "goes", "()LPuppetHeirs$Troupe;"⟩
def dkwX10_goes_0 : List UInt8 := [42, 182, 0, 137, 42, 182, 0, 140, 42, 182, 0, 143, 42, 176]
abbrev dktX10_goes_0 : List UInt8 := dkwX10_goes_0 ++ []
theorem dksX10_goes_0 : cX10_goes.data.toList.drop 0 = dktX10_goes_0 := by decide +kernel
theorem dX10_goes_0 : decode cX10_goes 0 = .ok (.aload_n 0, 1) := dk_42 (dk_at dksX10_goes_0 0 rfl rfl)
theorem dX10_goes_1 : decode cX10_goes 1 = .ok (.invokevirtual 137, 3) := dk_182 0 137 (dk_at dksX10_goes_0 1 rfl rfl)
theorem dX10_goes_4 : decode cX10_goes 4 = .ok (.aload_n 0, 1) := dk_42 (dk_at dksX10_goes_0 4 rfl rfl)
theorem dX10_goes_5 : decode cX10_goes 5 = .ok (.invokevirtual 140, 3) := dk_182 0 140 (dk_at dksX10_goes_0 5 rfl rfl)
theorem dX10_goes_8 : decode cX10_goes 8 = .ok (.aload_n 0, 1) := dk_42 (dk_at dksX10_goes_0 8 rfl rfl)
theorem dX10_goes_9 : decode cX10_goes 9 = .ok (.invokevirtual 143, 3) := dk_182 0 143 (dk_at dksX10_goes_0 9 rfl rfl)
theorem dX10_goes_12 : decode cX10_goes 12 = .ok (.aload_n 0, 1) := dk_42 (dk_at dksX10_goes_0 12 rfl rfl)
theorem dX10_goes_13 : decode cX10_goes 13 = .ok (.areturn, 1) := dk_176 (dk_at dksX10_goes_0 13 rfl rfl)
abbrev cX10_begin : ByteArray := prog_18_method_15_code
def yX10_begin : MethodName := ⟨RX10, "begin", "()V"⟩
def dkwX10_begin_2 : List UInt8 := [42, 180, 0, 34, 163, 0, 10, 42, 180, 0, 15, 27, 4, 79, 132, 1, 1, 167, 255, 204, 177]
abbrev dktX10_begin_2 : List UInt8 := dkwX10_begin_2 ++ []
def dkwX10_begin_1 : List UInt8 := [162, 0, 44, 42, 180, 0, 15, 27, 46, 154, 0, 29, 42, 180, 0, 3, 180, 0, 38, 180, 0, 47, 27, 46]
abbrev dktX10_begin_1 : List UInt8 := dkwX10_begin_1 ++ dktX10_begin_2
def dkwX10_begin_0 : List UInt8 := [42, 89, 180, 0, 34, 4, 96, 181, 0, 34, 3, 60, 27, 42, 180, 0, 3, 180, 0, 38, 180, 0, 42]
abbrev dktX10_begin_0 : List UInt8 := dkwX10_begin_0 ++ dktX10_begin_1
theorem dksX10_begin_0 : cX10_begin.data.toList.drop 0 = dktX10_begin_0 := by decide +kernel
theorem dksX10_begin_1 : cX10_begin.data.toList.drop 23 = dktX10_begin_1 := dk_seg dksX10_begin_0 23 rfl rfl
theorem dksX10_begin_2 : cX10_begin.data.toList.drop 47 = dktX10_begin_2 := dk_seg dksX10_begin_1 24 rfl rfl
theorem dX10_begin_0 : decode cX10_begin 0 = .ok (.aload_n 0, 1) := dk_42 (dk_at dksX10_begin_0 0 rfl rfl)
theorem dX10_begin_1 : decode cX10_begin 1 = .ok (.dup, 1) := dk_89 (dk_at dksX10_begin_0 1 rfl rfl)
theorem dX10_begin_2 : decode cX10_begin 2 = .ok (.getfield 34, 3) := dk_180 0 34 (dk_at dksX10_begin_0 2 rfl rfl)
theorem dX10_begin_5 : decode cX10_begin 5 = .ok (.iconst 1, 1) := dk_4 (dk_at dksX10_begin_0 5 rfl rfl)
theorem dX10_begin_6 : decode cX10_begin 6 = .ok (.iadd, 1) := dk_96 (dk_at dksX10_begin_0 6 rfl rfl)
theorem dX10_begin_7 : decode cX10_begin 7 = .ok (.putfield 34, 3) := dk_181 0 34 (dk_at dksX10_begin_0 7 rfl rfl)
theorem dX10_begin_10 : decode cX10_begin 10 = .ok (.iconst 0, 1) := dk_3 (dk_at dksX10_begin_0 10 rfl rfl)
theorem dX10_begin_11 : decode cX10_begin 11 = .ok (.istore_n 1, 1) := dk_60 (dk_at dksX10_begin_0 11 rfl rfl)
theorem dX10_begin_12 : decode cX10_begin 12 = .ok (.iload_n 1, 1) := dk_27 (dk_at dksX10_begin_0 12 rfl rfl)
theorem dX10_begin_13 : decode cX10_begin 13 = .ok (.aload_n 0, 1) := dk_42 (dk_at dksX10_begin_0 13 rfl rfl)
theorem dX10_begin_14 : decode cX10_begin 14 = .ok (.getfield 3, 3) := dk_180 0 3 (dk_at dksX10_begin_0 14 rfl rfl)
theorem dX10_begin_17 : decode cX10_begin 17 = .ok (.getfield 38, 3) := dk_180 0 38 (dk_at dksX10_begin_0 17 rfl rfl)
theorem dX10_begin_20 : decode cX10_begin 20 = .ok (.getfield 42, 3) := dk_180 0 42 (dk_at dksX10_begin_0 20 rfl rfl)
theorem dX10_begin_23 : decode cX10_begin 23 = .ok (.if_icmp .ge 44, 3) := dk_162 0 44 (dk_at dksX10_begin_1 0 rfl rfl)
theorem dX10_begin_26 : decode cX10_begin 26 = .ok (.aload_n 0, 1) := dk_42 (dk_at dksX10_begin_1 3 rfl rfl)
theorem dX10_begin_27 : decode cX10_begin 27 = .ok (.getfield 15, 3) := dk_180 0 15 (dk_at dksX10_begin_1 4 rfl rfl)
theorem dX10_begin_30 : decode cX10_begin 30 = .ok (.iload_n 1, 1) := dk_27 (dk_at dksX10_begin_1 7 rfl rfl)
theorem dX10_begin_31 : decode cX10_begin 31 = .ok (.iaload, 1) := dk_46 (dk_at dksX10_begin_1 8 rfl rfl)
theorem dX10_begin_32 : decode cX10_begin 32 = .ok (.ifCond .ne 29, 3) := dk_154 0 29 (dk_at dksX10_begin_1 9 rfl rfl)
theorem dX10_begin_35 : decode cX10_begin 35 = .ok (.aload_n 0, 1) := dk_42 (dk_at dksX10_begin_1 12 rfl rfl)
theorem dX10_begin_36 : decode cX10_begin 36 = .ok (.getfield 3, 3) := dk_180 0 3 (dk_at dksX10_begin_1 13 rfl rfl)
theorem dX10_begin_39 : decode cX10_begin 39 = .ok (.getfield 38, 3) := dk_180 0 38 (dk_at dksX10_begin_1 16 rfl rfl)
theorem dX10_begin_42 : decode cX10_begin 42 = .ok (.getfield 47, 3) := dk_180 0 47 (dk_at dksX10_begin_1 19 rfl rfl)
theorem dX10_begin_45 : decode cX10_begin 45 = .ok (.iload_n 1, 1) := dk_27 (dk_at dksX10_begin_1 22 rfl rfl)
theorem dX10_begin_46 : decode cX10_begin 46 = .ok (.iaload, 1) := dk_46 (dk_at dksX10_begin_1 23 rfl rfl)
theorem dX10_begin_47 : decode cX10_begin 47 = .ok (.aload_n 0, 1) := dk_42 (dk_at dksX10_begin_2 0 rfl rfl)
theorem dX10_begin_48 : decode cX10_begin 48 = .ok (.getfield 34, 3) := dk_180 0 34 (dk_at dksX10_begin_2 1 rfl rfl)
theorem dX10_begin_51 : decode cX10_begin 51 = .ok (.if_icmp .gt 10, 3) := dk_163 0 10 (dk_at dksX10_begin_2 4 rfl rfl)
theorem dX10_begin_54 : decode cX10_begin 54 = .ok (.aload_n 0, 1) := dk_42 (dk_at dksX10_begin_2 7 rfl rfl)
theorem dX10_begin_55 : decode cX10_begin 55 = .ok (.getfield 15, 3) := dk_180 0 15 (dk_at dksX10_begin_2 8 rfl rfl)
theorem dX10_begin_58 : decode cX10_begin 58 = .ok (.iload_n 1, 1) := dk_27 (dk_at dksX10_begin_2 11 rfl rfl)
theorem dX10_begin_59 : decode cX10_begin 59 = .ok (.iconst 1, 1) := dk_4 (dk_at dksX10_begin_2 12 rfl rfl)
theorem dX10_begin_60 : decode cX10_begin 60 = .ok (.iastore, 1) := dk_79 (dk_at dksX10_begin_2 13 rfl rfl)
theorem dX10_begin_61 : decode cX10_begin 61 = .ok (.iinc 1 1, 3) := dk_132 1 1 (dk_at dksX10_begin_2 14 rfl rfl)
theorem dX10_begin_64 : decode cX10_begin 64 = .ok (.goto (-52), 3) := dk_167 255 204 (dk_at dksX10_begin_2 17 rfl rfl)
theorem dX10_begin_67 : decode cX10_begin 67 = .ok (.return_, 1) := dk_177 (dk_at dksX10_begin_2 20 rfl rfl)
abbrev cX10_deaths : ByteArray := prog_18_method_16_code
def yX10_deaths : MethodName := ⟨RX10, "deaths", "()V"⟩
def dkwX10_deaths_2 : List UInt8 := [182, 0, 123, 87, 132, 1, 1, 167, 255, 204, 177]
abbrev dktX10_deaths_2 : List UInt8 := dkwX10_deaths_2 ++ []
def dkwX10_deaths_1 : List UInt8 := [180, 0, 120, 27, 46, 42, 180, 0, 34, 160, 0, 19, 42, 180, 0, 15, 27, 46, 4, 160, 0, 9, 42, 27]
abbrev dktX10_deaths_1 : List UInt8 := dkwX10_deaths_1 ++ dktX10_deaths_2
def dkwX10_deaths_0 : List UInt8 := [3, 60, 27, 42, 180, 0, 3, 180, 0, 38, 180, 0, 42, 162, 0, 44, 42, 180, 0, 3, 180, 0, 38]
abbrev dktX10_deaths_0 : List UInt8 := dkwX10_deaths_0 ++ dktX10_deaths_1
theorem dksX10_deaths_0 : cX10_deaths.data.toList.drop 0 = dktX10_deaths_0 := by decide +kernel
theorem dksX10_deaths_1 : cX10_deaths.data.toList.drop 23 = dktX10_deaths_1 := dk_seg dksX10_deaths_0 23 rfl rfl
theorem dksX10_deaths_2 : cX10_deaths.data.toList.drop 47 = dktX10_deaths_2 := dk_seg dksX10_deaths_1 24 rfl rfl
theorem dX10_deaths_0 : decode cX10_deaths 0 = .ok (.iconst 0, 1) := dk_3 (dk_at dksX10_deaths_0 0 rfl rfl)
theorem dX10_deaths_1 : decode cX10_deaths 1 = .ok (.istore_n 1, 1) := dk_60 (dk_at dksX10_deaths_0 1 rfl rfl)
theorem dX10_deaths_2 : decode cX10_deaths 2 = .ok (.iload_n 1, 1) := dk_27 (dk_at dksX10_deaths_0 2 rfl rfl)
theorem dX10_deaths_3 : decode cX10_deaths 3 = .ok (.aload_n 0, 1) := dk_42 (dk_at dksX10_deaths_0 3 rfl rfl)
theorem dX10_deaths_4 : decode cX10_deaths 4 = .ok (.getfield 3, 3) := dk_180 0 3 (dk_at dksX10_deaths_0 4 rfl rfl)
theorem dX10_deaths_7 : decode cX10_deaths 7 = .ok (.getfield 38, 3) := dk_180 0 38 (dk_at dksX10_deaths_0 7 rfl rfl)
theorem dX10_deaths_10 : decode cX10_deaths 10 = .ok (.getfield 42, 3) := dk_180 0 42 (dk_at dksX10_deaths_0 10 rfl rfl)
theorem dX10_deaths_13 : decode cX10_deaths 13 = .ok (.if_icmp .ge 44, 3) := dk_162 0 44 (dk_at dksX10_deaths_0 13 rfl rfl)
theorem dX10_deaths_16 : decode cX10_deaths 16 = .ok (.aload_n 0, 1) := dk_42 (dk_at dksX10_deaths_0 16 rfl rfl)
theorem dX10_deaths_17 : decode cX10_deaths 17 = .ok (.getfield 3, 3) := dk_180 0 3 (dk_at dksX10_deaths_0 17 rfl rfl)
theorem dX10_deaths_20 : decode cX10_deaths 20 = .ok (.getfield 38, 3) := dk_180 0 38 (dk_at dksX10_deaths_0 20 rfl rfl)
theorem dX10_deaths_23 : decode cX10_deaths 23 = .ok (.getfield 120, 3) := dk_180 0 120 (dk_at dksX10_deaths_1 0 rfl rfl)
theorem dX10_deaths_26 : decode cX10_deaths 26 = .ok (.iload_n 1, 1) := dk_27 (dk_at dksX10_deaths_1 3 rfl rfl)
theorem dX10_deaths_27 : decode cX10_deaths 27 = .ok (.iaload, 1) := dk_46 (dk_at dksX10_deaths_1 4 rfl rfl)
theorem dX10_deaths_28 : decode cX10_deaths 28 = .ok (.aload_n 0, 1) := dk_42 (dk_at dksX10_deaths_1 5 rfl rfl)
theorem dX10_deaths_29 : decode cX10_deaths 29 = .ok (.getfield 34, 3) := dk_180 0 34 (dk_at dksX10_deaths_1 6 rfl rfl)
theorem dX10_deaths_32 : decode cX10_deaths 32 = .ok (.if_icmp .ne 19, 3) := dk_160 0 19 (dk_at dksX10_deaths_1 9 rfl rfl)
theorem dX10_deaths_35 : decode cX10_deaths 35 = .ok (.aload_n 0, 1) := dk_42 (dk_at dksX10_deaths_1 12 rfl rfl)
theorem dX10_deaths_36 : decode cX10_deaths 36 = .ok (.getfield 15, 3) := dk_180 0 15 (dk_at dksX10_deaths_1 13 rfl rfl)
theorem dX10_deaths_39 : decode cX10_deaths 39 = .ok (.iload_n 1, 1) := dk_27 (dk_at dksX10_deaths_1 16 rfl rfl)
theorem dX10_deaths_40 : decode cX10_deaths 40 = .ok (.iaload, 1) := dk_46 (dk_at dksX10_deaths_1 17 rfl rfl)
theorem dX10_deaths_41 : decode cX10_deaths 41 = .ok (.iconst 1, 1) := dk_4 (dk_at dksX10_deaths_1 18 rfl rfl)
theorem dX10_deaths_42 : decode cX10_deaths 42 = .ok (.if_icmp .ne 9, 3) := dk_160 0 9 (dk_at dksX10_deaths_1 19 rfl rfl)
theorem dX10_deaths_45 : decode cX10_deaths 45 = .ok (.aload_n 0, 1) := dk_42 (dk_at dksX10_deaths_1 22 rfl rfl)
theorem dX10_deaths_46 : decode cX10_deaths 46 = .ok (.iload_n 1, 1) := dk_27 (dk_at dksX10_deaths_1 23 rfl rfl)
theorem dX10_deaths_47 : decode cX10_deaths 47 = .ok (.invokevirtual 123, 3) := dk_182 0 123 (dk_at dksX10_deaths_2 0 rfl rfl)
theorem dX10_deaths_50 : decode cX10_deaths 50 = .ok (.pop, 1) := dk_87 (dk_at dksX10_deaths_2 3 rfl rfl)
theorem dX10_deaths_51 : decode cX10_deaths 51 = .ok (.iinc 1 1, 3) := dk_132 1 1 (dk_at dksX10_deaths_2 4 rfl rfl)
theorem dX10_deaths_54 : decode cX10_deaths 54 = .ok (.goto (-52), 3) := dk_167 255 204 (dk_at dksX10_deaths_2 7 rfl rfl)
theorem dX10_deaths_57 : decode cX10_deaths 57 = .ok (.return_, 1) := dk_177 (dk_at dksX10_deaths_2 10 rfl rfl)
abbrev cX10_dies : ByteArray := prog_18_method_14_code
def yX10_dies : MethodName := ⟨RX10, "dies", "(I)I"⟩
def dkwX10_dies_2 : List UInt8 := [167, 255, 224, 28, 184, 0, 70, 172]
abbrev dktX10_dies_2 : List UInt8 := dkwX10_dies_2 ++ []
def dkwX10_dies_1 : List UInt8 := [180, 0, 64, 162, 0, 24, 28, 29, 122, 4, 126, 4, 160, 0, 9, 42, 29, 27, 182, 0, 116, 132, 3, 1]
abbrev dktX10_dies_1 : List UInt8 := dkwX10_dies_1 ++ dktX10_dies_2
def dkwX10_dies_0 : List UInt8 := [42, 27, 182, 0, 91, 61, 42, 180, 0, 15, 27, 5, 79, 3, 62, 29, 42, 180, 0, 3, 180, 0, 38]
abbrev dktX10_dies_0 : List UInt8 := dkwX10_dies_0 ++ dktX10_dies_1
theorem dksX10_dies_0 : cX10_dies.data.toList.drop 0 = dktX10_dies_0 := by decide +kernel
theorem dksX10_dies_1 : cX10_dies.data.toList.drop 23 = dktX10_dies_1 := dk_seg dksX10_dies_0 23 rfl rfl
theorem dksX10_dies_2 : cX10_dies.data.toList.drop 47 = dktX10_dies_2 := dk_seg dksX10_dies_1 24 rfl rfl
theorem dX10_dies_0 : decode cX10_dies 0 = .ok (.aload_n 0, 1) := dk_42 (dk_at dksX10_dies_0 0 rfl rfl)
theorem dX10_dies_1 : decode cX10_dies 1 = .ok (.iload_n 1, 1) := dk_27 (dk_at dksX10_dies_0 1 rfl rfl)
theorem dX10_dies_2 : decode cX10_dies 2 = .ok (.invokevirtual 91, 3) := dk_182 0 91 (dk_at dksX10_dies_0 2 rfl rfl)
theorem dX10_dies_5 : decode cX10_dies 5 = .ok (.istore_n 2, 1) := dk_61 (dk_at dksX10_dies_0 5 rfl rfl)
theorem dX10_dies_6 : decode cX10_dies 6 = .ok (.aload_n 0, 1) := dk_42 (dk_at dksX10_dies_0 6 rfl rfl)
theorem dX10_dies_7 : decode cX10_dies 7 = .ok (.getfield 15, 3) := dk_180 0 15 (dk_at dksX10_dies_0 7 rfl rfl)
theorem dX10_dies_10 : decode cX10_dies 10 = .ok (.iload_n 1, 1) := dk_27 (dk_at dksX10_dies_0 10 rfl rfl)
theorem dX10_dies_11 : decode cX10_dies 11 = .ok (.iconst 2, 1) := dk_5 (dk_at dksX10_dies_0 11 rfl rfl)
theorem dX10_dies_12 : decode cX10_dies 12 = .ok (.iastore, 1) := dk_79 (dk_at dksX10_dies_0 12 rfl rfl)
theorem dX10_dies_13 : decode cX10_dies 13 = .ok (.iconst 0, 1) := dk_3 (dk_at dksX10_dies_0 13 rfl rfl)
theorem dX10_dies_14 : decode cX10_dies 14 = .ok (.istore_n 3, 1) := dk_62 (dk_at dksX10_dies_0 14 rfl rfl)
theorem dX10_dies_15 : decode cX10_dies 15 = .ok (.iload_n 3, 1) := dk_29 (dk_at dksX10_dies_0 15 rfl rfl)
theorem dX10_dies_16 : decode cX10_dies 16 = .ok (.aload_n 0, 1) := dk_42 (dk_at dksX10_dies_0 16 rfl rfl)
theorem dX10_dies_17 : decode cX10_dies 17 = .ok (.getfield 3, 3) := dk_180 0 3 (dk_at dksX10_dies_0 17 rfl rfl)
theorem dX10_dies_20 : decode cX10_dies 20 = .ok (.getfield 38, 3) := dk_180 0 38 (dk_at dksX10_dies_0 20 rfl rfl)
theorem dX10_dies_23 : decode cX10_dies 23 = .ok (.getfield 64, 3) := dk_180 0 64 (dk_at dksX10_dies_1 0 rfl rfl)
theorem dX10_dies_26 : decode cX10_dies 26 = .ok (.if_icmp .ge 24, 3) := dk_162 0 24 (dk_at dksX10_dies_1 3 rfl rfl)
theorem dX10_dies_29 : decode cX10_dies 29 = .ok (.iload_n 2, 1) := dk_28 (dk_at dksX10_dies_1 6 rfl rfl)
theorem dX10_dies_30 : decode cX10_dies 30 = .ok (.iload_n 3, 1) := dk_29 (dk_at dksX10_dies_1 7 rfl rfl)
theorem dX10_dies_31 : decode cX10_dies 31 = .ok (.ishr, 1) := dk_122 (dk_at dksX10_dies_1 8 rfl rfl)
theorem dX10_dies_32 : decode cX10_dies 32 = .ok (.iconst 1, 1) := dk_4 (dk_at dksX10_dies_1 9 rfl rfl)
theorem dX10_dies_33 : decode cX10_dies 33 = .ok (.iand, 1) := dk_126 (dk_at dksX10_dies_1 10 rfl rfl)
theorem dX10_dies_34 : decode cX10_dies 34 = .ok (.iconst 1, 1) := dk_4 (dk_at dksX10_dies_1 11 rfl rfl)
theorem dX10_dies_35 : decode cX10_dies 35 = .ok (.if_icmp .ne 9, 3) := dk_160 0 9 (dk_at dksX10_dies_1 12 rfl rfl)
theorem dX10_dies_38 : decode cX10_dies 38 = .ok (.aload_n 0, 1) := dk_42 (dk_at dksX10_dies_1 15 rfl rfl)
theorem dX10_dies_39 : decode cX10_dies 39 = .ok (.iload_n 3, 1) := dk_29 (dk_at dksX10_dies_1 16 rfl rfl)
theorem dX10_dies_40 : decode cX10_dies 40 = .ok (.iload_n 1, 1) := dk_27 (dk_at dksX10_dies_1 17 rfl rfl)
theorem dX10_dies_41 : decode cX10_dies 41 = .ok (.invokevirtual 116, 3) := dk_182 0 116 (dk_at dksX10_dies_1 18 rfl rfl)
theorem dX10_dies_44 : decode cX10_dies 44 = .ok (.iinc 3 1, 3) := dk_132 3 1 (dk_at dksX10_dies_1 21 rfl rfl)
theorem dX10_dies_47 : decode cX10_dies 47 = .ok (.goto (-32), 3) := dk_167 255 224 (dk_at dksX10_dies_2 0 rfl rfl)
theorem dX10_dies_50 : decode cX10_dies 50 = .ok (.iload_n 2, 1) := dk_28 (dk_at dksX10_dies_2 3 rfl rfl)
theorem dX10_dies_51 : decode cX10_dies 51 = .ok (.invokestatic 70, 3) := dk_184 0 70 (dk_at dksX10_dies_2 4 rfl rfl)
theorem dX10_dies_54 : decode cX10_dies 54 = .ok (.ireturn, 1) := dk_172 (dk_at dksX10_dies_2 7 rfl rfl)
abbrev cX10_workedBy : ByteArray := prog_18_method_5_code
def yX10_workedBy : MethodName := ⟨RX10, "workedBy", "(I)I"⟩
def dkwX10_workedBy_1 : List UInt8 := [182, 0, 54, 153, 0, 9, 4, 29, 120, 167, 0, 4, 3, 128, 61, 132, 3, 1, 167, 255, 220, 28, 172]
abbrev dktX10_workedBy_1 : List UInt8 := dkwX10_workedBy_1 ++ []
def dkwX10_workedBy_0 : List UInt8 := [3, 61, 3, 62, 29, 42, 180, 0, 3, 180, 0, 38, 180, 0, 64, 162, 0, 28, 28, 42, 29, 27]
abbrev dktX10_workedBy_0 : List UInt8 := dkwX10_workedBy_0 ++ dktX10_workedBy_1
theorem dksX10_workedBy_0 : cX10_workedBy.data.toList.drop 0 = dktX10_workedBy_0 := by decide +kernel
theorem dksX10_workedBy_1 : cX10_workedBy.data.toList.drop 22 = dktX10_workedBy_1 := dk_seg dksX10_workedBy_0 22 rfl rfl
theorem dX10_workedBy_0 : decode cX10_workedBy 0 = .ok (.iconst 0, 1) := dk_3 (dk_at dksX10_workedBy_0 0 rfl rfl)
theorem dX10_workedBy_1 : decode cX10_workedBy 1 = .ok (.istore_n 2, 1) := dk_61 (dk_at dksX10_workedBy_0 1 rfl rfl)
theorem dX10_workedBy_2 : decode cX10_workedBy 2 = .ok (.iconst 0, 1) := dk_3 (dk_at dksX10_workedBy_0 2 rfl rfl)
theorem dX10_workedBy_3 : decode cX10_workedBy 3 = .ok (.istore_n 3, 1) := dk_62 (dk_at dksX10_workedBy_0 3 rfl rfl)
theorem dX10_workedBy_4 : decode cX10_workedBy 4 = .ok (.iload_n 3, 1) := dk_29 (dk_at dksX10_workedBy_0 4 rfl rfl)
theorem dX10_workedBy_5 : decode cX10_workedBy 5 = .ok (.aload_n 0, 1) := dk_42 (dk_at dksX10_workedBy_0 5 rfl rfl)
theorem dX10_workedBy_6 : decode cX10_workedBy 6 = .ok (.getfield 3, 3) := dk_180 0 3 (dk_at dksX10_workedBy_0 6 rfl rfl)
theorem dX10_workedBy_9 : decode cX10_workedBy 9 = .ok (.getfield 38, 3) := dk_180 0 38 (dk_at dksX10_workedBy_0 9 rfl rfl)
theorem dX10_workedBy_12 : decode cX10_workedBy 12 = .ok (.getfield 64, 3) := dk_180 0 64 (dk_at dksX10_workedBy_0 12 rfl rfl)
theorem dX10_workedBy_15 : decode cX10_workedBy 15 = .ok (.if_icmp .ge 28, 3) := dk_162 0 28 (dk_at dksX10_workedBy_0 15 rfl rfl)
theorem dX10_workedBy_18 : decode cX10_workedBy 18 = .ok (.iload_n 2, 1) := dk_28 (dk_at dksX10_workedBy_0 18 rfl rfl)
theorem dX10_workedBy_19 : decode cX10_workedBy 19 = .ok (.aload_n 0, 1) := dk_42 (dk_at dksX10_workedBy_0 19 rfl rfl)
theorem dX10_workedBy_20 : decode cX10_workedBy 20 = .ok (.iload_n 3, 1) := dk_29 (dk_at dksX10_workedBy_0 20 rfl rfl)
theorem dX10_workedBy_21 : decode cX10_workedBy 21 = .ok (.iload_n 1, 1) := dk_27 (dk_at dksX10_workedBy_0 21 rfl rfl)
theorem dX10_workedBy_22 : decode cX10_workedBy 22 = .ok (.invokevirtual 54, 3) := dk_182 0 54 (dk_at dksX10_workedBy_1 0 rfl rfl)
theorem dX10_workedBy_25 : decode cX10_workedBy 25 = .ok (.ifCond .eq 9, 3) := dk_153 0 9 (dk_at dksX10_workedBy_1 3 rfl rfl)
theorem dX10_workedBy_28 : decode cX10_workedBy 28 = .ok (.iconst 1, 1) := dk_4 (dk_at dksX10_workedBy_1 6 rfl rfl)
theorem dX10_workedBy_29 : decode cX10_workedBy 29 = .ok (.iload_n 3, 1) := dk_29 (dk_at dksX10_workedBy_1 7 rfl rfl)
theorem dX10_workedBy_30 : decode cX10_workedBy 30 = .ok (.ishl, 1) := dk_120 (dk_at dksX10_workedBy_1 8 rfl rfl)
theorem dX10_workedBy_31 : decode cX10_workedBy 31 = .ok (.goto 4, 3) := dk_167 0 4 (dk_at dksX10_workedBy_1 9 rfl rfl)
theorem dX10_workedBy_34 : decode cX10_workedBy 34 = .ok (.iconst 0, 1) := dk_3 (dk_at dksX10_workedBy_1 12 rfl rfl)
theorem dX10_workedBy_35 : decode cX10_workedBy 35 = .ok (.ior, 1) := dk_128 (dk_at dksX10_workedBy_1 13 rfl rfl)
theorem dX10_workedBy_36 : decode cX10_workedBy 36 = .ok (.istore_n 2, 1) := dk_61 (dk_at dksX10_workedBy_1 14 rfl rfl)
theorem dX10_workedBy_37 : decode cX10_workedBy 37 = .ok (.iinc 3 1, 3) := dk_132 3 1 (dk_at dksX10_workedBy_1 15 rfl rfl)
theorem dX10_workedBy_40 : decode cX10_workedBy 40 = .ok (.goto (-36), 3) := dk_167 255 220 (dk_at dksX10_workedBy_1 18 rfl rfl)
theorem dX10_workedBy_43 : decode cX10_workedBy 43 = .ok (.iload_n 2, 1) := dk_28 (dk_at dksX10_workedBy_1 21 rfl rfl)
theorem dX10_workedBy_44 : decode cX10_workedBy 44 = .ok (.ireturn, 1) := dk_172 (dk_at dksX10_workedBy_1 22 rfl rfl)
abbrev cX10_leaves : ByteArray := prog_18_method_12_code
def yX10_leaves : MethodName := ⟨RX10, "leaves", "(II)V"⟩
def dkwX10_leaves_0 : List UInt8 := [42, 180, 0, 19, 27, 92, 46, 4, 28, 120, 2, 130, 126, 79, 42, 180, 0, 22, 27, 28, 79, 177]
abbrev dktX10_leaves_0 : List UInt8 := dkwX10_leaves_0 ++ []
theorem dksX10_leaves_0 : cX10_leaves.data.toList.drop 0 = dktX10_leaves_0 := by decide +kernel
theorem dX10_leaves_0 : decode cX10_leaves 0 = .ok (.aload_n 0, 1) := dk_42 (dk_at dksX10_leaves_0 0 rfl rfl)
theorem dX10_leaves_1 : decode cX10_leaves 1 = .ok (.getfield 19, 3) := dk_180 0 19 (dk_at dksX10_leaves_0 1 rfl rfl)
theorem dX10_leaves_4 : decode cX10_leaves 4 = .ok (.iload_n 1, 1) := dk_27 (dk_at dksX10_leaves_0 4 rfl rfl)
theorem dX10_leaves_5 : decode cX10_leaves 5 = .ok (.dup2, 1) := dk_92 (dk_at dksX10_leaves_0 5 rfl rfl)
theorem dX10_leaves_6 : decode cX10_leaves 6 = .ok (.iaload, 1) := dk_46 (dk_at dksX10_leaves_0 6 rfl rfl)
theorem dX10_leaves_7 : decode cX10_leaves 7 = .ok (.iconst 1, 1) := dk_4 (dk_at dksX10_leaves_0 7 rfl rfl)
theorem dX10_leaves_8 : decode cX10_leaves 8 = .ok (.iload_n 2, 1) := dk_28 (dk_at dksX10_leaves_0 8 rfl rfl)
theorem dX10_leaves_9 : decode cX10_leaves 9 = .ok (.ishl, 1) := dk_120 (dk_at dksX10_leaves_0 9 rfl rfl)
theorem dX10_leaves_10 : decode cX10_leaves 10 = .ok (.iconst (-1), 1) := dk_2 (dk_at dksX10_leaves_0 10 rfl rfl)
theorem dX10_leaves_11 : decode cX10_leaves 11 = .ok (.ixor, 1) := dk_130 (dk_at dksX10_leaves_0 11 rfl rfl)
theorem dX10_leaves_12 : decode cX10_leaves 12 = .ok (.iand, 1) := dk_126 (dk_at dksX10_leaves_0 12 rfl rfl)
theorem dX10_leaves_13 : decode cX10_leaves 13 = .ok (.iastore, 1) := dk_79 (dk_at dksX10_leaves_0 13 rfl rfl)
theorem dX10_leaves_14 : decode cX10_leaves 14 = .ok (.aload_n 0, 1) := dk_42 (dk_at dksX10_leaves_0 14 rfl rfl)
theorem dX10_leaves_15 : decode cX10_leaves 15 = .ok (.getfield 22, 3) := dk_180 0 22 (dk_at dksX10_leaves_0 15 rfl rfl)
theorem dX10_leaves_18 : decode cX10_leaves 18 = .ok (.iload_n 1, 1) := dk_27 (dk_at dksX10_leaves_0 18 rfl rfl)
theorem dX10_leaves_19 : decode cX10_leaves 19 = .ok (.iload_n 2, 1) := dk_28 (dk_at dksX10_leaves_0 19 rfl rfl)
theorem dX10_leaves_20 : decode cX10_leaves 20 = .ok (.iastore, 1) := dk_79 (dk_at dksX10_leaves_0 20 rfl rfl)
theorem dX10_leaves_21 : decode cX10_leaves 21 = .ok (.return_, 1) := dk_177 (dk_at dksX10_leaves_0 21 rfl rfl)
abbrev cX10_choices : ByteArray := prog_18_method_17_code
def yX10_choices : MethodName := ⟨RX10, "choices", "()V"⟩
def dkwX10_choices_5 : List UInt8 := [184, 0, 76, 79, 132, 1, 1, 167, 255, 204, 177]
abbrev dktX10_choices_5 : List UInt8 := dkwX10_choices_5 ++ []
def dkwX10_choices_4 : List UInt8 := [180, 0, 25, 27, 3, 42, 180, 0, 25, 27, 46, 42, 180, 0, 3, 180, 0, 38, 180, 0, 134, 100]
abbrev dktX10_choices_4 : List UInt8 := dkwX10_choices_4 ++ dktX10_choices_5
def dkwX10_choices_3 : List UInt8 := [27, 42, 180, 0, 3, 180, 0, 38, 180, 0, 64, 162, 0, 44, 42, 27, 182, 0, 125, 154, 0, 30, 42]
abbrev dktX10_choices_3 : List UInt8 := dkwX10_choices_3 ++ dktX10_choices_4
def dkwX10_choices_2 : List UInt8 := [28, 46, 2, 160, 0, 10, 42, 180, 0, 31, 28, 27, 79, 167, 255, 211, 132, 1, 1, 167, 255, 191, 3, 60]
abbrev dktX10_choices_2 : List UInt8 := dkwX10_choices_2 ++ dktX10_choices_3
def dkwX10_choices_1 : List UInt8 := [42, 27, 182, 0, 128, 61, 28, 2, 160, 0, 6, 167, 0, 29, 42, 27, 28, 182, 0, 131, 42, 180, 0, 31]
abbrev dktX10_choices_1 : List UInt8 := dkwX10_choices_1 ++ dktX10_choices_2
def dkwX10_choices_0 : List UInt8 := [3, 60, 27, 42, 180, 0, 3, 180, 0, 38, 180, 0, 64, 162, 0, 57, 42, 27, 182, 0, 125, 158, 0, 43]
abbrev dktX10_choices_0 : List UInt8 := dkwX10_choices_0 ++ dktX10_choices_1
theorem dksX10_choices_0 : cX10_choices.data.toList.drop 0 = dktX10_choices_0 := by decide +kernel
theorem dksX10_choices_1 : cX10_choices.data.toList.drop 24 = dktX10_choices_1 := dk_seg dksX10_choices_0 24 rfl rfl
theorem dksX10_choices_2 : cX10_choices.data.toList.drop 48 = dktX10_choices_2 := dk_seg dksX10_choices_1 24 rfl rfl
theorem dksX10_choices_3 : cX10_choices.data.toList.drop 72 = dktX10_choices_3 := dk_seg dksX10_choices_2 24 rfl rfl
theorem dksX10_choices_4 : cX10_choices.data.toList.drop 95 = dktX10_choices_4 := dk_seg dksX10_choices_3 23 rfl rfl
theorem dksX10_choices_5 : cX10_choices.data.toList.drop 117 = dktX10_choices_5 := dk_seg dksX10_choices_4 22 rfl rfl
theorem dX10_choices_0 : decode cX10_choices 0 = .ok (.iconst 0, 1) := dk_3 (dk_at dksX10_choices_0 0 rfl rfl)
theorem dX10_choices_1 : decode cX10_choices 1 = .ok (.istore_n 1, 1) := dk_60 (dk_at dksX10_choices_0 1 rfl rfl)
theorem dX10_choices_2 : decode cX10_choices 2 = .ok (.iload_n 1, 1) := dk_27 (dk_at dksX10_choices_0 2 rfl rfl)
theorem dX10_choices_3 : decode cX10_choices 3 = .ok (.aload_n 0, 1) := dk_42 (dk_at dksX10_choices_0 3 rfl rfl)
theorem dX10_choices_4 : decode cX10_choices 4 = .ok (.getfield 3, 3) := dk_180 0 3 (dk_at dksX10_choices_0 4 rfl rfl)
theorem dX10_choices_7 : decode cX10_choices 7 = .ok (.getfield 38, 3) := dk_180 0 38 (dk_at dksX10_choices_0 7 rfl rfl)
theorem dX10_choices_10 : decode cX10_choices 10 = .ok (.getfield 64, 3) := dk_180 0 64 (dk_at dksX10_choices_0 10 rfl rfl)
theorem dX10_choices_13 : decode cX10_choices 13 = .ok (.if_icmp .ge 57, 3) := dk_162 0 57 (dk_at dksX10_choices_0 13 rfl rfl)
theorem dX10_choices_16 : decode cX10_choices 16 = .ok (.aload_n 0, 1) := dk_42 (dk_at dksX10_choices_0 16 rfl rfl)
theorem dX10_choices_17 : decode cX10_choices 17 = .ok (.iload_n 1, 1) := dk_27 (dk_at dksX10_choices_0 17 rfl rfl)
theorem dX10_choices_18 : decode cX10_choices 18 = .ok (.invokevirtual 125, 3) := dk_182 0 125 (dk_at dksX10_choices_0 18 rfl rfl)
theorem dX10_choices_21 : decode cX10_choices 21 = .ok (.ifCond .le 43, 3) := dk_158 0 43 (dk_at dksX10_choices_0 21 rfl rfl)
theorem dX10_choices_24 : decode cX10_choices 24 = .ok (.aload_n 0, 1) := dk_42 (dk_at dksX10_choices_1 0 rfl rfl)
theorem dX10_choices_25 : decode cX10_choices 25 = .ok (.iload_n 1, 1) := dk_27 (dk_at dksX10_choices_1 1 rfl rfl)
theorem dX10_choices_26 : decode cX10_choices 26 = .ok (.invokevirtual 128, 3) := dk_182 0 128 (dk_at dksX10_choices_1 2 rfl rfl)
theorem dX10_choices_29 : decode cX10_choices 29 = .ok (.istore_n 2, 1) := dk_61 (dk_at dksX10_choices_1 5 rfl rfl)
theorem dX10_choices_30 : decode cX10_choices 30 = .ok (.iload_n 2, 1) := dk_28 (dk_at dksX10_choices_1 6 rfl rfl)
theorem dX10_choices_31 : decode cX10_choices 31 = .ok (.iconst (-1), 1) := dk_2 (dk_at dksX10_choices_1 7 rfl rfl)
theorem dX10_choices_32 : decode cX10_choices 32 = .ok (.if_icmp .ne 6, 3) := dk_160 0 6 (dk_at dksX10_choices_1 8 rfl rfl)
theorem dX10_choices_35 : decode cX10_choices 35 = .ok (.goto 29, 3) := dk_167 0 29 (dk_at dksX10_choices_1 11 rfl rfl)
theorem dX10_choices_38 : decode cX10_choices 38 = .ok (.aload_n 0, 1) := dk_42 (dk_at dksX10_choices_1 14 rfl rfl)
theorem dX10_choices_39 : decode cX10_choices 39 = .ok (.iload_n 1, 1) := dk_27 (dk_at dksX10_choices_1 15 rfl rfl)
theorem dX10_choices_40 : decode cX10_choices 40 = .ok (.iload_n 2, 1) := dk_28 (dk_at dksX10_choices_1 16 rfl rfl)
theorem dX10_choices_41 : decode cX10_choices 41 = .ok (.invokevirtual 131, 3) := dk_182 0 131 (dk_at dksX10_choices_1 17 rfl rfl)
theorem dX10_choices_44 : decode cX10_choices 44 = .ok (.aload_n 0, 1) := dk_42 (dk_at dksX10_choices_1 20 rfl rfl)
theorem dX10_choices_45 : decode cX10_choices 45 = .ok (.getfield 31, 3) := dk_180 0 31 (dk_at dksX10_choices_1 21 rfl rfl)
theorem dX10_choices_48 : decode cX10_choices 48 = .ok (.iload_n 2, 1) := dk_28 (dk_at dksX10_choices_2 0 rfl rfl)
theorem dX10_choices_49 : decode cX10_choices 49 = .ok (.iaload, 1) := dk_46 (dk_at dksX10_choices_2 1 rfl rfl)
theorem dX10_choices_50 : decode cX10_choices 50 = .ok (.iconst (-1), 1) := dk_2 (dk_at dksX10_choices_2 2 rfl rfl)
theorem dX10_choices_51 : decode cX10_choices 51 = .ok (.if_icmp .ne 10, 3) := dk_160 0 10 (dk_at dksX10_choices_2 3 rfl rfl)
theorem dX10_choices_54 : decode cX10_choices 54 = .ok (.aload_n 0, 1) := dk_42 (dk_at dksX10_choices_2 6 rfl rfl)
theorem dX10_choices_55 : decode cX10_choices 55 = .ok (.getfield 31, 3) := dk_180 0 31 (dk_at dksX10_choices_2 7 rfl rfl)
theorem dX10_choices_58 : decode cX10_choices 58 = .ok (.iload_n 2, 1) := dk_28 (dk_at dksX10_choices_2 10 rfl rfl)
theorem dX10_choices_59 : decode cX10_choices 59 = .ok (.iload_n 1, 1) := dk_27 (dk_at dksX10_choices_2 11 rfl rfl)
theorem dX10_choices_60 : decode cX10_choices 60 = .ok (.iastore, 1) := dk_79 (dk_at dksX10_choices_2 12 rfl rfl)
theorem dX10_choices_61 : decode cX10_choices 61 = .ok (.goto (-45), 3) := dk_167 255 211 (dk_at dksX10_choices_2 13 rfl rfl)
theorem dX10_choices_64 : decode cX10_choices 64 = .ok (.iinc 1 1, 3) := dk_132 1 1 (dk_at dksX10_choices_2 16 rfl rfl)
theorem dX10_choices_67 : decode cX10_choices 67 = .ok (.goto (-65), 3) := dk_167 255 191 (dk_at dksX10_choices_2 19 rfl rfl)
theorem dX10_choices_70 : decode cX10_choices 70 = .ok (.iconst 0, 1) := dk_3 (dk_at dksX10_choices_2 22 rfl rfl)
theorem dX10_choices_71 : decode cX10_choices 71 = .ok (.istore_n 1, 1) := dk_60 (dk_at dksX10_choices_2 23 rfl rfl)
theorem dX10_choices_72 : decode cX10_choices 72 = .ok (.iload_n 1, 1) := dk_27 (dk_at dksX10_choices_3 0 rfl rfl)
theorem dX10_choices_73 : decode cX10_choices 73 = .ok (.aload_n 0, 1) := dk_42 (dk_at dksX10_choices_3 1 rfl rfl)
theorem dX10_choices_74 : decode cX10_choices 74 = .ok (.getfield 3, 3) := dk_180 0 3 (dk_at dksX10_choices_3 2 rfl rfl)
theorem dX10_choices_77 : decode cX10_choices 77 = .ok (.getfield 38, 3) := dk_180 0 38 (dk_at dksX10_choices_3 5 rfl rfl)
theorem dX10_choices_80 : decode cX10_choices 80 = .ok (.getfield 64, 3) := dk_180 0 64 (dk_at dksX10_choices_3 8 rfl rfl)
theorem dX10_choices_83 : decode cX10_choices 83 = .ok (.if_icmp .ge 44, 3) := dk_162 0 44 (dk_at dksX10_choices_3 11 rfl rfl)
theorem dX10_choices_86 : decode cX10_choices 86 = .ok (.aload_n 0, 1) := dk_42 (dk_at dksX10_choices_3 14 rfl rfl)
theorem dX10_choices_87 : decode cX10_choices 87 = .ok (.iload_n 1, 1) := dk_27 (dk_at dksX10_choices_3 15 rfl rfl)
theorem dX10_choices_88 : decode cX10_choices 88 = .ok (.invokevirtual 125, 3) := dk_182 0 125 (dk_at dksX10_choices_3 16 rfl rfl)
theorem dX10_choices_91 : decode cX10_choices 91 = .ok (.ifCond .ne 30, 3) := dk_154 0 30 (dk_at dksX10_choices_3 19 rfl rfl)
theorem dX10_choices_94 : decode cX10_choices 94 = .ok (.aload_n 0, 1) := dk_42 (dk_at dksX10_choices_3 22 rfl rfl)
theorem dX10_choices_95 : decode cX10_choices 95 = .ok (.getfield 25, 3) := dk_180 0 25 (dk_at dksX10_choices_4 0 rfl rfl)
theorem dX10_choices_98 : decode cX10_choices 98 = .ok (.iload_n 1, 1) := dk_27 (dk_at dksX10_choices_4 3 rfl rfl)
theorem dX10_choices_99 : decode cX10_choices 99 = .ok (.iconst 0, 1) := dk_3 (dk_at dksX10_choices_4 4 rfl rfl)
theorem dX10_choices_100 : decode cX10_choices 100 = .ok (.aload_n 0, 1) := dk_42 (dk_at dksX10_choices_4 5 rfl rfl)
theorem dX10_choices_101 : decode cX10_choices 101 = .ok (.getfield 25, 3) := dk_180 0 25 (dk_at dksX10_choices_4 6 rfl rfl)
theorem dX10_choices_104 : decode cX10_choices 104 = .ok (.iload_n 1, 1) := dk_27 (dk_at dksX10_choices_4 9 rfl rfl)
theorem dX10_choices_105 : decode cX10_choices 105 = .ok (.iaload, 1) := dk_46 (dk_at dksX10_choices_4 10 rfl rfl)
theorem dX10_choices_106 : decode cX10_choices 106 = .ok (.aload_n 0, 1) := dk_42 (dk_at dksX10_choices_4 11 rfl rfl)
theorem dX10_choices_107 : decode cX10_choices 107 = .ok (.getfield 3, 3) := dk_180 0 3 (dk_at dksX10_choices_4 12 rfl rfl)
theorem dX10_choices_110 : decode cX10_choices 110 = .ok (.getfield 38, 3) := dk_180 0 38 (dk_at dksX10_choices_4 15 rfl rfl)
theorem dX10_choices_113 : decode cX10_choices 113 = .ok (.getfield 134, 3) := dk_180 0 134 (dk_at dksX10_choices_4 18 rfl rfl)
theorem dX10_choices_116 : decode cX10_choices 116 = .ok (.isub, 1) := dk_100 (dk_at dksX10_choices_4 21 rfl rfl)
theorem dX10_choices_117 : decode cX10_choices 117 = .ok (.invokestatic 76, 3) := dk_184 0 76 (dk_at dksX10_choices_5 0 rfl rfl)
theorem dX10_choices_120 : decode cX10_choices 120 = .ok (.iastore, 1) := dk_79 (dk_at dksX10_choices_5 3 rfl rfl)
theorem dX10_choices_121 : decode cX10_choices 121 = .ok (.iinc 1 1, 3) := dk_132 1 1 (dk_at dksX10_choices_5 4 rfl rfl)
theorem dX10_choices_124 : decode cX10_choices 124 = .ok (.goto (-52), 3) := dk_167 255 204 (dk_at dksX10_choices_5 7 rfl rfl)
theorem dX10_choices_127 : decode cX10_choices 127 = .ok (.return_, 1) := dk_177 (dk_at dksX10_choices_5 10 rfl rfl)
abbrev cX10_lacks : ByteArray := prog_18_method_7_code
def yX10_lacks : MethodName := ⟨RX10, "lacks", "(I)I"⟩
def dkwX10_lacks_1 : List UInt8 := [184, 0, 76, 172]
abbrev dktX10_lacks_1 : List UInt8 := dkwX10_lacks_1 ++ []
def dkwX10_lacks_0 : List UInt8 := [3, 42, 180, 0, 3, 180, 0, 38, 180, 0, 67, 27, 46, 42, 180, 0, 19, 27, 46, 184, 0, 70, 100]
abbrev dktX10_lacks_0 : List UInt8 := dkwX10_lacks_0 ++ dktX10_lacks_1
theorem dksX10_lacks_0 : cX10_lacks.data.toList.drop 0 = dktX10_lacks_0 := by decide +kernel
theorem dksX10_lacks_1 : cX10_lacks.data.toList.drop 23 = dktX10_lacks_1 := dk_seg dksX10_lacks_0 23 rfl rfl
theorem dX10_lacks_0 : decode cX10_lacks 0 = .ok (.iconst 0, 1) := dk_3 (dk_at dksX10_lacks_0 0 rfl rfl)
theorem dX10_lacks_1 : decode cX10_lacks 1 = .ok (.aload_n 0, 1) := dk_42 (dk_at dksX10_lacks_0 1 rfl rfl)
theorem dX10_lacks_2 : decode cX10_lacks 2 = .ok (.getfield 3, 3) := dk_180 0 3 (dk_at dksX10_lacks_0 2 rfl rfl)
theorem dX10_lacks_5 : decode cX10_lacks 5 = .ok (.getfield 38, 3) := dk_180 0 38 (dk_at dksX10_lacks_0 5 rfl rfl)
theorem dX10_lacks_8 : decode cX10_lacks 8 = .ok (.getfield 67, 3) := dk_180 0 67 (dk_at dksX10_lacks_0 8 rfl rfl)
theorem dX10_lacks_11 : decode cX10_lacks 11 = .ok (.iload_n 1, 1) := dk_27 (dk_at dksX10_lacks_0 11 rfl rfl)
theorem dX10_lacks_12 : decode cX10_lacks 12 = .ok (.iaload, 1) := dk_46 (dk_at dksX10_lacks_0 12 rfl rfl)
theorem dX10_lacks_13 : decode cX10_lacks 13 = .ok (.aload_n 0, 1) := dk_42 (dk_at dksX10_lacks_0 13 rfl rfl)
theorem dX10_lacks_14 : decode cX10_lacks 14 = .ok (.getfield 19, 3) := dk_180 0 19 (dk_at dksX10_lacks_0 14 rfl rfl)
theorem dX10_lacks_17 : decode cX10_lacks 17 = .ok (.iload_n 1, 1) := dk_27 (dk_at dksX10_lacks_0 17 rfl rfl)
theorem dX10_lacks_18 : decode cX10_lacks 18 = .ok (.iaload, 1) := dk_46 (dk_at dksX10_lacks_0 18 rfl rfl)
theorem dX10_lacks_19 : decode cX10_lacks 19 = .ok (.invokestatic 70, 3) := dk_184 0 70 (dk_at dksX10_lacks_0 19 rfl rfl)
theorem dX10_lacks_22 : decode cX10_lacks 22 = .ok (.isub, 1) := dk_100 (dk_at dksX10_lacks_0 22 rfl rfl)
theorem dX10_lacks_23 : decode cX10_lacks 23 = .ok (.invokestatic 76, 3) := dk_184 0 76 (dk_at dksX10_lacks_1 0 rfl rfl)
theorem dX10_lacks_26 : decode cX10_lacks 26 = .ok (.ireturn, 1) := dk_172 (dk_at dksX10_lacks_1 3 rfl rfl)
abbrev cX10_chooses : ByteArray := prog_18_method_11_code
def yX10_chooses : MethodName := ⟨RX10, "chooses", "(I)I"⟩
def dkwX10_chooses_2 : List UInt8 := [61, 132, 3, 1, 167, 255, 208, 28, 172]
abbrev dktX10_chooses_2 : List UInt8 := dkwX10_chooses_2 ++ []
def dkwX10_chooses_1 : List UInt8 := [153, 0, 25, 28, 2, 159, 0, 18, 42, 27, 29, 182, 0, 113, 42, 27, 28, 182, 0, 113, 164, 0, 5, 29]
abbrev dktX10_chooses_1 : List UInt8 := dkwX10_chooses_1 ++ dktX10_chooses_2
def dkwX10_chooses_0 : List UInt8 := [2, 61, 3, 62, 29, 42, 180, 0, 3, 180, 0, 38, 180, 0, 42, 162, 0, 40, 42, 27, 29, 182, 0, 110]
abbrev dktX10_chooses_0 : List UInt8 := dkwX10_chooses_0 ++ dktX10_chooses_1
theorem dksX10_chooses_0 : cX10_chooses.data.toList.drop 0 = dktX10_chooses_0 := by decide +kernel
theorem dksX10_chooses_1 : cX10_chooses.data.toList.drop 24 = dktX10_chooses_1 := dk_seg dksX10_chooses_0 24 rfl rfl
theorem dksX10_chooses_2 : cX10_chooses.data.toList.drop 48 = dktX10_chooses_2 := dk_seg dksX10_chooses_1 24 rfl rfl
theorem dX10_chooses_0 : decode cX10_chooses 0 = .ok (.iconst (-1), 1) := dk_2 (dk_at dksX10_chooses_0 0 rfl rfl)
theorem dX10_chooses_1 : decode cX10_chooses 1 = .ok (.istore_n 2, 1) := dk_61 (dk_at dksX10_chooses_0 1 rfl rfl)
theorem dX10_chooses_2 : decode cX10_chooses 2 = .ok (.iconst 0, 1) := dk_3 (dk_at dksX10_chooses_0 2 rfl rfl)
theorem dX10_chooses_3 : decode cX10_chooses 3 = .ok (.istore_n 3, 1) := dk_62 (dk_at dksX10_chooses_0 3 rfl rfl)
theorem dX10_chooses_4 : decode cX10_chooses 4 = .ok (.iload_n 3, 1) := dk_29 (dk_at dksX10_chooses_0 4 rfl rfl)
theorem dX10_chooses_5 : decode cX10_chooses 5 = .ok (.aload_n 0, 1) := dk_42 (dk_at dksX10_chooses_0 5 rfl rfl)
theorem dX10_chooses_6 : decode cX10_chooses 6 = .ok (.getfield 3, 3) := dk_180 0 3 (dk_at dksX10_chooses_0 6 rfl rfl)
theorem dX10_chooses_9 : decode cX10_chooses 9 = .ok (.getfield 38, 3) := dk_180 0 38 (dk_at dksX10_chooses_0 9 rfl rfl)
theorem dX10_chooses_12 : decode cX10_chooses 12 = .ok (.getfield 42, 3) := dk_180 0 42 (dk_at dksX10_chooses_0 12 rfl rfl)
theorem dX10_chooses_15 : decode cX10_chooses 15 = .ok (.if_icmp .ge 40, 3) := dk_162 0 40 (dk_at dksX10_chooses_0 15 rfl rfl)
theorem dX10_chooses_18 : decode cX10_chooses 18 = .ok (.aload_n 0, 1) := dk_42 (dk_at dksX10_chooses_0 18 rfl rfl)
theorem dX10_chooses_19 : decode cX10_chooses 19 = .ok (.iload_n 1, 1) := dk_27 (dk_at dksX10_chooses_0 19 rfl rfl)
theorem dX10_chooses_20 : decode cX10_chooses 20 = .ok (.iload_n 3, 1) := dk_29 (dk_at dksX10_chooses_0 20 rfl rfl)
theorem dX10_chooses_21 : decode cX10_chooses 21 = .ok (.invokevirtual 110, 3) := dk_182 0 110 (dk_at dksX10_chooses_0 21 rfl rfl)
theorem dX10_chooses_24 : decode cX10_chooses 24 = .ok (.ifCond .eq 25, 3) := dk_153 0 25 (dk_at dksX10_chooses_1 0 rfl rfl)
theorem dX10_chooses_27 : decode cX10_chooses 27 = .ok (.iload_n 2, 1) := dk_28 (dk_at dksX10_chooses_1 3 rfl rfl)
theorem dX10_chooses_28 : decode cX10_chooses 28 = .ok (.iconst (-1), 1) := dk_2 (dk_at dksX10_chooses_1 4 rfl rfl)
theorem dX10_chooses_29 : decode cX10_chooses 29 = .ok (.if_icmp .eq 18, 3) := dk_159 0 18 (dk_at dksX10_chooses_1 5 rfl rfl)
theorem dX10_chooses_32 : decode cX10_chooses 32 = .ok (.aload_n 0, 1) := dk_42 (dk_at dksX10_chooses_1 8 rfl rfl)
theorem dX10_chooses_33 : decode cX10_chooses 33 = .ok (.iload_n 1, 1) := dk_27 (dk_at dksX10_chooses_1 9 rfl rfl)
theorem dX10_chooses_34 : decode cX10_chooses 34 = .ok (.iload_n 3, 1) := dk_29 (dk_at dksX10_chooses_1 10 rfl rfl)
theorem dX10_chooses_35 : decode cX10_chooses 35 = .ok (.invokevirtual 113, 3) := dk_182 0 113 (dk_at dksX10_chooses_1 11 rfl rfl)
theorem dX10_chooses_38 : decode cX10_chooses 38 = .ok (.aload_n 0, 1) := dk_42 (dk_at dksX10_chooses_1 14 rfl rfl)
theorem dX10_chooses_39 : decode cX10_chooses 39 = .ok (.iload_n 1, 1) := dk_27 (dk_at dksX10_chooses_1 15 rfl rfl)
theorem dX10_chooses_40 : decode cX10_chooses 40 = .ok (.iload_n 2, 1) := dk_28 (dk_at dksX10_chooses_1 16 rfl rfl)
theorem dX10_chooses_41 : decode cX10_chooses 41 = .ok (.invokevirtual 113, 3) := dk_182 0 113 (dk_at dksX10_chooses_1 17 rfl rfl)
theorem dX10_chooses_44 : decode cX10_chooses 44 = .ok (.if_icmp .le 5, 3) := dk_164 0 5 (dk_at dksX10_chooses_1 20 rfl rfl)
theorem dX10_chooses_47 : decode cX10_chooses 47 = .ok (.iload_n 3, 1) := dk_29 (dk_at dksX10_chooses_1 23 rfl rfl)
theorem dX10_chooses_48 : decode cX10_chooses 48 = .ok (.istore_n 2, 1) := dk_61 (dk_at dksX10_chooses_2 0 rfl rfl)
theorem dX10_chooses_49 : decode cX10_chooses 49 = .ok (.iinc 3 1, 3) := dk_132 3 1 (dk_at dksX10_chooses_2 1 rfl rfl)
theorem dX10_chooses_52 : decode cX10_chooses 52 = .ok (.goto (-48), 3) := dk_167 255 208 (dk_at dksX10_chooses_2 4 rfl rfl)
theorem dX10_chooses_55 : decode cX10_chooses 55 = .ok (.iload_n 2, 1) := dk_28 (dk_at dksX10_chooses_2 7 rfl rfl)
theorem dX10_chooses_56 : decode cX10_chooses 56 = .ok (.ireturn, 1) := dk_172 (dk_at dksX10_chooses_2 8 rfl rfl)
abbrev cX10_may : ByteArray := prog_18_method_10_code
def yX10_may : MethodName := ⟨RX10, "may", "(II)Z"⟩
def dkwX10_may_2 : List UInt8 := [162, 0, 7, 4, 167, 0, 4, 3, 172]
abbrev dktX10_may_2 : List UInt8 := dkwX10_may_2 ++ []
def dkwX10_may_1 : List UInt8 := [180, 0, 38, 180, 0, 107, 27, 46, 28, 122, 4, 126, 154, 0, 19, 42, 28, 182, 0, 91, 184, 0, 70, 6]
abbrev dktX10_may_1 : List UInt8 := dkwX10_may_1 ++ dktX10_may_2
def dkwX10_may_0 : List UInt8 := [42, 180, 0, 15, 28, 46, 4, 160, 0, 47, 42, 27, 28, 182, 0, 54, 154, 0, 38, 42, 180, 0, 3]
abbrev dktX10_may_0 : List UInt8 := dkwX10_may_0 ++ dktX10_may_1
theorem dksX10_may_0 : cX10_may.data.toList.drop 0 = dktX10_may_0 := by decide +kernel
theorem dksX10_may_1 : cX10_may.data.toList.drop 23 = dktX10_may_1 := dk_seg dksX10_may_0 23 rfl rfl
theorem dksX10_may_2 : cX10_may.data.toList.drop 47 = dktX10_may_2 := dk_seg dksX10_may_1 24 rfl rfl
theorem dX10_may_0 : decode cX10_may 0 = .ok (.aload_n 0, 1) := dk_42 (dk_at dksX10_may_0 0 rfl rfl)
theorem dX10_may_1 : decode cX10_may 1 = .ok (.getfield 15, 3) := dk_180 0 15 (dk_at dksX10_may_0 1 rfl rfl)
theorem dX10_may_4 : decode cX10_may 4 = .ok (.iload_n 2, 1) := dk_28 (dk_at dksX10_may_0 4 rfl rfl)
theorem dX10_may_5 : decode cX10_may 5 = .ok (.iaload, 1) := dk_46 (dk_at dksX10_may_0 5 rfl rfl)
theorem dX10_may_6 : decode cX10_may 6 = .ok (.iconst 1, 1) := dk_4 (dk_at dksX10_may_0 6 rfl rfl)
theorem dX10_may_7 : decode cX10_may 7 = .ok (.if_icmp .ne 47, 3) := dk_160 0 47 (dk_at dksX10_may_0 7 rfl rfl)
theorem dX10_may_10 : decode cX10_may 10 = .ok (.aload_n 0, 1) := dk_42 (dk_at dksX10_may_0 10 rfl rfl)
theorem dX10_may_11 : decode cX10_may 11 = .ok (.iload_n 1, 1) := dk_27 (dk_at dksX10_may_0 11 rfl rfl)
theorem dX10_may_12 : decode cX10_may 12 = .ok (.iload_n 2, 1) := dk_28 (dk_at dksX10_may_0 12 rfl rfl)
theorem dX10_may_13 : decode cX10_may 13 = .ok (.invokevirtual 54, 3) := dk_182 0 54 (dk_at dksX10_may_0 13 rfl rfl)
theorem dX10_may_16 : decode cX10_may 16 = .ok (.ifCond .ne 38, 3) := dk_154 0 38 (dk_at dksX10_may_0 16 rfl rfl)
theorem dX10_may_19 : decode cX10_may 19 = .ok (.aload_n 0, 1) := dk_42 (dk_at dksX10_may_0 19 rfl rfl)
theorem dX10_may_20 : decode cX10_may 20 = .ok (.getfield 3, 3) := dk_180 0 3 (dk_at dksX10_may_0 20 rfl rfl)
theorem dX10_may_23 : decode cX10_may 23 = .ok (.getfield 38, 3) := dk_180 0 38 (dk_at dksX10_may_1 0 rfl rfl)
theorem dX10_may_26 : decode cX10_may 26 = .ok (.getfield 107, 3) := dk_180 0 107 (dk_at dksX10_may_1 3 rfl rfl)
theorem dX10_may_29 : decode cX10_may 29 = .ok (.iload_n 1, 1) := dk_27 (dk_at dksX10_may_1 6 rfl rfl)
theorem dX10_may_30 : decode cX10_may 30 = .ok (.iaload, 1) := dk_46 (dk_at dksX10_may_1 7 rfl rfl)
theorem dX10_may_31 : decode cX10_may 31 = .ok (.iload_n 2, 1) := dk_28 (dk_at dksX10_may_1 8 rfl rfl)
theorem dX10_may_32 : decode cX10_may 32 = .ok (.ishr, 1) := dk_122 (dk_at dksX10_may_1 9 rfl rfl)
theorem dX10_may_33 : decode cX10_may 33 = .ok (.iconst 1, 1) := dk_4 (dk_at dksX10_may_1 10 rfl rfl)
theorem dX10_may_34 : decode cX10_may 34 = .ok (.iand, 1) := dk_126 (dk_at dksX10_may_1 11 rfl rfl)
theorem dX10_may_35 : decode cX10_may 35 = .ok (.ifCond .ne 19, 3) := dk_154 0 19 (dk_at dksX10_may_1 12 rfl rfl)
theorem dX10_may_38 : decode cX10_may 38 = .ok (.aload_n 0, 1) := dk_42 (dk_at dksX10_may_1 15 rfl rfl)
theorem dX10_may_39 : decode cX10_may 39 = .ok (.iload_n 2, 1) := dk_28 (dk_at dksX10_may_1 16 rfl rfl)
theorem dX10_may_40 : decode cX10_may 40 = .ok (.invokevirtual 91, 3) := dk_182 0 91 (dk_at dksX10_may_1 17 rfl rfl)
theorem dX10_may_43 : decode cX10_may 43 = .ok (.invokestatic 70, 3) := dk_184 0 70 (dk_at dksX10_may_1 20 rfl rfl)
theorem dX10_may_46 : decode cX10_may 46 = .ok (.iconst 3, 1) := dk_6 (dk_at dksX10_may_1 23 rfl rfl)
theorem dX10_may_47 : decode cX10_may 47 = .ok (.if_icmp .ge 7, 3) := dk_162 0 7 (dk_at dksX10_may_2 0 rfl rfl)
theorem dX10_may_50 : decode cX10_may 50 = .ok (.iconst 1, 1) := dk_4 (dk_at dksX10_may_2 3 rfl rfl)
theorem dX10_may_51 : decode cX10_may 51 = .ok (.goto 4, 3) := dk_167 0 4 (dk_at dksX10_may_2 4 rfl rfl)
theorem dX10_may_54 : decode cX10_may 54 = .ok (.iconst 0, 1) := dk_3 (dk_at dksX10_may_2 7 rfl rfl)
theorem dX10_may_55 : decode cX10_may 55 = .ok (.ireturn, 1) := dk_172 (dk_at dksX10_may_2 8 rfl rfl)
abbrev cX10_score : ByteArray := prog_18_method_9_code
def yX10_score : MethodName := ⟨RX10, "score", "(II)I"⟩
def dkwX10_score_7 : List UInt8 := [180, 0, 82, 182, 0, 101, 172]
abbrev dktX10_score_7 : List UInt8 := dkwX10_score_7 ++ []
def dkwX10_score_6 : List UInt8 := [182, 0, 94, 153, 0, 7, 4, 167, 0, 4, 3, 79, 42, 180, 0, 3, 180, 0, 97, 42, 180, 0, 3]
abbrev dktX10_score_6 : List UInt8 := dkwX10_score_6 ++ dktX10_score_7
def dkwX10_score_5 : List UInt8 := [79, 42, 180, 0, 3, 180, 0, 82, 16, 7, 27, 79, 42, 180, 0, 3, 180, 0, 82, 16, 8, 42, 27, 28]
abbrev dktX10_score_5 : List UInt8 := dkwX10_score_5 ++ dktX10_score_6
def dkwX10_score_4 : List UInt8 := [79, 42, 180, 0, 3, 180, 0, 82, 8, 42, 180, 0, 34, 79, 42, 180, 0, 3, 180, 0, 82, 16, 6, 28]
abbrev dktX10_score_4 : List UInt8 := dkwX10_score_4 ++ dktX10_score_5
def dkwX10_score_3 : List UInt8 := [6, 42, 28, 182, 0, 91, 184, 0, 70, 79, 42, 180, 0, 3, 180, 0, 82, 7, 42, 180, 0, 25, 27, 46]
abbrev dktX10_score_3 : List UInt8 := dkwX10_score_3 ++ dktX10_score_4
def dkwX10_score_2 : List UInt8 := [180, 0, 34, 42, 180, 0, 3, 180, 0, 38, 180, 0, 47, 28, 46, 100, 79, 42, 180, 0, 3, 180, 0, 82]
abbrev dktX10_score_2 : List UInt8 := dkwX10_score_2 ++ dktX10_score_3
def dkwX10_score_1 : List UInt8 := [4, 42, 180, 0, 3, 180, 0, 38, 180, 0, 88, 27, 46, 79, 42, 180, 0, 3, 180, 0, 82, 5, 42]
abbrev dktX10_score_1 : List UInt8 := dkwX10_score_1 ++ dktX10_score_2
def dkwX10_score_0 : List UInt8 := [42, 180, 0, 3, 180, 0, 82, 3, 42, 180, 0, 3, 28, 182, 0, 85, 79, 42, 180, 0, 3, 180, 0, 82]
abbrev dktX10_score_0 : List UInt8 := dkwX10_score_0 ++ dktX10_score_1
theorem dksX10_score_0 : cX10_score.data.toList.drop 0 = dktX10_score_0 := by decide +kernel
theorem dksX10_score_1 : cX10_score.data.toList.drop 24 = dktX10_score_1 := dk_seg dksX10_score_0 24 rfl rfl
theorem dksX10_score_2 : cX10_score.data.toList.drop 47 = dktX10_score_2 := dk_seg dksX10_score_1 23 rfl rfl
theorem dksX10_score_3 : cX10_score.data.toList.drop 71 = dktX10_score_3 := dk_seg dksX10_score_2 24 rfl rfl
theorem dksX10_score_4 : cX10_score.data.toList.drop 95 = dktX10_score_4 := dk_seg dksX10_score_3 24 rfl rfl
theorem dksX10_score_5 : cX10_score.data.toList.drop 119 = dktX10_score_5 := dk_seg dksX10_score_4 24 rfl rfl
theorem dksX10_score_6 : cX10_score.data.toList.drop 143 = dktX10_score_6 := dk_seg dksX10_score_5 24 rfl rfl
theorem dksX10_score_7 : cX10_score.data.toList.drop 166 = dktX10_score_7 := dk_seg dksX10_score_6 23 rfl rfl
theorem dX10_score_0 : decode cX10_score 0 = .ok (.aload_n 0, 1) := dk_42 (dk_at dksX10_score_0 0 rfl rfl)
theorem dX10_score_1 : decode cX10_score 1 = .ok (.getfield 3, 3) := dk_180 0 3 (dk_at dksX10_score_0 1 rfl rfl)
theorem dX10_score_4 : decode cX10_score 4 = .ok (.getfield 82, 3) := dk_180 0 82 (dk_at dksX10_score_0 4 rfl rfl)
theorem dX10_score_7 : decode cX10_score 7 = .ok (.iconst 0, 1) := dk_3 (dk_at dksX10_score_0 7 rfl rfl)
theorem dX10_score_8 : decode cX10_score 8 = .ok (.aload_n 0, 1) := dk_42 (dk_at dksX10_score_0 8 rfl rfl)
theorem dX10_score_9 : decode cX10_score 9 = .ok (.getfield 3, 3) := dk_180 0 3 (dk_at dksX10_score_0 9 rfl rfl)
theorem dX10_score_12 : decode cX10_score 12 = .ok (.iload_n 2, 1) := dk_28 (dk_at dksX10_score_0 12 rfl rfl)
theorem dX10_score_13 : decode cX10_score 13 = .ok (.invokevirtual 85, 3) := dk_182 0 85 (dk_at dksX10_score_0 13 rfl rfl)
theorem dX10_score_16 : decode cX10_score 16 = .ok (.iastore, 1) := dk_79 (dk_at dksX10_score_0 16 rfl rfl)
theorem dX10_score_17 : decode cX10_score 17 = .ok (.aload_n 0, 1) := dk_42 (dk_at dksX10_score_0 17 rfl rfl)
theorem dX10_score_18 : decode cX10_score 18 = .ok (.getfield 3, 3) := dk_180 0 3 (dk_at dksX10_score_0 18 rfl rfl)
theorem dX10_score_21 : decode cX10_score 21 = .ok (.getfield 82, 3) := dk_180 0 82 (dk_at dksX10_score_0 21 rfl rfl)
theorem dX10_score_24 : decode cX10_score 24 = .ok (.iconst 1, 1) := dk_4 (dk_at dksX10_score_1 0 rfl rfl)
theorem dX10_score_25 : decode cX10_score 25 = .ok (.aload_n 0, 1) := dk_42 (dk_at dksX10_score_1 1 rfl rfl)
theorem dX10_score_26 : decode cX10_score 26 = .ok (.getfield 3, 3) := dk_180 0 3 (dk_at dksX10_score_1 2 rfl rfl)
theorem dX10_score_29 : decode cX10_score 29 = .ok (.getfield 38, 3) := dk_180 0 38 (dk_at dksX10_score_1 5 rfl rfl)
theorem dX10_score_32 : decode cX10_score 32 = .ok (.getfield 88, 3) := dk_180 0 88 (dk_at dksX10_score_1 8 rfl rfl)
theorem dX10_score_35 : decode cX10_score 35 = .ok (.iload_n 1, 1) := dk_27 (dk_at dksX10_score_1 11 rfl rfl)
theorem dX10_score_36 : decode cX10_score 36 = .ok (.iaload, 1) := dk_46 (dk_at dksX10_score_1 12 rfl rfl)
theorem dX10_score_37 : decode cX10_score 37 = .ok (.iastore, 1) := dk_79 (dk_at dksX10_score_1 13 rfl rfl)
theorem dX10_score_38 : decode cX10_score 38 = .ok (.aload_n 0, 1) := dk_42 (dk_at dksX10_score_1 14 rfl rfl)
theorem dX10_score_39 : decode cX10_score 39 = .ok (.getfield 3, 3) := dk_180 0 3 (dk_at dksX10_score_1 15 rfl rfl)
theorem dX10_score_42 : decode cX10_score 42 = .ok (.getfield 82, 3) := dk_180 0 82 (dk_at dksX10_score_1 18 rfl rfl)
theorem dX10_score_45 : decode cX10_score 45 = .ok (.iconst 2, 1) := dk_5 (dk_at dksX10_score_1 21 rfl rfl)
theorem dX10_score_46 : decode cX10_score 46 = .ok (.aload_n 0, 1) := dk_42 (dk_at dksX10_score_1 22 rfl rfl)
theorem dX10_score_47 : decode cX10_score 47 = .ok (.getfield 34, 3) := dk_180 0 34 (dk_at dksX10_score_2 0 rfl rfl)
theorem dX10_score_50 : decode cX10_score 50 = .ok (.aload_n 0, 1) := dk_42 (dk_at dksX10_score_2 3 rfl rfl)
theorem dX10_score_51 : decode cX10_score 51 = .ok (.getfield 3, 3) := dk_180 0 3 (dk_at dksX10_score_2 4 rfl rfl)
theorem dX10_score_54 : decode cX10_score 54 = .ok (.getfield 38, 3) := dk_180 0 38 (dk_at dksX10_score_2 7 rfl rfl)
theorem dX10_score_57 : decode cX10_score 57 = .ok (.getfield 47, 3) := dk_180 0 47 (dk_at dksX10_score_2 10 rfl rfl)
theorem dX10_score_60 : decode cX10_score 60 = .ok (.iload_n 2, 1) := dk_28 (dk_at dksX10_score_2 13 rfl rfl)
theorem dX10_score_61 : decode cX10_score 61 = .ok (.iaload, 1) := dk_46 (dk_at dksX10_score_2 14 rfl rfl)
theorem dX10_score_62 : decode cX10_score 62 = .ok (.isub, 1) := dk_100 (dk_at dksX10_score_2 15 rfl rfl)
theorem dX10_score_63 : decode cX10_score 63 = .ok (.iastore, 1) := dk_79 (dk_at dksX10_score_2 16 rfl rfl)
theorem dX10_score_64 : decode cX10_score 64 = .ok (.aload_n 0, 1) := dk_42 (dk_at dksX10_score_2 17 rfl rfl)
theorem dX10_score_65 : decode cX10_score 65 = .ok (.getfield 3, 3) := dk_180 0 3 (dk_at dksX10_score_2 18 rfl rfl)
theorem dX10_score_68 : decode cX10_score 68 = .ok (.getfield 82, 3) := dk_180 0 82 (dk_at dksX10_score_2 21 rfl rfl)
theorem dX10_score_71 : decode cX10_score 71 = .ok (.iconst 3, 1) := dk_6 (dk_at dksX10_score_3 0 rfl rfl)
theorem dX10_score_72 : decode cX10_score 72 = .ok (.aload_n 0, 1) := dk_42 (dk_at dksX10_score_3 1 rfl rfl)
theorem dX10_score_73 : decode cX10_score 73 = .ok (.iload_n 2, 1) := dk_28 (dk_at dksX10_score_3 2 rfl rfl)
theorem dX10_score_74 : decode cX10_score 74 = .ok (.invokevirtual 91, 3) := dk_182 0 91 (dk_at dksX10_score_3 3 rfl rfl)
theorem dX10_score_77 : decode cX10_score 77 = .ok (.invokestatic 70, 3) := dk_184 0 70 (dk_at dksX10_score_3 6 rfl rfl)
theorem dX10_score_80 : decode cX10_score 80 = .ok (.iastore, 1) := dk_79 (dk_at dksX10_score_3 9 rfl rfl)
theorem dX10_score_81 : decode cX10_score 81 = .ok (.aload_n 0, 1) := dk_42 (dk_at dksX10_score_3 10 rfl rfl)
theorem dX10_score_82 : decode cX10_score 82 = .ok (.getfield 3, 3) := dk_180 0 3 (dk_at dksX10_score_3 11 rfl rfl)
theorem dX10_score_85 : decode cX10_score 85 = .ok (.getfield 82, 3) := dk_180 0 82 (dk_at dksX10_score_3 14 rfl rfl)
theorem dX10_score_88 : decode cX10_score 88 = .ok (.iconst 4, 1) := dk_7 (dk_at dksX10_score_3 17 rfl rfl)
theorem dX10_score_89 : decode cX10_score 89 = .ok (.aload_n 0, 1) := dk_42 (dk_at dksX10_score_3 18 rfl rfl)
theorem dX10_score_90 : decode cX10_score 90 = .ok (.getfield 25, 3) := dk_180 0 25 (dk_at dksX10_score_3 19 rfl rfl)
theorem dX10_score_93 : decode cX10_score 93 = .ok (.iload_n 1, 1) := dk_27 (dk_at dksX10_score_3 22 rfl rfl)
theorem dX10_score_94 : decode cX10_score 94 = .ok (.iaload, 1) := dk_46 (dk_at dksX10_score_3 23 rfl rfl)
theorem dX10_score_95 : decode cX10_score 95 = .ok (.iastore, 1) := dk_79 (dk_at dksX10_score_4 0 rfl rfl)
theorem dX10_score_96 : decode cX10_score 96 = .ok (.aload_n 0, 1) := dk_42 (dk_at dksX10_score_4 1 rfl rfl)
theorem dX10_score_97 : decode cX10_score 97 = .ok (.getfield 3, 3) := dk_180 0 3 (dk_at dksX10_score_4 2 rfl rfl)
theorem dX10_score_100 : decode cX10_score 100 = .ok (.getfield 82, 3) := dk_180 0 82 (dk_at dksX10_score_4 5 rfl rfl)
theorem dX10_score_103 : decode cX10_score 103 = .ok (.iconst 5, 1) := dk_8 (dk_at dksX10_score_4 8 rfl rfl)
theorem dX10_score_104 : decode cX10_score 104 = .ok (.aload_n 0, 1) := dk_42 (dk_at dksX10_score_4 9 rfl rfl)
theorem dX10_score_105 : decode cX10_score 105 = .ok (.getfield 34, 3) := dk_180 0 34 (dk_at dksX10_score_4 10 rfl rfl)
theorem dX10_score_108 : decode cX10_score 108 = .ok (.iastore, 1) := dk_79 (dk_at dksX10_score_4 13 rfl rfl)
theorem dX10_score_109 : decode cX10_score 109 = .ok (.aload_n 0, 1) := dk_42 (dk_at dksX10_score_4 14 rfl rfl)
theorem dX10_score_110 : decode cX10_score 110 = .ok (.getfield 3, 3) := dk_180 0 3 (dk_at dksX10_score_4 15 rfl rfl)
theorem dX10_score_113 : decode cX10_score 113 = .ok (.getfield 82, 3) := dk_180 0 82 (dk_at dksX10_score_4 18 rfl rfl)
theorem dX10_score_116 : decode cX10_score 116 = .ok (.bipush 6, 2) := dk_16 6 (dk_at dksX10_score_4 21 rfl rfl)
theorem dX10_score_118 : decode cX10_score 118 = .ok (.iload_n 2, 1) := dk_28 (dk_at dksX10_score_4 23 rfl rfl)
theorem dX10_score_119 : decode cX10_score 119 = .ok (.iastore, 1) := dk_79 (dk_at dksX10_score_5 0 rfl rfl)
theorem dX10_score_120 : decode cX10_score 120 = .ok (.aload_n 0, 1) := dk_42 (dk_at dksX10_score_5 1 rfl rfl)
theorem dX10_score_121 : decode cX10_score 121 = .ok (.getfield 3, 3) := dk_180 0 3 (dk_at dksX10_score_5 2 rfl rfl)
theorem dX10_score_124 : decode cX10_score 124 = .ok (.getfield 82, 3) := dk_180 0 82 (dk_at dksX10_score_5 5 rfl rfl)
theorem dX10_score_127 : decode cX10_score 127 = .ok (.bipush 7, 2) := dk_16 7 (dk_at dksX10_score_5 8 rfl rfl)
theorem dX10_score_129 : decode cX10_score 129 = .ok (.iload_n 1, 1) := dk_27 (dk_at dksX10_score_5 10 rfl rfl)
theorem dX10_score_130 : decode cX10_score 130 = .ok (.iastore, 1) := dk_79 (dk_at dksX10_score_5 11 rfl rfl)
theorem dX10_score_131 : decode cX10_score 131 = .ok (.aload_n 0, 1) := dk_42 (dk_at dksX10_score_5 12 rfl rfl)
theorem dX10_score_132 : decode cX10_score 132 = .ok (.getfield 3, 3) := dk_180 0 3 (dk_at dksX10_score_5 13 rfl rfl)
theorem dX10_score_135 : decode cX10_score 135 = .ok (.getfield 82, 3) := dk_180 0 82 (dk_at dksX10_score_5 16 rfl rfl)
theorem dX10_score_138 : decode cX10_score 138 = .ok (.bipush 8, 2) := dk_16 8 (dk_at dksX10_score_5 19 rfl rfl)
theorem dX10_score_140 : decode cX10_score 140 = .ok (.aload_n 0, 1) := dk_42 (dk_at dksX10_score_5 21 rfl rfl)
theorem dX10_score_141 : decode cX10_score 141 = .ok (.iload_n 1, 1) := dk_27 (dk_at dksX10_score_5 22 rfl rfl)
theorem dX10_score_142 : decode cX10_score 142 = .ok (.iload_n 2, 1) := dk_28 (dk_at dksX10_score_5 23 rfl rfl)
theorem dX10_score_143 : decode cX10_score 143 = .ok (.invokevirtual 94, 3) := dk_182 0 94 (dk_at dksX10_score_6 0 rfl rfl)
theorem dX10_score_146 : decode cX10_score 146 = .ok (.ifCond .eq 7, 3) := dk_153 0 7 (dk_at dksX10_score_6 3 rfl rfl)
theorem dX10_score_149 : decode cX10_score 149 = .ok (.iconst 1, 1) := dk_4 (dk_at dksX10_score_6 6 rfl rfl)
theorem dX10_score_150 : decode cX10_score 150 = .ok (.goto 4, 3) := dk_167 0 4 (dk_at dksX10_score_6 7 rfl rfl)
theorem dX10_score_153 : decode cX10_score 153 = .ok (.iconst 0, 1) := dk_3 (dk_at dksX10_score_6 10 rfl rfl)
theorem dX10_score_154 : decode cX10_score 154 = .ok (.iastore, 1) := dk_79 (dk_at dksX10_score_6 11 rfl rfl)
theorem dX10_score_155 : decode cX10_score 155 = .ok (.aload_n 0, 1) := dk_42 (dk_at dksX10_score_6 12 rfl rfl)
theorem dX10_score_156 : decode cX10_score 156 = .ok (.getfield 3, 3) := dk_180 0 3 (dk_at dksX10_score_6 13 rfl rfl)
theorem dX10_score_159 : decode cX10_score 159 = .ok (.getfield 97, 3) := dk_180 0 97 (dk_at dksX10_score_6 16 rfl rfl)
theorem dX10_score_162 : decode cX10_score 162 = .ok (.aload_n 0, 1) := dk_42 (dk_at dksX10_score_6 19 rfl rfl)
theorem dX10_score_163 : decode cX10_score 163 = .ok (.getfield 3, 3) := dk_180 0 3 (dk_at dksX10_score_6 20 rfl rfl)
theorem dX10_score_166 : decode cX10_score 166 = .ok (.getfield 82, 3) := dk_180 0 82 (dk_at dksX10_score_7 0 rfl rfl)
theorem dX10_score_169 : decode cX10_score 169 = .ok (.invokevirtual 101, 3) := dk_182 0 101 (dk_at dksX10_score_7 3 rfl rfl)
theorem dX10_score_172 : decode cX10_score 172 = .ok (.ireturn, 1) := dk_172 (dk_at dksX10_score_7 6 rfl rfl)
abbrev cX10_isKin : ByteArray := prog_18_method_8_code
def yX10_isKin : MethodName := ⟨RX10, "isKin", "(II)Z"⟩
def dkwX10_isKin_4 : List UInt8 := [132, 4, 1, 167, 255, 208, 3, 172]
abbrev dktX10_isKin_4 : List UInt8 := dkwX10_isKin_4 ++ []
def dkwX10_isKin_3 : List UInt8 := [21, 4, 28, 182, 0, 54, 153, 0, 17, 42, 180, 0, 19, 21, 4, 46, 29, 126, 153, 0, 5, 4, 172]
abbrev dktX10_isKin_3 : List UInt8 := dkwX10_isKin_3 ++ dktX10_isKin_4
def dkwX10_isKin_2 : List UInt8 := [54, 4, 21, 4, 42, 180, 0, 3, 180, 0, 38, 180, 0, 64, 162, 0, 39, 21, 4, 27, 159, 0, 27, 42]
abbrev dktX10_isKin_2 : List UInt8 := dkwX10_isKin_2 ++ dktX10_isKin_3
def dkwX10_isKin_1 : List UInt8 := [180, 0, 22, 27, 46, 28, 160, 0, 7, 3, 167, 0, 11, 4, 42, 180, 0, 22, 27, 46, 120, 128, 62, 3]
abbrev dktX10_isKin_1 : List UInt8 := dkwX10_isKin_1 ++ dktX10_isKin_2
def dkwX10_isKin_0 : List UInt8 := [42, 180, 0, 19, 27, 46, 4, 28, 120, 2, 130, 126, 42, 180, 0, 22, 27, 46, 2, 159, 0, 13, 42]
abbrev dktX10_isKin_0 : List UInt8 := dkwX10_isKin_0 ++ dktX10_isKin_1
theorem dksX10_isKin_0 : cX10_isKin.data.toList.drop 0 = dktX10_isKin_0 := by decide +kernel
theorem dksX10_isKin_1 : cX10_isKin.data.toList.drop 23 = dktX10_isKin_1 := dk_seg dksX10_isKin_0 23 rfl rfl
theorem dksX10_isKin_2 : cX10_isKin.data.toList.drop 47 = dktX10_isKin_2 := dk_seg dksX10_isKin_1 24 rfl rfl
theorem dksX10_isKin_3 : cX10_isKin.data.toList.drop 71 = dktX10_isKin_3 := dk_seg dksX10_isKin_2 24 rfl rfl
theorem dksX10_isKin_4 : cX10_isKin.data.toList.drop 94 = dktX10_isKin_4 := dk_seg dksX10_isKin_3 23 rfl rfl
theorem dX10_isKin_0 : decode cX10_isKin 0 = .ok (.aload_n 0, 1) := dk_42 (dk_at dksX10_isKin_0 0 rfl rfl)
theorem dX10_isKin_1 : decode cX10_isKin 1 = .ok (.getfield 19, 3) := dk_180 0 19 (dk_at dksX10_isKin_0 1 rfl rfl)
theorem dX10_isKin_4 : decode cX10_isKin 4 = .ok (.iload_n 1, 1) := dk_27 (dk_at dksX10_isKin_0 4 rfl rfl)
theorem dX10_isKin_5 : decode cX10_isKin 5 = .ok (.iaload, 1) := dk_46 (dk_at dksX10_isKin_0 5 rfl rfl)
theorem dX10_isKin_6 : decode cX10_isKin 6 = .ok (.iconst 1, 1) := dk_4 (dk_at dksX10_isKin_0 6 rfl rfl)
theorem dX10_isKin_7 : decode cX10_isKin 7 = .ok (.iload_n 2, 1) := dk_28 (dk_at dksX10_isKin_0 7 rfl rfl)
theorem dX10_isKin_8 : decode cX10_isKin 8 = .ok (.ishl, 1) := dk_120 (dk_at dksX10_isKin_0 8 rfl rfl)
theorem dX10_isKin_9 : decode cX10_isKin 9 = .ok (.iconst (-1), 1) := dk_2 (dk_at dksX10_isKin_0 9 rfl rfl)
theorem dX10_isKin_10 : decode cX10_isKin 10 = .ok (.ixor, 1) := dk_130 (dk_at dksX10_isKin_0 10 rfl rfl)
theorem dX10_isKin_11 : decode cX10_isKin 11 = .ok (.iand, 1) := dk_126 (dk_at dksX10_isKin_0 11 rfl rfl)
theorem dX10_isKin_12 : decode cX10_isKin 12 = .ok (.aload_n 0, 1) := dk_42 (dk_at dksX10_isKin_0 12 rfl rfl)
theorem dX10_isKin_13 : decode cX10_isKin 13 = .ok (.getfield 22, 3) := dk_180 0 22 (dk_at dksX10_isKin_0 13 rfl rfl)
theorem dX10_isKin_16 : decode cX10_isKin 16 = .ok (.iload_n 1, 1) := dk_27 (dk_at dksX10_isKin_0 16 rfl rfl)
theorem dX10_isKin_17 : decode cX10_isKin 17 = .ok (.iaload, 1) := dk_46 (dk_at dksX10_isKin_0 17 rfl rfl)
theorem dX10_isKin_18 : decode cX10_isKin 18 = .ok (.iconst (-1), 1) := dk_2 (dk_at dksX10_isKin_0 18 rfl rfl)
theorem dX10_isKin_19 : decode cX10_isKin 19 = .ok (.if_icmp .eq 13, 3) := dk_159 0 13 (dk_at dksX10_isKin_0 19 rfl rfl)
theorem dX10_isKin_22 : decode cX10_isKin 22 = .ok (.aload_n 0, 1) := dk_42 (dk_at dksX10_isKin_0 22 rfl rfl)
theorem dX10_isKin_23 : decode cX10_isKin 23 = .ok (.getfield 22, 3) := dk_180 0 22 (dk_at dksX10_isKin_1 0 rfl rfl)
theorem dX10_isKin_26 : decode cX10_isKin 26 = .ok (.iload_n 1, 1) := dk_27 (dk_at dksX10_isKin_1 3 rfl rfl)
theorem dX10_isKin_27 : decode cX10_isKin 27 = .ok (.iaload, 1) := dk_46 (dk_at dksX10_isKin_1 4 rfl rfl)
theorem dX10_isKin_28 : decode cX10_isKin 28 = .ok (.iload_n 2, 1) := dk_28 (dk_at dksX10_isKin_1 5 rfl rfl)
theorem dX10_isKin_29 : decode cX10_isKin 29 = .ok (.if_icmp .ne 7, 3) := dk_160 0 7 (dk_at dksX10_isKin_1 6 rfl rfl)
theorem dX10_isKin_32 : decode cX10_isKin 32 = .ok (.iconst 0, 1) := dk_3 (dk_at dksX10_isKin_1 9 rfl rfl)
theorem dX10_isKin_33 : decode cX10_isKin 33 = .ok (.goto 11, 3) := dk_167 0 11 (dk_at dksX10_isKin_1 10 rfl rfl)
theorem dX10_isKin_36 : decode cX10_isKin 36 = .ok (.iconst 1, 1) := dk_4 (dk_at dksX10_isKin_1 13 rfl rfl)
theorem dX10_isKin_37 : decode cX10_isKin 37 = .ok (.aload_n 0, 1) := dk_42 (dk_at dksX10_isKin_1 14 rfl rfl)
theorem dX10_isKin_38 : decode cX10_isKin 38 = .ok (.getfield 22, 3) := dk_180 0 22 (dk_at dksX10_isKin_1 15 rfl rfl)
theorem dX10_isKin_41 : decode cX10_isKin 41 = .ok (.iload_n 1, 1) := dk_27 (dk_at dksX10_isKin_1 18 rfl rfl)
theorem dX10_isKin_42 : decode cX10_isKin 42 = .ok (.iaload, 1) := dk_46 (dk_at dksX10_isKin_1 19 rfl rfl)
theorem dX10_isKin_43 : decode cX10_isKin 43 = .ok (.ishl, 1) := dk_120 (dk_at dksX10_isKin_1 20 rfl rfl)
theorem dX10_isKin_44 : decode cX10_isKin 44 = .ok (.ior, 1) := dk_128 (dk_at dksX10_isKin_1 21 rfl rfl)
theorem dX10_isKin_45 : decode cX10_isKin 45 = .ok (.istore_n 3, 1) := dk_62 (dk_at dksX10_isKin_1 22 rfl rfl)
theorem dX10_isKin_46 : decode cX10_isKin 46 = .ok (.iconst 0, 1) := dk_3 (dk_at dksX10_isKin_1 23 rfl rfl)
theorem dX10_isKin_47 : decode cX10_isKin 47 = .ok (.istore 4, 2) := dk_54 4 (dk_at dksX10_isKin_2 0 rfl rfl)
theorem dX10_isKin_49 : decode cX10_isKin 49 = .ok (.iload 4, 2) := dk_21 4 (dk_at dksX10_isKin_2 2 rfl rfl)
theorem dX10_isKin_51 : decode cX10_isKin 51 = .ok (.aload_n 0, 1) := dk_42 (dk_at dksX10_isKin_2 4 rfl rfl)
theorem dX10_isKin_52 : decode cX10_isKin 52 = .ok (.getfield 3, 3) := dk_180 0 3 (dk_at dksX10_isKin_2 5 rfl rfl)
theorem dX10_isKin_55 : decode cX10_isKin 55 = .ok (.getfield 38, 3) := dk_180 0 38 (dk_at dksX10_isKin_2 8 rfl rfl)
theorem dX10_isKin_58 : decode cX10_isKin 58 = .ok (.getfield 64, 3) := dk_180 0 64 (dk_at dksX10_isKin_2 11 rfl rfl)
theorem dX10_isKin_61 : decode cX10_isKin 61 = .ok (.if_icmp .ge 39, 3) := dk_162 0 39 (dk_at dksX10_isKin_2 14 rfl rfl)
theorem dX10_isKin_64 : decode cX10_isKin 64 = .ok (.iload 4, 2) := dk_21 4 (dk_at dksX10_isKin_2 17 rfl rfl)
theorem dX10_isKin_66 : decode cX10_isKin 66 = .ok (.iload_n 1, 1) := dk_27 (dk_at dksX10_isKin_2 19 rfl rfl)
theorem dX10_isKin_67 : decode cX10_isKin 67 = .ok (.if_icmp .eq 27, 3) := dk_159 0 27 (dk_at dksX10_isKin_2 20 rfl rfl)
theorem dX10_isKin_70 : decode cX10_isKin 70 = .ok (.aload_n 0, 1) := dk_42 (dk_at dksX10_isKin_2 23 rfl rfl)
theorem dX10_isKin_71 : decode cX10_isKin 71 = .ok (.iload 4, 2) := dk_21 4 (dk_at dksX10_isKin_3 0 rfl rfl)
theorem dX10_isKin_73 : decode cX10_isKin 73 = .ok (.iload_n 2, 1) := dk_28 (dk_at dksX10_isKin_3 2 rfl rfl)
theorem dX10_isKin_74 : decode cX10_isKin 74 = .ok (.invokevirtual 54, 3) := dk_182 0 54 (dk_at dksX10_isKin_3 3 rfl rfl)
theorem dX10_isKin_77 : decode cX10_isKin 77 = .ok (.ifCond .eq 17, 3) := dk_153 0 17 (dk_at dksX10_isKin_3 6 rfl rfl)
theorem dX10_isKin_80 : decode cX10_isKin 80 = .ok (.aload_n 0, 1) := dk_42 (dk_at dksX10_isKin_3 9 rfl rfl)
theorem dX10_isKin_81 : decode cX10_isKin 81 = .ok (.getfield 19, 3) := dk_180 0 19 (dk_at dksX10_isKin_3 10 rfl rfl)
theorem dX10_isKin_84 : decode cX10_isKin 84 = .ok (.iload 4, 2) := dk_21 4 (dk_at dksX10_isKin_3 13 rfl rfl)
theorem dX10_isKin_86 : decode cX10_isKin 86 = .ok (.iaload, 1) := dk_46 (dk_at dksX10_isKin_3 15 rfl rfl)
theorem dX10_isKin_87 : decode cX10_isKin 87 = .ok (.iload_n 3, 1) := dk_29 (dk_at dksX10_isKin_3 16 rfl rfl)
theorem dX10_isKin_88 : decode cX10_isKin 88 = .ok (.iand, 1) := dk_126 (dk_at dksX10_isKin_3 17 rfl rfl)
theorem dX10_isKin_89 : decode cX10_isKin 89 = .ok (.ifCond .eq 5, 3) := dk_153 0 5 (dk_at dksX10_isKin_3 18 rfl rfl)
theorem dX10_isKin_92 : decode cX10_isKin 92 = .ok (.iconst 1, 1) := dk_4 (dk_at dksX10_isKin_3 21 rfl rfl)
theorem dX10_isKin_93 : decode cX10_isKin 93 = .ok (.ireturn, 1) := dk_172 (dk_at dksX10_isKin_3 22 rfl rfl)
theorem dX10_isKin_94 : decode cX10_isKin 94 = .ok (.iinc 4 1, 3) := dk_132 4 1 (dk_at dksX10_isKin_4 0 rfl rfl)
theorem dX10_isKin_97 : decode cX10_isKin 97 = .ok (.goto (-48), 3) := dk_167 255 208 (dk_at dksX10_isKin_4 3 rfl rfl)
theorem dX10_isKin_100 : decode cX10_isKin 100 = .ok (.iconst 0, 1) := dk_3 (dk_at dksX10_isKin_4 6 rfl rfl)
theorem dX10_isKin_101 : decode cX10_isKin 101 = .ok (.ireturn, 1) := dk_172 (dk_at dksX10_isKin_4 7 rfl rfl)
abbrev cX10_takes : ByteArray := prog_18_method_13_code
def yX10_takes : MethodName := ⟨RX10, "takes", "(II)V"⟩
def dkwX10_takes_1 : List UInt8 := [180, 0, 34, 79, 177]
abbrev dktX10_takes_1 : List UInt8 := dkwX10_takes_1 ++ []
def dkwX10_takes_0 : List UInt8 := [42, 180, 0, 19, 27, 92, 46, 4, 28, 120, 128, 79, 42, 180, 0, 28, 16, 8, 28, 104, 27, 96, 42]
abbrev dktX10_takes_0 : List UInt8 := dkwX10_takes_0 ++ dktX10_takes_1
theorem dksX10_takes_0 : cX10_takes.data.toList.drop 0 = dktX10_takes_0 := by decide +kernel
theorem dksX10_takes_1 : cX10_takes.data.toList.drop 23 = dktX10_takes_1 := dk_seg dksX10_takes_0 23 rfl rfl
theorem dX10_takes_0 : decode cX10_takes 0 = .ok (.aload_n 0, 1) := dk_42 (dk_at dksX10_takes_0 0 rfl rfl)
theorem dX10_takes_1 : decode cX10_takes 1 = .ok (.getfield 19, 3) := dk_180 0 19 (dk_at dksX10_takes_0 1 rfl rfl)
theorem dX10_takes_4 : decode cX10_takes 4 = .ok (.iload_n 1, 1) := dk_27 (dk_at dksX10_takes_0 4 rfl rfl)
theorem dX10_takes_5 : decode cX10_takes 5 = .ok (.dup2, 1) := dk_92 (dk_at dksX10_takes_0 5 rfl rfl)
theorem dX10_takes_6 : decode cX10_takes 6 = .ok (.iaload, 1) := dk_46 (dk_at dksX10_takes_0 6 rfl rfl)
theorem dX10_takes_7 : decode cX10_takes 7 = .ok (.iconst 1, 1) := dk_4 (dk_at dksX10_takes_0 7 rfl rfl)
theorem dX10_takes_8 : decode cX10_takes 8 = .ok (.iload_n 2, 1) := dk_28 (dk_at dksX10_takes_0 8 rfl rfl)
theorem dX10_takes_9 : decode cX10_takes 9 = .ok (.ishl, 1) := dk_120 (dk_at dksX10_takes_0 9 rfl rfl)
theorem dX10_takes_10 : decode cX10_takes 10 = .ok (.ior, 1) := dk_128 (dk_at dksX10_takes_0 10 rfl rfl)
theorem dX10_takes_11 : decode cX10_takes 11 = .ok (.iastore, 1) := dk_79 (dk_at dksX10_takes_0 11 rfl rfl)
theorem dX10_takes_12 : decode cX10_takes 12 = .ok (.aload_n 0, 1) := dk_42 (dk_at dksX10_takes_0 12 rfl rfl)
theorem dX10_takes_13 : decode cX10_takes 13 = .ok (.getfield 28, 3) := dk_180 0 28 (dk_at dksX10_takes_0 13 rfl rfl)
theorem dX10_takes_16 : decode cX10_takes 16 = .ok (.bipush 8, 2) := dk_16 8 (dk_at dksX10_takes_0 16 rfl rfl)
theorem dX10_takes_18 : decode cX10_takes 18 = .ok (.iload_n 2, 1) := dk_28 (dk_at dksX10_takes_0 18 rfl rfl)
theorem dX10_takes_19 : decode cX10_takes 19 = .ok (.imul, 1) := dk_104 (dk_at dksX10_takes_0 19 rfl rfl)
theorem dX10_takes_20 : decode cX10_takes 20 = .ok (.iload_n 1, 1) := dk_27 (dk_at dksX10_takes_0 20 rfl rfl)
theorem dX10_takes_21 : decode cX10_takes 21 = .ok (.iadd, 1) := dk_96 (dk_at dksX10_takes_0 21 rfl rfl)
theorem dX10_takes_22 : decode cX10_takes 22 = .ok (.aload_n 0, 1) := dk_42 (dk_at dksX10_takes_0 22 rfl rfl)
theorem dX10_takes_23 : decode cX10_takes 23 = .ok (.getfield 34, 3) := dk_180 0 34 (dk_at dksX10_takes_1 0 rfl rfl)
theorem dX10_takes_26 : decode cX10_takes 26 = .ok (.iastore, 1) := dk_79 (dk_at dksX10_takes_1 3 rfl rfl)
theorem dX10_takes_27 : decode cX10_takes 27 = .ok (.return_, 1) := dk_177 (dk_at dksX10_takes_1 4 rfl rfl)
abbrev cX10_goes_2 : ByteArray := prog_18_method_19_code
def yX10_goes_2 : MethodName := ⟨RX10, "goes", "(I)LPuppetHeirs$Troupe;"⟩
def dkwX10_goes_2_0 : List UInt8 := [3, 61, 28, 27, 162, 0, 14, 42, 182, 0, 146, 87, 132, 2, 1, 167, 255, 243, 42, 176]
abbrev dktX10_goes_2_0 : List UInt8 := dkwX10_goes_2_0 ++ []
theorem dksX10_goes_2_0 : cX10_goes_2.data.toList.drop 0 = dktX10_goes_2_0 := by decide +kernel
theorem dX10_goes_2_0 : decode cX10_goes_2 0 = .ok (.iconst 0, 1) := dk_3 (dk_at dksX10_goes_2_0 0 rfl rfl)
theorem dX10_goes_2_1 : decode cX10_goes_2 1 = .ok (.istore_n 2, 1) := dk_61 (dk_at dksX10_goes_2_0 1 rfl rfl)
theorem dX10_goes_2_2 : decode cX10_goes_2 2 = .ok (.iload_n 2, 1) := dk_28 (dk_at dksX10_goes_2_0 2 rfl rfl)
theorem dX10_goes_2_3 : decode cX10_goes_2 3 = .ok (.iload_n 1, 1) := dk_27 (dk_at dksX10_goes_2_0 3 rfl rfl)
theorem dX10_goes_2_4 : decode cX10_goes_2 4 = .ok (.if_icmp .ge 14, 3) := dk_162 0 14 (dk_at dksX10_goes_2_0 4 rfl rfl)
theorem dX10_goes_2_7 : decode cX10_goes_2 7 = .ok (.aload_n 0, 1) := dk_42 (dk_at dksX10_goes_2_0 7 rfl rfl)
theorem dX10_goes_2_8 : decode cX10_goes_2 8 = .ok (.invokevirtual 146, 3) := dk_182 0 146 (dk_at dksX10_goes_2_0 8 rfl rfl)
theorem dX10_goes_2_11 : decode cX10_goes_2 11 = .ok (.pop, 1) := dk_87 (dk_at dksX10_goes_2_0 11 rfl rfl)
theorem dX10_goes_2_12 : decode cX10_goes_2 12 = .ok (.iinc 2 1, 3) := dk_132 2 1 (dk_at dksX10_goes_2_0 12 rfl rfl)
theorem dX10_goes_2_15 : decode cX10_goes_2 15 = .ok (.goto (-13), 3) := dk_167 255 243 (dk_at dksX10_goes_2_0 15 rfl rfl)
theorem dX10_goes_2_18 : decode cX10_goes_2 18 = .ok (.aload_n 0, 1) := dk_42 (dk_at dksX10_goes_2_0 18 rfl rfl)
theorem dX10_goes_2_19 : decode cX10_goes_2 19 = .ok (.areturn, 1) := dk_176 (dk_at dksX10_goes_2_0 19 rfl rfl)
theorem q144 : (Jvm.Cond.initialized "PuppetHeirs$Troupe") ∈ lw_all := lw_g (lw_at lw_m1 29 rfl) rfl
theorem q519 : (Jvm.Cond.fieldLinkNest "PuppetHeirs$Troupe" (47 : Nat) "PuppetHeirs$Told" "born" "[I" "PuppetHeirs") ∈ lw_tbl := lw_at lw_m2 164 rfl
theorem q524 : (Jvm.Cond.fieldLinkNest "PuppetHeirs$Troupe" (120 : Nat) "PuppetHeirs$Told" "dies" "[I" "PuppetHeirs") ∈ lw_tbl := lw_at lw_m2 169 rfl
theorem q534 : (Jvm.Cond.fieldLinkNest "PuppetHeirs$Troupe" (88 : Nat) "PuppetHeirs$Told" "fall" "[I" "PuppetHeirs") ∈ lw_tbl := lw_at lw_m2 179 rfl
theorem q537 : (Jvm.Cond.fieldLinkNest "PuppetHeirs$Troupe" (67 : Nat) "PuppetHeirs$Told" "needs" "[I" "PuppetHeirs") ∈ lw_tbl := lw_at lw_m2 182 rfl
theorem q541 : (Jvm.Cond.fieldLinkNest "PuppetHeirs$Troupe" (53 : Nat) "PuppetHeirs$Told" "strings" "[I" "PuppetHeirs") ∈ lw_tbl := lw_at lw_m2 186 rfl
theorem q544 : (Jvm.Cond.fieldLinkNest "PuppetHeirs$Troupe" (50 : Nat) "PuppetHeirs$Told" "first" "[I" "PuppetHeirs") ∈ lw_tbl := lw_at lw_m2 189 rfl
theorem q547 : (Jvm.Cond.fieldLinkNest "PuppetHeirs$Troupe" (107 : Nat) "PuppetHeirs$Told" "quarrels" "[I" "PuppetHeirs") ∈ lw_tbl := lw_at lw_m2 192 rfl
theorem q553 : (Jvm.Cond.fieldLinkNest "PuppetHeirs$Troupe" (42 : Nat) "PuppetHeirs$Told" "hands" "I" "PuppetHeirs") ∈ lw_tbl := lw_at lw_m2 198 rfl
theorem q559 : (Jvm.Cond.fieldLinkNest "PuppetHeirs$Troupe" (64 : Nat) "PuppetHeirs$Told" "puppets" "I" "PuppetHeirs") ∈ lw_tbl := lw_at lw_m2 204 rfl
theorem q563 : (Jvm.Cond.fieldLinkNest "PuppetHeirs$Troupe" (134 : Nat) "PuppetHeirs$Told" "wear" "I" "PuppetHeirs") ∈ lw_tbl := lw_at lw_m2 208 rfl
theorem q657 : (Jvm.Cond.instantiable "PuppetHeirs$Troupe" (8 : Nat)) ∈ lw_all := lw_g (lw_at lw_m3 62 rfl) rfl
theorem q659 : (Jvm.Cond.instanceMethod ({ cls := "PuppetHeirs$Troupe", name := "<init>", desc := "(LPuppetHeirs;)V" } : Jvm.MethodName)) ∈ lw_all := lw_g (lw_at lw_m3 64 rfl) rfl
theorem q660 : (Jvm.Cond.code ({ cls := "PuppetHeirs$Troupe", name := "<init>", desc := "(LPuppetHeirs;)V" } : Jvm.MethodName) prog_18_method_1_code (2 : Nat) (Option.none : Option Jvm.ClassFile.FieldType)) ∈ lw_all := lw_g (lw_at lw_m3 65 rfl) rfl
theorem q661 : (Jvm.Cond.methodLink "PuppetHeirs$Troupe" (9 : Nat) ({ cls := "java/lang/Object", name := "<init>", desc := "()V" } : Jvm.MethodName)) ∈ lw_all := lw_g (lw_at lw_m3 66 rfl) rfl
theorem q662 : (Jvm.Cond.fieldLink "PuppetHeirs$Troupe" (15 : Nat) "PuppetHeirs$Troupe" "is" "[I") ∈ lw_all := lw_g (lw_at lw_m3 67 rfl) rfl
theorem q664 : (Jvm.Cond.fieldLink "PuppetHeirs$Troupe" (19 : Nat) "PuppetHeirs$Troupe" "works" "[I") ∈ lw_all := lw_g (lw_at lw_m3 69 rfl) rfl
theorem q666 : (Jvm.Cond.fieldLink "PuppetHeirs$Troupe" (22 : Nat) "PuppetHeirs$Troupe" "latest" "[I") ∈ lw_all := lw_g (lw_at lw_m3 71 rfl) rfl
theorem q668 : (Jvm.Cond.fieldLink "PuppetHeirs$Troupe" (25 : Nat) "PuppetHeirs$Troupe" "strings" "[I") ∈ lw_all := lw_g (lw_at lw_m3 73 rfl) rfl
theorem q670 : (Jvm.Cond.fieldLink "PuppetHeirs$Troupe" (28 : Nat) "PuppetHeirs$Troupe" "since" "[I") ∈ lw_all := lw_g (lw_at lw_m3 75 rfl) rfl
theorem q672 : (Jvm.Cond.fieldLink "PuppetHeirs$Troupe" (31 : Nat) "PuppetHeirs$Troupe" "chose" "[I") ∈ lw_all := lw_g (lw_at lw_m3 77 rfl) rfl
theorem q674 : (Jvm.Cond.fieldLink "PuppetHeirs$Troupe" (34 : Nat) "PuppetHeirs$Troupe" "year" "I") ∈ lw_all := lw_g (lw_at lw_m3 79 rfl) rfl
theorem q676 : (Jvm.Cond.fieldLink "PuppetHeirs$Troupe" (3 : Nat) "PuppetHeirs$Troupe" "this$0" "LPuppetHeirs;") ∈ lw_all := lw_g (lw_at lw_m3 81 rfl) rfl
theorem q677 : (Jvm.Cond.laysFinal "PuppetHeirs$Troupe" "PuppetHeirs$Troupe" "is" "[I") ∈ lw_all := lw_g (lw_at lw_m3 82 rfl) rfl
theorem q678 : (Jvm.Cond.soleField "PuppetHeirs$Troupe" "is") ∈ lw_all := lw_g (lw_at lw_m3 83 rfl) rfl
theorem q679 : (Jvm.Cond.laysFinal "PuppetHeirs$Troupe" "PuppetHeirs$Troupe" "works" "[I") ∈ lw_all := lw_g (lw_at lw_m3 84 rfl) rfl
theorem q680 : (Jvm.Cond.soleField "PuppetHeirs$Troupe" "works") ∈ lw_all := lw_g (lw_at lw_m3 85 rfl) rfl
theorem q681 : (Jvm.Cond.laysFinal "PuppetHeirs$Troupe" "PuppetHeirs$Troupe" "latest" "[I") ∈ lw_all := lw_g (lw_at lw_m3 86 rfl) rfl
theorem q682 : (Jvm.Cond.soleField "PuppetHeirs$Troupe" "latest") ∈ lw_all := lw_g (lw_at lw_m3 87 rfl) rfl
theorem q683 : (Jvm.Cond.laysFinal "PuppetHeirs$Troupe" "PuppetHeirs$Troupe" "strings" "[I") ∈ lw_all := lw_g (lw_at lw_m3 88 rfl) rfl
theorem q684 : (Jvm.Cond.soleField "PuppetHeirs$Troupe" "strings") ∈ lw_all := lw_g (lw_at lw_m3 89 rfl) rfl
theorem q685 : (Jvm.Cond.laysFinal "PuppetHeirs$Troupe" "PuppetHeirs$Troupe" "since" "[I") ∈ lw_all := lw_g (lw_at lw_m3 90 rfl) rfl
theorem q686 : (Jvm.Cond.soleField "PuppetHeirs$Troupe" "since") ∈ lw_all := lw_g (lw_at lw_m3 91 rfl) rfl
theorem q687 : (Jvm.Cond.laysFinal "PuppetHeirs$Troupe" "PuppetHeirs$Troupe" "chose" "[I") ∈ lw_all := lw_g (lw_at lw_m3 92 rfl) rfl
theorem q688 : (Jvm.Cond.soleField "PuppetHeirs$Troupe" "chose") ∈ lw_all := lw_g (lw_at lw_m3 93 rfl) rfl
theorem q689 : (Jvm.Cond.lays "PuppetHeirs$Troupe" "PuppetHeirs$Troupe" "year" "I") ∈ lw_all := lw_g (lw_at lw_m3 94 rfl) rfl
theorem q690 : (Jvm.Cond.soleField "PuppetHeirs$Troupe" "year") ∈ lw_all := lw_g (lw_at lw_m3 95 rfl) rfl
theorem q691 : (Jvm.Cond.laysFinal "PuppetHeirs$Troupe" "PuppetHeirs$Troupe" "this$0" "LPuppetHeirs;") ∈ lw_all := lw_g (lw_at lw_m3 96 rfl) rfl
theorem q692 : (Jvm.Cond.soleField "PuppetHeirs$Troupe" "this$0") ∈ lw_all := lw_g (lw_at lw_m3 97 rfl) rfl
theorem q693 : (Jvm.Cond.superclass "PuppetHeirs$Troupe" "java/lang/Object") ∈ lw_all := lw_g (lw_at lw_m3 98 rfl) rfl
theorem q700 : (Jvm.Cond.instanceMethod ({ cls := "PuppetHeirs$Troupe", name := "begins", desc := "()LPuppetHeirs$Troupe;" } : Jvm.MethodName)) ∈ lw_all := lw_g (lw_at lw_m3 105 rfl) rfl
theorem q701 : (Jvm.Cond.selects "PuppetHeirs$Troupe" ({ cls := "PuppetHeirs$Troupe", name := "begins", desc := "()LPuppetHeirs$Troupe;" } : Jvm.MethodName) ({ cls := "PuppetHeirs$Troupe", name := "begins", desc := "()LPuppetHeirs$Troupe;" } : Jvm.MethodName)) ∈ lw_all := lw_g (lw_at lw_m3 106 rfl) rfl
theorem q702 : (Jvm.Cond.code ({ cls := "PuppetHeirs$Troupe", name := "begins", desc := "()LPuppetHeirs$Troupe;" } : Jvm.MethodName) prog_18_method_2_code (3 : Nat) (Option.some (Jvm.ClassFile.FieldType.object "PuppetHeirs$Troupe"))) ∈ lw_all := lw_g (lw_at lw_m3 107 rfl) rfl
theorem q703 : (Jvm.Cond.methodLink "PuppetHeirs$Troupe" (54 : Nat) ({ cls := "PuppetHeirs$Troupe", name := "isOf", desc := "(II)Z" } : Jvm.MethodName)) ∈ lw_all := lw_g (lw_at lw_m3 108 rfl) rfl
theorem q704 : (Jvm.Cond.instanceMethod ({ cls := "PuppetHeirs$Troupe", name := "isOf", desc := "(II)Z" } : Jvm.MethodName)) ∈ lw_all := lw_g (lw_at lw_m3 109 rfl) rfl
theorem q705 : (Jvm.Cond.selects "PuppetHeirs$Troupe" ({ cls := "PuppetHeirs$Troupe", name := "isOf", desc := "(II)Z" } : Jvm.MethodName) ({ cls := "PuppetHeirs$Troupe", name := "isOf", desc := "(II)Z" } : Jvm.MethodName)) ∈ lw_all := lw_g (lw_at lw_m3 110 rfl) rfl
theorem q706 : (Jvm.Cond.code ({ cls := "PuppetHeirs$Troupe", name := "isOf", desc := "(II)Z" } : Jvm.MethodName) prog_18_method_4_code (3 : Nat) (Option.some Jvm.ClassFile.FieldType.boolean)) ∈ lw_all := lw_g (lw_at lw_m3 111 rfl) rfl
theorem q712 : (Jvm.Cond.instanceMethod ({ cls := "PuppetHeirs$Troupe", name := "becomes", desc := "(LPuppetHeirs$Troupe;)LPuppetHeirs$Troupe;" } : Jvm.MethodName)) ∈ lw_all := lw_g (lw_at lw_m3 117 rfl) rfl
theorem q713 : (Jvm.Cond.selects "PuppetHeirs$Troupe" ({ cls := "PuppetHeirs$Troupe", name := "becomes", desc := "(LPuppetHeirs$Troupe;)LPuppetHeirs$Troupe;" } : Jvm.MethodName) ({ cls := "PuppetHeirs$Troupe", name := "becomes", desc := "(LPuppetHeirs$Troupe;)LPuppetHeirs$Troupe;" } : Jvm.MethodName)) ∈ lw_all := lw_g (lw_at lw_m3 118 rfl) rfl
theorem q714 : (Jvm.Cond.code ({ cls := "PuppetHeirs$Troupe", name := "becomes", desc := "(LPuppetHeirs$Troupe;)LPuppetHeirs$Troupe;" } : Jvm.MethodName) prog_18_method_3_code (2 : Nat) (Option.some (Jvm.ClassFile.FieldType.object "PuppetHeirs$Troupe"))) ∈ lw_all := lw_g (lw_at lw_m3 119 rfl) rfl
theorem q715 : (Jvm.Cond.methodLink "PuppetHeirs$Troupe" (58 : Nat) ({ cls := "java/lang/System", name := "arraycopy", desc := "(Ljava/lang/Object;ILjava/lang/Object;II)V" } : Jvm.MethodName)) ∈ lw_all := lw_g (lw_at lw_m3 120 rfl) rfl
theorem q717 : (Jvm.Cond.fieldLinkNest "PuppetHeirs$Troupe" (38 : Nat) "PuppetHeirs" "told" "LPuppetHeirs$Told;" "PuppetHeirs") ∈ lw_tbl := lw_at lw_m3 122 rfl
theorem q719 : (Jvm.Cond.fieldLinkNest "PuppetHeirs$Troupe" (97 : Nat) "PuppetHeirs" "law" "LPuppetHeirs$Term;" "PuppetHeirs") ∈ lw_tbl := lw_at lw_m3 124 rfl
theorem q721 : (Jvm.Cond.fieldLinkNest "PuppetHeirs$Troupe" (82 : Nat) "PuppetHeirs" "facts" "[I" "PuppetHeirs") ∈ lw_tbl := lw_at lw_m3 126 rfl
theorem q803 : (Jvm.Cond.instanceMethod ({ cls := "PuppetHeirs$Troupe", name := "alive", desc := "()I" } : Jvm.MethodName)) ∈ lw_all := lw_g (lw_at lw_m3 208 rfl) rfl
theorem q804 : (Jvm.Cond.selects "PuppetHeirs$Troupe" ({ cls := "PuppetHeirs$Troupe", name := "alive", desc := "()I" } : Jvm.MethodName) ({ cls := "PuppetHeirs$Troupe", name := "alive", desc := "()I" } : Jvm.MethodName)) ∈ lw_all := lw_g (lw_at lw_m3 209 rfl) rfl
theorem q805 : (Jvm.Cond.code ({ cls := "PuppetHeirs$Troupe", name := "alive", desc := "()I" } : Jvm.MethodName) prog_18_method_6_code (3 : Nat) (Option.some Jvm.ClassFile.FieldType.int)) ∈ lw_all := lw_g (lw_at lw_m3 210 rfl) rfl
theorem q873 : (Jvm.Cond.instanceMethod ({ cls := "PuppetHeirs$Troupe", name := "goes", desc := "()LPuppetHeirs$Troupe;" } : Jvm.MethodName)) ∈ lw_all := lw_g (lw_at lw_m4 38 rfl) rfl
theorem q874 : (Jvm.Cond.selects "PuppetHeirs$Troupe" ({ cls := "PuppetHeirs$Troupe", name := "goes", desc := "()LPuppetHeirs$Troupe;" } : Jvm.MethodName) ({ cls := "PuppetHeirs$Troupe", name := "goes", desc := "()LPuppetHeirs$Troupe;" } : Jvm.MethodName)) ∈ lw_all := lw_g (lw_at lw_m4 39 rfl) rfl
theorem q875 : (Jvm.Cond.code ({ cls := "PuppetHeirs$Troupe", name := "goes", desc := "()LPuppetHeirs$Troupe;" } : Jvm.MethodName) prog_18_method_18_code (1 : Nat) (Option.some (Jvm.ClassFile.FieldType.object "PuppetHeirs$Troupe"))) ∈ lw_all := lw_g (lw_at lw_m4 40 rfl) rfl
theorem q876 : (Jvm.Cond.methodLink "PuppetHeirs$Troupe" (137 : Nat) ({ cls := "PuppetHeirs$Troupe", name := "begin", desc := "()V" } : Jvm.MethodName)) ∈ lw_all := lw_g (lw_at lw_m4 41 rfl) rfl
theorem q877 : (Jvm.Cond.instanceMethod ({ cls := "PuppetHeirs$Troupe", name := "begin", desc := "()V" } : Jvm.MethodName)) ∈ lw_all := lw_g (lw_at lw_m4 42 rfl) rfl
theorem q878 : (Jvm.Cond.selects "PuppetHeirs$Troupe" ({ cls := "PuppetHeirs$Troupe", name := "begin", desc := "()V" } : Jvm.MethodName) ({ cls := "PuppetHeirs$Troupe", name := "begin", desc := "()V" } : Jvm.MethodName)) ∈ lw_all := lw_g (lw_at lw_m4 43 rfl) rfl
theorem q879 : (Jvm.Cond.code ({ cls := "PuppetHeirs$Troupe", name := "begin", desc := "()V" } : Jvm.MethodName) prog_18_method_15_code (2 : Nat) (Option.none : Option Jvm.ClassFile.FieldType)) ∈ lw_all := lw_g (lw_at lw_m4 44 rfl) rfl
theorem q880 : (Jvm.Cond.methodLink "PuppetHeirs$Troupe" (140 : Nat) ({ cls := "PuppetHeirs$Troupe", name := "deaths", desc := "()V" } : Jvm.MethodName)) ∈ lw_all := lw_g (lw_at lw_m4 45 rfl) rfl
theorem q881 : (Jvm.Cond.instanceMethod ({ cls := "PuppetHeirs$Troupe", name := "deaths", desc := "()V" } : Jvm.MethodName)) ∈ lw_all := lw_g (lw_at lw_m4 46 rfl) rfl
theorem q882 : (Jvm.Cond.selects "PuppetHeirs$Troupe" ({ cls := "PuppetHeirs$Troupe", name := "deaths", desc := "()V" } : Jvm.MethodName) ({ cls := "PuppetHeirs$Troupe", name := "deaths", desc := "()V" } : Jvm.MethodName)) ∈ lw_all := lw_g (lw_at lw_m4 47 rfl) rfl
theorem q883 : (Jvm.Cond.code ({ cls := "PuppetHeirs$Troupe", name := "deaths", desc := "()V" } : Jvm.MethodName) prog_18_method_16_code (2 : Nat) (Option.none : Option Jvm.ClassFile.FieldType)) ∈ lw_all := lw_g (lw_at lw_m4 48 rfl) rfl
theorem q884 : (Jvm.Cond.methodLink "PuppetHeirs$Troupe" (123 : Nat) ({ cls := "PuppetHeirs$Troupe", name := "dies", desc := "(I)I" } : Jvm.MethodName)) ∈ lw_all := lw_g (lw_at lw_m4 49 rfl) rfl
theorem q885 : (Jvm.Cond.instanceMethod ({ cls := "PuppetHeirs$Troupe", name := "dies", desc := "(I)I" } : Jvm.MethodName)) ∈ lw_all := lw_g (lw_at lw_m4 50 rfl) rfl
theorem q886 : (Jvm.Cond.selects "PuppetHeirs$Troupe" ({ cls := "PuppetHeirs$Troupe", name := "dies", desc := "(I)I" } : Jvm.MethodName) ({ cls := "PuppetHeirs$Troupe", name := "dies", desc := "(I)I" } : Jvm.MethodName)) ∈ lw_all := lw_g (lw_at lw_m4 51 rfl) rfl
theorem q887 : (Jvm.Cond.code ({ cls := "PuppetHeirs$Troupe", name := "dies", desc := "(I)I" } : Jvm.MethodName) prog_18_method_14_code (4 : Nat) (Option.some Jvm.ClassFile.FieldType.int)) ∈ lw_all := lw_g (lw_at lw_m4 52 rfl) rfl
theorem q888 : (Jvm.Cond.methodLink "PuppetHeirs$Troupe" (91 : Nat) ({ cls := "PuppetHeirs$Troupe", name := "workedBy", desc := "(I)I" } : Jvm.MethodName)) ∈ lw_all := lw_g (lw_at lw_m4 53 rfl) rfl
theorem q889 : (Jvm.Cond.instanceMethod ({ cls := "PuppetHeirs$Troupe", name := "workedBy", desc := "(I)I" } : Jvm.MethodName)) ∈ lw_all := lw_g (lw_at lw_m4 54 rfl) rfl
theorem q890 : (Jvm.Cond.selects "PuppetHeirs$Troupe" ({ cls := "PuppetHeirs$Troupe", name := "workedBy", desc := "(I)I" } : Jvm.MethodName) ({ cls := "PuppetHeirs$Troupe", name := "workedBy", desc := "(I)I" } : Jvm.MethodName)) ∈ lw_all := lw_g (lw_at lw_m4 55 rfl) rfl
theorem q891 : (Jvm.Cond.code ({ cls := "PuppetHeirs$Troupe", name := "workedBy", desc := "(I)I" } : Jvm.MethodName) prog_18_method_5_code (4 : Nat) (Option.some Jvm.ClassFile.FieldType.int)) ∈ lw_all := lw_g (lw_at lw_m4 56 rfl) rfl
theorem q892 : (Jvm.Cond.methodLink "PuppetHeirs$Troupe" (116 : Nat) ({ cls := "PuppetHeirs$Troupe", name := "leaves", desc := "(II)V" } : Jvm.MethodName)) ∈ lw_all := lw_g (lw_at lw_m4 57 rfl) rfl
theorem q893 : (Jvm.Cond.instanceMethod ({ cls := "PuppetHeirs$Troupe", name := "leaves", desc := "(II)V" } : Jvm.MethodName)) ∈ lw_all := lw_g (lw_at lw_m4 58 rfl) rfl
theorem q894 : (Jvm.Cond.selects "PuppetHeirs$Troupe" ({ cls := "PuppetHeirs$Troupe", name := "leaves", desc := "(II)V" } : Jvm.MethodName) ({ cls := "PuppetHeirs$Troupe", name := "leaves", desc := "(II)V" } : Jvm.MethodName)) ∈ lw_all := lw_g (lw_at lw_m4 59 rfl) rfl
theorem q895 : (Jvm.Cond.code ({ cls := "PuppetHeirs$Troupe", name := "leaves", desc := "(II)V" } : Jvm.MethodName) prog_18_method_12_code (3 : Nat) (Option.none : Option Jvm.ClassFile.FieldType)) ∈ lw_all := lw_g (lw_at lw_m4 60 rfl) rfl
theorem q896 : (Jvm.Cond.methodLink "PuppetHeirs$Troupe" (70 : Nat) ({ cls := "java/lang/Integer", name := "bitCount", desc := "(I)I" } : Jvm.MethodName)) ∈ lw_all := lw_g (lw_at lw_m4 61 rfl) rfl
theorem q897 : (Jvm.Cond.methodLink "PuppetHeirs$Troupe" (143 : Nat) ({ cls := "PuppetHeirs$Troupe", name := "choices", desc := "()V" } : Jvm.MethodName)) ∈ lw_all := lw_g (lw_at lw_m4 62 rfl) rfl
theorem q898 : (Jvm.Cond.instanceMethod ({ cls := "PuppetHeirs$Troupe", name := "choices", desc := "()V" } : Jvm.MethodName)) ∈ lw_all := lw_g (lw_at lw_m4 63 rfl) rfl
theorem q899 : (Jvm.Cond.selects "PuppetHeirs$Troupe" ({ cls := "PuppetHeirs$Troupe", name := "choices", desc := "()V" } : Jvm.MethodName) ({ cls := "PuppetHeirs$Troupe", name := "choices", desc := "()V" } : Jvm.MethodName)) ∈ lw_all := lw_g (lw_at lw_m4 64 rfl) rfl
theorem q900 : (Jvm.Cond.code ({ cls := "PuppetHeirs$Troupe", name := "choices", desc := "()V" } : Jvm.MethodName) prog_18_method_17_code (3 : Nat) (Option.none : Option Jvm.ClassFile.FieldType)) ∈ lw_all := lw_g (lw_at lw_m4 65 rfl) rfl
theorem q901 : (Jvm.Cond.methodLink "PuppetHeirs$Troupe" (125 : Nat) ({ cls := "PuppetHeirs$Troupe", name := "lacks", desc := "(I)I" } : Jvm.MethodName)) ∈ lw_all := lw_g (lw_at lw_m4 66 rfl) rfl
theorem q902 : (Jvm.Cond.instanceMethod ({ cls := "PuppetHeirs$Troupe", name := "lacks", desc := "(I)I" } : Jvm.MethodName)) ∈ lw_all := lw_g (lw_at lw_m4 67 rfl) rfl
theorem q903 : (Jvm.Cond.selects "PuppetHeirs$Troupe" ({ cls := "PuppetHeirs$Troupe", name := "lacks", desc := "(I)I" } : Jvm.MethodName) ({ cls := "PuppetHeirs$Troupe", name := "lacks", desc := "(I)I" } : Jvm.MethodName)) ∈ lw_all := lw_g (lw_at lw_m4 68 rfl) rfl
theorem q904 : (Jvm.Cond.code ({ cls := "PuppetHeirs$Troupe", name := "lacks", desc := "(I)I" } : Jvm.MethodName) prog_18_method_7_code (2 : Nat) (Option.some Jvm.ClassFile.FieldType.int)) ∈ lw_all := lw_g (lw_at lw_m4 69 rfl) rfl
theorem q905 : (Jvm.Cond.methodLink "PuppetHeirs$Troupe" (76 : Nat) ({ cls := "java/lang/Math", name := "max", desc := "(II)I" } : Jvm.MethodName)) ∈ lw_all := lw_g (lw_at lw_m4 70 rfl) rfl
theorem q906 : (Jvm.Cond.methodLink "PuppetHeirs$Troupe" (128 : Nat) ({ cls := "PuppetHeirs$Troupe", name := "chooses", desc := "(I)I" } : Jvm.MethodName)) ∈ lw_all := lw_g (lw_at lw_m4 71 rfl) rfl
theorem q907 : (Jvm.Cond.instanceMethod ({ cls := "PuppetHeirs$Troupe", name := "chooses", desc := "(I)I" } : Jvm.MethodName)) ∈ lw_all := lw_g (lw_at lw_m4 72 rfl) rfl
theorem q908 : (Jvm.Cond.selects "PuppetHeirs$Troupe" ({ cls := "PuppetHeirs$Troupe", name := "chooses", desc := "(I)I" } : Jvm.MethodName) ({ cls := "PuppetHeirs$Troupe", name := "chooses", desc := "(I)I" } : Jvm.MethodName)) ∈ lw_all := lw_g (lw_at lw_m4 73 rfl) rfl
theorem q909 : (Jvm.Cond.code ({ cls := "PuppetHeirs$Troupe", name := "chooses", desc := "(I)I" } : Jvm.MethodName) prog_18_method_11_code (4 : Nat) (Option.some Jvm.ClassFile.FieldType.int)) ∈ lw_all := lw_g (lw_at lw_m4 74 rfl) rfl
theorem q910 : (Jvm.Cond.methodLink "PuppetHeirs$Troupe" (110 : Nat) ({ cls := "PuppetHeirs$Troupe", name := "may", desc := "(II)Z" } : Jvm.MethodName)) ∈ lw_all := lw_g (lw_at lw_m4 75 rfl) rfl
theorem q911 : (Jvm.Cond.instanceMethod ({ cls := "PuppetHeirs$Troupe", name := "may", desc := "(II)Z" } : Jvm.MethodName)) ∈ lw_all := lw_g (lw_at lw_m4 76 rfl) rfl
theorem q912 : (Jvm.Cond.selects "PuppetHeirs$Troupe" ({ cls := "PuppetHeirs$Troupe", name := "may", desc := "(II)Z" } : Jvm.MethodName) ({ cls := "PuppetHeirs$Troupe", name := "may", desc := "(II)Z" } : Jvm.MethodName)) ∈ lw_all := lw_g (lw_at lw_m4 77 rfl) rfl
theorem q913 : (Jvm.Cond.code ({ cls := "PuppetHeirs$Troupe", name := "may", desc := "(II)Z" } : Jvm.MethodName) prog_18_method_10_code (3 : Nat) (Option.some Jvm.ClassFile.FieldType.boolean)) ∈ lw_all := lw_g (lw_at lw_m4 78 rfl) rfl
theorem q914 : (Jvm.Cond.methodLink "PuppetHeirs$Troupe" (113 : Nat) ({ cls := "PuppetHeirs$Troupe", name := "score", desc := "(II)I" } : Jvm.MethodName)) ∈ lw_all := lw_g (lw_at lw_m4 79 rfl) rfl
theorem q915 : (Jvm.Cond.instanceMethod ({ cls := "PuppetHeirs$Troupe", name := "score", desc := "(II)I" } : Jvm.MethodName)) ∈ lw_all := lw_g (lw_at lw_m4 80 rfl) rfl
theorem q916 : (Jvm.Cond.selects "PuppetHeirs$Troupe" ({ cls := "PuppetHeirs$Troupe", name := "score", desc := "(II)I" } : Jvm.MethodName) ({ cls := "PuppetHeirs$Troupe", name := "score", desc := "(II)I" } : Jvm.MethodName)) ∈ lw_all := lw_g (lw_at lw_m4 81 rfl) rfl
theorem q917 : (Jvm.Cond.code ({ cls := "PuppetHeirs$Troupe", name := "score", desc := "(II)I" } : Jvm.MethodName) prog_18_method_9_code (3 : Nat) (Option.some Jvm.ClassFile.FieldType.int)) ∈ lw_all := lw_g (lw_at lw_m4 82 rfl) rfl
theorem q918 : (Jvm.Cond.methodLinkNest "PuppetHeirs$Troupe" (85 : Nat) ({ cls := "PuppetHeirs", name := "limpOf", desc := "(I)I" } : Jvm.MethodName) "PuppetHeirs") ∈ lw_tbl := lw_at lw_m4 83 rfl
theorem q922 : (Jvm.Cond.methodLink "PuppetHeirs$Troupe" (94 : Nat) ({ cls := "PuppetHeirs$Troupe", name := "isKin", desc := "(II)Z" } : Jvm.MethodName)) ∈ lw_all := lw_g (lw_at lw_m4 87 rfl) rfl
theorem q923 : (Jvm.Cond.privateMethod ({ cls := "PuppetHeirs$Troupe", name := "isKin", desc := "(II)Z" } : Jvm.MethodName)) ∈ lw_tbl := lw_at lw_m4 88 rfl
theorem q924 : (Jvm.Cond.instanceMethod ({ cls := "PuppetHeirs$Troupe", name := "isKin", desc := "(II)Z" } : Jvm.MethodName)) ∈ lw_all := lw_g (lw_at lw_m4 89 rfl) rfl
theorem q925 : (Jvm.Cond.code ({ cls := "PuppetHeirs$Troupe", name := "isKin", desc := "(II)Z" } : Jvm.MethodName) prog_18_method_8_code (5 : Nat) (Option.some Jvm.ClassFile.FieldType.boolean)) ∈ lw_all := lw_g (lw_at lw_m4 90 rfl) rfl
theorem q926 : (Jvm.Cond.methodLink "PuppetHeirs$Troupe" (101 : Nat) ({ cls := "PuppetHeirs$Term", name := "of", desc := "([I)I" } : Jvm.MethodName)) ∈ lw_all := lw_g (lw_at lw_m4 91 rfl) rfl
theorem q971 : (Jvm.Cond.methodLink "PuppetHeirs$Troupe" (131 : Nat) ({ cls := "PuppetHeirs$Troupe", name := "takes", desc := "(II)V" } : Jvm.MethodName)) ∈ lw_all := lw_g (lw_at lw_m4 136 rfl) rfl
theorem q972 : (Jvm.Cond.instanceMethod ({ cls := "PuppetHeirs$Troupe", name := "takes", desc := "(II)V" } : Jvm.MethodName)) ∈ lw_all := lw_g (lw_at lw_m4 137 rfl) rfl
theorem q973 : (Jvm.Cond.selects "PuppetHeirs$Troupe" ({ cls := "PuppetHeirs$Troupe", name := "takes", desc := "(II)V" } : Jvm.MethodName) ({ cls := "PuppetHeirs$Troupe", name := "takes", desc := "(II)V" } : Jvm.MethodName)) ∈ lw_all := lw_g (lw_at lw_m4 138 rfl) rfl
theorem q974 : (Jvm.Cond.code ({ cls := "PuppetHeirs$Troupe", name := "takes", desc := "(II)V" } : Jvm.MethodName) prog_18_method_13_code (3 : Nat) (Option.none : Option Jvm.ClassFile.FieldType)) ∈ lw_all := lw_g (lw_at lw_m4 139 rfl) rfl
theorem q1365 : (Jvm.Cond.selects "PuppetHeirs$Troupe" ({ cls := "java/lang/Object", name := "getClass", desc := "()Ljava/lang/Class;" } : Jvm.MethodName) ({ cls := "java/lang/Object", name := "getClass", desc := "()Ljava/lang/Class;" } : Jvm.MethodName)) ∈ lw_all := lw_g (lw_at lw_m6 50 rfl) rfl
theorem q1654 : (Jvm.Cond.instanceMethod ({ cls := "PuppetHeirs$Troupe", name := "goes", desc := "(I)LPuppetHeirs$Troupe;" } : Jvm.MethodName)) ∈ lw_all := lw_g (lw_at lw_m7 99 rfl) rfl
theorem q1655 : (Jvm.Cond.selects "PuppetHeirs$Troupe" ({ cls := "PuppetHeirs$Troupe", name := "goes", desc := "(I)LPuppetHeirs$Troupe;" } : Jvm.MethodName) ({ cls := "PuppetHeirs$Troupe", name := "goes", desc := "(I)LPuppetHeirs$Troupe;" } : Jvm.MethodName)) ∈ lw_all := lw_g (lw_at lw_m7 100 rfl) rfl
theorem q1656 : (Jvm.Cond.code ({ cls := "PuppetHeirs$Troupe", name := "goes", desc := "(I)LPuppetHeirs$Troupe;" } : Jvm.MethodName) prog_18_method_19_code (3 : Nat) (Option.some (Jvm.ClassFile.FieldType.object "PuppetHeirs$Troupe"))) ∈ lw_all := lw_g (lw_at lw_m7 101 rfl) rfl
theorem q1657 : (Jvm.Cond.methodLink "PuppetHeirs$Troupe" (146 : Nat) ({ cls := "PuppetHeirs$Troupe", name := "goes", desc := "()LPuppetHeirs$Troupe;" } : Jvm.MethodName)) ∈ lw_all := lw_g (lw_at lw_m7 102 rfl) rfl
theorem q2645 : (Jvm.Cond.castable "PuppetHeirs$Troupe" "java/lang/Object") ∈ lw_tbl := lw_at lw_m11 130 rfl
theorem in_X10 : ∀ w ∈ wsX100, w ∈ lw_all := lw_in wsX100 [677, 679, 681, 683, 685, 687, 689, 691] (by decide +kernel) (by decide +kernel)

/-! PuppetHeirs$Reader -/
set_option maxRecDepth 100000
def RX12 : String := "PuppetHeirs$Reader"
abbrev cX12_init : ByteArray := prog_14_method_1_code
def yX12_init : MethodName := ⟨RX12, "<init>", "([BI)V"⟩
def dkwX12_init_0 : List UInt8 := [42, 183, 0, 3, 42, 43, 181, 0, 9, 42, 28, 181, 0, 15, 177]
abbrev dktX12_init_0 : List UInt8 := dkwX12_init_0 ++ []
theorem dksX12_init_0 : cX12_init.data.toList.drop 0 = dktX12_init_0 := by decide +kernel
theorem dX12_init_0 : decode cX12_init 0 = .ok (.aload_n 0, 1) := dk_42 (dk_at dksX12_init_0 0 rfl rfl)
theorem dX12_init_1 : decode cX12_init 1 = .ok (.invokespecial 3, 3) := dk_183 0 3 (dk_at dksX12_init_0 1 rfl rfl)
theorem dX12_init_4 : decode cX12_init 4 = .ok (.aload_n 0, 1) := dk_42 (dk_at dksX12_init_0 4 rfl rfl)
theorem dX12_init_5 : decode cX12_init 5 = .ok (.aload_n 1, 1) := dk_43 (dk_at dksX12_init_0 5 rfl rfl)
theorem dX12_init_6 : decode cX12_init 6 = .ok (.putfield 9, 3) := dk_181 0 9 (dk_at dksX12_init_0 6 rfl rfl)
theorem dX12_init_9 : decode cX12_init 9 = .ok (.aload_n 0, 1) := dk_42 (dk_at dksX12_init_0 9 rfl rfl)
theorem dX12_init_10 : decode cX12_init 10 = .ok (.iload_n 2, 1) := dk_28 (dk_at dksX12_init_0 10 rfl rfl)
theorem dX12_init_11 : decode cX12_init 11 = .ok (.putfield 15, 3) := dk_181 0 15 (dk_at dksX12_init_0 11 rfl rfl)
theorem dX12_init_14 : decode cX12_init 14 = .ok (.return_, 1) := dk_177 (dk_at dksX12_init_0 14 rfl rfl)
abbrev cX12_sign : ByteArray := prog_14_method_2_code
def yX12_sign : MethodName := ⟨RX12, "sign", "()I"⟩
def dkwX12_sign_2 : List UInt8 := [162, 0, 15, 42, 180, 0, 9, 42, 180, 0, 19, 51, 167, 0, 4, 3, 172]
abbrev dktX12_sign_2 : List UInt8 := dkwX12_sign_2 ++ []
def dkwX12_sign_1 : List UInt8 := [160, 0, 16, 42, 89, 180, 0, 19, 4, 96, 181, 0, 19, 167, 255, 221, 42, 180, 0, 19, 42, 180, 0, 15]
abbrev dktX12_sign_1 : List UInt8 := dkwX12_sign_1 ++ dktX12_sign_2
def dkwX12_sign_0 : List UInt8 := [42, 180, 0, 19, 42, 180, 0, 15, 162, 0, 30, 42, 180, 0, 9, 42, 180, 0, 19, 51, 16, 32]
abbrev dktX12_sign_0 : List UInt8 := dkwX12_sign_0 ++ dktX12_sign_1
theorem dksX12_sign_0 : cX12_sign.data.toList.drop 0 = dktX12_sign_0 := by decide +kernel
theorem dksX12_sign_1 : cX12_sign.data.toList.drop 22 = dktX12_sign_1 := dk_seg dksX12_sign_0 22 rfl rfl
theorem dksX12_sign_2 : cX12_sign.data.toList.drop 46 = dktX12_sign_2 := dk_seg dksX12_sign_1 24 rfl rfl
theorem dX12_sign_0 : decode cX12_sign 0 = .ok (.aload_n 0, 1) := dk_42 (dk_at dksX12_sign_0 0 rfl rfl)
theorem dX12_sign_1 : decode cX12_sign 1 = .ok (.getfield 19, 3) := dk_180 0 19 (dk_at dksX12_sign_0 1 rfl rfl)
theorem dX12_sign_4 : decode cX12_sign 4 = .ok (.aload_n 0, 1) := dk_42 (dk_at dksX12_sign_0 4 rfl rfl)
theorem dX12_sign_5 : decode cX12_sign 5 = .ok (.getfield 15, 3) := dk_180 0 15 (dk_at dksX12_sign_0 5 rfl rfl)
theorem dX12_sign_8 : decode cX12_sign 8 = .ok (.if_icmp .ge 30, 3) := dk_162 0 30 (dk_at dksX12_sign_0 8 rfl rfl)
theorem dX12_sign_11 : decode cX12_sign 11 = .ok (.aload_n 0, 1) := dk_42 (dk_at dksX12_sign_0 11 rfl rfl)
theorem dX12_sign_12 : decode cX12_sign 12 = .ok (.getfield 9, 3) := dk_180 0 9 (dk_at dksX12_sign_0 12 rfl rfl)
theorem dX12_sign_15 : decode cX12_sign 15 = .ok (.aload_n 0, 1) := dk_42 (dk_at dksX12_sign_0 15 rfl rfl)
theorem dX12_sign_16 : decode cX12_sign 16 = .ok (.getfield 19, 3) := dk_180 0 19 (dk_at dksX12_sign_0 16 rfl rfl)
theorem dX12_sign_19 : decode cX12_sign 19 = .ok (.baload, 1) := dk_51 (dk_at dksX12_sign_0 19 rfl rfl)
theorem dX12_sign_20 : decode cX12_sign 20 = .ok (.bipush 32, 2) := dk_16 32 (dk_at dksX12_sign_0 20 rfl rfl)
theorem dX12_sign_22 : decode cX12_sign 22 = .ok (.if_icmp .ne 16, 3) := dk_160 0 16 (dk_at dksX12_sign_1 0 rfl rfl)
theorem dX12_sign_25 : decode cX12_sign 25 = .ok (.aload_n 0, 1) := dk_42 (dk_at dksX12_sign_1 3 rfl rfl)
theorem dX12_sign_26 : decode cX12_sign 26 = .ok (.dup, 1) := dk_89 (dk_at dksX12_sign_1 4 rfl rfl)
theorem dX12_sign_27 : decode cX12_sign 27 = .ok (.getfield 19, 3) := dk_180 0 19 (dk_at dksX12_sign_1 5 rfl rfl)
theorem dX12_sign_30 : decode cX12_sign 30 = .ok (.iconst 1, 1) := dk_4 (dk_at dksX12_sign_1 8 rfl rfl)
theorem dX12_sign_31 : decode cX12_sign 31 = .ok (.iadd, 1) := dk_96 (dk_at dksX12_sign_1 9 rfl rfl)
theorem dX12_sign_32 : decode cX12_sign 32 = .ok (.putfield 19, 3) := dk_181 0 19 (dk_at dksX12_sign_1 10 rfl rfl)
theorem dX12_sign_35 : decode cX12_sign 35 = .ok (.goto (-35), 3) := dk_167 255 221 (dk_at dksX12_sign_1 13 rfl rfl)
theorem dX12_sign_38 : decode cX12_sign 38 = .ok (.aload_n 0, 1) := dk_42 (dk_at dksX12_sign_1 16 rfl rfl)
theorem dX12_sign_39 : decode cX12_sign 39 = .ok (.getfield 19, 3) := dk_180 0 19 (dk_at dksX12_sign_1 17 rfl rfl)
theorem dX12_sign_42 : decode cX12_sign 42 = .ok (.aload_n 0, 1) := dk_42 (dk_at dksX12_sign_1 20 rfl rfl)
theorem dX12_sign_43 : decode cX12_sign 43 = .ok (.getfield 15, 3) := dk_180 0 15 (dk_at dksX12_sign_1 21 rfl rfl)
theorem dX12_sign_46 : decode cX12_sign 46 = .ok (.if_icmp .ge 15, 3) := dk_162 0 15 (dk_at dksX12_sign_2 0 rfl rfl)
theorem dX12_sign_49 : decode cX12_sign 49 = .ok (.aload_n 0, 1) := dk_42 (dk_at dksX12_sign_2 3 rfl rfl)
theorem dX12_sign_50 : decode cX12_sign 50 = .ok (.getfield 9, 3) := dk_180 0 9 (dk_at dksX12_sign_2 4 rfl rfl)
theorem dX12_sign_53 : decode cX12_sign 53 = .ok (.aload_n 0, 1) := dk_42 (dk_at dksX12_sign_2 7 rfl rfl)
theorem dX12_sign_54 : decode cX12_sign 54 = .ok (.getfield 19, 3) := dk_180 0 19 (dk_at dksX12_sign_2 8 rfl rfl)
theorem dX12_sign_57 : decode cX12_sign 57 = .ok (.baload, 1) := dk_51 (dk_at dksX12_sign_2 11 rfl rfl)
theorem dX12_sign_58 : decode cX12_sign 58 = .ok (.goto 4, 3) := dk_167 0 4 (dk_at dksX12_sign_2 12 rfl rfl)
theorem dX12_sign_61 : decode cX12_sign 61 = .ok (.iconst 0, 1) := dk_3 (dk_at dksX12_sign_2 15 rfl rfl)
theorem dX12_sign_62 : decode cX12_sign 62 = .ok (.ireturn, 1) := dk_172 (dk_at dksX12_sign_2 16 rfl rfl)
abbrev cX12_word : ByteArray := prog_14_method_3_code
def yX12_word : MethodName := ⟨RX12, "word", "()Ljava/lang/String;"⟩
def dkwX12_word_3 : List UInt8 := [132, 2, 1, 167, 255, 202, 43, 182, 0, 36, 176]
abbrev dktX12_word_3 : List UInt8 := dkwX12_word_3 ++ []
def dkwX12_word_2 : List UInt8 := [163, 0, 30, 43, 182, 0, 29, 16, 9, 162, 0, 21, 43, 42, 180, 0, 9, 28, 51, 146, 182, 0, 32, 87]
abbrev dktX12_word_2 : List UInt8 := dkwX12_word_2 ++ dktX12_word_3
def dkwX12_word_1 : List UInt8 := [162, 0, 52, 42, 180, 0, 9, 28, 51, 16, 97, 161, 0, 41, 42, 180, 0, 9, 28, 51, 16, 122]
abbrev dktX12_word_1 : List UInt8 := dkwX12_word_1 ++ dktX12_word_2
def dkwX12_word_0 : List UInt8 := [42, 182, 0, 22, 87, 187, 0, 26, 89, 183, 0, 28, 76, 42, 180, 0, 19, 61, 28, 42, 180, 0, 15]
abbrev dktX12_word_0 : List UInt8 := dkwX12_word_0 ++ dktX12_word_1
theorem dksX12_word_0 : cX12_word.data.toList.drop 0 = dktX12_word_0 := by decide +kernel
theorem dksX12_word_1 : cX12_word.data.toList.drop 23 = dktX12_word_1 := dk_seg dksX12_word_0 23 rfl rfl
theorem dksX12_word_2 : cX12_word.data.toList.drop 45 = dktX12_word_2 := dk_seg dksX12_word_1 22 rfl rfl
theorem dksX12_word_3 : cX12_word.data.toList.drop 69 = dktX12_word_3 := dk_seg dksX12_word_2 24 rfl rfl
theorem dX12_word_0 : decode cX12_word 0 = .ok (.aload_n 0, 1) := dk_42 (dk_at dksX12_word_0 0 rfl rfl)
theorem dX12_word_1 : decode cX12_word 1 = .ok (.invokevirtual 22, 3) := dk_182 0 22 (dk_at dksX12_word_0 1 rfl rfl)
theorem dX12_word_4 : decode cX12_word 4 = .ok (.pop, 1) := dk_87 (dk_at dksX12_word_0 4 rfl rfl)
theorem dX12_word_5 : decode cX12_word 5 = .ok (.new 26, 3) := dk_187 0 26 (dk_at dksX12_word_0 5 rfl rfl)
theorem dX12_word_8 : decode cX12_word 8 = .ok (.dup, 1) := dk_89 (dk_at dksX12_word_0 8 rfl rfl)
theorem dX12_word_9 : decode cX12_word 9 = .ok (.invokespecial 28, 3) := dk_183 0 28 (dk_at dksX12_word_0 9 rfl rfl)
theorem dX12_word_12 : decode cX12_word 12 = .ok (.astore_n 1, 1) := dk_76 (dk_at dksX12_word_0 12 rfl rfl)
theorem dX12_word_13 : decode cX12_word 13 = .ok (.aload_n 0, 1) := dk_42 (dk_at dksX12_word_0 13 rfl rfl)
theorem dX12_word_14 : decode cX12_word 14 = .ok (.getfield 19, 3) := dk_180 0 19 (dk_at dksX12_word_0 14 rfl rfl)
theorem dX12_word_17 : decode cX12_word 17 = .ok (.istore_n 2, 1) := dk_61 (dk_at dksX12_word_0 17 rfl rfl)
theorem dX12_word_18 : decode cX12_word 18 = .ok (.iload_n 2, 1) := dk_28 (dk_at dksX12_word_0 18 rfl rfl)
theorem dX12_word_19 : decode cX12_word 19 = .ok (.aload_n 0, 1) := dk_42 (dk_at dksX12_word_0 19 rfl rfl)
theorem dX12_word_20 : decode cX12_word 20 = .ok (.getfield 15, 3) := dk_180 0 15 (dk_at dksX12_word_0 20 rfl rfl)
theorem dX12_word_23 : decode cX12_word 23 = .ok (.if_icmp .ge 52, 3) := dk_162 0 52 (dk_at dksX12_word_1 0 rfl rfl)
theorem dX12_word_26 : decode cX12_word 26 = .ok (.aload_n 0, 1) := dk_42 (dk_at dksX12_word_1 3 rfl rfl)
theorem dX12_word_27 : decode cX12_word 27 = .ok (.getfield 9, 3) := dk_180 0 9 (dk_at dksX12_word_1 4 rfl rfl)
theorem dX12_word_30 : decode cX12_word 30 = .ok (.iload_n 2, 1) := dk_28 (dk_at dksX12_word_1 7 rfl rfl)
theorem dX12_word_31 : decode cX12_word 31 = .ok (.baload, 1) := dk_51 (dk_at dksX12_word_1 8 rfl rfl)
theorem dX12_word_32 : decode cX12_word 32 = .ok (.bipush 97, 2) := dk_16 97 (dk_at dksX12_word_1 9 rfl rfl)
theorem dX12_word_34 : decode cX12_word 34 = .ok (.if_icmp .lt 41, 3) := dk_161 0 41 (dk_at dksX12_word_1 11 rfl rfl)
theorem dX12_word_37 : decode cX12_word 37 = .ok (.aload_n 0, 1) := dk_42 (dk_at dksX12_word_1 14 rfl rfl)
theorem dX12_word_38 : decode cX12_word 38 = .ok (.getfield 9, 3) := dk_180 0 9 (dk_at dksX12_word_1 15 rfl rfl)
theorem dX12_word_41 : decode cX12_word 41 = .ok (.iload_n 2, 1) := dk_28 (dk_at dksX12_word_1 18 rfl rfl)
theorem dX12_word_42 : decode cX12_word 42 = .ok (.baload, 1) := dk_51 (dk_at dksX12_word_1 19 rfl rfl)
theorem dX12_word_43 : decode cX12_word 43 = .ok (.bipush 122, 2) := dk_16 122 (dk_at dksX12_word_1 20 rfl rfl)
theorem dX12_word_45 : decode cX12_word 45 = .ok (.if_icmp .gt 30, 3) := dk_163 0 30 (dk_at dksX12_word_2 0 rfl rfl)
theorem dX12_word_48 : decode cX12_word 48 = .ok (.aload_n 1, 1) := dk_43 (dk_at dksX12_word_2 3 rfl rfl)
theorem dX12_word_49 : decode cX12_word 49 = .ok (.invokevirtual 29, 3) := dk_182 0 29 (dk_at dksX12_word_2 4 rfl rfl)
theorem dX12_word_52 : decode cX12_word 52 = .ok (.bipush 9, 2) := dk_16 9 (dk_at dksX12_word_2 7 rfl rfl)
theorem dX12_word_54 : decode cX12_word 54 = .ok (.if_icmp .ge 21, 3) := dk_162 0 21 (dk_at dksX12_word_2 9 rfl rfl)
theorem dX12_word_57 : decode cX12_word 57 = .ok (.aload_n 1, 1) := dk_43 (dk_at dksX12_word_2 12 rfl rfl)
theorem dX12_word_58 : decode cX12_word 58 = .ok (.aload_n 0, 1) := dk_42 (dk_at dksX12_word_2 13 rfl rfl)
theorem dX12_word_59 : decode cX12_word 59 = .ok (.getfield 9, 3) := dk_180 0 9 (dk_at dksX12_word_2 14 rfl rfl)
theorem dX12_word_62 : decode cX12_word 62 = .ok (.iload_n 2, 1) := dk_28 (dk_at dksX12_word_2 17 rfl rfl)
theorem dX12_word_63 : decode cX12_word 63 = .ok (.baload, 1) := dk_51 (dk_at dksX12_word_2 18 rfl rfl)
theorem dX12_word_64 : decode cX12_word 64 = .ok (.i2c, 1) := dk_146 (dk_at dksX12_word_2 19 rfl rfl)
theorem dX12_word_65 : decode cX12_word 65 = .ok (.invokevirtual 32, 3) := dk_182 0 32 (dk_at dksX12_word_2 20 rfl rfl)
theorem dX12_word_68 : decode cX12_word 68 = .ok (.pop, 1) := dk_87 (dk_at dksX12_word_2 23 rfl rfl)
theorem dX12_word_69 : decode cX12_word 69 = .ok (.iinc 2 1, 3) := dk_132 2 1 (dk_at dksX12_word_3 0 rfl rfl)
theorem dX12_word_72 : decode cX12_word 72 = .ok (.goto (-54), 3) := dk_167 255 202 (dk_at dksX12_word_3 3 rfl rfl)
theorem dX12_word_75 : decode cX12_word 75 = .ok (.aload_n 1, 1) := dk_43 (dk_at dksX12_word_3 6 rfl rfl)
theorem dX12_word_76 : decode cX12_word 76 = .ok (.invokevirtual 36, 3) := dk_182 0 36 (dk_at dksX12_word_3 7 rfl rfl)
theorem dX12_word_79 : decode cX12_word 79 = .ok (.areturn, 1) := dk_176 (dk_at dksX12_word_3 10 rfl rfl)
abbrev cX12_wrong : ByteArray := prog_14_method_4_code
def yX12_wrong : MethodName := ⟨RX12, "wrong", "()LPuppetHeirs$Wrong;"⟩
def dkwX12_wrong_0 : List UInt8 := [187, 0, 40, 89, 4, 42, 180, 0, 19, 183, 0, 42, 176]
abbrev dktX12_wrong_0 : List UInt8 := dkwX12_wrong_0 ++ []
theorem dksX12_wrong_0 : cX12_wrong.data.toList.drop 0 = dktX12_wrong_0 := by decide +kernel
theorem dX12_wrong_0 : decode cX12_wrong 0 = .ok (.new 40, 3) := dk_187 0 40 (dk_at dksX12_wrong_0 0 rfl rfl)
theorem dX12_wrong_3 : decode cX12_wrong 3 = .ok (.dup, 1) := dk_89 (dk_at dksX12_wrong_0 3 rfl rfl)
theorem dX12_wrong_4 : decode cX12_wrong 4 = .ok (.iconst 1, 1) := dk_4 (dk_at dksX12_wrong_0 4 rfl rfl)
theorem dX12_wrong_5 : decode cX12_wrong 5 = .ok (.aload_n 0, 1) := dk_42 (dk_at dksX12_wrong_0 5 rfl rfl)
theorem dX12_wrong_6 : decode cX12_wrong 6 = .ok (.getfield 19, 3) := dk_180 0 19 (dk_at dksX12_wrong_0 6 rfl rfl)
theorem dX12_wrong_9 : decode cX12_wrong 9 = .ok (.invokespecial 42, 3) := dk_183 0 42 (dk_at dksX12_wrong_0 9 rfl rfl)
theorem dX12_wrong_12 : decode cX12_wrong 12 = .ok (.areturn, 1) := dk_176 (dk_at dksX12_wrong_0 12 rfl rfl)
abbrev cX12_number : ByteArray := prog_14_method_7_code
def yX12_number : MethodName := ⟨RX12, "number", "(II)I"⟩
def dkwX12_number_5 : List UInt8 := [164, 0, 16, 187, 0, 40, 89, 5, 42, 180, 0, 52, 183, 0, 42, 191, 21, 4, 172]
abbrev dktX12_number_5 : List UInt8 := dkwX12_number_5 ++ []
def dkwX12_number_4 : List UInt8 := [54, 4, 42, 89, 180, 0, 19, 4, 96, 181, 0, 19, 167, 255, 182, 21, 4, 27, 161, 0, 9, 21, 4, 28]
abbrev dktX12_number_4 : List UInt8 := dkwX12_number_4 ++ dktX12_number_5
def dkwX12_number_3 : List UInt8 := [16, 10, 21, 4, 104, 42, 180, 0, 9, 42, 180, 0, 19, 51, 96, 16, 48, 100, 18, 55, 184, 0, 56]
abbrev dktX12_number_3 : List UInt8 := dkwX12_number_3 ++ dktX12_number_4
def dkwX12_number_2 : List UInt8 := [42, 180, 0, 19, 51, 16, 48, 161, 0, 55, 42, 180, 0, 9, 42, 180, 0, 19, 51, 16, 57, 163, 0, 41]
abbrev dktX12_number_2 : List UInt8 := dkwX12_number_2 ++ dktX12_number_3
def dkwX12_number_1 : List UInt8 := [180, 0, 19, 181, 0, 52, 3, 54, 4, 42, 180, 0, 19, 42, 180, 0, 15, 162, 0, 69, 42, 180, 0, 9]
abbrev dktX12_number_1 : List UInt8 := dkwX12_number_1 ++ dktX12_number_2
def dkwX12_number_0 : List UInt8 := [42, 182, 0, 22, 62, 29, 16, 48, 161, 0, 9, 29, 16, 57, 164, 0, 8, 42, 182, 0, 45, 191, 42, 42]
abbrev dktX12_number_0 : List UInt8 := dkwX12_number_0 ++ dktX12_number_1
theorem dksX12_number_0 : cX12_number.data.toList.drop 0 = dktX12_number_0 := by decide +kernel
theorem dksX12_number_1 : cX12_number.data.toList.drop 24 = dktX12_number_1 := dk_seg dksX12_number_0 24 rfl rfl
theorem dksX12_number_2 : cX12_number.data.toList.drop 48 = dktX12_number_2 := dk_seg dksX12_number_1 24 rfl rfl
theorem dksX12_number_3 : cX12_number.data.toList.drop 72 = dktX12_number_3 := dk_seg dksX12_number_2 24 rfl rfl
theorem dksX12_number_4 : cX12_number.data.toList.drop 95 = dktX12_number_4 := dk_seg dksX12_number_3 23 rfl rfl
theorem dksX12_number_5 : cX12_number.data.toList.drop 119 = dktX12_number_5 := dk_seg dksX12_number_4 24 rfl rfl
theorem dX12_number_0 : decode cX12_number 0 = .ok (.aload_n 0, 1) := dk_42 (dk_at dksX12_number_0 0 rfl rfl)
theorem dX12_number_1 : decode cX12_number 1 = .ok (.invokevirtual 22, 3) := dk_182 0 22 (dk_at dksX12_number_0 1 rfl rfl)
theorem dX12_number_4 : decode cX12_number 4 = .ok (.istore_n 3, 1) := dk_62 (dk_at dksX12_number_0 4 rfl rfl)
theorem dX12_number_5 : decode cX12_number 5 = .ok (.iload_n 3, 1) := dk_29 (dk_at dksX12_number_0 5 rfl rfl)
theorem dX12_number_6 : decode cX12_number 6 = .ok (.bipush 48, 2) := dk_16 48 (dk_at dksX12_number_0 6 rfl rfl)
theorem dX12_number_8 : decode cX12_number 8 = .ok (.if_icmp .lt 9, 3) := dk_161 0 9 (dk_at dksX12_number_0 8 rfl rfl)
theorem dX12_number_11 : decode cX12_number 11 = .ok (.iload_n 3, 1) := dk_29 (dk_at dksX12_number_0 11 rfl rfl)
theorem dX12_number_12 : decode cX12_number 12 = .ok (.bipush 57, 2) := dk_16 57 (dk_at dksX12_number_0 12 rfl rfl)
theorem dX12_number_14 : decode cX12_number 14 = .ok (.if_icmp .le 8, 3) := dk_164 0 8 (dk_at dksX12_number_0 14 rfl rfl)
theorem dX12_number_17 : decode cX12_number 17 = .ok (.aload_n 0, 1) := dk_42 (dk_at dksX12_number_0 17 rfl rfl)
theorem dX12_number_18 : decode cX12_number 18 = .ok (.invokevirtual 45, 3) := dk_182 0 45 (dk_at dksX12_number_0 18 rfl rfl)
theorem dX12_number_21 : decode cX12_number 21 = .ok (.athrow, 1) := dk_191 (dk_at dksX12_number_0 21 rfl rfl)
theorem dX12_number_22 : decode cX12_number 22 = .ok (.aload_n 0, 1) := dk_42 (dk_at dksX12_number_0 22 rfl rfl)
theorem dX12_number_23 : decode cX12_number 23 = .ok (.aload_n 0, 1) := dk_42 (dk_at dksX12_number_0 23 rfl rfl)
theorem dX12_number_24 : decode cX12_number 24 = .ok (.getfield 19, 3) := dk_180 0 19 (dk_at dksX12_number_1 0 rfl rfl)
theorem dX12_number_27 : decode cX12_number 27 = .ok (.putfield 52, 3) := dk_181 0 52 (dk_at dksX12_number_1 3 rfl rfl)
theorem dX12_number_30 : decode cX12_number 30 = .ok (.iconst 0, 1) := dk_3 (dk_at dksX12_number_1 6 rfl rfl)
theorem dX12_number_31 : decode cX12_number 31 = .ok (.istore 4, 2) := dk_54 4 (dk_at dksX12_number_1 7 rfl rfl)
theorem dX12_number_33 : decode cX12_number 33 = .ok (.aload_n 0, 1) := dk_42 (dk_at dksX12_number_1 9 rfl rfl)
theorem dX12_number_34 : decode cX12_number 34 = .ok (.getfield 19, 3) := dk_180 0 19 (dk_at dksX12_number_1 10 rfl rfl)
theorem dX12_number_37 : decode cX12_number 37 = .ok (.aload_n 0, 1) := dk_42 (dk_at dksX12_number_1 13 rfl rfl)
theorem dX12_number_38 : decode cX12_number 38 = .ok (.getfield 15, 3) := dk_180 0 15 (dk_at dksX12_number_1 14 rfl rfl)
theorem dX12_number_41 : decode cX12_number 41 = .ok (.if_icmp .ge 69, 3) := dk_162 0 69 (dk_at dksX12_number_1 17 rfl rfl)
theorem dX12_number_44 : decode cX12_number 44 = .ok (.aload_n 0, 1) := dk_42 (dk_at dksX12_number_1 20 rfl rfl)
theorem dX12_number_45 : decode cX12_number 45 = .ok (.getfield 9, 3) := dk_180 0 9 (dk_at dksX12_number_1 21 rfl rfl)
theorem dX12_number_48 : decode cX12_number 48 = .ok (.aload_n 0, 1) := dk_42 (dk_at dksX12_number_2 0 rfl rfl)
theorem dX12_number_49 : decode cX12_number 49 = .ok (.getfield 19, 3) := dk_180 0 19 (dk_at dksX12_number_2 1 rfl rfl)
theorem dX12_number_52 : decode cX12_number 52 = .ok (.baload, 1) := dk_51 (dk_at dksX12_number_2 4 rfl rfl)
theorem dX12_number_53 : decode cX12_number 53 = .ok (.bipush 48, 2) := dk_16 48 (dk_at dksX12_number_2 5 rfl rfl)
theorem dX12_number_55 : decode cX12_number 55 = .ok (.if_icmp .lt 55, 3) := dk_161 0 55 (dk_at dksX12_number_2 7 rfl rfl)
theorem dX12_number_58 : decode cX12_number 58 = .ok (.aload_n 0, 1) := dk_42 (dk_at dksX12_number_2 10 rfl rfl)
theorem dX12_number_59 : decode cX12_number 59 = .ok (.getfield 9, 3) := dk_180 0 9 (dk_at dksX12_number_2 11 rfl rfl)
theorem dX12_number_62 : decode cX12_number 62 = .ok (.aload_n 0, 1) := dk_42 (dk_at dksX12_number_2 14 rfl rfl)
theorem dX12_number_63 : decode cX12_number 63 = .ok (.getfield 19, 3) := dk_180 0 19 (dk_at dksX12_number_2 15 rfl rfl)
theorem dX12_number_66 : decode cX12_number 66 = .ok (.baload, 1) := dk_51 (dk_at dksX12_number_2 18 rfl rfl)
theorem dX12_number_67 : decode cX12_number 67 = .ok (.bipush 57, 2) := dk_16 57 (dk_at dksX12_number_2 19 rfl rfl)
theorem dX12_number_69 : decode cX12_number 69 = .ok (.if_icmp .gt 41, 3) := dk_163 0 41 (dk_at dksX12_number_2 21 rfl rfl)
theorem dX12_number_72 : decode cX12_number 72 = .ok (.bipush 10, 2) := dk_16 10 (dk_at dksX12_number_3 0 rfl rfl)
theorem dX12_number_74 : decode cX12_number 74 = .ok (.iload 4, 2) := dk_21 4 (dk_at dksX12_number_3 2 rfl rfl)
theorem dX12_number_76 : decode cX12_number 76 = .ok (.imul, 1) := dk_104 (dk_at dksX12_number_3 4 rfl rfl)
theorem dX12_number_77 : decode cX12_number 77 = .ok (.aload_n 0, 1) := dk_42 (dk_at dksX12_number_3 5 rfl rfl)
theorem dX12_number_78 : decode cX12_number 78 = .ok (.getfield 9, 3) := dk_180 0 9 (dk_at dksX12_number_3 6 rfl rfl)
theorem dX12_number_81 : decode cX12_number 81 = .ok (.aload_n 0, 1) := dk_42 (dk_at dksX12_number_3 9 rfl rfl)
theorem dX12_number_82 : decode cX12_number 82 = .ok (.getfield 19, 3) := dk_180 0 19 (dk_at dksX12_number_3 10 rfl rfl)
theorem dX12_number_85 : decode cX12_number 85 = .ok (.baload, 1) := dk_51 (dk_at dksX12_number_3 13 rfl rfl)
theorem dX12_number_86 : decode cX12_number 86 = .ok (.iadd, 1) := dk_96 (dk_at dksX12_number_3 14 rfl rfl)
theorem dX12_number_87 : decode cX12_number 87 = .ok (.bipush 48, 2) := dk_16 48 (dk_at dksX12_number_3 15 rfl rfl)
theorem dX12_number_89 : decode cX12_number 89 = .ok (.isub, 1) := dk_100 (dk_at dksX12_number_3 17 rfl rfl)
theorem dX12_number_90 : decode cX12_number 90 = .ok (.ldc 55, 2) := dk_18 55 (dk_at dksX12_number_3 18 rfl rfl)
theorem dX12_number_92 : decode cX12_number 92 = .ok (.invokestatic 56, 3) := dk_184 0 56 (dk_at dksX12_number_3 20 rfl rfl)
theorem dX12_number_95 : decode cX12_number 95 = .ok (.istore 4, 2) := dk_54 4 (dk_at dksX12_number_4 0 rfl rfl)
theorem dX12_number_97 : decode cX12_number 97 = .ok (.aload_n 0, 1) := dk_42 (dk_at dksX12_number_4 2 rfl rfl)
theorem dX12_number_98 : decode cX12_number 98 = .ok (.dup, 1) := dk_89 (dk_at dksX12_number_4 3 rfl rfl)
theorem dX12_number_99 : decode cX12_number 99 = .ok (.getfield 19, 3) := dk_180 0 19 (dk_at dksX12_number_4 4 rfl rfl)
theorem dX12_number_102 : decode cX12_number 102 = .ok (.iconst 1, 1) := dk_4 (dk_at dksX12_number_4 7 rfl rfl)
theorem dX12_number_103 : decode cX12_number 103 = .ok (.iadd, 1) := dk_96 (dk_at dksX12_number_4 8 rfl rfl)
theorem dX12_number_104 : decode cX12_number 104 = .ok (.putfield 19, 3) := dk_181 0 19 (dk_at dksX12_number_4 9 rfl rfl)
theorem dX12_number_107 : decode cX12_number 107 = .ok (.goto (-74), 3) := dk_167 255 182 (dk_at dksX12_number_4 12 rfl rfl)
theorem dX12_number_110 : decode cX12_number 110 = .ok (.iload 4, 2) := dk_21 4 (dk_at dksX12_number_4 15 rfl rfl)
theorem dX12_number_112 : decode cX12_number 112 = .ok (.iload_n 1, 1) := dk_27 (dk_at dksX12_number_4 17 rfl rfl)
theorem dX12_number_113 : decode cX12_number 113 = .ok (.if_icmp .lt 9, 3) := dk_161 0 9 (dk_at dksX12_number_4 18 rfl rfl)
theorem dX12_number_116 : decode cX12_number 116 = .ok (.iload 4, 2) := dk_21 4 (dk_at dksX12_number_4 21 rfl rfl)
theorem dX12_number_118 : decode cX12_number 118 = .ok (.iload_n 2, 1) := dk_28 (dk_at dksX12_number_4 23 rfl rfl)
theorem dX12_number_119 : decode cX12_number 119 = .ok (.if_icmp .le 16, 3) := dk_164 0 16 (dk_at dksX12_number_5 0 rfl rfl)
theorem dX12_number_122 : decode cX12_number 122 = .ok (.new 40, 3) := dk_187 0 40 (dk_at dksX12_number_5 3 rfl rfl)
theorem dX12_number_125 : decode cX12_number 125 = .ok (.dup, 1) := dk_89 (dk_at dksX12_number_5 6 rfl rfl)
theorem dX12_number_126 : decode cX12_number 126 = .ok (.iconst 2, 1) := dk_5 (dk_at dksX12_number_5 7 rfl rfl)
theorem dX12_number_127 : decode cX12_number 127 = .ok (.aload_n 0, 1) := dk_42 (dk_at dksX12_number_5 8 rfl rfl)
theorem dX12_number_128 : decode cX12_number 128 = .ok (.getfield 52, 3) := dk_180 0 52 (dk_at dksX12_number_5 9 rfl rfl)
theorem dX12_number_131 : decode cX12_number 131 = .ok (.invokespecial 42, 3) := dk_183 0 42 (dk_at dksX12_number_5 12 rfl rfl)
theorem dX12_number_134 : decode cX12_number 134 = .ok (.athrow, 1) := dk_191 (dk_at dksX12_number_5 15 rfl rfl)
theorem dX12_number_135 : decode cX12_number 135 = .ok (.iload 4, 2) := dk_21 4 (dk_at dksX12_number_5 16 rfl rfl)
theorem dX12_number_137 : decode cX12_number 137 = .ok (.ireturn, 1) := dk_172 (dk_at dksX12_number_5 18 rfl rfl)
abbrev cX12_need : ByteArray := prog_14_method_5_code
def yX12_need : MethodName := ⟨RX12, "need", "(I)V"⟩
def dkwX12_need_0 : List UInt8 := [42, 182, 0, 22, 27, 159, 0, 8, 42, 182, 0, 45, 191, 42, 89, 180, 0, 19, 4, 96, 181, 0, 19, 177]
abbrev dktX12_need_0 : List UInt8 := dkwX12_need_0 ++ []
theorem dksX12_need_0 : cX12_need.data.toList.drop 0 = dktX12_need_0 := by decide +kernel
theorem dX12_need_0 : decode cX12_need 0 = .ok (.aload_n 0, 1) := dk_42 (dk_at dksX12_need_0 0 rfl rfl)
theorem dX12_need_1 : decode cX12_need 1 = .ok (.invokevirtual 22, 3) := dk_182 0 22 (dk_at dksX12_need_0 1 rfl rfl)
theorem dX12_need_4 : decode cX12_need 4 = .ok (.iload_n 1, 1) := dk_27 (dk_at dksX12_need_0 4 rfl rfl)
theorem dX12_need_5 : decode cX12_need 5 = .ok (.if_icmp .eq 8, 3) := dk_159 0 8 (dk_at dksX12_need_0 5 rfl rfl)
theorem dX12_need_8 : decode cX12_need 8 = .ok (.aload_n 0, 1) := dk_42 (dk_at dksX12_need_0 8 rfl rfl)
theorem dX12_need_9 : decode cX12_need 9 = .ok (.invokevirtual 45, 3) := dk_182 0 45 (dk_at dksX12_need_0 9 rfl rfl)
theorem dX12_need_12 : decode cX12_need 12 = .ok (.athrow, 1) := dk_191 (dk_at dksX12_need_0 12 rfl rfl)
theorem dX12_need_13 : decode cX12_need 13 = .ok (.aload_n 0, 1) := dk_42 (dk_at dksX12_need_0 13 rfl rfl)
theorem dX12_need_14 : decode cX12_need 14 = .ok (.dup, 1) := dk_89 (dk_at dksX12_need_0 14 rfl rfl)
theorem dX12_need_15 : decode cX12_need 15 = .ok (.getfield 19, 3) := dk_180 0 19 (dk_at dksX12_need_0 15 rfl rfl)
theorem dX12_need_18 : decode cX12_need 18 = .ok (.iconst 1, 1) := dk_4 (dk_at dksX12_need_0 18 rfl rfl)
theorem dX12_need_19 : decode cX12_need 19 = .ok (.iadd, 1) := dk_96 (dk_at dksX12_need_0 19 rfl rfl)
theorem dX12_need_20 : decode cX12_need 20 = .ok (.putfield 19, 3) := dk_181 0 19 (dk_at dksX12_need_0 20 rfl rfl)
theorem dX12_need_23 : decode cX12_need 23 = .ok (.return_, 1) := dk_177 (dk_at dksX12_need_0 23 rfl rfl)
abbrev cX12_opens : ByteArray := prog_14_method_6_code
def yX12_opens : MethodName := ⟨RX12, "opens", "(I)V"⟩
def dkwX12_opens_1 : List UInt8 := [180, 0, 19, 27, 96, 181, 0, 19, 42, 89, 180, 0, 49, 4, 96, 181, 0, 49, 177]
abbrev dktX12_opens_1 : List UInt8 := dkwX12_opens_1 ++ []
def dkwX12_opens_0 : List UInt8 := [42, 180, 0, 49, 16, 6, 160, 0, 16, 187, 0, 40, 89, 6, 42, 180, 0, 19, 183, 0, 42, 191, 42, 89]
abbrev dktX12_opens_0 : List UInt8 := dkwX12_opens_0 ++ dktX12_opens_1
theorem dksX12_opens_0 : cX12_opens.data.toList.drop 0 = dktX12_opens_0 := by decide +kernel
theorem dksX12_opens_1 : cX12_opens.data.toList.drop 24 = dktX12_opens_1 := dk_seg dksX12_opens_0 24 rfl rfl
theorem dX12_opens_0 : decode cX12_opens 0 = .ok (.aload_n 0, 1) := dk_42 (dk_at dksX12_opens_0 0 rfl rfl)
theorem dX12_opens_1 : decode cX12_opens 1 = .ok (.getfield 49, 3) := dk_180 0 49 (dk_at dksX12_opens_0 1 rfl rfl)
theorem dX12_opens_4 : decode cX12_opens 4 = .ok (.bipush 6, 2) := dk_16 6 (dk_at dksX12_opens_0 4 rfl rfl)
theorem dX12_opens_6 : decode cX12_opens 6 = .ok (.if_icmp .ne 16, 3) := dk_160 0 16 (dk_at dksX12_opens_0 6 rfl rfl)
theorem dX12_opens_9 : decode cX12_opens 9 = .ok (.new 40, 3) := dk_187 0 40 (dk_at dksX12_opens_0 9 rfl rfl)
theorem dX12_opens_12 : decode cX12_opens 12 = .ok (.dup, 1) := dk_89 (dk_at dksX12_opens_0 12 rfl rfl)
theorem dX12_opens_13 : decode cX12_opens 13 = .ok (.iconst 3, 1) := dk_6 (dk_at dksX12_opens_0 13 rfl rfl)
theorem dX12_opens_14 : decode cX12_opens 14 = .ok (.aload_n 0, 1) := dk_42 (dk_at dksX12_opens_0 14 rfl rfl)
theorem dX12_opens_15 : decode cX12_opens 15 = .ok (.getfield 19, 3) := dk_180 0 19 (dk_at dksX12_opens_0 15 rfl rfl)
theorem dX12_opens_18 : decode cX12_opens 18 = .ok (.invokespecial 42, 3) := dk_183 0 42 (dk_at dksX12_opens_0 18 rfl rfl)
theorem dX12_opens_21 : decode cX12_opens 21 = .ok (.athrow, 1) := dk_191 (dk_at dksX12_opens_0 21 rfl rfl)
theorem dX12_opens_22 : decode cX12_opens 22 = .ok (.aload_n 0, 1) := dk_42 (dk_at dksX12_opens_0 22 rfl rfl)
theorem dX12_opens_23 : decode cX12_opens 23 = .ok (.dup, 1) := dk_89 (dk_at dksX12_opens_0 23 rfl rfl)
theorem dX12_opens_24 : decode cX12_opens 24 = .ok (.getfield 19, 3) := dk_180 0 19 (dk_at dksX12_opens_1 0 rfl rfl)
theorem dX12_opens_27 : decode cX12_opens 27 = .ok (.iload_n 1, 1) := dk_27 (dk_at dksX12_opens_1 3 rfl rfl)
theorem dX12_opens_28 : decode cX12_opens 28 = .ok (.iadd, 1) := dk_96 (dk_at dksX12_opens_1 4 rfl rfl)
theorem dX12_opens_29 : decode cX12_opens 29 = .ok (.putfield 19, 3) := dk_181 0 19 (dk_at dksX12_opens_1 5 rfl rfl)
theorem dX12_opens_32 : decode cX12_opens 32 = .ok (.aload_n 0, 1) := dk_42 (dk_at dksX12_opens_1 8 rfl rfl)
theorem dX12_opens_33 : decode cX12_opens 33 = .ok (.dup, 1) := dk_89 (dk_at dksX12_opens_1 9 rfl rfl)
theorem dX12_opens_34 : decode cX12_opens 34 = .ok (.getfield 49, 3) := dk_180 0 49 (dk_at dksX12_opens_1 10 rfl rfl)
theorem dX12_opens_37 : decode cX12_opens 37 = .ok (.iconst 1, 1) := dk_4 (dk_at dksX12_opens_1 13 rfl rfl)
theorem dX12_opens_38 : decode cX12_opens 38 = .ok (.iadd, 1) := dk_96 (dk_at dksX12_opens_1 14 rfl rfl)
theorem dX12_opens_39 : decode cX12_opens 39 = .ok (.putfield 49, 3) := dk_181 0 49 (dk_at dksX12_opens_1 15 rfl rfl)
theorem dX12_opens_42 : decode cX12_opens 42 = .ok (.return_, 1) := dk_177 (dk_at dksX12_opens_1 18 rfl rfl)
theorem q146 : (Jvm.Cond.initialized "PuppetHeirs$Reader") ∈ lw_all := lw_g (lw_at lw_m1 31 rfl) rfl
theorem q1051 : (Jvm.Cond.instanceMethod ({ cls := "PuppetHeirs$Reader", name := "<init>", desc := "([BI)V" } : Jvm.MethodName)) ∈ lw_all := lw_g (lw_at lw_m4 216 rfl) rfl
theorem q1052 : (Jvm.Cond.code ({ cls := "PuppetHeirs$Reader", name := "<init>", desc := "([BI)V" } : Jvm.MethodName) prog_14_method_1_code (3 : Nat) (Option.none : Option Jvm.ClassFile.FieldType)) ∈ lw_all := lw_g (lw_at lw_m4 217 rfl) rfl
theorem q1053 : (Jvm.Cond.methodLink "PuppetHeirs$Reader" (3 : Nat) ({ cls := "java/lang/Object", name := "<init>", desc := "()V" } : Jvm.MethodName)) ∈ lw_all := lw_g (lw_at lw_m4 218 rfl) rfl
theorem q1057 : (Jvm.Cond.fieldLink "PuppetHeirs$Reader" (9 : Nat) "PuppetHeirs$Reader" "text" "[B") ∈ lw_all := lw_g (lw_at lw_m4 222 rfl) rfl
theorem q1058 : (Jvm.Cond.fieldLink "PuppetHeirs$Reader" (15 : Nat) "PuppetHeirs$Reader" "size" "I") ∈ lw_all := lw_g (lw_at lw_m4 223 rfl) rfl
theorem q1065 : (Jvm.Cond.fieldLink "PuppetHeirs$Reader" (19 : Nat) "PuppetHeirs$Reader" "next" "I") ∈ lw_all := lw_g (lw_at lw_m4 230 rfl) rfl
theorem q1076 : (Jvm.Cond.fieldLink "PuppetHeirs$Reader" (52 : Nat) "PuppetHeirs$Reader" "from" "I") ∈ lw_all := lw_g (lw_at lw_m5 1 rfl) rfl
theorem q1079 : (Jvm.Cond.fieldLink "PuppetHeirs$Reader" (49 : Nat) "PuppetHeirs$Reader" "open" "I") ∈ lw_all := lw_g (lw_at lw_m5 4 rfl) rfl
theorem q1083 : (Jvm.Cond.soleField "PuppetHeirs$Reader" "text") ∈ lw_all := lw_g (lw_at lw_m5 8 rfl) rfl
theorem q1085 : (Jvm.Cond.soleField "PuppetHeirs$Reader" "size") ∈ lw_all := lw_g (lw_at lw_m5 10 rfl) rfl
theorem q1087 : (Jvm.Cond.soleField "PuppetHeirs$Reader" "next") ∈ lw_all := lw_g (lw_at lw_m5 12 rfl) rfl
theorem q1089 : (Jvm.Cond.soleField "PuppetHeirs$Reader" "from") ∈ lw_all := lw_g (lw_at lw_m5 14 rfl) rfl
theorem q1091 : (Jvm.Cond.soleField "PuppetHeirs$Reader" "open") ∈ lw_all := lw_g (lw_at lw_m5 16 rfl) rfl
theorem q1099 : (Jvm.Cond.declares ({ cls := "PuppetHeirs$Reader", name := "sign", desc := "()I" } : Jvm.MethodName)) ∈ lw_tbl := lw_at lw_m5 24 rfl
theorem q1101 : (Jvm.Cond.instanceMethod ({ cls := "PuppetHeirs$Reader", name := "sign", desc := "()I" } : Jvm.MethodName)) ∈ lw_all := lw_g (lw_at lw_m5 26 rfl) rfl
theorem q1102 : (Jvm.Cond.code ({ cls := "PuppetHeirs$Reader", name := "sign", desc := "()I" } : Jvm.MethodName) prog_14_method_2_code (1 : Nat) (Option.some Jvm.ClassFile.FieldType.int)) ∈ lw_all := lw_g (lw_at lw_m5 27 rfl) rfl
theorem q1105 : (Jvm.Cond.declares ({ cls := "PuppetHeirs$Reader", name := "word", desc := "()Ljava/lang/String;" } : Jvm.MethodName)) ∈ lw_tbl := lw_at lw_m5 30 rfl
theorem q1107 : (Jvm.Cond.instanceMethod ({ cls := "PuppetHeirs$Reader", name := "word", desc := "()Ljava/lang/String;" } : Jvm.MethodName)) ∈ lw_all := lw_g (lw_at lw_m5 32 rfl) rfl
theorem q1108 : (Jvm.Cond.code ({ cls := "PuppetHeirs$Reader", name := "word", desc := "()Ljava/lang/String;" } : Jvm.MethodName) prog_14_method_3_code (3 : Nat) (Option.some (Jvm.ClassFile.FieldType.object "java/lang/String"))) ∈ lw_all := lw_g (lw_at lw_m5 33 rfl) rfl
theorem q1109 : (Jvm.Cond.methodLink "PuppetHeirs$Reader" (22 : Nat) ({ cls := "PuppetHeirs$Reader", name := "sign", desc := "()I" } : Jvm.MethodName)) ∈ lw_all := lw_g (lw_at lw_m5 34 rfl) rfl
theorem q1110 : (Jvm.Cond.classLink "PuppetHeirs$Reader" (26 : Nat) "java/lang/StringBuilder") ∈ lw_all := lw_g (lw_at lw_m5 35 rfl) rfl
theorem q1111 : (Jvm.Cond.methodLink "PuppetHeirs$Reader" (28 : Nat) ({ cls := "java/lang/StringBuilder", name := "<init>", desc := "()V" } : Jvm.MethodName)) ∈ lw_all := lw_g (lw_at lw_m5 36 rfl) rfl
theorem q1112 : (Jvm.Cond.methodLink "PuppetHeirs$Reader" (29 : Nat) ({ cls := "java/lang/StringBuilder", name := "length", desc := "()I" } : Jvm.MethodName)) ∈ lw_all := lw_g (lw_at lw_m5 37 rfl) rfl
theorem q1113 : (Jvm.Cond.methodLink "PuppetHeirs$Reader" (32 : Nat) ({ cls := "java/lang/StringBuilder", name := "append", desc := "(C)Ljava/lang/StringBuilder;" } : Jvm.MethodName)) ∈ lw_all := lw_g (lw_at lw_m5 38 rfl) rfl
theorem q1133 : (Jvm.Cond.methodLink "PuppetHeirs$Reader" (36 : Nat) ({ cls := "java/lang/StringBuilder", name := "toString", desc := "()Ljava/lang/String;" } : Jvm.MethodName)) ∈ lw_all := lw_g (lw_at lw_m5 58 rfl) rfl
theorem q1217 : (Jvm.Cond.declares ({ cls := "PuppetHeirs$Reader", name := "wrong", desc := "()LPuppetHeirs$Wrong;" } : Jvm.MethodName)) ∈ lw_tbl := lw_at lw_m5 142 rfl
theorem q1219 : (Jvm.Cond.instanceMethod ({ cls := "PuppetHeirs$Reader", name := "wrong", desc := "()LPuppetHeirs$Wrong;" } : Jvm.MethodName)) ∈ lw_all := lw_g (lw_at lw_m5 144 rfl) rfl
theorem q1220 : (Jvm.Cond.code ({ cls := "PuppetHeirs$Reader", name := "wrong", desc := "()LPuppetHeirs$Wrong;" } : Jvm.MethodName) prog_14_method_4_code (1 : Nat) (Option.some (Jvm.ClassFile.FieldType.object "PuppetHeirs$Wrong"))) ∈ lw_all := lw_g (lw_at lw_m5 145 rfl) rfl
theorem q1221 : (Jvm.Cond.classLink "PuppetHeirs$Reader" (40 : Nat) "PuppetHeirs$Wrong") ∈ lw_all := lw_g (lw_at lw_m5 146 rfl) rfl
theorem q1230 : (Jvm.Cond.methodLink "PuppetHeirs$Reader" (42 : Nat) ({ cls := "PuppetHeirs$Wrong", name := "<init>", desc := "(II)V" } : Jvm.MethodName)) ∈ lw_all := lw_g (lw_at lw_m5 155 rfl) rfl
theorem q1263 : (Jvm.Cond.declares ({ cls := "PuppetHeirs$Reader", name := "number", desc := "(II)I" } : Jvm.MethodName)) ∈ lw_tbl := lw_at lw_m5 188 rfl
theorem q1265 : (Jvm.Cond.instanceMethod ({ cls := "PuppetHeirs$Reader", name := "number", desc := "(II)I" } : Jvm.MethodName)) ∈ lw_all := lw_g (lw_at lw_m5 190 rfl) rfl
theorem q1266 : (Jvm.Cond.code ({ cls := "PuppetHeirs$Reader", name := "number", desc := "(II)I" } : Jvm.MethodName) prog_14_method_7_code (5 : Nat) (Option.some Jvm.ClassFile.FieldType.int)) ∈ lw_all := lw_g (lw_at lw_m5 191 rfl) rfl
theorem q1267 : (Jvm.Cond.methodLink "PuppetHeirs$Reader" (45 : Nat) ({ cls := "PuppetHeirs$Reader", name := "wrong", desc := "()LPuppetHeirs$Wrong;" } : Jvm.MethodName)) ∈ lw_all := lw_g (lw_at lw_m5 192 rfl) rfl
theorem q1268 : (Jvm.Cond.constant "PuppetHeirs$Reader" (55 : Nat) (100000 : Int32)) ∈ lw_all := lw_g (lw_at lw_m5 193 rfl) rfl
theorem q1269 : (Jvm.Cond.methodLink "PuppetHeirs$Reader" (56 : Nat) ({ cls := "java/lang/Math", name := "min", desc := "(II)I" } : Jvm.MethodName)) ∈ lw_all := lw_g (lw_at lw_m5 194 rfl) rfl
theorem q1384 : (Jvm.Cond.declares ({ cls := "PuppetHeirs$Reader", name := "need", desc := "(I)V" } : Jvm.MethodName)) ∈ lw_tbl := lw_at lw_m6 69 rfl
theorem q1386 : (Jvm.Cond.instanceMethod ({ cls := "PuppetHeirs$Reader", name := "need", desc := "(I)V" } : Jvm.MethodName)) ∈ lw_all := lw_g (lw_at lw_m6 71 rfl) rfl
theorem q1387 : (Jvm.Cond.code ({ cls := "PuppetHeirs$Reader", name := "need", desc := "(I)V" } : Jvm.MethodName) prog_14_method_5_code (2 : Nat) (Option.none : Option Jvm.ClassFile.FieldType)) ∈ lw_all := lw_g (lw_at lw_m6 72 rfl) rfl
theorem q1432 : (Jvm.Cond.declares ({ cls := "PuppetHeirs$Reader", name := "opens", desc := "(I)V" } : Jvm.MethodName)) ∈ lw_tbl := lw_at lw_m6 117 rfl
theorem q1434 : (Jvm.Cond.instanceMethod ({ cls := "PuppetHeirs$Reader", name := "opens", desc := "(I)V" } : Jvm.MethodName)) ∈ lw_all := lw_g (lw_at lw_m6 119 rfl) rfl
theorem q1435 : (Jvm.Cond.code ({ cls := "PuppetHeirs$Reader", name := "opens", desc := "(I)V" } : Jvm.MethodName) prog_14_method_6_code (2 : Nat) (Option.none : Option Jvm.ClassFile.FieldType)) ∈ lw_all := lw_g (lw_at lw_m6 120 rfl) rfl
theorem q2634 : (Jvm.Cond.sameMethod "PuppetHeirs$Reader" "PuppetHeirs$Reader" "sign" "()I") ∈ lw_all := lw_g (lw_at lw_m11 119 rfl) rfl
theorem q2640 : (Jvm.Cond.sameMethod "PuppetHeirs$Reader" "PuppetHeirs$Reader" "wrong" "()LPuppetHeirs$Wrong;") ∈ lw_all := lw_g (lw_at lw_m11 125 rfl) rfl

/-! PuppetHeirs$FamilyReader -/
set_option maxRecDepth 100000
def RX13 : String := "PuppetHeirs$FamilyReader"
def TX13 : u_T := fun k => match k with
  | 0 => ("PuppetHeirs$Reader", "text", "[B", true)
  | 1 => ("PuppetHeirs$Reader", "size", "I", true)
  | 2 => ("PuppetHeirs$Reader", "next", "I", false)
  | 3 => ("PuppetHeirs$Reader", "from", "I", false)
  | 4 => ("PuppetHeirs$Reader", "open", "I", false)
  | _ => ("PuppetHeirs$FamilyReader", "t", "LPuppetHeirs$Told;", true)
def tyX13 : Nat → FieldType := fun k => match k with
  | 0 => .array .byte
  | 1 => .int
  | 2 => .int
  | 3 => .int
  | 4 => .int
  | _ => .object "PuppetHeirs$Told"
abbrev wsX130 : List Cond := u_ws RX13 TX13 6
theorem nmX13 : ∀ a, a < 6 → ∀ b, b < 6 → a ≠ b → (TX13 a).2.1 ≠ (TX13 b).2.1 := by decide +kernel
theorem tyX13_ok : ∀ k, k < 6 → parseFieldDescriptor (TX13 k).2.2.1 = some (tyX13 k) := by decide +kernel
abbrev cX13_init : ByteArray := prog_6_method_1_code
def yX13_init : MethodName := ⟨RX13, "<init>", "([BI)V"⟩
def dkwX13_init_0 : List UInt8 := [42, 43, 28, 183, 0, 3, 42, 187, 0, 9, 89, 183, 0, 11, 181, 0, 14, 177]
abbrev dktX13_init_0 : List UInt8 := dkwX13_init_0 ++ []
theorem dksX13_init_0 : cX13_init.data.toList.drop 0 = dktX13_init_0 := by decide +kernel
theorem dX13_init_0 : decode cX13_init 0 = .ok (.aload_n 0, 1) := dk_42 (dk_at dksX13_init_0 0 rfl rfl)
theorem dX13_init_1 : decode cX13_init 1 = .ok (.aload_n 1, 1) := dk_43 (dk_at dksX13_init_0 1 rfl rfl)
theorem dX13_init_2 : decode cX13_init 2 = .ok (.iload_n 2, 1) := dk_28 (dk_at dksX13_init_0 2 rfl rfl)
theorem dX13_init_3 : decode cX13_init 3 = .ok (.invokespecial 3, 3) := dk_183 0 3 (dk_at dksX13_init_0 3 rfl rfl)
theorem dX13_init_6 : decode cX13_init 6 = .ok (.aload_n 0, 1) := dk_42 (dk_at dksX13_init_0 6 rfl rfl)
theorem dX13_init_7 : decode cX13_init 7 = .ok (.new 9, 3) := dk_187 0 9 (dk_at dksX13_init_0 7 rfl rfl)
theorem dX13_init_10 : decode cX13_init 10 = .ok (.dup, 1) := dk_89 (dk_at dksX13_init_0 10 rfl rfl)
theorem dX13_init_11 : decode cX13_init 11 = .ok (.invokespecial 11, 3) := dk_183 0 11 (dk_at dksX13_init_0 11 rfl rfl)
theorem dX13_init_14 : decode cX13_init 14 = .ok (.putfield 14, 3) := dk_181 0 14 (dk_at dksX13_init_0 14 rfl rfl)
theorem dX13_init_17 : decode cX13_init 17 = .ok (.return_, 1) := dk_177 (dk_at dksX13_init_0 17 rfl rfl)
abbrev cX13_reads : ByteArray := prog_6_method_2_code
def yX13_reads : MethodName := ⟨RX13, "reads", "()LPuppetHeirs$Told;"⟩
def dkwX13_reads_2 : List UInt8 := [167, 255, 213, 42, 180, 0, 14, 176]
abbrev dktX13_reads_2 : List UInt8 := dkwX13_reads_2 ++ []
def dkwX13_reads_1 : List UInt8 := [42, 16, 59, 182, 0, 39, 42, 180, 0, 14, 89, 180, 0, 43, 4, 96, 181, 0, 43, 42, 182, 0, 20, 87]
abbrev dktX13_reads_1 : List UInt8 := dkwX13_reads_1 ++ dktX13_reads_2
def dkwX13_reads_0 : List UInt8 := [42, 182, 0, 20, 87, 42, 180, 0, 24, 42, 180, 0, 28, 162, 0, 38, 42, 42, 182, 0, 31, 182, 0, 35]
abbrev dktX13_reads_0 : List UInt8 := dkwX13_reads_0 ++ dktX13_reads_1
theorem dksX13_reads_0 : cX13_reads.data.toList.drop 0 = dktX13_reads_0 := by decide +kernel
theorem dksX13_reads_1 : cX13_reads.data.toList.drop 24 = dktX13_reads_1 := dk_seg dksX13_reads_0 24 rfl rfl
theorem dksX13_reads_2 : cX13_reads.data.toList.drop 48 = dktX13_reads_2 := dk_seg dksX13_reads_1 24 rfl rfl
theorem dX13_reads_0 : decode cX13_reads 0 = .ok (.aload_n 0, 1) := dk_42 (dk_at dksX13_reads_0 0 rfl rfl)
theorem dX13_reads_1 : decode cX13_reads 1 = .ok (.invokevirtual 20, 3) := dk_182 0 20 (dk_at dksX13_reads_0 1 rfl rfl)
theorem dX13_reads_4 : decode cX13_reads 4 = .ok (.pop, 1) := dk_87 (dk_at dksX13_reads_0 4 rfl rfl)
theorem dX13_reads_5 : decode cX13_reads 5 = .ok (.aload_n 0, 1) := dk_42 (dk_at dksX13_reads_0 5 rfl rfl)
theorem dX13_reads_6 : decode cX13_reads 6 = .ok (.getfield 24, 3) := dk_180 0 24 (dk_at dksX13_reads_0 6 rfl rfl)
theorem dX13_reads_9 : decode cX13_reads 9 = .ok (.aload_n 0, 1) := dk_42 (dk_at dksX13_reads_0 9 rfl rfl)
theorem dX13_reads_10 : decode cX13_reads 10 = .ok (.getfield 28, 3) := dk_180 0 28 (dk_at dksX13_reads_0 10 rfl rfl)
theorem dX13_reads_13 : decode cX13_reads 13 = .ok (.if_icmp .ge 38, 3) := dk_162 0 38 (dk_at dksX13_reads_0 13 rfl rfl)
theorem dX13_reads_16 : decode cX13_reads 16 = .ok (.aload_n 0, 1) := dk_42 (dk_at dksX13_reads_0 16 rfl rfl)
theorem dX13_reads_17 : decode cX13_reads 17 = .ok (.aload_n 0, 1) := dk_42 (dk_at dksX13_reads_0 17 rfl rfl)
theorem dX13_reads_18 : decode cX13_reads 18 = .ok (.invokevirtual 31, 3) := dk_182 0 31 (dk_at dksX13_reads_0 18 rfl rfl)
theorem dX13_reads_21 : decode cX13_reads 21 = .ok (.invokevirtual 35, 3) := dk_182 0 35 (dk_at dksX13_reads_0 21 rfl rfl)
theorem dX13_reads_24 : decode cX13_reads 24 = .ok (.aload_n 0, 1) := dk_42 (dk_at dksX13_reads_1 0 rfl rfl)
theorem dX13_reads_25 : decode cX13_reads 25 = .ok (.bipush 59, 2) := dk_16 59 (dk_at dksX13_reads_1 1 rfl rfl)
theorem dX13_reads_27 : decode cX13_reads 27 = .ok (.invokevirtual 39, 3) := dk_182 0 39 (dk_at dksX13_reads_1 3 rfl rfl)
theorem dX13_reads_30 : decode cX13_reads 30 = .ok (.aload_n 0, 1) := dk_42 (dk_at dksX13_reads_1 6 rfl rfl)
theorem dX13_reads_31 : decode cX13_reads 31 = .ok (.getfield 14, 3) := dk_180 0 14 (dk_at dksX13_reads_1 7 rfl rfl)
theorem dX13_reads_34 : decode cX13_reads 34 = .ok (.dup, 1) := dk_89 (dk_at dksX13_reads_1 10 rfl rfl)
theorem dX13_reads_35 : decode cX13_reads 35 = .ok (.getfield 43, 3) := dk_180 0 43 (dk_at dksX13_reads_1 11 rfl rfl)
theorem dX13_reads_38 : decode cX13_reads 38 = .ok (.iconst 1, 1) := dk_4 (dk_at dksX13_reads_1 14 rfl rfl)
theorem dX13_reads_39 : decode cX13_reads 39 = .ok (.iadd, 1) := dk_96 (dk_at dksX13_reads_1 15 rfl rfl)
theorem dX13_reads_40 : decode cX13_reads 40 = .ok (.putfield 43, 3) := dk_181 0 43 (dk_at dksX13_reads_1 16 rfl rfl)
theorem dX13_reads_43 : decode cX13_reads 43 = .ok (.aload_n 0, 1) := dk_42 (dk_at dksX13_reads_1 19 rfl rfl)
theorem dX13_reads_44 : decode cX13_reads 44 = .ok (.invokevirtual 20, 3) := dk_182 0 20 (dk_at dksX13_reads_1 20 rfl rfl)
theorem dX13_reads_47 : decode cX13_reads 47 = .ok (.pop, 1) := dk_87 (dk_at dksX13_reads_1 23 rfl rfl)
theorem dX13_reads_48 : decode cX13_reads 48 = .ok (.goto (-43), 3) := dk_167 255 213 (dk_at dksX13_reads_2 0 rfl rfl)
theorem dX13_reads_51 : decode cX13_reads 51 = .ok (.aload_n 0, 1) := dk_42 (dk_at dksX13_reads_2 3 rfl rfl)
theorem dX13_reads_52 : decode cX13_reads 52 = .ok (.getfield 14, 3) := dk_180 0 14 (dk_at dksX13_reads_2 4 rfl rfl)
theorem dX13_reads_55 : decode cX13_reads 55 = .ok (.areturn, 1) := dk_176 (dk_at dksX13_reads_2 7 rfl rfl)
abbrev cX13_clause : ByteArray := prog_6_method_8_code
def yX13_clause : MethodName := ⟨RX13, "clause", "(Ljava/lang/String;)V"⟩
def dkwX13_clause_27 : List UInt8 := [181, 0, 146, 177]
abbrev dktX13_clause_27 : List UInt8 := dkwX13_clause_27 ++ []
def dkwX13_clause_26 : List UInt8 := [16, 99, 182, 0, 72, 96, 184, 0, 141, 79, 177, 42, 180, 0, 14, 42, 3, 16, 9, 182, 0, 72]
abbrev dktX13_clause_26 : List UInt8 := dkwX13_clause_26 ++ dktX13_clause_27
def dkwX13_clause_25 : List UInt8 := [42, 180, 0, 14, 180, 0, 138, 21, 5, 17, 3, 231, 42, 180, 0, 14, 180, 0, 138, 21, 5, 46, 42, 4]
abbrev dktX13_clause_25 : List UInt8 := dkwX13_clause_25 ++ dktX13_clause_26
def dkwX13_clause_24 : List UInt8 := [182, 0, 135, 177, 42, 182, 0, 76, 54, 4, 16, 9, 21, 4, 104, 42, 21, 4, 182, 0, 129, 96, 54, 5]
abbrev dktX13_clause_24 : List UInt8 := dkwX13_clause_24 ++ dktX13_clause_25
def dkwX13_clause_23 : List UInt8 := [120, 128, 79, 42, 180, 0, 14, 180, 0, 133, 21, 5, 92, 46, 4, 21, 4, 120, 128, 79, 177, 42]
abbrev dktX13_clause_23 : List UInt8 := dkwX13_clause_23 ++ dktX13_clause_24
def dkwX13_clause_22 : List UInt8 := [54, 4, 42, 21, 4, 182, 0, 129, 54, 5, 42, 180, 0, 14, 180, 0, 133, 21, 4, 92, 46, 4, 21, 5]
abbrev dktX13_clause_22 : List UInt8 := dkwX13_clause_22 ++ dktX13_clause_23
def dkwX13_clause_21 : List UInt8 := [180, 0, 14, 89, 180, 0, 59, 4, 96, 181, 0, 59, 177, 42, 43, 182, 0, 126, 177, 42, 182, 0, 76]
abbrev dktX13_clause_21 : List UInt8 := dkwX13_clause_21 ++ dktX13_clause_22
def dkwX13_clause_20 : List UInt8 := [79, 42, 180, 0, 14, 180, 0, 123, 42, 180, 0, 14, 180, 0, 59, 42, 3, 16, 30, 182, 0, 72, 79, 42]
abbrev dktX13_clause_20 : List UInt8 := dkwX13_clause_20 ++ dktX13_clause_21
def dkwX13_clause_19 : List UInt8 := [182, 0, 72, 79, 42, 180, 0, 14, 180, 0, 120, 42, 180, 0, 14, 180, 0, 59, 42, 4, 5, 182, 0, 72]
abbrev dktX13_clause_19 : List UInt8 := dkwX13_clause_19 ++ dktX13_clause_20
def dkwX13_clause_18 : List UInt8 := [42, 182, 0, 113, 177, 42, 180, 0, 14, 180, 0, 116, 42, 180, 0, 14, 180, 0, 59, 42, 3, 16, 15]
abbrev dktX13_clause_18 : List UInt8 := dkwX13_clause_18 ++ dktX13_clause_19
def dkwX13_clause_17 : List UInt8 := [170, 0, 0, 0, 0, 0, 242, 0, 0, 0, 0, 0, 0, 0, 6, 0, 0, 0, 43, 0, 0, 0, 48, 0, 0, 0, 127, 0, 0, 0, 127, 0, 0, 0, 133, 0, 0, 0, 182, 0, 0, 0, 187]
abbrev dktX13_clause_17 : List UInt8 := dkwX13_clause_17 ++ dktX13_clause_18
def dkwX13_clause_16 : List UInt8 := [62, 29]
abbrev dktX13_clause_16 : List UInt8 := dkwX13_clause_16 ++ dktX13_clause_17
def dkwX13_clause_15 : List UInt8 := [18, 62, 182, 0, 48, 153, 0, 20, 8, 62, 167, 0, 15, 44, 18, 99, 182, 0, 48, 153, 0, 6, 16, 6]
abbrev dktX13_clause_15 : List UInt8 := dkwX13_clause_15 ++ dktX13_clause_16
def dkwX13_clause_14 : List UInt8 := [153, 0, 48, 6, 62, 167, 0, 43, 44, 18, 97, 182, 0, 48, 153, 0, 34, 7, 62, 167, 0, 29, 44]
abbrev dktX13_clause_14 : List UInt8 := dkwX13_clause_14 ++ dktX13_clause_15
def dkwX13_clause_13 : List UInt8 := [62, 167, 0, 71, 44, 18, 93, 182, 0, 48, 153, 0, 62, 5, 62, 167, 0, 57, 44, 18, 95, 182, 0, 48]
abbrev dktX13_clause_13 : List UInt8 := dkwX13_clause_13 ++ dktX13_clause_14
def dkwX13_clause_12 : List UInt8 := [44, 18, 46, 182, 0, 48, 153, 0, 90, 3, 62, 167, 0, 85, 44, 18, 57, 182, 0, 48, 153, 0, 76, 4]
abbrev dktX13_clause_12 : List UInt8 := dkwX13_clause_12 ++ dktX13_clause_13
def dkwX13_clause_11 : List UInt8 := [171, 0, 0, 0, 0, 162, 0, 0, 0, 7, 197, 196, 30, 52, 0, 0, 0, 80, 202, 55, 148, 85, 0, 0, 0, 122, 0, 1, 120, 146, 0, 0, 0, 136, 0, 48, 192, 111, 0, 0, 0, 66, 0, 52, 64, 150, 0, 0, 0, 150, 6, 193, 27, 130, 0, 0, 0, 94, 38, 211, 155, 36, 0, 0, 0, 108]
abbrev dktX13_clause_11 : List UInt8 := dkwX13_clause_11 ++ dktX13_clause_12
def dkwX13_clause_10 : List UInt8 := [44, 182, 0, 90]
abbrev dktX13_clause_10 : List UInt8 := dkwX13_clause_10 ++ dktX13_clause_11
def dkwX13_clause_9 : List UInt8 := [180, 0, 24, 183, 0, 87, 191, 42, 89, 180, 0, 24, 43, 182, 0, 110, 96, 181, 0, 24, 43, 77, 2, 62]
abbrev dktX13_clause_9 : List UInt8 := dkwX13_clause_9 ++ dktX13_clause_10
def dkwX13_clause_8 : List UInt8 := [167, 0, 8, 42, 182, 0, 103, 191, 42, 43, 182, 0, 106, 153, 0, 16, 187, 0, 82, 89, 6, 42]
abbrev dktX13_clause_8 : List UInt8 := dkwX13_clause_8 ++ dktX13_clause_9
def dkwX13_clause_7 : List UInt8 := [170, 0, 0, 0, 0, 0, 0, 51, 0, 0, 0, 0, 0, 0, 0, 7, 0, 0, 0, 48, 0, 0, 0, 48, 0, 0, 0, 48, 0, 0, 0, 48, 0, 0, 0, 48, 0, 0, 0, 48, 0, 0, 0, 48, 0, 0, 0, 48]
abbrev dktX13_clause_7 : List UInt8 := dkwX13_clause_7 ++ dktX13_clause_8
def dkwX13_clause_6 : List UInt8 := [62, 167, 0, 15, 44, 18, 101, 182, 0, 48, 153, 0, 6, 16, 7, 62, 29]
abbrev dktX13_clause_6 : List UInt8 := dkwX13_clause_6 ++ dktX13_clause_7
def dkwX13_clause_5 : List UInt8 := [18, 62, 182, 0, 48, 153, 0, 35, 8, 62, 167, 0, 30, 44, 18, 99, 182, 0, 48, 153, 0, 21, 16, 6]
abbrev dktX13_clause_5 : List UInt8 := dkwX13_clause_5 ++ dktX13_clause_6
def dkwX13_clause_4 : List UInt8 := [153, 0, 63, 6, 62, 167, 0, 58, 44, 18, 97, 182, 0, 48, 153, 0, 49, 7, 62, 167, 0, 44, 44]
abbrev dktX13_clause_4 : List UInt8 := dkwX13_clause_4 ++ dktX13_clause_5
def dkwX13_clause_3 : List UInt8 := [62, 167, 0, 86, 44, 18, 93, 182, 0, 48, 153, 0, 77, 5, 62, 167, 0, 72, 44, 18, 95, 182, 0, 48]
abbrev dktX13_clause_3 : List UInt8 := dkwX13_clause_3 ++ dktX13_clause_4
def dkwX13_clause_2 : List UInt8 := [44, 18, 46, 182, 0, 48, 153, 0, 105, 3, 62, 167, 0, 100, 44, 18, 57, 182, 0, 48, 153, 0, 91, 4]
abbrev dktX13_clause_2 : List UInt8 := dkwX13_clause_2 ++ dktX13_clause_3
def dkwX13_clause_1 : List UInt8 := [171, 0, 0, 0, 0, 0, 0, 187, 0, 0, 0, 8, 197, 196, 30, 52, 0, 0, 0, 90, 202, 55, 148, 85, 0, 0, 0, 132, 0, 1, 120, 146, 0, 0, 0, 146, 0, 48, 192, 111, 0, 0, 0, 76, 0, 52, 64, 150, 0, 0, 0, 160, 0, 55, 159, 127, 0, 0, 0, 175, 6, 193, 27, 130, 0, 0, 0, 104, 38, 211, 155, 36, 0, 0, 0, 118]
abbrev dktX13_clause_1 : List UInt8 := dkwX13_clause_1 ++ dktX13_clause_2
def dkwX13_clause_0 : List UInt8 := [43, 77, 2, 62, 44, 182, 0, 90]
abbrev dktX13_clause_0 : List UInt8 := dkwX13_clause_0 ++ dktX13_clause_1
theorem dksX13_clause_0 : cX13_clause.data.toList.drop 0 = dktX13_clause_0 := by decide +kernel
theorem dksX13_clause_1 : cX13_clause.data.toList.drop 8 = dktX13_clause_1 := dk_seg dksX13_clause_0 8 rfl rfl
theorem dksX13_clause_2 : cX13_clause.data.toList.drop 84 = dktX13_clause_2 := dk_seg dksX13_clause_1 76 rfl rfl
theorem dksX13_clause_3 : cX13_clause.data.toList.drop 108 = dktX13_clause_3 := dk_seg dksX13_clause_2 24 rfl rfl
theorem dksX13_clause_4 : cX13_clause.data.toList.drop 132 = dktX13_clause_4 := dk_seg dksX13_clause_3 24 rfl rfl
theorem dksX13_clause_5 : cX13_clause.data.toList.drop 155 = dktX13_clause_5 := dk_seg dksX13_clause_4 23 rfl rfl
theorem dksX13_clause_6 : cX13_clause.data.toList.drop 179 = dktX13_clause_6 := dk_seg dksX13_clause_5 24 rfl rfl
theorem dksX13_clause_7 : cX13_clause.data.toList.drop 196 = dktX13_clause_7 := dk_seg dksX13_clause_6 17 rfl rfl
theorem dksX13_clause_8 : cX13_clause.data.toList.drop 244 = dktX13_clause_8 := dk_seg dksX13_clause_7 48 rfl rfl
theorem dksX13_clause_9 : cX13_clause.data.toList.drop 266 = dktX13_clause_9 := dk_seg dksX13_clause_8 22 rfl rfl
theorem dksX13_clause_10 : cX13_clause.data.toList.drop 290 = dktX13_clause_10 := dk_seg dksX13_clause_9 24 rfl rfl
theorem dksX13_clause_11 : cX13_clause.data.toList.drop 294 = dktX13_clause_11 := dk_seg dksX13_clause_10 4 rfl rfl
theorem dksX13_clause_12 : cX13_clause.data.toList.drop 360 = dktX13_clause_12 := dk_seg dksX13_clause_11 66 rfl rfl
theorem dksX13_clause_13 : cX13_clause.data.toList.drop 384 = dktX13_clause_13 := dk_seg dksX13_clause_12 24 rfl rfl
theorem dksX13_clause_14 : cX13_clause.data.toList.drop 408 = dktX13_clause_14 := dk_seg dksX13_clause_13 24 rfl rfl
theorem dksX13_clause_15 : cX13_clause.data.toList.drop 431 = dktX13_clause_15 := dk_seg dksX13_clause_14 23 rfl rfl
theorem dksX13_clause_16 : cX13_clause.data.toList.drop 455 = dktX13_clause_16 := dk_seg dksX13_clause_15 24 rfl rfl
theorem dksX13_clause_17 : cX13_clause.data.toList.drop 457 = dktX13_clause_17 := dk_seg dksX13_clause_16 2 rfl rfl
theorem dksX13_clause_18 : cX13_clause.data.toList.drop 500 = dktX13_clause_18 := dk_seg dksX13_clause_17 43 rfl rfl
theorem dksX13_clause_19 : cX13_clause.data.toList.drop 523 = dktX13_clause_19 := dk_seg dksX13_clause_18 23 rfl rfl
theorem dksX13_clause_20 : cX13_clause.data.toList.drop 547 = dktX13_clause_20 := dk_seg dksX13_clause_19 24 rfl rfl
theorem dksX13_clause_21 : cX13_clause.data.toList.drop 571 = dktX13_clause_21 := dk_seg dksX13_clause_20 24 rfl rfl
theorem dksX13_clause_22 : cX13_clause.data.toList.drop 594 = dktX13_clause_22 := dk_seg dksX13_clause_21 23 rfl rfl
theorem dksX13_clause_23 : cX13_clause.data.toList.drop 618 = dktX13_clause_23 := dk_seg dksX13_clause_22 24 rfl rfl
theorem dksX13_clause_24 : cX13_clause.data.toList.drop 640 = dktX13_clause_24 := dk_seg dksX13_clause_23 22 rfl rfl
theorem dksX13_clause_25 : cX13_clause.data.toList.drop 664 = dktX13_clause_25 := dk_seg dksX13_clause_24 24 rfl rfl
theorem dksX13_clause_26 : cX13_clause.data.toList.drop 688 = dktX13_clause_26 := dk_seg dksX13_clause_25 24 rfl rfl
theorem dksX13_clause_27 : cX13_clause.data.toList.drop 710 = dktX13_clause_27 := dk_seg dksX13_clause_26 22 rfl rfl
theorem dX13_clause_0 : decode cX13_clause 0 = .ok (.aload_n 1, 1) := dk_43 (dk_at dksX13_clause_0 0 rfl rfl)
theorem dX13_clause_1 : decode cX13_clause 1 = .ok (.astore_n 2, 1) := dk_77 (dk_at dksX13_clause_0 1 rfl rfl)
theorem dX13_clause_2 : decode cX13_clause 2 = .ok (.iconst (-1), 1) := dk_2 (dk_at dksX13_clause_0 2 rfl rfl)
theorem dX13_clause_3 : decode cX13_clause 3 = .ok (.istore_n 3, 1) := dk_62 (dk_at dksX13_clause_0 3 rfl rfl)
theorem dX13_clause_4 : decode cX13_clause 4 = .ok (.aload_n 2, 1) := dk_44 (dk_at dksX13_clause_0 4 rfl rfl)
theorem dX13_clause_5 : decode cX13_clause 5 = .ok (.invokevirtual 90, 3) := dk_182 0 90 (dk_at dksX13_clause_0 5 rfl rfl)
theorem dX13_clause_8 : decode cX13_clause 8 = .ok (.lookupswitch 187 #[(-977002956, 90), (-902327211, 132), (96402, 146), (3194991, 76), (3424406, 160), (3645311, 175), (113318786, 104), (651402020, 118)], 76) := by decide +kernel
theorem dX13_clause_84 : decode cX13_clause 84 = .ok (.aload_n 2, 1) := dk_44 (dk_at dksX13_clause_2 0 rfl rfl)
theorem dX13_clause_85 : decode cX13_clause 85 = .ok (.ldc 46, 2) := dk_18 46 (dk_at dksX13_clause_2 1 rfl rfl)
theorem dX13_clause_87 : decode cX13_clause 87 = .ok (.invokevirtual 48, 3) := dk_182 0 48 (dk_at dksX13_clause_2 3 rfl rfl)
theorem dX13_clause_90 : decode cX13_clause 90 = .ok (.ifCond .eq 105, 3) := dk_153 0 105 (dk_at dksX13_clause_2 6 rfl rfl)
theorem dX13_clause_93 : decode cX13_clause 93 = .ok (.iconst 0, 1) := dk_3 (dk_at dksX13_clause_2 9 rfl rfl)
theorem dX13_clause_94 : decode cX13_clause 94 = .ok (.istore_n 3, 1) := dk_62 (dk_at dksX13_clause_2 10 rfl rfl)
theorem dX13_clause_95 : decode cX13_clause 95 = .ok (.goto 100, 3) := dk_167 0 100 (dk_at dksX13_clause_2 11 rfl rfl)
theorem dX13_clause_98 : decode cX13_clause 98 = .ok (.aload_n 2, 1) := dk_44 (dk_at dksX13_clause_2 14 rfl rfl)
theorem dX13_clause_99 : decode cX13_clause 99 = .ok (.ldc 57, 2) := dk_18 57 (dk_at dksX13_clause_2 15 rfl rfl)
theorem dX13_clause_101 : decode cX13_clause 101 = .ok (.invokevirtual 48, 3) := dk_182 0 48 (dk_at dksX13_clause_2 17 rfl rfl)
theorem dX13_clause_104 : decode cX13_clause 104 = .ok (.ifCond .eq 91, 3) := dk_153 0 91 (dk_at dksX13_clause_2 20 rfl rfl)
theorem dX13_clause_107 : decode cX13_clause 107 = .ok (.iconst 1, 1) := dk_4 (dk_at dksX13_clause_2 23 rfl rfl)
theorem dX13_clause_108 : decode cX13_clause 108 = .ok (.istore_n 3, 1) := dk_62 (dk_at dksX13_clause_3 0 rfl rfl)
theorem dX13_clause_109 : decode cX13_clause 109 = .ok (.goto 86, 3) := dk_167 0 86 (dk_at dksX13_clause_3 1 rfl rfl)
theorem dX13_clause_112 : decode cX13_clause 112 = .ok (.aload_n 2, 1) := dk_44 (dk_at dksX13_clause_3 4 rfl rfl)
theorem dX13_clause_113 : decode cX13_clause 113 = .ok (.ldc 93, 2) := dk_18 93 (dk_at dksX13_clause_3 5 rfl rfl)
theorem dX13_clause_115 : decode cX13_clause 115 = .ok (.invokevirtual 48, 3) := dk_182 0 48 (dk_at dksX13_clause_3 7 rfl rfl)
theorem dX13_clause_118 : decode cX13_clause 118 = .ok (.ifCond .eq 77, 3) := dk_153 0 77 (dk_at dksX13_clause_3 10 rfl rfl)
theorem dX13_clause_121 : decode cX13_clause 121 = .ok (.iconst 2, 1) := dk_5 (dk_at dksX13_clause_3 13 rfl rfl)
theorem dX13_clause_122 : decode cX13_clause 122 = .ok (.istore_n 3, 1) := dk_62 (dk_at dksX13_clause_3 14 rfl rfl)
theorem dX13_clause_123 : decode cX13_clause 123 = .ok (.goto 72, 3) := dk_167 0 72 (dk_at dksX13_clause_3 15 rfl rfl)
theorem dX13_clause_126 : decode cX13_clause 126 = .ok (.aload_n 2, 1) := dk_44 (dk_at dksX13_clause_3 18 rfl rfl)
theorem dX13_clause_127 : decode cX13_clause 127 = .ok (.ldc 95, 2) := dk_18 95 (dk_at dksX13_clause_3 19 rfl rfl)
theorem dX13_clause_129 : decode cX13_clause 129 = .ok (.invokevirtual 48, 3) := dk_182 0 48 (dk_at dksX13_clause_3 21 rfl rfl)
theorem dX13_clause_132 : decode cX13_clause 132 = .ok (.ifCond .eq 63, 3) := dk_153 0 63 (dk_at dksX13_clause_4 0 rfl rfl)
theorem dX13_clause_135 : decode cX13_clause 135 = .ok (.iconst 3, 1) := dk_6 (dk_at dksX13_clause_4 3 rfl rfl)
theorem dX13_clause_136 : decode cX13_clause 136 = .ok (.istore_n 3, 1) := dk_62 (dk_at dksX13_clause_4 4 rfl rfl)
theorem dX13_clause_137 : decode cX13_clause 137 = .ok (.goto 58, 3) := dk_167 0 58 (dk_at dksX13_clause_4 5 rfl rfl)
theorem dX13_clause_140 : decode cX13_clause 140 = .ok (.aload_n 2, 1) := dk_44 (dk_at dksX13_clause_4 8 rfl rfl)
theorem dX13_clause_141 : decode cX13_clause 141 = .ok (.ldc 97, 2) := dk_18 97 (dk_at dksX13_clause_4 9 rfl rfl)
theorem dX13_clause_143 : decode cX13_clause 143 = .ok (.invokevirtual 48, 3) := dk_182 0 48 (dk_at dksX13_clause_4 11 rfl rfl)
theorem dX13_clause_146 : decode cX13_clause 146 = .ok (.ifCond .eq 49, 3) := dk_153 0 49 (dk_at dksX13_clause_4 14 rfl rfl)
theorem dX13_clause_149 : decode cX13_clause 149 = .ok (.iconst 4, 1) := dk_7 (dk_at dksX13_clause_4 17 rfl rfl)
theorem dX13_clause_150 : decode cX13_clause 150 = .ok (.istore_n 3, 1) := dk_62 (dk_at dksX13_clause_4 18 rfl rfl)
theorem dX13_clause_151 : decode cX13_clause 151 = .ok (.goto 44, 3) := dk_167 0 44 (dk_at dksX13_clause_4 19 rfl rfl)
theorem dX13_clause_154 : decode cX13_clause 154 = .ok (.aload_n 2, 1) := dk_44 (dk_at dksX13_clause_4 22 rfl rfl)
theorem dX13_clause_155 : decode cX13_clause 155 = .ok (.ldc 62, 2) := dk_18 62 (dk_at dksX13_clause_5 0 rfl rfl)
theorem dX13_clause_157 : decode cX13_clause 157 = .ok (.invokevirtual 48, 3) := dk_182 0 48 (dk_at dksX13_clause_5 2 rfl rfl)
theorem dX13_clause_160 : decode cX13_clause 160 = .ok (.ifCond .eq 35, 3) := dk_153 0 35 (dk_at dksX13_clause_5 5 rfl rfl)
theorem dX13_clause_163 : decode cX13_clause 163 = .ok (.iconst 5, 1) := dk_8 (dk_at dksX13_clause_5 8 rfl rfl)
theorem dX13_clause_164 : decode cX13_clause 164 = .ok (.istore_n 3, 1) := dk_62 (dk_at dksX13_clause_5 9 rfl rfl)
theorem dX13_clause_165 : decode cX13_clause 165 = .ok (.goto 30, 3) := dk_167 0 30 (dk_at dksX13_clause_5 10 rfl rfl)
theorem dX13_clause_168 : decode cX13_clause 168 = .ok (.aload_n 2, 1) := dk_44 (dk_at dksX13_clause_5 13 rfl rfl)
theorem dX13_clause_169 : decode cX13_clause 169 = .ok (.ldc 99, 2) := dk_18 99 (dk_at dksX13_clause_5 14 rfl rfl)
theorem dX13_clause_171 : decode cX13_clause 171 = .ok (.invokevirtual 48, 3) := dk_182 0 48 (dk_at dksX13_clause_5 16 rfl rfl)
theorem dX13_clause_174 : decode cX13_clause 174 = .ok (.ifCond .eq 21, 3) := dk_153 0 21 (dk_at dksX13_clause_5 19 rfl rfl)
theorem dX13_clause_177 : decode cX13_clause 177 = .ok (.bipush 6, 2) := dk_16 6 (dk_at dksX13_clause_5 22 rfl rfl)
theorem dX13_clause_179 : decode cX13_clause 179 = .ok (.istore_n 3, 1) := dk_62 (dk_at dksX13_clause_6 0 rfl rfl)
theorem dX13_clause_180 : decode cX13_clause 180 = .ok (.goto 15, 3) := dk_167 0 15 (dk_at dksX13_clause_6 1 rfl rfl)
theorem dX13_clause_183 : decode cX13_clause 183 = .ok (.aload_n 2, 1) := dk_44 (dk_at dksX13_clause_6 4 rfl rfl)
theorem dX13_clause_184 : decode cX13_clause 184 = .ok (.ldc 101, 2) := dk_18 101 (dk_at dksX13_clause_6 5 rfl rfl)
theorem dX13_clause_186 : decode cX13_clause 186 = .ok (.invokevirtual 48, 3) := dk_182 0 48 (dk_at dksX13_clause_6 7 rfl rfl)
theorem dX13_clause_189 : decode cX13_clause 189 = .ok (.ifCond .eq 6, 3) := dk_153 0 6 (dk_at dksX13_clause_6 10 rfl rfl)
theorem dX13_clause_192 : decode cX13_clause 192 = .ok (.bipush 7, 2) := dk_16 7 (dk_at dksX13_clause_6 13 rfl rfl)
theorem dX13_clause_194 : decode cX13_clause 194 = .ok (.istore_n 3, 1) := dk_62 (dk_at dksX13_clause_6 15 rfl rfl)
theorem dX13_clause_195 : decode cX13_clause 195 = .ok (.iload_n 3, 1) := dk_29 (dk_at dksX13_clause_6 16 rfl rfl)
theorem dX13_clause_196 : decode cX13_clause 196 = .ok (.tableswitch 51 0 7 #[48, 48, 48, 48, 48, 48, 48, 48], 48) := by decide +kernel
theorem dX13_clause_244 : decode cX13_clause 244 = .ok (.goto 8, 3) := dk_167 0 8 (dk_at dksX13_clause_8 0 rfl rfl)
theorem dX13_clause_247 : decode cX13_clause 247 = .ok (.aload_n 0, 1) := dk_42 (dk_at dksX13_clause_8 3 rfl rfl)
theorem dX13_clause_248 : decode cX13_clause 248 = .ok (.invokevirtual 103, 3) := dk_182 0 103 (dk_at dksX13_clause_8 4 rfl rfl)
theorem dX13_clause_251 : decode cX13_clause 251 = .ok (.athrow, 1) := dk_191 (dk_at dksX13_clause_8 7 rfl rfl)
theorem dX13_clause_252 : decode cX13_clause 252 = .ok (.aload_n 0, 1) := dk_42 (dk_at dksX13_clause_8 8 rfl rfl)
theorem dX13_clause_253 : decode cX13_clause 253 = .ok (.aload_n 1, 1) := dk_43 (dk_at dksX13_clause_8 9 rfl rfl)
theorem dX13_clause_254 : decode cX13_clause 254 = .ok (.invokevirtual 106, 3) := dk_182 0 106 (dk_at dksX13_clause_8 10 rfl rfl)
theorem dX13_clause_257 : decode cX13_clause 257 = .ok (.ifCond .eq 16, 3) := dk_153 0 16 (dk_at dksX13_clause_8 13 rfl rfl)
theorem dX13_clause_260 : decode cX13_clause 260 = .ok (.new 82, 3) := dk_187 0 82 (dk_at dksX13_clause_8 16 rfl rfl)
theorem dX13_clause_263 : decode cX13_clause 263 = .ok (.dup, 1) := dk_89 (dk_at dksX13_clause_8 19 rfl rfl)
theorem dX13_clause_264 : decode cX13_clause 264 = .ok (.iconst 3, 1) := dk_6 (dk_at dksX13_clause_8 20 rfl rfl)
theorem dX13_clause_265 : decode cX13_clause 265 = .ok (.aload_n 0, 1) := dk_42 (dk_at dksX13_clause_8 21 rfl rfl)
theorem dX13_clause_266 : decode cX13_clause 266 = .ok (.getfield 24, 3) := dk_180 0 24 (dk_at dksX13_clause_9 0 rfl rfl)
theorem dX13_clause_269 : decode cX13_clause 269 = .ok (.invokespecial 87, 3) := dk_183 0 87 (dk_at dksX13_clause_9 3 rfl rfl)
theorem dX13_clause_272 : decode cX13_clause 272 = .ok (.athrow, 1) := dk_191 (dk_at dksX13_clause_9 6 rfl rfl)
theorem dX13_clause_273 : decode cX13_clause 273 = .ok (.aload_n 0, 1) := dk_42 (dk_at dksX13_clause_9 7 rfl rfl)
theorem dX13_clause_274 : decode cX13_clause 274 = .ok (.dup, 1) := dk_89 (dk_at dksX13_clause_9 8 rfl rfl)
theorem dX13_clause_275 : decode cX13_clause 275 = .ok (.getfield 24, 3) := dk_180 0 24 (dk_at dksX13_clause_9 9 rfl rfl)
theorem dX13_clause_278 : decode cX13_clause 278 = .ok (.aload_n 1, 1) := dk_43 (dk_at dksX13_clause_9 12 rfl rfl)
theorem dX13_clause_279 : decode cX13_clause 279 = .ok (.invokevirtual 110, 3) := dk_182 0 110 (dk_at dksX13_clause_9 13 rfl rfl)
theorem dX13_clause_282 : decode cX13_clause 282 = .ok (.iadd, 1) := dk_96 (dk_at dksX13_clause_9 16 rfl rfl)
theorem dX13_clause_283 : decode cX13_clause 283 = .ok (.putfield 24, 3) := dk_181 0 24 (dk_at dksX13_clause_9 17 rfl rfl)
theorem dX13_clause_286 : decode cX13_clause 286 = .ok (.aload_n 1, 1) := dk_43 (dk_at dksX13_clause_9 20 rfl rfl)
theorem dX13_clause_287 : decode cX13_clause 287 = .ok (.astore_n 2, 1) := dk_77 (dk_at dksX13_clause_9 21 rfl rfl)
theorem dX13_clause_288 : decode cX13_clause 288 = .ok (.iconst (-1), 1) := dk_2 (dk_at dksX13_clause_9 22 rfl rfl)
theorem dX13_clause_289 : decode cX13_clause 289 = .ok (.istore_n 3, 1) := dk_62 (dk_at dksX13_clause_9 23 rfl rfl)
theorem dX13_clause_290 : decode cX13_clause 290 = .ok (.aload_n 2, 1) := dk_44 (dk_at dksX13_clause_10 0 rfl rfl)
theorem dX13_clause_291 : decode cX13_clause 291 = .ok (.invokevirtual 90, 3) := dk_182 0 90 (dk_at dksX13_clause_10 1 rfl rfl)
theorem dX13_clause_294 : decode cX13_clause 294 = .ok (.lookupswitch 162 #[(-977002956, 80), (-902327211, 122), (96402, 136), (3194991, 66), (3424406, 150), (113318786, 94), (651402020, 108)], 66) := by decide +kernel
theorem dX13_clause_360 : decode cX13_clause 360 = .ok (.aload_n 2, 1) := dk_44 (dk_at dksX13_clause_12 0 rfl rfl)
theorem dX13_clause_361 : decode cX13_clause 361 = .ok (.ldc 46, 2) := dk_18 46 (dk_at dksX13_clause_12 1 rfl rfl)
theorem dX13_clause_363 : decode cX13_clause 363 = .ok (.invokevirtual 48, 3) := dk_182 0 48 (dk_at dksX13_clause_12 3 rfl rfl)
theorem dX13_clause_366 : decode cX13_clause 366 = .ok (.ifCond .eq 90, 3) := dk_153 0 90 (dk_at dksX13_clause_12 6 rfl rfl)
theorem dX13_clause_369 : decode cX13_clause 369 = .ok (.iconst 0, 1) := dk_3 (dk_at dksX13_clause_12 9 rfl rfl)
theorem dX13_clause_370 : decode cX13_clause 370 = .ok (.istore_n 3, 1) := dk_62 (dk_at dksX13_clause_12 10 rfl rfl)
theorem dX13_clause_371 : decode cX13_clause 371 = .ok (.goto 85, 3) := dk_167 0 85 (dk_at dksX13_clause_12 11 rfl rfl)
theorem dX13_clause_374 : decode cX13_clause 374 = .ok (.aload_n 2, 1) := dk_44 (dk_at dksX13_clause_12 14 rfl rfl)
theorem dX13_clause_375 : decode cX13_clause 375 = .ok (.ldc 57, 2) := dk_18 57 (dk_at dksX13_clause_12 15 rfl rfl)
theorem dX13_clause_377 : decode cX13_clause 377 = .ok (.invokevirtual 48, 3) := dk_182 0 48 (dk_at dksX13_clause_12 17 rfl rfl)
theorem dX13_clause_380 : decode cX13_clause 380 = .ok (.ifCond .eq 76, 3) := dk_153 0 76 (dk_at dksX13_clause_12 20 rfl rfl)
theorem dX13_clause_383 : decode cX13_clause 383 = .ok (.iconst 1, 1) := dk_4 (dk_at dksX13_clause_12 23 rfl rfl)
theorem dX13_clause_384 : decode cX13_clause 384 = .ok (.istore_n 3, 1) := dk_62 (dk_at dksX13_clause_13 0 rfl rfl)
theorem dX13_clause_385 : decode cX13_clause 385 = .ok (.goto 71, 3) := dk_167 0 71 (dk_at dksX13_clause_13 1 rfl rfl)
theorem dX13_clause_388 : decode cX13_clause 388 = .ok (.aload_n 2, 1) := dk_44 (dk_at dksX13_clause_13 4 rfl rfl)
theorem dX13_clause_389 : decode cX13_clause 389 = .ok (.ldc 93, 2) := dk_18 93 (dk_at dksX13_clause_13 5 rfl rfl)
theorem dX13_clause_391 : decode cX13_clause 391 = .ok (.invokevirtual 48, 3) := dk_182 0 48 (dk_at dksX13_clause_13 7 rfl rfl)
theorem dX13_clause_394 : decode cX13_clause 394 = .ok (.ifCond .eq 62, 3) := dk_153 0 62 (dk_at dksX13_clause_13 10 rfl rfl)
theorem dX13_clause_397 : decode cX13_clause 397 = .ok (.iconst 2, 1) := dk_5 (dk_at dksX13_clause_13 13 rfl rfl)
theorem dX13_clause_398 : decode cX13_clause 398 = .ok (.istore_n 3, 1) := dk_62 (dk_at dksX13_clause_13 14 rfl rfl)
theorem dX13_clause_399 : decode cX13_clause 399 = .ok (.goto 57, 3) := dk_167 0 57 (dk_at dksX13_clause_13 15 rfl rfl)
theorem dX13_clause_402 : decode cX13_clause 402 = .ok (.aload_n 2, 1) := dk_44 (dk_at dksX13_clause_13 18 rfl rfl)
theorem dX13_clause_403 : decode cX13_clause 403 = .ok (.ldc 95, 2) := dk_18 95 (dk_at dksX13_clause_13 19 rfl rfl)
theorem dX13_clause_405 : decode cX13_clause 405 = .ok (.invokevirtual 48, 3) := dk_182 0 48 (dk_at dksX13_clause_13 21 rfl rfl)
theorem dX13_clause_408 : decode cX13_clause 408 = .ok (.ifCond .eq 48, 3) := dk_153 0 48 (dk_at dksX13_clause_14 0 rfl rfl)
theorem dX13_clause_411 : decode cX13_clause 411 = .ok (.iconst 3, 1) := dk_6 (dk_at dksX13_clause_14 3 rfl rfl)
theorem dX13_clause_412 : decode cX13_clause 412 = .ok (.istore_n 3, 1) := dk_62 (dk_at dksX13_clause_14 4 rfl rfl)
theorem dX13_clause_413 : decode cX13_clause 413 = .ok (.goto 43, 3) := dk_167 0 43 (dk_at dksX13_clause_14 5 rfl rfl)
theorem dX13_clause_416 : decode cX13_clause 416 = .ok (.aload_n 2, 1) := dk_44 (dk_at dksX13_clause_14 8 rfl rfl)
theorem dX13_clause_417 : decode cX13_clause 417 = .ok (.ldc 97, 2) := dk_18 97 (dk_at dksX13_clause_14 9 rfl rfl)
theorem dX13_clause_419 : decode cX13_clause 419 = .ok (.invokevirtual 48, 3) := dk_182 0 48 (dk_at dksX13_clause_14 11 rfl rfl)
theorem dX13_clause_422 : decode cX13_clause 422 = .ok (.ifCond .eq 34, 3) := dk_153 0 34 (dk_at dksX13_clause_14 14 rfl rfl)
theorem dX13_clause_425 : decode cX13_clause 425 = .ok (.iconst 4, 1) := dk_7 (dk_at dksX13_clause_14 17 rfl rfl)
theorem dX13_clause_426 : decode cX13_clause 426 = .ok (.istore_n 3, 1) := dk_62 (dk_at dksX13_clause_14 18 rfl rfl)
theorem dX13_clause_427 : decode cX13_clause 427 = .ok (.goto 29, 3) := dk_167 0 29 (dk_at dksX13_clause_14 19 rfl rfl)
theorem dX13_clause_430 : decode cX13_clause 430 = .ok (.aload_n 2, 1) := dk_44 (dk_at dksX13_clause_14 22 rfl rfl)
theorem dX13_clause_431 : decode cX13_clause 431 = .ok (.ldc 62, 2) := dk_18 62 (dk_at dksX13_clause_15 0 rfl rfl)
theorem dX13_clause_433 : decode cX13_clause 433 = .ok (.invokevirtual 48, 3) := dk_182 0 48 (dk_at dksX13_clause_15 2 rfl rfl)
theorem dX13_clause_436 : decode cX13_clause 436 = .ok (.ifCond .eq 20, 3) := dk_153 0 20 (dk_at dksX13_clause_15 5 rfl rfl)
theorem dX13_clause_439 : decode cX13_clause 439 = .ok (.iconst 5, 1) := dk_8 (dk_at dksX13_clause_15 8 rfl rfl)
theorem dX13_clause_440 : decode cX13_clause 440 = .ok (.istore_n 3, 1) := dk_62 (dk_at dksX13_clause_15 9 rfl rfl)
theorem dX13_clause_441 : decode cX13_clause 441 = .ok (.goto 15, 3) := dk_167 0 15 (dk_at dksX13_clause_15 10 rfl rfl)
theorem dX13_clause_444 : decode cX13_clause 444 = .ok (.aload_n 2, 1) := dk_44 (dk_at dksX13_clause_15 13 rfl rfl)
theorem dX13_clause_445 : decode cX13_clause 445 = .ok (.ldc 99, 2) := dk_18 99 (dk_at dksX13_clause_15 14 rfl rfl)
theorem dX13_clause_447 : decode cX13_clause 447 = .ok (.invokevirtual 48, 3) := dk_182 0 48 (dk_at dksX13_clause_15 16 rfl rfl)
theorem dX13_clause_450 : decode cX13_clause 450 = .ok (.ifCond .eq 6, 3) := dk_153 0 6 (dk_at dksX13_clause_15 19 rfl rfl)
theorem dX13_clause_453 : decode cX13_clause 453 = .ok (.bipush 6, 2) := dk_16 6 (dk_at dksX13_clause_15 22 rfl rfl)
theorem dX13_clause_455 : decode cX13_clause 455 = .ok (.istore_n 3, 1) := dk_62 (dk_at dksX13_clause_16 0 rfl rfl)
theorem dX13_clause_456 : decode cX13_clause 456 = .ok (.iload_n 3, 1) := dk_29 (dk_at dksX13_clause_16 1 rfl rfl)
theorem dX13_clause_457 : decode cX13_clause 457 = .ok (.tableswitch 242 0 6 #[43, 48, 127, 127, 133, 182, 187], 43) := by decide +kernel
theorem dX13_clause_500 : decode cX13_clause 500 = .ok (.aload_n 0, 1) := dk_42 (dk_at dksX13_clause_18 0 rfl rfl)
theorem dX13_clause_501 : decode cX13_clause 501 = .ok (.invokevirtual 113, 3) := dk_182 0 113 (dk_at dksX13_clause_18 1 rfl rfl)
theorem dX13_clause_504 : decode cX13_clause 504 = .ok (.return_, 1) := dk_177 (dk_at dksX13_clause_18 4 rfl rfl)
theorem dX13_clause_505 : decode cX13_clause 505 = .ok (.aload_n 0, 1) := dk_42 (dk_at dksX13_clause_18 5 rfl rfl)
theorem dX13_clause_506 : decode cX13_clause 506 = .ok (.getfield 14, 3) := dk_180 0 14 (dk_at dksX13_clause_18 6 rfl rfl)
theorem dX13_clause_509 : decode cX13_clause 509 = .ok (.getfield 116, 3) := dk_180 0 116 (dk_at dksX13_clause_18 9 rfl rfl)
theorem dX13_clause_512 : decode cX13_clause 512 = .ok (.aload_n 0, 1) := dk_42 (dk_at dksX13_clause_18 12 rfl rfl)
theorem dX13_clause_513 : decode cX13_clause 513 = .ok (.getfield 14, 3) := dk_180 0 14 (dk_at dksX13_clause_18 13 rfl rfl)
theorem dX13_clause_516 : decode cX13_clause 516 = .ok (.getfield 59, 3) := dk_180 0 59 (dk_at dksX13_clause_18 16 rfl rfl)
theorem dX13_clause_519 : decode cX13_clause 519 = .ok (.aload_n 0, 1) := dk_42 (dk_at dksX13_clause_18 19 rfl rfl)
theorem dX13_clause_520 : decode cX13_clause 520 = .ok (.iconst 0, 1) := dk_3 (dk_at dksX13_clause_18 20 rfl rfl)
theorem dX13_clause_521 : decode cX13_clause 521 = .ok (.bipush 15, 2) := dk_16 15 (dk_at dksX13_clause_18 21 rfl rfl)
theorem dX13_clause_523 : decode cX13_clause 523 = .ok (.invokevirtual 72, 3) := dk_182 0 72 (dk_at dksX13_clause_19 0 rfl rfl)
theorem dX13_clause_526 : decode cX13_clause 526 = .ok (.iastore, 1) := dk_79 (dk_at dksX13_clause_19 3 rfl rfl)
theorem dX13_clause_527 : decode cX13_clause 527 = .ok (.aload_n 0, 1) := dk_42 (dk_at dksX13_clause_19 4 rfl rfl)
theorem dX13_clause_528 : decode cX13_clause 528 = .ok (.getfield 14, 3) := dk_180 0 14 (dk_at dksX13_clause_19 5 rfl rfl)
theorem dX13_clause_531 : decode cX13_clause 531 = .ok (.getfield 120, 3) := dk_180 0 120 (dk_at dksX13_clause_19 8 rfl rfl)
theorem dX13_clause_534 : decode cX13_clause 534 = .ok (.aload_n 0, 1) := dk_42 (dk_at dksX13_clause_19 11 rfl rfl)
theorem dX13_clause_535 : decode cX13_clause 535 = .ok (.getfield 14, 3) := dk_180 0 14 (dk_at dksX13_clause_19 12 rfl rfl)
theorem dX13_clause_538 : decode cX13_clause 538 = .ok (.getfield 59, 3) := dk_180 0 59 (dk_at dksX13_clause_19 15 rfl rfl)
theorem dX13_clause_541 : decode cX13_clause 541 = .ok (.aload_n 0, 1) := dk_42 (dk_at dksX13_clause_19 18 rfl rfl)
theorem dX13_clause_542 : decode cX13_clause 542 = .ok (.iconst 1, 1) := dk_4 (dk_at dksX13_clause_19 19 rfl rfl)
theorem dX13_clause_543 : decode cX13_clause 543 = .ok (.iconst 2, 1) := dk_5 (dk_at dksX13_clause_19 20 rfl rfl)
theorem dX13_clause_544 : decode cX13_clause 544 = .ok (.invokevirtual 72, 3) := dk_182 0 72 (dk_at dksX13_clause_19 21 rfl rfl)
theorem dX13_clause_547 : decode cX13_clause 547 = .ok (.iastore, 1) := dk_79 (dk_at dksX13_clause_20 0 rfl rfl)
theorem dX13_clause_548 : decode cX13_clause 548 = .ok (.aload_n 0, 1) := dk_42 (dk_at dksX13_clause_20 1 rfl rfl)
theorem dX13_clause_549 : decode cX13_clause 549 = .ok (.getfield 14, 3) := dk_180 0 14 (dk_at dksX13_clause_20 2 rfl rfl)
theorem dX13_clause_552 : decode cX13_clause 552 = .ok (.getfield 123, 3) := dk_180 0 123 (dk_at dksX13_clause_20 5 rfl rfl)
theorem dX13_clause_555 : decode cX13_clause 555 = .ok (.aload_n 0, 1) := dk_42 (dk_at dksX13_clause_20 8 rfl rfl)
theorem dX13_clause_556 : decode cX13_clause 556 = .ok (.getfield 14, 3) := dk_180 0 14 (dk_at dksX13_clause_20 9 rfl rfl)
theorem dX13_clause_559 : decode cX13_clause 559 = .ok (.getfield 59, 3) := dk_180 0 59 (dk_at dksX13_clause_20 12 rfl rfl)
theorem dX13_clause_562 : decode cX13_clause 562 = .ok (.aload_n 0, 1) := dk_42 (dk_at dksX13_clause_20 15 rfl rfl)
theorem dX13_clause_563 : decode cX13_clause 563 = .ok (.iconst 0, 1) := dk_3 (dk_at dksX13_clause_20 16 rfl rfl)
theorem dX13_clause_564 : decode cX13_clause 564 = .ok (.bipush 30, 2) := dk_16 30 (dk_at dksX13_clause_20 17 rfl rfl)
theorem dX13_clause_566 : decode cX13_clause 566 = .ok (.invokevirtual 72, 3) := dk_182 0 72 (dk_at dksX13_clause_20 19 rfl rfl)
theorem dX13_clause_569 : decode cX13_clause 569 = .ok (.iastore, 1) := dk_79 (dk_at dksX13_clause_20 22 rfl rfl)
theorem dX13_clause_570 : decode cX13_clause 570 = .ok (.aload_n 0, 1) := dk_42 (dk_at dksX13_clause_20 23 rfl rfl)
theorem dX13_clause_571 : decode cX13_clause 571 = .ok (.getfield 14, 3) := dk_180 0 14 (dk_at dksX13_clause_21 0 rfl rfl)
theorem dX13_clause_574 : decode cX13_clause 574 = .ok (.dup, 1) := dk_89 (dk_at dksX13_clause_21 3 rfl rfl)
theorem dX13_clause_575 : decode cX13_clause 575 = .ok (.getfield 59, 3) := dk_180 0 59 (dk_at dksX13_clause_21 4 rfl rfl)
theorem dX13_clause_578 : decode cX13_clause 578 = .ok (.iconst 1, 1) := dk_4 (dk_at dksX13_clause_21 7 rfl rfl)
theorem dX13_clause_579 : decode cX13_clause 579 = .ok (.iadd, 1) := dk_96 (dk_at dksX13_clause_21 8 rfl rfl)
theorem dX13_clause_580 : decode cX13_clause 580 = .ok (.putfield 59, 3) := dk_181 0 59 (dk_at dksX13_clause_21 9 rfl rfl)
theorem dX13_clause_583 : decode cX13_clause 583 = .ok (.return_, 1) := dk_177 (dk_at dksX13_clause_21 12 rfl rfl)
theorem dX13_clause_584 : decode cX13_clause 584 = .ok (.aload_n 0, 1) := dk_42 (dk_at dksX13_clause_21 13 rfl rfl)
theorem dX13_clause_585 : decode cX13_clause 585 = .ok (.aload_n 1, 1) := dk_43 (dk_at dksX13_clause_21 14 rfl rfl)
theorem dX13_clause_586 : decode cX13_clause 586 = .ok (.invokevirtual 126, 3) := dk_182 0 126 (dk_at dksX13_clause_21 15 rfl rfl)
theorem dX13_clause_589 : decode cX13_clause 589 = .ok (.return_, 1) := dk_177 (dk_at dksX13_clause_21 18 rfl rfl)
theorem dX13_clause_590 : decode cX13_clause 590 = .ok (.aload_n 0, 1) := dk_42 (dk_at dksX13_clause_21 19 rfl rfl)
theorem dX13_clause_591 : decode cX13_clause 591 = .ok (.invokevirtual 76, 3) := dk_182 0 76 (dk_at dksX13_clause_21 20 rfl rfl)
theorem dX13_clause_594 : decode cX13_clause 594 = .ok (.istore 4, 2) := dk_54 4 (dk_at dksX13_clause_22 0 rfl rfl)
theorem dX13_clause_596 : decode cX13_clause 596 = .ok (.aload_n 0, 1) := dk_42 (dk_at dksX13_clause_22 2 rfl rfl)
theorem dX13_clause_597 : decode cX13_clause 597 = .ok (.iload 4, 2) := dk_21 4 (dk_at dksX13_clause_22 3 rfl rfl)
theorem dX13_clause_599 : decode cX13_clause 599 = .ok (.invokevirtual 129, 3) := dk_182 0 129 (dk_at dksX13_clause_22 5 rfl rfl)
theorem dX13_clause_602 : decode cX13_clause 602 = .ok (.istore 5, 2) := dk_54 5 (dk_at dksX13_clause_22 8 rfl rfl)
theorem dX13_clause_604 : decode cX13_clause 604 = .ok (.aload_n 0, 1) := dk_42 (dk_at dksX13_clause_22 10 rfl rfl)
theorem dX13_clause_605 : decode cX13_clause 605 = .ok (.getfield 14, 3) := dk_180 0 14 (dk_at dksX13_clause_22 11 rfl rfl)
theorem dX13_clause_608 : decode cX13_clause 608 = .ok (.getfield 133, 3) := dk_180 0 133 (dk_at dksX13_clause_22 14 rfl rfl)
theorem dX13_clause_611 : decode cX13_clause 611 = .ok (.iload 4, 2) := dk_21 4 (dk_at dksX13_clause_22 17 rfl rfl)
theorem dX13_clause_613 : decode cX13_clause 613 = .ok (.dup2, 1) := dk_92 (dk_at dksX13_clause_22 19 rfl rfl)
theorem dX13_clause_614 : decode cX13_clause 614 = .ok (.iaload, 1) := dk_46 (dk_at dksX13_clause_22 20 rfl rfl)
theorem dX13_clause_615 : decode cX13_clause 615 = .ok (.iconst 1, 1) := dk_4 (dk_at dksX13_clause_22 21 rfl rfl)
theorem dX13_clause_616 : decode cX13_clause 616 = .ok (.iload 5, 2) := dk_21 5 (dk_at dksX13_clause_22 22 rfl rfl)
theorem dX13_clause_618 : decode cX13_clause 618 = .ok (.ishl, 1) := dk_120 (dk_at dksX13_clause_23 0 rfl rfl)
theorem dX13_clause_619 : decode cX13_clause 619 = .ok (.ior, 1) := dk_128 (dk_at dksX13_clause_23 1 rfl rfl)
theorem dX13_clause_620 : decode cX13_clause 620 = .ok (.iastore, 1) := dk_79 (dk_at dksX13_clause_23 2 rfl rfl)
theorem dX13_clause_621 : decode cX13_clause 621 = .ok (.aload_n 0, 1) := dk_42 (dk_at dksX13_clause_23 3 rfl rfl)
theorem dX13_clause_622 : decode cX13_clause 622 = .ok (.getfield 14, 3) := dk_180 0 14 (dk_at dksX13_clause_23 4 rfl rfl)
theorem dX13_clause_625 : decode cX13_clause 625 = .ok (.getfield 133, 3) := dk_180 0 133 (dk_at dksX13_clause_23 7 rfl rfl)
theorem dX13_clause_628 : decode cX13_clause 628 = .ok (.iload 5, 2) := dk_21 5 (dk_at dksX13_clause_23 10 rfl rfl)
theorem dX13_clause_630 : decode cX13_clause 630 = .ok (.dup2, 1) := dk_92 (dk_at dksX13_clause_23 12 rfl rfl)
theorem dX13_clause_631 : decode cX13_clause 631 = .ok (.iaload, 1) := dk_46 (dk_at dksX13_clause_23 13 rfl rfl)
theorem dX13_clause_632 : decode cX13_clause 632 = .ok (.iconst 1, 1) := dk_4 (dk_at dksX13_clause_23 14 rfl rfl)
theorem dX13_clause_633 : decode cX13_clause 633 = .ok (.iload 4, 2) := dk_21 4 (dk_at dksX13_clause_23 15 rfl rfl)
theorem dX13_clause_635 : decode cX13_clause 635 = .ok (.ishl, 1) := dk_120 (dk_at dksX13_clause_23 17 rfl rfl)
theorem dX13_clause_636 : decode cX13_clause 636 = .ok (.ior, 1) := dk_128 (dk_at dksX13_clause_23 18 rfl rfl)
theorem dX13_clause_637 : decode cX13_clause 637 = .ok (.iastore, 1) := dk_79 (dk_at dksX13_clause_23 19 rfl rfl)
theorem dX13_clause_638 : decode cX13_clause 638 = .ok (.return_, 1) := dk_177 (dk_at dksX13_clause_23 20 rfl rfl)
theorem dX13_clause_639 : decode cX13_clause 639 = .ok (.aload_n 0, 1) := dk_42 (dk_at dksX13_clause_23 21 rfl rfl)
theorem dX13_clause_640 : decode cX13_clause 640 = .ok (.invokevirtual 135, 3) := dk_182 0 135 (dk_at dksX13_clause_24 0 rfl rfl)
theorem dX13_clause_643 : decode cX13_clause 643 = .ok (.return_, 1) := dk_177 (dk_at dksX13_clause_24 3 rfl rfl)
theorem dX13_clause_644 : decode cX13_clause 644 = .ok (.aload_n 0, 1) := dk_42 (dk_at dksX13_clause_24 4 rfl rfl)
theorem dX13_clause_645 : decode cX13_clause 645 = .ok (.invokevirtual 76, 3) := dk_182 0 76 (dk_at dksX13_clause_24 5 rfl rfl)
theorem dX13_clause_648 : decode cX13_clause 648 = .ok (.istore 4, 2) := dk_54 4 (dk_at dksX13_clause_24 8 rfl rfl)
theorem dX13_clause_650 : decode cX13_clause 650 = .ok (.bipush 9, 2) := dk_16 9 (dk_at dksX13_clause_24 10 rfl rfl)
theorem dX13_clause_652 : decode cX13_clause 652 = .ok (.iload 4, 2) := dk_21 4 (dk_at dksX13_clause_24 12 rfl rfl)
theorem dX13_clause_654 : decode cX13_clause 654 = .ok (.imul, 1) := dk_104 (dk_at dksX13_clause_24 14 rfl rfl)
theorem dX13_clause_655 : decode cX13_clause 655 = .ok (.aload_n 0, 1) := dk_42 (dk_at dksX13_clause_24 15 rfl rfl)
theorem dX13_clause_656 : decode cX13_clause 656 = .ok (.iload 4, 2) := dk_21 4 (dk_at dksX13_clause_24 16 rfl rfl)
theorem dX13_clause_658 : decode cX13_clause 658 = .ok (.invokevirtual 129, 3) := dk_182 0 129 (dk_at dksX13_clause_24 18 rfl rfl)
theorem dX13_clause_661 : decode cX13_clause 661 = .ok (.iadd, 1) := dk_96 (dk_at dksX13_clause_24 21 rfl rfl)
theorem dX13_clause_662 : decode cX13_clause 662 = .ok (.istore 5, 2) := dk_54 5 (dk_at dksX13_clause_24 22 rfl rfl)
theorem dX13_clause_664 : decode cX13_clause 664 = .ok (.aload_n 0, 1) := dk_42 (dk_at dksX13_clause_25 0 rfl rfl)
theorem dX13_clause_665 : decode cX13_clause 665 = .ok (.getfield 14, 3) := dk_180 0 14 (dk_at dksX13_clause_25 1 rfl rfl)
theorem dX13_clause_668 : decode cX13_clause 668 = .ok (.getfield 138, 3) := dk_180 0 138 (dk_at dksX13_clause_25 4 rfl rfl)
theorem dX13_clause_671 : decode cX13_clause 671 = .ok (.iload 5, 2) := dk_21 5 (dk_at dksX13_clause_25 7 rfl rfl)
theorem dX13_clause_673 : decode cX13_clause 673 = .ok (.sipush 999, 3) := dk_17 3 231 (dk_at dksX13_clause_25 9 rfl rfl)
theorem dX13_clause_676 : decode cX13_clause 676 = .ok (.aload_n 0, 1) := dk_42 (dk_at dksX13_clause_25 12 rfl rfl)
theorem dX13_clause_677 : decode cX13_clause 677 = .ok (.getfield 14, 3) := dk_180 0 14 (dk_at dksX13_clause_25 13 rfl rfl)
theorem dX13_clause_680 : decode cX13_clause 680 = .ok (.getfield 138, 3) := dk_180 0 138 (dk_at dksX13_clause_25 16 rfl rfl)
theorem dX13_clause_683 : decode cX13_clause 683 = .ok (.iload 5, 2) := dk_21 5 (dk_at dksX13_clause_25 19 rfl rfl)
theorem dX13_clause_685 : decode cX13_clause 685 = .ok (.iaload, 1) := dk_46 (dk_at dksX13_clause_25 21 rfl rfl)
theorem dX13_clause_686 : decode cX13_clause 686 = .ok (.aload_n 0, 1) := dk_42 (dk_at dksX13_clause_25 22 rfl rfl)
theorem dX13_clause_687 : decode cX13_clause 687 = .ok (.iconst 1, 1) := dk_4 (dk_at dksX13_clause_25 23 rfl rfl)
theorem dX13_clause_688 : decode cX13_clause 688 = .ok (.bipush 99, 2) := dk_16 99 (dk_at dksX13_clause_26 0 rfl rfl)
theorem dX13_clause_690 : decode cX13_clause 690 = .ok (.invokevirtual 72, 3) := dk_182 0 72 (dk_at dksX13_clause_26 2 rfl rfl)
theorem dX13_clause_693 : decode cX13_clause 693 = .ok (.iadd, 1) := dk_96 (dk_at dksX13_clause_26 5 rfl rfl)
theorem dX13_clause_694 : decode cX13_clause 694 = .ok (.invokestatic 141, 3) := dk_184 0 141 (dk_at dksX13_clause_26 6 rfl rfl)
theorem dX13_clause_697 : decode cX13_clause 697 = .ok (.iastore, 1) := dk_79 (dk_at dksX13_clause_26 9 rfl rfl)
theorem dX13_clause_698 : decode cX13_clause 698 = .ok (.return_, 1) := dk_177 (dk_at dksX13_clause_26 10 rfl rfl)
theorem dX13_clause_699 : decode cX13_clause 699 = .ok (.aload_n 0, 1) := dk_42 (dk_at dksX13_clause_26 11 rfl rfl)
theorem dX13_clause_700 : decode cX13_clause 700 = .ok (.getfield 14, 3) := dk_180 0 14 (dk_at dksX13_clause_26 12 rfl rfl)
theorem dX13_clause_703 : decode cX13_clause 703 = .ok (.aload_n 0, 1) := dk_42 (dk_at dksX13_clause_26 15 rfl rfl)
theorem dX13_clause_704 : decode cX13_clause 704 = .ok (.iconst 0, 1) := dk_3 (dk_at dksX13_clause_26 16 rfl rfl)
theorem dX13_clause_705 : decode cX13_clause 705 = .ok (.bipush 9, 2) := dk_16 9 (dk_at dksX13_clause_26 17 rfl rfl)
theorem dX13_clause_707 : decode cX13_clause 707 = .ok (.invokevirtual 72, 3) := dk_182 0 72 (dk_at dksX13_clause_26 19 rfl rfl)
theorem dX13_clause_710 : decode cX13_clause 710 = .ok (.putfield 146, 3) := dk_181 0 146 (dk_at dksX13_clause_27 0 rfl rfl)
theorem dX13_clause_713 : decode cX13_clause 713 = .ok (.return_, 1) := dk_177 (dk_at dksX13_clause_27 3 rfl rfl)
abbrev cX13_isFull : ByteArray := prog_6_method_3_code
def yX13_isFull : MethodName := ⟨RX13, "isFull", "(Ljava/lang/String;)Z"⟩
def dkwX13_isFull_3 : List UInt8 := [182, 0, 68, 16, 6, 160, 0, 7, 4, 167, 0, 4, 3, 172]
abbrev dktX13_isFull_3 : List UInt8 := dkwX13_isFull_3 ++ []
def dkwX13_isFull_2 : List UInt8 := [180, 0, 59, 16, 8, 159, 0, 27, 43, 18, 62, 182, 0, 48, 153, 0, 22, 42, 180, 0, 14, 180, 0, 64]
abbrev dktX13_isFull_2 : List UInt8 := dkwX13_isFull_2 ++ dktX13_isFull_3
def dkwX13_isFull_1 : List UInt8 := [180, 0, 14, 180, 0, 54, 16, 9, 159, 0, 48, 43, 18, 57, 182, 0, 48, 153, 0, 15, 42, 180, 0, 14]
abbrev dktX13_isFull_1 : List UInt8 := dkwX13_isFull_1 ++ dktX13_isFull_2
def dkwX13_isFull_0 : List UInt8 := [42, 180, 0, 14, 180, 0, 43, 16, 60, 159, 0, 69, 43, 18, 46, 182, 0, 48, 153, 0, 15, 42]
abbrev dktX13_isFull_0 : List UInt8 := dkwX13_isFull_0 ++ dktX13_isFull_1
theorem dksX13_isFull_0 : cX13_isFull.data.toList.drop 0 = dktX13_isFull_0 := by decide +kernel
theorem dksX13_isFull_1 : cX13_isFull.data.toList.drop 22 = dktX13_isFull_1 := dk_seg dksX13_isFull_0 22 rfl rfl
theorem dksX13_isFull_2 : cX13_isFull.data.toList.drop 46 = dktX13_isFull_2 := dk_seg dksX13_isFull_1 24 rfl rfl
theorem dksX13_isFull_3 : cX13_isFull.data.toList.drop 70 = dktX13_isFull_3 := dk_seg dksX13_isFull_2 24 rfl rfl
theorem dX13_isFull_0 : decode cX13_isFull 0 = .ok (.aload_n 0, 1) := dk_42 (dk_at dksX13_isFull_0 0 rfl rfl)
theorem dX13_isFull_1 : decode cX13_isFull 1 = .ok (.getfield 14, 3) := dk_180 0 14 (dk_at dksX13_isFull_0 1 rfl rfl)
theorem dX13_isFull_4 : decode cX13_isFull 4 = .ok (.getfield 43, 3) := dk_180 0 43 (dk_at dksX13_isFull_0 4 rfl rfl)
theorem dX13_isFull_7 : decode cX13_isFull 7 = .ok (.bipush 60, 2) := dk_16 60 (dk_at dksX13_isFull_0 7 rfl rfl)
theorem dX13_isFull_9 : decode cX13_isFull 9 = .ok (.if_icmp .eq 69, 3) := dk_159 0 69 (dk_at dksX13_isFull_0 9 rfl rfl)
theorem dX13_isFull_12 : decode cX13_isFull 12 = .ok (.aload_n 1, 1) := dk_43 (dk_at dksX13_isFull_0 12 rfl rfl)
theorem dX13_isFull_13 : decode cX13_isFull 13 = .ok (.ldc 46, 2) := dk_18 46 (dk_at dksX13_isFull_0 13 rfl rfl)
theorem dX13_isFull_15 : decode cX13_isFull 15 = .ok (.invokevirtual 48, 3) := dk_182 0 48 (dk_at dksX13_isFull_0 15 rfl rfl)
theorem dX13_isFull_18 : decode cX13_isFull 18 = .ok (.ifCond .eq 15, 3) := dk_153 0 15 (dk_at dksX13_isFull_0 18 rfl rfl)
theorem dX13_isFull_21 : decode cX13_isFull 21 = .ok (.aload_n 0, 1) := dk_42 (dk_at dksX13_isFull_0 21 rfl rfl)
theorem dX13_isFull_22 : decode cX13_isFull 22 = .ok (.getfield 14, 3) := dk_180 0 14 (dk_at dksX13_isFull_1 0 rfl rfl)
theorem dX13_isFull_25 : decode cX13_isFull 25 = .ok (.getfield 54, 3) := dk_180 0 54 (dk_at dksX13_isFull_1 3 rfl rfl)
theorem dX13_isFull_28 : decode cX13_isFull 28 = .ok (.bipush 9, 2) := dk_16 9 (dk_at dksX13_isFull_1 6 rfl rfl)
theorem dX13_isFull_30 : decode cX13_isFull 30 = .ok (.if_icmp .eq 48, 3) := dk_159 0 48 (dk_at dksX13_isFull_1 8 rfl rfl)
theorem dX13_isFull_33 : decode cX13_isFull 33 = .ok (.aload_n 1, 1) := dk_43 (dk_at dksX13_isFull_1 11 rfl rfl)
theorem dX13_isFull_34 : decode cX13_isFull 34 = .ok (.ldc 57, 2) := dk_18 57 (dk_at dksX13_isFull_1 12 rfl rfl)
theorem dX13_isFull_36 : decode cX13_isFull 36 = .ok (.invokevirtual 48, 3) := dk_182 0 48 (dk_at dksX13_isFull_1 14 rfl rfl)
theorem dX13_isFull_39 : decode cX13_isFull 39 = .ok (.ifCond .eq 15, 3) := dk_153 0 15 (dk_at dksX13_isFull_1 17 rfl rfl)
theorem dX13_isFull_42 : decode cX13_isFull 42 = .ok (.aload_n 0, 1) := dk_42 (dk_at dksX13_isFull_1 20 rfl rfl)
theorem dX13_isFull_43 : decode cX13_isFull 43 = .ok (.getfield 14, 3) := dk_180 0 14 (dk_at dksX13_isFull_1 21 rfl rfl)
theorem dX13_isFull_46 : decode cX13_isFull 46 = .ok (.getfield 59, 3) := dk_180 0 59 (dk_at dksX13_isFull_2 0 rfl rfl)
theorem dX13_isFull_49 : decode cX13_isFull 49 = .ok (.bipush 8, 2) := dk_16 8 (dk_at dksX13_isFull_2 3 rfl rfl)
theorem dX13_isFull_51 : decode cX13_isFull 51 = .ok (.if_icmp .eq 27, 3) := dk_159 0 27 (dk_at dksX13_isFull_2 5 rfl rfl)
theorem dX13_isFull_54 : decode cX13_isFull 54 = .ok (.aload_n 1, 1) := dk_43 (dk_at dksX13_isFull_2 8 rfl rfl)
theorem dX13_isFull_55 : decode cX13_isFull 55 = .ok (.ldc 62, 2) := dk_18 62 (dk_at dksX13_isFull_2 9 rfl rfl)
theorem dX13_isFull_57 : decode cX13_isFull 57 = .ok (.invokevirtual 48, 3) := dk_182 0 48 (dk_at dksX13_isFull_2 11 rfl rfl)
theorem dX13_isFull_60 : decode cX13_isFull 60 = .ok (.ifCond .eq 22, 3) := dk_153 0 22 (dk_at dksX13_isFull_2 14 rfl rfl)
theorem dX13_isFull_63 : decode cX13_isFull 63 = .ok (.aload_n 0, 1) := dk_42 (dk_at dksX13_isFull_2 17 rfl rfl)
theorem dX13_isFull_64 : decode cX13_isFull 64 = .ok (.getfield 14, 3) := dk_180 0 14 (dk_at dksX13_isFull_2 18 rfl rfl)
theorem dX13_isFull_67 : decode cX13_isFull 67 = .ok (.getfield 64, 3) := dk_180 0 64 (dk_at dksX13_isFull_2 21 rfl rfl)
theorem dX13_isFull_70 : decode cX13_isFull 70 = .ok (.invokevirtual 68, 3) := dk_182 0 68 (dk_at dksX13_isFull_3 0 rfl rfl)
theorem dX13_isFull_73 : decode cX13_isFull 73 = .ok (.bipush 6, 2) := dk_16 6 (dk_at dksX13_isFull_3 3 rfl rfl)
theorem dX13_isFull_75 : decode cX13_isFull 75 = .ok (.if_icmp .ne 7, 3) := dk_160 0 7 (dk_at dksX13_isFull_3 5 rfl rfl)
theorem dX13_isFull_78 : decode cX13_isFull 78 = .ok (.iconst 1, 1) := dk_4 (dk_at dksX13_isFull_3 8 rfl rfl)
theorem dX13_isFull_79 : decode cX13_isFull 79 = .ok (.goto 4, 3) := dk_167 0 4 (dk_at dksX13_isFull_3 9 rfl rfl)
theorem dX13_isFull_82 : decode cX13_isFull 82 = .ok (.iconst 0, 1) := dk_3 (dk_at dksX13_isFull_3 12 rfl rfl)
theorem dX13_isFull_83 : decode cX13_isFull 83 = .ok (.ireturn, 1) := dk_172 (dk_at dksX13_isFull_3 13 rfl rfl)
abbrev cX13_readsHand : ByteArray := prog_6_method_9_code
def yX13_readsHand : MethodName := ⟨RX13, "readsHand", "()V"⟩
def dkwX13_readsHand_4 : List UInt8 := [180, 0, 54, 27, 79, 42, 180, 0, 14, 89, 180, 0, 54, 4, 96, 181, 0, 54, 177]
abbrev dktX13_readsHand_4 : List UInt8 := dkwX13_readsHand_4 ++ []
def dkwX13_readsHand_3 : List UInt8 := [180, 0, 54, 46, 163, 0, 8, 42, 182, 0, 78, 191, 42, 180, 0, 14, 180, 0, 154, 42, 180, 0, 14]
abbrev dktX13_readsHand_3 : List UInt8 := dkwX13_readsHand_3 ++ dktX13_readsHand_4
def dkwX13_readsHand_2 : List UInt8 := [16, 60, 182, 0, 72, 60, 27, 158, 0, 27, 27, 42, 180, 0, 14, 180, 0, 151, 42, 180, 0, 14]
abbrev dktX13_readsHand_2 : List UInt8 := dkwX13_readsHand_2 ++ dktX13_readsHand_3
def dkwX13_readsHand_1 : List UInt8 := [180, 0, 14, 180, 0, 151, 42, 180, 0, 14, 180, 0, 54, 42, 3, 16, 40, 182, 0, 72, 79, 42, 3]
abbrev dktX13_readsHand_1 : List UInt8 := dkwX13_readsHand_1 ++ dktX13_readsHand_2
def dkwX13_readsHand_0 : List UInt8 := [42, 180, 0, 14, 180, 0, 148, 42, 180, 0, 14, 180, 0, 54, 42, 3, 16, 9, 182, 0, 72, 79, 42]
abbrev dktX13_readsHand_0 : List UInt8 := dkwX13_readsHand_0 ++ dktX13_readsHand_1
theorem dksX13_readsHand_0 : cX13_readsHand.data.toList.drop 0 = dktX13_readsHand_0 := by decide +kernel
theorem dksX13_readsHand_1 : cX13_readsHand.data.toList.drop 23 = dktX13_readsHand_1 := dk_seg dksX13_readsHand_0 23 rfl rfl
theorem dksX13_readsHand_2 : cX13_readsHand.data.toList.drop 46 = dktX13_readsHand_2 := dk_seg dksX13_readsHand_1 23 rfl rfl
theorem dksX13_readsHand_3 : cX13_readsHand.data.toList.drop 68 = dktX13_readsHand_3 := dk_seg dksX13_readsHand_2 22 rfl rfl
theorem dksX13_readsHand_4 : cX13_readsHand.data.toList.drop 91 = dktX13_readsHand_4 := dk_seg dksX13_readsHand_3 23 rfl rfl
theorem dX13_readsHand_0 : decode cX13_readsHand 0 = .ok (.aload_n 0, 1) := dk_42 (dk_at dksX13_readsHand_0 0 rfl rfl)
theorem dX13_readsHand_1 : decode cX13_readsHand 1 = .ok (.getfield 14, 3) := dk_180 0 14 (dk_at dksX13_readsHand_0 1 rfl rfl)
theorem dX13_readsHand_4 : decode cX13_readsHand 4 = .ok (.getfield 148, 3) := dk_180 0 148 (dk_at dksX13_readsHand_0 4 rfl rfl)
theorem dX13_readsHand_7 : decode cX13_readsHand 7 = .ok (.aload_n 0, 1) := dk_42 (dk_at dksX13_readsHand_0 7 rfl rfl)
theorem dX13_readsHand_8 : decode cX13_readsHand 8 = .ok (.getfield 14, 3) := dk_180 0 14 (dk_at dksX13_readsHand_0 8 rfl rfl)
theorem dX13_readsHand_11 : decode cX13_readsHand 11 = .ok (.getfield 54, 3) := dk_180 0 54 (dk_at dksX13_readsHand_0 11 rfl rfl)
theorem dX13_readsHand_14 : decode cX13_readsHand 14 = .ok (.aload_n 0, 1) := dk_42 (dk_at dksX13_readsHand_0 14 rfl rfl)
theorem dX13_readsHand_15 : decode cX13_readsHand 15 = .ok (.iconst 0, 1) := dk_3 (dk_at dksX13_readsHand_0 15 rfl rfl)
theorem dX13_readsHand_16 : decode cX13_readsHand 16 = .ok (.bipush 9, 2) := dk_16 9 (dk_at dksX13_readsHand_0 16 rfl rfl)
theorem dX13_readsHand_18 : decode cX13_readsHand 18 = .ok (.invokevirtual 72, 3) := dk_182 0 72 (dk_at dksX13_readsHand_0 18 rfl rfl)
theorem dX13_readsHand_21 : decode cX13_readsHand 21 = .ok (.iastore, 1) := dk_79 (dk_at dksX13_readsHand_0 21 rfl rfl)
theorem dX13_readsHand_22 : decode cX13_readsHand 22 = .ok (.aload_n 0, 1) := dk_42 (dk_at dksX13_readsHand_0 22 rfl rfl)
theorem dX13_readsHand_23 : decode cX13_readsHand 23 = .ok (.getfield 14, 3) := dk_180 0 14 (dk_at dksX13_readsHand_1 0 rfl rfl)
theorem dX13_readsHand_26 : decode cX13_readsHand 26 = .ok (.getfield 151, 3) := dk_180 0 151 (dk_at dksX13_readsHand_1 3 rfl rfl)
theorem dX13_readsHand_29 : decode cX13_readsHand 29 = .ok (.aload_n 0, 1) := dk_42 (dk_at dksX13_readsHand_1 6 rfl rfl)
theorem dX13_readsHand_30 : decode cX13_readsHand 30 = .ok (.getfield 14, 3) := dk_180 0 14 (dk_at dksX13_readsHand_1 7 rfl rfl)
theorem dX13_readsHand_33 : decode cX13_readsHand 33 = .ok (.getfield 54, 3) := dk_180 0 54 (dk_at dksX13_readsHand_1 10 rfl rfl)
theorem dX13_readsHand_36 : decode cX13_readsHand 36 = .ok (.aload_n 0, 1) := dk_42 (dk_at dksX13_readsHand_1 13 rfl rfl)
theorem dX13_readsHand_37 : decode cX13_readsHand 37 = .ok (.iconst 0, 1) := dk_3 (dk_at dksX13_readsHand_1 14 rfl rfl)
theorem dX13_readsHand_38 : decode cX13_readsHand 38 = .ok (.bipush 40, 2) := dk_16 40 (dk_at dksX13_readsHand_1 15 rfl rfl)
theorem dX13_readsHand_40 : decode cX13_readsHand 40 = .ok (.invokevirtual 72, 3) := dk_182 0 72 (dk_at dksX13_readsHand_1 17 rfl rfl)
theorem dX13_readsHand_43 : decode cX13_readsHand 43 = .ok (.iastore, 1) := dk_79 (dk_at dksX13_readsHand_1 20 rfl rfl)
theorem dX13_readsHand_44 : decode cX13_readsHand 44 = .ok (.aload_n 0, 1) := dk_42 (dk_at dksX13_readsHand_1 21 rfl rfl)
theorem dX13_readsHand_45 : decode cX13_readsHand 45 = .ok (.iconst 0, 1) := dk_3 (dk_at dksX13_readsHand_1 22 rfl rfl)
theorem dX13_readsHand_46 : decode cX13_readsHand 46 = .ok (.bipush 60, 2) := dk_16 60 (dk_at dksX13_readsHand_2 0 rfl rfl)
theorem dX13_readsHand_48 : decode cX13_readsHand 48 = .ok (.invokevirtual 72, 3) := dk_182 0 72 (dk_at dksX13_readsHand_2 2 rfl rfl)
theorem dX13_readsHand_51 : decode cX13_readsHand 51 = .ok (.istore_n 1, 1) := dk_60 (dk_at dksX13_readsHand_2 5 rfl rfl)
theorem dX13_readsHand_52 : decode cX13_readsHand 52 = .ok (.iload_n 1, 1) := dk_27 (dk_at dksX13_readsHand_2 6 rfl rfl)
theorem dX13_readsHand_53 : decode cX13_readsHand 53 = .ok (.ifCond .le 27, 3) := dk_158 0 27 (dk_at dksX13_readsHand_2 7 rfl rfl)
theorem dX13_readsHand_56 : decode cX13_readsHand 56 = .ok (.iload_n 1, 1) := dk_27 (dk_at dksX13_readsHand_2 10 rfl rfl)
theorem dX13_readsHand_57 : decode cX13_readsHand 57 = .ok (.aload_n 0, 1) := dk_42 (dk_at dksX13_readsHand_2 11 rfl rfl)
theorem dX13_readsHand_58 : decode cX13_readsHand 58 = .ok (.getfield 14, 3) := dk_180 0 14 (dk_at dksX13_readsHand_2 12 rfl rfl)
theorem dX13_readsHand_61 : decode cX13_readsHand 61 = .ok (.getfield 151, 3) := dk_180 0 151 (dk_at dksX13_readsHand_2 15 rfl rfl)
theorem dX13_readsHand_64 : decode cX13_readsHand 64 = .ok (.aload_n 0, 1) := dk_42 (dk_at dksX13_readsHand_2 18 rfl rfl)
theorem dX13_readsHand_65 : decode cX13_readsHand 65 = .ok (.getfield 14, 3) := dk_180 0 14 (dk_at dksX13_readsHand_2 19 rfl rfl)
theorem dX13_readsHand_68 : decode cX13_readsHand 68 = .ok (.getfield 54, 3) := dk_180 0 54 (dk_at dksX13_readsHand_3 0 rfl rfl)
theorem dX13_readsHand_71 : decode cX13_readsHand 71 = .ok (.iaload, 1) := dk_46 (dk_at dksX13_readsHand_3 3 rfl rfl)
theorem dX13_readsHand_72 : decode cX13_readsHand 72 = .ok (.if_icmp .gt 8, 3) := dk_163 0 8 (dk_at dksX13_readsHand_3 4 rfl rfl)
theorem dX13_readsHand_75 : decode cX13_readsHand 75 = .ok (.aload_n 0, 1) := dk_42 (dk_at dksX13_readsHand_3 7 rfl rfl)
theorem dX13_readsHand_76 : decode cX13_readsHand 76 = .ok (.invokevirtual 78, 3) := dk_182 0 78 (dk_at dksX13_readsHand_3 8 rfl rfl)
theorem dX13_readsHand_79 : decode cX13_readsHand 79 = .ok (.athrow, 1) := dk_191 (dk_at dksX13_readsHand_3 11 rfl rfl)
theorem dX13_readsHand_80 : decode cX13_readsHand 80 = .ok (.aload_n 0, 1) := dk_42 (dk_at dksX13_readsHand_3 12 rfl rfl)
theorem dX13_readsHand_81 : decode cX13_readsHand 81 = .ok (.getfield 14, 3) := dk_180 0 14 (dk_at dksX13_readsHand_3 13 rfl rfl)
theorem dX13_readsHand_84 : decode cX13_readsHand 84 = .ok (.getfield 154, 3) := dk_180 0 154 (dk_at dksX13_readsHand_3 16 rfl rfl)
theorem dX13_readsHand_87 : decode cX13_readsHand 87 = .ok (.aload_n 0, 1) := dk_42 (dk_at dksX13_readsHand_3 19 rfl rfl)
theorem dX13_readsHand_88 : decode cX13_readsHand 88 = .ok (.getfield 14, 3) := dk_180 0 14 (dk_at dksX13_readsHand_3 20 rfl rfl)
theorem dX13_readsHand_91 : decode cX13_readsHand 91 = .ok (.getfield 54, 3) := dk_180 0 54 (dk_at dksX13_readsHand_4 0 rfl rfl)
theorem dX13_readsHand_94 : decode cX13_readsHand 94 = .ok (.iload_n 1, 1) := dk_27 (dk_at dksX13_readsHand_4 3 rfl rfl)
theorem dX13_readsHand_95 : decode cX13_readsHand 95 = .ok (.iastore, 1) := dk_79 (dk_at dksX13_readsHand_4 4 rfl rfl)
theorem dX13_readsHand_96 : decode cX13_readsHand 96 = .ok (.aload_n 0, 1) := dk_42 (dk_at dksX13_readsHand_4 5 rfl rfl)
theorem dX13_readsHand_97 : decode cX13_readsHand 97 = .ok (.getfield 14, 3) := dk_180 0 14 (dk_at dksX13_readsHand_4 6 rfl rfl)
theorem dX13_readsHand_100 : decode cX13_readsHand 100 = .ok (.dup, 1) := dk_89 (dk_at dksX13_readsHand_4 9 rfl rfl)
theorem dX13_readsHand_101 : decode cX13_readsHand 101 = .ok (.getfield 54, 3) := dk_180 0 54 (dk_at dksX13_readsHand_4 10 rfl rfl)
theorem dX13_readsHand_104 : decode cX13_readsHand 104 = .ok (.iconst 1, 1) := dk_4 (dk_at dksX13_readsHand_4 13 rfl rfl)
theorem dX13_readsHand_105 : decode cX13_readsHand 105 = .ok (.iadd, 1) := dk_96 (dk_at dksX13_readsHand_4 14 rfl rfl)
theorem dX13_readsHand_106 : decode cX13_readsHand 106 = .ok (.putfield 54, 3) := dk_181 0 54 (dk_at dksX13_readsHand_4 15 rfl rfl)
theorem dX13_readsHand_109 : decode cX13_readsHand 109 = .ok (.return_, 1) := dk_177 (dk_at dksX13_readsHand_4 18 rfl rfl)
abbrev cX13_wrongNumber : ByteArray := prog_6_method_6_code
def yX13_wrongNumber : MethodName := ⟨RX13, "wrongNumber", "()LPuppetHeirs$Wrong;"⟩
def dkwX13_wrongNumber_0 : List UInt8 := [187, 0, 82, 89, 5, 42, 180, 0, 84, 183, 0, 87, 176]
abbrev dktX13_wrongNumber_0 : List UInt8 := dkwX13_wrongNumber_0 ++ []
theorem dksX13_wrongNumber_0 : cX13_wrongNumber.data.toList.drop 0 = dktX13_wrongNumber_0 := by decide +kernel
theorem dX13_wrongNumber_0 : decode cX13_wrongNumber 0 = .ok (.new 82, 3) := dk_187 0 82 (dk_at dksX13_wrongNumber_0 0 rfl rfl)
theorem dX13_wrongNumber_3 : decode cX13_wrongNumber 3 = .ok (.dup, 1) := dk_89 (dk_at dksX13_wrongNumber_0 3 rfl rfl)
theorem dX13_wrongNumber_4 : decode cX13_wrongNumber 4 = .ok (.iconst 2, 1) := dk_5 (dk_at dksX13_wrongNumber_0 4 rfl rfl)
theorem dX13_wrongNumber_5 : decode cX13_wrongNumber 5 = .ok (.aload_n 0, 1) := dk_42 (dk_at dksX13_wrongNumber_0 5 rfl rfl)
theorem dX13_wrongNumber_6 : decode cX13_wrongNumber 6 = .ok (.getfield 84, 3) := dk_180 0 84 (dk_at dksX13_wrongNumber_0 6 rfl rfl)
theorem dX13_wrongNumber_9 : decode cX13_wrongNumber 9 = .ok (.invokespecial 87, 3) := dk_183 0 87 (dk_at dksX13_wrongNumber_0 9 rfl rfl)
theorem dX13_wrongNumber_12 : decode cX13_wrongNumber 12 = .ok (.areturn, 1) := dk_176 (dk_at dksX13_wrongNumber_0 12 rfl rfl)
abbrev cX13_readsOfPuppet : ByteArray := prog_6_method_10_code
def yX13_readsOfPuppet : MethodName := ⟨RX13, "readsOfPuppet", "(Ljava/lang/String;)V"⟩
def dkwX13_readsOfPuppet_6 : List UInt8 := [28, 120, 128, 79, 177]
abbrev dktX13_readsOfPuppet_6 : List UInt8 := dkwX13_readsOfPuppet_6 ++ []
def dkwX13_readsOfPuppet_5 : List UInt8 := [180, 0, 120, 29, 46, 160, 0, 8, 42, 182, 0, 78, 191, 42, 180, 0, 14, 180, 0, 159, 29, 92, 46, 4]
abbrev dktX13_readsOfPuppet_5 : List UInt8 := dkwX13_readsOfPuppet_5 ++ dktX13_readsOfPuppet_6
def dkwX13_readsOfPuppet_4 : List UInt8 := [28, 122, 4, 126, 4, 159, 0, 27, 42, 180, 0, 14, 180, 0, 159, 29, 46, 184, 0, 165, 42, 180, 0, 14]
abbrev dktX13_readsOfPuppet_4 : List UInt8 := dkwX13_readsOfPuppet_4 ++ dktX13_readsOfPuppet_5
def dkwX13_readsOfPuppet_3 : List UInt8 := [154, 0, 56, 42, 180, 0, 14, 180, 0, 151, 28, 46, 157, 0, 44, 42, 180, 0, 14, 180, 0, 162, 29, 46]
abbrev dktX13_readsOfPuppet_3 : List UInt8 := dkwX13_readsOfPuppet_3 ++ dktX13_readsOfPuppet_4
def dkwX13_readsOfPuppet_2 : List UInt8 := [42, 182, 0, 78, 191, 42, 180, 0, 14, 180, 0, 162, 29, 92, 46, 4, 28, 120, 128, 79, 177, 21, 4]
abbrev dktX13_readsOfPuppet_2 : List UInt8 := dkwX13_readsOfPuppet_2 ++ dktX13_readsOfPuppet_3
def dkwX13_readsOfPuppet_1 : List UInt8 := [160, 0, 7, 4, 167, 0, 4, 3, 54, 4, 43, 18, 95, 182, 0, 48, 153, 0, 29, 21, 4, 153, 0, 8]
abbrev dktX13_readsOfPuppet_1 : List UInt8 := dkwX13_readsOfPuppet_1 ++ dktX13_readsOfPuppet_2
def dkwX13_readsOfPuppet_0 : List UInt8 := [42, 182, 0, 76, 61, 42, 182, 0, 157, 62, 42, 180, 0, 14, 180, 0, 159, 29, 46, 28, 122, 4, 126, 4]
abbrev dktX13_readsOfPuppet_0 : List UInt8 := dkwX13_readsOfPuppet_0 ++ dktX13_readsOfPuppet_1
theorem dksX13_readsOfPuppet_0 : cX13_readsOfPuppet.data.toList.drop 0 = dktX13_readsOfPuppet_0 := by decide +kernel
theorem dksX13_readsOfPuppet_1 : cX13_readsOfPuppet.data.toList.drop 24 = dktX13_readsOfPuppet_1 := dk_seg dksX13_readsOfPuppet_0 24 rfl rfl
theorem dksX13_readsOfPuppet_2 : cX13_readsOfPuppet.data.toList.drop 48 = dktX13_readsOfPuppet_2 := dk_seg dksX13_readsOfPuppet_1 24 rfl rfl
theorem dksX13_readsOfPuppet_3 : cX13_readsOfPuppet.data.toList.drop 71 = dktX13_readsOfPuppet_3 := dk_seg dksX13_readsOfPuppet_2 23 rfl rfl
theorem dksX13_readsOfPuppet_4 : cX13_readsOfPuppet.data.toList.drop 95 = dktX13_readsOfPuppet_4 := dk_seg dksX13_readsOfPuppet_3 24 rfl rfl
theorem dksX13_readsOfPuppet_5 : cX13_readsOfPuppet.data.toList.drop 119 = dktX13_readsOfPuppet_5 := dk_seg dksX13_readsOfPuppet_4 24 rfl rfl
theorem dksX13_readsOfPuppet_6 : cX13_readsOfPuppet.data.toList.drop 143 = dktX13_readsOfPuppet_6 := dk_seg dksX13_readsOfPuppet_5 24 rfl rfl
theorem dX13_readsOfPuppet_0 : decode cX13_readsOfPuppet 0 = .ok (.aload_n 0, 1) := dk_42 (dk_at dksX13_readsOfPuppet_0 0 rfl rfl)
theorem dX13_readsOfPuppet_1 : decode cX13_readsOfPuppet 1 = .ok (.invokevirtual 76, 3) := dk_182 0 76 (dk_at dksX13_readsOfPuppet_0 1 rfl rfl)
theorem dX13_readsOfPuppet_4 : decode cX13_readsOfPuppet 4 = .ok (.istore_n 2, 1) := dk_61 (dk_at dksX13_readsOfPuppet_0 4 rfl rfl)
theorem dX13_readsOfPuppet_5 : decode cX13_readsOfPuppet 5 = .ok (.aload_n 0, 1) := dk_42 (dk_at dksX13_readsOfPuppet_0 5 rfl rfl)
theorem dX13_readsOfPuppet_6 : decode cX13_readsOfPuppet 6 = .ok (.invokevirtual 157, 3) := dk_182 0 157 (dk_at dksX13_readsOfPuppet_0 6 rfl rfl)
theorem dX13_readsOfPuppet_9 : decode cX13_readsOfPuppet 9 = .ok (.istore_n 3, 1) := dk_62 (dk_at dksX13_readsOfPuppet_0 9 rfl rfl)
theorem dX13_readsOfPuppet_10 : decode cX13_readsOfPuppet 10 = .ok (.aload_n 0, 1) := dk_42 (dk_at dksX13_readsOfPuppet_0 10 rfl rfl)
theorem dX13_readsOfPuppet_11 : decode cX13_readsOfPuppet 11 = .ok (.getfield 14, 3) := dk_180 0 14 (dk_at dksX13_readsOfPuppet_0 11 rfl rfl)
theorem dX13_readsOfPuppet_14 : decode cX13_readsOfPuppet 14 = .ok (.getfield 159, 3) := dk_180 0 159 (dk_at dksX13_readsOfPuppet_0 14 rfl rfl)
theorem dX13_readsOfPuppet_17 : decode cX13_readsOfPuppet 17 = .ok (.iload_n 3, 1) := dk_29 (dk_at dksX13_readsOfPuppet_0 17 rfl rfl)
theorem dX13_readsOfPuppet_18 : decode cX13_readsOfPuppet 18 = .ok (.iaload, 1) := dk_46 (dk_at dksX13_readsOfPuppet_0 18 rfl rfl)
theorem dX13_readsOfPuppet_19 : decode cX13_readsOfPuppet 19 = .ok (.iload_n 2, 1) := dk_28 (dk_at dksX13_readsOfPuppet_0 19 rfl rfl)
theorem dX13_readsOfPuppet_20 : decode cX13_readsOfPuppet 20 = .ok (.ishr, 1) := dk_122 (dk_at dksX13_readsOfPuppet_0 20 rfl rfl)
theorem dX13_readsOfPuppet_21 : decode cX13_readsOfPuppet 21 = .ok (.iconst 1, 1) := dk_4 (dk_at dksX13_readsOfPuppet_0 21 rfl rfl)
theorem dX13_readsOfPuppet_22 : decode cX13_readsOfPuppet 22 = .ok (.iand, 1) := dk_126 (dk_at dksX13_readsOfPuppet_0 22 rfl rfl)
theorem dX13_readsOfPuppet_23 : decode cX13_readsOfPuppet 23 = .ok (.iconst 1, 1) := dk_4 (dk_at dksX13_readsOfPuppet_0 23 rfl rfl)
theorem dX13_readsOfPuppet_24 : decode cX13_readsOfPuppet 24 = .ok (.if_icmp .ne 7, 3) := dk_160 0 7 (dk_at dksX13_readsOfPuppet_1 0 rfl rfl)
theorem dX13_readsOfPuppet_27 : decode cX13_readsOfPuppet 27 = .ok (.iconst 1, 1) := dk_4 (dk_at dksX13_readsOfPuppet_1 3 rfl rfl)
theorem dX13_readsOfPuppet_28 : decode cX13_readsOfPuppet 28 = .ok (.goto 4, 3) := dk_167 0 4 (dk_at dksX13_readsOfPuppet_1 4 rfl rfl)
theorem dX13_readsOfPuppet_31 : decode cX13_readsOfPuppet 31 = .ok (.iconst 0, 1) := dk_3 (dk_at dksX13_readsOfPuppet_1 7 rfl rfl)
theorem dX13_readsOfPuppet_32 : decode cX13_readsOfPuppet 32 = .ok (.istore 4, 2) := dk_54 4 (dk_at dksX13_readsOfPuppet_1 8 rfl rfl)
theorem dX13_readsOfPuppet_34 : decode cX13_readsOfPuppet 34 = .ok (.aload_n 1, 1) := dk_43 (dk_at dksX13_readsOfPuppet_1 10 rfl rfl)
theorem dX13_readsOfPuppet_35 : decode cX13_readsOfPuppet 35 = .ok (.ldc 95, 2) := dk_18 95 (dk_at dksX13_readsOfPuppet_1 11 rfl rfl)
theorem dX13_readsOfPuppet_37 : decode cX13_readsOfPuppet 37 = .ok (.invokevirtual 48, 3) := dk_182 0 48 (dk_at dksX13_readsOfPuppet_1 13 rfl rfl)
theorem dX13_readsOfPuppet_40 : decode cX13_readsOfPuppet 40 = .ok (.ifCond .eq 29, 3) := dk_153 0 29 (dk_at dksX13_readsOfPuppet_1 16 rfl rfl)
theorem dX13_readsOfPuppet_43 : decode cX13_readsOfPuppet 43 = .ok (.iload 4, 2) := dk_21 4 (dk_at dksX13_readsOfPuppet_1 19 rfl rfl)
theorem dX13_readsOfPuppet_45 : decode cX13_readsOfPuppet 45 = .ok (.ifCond .eq 8, 3) := dk_153 0 8 (dk_at dksX13_readsOfPuppet_1 21 rfl rfl)
theorem dX13_readsOfPuppet_48 : decode cX13_readsOfPuppet 48 = .ok (.aload_n 0, 1) := dk_42 (dk_at dksX13_readsOfPuppet_2 0 rfl rfl)
theorem dX13_readsOfPuppet_49 : decode cX13_readsOfPuppet 49 = .ok (.invokevirtual 78, 3) := dk_182 0 78 (dk_at dksX13_readsOfPuppet_2 1 rfl rfl)
theorem dX13_readsOfPuppet_52 : decode cX13_readsOfPuppet 52 = .ok (.athrow, 1) := dk_191 (dk_at dksX13_readsOfPuppet_2 4 rfl rfl)
theorem dX13_readsOfPuppet_53 : decode cX13_readsOfPuppet 53 = .ok (.aload_n 0, 1) := dk_42 (dk_at dksX13_readsOfPuppet_2 5 rfl rfl)
theorem dX13_readsOfPuppet_54 : decode cX13_readsOfPuppet 54 = .ok (.getfield 14, 3) := dk_180 0 14 (dk_at dksX13_readsOfPuppet_2 6 rfl rfl)
theorem dX13_readsOfPuppet_57 : decode cX13_readsOfPuppet 57 = .ok (.getfield 162, 3) := dk_180 0 162 (dk_at dksX13_readsOfPuppet_2 9 rfl rfl)
theorem dX13_readsOfPuppet_60 : decode cX13_readsOfPuppet 60 = .ok (.iload_n 3, 1) := dk_29 (dk_at dksX13_readsOfPuppet_2 12 rfl rfl)
theorem dX13_readsOfPuppet_61 : decode cX13_readsOfPuppet 61 = .ok (.dup2, 1) := dk_92 (dk_at dksX13_readsOfPuppet_2 13 rfl rfl)
theorem dX13_readsOfPuppet_62 : decode cX13_readsOfPuppet 62 = .ok (.iaload, 1) := dk_46 (dk_at dksX13_readsOfPuppet_2 14 rfl rfl)
theorem dX13_readsOfPuppet_63 : decode cX13_readsOfPuppet 63 = .ok (.iconst 1, 1) := dk_4 (dk_at dksX13_readsOfPuppet_2 15 rfl rfl)
theorem dX13_readsOfPuppet_64 : decode cX13_readsOfPuppet 64 = .ok (.iload_n 2, 1) := dk_28 (dk_at dksX13_readsOfPuppet_2 16 rfl rfl)
theorem dX13_readsOfPuppet_65 : decode cX13_readsOfPuppet 65 = .ok (.ishl, 1) := dk_120 (dk_at dksX13_readsOfPuppet_2 17 rfl rfl)
theorem dX13_readsOfPuppet_66 : decode cX13_readsOfPuppet 66 = .ok (.ior, 1) := dk_128 (dk_at dksX13_readsOfPuppet_2 18 rfl rfl)
theorem dX13_readsOfPuppet_67 : decode cX13_readsOfPuppet 67 = .ok (.iastore, 1) := dk_79 (dk_at dksX13_readsOfPuppet_2 19 rfl rfl)
theorem dX13_readsOfPuppet_68 : decode cX13_readsOfPuppet 68 = .ok (.return_, 1) := dk_177 (dk_at dksX13_readsOfPuppet_2 20 rfl rfl)
theorem dX13_readsOfPuppet_69 : decode cX13_readsOfPuppet 69 = .ok (.iload 4, 2) := dk_21 4 (dk_at dksX13_readsOfPuppet_2 21 rfl rfl)
theorem dX13_readsOfPuppet_71 : decode cX13_readsOfPuppet 71 = .ok (.ifCond .ne 56, 3) := dk_154 0 56 (dk_at dksX13_readsOfPuppet_3 0 rfl rfl)
theorem dX13_readsOfPuppet_74 : decode cX13_readsOfPuppet 74 = .ok (.aload_n 0, 1) := dk_42 (dk_at dksX13_readsOfPuppet_3 3 rfl rfl)
theorem dX13_readsOfPuppet_75 : decode cX13_readsOfPuppet 75 = .ok (.getfield 14, 3) := dk_180 0 14 (dk_at dksX13_readsOfPuppet_3 4 rfl rfl)
theorem dX13_readsOfPuppet_78 : decode cX13_readsOfPuppet 78 = .ok (.getfield 151, 3) := dk_180 0 151 (dk_at dksX13_readsOfPuppet_3 7 rfl rfl)
theorem dX13_readsOfPuppet_81 : decode cX13_readsOfPuppet 81 = .ok (.iload_n 2, 1) := dk_28 (dk_at dksX13_readsOfPuppet_3 10 rfl rfl)
theorem dX13_readsOfPuppet_82 : decode cX13_readsOfPuppet 82 = .ok (.iaload, 1) := dk_46 (dk_at dksX13_readsOfPuppet_3 11 rfl rfl)
theorem dX13_readsOfPuppet_83 : decode cX13_readsOfPuppet 83 = .ok (.ifCond .gt 44, 3) := dk_157 0 44 (dk_at dksX13_readsOfPuppet_3 12 rfl rfl)
theorem dX13_readsOfPuppet_86 : decode cX13_readsOfPuppet 86 = .ok (.aload_n 0, 1) := dk_42 (dk_at dksX13_readsOfPuppet_3 15 rfl rfl)
theorem dX13_readsOfPuppet_87 : decode cX13_readsOfPuppet 87 = .ok (.getfield 14, 3) := dk_180 0 14 (dk_at dksX13_readsOfPuppet_3 16 rfl rfl)
theorem dX13_readsOfPuppet_90 : decode cX13_readsOfPuppet 90 = .ok (.getfield 162, 3) := dk_180 0 162 (dk_at dksX13_readsOfPuppet_3 19 rfl rfl)
theorem dX13_readsOfPuppet_93 : decode cX13_readsOfPuppet 93 = .ok (.iload_n 3, 1) := dk_29 (dk_at dksX13_readsOfPuppet_3 22 rfl rfl)
theorem dX13_readsOfPuppet_94 : decode cX13_readsOfPuppet 94 = .ok (.iaload, 1) := dk_46 (dk_at dksX13_readsOfPuppet_3 23 rfl rfl)
theorem dX13_readsOfPuppet_95 : decode cX13_readsOfPuppet 95 = .ok (.iload_n 2, 1) := dk_28 (dk_at dksX13_readsOfPuppet_4 0 rfl rfl)
theorem dX13_readsOfPuppet_96 : decode cX13_readsOfPuppet 96 = .ok (.ishr, 1) := dk_122 (dk_at dksX13_readsOfPuppet_4 1 rfl rfl)
theorem dX13_readsOfPuppet_97 : decode cX13_readsOfPuppet 97 = .ok (.iconst 1, 1) := dk_4 (dk_at dksX13_readsOfPuppet_4 2 rfl rfl)
theorem dX13_readsOfPuppet_98 : decode cX13_readsOfPuppet 98 = .ok (.iand, 1) := dk_126 (dk_at dksX13_readsOfPuppet_4 3 rfl rfl)
theorem dX13_readsOfPuppet_99 : decode cX13_readsOfPuppet 99 = .ok (.iconst 1, 1) := dk_4 (dk_at dksX13_readsOfPuppet_4 4 rfl rfl)
theorem dX13_readsOfPuppet_100 : decode cX13_readsOfPuppet 100 = .ok (.if_icmp .eq 27, 3) := dk_159 0 27 (dk_at dksX13_readsOfPuppet_4 5 rfl rfl)
theorem dX13_readsOfPuppet_103 : decode cX13_readsOfPuppet 103 = .ok (.aload_n 0, 1) := dk_42 (dk_at dksX13_readsOfPuppet_4 8 rfl rfl)
theorem dX13_readsOfPuppet_104 : decode cX13_readsOfPuppet 104 = .ok (.getfield 14, 3) := dk_180 0 14 (dk_at dksX13_readsOfPuppet_4 9 rfl rfl)
theorem dX13_readsOfPuppet_107 : decode cX13_readsOfPuppet 107 = .ok (.getfield 159, 3) := dk_180 0 159 (dk_at dksX13_readsOfPuppet_4 12 rfl rfl)
theorem dX13_readsOfPuppet_110 : decode cX13_readsOfPuppet 110 = .ok (.iload_n 3, 1) := dk_29 (dk_at dksX13_readsOfPuppet_4 15 rfl rfl)
theorem dX13_readsOfPuppet_111 : decode cX13_readsOfPuppet 111 = .ok (.iaload, 1) := dk_46 (dk_at dksX13_readsOfPuppet_4 16 rfl rfl)
theorem dX13_readsOfPuppet_112 : decode cX13_readsOfPuppet 112 = .ok (.invokestatic 165, 3) := dk_184 0 165 (dk_at dksX13_readsOfPuppet_4 17 rfl rfl)
theorem dX13_readsOfPuppet_115 : decode cX13_readsOfPuppet 115 = .ok (.aload_n 0, 1) := dk_42 (dk_at dksX13_readsOfPuppet_4 20 rfl rfl)
theorem dX13_readsOfPuppet_116 : decode cX13_readsOfPuppet 116 = .ok (.getfield 14, 3) := dk_180 0 14 (dk_at dksX13_readsOfPuppet_4 21 rfl rfl)
theorem dX13_readsOfPuppet_119 : decode cX13_readsOfPuppet 119 = .ok (.getfield 120, 3) := dk_180 0 120 (dk_at dksX13_readsOfPuppet_5 0 rfl rfl)
theorem dX13_readsOfPuppet_122 : decode cX13_readsOfPuppet 122 = .ok (.iload_n 3, 1) := dk_29 (dk_at dksX13_readsOfPuppet_5 3 rfl rfl)
theorem dX13_readsOfPuppet_123 : decode cX13_readsOfPuppet 123 = .ok (.iaload, 1) := dk_46 (dk_at dksX13_readsOfPuppet_5 4 rfl rfl)
theorem dX13_readsOfPuppet_124 : decode cX13_readsOfPuppet 124 = .ok (.if_icmp .ne 8, 3) := dk_160 0 8 (dk_at dksX13_readsOfPuppet_5 5 rfl rfl)
theorem dX13_readsOfPuppet_127 : decode cX13_readsOfPuppet 127 = .ok (.aload_n 0, 1) := dk_42 (dk_at dksX13_readsOfPuppet_5 8 rfl rfl)
theorem dX13_readsOfPuppet_128 : decode cX13_readsOfPuppet 128 = .ok (.invokevirtual 78, 3) := dk_182 0 78 (dk_at dksX13_readsOfPuppet_5 9 rfl rfl)
theorem dX13_readsOfPuppet_131 : decode cX13_readsOfPuppet 131 = .ok (.athrow, 1) := dk_191 (dk_at dksX13_readsOfPuppet_5 12 rfl rfl)
theorem dX13_readsOfPuppet_132 : decode cX13_readsOfPuppet 132 = .ok (.aload_n 0, 1) := dk_42 (dk_at dksX13_readsOfPuppet_5 13 rfl rfl)
theorem dX13_readsOfPuppet_133 : decode cX13_readsOfPuppet 133 = .ok (.getfield 14, 3) := dk_180 0 14 (dk_at dksX13_readsOfPuppet_5 14 rfl rfl)
theorem dX13_readsOfPuppet_136 : decode cX13_readsOfPuppet 136 = .ok (.getfield 159, 3) := dk_180 0 159 (dk_at dksX13_readsOfPuppet_5 17 rfl rfl)
theorem dX13_readsOfPuppet_139 : decode cX13_readsOfPuppet 139 = .ok (.iload_n 3, 1) := dk_29 (dk_at dksX13_readsOfPuppet_5 20 rfl rfl)
theorem dX13_readsOfPuppet_140 : decode cX13_readsOfPuppet 140 = .ok (.dup2, 1) := dk_92 (dk_at dksX13_readsOfPuppet_5 21 rfl rfl)
theorem dX13_readsOfPuppet_141 : decode cX13_readsOfPuppet 141 = .ok (.iaload, 1) := dk_46 (dk_at dksX13_readsOfPuppet_5 22 rfl rfl)
theorem dX13_readsOfPuppet_142 : decode cX13_readsOfPuppet 142 = .ok (.iconst 1, 1) := dk_4 (dk_at dksX13_readsOfPuppet_5 23 rfl rfl)
theorem dX13_readsOfPuppet_143 : decode cX13_readsOfPuppet 143 = .ok (.iload_n 2, 1) := dk_28 (dk_at dksX13_readsOfPuppet_6 0 rfl rfl)
theorem dX13_readsOfPuppet_144 : decode cX13_readsOfPuppet 144 = .ok (.ishl, 1) := dk_120 (dk_at dksX13_readsOfPuppet_6 1 rfl rfl)
theorem dX13_readsOfPuppet_145 : decode cX13_readsOfPuppet 145 = .ok (.ior, 1) := dk_128 (dk_at dksX13_readsOfPuppet_6 2 rfl rfl)
theorem dX13_readsOfPuppet_146 : decode cX13_readsOfPuppet 146 = .ok (.iastore, 1) := dk_79 (dk_at dksX13_readsOfPuppet_6 3 rfl rfl)
theorem dX13_readsOfPuppet_147 : decode cX13_readsOfPuppet 147 = .ok (.return_, 1) := dk_177 (dk_at dksX13_readsOfPuppet_6 4 rfl rfl)
abbrev cX13_hand : ByteArray := prog_6_method_4_code
def yX13_hand : MethodName := ⟨RX13, "hand", "()I"⟩
def dkwX13_hand_0 : List UInt8 := [42, 3, 42, 180, 0, 14, 180, 0, 54, 4, 100, 182, 0, 72, 172]
abbrev dktX13_hand_0 : List UInt8 := dkwX13_hand_0 ++ []
theorem dksX13_hand_0 : cX13_hand.data.toList.drop 0 = dktX13_hand_0 := by decide +kernel
theorem dX13_hand_0 : decode cX13_hand 0 = .ok (.aload_n 0, 1) := dk_42 (dk_at dksX13_hand_0 0 rfl rfl)
theorem dX13_hand_1 : decode cX13_hand 1 = .ok (.iconst 0, 1) := dk_3 (dk_at dksX13_hand_0 1 rfl rfl)
theorem dX13_hand_2 : decode cX13_hand 2 = .ok (.aload_n 0, 1) := dk_42 (dk_at dksX13_hand_0 2 rfl rfl)
theorem dX13_hand_3 : decode cX13_hand 3 = .ok (.getfield 14, 3) := dk_180 0 14 (dk_at dksX13_hand_0 3 rfl rfl)
theorem dX13_hand_6 : decode cX13_hand 6 = .ok (.getfield 54, 3) := dk_180 0 54 (dk_at dksX13_hand_0 6 rfl rfl)
theorem dX13_hand_9 : decode cX13_hand 9 = .ok (.iconst 1, 1) := dk_4 (dk_at dksX13_hand_0 9 rfl rfl)
theorem dX13_hand_10 : decode cX13_hand 10 = .ok (.isub, 1) := dk_100 (dk_at dksX13_hand_0 10 rfl rfl)
theorem dX13_hand_11 : decode cX13_hand 11 = .ok (.invokevirtual 72, 3) := dk_182 0 72 (dk_at dksX13_hand_0 11 rfl rfl)
theorem dX13_hand_14 : decode cX13_hand 14 = .ok (.ireturn, 1) := dk_172 (dk_at dksX13_hand_0 14 rfl rfl)
abbrev cX13_puppet : ByteArray := prog_6_method_7_code
def yX13_puppet : MethodName := ⟨RX13, "puppet", "()I"⟩
def dkwX13_puppet_0 : List UInt8 := [42, 3, 42, 180, 0, 14, 180, 0, 59, 4, 100, 182, 0, 72, 172]
abbrev dktX13_puppet_0 : List UInt8 := dkwX13_puppet_0 ++ []
theorem dksX13_puppet_0 : cX13_puppet.data.toList.drop 0 = dktX13_puppet_0 := by decide +kernel
theorem dX13_puppet_0 : decode cX13_puppet 0 = .ok (.aload_n 0, 1) := dk_42 (dk_at dksX13_puppet_0 0 rfl rfl)
theorem dX13_puppet_1 : decode cX13_puppet 1 = .ok (.iconst 0, 1) := dk_3 (dk_at dksX13_puppet_0 1 rfl rfl)
theorem dX13_puppet_2 : decode cX13_puppet 2 = .ok (.aload_n 0, 1) := dk_42 (dk_at dksX13_puppet_0 2 rfl rfl)
theorem dX13_puppet_3 : decode cX13_puppet 3 = .ok (.getfield 14, 3) := dk_180 0 14 (dk_at dksX13_puppet_0 3 rfl rfl)
theorem dX13_puppet_6 : decode cX13_puppet 6 = .ok (.getfield 59, 3) := dk_180 0 59 (dk_at dksX13_puppet_0 6 rfl rfl)
theorem dX13_puppet_9 : decode cX13_puppet 9 = .ok (.iconst 1, 1) := dk_4 (dk_at dksX13_puppet_0 9 rfl rfl)
theorem dX13_puppet_10 : decode cX13_puppet 10 = .ok (.isub, 1) := dk_100 (dk_at dksX13_puppet_0 10 rfl rfl)
theorem dX13_puppet_11 : decode cX13_puppet 11 = .ok (.invokevirtual 72, 3) := dk_182 0 72 (dk_at dksX13_puppet_0 11 rfl rfl)
theorem dX13_puppet_14 : decode cX13_puppet 14 = .ok (.ireturn, 1) := dk_172 (dk_at dksX13_puppet_0 14 rfl rfl)
abbrev cX13_other : ByteArray := prog_6_method_5_code
def yX13_other : MethodName := ⟨RX13, "other", "(I)I"⟩
def dkwX13_other_0 : List UInt8 := [42, 182, 0, 76, 61, 28, 27, 160, 0, 8, 42, 182, 0, 78, 191, 28, 172]
abbrev dktX13_other_0 : List UInt8 := dkwX13_other_0 ++ []
theorem dksX13_other_0 : cX13_other.data.toList.drop 0 = dktX13_other_0 := by decide +kernel
theorem dX13_other_0 : decode cX13_other 0 = .ok (.aload_n 0, 1) := dk_42 (dk_at dksX13_other_0 0 rfl rfl)
theorem dX13_other_1 : decode cX13_other 1 = .ok (.invokevirtual 76, 3) := dk_182 0 76 (dk_at dksX13_other_0 1 rfl rfl)
theorem dX13_other_4 : decode cX13_other 4 = .ok (.istore_n 2, 1) := dk_61 (dk_at dksX13_other_0 4 rfl rfl)
theorem dX13_other_5 : decode cX13_other 5 = .ok (.iload_n 2, 1) := dk_28 (dk_at dksX13_other_0 5 rfl rfl)
theorem dX13_other_6 : decode cX13_other 6 = .ok (.iload_n 1, 1) := dk_27 (dk_at dksX13_other_0 6 rfl rfl)
theorem dX13_other_7 : decode cX13_other 7 = .ok (.if_icmp .ne 8, 3) := dk_160 0 8 (dk_at dksX13_other_0 7 rfl rfl)
theorem dX13_other_10 : decode cX13_other 10 = .ok (.aload_n 0, 1) := dk_42 (dk_at dksX13_other_0 10 rfl rfl)
theorem dX13_other_11 : decode cX13_other 11 = .ok (.invokevirtual 78, 3) := dk_182 0 78 (dk_at dksX13_other_0 11 rfl rfl)
theorem dX13_other_14 : decode cX13_other 14 = .ok (.athrow, 1) := dk_191 (dk_at dksX13_other_0 14 rfl rfl)
theorem dX13_other_15 : decode cX13_other 15 = .ok (.iload_n 2, 1) := dk_28 (dk_at dksX13_other_0 15 rfl rfl)
theorem dX13_other_16 : decode cX13_other 16 = .ok (.ireturn, 1) := dk_172 (dk_at dksX13_other_0 16 rfl rfl)
abbrev cX13_readsAct : ByteArray := prog_6_method_11_code
def yX13_readsAct : MethodName := ⟨RX13, "readsAct", "()V"⟩
def dkwX13_readsAct_5 : List UInt8 := [181, 0, 24, 42, 180, 0, 14, 180, 0, 64, 43, 182, 0, 185, 87, 177]
abbrev dktX13_readsAct_5 : List UInt8 := dkwX13_readsAct_5 ++ []
def dkwX13_readsAct_4 : List UInt8 := [182, 0, 31, 18, 183, 182, 0, 48, 154, 0, 8, 42, 182, 0, 103, 191, 42, 89, 180, 0, 24, 6, 96]
abbrev dktX13_readsAct_4 : List UInt8 := dkwX13_readsAct_4 ++ dktX13_readsAct_5
def dkwX13_readsAct_3 : List UInt8 := [180, 0, 84, 183, 0, 87, 191, 43, 28, 182, 0, 180, 167, 255, 189, 43, 180, 0, 177, 153, 0, 15, 42]
abbrev dktX13_readsAct_3 : List UInt8 := dkwX13_readsAct_3 ++ dktX13_readsAct_4
def dkwX13_readsAct_2 : List UInt8 := [160, 0, 8, 42, 182, 0, 78, 191, 43, 180, 0, 177, 16, 6, 160, 0, 16, 187, 0, 82, 89, 6, 42]
abbrev dktX13_readsAct_2 : List UInt8 := dkwX13_readsAct_2 ++ dktX13_readsAct_3
def dkwX13_readsAct_1 : List UInt8 := [42, 182, 0, 20, 16, 57, 163, 0, 55, 42, 182, 0, 157, 61, 43, 180, 0, 174, 28, 122, 4, 126, 4]
abbrev dktX13_readsAct_1 : List UInt8 := dkwX13_readsAct_1 ++ dktX13_readsAct_2
def dkwX13_readsAct_0 : List UInt8 := [187, 0, 170, 89, 42, 3, 16, 9, 182, 0, 72, 183, 0, 172, 76, 42, 182, 0, 20, 16, 48, 161, 0, 64]
abbrev dktX13_readsAct_0 : List UInt8 := dkwX13_readsAct_0 ++ dktX13_readsAct_1
theorem dksX13_readsAct_0 : cX13_readsAct.data.toList.drop 0 = dktX13_readsAct_0 := by decide +kernel
theorem dksX13_readsAct_1 : cX13_readsAct.data.toList.drop 24 = dktX13_readsAct_1 := dk_seg dksX13_readsAct_0 24 rfl rfl
theorem dksX13_readsAct_2 : cX13_readsAct.data.toList.drop 47 = dktX13_readsAct_2 := dk_seg dksX13_readsAct_1 23 rfl rfl
theorem dksX13_readsAct_3 : cX13_readsAct.data.toList.drop 70 = dktX13_readsAct_3 := dk_seg dksX13_readsAct_2 23 rfl rfl
theorem dksX13_readsAct_4 : cX13_readsAct.data.toList.drop 93 = dktX13_readsAct_4 := dk_seg dksX13_readsAct_3 23 rfl rfl
theorem dksX13_readsAct_5 : cX13_readsAct.data.toList.drop 116 = dktX13_readsAct_5 := dk_seg dksX13_readsAct_4 23 rfl rfl
theorem dX13_readsAct_0 : decode cX13_readsAct 0 = .ok (.new 170, 3) := dk_187 0 170 (dk_at dksX13_readsAct_0 0 rfl rfl)
theorem dX13_readsAct_3 : decode cX13_readsAct 3 = .ok (.dup, 1) := dk_89 (dk_at dksX13_readsAct_0 3 rfl rfl)
theorem dX13_readsAct_4 : decode cX13_readsAct 4 = .ok (.aload_n 0, 1) := dk_42 (dk_at dksX13_readsAct_0 4 rfl rfl)
theorem dX13_readsAct_5 : decode cX13_readsAct 5 = .ok (.iconst 0, 1) := dk_3 (dk_at dksX13_readsAct_0 5 rfl rfl)
theorem dX13_readsAct_6 : decode cX13_readsAct 6 = .ok (.bipush 9, 2) := dk_16 9 (dk_at dksX13_readsAct_0 6 rfl rfl)
theorem dX13_readsAct_8 : decode cX13_readsAct 8 = .ok (.invokevirtual 72, 3) := dk_182 0 72 (dk_at dksX13_readsAct_0 8 rfl rfl)
theorem dX13_readsAct_11 : decode cX13_readsAct 11 = .ok (.invokespecial 172, 3) := dk_183 0 172 (dk_at dksX13_readsAct_0 11 rfl rfl)
theorem dX13_readsAct_14 : decode cX13_readsAct 14 = .ok (.astore_n 1, 1) := dk_76 (dk_at dksX13_readsAct_0 14 rfl rfl)
theorem dX13_readsAct_15 : decode cX13_readsAct 15 = .ok (.aload_n 0, 1) := dk_42 (dk_at dksX13_readsAct_0 15 rfl rfl)
theorem dX13_readsAct_16 : decode cX13_readsAct 16 = .ok (.invokevirtual 20, 3) := dk_182 0 20 (dk_at dksX13_readsAct_0 16 rfl rfl)
theorem dX13_readsAct_19 : decode cX13_readsAct 19 = .ok (.bipush 48, 2) := dk_16 48 (dk_at dksX13_readsAct_0 19 rfl rfl)
theorem dX13_readsAct_21 : decode cX13_readsAct 21 = .ok (.if_icmp .lt 64, 3) := dk_161 0 64 (dk_at dksX13_readsAct_0 21 rfl rfl)
theorem dX13_readsAct_24 : decode cX13_readsAct 24 = .ok (.aload_n 0, 1) := dk_42 (dk_at dksX13_readsAct_1 0 rfl rfl)
theorem dX13_readsAct_25 : decode cX13_readsAct 25 = .ok (.invokevirtual 20, 3) := dk_182 0 20 (dk_at dksX13_readsAct_1 1 rfl rfl)
theorem dX13_readsAct_28 : decode cX13_readsAct 28 = .ok (.bipush 57, 2) := dk_16 57 (dk_at dksX13_readsAct_1 4 rfl rfl)
theorem dX13_readsAct_30 : decode cX13_readsAct 30 = .ok (.if_icmp .gt 55, 3) := dk_163 0 55 (dk_at dksX13_readsAct_1 6 rfl rfl)
theorem dX13_readsAct_33 : decode cX13_readsAct 33 = .ok (.aload_n 0, 1) := dk_42 (dk_at dksX13_readsAct_1 9 rfl rfl)
theorem dX13_readsAct_34 : decode cX13_readsAct 34 = .ok (.invokevirtual 157, 3) := dk_182 0 157 (dk_at dksX13_readsAct_1 10 rfl rfl)
theorem dX13_readsAct_37 : decode cX13_readsAct 37 = .ok (.istore_n 2, 1) := dk_61 (dk_at dksX13_readsAct_1 13 rfl rfl)
theorem dX13_readsAct_38 : decode cX13_readsAct 38 = .ok (.aload_n 1, 1) := dk_43 (dk_at dksX13_readsAct_1 14 rfl rfl)
theorem dX13_readsAct_39 : decode cX13_readsAct 39 = .ok (.getfield 174, 3) := dk_180 0 174 (dk_at dksX13_readsAct_1 15 rfl rfl)
theorem dX13_readsAct_42 : decode cX13_readsAct 42 = .ok (.iload_n 2, 1) := dk_28 (dk_at dksX13_readsAct_1 18 rfl rfl)
theorem dX13_readsAct_43 : decode cX13_readsAct 43 = .ok (.ishr, 1) := dk_122 (dk_at dksX13_readsAct_1 19 rfl rfl)
theorem dX13_readsAct_44 : decode cX13_readsAct 44 = .ok (.iconst 1, 1) := dk_4 (dk_at dksX13_readsAct_1 20 rfl rfl)
theorem dX13_readsAct_45 : decode cX13_readsAct 45 = .ok (.iand, 1) := dk_126 (dk_at dksX13_readsAct_1 21 rfl rfl)
theorem dX13_readsAct_46 : decode cX13_readsAct 46 = .ok (.iconst 1, 1) := dk_4 (dk_at dksX13_readsAct_1 22 rfl rfl)
theorem dX13_readsAct_47 : decode cX13_readsAct 47 = .ok (.if_icmp .ne 8, 3) := dk_160 0 8 (dk_at dksX13_readsAct_2 0 rfl rfl)
theorem dX13_readsAct_50 : decode cX13_readsAct 50 = .ok (.aload_n 0, 1) := dk_42 (dk_at dksX13_readsAct_2 3 rfl rfl)
theorem dX13_readsAct_51 : decode cX13_readsAct 51 = .ok (.invokevirtual 78, 3) := dk_182 0 78 (dk_at dksX13_readsAct_2 4 rfl rfl)
theorem dX13_readsAct_54 : decode cX13_readsAct 54 = .ok (.athrow, 1) := dk_191 (dk_at dksX13_readsAct_2 7 rfl rfl)
theorem dX13_readsAct_55 : decode cX13_readsAct 55 = .ok (.aload_n 1, 1) := dk_43 (dk_at dksX13_readsAct_2 8 rfl rfl)
theorem dX13_readsAct_56 : decode cX13_readsAct 56 = .ok (.getfield 177, 3) := dk_180 0 177 (dk_at dksX13_readsAct_2 9 rfl rfl)
theorem dX13_readsAct_59 : decode cX13_readsAct 59 = .ok (.bipush 6, 2) := dk_16 6 (dk_at dksX13_readsAct_2 12 rfl rfl)
theorem dX13_readsAct_61 : decode cX13_readsAct 61 = .ok (.if_icmp .ne 16, 3) := dk_160 0 16 (dk_at dksX13_readsAct_2 14 rfl rfl)
theorem dX13_readsAct_64 : decode cX13_readsAct 64 = .ok (.new 82, 3) := dk_187 0 82 (dk_at dksX13_readsAct_2 17 rfl rfl)
theorem dX13_readsAct_67 : decode cX13_readsAct 67 = .ok (.dup, 1) := dk_89 (dk_at dksX13_readsAct_2 20 rfl rfl)
theorem dX13_readsAct_68 : decode cX13_readsAct 68 = .ok (.iconst 3, 1) := dk_6 (dk_at dksX13_readsAct_2 21 rfl rfl)
theorem dX13_readsAct_69 : decode cX13_readsAct 69 = .ok (.aload_n 0, 1) := dk_42 (dk_at dksX13_readsAct_2 22 rfl rfl)
theorem dX13_readsAct_70 : decode cX13_readsAct 70 = .ok (.getfield 84, 3) := dk_180 0 84 (dk_at dksX13_readsAct_3 0 rfl rfl)
theorem dX13_readsAct_73 : decode cX13_readsAct 73 = .ok (.invokespecial 87, 3) := dk_183 0 87 (dk_at dksX13_readsAct_3 3 rfl rfl)
theorem dX13_readsAct_76 : decode cX13_readsAct 76 = .ok (.athrow, 1) := dk_191 (dk_at dksX13_readsAct_3 6 rfl rfl)
theorem dX13_readsAct_77 : decode cX13_readsAct 77 = .ok (.aload_n 1, 1) := dk_43 (dk_at dksX13_readsAct_3 7 rfl rfl)
theorem dX13_readsAct_78 : decode cX13_readsAct 78 = .ok (.iload_n 2, 1) := dk_28 (dk_at dksX13_readsAct_3 8 rfl rfl)
theorem dX13_readsAct_79 : decode cX13_readsAct 79 = .ok (.invokevirtual 180, 3) := dk_182 0 180 (dk_at dksX13_readsAct_3 9 rfl rfl)
theorem dX13_readsAct_82 : decode cX13_readsAct 82 = .ok (.goto (-67), 3) := dk_167 255 189 (dk_at dksX13_readsAct_3 12 rfl rfl)
theorem dX13_readsAct_85 : decode cX13_readsAct 85 = .ok (.aload_n 1, 1) := dk_43 (dk_at dksX13_readsAct_3 15 rfl rfl)
theorem dX13_readsAct_86 : decode cX13_readsAct 86 = .ok (.getfield 177, 3) := dk_180 0 177 (dk_at dksX13_readsAct_3 16 rfl rfl)
theorem dX13_readsAct_89 : decode cX13_readsAct 89 = .ok (.ifCond .eq 15, 3) := dk_153 0 15 (dk_at dksX13_readsAct_3 19 rfl rfl)
theorem dX13_readsAct_92 : decode cX13_readsAct 92 = .ok (.aload_n 0, 1) := dk_42 (dk_at dksX13_readsAct_3 22 rfl rfl)
theorem dX13_readsAct_93 : decode cX13_readsAct 93 = .ok (.invokevirtual 31, 3) := dk_182 0 31 (dk_at dksX13_readsAct_4 0 rfl rfl)
theorem dX13_readsAct_96 : decode cX13_readsAct 96 = .ok (.ldc 183, 2) := dk_18 183 (dk_at dksX13_readsAct_4 3 rfl rfl)
theorem dX13_readsAct_98 : decode cX13_readsAct 98 = .ok (.invokevirtual 48, 3) := dk_182 0 48 (dk_at dksX13_readsAct_4 5 rfl rfl)
theorem dX13_readsAct_101 : decode cX13_readsAct 101 = .ok (.ifCond .ne 8, 3) := dk_154 0 8 (dk_at dksX13_readsAct_4 8 rfl rfl)
theorem dX13_readsAct_104 : decode cX13_readsAct 104 = .ok (.aload_n 0, 1) := dk_42 (dk_at dksX13_readsAct_4 11 rfl rfl)
theorem dX13_readsAct_105 : decode cX13_readsAct 105 = .ok (.invokevirtual 103, 3) := dk_182 0 103 (dk_at dksX13_readsAct_4 12 rfl rfl)
theorem dX13_readsAct_108 : decode cX13_readsAct 108 = .ok (.athrow, 1) := dk_191 (dk_at dksX13_readsAct_4 15 rfl rfl)
theorem dX13_readsAct_109 : decode cX13_readsAct 109 = .ok (.aload_n 0, 1) := dk_42 (dk_at dksX13_readsAct_4 16 rfl rfl)
theorem dX13_readsAct_110 : decode cX13_readsAct 110 = .ok (.dup, 1) := dk_89 (dk_at dksX13_readsAct_4 17 rfl rfl)
theorem dX13_readsAct_111 : decode cX13_readsAct 111 = .ok (.getfield 24, 3) := dk_180 0 24 (dk_at dksX13_readsAct_4 18 rfl rfl)
theorem dX13_readsAct_114 : decode cX13_readsAct 114 = .ok (.iconst 3, 1) := dk_6 (dk_at dksX13_readsAct_4 21 rfl rfl)
theorem dX13_readsAct_115 : decode cX13_readsAct 115 = .ok (.iadd, 1) := dk_96 (dk_at dksX13_readsAct_4 22 rfl rfl)
theorem dX13_readsAct_116 : decode cX13_readsAct 116 = .ok (.putfield 24, 3) := dk_181 0 24 (dk_at dksX13_readsAct_5 0 rfl rfl)
theorem dX13_readsAct_119 : decode cX13_readsAct 119 = .ok (.aload_n 0, 1) := dk_42 (dk_at dksX13_readsAct_5 3 rfl rfl)
theorem dX13_readsAct_120 : decode cX13_readsAct 120 = .ok (.getfield 14, 3) := dk_180 0 14 (dk_at dksX13_readsAct_5 4 rfl rfl)
theorem dX13_readsAct_123 : decode cX13_readsAct 123 = .ok (.getfield 64, 3) := dk_180 0 64 (dk_at dksX13_readsAct_5 7 rfl rfl)
theorem dX13_readsAct_126 : decode cX13_readsAct 126 = .ok (.aload_n 1, 1) := dk_43 (dk_at dksX13_readsAct_5 10 rfl rfl)
theorem dX13_readsAct_127 : decode cX13_readsAct 127 = .ok (.invokevirtual 185, 3) := dk_182 0 185 (dk_at dksX13_readsAct_5 11 rfl rfl)
theorem dX13_readsAct_130 : decode cX13_readsAct 130 = .ok (.pop, 1) := dk_87 (dk_at dksX13_readsAct_5 14 rfl rfl)
theorem dX13_readsAct_131 : decode cX13_readsAct 131 = .ok (.return_, 1) := dk_177 (dk_at dksX13_readsAct_5 15 rfl rfl)
theorem q147 : (Jvm.Cond.initialized "PuppetHeirs$FamilyReader") ∈ lw_all := lw_g (lw_at lw_m1 32 rfl) rfl
theorem q517 : (Jvm.Cond.fieldLinkNest "PuppetHeirs$FamilyReader" (148 : Nat) "PuppetHeirs$Told" "limp" "[I" "PuppetHeirs") ∈ lw_tbl := lw_at lw_m2 162 rfl
theorem q520 : (Jvm.Cond.fieldLinkNest "PuppetHeirs$FamilyReader" (151 : Nat) "PuppetHeirs$Told" "born" "[I" "PuppetHeirs") ∈ lw_tbl := lw_at lw_m2 165 rfl
theorem q523 : (Jvm.Cond.fieldLinkNest "PuppetHeirs$FamilyReader" (154 : Nat) "PuppetHeirs$Told" "dies" "[I" "PuppetHeirs") ∈ lw_tbl := lw_at lw_m2 168 rfl
theorem q527 : (Jvm.Cond.fieldLinkNest "PuppetHeirs$FamilyReader" (133 : Nat) "PuppetHeirs$Told" "silent" "[I" "PuppetHeirs") ∈ lw_tbl := lw_at lw_m2 172 rfl
theorem q530 : (Jvm.Cond.fieldLinkNest "PuppetHeirs$FamilyReader" (138 : Nat) "PuppetHeirs$Told" "wood" "[I" "PuppetHeirs") ∈ lw_tbl := lw_at lw_m2 175 rfl
theorem q533 : (Jvm.Cond.fieldLinkNest "PuppetHeirs$FamilyReader" (116 : Nat) "PuppetHeirs$Told" "fall" "[I" "PuppetHeirs") ∈ lw_tbl := lw_at lw_m2 178 rfl
theorem q538 : (Jvm.Cond.fieldLinkNest "PuppetHeirs$FamilyReader" (120 : Nat) "PuppetHeirs$Told" "needs" "[I" "PuppetHeirs") ∈ lw_tbl := lw_at lw_m2 183 rfl
theorem q542 : (Jvm.Cond.fieldLinkNest "PuppetHeirs$FamilyReader" (123 : Nat) "PuppetHeirs$Told" "strings" "[I" "PuppetHeirs") ∈ lw_tbl := lw_at lw_m2 187 rfl
theorem q545 : (Jvm.Cond.fieldLinkNest "PuppetHeirs$FamilyReader" (159 : Nat) "PuppetHeirs$Told" "first" "[I" "PuppetHeirs") ∈ lw_tbl := lw_at lw_m2 190 rfl
theorem q548 : (Jvm.Cond.fieldLinkNest "PuppetHeirs$FamilyReader" (162 : Nat) "PuppetHeirs$Told" "quarrels" "[I" "PuppetHeirs") ∈ lw_tbl := lw_at lw_m2 193 rfl
theorem q551 : (Jvm.Cond.fieldLinkNest "PuppetHeirs$FamilyReader" (64 : Nat) "PuppetHeirs$Told" "acts" "Ljava/util/ArrayList;" "PuppetHeirs") ∈ lw_tbl := lw_at lw_m2 196 rfl
theorem q555 : (Jvm.Cond.fieldLinkNest "PuppetHeirs$FamilyReader" (54 : Nat) "PuppetHeirs$Told" "hands" "I" "PuppetHeirs") ∈ lw_tbl := lw_at lw_m2 200 rfl
theorem q558 : (Jvm.Cond.fieldLinkNest "PuppetHeirs$FamilyReader" (59 : Nat) "PuppetHeirs$Told" "puppets" "I" "PuppetHeirs") ∈ lw_tbl := lw_at lw_m2 203 rfl
theorem q562 : (Jvm.Cond.fieldLinkNest "PuppetHeirs$FamilyReader" (146 : Nat) "PuppetHeirs$Told" "wear" "I" "PuppetHeirs") ∈ lw_tbl := lw_at lw_m2 207 rfl
theorem q564 : (Jvm.Cond.fieldLinkNest "PuppetHeirs$FamilyReader" (43 : Nat) "PuppetHeirs$Told" "clauses" "I" "PuppetHeirs") ∈ lw_tbl := lw_at lw_m2 209 rfl
theorem q1046 : (Jvm.Cond.instantiable "PuppetHeirs$FamilyReader" (6 : Nat)) ∈ lw_all := lw_g (lw_at lw_m4 211 rfl) rfl
theorem q1048 : (Jvm.Cond.instanceMethod ({ cls := "PuppetHeirs$FamilyReader", name := "<init>", desc := "([BI)V" } : Jvm.MethodName)) ∈ lw_all := lw_g (lw_at lw_m4 213 rfl) rfl
theorem q1049 : (Jvm.Cond.code ({ cls := "PuppetHeirs$FamilyReader", name := "<init>", desc := "([BI)V" } : Jvm.MethodName) prog_6_method_1_code (3 : Nat) (Option.none : Option Jvm.ClassFile.FieldType)) ∈ lw_all := lw_g (lw_at lw_m4 214 rfl) rfl
theorem q1050 : (Jvm.Cond.methodLink "PuppetHeirs$FamilyReader" (3 : Nat) ({ cls := "PuppetHeirs$Reader", name := "<init>", desc := "([BI)V" } : Jvm.MethodName)) ∈ lw_all := lw_g (lw_at lw_m4 215 rfl) rfl
theorem q1054 : (Jvm.Cond.classLink "PuppetHeirs$FamilyReader" (9 : Nat) "PuppetHeirs$Told") ∈ lw_all := lw_g (lw_at lw_m4 219 rfl) rfl
theorem q1055 : (Jvm.Cond.methodLinkNest "PuppetHeirs$FamilyReader" (11 : Nat) ({ cls := "PuppetHeirs$Told", name := "<init>", desc := "()V" } : Jvm.MethodName) "PuppetHeirs") ∈ lw_tbl := lw_at lw_m4 220 rfl
theorem q1056 : (Jvm.Cond.fieldLink "PuppetHeirs$FamilyReader" (14 : Nat) "PuppetHeirs$FamilyReader" "t" "LPuppetHeirs$Told;") ∈ lw_all := lw_g (lw_at lw_m4 221 rfl) rfl
theorem q1059 : (Jvm.Cond.fieldLink "PuppetHeirs$FamilyReader" (28 : Nat) "PuppetHeirs$FamilyReader" "size" "I") ∈ lw_all := lw_g (lw_at lw_m4 224 rfl) rfl
theorem q1060 : (Jvm.Cond.sameField "PuppetHeirs$FamilyReader" "PuppetHeirs$Reader" "size" "I") ∈ lw_all := lw_g (lw_at lw_m4 225 rfl) rfl
theorem q1066 : (Jvm.Cond.fieldLink "PuppetHeirs$FamilyReader" (24 : Nat) "PuppetHeirs$FamilyReader" "next" "I") ∈ lw_all := lw_g (lw_at lw_m4 231 rfl) rfl
theorem q1067 : (Jvm.Cond.sameField "PuppetHeirs$FamilyReader" "PuppetHeirs$Reader" "next" "I") ∈ lw_all := lw_g (lw_at lw_m4 232 rfl) rfl
theorem q1074 : (Jvm.Cond.fieldLink "PuppetHeirs$FamilyReader" (84 : Nat) "PuppetHeirs$FamilyReader" "from" "I") ∈ lw_all := lw_g (lw_at lw_m4 239 rfl) rfl
theorem q1075 : (Jvm.Cond.sameField "PuppetHeirs$FamilyReader" "PuppetHeirs$Reader" "from" "I") ∈ lw_all := lw_g (lw_at lw_m5 0 rfl) rfl
theorem q1080 : (Jvm.Cond.laysFinal "PuppetHeirs$FamilyReader" "PuppetHeirs$FamilyReader" "t" "LPuppetHeirs$Told;") ∈ lw_all := lw_g (lw_at lw_m5 5 rfl) rfl
theorem q1081 : (Jvm.Cond.soleField "PuppetHeirs$FamilyReader" "t") ∈ lw_all := lw_g (lw_at lw_m5 6 rfl) rfl
theorem q1082 : (Jvm.Cond.laysFinal "PuppetHeirs$FamilyReader" "PuppetHeirs$Reader" "text" "[B") ∈ lw_all := lw_g (lw_at lw_m5 7 rfl) rfl
theorem q1084 : (Jvm.Cond.laysFinal "PuppetHeirs$FamilyReader" "PuppetHeirs$Reader" "size" "I") ∈ lw_all := lw_g (lw_at lw_m5 9 rfl) rfl
theorem q1086 : (Jvm.Cond.lays "PuppetHeirs$FamilyReader" "PuppetHeirs$Reader" "next" "I") ∈ lw_all := lw_g (lw_at lw_m5 11 rfl) rfl
theorem q1088 : (Jvm.Cond.lays "PuppetHeirs$FamilyReader" "PuppetHeirs$Reader" "from" "I") ∈ lw_all := lw_g (lw_at lw_m5 13 rfl) rfl
theorem q1090 : (Jvm.Cond.lays "PuppetHeirs$FamilyReader" "PuppetHeirs$Reader" "open" "I") ∈ lw_all := lw_g (lw_at lw_m5 15 rfl) rfl
theorem q1092 : (Jvm.Cond.superclass "PuppetHeirs$FamilyReader" "PuppetHeirs$Reader") ∈ lw_all := lw_g (lw_at lw_m5 17 rfl) rfl
theorem q1094 : (Jvm.Cond.instanceMethod ({ cls := "PuppetHeirs$FamilyReader", name := "reads", desc := "()LPuppetHeirs$Told;" } : Jvm.MethodName)) ∈ lw_all := lw_g (lw_at lw_m5 19 rfl) rfl
theorem q1095 : (Jvm.Cond.selects "PuppetHeirs$FamilyReader" ({ cls := "PuppetHeirs$FamilyReader", name := "reads", desc := "()LPuppetHeirs$Told;" } : Jvm.MethodName) ({ cls := "PuppetHeirs$FamilyReader", name := "reads", desc := "()LPuppetHeirs$Told;" } : Jvm.MethodName)) ∈ lw_all := lw_g (lw_at lw_m5 20 rfl) rfl
theorem q1096 : (Jvm.Cond.code ({ cls := "PuppetHeirs$FamilyReader", name := "reads", desc := "()LPuppetHeirs$Told;" } : Jvm.MethodName) prog_6_method_2_code (1 : Nat) (Option.some (Jvm.ClassFile.FieldType.object "PuppetHeirs$Told"))) ∈ lw_all := lw_g (lw_at lw_m5 21 rfl) rfl
theorem q1097 : (Jvm.Cond.methodLink "PuppetHeirs$FamilyReader" (20 : Nat) ({ cls := "PuppetHeirs$FamilyReader", name := "sign", desc := "()I" } : Jvm.MethodName)) ∈ lw_all := lw_g (lw_at lw_m5 22 rfl) rfl
theorem q1098 : (Jvm.Cond.sameMethod "PuppetHeirs$FamilyReader" "PuppetHeirs$Reader" "sign" "()I") ∈ lw_all := lw_g (lw_at lw_m5 23 rfl) rfl
theorem q1100 : (Jvm.Cond.selects "PuppetHeirs$FamilyReader" ({ cls := "PuppetHeirs$FamilyReader", name := "sign", desc := "()I" } : Jvm.MethodName) ({ cls := "PuppetHeirs$Reader", name := "sign", desc := "()I" } : Jvm.MethodName)) ∈ lw_all := lw_g (lw_at lw_m5 25 rfl) rfl
theorem q1103 : (Jvm.Cond.methodLink "PuppetHeirs$FamilyReader" (31 : Nat) ({ cls := "PuppetHeirs$FamilyReader", name := "word", desc := "()Ljava/lang/String;" } : Jvm.MethodName)) ∈ lw_all := lw_g (lw_at lw_m5 28 rfl) rfl
theorem q1104 : (Jvm.Cond.sameMethod "PuppetHeirs$FamilyReader" "PuppetHeirs$Reader" "word" "()Ljava/lang/String;") ∈ lw_all := lw_g (lw_at lw_m5 29 rfl) rfl
theorem q1106 : (Jvm.Cond.selects "PuppetHeirs$FamilyReader" ({ cls := "PuppetHeirs$FamilyReader", name := "word", desc := "()Ljava/lang/String;" } : Jvm.MethodName) ({ cls := "PuppetHeirs$Reader", name := "word", desc := "()Ljava/lang/String;" } : Jvm.MethodName)) ∈ lw_all := lw_g (lw_at lw_m5 31 rfl) rfl
theorem q1134 : (Jvm.Cond.methodLink "PuppetHeirs$FamilyReader" (35 : Nat) ({ cls := "PuppetHeirs$FamilyReader", name := "clause", desc := "(Ljava/lang/String;)V" } : Jvm.MethodName)) ∈ lw_all := lw_g (lw_at lw_m5 59 rfl) rfl
theorem q1135 : (Jvm.Cond.privateMethod ({ cls := "PuppetHeirs$FamilyReader", name := "clause", desc := "(Ljava/lang/String;)V" } : Jvm.MethodName)) ∈ lw_tbl := lw_at lw_m5 60 rfl
theorem q1136 : (Jvm.Cond.instanceMethod ({ cls := "PuppetHeirs$FamilyReader", name := "clause", desc := "(Ljava/lang/String;)V" } : Jvm.MethodName)) ∈ lw_all := lw_g (lw_at lw_m5 61 rfl) rfl
theorem q1137 : (Jvm.Cond.code ({ cls := "PuppetHeirs$FamilyReader", name := "clause", desc := "(Ljava/lang/String;)V" } : Jvm.MethodName) prog_6_method_8_code (6 : Nat) (Option.none : Option Jvm.ClassFile.FieldType)) ∈ lw_all := lw_g (lw_at lw_m5 62 rfl) rfl
theorem q1138 : (Jvm.Cond.methodLink "PuppetHeirs$FamilyReader" (90 : Nat) ({ cls := "java/lang/String", name := "hashCode", desc := "()I" } : Jvm.MethodName)) ∈ lw_all := lw_g (lw_at lw_m5 63 rfl) rfl
theorem q1199 : (Jvm.Cond.stringRef "PuppetHeirs$FamilyReader" (46 : Nat) "hand") ∈ lw_tbl := lw_at lw_m5 124 rfl
theorem q1200 : (Jvm.Cond.methodLink "PuppetHeirs$FamilyReader" (48 : Nat) ({ cls := "java/lang/String", name := "equals", desc := "(Ljava/lang/Object;)Z" } : Jvm.MethodName)) ∈ lw_all := lw_g (lw_at lw_m5 125 rfl) rfl
theorem q1208 : (Jvm.Cond.stringRef "PuppetHeirs$FamilyReader" (57 : Nat) "puppet") ∈ lw_tbl := lw_at lw_m5 133 rfl
theorem q1209 : (Jvm.Cond.stringRef "PuppetHeirs$FamilyReader" (93 : Nat) "works") ∈ lw_tbl := lw_at lw_m5 134 rfl
theorem q1210 : (Jvm.Cond.stringRef "PuppetHeirs$FamilyReader" (95 : Nat) "quarrel") ∈ lw_tbl := lw_at lw_m5 135 rfl
theorem q1211 : (Jvm.Cond.stringRef "PuppetHeirs$FamilyReader" (97 : Nat) "silent") ∈ lw_tbl := lw_at lw_m5 136 rfl
theorem q1212 : (Jvm.Cond.stringRef "PuppetHeirs$FamilyReader" (62 : Nat) "act") ∈ lw_tbl := lw_at lw_m5 137 rfl
theorem q1213 : (Jvm.Cond.stringRef "PuppetHeirs$FamilyReader" (99 : Nat) "owes") ∈ lw_tbl := lw_at lw_m5 138 rfl
theorem q1214 : (Jvm.Cond.stringRef "PuppetHeirs$FamilyReader" (101 : Nat) "wear") ∈ lw_tbl := lw_at lw_m5 139 rfl
theorem q1215 : (Jvm.Cond.methodLink "PuppetHeirs$FamilyReader" (103 : Nat) ({ cls := "PuppetHeirs$FamilyReader", name := "wrong", desc := "()LPuppetHeirs$Wrong;" } : Jvm.MethodName)) ∈ lw_all := lw_g (lw_at lw_m5 140 rfl) rfl
theorem q1216 : (Jvm.Cond.sameMethod "PuppetHeirs$FamilyReader" "PuppetHeirs$Reader" "wrong" "()LPuppetHeirs$Wrong;") ∈ lw_all := lw_g (lw_at lw_m5 141 rfl) rfl
theorem q1218 : (Jvm.Cond.selects "PuppetHeirs$FamilyReader" ({ cls := "PuppetHeirs$FamilyReader", name := "wrong", desc := "()LPuppetHeirs$Wrong;" } : Jvm.MethodName) ({ cls := "PuppetHeirs$Reader", name := "wrong", desc := "()LPuppetHeirs$Wrong;" } : Jvm.MethodName)) ∈ lw_all := lw_g (lw_at lw_m5 143 rfl) rfl
theorem q1249 : (Jvm.Cond.methodLink "PuppetHeirs$FamilyReader" (106 : Nat) ({ cls := "PuppetHeirs$FamilyReader", name := "isFull", desc := "(Ljava/lang/String;)Z" } : Jvm.MethodName)) ∈ lw_all := lw_g (lw_at lw_m5 174 rfl) rfl
theorem q1250 : (Jvm.Cond.privateMethod ({ cls := "PuppetHeirs$FamilyReader", name := "isFull", desc := "(Ljava/lang/String;)Z" } : Jvm.MethodName)) ∈ lw_tbl := lw_at lw_m5 175 rfl
theorem q1251 : (Jvm.Cond.instanceMethod ({ cls := "PuppetHeirs$FamilyReader", name := "isFull", desc := "(Ljava/lang/String;)Z" } : Jvm.MethodName)) ∈ lw_all := lw_g (lw_at lw_m5 176 rfl) rfl
theorem q1252 : (Jvm.Cond.code ({ cls := "PuppetHeirs$FamilyReader", name := "isFull", desc := "(Ljava/lang/String;)Z" } : Jvm.MethodName) prog_6_method_3_code (2 : Nat) (Option.some Jvm.ClassFile.FieldType.boolean)) ∈ lw_all := lw_g (lw_at lw_m5 177 rfl) rfl
theorem q1253 : (Jvm.Cond.methodLink "PuppetHeirs$FamilyReader" (68 : Nat) ({ cls := "java/util/ArrayList", name := "size", desc := "()I" } : Jvm.MethodName)) ∈ lw_all := lw_g (lw_at lw_m5 178 rfl) rfl
theorem q1254 : (Jvm.Cond.classLink "PuppetHeirs$FamilyReader" (82 : Nat) "PuppetHeirs$Wrong") ∈ lw_all := lw_g (lw_at lw_m5 179 rfl) rfl
theorem q1255 : (Jvm.Cond.methodLink "PuppetHeirs$FamilyReader" (87 : Nat) ({ cls := "PuppetHeirs$Wrong", name := "<init>", desc := "(II)V" } : Jvm.MethodName)) ∈ lw_all := lw_g (lw_at lw_m5 180 rfl) rfl
theorem q1256 : (Jvm.Cond.methodLink "PuppetHeirs$FamilyReader" (110 : Nat) ({ cls := "java/lang/String", name := "length", desc := "()I" } : Jvm.MethodName)) ∈ lw_all := lw_g (lw_at lw_m5 181 rfl) rfl
theorem q1257 : (Jvm.Cond.methodLink "PuppetHeirs$FamilyReader" (113 : Nat) ({ cls := "PuppetHeirs$FamilyReader", name := "readsHand", desc := "()V" } : Jvm.MethodName)) ∈ lw_all := lw_g (lw_at lw_m5 182 rfl) rfl
theorem q1258 : (Jvm.Cond.privateMethod ({ cls := "PuppetHeirs$FamilyReader", name := "readsHand", desc := "()V" } : Jvm.MethodName)) ∈ lw_tbl := lw_at lw_m5 183 rfl
theorem q1259 : (Jvm.Cond.instanceMethod ({ cls := "PuppetHeirs$FamilyReader", name := "readsHand", desc := "()V" } : Jvm.MethodName)) ∈ lw_all := lw_g (lw_at lw_m5 184 rfl) rfl
theorem q1260 : (Jvm.Cond.code ({ cls := "PuppetHeirs$FamilyReader", name := "readsHand", desc := "()V" } : Jvm.MethodName) prog_6_method_9_code (2 : Nat) (Option.none : Option Jvm.ClassFile.FieldType)) ∈ lw_all := lw_g (lw_at lw_m5 185 rfl) rfl
theorem q1261 : (Jvm.Cond.methodLink "PuppetHeirs$FamilyReader" (72 : Nat) ({ cls := "PuppetHeirs$FamilyReader", name := "number", desc := "(II)I" } : Jvm.MethodName)) ∈ lw_all := lw_g (lw_at lw_m5 186 rfl) rfl
theorem q1262 : (Jvm.Cond.sameMethod "PuppetHeirs$FamilyReader" "PuppetHeirs$Reader" "number" "(II)I") ∈ lw_all := lw_g (lw_at lw_m5 187 rfl) rfl
theorem q1264 : (Jvm.Cond.selects "PuppetHeirs$FamilyReader" ({ cls := "PuppetHeirs$FamilyReader", name := "number", desc := "(II)I" } : Jvm.MethodName) ({ cls := "PuppetHeirs$Reader", name := "number", desc := "(II)I" } : Jvm.MethodName)) ∈ lw_all := lw_g (lw_at lw_m5 189 rfl) rfl
theorem q1270 : (Jvm.Cond.methodLink "PuppetHeirs$FamilyReader" (78 : Nat) ({ cls := "PuppetHeirs$FamilyReader", name := "wrongNumber", desc := "()LPuppetHeirs$Wrong;" } : Jvm.MethodName)) ∈ lw_all := lw_g (lw_at lw_m5 195 rfl) rfl
theorem q1271 : (Jvm.Cond.privateMethod ({ cls := "PuppetHeirs$FamilyReader", name := "wrongNumber", desc := "()LPuppetHeirs$Wrong;" } : Jvm.MethodName)) ∈ lw_tbl := lw_at lw_m5 196 rfl
theorem q1272 : (Jvm.Cond.instanceMethod ({ cls := "PuppetHeirs$FamilyReader", name := "wrongNumber", desc := "()LPuppetHeirs$Wrong;" } : Jvm.MethodName)) ∈ lw_all := lw_g (lw_at lw_m5 197 rfl) rfl
theorem q1273 : (Jvm.Cond.code ({ cls := "PuppetHeirs$FamilyReader", name := "wrongNumber", desc := "()LPuppetHeirs$Wrong;" } : Jvm.MethodName) prog_6_method_6_code (1 : Nat) (Option.some (Jvm.ClassFile.FieldType.object "PuppetHeirs$Wrong"))) ∈ lw_all := lw_g (lw_at lw_m5 198 rfl) rfl
theorem q1274 : (Jvm.Cond.methodLink "PuppetHeirs$FamilyReader" (126 : Nat) ({ cls := "PuppetHeirs$FamilyReader", name := "readsOfPuppet", desc := "(Ljava/lang/String;)V" } : Jvm.MethodName)) ∈ lw_all := lw_g (lw_at lw_m5 199 rfl) rfl
theorem q1275 : (Jvm.Cond.privateMethod ({ cls := "PuppetHeirs$FamilyReader", name := "readsOfPuppet", desc := "(Ljava/lang/String;)V" } : Jvm.MethodName)) ∈ lw_tbl := lw_at lw_m5 200 rfl
theorem q1276 : (Jvm.Cond.instanceMethod ({ cls := "PuppetHeirs$FamilyReader", name := "readsOfPuppet", desc := "(Ljava/lang/String;)V" } : Jvm.MethodName)) ∈ lw_all := lw_g (lw_at lw_m5 201 rfl) rfl
theorem q1277 : (Jvm.Cond.code ({ cls := "PuppetHeirs$FamilyReader", name := "readsOfPuppet", desc := "(Ljava/lang/String;)V" } : Jvm.MethodName) prog_6_method_10_code (5 : Nat) (Option.none : Option Jvm.ClassFile.FieldType)) ∈ lw_all := lw_g (lw_at lw_m5 202 rfl) rfl
theorem q1278 : (Jvm.Cond.methodLink "PuppetHeirs$FamilyReader" (76 : Nat) ({ cls := "PuppetHeirs$FamilyReader", name := "hand", desc := "()I" } : Jvm.MethodName)) ∈ lw_all := lw_g (lw_at lw_m5 203 rfl) rfl
theorem q1279 : (Jvm.Cond.privateMethod ({ cls := "PuppetHeirs$FamilyReader", name := "hand", desc := "()I" } : Jvm.MethodName)) ∈ lw_tbl := lw_at lw_m5 204 rfl
theorem q1280 : (Jvm.Cond.instanceMethod ({ cls := "PuppetHeirs$FamilyReader", name := "hand", desc := "()I" } : Jvm.MethodName)) ∈ lw_all := lw_g (lw_at lw_m5 205 rfl) rfl
theorem q1281 : (Jvm.Cond.code ({ cls := "PuppetHeirs$FamilyReader", name := "hand", desc := "()I" } : Jvm.MethodName) prog_6_method_4_code (1 : Nat) (Option.some Jvm.ClassFile.FieldType.int)) ∈ lw_all := lw_g (lw_at lw_m5 206 rfl) rfl
theorem q1282 : (Jvm.Cond.methodLink "PuppetHeirs$FamilyReader" (157 : Nat) ({ cls := "PuppetHeirs$FamilyReader", name := "puppet", desc := "()I" } : Jvm.MethodName)) ∈ lw_all := lw_g (lw_at lw_m5 207 rfl) rfl
theorem q1283 : (Jvm.Cond.privateMethod ({ cls := "PuppetHeirs$FamilyReader", name := "puppet", desc := "()I" } : Jvm.MethodName)) ∈ lw_tbl := lw_at lw_m5 208 rfl
theorem q1284 : (Jvm.Cond.instanceMethod ({ cls := "PuppetHeirs$FamilyReader", name := "puppet", desc := "()I" } : Jvm.MethodName)) ∈ lw_all := lw_g (lw_at lw_m5 209 rfl) rfl
theorem q1285 : (Jvm.Cond.code ({ cls := "PuppetHeirs$FamilyReader", name := "puppet", desc := "()I" } : Jvm.MethodName) prog_6_method_7_code (1 : Nat) (Option.some Jvm.ClassFile.FieldType.int)) ∈ lw_all := lw_g (lw_at lw_m5 210 rfl) rfl
theorem q1286 : (Jvm.Cond.methodLink "PuppetHeirs$FamilyReader" (165 : Nat) ({ cls := "java/lang/Integer", name := "bitCount", desc := "(I)I" } : Jvm.MethodName)) ∈ lw_all := lw_g (lw_at lw_m5 211 rfl) rfl
theorem q1287 : (Jvm.Cond.methodLink "PuppetHeirs$FamilyReader" (129 : Nat) ({ cls := "PuppetHeirs$FamilyReader", name := "other", desc := "(I)I" } : Jvm.MethodName)) ∈ lw_all := lw_g (lw_at lw_m5 212 rfl) rfl
theorem q1288 : (Jvm.Cond.privateMethod ({ cls := "PuppetHeirs$FamilyReader", name := "other", desc := "(I)I" } : Jvm.MethodName)) ∈ lw_tbl := lw_at lw_m5 213 rfl
theorem q1289 : (Jvm.Cond.instanceMethod ({ cls := "PuppetHeirs$FamilyReader", name := "other", desc := "(I)I" } : Jvm.MethodName)) ∈ lw_all := lw_g (lw_at lw_m5 214 rfl) rfl
theorem q1290 : (Jvm.Cond.code ({ cls := "PuppetHeirs$FamilyReader", name := "other", desc := "(I)I" } : Jvm.MethodName) prog_6_method_5_code (3 : Nat) (Option.some Jvm.ClassFile.FieldType.int)) ∈ lw_all := lw_g (lw_at lw_m5 215 rfl) rfl
theorem q1291 : (Jvm.Cond.methodLink "PuppetHeirs$FamilyReader" (135 : Nat) ({ cls := "PuppetHeirs$FamilyReader", name := "readsAct", desc := "()V" } : Jvm.MethodName)) ∈ lw_all := lw_g (lw_at lw_m5 216 rfl) rfl
theorem q1292 : (Jvm.Cond.privateMethod ({ cls := "PuppetHeirs$FamilyReader", name := "readsAct", desc := "()V" } : Jvm.MethodName)) ∈ lw_tbl := lw_at lw_m5 217 rfl
theorem q1293 : (Jvm.Cond.instanceMethod ({ cls := "PuppetHeirs$FamilyReader", name := "readsAct", desc := "()V" } : Jvm.MethodName)) ∈ lw_all := lw_g (lw_at lw_m5 218 rfl) rfl
theorem q1294 : (Jvm.Cond.code ({ cls := "PuppetHeirs$FamilyReader", name := "readsAct", desc := "()V" } : Jvm.MethodName) prog_6_method_11_code (3 : Nat) (Option.none : Option Jvm.ClassFile.FieldType)) ∈ lw_all := lw_g (lw_at lw_m5 219 rfl) rfl
theorem q1295 : (Jvm.Cond.classLink "PuppetHeirs$FamilyReader" (170 : Nat) "PuppetHeirs$Act") ∈ lw_all := lw_g (lw_at lw_m5 220 rfl) rfl
theorem q1297 : (Jvm.Cond.methodLink "PuppetHeirs$FamilyReader" (172 : Nat) ({ cls := "PuppetHeirs$Act", name := "<init>", desc := "(I)V" } : Jvm.MethodName)) ∈ lw_all := lw_g (lw_at lw_m5 222 rfl) rfl
theorem q1306 : (Jvm.Cond.fieldLinkNest "PuppetHeirs$FamilyReader" (177 : Nat) "PuppetHeirs$Act" "many" "I" "PuppetHeirs") ∈ lw_tbl := lw_at lw_m5 231 rfl
theorem q1309 : (Jvm.Cond.fieldLinkNest "PuppetHeirs$FamilyReader" (174 : Nat) "PuppetHeirs$Act" "bits" "I" "PuppetHeirs") ∈ lw_tbl := lw_at lw_m5 234 rfl
theorem q1320 : (Jvm.Cond.methodLink "PuppetHeirs$FamilyReader" (180 : Nat) ({ cls := "PuppetHeirs$Act", name := "adds", desc := "(I)V" } : Jvm.MethodName)) ∈ lw_all := lw_g (lw_at lw_m6 5 rfl) rfl
theorem q1324 : (Jvm.Cond.stringRef "PuppetHeirs$FamilyReader" (183 : Nat) "end") ∈ lw_tbl := lw_at lw_m6 9 rfl
theorem q1325 : (Jvm.Cond.methodLink "PuppetHeirs$FamilyReader" (185 : Nat) ({ cls := "java/util/ArrayList", name := "add", desc := "(Ljava/lang/Object;)Z" } : Jvm.MethodName)) ∈ lw_all := lw_g (lw_at lw_m6 10 rfl) rfl
theorem q1355 : (Jvm.Cond.selects "PuppetHeirs$FamilyReader" ({ cls := "java/lang/Object", name := "getClass", desc := "()Ljava/lang/Class;" } : Jvm.MethodName) ({ cls := "java/lang/Object", name := "getClass", desc := "()Ljava/lang/Class;" } : Jvm.MethodName)) ∈ lw_all := lw_g (lw_at lw_m6 40 rfl) rfl
theorem q1381 : (Jvm.Cond.methodLink "PuppetHeirs$FamilyReader" (141 : Nat) ({ cls := "java/lang/Math", name := "min", desc := "(II)I" } : Jvm.MethodName)) ∈ lw_all := lw_g (lw_at lw_m6 66 rfl) rfl
theorem q1382 : (Jvm.Cond.methodLink "PuppetHeirs$FamilyReader" (39 : Nat) ({ cls := "PuppetHeirs$FamilyReader", name := "need", desc := "(I)V" } : Jvm.MethodName)) ∈ lw_all := lw_g (lw_at lw_m6 67 rfl) rfl
theorem q1383 : (Jvm.Cond.sameMethod "PuppetHeirs$FamilyReader" "PuppetHeirs$Reader" "need" "(I)V") ∈ lw_all := lw_g (lw_at lw_m6 68 rfl) rfl
theorem q1385 : (Jvm.Cond.selects "PuppetHeirs$FamilyReader" ({ cls := "PuppetHeirs$FamilyReader", name := "need", desc := "(I)V" } : Jvm.MethodName) ({ cls := "PuppetHeirs$Reader", name := "need", desc := "(I)V" } : Jvm.MethodName)) ∈ lw_all := lw_g (lw_at lw_m6 70 rfl) rfl
theorem q2636 : (Jvm.Cond.selects "PuppetHeirs$FamilyReader" ({ cls := "PuppetHeirs$Reader", name := "sign", desc := "()I" } : Jvm.MethodName) ({ cls := "PuppetHeirs$Reader", name := "sign", desc := "()I" } : Jvm.MethodName)) ∈ lw_all := lw_g (lw_at lw_m11 121 rfl) rfl
theorem q2642 : (Jvm.Cond.selects "PuppetHeirs$FamilyReader" ({ cls := "PuppetHeirs$Reader", name := "wrong", desc := "()LPuppetHeirs$Wrong;" } : Jvm.MethodName) ({ cls := "PuppetHeirs$Reader", name := "wrong", desc := "()LPuppetHeirs$Wrong;" } : Jvm.MethodName)) ∈ lw_all := lw_g (lw_at lw_m11 127 rfl) rfl
theorem q2658 : (Jvm.Cond.castable "PuppetHeirs$FamilyReader" "java/lang/Object") ∈ lw_tbl := lw_at lw_m11 143 rfl
theorem in_X13 : ∀ w ∈ wsX130, w ∈ lw_all := lw_in wsX130 [1082, 1084, 1086, 1088, 1090, 1080] (by decide +kernel) (by decide +kernel)

/-! PuppetHeirs$Wrong -/
set_option maxRecDepth 100000
def RX14 : String := "PuppetHeirs$Wrong"
def TX14 : u_T := fun k => match k with
  | 0 => ("java/lang/Throwable", "cause", "Ljava/lang/Throwable;", false)
  | 1 => ("java/lang/Throwable", "stackTrace", "[Ljava/lang/StackTraceElement;", false)
  | 2 => ("java/lang/Throwable", "suppressedExceptions", "Ljava/util/List;", false)
  | 3 => ("java/lang/Throwable", "detailMessage", "Ljava/lang/String;", false)
  | 4 => ("java/lang/Throwable", "backtrace", "Ljava/lang/Object;", false)
  | 5 => ("java/lang/Throwable", "depth", "I", false)
  | 6 => ("PuppetHeirs$Wrong", "kind", "I", true)
  | _ => ("PuppetHeirs$Wrong", "place", "I", true)
def tyX14 : Nat → FieldType := fun k => match k with
  | 0 => .object "java/lang/Throwable"
  | 1 => .array (.object "java/lang/StackTraceElement")
  | 2 => .object "java/util/List"
  | 3 => .object "java/lang/String"
  | 4 => .object "java/lang/Object"
  | 5 => .int
  | 6 => .int
  | _ => .int
abbrev wsX140 : List Cond := u_ws RX14 TX14 8
theorem nmX14 : ∀ a, a < 8 → ∀ b, b < 8 → a ≠ b → (TX14 a).2.1 ≠ (TX14 b).2.1 := by decide +kernel
theorem tyX14_ok : ∀ k, k < 8 → parseFieldDescriptor (TX14 k).2.2.1 = some (tyX14 k) := by decide +kernel
abbrev cX14_init : ByteArray := prog_20_method_1_code
def yX14_init : MethodName := ⟨RX14, "<init>", "(II)V"⟩
def dkwX14_init_0 : List UInt8 := [42, 1, 1, 3, 3, 183, 0, 1, 42, 27, 181, 0, 7, 42, 28, 181, 0, 13, 177]
abbrev dktX14_init_0 : List UInt8 := dkwX14_init_0 ++ []
theorem dksX14_init_0 : cX14_init.data.toList.drop 0 = dktX14_init_0 := by decide +kernel
theorem dX14_init_0 : decode cX14_init 0 = .ok (.aload_n 0, 1) := dk_42 (dk_at dksX14_init_0 0 rfl rfl)
theorem dX14_init_1 : decode cX14_init 1 = .ok (.aconst_null, 1) := dk_1 (dk_at dksX14_init_0 1 rfl rfl)
theorem dX14_init_2 : decode cX14_init 2 = .ok (.aconst_null, 1) := dk_1 (dk_at dksX14_init_0 2 rfl rfl)
theorem dX14_init_3 : decode cX14_init 3 = .ok (.iconst 0, 1) := dk_3 (dk_at dksX14_init_0 3 rfl rfl)
theorem dX14_init_4 : decode cX14_init 4 = .ok (.iconst 0, 1) := dk_3 (dk_at dksX14_init_0 4 rfl rfl)
theorem dX14_init_5 : decode cX14_init 5 = .ok (.invokespecial 1, 3) := dk_183 0 1 (dk_at dksX14_init_0 5 rfl rfl)
theorem dX14_init_8 : decode cX14_init 8 = .ok (.aload_n 0, 1) := dk_42 (dk_at dksX14_init_0 8 rfl rfl)
theorem dX14_init_9 : decode cX14_init 9 = .ok (.iload_n 1, 1) := dk_27 (dk_at dksX14_init_0 9 rfl rfl)
theorem dX14_init_10 : decode cX14_init 10 = .ok (.putfield 7, 3) := dk_181 0 7 (dk_at dksX14_init_0 10 rfl rfl)
theorem dX14_init_13 : decode cX14_init 13 = .ok (.aload_n 0, 1) := dk_42 (dk_at dksX14_init_0 13 rfl rfl)
theorem dX14_init_14 : decode cX14_init 14 = .ok (.iload_n 2, 1) := dk_28 (dk_at dksX14_init_0 14 rfl rfl)
theorem dX14_init_15 : decode cX14_init 15 = .ok (.putfield 13, 3) := dk_181 0 13 (dk_at dksX14_init_0 15 rfl rfl)
theorem dX14_init_18 : decode cX14_init 18 = .ok (.return_, 1) := dk_177 (dk_at dksX14_init_0 18 rfl rfl)
theorem q148 : (Jvm.Cond.initialized "PuppetHeirs$Wrong") ∈ lw_all := lw_g (lw_at lw_m1 33 rfl) rfl
theorem q221 : (Jvm.Cond.selects "PuppetHeirs$Wrong" ({ cls := "java/lang/Throwable", name := "fillInStackTrace", desc := "()Ljava/lang/Throwable;" } : Jvm.MethodName) ({ cls := "java/lang/Throwable", name := "fillInStackTrace", desc := "()Ljava/lang/Throwable;" } : Jvm.MethodName)) ∈ lw_all := lw_g (lw_at lw_m1 106 rfl) rfl
theorem q1222 : (Jvm.Cond.instantiable "PuppetHeirs$Wrong" (8 : Nat)) ∈ lw_all := lw_g (lw_at lw_m5 147 rfl) rfl
theorem q1223 : (Jvm.Cond.castable "PuppetHeirs$Wrong" "PuppetHeirs$Wrong") ∈ lw_tbl := lw_at lw_m5 148 rfl
theorem q1224 : (Jvm.Cond.selects "PuppetHeirs$Wrong" ({ cls := "java/lang/Throwable", name := "fillInStackTrace", desc := "(I)Ljava/lang/Throwable;" } : Jvm.MethodName) ({ cls := "java/lang/Throwable", name := "fillInStackTrace", desc := "(I)Ljava/lang/Throwable;" } : Jvm.MethodName)) ∈ lw_all := lw_g (lw_at lw_m5 149 rfl) rfl
theorem q1225 : (Jvm.Cond.lays "PuppetHeirs$Wrong" "java/lang/Throwable" "cause" "Ljava/lang/Throwable;") ∈ lw_all := lw_g (lw_at lw_m5 150 rfl) rfl
theorem q1226 : (Jvm.Cond.lays "PuppetHeirs$Wrong" "java/lang/Throwable" "stackTrace" "[Ljava/lang/StackTraceElement;") ∈ lw_all := lw_g (lw_at lw_m5 151 rfl) rfl
theorem q1227 : (Jvm.Cond.lays "PuppetHeirs$Wrong" "java/lang/Throwable" "suppressedExceptions" "Ljava/util/List;") ∈ lw_all := lw_g (lw_at lw_m5 152 rfl) rfl
theorem q1228 : (Jvm.Cond.lays "PuppetHeirs$Wrong" "java/lang/Throwable" "detailMessage" "Ljava/lang/String;") ∈ lw_all := lw_g (lw_at lw_m5 153 rfl) rfl
theorem q1229 : (Jvm.Cond.lays "PuppetHeirs$Wrong" "java/lang/Throwable" "backtrace" "Ljava/lang/Object;") ∈ lw_all := lw_g (lw_at lw_m5 154 rfl) rfl
theorem q1231 : (Jvm.Cond.instanceMethod ({ cls := "PuppetHeirs$Wrong", name := "<init>", desc := "(II)V" } : Jvm.MethodName)) ∈ lw_all := lw_g (lw_at lw_m5 156 rfl) rfl
theorem q1232 : (Jvm.Cond.code ({ cls := "PuppetHeirs$Wrong", name := "<init>", desc := "(II)V" } : Jvm.MethodName) prog_20_method_1_code (3 : Nat) (Option.none : Option Jvm.ClassFile.FieldType)) ∈ lw_all := lw_g (lw_at lw_m5 157 rfl) rfl
theorem q1233 : (Jvm.Cond.methodLink "PuppetHeirs$Wrong" (1 : Nat) ({ cls := "java/lang/Exception", name := "<init>", desc := "(Ljava/lang/String;Ljava/lang/Throwable;ZZ)V" } : Jvm.MethodName)) ∈ lw_all := lw_g (lw_at lw_m5 158 rfl) rfl
theorem q1239 : (Jvm.Cond.fieldLink "PuppetHeirs$Wrong" (7 : Nat) "PuppetHeirs$Wrong" "kind" "I") ∈ lw_all := lw_g (lw_at lw_m5 164 rfl) rfl
theorem q1241 : (Jvm.Cond.fieldLink "PuppetHeirs$Wrong" (13 : Nat) "PuppetHeirs$Wrong" "place" "I") ∈ lw_all := lw_g (lw_at lw_m5 166 rfl) rfl
theorem q1243 : (Jvm.Cond.laysFinal "PuppetHeirs$Wrong" "PuppetHeirs$Wrong" "kind" "I") ∈ lw_all := lw_g (lw_at lw_m5 168 rfl) rfl
theorem q1244 : (Jvm.Cond.soleField "PuppetHeirs$Wrong" "kind") ∈ lw_all := lw_g (lw_at lw_m5 169 rfl) rfl
theorem q1245 : (Jvm.Cond.laysFinal "PuppetHeirs$Wrong" "PuppetHeirs$Wrong" "place" "I") ∈ lw_all := lw_g (lw_at lw_m5 170 rfl) rfl
theorem q1246 : (Jvm.Cond.soleField "PuppetHeirs$Wrong" "place") ∈ lw_all := lw_g (lw_at lw_m5 171 rfl) rfl
theorem q1247 : (Jvm.Cond.lays "PuppetHeirs$Wrong" "java/lang/Throwable" "depth" "I") ∈ lw_all := lw_g (lw_at lw_m5 172 rfl) rfl
theorem q1248 : (Jvm.Cond.superclass "PuppetHeirs$Wrong" "java/lang/Exception") ∈ lw_all := lw_g (lw_at lw_m5 173 rfl) rfl
theorem q1366 : (Jvm.Cond.selects "PuppetHeirs$Wrong" ({ cls := "java/lang/Object", name := "getClass", desc := "()Ljava/lang/Class;" } : Jvm.MethodName) ({ cls := "java/lang/Object", name := "getClass", desc := "()Ljava/lang/Class;" } : Jvm.MethodName)) ∈ lw_all := lw_g (lw_at lw_m6 51 rfl) rfl
theorem q2660 : (Jvm.Cond.castable "PuppetHeirs$Wrong" "java/lang/Object") ∈ lw_tbl := lw_at lw_m11 145 rfl
theorem in_X14 : ∀ w ∈ wsX140, w ∈ lw_all := lw_in wsX140 [1225, 1226, 1227, 1228, 1229, 1247, 1243, 1245] (by decide +kernel) (by decide +kernel)

/-! PuppetHeirs$Act -/
set_option maxRecDepth 100000
def RX15 : String := "PuppetHeirs$Act"
def TX15 : u_T := fun k => match k with
  | 0 => ("PuppetHeirs$Act", "laughs", "I", true)
  | 1 => ("PuppetHeirs$Act", "puppet", "[I", true)
  | 2 => ("PuppetHeirs$Act", "many", "I", false)
  | _ => ("PuppetHeirs$Act", "bits", "I", false)
def tyX15 : Nat → FieldType := fun k => match k with
  | 0 => .int
  | 1 => .array .int
  | 2 => .int
  | _ => .int
abbrev wsX150 : List Cond := u_ws RX15 TX15 4
theorem nmX15 : ∀ a, a < 4 → ∀ b, b < 4 → a ≠ b → (TX15 a).2.1 ≠ (TX15 b).2.1 := by decide +kernel
theorem tyX15_ok : ∀ k, k < 4 → parseFieldDescriptor (TX15 k).2.2.1 = some (tyX15 k) := by decide +kernel
abbrev cX15_init : ByteArray := prog_2_method_1_code
def yX15_init : MethodName := ⟨RX15, "<init>", "(I)V"⟩
def dkwX15_init_0 : List UInt8 := [42, 183, 0, 3, 42, 16, 6, 188, 10, 181, 0, 9, 42, 27, 181, 0, 15, 177]
abbrev dktX15_init_0 : List UInt8 := dkwX15_init_0 ++ []
theorem dksX15_init_0 : cX15_init.data.toList.drop 0 = dktX15_init_0 := by decide +kernel
theorem dX15_init_0 : decode cX15_init 0 = .ok (.aload_n 0, 1) := dk_42 (dk_at dksX15_init_0 0 rfl rfl)
theorem dX15_init_1 : decode cX15_init 1 = .ok (.invokespecial 3, 3) := dk_183 0 3 (dk_at dksX15_init_0 1 rfl rfl)
theorem dX15_init_4 : decode cX15_init 4 = .ok (.aload_n 0, 1) := dk_42 (dk_at dksX15_init_0 4 rfl rfl)
theorem dX15_init_5 : decode cX15_init 5 = .ok (.bipush 6, 2) := dk_16 6 (dk_at dksX15_init_0 5 rfl rfl)
theorem dX15_init_7 : decode cX15_init 7 = .ok (.newarray .int, 2) := dk_188_10 (dk_at dksX15_init_0 7 rfl rfl)
theorem dX15_init_9 : decode cX15_init 9 = .ok (.putfield 9, 3) := dk_181 0 9 (dk_at dksX15_init_0 9 rfl rfl)
theorem dX15_init_12 : decode cX15_init 12 = .ok (.aload_n 0, 1) := dk_42 (dk_at dksX15_init_0 12 rfl rfl)
theorem dX15_init_13 : decode cX15_init 13 = .ok (.iload_n 1, 1) := dk_27 (dk_at dksX15_init_0 13 rfl rfl)
theorem dX15_init_14 : decode cX15_init 14 = .ok (.putfield 15, 3) := dk_181 0 15 (dk_at dksX15_init_0 14 rfl rfl)
theorem dX15_init_17 : decode cX15_init 17 = .ok (.return_, 1) := dk_177 (dk_at dksX15_init_0 17 rfl rfl)
abbrev cX15_adds : ByteArray := prog_2_method_2_code
def yX15_adds : MethodName := ⟨RX15, "adds", "(I)V"⟩
def dkwX15_adds_1 : List UInt8 := [180, 0, 22, 4, 27, 120, 128, 181, 0, 22, 177]
abbrev dktX15_adds_1 : List UInt8 := dkwX15_adds_1 ++ []
def dkwX15_adds_0 : List UInt8 := [42, 180, 0, 9, 42, 180, 0, 19, 27, 79, 42, 89, 180, 0, 19, 4, 96, 181, 0, 19, 42, 89]
abbrev dktX15_adds_0 : List UInt8 := dkwX15_adds_0 ++ dktX15_adds_1
theorem dksX15_adds_0 : cX15_adds.data.toList.drop 0 = dktX15_adds_0 := by decide +kernel
theorem dksX15_adds_1 : cX15_adds.data.toList.drop 22 = dktX15_adds_1 := dk_seg dksX15_adds_0 22 rfl rfl
theorem dX15_adds_0 : decode cX15_adds 0 = .ok (.aload_n 0, 1) := dk_42 (dk_at dksX15_adds_0 0 rfl rfl)
theorem dX15_adds_1 : decode cX15_adds 1 = .ok (.getfield 9, 3) := dk_180 0 9 (dk_at dksX15_adds_0 1 rfl rfl)
theorem dX15_adds_4 : decode cX15_adds 4 = .ok (.aload_n 0, 1) := dk_42 (dk_at dksX15_adds_0 4 rfl rfl)
theorem dX15_adds_5 : decode cX15_adds 5 = .ok (.getfield 19, 3) := dk_180 0 19 (dk_at dksX15_adds_0 5 rfl rfl)
theorem dX15_adds_8 : decode cX15_adds 8 = .ok (.iload_n 1, 1) := dk_27 (dk_at dksX15_adds_0 8 rfl rfl)
theorem dX15_adds_9 : decode cX15_adds 9 = .ok (.iastore, 1) := dk_79 (dk_at dksX15_adds_0 9 rfl rfl)
theorem dX15_adds_10 : decode cX15_adds 10 = .ok (.aload_n 0, 1) := dk_42 (dk_at dksX15_adds_0 10 rfl rfl)
theorem dX15_adds_11 : decode cX15_adds 11 = .ok (.dup, 1) := dk_89 (dk_at dksX15_adds_0 11 rfl rfl)
theorem dX15_adds_12 : decode cX15_adds 12 = .ok (.getfield 19, 3) := dk_180 0 19 (dk_at dksX15_adds_0 12 rfl rfl)
theorem dX15_adds_15 : decode cX15_adds 15 = .ok (.iconst 1, 1) := dk_4 (dk_at dksX15_adds_0 15 rfl rfl)
theorem dX15_adds_16 : decode cX15_adds 16 = .ok (.iadd, 1) := dk_96 (dk_at dksX15_adds_0 16 rfl rfl)
theorem dX15_adds_17 : decode cX15_adds 17 = .ok (.putfield 19, 3) := dk_181 0 19 (dk_at dksX15_adds_0 17 rfl rfl)
theorem dX15_adds_20 : decode cX15_adds 20 = .ok (.aload_n 0, 1) := dk_42 (dk_at dksX15_adds_0 20 rfl rfl)
theorem dX15_adds_21 : decode cX15_adds 21 = .ok (.dup, 1) := dk_89 (dk_at dksX15_adds_0 21 rfl rfl)
theorem dX15_adds_22 : decode cX15_adds 22 = .ok (.getfield 22, 3) := dk_180 0 22 (dk_at dksX15_adds_1 0 rfl rfl)
theorem dX15_adds_25 : decode cX15_adds 25 = .ok (.iconst 1, 1) := dk_4 (dk_at dksX15_adds_1 3 rfl rfl)
theorem dX15_adds_26 : decode cX15_adds 26 = .ok (.iload_n 1, 1) := dk_27 (dk_at dksX15_adds_1 4 rfl rfl)
theorem dX15_adds_27 : decode cX15_adds 27 = .ok (.ishl, 1) := dk_120 (dk_at dksX15_adds_1 5 rfl rfl)
theorem dX15_adds_28 : decode cX15_adds 28 = .ok (.ior, 1) := dk_128 (dk_at dksX15_adds_1 6 rfl rfl)
theorem dX15_adds_29 : decode cX15_adds 29 = .ok (.putfield 22, 3) := dk_181 0 22 (dk_at dksX15_adds_1 7 rfl rfl)
theorem dX15_adds_32 : decode cX15_adds 32 = .ok (.return_, 1) := dk_177 (dk_at dksX15_adds_1 10 rfl rfl)
theorem q149 : (Jvm.Cond.initialized "PuppetHeirs$Act") ∈ lw_all := lw_g (lw_at lw_m1 34 rfl) rfl
theorem q1296 : (Jvm.Cond.instantiable "PuppetHeirs$Act" (4 : Nat)) ∈ lw_all := lw_g (lw_at lw_m5 221 rfl) rfl
theorem q1298 : (Jvm.Cond.instanceMethod ({ cls := "PuppetHeirs$Act", name := "<init>", desc := "(I)V" } : Jvm.MethodName)) ∈ lw_all := lw_g (lw_at lw_m5 223 rfl) rfl
theorem q1299 : (Jvm.Cond.code ({ cls := "PuppetHeirs$Act", name := "<init>", desc := "(I)V" } : Jvm.MethodName) prog_2_method_1_code (2 : Nat) (Option.none : Option Jvm.ClassFile.FieldType)) ∈ lw_all := lw_g (lw_at lw_m5 224 rfl) rfl
theorem q1300 : (Jvm.Cond.methodLink "PuppetHeirs$Act" (3 : Nat) ({ cls := "java/lang/Object", name := "<init>", desc := "()V" } : Jvm.MethodName)) ∈ lw_all := lw_g (lw_at lw_m5 225 rfl) rfl
theorem q1301 : (Jvm.Cond.fieldLink "PuppetHeirs$Act" (15 : Nat) "PuppetHeirs$Act" "laughs" "I") ∈ lw_all := lw_g (lw_at lw_m5 226 rfl) rfl
theorem q1303 : (Jvm.Cond.fieldLink "PuppetHeirs$Act" (9 : Nat) "PuppetHeirs$Act" "puppet" "[I") ∈ lw_all := lw_g (lw_at lw_m5 228 rfl) rfl
theorem q1305 : (Jvm.Cond.fieldLink "PuppetHeirs$Act" (19 : Nat) "PuppetHeirs$Act" "many" "I") ∈ lw_all := lw_g (lw_at lw_m5 230 rfl) rfl
theorem q1308 : (Jvm.Cond.fieldLink "PuppetHeirs$Act" (22 : Nat) "PuppetHeirs$Act" "bits" "I") ∈ lw_all := lw_g (lw_at lw_m5 233 rfl) rfl
theorem q1311 : (Jvm.Cond.laysFinal "PuppetHeirs$Act" "PuppetHeirs$Act" "laughs" "I") ∈ lw_all := lw_g (lw_at lw_m5 236 rfl) rfl
theorem q1312 : (Jvm.Cond.soleField "PuppetHeirs$Act" "laughs") ∈ lw_all := lw_g (lw_at lw_m5 237 rfl) rfl
theorem q1313 : (Jvm.Cond.laysFinal "PuppetHeirs$Act" "PuppetHeirs$Act" "puppet" "[I") ∈ lw_all := lw_g (lw_at lw_m5 238 rfl) rfl
theorem q1314 : (Jvm.Cond.soleField "PuppetHeirs$Act" "puppet") ∈ lw_all := lw_g (lw_at lw_m5 239 rfl) rfl
theorem q1315 : (Jvm.Cond.lays "PuppetHeirs$Act" "PuppetHeirs$Act" "many" "I") ∈ lw_all := lw_g (lw_at lw_m6 0 rfl) rfl
theorem q1316 : (Jvm.Cond.soleField "PuppetHeirs$Act" "many") ∈ lw_all := lw_g (lw_at lw_m6 1 rfl) rfl
theorem q1317 : (Jvm.Cond.lays "PuppetHeirs$Act" "PuppetHeirs$Act" "bits" "I") ∈ lw_all := lw_g (lw_at lw_m6 2 rfl) rfl
theorem q1318 : (Jvm.Cond.soleField "PuppetHeirs$Act" "bits") ∈ lw_all := lw_g (lw_at lw_m6 3 rfl) rfl
theorem q1319 : (Jvm.Cond.superclass "PuppetHeirs$Act" "java/lang/Object") ∈ lw_all := lw_g (lw_at lw_m6 4 rfl) rfl
theorem q1321 : (Jvm.Cond.instanceMethod ({ cls := "PuppetHeirs$Act", name := "adds", desc := "(I)V" } : Jvm.MethodName)) ∈ lw_all := lw_g (lw_at lw_m6 6 rfl) rfl
theorem q1322 : (Jvm.Cond.selects "PuppetHeirs$Act" ({ cls := "PuppetHeirs$Act", name := "adds", desc := "(I)V" } : Jvm.MethodName) ({ cls := "PuppetHeirs$Act", name := "adds", desc := "(I)V" } : Jvm.MethodName)) ∈ lw_all := lw_g (lw_at lw_m6 7 rfl) rfl
theorem q1323 : (Jvm.Cond.code ({ cls := "PuppetHeirs$Act", name := "adds", desc := "(I)V" } : Jvm.MethodName) prog_2_method_2_code (2 : Nat) (Option.none : Option Jvm.ClassFile.FieldType)) ∈ lw_all := lw_g (lw_at lw_m6 8 rfl) rfl
theorem q1351 : (Jvm.Cond.selects "PuppetHeirs$Act" ({ cls := "java/lang/Object", name := "getClass", desc := "()Ljava/lang/Class;" } : Jvm.MethodName) ({ cls := "java/lang/Object", name := "getClass", desc := "()Ljava/lang/Class;" } : Jvm.MethodName)) ∈ lw_all := lw_g (lw_at lw_m6 36 rfl) rfl
theorem q2661 : (Jvm.Cond.castable "PuppetHeirs$Act" "java/lang/Object") ∈ lw_tbl := lw_at lw_m11 146 rfl
theorem in_X15 : ∀ w ∈ wsX150, w ∈ lw_all := lw_in wsX150 [1311, 1313, 1315, 1317] (by decide +kernel) (by decide +kernel)

/-! PuppetHeirs$LawReader -/
set_option maxRecDepth 100000
def RX16 : String := "PuppetHeirs$LawReader"
def TX16 : u_T := fun k => match k with
  | 0 => ("PuppetHeirs$Reader", "text", "[B", true)
  | 1 => ("PuppetHeirs$Reader", "size", "I", true)
  | 2 => ("PuppetHeirs$Reader", "next", "I", false)
  | 3 => ("PuppetHeirs$Reader", "from", "I", false)
  | _ => ("PuppetHeirs$Reader", "open", "I", false)
def tyX16 : Nat → FieldType := fun k => match k with
  | 0 => .array .byte
  | 1 => .int
  | 2 => .int
  | 3 => .int
  | _ => .int
abbrev wsX160 : List Cond := u_ws RX16 TX16 5
theorem nmX16 : ∀ a, a < 5 → ∀ b, b < 5 → a ≠ b → (TX16 a).2.1 ≠ (TX16 b).2.1 := by decide +kernel
theorem tyX16_ok : ∀ k, k < 5 → parseFieldDescriptor (TX16 k).2.2.1 = some (tyX16 k) := by decide +kernel
abbrev cX16_init : ByteArray := prog_7_method_1_code
def yX16_init : MethodName := ⟨RX16, "<init>", "([BI)V"⟩
def dkwX16_init_0 : List UInt8 := [42, 43, 28, 183, 0, 3, 177]
abbrev dktX16_init_0 : List UInt8 := dkwX16_init_0 ++ []
theorem dksX16_init_0 : cX16_init.data.toList.drop 0 = dktX16_init_0 := by decide +kernel
theorem dX16_init_0 : decode cX16_init 0 = .ok (.aload_n 0, 1) := dk_42 (dk_at dksX16_init_0 0 rfl rfl)
theorem dX16_init_1 : decode cX16_init 1 = .ok (.aload_n 1, 1) := dk_43 (dk_at dksX16_init_0 1 rfl rfl)
theorem dX16_init_2 : decode cX16_init 2 = .ok (.iload_n 2, 1) := dk_28 (dk_at dksX16_init_0 2 rfl rfl)
theorem dX16_init_3 : decode cX16_init 3 = .ok (.invokespecial 3, 3) := dk_183 0 3 (dk_at dksX16_init_0 3 rfl rfl)
theorem dX16_init_6 : decode cX16_init 6 = .ok (.return_, 1) := dk_177 (dk_at dksX16_init_0 6 rfl rfl)
abbrev cX16_reads : ByteArray := prog_7_method_2_code
def yX16_reads : MethodName := ⟨RX16, "reads", "()LPuppetHeirs$Term;"⟩
def dkwX16_reads_1 : List UInt8 := [182, 0, 26, 191, 43, 176]
abbrev dktX16_reads_1 : List UInt8 := dkwX16_reads_1 ++ []
def dkwX16_reads_0 : List UInt8 := [42, 182, 0, 9, 76, 42, 182, 0, 15, 87, 42, 180, 0, 19, 42, 180, 0, 23, 162, 0, 8, 42]
abbrev dktX16_reads_0 : List UInt8 := dkwX16_reads_0 ++ dktX16_reads_1
theorem dksX16_reads_0 : cX16_reads.data.toList.drop 0 = dktX16_reads_0 := by decide +kernel
theorem dksX16_reads_1 : cX16_reads.data.toList.drop 22 = dktX16_reads_1 := dk_seg dksX16_reads_0 22 rfl rfl
theorem dX16_reads_0 : decode cX16_reads 0 = .ok (.aload_n 0, 1) := dk_42 (dk_at dksX16_reads_0 0 rfl rfl)
theorem dX16_reads_1 : decode cX16_reads 1 = .ok (.invokevirtual 9, 3) := dk_182 0 9 (dk_at dksX16_reads_0 1 rfl rfl)
theorem dX16_reads_4 : decode cX16_reads 4 = .ok (.astore_n 1, 1) := dk_76 (dk_at dksX16_reads_0 4 rfl rfl)
theorem dX16_reads_5 : decode cX16_reads 5 = .ok (.aload_n 0, 1) := dk_42 (dk_at dksX16_reads_0 5 rfl rfl)
theorem dX16_reads_6 : decode cX16_reads 6 = .ok (.invokevirtual 15, 3) := dk_182 0 15 (dk_at dksX16_reads_0 6 rfl rfl)
theorem dX16_reads_9 : decode cX16_reads 9 = .ok (.pop, 1) := dk_87 (dk_at dksX16_reads_0 9 rfl rfl)
theorem dX16_reads_10 : decode cX16_reads 10 = .ok (.aload_n 0, 1) := dk_42 (dk_at dksX16_reads_0 10 rfl rfl)
theorem dX16_reads_11 : decode cX16_reads 11 = .ok (.getfield 19, 3) := dk_180 0 19 (dk_at dksX16_reads_0 11 rfl rfl)
theorem dX16_reads_14 : decode cX16_reads 14 = .ok (.aload_n 0, 1) := dk_42 (dk_at dksX16_reads_0 14 rfl rfl)
theorem dX16_reads_15 : decode cX16_reads 15 = .ok (.getfield 23, 3) := dk_180 0 23 (dk_at dksX16_reads_0 15 rfl rfl)
theorem dX16_reads_18 : decode cX16_reads 18 = .ok (.if_icmp .ge 8, 3) := dk_162 0 8 (dk_at dksX16_reads_0 18 rfl rfl)
theorem dX16_reads_21 : decode cX16_reads 21 = .ok (.aload_n 0, 1) := dk_42 (dk_at dksX16_reads_0 21 rfl rfl)
theorem dX16_reads_22 : decode cX16_reads 22 = .ok (.invokevirtual 26, 3) := dk_182 0 26 (dk_at dksX16_reads_1 0 rfl rfl)
theorem dX16_reads_25 : decode cX16_reads 25 = .ok (.athrow, 1) := dk_191 (dk_at dksX16_reads_1 3 rfl rfl)
theorem dX16_reads_26 : decode cX16_reads 26 = .ok (.aload_n 1, 1) := dk_43 (dk_at dksX16_reads_1 4 rfl rfl)
theorem dX16_reads_27 : decode cX16_reads 27 = .ok (.areturn, 1) := dk_176 (dk_at dksX16_reads_1 5 rfl rfl)
abbrev cX16_sum : ByteArray := prog_7_method_3_code
def yX16_sum : MethodName := ⟨RX16, "sum", "()LPuppetHeirs$Term;"⟩
def dkwX16_sum_3 : List UInt8 := [89, 43, 45, 183, 0, 40, 76, 167, 255, 182, 43, 176]
abbrev dktX16_sum_3 : List UInt8 := dkwX16_sum_3 ++ []
def dkwX16_sum_2 : List UInt8 := [42, 182, 0, 30, 78, 28, 153, 0, 15, 187, 0, 33, 89, 43, 45, 183, 0, 35, 167, 0, 12, 187, 0, 38]
abbrev dktX16_sum_2 : List UInt8 := dkwX16_sum_2 ++ dktX16_sum_3
def dkwX16_sum_1 : List UInt8 := [182, 0, 15, 16, 43, 160, 0, 7, 4, 167, 0, 4, 3, 61, 42, 89, 180, 0, 19, 4, 96, 181, 0, 19]
abbrev dktX16_sum_1 : List UInt8 := dkwX16_sum_1 ++ dktX16_sum_2
def dkwX16_sum_0 : List UInt8 := [42, 182, 0, 30, 76, 42, 182, 0, 15, 16, 43, 159, 0, 12, 42, 182, 0, 15, 16, 45, 160, 0, 62, 42]
abbrev dktX16_sum_0 : List UInt8 := dkwX16_sum_0 ++ dktX16_sum_1
theorem dksX16_sum_0 : cX16_sum.data.toList.drop 0 = dktX16_sum_0 := by decide +kernel
theorem dksX16_sum_1 : cX16_sum.data.toList.drop 24 = dktX16_sum_1 := dk_seg dksX16_sum_0 24 rfl rfl
theorem dksX16_sum_2 : cX16_sum.data.toList.drop 48 = dktX16_sum_2 := dk_seg dksX16_sum_1 24 rfl rfl
theorem dksX16_sum_3 : cX16_sum.data.toList.drop 72 = dktX16_sum_3 := dk_seg dksX16_sum_2 24 rfl rfl
theorem dX16_sum_0 : decode cX16_sum 0 = .ok (.aload_n 0, 1) := dk_42 (dk_at dksX16_sum_0 0 rfl rfl)
theorem dX16_sum_1 : decode cX16_sum 1 = .ok (.invokevirtual 30, 3) := dk_182 0 30 (dk_at dksX16_sum_0 1 rfl rfl)
theorem dX16_sum_4 : decode cX16_sum 4 = .ok (.astore_n 1, 1) := dk_76 (dk_at dksX16_sum_0 4 rfl rfl)
theorem dX16_sum_5 : decode cX16_sum 5 = .ok (.aload_n 0, 1) := dk_42 (dk_at dksX16_sum_0 5 rfl rfl)
theorem dX16_sum_6 : decode cX16_sum 6 = .ok (.invokevirtual 15, 3) := dk_182 0 15 (dk_at dksX16_sum_0 6 rfl rfl)
theorem dX16_sum_9 : decode cX16_sum 9 = .ok (.bipush 43, 2) := dk_16 43 (dk_at dksX16_sum_0 9 rfl rfl)
theorem dX16_sum_11 : decode cX16_sum 11 = .ok (.if_icmp .eq 12, 3) := dk_159 0 12 (dk_at dksX16_sum_0 11 rfl rfl)
theorem dX16_sum_14 : decode cX16_sum 14 = .ok (.aload_n 0, 1) := dk_42 (dk_at dksX16_sum_0 14 rfl rfl)
theorem dX16_sum_15 : decode cX16_sum 15 = .ok (.invokevirtual 15, 3) := dk_182 0 15 (dk_at dksX16_sum_0 15 rfl rfl)
theorem dX16_sum_18 : decode cX16_sum 18 = .ok (.bipush 45, 2) := dk_16 45 (dk_at dksX16_sum_0 18 rfl rfl)
theorem dX16_sum_20 : decode cX16_sum 20 = .ok (.if_icmp .ne 62, 3) := dk_160 0 62 (dk_at dksX16_sum_0 20 rfl rfl)
theorem dX16_sum_23 : decode cX16_sum 23 = .ok (.aload_n 0, 1) := dk_42 (dk_at dksX16_sum_0 23 rfl rfl)
theorem dX16_sum_24 : decode cX16_sum 24 = .ok (.invokevirtual 15, 3) := dk_182 0 15 (dk_at dksX16_sum_1 0 rfl rfl)
theorem dX16_sum_27 : decode cX16_sum 27 = .ok (.bipush 43, 2) := dk_16 43 (dk_at dksX16_sum_1 3 rfl rfl)
theorem dX16_sum_29 : decode cX16_sum 29 = .ok (.if_icmp .ne 7, 3) := dk_160 0 7 (dk_at dksX16_sum_1 5 rfl rfl)
theorem dX16_sum_32 : decode cX16_sum 32 = .ok (.iconst 1, 1) := dk_4 (dk_at dksX16_sum_1 8 rfl rfl)
theorem dX16_sum_33 : decode cX16_sum 33 = .ok (.goto 4, 3) := dk_167 0 4 (dk_at dksX16_sum_1 9 rfl rfl)
theorem dX16_sum_36 : decode cX16_sum 36 = .ok (.iconst 0, 1) := dk_3 (dk_at dksX16_sum_1 12 rfl rfl)
theorem dX16_sum_37 : decode cX16_sum 37 = .ok (.istore_n 2, 1) := dk_61 (dk_at dksX16_sum_1 13 rfl rfl)
theorem dX16_sum_38 : decode cX16_sum 38 = .ok (.aload_n 0, 1) := dk_42 (dk_at dksX16_sum_1 14 rfl rfl)
theorem dX16_sum_39 : decode cX16_sum 39 = .ok (.dup, 1) := dk_89 (dk_at dksX16_sum_1 15 rfl rfl)
theorem dX16_sum_40 : decode cX16_sum 40 = .ok (.getfield 19, 3) := dk_180 0 19 (dk_at dksX16_sum_1 16 rfl rfl)
theorem dX16_sum_43 : decode cX16_sum 43 = .ok (.iconst 1, 1) := dk_4 (dk_at dksX16_sum_1 19 rfl rfl)
theorem dX16_sum_44 : decode cX16_sum 44 = .ok (.iadd, 1) := dk_96 (dk_at dksX16_sum_1 20 rfl rfl)
theorem dX16_sum_45 : decode cX16_sum 45 = .ok (.putfield 19, 3) := dk_181 0 19 (dk_at dksX16_sum_1 21 rfl rfl)
theorem dX16_sum_48 : decode cX16_sum 48 = .ok (.aload_n 0, 1) := dk_42 (dk_at dksX16_sum_2 0 rfl rfl)
theorem dX16_sum_49 : decode cX16_sum 49 = .ok (.invokevirtual 30, 3) := dk_182 0 30 (dk_at dksX16_sum_2 1 rfl rfl)
theorem dX16_sum_52 : decode cX16_sum 52 = .ok (.astore_n 3, 1) := dk_78 (dk_at dksX16_sum_2 4 rfl rfl)
theorem dX16_sum_53 : decode cX16_sum 53 = .ok (.iload_n 2, 1) := dk_28 (dk_at dksX16_sum_2 5 rfl rfl)
theorem dX16_sum_54 : decode cX16_sum 54 = .ok (.ifCond .eq 15, 3) := dk_153 0 15 (dk_at dksX16_sum_2 6 rfl rfl)
theorem dX16_sum_57 : decode cX16_sum 57 = .ok (.new 33, 3) := dk_187 0 33 (dk_at dksX16_sum_2 9 rfl rfl)
theorem dX16_sum_60 : decode cX16_sum 60 = .ok (.dup, 1) := dk_89 (dk_at dksX16_sum_2 12 rfl rfl)
theorem dX16_sum_61 : decode cX16_sum 61 = .ok (.aload_n 1, 1) := dk_43 (dk_at dksX16_sum_2 13 rfl rfl)
theorem dX16_sum_62 : decode cX16_sum 62 = .ok (.aload_n 3, 1) := dk_45 (dk_at dksX16_sum_2 14 rfl rfl)
theorem dX16_sum_63 : decode cX16_sum 63 = .ok (.invokespecial 35, 3) := dk_183 0 35 (dk_at dksX16_sum_2 15 rfl rfl)
theorem dX16_sum_66 : decode cX16_sum 66 = .ok (.goto 12, 3) := dk_167 0 12 (dk_at dksX16_sum_2 18 rfl rfl)
theorem dX16_sum_69 : decode cX16_sum 69 = .ok (.new 38, 3) := dk_187 0 38 (dk_at dksX16_sum_2 21 rfl rfl)
theorem dX16_sum_72 : decode cX16_sum 72 = .ok (.dup, 1) := dk_89 (dk_at dksX16_sum_3 0 rfl rfl)
theorem dX16_sum_73 : decode cX16_sum 73 = .ok (.aload_n 1, 1) := dk_43 (dk_at dksX16_sum_3 1 rfl rfl)
theorem dX16_sum_74 : decode cX16_sum 74 = .ok (.aload_n 3, 1) := dk_45 (dk_at dksX16_sum_3 2 rfl rfl)
theorem dX16_sum_75 : decode cX16_sum 75 = .ok (.invokespecial 40, 3) := dk_183 0 40 (dk_at dksX16_sum_3 3 rfl rfl)
theorem dX16_sum_78 : decode cX16_sum 78 = .ok (.astore_n 1, 1) := dk_76 (dk_at dksX16_sum_3 6 rfl rfl)
theorem dX16_sum_79 : decode cX16_sum 79 = .ok (.goto (-74), 3) := dk_167 255 182 (dk_at dksX16_sum_3 7 rfl rfl)
theorem dX16_sum_82 : decode cX16_sum 82 = .ok (.aload_n 1, 1) := dk_43 (dk_at dksX16_sum_3 10 rfl rfl)
theorem dX16_sum_83 : decode cX16_sum 83 = .ok (.areturn, 1) := dk_176 (dk_at dksX16_sum_3 11 rfl rfl)
abbrev cX16_product : ByteArray := prog_7_method_4_code
def yX16_product : MethodName := ⟨RX16, "product", "()LPuppetHeirs$Term;"⟩
def dkwX16_product_4 : List UInt8 := [183, 0, 52, 76, 167, 255, 163, 43, 176]
abbrev dktX16_product_4 : List UInt8 := dkwX16_product_4 ++ []
def dkwX16_product_3 : List UInt8 := [16, 47, 160, 0, 15, 187, 0, 47, 89, 43, 45, 183, 0, 49, 167, 0, 12, 187, 0, 50, 89, 43, 45]
abbrev dktX16_product_3 : List UInt8 := dkwX16_product_3 ++ dktX16_product_4
def dkwX16_product_2 : List UInt8 := [182, 0, 41, 78, 28, 16, 42, 160, 0, 15, 187, 0, 44, 89, 43, 45, 183, 0, 46, 167, 0, 30, 28]
abbrev dktX16_product_2 : List UInt8 := dkwX16_product_2 ++ dktX16_product_3
def dkwX16_product_1 : List UInt8 := [182, 0, 15, 16, 37, 160, 0, 72, 42, 182, 0, 15, 61, 42, 89, 180, 0, 19, 4, 96, 181, 0, 19, 42]
abbrev dktX16_product_1 : List UInt8 := dkwX16_product_1 ++ dktX16_product_2
def dkwX16_product_0 : List UInt8 := [42, 182, 0, 41, 76, 42, 182, 0, 15, 16, 42, 159, 0, 21, 42, 182, 0, 15, 16, 47, 159, 0, 12, 42]
abbrev dktX16_product_0 : List UInt8 := dkwX16_product_0 ++ dktX16_product_1
theorem dksX16_product_0 : cX16_product.data.toList.drop 0 = dktX16_product_0 := by decide +kernel
theorem dksX16_product_1 : cX16_product.data.toList.drop 24 = dktX16_product_1 := dk_seg dksX16_product_0 24 rfl rfl
theorem dksX16_product_2 : cX16_product.data.toList.drop 48 = dktX16_product_2 := dk_seg dksX16_product_1 24 rfl rfl
theorem dksX16_product_3 : cX16_product.data.toList.drop 71 = dktX16_product_3 := dk_seg dksX16_product_2 23 rfl rfl
theorem dksX16_product_4 : cX16_product.data.toList.drop 94 = dktX16_product_4 := dk_seg dksX16_product_3 23 rfl rfl
theorem dX16_product_0 : decode cX16_product 0 = .ok (.aload_n 0, 1) := dk_42 (dk_at dksX16_product_0 0 rfl rfl)
theorem dX16_product_1 : decode cX16_product 1 = .ok (.invokevirtual 41, 3) := dk_182 0 41 (dk_at dksX16_product_0 1 rfl rfl)
theorem dX16_product_4 : decode cX16_product 4 = .ok (.astore_n 1, 1) := dk_76 (dk_at dksX16_product_0 4 rfl rfl)
theorem dX16_product_5 : decode cX16_product 5 = .ok (.aload_n 0, 1) := dk_42 (dk_at dksX16_product_0 5 rfl rfl)
theorem dX16_product_6 : decode cX16_product 6 = .ok (.invokevirtual 15, 3) := dk_182 0 15 (dk_at dksX16_product_0 6 rfl rfl)
theorem dX16_product_9 : decode cX16_product 9 = .ok (.bipush 42, 2) := dk_16 42 (dk_at dksX16_product_0 9 rfl rfl)
theorem dX16_product_11 : decode cX16_product 11 = .ok (.if_icmp .eq 21, 3) := dk_159 0 21 (dk_at dksX16_product_0 11 rfl rfl)
theorem dX16_product_14 : decode cX16_product 14 = .ok (.aload_n 0, 1) := dk_42 (dk_at dksX16_product_0 14 rfl rfl)
theorem dX16_product_15 : decode cX16_product 15 = .ok (.invokevirtual 15, 3) := dk_182 0 15 (dk_at dksX16_product_0 15 rfl rfl)
theorem dX16_product_18 : decode cX16_product 18 = .ok (.bipush 47, 2) := dk_16 47 (dk_at dksX16_product_0 18 rfl rfl)
theorem dX16_product_20 : decode cX16_product 20 = .ok (.if_icmp .eq 12, 3) := dk_159 0 12 (dk_at dksX16_product_0 20 rfl rfl)
theorem dX16_product_23 : decode cX16_product 23 = .ok (.aload_n 0, 1) := dk_42 (dk_at dksX16_product_0 23 rfl rfl)
theorem dX16_product_24 : decode cX16_product 24 = .ok (.invokevirtual 15, 3) := dk_182 0 15 (dk_at dksX16_product_1 0 rfl rfl)
theorem dX16_product_27 : decode cX16_product 27 = .ok (.bipush 37, 2) := dk_16 37 (dk_at dksX16_product_1 3 rfl rfl)
theorem dX16_product_29 : decode cX16_product 29 = .ok (.if_icmp .ne 72, 3) := dk_160 0 72 (dk_at dksX16_product_1 5 rfl rfl)
theorem dX16_product_32 : decode cX16_product 32 = .ok (.aload_n 0, 1) := dk_42 (dk_at dksX16_product_1 8 rfl rfl)
theorem dX16_product_33 : decode cX16_product 33 = .ok (.invokevirtual 15, 3) := dk_182 0 15 (dk_at dksX16_product_1 9 rfl rfl)
theorem dX16_product_36 : decode cX16_product 36 = .ok (.istore_n 2, 1) := dk_61 (dk_at dksX16_product_1 12 rfl rfl)
theorem dX16_product_37 : decode cX16_product 37 = .ok (.aload_n 0, 1) := dk_42 (dk_at dksX16_product_1 13 rfl rfl)
theorem dX16_product_38 : decode cX16_product 38 = .ok (.dup, 1) := dk_89 (dk_at dksX16_product_1 14 rfl rfl)
theorem dX16_product_39 : decode cX16_product 39 = .ok (.getfield 19, 3) := dk_180 0 19 (dk_at dksX16_product_1 15 rfl rfl)
theorem dX16_product_42 : decode cX16_product 42 = .ok (.iconst 1, 1) := dk_4 (dk_at dksX16_product_1 18 rfl rfl)
theorem dX16_product_43 : decode cX16_product 43 = .ok (.iadd, 1) := dk_96 (dk_at dksX16_product_1 19 rfl rfl)
theorem dX16_product_44 : decode cX16_product 44 = .ok (.putfield 19, 3) := dk_181 0 19 (dk_at dksX16_product_1 20 rfl rfl)
theorem dX16_product_47 : decode cX16_product 47 = .ok (.aload_n 0, 1) := dk_42 (dk_at dksX16_product_1 23 rfl rfl)
theorem dX16_product_48 : decode cX16_product 48 = .ok (.invokevirtual 41, 3) := dk_182 0 41 (dk_at dksX16_product_2 0 rfl rfl)
theorem dX16_product_51 : decode cX16_product 51 = .ok (.astore_n 3, 1) := dk_78 (dk_at dksX16_product_2 3 rfl rfl)
theorem dX16_product_52 : decode cX16_product 52 = .ok (.iload_n 2, 1) := dk_28 (dk_at dksX16_product_2 4 rfl rfl)
theorem dX16_product_53 : decode cX16_product 53 = .ok (.bipush 42, 2) := dk_16 42 (dk_at dksX16_product_2 5 rfl rfl)
theorem dX16_product_55 : decode cX16_product 55 = .ok (.if_icmp .ne 15, 3) := dk_160 0 15 (dk_at dksX16_product_2 7 rfl rfl)
theorem dX16_product_58 : decode cX16_product 58 = .ok (.new 44, 3) := dk_187 0 44 (dk_at dksX16_product_2 10 rfl rfl)
theorem dX16_product_61 : decode cX16_product 61 = .ok (.dup, 1) := dk_89 (dk_at dksX16_product_2 13 rfl rfl)
theorem dX16_product_62 : decode cX16_product 62 = .ok (.aload_n 1, 1) := dk_43 (dk_at dksX16_product_2 14 rfl rfl)
theorem dX16_product_63 : decode cX16_product 63 = .ok (.aload_n 3, 1) := dk_45 (dk_at dksX16_product_2 15 rfl rfl)
theorem dX16_product_64 : decode cX16_product 64 = .ok (.invokespecial 46, 3) := dk_183 0 46 (dk_at dksX16_product_2 16 rfl rfl)
theorem dX16_product_67 : decode cX16_product 67 = .ok (.goto 30, 3) := dk_167 0 30 (dk_at dksX16_product_2 19 rfl rfl)
theorem dX16_product_70 : decode cX16_product 70 = .ok (.iload_n 2, 1) := dk_28 (dk_at dksX16_product_2 22 rfl rfl)
theorem dX16_product_71 : decode cX16_product 71 = .ok (.bipush 47, 2) := dk_16 47 (dk_at dksX16_product_3 0 rfl rfl)
theorem dX16_product_73 : decode cX16_product 73 = .ok (.if_icmp .ne 15, 3) := dk_160 0 15 (dk_at dksX16_product_3 2 rfl rfl)
theorem dX16_product_76 : decode cX16_product 76 = .ok (.new 47, 3) := dk_187 0 47 (dk_at dksX16_product_3 5 rfl rfl)
theorem dX16_product_79 : decode cX16_product 79 = .ok (.dup, 1) := dk_89 (dk_at dksX16_product_3 8 rfl rfl)
theorem dX16_product_80 : decode cX16_product 80 = .ok (.aload_n 1, 1) := dk_43 (dk_at dksX16_product_3 9 rfl rfl)
theorem dX16_product_81 : decode cX16_product 81 = .ok (.aload_n 3, 1) := dk_45 (dk_at dksX16_product_3 10 rfl rfl)
theorem dX16_product_82 : decode cX16_product 82 = .ok (.invokespecial 49, 3) := dk_183 0 49 (dk_at dksX16_product_3 11 rfl rfl)
theorem dX16_product_85 : decode cX16_product 85 = .ok (.goto 12, 3) := dk_167 0 12 (dk_at dksX16_product_3 14 rfl rfl)
theorem dX16_product_88 : decode cX16_product 88 = .ok (.new 50, 3) := dk_187 0 50 (dk_at dksX16_product_3 17 rfl rfl)
theorem dX16_product_91 : decode cX16_product 91 = .ok (.dup, 1) := dk_89 (dk_at dksX16_product_3 20 rfl rfl)
theorem dX16_product_92 : decode cX16_product 92 = .ok (.aload_n 1, 1) := dk_43 (dk_at dksX16_product_3 21 rfl rfl)
theorem dX16_product_93 : decode cX16_product 93 = .ok (.aload_n 3, 1) := dk_45 (dk_at dksX16_product_3 22 rfl rfl)
theorem dX16_product_94 : decode cX16_product 94 = .ok (.invokespecial 52, 3) := dk_183 0 52 (dk_at dksX16_product_4 0 rfl rfl)
theorem dX16_product_97 : decode cX16_product 97 = .ok (.astore_n 1, 1) := dk_76 (dk_at dksX16_product_4 3 rfl rfl)
theorem dX16_product_98 : decode cX16_product 98 = .ok (.goto (-93), 3) := dk_167 255 163 (dk_at dksX16_product_4 4 rfl rfl)
theorem dX16_product_101 : decode cX16_product 101 = .ok (.aload_n 1, 1) := dk_43 (dk_at dksX16_product_4 7 rfl rfl)
theorem dX16_product_102 : decode cX16_product 102 = .ok (.areturn, 1) := dk_176 (dk_at dksX16_product_4 8 rfl rfl)
abbrev cX16_unit : ByteArray := prog_7_method_5_code
def yX16_unit : MethodName := ⟨RX16, "unit", "()LPuppetHeirs$Term;"⟩
def dkwX16_unit_17 : List UInt8 := [182, 0, 109, 176, 42, 182, 0, 26, 191]
abbrev dktX16_unit_17 : List UInt8 := dkwX16_unit_17 ++ []
def dkwX16_unit_16 : List UInt8 := [182, 0, 105, 176, 42, 44, 16, 7, 182, 0, 105, 176, 42, 44, 16, 8, 182, 0, 105, 176, 42, 44]
abbrev dktX16_unit_16 : List UInt8 := dkwX16_unit_16 ++ dktX16_unit_17
def dkwX16_unit_15 : List UInt8 := [182, 0, 105, 176, 42, 44, 7, 182, 0, 105, 176, 42, 44, 8, 182, 0, 105, 176, 42, 44, 16, 6]
abbrev dktX16_unit_15 : List UInt8 := dkwX16_unit_15 ++ dktX16_unit_16
def dkwX16_unit_14 : List UInt8 := [42, 44, 3, 182, 0, 105, 176, 42, 44, 4, 182, 0, 105, 176, 42, 44, 5, 182, 0, 105, 176, 42, 44, 6]
abbrev dktX16_unit_14 : List UInt8 := dkwX16_unit_14 ++ dktX16_unit_15
def dkwX16_unit_13 : List UInt8 := [170, 0, 0, 0, 0, 0, 131, 0, 0, 0, 0, 0, 0, 0, 10, 0, 0, 0, 59, 0, 0, 0, 66, 0, 0, 0, 73, 0, 0, 0, 80, 0, 0, 0, 87, 0, 0, 0, 94, 0, 0, 0, 101, 0, 0, 0, 109, 0, 0, 0, 117, 0, 0, 0, 125, 0, 0, 0, 125]
abbrev dktX16_unit_13 : List UInt8 := dkwX16_unit_13 ++ dktX16_unit_14
def dkwX16_unit_12 : List UInt8 := [54, 4, 21, 4]
abbrev dktX16_unit_12 : List UInt8 := dkwX16_unit_12 ++ dktX16_unit_13
def dkwX16_unit_11 : List UInt8 := [182, 0, 82, 153, 0, 23, 16, 9, 54, 4, 167, 0, 16, 45, 18, 103, 182, 0, 82, 153, 0, 7, 16, 10]
abbrev dktX16_unit_11 : List UInt8 := dkwX16_unit_11 ++ dktX16_unit_12
def dkwX16_unit_10 : List UInt8 := [167, 0, 48, 45, 18, 99, 182, 0, 82, 153, 0, 39, 16, 8, 54, 4, 167, 0, 32, 45, 18, 101]
abbrev dktX16_unit_10 : List UInt8 := dkwX16_unit_10 ++ dktX16_unit_11
def dkwX16_unit_9 : List UInt8 := [153, 0, 71, 16, 6, 54, 4, 167, 0, 64, 45, 18, 97, 182, 0, 82, 153, 0, 55, 16, 7, 54, 4]
abbrev dktX16_unit_9 : List UInt8 := dkwX16_unit_9 ++ dktX16_unit_10
def dkwX16_unit_8 : List UInt8 := [167, 0, 95, 45, 18, 94, 182, 0, 82, 153, 0, 86, 8, 54, 4, 167, 0, 80, 45, 18, 96, 182, 0, 82]
abbrev dktX16_unit_8 : List UInt8 := dkwX16_unit_8 ++ dktX16_unit_9
def dkwX16_unit_7 : List UInt8 := [182, 0, 82, 153, 0, 116, 6, 54, 4, 167, 0, 110, 45, 18, 92, 182, 0, 82, 153, 0, 101, 7, 54, 4]
abbrev dktX16_unit_7 : List UInt8 := dkwX16_unit_7 ++ dktX16_unit_8
def dkwX16_unit_6 : List UInt8 := [4, 54, 4, 167, 0, 140, 45, 18, 88, 182, 0, 82, 153, 0, 131, 5, 54, 4, 167, 0, 125, 45, 18, 90]
abbrev dktX16_unit_6 : List UInt8 := dkwX16_unit_6 ++ dktX16_unit_7
def dkwX16_unit_5 : List UInt8 := [45, 18, 80, 182, 0, 82, 153, 0, 161, 3, 54, 4, 167, 0, 155, 45, 18, 86, 182, 0, 82, 153, 0, 146]
abbrev dktX16_unit_5 : List UInt8 := dkwX16_unit_5 ++ dktX16_unit_6
def dkwX16_unit_4 : List UInt8 := [171, 0, 0, 0, 0, 1, 10, 0, 0, 0, 11, 143, 214, 162, 130, 0, 0, 0, 159, 194, 88, 219, 73, 0, 0, 0, 189, 197, 196, 30, 52, 0, 0, 0, 205, 0, 1, 120, 255, 0, 0, 0, 129, 0, 1, 158, 208, 0, 0, 0, 221, 0, 47, 215, 123, 0, 0, 0, 114, 0, 50, 175, 224, 0, 0, 0, 99, 0, 51, 59, 131, 0, 0, 0, 253, 0, 56, 136, 61, 0, 0, 0, 174, 6, 33, 78, 105, 0, 0, 0, 237, 6, 193, 27, 130, 0, 0, 0, 144]
abbrev dktX16_unit_4 : List UInt8 := dkwX16_unit_4 ++ dktX16_unit_5
def dkwX16_unit_3 : List UInt8 := [44, 78, 2, 54, 4, 45, 182, 0, 75]
abbrev dktX16_unit_3 : List UInt8 := dkwX16_unit_3 ++ dktX16_unit_4
def dkwX16_unit_2 : List UInt8 := [163, 0, 19, 187, 0, 63, 89, 42, 3, 17, 3, 231, 182, 0, 65, 183, 0, 69, 176, 42, 182, 0, 71, 77]
abbrev dktX16_unit_2 : List UInt8 := dkwX16_unit_2 ++ dktX16_unit_3
def dkwX16_unit_1 : List UInt8 := [182, 0, 57, 42, 89, 180, 0, 60, 4, 100, 181, 0, 60, 44, 176, 27, 16, 48, 161, 0, 25, 27, 16, 57]
abbrev dktX16_unit_1 : List UInt8 := dkwX16_unit_1 ++ dktX16_unit_2
def dkwX16_unit_0 : List UInt8 := [42, 182, 0, 15, 60, 27, 16, 40, 160, 0, 31, 42, 4, 182, 0, 53, 42, 182, 0, 9, 77, 42, 16, 41]
abbrev dktX16_unit_0 : List UInt8 := dkwX16_unit_0 ++ dktX16_unit_1
theorem dksX16_unit_0 : cX16_unit.data.toList.drop 0 = dktX16_unit_0 := by decide +kernel
theorem dksX16_unit_1 : cX16_unit.data.toList.drop 24 = dktX16_unit_1 := dk_seg dksX16_unit_0 24 rfl rfl
theorem dksX16_unit_2 : cX16_unit.data.toList.drop 48 = dktX16_unit_2 := dk_seg dksX16_unit_1 24 rfl rfl
theorem dksX16_unit_3 : cX16_unit.data.toList.drop 72 = dktX16_unit_3 := dk_seg dksX16_unit_2 24 rfl rfl
theorem dksX16_unit_4 : cX16_unit.data.toList.drop 81 = dktX16_unit_4 := dk_seg dksX16_unit_3 9 rfl rfl
theorem dksX16_unit_5 : cX16_unit.data.toList.drop 180 = dktX16_unit_5 := dk_seg dksX16_unit_4 99 rfl rfl
theorem dksX16_unit_6 : cX16_unit.data.toList.drop 204 = dktX16_unit_6 := dk_seg dksX16_unit_5 24 rfl rfl
theorem dksX16_unit_7 : cX16_unit.data.toList.drop 228 = dktX16_unit_7 := dk_seg dksX16_unit_6 24 rfl rfl
theorem dksX16_unit_8 : cX16_unit.data.toList.drop 252 = dktX16_unit_8 := dk_seg dksX16_unit_7 24 rfl rfl
theorem dksX16_unit_9 : cX16_unit.data.toList.drop 276 = dktX16_unit_9 := dk_seg dksX16_unit_8 24 rfl rfl
theorem dksX16_unit_10 : cX16_unit.data.toList.drop 299 = dktX16_unit_10 := dk_seg dksX16_unit_9 23 rfl rfl
theorem dksX16_unit_11 : cX16_unit.data.toList.drop 321 = dktX16_unit_11 := dk_seg dksX16_unit_10 22 rfl rfl
theorem dksX16_unit_12 : cX16_unit.data.toList.drop 345 = dktX16_unit_12 := dk_seg dksX16_unit_11 24 rfl rfl
theorem dksX16_unit_13 : cX16_unit.data.toList.drop 349 = dktX16_unit_13 := dk_seg dksX16_unit_12 4 rfl rfl
theorem dksX16_unit_14 : cX16_unit.data.toList.drop 408 = dktX16_unit_14 := dk_seg dksX16_unit_13 59 rfl rfl
theorem dksX16_unit_15 : cX16_unit.data.toList.drop 432 = dktX16_unit_15 := dk_seg dksX16_unit_14 24 rfl rfl
theorem dksX16_unit_16 : cX16_unit.data.toList.drop 454 = dktX16_unit_16 := dk_seg dksX16_unit_15 22 rfl rfl
theorem dksX16_unit_17 : cX16_unit.data.toList.drop 476 = dktX16_unit_17 := dk_seg dksX16_unit_16 22 rfl rfl
theorem dX16_unit_0 : decode cX16_unit 0 = .ok (.aload_n 0, 1) := dk_42 (dk_at dksX16_unit_0 0 rfl rfl)
theorem dX16_unit_1 : decode cX16_unit 1 = .ok (.invokevirtual 15, 3) := dk_182 0 15 (dk_at dksX16_unit_0 1 rfl rfl)
theorem dX16_unit_4 : decode cX16_unit 4 = .ok (.istore_n 1, 1) := dk_60 (dk_at dksX16_unit_0 4 rfl rfl)
theorem dX16_unit_5 : decode cX16_unit 5 = .ok (.iload_n 1, 1) := dk_27 (dk_at dksX16_unit_0 5 rfl rfl)
theorem dX16_unit_6 : decode cX16_unit 6 = .ok (.bipush 40, 2) := dk_16 40 (dk_at dksX16_unit_0 6 rfl rfl)
theorem dX16_unit_8 : decode cX16_unit 8 = .ok (.if_icmp .ne 31, 3) := dk_160 0 31 (dk_at dksX16_unit_0 8 rfl rfl)
theorem dX16_unit_11 : decode cX16_unit 11 = .ok (.aload_n 0, 1) := dk_42 (dk_at dksX16_unit_0 11 rfl rfl)
theorem dX16_unit_12 : decode cX16_unit 12 = .ok (.iconst 1, 1) := dk_4 (dk_at dksX16_unit_0 12 rfl rfl)
theorem dX16_unit_13 : decode cX16_unit 13 = .ok (.invokevirtual 53, 3) := dk_182 0 53 (dk_at dksX16_unit_0 13 rfl rfl)
theorem dX16_unit_16 : decode cX16_unit 16 = .ok (.aload_n 0, 1) := dk_42 (dk_at dksX16_unit_0 16 rfl rfl)
theorem dX16_unit_17 : decode cX16_unit 17 = .ok (.invokevirtual 9, 3) := dk_182 0 9 (dk_at dksX16_unit_0 17 rfl rfl)
theorem dX16_unit_20 : decode cX16_unit 20 = .ok (.astore_n 2, 1) := dk_77 (dk_at dksX16_unit_0 20 rfl rfl)
theorem dX16_unit_21 : decode cX16_unit 21 = .ok (.aload_n 0, 1) := dk_42 (dk_at dksX16_unit_0 21 rfl rfl)
theorem dX16_unit_22 : decode cX16_unit 22 = .ok (.bipush 41, 2) := dk_16 41 (dk_at dksX16_unit_0 22 rfl rfl)
theorem dX16_unit_24 : decode cX16_unit 24 = .ok (.invokevirtual 57, 3) := dk_182 0 57 (dk_at dksX16_unit_1 0 rfl rfl)
theorem dX16_unit_27 : decode cX16_unit 27 = .ok (.aload_n 0, 1) := dk_42 (dk_at dksX16_unit_1 3 rfl rfl)
theorem dX16_unit_28 : decode cX16_unit 28 = .ok (.dup, 1) := dk_89 (dk_at dksX16_unit_1 4 rfl rfl)
theorem dX16_unit_29 : decode cX16_unit 29 = .ok (.getfield 60, 3) := dk_180 0 60 (dk_at dksX16_unit_1 5 rfl rfl)
theorem dX16_unit_32 : decode cX16_unit 32 = .ok (.iconst 1, 1) := dk_4 (dk_at dksX16_unit_1 8 rfl rfl)
theorem dX16_unit_33 : decode cX16_unit 33 = .ok (.isub, 1) := dk_100 (dk_at dksX16_unit_1 9 rfl rfl)
theorem dX16_unit_34 : decode cX16_unit 34 = .ok (.putfield 60, 3) := dk_181 0 60 (dk_at dksX16_unit_1 10 rfl rfl)
theorem dX16_unit_37 : decode cX16_unit 37 = .ok (.aload_n 2, 1) := dk_44 (dk_at dksX16_unit_1 13 rfl rfl)
theorem dX16_unit_38 : decode cX16_unit 38 = .ok (.areturn, 1) := dk_176 (dk_at dksX16_unit_1 14 rfl rfl)
theorem dX16_unit_39 : decode cX16_unit 39 = .ok (.iload_n 1, 1) := dk_27 (dk_at dksX16_unit_1 15 rfl rfl)
theorem dX16_unit_40 : decode cX16_unit 40 = .ok (.bipush 48, 2) := dk_16 48 (dk_at dksX16_unit_1 16 rfl rfl)
theorem dX16_unit_42 : decode cX16_unit 42 = .ok (.if_icmp .lt 25, 3) := dk_161 0 25 (dk_at dksX16_unit_1 18 rfl rfl)
theorem dX16_unit_45 : decode cX16_unit 45 = .ok (.iload_n 1, 1) := dk_27 (dk_at dksX16_unit_1 21 rfl rfl)
theorem dX16_unit_46 : decode cX16_unit 46 = .ok (.bipush 57, 2) := dk_16 57 (dk_at dksX16_unit_1 22 rfl rfl)
theorem dX16_unit_48 : decode cX16_unit 48 = .ok (.if_icmp .gt 19, 3) := dk_163 0 19 (dk_at dksX16_unit_2 0 rfl rfl)
theorem dX16_unit_51 : decode cX16_unit 51 = .ok (.new 63, 3) := dk_187 0 63 (dk_at dksX16_unit_2 3 rfl rfl)
theorem dX16_unit_54 : decode cX16_unit 54 = .ok (.dup, 1) := dk_89 (dk_at dksX16_unit_2 6 rfl rfl)
theorem dX16_unit_55 : decode cX16_unit 55 = .ok (.aload_n 0, 1) := dk_42 (dk_at dksX16_unit_2 7 rfl rfl)
theorem dX16_unit_56 : decode cX16_unit 56 = .ok (.iconst 0, 1) := dk_3 (dk_at dksX16_unit_2 8 rfl rfl)
theorem dX16_unit_57 : decode cX16_unit 57 = .ok (.sipush 999, 3) := dk_17 3 231 (dk_at dksX16_unit_2 9 rfl rfl)
theorem dX16_unit_60 : decode cX16_unit 60 = .ok (.invokevirtual 65, 3) := dk_182 0 65 (dk_at dksX16_unit_2 12 rfl rfl)
theorem dX16_unit_63 : decode cX16_unit 63 = .ok (.invokespecial 69, 3) := dk_183 0 69 (dk_at dksX16_unit_2 15 rfl rfl)
theorem dX16_unit_66 : decode cX16_unit 66 = .ok (.areturn, 1) := dk_176 (dk_at dksX16_unit_2 18 rfl rfl)
theorem dX16_unit_67 : decode cX16_unit 67 = .ok (.aload_n 0, 1) := dk_42 (dk_at dksX16_unit_2 19 rfl rfl)
theorem dX16_unit_68 : decode cX16_unit 68 = .ok (.invokevirtual 71, 3) := dk_182 0 71 (dk_at dksX16_unit_2 20 rfl rfl)
theorem dX16_unit_71 : decode cX16_unit 71 = .ok (.astore_n 2, 1) := dk_77 (dk_at dksX16_unit_2 23 rfl rfl)
theorem dX16_unit_72 : decode cX16_unit 72 = .ok (.aload_n 2, 1) := dk_44 (dk_at dksX16_unit_3 0 rfl rfl)
theorem dX16_unit_73 : decode cX16_unit 73 = .ok (.astore_n 3, 1) := dk_78 (dk_at dksX16_unit_3 1 rfl rfl)
theorem dX16_unit_74 : decode cX16_unit 74 = .ok (.iconst (-1), 1) := dk_2 (dk_at dksX16_unit_3 2 rfl rfl)
theorem dX16_unit_75 : decode cX16_unit 75 = .ok (.istore 4, 2) := dk_54 4 (dk_at dksX16_unit_3 3 rfl rfl)
theorem dX16_unit_77 : decode cX16_unit 77 = .ok (.aload_n 3, 1) := dk_45 (dk_at dksX16_unit_3 5 rfl rfl)
theorem dX16_unit_78 : decode cX16_unit 78 = .ok (.invokevirtual 75, 3) := dk_182 0 75 (dk_at dksX16_unit_3 6 rfl rfl)
theorem dX16_unit_81 : decode cX16_unit 81 = .ok (.lookupswitch 266 #[(-1881759102, 159), (-1034364087, 189), (-977002956, 205), (96511, 129), (106192, 221), (3135355, 114), (3321824, 99), (3357571, 253), (3704893, 174), (102846057, 237), (113318786, 144)], 99) := by decide +kernel
theorem dX16_unit_180 : decode cX16_unit 180 = .ok (.aload_n 3, 1) := dk_45 (dk_at dksX16_unit_5 0 rfl rfl)
theorem dX16_unit_181 : decode cX16_unit 181 = .ok (.ldc 80, 2) := dk_18 80 (dk_at dksX16_unit_5 1 rfl rfl)
theorem dX16_unit_183 : decode cX16_unit 183 = .ok (.invokevirtual 82, 3) := dk_182 0 82 (dk_at dksX16_unit_5 3 rfl rfl)
theorem dX16_unit_186 : decode cX16_unit 186 = .ok (.ifCond .eq 161, 3) := dk_153 0 161 (dk_at dksX16_unit_5 6 rfl rfl)
theorem dX16_unit_189 : decode cX16_unit 189 = .ok (.iconst 0, 1) := dk_3 (dk_at dksX16_unit_5 9 rfl rfl)
theorem dX16_unit_190 : decode cX16_unit 190 = .ok (.istore 4, 2) := dk_54 4 (dk_at dksX16_unit_5 10 rfl rfl)
theorem dX16_unit_192 : decode cX16_unit 192 = .ok (.goto 155, 3) := dk_167 0 155 (dk_at dksX16_unit_5 12 rfl rfl)
theorem dX16_unit_195 : decode cX16_unit 195 = .ok (.aload_n 3, 1) := dk_45 (dk_at dksX16_unit_5 15 rfl rfl)
theorem dX16_unit_196 : decode cX16_unit 196 = .ok (.ldc 86, 2) := dk_18 86 (dk_at dksX16_unit_5 16 rfl rfl)
theorem dX16_unit_198 : decode cX16_unit 198 = .ok (.invokevirtual 82, 3) := dk_182 0 82 (dk_at dksX16_unit_5 18 rfl rfl)
theorem dX16_unit_201 : decode cX16_unit 201 = .ok (.ifCond .eq 146, 3) := dk_153 0 146 (dk_at dksX16_unit_5 21 rfl rfl)
theorem dX16_unit_204 : decode cX16_unit 204 = .ok (.iconst 1, 1) := dk_4 (dk_at dksX16_unit_6 0 rfl rfl)
theorem dX16_unit_205 : decode cX16_unit 205 = .ok (.istore 4, 2) := dk_54 4 (dk_at dksX16_unit_6 1 rfl rfl)
theorem dX16_unit_207 : decode cX16_unit 207 = .ok (.goto 140, 3) := dk_167 0 140 (dk_at dksX16_unit_6 3 rfl rfl)
theorem dX16_unit_210 : decode cX16_unit 210 = .ok (.aload_n 3, 1) := dk_45 (dk_at dksX16_unit_6 6 rfl rfl)
theorem dX16_unit_211 : decode cX16_unit 211 = .ok (.ldc 88, 2) := dk_18 88 (dk_at dksX16_unit_6 7 rfl rfl)
theorem dX16_unit_213 : decode cX16_unit 213 = .ok (.invokevirtual 82, 3) := dk_182 0 82 (dk_at dksX16_unit_6 9 rfl rfl)
theorem dX16_unit_216 : decode cX16_unit 216 = .ok (.ifCond .eq 131, 3) := dk_153 0 131 (dk_at dksX16_unit_6 12 rfl rfl)
theorem dX16_unit_219 : decode cX16_unit 219 = .ok (.iconst 2, 1) := dk_5 (dk_at dksX16_unit_6 15 rfl rfl)
theorem dX16_unit_220 : decode cX16_unit 220 = .ok (.istore 4, 2) := dk_54 4 (dk_at dksX16_unit_6 16 rfl rfl)
theorem dX16_unit_222 : decode cX16_unit 222 = .ok (.goto 125, 3) := dk_167 0 125 (dk_at dksX16_unit_6 18 rfl rfl)
theorem dX16_unit_225 : decode cX16_unit 225 = .ok (.aload_n 3, 1) := dk_45 (dk_at dksX16_unit_6 21 rfl rfl)
theorem dX16_unit_226 : decode cX16_unit 226 = .ok (.ldc 90, 2) := dk_18 90 (dk_at dksX16_unit_6 22 rfl rfl)
theorem dX16_unit_228 : decode cX16_unit 228 = .ok (.invokevirtual 82, 3) := dk_182 0 82 (dk_at dksX16_unit_7 0 rfl rfl)
theorem dX16_unit_231 : decode cX16_unit 231 = .ok (.ifCond .eq 116, 3) := dk_153 0 116 (dk_at dksX16_unit_7 3 rfl rfl)
theorem dX16_unit_234 : decode cX16_unit 234 = .ok (.iconst 3, 1) := dk_6 (dk_at dksX16_unit_7 6 rfl rfl)
theorem dX16_unit_235 : decode cX16_unit 235 = .ok (.istore 4, 2) := dk_54 4 (dk_at dksX16_unit_7 7 rfl rfl)
theorem dX16_unit_237 : decode cX16_unit 237 = .ok (.goto 110, 3) := dk_167 0 110 (dk_at dksX16_unit_7 9 rfl rfl)
theorem dX16_unit_240 : decode cX16_unit 240 = .ok (.aload_n 3, 1) := dk_45 (dk_at dksX16_unit_7 12 rfl rfl)
theorem dX16_unit_241 : decode cX16_unit 241 = .ok (.ldc 92, 2) := dk_18 92 (dk_at dksX16_unit_7 13 rfl rfl)
theorem dX16_unit_243 : decode cX16_unit 243 = .ok (.invokevirtual 82, 3) := dk_182 0 82 (dk_at dksX16_unit_7 15 rfl rfl)
theorem dX16_unit_246 : decode cX16_unit 246 = .ok (.ifCond .eq 101, 3) := dk_153 0 101 (dk_at dksX16_unit_7 18 rfl rfl)
theorem dX16_unit_249 : decode cX16_unit 249 = .ok (.iconst 4, 1) := dk_7 (dk_at dksX16_unit_7 21 rfl rfl)
theorem dX16_unit_250 : decode cX16_unit 250 = .ok (.istore 4, 2) := dk_54 4 (dk_at dksX16_unit_7 22 rfl rfl)
theorem dX16_unit_252 : decode cX16_unit 252 = .ok (.goto 95, 3) := dk_167 0 95 (dk_at dksX16_unit_8 0 rfl rfl)
theorem dX16_unit_255 : decode cX16_unit 255 = .ok (.aload_n 3, 1) := dk_45 (dk_at dksX16_unit_8 3 rfl rfl)
theorem dX16_unit_256 : decode cX16_unit 256 = .ok (.ldc 94, 2) := dk_18 94 (dk_at dksX16_unit_8 4 rfl rfl)
theorem dX16_unit_258 : decode cX16_unit 258 = .ok (.invokevirtual 82, 3) := dk_182 0 82 (dk_at dksX16_unit_8 6 rfl rfl)
theorem dX16_unit_261 : decode cX16_unit 261 = .ok (.ifCond .eq 86, 3) := dk_153 0 86 (dk_at dksX16_unit_8 9 rfl rfl)
theorem dX16_unit_264 : decode cX16_unit 264 = .ok (.iconst 5, 1) := dk_8 (dk_at dksX16_unit_8 12 rfl rfl)
theorem dX16_unit_265 : decode cX16_unit 265 = .ok (.istore 4, 2) := dk_54 4 (dk_at dksX16_unit_8 13 rfl rfl)
theorem dX16_unit_267 : decode cX16_unit 267 = .ok (.goto 80, 3) := dk_167 0 80 (dk_at dksX16_unit_8 15 rfl rfl)
theorem dX16_unit_270 : decode cX16_unit 270 = .ok (.aload_n 3, 1) := dk_45 (dk_at dksX16_unit_8 18 rfl rfl)
theorem dX16_unit_271 : decode cX16_unit 271 = .ok (.ldc 96, 2) := dk_18 96 (dk_at dksX16_unit_8 19 rfl rfl)
theorem dX16_unit_273 : decode cX16_unit 273 = .ok (.invokevirtual 82, 3) := dk_182 0 82 (dk_at dksX16_unit_8 21 rfl rfl)
theorem dX16_unit_276 : decode cX16_unit 276 = .ok (.ifCond .eq 71, 3) := dk_153 0 71 (dk_at dksX16_unit_9 0 rfl rfl)
theorem dX16_unit_279 : decode cX16_unit 279 = .ok (.bipush 6, 2) := dk_16 6 (dk_at dksX16_unit_9 3 rfl rfl)
theorem dX16_unit_281 : decode cX16_unit 281 = .ok (.istore 4, 2) := dk_54 4 (dk_at dksX16_unit_9 5 rfl rfl)
theorem dX16_unit_283 : decode cX16_unit 283 = .ok (.goto 64, 3) := dk_167 0 64 (dk_at dksX16_unit_9 7 rfl rfl)
theorem dX16_unit_286 : decode cX16_unit 286 = .ok (.aload_n 3, 1) := dk_45 (dk_at dksX16_unit_9 10 rfl rfl)
theorem dX16_unit_287 : decode cX16_unit 287 = .ok (.ldc 97, 2) := dk_18 97 (dk_at dksX16_unit_9 11 rfl rfl)
theorem dX16_unit_289 : decode cX16_unit 289 = .ok (.invokevirtual 82, 3) := dk_182 0 82 (dk_at dksX16_unit_9 13 rfl rfl)
theorem dX16_unit_292 : decode cX16_unit 292 = .ok (.ifCond .eq 55, 3) := dk_153 0 55 (dk_at dksX16_unit_9 16 rfl rfl)
theorem dX16_unit_295 : decode cX16_unit 295 = .ok (.bipush 7, 2) := dk_16 7 (dk_at dksX16_unit_9 19 rfl rfl)
theorem dX16_unit_297 : decode cX16_unit 297 = .ok (.istore 4, 2) := dk_54 4 (dk_at dksX16_unit_9 21 rfl rfl)
theorem dX16_unit_299 : decode cX16_unit 299 = .ok (.goto 48, 3) := dk_167 0 48 (dk_at dksX16_unit_10 0 rfl rfl)
theorem dX16_unit_302 : decode cX16_unit 302 = .ok (.aload_n 3, 1) := dk_45 (dk_at dksX16_unit_10 3 rfl rfl)
theorem dX16_unit_303 : decode cX16_unit 303 = .ok (.ldc 99, 2) := dk_18 99 (dk_at dksX16_unit_10 4 rfl rfl)
theorem dX16_unit_305 : decode cX16_unit 305 = .ok (.invokevirtual 82, 3) := dk_182 0 82 (dk_at dksX16_unit_10 6 rfl rfl)
theorem dX16_unit_308 : decode cX16_unit 308 = .ok (.ifCond .eq 39, 3) := dk_153 0 39 (dk_at dksX16_unit_10 9 rfl rfl)
theorem dX16_unit_311 : decode cX16_unit 311 = .ok (.bipush 8, 2) := dk_16 8 (dk_at dksX16_unit_10 12 rfl rfl)
theorem dX16_unit_313 : decode cX16_unit 313 = .ok (.istore 4, 2) := dk_54 4 (dk_at dksX16_unit_10 14 rfl rfl)
theorem dX16_unit_315 : decode cX16_unit 315 = .ok (.goto 32, 3) := dk_167 0 32 (dk_at dksX16_unit_10 16 rfl rfl)
theorem dX16_unit_318 : decode cX16_unit 318 = .ok (.aload_n 3, 1) := dk_45 (dk_at dksX16_unit_10 19 rfl rfl)
theorem dX16_unit_319 : decode cX16_unit 319 = .ok (.ldc 101, 2) := dk_18 101 (dk_at dksX16_unit_10 20 rfl rfl)
theorem dX16_unit_321 : decode cX16_unit 321 = .ok (.invokevirtual 82, 3) := dk_182 0 82 (dk_at dksX16_unit_11 0 rfl rfl)
theorem dX16_unit_324 : decode cX16_unit 324 = .ok (.ifCond .eq 23, 3) := dk_153 0 23 (dk_at dksX16_unit_11 3 rfl rfl)
theorem dX16_unit_327 : decode cX16_unit 327 = .ok (.bipush 9, 2) := dk_16 9 (dk_at dksX16_unit_11 6 rfl rfl)
theorem dX16_unit_329 : decode cX16_unit 329 = .ok (.istore 4, 2) := dk_54 4 (dk_at dksX16_unit_11 8 rfl rfl)
theorem dX16_unit_331 : decode cX16_unit 331 = .ok (.goto 16, 3) := dk_167 0 16 (dk_at dksX16_unit_11 10 rfl rfl)
theorem dX16_unit_334 : decode cX16_unit 334 = .ok (.aload_n 3, 1) := dk_45 (dk_at dksX16_unit_11 13 rfl rfl)
theorem dX16_unit_335 : decode cX16_unit 335 = .ok (.ldc 103, 2) := dk_18 103 (dk_at dksX16_unit_11 14 rfl rfl)
theorem dX16_unit_337 : decode cX16_unit 337 = .ok (.invokevirtual 82, 3) := dk_182 0 82 (dk_at dksX16_unit_11 16 rfl rfl)
theorem dX16_unit_340 : decode cX16_unit 340 = .ok (.ifCond .eq 7, 3) := dk_153 0 7 (dk_at dksX16_unit_11 19 rfl rfl)
theorem dX16_unit_343 : decode cX16_unit 343 = .ok (.bipush 10, 2) := dk_16 10 (dk_at dksX16_unit_11 22 rfl rfl)
theorem dX16_unit_345 : decode cX16_unit 345 = .ok (.istore 4, 2) := dk_54 4 (dk_at dksX16_unit_12 0 rfl rfl)
theorem dX16_unit_347 : decode cX16_unit 347 = .ok (.iload 4, 2) := dk_21 4 (dk_at dksX16_unit_12 2 rfl rfl)
theorem dX16_unit_349 : decode cX16_unit 349 = .ok (.tableswitch 131 0 10 #[59, 66, 73, 80, 87, 94, 101, 109, 117, 125, 125], 59) := by decide +kernel
theorem dX16_unit_408 : decode cX16_unit 408 = .ok (.aload_n 0, 1) := dk_42 (dk_at dksX16_unit_14 0 rfl rfl)
theorem dX16_unit_409 : decode cX16_unit 409 = .ok (.aload_n 2, 1) := dk_44 (dk_at dksX16_unit_14 1 rfl rfl)
theorem dX16_unit_410 : decode cX16_unit 410 = .ok (.iconst 0, 1) := dk_3 (dk_at dksX16_unit_14 2 rfl rfl)
theorem dX16_unit_411 : decode cX16_unit 411 = .ok (.invokevirtual 105, 3) := dk_182 0 105 (dk_at dksX16_unit_14 3 rfl rfl)
theorem dX16_unit_414 : decode cX16_unit 414 = .ok (.areturn, 1) := dk_176 (dk_at dksX16_unit_14 6 rfl rfl)
theorem dX16_unit_415 : decode cX16_unit 415 = .ok (.aload_n 0, 1) := dk_42 (dk_at dksX16_unit_14 7 rfl rfl)
theorem dX16_unit_416 : decode cX16_unit 416 = .ok (.aload_n 2, 1) := dk_44 (dk_at dksX16_unit_14 8 rfl rfl)
theorem dX16_unit_417 : decode cX16_unit 417 = .ok (.iconst 1, 1) := dk_4 (dk_at dksX16_unit_14 9 rfl rfl)
theorem dX16_unit_418 : decode cX16_unit 418 = .ok (.invokevirtual 105, 3) := dk_182 0 105 (dk_at dksX16_unit_14 10 rfl rfl)
theorem dX16_unit_421 : decode cX16_unit 421 = .ok (.areturn, 1) := dk_176 (dk_at dksX16_unit_14 13 rfl rfl)
theorem dX16_unit_422 : decode cX16_unit 422 = .ok (.aload_n 0, 1) := dk_42 (dk_at dksX16_unit_14 14 rfl rfl)
theorem dX16_unit_423 : decode cX16_unit 423 = .ok (.aload_n 2, 1) := dk_44 (dk_at dksX16_unit_14 15 rfl rfl)
theorem dX16_unit_424 : decode cX16_unit 424 = .ok (.iconst 2, 1) := dk_5 (dk_at dksX16_unit_14 16 rfl rfl)
theorem dX16_unit_425 : decode cX16_unit 425 = .ok (.invokevirtual 105, 3) := dk_182 0 105 (dk_at dksX16_unit_14 17 rfl rfl)
theorem dX16_unit_428 : decode cX16_unit 428 = .ok (.areturn, 1) := dk_176 (dk_at dksX16_unit_14 20 rfl rfl)
theorem dX16_unit_429 : decode cX16_unit 429 = .ok (.aload_n 0, 1) := dk_42 (dk_at dksX16_unit_14 21 rfl rfl)
theorem dX16_unit_430 : decode cX16_unit 430 = .ok (.aload_n 2, 1) := dk_44 (dk_at dksX16_unit_14 22 rfl rfl)
theorem dX16_unit_431 : decode cX16_unit 431 = .ok (.iconst 3, 1) := dk_6 (dk_at dksX16_unit_14 23 rfl rfl)
theorem dX16_unit_432 : decode cX16_unit 432 = .ok (.invokevirtual 105, 3) := dk_182 0 105 (dk_at dksX16_unit_15 0 rfl rfl)
theorem dX16_unit_435 : decode cX16_unit 435 = .ok (.areturn, 1) := dk_176 (dk_at dksX16_unit_15 3 rfl rfl)
theorem dX16_unit_436 : decode cX16_unit 436 = .ok (.aload_n 0, 1) := dk_42 (dk_at dksX16_unit_15 4 rfl rfl)
theorem dX16_unit_437 : decode cX16_unit 437 = .ok (.aload_n 2, 1) := dk_44 (dk_at dksX16_unit_15 5 rfl rfl)
theorem dX16_unit_438 : decode cX16_unit 438 = .ok (.iconst 4, 1) := dk_7 (dk_at dksX16_unit_15 6 rfl rfl)
theorem dX16_unit_439 : decode cX16_unit 439 = .ok (.invokevirtual 105, 3) := dk_182 0 105 (dk_at dksX16_unit_15 7 rfl rfl)
theorem dX16_unit_442 : decode cX16_unit 442 = .ok (.areturn, 1) := dk_176 (dk_at dksX16_unit_15 10 rfl rfl)
theorem dX16_unit_443 : decode cX16_unit 443 = .ok (.aload_n 0, 1) := dk_42 (dk_at dksX16_unit_15 11 rfl rfl)
theorem dX16_unit_444 : decode cX16_unit 444 = .ok (.aload_n 2, 1) := dk_44 (dk_at dksX16_unit_15 12 rfl rfl)
theorem dX16_unit_445 : decode cX16_unit 445 = .ok (.iconst 5, 1) := dk_8 (dk_at dksX16_unit_15 13 rfl rfl)
theorem dX16_unit_446 : decode cX16_unit 446 = .ok (.invokevirtual 105, 3) := dk_182 0 105 (dk_at dksX16_unit_15 14 rfl rfl)
theorem dX16_unit_449 : decode cX16_unit 449 = .ok (.areturn, 1) := dk_176 (dk_at dksX16_unit_15 17 rfl rfl)
theorem dX16_unit_450 : decode cX16_unit 450 = .ok (.aload_n 0, 1) := dk_42 (dk_at dksX16_unit_15 18 rfl rfl)
theorem dX16_unit_451 : decode cX16_unit 451 = .ok (.aload_n 2, 1) := dk_44 (dk_at dksX16_unit_15 19 rfl rfl)
theorem dX16_unit_452 : decode cX16_unit 452 = .ok (.bipush 6, 2) := dk_16 6 (dk_at dksX16_unit_15 20 rfl rfl)
theorem dX16_unit_454 : decode cX16_unit 454 = .ok (.invokevirtual 105, 3) := dk_182 0 105 (dk_at dksX16_unit_16 0 rfl rfl)
theorem dX16_unit_457 : decode cX16_unit 457 = .ok (.areturn, 1) := dk_176 (dk_at dksX16_unit_16 3 rfl rfl)
theorem dX16_unit_458 : decode cX16_unit 458 = .ok (.aload_n 0, 1) := dk_42 (dk_at dksX16_unit_16 4 rfl rfl)
theorem dX16_unit_459 : decode cX16_unit 459 = .ok (.aload_n 2, 1) := dk_44 (dk_at dksX16_unit_16 5 rfl rfl)
theorem dX16_unit_460 : decode cX16_unit 460 = .ok (.bipush 7, 2) := dk_16 7 (dk_at dksX16_unit_16 6 rfl rfl)
theorem dX16_unit_462 : decode cX16_unit 462 = .ok (.invokevirtual 105, 3) := dk_182 0 105 (dk_at dksX16_unit_16 8 rfl rfl)
theorem dX16_unit_465 : decode cX16_unit 465 = .ok (.areturn, 1) := dk_176 (dk_at dksX16_unit_16 11 rfl rfl)
theorem dX16_unit_466 : decode cX16_unit 466 = .ok (.aload_n 0, 1) := dk_42 (dk_at dksX16_unit_16 12 rfl rfl)
theorem dX16_unit_467 : decode cX16_unit 467 = .ok (.aload_n 2, 1) := dk_44 (dk_at dksX16_unit_16 13 rfl rfl)
theorem dX16_unit_468 : decode cX16_unit 468 = .ok (.bipush 8, 2) := dk_16 8 (dk_at dksX16_unit_16 14 rfl rfl)
theorem dX16_unit_470 : decode cX16_unit 470 = .ok (.invokevirtual 105, 3) := dk_182 0 105 (dk_at dksX16_unit_16 16 rfl rfl)
theorem dX16_unit_473 : decode cX16_unit 473 = .ok (.areturn, 1) := dk_176 (dk_at dksX16_unit_16 19 rfl rfl)
theorem dX16_unit_474 : decode cX16_unit 474 = .ok (.aload_n 0, 1) := dk_42 (dk_at dksX16_unit_16 20 rfl rfl)
theorem dX16_unit_475 : decode cX16_unit 475 = .ok (.aload_n 2, 1) := dk_44 (dk_at dksX16_unit_16 21 rfl rfl)
theorem dX16_unit_476 : decode cX16_unit 476 = .ok (.invokevirtual 109, 3) := dk_182 0 109 (dk_at dksX16_unit_17 0 rfl rfl)
theorem dX16_unit_479 : decode cX16_unit 479 = .ok (.areturn, 1) := dk_176 (dk_at dksX16_unit_17 3 rfl rfl)
theorem dX16_unit_480 : decode cX16_unit 480 = .ok (.aload_n 0, 1) := dk_42 (dk_at dksX16_unit_17 4 rfl rfl)
theorem dX16_unit_481 : decode cX16_unit 481 = .ok (.invokevirtual 26, 3) := dk_182 0 26 (dk_at dksX16_unit_17 5 rfl rfl)
theorem dX16_unit_484 : decode cX16_unit 484 = .ok (.athrow, 1) := dk_191 (dk_at dksX16_unit_17 8 rfl rfl)
abbrev cX16_fact : ByteArray := prog_7_method_6_code
def yX16_fact : MethodName := ⟨RX16, "fact", "(Ljava/lang/String;I)LPuppetHeirs$Term;"⟩
def dkwX16_fact_0 : List UInt8 := [42, 89, 180, 0, 19, 43, 182, 0, 113, 96, 181, 0, 19, 187, 0, 116, 89, 28, 183, 0, 118, 176]
abbrev dktX16_fact_0 : List UInt8 := dkwX16_fact_0 ++ []
theorem dksX16_fact_0 : cX16_fact.data.toList.drop 0 = dktX16_fact_0 := by decide +kernel
theorem dX16_fact_0 : decode cX16_fact 0 = .ok (.aload_n 0, 1) := dk_42 (dk_at dksX16_fact_0 0 rfl rfl)
theorem dX16_fact_1 : decode cX16_fact 1 = .ok (.dup, 1) := dk_89 (dk_at dksX16_fact_0 1 rfl rfl)
theorem dX16_fact_2 : decode cX16_fact 2 = .ok (.getfield 19, 3) := dk_180 0 19 (dk_at dksX16_fact_0 2 rfl rfl)
theorem dX16_fact_5 : decode cX16_fact 5 = .ok (.aload_n 1, 1) := dk_43 (dk_at dksX16_fact_0 5 rfl rfl)
theorem dX16_fact_6 : decode cX16_fact 6 = .ok (.invokevirtual 113, 3) := dk_182 0 113 (dk_at dksX16_fact_0 6 rfl rfl)
theorem dX16_fact_9 : decode cX16_fact 9 = .ok (.iadd, 1) := dk_96 (dk_at dksX16_fact_0 9 rfl rfl)
theorem dX16_fact_10 : decode cX16_fact 10 = .ok (.putfield 19, 3) := dk_181 0 19 (dk_at dksX16_fact_0 10 rfl rfl)
theorem dX16_fact_13 : decode cX16_fact 13 = .ok (.new 116, 3) := dk_187 0 116 (dk_at dksX16_fact_0 13 rfl rfl)
theorem dX16_fact_16 : decode cX16_fact 16 = .ok (.dup, 1) := dk_89 (dk_at dksX16_fact_0 16 rfl rfl)
theorem dX16_fact_17 : decode cX16_fact 17 = .ok (.iload_n 2, 1) := dk_28 (dk_at dksX16_fact_0 17 rfl rfl)
theorem dX16_fact_18 : decode cX16_fact 18 = .ok (.invokespecial 118, 3) := dk_183 0 118 (dk_at dksX16_fact_0 18 rfl rfl)
theorem dX16_fact_21 : decode cX16_fact 21 = .ok (.areturn, 1) := dk_176 (dk_at dksX16_fact_0 21 rfl rfl)
abbrev cX16_two : ByteArray := prog_7_method_7_code
def yX16_two : MethodName := ⟨RX16, "two", "(Ljava/lang/String;)LPuppetHeirs$Term;"⟩
def dkwX16_two_3 : List UInt8 := [89, 44, 45, 183, 0, 124, 176]
abbrev dktX16_two_3 : List UInt8 := dkwX16_two_3 ++ []
def dkwX16_two_2 : List UInt8 := [43, 18, 101, 182, 0, 82, 153, 0, 15, 187, 0, 119, 89, 44, 45, 183, 0, 121, 167, 0, 12, 187, 0, 122]
abbrev dktX16_two_2 : List UInt8 := dkwX16_two_2 ++ dktX16_two_3
def dkwX16_two_1 : List UInt8 := [182, 0, 57, 42, 182, 0, 9, 78, 42, 16, 93, 182, 0, 57, 42, 89, 180, 0, 60, 4, 100, 181, 0, 60]
abbrev dktX16_two_1 : List UInt8 := dkwX16_two_1 ++ dktX16_two_2
def dkwX16_two_0 : List UInt8 := [42, 43, 182, 0, 113, 182, 0, 53, 42, 16, 91, 182, 0, 57, 42, 182, 0, 9, 77, 42, 16, 44]
abbrev dktX16_two_0 : List UInt8 := dkwX16_two_0 ++ dktX16_two_1
theorem dksX16_two_0 : cX16_two.data.toList.drop 0 = dktX16_two_0 := by decide +kernel
theorem dksX16_two_1 : cX16_two.data.toList.drop 22 = dktX16_two_1 := dk_seg dksX16_two_0 22 rfl rfl
theorem dksX16_two_2 : cX16_two.data.toList.drop 46 = dktX16_two_2 := dk_seg dksX16_two_1 24 rfl rfl
theorem dksX16_two_3 : cX16_two.data.toList.drop 70 = dktX16_two_3 := dk_seg dksX16_two_2 24 rfl rfl
theorem dX16_two_0 : decode cX16_two 0 = .ok (.aload_n 0, 1) := dk_42 (dk_at dksX16_two_0 0 rfl rfl)
theorem dX16_two_1 : decode cX16_two 1 = .ok (.aload_n 1, 1) := dk_43 (dk_at dksX16_two_0 1 rfl rfl)
theorem dX16_two_2 : decode cX16_two 2 = .ok (.invokevirtual 113, 3) := dk_182 0 113 (dk_at dksX16_two_0 2 rfl rfl)
theorem dX16_two_5 : decode cX16_two 5 = .ok (.invokevirtual 53, 3) := dk_182 0 53 (dk_at dksX16_two_0 5 rfl rfl)
theorem dX16_two_8 : decode cX16_two 8 = .ok (.aload_n 0, 1) := dk_42 (dk_at dksX16_two_0 8 rfl rfl)
theorem dX16_two_9 : decode cX16_two 9 = .ok (.bipush 91, 2) := dk_16 91 (dk_at dksX16_two_0 9 rfl rfl)
theorem dX16_two_11 : decode cX16_two 11 = .ok (.invokevirtual 57, 3) := dk_182 0 57 (dk_at dksX16_two_0 11 rfl rfl)
theorem dX16_two_14 : decode cX16_two 14 = .ok (.aload_n 0, 1) := dk_42 (dk_at dksX16_two_0 14 rfl rfl)
theorem dX16_two_15 : decode cX16_two 15 = .ok (.invokevirtual 9, 3) := dk_182 0 9 (dk_at dksX16_two_0 15 rfl rfl)
theorem dX16_two_18 : decode cX16_two 18 = .ok (.astore_n 2, 1) := dk_77 (dk_at dksX16_two_0 18 rfl rfl)
theorem dX16_two_19 : decode cX16_two 19 = .ok (.aload_n 0, 1) := dk_42 (dk_at dksX16_two_0 19 rfl rfl)
theorem dX16_two_20 : decode cX16_two 20 = .ok (.bipush 44, 2) := dk_16 44 (dk_at dksX16_two_0 20 rfl rfl)
theorem dX16_two_22 : decode cX16_two 22 = .ok (.invokevirtual 57, 3) := dk_182 0 57 (dk_at dksX16_two_1 0 rfl rfl)
theorem dX16_two_25 : decode cX16_two 25 = .ok (.aload_n 0, 1) := dk_42 (dk_at dksX16_two_1 3 rfl rfl)
theorem dX16_two_26 : decode cX16_two 26 = .ok (.invokevirtual 9, 3) := dk_182 0 9 (dk_at dksX16_two_1 4 rfl rfl)
theorem dX16_two_29 : decode cX16_two 29 = .ok (.astore_n 3, 1) := dk_78 (dk_at dksX16_two_1 7 rfl rfl)
theorem dX16_two_30 : decode cX16_two 30 = .ok (.aload_n 0, 1) := dk_42 (dk_at dksX16_two_1 8 rfl rfl)
theorem dX16_two_31 : decode cX16_two 31 = .ok (.bipush 93, 2) := dk_16 93 (dk_at dksX16_two_1 9 rfl rfl)
theorem dX16_two_33 : decode cX16_two 33 = .ok (.invokevirtual 57, 3) := dk_182 0 57 (dk_at dksX16_two_1 11 rfl rfl)
theorem dX16_two_36 : decode cX16_two 36 = .ok (.aload_n 0, 1) := dk_42 (dk_at dksX16_two_1 14 rfl rfl)
theorem dX16_two_37 : decode cX16_two 37 = .ok (.dup, 1) := dk_89 (dk_at dksX16_two_1 15 rfl rfl)
theorem dX16_two_38 : decode cX16_two 38 = .ok (.getfield 60, 3) := dk_180 0 60 (dk_at dksX16_two_1 16 rfl rfl)
theorem dX16_two_41 : decode cX16_two 41 = .ok (.iconst 1, 1) := dk_4 (dk_at dksX16_two_1 19 rfl rfl)
theorem dX16_two_42 : decode cX16_two 42 = .ok (.isub, 1) := dk_100 (dk_at dksX16_two_1 20 rfl rfl)
theorem dX16_two_43 : decode cX16_two 43 = .ok (.putfield 60, 3) := dk_181 0 60 (dk_at dksX16_two_1 21 rfl rfl)
theorem dX16_two_46 : decode cX16_two 46 = .ok (.aload_n 1, 1) := dk_43 (dk_at dksX16_two_2 0 rfl rfl)
theorem dX16_two_47 : decode cX16_two 47 = .ok (.ldc 101, 2) := dk_18 101 (dk_at dksX16_two_2 1 rfl rfl)
theorem dX16_two_49 : decode cX16_two 49 = .ok (.invokevirtual 82, 3) := dk_182 0 82 (dk_at dksX16_two_2 3 rfl rfl)
theorem dX16_two_52 : decode cX16_two 52 = .ok (.ifCond .eq 15, 3) := dk_153 0 15 (dk_at dksX16_two_2 6 rfl rfl)
theorem dX16_two_55 : decode cX16_two 55 = .ok (.new 119, 3) := dk_187 0 119 (dk_at dksX16_two_2 9 rfl rfl)
theorem dX16_two_58 : decode cX16_two 58 = .ok (.dup, 1) := dk_89 (dk_at dksX16_two_2 12 rfl rfl)
theorem dX16_two_59 : decode cX16_two 59 = .ok (.aload_n 2, 1) := dk_44 (dk_at dksX16_two_2 13 rfl rfl)
theorem dX16_two_60 : decode cX16_two 60 = .ok (.aload_n 3, 1) := dk_45 (dk_at dksX16_two_2 14 rfl rfl)
theorem dX16_two_61 : decode cX16_two 61 = .ok (.invokespecial 121, 3) := dk_183 0 121 (dk_at dksX16_two_2 15 rfl rfl)
theorem dX16_two_64 : decode cX16_two 64 = .ok (.goto 12, 3) := dk_167 0 12 (dk_at dksX16_two_2 18 rfl rfl)
theorem dX16_two_67 : decode cX16_two 67 = .ok (.new 122, 3) := dk_187 0 122 (dk_at dksX16_two_2 21 rfl rfl)
theorem dX16_two_70 : decode cX16_two 70 = .ok (.dup, 1) := dk_89 (dk_at dksX16_two_3 0 rfl rfl)
theorem dX16_two_71 : decode cX16_two 71 = .ok (.aload_n 2, 1) := dk_44 (dk_at dksX16_two_3 1 rfl rfl)
theorem dX16_two_72 : decode cX16_two 72 = .ok (.aload_n 3, 1) := dk_45 (dk_at dksX16_two_3 2 rfl rfl)
theorem dX16_two_73 : decode cX16_two 73 = .ok (.invokespecial 124, 3) := dk_183 0 124 (dk_at dksX16_two_3 3 rfl rfl)
theorem dX16_two_76 : decode cX16_two 76 = .ok (.areturn, 1) := dk_176 (dk_at dksX16_two_3 6 rfl rfl)
theorem q150 : (Jvm.Cond.initialized "PuppetHeirs$LawReader") ∈ lw_all := lw_g (lw_at lw_m1 35 rfl) rfl
theorem q1063 : (Jvm.Cond.fieldLink "PuppetHeirs$LawReader" (23 : Nat) "PuppetHeirs$LawReader" "size" "I") ∈ lw_all := lw_g (lw_at lw_m4 228 rfl) rfl
theorem q1064 : (Jvm.Cond.sameField "PuppetHeirs$LawReader" "PuppetHeirs$Reader" "size" "I") ∈ lw_all := lw_g (lw_at lw_m4 229 rfl) rfl
theorem q1070 : (Jvm.Cond.fieldLink "PuppetHeirs$LawReader" (19 : Nat) "PuppetHeirs$LawReader" "next" "I") ∈ lw_all := lw_g (lw_at lw_m4 235 rfl) rfl
theorem q1071 : (Jvm.Cond.sameField "PuppetHeirs$LawReader" "PuppetHeirs$Reader" "next" "I") ∈ lw_all := lw_g (lw_at lw_m4 236 rfl) rfl
theorem q1077 : (Jvm.Cond.fieldLink "PuppetHeirs$LawReader" (60 : Nat) "PuppetHeirs$LawReader" "open" "I") ∈ lw_all := lw_g (lw_at lw_m5 2 rfl) rfl
theorem q1078 : (Jvm.Cond.sameField "PuppetHeirs$LawReader" "PuppetHeirs$Reader" "open" "I") ∈ lw_all := lw_g (lw_at lw_m5 3 rfl) rfl
theorem q1356 : (Jvm.Cond.selects "PuppetHeirs$LawReader" ({ cls := "java/lang/Object", name := "getClass", desc := "()Ljava/lang/Class;" } : Jvm.MethodName) ({ cls := "java/lang/Object", name := "getClass", desc := "()Ljava/lang/Class;" } : Jvm.MethodName)) ∈ lw_all := lw_g (lw_at lw_m6 41 rfl) rfl
theorem q1400 : (Jvm.Cond.instantiable "PuppetHeirs$LawReader" (5 : Nat)) ∈ lw_all := lw_g (lw_at lw_m6 85 rfl) rfl
theorem q1402 : (Jvm.Cond.instanceMethod ({ cls := "PuppetHeirs$LawReader", name := "<init>", desc := "([BI)V" } : Jvm.MethodName)) ∈ lw_all := lw_g (lw_at lw_m6 87 rfl) rfl
theorem q1403 : (Jvm.Cond.code ({ cls := "PuppetHeirs$LawReader", name := "<init>", desc := "([BI)V" } : Jvm.MethodName) prog_7_method_1_code (3 : Nat) (Option.none : Option Jvm.ClassFile.FieldType)) ∈ lw_all := lw_g (lw_at lw_m6 88 rfl) rfl
theorem q1404 : (Jvm.Cond.methodLink "PuppetHeirs$LawReader" (3 : Nat) ({ cls := "PuppetHeirs$Reader", name := "<init>", desc := "([BI)V" } : Jvm.MethodName)) ∈ lw_all := lw_g (lw_at lw_m6 89 rfl) rfl
theorem q1405 : (Jvm.Cond.laysFinal "PuppetHeirs$LawReader" "PuppetHeirs$Reader" "text" "[B") ∈ lw_all := lw_g (lw_at lw_m6 90 rfl) rfl
theorem q1406 : (Jvm.Cond.laysFinal "PuppetHeirs$LawReader" "PuppetHeirs$Reader" "size" "I") ∈ lw_all := lw_g (lw_at lw_m6 91 rfl) rfl
theorem q1407 : (Jvm.Cond.lays "PuppetHeirs$LawReader" "PuppetHeirs$Reader" "next" "I") ∈ lw_all := lw_g (lw_at lw_m6 92 rfl) rfl
theorem q1408 : (Jvm.Cond.lays "PuppetHeirs$LawReader" "PuppetHeirs$Reader" "from" "I") ∈ lw_all := lw_g (lw_at lw_m6 93 rfl) rfl
theorem q1409 : (Jvm.Cond.lays "PuppetHeirs$LawReader" "PuppetHeirs$Reader" "open" "I") ∈ lw_all := lw_g (lw_at lw_m6 94 rfl) rfl
theorem q1410 : (Jvm.Cond.superclass "PuppetHeirs$LawReader" "PuppetHeirs$Reader") ∈ lw_all := lw_g (lw_at lw_m6 95 rfl) rfl
theorem q1412 : (Jvm.Cond.instanceMethod ({ cls := "PuppetHeirs$LawReader", name := "reads", desc := "()LPuppetHeirs$Term;" } : Jvm.MethodName)) ∈ lw_all := lw_g (lw_at lw_m6 97 rfl) rfl
theorem q1413 : (Jvm.Cond.selects "PuppetHeirs$LawReader" ({ cls := "PuppetHeirs$LawReader", name := "reads", desc := "()LPuppetHeirs$Term;" } : Jvm.MethodName) ({ cls := "PuppetHeirs$LawReader", name := "reads", desc := "()LPuppetHeirs$Term;" } : Jvm.MethodName)) ∈ lw_all := lw_g (lw_at lw_m6 98 rfl) rfl
theorem q1414 : (Jvm.Cond.code ({ cls := "PuppetHeirs$LawReader", name := "reads", desc := "()LPuppetHeirs$Term;" } : Jvm.MethodName) prog_7_method_2_code (2 : Nat) (Option.some (Jvm.ClassFile.FieldType.object "PuppetHeirs$Term"))) ∈ lw_all := lw_g (lw_at lw_m6 99 rfl) rfl
theorem q1415 : (Jvm.Cond.methodLink "PuppetHeirs$LawReader" (9 : Nat) ({ cls := "PuppetHeirs$LawReader", name := "sum", desc := "()LPuppetHeirs$Term;" } : Jvm.MethodName)) ∈ lw_all := lw_g (lw_at lw_m6 100 rfl) rfl
theorem q1416 : (Jvm.Cond.privateMethod ({ cls := "PuppetHeirs$LawReader", name := "sum", desc := "()LPuppetHeirs$Term;" } : Jvm.MethodName)) ∈ lw_tbl := lw_at lw_m6 101 rfl
theorem q1417 : (Jvm.Cond.instanceMethod ({ cls := "PuppetHeirs$LawReader", name := "sum", desc := "()LPuppetHeirs$Term;" } : Jvm.MethodName)) ∈ lw_all := lw_g (lw_at lw_m6 102 rfl) rfl
theorem q1418 : (Jvm.Cond.code ({ cls := "PuppetHeirs$LawReader", name := "sum", desc := "()LPuppetHeirs$Term;" } : Jvm.MethodName) prog_7_method_3_code (4 : Nat) (Option.some (Jvm.ClassFile.FieldType.object "PuppetHeirs$Term"))) ∈ lw_all := lw_g (lw_at lw_m6 103 rfl) rfl
theorem q1419 : (Jvm.Cond.methodLink "PuppetHeirs$LawReader" (30 : Nat) ({ cls := "PuppetHeirs$LawReader", name := "product", desc := "()LPuppetHeirs$Term;" } : Jvm.MethodName)) ∈ lw_all := lw_g (lw_at lw_m6 104 rfl) rfl
theorem q1420 : (Jvm.Cond.privateMethod ({ cls := "PuppetHeirs$LawReader", name := "product", desc := "()LPuppetHeirs$Term;" } : Jvm.MethodName)) ∈ lw_tbl := lw_at lw_m6 105 rfl
theorem q1421 : (Jvm.Cond.instanceMethod ({ cls := "PuppetHeirs$LawReader", name := "product", desc := "()LPuppetHeirs$Term;" } : Jvm.MethodName)) ∈ lw_all := lw_g (lw_at lw_m6 106 rfl) rfl
theorem q1422 : (Jvm.Cond.code ({ cls := "PuppetHeirs$LawReader", name := "product", desc := "()LPuppetHeirs$Term;" } : Jvm.MethodName) prog_7_method_4_code (4 : Nat) (Option.some (Jvm.ClassFile.FieldType.object "PuppetHeirs$Term"))) ∈ lw_all := lw_g (lw_at lw_m6 107 rfl) rfl
theorem q1423 : (Jvm.Cond.methodLink "PuppetHeirs$LawReader" (41 : Nat) ({ cls := "PuppetHeirs$LawReader", name := "unit", desc := "()LPuppetHeirs$Term;" } : Jvm.MethodName)) ∈ lw_all := lw_g (lw_at lw_m6 108 rfl) rfl
theorem q1424 : (Jvm.Cond.privateMethod ({ cls := "PuppetHeirs$LawReader", name := "unit", desc := "()LPuppetHeirs$Term;" } : Jvm.MethodName)) ∈ lw_tbl := lw_at lw_m6 109 rfl
theorem q1425 : (Jvm.Cond.instanceMethod ({ cls := "PuppetHeirs$LawReader", name := "unit", desc := "()LPuppetHeirs$Term;" } : Jvm.MethodName)) ∈ lw_all := lw_g (lw_at lw_m6 110 rfl) rfl
theorem q1426 : (Jvm.Cond.code ({ cls := "PuppetHeirs$LawReader", name := "unit", desc := "()LPuppetHeirs$Term;" } : Jvm.MethodName) prog_7_method_5_code (5 : Nat) (Option.some (Jvm.ClassFile.FieldType.object "PuppetHeirs$Term"))) ∈ lw_all := lw_g (lw_at lw_m6 111 rfl) rfl
theorem q1427 : (Jvm.Cond.methodLink "PuppetHeirs$LawReader" (15 : Nat) ({ cls := "PuppetHeirs$LawReader", name := "sign", desc := "()I" } : Jvm.MethodName)) ∈ lw_all := lw_g (lw_at lw_m6 112 rfl) rfl
theorem q1428 : (Jvm.Cond.sameMethod "PuppetHeirs$LawReader" "PuppetHeirs$Reader" "sign" "()I") ∈ lw_all := lw_g (lw_at lw_m6 113 rfl) rfl
theorem q1429 : (Jvm.Cond.selects "PuppetHeirs$LawReader" ({ cls := "PuppetHeirs$LawReader", name := "sign", desc := "()I" } : Jvm.MethodName) ({ cls := "PuppetHeirs$Reader", name := "sign", desc := "()I" } : Jvm.MethodName)) ∈ lw_all := lw_g (lw_at lw_m6 114 rfl) rfl
theorem q1430 : (Jvm.Cond.methodLink "PuppetHeirs$LawReader" (53 : Nat) ({ cls := "PuppetHeirs$LawReader", name := "opens", desc := "(I)V" } : Jvm.MethodName)) ∈ lw_all := lw_g (lw_at lw_m6 115 rfl) rfl
theorem q1431 : (Jvm.Cond.sameMethod "PuppetHeirs$LawReader" "PuppetHeirs$Reader" "opens" "(I)V") ∈ lw_all := lw_g (lw_at lw_m6 116 rfl) rfl
theorem q1433 : (Jvm.Cond.selects "PuppetHeirs$LawReader" ({ cls := "PuppetHeirs$LawReader", name := "opens", desc := "(I)V" } : Jvm.MethodName) ({ cls := "PuppetHeirs$Reader", name := "opens", desc := "(I)V" } : Jvm.MethodName)) ∈ lw_all := lw_g (lw_at lw_m6 118 rfl) rfl
theorem q1436 : (Jvm.Cond.methodLink "PuppetHeirs$LawReader" (57 : Nat) ({ cls := "PuppetHeirs$LawReader", name := "need", desc := "(I)V" } : Jvm.MethodName)) ∈ lw_all := lw_g (lw_at lw_m6 121 rfl) rfl
theorem q1437 : (Jvm.Cond.sameMethod "PuppetHeirs$LawReader" "PuppetHeirs$Reader" "need" "(I)V") ∈ lw_all := lw_g (lw_at lw_m6 122 rfl) rfl
theorem q1438 : (Jvm.Cond.selects "PuppetHeirs$LawReader" ({ cls := "PuppetHeirs$LawReader", name := "need", desc := "(I)V" } : Jvm.MethodName) ({ cls := "PuppetHeirs$Reader", name := "need", desc := "(I)V" } : Jvm.MethodName)) ∈ lw_all := lw_g (lw_at lw_m6 123 rfl) rfl
theorem q1439 : (Jvm.Cond.classLink "PuppetHeirs$LawReader" (63 : Nat) "PuppetHeirs$Plain") ∈ lw_all := lw_g (lw_at lw_m6 124 rfl) rfl
theorem q1440 : (Jvm.Cond.methodLink "PuppetHeirs$LawReader" (65 : Nat) ({ cls := "PuppetHeirs$LawReader", name := "number", desc := "(II)I" } : Jvm.MethodName)) ∈ lw_all := lw_g (lw_at lw_m6 125 rfl) rfl
theorem q1441 : (Jvm.Cond.sameMethod "PuppetHeirs$LawReader" "PuppetHeirs$Reader" "number" "(II)I") ∈ lw_all := lw_g (lw_at lw_m6 126 rfl) rfl
theorem q1442 : (Jvm.Cond.selects "PuppetHeirs$LawReader" ({ cls := "PuppetHeirs$LawReader", name := "number", desc := "(II)I" } : Jvm.MethodName) ({ cls := "PuppetHeirs$Reader", name := "number", desc := "(II)I" } : Jvm.MethodName)) ∈ lw_all := lw_g (lw_at lw_m6 127 rfl) rfl
theorem q1443 : (Jvm.Cond.methodLink "PuppetHeirs$LawReader" (69 : Nat) ({ cls := "PuppetHeirs$Plain", name := "<init>", desc := "(I)V" } : Jvm.MethodName)) ∈ lw_all := lw_g (lw_at lw_m6 128 rfl) rfl
theorem q1444 : (Jvm.Cond.methodLink "PuppetHeirs$LawReader" (71 : Nat) ({ cls := "PuppetHeirs$LawReader", name := "word", desc := "()Ljava/lang/String;" } : Jvm.MethodName)) ∈ lw_all := lw_g (lw_at lw_m6 129 rfl) rfl
theorem q1445 : (Jvm.Cond.sameMethod "PuppetHeirs$LawReader" "PuppetHeirs$Reader" "word" "()Ljava/lang/String;") ∈ lw_all := lw_g (lw_at lw_m6 130 rfl) rfl
theorem q1446 : (Jvm.Cond.selects "PuppetHeirs$LawReader" ({ cls := "PuppetHeirs$LawReader", name := "word", desc := "()Ljava/lang/String;" } : Jvm.MethodName) ({ cls := "PuppetHeirs$Reader", name := "word", desc := "()Ljava/lang/String;" } : Jvm.MethodName)) ∈ lw_all := lw_g (lw_at lw_m6 131 rfl) rfl
theorem q1447 : (Jvm.Cond.methodLink "PuppetHeirs$LawReader" (75 : Nat) ({ cls := "java/lang/String", name := "hashCode", desc := "()I" } : Jvm.MethodName)) ∈ lw_all := lw_g (lw_at lw_m6 132 rfl) rfl
theorem q1448 : (Jvm.Cond.stringRef "PuppetHeirs$LawReader" (80 : Nat) "limp") ∈ lw_tbl := lw_at lw_m6 133 rfl
theorem q1449 : (Jvm.Cond.methodLink "PuppetHeirs$LawReader" (82 : Nat) ({ cls := "java/lang/String", name := "equals", desc := "(Ljava/lang/Object;)Z" } : Jvm.MethodName)) ∈ lw_all := lw_g (lw_at lw_m6 134 rfl) rfl
theorem q1450 : (Jvm.Cond.stringRef "PuppetHeirs$LawReader" (86 : Nat) "fall") ∈ lw_tbl := lw_at lw_m6 135 rfl
theorem q1451 : (Jvm.Cond.stringRef "PuppetHeirs$LawReader" (88 : Nat) "age") ∈ lw_tbl := lw_at lw_m6 136 rfl
theorem q1452 : (Jvm.Cond.stringRef "PuppetHeirs$LawReader" (90 : Nat) "works") ∈ lw_tbl := lw_at lw_m6 137 rfl
theorem q1453 : (Jvm.Cond.stringRef "PuppetHeirs$LawReader" (92 : Nat) "strings") ∈ lw_tbl := lw_at lw_m6 138 rfl
theorem q1454 : (Jvm.Cond.stringRef "PuppetHeirs$LawReader" (94 : Nat) "year") ∈ lw_tbl := lw_at lw_m6 139 rfl
theorem q1455 : (Jvm.Cond.stringRef "PuppetHeirs$LawReader" (96 : Nat) "number") ∈ lw_tbl := lw_at lw_m6 140 rfl
theorem q1456 : (Jvm.Cond.stringRef "PuppetHeirs$LawReader" (97 : Nat) "puppet") ∈ lw_tbl := lw_at lw_m6 141 rfl
theorem q1457 : (Jvm.Cond.stringRef "PuppetHeirs$LawReader" (99 : Nat) "kin") ∈ lw_tbl := lw_at lw_m6 142 rfl
theorem q1458 : (Jvm.Cond.stringRef "PuppetHeirs$LawReader" (101 : Nat) "least") ∈ lw_tbl := lw_at lw_m6 143 rfl
theorem q1459 : (Jvm.Cond.stringRef "PuppetHeirs$LawReader" (103 : Nat) "most") ∈ lw_tbl := lw_at lw_m6 144 rfl
theorem q1460 : (Jvm.Cond.methodLink "PuppetHeirs$LawReader" (105 : Nat) ({ cls := "PuppetHeirs$LawReader", name := "fact", desc := "(Ljava/lang/String;I)LPuppetHeirs$Term;" } : Jvm.MethodName)) ∈ lw_all := lw_g (lw_at lw_m6 145 rfl) rfl
theorem q1461 : (Jvm.Cond.privateMethod ({ cls := "PuppetHeirs$LawReader", name := "fact", desc := "(Ljava/lang/String;I)LPuppetHeirs$Term;" } : Jvm.MethodName)) ∈ lw_tbl := lw_at lw_m6 146 rfl
theorem q1462 : (Jvm.Cond.instanceMethod ({ cls := "PuppetHeirs$LawReader", name := "fact", desc := "(Ljava/lang/String;I)LPuppetHeirs$Term;" } : Jvm.MethodName)) ∈ lw_all := lw_g (lw_at lw_m6 147 rfl) rfl
theorem q1463 : (Jvm.Cond.code ({ cls := "PuppetHeirs$LawReader", name := "fact", desc := "(Ljava/lang/String;I)LPuppetHeirs$Term;" } : Jvm.MethodName) prog_7_method_6_code (3 : Nat) (Option.some (Jvm.ClassFile.FieldType.object "PuppetHeirs$Term"))) ∈ lw_all := lw_g (lw_at lw_m6 148 rfl) rfl
theorem q1464 : (Jvm.Cond.methodLink "PuppetHeirs$LawReader" (113 : Nat) ({ cls := "java/lang/String", name := "length", desc := "()I" } : Jvm.MethodName)) ∈ lw_all := lw_g (lw_at lw_m6 149 rfl) rfl
theorem q1465 : (Jvm.Cond.classLink "PuppetHeirs$LawReader" (116 : Nat) "PuppetHeirs$Fact") ∈ lw_all := lw_g (lw_at lw_m6 150 rfl) rfl
theorem q1466 : (Jvm.Cond.methodLink "PuppetHeirs$LawReader" (118 : Nat) ({ cls := "PuppetHeirs$Fact", name := "<init>", desc := "(I)V" } : Jvm.MethodName)) ∈ lw_all := lw_g (lw_at lw_m6 151 rfl) rfl
theorem q1467 : (Jvm.Cond.methodLink "PuppetHeirs$LawReader" (109 : Nat) ({ cls := "PuppetHeirs$LawReader", name := "two", desc := "(Ljava/lang/String;)LPuppetHeirs$Term;" } : Jvm.MethodName)) ∈ lw_all := lw_g (lw_at lw_m6 152 rfl) rfl
theorem q1468 : (Jvm.Cond.privateMethod ({ cls := "PuppetHeirs$LawReader", name := "two", desc := "(Ljava/lang/String;)LPuppetHeirs$Term;" } : Jvm.MethodName)) ∈ lw_tbl := lw_at lw_m6 153 rfl
theorem q1469 : (Jvm.Cond.instanceMethod ({ cls := "PuppetHeirs$LawReader", name := "two", desc := "(Ljava/lang/String;)LPuppetHeirs$Term;" } : Jvm.MethodName)) ∈ lw_all := lw_g (lw_at lw_m6 154 rfl) rfl
theorem q1470 : (Jvm.Cond.code ({ cls := "PuppetHeirs$LawReader", name := "two", desc := "(Ljava/lang/String;)LPuppetHeirs$Term;" } : Jvm.MethodName) prog_7_method_7_code (4 : Nat) (Option.some (Jvm.ClassFile.FieldType.object "PuppetHeirs$Term"))) ∈ lw_all := lw_g (lw_at lw_m6 155 rfl) rfl
theorem q1471 : (Jvm.Cond.classLink "PuppetHeirs$LawReader" (119 : Nat) "PuppetHeirs$Least") ∈ lw_all := lw_g (lw_at lw_m6 156 rfl) rfl
theorem q1473 : (Jvm.Cond.methodLink "PuppetHeirs$LawReader" (121 : Nat) ({ cls := "PuppetHeirs$Least", name := "<init>", desc := "(LPuppetHeirs$Term;LPuppetHeirs$Term;)V" } : Jvm.MethodName)) ∈ lw_all := lw_g (lw_at lw_m6 158 rfl) rfl
theorem q1480 : (Jvm.Cond.classLink "PuppetHeirs$LawReader" (122 : Nat) "PuppetHeirs$Most") ∈ lw_all := lw_g (lw_at lw_m6 165 rfl) rfl
theorem q1482 : (Jvm.Cond.methodLink "PuppetHeirs$LawReader" (124 : Nat) ({ cls := "PuppetHeirs$Most", name := "<init>", desc := "(LPuppetHeirs$Term;LPuppetHeirs$Term;)V" } : Jvm.MethodName)) ∈ lw_all := lw_g (lw_at lw_m6 167 rfl) rfl
theorem q1489 : (Jvm.Cond.methodLink "PuppetHeirs$LawReader" (26 : Nat) ({ cls := "PuppetHeirs$LawReader", name := "wrong", desc := "()LPuppetHeirs$Wrong;" } : Jvm.MethodName)) ∈ lw_all := lw_g (lw_at lw_m6 174 rfl) rfl
theorem q1490 : (Jvm.Cond.sameMethod "PuppetHeirs$LawReader" "PuppetHeirs$Reader" "wrong" "()LPuppetHeirs$Wrong;") ∈ lw_all := lw_g (lw_at lw_m6 175 rfl) rfl
theorem q1491 : (Jvm.Cond.selects "PuppetHeirs$LawReader" ({ cls := "PuppetHeirs$LawReader", name := "wrong", desc := "()LPuppetHeirs$Wrong;" } : Jvm.MethodName) ({ cls := "PuppetHeirs$Reader", name := "wrong", desc := "()LPuppetHeirs$Wrong;" } : Jvm.MethodName)) ∈ lw_all := lw_g (lw_at lw_m6 176 rfl) rfl
theorem q1492 : (Jvm.Cond.classLink "PuppetHeirs$LawReader" (44 : Nat) "PuppetHeirs$Times") ∈ lw_all := lw_g (lw_at lw_m6 177 rfl) rfl
theorem q1493 : (Jvm.Cond.methodLink "PuppetHeirs$LawReader" (46 : Nat) ({ cls := "PuppetHeirs$Times", name := "<init>", desc := "(LPuppetHeirs$Term;LPuppetHeirs$Term;)V" } : Jvm.MethodName)) ∈ lw_all := lw_g (lw_at lw_m6 178 rfl) rfl
theorem q1494 : (Jvm.Cond.classLink "PuppetHeirs$LawReader" (47 : Nat) "PuppetHeirs$By") ∈ lw_all := lw_g (lw_at lw_m6 179 rfl) rfl
theorem q1496 : (Jvm.Cond.methodLink "PuppetHeirs$LawReader" (49 : Nat) ({ cls := "PuppetHeirs$By", name := "<init>", desc := "(LPuppetHeirs$Term;LPuppetHeirs$Term;)V" } : Jvm.MethodName)) ∈ lw_all := lw_g (lw_at lw_m6 181 rfl) rfl
theorem q1503 : (Jvm.Cond.classLink "PuppetHeirs$LawReader" (50 : Nat) "PuppetHeirs$Leaves") ∈ lw_all := lw_g (lw_at lw_m6 188 rfl) rfl
theorem q1505 : (Jvm.Cond.methodLink "PuppetHeirs$LawReader" (52 : Nat) ({ cls := "PuppetHeirs$Leaves", name := "<init>", desc := "(LPuppetHeirs$Term;LPuppetHeirs$Term;)V" } : Jvm.MethodName)) ∈ lw_all := lw_g (lw_at lw_m6 190 rfl) rfl
theorem q1512 : (Jvm.Cond.classLink "PuppetHeirs$LawReader" (33 : Nat) "PuppetHeirs$Plus") ∈ lw_all := lw_g (lw_at lw_m6 197 rfl) rfl
theorem q1513 : (Jvm.Cond.methodLink "PuppetHeirs$LawReader" (35 : Nat) ({ cls := "PuppetHeirs$Plus", name := "<init>", desc := "(LPuppetHeirs$Term;LPuppetHeirs$Term;)V" } : Jvm.MethodName)) ∈ lw_all := lw_g (lw_at lw_m6 198 rfl) rfl
theorem q1514 : (Jvm.Cond.classLink "PuppetHeirs$LawReader" (38 : Nat) "PuppetHeirs$Minus") ∈ lw_all := lw_g (lw_at lw_m6 199 rfl) rfl
theorem q1515 : (Jvm.Cond.methodLink "PuppetHeirs$LawReader" (40 : Nat) ({ cls := "PuppetHeirs$Minus", name := "<init>", desc := "(LPuppetHeirs$Term;LPuppetHeirs$Term;)V" } : Jvm.MethodName)) ∈ lw_all := lw_g (lw_at lw_m6 200 rfl) rfl
theorem q2637 : (Jvm.Cond.selects "PuppetHeirs$LawReader" ({ cls := "PuppetHeirs$Reader", name := "sign", desc := "()I" } : Jvm.MethodName) ({ cls := "PuppetHeirs$Reader", name := "sign", desc := "()I" } : Jvm.MethodName)) ∈ lw_all := lw_g (lw_at lw_m11 122 rfl) rfl
theorem q2643 : (Jvm.Cond.selects "PuppetHeirs$LawReader" ({ cls := "PuppetHeirs$Reader", name := "wrong", desc := "()LPuppetHeirs$Wrong;" } : Jvm.MethodName) ({ cls := "PuppetHeirs$Reader", name := "wrong", desc := "()LPuppetHeirs$Wrong;" } : Jvm.MethodName)) ∈ lw_all := lw_g (lw_at lw_m11 128 rfl) rfl
theorem q2662 : (Jvm.Cond.castable "PuppetHeirs$LawReader" "java/lang/Object") ∈ lw_tbl := lw_at lw_m11 147 rfl
theorem in_X16 : ∀ w ∈ wsX160, w ∈ lw_all := lw_in wsX160 [1405, 1406, 1407, 1408, 1409] (by decide +kernel) (by decide +kernel)

/-! PuppetHeirs$Least -/
set_option maxRecDepth 100000
def RX17 : String := "PuppetHeirs$Least"
def TX17 : u_T := fun k => match k with
  | 0 => ("PuppetHeirs$Two", "a", "LPuppetHeirs$Term;", true)
  | _ => ("PuppetHeirs$Two", "b", "LPuppetHeirs$Term;", true)
def tyX17 : Nat → FieldType := fun k => match k with
  | 0 => .object "PuppetHeirs$Term"
  | _ => .object "PuppetHeirs$Term"
abbrev wsX170 : List Cond := u_ws RX17 TX17 2
theorem nmX17 : ∀ a, a < 2 → ∀ b, b < 2 → a ≠ b → (TX17 a).2.1 ≠ (TX17 b).2.1 := by decide +kernel
theorem tyX17_ok : ∀ k, k < 2 → parseFieldDescriptor (TX17 k).2.2.1 = some (tyX17 k) := by decide +kernel
abbrev cX17_with : ByteArray := prog_8_method_2_code
def yX17_with : MethodName := ⟨RX17, "with", "(II)I"⟩
def dkwX17_with_0 : List UInt8 := [27, 28, 184, 0, 7, 172]
abbrev dktX17_with_0 : List UInt8 := dkwX17_with_0 ++ []
theorem dksX17_with_0 : cX17_with.data.toList.drop 0 = dktX17_with_0 := by decide +kernel
theorem dX17_with_0 : decode cX17_with 0 = .ok (.iload_n 1, 1) := dk_27 (dk_at dksX17_with_0 0 rfl rfl)
theorem dX17_with_1 : decode cX17_with 1 = .ok (.iload_n 2, 1) := dk_28 (dk_at dksX17_with_0 1 rfl rfl)
theorem dX17_with_2 : decode cX17_with 2 = .ok (.invokestatic 7, 3) := dk_184 0 7 (dk_at dksX17_with_0 2 rfl rfl)
theorem dX17_with_5 : decode cX17_with 5 = .ok (.ireturn, 1) := dk_172 (dk_at dksX17_with_0 5 rfl rfl)
abbrev cX17_init : ByteArray := prog_8_method_1_code
def yX17_init : MethodName := ⟨RX17, "<init>", "(LPuppetHeirs$Term;LPuppetHeirs$Term;)V"⟩
def dkwX17_init_0 : List UInt8 := [42, 43, 44, 183, 0, 1, 177]
abbrev dktX17_init_0 : List UInt8 := dkwX17_init_0 ++ []
theorem dksX17_init_0 : cX17_init.data.toList.drop 0 = dktX17_init_0 := by decide +kernel
theorem dX17_init_0 : decode cX17_init 0 = .ok (.aload_n 0, 1) := dk_42 (dk_at dksX17_init_0 0 rfl rfl)
theorem dX17_init_1 : decode cX17_init 1 = .ok (.aload_n 1, 1) := dk_43 (dk_at dksX17_init_0 1 rfl rfl)
theorem dX17_init_2 : decode cX17_init 2 = .ok (.aload_n 2, 1) := dk_44 (dk_at dksX17_init_0 2 rfl rfl)
theorem dX17_init_3 : decode cX17_init 3 = .ok (.invokespecial 1, 3) := dk_183 0 1 (dk_at dksX17_init_0 3 rfl rfl)
theorem dX17_init_6 : decode cX17_init 6 = .ok (.return_, 1) := dk_177 (dk_at dksX17_init_0 6 rfl rfl)
theorem q151 : (Jvm.Cond.initialized "PuppetHeirs$Least") ∈ lw_all := lw_g (lw_at lw_m1 36 rfl) rfl
theorem q943 : (Jvm.Cond.selects "PuppetHeirs$Least" ({ cls := "PuppetHeirs$Two", name := "with", desc := "(II)I" } : Jvm.MethodName) ({ cls := "PuppetHeirs$Least", name := "with", desc := "(II)I" } : Jvm.MethodName)) ∈ lw_all := lw_g (lw_at lw_m4 108 rfl) rfl
theorem q944 : (Jvm.Cond.instanceMethod ({ cls := "PuppetHeirs$Least", name := "with", desc := "(II)I" } : Jvm.MethodName)) ∈ lw_all := lw_g (lw_at lw_m4 109 rfl) rfl
theorem q945 : (Jvm.Cond.code ({ cls := "PuppetHeirs$Least", name := "with", desc := "(II)I" } : Jvm.MethodName) prog_8_method_2_code (3 : Nat) (Option.some Jvm.ClassFile.FieldType.int)) ∈ lw_all := lw_g (lw_at lw_m4 110 rfl) rfl
theorem q946 : (Jvm.Cond.methodLink "PuppetHeirs$Least" (7 : Nat) ({ cls := "java/lang/Math", name := "min", desc := "(II)I" } : Jvm.MethodName)) ∈ lw_all := lw_g (lw_at lw_m4 111 rfl) rfl
theorem q964 : (Jvm.Cond.selects "PuppetHeirs$Least" ({ cls := "PuppetHeirs$Term", name := "of", desc := "([I)I" } : Jvm.MethodName) ({ cls := "PuppetHeirs$Two", name := "of", desc := "([I)I" } : Jvm.MethodName)) ∈ lw_all := lw_g (lw_at lw_m4 129 rfl) rfl
theorem q1357 : (Jvm.Cond.selects "PuppetHeirs$Least" ({ cls := "java/lang/Object", name := "getClass", desc := "()Ljava/lang/Class;" } : Jvm.MethodName) ({ cls := "java/lang/Object", name := "getClass", desc := "()Ljava/lang/Class;" } : Jvm.MethodName)) ∈ lw_all := lw_g (lw_at lw_m6 42 rfl) rfl
theorem q1472 : (Jvm.Cond.instantiable "PuppetHeirs$Least" (2 : Nat)) ∈ lw_all := lw_g (lw_at lw_m6 157 rfl) rfl
theorem q1474 : (Jvm.Cond.instanceMethod ({ cls := "PuppetHeirs$Least", name := "<init>", desc := "(LPuppetHeirs$Term;LPuppetHeirs$Term;)V" } : Jvm.MethodName)) ∈ lw_all := lw_g (lw_at lw_m6 159 rfl) rfl
theorem q1475 : (Jvm.Cond.code ({ cls := "PuppetHeirs$Least", name := "<init>", desc := "(LPuppetHeirs$Term;LPuppetHeirs$Term;)V" } : Jvm.MethodName) prog_8_method_1_code (3 : Nat) (Option.none : Option Jvm.ClassFile.FieldType)) ∈ lw_all := lw_g (lw_at lw_m6 160 rfl) rfl
theorem q1476 : (Jvm.Cond.methodLink "PuppetHeirs$Least" (1 : Nat) ({ cls := "PuppetHeirs$Two", name := "<init>", desc := "(LPuppetHeirs$Term;LPuppetHeirs$Term;)V" } : Jvm.MethodName)) ∈ lw_all := lw_g (lw_at lw_m6 161 rfl) rfl
theorem q1477 : (Jvm.Cond.laysFinal "PuppetHeirs$Least" "PuppetHeirs$Two" "a" "LPuppetHeirs$Term;") ∈ lw_all := lw_g (lw_at lw_m6 162 rfl) rfl
theorem q1478 : (Jvm.Cond.laysFinal "PuppetHeirs$Least" "PuppetHeirs$Two" "b" "LPuppetHeirs$Term;") ∈ lw_all := lw_g (lw_at lw_m6 163 rfl) rfl
theorem q1479 : (Jvm.Cond.superclass "PuppetHeirs$Least" "PuppetHeirs$Two") ∈ lw_all := lw_g (lw_at lw_m6 164 rfl) rfl
theorem q2663 : (Jvm.Cond.castable "PuppetHeirs$Least" "java/lang/Object") ∈ lw_tbl := lw_at lw_m11 148 rfl
theorem in_X17 : ∀ w ∈ wsX170, w ∈ lw_all := lw_in wsX170 [1477, 1478] (by decide +kernel) (by decide +kernel)

/-! PuppetHeirs$Most -/
set_option maxRecDepth 100000
def RX18 : String := "PuppetHeirs$Most"
def TX18 : u_T := fun k => match k with
  | 0 => ("PuppetHeirs$Two", "a", "LPuppetHeirs$Term;", true)
  | _ => ("PuppetHeirs$Two", "b", "LPuppetHeirs$Term;", true)
def tyX18 : Nat → FieldType := fun k => match k with
  | 0 => .object "PuppetHeirs$Term"
  | _ => .object "PuppetHeirs$Term"
abbrev wsX180 : List Cond := u_ws RX18 TX18 2
theorem nmX18 : ∀ a, a < 2 → ∀ b, b < 2 → a ≠ b → (TX18 a).2.1 ≠ (TX18 b).2.1 := by decide +kernel
theorem tyX18_ok : ∀ k, k < 2 → parseFieldDescriptor (TX18 k).2.2.1 = some (tyX18 k) := by decide +kernel
abbrev cX18_with : ByteArray := prog_11_method_2_code
def yX18_with : MethodName := ⟨RX18, "with", "(II)I"⟩
def dkwX18_with_0 : List UInt8 := [27, 28, 184, 0, 7, 172]
abbrev dktX18_with_0 : List UInt8 := dkwX18_with_0 ++ []
theorem dksX18_with_0 : cX18_with.data.toList.drop 0 = dktX18_with_0 := by decide +kernel
theorem dX18_with_0 : decode cX18_with 0 = .ok (.iload_n 1, 1) := dk_27 (dk_at dksX18_with_0 0 rfl rfl)
theorem dX18_with_1 : decode cX18_with 1 = .ok (.iload_n 2, 1) := dk_28 (dk_at dksX18_with_0 1 rfl rfl)
theorem dX18_with_2 : decode cX18_with 2 = .ok (.invokestatic 7, 3) := dk_184 0 7 (dk_at dksX18_with_0 2 rfl rfl)
theorem dX18_with_5 : decode cX18_with 5 = .ok (.ireturn, 1) := dk_172 (dk_at dksX18_with_0 5 rfl rfl)
abbrev cX18_init : ByteArray := prog_11_method_1_code
def yX18_init : MethodName := ⟨RX18, "<init>", "(LPuppetHeirs$Term;LPuppetHeirs$Term;)V"⟩
def dkwX18_init_0 : List UInt8 := [42, 43, 44, 183, 0, 1, 177]
abbrev dktX18_init_0 : List UInt8 := dkwX18_init_0 ++ []
theorem dksX18_init_0 : cX18_init.data.toList.drop 0 = dktX18_init_0 := by decide +kernel
theorem dX18_init_0 : decode cX18_init 0 = .ok (.aload_n 0, 1) := dk_42 (dk_at dksX18_init_0 0 rfl rfl)
theorem dX18_init_1 : decode cX18_init 1 = .ok (.aload_n 1, 1) := dk_43 (dk_at dksX18_init_0 1 rfl rfl)
theorem dX18_init_2 : decode cX18_init 2 = .ok (.aload_n 2, 1) := dk_44 (dk_at dksX18_init_0 2 rfl rfl)
theorem dX18_init_3 : decode cX18_init 3 = .ok (.invokespecial 1, 3) := dk_183 0 1 (dk_at dksX18_init_0 3 rfl rfl)
theorem dX18_init_6 : decode cX18_init 6 = .ok (.return_, 1) := dk_177 (dk_at dksX18_init_0 6 rfl rfl)
theorem q152 : (Jvm.Cond.initialized "PuppetHeirs$Most") ∈ lw_all := lw_g (lw_at lw_m1 37 rfl) rfl
theorem q953 : (Jvm.Cond.selects "PuppetHeirs$Most" ({ cls := "PuppetHeirs$Two", name := "with", desc := "(II)I" } : Jvm.MethodName) ({ cls := "PuppetHeirs$Most", name := "with", desc := "(II)I" } : Jvm.MethodName)) ∈ lw_all := lw_g (lw_at lw_m4 118 rfl) rfl
theorem q954 : (Jvm.Cond.instanceMethod ({ cls := "PuppetHeirs$Most", name := "with", desc := "(II)I" } : Jvm.MethodName)) ∈ lw_all := lw_g (lw_at lw_m4 119 rfl) rfl
theorem q955 : (Jvm.Cond.code ({ cls := "PuppetHeirs$Most", name := "with", desc := "(II)I" } : Jvm.MethodName) prog_11_method_2_code (3 : Nat) (Option.some Jvm.ClassFile.FieldType.int)) ∈ lw_all := lw_g (lw_at lw_m4 120 rfl) rfl
theorem q956 : (Jvm.Cond.methodLink "PuppetHeirs$Most" (7 : Nat) ({ cls := "java/lang/Math", name := "max", desc := "(II)I" } : Jvm.MethodName)) ∈ lw_all := lw_g (lw_at lw_m4 121 rfl) rfl
theorem q967 : (Jvm.Cond.selects "PuppetHeirs$Most" ({ cls := "PuppetHeirs$Term", name := "of", desc := "([I)I" } : Jvm.MethodName) ({ cls := "PuppetHeirs$Two", name := "of", desc := "([I)I" } : Jvm.MethodName)) ∈ lw_all := lw_g (lw_at lw_m4 132 rfl) rfl
theorem q1360 : (Jvm.Cond.selects "PuppetHeirs$Most" ({ cls := "java/lang/Object", name := "getClass", desc := "()Ljava/lang/Class;" } : Jvm.MethodName) ({ cls := "java/lang/Object", name := "getClass", desc := "()Ljava/lang/Class;" } : Jvm.MethodName)) ∈ lw_all := lw_g (lw_at lw_m6 45 rfl) rfl
theorem q1481 : (Jvm.Cond.instantiable "PuppetHeirs$Most" (2 : Nat)) ∈ lw_all := lw_g (lw_at lw_m6 166 rfl) rfl
theorem q1483 : (Jvm.Cond.instanceMethod ({ cls := "PuppetHeirs$Most", name := "<init>", desc := "(LPuppetHeirs$Term;LPuppetHeirs$Term;)V" } : Jvm.MethodName)) ∈ lw_all := lw_g (lw_at lw_m6 168 rfl) rfl
theorem q1484 : (Jvm.Cond.code ({ cls := "PuppetHeirs$Most", name := "<init>", desc := "(LPuppetHeirs$Term;LPuppetHeirs$Term;)V" } : Jvm.MethodName) prog_11_method_1_code (3 : Nat) (Option.none : Option Jvm.ClassFile.FieldType)) ∈ lw_all := lw_g (lw_at lw_m6 169 rfl) rfl
theorem q1485 : (Jvm.Cond.methodLink "PuppetHeirs$Most" (1 : Nat) ({ cls := "PuppetHeirs$Two", name := "<init>", desc := "(LPuppetHeirs$Term;LPuppetHeirs$Term;)V" } : Jvm.MethodName)) ∈ lw_all := lw_g (lw_at lw_m6 170 rfl) rfl
theorem q1486 : (Jvm.Cond.laysFinal "PuppetHeirs$Most" "PuppetHeirs$Two" "a" "LPuppetHeirs$Term;") ∈ lw_all := lw_g (lw_at lw_m6 171 rfl) rfl
theorem q1487 : (Jvm.Cond.laysFinal "PuppetHeirs$Most" "PuppetHeirs$Two" "b" "LPuppetHeirs$Term;") ∈ lw_all := lw_g (lw_at lw_m6 172 rfl) rfl
theorem q1488 : (Jvm.Cond.superclass "PuppetHeirs$Most" "PuppetHeirs$Two") ∈ lw_all := lw_g (lw_at lw_m6 173 rfl) rfl
theorem q2664 : (Jvm.Cond.castable "PuppetHeirs$Most" "java/lang/Object") ∈ lw_tbl := lw_at lw_m11 149 rfl
theorem in_X18 : ∀ w ∈ wsX180, w ∈ lw_all := lw_in wsX180 [1486, 1487] (by decide +kernel) (by decide +kernel)

/-! PuppetHeirs$By -/
set_option maxRecDepth 100000
def RX19 : String := "PuppetHeirs$By"
def TX19 : u_T := fun k => match k with
  | 0 => ("PuppetHeirs$Two", "a", "LPuppetHeirs$Term;", true)
  | _ => ("PuppetHeirs$Two", "b", "LPuppetHeirs$Term;", true)
def tyX19 : Nat → FieldType := fun k => match k with
  | 0 => .object "PuppetHeirs$Term"
  | _ => .object "PuppetHeirs$Term"
abbrev wsX190 : List Cond := u_ws RX19 TX19 2
theorem nmX19 : ∀ a, a < 2 → ∀ b, b < 2 → a ≠ b → (TX19 a).2.1 ≠ (TX19 b).2.1 := by decide +kernel
theorem tyX19_ok : ∀ k, k < 2 → parseFieldDescriptor (TX19 k).2.2.1 = some (tyX19 k) := by decide +kernel
abbrev cX19_with : ByteArray := prog_4_method_2_code
def yX19_with : MethodName := ⟨RX19, "with", "(II)I"⟩
def dkwX19_with_0 : List UInt8 := [28, 154, 0, 7, 3, 167, 0, 6, 27, 28, 108, 172]
abbrev dktX19_with_0 : List UInt8 := dkwX19_with_0 ++ []
theorem dksX19_with_0 : cX19_with.data.toList.drop 0 = dktX19_with_0 := by decide +kernel
theorem dX19_with_0 : decode cX19_with 0 = .ok (.iload_n 2, 1) := dk_28 (dk_at dksX19_with_0 0 rfl rfl)
theorem dX19_with_1 : decode cX19_with 1 = .ok (.ifCond .ne 7, 3) := dk_154 0 7 (dk_at dksX19_with_0 1 rfl rfl)
theorem dX19_with_4 : decode cX19_with 4 = .ok (.iconst 0, 1) := dk_3 (dk_at dksX19_with_0 4 rfl rfl)
theorem dX19_with_5 : decode cX19_with 5 = .ok (.goto 6, 3) := dk_167 0 6 (dk_at dksX19_with_0 5 rfl rfl)
theorem dX19_with_8 : decode cX19_with 8 = .ok (.iload_n 1, 1) := dk_27 (dk_at dksX19_with_0 8 rfl rfl)
theorem dX19_with_9 : decode cX19_with 9 = .ok (.iload_n 2, 1) := dk_28 (dk_at dksX19_with_0 9 rfl rfl)
theorem dX19_with_10 : decode cX19_with 10 = .ok (.idiv, 1) := dk_108 (dk_at dksX19_with_0 10 rfl rfl)
theorem dX19_with_11 : decode cX19_with 11 = .ok (.ireturn, 1) := dk_172 (dk_at dksX19_with_0 11 rfl rfl)
abbrev cX19_init : ByteArray := prog_4_method_1_code
def yX19_init : MethodName := ⟨RX19, "<init>", "(LPuppetHeirs$Term;LPuppetHeirs$Term;)V"⟩
def dkwX19_init_0 : List UInt8 := [42, 43, 44, 183, 0, 1, 177]
abbrev dktX19_init_0 : List UInt8 := dkwX19_init_0 ++ []
theorem dksX19_init_0 : cX19_init.data.toList.drop 0 = dktX19_init_0 := by decide +kernel
theorem dX19_init_0 : decode cX19_init 0 = .ok (.aload_n 0, 1) := dk_42 (dk_at dksX19_init_0 0 rfl rfl)
theorem dX19_init_1 : decode cX19_init 1 = .ok (.aload_n 1, 1) := dk_43 (dk_at dksX19_init_0 1 rfl rfl)
theorem dX19_init_2 : decode cX19_init 2 = .ok (.aload_n 2, 1) := dk_44 (dk_at dksX19_init_0 2 rfl rfl)
theorem dX19_init_3 : decode cX19_init 3 = .ok (.invokespecial 1, 3) := dk_183 0 1 (dk_at dksX19_init_0 3 rfl rfl)
theorem dX19_init_6 : decode cX19_init 6 = .ok (.return_, 1) := dk_177 (dk_at dksX19_init_0 6 rfl rfl)
theorem q153 : (Jvm.Cond.initialized "PuppetHeirs$By") ∈ lw_all := lw_g (lw_at lw_m1 38 rfl) rfl
theorem q929 : (Jvm.Cond.selects "PuppetHeirs$By" ({ cls := "PuppetHeirs$Term", name := "of", desc := "([I)I" } : Jvm.MethodName) ({ cls := "PuppetHeirs$Two", name := "of", desc := "([I)I" } : Jvm.MethodName)) ∈ lw_all := lw_g (lw_at lw_m4 94 rfl) rfl
theorem q940 : (Jvm.Cond.selects "PuppetHeirs$By" ({ cls := "PuppetHeirs$Two", name := "with", desc := "(II)I" } : Jvm.MethodName) ({ cls := "PuppetHeirs$By", name := "with", desc := "(II)I" } : Jvm.MethodName)) ∈ lw_all := lw_g (lw_at lw_m4 105 rfl) rfl
theorem q941 : (Jvm.Cond.instanceMethod ({ cls := "PuppetHeirs$By", name := "with", desc := "(II)I" } : Jvm.MethodName)) ∈ lw_all := lw_g (lw_at lw_m4 106 rfl) rfl
theorem q942 : (Jvm.Cond.code ({ cls := "PuppetHeirs$By", name := "with", desc := "(II)I" } : Jvm.MethodName) prog_4_method_2_code (3 : Nat) (Option.some Jvm.ClassFile.FieldType.int)) ∈ lw_all := lw_g (lw_at lw_m4 107 rfl) rfl
theorem q1353 : (Jvm.Cond.selects "PuppetHeirs$By" ({ cls := "java/lang/Object", name := "getClass", desc := "()Ljava/lang/Class;" } : Jvm.MethodName) ({ cls := "java/lang/Object", name := "getClass", desc := "()Ljava/lang/Class;" } : Jvm.MethodName)) ∈ lw_all := lw_g (lw_at lw_m6 38 rfl) rfl
theorem q1495 : (Jvm.Cond.instantiable "PuppetHeirs$By" (2 : Nat)) ∈ lw_all := lw_g (lw_at lw_m6 180 rfl) rfl
theorem q1497 : (Jvm.Cond.instanceMethod ({ cls := "PuppetHeirs$By", name := "<init>", desc := "(LPuppetHeirs$Term;LPuppetHeirs$Term;)V" } : Jvm.MethodName)) ∈ lw_all := lw_g (lw_at lw_m6 182 rfl) rfl
theorem q1498 : (Jvm.Cond.code ({ cls := "PuppetHeirs$By", name := "<init>", desc := "(LPuppetHeirs$Term;LPuppetHeirs$Term;)V" } : Jvm.MethodName) prog_4_method_1_code (3 : Nat) (Option.none : Option Jvm.ClassFile.FieldType)) ∈ lw_all := lw_g (lw_at lw_m6 183 rfl) rfl
theorem q1499 : (Jvm.Cond.methodLink "PuppetHeirs$By" (1 : Nat) ({ cls := "PuppetHeirs$Two", name := "<init>", desc := "(LPuppetHeirs$Term;LPuppetHeirs$Term;)V" } : Jvm.MethodName)) ∈ lw_all := lw_g (lw_at lw_m6 184 rfl) rfl
theorem q1500 : (Jvm.Cond.laysFinal "PuppetHeirs$By" "PuppetHeirs$Two" "a" "LPuppetHeirs$Term;") ∈ lw_all := lw_g (lw_at lw_m6 185 rfl) rfl
theorem q1501 : (Jvm.Cond.laysFinal "PuppetHeirs$By" "PuppetHeirs$Two" "b" "LPuppetHeirs$Term;") ∈ lw_all := lw_g (lw_at lw_m6 186 rfl) rfl
theorem q1502 : (Jvm.Cond.superclass "PuppetHeirs$By" "PuppetHeirs$Two") ∈ lw_all := lw_g (lw_at lw_m6 187 rfl) rfl
theorem q2665 : (Jvm.Cond.castable "PuppetHeirs$By" "java/lang/Object") ∈ lw_tbl := lw_at lw_m11 150 rfl
theorem in_X19 : ∀ w ∈ wsX190, w ∈ lw_all := lw_in wsX190 [1500, 1501] (by decide +kernel) (by decide +kernel)

/-! PuppetHeirs$Leaves -/
set_option maxRecDepth 100000
def RX20 : String := "PuppetHeirs$Leaves"
def TX20 : u_T := fun k => match k with
  | 0 => ("PuppetHeirs$Two", "a", "LPuppetHeirs$Term;", true)
  | _ => ("PuppetHeirs$Two", "b", "LPuppetHeirs$Term;", true)
def tyX20 : Nat → FieldType := fun k => match k with
  | 0 => .object "PuppetHeirs$Term"
  | _ => .object "PuppetHeirs$Term"
abbrev wsX200 : List Cond := u_ws RX20 TX20 2
theorem nmX20 : ∀ a, a < 2 → ∀ b, b < 2 → a ≠ b → (TX20 a).2.1 ≠ (TX20 b).2.1 := by decide +kernel
theorem tyX20_ok : ∀ k, k < 2 → parseFieldDescriptor (TX20 k).2.2.1 = some (tyX20 k) := by decide +kernel
abbrev cX20_with : ByteArray := prog_9_method_2_code
def yX20_with : MethodName := ⟨RX20, "with", "(II)I"⟩
def dkwX20_with_0 : List UInt8 := [28, 154, 0, 7, 3, 167, 0, 6, 27, 28, 112, 172]
abbrev dktX20_with_0 : List UInt8 := dkwX20_with_0 ++ []
theorem dksX20_with_0 : cX20_with.data.toList.drop 0 = dktX20_with_0 := by decide +kernel
theorem dX20_with_0 : decode cX20_with 0 = .ok (.iload_n 2, 1) := dk_28 (dk_at dksX20_with_0 0 rfl rfl)
theorem dX20_with_1 : decode cX20_with 1 = .ok (.ifCond .ne 7, 3) := dk_154 0 7 (dk_at dksX20_with_0 1 rfl rfl)
theorem dX20_with_4 : decode cX20_with 4 = .ok (.iconst 0, 1) := dk_3 (dk_at dksX20_with_0 4 rfl rfl)
theorem dX20_with_5 : decode cX20_with 5 = .ok (.goto 6, 3) := dk_167 0 6 (dk_at dksX20_with_0 5 rfl rfl)
theorem dX20_with_8 : decode cX20_with 8 = .ok (.iload_n 1, 1) := dk_27 (dk_at dksX20_with_0 8 rfl rfl)
theorem dX20_with_9 : decode cX20_with 9 = .ok (.iload_n 2, 1) := dk_28 (dk_at dksX20_with_0 9 rfl rfl)
theorem dX20_with_10 : decode cX20_with 10 = .ok (.irem, 1) := dk_112 (dk_at dksX20_with_0 10 rfl rfl)
theorem dX20_with_11 : decode cX20_with 11 = .ok (.ireturn, 1) := dk_172 (dk_at dksX20_with_0 11 rfl rfl)
abbrev cX20_init : ByteArray := prog_9_method_1_code
def yX20_init : MethodName := ⟨RX20, "<init>", "(LPuppetHeirs$Term;LPuppetHeirs$Term;)V"⟩
def dkwX20_init_0 : List UInt8 := [42, 43, 44, 183, 0, 1, 177]
abbrev dktX20_init_0 : List UInt8 := dkwX20_init_0 ++ []
theorem dksX20_init_0 : cX20_init.data.toList.drop 0 = dktX20_init_0 := by decide +kernel
theorem dX20_init_0 : decode cX20_init 0 = .ok (.aload_n 0, 1) := dk_42 (dk_at dksX20_init_0 0 rfl rfl)
theorem dX20_init_1 : decode cX20_init 1 = .ok (.aload_n 1, 1) := dk_43 (dk_at dksX20_init_0 1 rfl rfl)
theorem dX20_init_2 : decode cX20_init 2 = .ok (.aload_n 2, 1) := dk_44 (dk_at dksX20_init_0 2 rfl rfl)
theorem dX20_init_3 : decode cX20_init 3 = .ok (.invokespecial 1, 3) := dk_183 0 1 (dk_at dksX20_init_0 3 rfl rfl)
theorem dX20_init_6 : decode cX20_init 6 = .ok (.return_, 1) := dk_177 (dk_at dksX20_init_0 6 rfl rfl)
theorem q154 : (Jvm.Cond.initialized "PuppetHeirs$Leaves") ∈ lw_all := lw_g (lw_at lw_m1 39 rfl) rfl
theorem q947 : (Jvm.Cond.selects "PuppetHeirs$Leaves" ({ cls := "PuppetHeirs$Two", name := "with", desc := "(II)I" } : Jvm.MethodName) ({ cls := "PuppetHeirs$Leaves", name := "with", desc := "(II)I" } : Jvm.MethodName)) ∈ lw_all := lw_g (lw_at lw_m4 112 rfl) rfl
theorem q948 : (Jvm.Cond.instanceMethod ({ cls := "PuppetHeirs$Leaves", name := "with", desc := "(II)I" } : Jvm.MethodName)) ∈ lw_all := lw_g (lw_at lw_m4 113 rfl) rfl
theorem q949 : (Jvm.Cond.code ({ cls := "PuppetHeirs$Leaves", name := "with", desc := "(II)I" } : Jvm.MethodName) prog_9_method_2_code (3 : Nat) (Option.some Jvm.ClassFile.FieldType.int)) ∈ lw_all := lw_g (lw_at lw_m4 114 rfl) rfl
theorem q965 : (Jvm.Cond.selects "PuppetHeirs$Leaves" ({ cls := "PuppetHeirs$Term", name := "of", desc := "([I)I" } : Jvm.MethodName) ({ cls := "PuppetHeirs$Two", name := "of", desc := "([I)I" } : Jvm.MethodName)) ∈ lw_all := lw_g (lw_at lw_m4 130 rfl) rfl
theorem q1358 : (Jvm.Cond.selects "PuppetHeirs$Leaves" ({ cls := "java/lang/Object", name := "getClass", desc := "()Ljava/lang/Class;" } : Jvm.MethodName) ({ cls := "java/lang/Object", name := "getClass", desc := "()Ljava/lang/Class;" } : Jvm.MethodName)) ∈ lw_all := lw_g (lw_at lw_m6 43 rfl) rfl
theorem q1504 : (Jvm.Cond.instantiable "PuppetHeirs$Leaves" (2 : Nat)) ∈ lw_all := lw_g (lw_at lw_m6 189 rfl) rfl
theorem q1506 : (Jvm.Cond.instanceMethod ({ cls := "PuppetHeirs$Leaves", name := "<init>", desc := "(LPuppetHeirs$Term;LPuppetHeirs$Term;)V" } : Jvm.MethodName)) ∈ lw_all := lw_g (lw_at lw_m6 191 rfl) rfl
theorem q1507 : (Jvm.Cond.code ({ cls := "PuppetHeirs$Leaves", name := "<init>", desc := "(LPuppetHeirs$Term;LPuppetHeirs$Term;)V" } : Jvm.MethodName) prog_9_method_1_code (3 : Nat) (Option.none : Option Jvm.ClassFile.FieldType)) ∈ lw_all := lw_g (lw_at lw_m6 192 rfl) rfl
theorem q1508 : (Jvm.Cond.methodLink "PuppetHeirs$Leaves" (1 : Nat) ({ cls := "PuppetHeirs$Two", name := "<init>", desc := "(LPuppetHeirs$Term;LPuppetHeirs$Term;)V" } : Jvm.MethodName)) ∈ lw_all := lw_g (lw_at lw_m6 193 rfl) rfl
theorem q1509 : (Jvm.Cond.laysFinal "PuppetHeirs$Leaves" "PuppetHeirs$Two" "a" "LPuppetHeirs$Term;") ∈ lw_all := lw_g (lw_at lw_m6 194 rfl) rfl
theorem q1510 : (Jvm.Cond.laysFinal "PuppetHeirs$Leaves" "PuppetHeirs$Two" "b" "LPuppetHeirs$Term;") ∈ lw_all := lw_g (lw_at lw_m6 195 rfl) rfl
theorem q1511 : (Jvm.Cond.superclass "PuppetHeirs$Leaves" "PuppetHeirs$Two") ∈ lw_all := lw_g (lw_at lw_m6 196 rfl) rfl
theorem q2666 : (Jvm.Cond.castable "PuppetHeirs$Leaves" "java/lang/Object") ∈ lw_tbl := lw_at lw_m11 151 rfl
theorem in_X20 : ∀ w ∈ wsX200, w ∈ lw_all := lw_in wsX200 [1509, 1510] (by decide +kernel) (by decide +kernel)

/-! PuppetHeirs$BookReader -/
set_option maxRecDepth 100000
def RX21 : String := "PuppetHeirs$BookReader"
def TX21 : u_T := fun k => match k with
  | 0 => ("PuppetHeirs$Reader", "text", "[B", true)
  | 1 => ("PuppetHeirs$Reader", "size", "I", true)
  | 2 => ("PuppetHeirs$Reader", "next", "I", false)
  | 3 => ("PuppetHeirs$Reader", "from", "I", false)
  | 4 => ("PuppetHeirs$Reader", "open", "I", false)
  | 5 => ("PuppetHeirs$BookReader", "t", "LPuppetHeirs$Told;", true)
  | _ => ("PuppetHeirs$BookReader", "read", "[I", true)
def tyX21 : Nat → FieldType := fun k => match k with
  | 0 => .array .byte
  | 1 => .int
  | 2 => .int
  | 3 => .int
  | 4 => .int
  | 5 => .object "PuppetHeirs$Told"
  | _ => .array .int
abbrev wsX210 : List Cond := u_ws RX21 TX21 7
theorem nmX21 : ∀ a, a < 7 → ∀ b, b < 7 → a ≠ b → (TX21 a).2.1 ≠ (TX21 b).2.1 := by decide +kernel
theorem tyX21_ok : ∀ k, k < 7 → parseFieldDescriptor (TX21 k).2.2.1 = some (tyX21 k) := by decide +kernel
abbrev cX21_init : ByteArray := prog_3_method_1_code
def yX21_init : MethodName := ⟨RX21, "<init>", "([BILPuppetHeirs$Told;)V"⟩
def dkwX21_init_0 : List UInt8 := [42, 43, 28, 183, 0, 3, 42, 16, 36, 188, 10, 181, 0, 9, 42, 45, 181, 0, 15, 177]
abbrev dktX21_init_0 : List UInt8 := dkwX21_init_0 ++ []
theorem dksX21_init_0 : cX21_init.data.toList.drop 0 = dktX21_init_0 := by decide +kernel
theorem dX21_init_0 : decode cX21_init 0 = .ok (.aload_n 0, 1) := dk_42 (dk_at dksX21_init_0 0 rfl rfl)
theorem dX21_init_1 : decode cX21_init 1 = .ok (.aload_n 1, 1) := dk_43 (dk_at dksX21_init_0 1 rfl rfl)
theorem dX21_init_2 : decode cX21_init 2 = .ok (.iload_n 2, 1) := dk_28 (dk_at dksX21_init_0 2 rfl rfl)
theorem dX21_init_3 : decode cX21_init 3 = .ok (.invokespecial 3, 3) := dk_183 0 3 (dk_at dksX21_init_0 3 rfl rfl)
theorem dX21_init_6 : decode cX21_init 6 = .ok (.aload_n 0, 1) := dk_42 (dk_at dksX21_init_0 6 rfl rfl)
theorem dX21_init_7 : decode cX21_init 7 = .ok (.bipush 36, 2) := dk_16 36 (dk_at dksX21_init_0 7 rfl rfl)
theorem dX21_init_9 : decode cX21_init 9 = .ok (.newarray .int, 2) := dk_188_10 (dk_at dksX21_init_0 9 rfl rfl)
theorem dX21_init_11 : decode cX21_init 11 = .ok (.putfield 9, 3) := dk_181 0 9 (dk_at dksX21_init_0 11 rfl rfl)
theorem dX21_init_14 : decode cX21_init 14 = .ok (.aload_n 0, 1) := dk_42 (dk_at dksX21_init_0 14 rfl rfl)
theorem dX21_init_15 : decode cX21_init 15 = .ok (.aload_n 3, 1) := dk_45 (dk_at dksX21_init_0 15 rfl rfl)
theorem dX21_init_16 : decode cX21_init 16 = .ok (.putfield 15, 3) := dk_181 0 15 (dk_at dksX21_init_0 16 rfl rfl)
theorem dX21_init_19 : decode cX21_init 19 = .ok (.return_, 1) := dk_177 (dk_at dksX21_init_0 19 rfl rfl)
abbrev cX21_reads : ByteArray := prog_3_method_2_code
def yX21_reads : MethodName := ⟨RX21, "reads", "()I"⟩
def dkwX21_reads_5 : List UInt8 := [167, 255, 147, 27, 172]
abbrev dktX21_reads_5 : List UInt8 := dkwX21_reads_5 ++ []
def dkwX21_reads_4 : List UInt8 := [180, 0, 47, 4, 100, 182, 0, 30, 79, 42, 16, 59, 182, 0, 50, 132, 1, 1, 42, 182, 0, 19, 87]
abbrev dktX21_reads_4 : List UInt8 := dkwX21_reads_4 ++ dktX21_reads_5
def dkwX21_reads_3 : List UInt8 := [180, 0, 42, 4, 100, 182, 0, 30, 79, 42, 180, 0, 9, 6, 27, 104, 5, 96, 42, 3, 42, 180, 0, 15]
abbrev dktX21_reads_3 : List UInt8 := dkwX21_reads_3 ++ dktX21_reads_4
def dkwX21_reads_2 : List UInt8 := [180, 0, 9, 6, 27, 104, 28, 79, 42, 180, 0, 9, 6, 27, 104, 4, 96, 42, 3, 42, 180, 0, 15]
abbrev dktX21_reads_2 : List UInt8 := dkwX21_reads_2 ++ dktX21_reads_3
def dkwX21_reads_1 : List UInt8 := [182, 0, 30, 61, 27, 16, 12, 160, 0, 16, 187, 0, 34, 89, 6, 42, 180, 0, 36, 183, 0, 39, 191, 42]
abbrev dktX21_reads_1 : List UInt8 := dkwX21_reads_1 ++ dktX21_reads_2
def dkwX21_reads_0 : List UInt8 := [3, 60, 42, 182, 0, 19, 87, 42, 180, 0, 23, 42, 180, 0, 27, 162, 0, 104, 42, 4, 16, 60]
abbrev dktX21_reads_0 : List UInt8 := dkwX21_reads_0 ++ dktX21_reads_1
theorem dksX21_reads_0 : cX21_reads.data.toList.drop 0 = dktX21_reads_0 := by decide +kernel
theorem dksX21_reads_1 : cX21_reads.data.toList.drop 22 = dktX21_reads_1 := dk_seg dksX21_reads_0 22 rfl rfl
theorem dksX21_reads_2 : cX21_reads.data.toList.drop 46 = dktX21_reads_2 := dk_seg dksX21_reads_1 24 rfl rfl
theorem dksX21_reads_3 : cX21_reads.data.toList.drop 69 = dktX21_reads_3 := dk_seg dksX21_reads_2 23 rfl rfl
theorem dksX21_reads_4 : cX21_reads.data.toList.drop 93 = dktX21_reads_4 := dk_seg dksX21_reads_3 24 rfl rfl
theorem dksX21_reads_5 : cX21_reads.data.toList.drop 116 = dktX21_reads_5 := dk_seg dksX21_reads_4 23 rfl rfl
theorem dX21_reads_0 : decode cX21_reads 0 = .ok (.iconst 0, 1) := dk_3 (dk_at dksX21_reads_0 0 rfl rfl)
theorem dX21_reads_1 : decode cX21_reads 1 = .ok (.istore_n 1, 1) := dk_60 (dk_at dksX21_reads_0 1 rfl rfl)
theorem dX21_reads_2 : decode cX21_reads 2 = .ok (.aload_n 0, 1) := dk_42 (dk_at dksX21_reads_0 2 rfl rfl)
theorem dX21_reads_3 : decode cX21_reads 3 = .ok (.invokevirtual 19, 3) := dk_182 0 19 (dk_at dksX21_reads_0 3 rfl rfl)
theorem dX21_reads_6 : decode cX21_reads 6 = .ok (.pop, 1) := dk_87 (dk_at dksX21_reads_0 6 rfl rfl)
theorem dX21_reads_7 : decode cX21_reads 7 = .ok (.aload_n 0, 1) := dk_42 (dk_at dksX21_reads_0 7 rfl rfl)
theorem dX21_reads_8 : decode cX21_reads 8 = .ok (.getfield 23, 3) := dk_180 0 23 (dk_at dksX21_reads_0 8 rfl rfl)
theorem dX21_reads_11 : decode cX21_reads 11 = .ok (.aload_n 0, 1) := dk_42 (dk_at dksX21_reads_0 11 rfl rfl)
theorem dX21_reads_12 : decode cX21_reads 12 = .ok (.getfield 27, 3) := dk_180 0 27 (dk_at dksX21_reads_0 12 rfl rfl)
theorem dX21_reads_15 : decode cX21_reads 15 = .ok (.if_icmp .ge 104, 3) := dk_162 0 104 (dk_at dksX21_reads_0 15 rfl rfl)
theorem dX21_reads_18 : decode cX21_reads 18 = .ok (.aload_n 0, 1) := dk_42 (dk_at dksX21_reads_0 18 rfl rfl)
theorem dX21_reads_19 : decode cX21_reads 19 = .ok (.iconst 1, 1) := dk_4 (dk_at dksX21_reads_0 19 rfl rfl)
theorem dX21_reads_20 : decode cX21_reads 20 = .ok (.bipush 60, 2) := dk_16 60 (dk_at dksX21_reads_0 20 rfl rfl)
theorem dX21_reads_22 : decode cX21_reads 22 = .ok (.invokevirtual 30, 3) := dk_182 0 30 (dk_at dksX21_reads_1 0 rfl rfl)
theorem dX21_reads_25 : decode cX21_reads 25 = .ok (.istore_n 2, 1) := dk_61 (dk_at dksX21_reads_1 3 rfl rfl)
theorem dX21_reads_26 : decode cX21_reads 26 = .ok (.iload_n 1, 1) := dk_27 (dk_at dksX21_reads_1 4 rfl rfl)
theorem dX21_reads_27 : decode cX21_reads 27 = .ok (.bipush 12, 2) := dk_16 12 (dk_at dksX21_reads_1 5 rfl rfl)
theorem dX21_reads_29 : decode cX21_reads 29 = .ok (.if_icmp .ne 16, 3) := dk_160 0 16 (dk_at dksX21_reads_1 7 rfl rfl)
theorem dX21_reads_32 : decode cX21_reads 32 = .ok (.new 34, 3) := dk_187 0 34 (dk_at dksX21_reads_1 10 rfl rfl)
theorem dX21_reads_35 : decode cX21_reads 35 = .ok (.dup, 1) := dk_89 (dk_at dksX21_reads_1 13 rfl rfl)
theorem dX21_reads_36 : decode cX21_reads 36 = .ok (.iconst 3, 1) := dk_6 (dk_at dksX21_reads_1 14 rfl rfl)
theorem dX21_reads_37 : decode cX21_reads 37 = .ok (.aload_n 0, 1) := dk_42 (dk_at dksX21_reads_1 15 rfl rfl)
theorem dX21_reads_38 : decode cX21_reads 38 = .ok (.getfield 36, 3) := dk_180 0 36 (dk_at dksX21_reads_1 16 rfl rfl)
theorem dX21_reads_41 : decode cX21_reads 41 = .ok (.invokespecial 39, 3) := dk_183 0 39 (dk_at dksX21_reads_1 19 rfl rfl)
theorem dX21_reads_44 : decode cX21_reads 44 = .ok (.athrow, 1) := dk_191 (dk_at dksX21_reads_1 22 rfl rfl)
theorem dX21_reads_45 : decode cX21_reads 45 = .ok (.aload_n 0, 1) := dk_42 (dk_at dksX21_reads_1 23 rfl rfl)
theorem dX21_reads_46 : decode cX21_reads 46 = .ok (.getfield 9, 3) := dk_180 0 9 (dk_at dksX21_reads_2 0 rfl rfl)
theorem dX21_reads_49 : decode cX21_reads 49 = .ok (.iconst 3, 1) := dk_6 (dk_at dksX21_reads_2 3 rfl rfl)
theorem dX21_reads_50 : decode cX21_reads 50 = .ok (.iload_n 1, 1) := dk_27 (dk_at dksX21_reads_2 4 rfl rfl)
theorem dX21_reads_51 : decode cX21_reads 51 = .ok (.imul, 1) := dk_104 (dk_at dksX21_reads_2 5 rfl rfl)
theorem dX21_reads_52 : decode cX21_reads 52 = .ok (.iload_n 2, 1) := dk_28 (dk_at dksX21_reads_2 6 rfl rfl)
theorem dX21_reads_53 : decode cX21_reads 53 = .ok (.iastore, 1) := dk_79 (dk_at dksX21_reads_2 7 rfl rfl)
theorem dX21_reads_54 : decode cX21_reads 54 = .ok (.aload_n 0, 1) := dk_42 (dk_at dksX21_reads_2 8 rfl rfl)
theorem dX21_reads_55 : decode cX21_reads 55 = .ok (.getfield 9, 3) := dk_180 0 9 (dk_at dksX21_reads_2 9 rfl rfl)
theorem dX21_reads_58 : decode cX21_reads 58 = .ok (.iconst 3, 1) := dk_6 (dk_at dksX21_reads_2 12 rfl rfl)
theorem dX21_reads_59 : decode cX21_reads 59 = .ok (.iload_n 1, 1) := dk_27 (dk_at dksX21_reads_2 13 rfl rfl)
theorem dX21_reads_60 : decode cX21_reads 60 = .ok (.imul, 1) := dk_104 (dk_at dksX21_reads_2 14 rfl rfl)
theorem dX21_reads_61 : decode cX21_reads 61 = .ok (.iconst 1, 1) := dk_4 (dk_at dksX21_reads_2 15 rfl rfl)
theorem dX21_reads_62 : decode cX21_reads 62 = .ok (.iadd, 1) := dk_96 (dk_at dksX21_reads_2 16 rfl rfl)
theorem dX21_reads_63 : decode cX21_reads 63 = .ok (.aload_n 0, 1) := dk_42 (dk_at dksX21_reads_2 17 rfl rfl)
theorem dX21_reads_64 : decode cX21_reads 64 = .ok (.iconst 0, 1) := dk_3 (dk_at dksX21_reads_2 18 rfl rfl)
theorem dX21_reads_65 : decode cX21_reads 65 = .ok (.aload_n 0, 1) := dk_42 (dk_at dksX21_reads_2 19 rfl rfl)
theorem dX21_reads_66 : decode cX21_reads 66 = .ok (.getfield 15, 3) := dk_180 0 15 (dk_at dksX21_reads_2 20 rfl rfl)
theorem dX21_reads_69 : decode cX21_reads 69 = .ok (.getfield 42, 3) := dk_180 0 42 (dk_at dksX21_reads_3 0 rfl rfl)
theorem dX21_reads_72 : decode cX21_reads 72 = .ok (.iconst 1, 1) := dk_4 (dk_at dksX21_reads_3 3 rfl rfl)
theorem dX21_reads_73 : decode cX21_reads 73 = .ok (.isub, 1) := dk_100 (dk_at dksX21_reads_3 4 rfl rfl)
theorem dX21_reads_74 : decode cX21_reads 74 = .ok (.invokevirtual 30, 3) := dk_182 0 30 (dk_at dksX21_reads_3 5 rfl rfl)
theorem dX21_reads_77 : decode cX21_reads 77 = .ok (.iastore, 1) := dk_79 (dk_at dksX21_reads_3 8 rfl rfl)
theorem dX21_reads_78 : decode cX21_reads 78 = .ok (.aload_n 0, 1) := dk_42 (dk_at dksX21_reads_3 9 rfl rfl)
theorem dX21_reads_79 : decode cX21_reads 79 = .ok (.getfield 9, 3) := dk_180 0 9 (dk_at dksX21_reads_3 10 rfl rfl)
theorem dX21_reads_82 : decode cX21_reads 82 = .ok (.iconst 3, 1) := dk_6 (dk_at dksX21_reads_3 13 rfl rfl)
theorem dX21_reads_83 : decode cX21_reads 83 = .ok (.iload_n 1, 1) := dk_27 (dk_at dksX21_reads_3 14 rfl rfl)
theorem dX21_reads_84 : decode cX21_reads 84 = .ok (.imul, 1) := dk_104 (dk_at dksX21_reads_3 15 rfl rfl)
theorem dX21_reads_85 : decode cX21_reads 85 = .ok (.iconst 2, 1) := dk_5 (dk_at dksX21_reads_3 16 rfl rfl)
theorem dX21_reads_86 : decode cX21_reads 86 = .ok (.iadd, 1) := dk_96 (dk_at dksX21_reads_3 17 rfl rfl)
theorem dX21_reads_87 : decode cX21_reads 87 = .ok (.aload_n 0, 1) := dk_42 (dk_at dksX21_reads_3 18 rfl rfl)
theorem dX21_reads_88 : decode cX21_reads 88 = .ok (.iconst 0, 1) := dk_3 (dk_at dksX21_reads_3 19 rfl rfl)
theorem dX21_reads_89 : decode cX21_reads 89 = .ok (.aload_n 0, 1) := dk_42 (dk_at dksX21_reads_3 20 rfl rfl)
theorem dX21_reads_90 : decode cX21_reads 90 = .ok (.getfield 15, 3) := dk_180 0 15 (dk_at dksX21_reads_3 21 rfl rfl)
theorem dX21_reads_93 : decode cX21_reads 93 = .ok (.getfield 47, 3) := dk_180 0 47 (dk_at dksX21_reads_4 0 rfl rfl)
theorem dX21_reads_96 : decode cX21_reads 96 = .ok (.iconst 1, 1) := dk_4 (dk_at dksX21_reads_4 3 rfl rfl)
theorem dX21_reads_97 : decode cX21_reads 97 = .ok (.isub, 1) := dk_100 (dk_at dksX21_reads_4 4 rfl rfl)
theorem dX21_reads_98 : decode cX21_reads 98 = .ok (.invokevirtual 30, 3) := dk_182 0 30 (dk_at dksX21_reads_4 5 rfl rfl)
theorem dX21_reads_101 : decode cX21_reads 101 = .ok (.iastore, 1) := dk_79 (dk_at dksX21_reads_4 8 rfl rfl)
theorem dX21_reads_102 : decode cX21_reads 102 = .ok (.aload_n 0, 1) := dk_42 (dk_at dksX21_reads_4 9 rfl rfl)
theorem dX21_reads_103 : decode cX21_reads 103 = .ok (.bipush 59, 2) := dk_16 59 (dk_at dksX21_reads_4 10 rfl rfl)
theorem dX21_reads_105 : decode cX21_reads 105 = .ok (.invokevirtual 50, 3) := dk_182 0 50 (dk_at dksX21_reads_4 12 rfl rfl)
theorem dX21_reads_108 : decode cX21_reads 108 = .ok (.iinc 1 1, 3) := dk_132 1 1 (dk_at dksX21_reads_4 15 rfl rfl)
theorem dX21_reads_111 : decode cX21_reads 111 = .ok (.aload_n 0, 1) := dk_42 (dk_at dksX21_reads_4 18 rfl rfl)
theorem dX21_reads_112 : decode cX21_reads 112 = .ok (.invokevirtual 19, 3) := dk_182 0 19 (dk_at dksX21_reads_4 19 rfl rfl)
theorem dX21_reads_115 : decode cX21_reads 115 = .ok (.pop, 1) := dk_87 (dk_at dksX21_reads_4 22 rfl rfl)
theorem dX21_reads_116 : decode cX21_reads 116 = .ok (.goto (-109), 3) := dk_167 255 147 (dk_at dksX21_reads_5 0 rfl rfl)
theorem dX21_reads_119 : decode cX21_reads 119 = .ok (.iload_n 1, 1) := dk_27 (dk_at dksX21_reads_5 3 rfl rfl)
theorem dX21_reads_120 : decode cX21_reads 120 = .ok (.ireturn, 1) := dk_172 (dk_at dksX21_reads_5 4 rfl rfl)
theorem q155 : (Jvm.Cond.initialized "PuppetHeirs$BookReader") ∈ lw_all := lw_g (lw_at lw_m1 40 rfl) rfl
theorem q554 : (Jvm.Cond.fieldLinkNest "PuppetHeirs$BookReader" (47 : Nat) "PuppetHeirs$Told" "hands" "I" "PuppetHeirs") ∈ lw_tbl := lw_at lw_m2 199 rfl
theorem q557 : (Jvm.Cond.fieldLinkNest "PuppetHeirs$BookReader" (42 : Nat) "PuppetHeirs$Told" "puppets" "I" "PuppetHeirs") ∈ lw_tbl := lw_at lw_m2 202 rfl
theorem q1061 : (Jvm.Cond.fieldLink "PuppetHeirs$BookReader" (27 : Nat) "PuppetHeirs$BookReader" "size" "I") ∈ lw_all := lw_g (lw_at lw_m4 226 rfl) rfl
theorem q1062 : (Jvm.Cond.sameField "PuppetHeirs$BookReader" "PuppetHeirs$Reader" "size" "I") ∈ lw_all := lw_g (lw_at lw_m4 227 rfl) rfl
theorem q1068 : (Jvm.Cond.fieldLink "PuppetHeirs$BookReader" (23 : Nat) "PuppetHeirs$BookReader" "next" "I") ∈ lw_all := lw_g (lw_at lw_m4 233 rfl) rfl
theorem q1069 : (Jvm.Cond.sameField "PuppetHeirs$BookReader" "PuppetHeirs$Reader" "next" "I") ∈ lw_all := lw_g (lw_at lw_m4 234 rfl) rfl
theorem q1072 : (Jvm.Cond.fieldLink "PuppetHeirs$BookReader" (36 : Nat) "PuppetHeirs$BookReader" "from" "I") ∈ lw_all := lw_g (lw_at lw_m4 237 rfl) rfl
theorem q1073 : (Jvm.Cond.sameField "PuppetHeirs$BookReader" "PuppetHeirs$Reader" "from" "I") ∈ lw_all := lw_g (lw_at lw_m4 238 rfl) rfl
theorem q1352 : (Jvm.Cond.selects "PuppetHeirs$BookReader" ({ cls := "java/lang/Object", name := "getClass", desc := "()Ljava/lang/Class;" } : Jvm.MethodName) ({ cls := "java/lang/Object", name := "getClass", desc := "()Ljava/lang/Class;" } : Jvm.MethodName)) ∈ lw_all := lw_g (lw_at lw_m6 37 rfl) rfl
theorem q1524 : (Jvm.Cond.instantiable "PuppetHeirs$BookReader" (7 : Nat)) ∈ lw_all := lw_g (lw_at lw_m6 209 rfl) rfl
theorem q1526 : (Jvm.Cond.instanceMethod ({ cls := "PuppetHeirs$BookReader", name := "<init>", desc := "([BILPuppetHeirs$Told;)V" } : Jvm.MethodName)) ∈ lw_all := lw_g (lw_at lw_m6 211 rfl) rfl
theorem q1527 : (Jvm.Cond.code ({ cls := "PuppetHeirs$BookReader", name := "<init>", desc := "([BILPuppetHeirs$Told;)V" } : Jvm.MethodName) prog_3_method_1_code (4 : Nat) (Option.none : Option Jvm.ClassFile.FieldType)) ∈ lw_all := lw_g (lw_at lw_m6 212 rfl) rfl
theorem q1528 : (Jvm.Cond.methodLink "PuppetHeirs$BookReader" (3 : Nat) ({ cls := "PuppetHeirs$Reader", name := "<init>", desc := "([BI)V" } : Jvm.MethodName)) ∈ lw_all := lw_g (lw_at lw_m6 213 rfl) rfl
theorem q1529 : (Jvm.Cond.fieldLink "PuppetHeirs$BookReader" (15 : Nat) "PuppetHeirs$BookReader" "t" "LPuppetHeirs$Told;") ∈ lw_all := lw_g (lw_at lw_m6 214 rfl) rfl
theorem q1530 : (Jvm.Cond.fieldLink "PuppetHeirs$BookReader" (9 : Nat) "PuppetHeirs$BookReader" "read" "[I") ∈ lw_all := lw_g (lw_at lw_m6 215 rfl) rfl
theorem q1532 : (Jvm.Cond.laysFinal "PuppetHeirs$BookReader" "PuppetHeirs$BookReader" "t" "LPuppetHeirs$Told;") ∈ lw_all := lw_g (lw_at lw_m6 217 rfl) rfl
theorem q1533 : (Jvm.Cond.soleField "PuppetHeirs$BookReader" "t") ∈ lw_all := lw_g (lw_at lw_m6 218 rfl) rfl
theorem q1534 : (Jvm.Cond.laysFinal "PuppetHeirs$BookReader" "PuppetHeirs$BookReader" "read" "[I") ∈ lw_all := lw_g (lw_at lw_m6 219 rfl) rfl
theorem q1535 : (Jvm.Cond.soleField "PuppetHeirs$BookReader" "read") ∈ lw_all := lw_g (lw_at lw_m6 220 rfl) rfl
theorem q1536 : (Jvm.Cond.laysFinal "PuppetHeirs$BookReader" "PuppetHeirs$Reader" "text" "[B") ∈ lw_all := lw_g (lw_at lw_m6 221 rfl) rfl
theorem q1537 : (Jvm.Cond.laysFinal "PuppetHeirs$BookReader" "PuppetHeirs$Reader" "size" "I") ∈ lw_all := lw_g (lw_at lw_m6 222 rfl) rfl
theorem q1538 : (Jvm.Cond.lays "PuppetHeirs$BookReader" "PuppetHeirs$Reader" "next" "I") ∈ lw_all := lw_g (lw_at lw_m6 223 rfl) rfl
theorem q1539 : (Jvm.Cond.lays "PuppetHeirs$BookReader" "PuppetHeirs$Reader" "from" "I") ∈ lw_all := lw_g (lw_at lw_m6 224 rfl) rfl
theorem q1540 : (Jvm.Cond.lays "PuppetHeirs$BookReader" "PuppetHeirs$Reader" "open" "I") ∈ lw_all := lw_g (lw_at lw_m6 225 rfl) rfl
theorem q1541 : (Jvm.Cond.superclass "PuppetHeirs$BookReader" "PuppetHeirs$Reader") ∈ lw_all := lw_g (lw_at lw_m6 226 rfl) rfl
theorem q1543 : (Jvm.Cond.instanceMethod ({ cls := "PuppetHeirs$BookReader", name := "reads", desc := "()I" } : Jvm.MethodName)) ∈ lw_all := lw_g (lw_at lw_m6 228 rfl) rfl
theorem q1544 : (Jvm.Cond.selects "PuppetHeirs$BookReader" ({ cls := "PuppetHeirs$BookReader", name := "reads", desc := "()I" } : Jvm.MethodName) ({ cls := "PuppetHeirs$BookReader", name := "reads", desc := "()I" } : Jvm.MethodName)) ∈ lw_all := lw_g (lw_at lw_m6 229 rfl) rfl
theorem q1545 : (Jvm.Cond.code ({ cls := "PuppetHeirs$BookReader", name := "reads", desc := "()I" } : Jvm.MethodName) prog_3_method_2_code (3 : Nat) (Option.some Jvm.ClassFile.FieldType.int)) ∈ lw_all := lw_g (lw_at lw_m6 230 rfl) rfl
theorem q1546 : (Jvm.Cond.methodLink "PuppetHeirs$BookReader" (19 : Nat) ({ cls := "PuppetHeirs$BookReader", name := "sign", desc := "()I" } : Jvm.MethodName)) ∈ lw_all := lw_g (lw_at lw_m6 231 rfl) rfl
theorem q1547 : (Jvm.Cond.sameMethod "PuppetHeirs$BookReader" "PuppetHeirs$Reader" "sign" "()I") ∈ lw_all := lw_g (lw_at lw_m6 232 rfl) rfl
theorem q1548 : (Jvm.Cond.selects "PuppetHeirs$BookReader" ({ cls := "PuppetHeirs$BookReader", name := "sign", desc := "()I" } : Jvm.MethodName) ({ cls := "PuppetHeirs$Reader", name := "sign", desc := "()I" } : Jvm.MethodName)) ∈ lw_all := lw_g (lw_at lw_m6 233 rfl) rfl
theorem q1549 : (Jvm.Cond.methodLink "PuppetHeirs$BookReader" (30 : Nat) ({ cls := "PuppetHeirs$BookReader", name := "number", desc := "(II)I" } : Jvm.MethodName)) ∈ lw_all := lw_g (lw_at lw_m6 234 rfl) rfl
theorem q1550 : (Jvm.Cond.sameMethod "PuppetHeirs$BookReader" "PuppetHeirs$Reader" "number" "(II)I") ∈ lw_all := lw_g (lw_at lw_m6 235 rfl) rfl
theorem q1551 : (Jvm.Cond.selects "PuppetHeirs$BookReader" ({ cls := "PuppetHeirs$BookReader", name := "number", desc := "(II)I" } : Jvm.MethodName) ({ cls := "PuppetHeirs$Reader", name := "number", desc := "(II)I" } : Jvm.MethodName)) ∈ lw_all := lw_g (lw_at lw_m6 236 rfl) rfl
theorem q1552 : (Jvm.Cond.classLink "PuppetHeirs$BookReader" (34 : Nat) "PuppetHeirs$Wrong") ∈ lw_all := lw_g (lw_at lw_m6 237 rfl) rfl
theorem q1553 : (Jvm.Cond.methodLink "PuppetHeirs$BookReader" (39 : Nat) ({ cls := "PuppetHeirs$Wrong", name := "<init>", desc := "(II)V" } : Jvm.MethodName)) ∈ lw_all := lw_g (lw_at lw_m6 238 rfl) rfl
theorem q1554 : (Jvm.Cond.methodLink "PuppetHeirs$BookReader" (50 : Nat) ({ cls := "PuppetHeirs$BookReader", name := "need", desc := "(I)V" } : Jvm.MethodName)) ∈ lw_all := lw_g (lw_at lw_m6 239 rfl) rfl
theorem q1555 : (Jvm.Cond.sameMethod "PuppetHeirs$BookReader" "PuppetHeirs$Reader" "need" "(I)V") ∈ lw_all := lw_g (lw_at lw_m7 0 rfl) rfl
theorem q1556 : (Jvm.Cond.selects "PuppetHeirs$BookReader" ({ cls := "PuppetHeirs$BookReader", name := "need", desc := "(I)V" } : Jvm.MethodName) ({ cls := "PuppetHeirs$Reader", name := "need", desc := "(I)V" } : Jvm.MethodName)) ∈ lw_all := lw_g (lw_at lw_m7 1 rfl) rfl
theorem q2635 : (Jvm.Cond.selects "PuppetHeirs$BookReader" ({ cls := "PuppetHeirs$Reader", name := "sign", desc := "()I" } : Jvm.MethodName) ({ cls := "PuppetHeirs$Reader", name := "sign", desc := "()I" } : Jvm.MethodName)) ∈ lw_all := lw_g (lw_at lw_m11 120 rfl) rfl
theorem q2641 : (Jvm.Cond.selects "PuppetHeirs$BookReader" ({ cls := "PuppetHeirs$Reader", name := "wrong", desc := "()LPuppetHeirs$Wrong;" } : Jvm.MethodName) ({ cls := "PuppetHeirs$Reader", name := "wrong", desc := "()LPuppetHeirs$Wrong;" } : Jvm.MethodName)) ∈ lw_all := lw_g (lw_at lw_m11 126 rfl) rfl
theorem q2667 : (Jvm.Cond.castable "PuppetHeirs$BookReader" "java/lang/Object") ∈ lw_tbl := lw_at lw_m11 152 rfl
theorem in_X21 : ∀ w ∈ wsX210, w ∈ lw_all := lw_in wsX210 [1536, 1537, 1538, 1539, 1540, 1532, 1534] (by decide +kernel) (by decide +kernel)
