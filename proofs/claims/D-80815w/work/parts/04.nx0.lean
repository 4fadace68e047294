/-! FairFight -/
set_option maxRecDepth 100000
def RX0 : String := "FairFight"
def TX0 : u_T := fun k => match k with
  | 0 => ("FairFight", "fighters", "[LFairFight$Fighter;", true)
  | 1 => ("FairFight", "fighterMany", "I", false)
  | 2 => ("FairFight", "sides", "[[I", true)
  | 3 => ("FairFight", "rounds", "I", false)
  | 4 => ("FairFight", "aim", "I", false)
  | 5 => ("FairFight", "surprised", "I", false)
  | 6 => ("FairFight", "nowTable", "LFairFight$Table;", false)
  | 7 => ("FairFight", "nextTable", "LFairFight$Table;", false)
  | 8 => ("FairFight", "fights", "Ljava/util/ArrayList;", true)
  | 9 => ("FairFight", "purse", "I", false)
  | 10 => ("FairFight", "bonus", "I", false)
  | 11 => ("FairFight", "daySum", "I", false)
  | 12 => ("FairFight", "dayUse", "I", false)
  | 13 => ("FairFight", "bands", "Ljava/util/ArrayList;", true)
  | 14 => ("FairFight", "played", "[I", true)
  | 15 => ("FairFight", "playedLife", "[[I", true)
  | 16 => ("FairFight", "sheets", "[LFairFight$Sheet;", true)
  | _ => ("FairFight", "finding", "I", false)
def tyX0 : Nat → FieldType := fun k => match k with
  | 0 => .array (.object "FairFight$Fighter")
  | 1 => .int
  | 2 => .array (.array .int)
  | 3 => .int
  | 4 => .int
  | 5 => .int
  | 6 => .object "FairFight$Table"
  | 7 => .object "FairFight$Table"
  | 8 => .object "java/util/ArrayList"
  | 9 => .int
  | 10 => .int
  | 11 => .int
  | 12 => .int
  | 13 => .object "java/util/ArrayList"
  | 14 => .array .int
  | 15 => .array (.array .int)
  | 16 => .array (.object "FairFight$Sheet")
  | _ => .int
abbrev wsX00 : List Cond := u_ws RX0 TX0 18
set_option maxRecDepth 100000 in
theorem nmX0 : ∀ a, a < 18 → ∀ b, b < 18 → a ≠ b → (TX0 a).2.1 ≠ (TX0 b).2.1 := by decide +kernel
set_option maxRecDepth 100000 in
theorem tyX0_ok : ∀ k, k < 18 → parseFieldDescriptor (TX0 k).2.2.1 = some (tyX0 k) := by decide +kernel
abbrev cX0_init : ByteArray := prog_1_method_3_code
def yX0_init : MethodName := ⟨RX0, "<init>", "()V"⟩
def dkwX0_init_8 : List UInt8 := [180, 0, 64, 27, 187, 0, 62, 89, 183, 0, 68, 83, 132, 1, 1, 167, 255, 235, 177]
abbrev dktX0_init_8 : List UInt8 := dkwX0_init_8 ++ []
def dkwX0_init_7 : List UInt8 := [2, 79, 83, 181, 0, 59, 42, 7, 189, 0, 62, 181, 0, 64, 3, 60, 27, 7, 162, 0, 22, 42]
abbrev dktX0_init_7 : List UInt8 := dkwX0_init_7 ++ dktX0_init_8
def dkwX0_init_6 : List UInt8 := [89, 4, 2, 79, 89, 5, 2, 79, 83, 89, 4, 6, 188, 10, 89, 3, 2, 79, 89, 4, 2, 79, 89, 5]
abbrev dktX0_init_6 : List UInt8 := dkwX0_init_6 ++ dktX0_init_7
def dkwX0_init_5 : List UInt8 := [181, 0, 53, 42, 6, 188, 10, 181, 0, 56, 42, 5, 189, 0, 17, 89, 3, 6, 188, 10, 89, 3, 2, 79]
abbrev dktX0_init_5 : List UInt8 := dkwX0_init_5 ++ dktX0_init_6
def dkwX0_init_4 : List UInt8 := [183, 0, 42, 181, 0, 43, 42, 4, 181, 0, 47, 42, 4, 181, 0, 50, 42, 187, 0, 40, 89, 183, 0, 42]
abbrev dktX0_init_4 : List UInt8 := dkwX0_init_4 ++ dktX0_init_5
def dkwX0_init_3 : List UInt8 := [183, 0, 32, 181, 0, 33, 42, 187, 0, 30, 89, 183, 0, 32, 181, 0, 37, 42, 187, 0, 40, 89]
abbrev dktX0_init_3 : List UInt8 := dkwX0_init_3 ++ dktX0_init_4
def dkwX0_init_2 : List UInt8 := [79, 89, 5, 2, 79, 83, 181, 0, 19, 42, 6, 181, 0, 23, 42, 2, 181, 0, 27, 42, 187, 0, 30, 89]
abbrev dktX0_init_2 : List UInt8 := dkwX0_init_2 ++ dktX0_init_3
def dkwX0_init_1 : List UInt8 := [3, 2, 79, 89, 4, 2, 79, 89, 5, 2, 79, 83, 89, 4, 6, 188, 10, 89, 3, 2, 79, 89, 4, 2]
abbrev dktX0_init_1 : List UInt8 := dkwX0_init_1 ++ dktX0_init_2
def dkwX0_init_0 : List UInt8 := [42, 183, 0, 5, 42, 16, 16, 189, 0, 11, 181, 0, 13, 42, 5, 189, 0, 17, 89, 3, 6, 188, 10, 89]
abbrev dktX0_init_0 : List UInt8 := dkwX0_init_0 ++ dktX0_init_1
theorem dksX0_init_0 : cX0_init.data.toList.drop 0 = dktX0_init_0 := by decide +kernel
theorem dksX0_init_1 : cX0_init.data.toList.drop 24 = dktX0_init_1 := dk_seg dksX0_init_0 24 rfl rfl
theorem dksX0_init_2 : cX0_init.data.toList.drop 48 = dktX0_init_2 := dk_seg dksX0_init_1 24 rfl rfl
theorem dksX0_init_3 : cX0_init.data.toList.drop 72 = dktX0_init_3 := dk_seg dksX0_init_2 24 rfl rfl
theorem dksX0_init_4 : cX0_init.data.toList.drop 94 = dktX0_init_4 := dk_seg dksX0_init_3 22 rfl rfl
theorem dksX0_init_5 : cX0_init.data.toList.drop 118 = dktX0_init_5 := dk_seg dksX0_init_4 24 rfl rfl
theorem dksX0_init_6 : cX0_init.data.toList.drop 142 = dktX0_init_6 := dk_seg dksX0_init_5 24 rfl rfl
theorem dksX0_init_7 : cX0_init.data.toList.drop 166 = dktX0_init_7 := dk_seg dksX0_init_6 24 rfl rfl
theorem dksX0_init_8 : cX0_init.data.toList.drop 188 = dktX0_init_8 := dk_seg dksX0_init_7 22 rfl rfl
theorem dX0_init_0 : decode cX0_init 0 = .ok (.aload_n 0, 1) := dk_42 (dk_at dksX0_init_0 0 rfl rfl)
theorem dX0_init_1 : decode cX0_init 1 = .ok (.invokespecial 5, 3) := dk_183 0 5 (dk_at dksX0_init_0 1 rfl rfl)
theorem dX0_init_4 : decode cX0_init 4 = .ok (.aload_n 0, 1) := dk_42 (dk_at dksX0_init_0 4 rfl rfl)
theorem dX0_init_5 : decode cX0_init 5 = .ok (.bipush 16, 2) := dk_16 16 (dk_at dksX0_init_0 5 rfl rfl)
theorem dX0_init_7 : decode cX0_init 7 = .ok (.anewarray 11, 3) := dk_189 0 11 (dk_at dksX0_init_0 7 rfl rfl)
theorem dX0_init_10 : decode cX0_init 10 = .ok (.putfield 13, 3) := dk_181 0 13 (dk_at dksX0_init_0 10 rfl rfl)
theorem dX0_init_13 : decode cX0_init 13 = .ok (.aload_n 0, 1) := dk_42 (dk_at dksX0_init_0 13 rfl rfl)
theorem dX0_init_14 : decode cX0_init 14 = .ok (.iconst 2, 1) := dk_5 (dk_at dksX0_init_0 14 rfl rfl)
theorem dX0_init_15 : decode cX0_init 15 = .ok (.anewarray 17, 3) := dk_189 0 17 (dk_at dksX0_init_0 15 rfl rfl)
theorem dX0_init_18 : decode cX0_init 18 = .ok (.dup, 1) := dk_89 (dk_at dksX0_init_0 18 rfl rfl)
theorem dX0_init_19 : decode cX0_init 19 = .ok (.iconst 0, 1) := dk_3 (dk_at dksX0_init_0 19 rfl rfl)
theorem dX0_init_20 : decode cX0_init 20 = .ok (.iconst 3, 1) := dk_6 (dk_at dksX0_init_0 20 rfl rfl)
theorem dX0_init_21 : decode cX0_init 21 = .ok (.newarray .int, 2) := dk_188_10 (dk_at dksX0_init_0 21 rfl rfl)
theorem dX0_init_23 : decode cX0_init 23 = .ok (.dup, 1) := dk_89 (dk_at dksX0_init_0 23 rfl rfl)
theorem dX0_init_24 : decode cX0_init 24 = .ok (.iconst 0, 1) := dk_3 (dk_at dksX0_init_1 0 rfl rfl)
theorem dX0_init_25 : decode cX0_init 25 = .ok (.iconst (-1), 1) := dk_2 (dk_at dksX0_init_1 1 rfl rfl)
theorem dX0_init_26 : decode cX0_init 26 = .ok (.iastore, 1) := dk_79 (dk_at dksX0_init_1 2 rfl rfl)
theorem dX0_init_27 : decode cX0_init 27 = .ok (.dup, 1) := dk_89 (dk_at dksX0_init_1 3 rfl rfl)
theorem dX0_init_28 : decode cX0_init 28 = .ok (.iconst 1, 1) := dk_4 (dk_at dksX0_init_1 4 rfl rfl)
theorem dX0_init_29 : decode cX0_init 29 = .ok (.iconst (-1), 1) := dk_2 (dk_at dksX0_init_1 5 rfl rfl)
theorem dX0_init_30 : decode cX0_init 30 = .ok (.iastore, 1) := dk_79 (dk_at dksX0_init_1 6 rfl rfl)
theorem dX0_init_31 : decode cX0_init 31 = .ok (.dup, 1) := dk_89 (dk_at dksX0_init_1 7 rfl rfl)
theorem dX0_init_32 : decode cX0_init 32 = .ok (.iconst 2, 1) := dk_5 (dk_at dksX0_init_1 8 rfl rfl)
theorem dX0_init_33 : decode cX0_init 33 = .ok (.iconst (-1), 1) := dk_2 (dk_at dksX0_init_1 9 rfl rfl)
theorem dX0_init_34 : decode cX0_init 34 = .ok (.iastore, 1) := dk_79 (dk_at dksX0_init_1 10 rfl rfl)
theorem dX0_init_35 : decode cX0_init 35 = .ok (.aastore, 1) := dk_83 (dk_at dksX0_init_1 11 rfl rfl)
theorem dX0_init_36 : decode cX0_init 36 = .ok (.dup, 1) := dk_89 (dk_at dksX0_init_1 12 rfl rfl)
theorem dX0_init_37 : decode cX0_init 37 = .ok (.iconst 1, 1) := dk_4 (dk_at dksX0_init_1 13 rfl rfl)
theorem dX0_init_38 : decode cX0_init 38 = .ok (.iconst 3, 1) := dk_6 (dk_at dksX0_init_1 14 rfl rfl)
theorem dX0_init_39 : decode cX0_init 39 = .ok (.newarray .int, 2) := dk_188_10 (dk_at dksX0_init_1 15 rfl rfl)
theorem dX0_init_41 : decode cX0_init 41 = .ok (.dup, 1) := dk_89 (dk_at dksX0_init_1 17 rfl rfl)
theorem dX0_init_42 : decode cX0_init 42 = .ok (.iconst 0, 1) := dk_3 (dk_at dksX0_init_1 18 rfl rfl)
theorem dX0_init_43 : decode cX0_init 43 = .ok (.iconst (-1), 1) := dk_2 (dk_at dksX0_init_1 19 rfl rfl)
theorem dX0_init_44 : decode cX0_init 44 = .ok (.iastore, 1) := dk_79 (dk_at dksX0_init_1 20 rfl rfl)
theorem dX0_init_45 : decode cX0_init 45 = .ok (.dup, 1) := dk_89 (dk_at dksX0_init_1 21 rfl rfl)
theorem dX0_init_46 : decode cX0_init 46 = .ok (.iconst 1, 1) := dk_4 (dk_at dksX0_init_1 22 rfl rfl)
theorem dX0_init_47 : decode cX0_init 47 = .ok (.iconst (-1), 1) := dk_2 (dk_at dksX0_init_1 23 rfl rfl)
theorem dX0_init_48 : decode cX0_init 48 = .ok (.iastore, 1) := dk_79 (dk_at dksX0_init_2 0 rfl rfl)
theorem dX0_init_49 : decode cX0_init 49 = .ok (.dup, 1) := dk_89 (dk_at dksX0_init_2 1 rfl rfl)
theorem dX0_init_50 : decode cX0_init 50 = .ok (.iconst 2, 1) := dk_5 (dk_at dksX0_init_2 2 rfl rfl)
theorem dX0_init_51 : decode cX0_init 51 = .ok (.iconst (-1), 1) := dk_2 (dk_at dksX0_init_2 3 rfl rfl)
theorem dX0_init_52 : decode cX0_init 52 = .ok (.iastore, 1) := dk_79 (dk_at dksX0_init_2 4 rfl rfl)
theorem dX0_init_53 : decode cX0_init 53 = .ok (.aastore, 1) := dk_83 (dk_at dksX0_init_2 5 rfl rfl)
theorem dX0_init_54 : decode cX0_init 54 = .ok (.putfield 19, 3) := dk_181 0 19 (dk_at dksX0_init_2 6 rfl rfl)
theorem dX0_init_57 : decode cX0_init 57 = .ok (.aload_n 0, 1) := dk_42 (dk_at dksX0_init_2 9 rfl rfl)
theorem dX0_init_58 : decode cX0_init 58 = .ok (.iconst 3, 1) := dk_6 (dk_at dksX0_init_2 10 rfl rfl)
theorem dX0_init_59 : decode cX0_init 59 = .ok (.putfield 23, 3) := dk_181 0 23 (dk_at dksX0_init_2 11 rfl rfl)
theorem dX0_init_62 : decode cX0_init 62 = .ok (.aload_n 0, 1) := dk_42 (dk_at dksX0_init_2 14 rfl rfl)
theorem dX0_init_63 : decode cX0_init 63 = .ok (.iconst (-1), 1) := dk_2 (dk_at dksX0_init_2 15 rfl rfl)
theorem dX0_init_64 : decode cX0_init 64 = .ok (.putfield 27, 3) := dk_181 0 27 (dk_at dksX0_init_2 16 rfl rfl)
theorem dX0_init_67 : decode cX0_init 67 = .ok (.aload_n 0, 1) := dk_42 (dk_at dksX0_init_2 19 rfl rfl)
theorem dX0_init_68 : decode cX0_init 68 = .ok (.new 30, 3) := dk_187 0 30 (dk_at dksX0_init_2 20 rfl rfl)
theorem dX0_init_71 : decode cX0_init 71 = .ok (.dup, 1) := dk_89 (dk_at dksX0_init_2 23 rfl rfl)
theorem dX0_init_72 : decode cX0_init 72 = .ok (.invokespecial 32, 3) := dk_183 0 32 (dk_at dksX0_init_3 0 rfl rfl)
theorem dX0_init_75 : decode cX0_init 75 = .ok (.putfield 33, 3) := dk_181 0 33 (dk_at dksX0_init_3 3 rfl rfl)
theorem dX0_init_78 : decode cX0_init 78 = .ok (.aload_n 0, 1) := dk_42 (dk_at dksX0_init_3 6 rfl rfl)
theorem dX0_init_79 : decode cX0_init 79 = .ok (.new 30, 3) := dk_187 0 30 (dk_at dksX0_init_3 7 rfl rfl)
theorem dX0_init_82 : decode cX0_init 82 = .ok (.dup, 1) := dk_89 (dk_at dksX0_init_3 10 rfl rfl)
theorem dX0_init_83 : decode cX0_init 83 = .ok (.invokespecial 32, 3) := dk_183 0 32 (dk_at dksX0_init_3 11 rfl rfl)
theorem dX0_init_86 : decode cX0_init 86 = .ok (.putfield 37, 3) := dk_181 0 37 (dk_at dksX0_init_3 14 rfl rfl)
theorem dX0_init_89 : decode cX0_init 89 = .ok (.aload_n 0, 1) := dk_42 (dk_at dksX0_init_3 17 rfl rfl)
theorem dX0_init_90 : decode cX0_init 90 = .ok (.new 40, 3) := dk_187 0 40 (dk_at dksX0_init_3 18 rfl rfl)
theorem dX0_init_93 : decode cX0_init 93 = .ok (.dup, 1) := dk_89 (dk_at dksX0_init_3 21 rfl rfl)
theorem dX0_init_94 : decode cX0_init 94 = .ok (.invokespecial 42, 3) := dk_183 0 42 (dk_at dksX0_init_4 0 rfl rfl)
theorem dX0_init_97 : decode cX0_init 97 = .ok (.putfield 43, 3) := dk_181 0 43 (dk_at dksX0_init_4 3 rfl rfl)
theorem dX0_init_100 : decode cX0_init 100 = .ok (.aload_n 0, 1) := dk_42 (dk_at dksX0_init_4 6 rfl rfl)
theorem dX0_init_101 : decode cX0_init 101 = .ok (.iconst 1, 1) := dk_4 (dk_at dksX0_init_4 7 rfl rfl)
theorem dX0_init_102 : decode cX0_init 102 = .ok (.putfield 47, 3) := dk_181 0 47 (dk_at dksX0_init_4 8 rfl rfl)
theorem dX0_init_105 : decode cX0_init 105 = .ok (.aload_n 0, 1) := dk_42 (dk_at dksX0_init_4 11 rfl rfl)
theorem dX0_init_106 : decode cX0_init 106 = .ok (.iconst 1, 1) := dk_4 (dk_at dksX0_init_4 12 rfl rfl)
theorem dX0_init_107 : decode cX0_init 107 = .ok (.putfield 50, 3) := dk_181 0 50 (dk_at dksX0_init_4 13 rfl rfl)
theorem dX0_init_110 : decode cX0_init 110 = .ok (.aload_n 0, 1) := dk_42 (dk_at dksX0_init_4 16 rfl rfl)
theorem dX0_init_111 : decode cX0_init 111 = .ok (.new 40, 3) := dk_187 0 40 (dk_at dksX0_init_4 17 rfl rfl)
theorem dX0_init_114 : decode cX0_init 114 = .ok (.dup, 1) := dk_89 (dk_at dksX0_init_4 20 rfl rfl)
theorem dX0_init_115 : decode cX0_init 115 = .ok (.invokespecial 42, 3) := dk_183 0 42 (dk_at dksX0_init_4 21 rfl rfl)
theorem dX0_init_118 : decode cX0_init 118 = .ok (.putfield 53, 3) := dk_181 0 53 (dk_at dksX0_init_5 0 rfl rfl)
theorem dX0_init_121 : decode cX0_init 121 = .ok (.aload_n 0, 1) := dk_42 (dk_at dksX0_init_5 3 rfl rfl)
theorem dX0_init_122 : decode cX0_init 122 = .ok (.iconst 3, 1) := dk_6 (dk_at dksX0_init_5 4 rfl rfl)
theorem dX0_init_123 : decode cX0_init 123 = .ok (.newarray .int, 2) := dk_188_10 (dk_at dksX0_init_5 5 rfl rfl)
theorem dX0_init_125 : decode cX0_init 125 = .ok (.putfield 56, 3) := dk_181 0 56 (dk_at dksX0_init_5 7 rfl rfl)
theorem dX0_init_128 : decode cX0_init 128 = .ok (.aload_n 0, 1) := dk_42 (dk_at dksX0_init_5 10 rfl rfl)
theorem dX0_init_129 : decode cX0_init 129 = .ok (.iconst 2, 1) := dk_5 (dk_at dksX0_init_5 11 rfl rfl)
theorem dX0_init_130 : decode cX0_init 130 = .ok (.anewarray 17, 3) := dk_189 0 17 (dk_at dksX0_init_5 12 rfl rfl)
theorem dX0_init_133 : decode cX0_init 133 = .ok (.dup, 1) := dk_89 (dk_at dksX0_init_5 15 rfl rfl)
theorem dX0_init_134 : decode cX0_init 134 = .ok (.iconst 0, 1) := dk_3 (dk_at dksX0_init_5 16 rfl rfl)
theorem dX0_init_135 : decode cX0_init 135 = .ok (.iconst 3, 1) := dk_6 (dk_at dksX0_init_5 17 rfl rfl)
theorem dX0_init_136 : decode cX0_init 136 = .ok (.newarray .int, 2) := dk_188_10 (dk_at dksX0_init_5 18 rfl rfl)
theorem dX0_init_138 : decode cX0_init 138 = .ok (.dup, 1) := dk_89 (dk_at dksX0_init_5 20 rfl rfl)
theorem dX0_init_139 : decode cX0_init 139 = .ok (.iconst 0, 1) := dk_3 (dk_at dksX0_init_5 21 rfl rfl)
theorem dX0_init_140 : decode cX0_init 140 = .ok (.iconst (-1), 1) := dk_2 (dk_at dksX0_init_5 22 rfl rfl)
theorem dX0_init_141 : decode cX0_init 141 = .ok (.iastore, 1) := dk_79 (dk_at dksX0_init_5 23 rfl rfl)
theorem dX0_init_142 : decode cX0_init 142 = .ok (.dup, 1) := dk_89 (dk_at dksX0_init_6 0 rfl rfl)
theorem dX0_init_143 : decode cX0_init 143 = .ok (.iconst 1, 1) := dk_4 (dk_at dksX0_init_6 1 rfl rfl)
theorem dX0_init_144 : decode cX0_init 144 = .ok (.iconst (-1), 1) := dk_2 (dk_at dksX0_init_6 2 rfl rfl)
theorem dX0_init_145 : decode cX0_init 145 = .ok (.iastore, 1) := dk_79 (dk_at dksX0_init_6 3 rfl rfl)
theorem dX0_init_146 : decode cX0_init 146 = .ok (.dup, 1) := dk_89 (dk_at dksX0_init_6 4 rfl rfl)
theorem dX0_init_147 : decode cX0_init 147 = .ok (.iconst 2, 1) := dk_5 (dk_at dksX0_init_6 5 rfl rfl)
theorem dX0_init_148 : decode cX0_init 148 = .ok (.iconst (-1), 1) := dk_2 (dk_at dksX0_init_6 6 rfl rfl)
theorem dX0_init_149 : decode cX0_init 149 = .ok (.iastore, 1) := dk_79 (dk_at dksX0_init_6 7 rfl rfl)
theorem dX0_init_150 : decode cX0_init 150 = .ok (.aastore, 1) := dk_83 (dk_at dksX0_init_6 8 rfl rfl)
theorem dX0_init_151 : decode cX0_init 151 = .ok (.dup, 1) := dk_89 (dk_at dksX0_init_6 9 rfl rfl)
theorem dX0_init_152 : decode cX0_init 152 = .ok (.iconst 1, 1) := dk_4 (dk_at dksX0_init_6 10 rfl rfl)
theorem dX0_init_153 : decode cX0_init 153 = .ok (.iconst 3, 1) := dk_6 (dk_at dksX0_init_6 11 rfl rfl)
theorem dX0_init_154 : decode cX0_init 154 = .ok (.newarray .int, 2) := dk_188_10 (dk_at dksX0_init_6 12 rfl rfl)
theorem dX0_init_156 : decode cX0_init 156 = .ok (.dup, 1) := dk_89 (dk_at dksX0_init_6 14 rfl rfl)
theorem dX0_init_157 : decode cX0_init 157 = .ok (.iconst 0, 1) := dk_3 (dk_at dksX0_init_6 15 rfl rfl)
theorem dX0_init_158 : decode cX0_init 158 = .ok (.iconst (-1), 1) := dk_2 (dk_at dksX0_init_6 16 rfl rfl)
theorem dX0_init_159 : decode cX0_init 159 = .ok (.iastore, 1) := dk_79 (dk_at dksX0_init_6 17 rfl rfl)
theorem dX0_init_160 : decode cX0_init 160 = .ok (.dup, 1) := dk_89 (dk_at dksX0_init_6 18 rfl rfl)
theorem dX0_init_161 : decode cX0_init 161 = .ok (.iconst 1, 1) := dk_4 (dk_at dksX0_init_6 19 rfl rfl)
theorem dX0_init_162 : decode cX0_init 162 = .ok (.iconst (-1), 1) := dk_2 (dk_at dksX0_init_6 20 rfl rfl)
theorem dX0_init_163 : decode cX0_init 163 = .ok (.iastore, 1) := dk_79 (dk_at dksX0_init_6 21 rfl rfl)
theorem dX0_init_164 : decode cX0_init 164 = .ok (.dup, 1) := dk_89 (dk_at dksX0_init_6 22 rfl rfl)
theorem dX0_init_165 : decode cX0_init 165 = .ok (.iconst 2, 1) := dk_5 (dk_at dksX0_init_6 23 rfl rfl)
theorem dX0_init_166 : decode cX0_init 166 = .ok (.iconst (-1), 1) := dk_2 (dk_at dksX0_init_7 0 rfl rfl)
theorem dX0_init_167 : decode cX0_init 167 = .ok (.iastore, 1) := dk_79 (dk_at dksX0_init_7 1 rfl rfl)
theorem dX0_init_168 : decode cX0_init 168 = .ok (.aastore, 1) := dk_83 (dk_at dksX0_init_7 2 rfl rfl)
theorem dX0_init_169 : decode cX0_init 169 = .ok (.putfield 59, 3) := dk_181 0 59 (dk_at dksX0_init_7 3 rfl rfl)
theorem dX0_init_172 : decode cX0_init 172 = .ok (.aload_n 0, 1) := dk_42 (dk_at dksX0_init_7 6 rfl rfl)
theorem dX0_init_173 : decode cX0_init 173 = .ok (.iconst 4, 1) := dk_7 (dk_at dksX0_init_7 7 rfl rfl)
theorem dX0_init_174 : decode cX0_init 174 = .ok (.anewarray 62, 3) := dk_189 0 62 (dk_at dksX0_init_7 8 rfl rfl)
theorem dX0_init_177 : decode cX0_init 177 = .ok (.putfield 64, 3) := dk_181 0 64 (dk_at dksX0_init_7 11 rfl rfl)
theorem dX0_init_180 : decode cX0_init 180 = .ok (.iconst 0, 1) := dk_3 (dk_at dksX0_init_7 14 rfl rfl)
theorem dX0_init_181 : decode cX0_init 181 = .ok (.istore_n 1, 1) := dk_60 (dk_at dksX0_init_7 15 rfl rfl)
theorem dX0_init_182 : decode cX0_init 182 = .ok (.iload_n 1, 1) := dk_27 (dk_at dksX0_init_7 16 rfl rfl)
theorem dX0_init_183 : decode cX0_init 183 = .ok (.iconst 4, 1) := dk_7 (dk_at dksX0_init_7 17 rfl rfl)
theorem dX0_init_184 : decode cX0_init 184 = .ok (.if_icmp .ge 22, 3) := dk_162 0 22 (dk_at dksX0_init_7 18 rfl rfl)
theorem dX0_init_187 : decode cX0_init 187 = .ok (.aload_n 0, 1) := dk_42 (dk_at dksX0_init_7 21 rfl rfl)
theorem dX0_init_188 : decode cX0_init 188 = .ok (.getfield 64, 3) := dk_180 0 64 (dk_at dksX0_init_8 0 rfl rfl)
theorem dX0_init_191 : decode cX0_init 191 = .ok (.iload_n 1, 1) := dk_27 (dk_at dksX0_init_8 3 rfl rfl)
theorem dX0_init_192 : decode cX0_init 192 = .ok (.new 62, 3) := dk_187 0 62 (dk_at dksX0_init_8 4 rfl rfl)
theorem dX0_init_195 : decode cX0_init 195 = .ok (.dup, 1) := dk_89 (dk_at dksX0_init_8 7 rfl rfl)
theorem dX0_init_196 : decode cX0_init 196 = .ok (.invokespecial 68, 3) := dk_183 0 68 (dk_at dksX0_init_8 8 rfl rfl)
theorem dX0_init_199 : decode cX0_init 199 = .ok (.aastore, 1) := dk_83 (dk_at dksX0_init_8 11 rfl rfl)
theorem dX0_init_200 : decode cX0_init 200 = .ok (.iinc 1 1, 3) := dk_132 1 1 (dk_at dksX0_init_8 12 rfl rfl)
theorem dX0_init_203 : decode cX0_init 203 = .ok (.goto (-21), 3) := dk_167 255 235 (dk_at dksX0_init_8 15 rfl rfl)
theorem dX0_init_206 : decode cX0_init 206 = .ok (.return_, 1) := dk_177 (dk_at dksX0_init_8 18 rfl rfl)
abbrev cX0_fighter : ByteArray := prog_1_method_6_code
def yX0_fighter : MethodName := ⟨RX0, "fighter", "(IIIIII)I"⟩
def dkwX0_fighter_4 : List UInt8 := [42, 89, 180, 0, 73, 4, 96, 181, 0, 73, 42, 180, 0, 73, 4, 100, 172]
abbrev dktX0_fighter_4 : List UInt8 := dkwX0_fighter_4 ++ []
def dkwX0_fighter_3 : List UInt8 := [160, 0, 6, 16, 252, 172, 42, 180, 0, 13, 42, 180, 0, 73, 187, 0, 11, 89, 25, 7, 183, 0, 80, 83]
abbrev dktX0_fighter_3 : List UInt8 := dkwX0_fighter_3 ++ dktX0_fighter_4
def dkwX0_fighter_2 : List UInt8 := [21, 8, 46, 184, 0, 76, 154, 0, 6, 16, 254, 172, 132, 8, 1, 167, 255, 230, 42, 180, 0, 73, 16, 16]
abbrev dktX0_fighter_2 : List UInt8 := dkwX0_fighter_2 ++ dktX0_fighter_3
def dkwX0_fighter_1 : List UInt8 := [21, 5, 79, 89, 8, 21, 6, 79, 58, 7, 3, 54, 8, 21, 8, 16, 6, 162, 0, 25, 21, 8, 25, 7]
abbrev dktX0_fighter_1 : List UInt8 := dkwX0_fighter_1 ++ dktX0_fighter_2
def dkwX0_fighter_0 : List UInt8 := [16, 6, 188, 10, 89, 3, 27, 79, 89, 4, 28, 79, 89, 5, 29, 79, 89, 6, 21, 4, 79, 89, 7]
abbrev dktX0_fighter_0 : List UInt8 := dkwX0_fighter_0 ++ dktX0_fighter_1
theorem dksX0_fighter_0 : cX0_fighter.data.toList.drop 0 = dktX0_fighter_0 := by decide +kernel
theorem dksX0_fighter_1 : cX0_fighter.data.toList.drop 23 = dktX0_fighter_1 := dk_seg dksX0_fighter_0 23 rfl rfl
theorem dksX0_fighter_2 : cX0_fighter.data.toList.drop 47 = dktX0_fighter_2 := dk_seg dksX0_fighter_1 24 rfl rfl
theorem dksX0_fighter_3 : cX0_fighter.data.toList.drop 71 = dktX0_fighter_3 := dk_seg dksX0_fighter_2 24 rfl rfl
theorem dksX0_fighter_4 : cX0_fighter.data.toList.drop 95 = dktX0_fighter_4 := dk_seg dksX0_fighter_3 24 rfl rfl
theorem dX0_fighter_0 : decode cX0_fighter 0 = .ok (.bipush 6, 2) := dk_16 6 (dk_at dksX0_fighter_0 0 rfl rfl)
theorem dX0_fighter_2 : decode cX0_fighter 2 = .ok (.newarray .int, 2) := dk_188_10 (dk_at dksX0_fighter_0 2 rfl rfl)
theorem dX0_fighter_4 : decode cX0_fighter 4 = .ok (.dup, 1) := dk_89 (dk_at dksX0_fighter_0 4 rfl rfl)
theorem dX0_fighter_5 : decode cX0_fighter 5 = .ok (.iconst 0, 1) := dk_3 (dk_at dksX0_fighter_0 5 rfl rfl)
theorem dX0_fighter_6 : decode cX0_fighter 6 = .ok (.iload_n 1, 1) := dk_27 (dk_at dksX0_fighter_0 6 rfl rfl)
theorem dX0_fighter_7 : decode cX0_fighter 7 = .ok (.iastore, 1) := dk_79 (dk_at dksX0_fighter_0 7 rfl rfl)
theorem dX0_fighter_8 : decode cX0_fighter 8 = .ok (.dup, 1) := dk_89 (dk_at dksX0_fighter_0 8 rfl rfl)
theorem dX0_fighter_9 : decode cX0_fighter 9 = .ok (.iconst 1, 1) := dk_4 (dk_at dksX0_fighter_0 9 rfl rfl)
theorem dX0_fighter_10 : decode cX0_fighter 10 = .ok (.iload_n 2, 1) := dk_28 (dk_at dksX0_fighter_0 10 rfl rfl)
theorem dX0_fighter_11 : decode cX0_fighter 11 = .ok (.iastore, 1) := dk_79 (dk_at dksX0_fighter_0 11 rfl rfl)
theorem dX0_fighter_12 : decode cX0_fighter 12 = .ok (.dup, 1) := dk_89 (dk_at dksX0_fighter_0 12 rfl rfl)
theorem dX0_fighter_13 : decode cX0_fighter 13 = .ok (.iconst 2, 1) := dk_5 (dk_at dksX0_fighter_0 13 rfl rfl)
theorem dX0_fighter_14 : decode cX0_fighter 14 = .ok (.iload_n 3, 1) := dk_29 (dk_at dksX0_fighter_0 14 rfl rfl)
theorem dX0_fighter_15 : decode cX0_fighter 15 = .ok (.iastore, 1) := dk_79 (dk_at dksX0_fighter_0 15 rfl rfl)
theorem dX0_fighter_16 : decode cX0_fighter 16 = .ok (.dup, 1) := dk_89 (dk_at dksX0_fighter_0 16 rfl rfl)
theorem dX0_fighter_17 : decode cX0_fighter 17 = .ok (.iconst 3, 1) := dk_6 (dk_at dksX0_fighter_0 17 rfl rfl)
theorem dX0_fighter_18 : decode cX0_fighter 18 = .ok (.iload 4, 2) := dk_21 4 (dk_at dksX0_fighter_0 18 rfl rfl)
theorem dX0_fighter_20 : decode cX0_fighter 20 = .ok (.iastore, 1) := dk_79 (dk_at dksX0_fighter_0 20 rfl rfl)
theorem dX0_fighter_21 : decode cX0_fighter 21 = .ok (.dup, 1) := dk_89 (dk_at dksX0_fighter_0 21 rfl rfl)
theorem dX0_fighter_22 : decode cX0_fighter 22 = .ok (.iconst 4, 1) := dk_7 (dk_at dksX0_fighter_0 22 rfl rfl)
theorem dX0_fighter_23 : decode cX0_fighter 23 = .ok (.iload 5, 2) := dk_21 5 (dk_at dksX0_fighter_1 0 rfl rfl)
theorem dX0_fighter_25 : decode cX0_fighter 25 = .ok (.iastore, 1) := dk_79 (dk_at dksX0_fighter_1 2 rfl rfl)
theorem dX0_fighter_26 : decode cX0_fighter 26 = .ok (.dup, 1) := dk_89 (dk_at dksX0_fighter_1 3 rfl rfl)
theorem dX0_fighter_27 : decode cX0_fighter 27 = .ok (.iconst 5, 1) := dk_8 (dk_at dksX0_fighter_1 4 rfl rfl)
theorem dX0_fighter_28 : decode cX0_fighter 28 = .ok (.iload 6, 2) := dk_21 6 (dk_at dksX0_fighter_1 5 rfl rfl)
theorem dX0_fighter_30 : decode cX0_fighter 30 = .ok (.iastore, 1) := dk_79 (dk_at dksX0_fighter_1 7 rfl rfl)
theorem dX0_fighter_31 : decode cX0_fighter 31 = .ok (.astore 7, 2) := dk_58 7 (dk_at dksX0_fighter_1 8 rfl rfl)
theorem dX0_fighter_33 : decode cX0_fighter 33 = .ok (.iconst 0, 1) := dk_3 (dk_at dksX0_fighter_1 10 rfl rfl)
theorem dX0_fighter_34 : decode cX0_fighter 34 = .ok (.istore 8, 2) := dk_54 8 (dk_at dksX0_fighter_1 11 rfl rfl)
theorem dX0_fighter_36 : decode cX0_fighter 36 = .ok (.iload 8, 2) := dk_21 8 (dk_at dksX0_fighter_1 13 rfl rfl)
theorem dX0_fighter_38 : decode cX0_fighter 38 = .ok (.bipush 6, 2) := dk_16 6 (dk_at dksX0_fighter_1 15 rfl rfl)
theorem dX0_fighter_40 : decode cX0_fighter 40 = .ok (.if_icmp .ge 25, 3) := dk_162 0 25 (dk_at dksX0_fighter_1 17 rfl rfl)
theorem dX0_fighter_43 : decode cX0_fighter 43 = .ok (.iload 8, 2) := dk_21 8 (dk_at dksX0_fighter_1 20 rfl rfl)
theorem dX0_fighter_45 : decode cX0_fighter 45 = .ok (.aload 7, 2) := dk_25 7 (dk_at dksX0_fighter_1 22 rfl rfl)
theorem dX0_fighter_47 : decode cX0_fighter 47 = .ok (.iload 8, 2) := dk_21 8 (dk_at dksX0_fighter_2 0 rfl rfl)
theorem dX0_fighter_49 : decode cX0_fighter 49 = .ok (.iaload, 1) := dk_46 (dk_at dksX0_fighter_2 2 rfl rfl)
theorem dX0_fighter_50 : decode cX0_fighter 50 = .ok (.invokestatic 76, 3) := dk_184 0 76 (dk_at dksX0_fighter_2 3 rfl rfl)
theorem dX0_fighter_53 : decode cX0_fighter 53 = .ok (.ifCond .ne 6, 3) := dk_154 0 6 (dk_at dksX0_fighter_2 6 rfl rfl)
theorem dX0_fighter_56 : decode cX0_fighter 56 = .ok (.bipush (-2), 2) := dk_16 254 (dk_at dksX0_fighter_2 9 rfl rfl)
theorem dX0_fighter_58 : decode cX0_fighter 58 = .ok (.ireturn, 1) := dk_172 (dk_at dksX0_fighter_2 11 rfl rfl)
theorem dX0_fighter_59 : decode cX0_fighter 59 = .ok (.iinc 8 1, 3) := dk_132 8 1 (dk_at dksX0_fighter_2 12 rfl rfl)
theorem dX0_fighter_62 : decode cX0_fighter 62 = .ok (.goto (-26), 3) := dk_167 255 230 (dk_at dksX0_fighter_2 15 rfl rfl)
theorem dX0_fighter_65 : decode cX0_fighter 65 = .ok (.aload_n 0, 1) := dk_42 (dk_at dksX0_fighter_2 18 rfl rfl)
theorem dX0_fighter_66 : decode cX0_fighter 66 = .ok (.getfield 73, 3) := dk_180 0 73 (dk_at dksX0_fighter_2 19 rfl rfl)
theorem dX0_fighter_69 : decode cX0_fighter 69 = .ok (.bipush 16, 2) := dk_16 16 (dk_at dksX0_fighter_2 22 rfl rfl)
theorem dX0_fighter_71 : decode cX0_fighter 71 = .ok (.if_icmp .ne 6, 3) := dk_160 0 6 (dk_at dksX0_fighter_3 0 rfl rfl)
theorem dX0_fighter_74 : decode cX0_fighter 74 = .ok (.bipush (-4), 2) := dk_16 252 (dk_at dksX0_fighter_3 3 rfl rfl)
theorem dX0_fighter_76 : decode cX0_fighter 76 = .ok (.ireturn, 1) := dk_172 (dk_at dksX0_fighter_3 5 rfl rfl)
theorem dX0_fighter_77 : decode cX0_fighter 77 = .ok (.aload_n 0, 1) := dk_42 (dk_at dksX0_fighter_3 6 rfl rfl)
theorem dX0_fighter_78 : decode cX0_fighter 78 = .ok (.getfield 13, 3) := dk_180 0 13 (dk_at dksX0_fighter_3 7 rfl rfl)
theorem dX0_fighter_81 : decode cX0_fighter 81 = .ok (.aload_n 0, 1) := dk_42 (dk_at dksX0_fighter_3 10 rfl rfl)
theorem dX0_fighter_82 : decode cX0_fighter 82 = .ok (.getfield 73, 3) := dk_180 0 73 (dk_at dksX0_fighter_3 11 rfl rfl)
theorem dX0_fighter_85 : decode cX0_fighter 85 = .ok (.new 11, 3) := dk_187 0 11 (dk_at dksX0_fighter_3 14 rfl rfl)
theorem dX0_fighter_88 : decode cX0_fighter 88 = .ok (.dup, 1) := dk_89 (dk_at dksX0_fighter_3 17 rfl rfl)
theorem dX0_fighter_89 : decode cX0_fighter 89 = .ok (.aload 7, 2) := dk_25 7 (dk_at dksX0_fighter_3 18 rfl rfl)
theorem dX0_fighter_91 : decode cX0_fighter 91 = .ok (.invokespecial 80, 3) := dk_183 0 80 (dk_at dksX0_fighter_3 20 rfl rfl)
theorem dX0_fighter_94 : decode cX0_fighter 94 = .ok (.aastore, 1) := dk_83 (dk_at dksX0_fighter_3 23 rfl rfl)
theorem dX0_fighter_95 : decode cX0_fighter 95 = .ok (.aload_n 0, 1) := dk_42 (dk_at dksX0_fighter_4 0 rfl rfl)
theorem dX0_fighter_96 : decode cX0_fighter 96 = .ok (.dup, 1) := dk_89 (dk_at dksX0_fighter_4 1 rfl rfl)
theorem dX0_fighter_97 : decode cX0_fighter 97 = .ok (.getfield 73, 3) := dk_180 0 73 (dk_at dksX0_fighter_4 2 rfl rfl)
theorem dX0_fighter_100 : decode cX0_fighter 100 = .ok (.iconst 1, 1) := dk_4 (dk_at dksX0_fighter_4 5 rfl rfl)
theorem dX0_fighter_101 : decode cX0_fighter 101 = .ok (.iadd, 1) := dk_96 (dk_at dksX0_fighter_4 6 rfl rfl)
theorem dX0_fighter_102 : decode cX0_fighter 102 = .ok (.putfield 73, 3) := dk_181 0 73 (dk_at dksX0_fighter_4 7 rfl rfl)
theorem dX0_fighter_105 : decode cX0_fighter 105 = .ok (.aload_n 0, 1) := dk_42 (dk_at dksX0_fighter_4 10 rfl rfl)
theorem dX0_fighter_106 : decode cX0_fighter 106 = .ok (.getfield 73, 3) := dk_180 0 73 (dk_at dksX0_fighter_4 11 rfl rfl)
theorem dX0_fighter_109 : decode cX0_fighter 109 = .ok (.iconst 1, 1) := dk_4 (dk_at dksX0_fighter_4 14 rfl rfl)
theorem dX0_fighter_110 : decode cX0_fighter 110 = .ok (.isub, 1) := dk_100 (dk_at dksX0_fighter_4 15 rfl rfl)
theorem dX0_fighter_111 : decode cX0_fighter 111 = .ok (.ireturn, 1) := dk_172 (dk_at dksX0_fighter_4 16 rfl rfl)
abbrev cX0_isNumber : ByteArray := prog_1_method_4_code
def yX0_isNumber : MethodName := ⟨RX0, "isNumber", "(II)Z"⟩
def dkwX0_isNumber_3 : List UInt8 := [4, 16, 9, 184, 0, 69, 172, 27, 3, 16, 19, 184, 0, 69, 172, 27, 3, 16, 9, 184, 0, 69, 172]
abbrev dktX0_isNumber_3 : List UInt8 := dkwX0_isNumber_3 ++ []
def dkwX0_isNumber_2 : List UInt8 := [27, 3, 5, 184, 0, 69, 172, 27, 4, 16, 20, 184, 0, 69, 172, 27, 3, 16, 6, 184, 0, 69, 172, 27]
abbrev dktX0_isNumber_2 : List UInt8 := dkwX0_isNumber_2 ++ dktX0_isNumber_3
def dkwX0_isNumber_1 : List UInt8 := [170, 0, 0, 0, 0, 0, 74, 0, 0, 0, 0, 0, 0, 0, 4, 0, 0, 0, 35, 0, 0, 0, 42, 0, 0, 0, 50, 0, 0, 0, 58, 0, 0, 0, 66]
abbrev dktX0_isNumber_1 : List UInt8 := dkwX0_isNumber_1 ++ dktX0_isNumber_2
def dkwX0_isNumber_0 : List UInt8 := [26]
abbrev dktX0_isNumber_0 : List UInt8 := dkwX0_isNumber_0 ++ dktX0_isNumber_1
theorem dksX0_isNumber_0 : cX0_isNumber.data.toList.drop 0 = dktX0_isNumber_0 := by decide +kernel
theorem dksX0_isNumber_1 : cX0_isNumber.data.toList.drop 1 = dktX0_isNumber_1 := dk_seg dksX0_isNumber_0 1 rfl rfl
theorem dksX0_isNumber_2 : cX0_isNumber.data.toList.drop 36 = dktX0_isNumber_2 := dk_seg dksX0_isNumber_1 35 rfl rfl
theorem dksX0_isNumber_3 : cX0_isNumber.data.toList.drop 60 = dktX0_isNumber_3 := dk_seg dksX0_isNumber_2 24 rfl rfl
theorem dX0_isNumber_0 : decode cX0_isNumber 0 = .ok (.iload_n 0, 1) := dk_26 (dk_at dksX0_isNumber_0 0 rfl rfl)
theorem dX0_isNumber_1 : decode cX0_isNumber 1 = .ok (.tableswitch 74 0 4 #[35, 42, 50, 58, 66], 35) := by decide +kernel
theorem dX0_isNumber_36 : decode cX0_isNumber 36 = .ok (.iload_n 1, 1) := dk_27 (dk_at dksX0_isNumber_2 0 rfl rfl)
theorem dX0_isNumber_37 : decode cX0_isNumber 37 = .ok (.iconst 0, 1) := dk_3 (dk_at dksX0_isNumber_2 1 rfl rfl)
theorem dX0_isNumber_38 : decode cX0_isNumber 38 = .ok (.iconst 2, 1) := dk_5 (dk_at dksX0_isNumber_2 2 rfl rfl)
theorem dX0_isNumber_39 : decode cX0_isNumber 39 = .ok (.invokestatic 69, 3) := dk_184 0 69 (dk_at dksX0_isNumber_2 3 rfl rfl)
theorem dX0_isNumber_42 : decode cX0_isNumber 42 = .ok (.ireturn, 1) := dk_172 (dk_at dksX0_isNumber_2 6 rfl rfl)
theorem dX0_isNumber_43 : decode cX0_isNumber 43 = .ok (.iload_n 1, 1) := dk_27 (dk_at dksX0_isNumber_2 7 rfl rfl)
theorem dX0_isNumber_44 : decode cX0_isNumber 44 = .ok (.iconst 1, 1) := dk_4 (dk_at dksX0_isNumber_2 8 rfl rfl)
theorem dX0_isNumber_45 : decode cX0_isNumber 45 = .ok (.bipush 20, 2) := dk_16 20 (dk_at dksX0_isNumber_2 9 rfl rfl)
theorem dX0_isNumber_47 : decode cX0_isNumber 47 = .ok (.invokestatic 69, 3) := dk_184 0 69 (dk_at dksX0_isNumber_2 11 rfl rfl)
theorem dX0_isNumber_50 : decode cX0_isNumber 50 = .ok (.ireturn, 1) := dk_172 (dk_at dksX0_isNumber_2 14 rfl rfl)
theorem dX0_isNumber_51 : decode cX0_isNumber 51 = .ok (.iload_n 1, 1) := dk_27 (dk_at dksX0_isNumber_2 15 rfl rfl)
theorem dX0_isNumber_52 : decode cX0_isNumber 52 = .ok (.iconst 0, 1) := dk_3 (dk_at dksX0_isNumber_2 16 rfl rfl)
theorem dX0_isNumber_53 : decode cX0_isNumber 53 = .ok (.bipush 6, 2) := dk_16 6 (dk_at dksX0_isNumber_2 17 rfl rfl)
theorem dX0_isNumber_55 : decode cX0_isNumber 55 = .ok (.invokestatic 69, 3) := dk_184 0 69 (dk_at dksX0_isNumber_2 19 rfl rfl)
theorem dX0_isNumber_58 : decode cX0_isNumber 58 = .ok (.ireturn, 1) := dk_172 (dk_at dksX0_isNumber_2 22 rfl rfl)
theorem dX0_isNumber_59 : decode cX0_isNumber 59 = .ok (.iload_n 1, 1) := dk_27 (dk_at dksX0_isNumber_2 23 rfl rfl)
theorem dX0_isNumber_60 : decode cX0_isNumber 60 = .ok (.iconst 1, 1) := dk_4 (dk_at dksX0_isNumber_3 0 rfl rfl)
theorem dX0_isNumber_61 : decode cX0_isNumber 61 = .ok (.bipush 9, 2) := dk_16 9 (dk_at dksX0_isNumber_3 1 rfl rfl)
theorem dX0_isNumber_63 : decode cX0_isNumber 63 = .ok (.invokestatic 69, 3) := dk_184 0 69 (dk_at dksX0_isNumber_3 3 rfl rfl)
theorem dX0_isNumber_66 : decode cX0_isNumber 66 = .ok (.ireturn, 1) := dk_172 (dk_at dksX0_isNumber_3 6 rfl rfl)
theorem dX0_isNumber_67 : decode cX0_isNumber 67 = .ok (.iload_n 1, 1) := dk_27 (dk_at dksX0_isNumber_3 7 rfl rfl)
theorem dX0_isNumber_68 : decode cX0_isNumber 68 = .ok (.iconst 0, 1) := dk_3 (dk_at dksX0_isNumber_3 8 rfl rfl)
theorem dX0_isNumber_69 : decode cX0_isNumber 69 = .ok (.bipush 19, 2) := dk_16 19 (dk_at dksX0_isNumber_3 9 rfl rfl)
theorem dX0_isNumber_71 : decode cX0_isNumber 71 = .ok (.invokestatic 69, 3) := dk_184 0 69 (dk_at dksX0_isNumber_3 11 rfl rfl)
theorem dX0_isNumber_74 : decode cX0_isNumber 74 = .ok (.ireturn, 1) := dk_172 (dk_at dksX0_isNumber_3 14 rfl rfl)
theorem dX0_isNumber_75 : decode cX0_isNumber 75 = .ok (.iload_n 1, 1) := dk_27 (dk_at dksX0_isNumber_3 15 rfl rfl)
theorem dX0_isNumber_76 : decode cX0_isNumber 76 = .ok (.iconst 0, 1) := dk_3 (dk_at dksX0_isNumber_3 16 rfl rfl)
theorem dX0_isNumber_77 : decode cX0_isNumber 77 = .ok (.bipush 9, 2) := dk_16 9 (dk_at dksX0_isNumber_3 17 rfl rfl)
theorem dX0_isNumber_79 : decode cX0_isNumber 79 = .ok (.invokestatic 69, 3) := dk_184 0 69 (dk_at dksX0_isNumber_3 19 rfl rfl)
theorem dX0_isNumber_82 : decode cX0_isNumber 82 = .ok (.ireturn, 1) := dk_172 (dk_at dksX0_isNumber_3 22 rfl rfl)
abbrev cX0_in : ByteArray := prog_1_method_1_code
def yX0_in : MethodName := ⟨RX0, "in", "(III)Z"⟩
def dkwX0_in_0 : List UInt8 := [26, 27, 161, 0, 12, 26, 28, 163, 0, 7, 4, 167, 0, 4, 3, 172]
abbrev dktX0_in_0 : List UInt8 := dkwX0_in_0 ++ []
theorem dksX0_in_0 : cX0_in.data.toList.drop 0 = dktX0_in_0 := by decide +kernel
theorem dX0_in_0 : decode cX0_in 0 = .ok (.iload_n 0, 1) := dk_26 (dk_at dksX0_in_0 0 rfl rfl)
theorem dX0_in_1 : decode cX0_in 1 = .ok (.iload_n 1, 1) := dk_27 (dk_at dksX0_in_0 1 rfl rfl)
theorem dX0_in_2 : decode cX0_in 2 = .ok (.if_icmp .lt 12, 3) := dk_161 0 12 (dk_at dksX0_in_0 2 rfl rfl)
theorem dX0_in_5 : decode cX0_in 5 = .ok (.iload_n 0, 1) := dk_26 (dk_at dksX0_in_0 5 rfl rfl)
theorem dX0_in_6 : decode cX0_in 6 = .ok (.iload_n 2, 1) := dk_28 (dk_at dksX0_in_0 6 rfl rfl)
theorem dX0_in_7 : decode cX0_in 7 = .ok (.if_icmp .gt 7, 3) := dk_163 0 7 (dk_at dksX0_in_0 7 rfl rfl)
theorem dX0_in_10 : decode cX0_in 10 = .ok (.iconst 1, 1) := dk_4 (dk_at dksX0_in_0 10 rfl rfl)
theorem dX0_in_11 : decode cX0_in 11 = .ok (.goto 4, 3) := dk_167 0 4 (dk_at dksX0_in_0 11 rfl rfl)
theorem dX0_in_14 : decode cX0_in 14 = .ok (.iconst 0, 1) := dk_3 (dk_at dksX0_in_0 14 rfl rfl)
theorem dX0_in_15 : decode cX0_in 15 = .ok (.ireturn, 1) := dk_172 (dk_at dksX0_in_0 15 rfl rfl)
abbrev cX0_about : ByteArray := prog_1_method_7_code
def yX0_about : MethodName := ⟨RX0, "about", "(II)I"⟩
def dkwX0_about_1 : List UInt8 := [180, 0, 87, 28, 46, 167, 0, 5, 16, 254, 172]
abbrev dktX0_about_1 : List UInt8 := dkwX0_about_1 ++ []
def dkwX0_about_0 : List UInt8 := [42, 27, 182, 0, 83, 153, 0, 26, 28, 3, 8, 184, 0, 69, 153, 0, 17, 42, 180, 0, 13, 27, 50]
abbrev dktX0_about_0 : List UInt8 := dkwX0_about_0 ++ dktX0_about_1
theorem dksX0_about_0 : cX0_about.data.toList.drop 0 = dktX0_about_0 := by decide +kernel
theorem dksX0_about_1 : cX0_about.data.toList.drop 23 = dktX0_about_1 := dk_seg dksX0_about_0 23 rfl rfl
theorem dX0_about_0 : decode cX0_about 0 = .ok (.aload_n 0, 1) := dk_42 (dk_at dksX0_about_0 0 rfl rfl)
theorem dX0_about_1 : decode cX0_about 1 = .ok (.iload_n 1, 1) := dk_27 (dk_at dksX0_about_0 1 rfl rfl)
theorem dX0_about_2 : decode cX0_about 2 = .ok (.invokevirtual 83, 3) := dk_182 0 83 (dk_at dksX0_about_0 2 rfl rfl)
theorem dX0_about_5 : decode cX0_about 5 = .ok (.ifCond .eq 26, 3) := dk_153 0 26 (dk_at dksX0_about_0 5 rfl rfl)
theorem dX0_about_8 : decode cX0_about 8 = .ok (.iload_n 2, 1) := dk_28 (dk_at dksX0_about_0 8 rfl rfl)
theorem dX0_about_9 : decode cX0_about 9 = .ok (.iconst 0, 1) := dk_3 (dk_at dksX0_about_0 9 rfl rfl)
theorem dX0_about_10 : decode cX0_about 10 = .ok (.iconst 5, 1) := dk_8 (dk_at dksX0_about_0 10 rfl rfl)
theorem dX0_about_11 : decode cX0_about 11 = .ok (.invokestatic 69, 3) := dk_184 0 69 (dk_at dksX0_about_0 11 rfl rfl)
theorem dX0_about_14 : decode cX0_about 14 = .ok (.ifCond .eq 17, 3) := dk_153 0 17 (dk_at dksX0_about_0 14 rfl rfl)
theorem dX0_about_17 : decode cX0_about 17 = .ok (.aload_n 0, 1) := dk_42 (dk_at dksX0_about_0 17 rfl rfl)
theorem dX0_about_18 : decode cX0_about 18 = .ok (.getfield 13, 3) := dk_180 0 13 (dk_at dksX0_about_0 18 rfl rfl)
theorem dX0_about_21 : decode cX0_about 21 = .ok (.iload_n 1, 1) := dk_27 (dk_at dksX0_about_0 21 rfl rfl)
theorem dX0_about_22 : decode cX0_about 22 = .ok (.aaload, 1) := dk_50 (dk_at dksX0_about_0 22 rfl rfl)
theorem dX0_about_23 : decode cX0_about 23 = .ok (.getfield 87, 3) := dk_180 0 87 (dk_at dksX0_about_1 0 rfl rfl)
theorem dX0_about_26 : decode cX0_about 26 = .ok (.iload_n 2, 1) := dk_28 (dk_at dksX0_about_1 3 rfl rfl)
theorem dX0_about_27 : decode cX0_about 27 = .ok (.iaload, 1) := dk_46 (dk_at dksX0_about_1 4 rfl rfl)
theorem dX0_about_28 : decode cX0_about 28 = .ok (.goto 5, 3) := dk_167 0 5 (dk_at dksX0_about_1 5 rfl rfl)
theorem dX0_about_31 : decode cX0_about 31 = .ok (.bipush (-2), 2) := dk_16 254 (dk_at dksX0_about_1 8 rfl rfl)
theorem dX0_about_33 : decode cX0_about 33 = .ok (.ireturn, 1) := dk_172 (dk_at dksX0_about_1 10 rfl rfl)
abbrev cX0_isFighter : ByteArray := prog_1_method_5_code
def yX0_isFighter : MethodName := ⟨RX0, "isFighter", "(I)Z"⟩
def dkwX0_isFighter_0 : List UInt8 := [27, 3, 42, 180, 0, 73, 4, 100, 184, 0, 69, 172]
abbrev dktX0_isFighter_0 : List UInt8 := dkwX0_isFighter_0 ++ []
theorem dksX0_isFighter_0 : cX0_isFighter.data.toList.drop 0 = dktX0_isFighter_0 := by decide +kernel
theorem dX0_isFighter_0 : decode cX0_isFighter 0 = .ok (.iload_n 1, 1) := dk_27 (dk_at dksX0_isFighter_0 0 rfl rfl)
theorem dX0_isFighter_1 : decode cX0_isFighter 1 = .ok (.iconst 0, 1) := dk_3 (dk_at dksX0_isFighter_0 1 rfl rfl)
theorem dX0_isFighter_2 : decode cX0_isFighter 2 = .ok (.aload_n 0, 1) := dk_42 (dk_at dksX0_isFighter_0 2 rfl rfl)
theorem dX0_isFighter_3 : decode cX0_isFighter 3 = .ok (.getfield 73, 3) := dk_180 0 73 (dk_at dksX0_isFighter_0 3 rfl rfl)
theorem dX0_isFighter_6 : decode cX0_isFighter 6 = .ok (.iconst 1, 1) := dk_4 (dk_at dksX0_isFighter_0 6 rfl rfl)
theorem dX0_isFighter_7 : decode cX0_isFighter 7 = .ok (.isub, 1) := dk_100 (dk_at dksX0_isFighter_0 7 rfl rfl)
theorem dX0_isFighter_8 : decode cX0_isFighter 8 = .ok (.invokestatic 69, 3) := dk_184 0 69 (dk_at dksX0_isFighter_0 8 rfl rfl)
theorem dX0_isFighter_11 : decode cX0_isFighter 11 = .ok (.ireturn, 1) := dk_172 (dk_at dksX0_isFighter_0 11 rfl rfl)
abbrev cX0_tune : ByteArray := prog_1_method_8_code
def yX0_tune : MethodName := ⟨RX0, "tune", "(III)I"⟩
def dkwX0_tune_2 : List UInt8 := [50, 180, 0, 87, 28, 29, 79, 21, 4, 172]
abbrev dktX0_tune_2 : List UInt8 := dkwX0_tune_2 ++ []
def dkwX0_tune_1 : List UInt8 := [154, 0, 6, 16, 254, 172, 42, 180, 0, 13, 27, 50, 180, 0, 87, 28, 46, 54, 4, 42, 180, 0, 13, 27]
abbrev dktX0_tune_1 : List UInt8 := dkwX0_tune_1 ++ dktX0_tune_2
def dkwX0_tune_0 : List UInt8 := [42, 27, 182, 0, 83, 153, 0, 20, 28, 4, 8, 184, 0, 69, 153, 0, 11, 28, 29, 184, 0, 76]
abbrev dktX0_tune_0 : List UInt8 := dkwX0_tune_0 ++ dktX0_tune_1
theorem dksX0_tune_0 : cX0_tune.data.toList.drop 0 = dktX0_tune_0 := by decide +kernel
theorem dksX0_tune_1 : cX0_tune.data.toList.drop 22 = dktX0_tune_1 := dk_seg dksX0_tune_0 22 rfl rfl
theorem dksX0_tune_2 : cX0_tune.data.toList.drop 46 = dktX0_tune_2 := dk_seg dksX0_tune_1 24 rfl rfl
theorem dX0_tune_0 : decode cX0_tune 0 = .ok (.aload_n 0, 1) := dk_42 (dk_at dksX0_tune_0 0 rfl rfl)
theorem dX0_tune_1 : decode cX0_tune 1 = .ok (.iload_n 1, 1) := dk_27 (dk_at dksX0_tune_0 1 rfl rfl)
theorem dX0_tune_2 : decode cX0_tune 2 = .ok (.invokevirtual 83, 3) := dk_182 0 83 (dk_at dksX0_tune_0 2 rfl rfl)
theorem dX0_tune_5 : decode cX0_tune 5 = .ok (.ifCond .eq 20, 3) := dk_153 0 20 (dk_at dksX0_tune_0 5 rfl rfl)
theorem dX0_tune_8 : decode cX0_tune 8 = .ok (.iload_n 2, 1) := dk_28 (dk_at dksX0_tune_0 8 rfl rfl)
theorem dX0_tune_9 : decode cX0_tune 9 = .ok (.iconst 1, 1) := dk_4 (dk_at dksX0_tune_0 9 rfl rfl)
theorem dX0_tune_10 : decode cX0_tune 10 = .ok (.iconst 5, 1) := dk_8 (dk_at dksX0_tune_0 10 rfl rfl)
theorem dX0_tune_11 : decode cX0_tune 11 = .ok (.invokestatic 69, 3) := dk_184 0 69 (dk_at dksX0_tune_0 11 rfl rfl)
theorem dX0_tune_14 : decode cX0_tune 14 = .ok (.ifCond .eq 11, 3) := dk_153 0 11 (dk_at dksX0_tune_0 14 rfl rfl)
theorem dX0_tune_17 : decode cX0_tune 17 = .ok (.iload_n 2, 1) := dk_28 (dk_at dksX0_tune_0 17 rfl rfl)
theorem dX0_tune_18 : decode cX0_tune 18 = .ok (.iload_n 3, 1) := dk_29 (dk_at dksX0_tune_0 18 rfl rfl)
theorem dX0_tune_19 : decode cX0_tune 19 = .ok (.invokestatic 76, 3) := dk_184 0 76 (dk_at dksX0_tune_0 19 rfl rfl)
theorem dX0_tune_22 : decode cX0_tune 22 = .ok (.ifCond .ne 6, 3) := dk_154 0 6 (dk_at dksX0_tune_1 0 rfl rfl)
theorem dX0_tune_25 : decode cX0_tune 25 = .ok (.bipush (-2), 2) := dk_16 254 (dk_at dksX0_tune_1 3 rfl rfl)
theorem dX0_tune_27 : decode cX0_tune 27 = .ok (.ireturn, 1) := dk_172 (dk_at dksX0_tune_1 5 rfl rfl)
theorem dX0_tune_28 : decode cX0_tune 28 = .ok (.aload_n 0, 1) := dk_42 (dk_at dksX0_tune_1 6 rfl rfl)
theorem dX0_tune_29 : decode cX0_tune 29 = .ok (.getfield 13, 3) := dk_180 0 13 (dk_at dksX0_tune_1 7 rfl rfl)
theorem dX0_tune_32 : decode cX0_tune 32 = .ok (.iload_n 1, 1) := dk_27 (dk_at dksX0_tune_1 10 rfl rfl)
theorem dX0_tune_33 : decode cX0_tune 33 = .ok (.aaload, 1) := dk_50 (dk_at dksX0_tune_1 11 rfl rfl)
theorem dX0_tune_34 : decode cX0_tune 34 = .ok (.getfield 87, 3) := dk_180 0 87 (dk_at dksX0_tune_1 12 rfl rfl)
theorem dX0_tune_37 : decode cX0_tune 37 = .ok (.iload_n 2, 1) := dk_28 (dk_at dksX0_tune_1 15 rfl rfl)
theorem dX0_tune_38 : decode cX0_tune 38 = .ok (.iaload, 1) := dk_46 (dk_at dksX0_tune_1 16 rfl rfl)
theorem dX0_tune_39 : decode cX0_tune 39 = .ok (.istore 4, 2) := dk_54 4 (dk_at dksX0_tune_1 17 rfl rfl)
theorem dX0_tune_41 : decode cX0_tune 41 = .ok (.aload_n 0, 1) := dk_42 (dk_at dksX0_tune_1 19 rfl rfl)
theorem dX0_tune_42 : decode cX0_tune 42 = .ok (.getfield 13, 3) := dk_180 0 13 (dk_at dksX0_tune_1 20 rfl rfl)
theorem dX0_tune_45 : decode cX0_tune 45 = .ok (.iload_n 1, 1) := dk_27 (dk_at dksX0_tune_1 23 rfl rfl)
theorem dX0_tune_46 : decode cX0_tune 46 = .ok (.aaload, 1) := dk_50 (dk_at dksX0_tune_2 0 rfl rfl)
theorem dX0_tune_47 : decode cX0_tune 47 = .ok (.getfield 87, 3) := dk_180 0 87 (dk_at dksX0_tune_2 1 rfl rfl)
theorem dX0_tune_50 : decode cX0_tune 50 = .ok (.iload_n 2, 1) := dk_28 (dk_at dksX0_tune_2 4 rfl rfl)
theorem dX0_tune_51 : decode cX0_tune 51 = .ok (.iload_n 3, 1) := dk_29 (dk_at dksX0_tune_2 5 rfl rfl)
theorem dX0_tune_52 : decode cX0_tune 52 = .ok (.iastore, 1) := dk_79 (dk_at dksX0_tune_2 6 rfl rfl)
theorem dX0_tune_53 : decode cX0_tune 53 = .ok (.iload 4, 2) := dk_21 4 (dk_at dksX0_tune_2 7 rfl rfl)
theorem dX0_tune_55 : decode cX0_tune 55 = .ok (.ireturn, 1) := dk_172 (dk_at dksX0_tune_2 9 rfl rfl)
abbrev cX0_side : ByteArray := prog_1_method_11_code
def yX0_side : MethodName := ⟨RX0, "side", "(IIII)I"⟩
def dkwX0_side_2 : List UInt8 := [83, 25, 5, 184, 0, 93, 172]
abbrev dktX0_side_2 : List UInt8 := dkwX0_side_2 ++ []
def dkwX0_side_1 : List UInt8 := [188, 10, 89, 3, 28, 79, 89, 4, 29, 79, 89, 5, 21, 4, 79, 58, 5, 42, 180, 0, 19, 27, 25, 5]
abbrev dktX0_side_1 : List UInt8 := dkwX0_side_1 ++ dktX0_side_2
def dkwX0_side_0 : List UInt8 := [27, 3, 4, 184, 0, 69, 153, 0, 14, 42, 28, 29, 21, 4, 182, 0, 90, 154, 0, 6, 16, 254, 172, 6]
abbrev dktX0_side_0 : List UInt8 := dkwX0_side_0 ++ dktX0_side_1
theorem dksX0_side_0 : cX0_side.data.toList.drop 0 = dktX0_side_0 := by decide +kernel
theorem dksX0_side_1 : cX0_side.data.toList.drop 24 = dktX0_side_1 := dk_seg dksX0_side_0 24 rfl rfl
theorem dksX0_side_2 : cX0_side.data.toList.drop 48 = dktX0_side_2 := dk_seg dksX0_side_1 24 rfl rfl
theorem dX0_side_0 : decode cX0_side 0 = .ok (.iload_n 1, 1) := dk_27 (dk_at dksX0_side_0 0 rfl rfl)
theorem dX0_side_1 : decode cX0_side 1 = .ok (.iconst 0, 1) := dk_3 (dk_at dksX0_side_0 1 rfl rfl)
theorem dX0_side_2 : decode cX0_side 2 = .ok (.iconst 1, 1) := dk_4 (dk_at dksX0_side_0 2 rfl rfl)
theorem dX0_side_3 : decode cX0_side 3 = .ok (.invokestatic 69, 3) := dk_184 0 69 (dk_at dksX0_side_0 3 rfl rfl)
theorem dX0_side_6 : decode cX0_side 6 = .ok (.ifCond .eq 14, 3) := dk_153 0 14 (dk_at dksX0_side_0 6 rfl rfl)
theorem dX0_side_9 : decode cX0_side 9 = .ok (.aload_n 0, 1) := dk_42 (dk_at dksX0_side_0 9 rfl rfl)
theorem dX0_side_10 : decode cX0_side 10 = .ok (.iload_n 2, 1) := dk_28 (dk_at dksX0_side_0 10 rfl rfl)
theorem dX0_side_11 : decode cX0_side 11 = .ok (.iload_n 3, 1) := dk_29 (dk_at dksX0_side_0 11 rfl rfl)
theorem dX0_side_12 : decode cX0_side 12 = .ok (.iload 4, 2) := dk_21 4 (dk_at dksX0_side_0 12 rfl rfl)
theorem dX0_side_14 : decode cX0_side 14 = .ok (.invokevirtual 90, 3) := dk_182 0 90 (dk_at dksX0_side_0 14 rfl rfl)
theorem dX0_side_17 : decode cX0_side 17 = .ok (.ifCond .ne 6, 3) := dk_154 0 6 (dk_at dksX0_side_0 17 rfl rfl)
theorem dX0_side_20 : decode cX0_side 20 = .ok (.bipush (-2), 2) := dk_16 254 (dk_at dksX0_side_0 20 rfl rfl)
theorem dX0_side_22 : decode cX0_side 22 = .ok (.ireturn, 1) := dk_172 (dk_at dksX0_side_0 22 rfl rfl)
theorem dX0_side_23 : decode cX0_side 23 = .ok (.iconst 3, 1) := dk_6 (dk_at dksX0_side_0 23 rfl rfl)
theorem dX0_side_24 : decode cX0_side 24 = .ok (.newarray .int, 2) := dk_188_10 (dk_at dksX0_side_1 0 rfl rfl)
theorem dX0_side_26 : decode cX0_side 26 = .ok (.dup, 1) := dk_89 (dk_at dksX0_side_1 2 rfl rfl)
theorem dX0_side_27 : decode cX0_side 27 = .ok (.iconst 0, 1) := dk_3 (dk_at dksX0_side_1 3 rfl rfl)
theorem dX0_side_28 : decode cX0_side 28 = .ok (.iload_n 2, 1) := dk_28 (dk_at dksX0_side_1 4 rfl rfl)
theorem dX0_side_29 : decode cX0_side 29 = .ok (.iastore, 1) := dk_79 (dk_at dksX0_side_1 5 rfl rfl)
theorem dX0_side_30 : decode cX0_side 30 = .ok (.dup, 1) := dk_89 (dk_at dksX0_side_1 6 rfl rfl)
theorem dX0_side_31 : decode cX0_side 31 = .ok (.iconst 1, 1) := dk_4 (dk_at dksX0_side_1 7 rfl rfl)
theorem dX0_side_32 : decode cX0_side 32 = .ok (.iload_n 3, 1) := dk_29 (dk_at dksX0_side_1 8 rfl rfl)
theorem dX0_side_33 : decode cX0_side 33 = .ok (.iastore, 1) := dk_79 (dk_at dksX0_side_1 9 rfl rfl)
theorem dX0_side_34 : decode cX0_side 34 = .ok (.dup, 1) := dk_89 (dk_at dksX0_side_1 10 rfl rfl)
theorem dX0_side_35 : decode cX0_side 35 = .ok (.iconst 2, 1) := dk_5 (dk_at dksX0_side_1 11 rfl rfl)
theorem dX0_side_36 : decode cX0_side 36 = .ok (.iload 4, 2) := dk_21 4 (dk_at dksX0_side_1 12 rfl rfl)
theorem dX0_side_38 : decode cX0_side 38 = .ok (.iastore, 1) := dk_79 (dk_at dksX0_side_1 14 rfl rfl)
theorem dX0_side_39 : decode cX0_side 39 = .ok (.astore 5, 2) := dk_58 5 (dk_at dksX0_side_1 15 rfl rfl)
theorem dX0_side_41 : decode cX0_side 41 = .ok (.aload_n 0, 1) := dk_42 (dk_at dksX0_side_1 17 rfl rfl)
theorem dX0_side_42 : decode cX0_side 42 = .ok (.getfield 19, 3) := dk_180 0 19 (dk_at dksX0_side_1 18 rfl rfl)
theorem dX0_side_45 : decode cX0_side 45 = .ok (.iload_n 1, 1) := dk_27 (dk_at dksX0_side_1 21 rfl rfl)
theorem dX0_side_46 : decode cX0_side 46 = .ok (.aload 5, 2) := dk_25 5 (dk_at dksX0_side_1 22 rfl rfl)
theorem dX0_side_48 : decode cX0_side 48 = .ok (.aastore, 1) := dk_83 (dk_at dksX0_side_2 0 rfl rfl)
theorem dX0_side_49 : decode cX0_side 49 = .ok (.aload 5, 2) := dk_25 5 (dk_at dksX0_side_2 1 rfl rfl)
theorem dX0_side_51 : decode cX0_side 51 = .ok (.invokestatic 93, 3) := dk_184 0 93 (dk_at dksX0_side_2 3 rfl rfl)
theorem dX0_side_54 : decode cX0_side 54 = .ok (.ireturn, 1) := dk_172 (dk_at dksX0_side_2 6 rfl rfl)
abbrev cX0_isRow : ByteArray := prog_1_method_9_code
def yX0_isRow : MethodName := ⟨RX0, "isRow", "(III)Z"⟩
def dkwX0_isRow_3 : List UInt8 := [160, 0, 7, 4, 167, 0, 4, 3, 172]
abbrev dktX0_isRow_3 : List UInt8 := dkwX0_isRow_3 ++ []
def dkwX0_isRow_2 : List UInt8 := [21, 4, 153, 0, 27, 27, 2, 160, 0, 8, 28, 2, 160, 0, 17, 28, 2, 160, 0, 8, 29, 2]
abbrev dktX0_isRow_2 : List UInt8 := dkwX0_isRow_2 ++ dktX0_isRow_3
def dkwX0_isRow_1 : List UInt8 := [153, 0, 20, 29, 2, 159, 0, 11, 42, 29, 182, 0, 83, 153, 0, 7, 4, 167, 0, 4, 3, 54, 4]
abbrev dktX0_isRow_1 : List UInt8 := dkwX0_isRow_1 ++ dktX0_isRow_2
def dkwX0_isRow_0 : List UInt8 := [27, 2, 159, 0, 11, 42, 27, 182, 0, 83, 153, 0, 33, 28, 2, 159, 0, 11, 42, 28, 182, 0, 83]
abbrev dktX0_isRow_0 : List UInt8 := dkwX0_isRow_0 ++ dktX0_isRow_1
theorem dksX0_isRow_0 : cX0_isRow.data.toList.drop 0 = dktX0_isRow_0 := by decide +kernel
theorem dksX0_isRow_1 : cX0_isRow.data.toList.drop 23 = dktX0_isRow_1 := dk_seg dksX0_isRow_0 23 rfl rfl
theorem dksX0_isRow_2 : cX0_isRow.data.toList.drop 46 = dktX0_isRow_2 := dk_seg dksX0_isRow_1 23 rfl rfl
theorem dksX0_isRow_3 : cX0_isRow.data.toList.drop 68 = dktX0_isRow_3 := dk_seg dksX0_isRow_2 22 rfl rfl
theorem dX0_isRow_0 : decode cX0_isRow 0 = .ok (.iload_n 1, 1) := dk_27 (dk_at dksX0_isRow_0 0 rfl rfl)
theorem dX0_isRow_1 : decode cX0_isRow 1 = .ok (.iconst (-1), 1) := dk_2 (dk_at dksX0_isRow_0 1 rfl rfl)
theorem dX0_isRow_2 : decode cX0_isRow 2 = .ok (.if_icmp .eq 11, 3) := dk_159 0 11 (dk_at dksX0_isRow_0 2 rfl rfl)
theorem dX0_isRow_5 : decode cX0_isRow 5 = .ok (.aload_n 0, 1) := dk_42 (dk_at dksX0_isRow_0 5 rfl rfl)
theorem dX0_isRow_6 : decode cX0_isRow 6 = .ok (.iload_n 1, 1) := dk_27 (dk_at dksX0_isRow_0 6 rfl rfl)
theorem dX0_isRow_7 : decode cX0_isRow 7 = .ok (.invokevirtual 83, 3) := dk_182 0 83 (dk_at dksX0_isRow_0 7 rfl rfl)
theorem dX0_isRow_10 : decode cX0_isRow 10 = .ok (.ifCond .eq 33, 3) := dk_153 0 33 (dk_at dksX0_isRow_0 10 rfl rfl)
theorem dX0_isRow_13 : decode cX0_isRow 13 = .ok (.iload_n 2, 1) := dk_28 (dk_at dksX0_isRow_0 13 rfl rfl)
theorem dX0_isRow_14 : decode cX0_isRow 14 = .ok (.iconst (-1), 1) := dk_2 (dk_at dksX0_isRow_0 14 rfl rfl)
theorem dX0_isRow_15 : decode cX0_isRow 15 = .ok (.if_icmp .eq 11, 3) := dk_159 0 11 (dk_at dksX0_isRow_0 15 rfl rfl)
theorem dX0_isRow_18 : decode cX0_isRow 18 = .ok (.aload_n 0, 1) := dk_42 (dk_at dksX0_isRow_0 18 rfl rfl)
theorem dX0_isRow_19 : decode cX0_isRow 19 = .ok (.iload_n 2, 1) := dk_28 (dk_at dksX0_isRow_0 19 rfl rfl)
theorem dX0_isRow_20 : decode cX0_isRow 20 = .ok (.invokevirtual 83, 3) := dk_182 0 83 (dk_at dksX0_isRow_0 20 rfl rfl)
theorem dX0_isRow_23 : decode cX0_isRow 23 = .ok (.ifCond .eq 20, 3) := dk_153 0 20 (dk_at dksX0_isRow_1 0 rfl rfl)
theorem dX0_isRow_26 : decode cX0_isRow 26 = .ok (.iload_n 3, 1) := dk_29 (dk_at dksX0_isRow_1 3 rfl rfl)
theorem dX0_isRow_27 : decode cX0_isRow 27 = .ok (.iconst (-1), 1) := dk_2 (dk_at dksX0_isRow_1 4 rfl rfl)
theorem dX0_isRow_28 : decode cX0_isRow 28 = .ok (.if_icmp .eq 11, 3) := dk_159 0 11 (dk_at dksX0_isRow_1 5 rfl rfl)
theorem dX0_isRow_31 : decode cX0_isRow 31 = .ok (.aload_n 0, 1) := dk_42 (dk_at dksX0_isRow_1 8 rfl rfl)
theorem dX0_isRow_32 : decode cX0_isRow 32 = .ok (.iload_n 3, 1) := dk_29 (dk_at dksX0_isRow_1 9 rfl rfl)
theorem dX0_isRow_33 : decode cX0_isRow 33 = .ok (.invokevirtual 83, 3) := dk_182 0 83 (dk_at dksX0_isRow_1 10 rfl rfl)
theorem dX0_isRow_36 : decode cX0_isRow 36 = .ok (.ifCond .eq 7, 3) := dk_153 0 7 (dk_at dksX0_isRow_1 13 rfl rfl)
theorem dX0_isRow_39 : decode cX0_isRow 39 = .ok (.iconst 1, 1) := dk_4 (dk_at dksX0_isRow_1 16 rfl rfl)
theorem dX0_isRow_40 : decode cX0_isRow 40 = .ok (.goto 4, 3) := dk_167 0 4 (dk_at dksX0_isRow_1 17 rfl rfl)
theorem dX0_isRow_43 : decode cX0_isRow 43 = .ok (.iconst 0, 1) := dk_3 (dk_at dksX0_isRow_1 20 rfl rfl)
theorem dX0_isRow_44 : decode cX0_isRow 44 = .ok (.istore 4, 2) := dk_54 4 (dk_at dksX0_isRow_1 21 rfl rfl)
theorem dX0_isRow_46 : decode cX0_isRow 46 = .ok (.iload 4, 2) := dk_21 4 (dk_at dksX0_isRow_2 0 rfl rfl)
theorem dX0_isRow_48 : decode cX0_isRow 48 = .ok (.ifCond .eq 27, 3) := dk_153 0 27 (dk_at dksX0_isRow_2 2 rfl rfl)
theorem dX0_isRow_51 : decode cX0_isRow 51 = .ok (.iload_n 1, 1) := dk_27 (dk_at dksX0_isRow_2 5 rfl rfl)
theorem dX0_isRow_52 : decode cX0_isRow 52 = .ok (.iconst (-1), 1) := dk_2 (dk_at dksX0_isRow_2 6 rfl rfl)
theorem dX0_isRow_53 : decode cX0_isRow 53 = .ok (.if_icmp .ne 8, 3) := dk_160 0 8 (dk_at dksX0_isRow_2 7 rfl rfl)
theorem dX0_isRow_56 : decode cX0_isRow 56 = .ok (.iload_n 2, 1) := dk_28 (dk_at dksX0_isRow_2 10 rfl rfl)
theorem dX0_isRow_57 : decode cX0_isRow 57 = .ok (.iconst (-1), 1) := dk_2 (dk_at dksX0_isRow_2 11 rfl rfl)
theorem dX0_isRow_58 : decode cX0_isRow 58 = .ok (.if_icmp .ne 17, 3) := dk_160 0 17 (dk_at dksX0_isRow_2 12 rfl rfl)
theorem dX0_isRow_61 : decode cX0_isRow 61 = .ok (.iload_n 2, 1) := dk_28 (dk_at dksX0_isRow_2 15 rfl rfl)
theorem dX0_isRow_62 : decode cX0_isRow 62 = .ok (.iconst (-1), 1) := dk_2 (dk_at dksX0_isRow_2 16 rfl rfl)
theorem dX0_isRow_63 : decode cX0_isRow 63 = .ok (.if_icmp .ne 8, 3) := dk_160 0 8 (dk_at dksX0_isRow_2 17 rfl rfl)
theorem dX0_isRow_66 : decode cX0_isRow 66 = .ok (.iload_n 3, 1) := dk_29 (dk_at dksX0_isRow_2 20 rfl rfl)
theorem dX0_isRow_67 : decode cX0_isRow 67 = .ok (.iconst (-1), 1) := dk_2 (dk_at dksX0_isRow_2 21 rfl rfl)
theorem dX0_isRow_68 : decode cX0_isRow 68 = .ok (.if_icmp .ne 7, 3) := dk_160 0 7 (dk_at dksX0_isRow_3 0 rfl rfl)
theorem dX0_isRow_71 : decode cX0_isRow 71 = .ok (.iconst 1, 1) := dk_4 (dk_at dksX0_isRow_3 3 rfl rfl)
theorem dX0_isRow_72 : decode cX0_isRow 72 = .ok (.goto 4, 3) := dk_167 0 4 (dk_at dksX0_isRow_3 4 rfl rfl)
theorem dX0_isRow_75 : decode cX0_isRow 75 = .ok (.iconst 0, 1) := dk_3 (dk_at dksX0_isRow_3 7 rfl rfl)
theorem dX0_isRow_76 : decode cX0_isRow 76 = .ok (.ireturn, 1) := dk_172 (dk_at dksX0_isRow_3 8 rfl rfl)
abbrev cX0_manyOf : ByteArray := prog_1_method_10_code
def yX0_manyOf : MethodName := ⟨RX0, "manyOf", "([I)I"⟩
def dkwX0_manyOf_0 : List UInt8 := [3, 60, 27, 6, 162, 0, 16, 42, 27, 46, 2, 159, 0, 9, 132, 1, 1, 167, 255, 241, 27, 172]
abbrev dktX0_manyOf_0 : List UInt8 := dkwX0_manyOf_0 ++ []
theorem dksX0_manyOf_0 : cX0_manyOf.data.toList.drop 0 = dktX0_manyOf_0 := by decide +kernel
theorem dX0_manyOf_0 : decode cX0_manyOf 0 = .ok (.iconst 0, 1) := dk_3 (dk_at dksX0_manyOf_0 0 rfl rfl)
theorem dX0_manyOf_1 : decode cX0_manyOf 1 = .ok (.istore_n 1, 1) := dk_60 (dk_at dksX0_manyOf_0 1 rfl rfl)
theorem dX0_manyOf_2 : decode cX0_manyOf 2 = .ok (.iload_n 1, 1) := dk_27 (dk_at dksX0_manyOf_0 2 rfl rfl)
theorem dX0_manyOf_3 : decode cX0_manyOf 3 = .ok (.iconst 3, 1) := dk_6 (dk_at dksX0_manyOf_0 3 rfl rfl)
theorem dX0_manyOf_4 : decode cX0_manyOf 4 = .ok (.if_icmp .ge 16, 3) := dk_162 0 16 (dk_at dksX0_manyOf_0 4 rfl rfl)
theorem dX0_manyOf_7 : decode cX0_manyOf 7 = .ok (.aload_n 0, 1) := dk_42 (dk_at dksX0_manyOf_0 7 rfl rfl)
theorem dX0_manyOf_8 : decode cX0_manyOf 8 = .ok (.iload_n 1, 1) := dk_27 (dk_at dksX0_manyOf_0 8 rfl rfl)
theorem dX0_manyOf_9 : decode cX0_manyOf 9 = .ok (.iaload, 1) := dk_46 (dk_at dksX0_manyOf_0 9 rfl rfl)
theorem dX0_manyOf_10 : decode cX0_manyOf 10 = .ok (.iconst (-1), 1) := dk_2 (dk_at dksX0_manyOf_0 10 rfl rfl)
theorem dX0_manyOf_11 : decode cX0_manyOf 11 = .ok (.if_icmp .eq 9, 3) := dk_159 0 9 (dk_at dksX0_manyOf_0 11 rfl rfl)
theorem dX0_manyOf_14 : decode cX0_manyOf 14 = .ok (.iinc 1 1, 3) := dk_132 1 1 (dk_at dksX0_manyOf_0 14 rfl rfl)
theorem dX0_manyOf_17 : decode cX0_manyOf 17 = .ok (.goto (-15), 3) := dk_167 255 241 (dk_at dksX0_manyOf_0 17 rfl rfl)
theorem dX0_manyOf_20 : decode cX0_manyOf 20 = .ok (.iload_n 1, 1) := dk_27 (dk_at dksX0_manyOf_0 20 rfl rfl)
theorem dX0_manyOf_21 : decode cX0_manyOf 21 = .ok (.ireturn, 1) := dk_172 (dk_at dksX0_manyOf_0 21 rfl rfl)
abbrev cX0_at : ByteArray := prog_1_method_12_code
def yX0_at : MethodName := ⟨RX0, "at", "(II)I"⟩
def dkwX0_at_1 : List UInt8 := [28, 46, 167, 0, 5, 16, 254, 172]
abbrev dktX0_at_1 : List UInt8 := dkwX0_at_1 ++ []
def dkwX0_at_0 : List UInt8 := [27, 3, 4, 184, 0, 69, 153, 0, 23, 28, 3, 5, 184, 0, 69, 153, 0, 14, 42, 180, 0, 19, 27, 50]
abbrev dktX0_at_0 : List UInt8 := dkwX0_at_0 ++ dktX0_at_1
theorem dksX0_at_0 : cX0_at.data.toList.drop 0 = dktX0_at_0 := by decide +kernel
theorem dksX0_at_1 : cX0_at.data.toList.drop 24 = dktX0_at_1 := dk_seg dksX0_at_0 24 rfl rfl
theorem dX0_at_0 : decode cX0_at 0 = .ok (.iload_n 1, 1) := dk_27 (dk_at dksX0_at_0 0 rfl rfl)
theorem dX0_at_1 : decode cX0_at 1 = .ok (.iconst 0, 1) := dk_3 (dk_at dksX0_at_0 1 rfl rfl)
theorem dX0_at_2 : decode cX0_at 2 = .ok (.iconst 1, 1) := dk_4 (dk_at dksX0_at_0 2 rfl rfl)
theorem dX0_at_3 : decode cX0_at 3 = .ok (.invokestatic 69, 3) := dk_184 0 69 (dk_at dksX0_at_0 3 rfl rfl)
theorem dX0_at_6 : decode cX0_at 6 = .ok (.ifCond .eq 23, 3) := dk_153 0 23 (dk_at dksX0_at_0 6 rfl rfl)
theorem dX0_at_9 : decode cX0_at 9 = .ok (.iload_n 2, 1) := dk_28 (dk_at dksX0_at_0 9 rfl rfl)
theorem dX0_at_10 : decode cX0_at 10 = .ok (.iconst 0, 1) := dk_3 (dk_at dksX0_at_0 10 rfl rfl)
theorem dX0_at_11 : decode cX0_at 11 = .ok (.iconst 2, 1) := dk_5 (dk_at dksX0_at_0 11 rfl rfl)
theorem dX0_at_12 : decode cX0_at 12 = .ok (.invokestatic 69, 3) := dk_184 0 69 (dk_at dksX0_at_0 12 rfl rfl)
theorem dX0_at_15 : decode cX0_at 15 = .ok (.ifCond .eq 14, 3) := dk_153 0 14 (dk_at dksX0_at_0 15 rfl rfl)
theorem dX0_at_18 : decode cX0_at 18 = .ok (.aload_n 0, 1) := dk_42 (dk_at dksX0_at_0 18 rfl rfl)
theorem dX0_at_19 : decode cX0_at 19 = .ok (.getfield 19, 3) := dk_180 0 19 (dk_at dksX0_at_0 19 rfl rfl)
theorem dX0_at_22 : decode cX0_at 22 = .ok (.iload_n 1, 1) := dk_27 (dk_at dksX0_at_0 22 rfl rfl)
theorem dX0_at_23 : decode cX0_at 23 = .ok (.aaload, 1) := dk_50 (dk_at dksX0_at_0 23 rfl rfl)
theorem dX0_at_24 : decode cX0_at 24 = .ok (.iload_n 2, 1) := dk_28 (dk_at dksX0_at_1 0 rfl rfl)
theorem dX0_at_25 : decode cX0_at 25 = .ok (.iaload, 1) := dk_46 (dk_at dksX0_at_1 1 rfl rfl)
theorem dX0_at_26 : decode cX0_at 26 = .ok (.goto 5, 3) := dk_167 0 5 (dk_at dksX0_at_1 2 rfl rfl)
theorem dX0_at_29 : decode cX0_at 29 = .ok (.bipush (-2), 2) := dk_16 254 (dk_at dksX0_at_1 5 rfl rfl)
theorem dX0_at_31 : decode cX0_at 31 = .ok (.ireturn, 1) := dk_172 (dk_at dksX0_at_1 7 rfl rfl)
abbrev cX0_laws : ByteArray := prog_1_method_13_code
def yX0_laws : MethodName := ⟨RX0, "laws", "(III)I"⟩
def dkwX0_laws_2 : List UInt8 := [4, 172]
abbrev dktX0_laws_2 : List UInt8 := dkwX0_laws_2 ++ []
def dkwX0_laws_1 : List UInt8 := [184, 0, 69, 154, 0, 6, 16, 254, 172, 42, 27, 181, 0, 23, 42, 28, 181, 0, 97, 42, 29, 181, 0, 27]
abbrev dktX0_laws_1 : List UInt8 := dkwX0_laws_1 ++ dktX0_laws_2
def dkwX0_laws_0 : List UInt8 := [27, 4, 16, 6, 184, 0, 69, 153, 0, 21, 28, 3, 4, 184, 0, 69, 153, 0, 12, 29, 2, 4]
abbrev dktX0_laws_0 : List UInt8 := dkwX0_laws_0 ++ dktX0_laws_1
theorem dksX0_laws_0 : cX0_laws.data.toList.drop 0 = dktX0_laws_0 := by decide +kernel
theorem dksX0_laws_1 : cX0_laws.data.toList.drop 22 = dktX0_laws_1 := dk_seg dksX0_laws_0 22 rfl rfl
theorem dksX0_laws_2 : cX0_laws.data.toList.drop 46 = dktX0_laws_2 := dk_seg dksX0_laws_1 24 rfl rfl
theorem dX0_laws_0 : decode cX0_laws 0 = .ok (.iload_n 1, 1) := dk_27 (dk_at dksX0_laws_0 0 rfl rfl)
theorem dX0_laws_1 : decode cX0_laws 1 = .ok (.iconst 1, 1) := dk_4 (dk_at dksX0_laws_0 1 rfl rfl)
theorem dX0_laws_2 : decode cX0_laws 2 = .ok (.bipush 6, 2) := dk_16 6 (dk_at dksX0_laws_0 2 rfl rfl)
theorem dX0_laws_4 : decode cX0_laws 4 = .ok (.invokestatic 69, 3) := dk_184 0 69 (dk_at dksX0_laws_0 4 rfl rfl)
theorem dX0_laws_7 : decode cX0_laws 7 = .ok (.ifCond .eq 21, 3) := dk_153 0 21 (dk_at dksX0_laws_0 7 rfl rfl)
theorem dX0_laws_10 : decode cX0_laws 10 = .ok (.iload_n 2, 1) := dk_28 (dk_at dksX0_laws_0 10 rfl rfl)
theorem dX0_laws_11 : decode cX0_laws 11 = .ok (.iconst 0, 1) := dk_3 (dk_at dksX0_laws_0 11 rfl rfl)
theorem dX0_laws_12 : decode cX0_laws 12 = .ok (.iconst 1, 1) := dk_4 (dk_at dksX0_laws_0 12 rfl rfl)
theorem dX0_laws_13 : decode cX0_laws 13 = .ok (.invokestatic 69, 3) := dk_184 0 69 (dk_at dksX0_laws_0 13 rfl rfl)
theorem dX0_laws_16 : decode cX0_laws 16 = .ok (.ifCond .eq 12, 3) := dk_153 0 12 (dk_at dksX0_laws_0 16 rfl rfl)
theorem dX0_laws_19 : decode cX0_laws 19 = .ok (.iload_n 3, 1) := dk_29 (dk_at dksX0_laws_0 19 rfl rfl)
theorem dX0_laws_20 : decode cX0_laws 20 = .ok (.iconst (-1), 1) := dk_2 (dk_at dksX0_laws_0 20 rfl rfl)
theorem dX0_laws_21 : decode cX0_laws 21 = .ok (.iconst 1, 1) := dk_4 (dk_at dksX0_laws_0 21 rfl rfl)
theorem dX0_laws_22 : decode cX0_laws 22 = .ok (.invokestatic 69, 3) := dk_184 0 69 (dk_at dksX0_laws_1 0 rfl rfl)
theorem dX0_laws_25 : decode cX0_laws 25 = .ok (.ifCond .ne 6, 3) := dk_154 0 6 (dk_at dksX0_laws_1 3 rfl rfl)
theorem dX0_laws_28 : decode cX0_laws 28 = .ok (.bipush (-2), 2) := dk_16 254 (dk_at dksX0_laws_1 6 rfl rfl)
theorem dX0_laws_30 : decode cX0_laws 30 = .ok (.ireturn, 1) := dk_172 (dk_at dksX0_laws_1 8 rfl rfl)
theorem dX0_laws_31 : decode cX0_laws 31 = .ok (.aload_n 0, 1) := dk_42 (dk_at dksX0_laws_1 9 rfl rfl)
theorem dX0_laws_32 : decode cX0_laws 32 = .ok (.iload_n 1, 1) := dk_27 (dk_at dksX0_laws_1 10 rfl rfl)
theorem dX0_laws_33 : decode cX0_laws 33 = .ok (.putfield 23, 3) := dk_181 0 23 (dk_at dksX0_laws_1 11 rfl rfl)
theorem dX0_laws_36 : decode cX0_laws 36 = .ok (.aload_n 0, 1) := dk_42 (dk_at dksX0_laws_1 14 rfl rfl)
theorem dX0_laws_37 : decode cX0_laws 37 = .ok (.iload_n 2, 1) := dk_28 (dk_at dksX0_laws_1 15 rfl rfl)
theorem dX0_laws_38 : decode cX0_laws 38 = .ok (.putfield 97, 3) := dk_181 0 97 (dk_at dksX0_laws_1 16 rfl rfl)
theorem dX0_laws_41 : decode cX0_laws 41 = .ok (.aload_n 0, 1) := dk_42 (dk_at dksX0_laws_1 19 rfl rfl)
theorem dX0_laws_42 : decode cX0_laws 42 = .ok (.iload_n 3, 1) := dk_29 (dk_at dksX0_laws_1 20 rfl rfl)
theorem dX0_laws_43 : decode cX0_laws 43 = .ok (.putfield 27, 3) := dk_181 0 27 (dk_at dksX0_laws_1 21 rfl rfl)
theorem dX0_laws_46 : decode cX0_laws 46 = .ok (.iconst 1, 1) := dk_4 (dk_at dksX0_laws_2 0 rfl rfl)
theorem dX0_laws_47 : decode cX0_laws 47 = .ok (.ireturn, 1) := dk_172 (dk_at dksX0_laws_2 1 rfl rfl)
abbrev cX0_slots : ByteArray := prog_1_method_15_code
def yX0_slots : MethodName := ⟨RX0, "slots", "()I"⟩
def dkwX0_slots_1 : List UInt8 := [172]
abbrev dktX0_slots_1 : List UInt8 := dkwX0_slots_1 ++ []
def dkwX0_slots_0 : List UInt8 := [42, 180, 0, 23, 42, 180, 0, 19, 3, 50, 184, 0, 93, 42, 180, 0, 19, 4, 50, 184, 0, 93, 96, 104]
abbrev dktX0_slots_0 : List UInt8 := dkwX0_slots_0 ++ dktX0_slots_1
theorem dksX0_slots_0 : cX0_slots.data.toList.drop 0 = dktX0_slots_0 := by decide +kernel
theorem dksX0_slots_1 : cX0_slots.data.toList.drop 24 = dktX0_slots_1 := dk_seg dksX0_slots_0 24 rfl rfl
theorem dX0_slots_0 : decode cX0_slots 0 = .ok (.aload_n 0, 1) := dk_42 (dk_at dksX0_slots_0 0 rfl rfl)
theorem dX0_slots_1 : decode cX0_slots 1 = .ok (.getfield 23, 3) := dk_180 0 23 (dk_at dksX0_slots_0 1 rfl rfl)
theorem dX0_slots_4 : decode cX0_slots 4 = .ok (.aload_n 0, 1) := dk_42 (dk_at dksX0_slots_0 4 rfl rfl)
theorem dX0_slots_5 : decode cX0_slots 5 = .ok (.getfield 19, 3) := dk_180 0 19 (dk_at dksX0_slots_0 5 rfl rfl)
theorem dX0_slots_8 : decode cX0_slots 8 = .ok (.iconst 0, 1) := dk_3 (dk_at dksX0_slots_0 8 rfl rfl)
theorem dX0_slots_9 : decode cX0_slots 9 = .ok (.aaload, 1) := dk_50 (dk_at dksX0_slots_0 9 rfl rfl)
theorem dX0_slots_10 : decode cX0_slots 10 = .ok (.invokestatic 93, 3) := dk_184 0 93 (dk_at dksX0_slots_0 10 rfl rfl)
theorem dX0_slots_13 : decode cX0_slots 13 = .ok (.aload_n 0, 1) := dk_42 (dk_at dksX0_slots_0 13 rfl rfl)
theorem dX0_slots_14 : decode cX0_slots 14 = .ok (.getfield 19, 3) := dk_180 0 19 (dk_at dksX0_slots_0 14 rfl rfl)
theorem dX0_slots_17 : decode cX0_slots 17 = .ok (.iconst 1, 1) := dk_4 (dk_at dksX0_slots_0 17 rfl rfl)
theorem dX0_slots_18 : decode cX0_slots 18 = .ok (.aaload, 1) := dk_50 (dk_at dksX0_slots_0 18 rfl rfl)
theorem dX0_slots_19 : decode cX0_slots 19 = .ok (.invokestatic 93, 3) := dk_184 0 93 (dk_at dksX0_slots_0 19 rfl rfl)
theorem dX0_slots_22 : decode cX0_slots 22 = .ok (.iadd, 1) := dk_96 (dk_at dksX0_slots_0 22 rfl rfl)
theorem dX0_slots_23 : decode cX0_slots 23 = .ok (.imul, 1) := dk_104 (dk_at dksX0_slots_0 23 rfl rfl)
theorem dX0_slots_24 : decode cX0_slots 24 = .ok (.ireturn, 1) := dk_172 (dk_at dksX0_slots_1 0 rfl rfl)
abbrev cX0_all : ByteArray := prog_1_method_16_code
def yX0_all : MethodName := ⟨RX0, "all", "()J"⟩
def dkwX0_all_1 : List UInt8 := [173]
abbrev dktX0_all_1 : List UInt8 := dkwX0_all_1 ++ []
def dkwX0_all_0 : List UInt8 := [42, 182, 0, 110, 76, 43, 180, 0, 114, 153, 0, 11, 16, 251, 184, 0, 118, 167, 0, 7, 43, 180, 0, 122]
abbrev dktX0_all_0 : List UInt8 := dkwX0_all_0 ++ dktX0_all_1
theorem dksX0_all_0 : cX0_all.data.toList.drop 0 = dktX0_all_0 := by decide +kernel
theorem dksX0_all_1 : cX0_all.data.toList.drop 24 = dktX0_all_1 := dk_seg dksX0_all_0 24 rfl rfl
theorem dX0_all_0 : decode cX0_all 0 = .ok (.aload_n 0, 1) := dk_42 (dk_at dksX0_all_0 0 rfl rfl)
theorem dX0_all_1 : decode cX0_all 1 = .ok (.invokevirtual 110, 3) := dk_182 0 110 (dk_at dksX0_all_0 1 rfl rfl)
theorem dX0_all_4 : decode cX0_all 4 = .ok (.astore_n 1, 1) := dk_76 (dk_at dksX0_all_0 4 rfl rfl)
theorem dX0_all_5 : decode cX0_all 5 = .ok (.aload_n 1, 1) := dk_43 (dk_at dksX0_all_0 5 rfl rfl)
theorem dX0_all_6 : decode cX0_all 6 = .ok (.getfield 114, 3) := dk_180 0 114 (dk_at dksX0_all_0 6 rfl rfl)
theorem dX0_all_9 : decode cX0_all 9 = .ok (.ifCond .eq 11, 3) := dk_153 0 11 (dk_at dksX0_all_0 9 rfl rfl)
theorem dX0_all_12 : decode cX0_all 12 = .ok (.bipush (-5), 2) := dk_16 251 (dk_at dksX0_all_0 12 rfl rfl)
theorem dX0_all_14 : decode cX0_all 14 = .ok (.invokestatic 118, 3) := dk_184 0 118 (dk_at dksX0_all_0 14 rfl rfl)
theorem dX0_all_17 : decode cX0_all 17 = .ok (.goto 7, 3) := dk_167 0 7 (dk_at dksX0_all_0 17 rfl rfl)
theorem dX0_all_20 : decode cX0_all 20 = .ok (.aload_n 1, 1) := dk_43 (dk_at dksX0_all_0 20 rfl rfl)
theorem dX0_all_21 : decode cX0_all 21 = .ok (.getfield 122, 3) := dk_180 0 122 (dk_at dksX0_all_0 21 rfl rfl)
theorem dX0_all_24 : decode cX0_all 24 = .ok (.lreturn, 1) := dk_173 (dk_at dksX0_all_1 0 rfl rfl)
abbrev cX0_oddsNow : ByteArray := prog_1_method_14_code
def yX0_oddsNow : MethodName := ⟨RX0, "oddsNow", "()LFairFight$Odds;"⟩
def dkwX0_oddsNow_1 : List UInt8 := [183, 0, 104, 3, 183, 0, 107, 176]
abbrev dktX0_oddsNow_1 : List UInt8 := dkwX0_oddsNow_1 ++ []
def dkwX0_oddsNow_0 : List UInt8 := [187, 0, 100, 89, 42, 187, 0, 102, 89, 42, 42, 180, 0, 19, 3, 50, 42, 180, 0, 19, 4, 50, 3]
abbrev dktX0_oddsNow_0 : List UInt8 := dkwX0_oddsNow_0 ++ dktX0_oddsNow_1
theorem dksX0_oddsNow_0 : cX0_oddsNow.data.toList.drop 0 = dktX0_oddsNow_0 := by decide +kernel
theorem dksX0_oddsNow_1 : cX0_oddsNow.data.toList.drop 23 = dktX0_oddsNow_1 := dk_seg dksX0_oddsNow_0 23 rfl rfl
theorem dX0_oddsNow_0 : decode cX0_oddsNow 0 = .ok (.new 100, 3) := dk_187 0 100 (dk_at dksX0_oddsNow_0 0 rfl rfl)
theorem dX0_oddsNow_3 : decode cX0_oddsNow 3 = .ok (.dup, 1) := dk_89 (dk_at dksX0_oddsNow_0 3 rfl rfl)
theorem dX0_oddsNow_4 : decode cX0_oddsNow 4 = .ok (.aload_n 0, 1) := dk_42 (dk_at dksX0_oddsNow_0 4 rfl rfl)
theorem dX0_oddsNow_5 : decode cX0_oddsNow 5 = .ok (.new 102, 3) := dk_187 0 102 (dk_at dksX0_oddsNow_0 5 rfl rfl)
theorem dX0_oddsNow_8 : decode cX0_oddsNow 8 = .ok (.dup, 1) := dk_89 (dk_at dksX0_oddsNow_0 8 rfl rfl)
theorem dX0_oddsNow_9 : decode cX0_oddsNow 9 = .ok (.aload_n 0, 1) := dk_42 (dk_at dksX0_oddsNow_0 9 rfl rfl)
theorem dX0_oddsNow_10 : decode cX0_oddsNow 10 = .ok (.aload_n 0, 1) := dk_42 (dk_at dksX0_oddsNow_0 10 rfl rfl)
theorem dX0_oddsNow_11 : decode cX0_oddsNow 11 = .ok (.getfield 19, 3) := dk_180 0 19 (dk_at dksX0_oddsNow_0 11 rfl rfl)
theorem dX0_oddsNow_14 : decode cX0_oddsNow 14 = .ok (.iconst 0, 1) := dk_3 (dk_at dksX0_oddsNow_0 14 rfl rfl)
theorem dX0_oddsNow_15 : decode cX0_oddsNow 15 = .ok (.aaload, 1) := dk_50 (dk_at dksX0_oddsNow_0 15 rfl rfl)
theorem dX0_oddsNow_16 : decode cX0_oddsNow 16 = .ok (.aload_n 0, 1) := dk_42 (dk_at dksX0_oddsNow_0 16 rfl rfl)
theorem dX0_oddsNow_17 : decode cX0_oddsNow 17 = .ok (.getfield 19, 3) := dk_180 0 19 (dk_at dksX0_oddsNow_0 17 rfl rfl)
theorem dX0_oddsNow_20 : decode cX0_oddsNow 20 = .ok (.iconst 1, 1) := dk_4 (dk_at dksX0_oddsNow_0 20 rfl rfl)
theorem dX0_oddsNow_21 : decode cX0_oddsNow 21 = .ok (.aaload, 1) := dk_50 (dk_at dksX0_oddsNow_0 21 rfl rfl)
theorem dX0_oddsNow_22 : decode cX0_oddsNow 22 = .ok (.iconst 0, 1) := dk_3 (dk_at dksX0_oddsNow_0 22 rfl rfl)
theorem dX0_oddsNow_23 : decode cX0_oddsNow 23 = .ok (.invokespecial 104, 3) := dk_183 0 104 (dk_at dksX0_oddsNow_1 0 rfl rfl)
theorem dX0_oddsNow_26 : decode cX0_oddsNow 26 = .ok (.iconst 0, 1) := dk_3 (dk_at dksX0_oddsNow_1 3 rfl rfl)
theorem dX0_oddsNow_27 : decode cX0_oddsNow 27 = .ok (.invokespecial 107, 3) := dk_183 0 107 (dk_at dksX0_oddsNow_1 4 rfl rfl)
theorem dX0_oddsNow_30 : decode cX0_oddsNow 30 = .ok (.areturn, 1) := dk_176 (dk_at dksX0_oddsNow_1 7 rfl rfl)
abbrev cX0_no : ByteArray := prog_1_method_2_code
def yX0_no : MethodName := ⟨RX0, "no", "(I)J"⟩
def dkwX0_no_0 : List UInt8 := [20, 0, 3, 26, 133, 101, 173]
abbrev dktX0_no_0 : List UInt8 := dkwX0_no_0 ++ []
theorem dksX0_no_0 : cX0_no.data.toList.drop 0 = dktX0_no_0 := by decide +kernel
theorem dX0_no_0 : decode cX0_no 0 = .ok (.ldc2_w 3, 3) := dk_20 0 3 (dk_at dksX0_no_0 0 rfl rfl)
theorem dX0_no_3 : decode cX0_no 3 = .ok (.iload_n 0, 1) := dk_26 (dk_at dksX0_no_0 3 rfl rfl)
theorem dX0_no_4 : decode cX0_no 4 = .ok (.i2l, 1) := dk_133 (dk_at dksX0_no_0 4 rfl rfl)
theorem dX0_no_5 : decode cX0_no 5 = .ok (.lsub, 1) := dk_101 (dk_at dksX0_no_0 5 rfl rfl)
theorem dX0_no_6 : decode cX0_no 6 = .ok (.lreturn, 1) := dk_173 (dk_at dksX0_no_0 6 rfl rfl)
abbrev cX0_ways : ByteArray := prog_1_method_17_code
def yX0_ways : MethodName := ⟨RX0, "ways", "(I)J"⟩
def dkwX0_ways_1 : List UInt8 := [153, 0, 11, 16, 251, 184, 0, 118, 167, 0, 9, 44, 180, 0, 126, 27, 47, 173]
abbrev dktX0_ways_1 : List UInt8 := dkwX0_ways_1 ++ []
def dkwX0_ways_0 : List UInt8 := [27, 3, 5, 184, 0, 69, 154, 0, 9, 16, 254, 184, 0, 118, 173, 42, 182, 0, 110, 77, 44, 180, 0, 114]
abbrev dktX0_ways_0 : List UInt8 := dkwX0_ways_0 ++ dktX0_ways_1
theorem dksX0_ways_0 : cX0_ways.data.toList.drop 0 = dktX0_ways_0 := by decide +kernel
theorem dksX0_ways_1 : cX0_ways.data.toList.drop 24 = dktX0_ways_1 := dk_seg dksX0_ways_0 24 rfl rfl
theorem dX0_ways_0 : decode cX0_ways 0 = .ok (.iload_n 1, 1) := dk_27 (dk_at dksX0_ways_0 0 rfl rfl)
theorem dX0_ways_1 : decode cX0_ways 1 = .ok (.iconst 0, 1) := dk_3 (dk_at dksX0_ways_0 1 rfl rfl)
theorem dX0_ways_2 : decode cX0_ways 2 = .ok (.iconst 2, 1) := dk_5 (dk_at dksX0_ways_0 2 rfl rfl)
theorem dX0_ways_3 : decode cX0_ways 3 = .ok (.invokestatic 69, 3) := dk_184 0 69 (dk_at dksX0_ways_0 3 rfl rfl)
theorem dX0_ways_6 : decode cX0_ways 6 = .ok (.ifCond .ne 9, 3) := dk_154 0 9 (dk_at dksX0_ways_0 6 rfl rfl)
theorem dX0_ways_9 : decode cX0_ways 9 = .ok (.bipush (-2), 2) := dk_16 254 (dk_at dksX0_ways_0 9 rfl rfl)
theorem dX0_ways_11 : decode cX0_ways 11 = .ok (.invokestatic 118, 3) := dk_184 0 118 (dk_at dksX0_ways_0 11 rfl rfl)
theorem dX0_ways_14 : decode cX0_ways 14 = .ok (.lreturn, 1) := dk_173 (dk_at dksX0_ways_0 14 rfl rfl)
theorem dX0_ways_15 : decode cX0_ways 15 = .ok (.aload_n 0, 1) := dk_42 (dk_at dksX0_ways_0 15 rfl rfl)
theorem dX0_ways_16 : decode cX0_ways 16 = .ok (.invokevirtual 110, 3) := dk_182 0 110 (dk_at dksX0_ways_0 16 rfl rfl)
theorem dX0_ways_19 : decode cX0_ways 19 = .ok (.astore_n 2, 1) := dk_77 (dk_at dksX0_ways_0 19 rfl rfl)
theorem dX0_ways_20 : decode cX0_ways 20 = .ok (.aload_n 2, 1) := dk_44 (dk_at dksX0_ways_0 20 rfl rfl)
theorem dX0_ways_21 : decode cX0_ways 21 = .ok (.getfield 114, 3) := dk_180 0 114 (dk_at dksX0_ways_0 21 rfl rfl)
theorem dX0_ways_24 : decode cX0_ways 24 = .ok (.ifCond .eq 11, 3) := dk_153 0 11 (dk_at dksX0_ways_1 0 rfl rfl)
theorem dX0_ways_27 : decode cX0_ways 27 = .ok (.bipush (-5), 2) := dk_16 251 (dk_at dksX0_ways_1 3 rfl rfl)
theorem dX0_ways_29 : decode cX0_ways 29 = .ok (.invokestatic 118, 3) := dk_184 0 118 (dk_at dksX0_ways_1 5 rfl rfl)
theorem dX0_ways_32 : decode cX0_ways 32 = .ok (.goto 9, 3) := dk_167 0 9 (dk_at dksX0_ways_1 8 rfl rfl)
theorem dX0_ways_35 : decode cX0_ways 35 = .ok (.aload_n 2, 1) := dk_44 (dk_at dksX0_ways_1 11 rfl rfl)
theorem dX0_ways_36 : decode cX0_ways 36 = .ok (.getfield 126, 3) := dk_180 0 126 (dk_at dksX0_ways_1 12 rfl rfl)
theorem dX0_ways_39 : decode cX0_ways 39 = .ok (.iload_n 1, 1) := dk_27 (dk_at dksX0_ways_1 15 rfl rfl)
theorem dX0_ways_40 : decode cX0_ways 40 = .ok (.laload, 1) := dk_47 (dk_at dksX0_ways_1 16 rfl rfl)
theorem dX0_ways_41 : decode cX0_ways 41 = .ok (.lreturn, 1) := dk_173 (dk_at dksX0_ways_1 17 rfl rfl)
abbrev cX0_chance : ByteArray := prog_1_method_19_code
def yX0_chance : MethodName := ⟨RX0, "chance", "()I"⟩
def dkwX0_chance_0 : List UInt8 := [42, 42, 180, 0, 19, 3, 50, 42, 180, 0, 19, 4, 50, 3, 182, 0, 134, 172]
abbrev dktX0_chance_0 : List UInt8 := dkwX0_chance_0 ++ []
theorem dksX0_chance_0 : cX0_chance.data.toList.drop 0 = dktX0_chance_0 := by decide +kernel
theorem dX0_chance_0 : decode cX0_chance 0 = .ok (.aload_n 0, 1) := dk_42 (dk_at dksX0_chance_0 0 rfl rfl)
theorem dX0_chance_1 : decode cX0_chance 1 = .ok (.aload_n 0, 1) := dk_42 (dk_at dksX0_chance_0 1 rfl rfl)
theorem dX0_chance_2 : decode cX0_chance 2 = .ok (.getfield 19, 3) := dk_180 0 19 (dk_at dksX0_chance_0 2 rfl rfl)
theorem dX0_chance_5 : decode cX0_chance 5 = .ok (.iconst 0, 1) := dk_3 (dk_at dksX0_chance_0 5 rfl rfl)
theorem dX0_chance_6 : decode cX0_chance 6 = .ok (.aaload, 1) := dk_50 (dk_at dksX0_chance_0 6 rfl rfl)
theorem dX0_chance_7 : decode cX0_chance 7 = .ok (.aload_n 0, 1) := dk_42 (dk_at dksX0_chance_0 7 rfl rfl)
theorem dX0_chance_8 : decode cX0_chance 8 = .ok (.getfield 19, 3) := dk_180 0 19 (dk_at dksX0_chance_0 8 rfl rfl)
theorem dX0_chance_11 : decode cX0_chance 11 = .ok (.iconst 1, 1) := dk_4 (dk_at dksX0_chance_0 11 rfl rfl)
theorem dX0_chance_12 : decode cX0_chance 12 = .ok (.aaload, 1) := dk_50 (dk_at dksX0_chance_0 12 rfl rfl)
theorem dX0_chance_13 : decode cX0_chance 13 = .ok (.iconst 0, 1) := dk_3 (dk_at dksX0_chance_0 13 rfl rfl)
theorem dX0_chance_14 : decode cX0_chance 14 = .ok (.invokevirtual 134, 3) := dk_182 0 134 (dk_at dksX0_chance_0 14 rfl rfl)
theorem dX0_chance_17 : decode cX0_chance 17 = .ok (.ireturn, 1) := dk_172 (dk_at dksX0_chance_0 17 rfl rfl)
abbrev cX0_chanceOf : ByteArray := prog_1_method_18_code
def yX0_chanceOf : MethodName := ⟨RX0, "chanceOf", "([I[II)I"⟩
def dkwX0_chanceOf_1 : List UInt8 := [180, 0, 114, 153, 0, 8, 16, 251, 167, 0, 8, 25, 4, 182, 0, 130, 172]
abbrev dktX0_chanceOf_1 : List UInt8 := dkwX0_chanceOf_1 ++ []
def dkwX0_chanceOf_0 : List UInt8 := [187, 0, 100, 89, 42, 187, 0, 102, 89, 42, 43, 44, 29, 183, 0, 104, 3, 183, 0, 107, 58, 4, 25, 4]
abbrev dktX0_chanceOf_0 : List UInt8 := dkwX0_chanceOf_0 ++ dktX0_chanceOf_1
theorem dksX0_chanceOf_0 : cX0_chanceOf.data.toList.drop 0 = dktX0_chanceOf_0 := by decide +kernel
theorem dksX0_chanceOf_1 : cX0_chanceOf.data.toList.drop 24 = dktX0_chanceOf_1 := dk_seg dksX0_chanceOf_0 24 rfl rfl
theorem dX0_chanceOf_0 : decode cX0_chanceOf 0 = .ok (.new 100, 3) := dk_187 0 100 (dk_at dksX0_chanceOf_0 0 rfl rfl)
theorem dX0_chanceOf_3 : decode cX0_chanceOf 3 = .ok (.dup, 1) := dk_89 (dk_at dksX0_chanceOf_0 3 rfl rfl)
theorem dX0_chanceOf_4 : decode cX0_chanceOf 4 = .ok (.aload_n 0, 1) := dk_42 (dk_at dksX0_chanceOf_0 4 rfl rfl)
theorem dX0_chanceOf_5 : decode cX0_chanceOf 5 = .ok (.new 102, 3) := dk_187 0 102 (dk_at dksX0_chanceOf_0 5 rfl rfl)
theorem dX0_chanceOf_8 : decode cX0_chanceOf 8 = .ok (.dup, 1) := dk_89 (dk_at dksX0_chanceOf_0 8 rfl rfl)
theorem dX0_chanceOf_9 : decode cX0_chanceOf 9 = .ok (.aload_n 0, 1) := dk_42 (dk_at dksX0_chanceOf_0 9 rfl rfl)
theorem dX0_chanceOf_10 : decode cX0_chanceOf 10 = .ok (.aload_n 1, 1) := dk_43 (dk_at dksX0_chanceOf_0 10 rfl rfl)
theorem dX0_chanceOf_11 : decode cX0_chanceOf 11 = .ok (.aload_n 2, 1) := dk_44 (dk_at dksX0_chanceOf_0 11 rfl rfl)
theorem dX0_chanceOf_12 : decode cX0_chanceOf 12 = .ok (.iload_n 3, 1) := dk_29 (dk_at dksX0_chanceOf_0 12 rfl rfl)
theorem dX0_chanceOf_13 : decode cX0_chanceOf 13 = .ok (.invokespecial 104, 3) := dk_183 0 104 (dk_at dksX0_chanceOf_0 13 rfl rfl)
theorem dX0_chanceOf_16 : decode cX0_chanceOf 16 = .ok (.iconst 0, 1) := dk_3 (dk_at dksX0_chanceOf_0 16 rfl rfl)
theorem dX0_chanceOf_17 : decode cX0_chanceOf 17 = .ok (.invokespecial 107, 3) := dk_183 0 107 (dk_at dksX0_chanceOf_0 17 rfl rfl)
theorem dX0_chanceOf_20 : decode cX0_chanceOf 20 = .ok (.astore 4, 2) := dk_58 4 (dk_at dksX0_chanceOf_0 20 rfl rfl)
theorem dX0_chanceOf_22 : decode cX0_chanceOf 22 = .ok (.aload 4, 2) := dk_25 4 (dk_at dksX0_chanceOf_0 22 rfl rfl)
theorem dX0_chanceOf_24 : decode cX0_chanceOf 24 = .ok (.getfield 114, 3) := dk_180 0 114 (dk_at dksX0_chanceOf_1 0 rfl rfl)
theorem dX0_chanceOf_27 : decode cX0_chanceOf 27 = .ok (.ifCond .eq 8, 3) := dk_153 0 8 (dk_at dksX0_chanceOf_1 3 rfl rfl)
theorem dX0_chanceOf_30 : decode cX0_chanceOf 30 = .ok (.bipush (-5), 2) := dk_16 251 (dk_at dksX0_chanceOf_1 6 rfl rfl)
theorem dX0_chanceOf_32 : decode cX0_chanceOf 32 = .ok (.goto 8, 3) := dk_167 0 8 (dk_at dksX0_chanceOf_1 8 rfl rfl)
theorem dX0_chanceOf_35 : decode cX0_chanceOf 35 = .ok (.aload 4, 2) := dk_25 4 (dk_at dksX0_chanceOf_1 11 rfl rfl)
theorem dX0_chanceOf_37 : decode cX0_chanceOf 37 = .ok (.invokevirtual 130, 3) := dk_182 0 130 (dk_at dksX0_chanceOf_1 13 rfl rfl)
theorem dX0_chanceOf_40 : decode cX0_chanceOf 40 = .ok (.ireturn, 1) := dk_172 (dk_at dksX0_chanceOf_1 16 rfl rfl)
abbrev cX0_left : ByteArray := prog_1_method_20_code
def yX0_left : MethodName := ⟨RX0, "left", "(IIII)J"⟩
def dkwX0_left_5 : List UInt8 := [42, 180, 0, 19, 3, 50, 184, 0, 93, 28, 96, 50, 5, 29, 104, 21, 4, 96, 47, 173]
abbrev dktX0_left_5 : List UInt8 := dkwX0_left_5 ++ []
def dkwX0_left_4 : List UInt8 := [153, 0, 11, 16, 251, 184, 0, 118, 167, 0, 35, 25, 5, 180, 0, 138, 27, 154, 0, 7, 3, 167, 0, 12]
abbrev dktX0_left_4 : List UInt8 := dkwX0_left_4 ++ dktX0_left_5
def dkwX0_left_3 : List UInt8 := [50, 42, 180, 0, 19, 4, 50, 3, 183, 0, 104, 4, 183, 0, 107, 58, 5, 25, 5, 180, 0, 114]
abbrev dktX0_left_3 : List UInt8 := dkwX0_left_3 ++ dktX0_left_4
def dkwX0_left_2 : List UInt8 := [154, 0, 9, 16, 254, 184, 0, 118, 173, 187, 0, 100, 89, 42, 187, 0, 102, 89, 42, 42, 180, 0, 19, 3]
abbrev dktX0_left_2 : List UInt8 := dkwX0_left_2 ++ dktX0_left_3
def dkwX0_left_1 : List UInt8 := [28, 46, 2, 159, 0, 23, 29, 3, 16, 20, 184, 0, 69, 153, 0, 13, 21, 4, 3, 4, 184, 0, 69]
abbrev dktX0_left_1 : List UInt8 := dkwX0_left_1 ++ dktX0_left_2
def dkwX0_left_0 : List UInt8 := [27, 3, 4, 184, 0, 69, 153, 0, 44, 28, 3, 5, 184, 0, 69, 153, 0, 35, 42, 180, 0, 19, 27, 50]
abbrev dktX0_left_0 : List UInt8 := dkwX0_left_0 ++ dktX0_left_1
theorem dksX0_left_0 : cX0_left.data.toList.drop 0 = dktX0_left_0 := by decide +kernel
theorem dksX0_left_1 : cX0_left.data.toList.drop 24 = dktX0_left_1 := dk_seg dksX0_left_0 24 rfl rfl
theorem dksX0_left_2 : cX0_left.data.toList.drop 47 = dktX0_left_2 := dk_seg dksX0_left_1 23 rfl rfl
theorem dksX0_left_3 : cX0_left.data.toList.drop 71 = dktX0_left_3 := dk_seg dksX0_left_2 24 rfl rfl
theorem dksX0_left_4 : cX0_left.data.toList.drop 93 = dktX0_left_4 := dk_seg dksX0_left_3 22 rfl rfl
theorem dksX0_left_5 : cX0_left.data.toList.drop 117 = dktX0_left_5 := dk_seg dksX0_left_4 24 rfl rfl
theorem dX0_left_0 : decode cX0_left 0 = .ok (.iload_n 1, 1) := dk_27 (dk_at dksX0_left_0 0 rfl rfl)
theorem dX0_left_1 : decode cX0_left 1 = .ok (.iconst 0, 1) := dk_3 (dk_at dksX0_left_0 1 rfl rfl)
theorem dX0_left_2 : decode cX0_left 2 = .ok (.iconst 1, 1) := dk_4 (dk_at dksX0_left_0 2 rfl rfl)
theorem dX0_left_3 : decode cX0_left 3 = .ok (.invokestatic 69, 3) := dk_184 0 69 (dk_at dksX0_left_0 3 rfl rfl)
theorem dX0_left_6 : decode cX0_left 6 = .ok (.ifCond .eq 44, 3) := dk_153 0 44 (dk_at dksX0_left_0 6 rfl rfl)
theorem dX0_left_9 : decode cX0_left 9 = .ok (.iload_n 2, 1) := dk_28 (dk_at dksX0_left_0 9 rfl rfl)
theorem dX0_left_10 : decode cX0_left 10 = .ok (.iconst 0, 1) := dk_3 (dk_at dksX0_left_0 10 rfl rfl)
theorem dX0_left_11 : decode cX0_left 11 = .ok (.iconst 2, 1) := dk_5 (dk_at dksX0_left_0 11 rfl rfl)
theorem dX0_left_12 : decode cX0_left 12 = .ok (.invokestatic 69, 3) := dk_184 0 69 (dk_at dksX0_left_0 12 rfl rfl)
theorem dX0_left_15 : decode cX0_left 15 = .ok (.ifCond .eq 35, 3) := dk_153 0 35 (dk_at dksX0_left_0 15 rfl rfl)
theorem dX0_left_18 : decode cX0_left 18 = .ok (.aload_n 0, 1) := dk_42 (dk_at dksX0_left_0 18 rfl rfl)
theorem dX0_left_19 : decode cX0_left 19 = .ok (.getfield 19, 3) := dk_180 0 19 (dk_at dksX0_left_0 19 rfl rfl)
theorem dX0_left_22 : decode cX0_left 22 = .ok (.iload_n 1, 1) := dk_27 (dk_at dksX0_left_0 22 rfl rfl)
theorem dX0_left_23 : decode cX0_left 23 = .ok (.aaload, 1) := dk_50 (dk_at dksX0_left_0 23 rfl rfl)
theorem dX0_left_24 : decode cX0_left 24 = .ok (.iload_n 2, 1) := dk_28 (dk_at dksX0_left_1 0 rfl rfl)
theorem dX0_left_25 : decode cX0_left 25 = .ok (.iaload, 1) := dk_46 (dk_at dksX0_left_1 1 rfl rfl)
theorem dX0_left_26 : decode cX0_left 26 = .ok (.iconst (-1), 1) := dk_2 (dk_at dksX0_left_1 2 rfl rfl)
theorem dX0_left_27 : decode cX0_left 27 = .ok (.if_icmp .eq 23, 3) := dk_159 0 23 (dk_at dksX0_left_1 3 rfl rfl)
theorem dX0_left_30 : decode cX0_left 30 = .ok (.iload_n 3, 1) := dk_29 (dk_at dksX0_left_1 6 rfl rfl)
theorem dX0_left_31 : decode cX0_left 31 = .ok (.iconst 0, 1) := dk_3 (dk_at dksX0_left_1 7 rfl rfl)
theorem dX0_left_32 : decode cX0_left 32 = .ok (.bipush 20, 2) := dk_16 20 (dk_at dksX0_left_1 8 rfl rfl)
theorem dX0_left_34 : decode cX0_left 34 = .ok (.invokestatic 69, 3) := dk_184 0 69 (dk_at dksX0_left_1 10 rfl rfl)
theorem dX0_left_37 : decode cX0_left 37 = .ok (.ifCond .eq 13, 3) := dk_153 0 13 (dk_at dksX0_left_1 13 rfl rfl)
theorem dX0_left_40 : decode cX0_left 40 = .ok (.iload 4, 2) := dk_21 4 (dk_at dksX0_left_1 16 rfl rfl)
theorem dX0_left_42 : decode cX0_left 42 = .ok (.iconst 0, 1) := dk_3 (dk_at dksX0_left_1 18 rfl rfl)
theorem dX0_left_43 : decode cX0_left 43 = .ok (.iconst 1, 1) := dk_4 (dk_at dksX0_left_1 19 rfl rfl)
theorem dX0_left_44 : decode cX0_left 44 = .ok (.invokestatic 69, 3) := dk_184 0 69 (dk_at dksX0_left_1 20 rfl rfl)
theorem dX0_left_47 : decode cX0_left 47 = .ok (.ifCond .ne 9, 3) := dk_154 0 9 (dk_at dksX0_left_2 0 rfl rfl)
theorem dX0_left_50 : decode cX0_left 50 = .ok (.bipush (-2), 2) := dk_16 254 (dk_at dksX0_left_2 3 rfl rfl)
theorem dX0_left_52 : decode cX0_left 52 = .ok (.invokestatic 118, 3) := dk_184 0 118 (dk_at dksX0_left_2 5 rfl rfl)
theorem dX0_left_55 : decode cX0_left 55 = .ok (.lreturn, 1) := dk_173 (dk_at dksX0_left_2 8 rfl rfl)
theorem dX0_left_56 : decode cX0_left 56 = .ok (.new 100, 3) := dk_187 0 100 (dk_at dksX0_left_2 9 rfl rfl)
theorem dX0_left_59 : decode cX0_left 59 = .ok (.dup, 1) := dk_89 (dk_at dksX0_left_2 12 rfl rfl)
theorem dX0_left_60 : decode cX0_left 60 = .ok (.aload_n 0, 1) := dk_42 (dk_at dksX0_left_2 13 rfl rfl)
theorem dX0_left_61 : decode cX0_left 61 = .ok (.new 102, 3) := dk_187 0 102 (dk_at dksX0_left_2 14 rfl rfl)
theorem dX0_left_64 : decode cX0_left 64 = .ok (.dup, 1) := dk_89 (dk_at dksX0_left_2 17 rfl rfl)
theorem dX0_left_65 : decode cX0_left 65 = .ok (.aload_n 0, 1) := dk_42 (dk_at dksX0_left_2 18 rfl rfl)
theorem dX0_left_66 : decode cX0_left 66 = .ok (.aload_n 0, 1) := dk_42 (dk_at dksX0_left_2 19 rfl rfl)
theorem dX0_left_67 : decode cX0_left 67 = .ok (.getfield 19, 3) := dk_180 0 19 (dk_at dksX0_left_2 20 rfl rfl)
theorem dX0_left_70 : decode cX0_left 70 = .ok (.iconst 0, 1) := dk_3 (dk_at dksX0_left_2 23 rfl rfl)
theorem dX0_left_71 : decode cX0_left 71 = .ok (.aaload, 1) := dk_50 (dk_at dksX0_left_3 0 rfl rfl)
theorem dX0_left_72 : decode cX0_left 72 = .ok (.aload_n 0, 1) := dk_42 (dk_at dksX0_left_3 1 rfl rfl)
theorem dX0_left_73 : decode cX0_left 73 = .ok (.getfield 19, 3) := dk_180 0 19 (dk_at dksX0_left_3 2 rfl rfl)
theorem dX0_left_76 : decode cX0_left 76 = .ok (.iconst 1, 1) := dk_4 (dk_at dksX0_left_3 5 rfl rfl)
theorem dX0_left_77 : decode cX0_left 77 = .ok (.aaload, 1) := dk_50 (dk_at dksX0_left_3 6 rfl rfl)
theorem dX0_left_78 : decode cX0_left 78 = .ok (.iconst 0, 1) := dk_3 (dk_at dksX0_left_3 7 rfl rfl)
theorem dX0_left_79 : decode cX0_left 79 = .ok (.invokespecial 104, 3) := dk_183 0 104 (dk_at dksX0_left_3 8 rfl rfl)
theorem dX0_left_82 : decode cX0_left 82 = .ok (.iconst 1, 1) := dk_4 (dk_at dksX0_left_3 11 rfl rfl)
theorem dX0_left_83 : decode cX0_left 83 = .ok (.invokespecial 107, 3) := dk_183 0 107 (dk_at dksX0_left_3 12 rfl rfl)
theorem dX0_left_86 : decode cX0_left 86 = .ok (.astore 5, 2) := dk_58 5 (dk_at dksX0_left_3 15 rfl rfl)
theorem dX0_left_88 : decode cX0_left 88 = .ok (.aload 5, 2) := dk_25 5 (dk_at dksX0_left_3 17 rfl rfl)
theorem dX0_left_90 : decode cX0_left 90 = .ok (.getfield 114, 3) := dk_180 0 114 (dk_at dksX0_left_3 19 rfl rfl)
theorem dX0_left_93 : decode cX0_left 93 = .ok (.ifCond .eq 11, 3) := dk_153 0 11 (dk_at dksX0_left_4 0 rfl rfl)
theorem dX0_left_96 : decode cX0_left 96 = .ok (.bipush (-5), 2) := dk_16 251 (dk_at dksX0_left_4 3 rfl rfl)
theorem dX0_left_98 : decode cX0_left 98 = .ok (.invokestatic 118, 3) := dk_184 0 118 (dk_at dksX0_left_4 5 rfl rfl)
theorem dX0_left_101 : decode cX0_left 101 = .ok (.goto 35, 3) := dk_167 0 35 (dk_at dksX0_left_4 8 rfl rfl)
theorem dX0_left_104 : decode cX0_left 104 = .ok (.aload 5, 2) := dk_25 5 (dk_at dksX0_left_4 11 rfl rfl)
theorem dX0_left_106 : decode cX0_left 106 = .ok (.getfield 138, 3) := dk_180 0 138 (dk_at dksX0_left_4 13 rfl rfl)
theorem dX0_left_109 : decode cX0_left 109 = .ok (.iload_n 1, 1) := dk_27 (dk_at dksX0_left_4 16 rfl rfl)
theorem dX0_left_110 : decode cX0_left 110 = .ok (.ifCond .ne 7, 3) := dk_154 0 7 (dk_at dksX0_left_4 17 rfl rfl)
theorem dX0_left_113 : decode cX0_left 113 = .ok (.iconst 0, 1) := dk_3 (dk_at dksX0_left_4 20 rfl rfl)
theorem dX0_left_114 : decode cX0_left 114 = .ok (.goto 12, 3) := dk_167 0 12 (dk_at dksX0_left_4 21 rfl rfl)
theorem dX0_left_117 : decode cX0_left 117 = .ok (.aload_n 0, 1) := dk_42 (dk_at dksX0_left_5 0 rfl rfl)
theorem dX0_left_118 : decode cX0_left 118 = .ok (.getfield 19, 3) := dk_180 0 19 (dk_at dksX0_left_5 1 rfl rfl)
theorem dX0_left_121 : decode cX0_left 121 = .ok (.iconst 0, 1) := dk_3 (dk_at dksX0_left_5 4 rfl rfl)
theorem dX0_left_122 : decode cX0_left 122 = .ok (.aaload, 1) := dk_50 (dk_at dksX0_left_5 5 rfl rfl)
theorem dX0_left_123 : decode cX0_left 123 = .ok (.invokestatic 93, 3) := dk_184 0 93 (dk_at dksX0_left_5 6 rfl rfl)
theorem dX0_left_126 : decode cX0_left 126 = .ok (.iload_n 2, 1) := dk_28 (dk_at dksX0_left_5 9 rfl rfl)
theorem dX0_left_127 : decode cX0_left 127 = .ok (.iadd, 1) := dk_96 (dk_at dksX0_left_5 10 rfl rfl)
theorem dX0_left_128 : decode cX0_left 128 = .ok (.aaload, 1) := dk_50 (dk_at dksX0_left_5 11 rfl rfl)
theorem dX0_left_129 : decode cX0_left 129 = .ok (.iconst 2, 1) := dk_5 (dk_at dksX0_left_5 12 rfl rfl)
theorem dX0_left_130 : decode cX0_left 130 = .ok (.iload_n 3, 1) := dk_29 (dk_at dksX0_left_5 13 rfl rfl)
theorem dX0_left_131 : decode cX0_left 131 = .ok (.imul, 1) := dk_104 (dk_at dksX0_left_5 14 rfl rfl)
theorem dX0_left_132 : decode cX0_left 132 = .ok (.iload 4, 2) := dk_21 4 (dk_at dksX0_left_5 15 rfl rfl)
theorem dX0_left_134 : decode cX0_left 134 = .ok (.iadd, 1) := dk_96 (dk_at dksX0_left_5 17 rfl rfl)
theorem dX0_left_135 : decode cX0_left 135 = .ok (.laload, 1) := dk_47 (dk_at dksX0_left_5 18 rfl rfl)
theorem dX0_left_136 : decode cX0_left 136 = .ok (.lreturn, 1) := dk_173 (dk_at dksX0_left_5 19 rfl rfl)
abbrev cX0_states : ByteArray := prog_1_method_21_code
def yX0_states : MethodName := ⟨RX0, "states", "()I"⟩
def dkwX0_states_0 : List UInt8 := [42, 182, 0, 110, 76, 43, 180, 0, 114, 153, 0, 8, 16, 251, 167, 0, 7, 43, 180, 0, 142, 172]
abbrev dktX0_states_0 : List UInt8 := dkwX0_states_0 ++ []
theorem dksX0_states_0 : cX0_states.data.toList.drop 0 = dktX0_states_0 := by decide +kernel
theorem dX0_states_0 : decode cX0_states 0 = .ok (.aload_n 0, 1) := dk_42 (dk_at dksX0_states_0 0 rfl rfl)
theorem dX0_states_1 : decode cX0_states 1 = .ok (.invokevirtual 110, 3) := dk_182 0 110 (dk_at dksX0_states_0 1 rfl rfl)
theorem dX0_states_4 : decode cX0_states 4 = .ok (.astore_n 1, 1) := dk_76 (dk_at dksX0_states_0 4 rfl rfl)
theorem dX0_states_5 : decode cX0_states 5 = .ok (.aload_n 1, 1) := dk_43 (dk_at dksX0_states_0 5 rfl rfl)
theorem dX0_states_6 : decode cX0_states 6 = .ok (.getfield 114, 3) := dk_180 0 114 (dk_at dksX0_states_0 6 rfl rfl)
theorem dX0_states_9 : decode cX0_states 9 = .ok (.ifCond .eq 8, 3) := dk_153 0 8 (dk_at dksX0_states_0 9 rfl rfl)
theorem dX0_states_12 : decode cX0_states 12 = .ok (.bipush (-5), 2) := dk_16 251 (dk_at dksX0_states_0 12 rfl rfl)
theorem dX0_states_14 : decode cX0_states 14 = .ok (.goto 7, 3) := dk_167 0 7 (dk_at dksX0_states_0 14 rfl rfl)
theorem dX0_states_17 : decode cX0_states 17 = .ok (.aload_n 1, 1) := dk_43 (dk_at dksX0_states_0 17 rfl rfl)
theorem dX0_states_18 : decode cX0_states 18 = .ok (.getfield 142, 3) := dk_180 0 142 (dk_at dksX0_states_0 18 rfl rfl)
theorem dX0_states_21 : decode cX0_states 21 = .ok (.ireturn, 1) := dk_172 (dk_at dksX0_states_0 21 rfl rfl)
abbrev cX0_ends : ByteArray := prog_1_method_22_code
def yX0_ends : MethodName := ⟨RX0, "ends", "(I)J"⟩
def dkwX0_ends_1 : List UInt8 := [180, 0, 114, 153, 0, 11, 16, 251, 184, 0, 118, 167, 0, 9, 44, 180, 0, 145, 27, 47, 173]
abbrev dktX0_ends_1 : List UInt8 := dkwX0_ends_1 ++ []
def dkwX0_ends_0 : List UInt8 := [27, 3, 42, 180, 0, 23, 184, 0, 69, 154, 0, 9, 16, 254, 184, 0, 118, 173, 42, 182, 0, 110, 77, 44]
abbrev dktX0_ends_0 : List UInt8 := dkwX0_ends_0 ++ dktX0_ends_1
theorem dksX0_ends_0 : cX0_ends.data.toList.drop 0 = dktX0_ends_0 := by decide +kernel
theorem dksX0_ends_1 : cX0_ends.data.toList.drop 24 = dktX0_ends_1 := dk_seg dksX0_ends_0 24 rfl rfl
theorem dX0_ends_0 : decode cX0_ends 0 = .ok (.iload_n 1, 1) := dk_27 (dk_at dksX0_ends_0 0 rfl rfl)
theorem dX0_ends_1 : decode cX0_ends 1 = .ok (.iconst 0, 1) := dk_3 (dk_at dksX0_ends_0 1 rfl rfl)
theorem dX0_ends_2 : decode cX0_ends 2 = .ok (.aload_n 0, 1) := dk_42 (dk_at dksX0_ends_0 2 rfl rfl)
theorem dX0_ends_3 : decode cX0_ends 3 = .ok (.getfield 23, 3) := dk_180 0 23 (dk_at dksX0_ends_0 3 rfl rfl)
theorem dX0_ends_6 : decode cX0_ends 6 = .ok (.invokestatic 69, 3) := dk_184 0 69 (dk_at dksX0_ends_0 6 rfl rfl)
theorem dX0_ends_9 : decode cX0_ends 9 = .ok (.ifCond .ne 9, 3) := dk_154 0 9 (dk_at dksX0_ends_0 9 rfl rfl)
theorem dX0_ends_12 : decode cX0_ends 12 = .ok (.bipush (-2), 2) := dk_16 254 (dk_at dksX0_ends_0 12 rfl rfl)
theorem dX0_ends_14 : decode cX0_ends 14 = .ok (.invokestatic 118, 3) := dk_184 0 118 (dk_at dksX0_ends_0 14 rfl rfl)
theorem dX0_ends_17 : decode cX0_ends 17 = .ok (.lreturn, 1) := dk_173 (dk_at dksX0_ends_0 17 rfl rfl)
theorem dX0_ends_18 : decode cX0_ends 18 = .ok (.aload_n 0, 1) := dk_42 (dk_at dksX0_ends_0 18 rfl rfl)
theorem dX0_ends_19 : decode cX0_ends 19 = .ok (.invokevirtual 110, 3) := dk_182 0 110 (dk_at dksX0_ends_0 19 rfl rfl)
theorem dX0_ends_22 : decode cX0_ends 22 = .ok (.astore_n 2, 1) := dk_77 (dk_at dksX0_ends_0 22 rfl rfl)
theorem dX0_ends_23 : decode cX0_ends 23 = .ok (.aload_n 2, 1) := dk_44 (dk_at dksX0_ends_0 23 rfl rfl)
theorem dX0_ends_24 : decode cX0_ends 24 = .ok (.getfield 114, 3) := dk_180 0 114 (dk_at dksX0_ends_1 0 rfl rfl)
theorem dX0_ends_27 : decode cX0_ends 27 = .ok (.ifCond .eq 11, 3) := dk_153 0 11 (dk_at dksX0_ends_1 3 rfl rfl)
theorem dX0_ends_30 : decode cX0_ends 30 = .ok (.bipush (-5), 2) := dk_16 251 (dk_at dksX0_ends_1 6 rfl rfl)
theorem dX0_ends_32 : decode cX0_ends 32 = .ok (.invokestatic 118, 3) := dk_184 0 118 (dk_at dksX0_ends_1 8 rfl rfl)
theorem dX0_ends_35 : decode cX0_ends 35 = .ok (.goto 9, 3) := dk_167 0 9 (dk_at dksX0_ends_1 11 rfl rfl)
theorem dX0_ends_38 : decode cX0_ends 38 = .ok (.aload_n 2, 1) := dk_44 (dk_at dksX0_ends_1 14 rfl rfl)
theorem dX0_ends_39 : decode cX0_ends 39 = .ok (.getfield 145, 3) := dk_180 0 145 (dk_at dksX0_ends_1 15 rfl rfl)
theorem dX0_ends_42 : decode cX0_ends 42 = .ok (.iload_n 1, 1) := dk_27 (dk_at dksX0_ends_1 18 rfl rfl)
theorem dX0_ends_43 : decode cX0_ends 43 = .ok (.laload, 1) := dk_47 (dk_at dksX0_ends_1 19 rfl rfl)
theorem dX0_ends_44 : decode cX0_ends 44 = .ok (.lreturn, 1) := dk_173 (dk_at dksX0_ends_1 20 rfl rfl)
abbrev cX0_better : ByteArray := prog_1_method_23_code
def yX0_better : MethodName := ⟨RX0, "better", "(II)I"⟩
def dkwX0_better_5 : List UInt8 := [160, 0, 8, 18, 150, 167, 0, 7, 21, 4, 29, 100, 172]
abbrev dktX0_better_5 : List UInt8 := dkwX0_better_5 ++ []
def dkwX0_better_4 : List UInt8 := [50, 180, 0, 87, 28, 92, 46, 4, 100, 79, 25, 5, 191, 29, 16, 251, 159, 0, 10, 21, 4, 16, 251]
abbrev dktX0_better_4 : List UInt8 := dkwX0_better_4 ++ dktX0_better_5
def dkwX0_better_3 : List UInt8 := [180, 0, 13, 27, 50, 180, 0, 87, 28, 92, 46, 4, 100, 79, 167, 0, 23, 58, 5, 42, 180, 0, 13, 27]
abbrev dktX0_better_3 : List UInt8 := dkwX0_better_3 ++ dktX0_better_4
def dkwX0_better_2 : List UInt8 := [180, 0, 13, 27, 50, 180, 0, 87, 28, 92, 46, 4, 96, 79, 3, 54, 4, 42, 182, 0, 149, 54, 4, 42]
abbrev dktX0_better_2 : List UInt8 := dkwX0_better_2 ++ dktX0_better_3
def dkwX0_better_1 : List UInt8 := [180, 0, 87, 28, 46, 4, 96, 184, 0, 76, 154, 0, 6, 18, 148, 172, 42, 182, 0, 149, 62, 42]
abbrev dktX0_better_1 : List UInt8 := dkwX0_better_1 ++ dktX0_better_2
def dkwX0_better_0 : List UInt8 := [42, 27, 182, 0, 83, 153, 0, 32, 28, 4, 8, 184, 0, 69, 153, 0, 23, 28, 42, 180, 0, 13, 27, 50]
abbrev dktX0_better_0 : List UInt8 := dkwX0_better_0 ++ dktX0_better_1
theorem dksX0_better_0 : cX0_better.data.toList.drop 0 = dktX0_better_0 := by decide +kernel
theorem dksX0_better_1 : cX0_better.data.toList.drop 24 = dktX0_better_1 := dk_seg dksX0_better_0 24 rfl rfl
theorem dksX0_better_2 : cX0_better.data.toList.drop 46 = dktX0_better_2 := dk_seg dksX0_better_1 22 rfl rfl
theorem dksX0_better_3 : cX0_better.data.toList.drop 70 = dktX0_better_3 := dk_seg dksX0_better_2 24 rfl rfl
theorem dksX0_better_4 : cX0_better.data.toList.drop 94 = dktX0_better_4 := dk_seg dksX0_better_3 24 rfl rfl
theorem dksX0_better_5 : cX0_better.data.toList.drop 117 = dktX0_better_5 := dk_seg dksX0_better_4 23 rfl rfl
theorem dX0_better_0 : decode cX0_better 0 = .ok (.aload_n 0, 1) := dk_42 (dk_at dksX0_better_0 0 rfl rfl)
theorem dX0_better_1 : decode cX0_better 1 = .ok (.iload_n 1, 1) := dk_27 (dk_at dksX0_better_0 1 rfl rfl)
theorem dX0_better_2 : decode cX0_better 2 = .ok (.invokevirtual 83, 3) := dk_182 0 83 (dk_at dksX0_better_0 2 rfl rfl)
theorem dX0_better_5 : decode cX0_better 5 = .ok (.ifCond .eq 32, 3) := dk_153 0 32 (dk_at dksX0_better_0 5 rfl rfl)
theorem dX0_better_8 : decode cX0_better 8 = .ok (.iload_n 2, 1) := dk_28 (dk_at dksX0_better_0 8 rfl rfl)
theorem dX0_better_9 : decode cX0_better 9 = .ok (.iconst 1, 1) := dk_4 (dk_at dksX0_better_0 9 rfl rfl)
theorem dX0_better_10 : decode cX0_better 10 = .ok (.iconst 5, 1) := dk_8 (dk_at dksX0_better_0 10 rfl rfl)
theorem dX0_better_11 : decode cX0_better 11 = .ok (.invokestatic 69, 3) := dk_184 0 69 (dk_at dksX0_better_0 11 rfl rfl)
theorem dX0_better_14 : decode cX0_better 14 = .ok (.ifCond .eq 23, 3) := dk_153 0 23 (dk_at dksX0_better_0 14 rfl rfl)
theorem dX0_better_17 : decode cX0_better 17 = .ok (.iload_n 2, 1) := dk_28 (dk_at dksX0_better_0 17 rfl rfl)
theorem dX0_better_18 : decode cX0_better 18 = .ok (.aload_n 0, 1) := dk_42 (dk_at dksX0_better_0 18 rfl rfl)
theorem dX0_better_19 : decode cX0_better 19 = .ok (.getfield 13, 3) := dk_180 0 13 (dk_at dksX0_better_0 19 rfl rfl)
theorem dX0_better_22 : decode cX0_better 22 = .ok (.iload_n 1, 1) := dk_27 (dk_at dksX0_better_0 22 rfl rfl)
theorem dX0_better_23 : decode cX0_better 23 = .ok (.aaload, 1) := dk_50 (dk_at dksX0_better_0 23 rfl rfl)
theorem dX0_better_24 : decode cX0_better 24 = .ok (.getfield 87, 3) := dk_180 0 87 (dk_at dksX0_better_1 0 rfl rfl)
theorem dX0_better_27 : decode cX0_better 27 = .ok (.iload_n 2, 1) := dk_28 (dk_at dksX0_better_1 3 rfl rfl)
theorem dX0_better_28 : decode cX0_better 28 = .ok (.iaload, 1) := dk_46 (dk_at dksX0_better_1 4 rfl rfl)
theorem dX0_better_29 : decode cX0_better 29 = .ok (.iconst 1, 1) := dk_4 (dk_at dksX0_better_1 5 rfl rfl)
theorem dX0_better_30 : decode cX0_better 30 = .ok (.iadd, 1) := dk_96 (dk_at dksX0_better_1 6 rfl rfl)
theorem dX0_better_31 : decode cX0_better 31 = .ok (.invokestatic 76, 3) := dk_184 0 76 (dk_at dksX0_better_1 7 rfl rfl)
theorem dX0_better_34 : decode cX0_better 34 = .ok (.ifCond .ne 6, 3) := dk_154 0 6 (dk_at dksX0_better_1 10 rfl rfl)
theorem dX0_better_37 : decode cX0_better 37 = .ok (.ldc 148, 2) := dk_18 148 (dk_at dksX0_better_1 13 rfl rfl)
theorem dX0_better_39 : decode cX0_better 39 = .ok (.ireturn, 1) := dk_172 (dk_at dksX0_better_1 15 rfl rfl)
theorem dX0_better_40 : decode cX0_better 40 = .ok (.aload_n 0, 1) := dk_42 (dk_at dksX0_better_1 16 rfl rfl)
theorem dX0_better_41 : decode cX0_better 41 = .ok (.invokevirtual 149, 3) := dk_182 0 149 (dk_at dksX0_better_1 17 rfl rfl)
theorem dX0_better_44 : decode cX0_better 44 = .ok (.istore_n 3, 1) := dk_62 (dk_at dksX0_better_1 20 rfl rfl)
theorem dX0_better_45 : decode cX0_better 45 = .ok (.aload_n 0, 1) := dk_42 (dk_at dksX0_better_1 21 rfl rfl)
theorem dX0_better_46 : decode cX0_better 46 = .ok (.getfield 13, 3) := dk_180 0 13 (dk_at dksX0_better_2 0 rfl rfl)
theorem dX0_better_49 : decode cX0_better 49 = .ok (.iload_n 1, 1) := dk_27 (dk_at dksX0_better_2 3 rfl rfl)
theorem dX0_better_50 : decode cX0_better 50 = .ok (.aaload, 1) := dk_50 (dk_at dksX0_better_2 4 rfl rfl)
theorem dX0_better_51 : decode cX0_better 51 = .ok (.getfield 87, 3) := dk_180 0 87 (dk_at dksX0_better_2 5 rfl rfl)
theorem dX0_better_54 : decode cX0_better 54 = .ok (.iload_n 2, 1) := dk_28 (dk_at dksX0_better_2 8 rfl rfl)
theorem dX0_better_55 : decode cX0_better 55 = .ok (.dup2, 1) := dk_92 (dk_at dksX0_better_2 9 rfl rfl)
theorem dX0_better_56 : decode cX0_better 56 = .ok (.iaload, 1) := dk_46 (dk_at dksX0_better_2 10 rfl rfl)
theorem dX0_better_57 : decode cX0_better 57 = .ok (.iconst 1, 1) := dk_4 (dk_at dksX0_better_2 11 rfl rfl)
theorem dX0_better_58 : decode cX0_better 58 = .ok (.iadd, 1) := dk_96 (dk_at dksX0_better_2 12 rfl rfl)
theorem dX0_better_59 : decode cX0_better 59 = .ok (.iastore, 1) := dk_79 (dk_at dksX0_better_2 13 rfl rfl)
theorem dX0_better_60 : decode cX0_better 60 = .ok (.iconst 0, 1) := dk_3 (dk_at dksX0_better_2 14 rfl rfl)
theorem dX0_better_61 : decode cX0_better 61 = .ok (.istore 4, 2) := dk_54 4 (dk_at dksX0_better_2 15 rfl rfl)
theorem dX0_better_63 : decode cX0_better 63 = .ok (.aload_n 0, 1) := dk_42 (dk_at dksX0_better_2 17 rfl rfl)
theorem dX0_better_64 : decode cX0_better 64 = .ok (.invokevirtual 149, 3) := dk_182 0 149 (dk_at dksX0_better_2 18 rfl rfl)
theorem dX0_better_67 : decode cX0_better 67 = .ok (.istore 4, 2) := dk_54 4 (dk_at dksX0_better_2 21 rfl rfl)
theorem dX0_better_69 : decode cX0_better 69 = .ok (.aload_n 0, 1) := dk_42 (dk_at dksX0_better_2 23 rfl rfl)
theorem dX0_better_70 : decode cX0_better 70 = .ok (.getfield 13, 3) := dk_180 0 13 (dk_at dksX0_better_3 0 rfl rfl)
theorem dX0_better_73 : decode cX0_better 73 = .ok (.iload_n 1, 1) := dk_27 (dk_at dksX0_better_3 3 rfl rfl)
theorem dX0_better_74 : decode cX0_better 74 = .ok (.aaload, 1) := dk_50 (dk_at dksX0_better_3 4 rfl rfl)
theorem dX0_better_75 : decode cX0_better 75 = .ok (.getfield 87, 3) := dk_180 0 87 (dk_at dksX0_better_3 5 rfl rfl)
theorem dX0_better_78 : decode cX0_better 78 = .ok (.iload_n 2, 1) := dk_28 (dk_at dksX0_better_3 8 rfl rfl)
theorem dX0_better_79 : decode cX0_better 79 = .ok (.dup2, 1) := dk_92 (dk_at dksX0_better_3 9 rfl rfl)
theorem dX0_better_80 : decode cX0_better 80 = .ok (.iaload, 1) := dk_46 (dk_at dksX0_better_3 10 rfl rfl)
theorem dX0_better_81 : decode cX0_better 81 = .ok (.iconst 1, 1) := dk_4 (dk_at dksX0_better_3 11 rfl rfl)
theorem dX0_better_82 : decode cX0_better 82 = .ok (.isub, 1) := dk_100 (dk_at dksX0_better_3 12 rfl rfl)
theorem dX0_better_83 : decode cX0_better 83 = .ok (.iastore, 1) := dk_79 (dk_at dksX0_better_3 13 rfl rfl)
theorem dX0_better_84 : decode cX0_better 84 = .ok (.goto 23, 3) := dk_167 0 23 (dk_at dksX0_better_3 14 rfl rfl)
theorem dX0_better_87 : decode cX0_better 87 = .ok (.astore 5, 2) := dk_58 5 (dk_at dksX0_better_3 17 rfl rfl)
theorem dX0_better_89 : decode cX0_better 89 = .ok (.aload_n 0, 1) := dk_42 (dk_at dksX0_better_3 19 rfl rfl)
theorem dX0_better_90 : decode cX0_better 90 = .ok (.getfield 13, 3) := dk_180 0 13 (dk_at dksX0_better_3 20 rfl rfl)
theorem dX0_better_93 : decode cX0_better 93 = .ok (.iload_n 1, 1) := dk_27 (dk_at dksX0_better_3 23 rfl rfl)
theorem dX0_better_94 : decode cX0_better 94 = .ok (.aaload, 1) := dk_50 (dk_at dksX0_better_4 0 rfl rfl)
theorem dX0_better_95 : decode cX0_better 95 = .ok (.getfield 87, 3) := dk_180 0 87 (dk_at dksX0_better_4 1 rfl rfl)
theorem dX0_better_98 : decode cX0_better 98 = .ok (.iload_n 2, 1) := dk_28 (dk_at dksX0_better_4 4 rfl rfl)
theorem dX0_better_99 : decode cX0_better 99 = .ok (.dup2, 1) := dk_92 (dk_at dksX0_better_4 5 rfl rfl)
theorem dX0_better_100 : decode cX0_better 100 = .ok (.iaload, 1) := dk_46 (dk_at dksX0_better_4 6 rfl rfl)
theorem dX0_better_101 : decode cX0_better 101 = .ok (.iconst 1, 1) := dk_4 (dk_at dksX0_better_4 7 rfl rfl)
theorem dX0_better_102 : decode cX0_better 102 = .ok (.isub, 1) := dk_100 (dk_at dksX0_better_4 8 rfl rfl)
theorem dX0_better_103 : decode cX0_better 103 = .ok (.iastore, 1) := dk_79 (dk_at dksX0_better_4 9 rfl rfl)
theorem dX0_better_104 : decode cX0_better 104 = .ok (.aload 5, 2) := dk_25 5 (dk_at dksX0_better_4 10 rfl rfl)
theorem dX0_better_106 : decode cX0_better 106 = .ok (.athrow, 1) := dk_191 (dk_at dksX0_better_4 12 rfl rfl)
theorem dX0_better_107 : decode cX0_better 107 = .ok (.iload_n 3, 1) := dk_29 (dk_at dksX0_better_4 13 rfl rfl)
theorem dX0_better_108 : decode cX0_better 108 = .ok (.bipush (-5), 2) := dk_16 251 (dk_at dksX0_better_4 14 rfl rfl)
theorem dX0_better_110 : decode cX0_better 110 = .ok (.if_icmp .eq 10, 3) := dk_159 0 10 (dk_at dksX0_better_4 16 rfl rfl)
theorem dX0_better_113 : decode cX0_better 113 = .ok (.iload 4, 2) := dk_21 4 (dk_at dksX0_better_4 19 rfl rfl)
theorem dX0_better_115 : decode cX0_better 115 = .ok (.bipush (-5), 2) := dk_16 251 (dk_at dksX0_better_4 21 rfl rfl)
theorem dX0_better_117 : decode cX0_better 117 = .ok (.if_icmp .ne 8, 3) := dk_160 0 8 (dk_at dksX0_better_5 0 rfl rfl)
theorem dX0_better_120 : decode cX0_better 120 = .ok (.ldc 150, 2) := dk_18 150 (dk_at dksX0_better_5 3 rfl rfl)
theorem dX0_better_122 : decode cX0_better 122 = .ok (.goto 7, 3) := dk_167 0 7 (dk_at dksX0_better_5 5 rfl rfl)
theorem dX0_better_125 : decode cX0_better 125 = .ok (.iload 4, 2) := dk_21 4 (dk_at dksX0_better_5 8 rfl rfl)
theorem dX0_better_127 : decode cX0_better 127 = .ok (.iload_n 3, 1) := dk_29 (dk_at dksX0_better_5 10 rfl rfl)
theorem dX0_better_128 : decode cX0_better 128 = .ok (.isub, 1) := dk_100 (dk_at dksX0_better_5 11 rfl rfl)
theorem dX0_better_129 : decode cX0_better 129 = .ok (.ireturn, 1) := dk_172 (dk_at dksX0_better_5 12 rfl rfl)
abbrev cX0_without : ByteArray := prog_1_method_24_code
def yX0_without : MethodName := ⟨RX0, "without", "(I)I"⟩
def dkwX0_without_3 : List UInt8 := [180, 0, 19, 4, 50, 3, 182, 0, 134, 172]
abbrev dktX0_without_3 : List UInt8 := dkwX0_without_3 ++ []
def dkwX0_without_2 : List UInt8 := [27, 184, 0, 151, 42, 180, 0, 19, 3, 50, 27, 4, 96, 44, 27, 5, 27, 100, 184, 0, 151, 42, 44, 42]
abbrev dktX0_without_2 : List UInt8 := dkwX0_without_2 ++ dktX0_without_3
def dkwX0_without_1 : List UInt8 := [188, 10, 89, 3, 2, 79, 89, 4, 2, 79, 89, 5, 2, 79, 77, 42, 180, 0, 19, 3, 50, 3, 44, 3]
abbrev dktX0_without_1 : List UInt8 := dkwX0_without_1 ++ dktX0_without_2
def dkwX0_without_0 : List UInt8 := [27, 3, 42, 180, 0, 19, 3, 50, 184, 0, 93, 4, 100, 184, 0, 69, 154, 0, 6, 16, 254, 172, 6]
abbrev dktX0_without_0 : List UInt8 := dkwX0_without_0 ++ dktX0_without_1
theorem dksX0_without_0 : cX0_without.data.toList.drop 0 = dktX0_without_0 := by decide +kernel
theorem dksX0_without_1 : cX0_without.data.toList.drop 23 = dktX0_without_1 := dk_seg dksX0_without_0 23 rfl rfl
theorem dksX0_without_2 : cX0_without.data.toList.drop 47 = dktX0_without_2 := dk_seg dksX0_without_1 24 rfl rfl
theorem dksX0_without_3 : cX0_without.data.toList.drop 71 = dktX0_without_3 := dk_seg dksX0_without_2 24 rfl rfl
theorem dX0_without_0 : decode cX0_without 0 = .ok (.iload_n 1, 1) := dk_27 (dk_at dksX0_without_0 0 rfl rfl)
theorem dX0_without_1 : decode cX0_without 1 = .ok (.iconst 0, 1) := dk_3 (dk_at dksX0_without_0 1 rfl rfl)
theorem dX0_without_2 : decode cX0_without 2 = .ok (.aload_n 0, 1) := dk_42 (dk_at dksX0_without_0 2 rfl rfl)
theorem dX0_without_3 : decode cX0_without 3 = .ok (.getfield 19, 3) := dk_180 0 19 (dk_at dksX0_without_0 3 rfl rfl)
theorem dX0_without_6 : decode cX0_without 6 = .ok (.iconst 0, 1) := dk_3 (dk_at dksX0_without_0 6 rfl rfl)
theorem dX0_without_7 : decode cX0_without 7 = .ok (.aaload, 1) := dk_50 (dk_at dksX0_without_0 7 rfl rfl)
theorem dX0_without_8 : decode cX0_without 8 = .ok (.invokestatic 93, 3) := dk_184 0 93 (dk_at dksX0_without_0 8 rfl rfl)
theorem dX0_without_11 : decode cX0_without 11 = .ok (.iconst 1, 1) := dk_4 (dk_at dksX0_without_0 11 rfl rfl)
theorem dX0_without_12 : decode cX0_without 12 = .ok (.isub, 1) := dk_100 (dk_at dksX0_without_0 12 rfl rfl)
theorem dX0_without_13 : decode cX0_without 13 = .ok (.invokestatic 69, 3) := dk_184 0 69 (dk_at dksX0_without_0 13 rfl rfl)
theorem dX0_without_16 : decode cX0_without 16 = .ok (.ifCond .ne 6, 3) := dk_154 0 6 (dk_at dksX0_without_0 16 rfl rfl)
theorem dX0_without_19 : decode cX0_without 19 = .ok (.bipush (-2), 2) := dk_16 254 (dk_at dksX0_without_0 19 rfl rfl)
theorem dX0_without_21 : decode cX0_without 21 = .ok (.ireturn, 1) := dk_172 (dk_at dksX0_without_0 21 rfl rfl)
theorem dX0_without_22 : decode cX0_without 22 = .ok (.iconst 3, 1) := dk_6 (dk_at dksX0_without_0 22 rfl rfl)
theorem dX0_without_23 : decode cX0_without 23 = .ok (.newarray .int, 2) := dk_188_10 (dk_at dksX0_without_1 0 rfl rfl)
theorem dX0_without_25 : decode cX0_without 25 = .ok (.dup, 1) := dk_89 (dk_at dksX0_without_1 2 rfl rfl)
theorem dX0_without_26 : decode cX0_without 26 = .ok (.iconst 0, 1) := dk_3 (dk_at dksX0_without_1 3 rfl rfl)
theorem dX0_without_27 : decode cX0_without 27 = .ok (.iconst (-1), 1) := dk_2 (dk_at dksX0_without_1 4 rfl rfl)
theorem dX0_without_28 : decode cX0_without 28 = .ok (.iastore, 1) := dk_79 (dk_at dksX0_without_1 5 rfl rfl)
theorem dX0_without_29 : decode cX0_without 29 = .ok (.dup, 1) := dk_89 (dk_at dksX0_without_1 6 rfl rfl)
theorem dX0_without_30 : decode cX0_without 30 = .ok (.iconst 1, 1) := dk_4 (dk_at dksX0_without_1 7 rfl rfl)
theorem dX0_without_31 : decode cX0_without 31 = .ok (.iconst (-1), 1) := dk_2 (dk_at dksX0_without_1 8 rfl rfl)
theorem dX0_without_32 : decode cX0_without 32 = .ok (.iastore, 1) := dk_79 (dk_at dksX0_without_1 9 rfl rfl)
theorem dX0_without_33 : decode cX0_without 33 = .ok (.dup, 1) := dk_89 (dk_at dksX0_without_1 10 rfl rfl)
theorem dX0_without_34 : decode cX0_without 34 = .ok (.iconst 2, 1) := dk_5 (dk_at dksX0_without_1 11 rfl rfl)
theorem dX0_without_35 : decode cX0_without 35 = .ok (.iconst (-1), 1) := dk_2 (dk_at dksX0_without_1 12 rfl rfl)
theorem dX0_without_36 : decode cX0_without 36 = .ok (.iastore, 1) := dk_79 (dk_at dksX0_without_1 13 rfl rfl)
theorem dX0_without_37 : decode cX0_without 37 = .ok (.astore_n 2, 1) := dk_77 (dk_at dksX0_without_1 14 rfl rfl)
theorem dX0_without_38 : decode cX0_without 38 = .ok (.aload_n 0, 1) := dk_42 (dk_at dksX0_without_1 15 rfl rfl)
theorem dX0_without_39 : decode cX0_without 39 = .ok (.getfield 19, 3) := dk_180 0 19 (dk_at dksX0_without_1 16 rfl rfl)
theorem dX0_without_42 : decode cX0_without 42 = .ok (.iconst 0, 1) := dk_3 (dk_at dksX0_without_1 19 rfl rfl)
theorem dX0_without_43 : decode cX0_without 43 = .ok (.aaload, 1) := dk_50 (dk_at dksX0_without_1 20 rfl rfl)
theorem dX0_without_44 : decode cX0_without 44 = .ok (.iconst 0, 1) := dk_3 (dk_at dksX0_without_1 21 rfl rfl)
theorem dX0_without_45 : decode cX0_without 45 = .ok (.aload_n 2, 1) := dk_44 (dk_at dksX0_without_1 22 rfl rfl)
theorem dX0_without_46 : decode cX0_without 46 = .ok (.iconst 0, 1) := dk_3 (dk_at dksX0_without_1 23 rfl rfl)
theorem dX0_without_47 : decode cX0_without 47 = .ok (.iload_n 1, 1) := dk_27 (dk_at dksX0_without_2 0 rfl rfl)
theorem dX0_without_48 : decode cX0_without 48 = .ok (.invokestatic 151, 3) := dk_184 0 151 (dk_at dksX0_without_2 1 rfl rfl)
theorem dX0_without_51 : decode cX0_without 51 = .ok (.aload_n 0, 1) := dk_42 (dk_at dksX0_without_2 4 rfl rfl)
theorem dX0_without_52 : decode cX0_without 52 = .ok (.getfield 19, 3) := dk_180 0 19 (dk_at dksX0_without_2 5 rfl rfl)
theorem dX0_without_55 : decode cX0_without 55 = .ok (.iconst 0, 1) := dk_3 (dk_at dksX0_without_2 8 rfl rfl)
theorem dX0_without_56 : decode cX0_without 56 = .ok (.aaload, 1) := dk_50 (dk_at dksX0_without_2 9 rfl rfl)
theorem dX0_without_57 : decode cX0_without 57 = .ok (.iload_n 1, 1) := dk_27 (dk_at dksX0_without_2 10 rfl rfl)
theorem dX0_without_58 : decode cX0_without 58 = .ok (.iconst 1, 1) := dk_4 (dk_at dksX0_without_2 11 rfl rfl)
theorem dX0_without_59 : decode cX0_without 59 = .ok (.iadd, 1) := dk_96 (dk_at dksX0_without_2 12 rfl rfl)
theorem dX0_without_60 : decode cX0_without 60 = .ok (.aload_n 2, 1) := dk_44 (dk_at dksX0_without_2 13 rfl rfl)
theorem dX0_without_61 : decode cX0_without 61 = .ok (.iload_n 1, 1) := dk_27 (dk_at dksX0_without_2 14 rfl rfl)
theorem dX0_without_62 : decode cX0_without 62 = .ok (.iconst 2, 1) := dk_5 (dk_at dksX0_without_2 15 rfl rfl)
theorem dX0_without_63 : decode cX0_without 63 = .ok (.iload_n 1, 1) := dk_27 (dk_at dksX0_without_2 16 rfl rfl)
theorem dX0_without_64 : decode cX0_without 64 = .ok (.isub, 1) := dk_100 (dk_at dksX0_without_2 17 rfl rfl)
theorem dX0_without_65 : decode cX0_without 65 = .ok (.invokestatic 151, 3) := dk_184 0 151 (dk_at dksX0_without_2 18 rfl rfl)
theorem dX0_without_68 : decode cX0_without 68 = .ok (.aload_n 0, 1) := dk_42 (dk_at dksX0_without_2 21 rfl rfl)
theorem dX0_without_69 : decode cX0_without 69 = .ok (.aload_n 2, 1) := dk_44 (dk_at dksX0_without_2 22 rfl rfl)
theorem dX0_without_70 : decode cX0_without 70 = .ok (.aload_n 0, 1) := dk_42 (dk_at dksX0_without_2 23 rfl rfl)
theorem dX0_without_71 : decode cX0_without 71 = .ok (.getfield 19, 3) := dk_180 0 19 (dk_at dksX0_without_3 0 rfl rfl)
theorem dX0_without_74 : decode cX0_without 74 = .ok (.iconst 1, 1) := dk_4 (dk_at dksX0_without_3 3 rfl rfl)
theorem dX0_without_75 : decode cX0_without 75 = .ok (.aaload, 1) := dk_50 (dk_at dksX0_without_3 4 rfl rfl)
theorem dX0_without_76 : decode cX0_without 76 = .ok (.iconst 0, 1) := dk_3 (dk_at dksX0_without_3 5 rfl rfl)
theorem dX0_without_77 : decode cX0_without 77 = .ok (.invokevirtual 134, 3) := dk_182 0 134 (dk_at dksX0_without_3 6 rfl rfl)
theorem dX0_without_80 : decode cX0_without 80 = .ok (.ireturn, 1) := dk_172 (dk_at dksX0_without_3 9 rfl rfl)
abbrev cX0_surprised : ByteArray := prog_1_method_25_code
def yX0_surprised : MethodName := ⟨RX0, "surprised", "(I)I"⟩
def dkwX0_surprised_1 : List UInt8 := [182, 0, 149, 62, 42, 28, 181, 0, 27, 29, 172, 58, 4, 42, 28, 181, 0, 27, 25, 4, 191]
abbrev dktX0_surprised_1 : List UInt8 := dkwX0_surprised_1 ++ []
def dkwX0_surprised_0 : List UInt8 := [27, 2, 4, 184, 0, 69, 154, 0, 6, 16, 254, 172, 42, 180, 0, 27, 61, 42, 27, 181, 0, 27, 42]
abbrev dktX0_surprised_0 : List UInt8 := dkwX0_surprised_0 ++ dktX0_surprised_1
theorem dksX0_surprised_0 : cX0_surprised.data.toList.drop 0 = dktX0_surprised_0 := by decide +kernel
theorem dksX0_surprised_1 : cX0_surprised.data.toList.drop 23 = dktX0_surprised_1 := dk_seg dksX0_surprised_0 23 rfl rfl
theorem dX0_surprised_0 : decode cX0_surprised 0 = .ok (.iload_n 1, 1) := dk_27 (dk_at dksX0_surprised_0 0 rfl rfl)
theorem dX0_surprised_1 : decode cX0_surprised 1 = .ok (.iconst (-1), 1) := dk_2 (dk_at dksX0_surprised_0 1 rfl rfl)
theorem dX0_surprised_2 : decode cX0_surprised 2 = .ok (.iconst 1, 1) := dk_4 (dk_at dksX0_surprised_0 2 rfl rfl)
theorem dX0_surprised_3 : decode cX0_surprised 3 = .ok (.invokestatic 69, 3) := dk_184 0 69 (dk_at dksX0_surprised_0 3 rfl rfl)
theorem dX0_surprised_6 : decode cX0_surprised 6 = .ok (.ifCond .ne 6, 3) := dk_154 0 6 (dk_at dksX0_surprised_0 6 rfl rfl)
theorem dX0_surprised_9 : decode cX0_surprised 9 = .ok (.bipush (-2), 2) := dk_16 254 (dk_at dksX0_surprised_0 9 rfl rfl)
theorem dX0_surprised_11 : decode cX0_surprised 11 = .ok (.ireturn, 1) := dk_172 (dk_at dksX0_surprised_0 11 rfl rfl)
theorem dX0_surprised_12 : decode cX0_surprised 12 = .ok (.aload_n 0, 1) := dk_42 (dk_at dksX0_surprised_0 12 rfl rfl)
theorem dX0_surprised_13 : decode cX0_surprised 13 = .ok (.getfield 27, 3) := dk_180 0 27 (dk_at dksX0_surprised_0 13 rfl rfl)
theorem dX0_surprised_16 : decode cX0_surprised 16 = .ok (.istore_n 2, 1) := dk_61 (dk_at dksX0_surprised_0 16 rfl rfl)
theorem dX0_surprised_17 : decode cX0_surprised 17 = .ok (.aload_n 0, 1) := dk_42 (dk_at dksX0_surprised_0 17 rfl rfl)
theorem dX0_surprised_18 : decode cX0_surprised 18 = .ok (.iload_n 1, 1) := dk_27 (dk_at dksX0_surprised_0 18 rfl rfl)
theorem dX0_surprised_19 : decode cX0_surprised 19 = .ok (.putfield 27, 3) := dk_181 0 27 (dk_at dksX0_surprised_0 19 rfl rfl)
theorem dX0_surprised_22 : decode cX0_surprised 22 = .ok (.aload_n 0, 1) := dk_42 (dk_at dksX0_surprised_0 22 rfl rfl)
theorem dX0_surprised_23 : decode cX0_surprised 23 = .ok (.invokevirtual 149, 3) := dk_182 0 149 (dk_at dksX0_surprised_1 0 rfl rfl)
theorem dX0_surprised_26 : decode cX0_surprised 26 = .ok (.istore_n 3, 1) := dk_62 (dk_at dksX0_surprised_1 3 rfl rfl)
theorem dX0_surprised_27 : decode cX0_surprised 27 = .ok (.aload_n 0, 1) := dk_42 (dk_at dksX0_surprised_1 4 rfl rfl)
theorem dX0_surprised_28 : decode cX0_surprised 28 = .ok (.iload_n 2, 1) := dk_28 (dk_at dksX0_surprised_1 5 rfl rfl)
theorem dX0_surprised_29 : decode cX0_surprised 29 = .ok (.putfield 27, 3) := dk_181 0 27 (dk_at dksX0_surprised_1 6 rfl rfl)
theorem dX0_surprised_32 : decode cX0_surprised 32 = .ok (.iload_n 3, 1) := dk_29 (dk_at dksX0_surprised_1 9 rfl rfl)
theorem dX0_surprised_33 : decode cX0_surprised 33 = .ok (.ireturn, 1) := dk_172 (dk_at dksX0_surprised_1 10 rfl rfl)
theorem dX0_surprised_34 : decode cX0_surprised 34 = .ok (.astore 4, 2) := dk_58 4 (dk_at dksX0_surprised_1 11 rfl rfl)
theorem dX0_surprised_36 : decode cX0_surprised 36 = .ok (.aload_n 0, 1) := dk_42 (dk_at dksX0_surprised_1 13 rfl rfl)
theorem dX0_surprised_37 : decode cX0_surprised 37 = .ok (.iload_n 2, 1) := dk_28 (dk_at dksX0_surprised_1 14 rfl rfl)
theorem dX0_surprised_38 : decode cX0_surprised 38 = .ok (.putfield 27, 3) := dk_181 0 27 (dk_at dksX0_surprised_1 15 rfl rfl)
theorem dX0_surprised_41 : decode cX0_surprised 41 = .ok (.aload 4, 2) := dk_25 4 (dk_at dksX0_surprised_1 18 rfl rfl)
theorem dX0_surprised_43 : decode cX0_surprised 43 = .ok (.athrow, 1) := dk_191 (dk_at dksX0_surprised_1 20 rfl rfl)
abbrev cX0_fight : ByteArray := prog_1_method_26_code
def yX0_fight : MethodName := ⟨RX0, "fight", "(III)I"⟩
def dkwX0_fight_2 : List UInt8 := [29, 79, 58, 4, 42, 180, 0, 43, 25, 4, 182, 0, 160, 87, 42, 180, 0, 43, 182, 0, 157, 172]
abbrev dktX0_fight_2 : List UInt8 := dkwX0_fight_2 ++ []
def dkwX0_fight_1 : List UInt8 := [182, 0, 157, 16, 6, 160, 0, 6, 16, 252, 172, 6, 188, 10, 89, 3, 27, 79, 89, 4, 28, 79, 89, 5]
abbrev dktX0_fight_1 : List UInt8 := dkwX0_fight_1 ++ dktX0_fight_2
def dkwX0_fight_0 : List UInt8 := [27, 2, 159, 0, 13, 42, 27, 28, 29, 182, 0, 90, 154, 0, 6, 16, 254, 172, 42, 180, 0, 43]
abbrev dktX0_fight_0 : List UInt8 := dkwX0_fight_0 ++ dktX0_fight_1
theorem dksX0_fight_0 : cX0_fight.data.toList.drop 0 = dktX0_fight_0 := by decide +kernel
theorem dksX0_fight_1 : cX0_fight.data.toList.drop 22 = dktX0_fight_1 := dk_seg dksX0_fight_0 22 rfl rfl
theorem dksX0_fight_2 : cX0_fight.data.toList.drop 46 = dktX0_fight_2 := dk_seg dksX0_fight_1 24 rfl rfl
theorem dX0_fight_0 : decode cX0_fight 0 = .ok (.iload_n 1, 1) := dk_27 (dk_at dksX0_fight_0 0 rfl rfl)
theorem dX0_fight_1 : decode cX0_fight 1 = .ok (.iconst (-1), 1) := dk_2 (dk_at dksX0_fight_0 1 rfl rfl)
theorem dX0_fight_2 : decode cX0_fight 2 = .ok (.if_icmp .eq 13, 3) := dk_159 0 13 (dk_at dksX0_fight_0 2 rfl rfl)
theorem dX0_fight_5 : decode cX0_fight 5 = .ok (.aload_n 0, 1) := dk_42 (dk_at dksX0_fight_0 5 rfl rfl)
theorem dX0_fight_6 : decode cX0_fight 6 = .ok (.iload_n 1, 1) := dk_27 (dk_at dksX0_fight_0 6 rfl rfl)
theorem dX0_fight_7 : decode cX0_fight 7 = .ok (.iload_n 2, 1) := dk_28 (dk_at dksX0_fight_0 7 rfl rfl)
theorem dX0_fight_8 : decode cX0_fight 8 = .ok (.iload_n 3, 1) := dk_29 (dk_at dksX0_fight_0 8 rfl rfl)
theorem dX0_fight_9 : decode cX0_fight 9 = .ok (.invokevirtual 90, 3) := dk_182 0 90 (dk_at dksX0_fight_0 9 rfl rfl)
theorem dX0_fight_12 : decode cX0_fight 12 = .ok (.ifCond .ne 6, 3) := dk_154 0 6 (dk_at dksX0_fight_0 12 rfl rfl)
theorem dX0_fight_15 : decode cX0_fight 15 = .ok (.bipush (-2), 2) := dk_16 254 (dk_at dksX0_fight_0 15 rfl rfl)
theorem dX0_fight_17 : decode cX0_fight 17 = .ok (.ireturn, 1) := dk_172 (dk_at dksX0_fight_0 17 rfl rfl)
theorem dX0_fight_18 : decode cX0_fight 18 = .ok (.aload_n 0, 1) := dk_42 (dk_at dksX0_fight_0 18 rfl rfl)
theorem dX0_fight_19 : decode cX0_fight 19 = .ok (.getfield 43, 3) := dk_180 0 43 (dk_at dksX0_fight_0 19 rfl rfl)
theorem dX0_fight_22 : decode cX0_fight 22 = .ok (.invokevirtual 157, 3) := dk_182 0 157 (dk_at dksX0_fight_1 0 rfl rfl)
theorem dX0_fight_25 : decode cX0_fight 25 = .ok (.bipush 6, 2) := dk_16 6 (dk_at dksX0_fight_1 3 rfl rfl)
theorem dX0_fight_27 : decode cX0_fight 27 = .ok (.if_icmp .ne 6, 3) := dk_160 0 6 (dk_at dksX0_fight_1 5 rfl rfl)
theorem dX0_fight_30 : decode cX0_fight 30 = .ok (.bipush (-4), 2) := dk_16 252 (dk_at dksX0_fight_1 8 rfl rfl)
theorem dX0_fight_32 : decode cX0_fight 32 = .ok (.ireturn, 1) := dk_172 (dk_at dksX0_fight_1 10 rfl rfl)
theorem dX0_fight_33 : decode cX0_fight 33 = .ok (.iconst 3, 1) := dk_6 (dk_at dksX0_fight_1 11 rfl rfl)
theorem dX0_fight_34 : decode cX0_fight 34 = .ok (.newarray .int, 2) := dk_188_10 (dk_at dksX0_fight_1 12 rfl rfl)
theorem dX0_fight_36 : decode cX0_fight 36 = .ok (.dup, 1) := dk_89 (dk_at dksX0_fight_1 14 rfl rfl)
theorem dX0_fight_37 : decode cX0_fight 37 = .ok (.iconst 0, 1) := dk_3 (dk_at dksX0_fight_1 15 rfl rfl)
theorem dX0_fight_38 : decode cX0_fight 38 = .ok (.iload_n 1, 1) := dk_27 (dk_at dksX0_fight_1 16 rfl rfl)
theorem dX0_fight_39 : decode cX0_fight 39 = .ok (.iastore, 1) := dk_79 (dk_at dksX0_fight_1 17 rfl rfl)
theorem dX0_fight_40 : decode cX0_fight 40 = .ok (.dup, 1) := dk_89 (dk_at dksX0_fight_1 18 rfl rfl)
theorem dX0_fight_41 : decode cX0_fight 41 = .ok (.iconst 1, 1) := dk_4 (dk_at dksX0_fight_1 19 rfl rfl)
theorem dX0_fight_42 : decode cX0_fight 42 = .ok (.iload_n 2, 1) := dk_28 (dk_at dksX0_fight_1 20 rfl rfl)
theorem dX0_fight_43 : decode cX0_fight 43 = .ok (.iastore, 1) := dk_79 (dk_at dksX0_fight_1 21 rfl rfl)
theorem dX0_fight_44 : decode cX0_fight 44 = .ok (.dup, 1) := dk_89 (dk_at dksX0_fight_1 22 rfl rfl)
theorem dX0_fight_45 : decode cX0_fight 45 = .ok (.iconst 2, 1) := dk_5 (dk_at dksX0_fight_1 23 rfl rfl)
theorem dX0_fight_46 : decode cX0_fight 46 = .ok (.iload_n 3, 1) := dk_29 (dk_at dksX0_fight_2 0 rfl rfl)
theorem dX0_fight_47 : decode cX0_fight 47 = .ok (.iastore, 1) := dk_79 (dk_at dksX0_fight_2 1 rfl rfl)
theorem dX0_fight_48 : decode cX0_fight 48 = .ok (.astore 4, 2) := dk_58 4 (dk_at dksX0_fight_2 2 rfl rfl)
theorem dX0_fight_50 : decode cX0_fight 50 = .ok (.aload_n 0, 1) := dk_42 (dk_at dksX0_fight_2 4 rfl rfl)
theorem dX0_fight_51 : decode cX0_fight 51 = .ok (.getfield 43, 3) := dk_180 0 43 (dk_at dksX0_fight_2 5 rfl rfl)
theorem dX0_fight_54 : decode cX0_fight 54 = .ok (.aload 4, 2) := dk_25 4 (dk_at dksX0_fight_2 8 rfl rfl)
theorem dX0_fight_56 : decode cX0_fight 56 = .ok (.invokevirtual 160, 3) := dk_182 0 160 (dk_at dksX0_fight_2 10 rfl rfl)
theorem dX0_fight_59 : decode cX0_fight 59 = .ok (.pop, 1) := dk_87 (dk_at dksX0_fight_2 13 rfl rfl)
theorem dX0_fight_60 : decode cX0_fight 60 = .ok (.aload_n 0, 1) := dk_42 (dk_at dksX0_fight_2 14 rfl rfl)
theorem dX0_fight_61 : decode cX0_fight 61 = .ok (.getfield 43, 3) := dk_180 0 43 (dk_at dksX0_fight_2 15 rfl rfl)
theorem dX0_fight_64 : decode cX0_fight 64 = .ok (.invokevirtual 157, 3) := dk_182 0 157 (dk_at dksX0_fight_2 18 rfl rfl)
theorem dX0_fight_67 : decode cX0_fight 67 = .ok (.ireturn, 1) := dk_172 (dk_at dksX0_fight_2 21 rfl rfl)
abbrev cX0_rest : ByteArray := prog_1_method_27_code
def yX0_rest : MethodName := ⟨RX0, "rest", "()I"⟩
def dkwX0_rest_0 : List UInt8 := [42, 180, 0, 43, 182, 0, 157, 60, 42, 180, 0, 43, 182, 0, 164, 27, 172]
abbrev dktX0_rest_0 : List UInt8 := dkwX0_rest_0 ++ []
theorem dksX0_rest_0 : cX0_rest.data.toList.drop 0 = dktX0_rest_0 := by decide +kernel
theorem dX0_rest_0 : decode cX0_rest 0 = .ok (.aload_n 0, 1) := dk_42 (dk_at dksX0_rest_0 0 rfl rfl)
theorem dX0_rest_1 : decode cX0_rest 1 = .ok (.getfield 43, 3) := dk_180 0 43 (dk_at dksX0_rest_0 1 rfl rfl)
theorem dX0_rest_4 : decode cX0_rest 4 = .ok (.invokevirtual 157, 3) := dk_182 0 157 (dk_at dksX0_rest_0 4 rfl rfl)
theorem dX0_rest_7 : decode cX0_rest 7 = .ok (.istore_n 1, 1) := dk_60 (dk_at dksX0_rest_0 7 rfl rfl)
theorem dX0_rest_8 : decode cX0_rest 8 = .ok (.aload_n 0, 1) := dk_42 (dk_at dksX0_rest_0 8 rfl rfl)
theorem dX0_rest_9 : decode cX0_rest 9 = .ok (.getfield 43, 3) := dk_180 0 43 (dk_at dksX0_rest_0 9 rfl rfl)
theorem dX0_rest_12 : decode cX0_rest 12 = .ok (.invokevirtual 164, 3) := dk_182 0 164 (dk_at dksX0_rest_0 12 rfl rfl)
theorem dX0_rest_15 : decode cX0_rest 15 = .ok (.iload_n 1, 1) := dk_27 (dk_at dksX0_rest_0 15 rfl rfl)
theorem dX0_rest_16 : decode cX0_rest 16 = .ok (.ireturn, 1) := dk_172 (dk_at dksX0_rest_0 16 rfl rfl)
abbrev cX0_purse : ByteArray := prog_1_method_28_code
def yX0_purse : MethodName := ⟨RX0, "purse", "(II)I"⟩
def dkwX0_purse_1 : List UInt8 := [27, 181, 0, 47, 42, 28, 181, 0, 50, 4, 172]
abbrev dktX0_purse_1 : List UInt8 := dkwX0_purse_1 ++ []
def dkwX0_purse_0 : List UInt8 := [27, 3, 16, 6, 184, 0, 69, 153, 0, 13, 28, 4, 16, 9, 184, 0, 69, 154, 0, 6, 16, 254, 172, 42]
abbrev dktX0_purse_0 : List UInt8 := dkwX0_purse_0 ++ dktX0_purse_1
theorem dksX0_purse_0 : cX0_purse.data.toList.drop 0 = dktX0_purse_0 := by decide +kernel
theorem dksX0_purse_1 : cX0_purse.data.toList.drop 24 = dktX0_purse_1 := dk_seg dksX0_purse_0 24 rfl rfl
theorem dX0_purse_0 : decode cX0_purse 0 = .ok (.iload_n 1, 1) := dk_27 (dk_at dksX0_purse_0 0 rfl rfl)
theorem dX0_purse_1 : decode cX0_purse 1 = .ok (.iconst 0, 1) := dk_3 (dk_at dksX0_purse_0 1 rfl rfl)
theorem dX0_purse_2 : decode cX0_purse 2 = .ok (.bipush 6, 2) := dk_16 6 (dk_at dksX0_purse_0 2 rfl rfl)
theorem dX0_purse_4 : decode cX0_purse 4 = .ok (.invokestatic 69, 3) := dk_184 0 69 (dk_at dksX0_purse_0 4 rfl rfl)
theorem dX0_purse_7 : decode cX0_purse 7 = .ok (.ifCond .eq 13, 3) := dk_153 0 13 (dk_at dksX0_purse_0 7 rfl rfl)
theorem dX0_purse_10 : decode cX0_purse 10 = .ok (.iload_n 2, 1) := dk_28 (dk_at dksX0_purse_0 10 rfl rfl)
theorem dX0_purse_11 : decode cX0_purse 11 = .ok (.iconst 1, 1) := dk_4 (dk_at dksX0_purse_0 11 rfl rfl)
theorem dX0_purse_12 : decode cX0_purse 12 = .ok (.bipush 9, 2) := dk_16 9 (dk_at dksX0_purse_0 12 rfl rfl)
theorem dX0_purse_14 : decode cX0_purse 14 = .ok (.invokestatic 69, 3) := dk_184 0 69 (dk_at dksX0_purse_0 14 rfl rfl)
theorem dX0_purse_17 : decode cX0_purse 17 = .ok (.ifCond .ne 6, 3) := dk_154 0 6 (dk_at dksX0_purse_0 17 rfl rfl)
theorem dX0_purse_20 : decode cX0_purse 20 = .ok (.bipush (-2), 2) := dk_16 254 (dk_at dksX0_purse_0 20 rfl rfl)
theorem dX0_purse_22 : decode cX0_purse 22 = .ok (.ireturn, 1) := dk_172 (dk_at dksX0_purse_0 22 rfl rfl)
theorem dX0_purse_23 : decode cX0_purse 23 = .ok (.aload_n 0, 1) := dk_42 (dk_at dksX0_purse_0 23 rfl rfl)
theorem dX0_purse_24 : decode cX0_purse 24 = .ok (.iload_n 1, 1) := dk_27 (dk_at dksX0_purse_1 0 rfl rfl)
theorem dX0_purse_25 : decode cX0_purse 25 = .ok (.putfield 47, 3) := dk_181 0 47 (dk_at dksX0_purse_1 1 rfl rfl)
theorem dX0_purse_28 : decode cX0_purse 28 = .ok (.aload_n 0, 1) := dk_42 (dk_at dksX0_purse_1 4 rfl rfl)
theorem dX0_purse_29 : decode cX0_purse 29 = .ok (.iload_n 2, 1) := dk_28 (dk_at dksX0_purse_1 5 rfl rfl)
theorem dX0_purse_30 : decode cX0_purse 30 = .ok (.putfield 50, 3) := dk_181 0 50 (dk_at dksX0_purse_1 6 rfl rfl)
theorem dX0_purse_33 : decode cX0_purse 33 = .ok (.iconst 1, 1) := dk_4 (dk_at dksX0_purse_1 9 rfl rfl)
theorem dX0_purse_34 : decode cX0_purse 34 = .ok (.ireturn, 1) := dk_172 (dk_at dksX0_purse_1 10 rfl rfl)
abbrev cX0_day : ByteArray := prog_1_method_31_code
def yX0_day : MethodName := ⟨RX0, "day", "()I"⟩
def dkwX0_day_0 : List UInt8 := [42, 182, 0, 181, 60, 27, 154, 0, 10, 42, 180, 0, 171, 167, 0, 4, 27, 172]
abbrev dktX0_day_0 : List UInt8 := dkwX0_day_0 ++ []
theorem dksX0_day_0 : cX0_day.data.toList.drop 0 = dktX0_day_0 := by decide +kernel
theorem dX0_day_0 : decode cX0_day 0 = .ok (.aload_n 0, 1) := dk_42 (dk_at dksX0_day_0 0 rfl rfl)
theorem dX0_day_1 : decode cX0_day 1 = .ok (.invokevirtual 181, 3) := dk_182 0 181 (dk_at dksX0_day_0 1 rfl rfl)
theorem dX0_day_4 : decode cX0_day 4 = .ok (.istore_n 1, 1) := dk_60 (dk_at dksX0_day_0 4 rfl rfl)
theorem dX0_day_5 : decode cX0_day 5 = .ok (.iload_n 1, 1) := dk_27 (dk_at dksX0_day_0 5 rfl rfl)
theorem dX0_day_6 : decode cX0_day 6 = .ok (.ifCond .ne 10, 3) := dk_154 0 10 (dk_at dksX0_day_0 6 rfl rfl)
theorem dX0_day_9 : decode cX0_day 9 = .ok (.aload_n 0, 1) := dk_42 (dk_at dksX0_day_0 9 rfl rfl)
theorem dX0_day_10 : decode cX0_day 10 = .ok (.getfield 171, 3) := dk_180 0 171 (dk_at dksX0_day_0 10 rfl rfl)
theorem dX0_day_13 : decode cX0_day 13 = .ok (.goto 4, 3) := dk_167 0 4 (dk_at dksX0_day_0 13 rfl rfl)
theorem dX0_day_16 : decode cX0_day 16 = .ok (.iload_n 1, 1) := dk_27 (dk_at dksX0_day_0 16 rfl rfl)
theorem dX0_day_17 : decode cX0_day 17 = .ok (.ireturn, 1) := dk_172 (dk_at dksX0_day_0 17 rfl rfl)
abbrev cX0_looks : ByteArray := prog_1_method_30_code
def yX0_looks : MethodName := ⟨RX0, "looks", "()I"⟩
def dkwX0_looks_10 : List UInt8 := [42, 21, 5, 181, 0, 171, 42, 21, 4, 181, 0, 178, 132, 4, 1, 167, 255, 143, 3, 172]
abbrev dktX0_looks_10 : List UInt8 := dkwX0_looks_10 ++ []
def dkwX0_looks_9 : List UInt8 := [21, 5, 42, 180, 0, 171, 160, 0, 30, 21, 4, 184, 0, 174, 42, 180, 0, 178, 184, 0, 174, 162, 0, 15]
abbrev dktX0_looks_9 : List UInt8 := dkwX0_looks_9 ++ dktX0_looks_10
def dkwX0_looks_8 : List UInt8 := [167, 255, 220, 21, 4, 184, 0, 174, 42, 180, 0, 47, 163, 0, 48, 21, 5, 42, 180, 0, 171, 163, 0, 27]
abbrev dktX0_looks_8 : List UInt8 := dkwX0_looks_8 ++ dktX0_looks_9
def dkwX0_looks_7 : List UInt8 := [122, 4, 126, 4, 160, 0, 10, 45, 21, 6, 46, 167, 0, 7, 44, 21, 6, 46, 96, 54, 5, 132, 6, 1]
abbrev dktX0_looks_7 : List UInt8 := dkwX0_looks_7 ++ dktX0_looks_8
def dkwX0_looks_6 : List UInt8 := [4, 27, 120, 162, 0, 111, 3, 54, 5, 3, 54, 6, 21, 6, 27, 162, 0, 36, 21, 5, 21, 4, 21, 6]
abbrev dktX0_looks_6 : List UInt8 := dkwX0_looks_6 ++ dktX0_looks_7
def dkwX0_looks_5 : List UInt8 := [16, 251, 160, 0, 6, 16, 251, 172, 132, 4, 1, 167, 255, 169, 42, 2, 181, 0, 171, 3, 54, 4, 21, 4]
abbrev dktX0_looks_5 : List UInt8 := dkwX0_looks_5 ++ dktX0_looks_6
def dkwX0_looks_4 : List UInt8 := [192, 0, 17, 42, 180, 0, 50, 182, 0, 134, 79, 44, 21, 4, 46, 16, 251, 159, 0, 12, 45, 21, 4, 46]
abbrev dktX0_looks_4 : List UInt8 := dkwX0_looks_4 ++ dktX0_looks_5
def dkwX0_looks_3 : List UInt8 := [182, 0, 134, 79, 45, 21, 4, 42, 42, 180, 0, 19, 3, 50, 42, 180, 0, 43, 21, 4, 182, 0, 167]
abbrev dktX0_looks_3 : List UInt8 := dkwX0_looks_3 ++ dktX0_looks_4
def dkwX0_looks_2 : List UInt8 := [21, 4, 42, 42, 180, 0, 19, 3, 50, 42, 180, 0, 43, 21, 4, 182, 0, 167, 192, 0, 17, 3]
abbrev dktX0_looks_2 : List UInt8 := dkwX0_looks_2 ++ dktX0_looks_3
def dkwX0_looks_1 : List UInt8 := [16, 253, 172, 16, 6, 188, 10, 77, 16, 6, 188, 10, 78, 3, 54, 4, 21, 4, 27, 162, 0, 87, 44]
abbrev dktX0_looks_1 : List UInt8 := dkwX0_looks_1 ++ dktX0_looks_2
def dkwX0_looks_0 : List UInt8 := [42, 180, 0, 43, 182, 0, 157, 60, 27, 153, 0, 15, 42, 180, 0, 19, 3, 50, 3, 46, 2, 160, 0, 6]
abbrev dktX0_looks_0 : List UInt8 := dkwX0_looks_0 ++ dktX0_looks_1
theorem dksX0_looks_0 : cX0_looks.data.toList.drop 0 = dktX0_looks_0 := by decide +kernel
theorem dksX0_looks_1 : cX0_looks.data.toList.drop 24 = dktX0_looks_1 := dk_seg dksX0_looks_0 24 rfl rfl
theorem dksX0_looks_2 : cX0_looks.data.toList.drop 47 = dktX0_looks_2 := dk_seg dksX0_looks_1 23 rfl rfl
theorem dksX0_looks_3 : cX0_looks.data.toList.drop 69 = dktX0_looks_3 := dk_seg dksX0_looks_2 22 rfl rfl
theorem dksX0_looks_4 : cX0_looks.data.toList.drop 92 = dktX0_looks_4 := dk_seg dksX0_looks_3 23 rfl rfl
theorem dksX0_looks_5 : cX0_looks.data.toList.drop 116 = dktX0_looks_5 := dk_seg dksX0_looks_4 24 rfl rfl
theorem dksX0_looks_6 : cX0_looks.data.toList.drop 140 = dktX0_looks_6 := dk_seg dksX0_looks_5 24 rfl rfl
theorem dksX0_looks_7 : cX0_looks.data.toList.drop 164 = dktX0_looks_7 := dk_seg dksX0_looks_6 24 rfl rfl
theorem dksX0_looks_8 : cX0_looks.data.toList.drop 188 = dktX0_looks_8 := dk_seg dksX0_looks_7 24 rfl rfl
theorem dksX0_looks_9 : cX0_looks.data.toList.drop 212 = dktX0_looks_9 := dk_seg dksX0_looks_8 24 rfl rfl
theorem dksX0_looks_10 : cX0_looks.data.toList.drop 236 = dktX0_looks_10 := dk_seg dksX0_looks_9 24 rfl rfl
theorem dX0_looks_0 : decode cX0_looks 0 = .ok (.aload_n 0, 1) := dk_42 (dk_at dksX0_looks_0 0 rfl rfl)
theorem dX0_looks_1 : decode cX0_looks 1 = .ok (.getfield 43, 3) := dk_180 0 43 (dk_at dksX0_looks_0 1 rfl rfl)
theorem dX0_looks_4 : decode cX0_looks 4 = .ok (.invokevirtual 157, 3) := dk_182 0 157 (dk_at dksX0_looks_0 4 rfl rfl)
theorem dX0_looks_7 : decode cX0_looks 7 = .ok (.istore_n 1, 1) := dk_60 (dk_at dksX0_looks_0 7 rfl rfl)
theorem dX0_looks_8 : decode cX0_looks 8 = .ok (.iload_n 1, 1) := dk_27 (dk_at dksX0_looks_0 8 rfl rfl)
theorem dX0_looks_9 : decode cX0_looks 9 = .ok (.ifCond .eq 15, 3) := dk_153 0 15 (dk_at dksX0_looks_0 9 rfl rfl)
theorem dX0_looks_12 : decode cX0_looks 12 = .ok (.aload_n 0, 1) := dk_42 (dk_at dksX0_looks_0 12 rfl rfl)
theorem dX0_looks_13 : decode cX0_looks 13 = .ok (.getfield 19, 3) := dk_180 0 19 (dk_at dksX0_looks_0 13 rfl rfl)
theorem dX0_looks_16 : decode cX0_looks 16 = .ok (.iconst 0, 1) := dk_3 (dk_at dksX0_looks_0 16 rfl rfl)
theorem dX0_looks_17 : decode cX0_looks 17 = .ok (.aaload, 1) := dk_50 (dk_at dksX0_looks_0 17 rfl rfl)
theorem dX0_looks_18 : decode cX0_looks 18 = .ok (.iconst 0, 1) := dk_3 (dk_at dksX0_looks_0 18 rfl rfl)
theorem dX0_looks_19 : decode cX0_looks 19 = .ok (.iaload, 1) := dk_46 (dk_at dksX0_looks_0 19 rfl rfl)
theorem dX0_looks_20 : decode cX0_looks 20 = .ok (.iconst (-1), 1) := dk_2 (dk_at dksX0_looks_0 20 rfl rfl)
theorem dX0_looks_21 : decode cX0_looks 21 = .ok (.if_icmp .ne 6, 3) := dk_160 0 6 (dk_at dksX0_looks_0 21 rfl rfl)
theorem dX0_looks_24 : decode cX0_looks 24 = .ok (.bipush (-3), 2) := dk_16 253 (dk_at dksX0_looks_1 0 rfl rfl)
theorem dX0_looks_26 : decode cX0_looks 26 = .ok (.ireturn, 1) := dk_172 (dk_at dksX0_looks_1 2 rfl rfl)
theorem dX0_looks_27 : decode cX0_looks 27 = .ok (.bipush 6, 2) := dk_16 6 (dk_at dksX0_looks_1 3 rfl rfl)
theorem dX0_looks_29 : decode cX0_looks 29 = .ok (.newarray .int, 2) := dk_188_10 (dk_at dksX0_looks_1 5 rfl rfl)
theorem dX0_looks_31 : decode cX0_looks 31 = .ok (.astore_n 2, 1) := dk_77 (dk_at dksX0_looks_1 7 rfl rfl)
theorem dX0_looks_32 : decode cX0_looks 32 = .ok (.bipush 6, 2) := dk_16 6 (dk_at dksX0_looks_1 8 rfl rfl)
theorem dX0_looks_34 : decode cX0_looks 34 = .ok (.newarray .int, 2) := dk_188_10 (dk_at dksX0_looks_1 10 rfl rfl)
theorem dX0_looks_36 : decode cX0_looks 36 = .ok (.astore_n 3, 1) := dk_78 (dk_at dksX0_looks_1 12 rfl rfl)
theorem dX0_looks_37 : decode cX0_looks 37 = .ok (.iconst 0, 1) := dk_3 (dk_at dksX0_looks_1 13 rfl rfl)
theorem dX0_looks_38 : decode cX0_looks 38 = .ok (.istore 4, 2) := dk_54 4 (dk_at dksX0_looks_1 14 rfl rfl)
theorem dX0_looks_40 : decode cX0_looks 40 = .ok (.iload 4, 2) := dk_21 4 (dk_at dksX0_looks_1 16 rfl rfl)
theorem dX0_looks_42 : decode cX0_looks 42 = .ok (.iload_n 1, 1) := dk_27 (dk_at dksX0_looks_1 18 rfl rfl)
theorem dX0_looks_43 : decode cX0_looks 43 = .ok (.if_icmp .ge 87, 3) := dk_162 0 87 (dk_at dksX0_looks_1 19 rfl rfl)
theorem dX0_looks_46 : decode cX0_looks 46 = .ok (.aload_n 2, 1) := dk_44 (dk_at dksX0_looks_1 22 rfl rfl)
theorem dX0_looks_47 : decode cX0_looks 47 = .ok (.iload 4, 2) := dk_21 4 (dk_at dksX0_looks_2 0 rfl rfl)
theorem dX0_looks_49 : decode cX0_looks 49 = .ok (.aload_n 0, 1) := dk_42 (dk_at dksX0_looks_2 2 rfl rfl)
theorem dX0_looks_50 : decode cX0_looks 50 = .ok (.aload_n 0, 1) := dk_42 (dk_at dksX0_looks_2 3 rfl rfl)
theorem dX0_looks_51 : decode cX0_looks 51 = .ok (.getfield 19, 3) := dk_180 0 19 (dk_at dksX0_looks_2 4 rfl rfl)
theorem dX0_looks_54 : decode cX0_looks 54 = .ok (.iconst 0, 1) := dk_3 (dk_at dksX0_looks_2 7 rfl rfl)
theorem dX0_looks_55 : decode cX0_looks 55 = .ok (.aaload, 1) := dk_50 (dk_at dksX0_looks_2 8 rfl rfl)
theorem dX0_looks_56 : decode cX0_looks 56 = .ok (.aload_n 0, 1) := dk_42 (dk_at dksX0_looks_2 9 rfl rfl)
theorem dX0_looks_57 : decode cX0_looks 57 = .ok (.getfield 43, 3) := dk_180 0 43 (dk_at dksX0_looks_2 10 rfl rfl)
theorem dX0_looks_60 : decode cX0_looks 60 = .ok (.iload 4, 2) := dk_21 4 (dk_at dksX0_looks_2 13 rfl rfl)
theorem dX0_looks_62 : decode cX0_looks 62 = .ok (.invokevirtual 167, 3) := dk_182 0 167 (dk_at dksX0_looks_2 15 rfl rfl)
theorem dX0_looks_65 : decode cX0_looks 65 = .ok (.checkcast 17, 3) := dk_192 0 17 (dk_at dksX0_looks_2 18 rfl rfl)
theorem dX0_looks_68 : decode cX0_looks 68 = .ok (.iconst 0, 1) := dk_3 (dk_at dksX0_looks_2 21 rfl rfl)
theorem dX0_looks_69 : decode cX0_looks 69 = .ok (.invokevirtual 134, 3) := dk_182 0 134 (dk_at dksX0_looks_3 0 rfl rfl)
theorem dX0_looks_72 : decode cX0_looks 72 = .ok (.iastore, 1) := dk_79 (dk_at dksX0_looks_3 3 rfl rfl)
theorem dX0_looks_73 : decode cX0_looks 73 = .ok (.aload_n 3, 1) := dk_45 (dk_at dksX0_looks_3 4 rfl rfl)
theorem dX0_looks_74 : decode cX0_looks 74 = .ok (.iload 4, 2) := dk_21 4 (dk_at dksX0_looks_3 5 rfl rfl)
theorem dX0_looks_76 : decode cX0_looks 76 = .ok (.aload_n 0, 1) := dk_42 (dk_at dksX0_looks_3 7 rfl rfl)
theorem dX0_looks_77 : decode cX0_looks 77 = .ok (.aload_n 0, 1) := dk_42 (dk_at dksX0_looks_3 8 rfl rfl)
theorem dX0_looks_78 : decode cX0_looks 78 = .ok (.getfield 19, 3) := dk_180 0 19 (dk_at dksX0_looks_3 9 rfl rfl)
theorem dX0_looks_81 : decode cX0_looks 81 = .ok (.iconst 0, 1) := dk_3 (dk_at dksX0_looks_3 12 rfl rfl)
theorem dX0_looks_82 : decode cX0_looks 82 = .ok (.aaload, 1) := dk_50 (dk_at dksX0_looks_3 13 rfl rfl)
theorem dX0_looks_83 : decode cX0_looks 83 = .ok (.aload_n 0, 1) := dk_42 (dk_at dksX0_looks_3 14 rfl rfl)
theorem dX0_looks_84 : decode cX0_looks 84 = .ok (.getfield 43, 3) := dk_180 0 43 (dk_at dksX0_looks_3 15 rfl rfl)
theorem dX0_looks_87 : decode cX0_looks 87 = .ok (.iload 4, 2) := dk_21 4 (dk_at dksX0_looks_3 18 rfl rfl)
theorem dX0_looks_89 : decode cX0_looks 89 = .ok (.invokevirtual 167, 3) := dk_182 0 167 (dk_at dksX0_looks_3 20 rfl rfl)
theorem dX0_looks_92 : decode cX0_looks 92 = .ok (.checkcast 17, 3) := dk_192 0 17 (dk_at dksX0_looks_4 0 rfl rfl)
theorem dX0_looks_95 : decode cX0_looks 95 = .ok (.aload_n 0, 1) := dk_42 (dk_at dksX0_looks_4 3 rfl rfl)
theorem dX0_looks_96 : decode cX0_looks 96 = .ok (.getfield 50, 3) := dk_180 0 50 (dk_at dksX0_looks_4 4 rfl rfl)
theorem dX0_looks_99 : decode cX0_looks 99 = .ok (.invokevirtual 134, 3) := dk_182 0 134 (dk_at dksX0_looks_4 7 rfl rfl)
theorem dX0_looks_102 : decode cX0_looks 102 = .ok (.iastore, 1) := dk_79 (dk_at dksX0_looks_4 10 rfl rfl)
theorem dX0_looks_103 : decode cX0_looks 103 = .ok (.aload_n 2, 1) := dk_44 (dk_at dksX0_looks_4 11 rfl rfl)
theorem dX0_looks_104 : decode cX0_looks 104 = .ok (.iload 4, 2) := dk_21 4 (dk_at dksX0_looks_4 12 rfl rfl)
theorem dX0_looks_106 : decode cX0_looks 106 = .ok (.iaload, 1) := dk_46 (dk_at dksX0_looks_4 14 rfl rfl)
theorem dX0_looks_107 : decode cX0_looks 107 = .ok (.bipush (-5), 2) := dk_16 251 (dk_at dksX0_looks_4 15 rfl rfl)
theorem dX0_looks_109 : decode cX0_looks 109 = .ok (.if_icmp .eq 12, 3) := dk_159 0 12 (dk_at dksX0_looks_4 17 rfl rfl)
theorem dX0_looks_112 : decode cX0_looks 112 = .ok (.aload_n 3, 1) := dk_45 (dk_at dksX0_looks_4 20 rfl rfl)
theorem dX0_looks_113 : decode cX0_looks 113 = .ok (.iload 4, 2) := dk_21 4 (dk_at dksX0_looks_4 21 rfl rfl)
theorem dX0_looks_115 : decode cX0_looks 115 = .ok (.iaload, 1) := dk_46 (dk_at dksX0_looks_4 23 rfl rfl)
theorem dX0_looks_116 : decode cX0_looks 116 = .ok (.bipush (-5), 2) := dk_16 251 (dk_at dksX0_looks_5 0 rfl rfl)
theorem dX0_looks_118 : decode cX0_looks 118 = .ok (.if_icmp .ne 6, 3) := dk_160 0 6 (dk_at dksX0_looks_5 2 rfl rfl)
theorem dX0_looks_121 : decode cX0_looks 121 = .ok (.bipush (-5), 2) := dk_16 251 (dk_at dksX0_looks_5 5 rfl rfl)
theorem dX0_looks_123 : decode cX0_looks 123 = .ok (.ireturn, 1) := dk_172 (dk_at dksX0_looks_5 7 rfl rfl)
theorem dX0_looks_124 : decode cX0_looks 124 = .ok (.iinc 4 1, 3) := dk_132 4 1 (dk_at dksX0_looks_5 8 rfl rfl)
theorem dX0_looks_127 : decode cX0_looks 127 = .ok (.goto (-87), 3) := dk_167 255 169 (dk_at dksX0_looks_5 11 rfl rfl)
theorem dX0_looks_130 : decode cX0_looks 130 = .ok (.aload_n 0, 1) := dk_42 (dk_at dksX0_looks_5 14 rfl rfl)
theorem dX0_looks_131 : decode cX0_looks 131 = .ok (.iconst (-1), 1) := dk_2 (dk_at dksX0_looks_5 15 rfl rfl)
theorem dX0_looks_132 : decode cX0_looks 132 = .ok (.putfield 171, 3) := dk_181 0 171 (dk_at dksX0_looks_5 16 rfl rfl)
theorem dX0_looks_135 : decode cX0_looks 135 = .ok (.iconst 0, 1) := dk_3 (dk_at dksX0_looks_5 19 rfl rfl)
theorem dX0_looks_136 : decode cX0_looks 136 = .ok (.istore 4, 2) := dk_54 4 (dk_at dksX0_looks_5 20 rfl rfl)
theorem dX0_looks_138 : decode cX0_looks 138 = .ok (.iload 4, 2) := dk_21 4 (dk_at dksX0_looks_5 22 rfl rfl)
theorem dX0_looks_140 : decode cX0_looks 140 = .ok (.iconst 1, 1) := dk_4 (dk_at dksX0_looks_6 0 rfl rfl)
theorem dX0_looks_141 : decode cX0_looks 141 = .ok (.iload_n 1, 1) := dk_27 (dk_at dksX0_looks_6 1 rfl rfl)
theorem dX0_looks_142 : decode cX0_looks 142 = .ok (.ishl, 1) := dk_120 (dk_at dksX0_looks_6 2 rfl rfl)
theorem dX0_looks_143 : decode cX0_looks 143 = .ok (.if_icmp .ge 111, 3) := dk_162 0 111 (dk_at dksX0_looks_6 3 rfl rfl)
theorem dX0_looks_146 : decode cX0_looks 146 = .ok (.iconst 0, 1) := dk_3 (dk_at dksX0_looks_6 6 rfl rfl)
theorem dX0_looks_147 : decode cX0_looks 147 = .ok (.istore 5, 2) := dk_54 5 (dk_at dksX0_looks_6 7 rfl rfl)
theorem dX0_looks_149 : decode cX0_looks 149 = .ok (.iconst 0, 1) := dk_3 (dk_at dksX0_looks_6 9 rfl rfl)
theorem dX0_looks_150 : decode cX0_looks 150 = .ok (.istore 6, 2) := dk_54 6 (dk_at dksX0_looks_6 10 rfl rfl)
theorem dX0_looks_152 : decode cX0_looks 152 = .ok (.iload 6, 2) := dk_21 6 (dk_at dksX0_looks_6 12 rfl rfl)
theorem dX0_looks_154 : decode cX0_looks 154 = .ok (.iload_n 1, 1) := dk_27 (dk_at dksX0_looks_6 14 rfl rfl)
theorem dX0_looks_155 : decode cX0_looks 155 = .ok (.if_icmp .ge 36, 3) := dk_162 0 36 (dk_at dksX0_looks_6 15 rfl rfl)
theorem dX0_looks_158 : decode cX0_looks 158 = .ok (.iload 5, 2) := dk_21 5 (dk_at dksX0_looks_6 18 rfl rfl)
theorem dX0_looks_160 : decode cX0_looks 160 = .ok (.iload 4, 2) := dk_21 4 (dk_at dksX0_looks_6 20 rfl rfl)
theorem dX0_looks_162 : decode cX0_looks 162 = .ok (.iload 6, 2) := dk_21 6 (dk_at dksX0_looks_6 22 rfl rfl)
theorem dX0_looks_164 : decode cX0_looks 164 = .ok (.ishr, 1) := dk_122 (dk_at dksX0_looks_7 0 rfl rfl)
theorem dX0_looks_165 : decode cX0_looks 165 = .ok (.iconst 1, 1) := dk_4 (dk_at dksX0_looks_7 1 rfl rfl)
theorem dX0_looks_166 : decode cX0_looks 166 = .ok (.iand, 1) := dk_126 (dk_at dksX0_looks_7 2 rfl rfl)
theorem dX0_looks_167 : decode cX0_looks 167 = .ok (.iconst 1, 1) := dk_4 (dk_at dksX0_looks_7 3 rfl rfl)
theorem dX0_looks_168 : decode cX0_looks 168 = .ok (.if_icmp .ne 10, 3) := dk_160 0 10 (dk_at dksX0_looks_7 4 rfl rfl)
theorem dX0_looks_171 : decode cX0_looks 171 = .ok (.aload_n 3, 1) := dk_45 (dk_at dksX0_looks_7 7 rfl rfl)
theorem dX0_looks_172 : decode cX0_looks 172 = .ok (.iload 6, 2) := dk_21 6 (dk_at dksX0_looks_7 8 rfl rfl)
theorem dX0_looks_174 : decode cX0_looks 174 = .ok (.iaload, 1) := dk_46 (dk_at dksX0_looks_7 10 rfl rfl)
theorem dX0_looks_175 : decode cX0_looks 175 = .ok (.goto 7, 3) := dk_167 0 7 (dk_at dksX0_looks_7 11 rfl rfl)
theorem dX0_looks_178 : decode cX0_looks 178 = .ok (.aload_n 2, 1) := dk_44 (dk_at dksX0_looks_7 14 rfl rfl)
theorem dX0_looks_179 : decode cX0_looks 179 = .ok (.iload 6, 2) := dk_21 6 (dk_at dksX0_looks_7 15 rfl rfl)
theorem dX0_looks_181 : decode cX0_looks 181 = .ok (.iaload, 1) := dk_46 (dk_at dksX0_looks_7 17 rfl rfl)
theorem dX0_looks_182 : decode cX0_looks 182 = .ok (.iadd, 1) := dk_96 (dk_at dksX0_looks_7 18 rfl rfl)
theorem dX0_looks_183 : decode cX0_looks 183 = .ok (.istore 5, 2) := dk_54 5 (dk_at dksX0_looks_7 19 rfl rfl)
theorem dX0_looks_185 : decode cX0_looks 185 = .ok (.iinc 6 1, 3) := dk_132 6 1 (dk_at dksX0_looks_7 21 rfl rfl)
theorem dX0_looks_188 : decode cX0_looks 188 = .ok (.goto (-36), 3) := dk_167 255 220 (dk_at dksX0_looks_8 0 rfl rfl)
theorem dX0_looks_191 : decode cX0_looks 191 = .ok (.iload 4, 2) := dk_21 4 (dk_at dksX0_looks_8 3 rfl rfl)
theorem dX0_looks_193 : decode cX0_looks 193 = .ok (.invokestatic 174, 3) := dk_184 0 174 (dk_at dksX0_looks_8 5 rfl rfl)
theorem dX0_looks_196 : decode cX0_looks 196 = .ok (.aload_n 0, 1) := dk_42 (dk_at dksX0_looks_8 8 rfl rfl)
theorem dX0_looks_197 : decode cX0_looks 197 = .ok (.getfield 47, 3) := dk_180 0 47 (dk_at dksX0_looks_8 9 rfl rfl)
theorem dX0_looks_200 : decode cX0_looks 200 = .ok (.if_icmp .gt 48, 3) := dk_163 0 48 (dk_at dksX0_looks_8 12 rfl rfl)
theorem dX0_looks_203 : decode cX0_looks 203 = .ok (.iload 5, 2) := dk_21 5 (dk_at dksX0_looks_8 15 rfl rfl)
theorem dX0_looks_205 : decode cX0_looks 205 = .ok (.aload_n 0, 1) := dk_42 (dk_at dksX0_looks_8 17 rfl rfl)
theorem dX0_looks_206 : decode cX0_looks 206 = .ok (.getfield 171, 3) := dk_180 0 171 (dk_at dksX0_looks_8 18 rfl rfl)
theorem dX0_looks_209 : decode cX0_looks 209 = .ok (.if_icmp .gt 27, 3) := dk_163 0 27 (dk_at dksX0_looks_8 21 rfl rfl)
theorem dX0_looks_212 : decode cX0_looks 212 = .ok (.iload 5, 2) := dk_21 5 (dk_at dksX0_looks_9 0 rfl rfl)
theorem dX0_looks_214 : decode cX0_looks 214 = .ok (.aload_n 0, 1) := dk_42 (dk_at dksX0_looks_9 2 rfl rfl)
theorem dX0_looks_215 : decode cX0_looks 215 = .ok (.getfield 171, 3) := dk_180 0 171 (dk_at dksX0_looks_9 3 rfl rfl)
theorem dX0_looks_218 : decode cX0_looks 218 = .ok (.if_icmp .ne 30, 3) := dk_160 0 30 (dk_at dksX0_looks_9 6 rfl rfl)
theorem dX0_looks_221 : decode cX0_looks 221 = .ok (.iload 4, 2) := dk_21 4 (dk_at dksX0_looks_9 9 rfl rfl)
theorem dX0_looks_223 : decode cX0_looks 223 = .ok (.invokestatic 174, 3) := dk_184 0 174 (dk_at dksX0_looks_9 11 rfl rfl)
theorem dX0_looks_226 : decode cX0_looks 226 = .ok (.aload_n 0, 1) := dk_42 (dk_at dksX0_looks_9 14 rfl rfl)
theorem dX0_looks_227 : decode cX0_looks 227 = .ok (.getfield 178, 3) := dk_180 0 178 (dk_at dksX0_looks_9 15 rfl rfl)
theorem dX0_looks_230 : decode cX0_looks 230 = .ok (.invokestatic 174, 3) := dk_184 0 174 (dk_at dksX0_looks_9 18 rfl rfl)
theorem dX0_looks_233 : decode cX0_looks 233 = .ok (.if_icmp .ge 15, 3) := dk_162 0 15 (dk_at dksX0_looks_9 21 rfl rfl)
theorem dX0_looks_236 : decode cX0_looks 236 = .ok (.aload_n 0, 1) := dk_42 (dk_at dksX0_looks_10 0 rfl rfl)
theorem dX0_looks_237 : decode cX0_looks 237 = .ok (.iload 5, 2) := dk_21 5 (dk_at dksX0_looks_10 1 rfl rfl)
theorem dX0_looks_239 : decode cX0_looks 239 = .ok (.putfield 171, 3) := dk_181 0 171 (dk_at dksX0_looks_10 3 rfl rfl)
theorem dX0_looks_242 : decode cX0_looks 242 = .ok (.aload_n 0, 1) := dk_42 (dk_at dksX0_looks_10 6 rfl rfl)
theorem dX0_looks_243 : decode cX0_looks 243 = .ok (.iload 4, 2) := dk_21 4 (dk_at dksX0_looks_10 7 rfl rfl)
theorem dX0_looks_245 : decode cX0_looks 245 = .ok (.putfield 178, 3) := dk_181 0 178 (dk_at dksX0_looks_10 9 rfl rfl)
theorem dX0_looks_248 : decode cX0_looks 248 = .ok (.iinc 4 1, 3) := dk_132 4 1 (dk_at dksX0_looks_10 12 rfl rfl)
theorem dX0_looks_251 : decode cX0_looks 251 = .ok (.goto (-113), 3) := dk_167 255 143 (dk_at dksX0_looks_10 15 rfl rfl)
theorem dX0_looks_254 : decode cX0_looks 254 = .ok (.iconst 0, 1) := dk_3 (dk_at dksX0_looks_10 18 rfl rfl)
theorem dX0_looks_255 : decode cX0_looks 255 = .ok (.ireturn, 1) := dk_172 (dk_at dksX0_looks_10 19 rfl rfl)
abbrev cX0_ones : ByteArray := prog_1_method_29_code
def yX0_ones : MethodName := ⟨RX0, "ones", "(I)I"⟩
def dkwX0_ones_1 : List UInt8 := [27, 172]
abbrev dktX0_ones_1 : List UInt8 := dkwX0_ones_1 ++ []
def dkwX0_ones_0 : List UInt8 := [3, 60, 3, 61, 28, 16, 6, 162, 0, 17, 27, 26, 28, 122, 4, 126, 96, 60, 132, 2, 1, 167, 255, 239]
abbrev dktX0_ones_0 : List UInt8 := dkwX0_ones_0 ++ dktX0_ones_1
theorem dksX0_ones_0 : cX0_ones.data.toList.drop 0 = dktX0_ones_0 := by decide +kernel
theorem dksX0_ones_1 : cX0_ones.data.toList.drop 24 = dktX0_ones_1 := dk_seg dksX0_ones_0 24 rfl rfl
theorem dX0_ones_0 : decode cX0_ones 0 = .ok (.iconst 0, 1) := dk_3 (dk_at dksX0_ones_0 0 rfl rfl)
theorem dX0_ones_1 : decode cX0_ones 1 = .ok (.istore_n 1, 1) := dk_60 (dk_at dksX0_ones_0 1 rfl rfl)
theorem dX0_ones_2 : decode cX0_ones 2 = .ok (.iconst 0, 1) := dk_3 (dk_at dksX0_ones_0 2 rfl rfl)
theorem dX0_ones_3 : decode cX0_ones 3 = .ok (.istore_n 2, 1) := dk_61 (dk_at dksX0_ones_0 3 rfl rfl)
theorem dX0_ones_4 : decode cX0_ones 4 = .ok (.iload_n 2, 1) := dk_28 (dk_at dksX0_ones_0 4 rfl rfl)
theorem dX0_ones_5 : decode cX0_ones 5 = .ok (.bipush 6, 2) := dk_16 6 (dk_at dksX0_ones_0 5 rfl rfl)
theorem dX0_ones_7 : decode cX0_ones 7 = .ok (.if_icmp .ge 17, 3) := dk_162 0 17 (dk_at dksX0_ones_0 7 rfl rfl)
theorem dX0_ones_10 : decode cX0_ones 10 = .ok (.iload_n 1, 1) := dk_27 (dk_at dksX0_ones_0 10 rfl rfl)
theorem dX0_ones_11 : decode cX0_ones 11 = .ok (.iload_n 0, 1) := dk_26 (dk_at dksX0_ones_0 11 rfl rfl)
theorem dX0_ones_12 : decode cX0_ones 12 = .ok (.iload_n 2, 1) := dk_28 (dk_at dksX0_ones_0 12 rfl rfl)
theorem dX0_ones_13 : decode cX0_ones 13 = .ok (.ishr, 1) := dk_122 (dk_at dksX0_ones_0 13 rfl rfl)
theorem dX0_ones_14 : decode cX0_ones 14 = .ok (.iconst 1, 1) := dk_4 (dk_at dksX0_ones_0 14 rfl rfl)
theorem dX0_ones_15 : decode cX0_ones 15 = .ok (.iand, 1) := dk_126 (dk_at dksX0_ones_0 15 rfl rfl)
theorem dX0_ones_16 : decode cX0_ones 16 = .ok (.iadd, 1) := dk_96 (dk_at dksX0_ones_0 16 rfl rfl)
theorem dX0_ones_17 : decode cX0_ones 17 = .ok (.istore_n 1, 1) := dk_60 (dk_at dksX0_ones_0 17 rfl rfl)
theorem dX0_ones_18 : decode cX0_ones 18 = .ok (.iinc 2 1, 3) := dk_132 2 1 (dk_at dksX0_ones_0 18 rfl rfl)
theorem dX0_ones_21 : decode cX0_ones 21 = .ok (.goto (-17), 3) := dk_167 255 239 (dk_at dksX0_ones_0 21 rfl rfl)
theorem dX0_ones_24 : decode cX0_ones 24 = .ok (.iload_n 1, 1) := dk_27 (dk_at dksX0_ones_1 0 rfl rfl)
theorem dX0_ones_25 : decode cX0_ones 25 = .ok (.ireturn, 1) := dk_172 (dk_at dksX0_ones_1 1 rfl rfl)
abbrev cX0_use : ByteArray := prog_1_method_32_code
def yX0_use : MethodName := ⟨RX0, "use", "()I"⟩
def dkwX0_use_0 : List UInt8 := [42, 182, 0, 181, 60, 27, 154, 0, 10, 42, 180, 0, 178, 167, 0, 4, 27, 172]
abbrev dktX0_use_0 : List UInt8 := dkwX0_use_0 ++ []
theorem dksX0_use_0 : cX0_use.data.toList.drop 0 = dktX0_use_0 := by decide +kernel
theorem dX0_use_0 : decode cX0_use 0 = .ok (.aload_n 0, 1) := dk_42 (dk_at dksX0_use_0 0 rfl rfl)
theorem dX0_use_1 : decode cX0_use 1 = .ok (.invokevirtual 181, 3) := dk_182 0 181 (dk_at dksX0_use_0 1 rfl rfl)
theorem dX0_use_4 : decode cX0_use 4 = .ok (.istore_n 1, 1) := dk_60 (dk_at dksX0_use_0 4 rfl rfl)
theorem dX0_use_5 : decode cX0_use 5 = .ok (.iload_n 1, 1) := dk_27 (dk_at dksX0_use_0 5 rfl rfl)
theorem dX0_use_6 : decode cX0_use 6 = .ok (.ifCond .ne 10, 3) := dk_154 0 10 (dk_at dksX0_use_0 6 rfl rfl)
theorem dX0_use_9 : decode cX0_use 9 = .ok (.aload_n 0, 1) := dk_42 (dk_at dksX0_use_0 9 rfl rfl)
theorem dX0_use_10 : decode cX0_use 10 = .ok (.getfield 178, 3) := dk_180 0 178 (dk_at dksX0_use_0 10 rfl rfl)
theorem dX0_use_13 : decode cX0_use 13 = .ok (.goto 4, 3) := dk_167 0 4 (dk_at dksX0_use_0 13 rfl rfl)
theorem dX0_use_16 : decode cX0_use 16 = .ok (.iload_n 1, 1) := dk_27 (dk_at dksX0_use_0 16 rfl rfl)
theorem dX0_use_17 : decode cX0_use 17 = .ok (.ireturn, 1) := dk_172 (dk_at dksX0_use_0 17 rfl rfl)
abbrev cX0_odds : ByteArray := prog_1_method_33_code
def yX0_odds : MethodName := ⟨RX0, "odds", "(II)I"⟩
def dkwX0_odds_3 : List UInt8 := [180, 0, 50, 167, 0, 4, 3, 182, 0, 134, 172]
abbrev dktX0_odds_3 : List UInt8 := dkwX0_odds_3 ++ []
def dkwX0_odds_2 : List UInt8 := [42, 180, 0, 19, 3, 50, 42, 180, 0, 43, 27, 182, 0, 167, 192, 0, 17, 28, 4, 160, 0, 10, 42]
abbrev dktX0_odds_2 : List UInt8 := dkwX0_odds_2 ++ dktX0_odds_3
def dkwX0_odds_1 : List UInt8 := [154, 0, 6, 16, 254, 172, 42, 180, 0, 19, 3, 50, 3, 46, 2, 160, 0, 8, 16, 253, 167, 0, 37, 42]
abbrev dktX0_odds_1 : List UInt8 := dkwX0_odds_1 ++ dktX0_odds_2
def dkwX0_odds_0 : List UInt8 := [27, 3, 42, 180, 0, 43, 182, 0, 157, 4, 100, 184, 0, 69, 153, 0, 12, 28, 3, 4, 184, 0, 69]
abbrev dktX0_odds_0 : List UInt8 := dkwX0_odds_0 ++ dktX0_odds_1
theorem dksX0_odds_0 : cX0_odds.data.toList.drop 0 = dktX0_odds_0 := by decide +kernel
theorem dksX0_odds_1 : cX0_odds.data.toList.drop 23 = dktX0_odds_1 := dk_seg dksX0_odds_0 23 rfl rfl
theorem dksX0_odds_2 : cX0_odds.data.toList.drop 47 = dktX0_odds_2 := dk_seg dksX0_odds_1 24 rfl rfl
theorem dksX0_odds_3 : cX0_odds.data.toList.drop 70 = dktX0_odds_3 := dk_seg dksX0_odds_2 23 rfl rfl
theorem dX0_odds_0 : decode cX0_odds 0 = .ok (.iload_n 1, 1) := dk_27 (dk_at dksX0_odds_0 0 rfl rfl)
theorem dX0_odds_1 : decode cX0_odds 1 = .ok (.iconst 0, 1) := dk_3 (dk_at dksX0_odds_0 1 rfl rfl)
theorem dX0_odds_2 : decode cX0_odds 2 = .ok (.aload_n 0, 1) := dk_42 (dk_at dksX0_odds_0 2 rfl rfl)
theorem dX0_odds_3 : decode cX0_odds 3 = .ok (.getfield 43, 3) := dk_180 0 43 (dk_at dksX0_odds_0 3 rfl rfl)
theorem dX0_odds_6 : decode cX0_odds 6 = .ok (.invokevirtual 157, 3) := dk_182 0 157 (dk_at dksX0_odds_0 6 rfl rfl)
theorem dX0_odds_9 : decode cX0_odds 9 = .ok (.iconst 1, 1) := dk_4 (dk_at dksX0_odds_0 9 rfl rfl)
theorem dX0_odds_10 : decode cX0_odds 10 = .ok (.isub, 1) := dk_100 (dk_at dksX0_odds_0 10 rfl rfl)
theorem dX0_odds_11 : decode cX0_odds 11 = .ok (.invokestatic 69, 3) := dk_184 0 69 (dk_at dksX0_odds_0 11 rfl rfl)
theorem dX0_odds_14 : decode cX0_odds 14 = .ok (.ifCond .eq 12, 3) := dk_153 0 12 (dk_at dksX0_odds_0 14 rfl rfl)
theorem dX0_odds_17 : decode cX0_odds 17 = .ok (.iload_n 2, 1) := dk_28 (dk_at dksX0_odds_0 17 rfl rfl)
theorem dX0_odds_18 : decode cX0_odds 18 = .ok (.iconst 0, 1) := dk_3 (dk_at dksX0_odds_0 18 rfl rfl)
theorem dX0_odds_19 : decode cX0_odds 19 = .ok (.iconst 1, 1) := dk_4 (dk_at dksX0_odds_0 19 rfl rfl)
theorem dX0_odds_20 : decode cX0_odds 20 = .ok (.invokestatic 69, 3) := dk_184 0 69 (dk_at dksX0_odds_0 20 rfl rfl)
theorem dX0_odds_23 : decode cX0_odds 23 = .ok (.ifCond .ne 6, 3) := dk_154 0 6 (dk_at dksX0_odds_1 0 rfl rfl)
theorem dX0_odds_26 : decode cX0_odds 26 = .ok (.bipush (-2), 2) := dk_16 254 (dk_at dksX0_odds_1 3 rfl rfl)
theorem dX0_odds_28 : decode cX0_odds 28 = .ok (.ireturn, 1) := dk_172 (dk_at dksX0_odds_1 5 rfl rfl)
theorem dX0_odds_29 : decode cX0_odds 29 = .ok (.aload_n 0, 1) := dk_42 (dk_at dksX0_odds_1 6 rfl rfl)
theorem dX0_odds_30 : decode cX0_odds 30 = .ok (.getfield 19, 3) := dk_180 0 19 (dk_at dksX0_odds_1 7 rfl rfl)
theorem dX0_odds_33 : decode cX0_odds 33 = .ok (.iconst 0, 1) := dk_3 (dk_at dksX0_odds_1 10 rfl rfl)
theorem dX0_odds_34 : decode cX0_odds 34 = .ok (.aaload, 1) := dk_50 (dk_at dksX0_odds_1 11 rfl rfl)
theorem dX0_odds_35 : decode cX0_odds 35 = .ok (.iconst 0, 1) := dk_3 (dk_at dksX0_odds_1 12 rfl rfl)
theorem dX0_odds_36 : decode cX0_odds 36 = .ok (.iaload, 1) := dk_46 (dk_at dksX0_odds_1 13 rfl rfl)
theorem dX0_odds_37 : decode cX0_odds 37 = .ok (.iconst (-1), 1) := dk_2 (dk_at dksX0_odds_1 14 rfl rfl)
theorem dX0_odds_38 : decode cX0_odds 38 = .ok (.if_icmp .ne 8, 3) := dk_160 0 8 (dk_at dksX0_odds_1 15 rfl rfl)
theorem dX0_odds_41 : decode cX0_odds 41 = .ok (.bipush (-3), 2) := dk_16 253 (dk_at dksX0_odds_1 18 rfl rfl)
theorem dX0_odds_43 : decode cX0_odds 43 = .ok (.goto 37, 3) := dk_167 0 37 (dk_at dksX0_odds_1 20 rfl rfl)
theorem dX0_odds_46 : decode cX0_odds 46 = .ok (.aload_n 0, 1) := dk_42 (dk_at dksX0_odds_1 23 rfl rfl)
theorem dX0_odds_47 : decode cX0_odds 47 = .ok (.aload_n 0, 1) := dk_42 (dk_at dksX0_odds_2 0 rfl rfl)
theorem dX0_odds_48 : decode cX0_odds 48 = .ok (.getfield 19, 3) := dk_180 0 19 (dk_at dksX0_odds_2 1 rfl rfl)
theorem dX0_odds_51 : decode cX0_odds 51 = .ok (.iconst 0, 1) := dk_3 (dk_at dksX0_odds_2 4 rfl rfl)
theorem dX0_odds_52 : decode cX0_odds 52 = .ok (.aaload, 1) := dk_50 (dk_at dksX0_odds_2 5 rfl rfl)
theorem dX0_odds_53 : decode cX0_odds 53 = .ok (.aload_n 0, 1) := dk_42 (dk_at dksX0_odds_2 6 rfl rfl)
theorem dX0_odds_54 : decode cX0_odds 54 = .ok (.getfield 43, 3) := dk_180 0 43 (dk_at dksX0_odds_2 7 rfl rfl)
theorem dX0_odds_57 : decode cX0_odds 57 = .ok (.iload_n 1, 1) := dk_27 (dk_at dksX0_odds_2 10 rfl rfl)
theorem dX0_odds_58 : decode cX0_odds 58 = .ok (.invokevirtual 167, 3) := dk_182 0 167 (dk_at dksX0_odds_2 11 rfl rfl)
theorem dX0_odds_61 : decode cX0_odds 61 = .ok (.checkcast 17, 3) := dk_192 0 17 (dk_at dksX0_odds_2 14 rfl rfl)
theorem dX0_odds_64 : decode cX0_odds 64 = .ok (.iload_n 2, 1) := dk_28 (dk_at dksX0_odds_2 17 rfl rfl)
theorem dX0_odds_65 : decode cX0_odds 65 = .ok (.iconst 1, 1) := dk_4 (dk_at dksX0_odds_2 18 rfl rfl)
theorem dX0_odds_66 : decode cX0_odds 66 = .ok (.if_icmp .ne 10, 3) := dk_160 0 10 (dk_at dksX0_odds_2 19 rfl rfl)
theorem dX0_odds_69 : decode cX0_odds 69 = .ok (.aload_n 0, 1) := dk_42 (dk_at dksX0_odds_2 22 rfl rfl)
theorem dX0_odds_70 : decode cX0_odds 70 = .ok (.getfield 50, 3) := dk_180 0 50 (dk_at dksX0_odds_3 0 rfl rfl)
theorem dX0_odds_73 : decode cX0_odds 73 = .ok (.goto 4, 3) := dk_167 0 4 (dk_at dksX0_odds_3 3 rfl rfl)
theorem dX0_odds_76 : decode cX0_odds 76 = .ok (.iconst 0, 1) := dk_3 (dk_at dksX0_odds_3 6 rfl rfl)
theorem dX0_odds_77 : decode cX0_odds 77 = .ok (.invokevirtual 134, 3) := dk_182 0 134 (dk_at dksX0_odds_3 7 rfl rfl)
theorem dX0_odds_80 : decode cX0_odds 80 = .ok (.ireturn, 1) := dk_172 (dk_at dksX0_odds_3 10 rfl rfl)
abbrev cX0_wish : ByteArray := prog_1_method_35_code
def yX0_wish : MethodName := ⟨RX0, "wish", "(II)I"⟩
def dkwX0_wish_4 : List UInt8 := [132, 5, 1, 167, 255, 237, 132, 4, 1, 167, 255, 212, 42, 180, 0, 53, 182, 0, 157, 172]
abbrev dktX0_wish_4 : List UInt8 := dkwX0_wish_4 ++ []
def dkwX0_wish_3 : List UInt8 := [182, 0, 197, 21, 4, 54, 5, 21, 5, 29, 162, 0, 19, 42, 21, 4, 21, 5, 27, 28, 182, 0, 197]
abbrev dktX0_wish_3 : List UInt8 := dkwX0_wish_3 ++ dktX0_wish_4
def dkwX0_wish_2 : List UInt8 := [180, 0, 73, 184, 0, 191, 62, 3, 54, 4, 21, 4, 29, 162, 0, 44, 42, 21, 4, 2, 27, 28]
abbrev dktX0_wish_2 : List UInt8 := dkwX0_wish_2 ++ dktX0_wish_3
def dkwX0_wish_1 : List UInt8 := [180, 0, 19, 3, 50, 3, 46, 2, 160, 0, 6, 16, 253, 172, 42, 180, 0, 53, 182, 0, 164, 16, 6, 42]
abbrev dktX0_wish_1 : List UInt8 := dkwX0_wish_1 ++ dktX0_wish_2
def dkwX0_wish_0 : List UInt8 := [27, 3, 18, 190, 184, 0, 69, 153, 0, 13, 28, 27, 18, 190, 184, 0, 69, 154, 0, 6, 16, 254, 172, 42]
abbrev dktX0_wish_0 : List UInt8 := dkwX0_wish_0 ++ dktX0_wish_1
theorem dksX0_wish_0 : cX0_wish.data.toList.drop 0 = dktX0_wish_0 := by decide +kernel
theorem dksX0_wish_1 : cX0_wish.data.toList.drop 24 = dktX0_wish_1 := dk_seg dksX0_wish_0 24 rfl rfl
theorem dksX0_wish_2 : cX0_wish.data.toList.drop 48 = dktX0_wish_2 := dk_seg dksX0_wish_1 24 rfl rfl
theorem dksX0_wish_3 : cX0_wish.data.toList.drop 70 = dktX0_wish_3 := dk_seg dksX0_wish_2 22 rfl rfl
theorem dksX0_wish_4 : cX0_wish.data.toList.drop 93 = dktX0_wish_4 := dk_seg dksX0_wish_3 23 rfl rfl
theorem dX0_wish_0 : decode cX0_wish 0 = .ok (.iload_n 1, 1) := dk_27 (dk_at dksX0_wish_0 0 rfl rfl)
theorem dX0_wish_1 : decode cX0_wish 1 = .ok (.iconst 0, 1) := dk_3 (dk_at dksX0_wish_0 1 rfl rfl)
theorem dX0_wish_2 : decode cX0_wish 2 = .ok (.ldc 190, 2) := dk_18 190 (dk_at dksX0_wish_0 2 rfl rfl)
theorem dX0_wish_4 : decode cX0_wish 4 = .ok (.invokestatic 69, 3) := dk_184 0 69 (dk_at dksX0_wish_0 4 rfl rfl)
theorem dX0_wish_7 : decode cX0_wish 7 = .ok (.ifCond .eq 13, 3) := dk_153 0 13 (dk_at dksX0_wish_0 7 rfl rfl)
theorem dX0_wish_10 : decode cX0_wish 10 = .ok (.iload_n 2, 1) := dk_28 (dk_at dksX0_wish_0 10 rfl rfl)
theorem dX0_wish_11 : decode cX0_wish 11 = .ok (.iload_n 1, 1) := dk_27 (dk_at dksX0_wish_0 11 rfl rfl)
theorem dX0_wish_12 : decode cX0_wish 12 = .ok (.ldc 190, 2) := dk_18 190 (dk_at dksX0_wish_0 12 rfl rfl)
theorem dX0_wish_14 : decode cX0_wish 14 = .ok (.invokestatic 69, 3) := dk_184 0 69 (dk_at dksX0_wish_0 14 rfl rfl)
theorem dX0_wish_17 : decode cX0_wish 17 = .ok (.ifCond .ne 6, 3) := dk_154 0 6 (dk_at dksX0_wish_0 17 rfl rfl)
theorem dX0_wish_20 : decode cX0_wish 20 = .ok (.bipush (-2), 2) := dk_16 254 (dk_at dksX0_wish_0 20 rfl rfl)
theorem dX0_wish_22 : decode cX0_wish 22 = .ok (.ireturn, 1) := dk_172 (dk_at dksX0_wish_0 22 rfl rfl)
theorem dX0_wish_23 : decode cX0_wish 23 = .ok (.aload_n 0, 1) := dk_42 (dk_at dksX0_wish_0 23 rfl rfl)
theorem dX0_wish_24 : decode cX0_wish 24 = .ok (.getfield 19, 3) := dk_180 0 19 (dk_at dksX0_wish_1 0 rfl rfl)
theorem dX0_wish_27 : decode cX0_wish 27 = .ok (.iconst 0, 1) := dk_3 (dk_at dksX0_wish_1 3 rfl rfl)
theorem dX0_wish_28 : decode cX0_wish 28 = .ok (.aaload, 1) := dk_50 (dk_at dksX0_wish_1 4 rfl rfl)
theorem dX0_wish_29 : decode cX0_wish 29 = .ok (.iconst 0, 1) := dk_3 (dk_at dksX0_wish_1 5 rfl rfl)
theorem dX0_wish_30 : decode cX0_wish 30 = .ok (.iaload, 1) := dk_46 (dk_at dksX0_wish_1 6 rfl rfl)
theorem dX0_wish_31 : decode cX0_wish 31 = .ok (.iconst (-1), 1) := dk_2 (dk_at dksX0_wish_1 7 rfl rfl)
theorem dX0_wish_32 : decode cX0_wish 32 = .ok (.if_icmp .ne 6, 3) := dk_160 0 6 (dk_at dksX0_wish_1 8 rfl rfl)
theorem dX0_wish_35 : decode cX0_wish 35 = .ok (.bipush (-3), 2) := dk_16 253 (dk_at dksX0_wish_1 11 rfl rfl)
theorem dX0_wish_37 : decode cX0_wish 37 = .ok (.ireturn, 1) := dk_172 (dk_at dksX0_wish_1 13 rfl rfl)
theorem dX0_wish_38 : decode cX0_wish 38 = .ok (.aload_n 0, 1) := dk_42 (dk_at dksX0_wish_1 14 rfl rfl)
theorem dX0_wish_39 : decode cX0_wish 39 = .ok (.getfield 53, 3) := dk_180 0 53 (dk_at dksX0_wish_1 15 rfl rfl)
theorem dX0_wish_42 : decode cX0_wish 42 = .ok (.invokevirtual 164, 3) := dk_182 0 164 (dk_at dksX0_wish_1 18 rfl rfl)
theorem dX0_wish_45 : decode cX0_wish 45 = .ok (.bipush 6, 2) := dk_16 6 (dk_at dksX0_wish_1 21 rfl rfl)
theorem dX0_wish_47 : decode cX0_wish 47 = .ok (.aload_n 0, 1) := dk_42 (dk_at dksX0_wish_1 23 rfl rfl)
theorem dX0_wish_48 : decode cX0_wish 48 = .ok (.getfield 73, 3) := dk_180 0 73 (dk_at dksX0_wish_2 0 rfl rfl)
theorem dX0_wish_51 : decode cX0_wish 51 = .ok (.invokestatic 191, 3) := dk_184 0 191 (dk_at dksX0_wish_2 3 rfl rfl)
theorem dX0_wish_54 : decode cX0_wish 54 = .ok (.istore_n 3, 1) := dk_62 (dk_at dksX0_wish_2 6 rfl rfl)
theorem dX0_wish_55 : decode cX0_wish 55 = .ok (.iconst 0, 1) := dk_3 (dk_at dksX0_wish_2 7 rfl rfl)
theorem dX0_wish_56 : decode cX0_wish 56 = .ok (.istore 4, 2) := dk_54 4 (dk_at dksX0_wish_2 8 rfl rfl)
theorem dX0_wish_58 : decode cX0_wish 58 = .ok (.iload 4, 2) := dk_21 4 (dk_at dksX0_wish_2 10 rfl rfl)
theorem dX0_wish_60 : decode cX0_wish 60 = .ok (.iload_n 3, 1) := dk_29 (dk_at dksX0_wish_2 12 rfl rfl)
theorem dX0_wish_61 : decode cX0_wish 61 = .ok (.if_icmp .ge 44, 3) := dk_162 0 44 (dk_at dksX0_wish_2 13 rfl rfl)
theorem dX0_wish_64 : decode cX0_wish 64 = .ok (.aload_n 0, 1) := dk_42 (dk_at dksX0_wish_2 16 rfl rfl)
theorem dX0_wish_65 : decode cX0_wish 65 = .ok (.iload 4, 2) := dk_21 4 (dk_at dksX0_wish_2 17 rfl rfl)
theorem dX0_wish_67 : decode cX0_wish 67 = .ok (.iconst (-1), 1) := dk_2 (dk_at dksX0_wish_2 19 rfl rfl)
theorem dX0_wish_68 : decode cX0_wish 68 = .ok (.iload_n 1, 1) := dk_27 (dk_at dksX0_wish_2 20 rfl rfl)
theorem dX0_wish_69 : decode cX0_wish 69 = .ok (.iload_n 2, 1) := dk_28 (dk_at dksX0_wish_2 21 rfl rfl)
theorem dX0_wish_70 : decode cX0_wish 70 = .ok (.invokevirtual 197, 3) := dk_182 0 197 (dk_at dksX0_wish_3 0 rfl rfl)
theorem dX0_wish_73 : decode cX0_wish 73 = .ok (.iload 4, 2) := dk_21 4 (dk_at dksX0_wish_3 3 rfl rfl)
theorem dX0_wish_75 : decode cX0_wish 75 = .ok (.istore 5, 2) := dk_54 5 (dk_at dksX0_wish_3 5 rfl rfl)
theorem dX0_wish_77 : decode cX0_wish 77 = .ok (.iload 5, 2) := dk_21 5 (dk_at dksX0_wish_3 7 rfl rfl)
theorem dX0_wish_79 : decode cX0_wish 79 = .ok (.iload_n 3, 1) := dk_29 (dk_at dksX0_wish_3 9 rfl rfl)
theorem dX0_wish_80 : decode cX0_wish 80 = .ok (.if_icmp .ge 19, 3) := dk_162 0 19 (dk_at dksX0_wish_3 10 rfl rfl)
theorem dX0_wish_83 : decode cX0_wish 83 = .ok (.aload_n 0, 1) := dk_42 (dk_at dksX0_wish_3 13 rfl rfl)
theorem dX0_wish_84 : decode cX0_wish 84 = .ok (.iload 4, 2) := dk_21 4 (dk_at dksX0_wish_3 14 rfl rfl)
theorem dX0_wish_86 : decode cX0_wish 86 = .ok (.iload 5, 2) := dk_21 5 (dk_at dksX0_wish_3 16 rfl rfl)
theorem dX0_wish_88 : decode cX0_wish 88 = .ok (.iload_n 1, 1) := dk_27 (dk_at dksX0_wish_3 18 rfl rfl)
theorem dX0_wish_89 : decode cX0_wish 89 = .ok (.iload_n 2, 1) := dk_28 (dk_at dksX0_wish_3 19 rfl rfl)
theorem dX0_wish_90 : decode cX0_wish 90 = .ok (.invokevirtual 197, 3) := dk_182 0 197 (dk_at dksX0_wish_3 20 rfl rfl)
theorem dX0_wish_93 : decode cX0_wish 93 = .ok (.iinc 5 1, 3) := dk_132 5 1 (dk_at dksX0_wish_4 0 rfl rfl)
theorem dX0_wish_96 : decode cX0_wish 96 = .ok (.goto (-19), 3) := dk_167 255 237 (dk_at dksX0_wish_4 3 rfl rfl)
theorem dX0_wish_99 : decode cX0_wish 99 = .ok (.iinc 4 1, 3) := dk_132 4 1 (dk_at dksX0_wish_4 6 rfl rfl)
theorem dX0_wish_102 : decode cX0_wish 102 = .ok (.goto (-44), 3) := dk_167 255 212 (dk_at dksX0_wish_4 9 rfl rfl)
theorem dX0_wish_105 : decode cX0_wish 105 = .ok (.aload_n 0, 1) := dk_42 (dk_at dksX0_wish_4 12 rfl rfl)
theorem dX0_wish_106 : decode cX0_wish 106 = .ok (.getfield 53, 3) := dk_180 0 53 (dk_at dksX0_wish_4 13 rfl rfl)
theorem dX0_wish_109 : decode cX0_wish 109 = .ok (.invokevirtual 157, 3) := dk_182 0 157 (dk_at dksX0_wish_4 16 rfl rfl)
theorem dX0_wish_112 : decode cX0_wish 112 = .ok (.ireturn, 1) := dk_172 (dk_at dksX0_wish_4 19 rfl rfl)
abbrev cX0_tries : ByteArray := prog_1_method_34_code
def yX0_tries : MethodName := ⟨RX0, "tries", "(IIII)V"⟩
def dkwX0_tries_3 : List UInt8 := [16, 16, 27, 104, 28, 96, 184, 0, 184, 182, 0, 160, 87, 177]
abbrev dktX0_tries_3 : List UInt8 := dkwX0_tries_3 ++ []
def dkwX0_tries_2 : List UInt8 := [153, 0, 36, 42, 180, 0, 53, 28, 2, 160, 0, 14, 17, 1, 0, 16, 16, 27, 104, 96, 167, 0, 9]
abbrev dktX0_tries_2 : List UInt8 := dkwX0_tries_2 ++ dktX0_tries_3
def dkwX0_tries_1 : List UInt8 := [25, 5, 3, 182, 0, 134, 54, 6, 21, 6, 16, 251, 159, 0, 47, 21, 6, 29, 21, 4, 184, 0, 69]
abbrev dktX0_tries_1 : List UInt8 := dkwX0_tries_1 ++ dktX0_tries_2
def dkwX0_tries_0 : List UInt8 := [6, 188, 10, 89, 3, 27, 79, 89, 4, 28, 79, 89, 5, 2, 79, 58, 5, 42, 42, 180, 0, 19, 3, 50]
abbrev dktX0_tries_0 : List UInt8 := dkwX0_tries_0 ++ dktX0_tries_1
theorem dksX0_tries_0 : cX0_tries.data.toList.drop 0 = dktX0_tries_0 := by decide +kernel
theorem dksX0_tries_1 : cX0_tries.data.toList.drop 24 = dktX0_tries_1 := dk_seg dksX0_tries_0 24 rfl rfl
theorem dksX0_tries_2 : cX0_tries.data.toList.drop 47 = dktX0_tries_2 := dk_seg dksX0_tries_1 23 rfl rfl
theorem dksX0_tries_3 : cX0_tries.data.toList.drop 70 = dktX0_tries_3 := dk_seg dksX0_tries_2 23 rfl rfl
theorem dX0_tries_0 : decode cX0_tries 0 = .ok (.iconst 3, 1) := dk_6 (dk_at dksX0_tries_0 0 rfl rfl)
theorem dX0_tries_1 : decode cX0_tries 1 = .ok (.newarray .int, 2) := dk_188_10 (dk_at dksX0_tries_0 1 rfl rfl)
theorem dX0_tries_3 : decode cX0_tries 3 = .ok (.dup, 1) := dk_89 (dk_at dksX0_tries_0 3 rfl rfl)
theorem dX0_tries_4 : decode cX0_tries 4 = .ok (.iconst 0, 1) := dk_3 (dk_at dksX0_tries_0 4 rfl rfl)
theorem dX0_tries_5 : decode cX0_tries 5 = .ok (.iload_n 1, 1) := dk_27 (dk_at dksX0_tries_0 5 rfl rfl)
theorem dX0_tries_6 : decode cX0_tries 6 = .ok (.iastore, 1) := dk_79 (dk_at dksX0_tries_0 6 rfl rfl)
theorem dX0_tries_7 : decode cX0_tries 7 = .ok (.dup, 1) := dk_89 (dk_at dksX0_tries_0 7 rfl rfl)
theorem dX0_tries_8 : decode cX0_tries 8 = .ok (.iconst 1, 1) := dk_4 (dk_at dksX0_tries_0 8 rfl rfl)
theorem dX0_tries_9 : decode cX0_tries 9 = .ok (.iload_n 2, 1) := dk_28 (dk_at dksX0_tries_0 9 rfl rfl)
theorem dX0_tries_10 : decode cX0_tries 10 = .ok (.iastore, 1) := dk_79 (dk_at dksX0_tries_0 10 rfl rfl)
theorem dX0_tries_11 : decode cX0_tries 11 = .ok (.dup, 1) := dk_89 (dk_at dksX0_tries_0 11 rfl rfl)
theorem dX0_tries_12 : decode cX0_tries 12 = .ok (.iconst 2, 1) := dk_5 (dk_at dksX0_tries_0 12 rfl rfl)
theorem dX0_tries_13 : decode cX0_tries 13 = .ok (.iconst (-1), 1) := dk_2 (dk_at dksX0_tries_0 13 rfl rfl)
theorem dX0_tries_14 : decode cX0_tries 14 = .ok (.iastore, 1) := dk_79 (dk_at dksX0_tries_0 14 rfl rfl)
theorem dX0_tries_15 : decode cX0_tries 15 = .ok (.astore 5, 2) := dk_58 5 (dk_at dksX0_tries_0 15 rfl rfl)
theorem dX0_tries_17 : decode cX0_tries 17 = .ok (.aload_n 0, 1) := dk_42 (dk_at dksX0_tries_0 17 rfl rfl)
theorem dX0_tries_18 : decode cX0_tries 18 = .ok (.aload_n 0, 1) := dk_42 (dk_at dksX0_tries_0 18 rfl rfl)
theorem dX0_tries_19 : decode cX0_tries 19 = .ok (.getfield 19, 3) := dk_180 0 19 (dk_at dksX0_tries_0 19 rfl rfl)
theorem dX0_tries_22 : decode cX0_tries 22 = .ok (.iconst 0, 1) := dk_3 (dk_at dksX0_tries_0 22 rfl rfl)
theorem dX0_tries_23 : decode cX0_tries 23 = .ok (.aaload, 1) := dk_50 (dk_at dksX0_tries_0 23 rfl rfl)
theorem dX0_tries_24 : decode cX0_tries 24 = .ok (.aload 5, 2) := dk_25 5 (dk_at dksX0_tries_1 0 rfl rfl)
theorem dX0_tries_26 : decode cX0_tries 26 = .ok (.iconst 0, 1) := dk_3 (dk_at dksX0_tries_1 2 rfl rfl)
theorem dX0_tries_27 : decode cX0_tries 27 = .ok (.invokevirtual 134, 3) := dk_182 0 134 (dk_at dksX0_tries_1 3 rfl rfl)
theorem dX0_tries_30 : decode cX0_tries 30 = .ok (.istore 6, 2) := dk_54 6 (dk_at dksX0_tries_1 6 rfl rfl)
theorem dX0_tries_32 : decode cX0_tries 32 = .ok (.iload 6, 2) := dk_21 6 (dk_at dksX0_tries_1 8 rfl rfl)
theorem dX0_tries_34 : decode cX0_tries 34 = .ok (.bipush (-5), 2) := dk_16 251 (dk_at dksX0_tries_1 10 rfl rfl)
theorem dX0_tries_36 : decode cX0_tries 36 = .ok (.if_icmp .eq 47, 3) := dk_159 0 47 (dk_at dksX0_tries_1 12 rfl rfl)
theorem dX0_tries_39 : decode cX0_tries 39 = .ok (.iload 6, 2) := dk_21 6 (dk_at dksX0_tries_1 15 rfl rfl)
theorem dX0_tries_41 : decode cX0_tries 41 = .ok (.iload_n 3, 1) := dk_29 (dk_at dksX0_tries_1 17 rfl rfl)
theorem dX0_tries_42 : decode cX0_tries 42 = .ok (.iload 4, 2) := dk_21 4 (dk_at dksX0_tries_1 18 rfl rfl)
theorem dX0_tries_44 : decode cX0_tries 44 = .ok (.invokestatic 69, 3) := dk_184 0 69 (dk_at dksX0_tries_1 20 rfl rfl)
theorem dX0_tries_47 : decode cX0_tries 47 = .ok (.ifCond .eq 36, 3) := dk_153 0 36 (dk_at dksX0_tries_2 0 rfl rfl)
theorem dX0_tries_50 : decode cX0_tries 50 = .ok (.aload_n 0, 1) := dk_42 (dk_at dksX0_tries_2 3 rfl rfl)
theorem dX0_tries_51 : decode cX0_tries 51 = .ok (.getfield 53, 3) := dk_180 0 53 (dk_at dksX0_tries_2 4 rfl rfl)
theorem dX0_tries_54 : decode cX0_tries 54 = .ok (.iload_n 2, 1) := dk_28 (dk_at dksX0_tries_2 7 rfl rfl)
theorem dX0_tries_55 : decode cX0_tries 55 = .ok (.iconst (-1), 1) := dk_2 (dk_at dksX0_tries_2 8 rfl rfl)
theorem dX0_tries_56 : decode cX0_tries 56 = .ok (.if_icmp .ne 14, 3) := dk_160 0 14 (dk_at dksX0_tries_2 9 rfl rfl)
theorem dX0_tries_59 : decode cX0_tries 59 = .ok (.sipush 256, 3) := dk_17 1 0 (dk_at dksX0_tries_2 12 rfl rfl)
theorem dX0_tries_62 : decode cX0_tries 62 = .ok (.bipush 16, 2) := dk_16 16 (dk_at dksX0_tries_2 15 rfl rfl)
theorem dX0_tries_64 : decode cX0_tries 64 = .ok (.iload_n 1, 1) := dk_27 (dk_at dksX0_tries_2 17 rfl rfl)
theorem dX0_tries_65 : decode cX0_tries 65 = .ok (.imul, 1) := dk_104 (dk_at dksX0_tries_2 18 rfl rfl)
theorem dX0_tries_66 : decode cX0_tries 66 = .ok (.iadd, 1) := dk_96 (dk_at dksX0_tries_2 19 rfl rfl)
theorem dX0_tries_67 : decode cX0_tries 67 = .ok (.goto 9, 3) := dk_167 0 9 (dk_at dksX0_tries_2 20 rfl rfl)
theorem dX0_tries_70 : decode cX0_tries 70 = .ok (.bipush 16, 2) := dk_16 16 (dk_at dksX0_tries_3 0 rfl rfl)
theorem dX0_tries_72 : decode cX0_tries 72 = .ok (.iload_n 1, 1) := dk_27 (dk_at dksX0_tries_3 2 rfl rfl)
theorem dX0_tries_73 : decode cX0_tries 73 = .ok (.imul, 1) := dk_104 (dk_at dksX0_tries_3 3 rfl rfl)
theorem dX0_tries_74 : decode cX0_tries 74 = .ok (.iload_n 2, 1) := dk_28 (dk_at dksX0_tries_3 4 rfl rfl)
theorem dX0_tries_75 : decode cX0_tries 75 = .ok (.iadd, 1) := dk_96 (dk_at dksX0_tries_3 5 rfl rfl)
theorem dX0_tries_76 : decode cX0_tries 76 = .ok (.invokestatic 184, 3) := dk_184 0 184 (dk_at dksX0_tries_3 6 rfl rfl)
theorem dX0_tries_79 : decode cX0_tries 79 = .ok (.invokevirtual 160, 3) := dk_182 0 160 (dk_at dksX0_tries_3 9 rfl rfl)
theorem dX0_tries_82 : decode cX0_tries 82 = .ok (.pop, 1) := dk_87 (dk_at dksX0_tries_3 12 rfl rfl)
theorem dX0_tries_83 : decode cX0_tries 83 = .ok (.return_, 1) := dk_177 (dk_at dksX0_tries_3 13 rfl rfl)
abbrev cX0_band : ByteArray := prog_1_method_36_code
def yX0_band : MethodName := ⟨RX0, "band", "(I)I"⟩
def dkwX0_band_1 : List UInt8 := [182, 0, 167, 192, 0, 185, 182, 0, 201, 167, 0, 5, 16, 254, 172]
abbrev dktX0_band_1 : List UInt8 := dkwX0_band_1 ++ []
def dkwX0_band_0 : List UInt8 := [27, 3, 42, 180, 0, 53, 182, 0, 157, 4, 100, 184, 0, 69, 153, 0, 20, 42, 180, 0, 53, 27]
abbrev dktX0_band_0 : List UInt8 := dkwX0_band_0 ++ dktX0_band_1
theorem dksX0_band_0 : cX0_band.data.toList.drop 0 = dktX0_band_0 := by decide +kernel
theorem dksX0_band_1 : cX0_band.data.toList.drop 22 = dktX0_band_1 := dk_seg dksX0_band_0 22 rfl rfl
theorem dX0_band_0 : decode cX0_band 0 = .ok (.iload_n 1, 1) := dk_27 (dk_at dksX0_band_0 0 rfl rfl)
theorem dX0_band_1 : decode cX0_band 1 = .ok (.iconst 0, 1) := dk_3 (dk_at dksX0_band_0 1 rfl rfl)
theorem dX0_band_2 : decode cX0_band 2 = .ok (.aload_n 0, 1) := dk_42 (dk_at dksX0_band_0 2 rfl rfl)
theorem dX0_band_3 : decode cX0_band 3 = .ok (.getfield 53, 3) := dk_180 0 53 (dk_at dksX0_band_0 3 rfl rfl)
theorem dX0_band_6 : decode cX0_band 6 = .ok (.invokevirtual 157, 3) := dk_182 0 157 (dk_at dksX0_band_0 6 rfl rfl)
theorem dX0_band_9 : decode cX0_band 9 = .ok (.iconst 1, 1) := dk_4 (dk_at dksX0_band_0 9 rfl rfl)
theorem dX0_band_10 : decode cX0_band 10 = .ok (.isub, 1) := dk_100 (dk_at dksX0_band_0 10 rfl rfl)
theorem dX0_band_11 : decode cX0_band 11 = .ok (.invokestatic 69, 3) := dk_184 0 69 (dk_at dksX0_band_0 11 rfl rfl)
theorem dX0_band_14 : decode cX0_band 14 = .ok (.ifCond .eq 20, 3) := dk_153 0 20 (dk_at dksX0_band_0 14 rfl rfl)
theorem dX0_band_17 : decode cX0_band 17 = .ok (.aload_n 0, 1) := dk_42 (dk_at dksX0_band_0 17 rfl rfl)
theorem dX0_band_18 : decode cX0_band 18 = .ok (.getfield 53, 3) := dk_180 0 53 (dk_at dksX0_band_0 18 rfl rfl)
theorem dX0_band_21 : decode cX0_band 21 = .ok (.iload_n 1, 1) := dk_27 (dk_at dksX0_band_0 21 rfl rfl)
theorem dX0_band_22 : decode cX0_band 22 = .ok (.invokevirtual 167, 3) := dk_182 0 167 (dk_at dksX0_band_1 0 rfl rfl)
theorem dX0_band_25 : decode cX0_band 25 = .ok (.checkcast 185, 3) := dk_192 0 185 (dk_at dksX0_band_1 3 rfl rfl)
theorem dX0_band_28 : decode cX0_band 28 = .ok (.invokevirtual 201, 3) := dk_182 0 201 (dk_at dksX0_band_1 6 rfl rfl)
theorem dX0_band_31 : decode cX0_band 31 = .ok (.goto 5, 3) := dk_167 0 5 (dk_at dksX0_band_1 9 rfl rfl)
theorem dX0_band_34 : decode cX0_band 34 = .ok (.bipush (-2), 2) := dk_16 254 (dk_at dksX0_band_1 12 rfl rfl)
theorem dX0_band_36 : decode cX0_band 36 = .ok (.ireturn, 1) := dk_172 (dk_at dksX0_band_1 14 rfl rfl)
abbrev cX0_play : ByteArray := prog_1_method_37_code
def yX0_play : MethodName := ⟨RX0, "play", "(I)I"⟩
def dkwX0_play_14 : List UInt8 := [46, 79, 132, 7, 1, 167, 255, 217, 42, 180, 0, 56, 3, 46, 172]
abbrev dktX0_play_14 : List UInt8 := dkwX0_play_14 ++ []
def dkwX0_play_13 : List UInt8 := [180, 0, 59, 45, 180, 0, 227, 21, 7, 46, 50, 45, 180, 0, 249, 21, 7, 46, 45, 180, 0, 252, 21, 7]
abbrev dktX0_play_13 : List UInt8 := dkwX0_play_13 ++ dktX0_play_14
def dkwX0_play_12 : List UInt8 := [21, 7, 2, 79, 132, 7, 1, 167, 255, 227, 3, 54, 7, 21, 7, 45, 180, 0, 217, 162, 0, 36, 42]
abbrev dktX0_play_12 : List UInt8 := dkwX0_play_12 ++ dktX0_play_13
def dkwX0_play_11 : List UInt8 := [54, 7, 21, 7, 6, 162, 0, 29, 42, 180, 0, 59, 3, 50, 21, 7, 2, 79, 42, 180, 0, 59, 4, 50]
abbrev dktX0_play_11 : List UInt8 := dkwX0_play_11 ++ dktX0_play_12
def dkwX0_play_10 : List UInt8 := [167, 0, 5, 21, 6, 79, 42, 180, 0, 56, 4, 21, 4, 79, 42, 180, 0, 56, 5, 21, 5, 79, 3]
abbrev dktX0_play_10 : List UInt8 := dkwX0_play_10 ++ dktX0_play_11
def dkwX0_play_9 : List UInt8 := [5, 182, 0, 211, 172, 45, 182, 0, 214, 54, 6, 42, 180, 0, 56, 3, 21, 6, 2, 160, 0, 7, 5]
abbrev dktX0_play_9 : List UInt8 := dkwX0_play_9 ++ dktX0_play_10
def dkwX0_play_8 : List UInt8 := [45, 21, 7, 182, 0, 243, 132, 6, 1, 167, 255, 137, 132, 5, 1, 167, 255, 111, 167, 0, 11, 58, 6, 42]
abbrev dktX0_play_8 : List UInt8 := dkwX0_play_8 ++ dktX0_play_9
def dkwX0_play_7 : List UInt8 := [184, 0, 236, 54, 9, 132, 4, 1, 21, 9, 4, 45, 180, 0, 240, 21, 7, 46, 184, 0, 69, 153, 0, 9]
abbrev dktX0_play_7 : List UInt8 := dkwX0_play_7 ++ dktX0_play_8
def dkwX0_play_6 : List UInt8 := [153, 0, 52, 45, 21, 7, 182, 0, 230, 153, 0, 43, 44, 180, 0, 207, 44, 180, 0, 233, 21, 4]
abbrev dktX0_play_6 : List UInt8 := dkwX0_play_6 ++ dktX0_play_7
def dkwX0_play_5 : List UInt8 := [180, 0, 227, 21, 7, 46, 42, 180, 0, 27, 159, 0, 7, 4, 167, 0, 4, 3, 54, 8, 21, 8]
abbrev dktX0_play_5 : List UInt8 := dkwX0_play_5 ++ dktX0_play_6
def dkwX0_play_4 : List UInt8 := [180, 0, 220, 21, 6, 46, 54, 7, 45, 180, 0, 223, 21, 7, 51, 153, 0, 26, 21, 5, 157, 0, 17, 45]
abbrev dktX0_play_4 : List UInt8 := dkwX0_play_4 ++ dktX0_play_5
def dkwX0_play_3 : List UInt8 := [162, 0, 134, 3, 54, 6, 21, 6, 45, 180, 0, 217, 162, 0, 116, 45, 182, 0, 214, 2, 160, 0, 108, 45]
abbrev dktX0_play_3 : List UInt8 := dkwX0_play_3 ++ dktX0_play_4
def dkwX0_play_2 : List UInt8 := [183, 0, 104, 78, 3, 54, 4, 3, 54, 5, 45, 182, 0, 214, 2, 160, 0, 143, 21, 5, 42, 180, 0, 23]
abbrev dktX0_play_2 : List UInt8 := dkwX0_play_2 ++ dktX0_play_3
def dkwX0_play_1 : List UInt8 := [42, 4, 182, 0, 211, 172, 187, 0, 102, 89, 42, 42, 180, 0, 19, 3, 50, 42, 180, 0, 19, 4, 50, 3]
abbrev dktX0_play_1 : List UInt8 := dkwX0_play_1 ++ dktX0_play_2
def dkwX0_play_0 : List UInt8 := [27, 184, 0, 204, 154, 0, 6, 16, 254, 172, 42, 180, 0, 64, 27, 50, 77, 44, 180, 0, 207, 199, 0, 9]
abbrev dktX0_play_0 : List UInt8 := dkwX0_play_0 ++ dktX0_play_1
theorem dksX0_play_0 : cX0_play.data.toList.drop 0 = dktX0_play_0 := by decide +kernel
theorem dksX0_play_1 : cX0_play.data.toList.drop 24 = dktX0_play_1 := dk_seg dksX0_play_0 24 rfl rfl
theorem dksX0_play_2 : cX0_play.data.toList.drop 48 = dktX0_play_2 := dk_seg dksX0_play_1 24 rfl rfl
theorem dksX0_play_3 : cX0_play.data.toList.drop 72 = dktX0_play_3 := dk_seg dksX0_play_2 24 rfl rfl
theorem dksX0_play_4 : cX0_play.data.toList.drop 96 = dktX0_play_4 := dk_seg dksX0_play_3 24 rfl rfl
theorem dksX0_play_5 : cX0_play.data.toList.drop 120 = dktX0_play_5 := dk_seg dksX0_play_4 24 rfl rfl
theorem dksX0_play_6 : cX0_play.data.toList.drop 142 = dktX0_play_6 := dk_seg dksX0_play_5 22 rfl rfl
theorem dksX0_play_7 : cX0_play.data.toList.drop 164 = dktX0_play_7 := dk_seg dksX0_play_6 22 rfl rfl
theorem dksX0_play_8 : cX0_play.data.toList.drop 188 = dktX0_play_8 := dk_seg dksX0_play_7 24 rfl rfl
theorem dksX0_play_9 : cX0_play.data.toList.drop 212 = dktX0_play_9 := dk_seg dksX0_play_8 24 rfl rfl
theorem dksX0_play_10 : cX0_play.data.toList.drop 235 = dktX0_play_10 := dk_seg dksX0_play_9 23 rfl rfl
theorem dksX0_play_11 : cX0_play.data.toList.drop 258 = dktX0_play_11 := dk_seg dksX0_play_10 23 rfl rfl
theorem dksX0_play_12 : cX0_play.data.toList.drop 282 = dktX0_play_12 := dk_seg dksX0_play_11 24 rfl rfl
theorem dksX0_play_13 : cX0_play.data.toList.drop 305 = dktX0_play_13 := dk_seg dksX0_play_12 23 rfl rfl
theorem dksX0_play_14 : cX0_play.data.toList.drop 329 = dktX0_play_14 := dk_seg dksX0_play_13 24 rfl rfl
theorem dX0_play_0 : decode cX0_play 0 = .ok (.iload_n 1, 1) := dk_27 (dk_at dksX0_play_0 0 rfl rfl)
theorem dX0_play_1 : decode cX0_play 1 = .ok (.invokestatic 204, 3) := dk_184 0 204 (dk_at dksX0_play_0 1 rfl rfl)
theorem dX0_play_4 : decode cX0_play 4 = .ok (.ifCond .ne 6, 3) := dk_154 0 6 (dk_at dksX0_play_0 4 rfl rfl)
theorem dX0_play_7 : decode cX0_play 7 = .ok (.bipush (-2), 2) := dk_16 254 (dk_at dksX0_play_0 7 rfl rfl)
theorem dX0_play_9 : decode cX0_play 9 = .ok (.ireturn, 1) := dk_172 (dk_at dksX0_play_0 9 rfl rfl)
theorem dX0_play_10 : decode cX0_play 10 = .ok (.aload_n 0, 1) := dk_42 (dk_at dksX0_play_0 10 rfl rfl)
theorem dX0_play_11 : decode cX0_play 11 = .ok (.getfield 64, 3) := dk_180 0 64 (dk_at dksX0_play_0 11 rfl rfl)
theorem dX0_play_14 : decode cX0_play 14 = .ok (.iload_n 1, 1) := dk_27 (dk_at dksX0_play_0 14 rfl rfl)
theorem dX0_play_15 : decode cX0_play 15 = .ok (.aaload, 1) := dk_50 (dk_at dksX0_play_0 15 rfl rfl)
theorem dX0_play_16 : decode cX0_play 16 = .ok (.astore_n 2, 1) := dk_77 (dk_at dksX0_play_0 16 rfl rfl)
theorem dX0_play_17 : decode cX0_play 17 = .ok (.aload_n 2, 1) := dk_44 (dk_at dksX0_play_0 17 rfl rfl)
theorem dX0_play_18 : decode cX0_play 18 = .ok (.getfield 207, 3) := dk_180 0 207 (dk_at dksX0_play_0 18 rfl rfl)
theorem dX0_play_21 : decode cX0_play 21 = .ok (.ifnonnull 9, 3) := dk_199 0 9 (dk_at dksX0_play_0 21 rfl rfl)
theorem dX0_play_24 : decode cX0_play 24 = .ok (.aload_n 0, 1) := dk_42 (dk_at dksX0_play_1 0 rfl rfl)
theorem dX0_play_25 : decode cX0_play 25 = .ok (.iconst 1, 1) := dk_4 (dk_at dksX0_play_1 1 rfl rfl)
theorem dX0_play_26 : decode cX0_play 26 = .ok (.invokevirtual 211, 3) := dk_182 0 211 (dk_at dksX0_play_1 2 rfl rfl)
theorem dX0_play_29 : decode cX0_play 29 = .ok (.ireturn, 1) := dk_172 (dk_at dksX0_play_1 5 rfl rfl)
theorem dX0_play_30 : decode cX0_play 30 = .ok (.new 102, 3) := dk_187 0 102 (dk_at dksX0_play_1 6 rfl rfl)
theorem dX0_play_33 : decode cX0_play 33 = .ok (.dup, 1) := dk_89 (dk_at dksX0_play_1 9 rfl rfl)
theorem dX0_play_34 : decode cX0_play 34 = .ok (.aload_n 0, 1) := dk_42 (dk_at dksX0_play_1 10 rfl rfl)
theorem dX0_play_35 : decode cX0_play 35 = .ok (.aload_n 0, 1) := dk_42 (dk_at dksX0_play_1 11 rfl rfl)
theorem dX0_play_36 : decode cX0_play 36 = .ok (.getfield 19, 3) := dk_180 0 19 (dk_at dksX0_play_1 12 rfl rfl)
theorem dX0_play_39 : decode cX0_play 39 = .ok (.iconst 0, 1) := dk_3 (dk_at dksX0_play_1 15 rfl rfl)
theorem dX0_play_40 : decode cX0_play 40 = .ok (.aaload, 1) := dk_50 (dk_at dksX0_play_1 16 rfl rfl)
theorem dX0_play_41 : decode cX0_play 41 = .ok (.aload_n 0, 1) := dk_42 (dk_at dksX0_play_1 17 rfl rfl)
theorem dX0_play_42 : decode cX0_play 42 = .ok (.getfield 19, 3) := dk_180 0 19 (dk_at dksX0_play_1 18 rfl rfl)
theorem dX0_play_45 : decode cX0_play 45 = .ok (.iconst 1, 1) := dk_4 (dk_at dksX0_play_1 21 rfl rfl)
theorem dX0_play_46 : decode cX0_play 46 = .ok (.aaload, 1) := dk_50 (dk_at dksX0_play_1 22 rfl rfl)
theorem dX0_play_47 : decode cX0_play 47 = .ok (.iconst 0, 1) := dk_3 (dk_at dksX0_play_1 23 rfl rfl)
theorem dX0_play_48 : decode cX0_play 48 = .ok (.invokespecial 104, 3) := dk_183 0 104 (dk_at dksX0_play_2 0 rfl rfl)
theorem dX0_play_51 : decode cX0_play 51 = .ok (.astore_n 3, 1) := dk_78 (dk_at dksX0_play_2 3 rfl rfl)
theorem dX0_play_52 : decode cX0_play 52 = .ok (.iconst 0, 1) := dk_3 (dk_at dksX0_play_2 4 rfl rfl)
theorem dX0_play_53 : decode cX0_play 53 = .ok (.istore 4, 2) := dk_54 4 (dk_at dksX0_play_2 5 rfl rfl)
theorem dX0_play_55 : decode cX0_play 55 = .ok (.iconst 0, 1) := dk_3 (dk_at dksX0_play_2 7 rfl rfl)
theorem dX0_play_56 : decode cX0_play 56 = .ok (.istore 5, 2) := dk_54 5 (dk_at dksX0_play_2 8 rfl rfl)
theorem dX0_play_58 : decode cX0_play 58 = .ok (.aload_n 3, 1) := dk_45 (dk_at dksX0_play_2 10 rfl rfl)
theorem dX0_play_59 : decode cX0_play 59 = .ok (.invokevirtual 214, 3) := dk_182 0 214 (dk_at dksX0_play_2 11 rfl rfl)
theorem dX0_play_62 : decode cX0_play 62 = .ok (.iconst (-1), 1) := dk_2 (dk_at dksX0_play_2 14 rfl rfl)
theorem dX0_play_63 : decode cX0_play 63 = .ok (.if_icmp .ne 143, 3) := dk_160 0 143 (dk_at dksX0_play_2 15 rfl rfl)
theorem dX0_play_66 : decode cX0_play 66 = .ok (.iload 5, 2) := dk_21 5 (dk_at dksX0_play_2 18 rfl rfl)
theorem dX0_play_68 : decode cX0_play 68 = .ok (.aload_n 0, 1) := dk_42 (dk_at dksX0_play_2 20 rfl rfl)
theorem dX0_play_69 : decode cX0_play 69 = .ok (.getfield 23, 3) := dk_180 0 23 (dk_at dksX0_play_2 21 rfl rfl)
theorem dX0_play_72 : decode cX0_play 72 = .ok (.if_icmp .ge 134, 3) := dk_162 0 134 (dk_at dksX0_play_3 0 rfl rfl)
theorem dX0_play_75 : decode cX0_play 75 = .ok (.iconst 0, 1) := dk_3 (dk_at dksX0_play_3 3 rfl rfl)
theorem dX0_play_76 : decode cX0_play 76 = .ok (.istore 6, 2) := dk_54 6 (dk_at dksX0_play_3 4 rfl rfl)
theorem dX0_play_78 : decode cX0_play 78 = .ok (.iload 6, 2) := dk_21 6 (dk_at dksX0_play_3 6 rfl rfl)
theorem dX0_play_80 : decode cX0_play 80 = .ok (.aload_n 3, 1) := dk_45 (dk_at dksX0_play_3 8 rfl rfl)
theorem dX0_play_81 : decode cX0_play 81 = .ok (.getfield 217, 3) := dk_180 0 217 (dk_at dksX0_play_3 9 rfl rfl)
theorem dX0_play_84 : decode cX0_play 84 = .ok (.if_icmp .ge 116, 3) := dk_162 0 116 (dk_at dksX0_play_3 12 rfl rfl)
theorem dX0_play_87 : decode cX0_play 87 = .ok (.aload_n 3, 1) := dk_45 (dk_at dksX0_play_3 15 rfl rfl)
theorem dX0_play_88 : decode cX0_play 88 = .ok (.invokevirtual 214, 3) := dk_182 0 214 (dk_at dksX0_play_3 16 rfl rfl)
theorem dX0_play_91 : decode cX0_play 91 = .ok (.iconst (-1), 1) := dk_2 (dk_at dksX0_play_3 19 rfl rfl)
theorem dX0_play_92 : decode cX0_play 92 = .ok (.if_icmp .ne 108, 3) := dk_160 0 108 (dk_at dksX0_play_3 20 rfl rfl)
theorem dX0_play_95 : decode cX0_play 95 = .ok (.aload_n 3, 1) := dk_45 (dk_at dksX0_play_3 23 rfl rfl)
theorem dX0_play_96 : decode cX0_play 96 = .ok (.getfield 220, 3) := dk_180 0 220 (dk_at dksX0_play_4 0 rfl rfl)
theorem dX0_play_99 : decode cX0_play 99 = .ok (.iload 6, 2) := dk_21 6 (dk_at dksX0_play_4 3 rfl rfl)
theorem dX0_play_101 : decode cX0_play 101 = .ok (.iaload, 1) := dk_46 (dk_at dksX0_play_4 5 rfl rfl)
theorem dX0_play_102 : decode cX0_play 102 = .ok (.istore 7, 2) := dk_54 7 (dk_at dksX0_play_4 6 rfl rfl)
theorem dX0_play_104 : decode cX0_play 104 = .ok (.aload_n 3, 1) := dk_45 (dk_at dksX0_play_4 8 rfl rfl)
theorem dX0_play_105 : decode cX0_play 105 = .ok (.getfield 223, 3) := dk_180 0 223 (dk_at dksX0_play_4 9 rfl rfl)
theorem dX0_play_108 : decode cX0_play 108 = .ok (.iload 7, 2) := dk_21 7 (dk_at dksX0_play_4 12 rfl rfl)
theorem dX0_play_110 : decode cX0_play 110 = .ok (.baload, 1) := dk_51 (dk_at dksX0_play_4 14 rfl rfl)
theorem dX0_play_111 : decode cX0_play 111 = .ok (.ifCond .eq 26, 3) := dk_153 0 26 (dk_at dksX0_play_4 15 rfl rfl)
theorem dX0_play_114 : decode cX0_play 114 = .ok (.iload 5, 2) := dk_21 5 (dk_at dksX0_play_4 18 rfl rfl)
theorem dX0_play_116 : decode cX0_play 116 = .ok (.ifCond .gt 17, 3) := dk_157 0 17 (dk_at dksX0_play_4 20 rfl rfl)
theorem dX0_play_119 : decode cX0_play 119 = .ok (.aload_n 3, 1) := dk_45 (dk_at dksX0_play_4 23 rfl rfl)
theorem dX0_play_120 : decode cX0_play 120 = .ok (.getfield 227, 3) := dk_180 0 227 (dk_at dksX0_play_5 0 rfl rfl)
theorem dX0_play_123 : decode cX0_play 123 = .ok (.iload 7, 2) := dk_21 7 (dk_at dksX0_play_5 3 rfl rfl)
theorem dX0_play_125 : decode cX0_play 125 = .ok (.iaload, 1) := dk_46 (dk_at dksX0_play_5 5 rfl rfl)
theorem dX0_play_126 : decode cX0_play 126 = .ok (.aload_n 0, 1) := dk_42 (dk_at dksX0_play_5 6 rfl rfl)
theorem dX0_play_127 : decode cX0_play 127 = .ok (.getfield 27, 3) := dk_180 0 27 (dk_at dksX0_play_5 7 rfl rfl)
theorem dX0_play_130 : decode cX0_play 130 = .ok (.if_icmp .eq 7, 3) := dk_159 0 7 (dk_at dksX0_play_5 10 rfl rfl)
theorem dX0_play_133 : decode cX0_play 133 = .ok (.iconst 1, 1) := dk_4 (dk_at dksX0_play_5 13 rfl rfl)
theorem dX0_play_134 : decode cX0_play 134 = .ok (.goto 4, 3) := dk_167 0 4 (dk_at dksX0_play_5 14 rfl rfl)
theorem dX0_play_137 : decode cX0_play 137 = .ok (.iconst 0, 1) := dk_3 (dk_at dksX0_play_5 17 rfl rfl)
theorem dX0_play_138 : decode cX0_play 138 = .ok (.istore 8, 2) := dk_54 8 (dk_at dksX0_play_5 18 rfl rfl)
theorem dX0_play_140 : decode cX0_play 140 = .ok (.iload 8, 2) := dk_21 8 (dk_at dksX0_play_5 20 rfl rfl)
theorem dX0_play_142 : decode cX0_play 142 = .ok (.ifCond .eq 52, 3) := dk_153 0 52 (dk_at dksX0_play_6 0 rfl rfl)
theorem dX0_play_145 : decode cX0_play 145 = .ok (.aload_n 3, 1) := dk_45 (dk_at dksX0_play_6 3 rfl rfl)
theorem dX0_play_146 : decode cX0_play 146 = .ok (.iload 7, 2) := dk_21 7 (dk_at dksX0_play_6 4 rfl rfl)
theorem dX0_play_148 : decode cX0_play 148 = .ok (.invokevirtual 230, 3) := dk_182 0 230 (dk_at dksX0_play_6 6 rfl rfl)
theorem dX0_play_151 : decode cX0_play 151 = .ok (.ifCond .eq 43, 3) := dk_153 0 43 (dk_at dksX0_play_6 9 rfl rfl)
theorem dX0_play_154 : decode cX0_play 154 = .ok (.aload_n 2, 1) := dk_44 (dk_at dksX0_play_6 12 rfl rfl)
theorem dX0_play_155 : decode cX0_play 155 = .ok (.getfield 207, 3) := dk_180 0 207 (dk_at dksX0_play_6 13 rfl rfl)
theorem dX0_play_158 : decode cX0_play 158 = .ok (.aload_n 2, 1) := dk_44 (dk_at dksX0_play_6 16 rfl rfl)
theorem dX0_play_159 : decode cX0_play 159 = .ok (.getfield 233, 3) := dk_180 0 233 (dk_at dksX0_play_6 17 rfl rfl)
theorem dX0_play_162 : decode cX0_play 162 = .ok (.iload 4, 2) := dk_21 4 (dk_at dksX0_play_6 20 rfl rfl)
theorem dX0_play_164 : decode cX0_play 164 = .ok (.invokestatic 236, 3) := dk_184 0 236 (dk_at dksX0_play_7 0 rfl rfl)
theorem dX0_play_167 : decode cX0_play 167 = .ok (.istore 9, 2) := dk_54 9 (dk_at dksX0_play_7 3 rfl rfl)
theorem dX0_play_169 : decode cX0_play 169 = .ok (.iinc 4 1, 3) := dk_132 4 1 (dk_at dksX0_play_7 5 rfl rfl)
theorem dX0_play_172 : decode cX0_play 172 = .ok (.iload 9, 2) := dk_21 9 (dk_at dksX0_play_7 8 rfl rfl)
theorem dX0_play_174 : decode cX0_play 174 = .ok (.iconst 1, 1) := dk_4 (dk_at dksX0_play_7 10 rfl rfl)
theorem dX0_play_175 : decode cX0_play 175 = .ok (.aload_n 3, 1) := dk_45 (dk_at dksX0_play_7 11 rfl rfl)
theorem dX0_play_176 : decode cX0_play 176 = .ok (.getfield 240, 3) := dk_180 0 240 (dk_at dksX0_play_7 12 rfl rfl)
theorem dX0_play_179 : decode cX0_play 179 = .ok (.iload 7, 2) := dk_21 7 (dk_at dksX0_play_7 15 rfl rfl)
theorem dX0_play_181 : decode cX0_play 181 = .ok (.iaload, 1) := dk_46 (dk_at dksX0_play_7 17 rfl rfl)
theorem dX0_play_182 : decode cX0_play 182 = .ok (.invokestatic 69, 3) := dk_184 0 69 (dk_at dksX0_play_7 18 rfl rfl)
theorem dX0_play_185 : decode cX0_play 185 = .ok (.ifCond .eq 9, 3) := dk_153 0 9 (dk_at dksX0_play_7 21 rfl rfl)
theorem dX0_play_188 : decode cX0_play 188 = .ok (.aload_n 3, 1) := dk_45 (dk_at dksX0_play_8 0 rfl rfl)
theorem dX0_play_189 : decode cX0_play 189 = .ok (.iload 7, 2) := dk_21 7 (dk_at dksX0_play_8 1 rfl rfl)
theorem dX0_play_191 : decode cX0_play 191 = .ok (.invokevirtual 243, 3) := dk_182 0 243 (dk_at dksX0_play_8 3 rfl rfl)
theorem dX0_play_194 : decode cX0_play 194 = .ok (.iinc 6 1, 3) := dk_132 6 1 (dk_at dksX0_play_8 6 rfl rfl)
theorem dX0_play_197 : decode cX0_play 197 = .ok (.goto (-119), 3) := dk_167 255 137 (dk_at dksX0_play_8 9 rfl rfl)
theorem dX0_play_200 : decode cX0_play 200 = .ok (.iinc 5 1, 3) := dk_132 5 1 (dk_at dksX0_play_8 12 rfl rfl)
theorem dX0_play_203 : decode cX0_play 203 = .ok (.goto (-145), 3) := dk_167 255 111 (dk_at dksX0_play_8 15 rfl rfl)
theorem dX0_play_206 : decode cX0_play 206 = .ok (.goto 11, 3) := dk_167 0 11 (dk_at dksX0_play_8 18 rfl rfl)
theorem dX0_play_209 : decode cX0_play 209 = .ok (.astore 6, 2) := dk_58 6 (dk_at dksX0_play_8 21 rfl rfl)
theorem dX0_play_211 : decode cX0_play 211 = .ok (.aload_n 0, 1) := dk_42 (dk_at dksX0_play_8 23 rfl rfl)
theorem dX0_play_212 : decode cX0_play 212 = .ok (.iconst 2, 1) := dk_5 (dk_at dksX0_play_9 0 rfl rfl)
theorem dX0_play_213 : decode cX0_play 213 = .ok (.invokevirtual 211, 3) := dk_182 0 211 (dk_at dksX0_play_9 1 rfl rfl)
theorem dX0_play_216 : decode cX0_play 216 = .ok (.ireturn, 1) := dk_172 (dk_at dksX0_play_9 4 rfl rfl)
theorem dX0_play_217 : decode cX0_play 217 = .ok (.aload_n 3, 1) := dk_45 (dk_at dksX0_play_9 5 rfl rfl)
theorem dX0_play_218 : decode cX0_play 218 = .ok (.invokevirtual 214, 3) := dk_182 0 214 (dk_at dksX0_play_9 6 rfl rfl)
theorem dX0_play_221 : decode cX0_play 221 = .ok (.istore 6, 2) := dk_54 6 (dk_at dksX0_play_9 9 rfl rfl)
theorem dX0_play_223 : decode cX0_play 223 = .ok (.aload_n 0, 1) := dk_42 (dk_at dksX0_play_9 11 rfl rfl)
theorem dX0_play_224 : decode cX0_play 224 = .ok (.getfield 56, 3) := dk_180 0 56 (dk_at dksX0_play_9 12 rfl rfl)
theorem dX0_play_227 : decode cX0_play 227 = .ok (.iconst 0, 1) := dk_3 (dk_at dksX0_play_9 15 rfl rfl)
theorem dX0_play_228 : decode cX0_play 228 = .ok (.iload 6, 2) := dk_21 6 (dk_at dksX0_play_9 16 rfl rfl)
theorem dX0_play_230 : decode cX0_play 230 = .ok (.iconst (-1), 1) := dk_2 (dk_at dksX0_play_9 18 rfl rfl)
theorem dX0_play_231 : decode cX0_play 231 = .ok (.if_icmp .ne 7, 3) := dk_160 0 7 (dk_at dksX0_play_9 19 rfl rfl)
theorem dX0_play_234 : decode cX0_play 234 = .ok (.iconst 2, 1) := dk_5 (dk_at dksX0_play_9 22 rfl rfl)
theorem dX0_play_235 : decode cX0_play 235 = .ok (.goto 5, 3) := dk_167 0 5 (dk_at dksX0_play_10 0 rfl rfl)
theorem dX0_play_238 : decode cX0_play 238 = .ok (.iload 6, 2) := dk_21 6 (dk_at dksX0_play_10 3 rfl rfl)
theorem dX0_play_240 : decode cX0_play 240 = .ok (.iastore, 1) := dk_79 (dk_at dksX0_play_10 5 rfl rfl)
theorem dX0_play_241 : decode cX0_play 241 = .ok (.aload_n 0, 1) := dk_42 (dk_at dksX0_play_10 6 rfl rfl)
theorem dX0_play_242 : decode cX0_play 242 = .ok (.getfield 56, 3) := dk_180 0 56 (dk_at dksX0_play_10 7 rfl rfl)
theorem dX0_play_245 : decode cX0_play 245 = .ok (.iconst 1, 1) := dk_4 (dk_at dksX0_play_10 10 rfl rfl)
theorem dX0_play_246 : decode cX0_play 246 = .ok (.iload 4, 2) := dk_21 4 (dk_at dksX0_play_10 11 rfl rfl)
theorem dX0_play_248 : decode cX0_play 248 = .ok (.iastore, 1) := dk_79 (dk_at dksX0_play_10 13 rfl rfl)
theorem dX0_play_249 : decode cX0_play 249 = .ok (.aload_n 0, 1) := dk_42 (dk_at dksX0_play_10 14 rfl rfl)
theorem dX0_play_250 : decode cX0_play 250 = .ok (.getfield 56, 3) := dk_180 0 56 (dk_at dksX0_play_10 15 rfl rfl)
theorem dX0_play_253 : decode cX0_play 253 = .ok (.iconst 2, 1) := dk_5 (dk_at dksX0_play_10 18 rfl rfl)
theorem dX0_play_254 : decode cX0_play 254 = .ok (.iload 5, 2) := dk_21 5 (dk_at dksX0_play_10 19 rfl rfl)
theorem dX0_play_256 : decode cX0_play 256 = .ok (.iastore, 1) := dk_79 (dk_at dksX0_play_10 21 rfl rfl)
theorem dX0_play_257 : decode cX0_play 257 = .ok (.iconst 0, 1) := dk_3 (dk_at dksX0_play_10 22 rfl rfl)
theorem dX0_play_258 : decode cX0_play 258 = .ok (.istore 7, 2) := dk_54 7 (dk_at dksX0_play_11 0 rfl rfl)
theorem dX0_play_260 : decode cX0_play 260 = .ok (.iload 7, 2) := dk_21 7 (dk_at dksX0_play_11 2 rfl rfl)
theorem dX0_play_262 : decode cX0_play 262 = .ok (.iconst 3, 1) := dk_6 (dk_at dksX0_play_11 4 rfl rfl)
theorem dX0_play_263 : decode cX0_play 263 = .ok (.if_icmp .ge 29, 3) := dk_162 0 29 (dk_at dksX0_play_11 5 rfl rfl)
theorem dX0_play_266 : decode cX0_play 266 = .ok (.aload_n 0, 1) := dk_42 (dk_at dksX0_play_11 8 rfl rfl)
theorem dX0_play_267 : decode cX0_play 267 = .ok (.getfield 59, 3) := dk_180 0 59 (dk_at dksX0_play_11 9 rfl rfl)
theorem dX0_play_270 : decode cX0_play 270 = .ok (.iconst 0, 1) := dk_3 (dk_at dksX0_play_11 12 rfl rfl)
theorem dX0_play_271 : decode cX0_play 271 = .ok (.aaload, 1) := dk_50 (dk_at dksX0_play_11 13 rfl rfl)
theorem dX0_play_272 : decode cX0_play 272 = .ok (.iload 7, 2) := dk_21 7 (dk_at dksX0_play_11 14 rfl rfl)
theorem dX0_play_274 : decode cX0_play 274 = .ok (.iconst (-1), 1) := dk_2 (dk_at dksX0_play_11 16 rfl rfl)
theorem dX0_play_275 : decode cX0_play 275 = .ok (.iastore, 1) := dk_79 (dk_at dksX0_play_11 17 rfl rfl)
theorem dX0_play_276 : decode cX0_play 276 = .ok (.aload_n 0, 1) := dk_42 (dk_at dksX0_play_11 18 rfl rfl)
theorem dX0_play_277 : decode cX0_play 277 = .ok (.getfield 59, 3) := dk_180 0 59 (dk_at dksX0_play_11 19 rfl rfl)
theorem dX0_play_280 : decode cX0_play 280 = .ok (.iconst 1, 1) := dk_4 (dk_at dksX0_play_11 22 rfl rfl)
theorem dX0_play_281 : decode cX0_play 281 = .ok (.aaload, 1) := dk_50 (dk_at dksX0_play_11 23 rfl rfl)
theorem dX0_play_282 : decode cX0_play 282 = .ok (.iload 7, 2) := dk_21 7 (dk_at dksX0_play_12 0 rfl rfl)
theorem dX0_play_284 : decode cX0_play 284 = .ok (.iconst (-1), 1) := dk_2 (dk_at dksX0_play_12 2 rfl rfl)
theorem dX0_play_285 : decode cX0_play 285 = .ok (.iastore, 1) := dk_79 (dk_at dksX0_play_12 3 rfl rfl)
theorem dX0_play_286 : decode cX0_play 286 = .ok (.iinc 7 1, 3) := dk_132 7 1 (dk_at dksX0_play_12 4 rfl rfl)
theorem dX0_play_289 : decode cX0_play 289 = .ok (.goto (-29), 3) := dk_167 255 227 (dk_at dksX0_play_12 7 rfl rfl)
theorem dX0_play_292 : decode cX0_play 292 = .ok (.iconst 0, 1) := dk_3 (dk_at dksX0_play_12 10 rfl rfl)
theorem dX0_play_293 : decode cX0_play 293 = .ok (.istore 7, 2) := dk_54 7 (dk_at dksX0_play_12 11 rfl rfl)
theorem dX0_play_295 : decode cX0_play 295 = .ok (.iload 7, 2) := dk_21 7 (dk_at dksX0_play_12 13 rfl rfl)
theorem dX0_play_297 : decode cX0_play 297 = .ok (.aload_n 3, 1) := dk_45 (dk_at dksX0_play_12 15 rfl rfl)
theorem dX0_play_298 : decode cX0_play 298 = .ok (.getfield 217, 3) := dk_180 0 217 (dk_at dksX0_play_12 16 rfl rfl)
theorem dX0_play_301 : decode cX0_play 301 = .ok (.if_icmp .ge 36, 3) := dk_162 0 36 (dk_at dksX0_play_12 19 rfl rfl)
theorem dX0_play_304 : decode cX0_play 304 = .ok (.aload_n 0, 1) := dk_42 (dk_at dksX0_play_12 22 rfl rfl)
theorem dX0_play_305 : decode cX0_play 305 = .ok (.getfield 59, 3) := dk_180 0 59 (dk_at dksX0_play_13 0 rfl rfl)
theorem dX0_play_308 : decode cX0_play 308 = .ok (.aload_n 3, 1) := dk_45 (dk_at dksX0_play_13 3 rfl rfl)
theorem dX0_play_309 : decode cX0_play 309 = .ok (.getfield 227, 3) := dk_180 0 227 (dk_at dksX0_play_13 4 rfl rfl)
theorem dX0_play_312 : decode cX0_play 312 = .ok (.iload 7, 2) := dk_21 7 (dk_at dksX0_play_13 7 rfl rfl)
theorem dX0_play_314 : decode cX0_play 314 = .ok (.iaload, 1) := dk_46 (dk_at dksX0_play_13 9 rfl rfl)
theorem dX0_play_315 : decode cX0_play 315 = .ok (.aaload, 1) := dk_50 (dk_at dksX0_play_13 10 rfl rfl)
theorem dX0_play_316 : decode cX0_play 316 = .ok (.aload_n 3, 1) := dk_45 (dk_at dksX0_play_13 11 rfl rfl)
theorem dX0_play_317 : decode cX0_play 317 = .ok (.getfield 249, 3) := dk_180 0 249 (dk_at dksX0_play_13 12 rfl rfl)
theorem dX0_play_320 : decode cX0_play 320 = .ok (.iload 7, 2) := dk_21 7 (dk_at dksX0_play_13 15 rfl rfl)
theorem dX0_play_322 : decode cX0_play 322 = .ok (.iaload, 1) := dk_46 (dk_at dksX0_play_13 17 rfl rfl)
theorem dX0_play_323 : decode cX0_play 323 = .ok (.aload_n 3, 1) := dk_45 (dk_at dksX0_play_13 18 rfl rfl)
theorem dX0_play_324 : decode cX0_play 324 = .ok (.getfield 252, 3) := dk_180 0 252 (dk_at dksX0_play_13 19 rfl rfl)
theorem dX0_play_327 : decode cX0_play 327 = .ok (.iload 7, 2) := dk_21 7 (dk_at dksX0_play_13 22 rfl rfl)
theorem dX0_play_329 : decode cX0_play 329 = .ok (.iaload, 1) := dk_46 (dk_at dksX0_play_14 0 rfl rfl)
theorem dX0_play_330 : decode cX0_play 330 = .ok (.iastore, 1) := dk_79 (dk_at dksX0_play_14 1 rfl rfl)
theorem dX0_play_331 : decode cX0_play 331 = .ok (.iinc 7 1, 3) := dk_132 7 1 (dk_at dksX0_play_14 2 rfl rfl)
theorem dX0_play_334 : decode cX0_play 334 = .ok (.goto (-39), 3) := dk_167 255 217 (dk_at dksX0_play_14 5 rfl rfl)
theorem dX0_play_337 : decode cX0_play 337 = .ok (.aload_n 0, 1) := dk_42 (dk_at dksX0_play_14 8 rfl rfl)
theorem dX0_play_338 : decode cX0_play 338 = .ok (.getfield 56, 3) := dk_180 0 56 (dk_at dksX0_play_14 9 rfl rfl)
theorem dX0_play_341 : decode cX0_play 341 = .ok (.iconst 0, 1) := dk_3 (dk_at dksX0_play_14 12 rfl rfl)
theorem dX0_play_342 : decode cX0_play 342 = .ok (.iaload, 1) := dk_46 (dk_at dksX0_play_14 13 rfl rfl)
theorem dX0_play_343 : decode cX0_play 343 = .ok (.ireturn, 1) := dk_172 (dk_at dksX0_play_14 14 rfl rfl)
abbrev cX0_isSheet : ByteArray := prog_1_method_40_code
def yX0_isSheet : MethodName := ⟨RX0, "isSheet", "(I)Z"⟩
def dkwX0_isSheet_0 : List UInt8 := [26, 3, 6, 184, 0, 69, 172]
abbrev dktX0_isSheet_0 : List UInt8 := dkwX0_isSheet_0 ++ []
theorem dksX0_isSheet_0 : cX0_isSheet.data.toList.drop 0 = dktX0_isSheet_0 := by decide +kernel
theorem dX0_isSheet_0 : decode cX0_isSheet 0 = .ok (.iload_n 0, 1) := dk_26 (dk_at dksX0_isSheet_0 0 rfl rfl)
theorem dX0_isSheet_1 : decode cX0_isSheet 1 = .ok (.iconst 0, 1) := dk_3 (dk_at dksX0_isSheet_0 1 rfl rfl)
theorem dX0_isSheet_2 : decode cX0_isSheet 2 = .ok (.iconst 3, 1) := dk_6 (dk_at dksX0_isSheet_0 2 rfl rfl)
theorem dX0_isSheet_3 : decode cX0_isSheet 3 = .ok (.invokestatic 69, 3) := dk_184 0 69 (dk_at dksX0_isSheet_0 3 rfl rfl)
theorem dX0_isSheet_6 : decode cX0_isSheet 6 = .ok (.ireturn, 1) := dk_172 (dk_at dksX0_isSheet_0 6 rfl rfl)
abbrev cX0_meets : ByteArray := prog_1_method_39_code
def yX0_meets : MethodName := ⟨RX0, "meets", "(I)I"⟩
def dkwX0_meets_0 : List UInt8 := [42, 27, 181, 0, 255, 16, 246, 27, 100, 172]
abbrev dktX0_meets_0 : List UInt8 := dkwX0_meets_0 ++ []
theorem dksX0_meets_0 : cX0_meets.data.toList.drop 0 = dktX0_meets_0 := by decide +kernel
theorem dX0_meets_0 : decode cX0_meets 0 = .ok (.aload_n 0, 1) := dk_42 (dk_at dksX0_meets_0 0 rfl rfl)
theorem dX0_meets_1 : decode cX0_meets 1 = .ok (.iload_n 1, 1) := dk_27 (dk_at dksX0_meets_0 1 rfl rfl)
theorem dX0_meets_2 : decode cX0_meets 2 = .ok (.putfield 255, 3) := dk_181 0 255 (dk_at dksX0_meets_0 2 rfl rfl)
theorem dX0_meets_5 : decode cX0_meets 5 = .ok (.bipush (-10), 2) := dk_16 246 (dk_at dksX0_meets_0 5 rfl rfl)
theorem dX0_meets_7 : decode cX0_meets 7 = .ok (.iload_n 1, 1) := dk_27 (dk_at dksX0_meets_0 7 rfl rfl)
theorem dX0_meets_8 : decode cX0_meets 8 = .ok (.isub, 1) := dk_100 (dk_at dksX0_meets_0 8 rfl rfl)
theorem dX0_meets_9 : decode cX0_meets 9 = .ok (.ireturn, 1) := dk_172 (dk_at dksX0_meets_0 9 rfl rfl)
abbrev cX0_item : ByteArray := prog_1_method_45_code
def yX0_item : MethodName := ⟨RX0, "item", "(Ljava/lang/Object;II)I"⟩
def dkwX0_item_2 : List UInt8 := [42, 192, 1, 9, 28, 51, 172, 42, 192, 1, 11, 28, 53, 172, 42, 192, 0, 17, 28, 46, 172]
abbrev dktX0_item_2 : List UInt8 := dkwX0_item_2 ++ []
def dkwX0_item_1 : List UInt8 := [171, 0, 0, 0, 0, 0, 41, 0, 0, 0, 2, 0, 0, 0, 0, 0, 0, 0, 27, 0, 0, 0, 1, 0, 0, 0, 34]
abbrev dktX0_item_1 : List UInt8 := dkwX0_item_1 ++ dktX0_item_2
def dkwX0_item_0 : List UInt8 := [27]
abbrev dktX0_item_0 : List UInt8 := dkwX0_item_0 ++ dktX0_item_1
theorem dksX0_item_0 : cX0_item.data.toList.drop 0 = dktX0_item_0 := by decide +kernel
theorem dksX0_item_1 : cX0_item.data.toList.drop 1 = dktX0_item_1 := dk_seg dksX0_item_0 1 rfl rfl
theorem dksX0_item_2 : cX0_item.data.toList.drop 28 = dktX0_item_2 := dk_seg dksX0_item_1 27 rfl rfl
theorem dX0_item_0 : decode cX0_item 0 = .ok (.iload_n 1, 1) := dk_27 (dk_at dksX0_item_0 0 rfl rfl)
theorem dX0_item_1 : decode cX0_item 1 = .ok (.lookupswitch 41 #[(0, 27), (1, 34)], 27) := by decide +kernel
theorem dX0_item_28 : decode cX0_item 28 = .ok (.aload_n 0, 1) := dk_42 (dk_at dksX0_item_2 0 rfl rfl)
theorem dX0_item_29 : decode cX0_item 29 = .ok (.checkcast 265, 3) := dk_192 1 9 (dk_at dksX0_item_2 1 rfl rfl)
theorem dX0_item_32 : decode cX0_item 32 = .ok (.iload_n 2, 1) := dk_28 (dk_at dksX0_item_2 4 rfl rfl)
theorem dX0_item_33 : decode cX0_item 33 = .ok (.baload, 1) := dk_51 (dk_at dksX0_item_2 5 rfl rfl)
theorem dX0_item_34 : decode cX0_item 34 = .ok (.ireturn, 1) := dk_172 (dk_at dksX0_item_2 6 rfl rfl)
theorem dX0_item_35 : decode cX0_item 35 = .ok (.aload_n 0, 1) := dk_42 (dk_at dksX0_item_2 7 rfl rfl)
theorem dX0_item_36 : decode cX0_item 36 = .ok (.checkcast 267, 3) := dk_192 1 11 (dk_at dksX0_item_2 8 rfl rfl)
theorem dX0_item_39 : decode cX0_item 39 = .ok (.iload_n 2, 1) := dk_28 (dk_at dksX0_item_2 11 rfl rfl)
theorem dX0_item_40 : decode cX0_item 40 = .ok (.saload, 1) := dk_53 (dk_at dksX0_item_2 12 rfl rfl)
theorem dX0_item_41 : decode cX0_item 41 = .ok (.ireturn, 1) := dk_172 (dk_at dksX0_item_2 13 rfl rfl)
theorem dX0_item_42 : decode cX0_item 42 = .ok (.aload_n 0, 1) := dk_42 (dk_at dksX0_item_2 14 rfl rfl)
theorem dX0_item_43 : decode cX0_item 43 = .ok (.checkcast 17, 3) := dk_192 0 17 (dk_at dksX0_item_2 15 rfl rfl)
theorem dX0_item_46 : decode cX0_item 46 = .ok (.iload_n 2, 1) := dk_28 (dk_at dksX0_item_2 18 rfl rfl)
theorem dX0_item_47 : decode cX0_item 47 = .ok (.iaload, 1) := dk_46 (dk_at dksX0_item_2 19 rfl rfl)
theorem dX0_item_48 : decode cX0_item 48 = .ok (.ireturn, 1) := dk_172 (dk_at dksX0_item_2 20 rfl rfl)
abbrev cX0_played : ByteArray := prog_1_method_38_code
def yX0_played : MethodName := ⟨RX0, "played", "(I)I"⟩
def dkwX0_played_2 : List UInt8 := [2, 61, 28, 2, 160, 0, 8, 16, 254, 167, 0, 4, 28, 172]
abbrev dktX0_played_2 : List UInt8 := dkwX0_played_2 ++ []
def dkwX0_played_1 : List UInt8 := [153, 0, 24, 42, 180, 0, 59, 27, 16, 10, 100, 6, 108, 50, 27, 16, 10, 100, 6, 112, 46, 167, 0, 4]
abbrev dktX0_played_1 : List UInt8 := dkwX0_played_1 ++ dktX0_played_2
def dkwX0_played_0 : List UInt8 := [27, 3, 5, 184, 0, 69, 153, 0, 10, 42, 180, 0, 56, 27, 46, 172, 27, 16, 10, 16, 15, 184, 0, 69]
abbrev dktX0_played_0 : List UInt8 := dkwX0_played_0 ++ dktX0_played_1
theorem dksX0_played_0 : cX0_played.data.toList.drop 0 = dktX0_played_0 := by decide +kernel
theorem dksX0_played_1 : cX0_played.data.toList.drop 24 = dktX0_played_1 := dk_seg dksX0_played_0 24 rfl rfl
theorem dksX0_played_2 : cX0_played.data.toList.drop 48 = dktX0_played_2 := dk_seg dksX0_played_1 24 rfl rfl
theorem dX0_played_0 : decode cX0_played 0 = .ok (.iload_n 1, 1) := dk_27 (dk_at dksX0_played_0 0 rfl rfl)
theorem dX0_played_1 : decode cX0_played 1 = .ok (.iconst 0, 1) := dk_3 (dk_at dksX0_played_0 1 rfl rfl)
theorem dX0_played_2 : decode cX0_played 2 = .ok (.iconst 2, 1) := dk_5 (dk_at dksX0_played_0 2 rfl rfl)
theorem dX0_played_3 : decode cX0_played 3 = .ok (.invokestatic 69, 3) := dk_184 0 69 (dk_at dksX0_played_0 3 rfl rfl)
theorem dX0_played_6 : decode cX0_played 6 = .ok (.ifCond .eq 10, 3) := dk_153 0 10 (dk_at dksX0_played_0 6 rfl rfl)
theorem dX0_played_9 : decode cX0_played 9 = .ok (.aload_n 0, 1) := dk_42 (dk_at dksX0_played_0 9 rfl rfl)
theorem dX0_played_10 : decode cX0_played 10 = .ok (.getfield 56, 3) := dk_180 0 56 (dk_at dksX0_played_0 10 rfl rfl)
theorem dX0_played_13 : decode cX0_played 13 = .ok (.iload_n 1, 1) := dk_27 (dk_at dksX0_played_0 13 rfl rfl)
theorem dX0_played_14 : decode cX0_played 14 = .ok (.iaload, 1) := dk_46 (dk_at dksX0_played_0 14 rfl rfl)
theorem dX0_played_15 : decode cX0_played 15 = .ok (.ireturn, 1) := dk_172 (dk_at dksX0_played_0 15 rfl rfl)
theorem dX0_played_16 : decode cX0_played 16 = .ok (.iload_n 1, 1) := dk_27 (dk_at dksX0_played_0 16 rfl rfl)
theorem dX0_played_17 : decode cX0_played 17 = .ok (.bipush 10, 2) := dk_16 10 (dk_at dksX0_played_0 17 rfl rfl)
theorem dX0_played_19 : decode cX0_played 19 = .ok (.bipush 15, 2) := dk_16 15 (dk_at dksX0_played_0 19 rfl rfl)
theorem dX0_played_21 : decode cX0_played 21 = .ok (.invokestatic 69, 3) := dk_184 0 69 (dk_at dksX0_played_0 21 rfl rfl)
theorem dX0_played_24 : decode cX0_played 24 = .ok (.ifCond .eq 24, 3) := dk_153 0 24 (dk_at dksX0_played_1 0 rfl rfl)
theorem dX0_played_27 : decode cX0_played 27 = .ok (.aload_n 0, 1) := dk_42 (dk_at dksX0_played_1 3 rfl rfl)
theorem dX0_played_28 : decode cX0_played 28 = .ok (.getfield 59, 3) := dk_180 0 59 (dk_at dksX0_played_1 4 rfl rfl)
theorem dX0_played_31 : decode cX0_played 31 = .ok (.iload_n 1, 1) := dk_27 (dk_at dksX0_played_1 7 rfl rfl)
theorem dX0_played_32 : decode cX0_played 32 = .ok (.bipush 10, 2) := dk_16 10 (dk_at dksX0_played_1 8 rfl rfl)
theorem dX0_played_34 : decode cX0_played 34 = .ok (.isub, 1) := dk_100 (dk_at dksX0_played_1 10 rfl rfl)
theorem dX0_played_35 : decode cX0_played 35 = .ok (.iconst 3, 1) := dk_6 (dk_at dksX0_played_1 11 rfl rfl)
theorem dX0_played_36 : decode cX0_played 36 = .ok (.idiv, 1) := dk_108 (dk_at dksX0_played_1 12 rfl rfl)
theorem dX0_played_37 : decode cX0_played 37 = .ok (.aaload, 1) := dk_50 (dk_at dksX0_played_1 13 rfl rfl)
theorem dX0_played_38 : decode cX0_played 38 = .ok (.iload_n 1, 1) := dk_27 (dk_at dksX0_played_1 14 rfl rfl)
theorem dX0_played_39 : decode cX0_played 39 = .ok (.bipush 10, 2) := dk_16 10 (dk_at dksX0_played_1 15 rfl rfl)
theorem dX0_played_41 : decode cX0_played 41 = .ok (.isub, 1) := dk_100 (dk_at dksX0_played_1 17 rfl rfl)
theorem dX0_played_42 : decode cX0_played 42 = .ok (.iconst 3, 1) := dk_6 (dk_at dksX0_played_1 18 rfl rfl)
theorem dX0_played_43 : decode cX0_played 43 = .ok (.irem, 1) := dk_112 (dk_at dksX0_played_1 19 rfl rfl)
theorem dX0_played_44 : decode cX0_played 44 = .ok (.iaload, 1) := dk_46 (dk_at dksX0_played_1 20 rfl rfl)
theorem dX0_played_45 : decode cX0_played 45 = .ok (.goto 4, 3) := dk_167 0 4 (dk_at dksX0_played_1 21 rfl rfl)
theorem dX0_played_48 : decode cX0_played 48 = .ok (.iconst (-1), 1) := dk_2 (dk_at dksX0_played_2 0 rfl rfl)
theorem dX0_played_49 : decode cX0_played 49 = .ok (.istore_n 2, 1) := dk_61 (dk_at dksX0_played_2 1 rfl rfl)
theorem dX0_played_50 : decode cX0_played 50 = .ok (.iload_n 2, 1) := dk_28 (dk_at dksX0_played_2 2 rfl rfl)
theorem dX0_played_51 : decode cX0_played 51 = .ok (.iconst (-1), 1) := dk_2 (dk_at dksX0_played_2 3 rfl rfl)
theorem dX0_played_52 : decode cX0_played 52 = .ok (.if_icmp .ne 8, 3) := dk_160 0 8 (dk_at dksX0_played_2 4 rfl rfl)
theorem dX0_played_55 : decode cX0_played 55 = .ok (.bipush (-2), 2) := dk_16 254 (dk_at dksX0_played_2 7 rfl rfl)
theorem dX0_played_57 : decode cX0_played 57 = .ok (.goto 4, 3) := dk_167 0 4 (dk_at dksX0_played_2 9 rfl rfl)
theorem dX0_played_60 : decode cX0_played 60 = .ok (.iload_n 2, 1) := dk_28 (dk_at dksX0_played_2 12 rfl rfl)
theorem dX0_played_61 : decode cX0_played 61 = .ok (.ireturn, 1) := dk_172 (dk_at dksX0_played_2 13 rfl rfl)
abbrev cX0_sheet : ByteArray := prog_1_method_42_code
def yX0_sheet : MethodName := ⟨RX0, "sheet", "(III)I"⟩
def dkwX0_sheet_2 : List UInt8 := [182, 0, 211, 172, 42, 180, 0, 64, 27, 50, 28, 181, 0, 233, 29, 172]
abbrev dktX0_sheet_2 : List UInt8 := dkwX0_sheet_2 ++ []
def dkwX0_sheet_1 : List UInt8 := [172, 42, 180, 0, 64, 27, 50, 28, 29, 184, 1, 2, 181, 0, 207, 167, 0, 11, 58, 4, 42, 8]
abbrev dktX0_sheet_1 : List UInt8 := dkwX0_sheet_1 ++ dktX0_sheet_2
def dkwX0_sheet_0 : List UInt8 := [27, 184, 0, 204, 153, 0, 18, 28, 3, 5, 184, 0, 69, 153, 0, 9, 29, 16, 60, 164, 0, 6, 16, 254]
abbrev dktX0_sheet_0 : List UInt8 := dkwX0_sheet_0 ++ dktX0_sheet_1
theorem dksX0_sheet_0 : cX0_sheet.data.toList.drop 0 = dktX0_sheet_0 := by decide +kernel
theorem dksX0_sheet_1 : cX0_sheet.data.toList.drop 24 = dktX0_sheet_1 := dk_seg dksX0_sheet_0 24 rfl rfl
theorem dksX0_sheet_2 : cX0_sheet.data.toList.drop 46 = dktX0_sheet_2 := dk_seg dksX0_sheet_1 22 rfl rfl
theorem dX0_sheet_0 : decode cX0_sheet 0 = .ok (.iload_n 1, 1) := dk_27 (dk_at dksX0_sheet_0 0 rfl rfl)
theorem dX0_sheet_1 : decode cX0_sheet 1 = .ok (.invokestatic 204, 3) := dk_184 0 204 (dk_at dksX0_sheet_0 1 rfl rfl)
theorem dX0_sheet_4 : decode cX0_sheet 4 = .ok (.ifCond .eq 18, 3) := dk_153 0 18 (dk_at dksX0_sheet_0 4 rfl rfl)
theorem dX0_sheet_7 : decode cX0_sheet 7 = .ok (.iload_n 2, 1) := dk_28 (dk_at dksX0_sheet_0 7 rfl rfl)
theorem dX0_sheet_8 : decode cX0_sheet 8 = .ok (.iconst 0, 1) := dk_3 (dk_at dksX0_sheet_0 8 rfl rfl)
theorem dX0_sheet_9 : decode cX0_sheet 9 = .ok (.iconst 2, 1) := dk_5 (dk_at dksX0_sheet_0 9 rfl rfl)
theorem dX0_sheet_10 : decode cX0_sheet 10 = .ok (.invokestatic 69, 3) := dk_184 0 69 (dk_at dksX0_sheet_0 10 rfl rfl)
theorem dX0_sheet_13 : decode cX0_sheet 13 = .ok (.ifCond .eq 9, 3) := dk_153 0 9 (dk_at dksX0_sheet_0 13 rfl rfl)
theorem dX0_sheet_16 : decode cX0_sheet 16 = .ok (.iload_n 3, 1) := dk_29 (dk_at dksX0_sheet_0 16 rfl rfl)
theorem dX0_sheet_17 : decode cX0_sheet 17 = .ok (.bipush 60, 2) := dk_16 60 (dk_at dksX0_sheet_0 17 rfl rfl)
theorem dX0_sheet_19 : decode cX0_sheet 19 = .ok (.if_icmp .le 6, 3) := dk_164 0 6 (dk_at dksX0_sheet_0 19 rfl rfl)
theorem dX0_sheet_22 : decode cX0_sheet 22 = .ok (.bipush (-2), 2) := dk_16 254 (dk_at dksX0_sheet_0 22 rfl rfl)
theorem dX0_sheet_24 : decode cX0_sheet 24 = .ok (.ireturn, 1) := dk_172 (dk_at dksX0_sheet_1 0 rfl rfl)
theorem dX0_sheet_25 : decode cX0_sheet 25 = .ok (.aload_n 0, 1) := dk_42 (dk_at dksX0_sheet_1 1 rfl rfl)
theorem dX0_sheet_26 : decode cX0_sheet 26 = .ok (.getfield 64, 3) := dk_180 0 64 (dk_at dksX0_sheet_1 2 rfl rfl)
theorem dX0_sheet_29 : decode cX0_sheet 29 = .ok (.iload_n 1, 1) := dk_27 (dk_at dksX0_sheet_1 5 rfl rfl)
theorem dX0_sheet_30 : decode cX0_sheet 30 = .ok (.aaload, 1) := dk_50 (dk_at dksX0_sheet_1 6 rfl rfl)
theorem dX0_sheet_31 : decode cX0_sheet 31 = .ok (.iload_n 2, 1) := dk_28 (dk_at dksX0_sheet_1 7 rfl rfl)
theorem dX0_sheet_32 : decode cX0_sheet 32 = .ok (.iload_n 3, 1) := dk_29 (dk_at dksX0_sheet_1 8 rfl rfl)
theorem dX0_sheet_33 : decode cX0_sheet 33 = .ok (.invokestatic 258, 3) := dk_184 1 2 (dk_at dksX0_sheet_1 9 rfl rfl)
theorem dX0_sheet_36 : decode cX0_sheet 36 = .ok (.putfield 207, 3) := dk_181 0 207 (dk_at dksX0_sheet_1 12 rfl rfl)
theorem dX0_sheet_39 : decode cX0_sheet 39 = .ok (.goto 11, 3) := dk_167 0 11 (dk_at dksX0_sheet_1 15 rfl rfl)
theorem dX0_sheet_42 : decode cX0_sheet 42 = .ok (.astore 4, 2) := dk_58 4 (dk_at dksX0_sheet_1 18 rfl rfl)
theorem dX0_sheet_44 : decode cX0_sheet 44 = .ok (.aload_n 0, 1) := dk_42 (dk_at dksX0_sheet_1 20 rfl rfl)
theorem dX0_sheet_45 : decode cX0_sheet 45 = .ok (.iconst 5, 1) := dk_8 (dk_at dksX0_sheet_1 21 rfl rfl)
theorem dX0_sheet_46 : decode cX0_sheet 46 = .ok (.invokevirtual 211, 3) := dk_182 0 211 (dk_at dksX0_sheet_2 0 rfl rfl)
theorem dX0_sheet_49 : decode cX0_sheet 49 = .ok (.ireturn, 1) := dk_172 (dk_at dksX0_sheet_2 3 rfl rfl)
theorem dX0_sheet_50 : decode cX0_sheet 50 = .ok (.aload_n 0, 1) := dk_42 (dk_at dksX0_sheet_2 4 rfl rfl)
theorem dX0_sheet_51 : decode cX0_sheet 51 = .ok (.getfield 64, 3) := dk_180 0 64 (dk_at dksX0_sheet_2 5 rfl rfl)
theorem dX0_sheet_54 : decode cX0_sheet 54 = .ok (.iload_n 1, 1) := dk_27 (dk_at dksX0_sheet_2 8 rfl rfl)
theorem dX0_sheet_55 : decode cX0_sheet 55 = .ok (.aaload, 1) := dk_50 (dk_at dksX0_sheet_2 9 rfl rfl)
theorem dX0_sheet_56 : decode cX0_sheet 56 = .ok (.iload_n 2, 1) := dk_28 (dk_at dksX0_sheet_2 10 rfl rfl)
theorem dX0_sheet_57 : decode cX0_sheet 57 = .ok (.putfield 233, 3) := dk_181 0 233 (dk_at dksX0_sheet_2 11 rfl rfl)
theorem dX0_sheet_60 : decode cX0_sheet 60 = .ok (.iload_n 3, 1) := dk_29 (dk_at dksX0_sheet_2 14 rfl rfl)
theorem dX0_sheet_61 : decode cX0_sheet 61 = .ok (.ireturn, 1) := dk_172 (dk_at dksX0_sheet_2 15 rfl rfl)
abbrev cX0_rowOf : ByteArray := prog_1_method_41_code
def yX0_rowOf : MethodName := ⟨RX0, "rowOf", "(II)Ljava/lang/Object;"⟩
def dkwX0_rowOf_2 : List UInt8 := [27, 188, 8, 176, 27, 188, 9, 176, 27, 188, 10, 176]
abbrev dktX0_rowOf_2 : List UInt8 := dkwX0_rowOf_2 ++ []
def dkwX0_rowOf_1 : List UInt8 := [171, 0, 0, 0, 0, 0, 35, 0, 0, 0, 2, 0, 0, 0, 0, 0, 0, 0, 27, 0, 0, 0, 1, 0, 0, 0, 31]
abbrev dktX0_rowOf_1 : List UInt8 := dkwX0_rowOf_1 ++ dktX0_rowOf_2
def dkwX0_rowOf_0 : List UInt8 := [26]
abbrev dktX0_rowOf_0 : List UInt8 := dkwX0_rowOf_0 ++ dktX0_rowOf_1
theorem dksX0_rowOf_0 : cX0_rowOf.data.toList.drop 0 = dktX0_rowOf_0 := by decide +kernel
theorem dksX0_rowOf_1 : cX0_rowOf.data.toList.drop 1 = dktX0_rowOf_1 := dk_seg dksX0_rowOf_0 1 rfl rfl
theorem dksX0_rowOf_2 : cX0_rowOf.data.toList.drop 28 = dktX0_rowOf_2 := dk_seg dksX0_rowOf_1 27 rfl rfl
theorem dX0_rowOf_0 : decode cX0_rowOf 0 = .ok (.iload_n 0, 1) := dk_26 (dk_at dksX0_rowOf_0 0 rfl rfl)
theorem dX0_rowOf_1 : decode cX0_rowOf 1 = .ok (.lookupswitch 35 #[(0, 27), (1, 31)], 27) := by decide +kernel
theorem dX0_rowOf_28 : decode cX0_rowOf 28 = .ok (.iload_n 1, 1) := dk_27 (dk_at dksX0_rowOf_2 0 rfl rfl)
theorem dX0_rowOf_29 : decode cX0_rowOf 29 = .ok (.newarray .byte, 2) := dk_188_8 (dk_at dksX0_rowOf_2 1 rfl rfl)
theorem dX0_rowOf_31 : decode cX0_rowOf 31 = .ok (.areturn, 1) := dk_176 (dk_at dksX0_rowOf_2 3 rfl rfl)
theorem dX0_rowOf_32 : decode cX0_rowOf 32 = .ok (.iload_n 1, 1) := dk_27 (dk_at dksX0_rowOf_2 4 rfl rfl)
theorem dX0_rowOf_33 : decode cX0_rowOf 33 = .ok (.newarray .short, 2) := dk_188_9 (dk_at dksX0_rowOf_2 5 rfl rfl)
theorem dX0_rowOf_35 : decode cX0_rowOf 35 = .ok (.areturn, 1) := dk_176 (dk_at dksX0_rowOf_2 7 rfl rfl)
theorem dX0_rowOf_36 : decode cX0_rowOf 36 = .ok (.iload_n 1, 1) := dk_27 (dk_at dksX0_rowOf_2 8 rfl rfl)
theorem dX0_rowOf_37 : decode cX0_rowOf 37 = .ok (.newarray .int, 2) := dk_188_10 (dk_at dksX0_rowOf_2 9 rfl rfl)
theorem dX0_rowOf_39 : decode cX0_rowOf 39 = .ok (.areturn, 1) := dk_176 (dk_at dksX0_rowOf_2 11 rfl rfl)
abbrev cX0_lose : ByteArray := prog_1_method_43_code
def yX0_lose : MethodName := ⟨RX0, "lose", "(I)I"⟩
def dkwX0_lose_2 : List UInt8 := [28, 172]
abbrev dktX0_lose_2 : List UInt8 := dkwX0_lose_2 ++ []
def dkwX0_lose_1 : List UInt8 := [182, 0, 211, 172, 42, 180, 0, 64, 27, 50, 182, 1, 8, 61, 42, 180, 0, 64, 27, 50, 1, 181, 0, 207]
abbrev dktX0_lose_1 : List UInt8 := dkwX0_lose_1 ++ dktX0_lose_2
def dkwX0_lose_0 : List UInt8 := [27, 184, 0, 204, 154, 0, 6, 16, 254, 172, 42, 180, 0, 64, 27, 50, 180, 0, 207, 199, 0, 9, 42, 4]
abbrev dktX0_lose_0 : List UInt8 := dkwX0_lose_0 ++ dktX0_lose_1
theorem dksX0_lose_0 : cX0_lose.data.toList.drop 0 = dktX0_lose_0 := by decide +kernel
theorem dksX0_lose_1 : cX0_lose.data.toList.drop 24 = dktX0_lose_1 := dk_seg dksX0_lose_0 24 rfl rfl
theorem dksX0_lose_2 : cX0_lose.data.toList.drop 48 = dktX0_lose_2 := dk_seg dksX0_lose_1 24 rfl rfl
theorem dX0_lose_0 : decode cX0_lose 0 = .ok (.iload_n 1, 1) := dk_27 (dk_at dksX0_lose_0 0 rfl rfl)
theorem dX0_lose_1 : decode cX0_lose 1 = .ok (.invokestatic 204, 3) := dk_184 0 204 (dk_at dksX0_lose_0 1 rfl rfl)
theorem dX0_lose_4 : decode cX0_lose 4 = .ok (.ifCond .ne 6, 3) := dk_154 0 6 (dk_at dksX0_lose_0 4 rfl rfl)
theorem dX0_lose_7 : decode cX0_lose 7 = .ok (.bipush (-2), 2) := dk_16 254 (dk_at dksX0_lose_0 7 rfl rfl)
theorem dX0_lose_9 : decode cX0_lose 9 = .ok (.ireturn, 1) := dk_172 (dk_at dksX0_lose_0 9 rfl rfl)
theorem dX0_lose_10 : decode cX0_lose 10 = .ok (.aload_n 0, 1) := dk_42 (dk_at dksX0_lose_0 10 rfl rfl)
theorem dX0_lose_11 : decode cX0_lose 11 = .ok (.getfield 64, 3) := dk_180 0 64 (dk_at dksX0_lose_0 11 rfl rfl)
theorem dX0_lose_14 : decode cX0_lose 14 = .ok (.iload_n 1, 1) := dk_27 (dk_at dksX0_lose_0 14 rfl rfl)
theorem dX0_lose_15 : decode cX0_lose 15 = .ok (.aaload, 1) := dk_50 (dk_at dksX0_lose_0 15 rfl rfl)
theorem dX0_lose_16 : decode cX0_lose 16 = .ok (.getfield 207, 3) := dk_180 0 207 (dk_at dksX0_lose_0 16 rfl rfl)
theorem dX0_lose_19 : decode cX0_lose 19 = .ok (.ifnonnull 9, 3) := dk_199 0 9 (dk_at dksX0_lose_0 19 rfl rfl)
theorem dX0_lose_22 : decode cX0_lose 22 = .ok (.aload_n 0, 1) := dk_42 (dk_at dksX0_lose_0 22 rfl rfl)
theorem dX0_lose_23 : decode cX0_lose 23 = .ok (.iconst 1, 1) := dk_4 (dk_at dksX0_lose_0 23 rfl rfl)
theorem dX0_lose_24 : decode cX0_lose 24 = .ok (.invokevirtual 211, 3) := dk_182 0 211 (dk_at dksX0_lose_1 0 rfl rfl)
theorem dX0_lose_27 : decode cX0_lose 27 = .ok (.ireturn, 1) := dk_172 (dk_at dksX0_lose_1 3 rfl rfl)
theorem dX0_lose_28 : decode cX0_lose 28 = .ok (.aload_n 0, 1) := dk_42 (dk_at dksX0_lose_1 4 rfl rfl)
theorem dX0_lose_29 : decode cX0_lose 29 = .ok (.getfield 64, 3) := dk_180 0 64 (dk_at dksX0_lose_1 5 rfl rfl)
theorem dX0_lose_32 : decode cX0_lose 32 = .ok (.iload_n 1, 1) := dk_27 (dk_at dksX0_lose_1 8 rfl rfl)
theorem dX0_lose_33 : decode cX0_lose 33 = .ok (.aaload, 1) := dk_50 (dk_at dksX0_lose_1 9 rfl rfl)
theorem dX0_lose_34 : decode cX0_lose 34 = .ok (.invokevirtual 264, 3) := dk_182 1 8 (dk_at dksX0_lose_1 10 rfl rfl)
theorem dX0_lose_37 : decode cX0_lose 37 = .ok (.istore_n 2, 1) := dk_61 (dk_at dksX0_lose_1 13 rfl rfl)
theorem dX0_lose_38 : decode cX0_lose 38 = .ok (.aload_n 0, 1) := dk_42 (dk_at dksX0_lose_1 14 rfl rfl)
theorem dX0_lose_39 : decode cX0_lose 39 = .ok (.getfield 64, 3) := dk_180 0 64 (dk_at dksX0_lose_1 15 rfl rfl)
theorem dX0_lose_42 : decode cX0_lose 42 = .ok (.iload_n 1, 1) := dk_27 (dk_at dksX0_lose_1 18 rfl rfl)
theorem dX0_lose_43 : decode cX0_lose 43 = .ok (.aaload, 1) := dk_50 (dk_at dksX0_lose_1 19 rfl rfl)
theorem dX0_lose_44 : decode cX0_lose 44 = .ok (.aconst_null, 1) := dk_1 (dk_at dksX0_lose_1 20 rfl rfl)
theorem dX0_lose_45 : decode cX0_lose 45 = .ok (.putfield 207, 3) := dk_181 0 207 (dk_at dksX0_lose_1 21 rfl rfl)
theorem dX0_lose_48 : decode cX0_lose 48 = .ok (.iload_n 2, 1) := dk_28 (dk_at dksX0_lose_2 0 rfl rfl)
theorem dX0_lose_49 : decode cX0_lose 49 = .ok (.ireturn, 1) := dk_172 (dk_at dksX0_lose_2 1 rfl rfl)
abbrev cX0_put : ByteArray := prog_1_method_46_code
def yX0_put : MethodName := ⟨RX0, "put", "(IIII)I"⟩
def dkwX0_put_2 : List UInt8 := [6, 182, 0, 211, 172, 58, 5, 42, 5, 182, 0, 211, 172]
abbrev dktX0_put_2 : List UInt8 := dkwX0_put_2 ++ []
def dkwX0_put_1 : List UInt8 := [50, 180, 0, 207, 28, 29, 21, 4, 184, 1, 13, 4, 172, 58, 5, 42, 4, 182, 0, 211, 172, 58, 5, 42]
abbrev dktX0_put_1 : List UInt8 := dkwX0_put_1 ++ dktX0_put_2
def dkwX0_put_0 : List UInt8 := [27, 184, 0, 204, 153, 0, 12, 28, 3, 5, 184, 0, 69, 154, 0, 6, 16, 254, 172, 42, 180, 0, 64, 27]
abbrev dktX0_put_0 : List UInt8 := dkwX0_put_0 ++ dktX0_put_1
theorem dksX0_put_0 : cX0_put.data.toList.drop 0 = dktX0_put_0 := by decide +kernel
theorem dksX0_put_1 : cX0_put.data.toList.drop 24 = dktX0_put_1 := dk_seg dksX0_put_0 24 rfl rfl
theorem dksX0_put_2 : cX0_put.data.toList.drop 48 = dktX0_put_2 := dk_seg dksX0_put_1 24 rfl rfl
theorem dX0_put_0 : decode cX0_put 0 = .ok (.iload_n 1, 1) := dk_27 (dk_at dksX0_put_0 0 rfl rfl)
theorem dX0_put_1 : decode cX0_put 1 = .ok (.invokestatic 204, 3) := dk_184 0 204 (dk_at dksX0_put_0 1 rfl rfl)
theorem dX0_put_4 : decode cX0_put 4 = .ok (.ifCond .eq 12, 3) := dk_153 0 12 (dk_at dksX0_put_0 4 rfl rfl)
theorem dX0_put_7 : decode cX0_put 7 = .ok (.iload_n 2, 1) := dk_28 (dk_at dksX0_put_0 7 rfl rfl)
theorem dX0_put_8 : decode cX0_put 8 = .ok (.iconst 0, 1) := dk_3 (dk_at dksX0_put_0 8 rfl rfl)
theorem dX0_put_9 : decode cX0_put 9 = .ok (.iconst 2, 1) := dk_5 (dk_at dksX0_put_0 9 rfl rfl)
theorem dX0_put_10 : decode cX0_put 10 = .ok (.invokestatic 69, 3) := dk_184 0 69 (dk_at dksX0_put_0 10 rfl rfl)
theorem dX0_put_13 : decode cX0_put 13 = .ok (.ifCond .ne 6, 3) := dk_154 0 6 (dk_at dksX0_put_0 13 rfl rfl)
theorem dX0_put_16 : decode cX0_put 16 = .ok (.bipush (-2), 2) := dk_16 254 (dk_at dksX0_put_0 16 rfl rfl)
theorem dX0_put_18 : decode cX0_put 18 = .ok (.ireturn, 1) := dk_172 (dk_at dksX0_put_0 18 rfl rfl)
theorem dX0_put_19 : decode cX0_put 19 = .ok (.aload_n 0, 1) := dk_42 (dk_at dksX0_put_0 19 rfl rfl)
theorem dX0_put_20 : decode cX0_put 20 = .ok (.getfield 64, 3) := dk_180 0 64 (dk_at dksX0_put_0 20 rfl rfl)
theorem dX0_put_23 : decode cX0_put 23 = .ok (.iload_n 1, 1) := dk_27 (dk_at dksX0_put_0 23 rfl rfl)
theorem dX0_put_24 : decode cX0_put 24 = .ok (.aaload, 1) := dk_50 (dk_at dksX0_put_1 0 rfl rfl)
theorem dX0_put_25 : decode cX0_put 25 = .ok (.getfield 207, 3) := dk_180 0 207 (dk_at dksX0_put_1 1 rfl rfl)
theorem dX0_put_28 : decode cX0_put 28 = .ok (.iload_n 2, 1) := dk_28 (dk_at dksX0_put_1 4 rfl rfl)
theorem dX0_put_29 : decode cX0_put 29 = .ok (.iload_n 3, 1) := dk_29 (dk_at dksX0_put_1 5 rfl rfl)
theorem dX0_put_30 : decode cX0_put 30 = .ok (.iload 4, 2) := dk_21 4 (dk_at dksX0_put_1 6 rfl rfl)
theorem dX0_put_32 : decode cX0_put 32 = .ok (.invokestatic 269, 3) := dk_184 1 13 (dk_at dksX0_put_1 8 rfl rfl)
theorem dX0_put_35 : decode cX0_put 35 = .ok (.iconst 1, 1) := dk_4 (dk_at dksX0_put_1 11 rfl rfl)
theorem dX0_put_36 : decode cX0_put 36 = .ok (.ireturn, 1) := dk_172 (dk_at dksX0_put_1 12 rfl rfl)
theorem dX0_put_37 : decode cX0_put 37 = .ok (.astore 5, 2) := dk_58 5 (dk_at dksX0_put_1 13 rfl rfl)
theorem dX0_put_39 : decode cX0_put 39 = .ok (.aload_n 0, 1) := dk_42 (dk_at dksX0_put_1 15 rfl rfl)
theorem dX0_put_40 : decode cX0_put 40 = .ok (.iconst 1, 1) := dk_4 (dk_at dksX0_put_1 16 rfl rfl)
theorem dX0_put_41 : decode cX0_put 41 = .ok (.invokevirtual 211, 3) := dk_182 0 211 (dk_at dksX0_put_1 17 rfl rfl)
theorem dX0_put_44 : decode cX0_put 44 = .ok (.ireturn, 1) := dk_172 (dk_at dksX0_put_1 20 rfl rfl)
theorem dX0_put_45 : decode cX0_put 45 = .ok (.astore 5, 2) := dk_58 5 (dk_at dksX0_put_1 21 rfl rfl)
theorem dX0_put_47 : decode cX0_put 47 = .ok (.aload_n 0, 1) := dk_42 (dk_at dksX0_put_1 23 rfl rfl)
theorem dX0_put_48 : decode cX0_put 48 = .ok (.iconst 3, 1) := dk_6 (dk_at dksX0_put_2 0 rfl rfl)
theorem dX0_put_49 : decode cX0_put 49 = .ok (.invokevirtual 211, 3) := dk_182 0 211 (dk_at dksX0_put_2 1 rfl rfl)
theorem dX0_put_52 : decode cX0_put 52 = .ok (.ireturn, 1) := dk_172 (dk_at dksX0_put_2 4 rfl rfl)
theorem dX0_put_53 : decode cX0_put 53 = .ok (.astore 5, 2) := dk_58 5 (dk_at dksX0_put_2 5 rfl rfl)
theorem dX0_put_55 : decode cX0_put 55 = .ok (.aload_n 0, 1) := dk_42 (dk_at dksX0_put_2 7 rfl rfl)
theorem dX0_put_56 : decode cX0_put 56 = .ok (.iconst 2, 1) := dk_5 (dk_at dksX0_put_2 8 rfl rfl)
theorem dX0_put_57 : decode cX0_put 57 = .ok (.invokevirtual 211, 3) := dk_182 0 211 (dk_at dksX0_put_2 9 rfl rfl)
theorem dX0_put_60 : decode cX0_put 60 = .ok (.ireturn, 1) := dk_172 (dk_at dksX0_put_2 12 rfl rfl)
abbrev cX0_lay : ByteArray := prog_1_method_44_code
def yX0_lay : MethodName := ⟨RX0, "lay", "(Ljava/lang/Object;III)V"⟩
def dkwX0_lay_3 : List UInt8 := [192, 0, 17, 28, 29, 79, 177]
abbrev dktX0_lay_3 : List UInt8 := dkwX0_lay_3 ++ []
def dkwX0_lay_2 : List UInt8 := [42, 192, 1, 9, 28, 29, 145, 84, 167, 0, 21, 42, 192, 1, 11, 28, 29, 147, 86, 167, 0, 10, 42]
abbrev dktX0_lay_2 : List UInt8 := dkwX0_lay_2 ++ dktX0_lay_3
def dkwX0_lay_1 : List UInt8 := [171, 0, 0, 0, 0, 0, 49, 0, 0, 0, 2, 0, 0, 0, 0, 0, 0, 0, 27, 0, 0, 0, 1, 0, 0, 0, 38]
abbrev dktX0_lay_1 : List UInt8 := dkwX0_lay_1 ++ dktX0_lay_2
def dkwX0_lay_0 : List UInt8 := [27]
abbrev dktX0_lay_0 : List UInt8 := dkwX0_lay_0 ++ dktX0_lay_1
theorem dksX0_lay_0 : cX0_lay.data.toList.drop 0 = dktX0_lay_0 := by decide +kernel
theorem dksX0_lay_1 : cX0_lay.data.toList.drop 1 = dktX0_lay_1 := dk_seg dksX0_lay_0 1 rfl rfl
theorem dksX0_lay_2 : cX0_lay.data.toList.drop 28 = dktX0_lay_2 := dk_seg dksX0_lay_1 27 rfl rfl
theorem dksX0_lay_3 : cX0_lay.data.toList.drop 51 = dktX0_lay_3 := dk_seg dksX0_lay_2 23 rfl rfl
theorem dX0_lay_0 : decode cX0_lay 0 = .ok (.iload_n 1, 1) := dk_27 (dk_at dksX0_lay_0 0 rfl rfl)
theorem dX0_lay_1 : decode cX0_lay 1 = .ok (.lookupswitch 49 #[(0, 27), (1, 38)], 27) := by decide +kernel
theorem dX0_lay_28 : decode cX0_lay 28 = .ok (.aload_n 0, 1) := dk_42 (dk_at dksX0_lay_2 0 rfl rfl)
theorem dX0_lay_29 : decode cX0_lay 29 = .ok (.checkcast 265, 3) := dk_192 1 9 (dk_at dksX0_lay_2 1 rfl rfl)
theorem dX0_lay_32 : decode cX0_lay 32 = .ok (.iload_n 2, 1) := dk_28 (dk_at dksX0_lay_2 4 rfl rfl)
theorem dX0_lay_33 : decode cX0_lay 33 = .ok (.iload_n 3, 1) := dk_29 (dk_at dksX0_lay_2 5 rfl rfl)
theorem dX0_lay_34 : decode cX0_lay 34 = .ok (.i2b, 1) := dk_145 (dk_at dksX0_lay_2 6 rfl rfl)
theorem dX0_lay_35 : decode cX0_lay 35 = .ok (.bastore, 1) := dk_84 (dk_at dksX0_lay_2 7 rfl rfl)
theorem dX0_lay_36 : decode cX0_lay 36 = .ok (.goto 21, 3) := dk_167 0 21 (dk_at dksX0_lay_2 8 rfl rfl)
theorem dX0_lay_39 : decode cX0_lay 39 = .ok (.aload_n 0, 1) := dk_42 (dk_at dksX0_lay_2 11 rfl rfl)
theorem dX0_lay_40 : decode cX0_lay 40 = .ok (.checkcast 267, 3) := dk_192 1 11 (dk_at dksX0_lay_2 12 rfl rfl)
theorem dX0_lay_43 : decode cX0_lay 43 = .ok (.iload_n 2, 1) := dk_28 (dk_at dksX0_lay_2 15 rfl rfl)
theorem dX0_lay_44 : decode cX0_lay 44 = .ok (.iload_n 3, 1) := dk_29 (dk_at dksX0_lay_2 16 rfl rfl)
theorem dX0_lay_45 : decode cX0_lay 45 = .ok (.i2s, 1) := dk_147 (dk_at dksX0_lay_2 17 rfl rfl)
theorem dX0_lay_46 : decode cX0_lay 46 = .ok (.sastore, 1) := dk_86 (dk_at dksX0_lay_2 18 rfl rfl)
theorem dX0_lay_47 : decode cX0_lay 47 = .ok (.goto 10, 3) := dk_167 0 10 (dk_at dksX0_lay_2 19 rfl rfl)
theorem dX0_lay_50 : decode cX0_lay 50 = .ok (.aload_n 0, 1) := dk_42 (dk_at dksX0_lay_2 22 rfl rfl)
theorem dX0_lay_51 : decode cX0_lay 51 = .ok (.checkcast 17, 3) := dk_192 0 17 (dk_at dksX0_lay_3 0 rfl rfl)
theorem dX0_lay_54 : decode cX0_lay 54 = .ok (.iload_n 2, 1) := dk_28 (dk_at dksX0_lay_3 3 rfl rfl)
theorem dX0_lay_55 : decode cX0_lay 55 = .ok (.iload_n 3, 1) := dk_29 (dk_at dksX0_lay_3 4 rfl rfl)
theorem dX0_lay_56 : decode cX0_lay 56 = .ok (.iastore, 1) := dk_79 (dk_at dksX0_lay_3 5 rfl rfl)
theorem dX0_lay_57 : decode cX0_lay 57 = .ok (.return_, 1) := dk_177 (dk_at dksX0_lay_3 6 rfl rfl)
abbrev cX0_get : ByteArray := prog_1_method_47_code
def yX0_get : MethodName := ⟨RX0, "get", "(III)I"⟩
def dkwX0_get_2 : List UInt8 := [6, 54, 4, 167, 0, 8, 58, 5, 5, 54, 4, 42, 21, 4, 181, 0, 255, 18, 148, 172]
abbrev dktX0_get_2 : List UInt8 := dkwX0_get_2 ++ []
def dkwX0_get_1 : List UInt8 := [180, 0, 64, 27, 50, 180, 0, 207, 28, 29, 184, 0, 236, 172, 58, 5, 4, 54, 4, 167, 0, 16, 58, 5]
abbrev dktX0_get_1 : List UInt8 := dkwX0_get_1 ++ dktX0_get_2
def dkwX0_get_0 : List UInt8 := [27, 184, 0, 204, 153, 0, 12, 28, 3, 5, 184, 0, 69, 154, 0, 6, 18, 148, 172, 3, 54, 4, 42]
abbrev dktX0_get_0 : List UInt8 := dkwX0_get_0 ++ dktX0_get_1
theorem dksX0_get_0 : cX0_get.data.toList.drop 0 = dktX0_get_0 := by decide +kernel
theorem dksX0_get_1 : cX0_get.data.toList.drop 23 = dktX0_get_1 := dk_seg dksX0_get_0 23 rfl rfl
theorem dksX0_get_2 : cX0_get.data.toList.drop 47 = dktX0_get_2 := dk_seg dksX0_get_1 24 rfl rfl
theorem dX0_get_0 : decode cX0_get 0 = .ok (.iload_n 1, 1) := dk_27 (dk_at dksX0_get_0 0 rfl rfl)
theorem dX0_get_1 : decode cX0_get 1 = .ok (.invokestatic 204, 3) := dk_184 0 204 (dk_at dksX0_get_0 1 rfl rfl)
theorem dX0_get_4 : decode cX0_get 4 = .ok (.ifCond .eq 12, 3) := dk_153 0 12 (dk_at dksX0_get_0 4 rfl rfl)
theorem dX0_get_7 : decode cX0_get 7 = .ok (.iload_n 2, 1) := dk_28 (dk_at dksX0_get_0 7 rfl rfl)
theorem dX0_get_8 : decode cX0_get 8 = .ok (.iconst 0, 1) := dk_3 (dk_at dksX0_get_0 8 rfl rfl)
theorem dX0_get_9 : decode cX0_get 9 = .ok (.iconst 2, 1) := dk_5 (dk_at dksX0_get_0 9 rfl rfl)
theorem dX0_get_10 : decode cX0_get 10 = .ok (.invokestatic 69, 3) := dk_184 0 69 (dk_at dksX0_get_0 10 rfl rfl)
theorem dX0_get_13 : decode cX0_get 13 = .ok (.ifCond .ne 6, 3) := dk_154 0 6 (dk_at dksX0_get_0 13 rfl rfl)
theorem dX0_get_16 : decode cX0_get 16 = .ok (.ldc 148, 2) := dk_18 148 (dk_at dksX0_get_0 16 rfl rfl)
theorem dX0_get_18 : decode cX0_get 18 = .ok (.ireturn, 1) := dk_172 (dk_at dksX0_get_0 18 rfl rfl)
theorem dX0_get_19 : decode cX0_get 19 = .ok (.iconst 0, 1) := dk_3 (dk_at dksX0_get_0 19 rfl rfl)
theorem dX0_get_20 : decode cX0_get 20 = .ok (.istore 4, 2) := dk_54 4 (dk_at dksX0_get_0 20 rfl rfl)
theorem dX0_get_22 : decode cX0_get 22 = .ok (.aload_n 0, 1) := dk_42 (dk_at dksX0_get_0 22 rfl rfl)
theorem dX0_get_23 : decode cX0_get 23 = .ok (.getfield 64, 3) := dk_180 0 64 (dk_at dksX0_get_1 0 rfl rfl)
theorem dX0_get_26 : decode cX0_get 26 = .ok (.iload_n 1, 1) := dk_27 (dk_at dksX0_get_1 3 rfl rfl)
theorem dX0_get_27 : decode cX0_get 27 = .ok (.aaload, 1) := dk_50 (dk_at dksX0_get_1 4 rfl rfl)
theorem dX0_get_28 : decode cX0_get 28 = .ok (.getfield 207, 3) := dk_180 0 207 (dk_at dksX0_get_1 5 rfl rfl)
theorem dX0_get_31 : decode cX0_get 31 = .ok (.iload_n 2, 1) := dk_28 (dk_at dksX0_get_1 8 rfl rfl)
theorem dX0_get_32 : decode cX0_get 32 = .ok (.iload_n 3, 1) := dk_29 (dk_at dksX0_get_1 9 rfl rfl)
theorem dX0_get_33 : decode cX0_get 33 = .ok (.invokestatic 236, 3) := dk_184 0 236 (dk_at dksX0_get_1 10 rfl rfl)
theorem dX0_get_36 : decode cX0_get 36 = .ok (.ireturn, 1) := dk_172 (dk_at dksX0_get_1 13 rfl rfl)
theorem dX0_get_37 : decode cX0_get 37 = .ok (.astore 5, 2) := dk_58 5 (dk_at dksX0_get_1 14 rfl rfl)
theorem dX0_get_39 : decode cX0_get 39 = .ok (.iconst 1, 1) := dk_4 (dk_at dksX0_get_1 16 rfl rfl)
theorem dX0_get_40 : decode cX0_get 40 = .ok (.istore 4, 2) := dk_54 4 (dk_at dksX0_get_1 17 rfl rfl)
theorem dX0_get_42 : decode cX0_get 42 = .ok (.goto 16, 3) := dk_167 0 16 (dk_at dksX0_get_1 19 rfl rfl)
theorem dX0_get_45 : decode cX0_get 45 = .ok (.astore 5, 2) := dk_58 5 (dk_at dksX0_get_1 22 rfl rfl)
theorem dX0_get_47 : decode cX0_get 47 = .ok (.iconst 3, 1) := dk_6 (dk_at dksX0_get_2 0 rfl rfl)
theorem dX0_get_48 : decode cX0_get 48 = .ok (.istore 4, 2) := dk_54 4 (dk_at dksX0_get_2 1 rfl rfl)
theorem dX0_get_50 : decode cX0_get 50 = .ok (.goto 8, 3) := dk_167 0 8 (dk_at dksX0_get_2 3 rfl rfl)
theorem dX0_get_53 : decode cX0_get 53 = .ok (.astore 5, 2) := dk_58 5 (dk_at dksX0_get_2 6 rfl rfl)
theorem dX0_get_55 : decode cX0_get 55 = .ok (.iconst 2, 1) := dk_5 (dk_at dksX0_get_2 8 rfl rfl)
theorem dX0_get_56 : decode cX0_get 56 = .ok (.istore 4, 2) := dk_54 4 (dk_at dksX0_get_2 9 rfl rfl)
theorem dX0_get_58 : decode cX0_get 58 = .ok (.aload_n 0, 1) := dk_42 (dk_at dksX0_get_2 11 rfl rfl)
theorem dX0_get_59 : decode cX0_get 59 = .ok (.iload 4, 2) := dk_21 4 (dk_at dksX0_get_2 12 rfl rfl)
theorem dX0_get_61 : decode cX0_get 61 = .ok (.putfield 255, 3) := dk_181 0 255 (dk_at dksX0_get_2 14 rfl rfl)
theorem dX0_get_64 : decode cX0_get 64 = .ok (.ldc 148, 2) := dk_18 148 (dk_at dksX0_get_2 17 rfl rfl)
theorem dX0_get_66 : decode cX0_get 66 = .ok (.ireturn, 1) := dk_172 (dk_at dksX0_get_2 19 rfl rfl)
abbrev cX0_copy : ByteArray := prog_1_method_48_code
def yX0_copy : MethodName := ⟨RX0, "copy", "(IIIII)I"⟩
def dkwX0_copy_4 : List UInt8 := [182, 0, 211, 172, 58, 8, 42, 5, 182, 0, 211, 172]
abbrev dktX0_copy_4 : List UInt8 := dkwX0_copy_4 ++ []
def dkwX0_copy_3 : List UInt8 := [180, 0, 207, 28, 25, 7, 180, 0, 207, 21, 4, 21, 5, 184, 0, 151, 4, 172, 58, 8, 42, 4]
abbrev dktX0_copy_3 : List UInt8 := dkwX0_copy_3 ++ dktX0_copy_4
def dkwX0_copy_2 : List UInt8 := [198, 0, 22, 25, 6, 180, 0, 233, 25, 7, 180, 0, 233, 159, 0, 9, 42, 7, 182, 0, 211, 172, 25, 6]
abbrev dktX0_copy_2 : List UInt8 := dkwX0_copy_2 ++ dktX0_copy_3
def dkwX0_copy_1 : List UInt8 := [58, 6, 42, 180, 0, 64, 29, 50, 58, 7, 25, 6, 180, 0, 207, 198, 0, 30, 25, 7, 180, 0, 207]
abbrev dktX0_copy_1 : List UInt8 := dkwX0_copy_1 ++ dktX0_copy_2
def dkwX0_copy_0 : List UInt8 := [27, 184, 0, 204, 153, 0, 10, 29, 184, 0, 204, 154, 0, 6, 16, 254, 172, 42, 180, 0, 64, 27, 50]
abbrev dktX0_copy_0 : List UInt8 := dkwX0_copy_0 ++ dktX0_copy_1
theorem dksX0_copy_0 : cX0_copy.data.toList.drop 0 = dktX0_copy_0 := by decide +kernel
theorem dksX0_copy_1 : cX0_copy.data.toList.drop 23 = dktX0_copy_1 := dk_seg dksX0_copy_0 23 rfl rfl
theorem dksX0_copy_2 : cX0_copy.data.toList.drop 46 = dktX0_copy_2 := dk_seg dksX0_copy_1 23 rfl rfl
theorem dksX0_copy_3 : cX0_copy.data.toList.drop 70 = dktX0_copy_3 := dk_seg dksX0_copy_2 24 rfl rfl
theorem dksX0_copy_4 : cX0_copy.data.toList.drop 92 = dktX0_copy_4 := dk_seg dksX0_copy_3 22 rfl rfl
theorem dX0_copy_0 : decode cX0_copy 0 = .ok (.iload_n 1, 1) := dk_27 (dk_at dksX0_copy_0 0 rfl rfl)
theorem dX0_copy_1 : decode cX0_copy 1 = .ok (.invokestatic 204, 3) := dk_184 0 204 (dk_at dksX0_copy_0 1 rfl rfl)
theorem dX0_copy_4 : decode cX0_copy 4 = .ok (.ifCond .eq 10, 3) := dk_153 0 10 (dk_at dksX0_copy_0 4 rfl rfl)
theorem dX0_copy_7 : decode cX0_copy 7 = .ok (.iload_n 3, 1) := dk_29 (dk_at dksX0_copy_0 7 rfl rfl)
theorem dX0_copy_8 : decode cX0_copy 8 = .ok (.invokestatic 204, 3) := dk_184 0 204 (dk_at dksX0_copy_0 8 rfl rfl)
theorem dX0_copy_11 : decode cX0_copy 11 = .ok (.ifCond .ne 6, 3) := dk_154 0 6 (dk_at dksX0_copy_0 11 rfl rfl)
theorem dX0_copy_14 : decode cX0_copy 14 = .ok (.bipush (-2), 2) := dk_16 254 (dk_at dksX0_copy_0 14 rfl rfl)
theorem dX0_copy_16 : decode cX0_copy 16 = .ok (.ireturn, 1) := dk_172 (dk_at dksX0_copy_0 16 rfl rfl)
theorem dX0_copy_17 : decode cX0_copy 17 = .ok (.aload_n 0, 1) := dk_42 (dk_at dksX0_copy_0 17 rfl rfl)
theorem dX0_copy_18 : decode cX0_copy 18 = .ok (.getfield 64, 3) := dk_180 0 64 (dk_at dksX0_copy_0 18 rfl rfl)
theorem dX0_copy_21 : decode cX0_copy 21 = .ok (.iload_n 1, 1) := dk_27 (dk_at dksX0_copy_0 21 rfl rfl)
theorem dX0_copy_22 : decode cX0_copy 22 = .ok (.aaload, 1) := dk_50 (dk_at dksX0_copy_0 22 rfl rfl)
theorem dX0_copy_23 : decode cX0_copy 23 = .ok (.astore 6, 2) := dk_58 6 (dk_at dksX0_copy_1 0 rfl rfl)
theorem dX0_copy_25 : decode cX0_copy 25 = .ok (.aload_n 0, 1) := dk_42 (dk_at dksX0_copy_1 2 rfl rfl)
theorem dX0_copy_26 : decode cX0_copy 26 = .ok (.getfield 64, 3) := dk_180 0 64 (dk_at dksX0_copy_1 3 rfl rfl)
theorem dX0_copy_29 : decode cX0_copy 29 = .ok (.iload_n 3, 1) := dk_29 (dk_at dksX0_copy_1 6 rfl rfl)
theorem dX0_copy_30 : decode cX0_copy 30 = .ok (.aaload, 1) := dk_50 (dk_at dksX0_copy_1 7 rfl rfl)
theorem dX0_copy_31 : decode cX0_copy 31 = .ok (.astore 7, 2) := dk_58 7 (dk_at dksX0_copy_1 8 rfl rfl)
theorem dX0_copy_33 : decode cX0_copy 33 = .ok (.aload 6, 2) := dk_25 6 (dk_at dksX0_copy_1 10 rfl rfl)
theorem dX0_copy_35 : decode cX0_copy 35 = .ok (.getfield 207, 3) := dk_180 0 207 (dk_at dksX0_copy_1 12 rfl rfl)
theorem dX0_copy_38 : decode cX0_copy 38 = .ok (.ifnull 30, 3) := dk_198 0 30 (dk_at dksX0_copy_1 15 rfl rfl)
theorem dX0_copy_41 : decode cX0_copy 41 = .ok (.aload 7, 2) := dk_25 7 (dk_at dksX0_copy_1 18 rfl rfl)
theorem dX0_copy_43 : decode cX0_copy 43 = .ok (.getfield 207, 3) := dk_180 0 207 (dk_at dksX0_copy_1 20 rfl rfl)
theorem dX0_copy_46 : decode cX0_copy 46 = .ok (.ifnull 22, 3) := dk_198 0 22 (dk_at dksX0_copy_2 0 rfl rfl)
theorem dX0_copy_49 : decode cX0_copy 49 = .ok (.aload 6, 2) := dk_25 6 (dk_at dksX0_copy_2 3 rfl rfl)
theorem dX0_copy_51 : decode cX0_copy 51 = .ok (.getfield 233, 3) := dk_180 0 233 (dk_at dksX0_copy_2 5 rfl rfl)
theorem dX0_copy_54 : decode cX0_copy 54 = .ok (.aload 7, 2) := dk_25 7 (dk_at dksX0_copy_2 8 rfl rfl)
theorem dX0_copy_56 : decode cX0_copy 56 = .ok (.getfield 233, 3) := dk_180 0 233 (dk_at dksX0_copy_2 10 rfl rfl)
theorem dX0_copy_59 : decode cX0_copy 59 = .ok (.if_icmp .eq 9, 3) := dk_159 0 9 (dk_at dksX0_copy_2 13 rfl rfl)
theorem dX0_copy_62 : decode cX0_copy 62 = .ok (.aload_n 0, 1) := dk_42 (dk_at dksX0_copy_2 16 rfl rfl)
theorem dX0_copy_63 : decode cX0_copy 63 = .ok (.iconst 4, 1) := dk_7 (dk_at dksX0_copy_2 17 rfl rfl)
theorem dX0_copy_64 : decode cX0_copy 64 = .ok (.invokevirtual 211, 3) := dk_182 0 211 (dk_at dksX0_copy_2 18 rfl rfl)
theorem dX0_copy_67 : decode cX0_copy 67 = .ok (.ireturn, 1) := dk_172 (dk_at dksX0_copy_2 21 rfl rfl)
theorem dX0_copy_68 : decode cX0_copy 68 = .ok (.aload 6, 2) := dk_25 6 (dk_at dksX0_copy_2 22 rfl rfl)
theorem dX0_copy_70 : decode cX0_copy 70 = .ok (.getfield 207, 3) := dk_180 0 207 (dk_at dksX0_copy_3 0 rfl rfl)
theorem dX0_copy_73 : decode cX0_copy 73 = .ok (.iload_n 2, 1) := dk_28 (dk_at dksX0_copy_3 3 rfl rfl)
theorem dX0_copy_74 : decode cX0_copy 74 = .ok (.aload 7, 2) := dk_25 7 (dk_at dksX0_copy_3 4 rfl rfl)
theorem dX0_copy_76 : decode cX0_copy 76 = .ok (.getfield 207, 3) := dk_180 0 207 (dk_at dksX0_copy_3 6 rfl rfl)
theorem dX0_copy_79 : decode cX0_copy 79 = .ok (.iload 4, 2) := dk_21 4 (dk_at dksX0_copy_3 9 rfl rfl)
theorem dX0_copy_81 : decode cX0_copy 81 = .ok (.iload 5, 2) := dk_21 5 (dk_at dksX0_copy_3 11 rfl rfl)
theorem dX0_copy_83 : decode cX0_copy 83 = .ok (.invokestatic 151, 3) := dk_184 0 151 (dk_at dksX0_copy_3 13 rfl rfl)
theorem dX0_copy_86 : decode cX0_copy 86 = .ok (.iconst 1, 1) := dk_4 (dk_at dksX0_copy_3 16 rfl rfl)
theorem dX0_copy_87 : decode cX0_copy 87 = .ok (.ireturn, 1) := dk_172 (dk_at dksX0_copy_3 17 rfl rfl)
theorem dX0_copy_88 : decode cX0_copy 88 = .ok (.astore 8, 2) := dk_58 8 (dk_at dksX0_copy_3 18 rfl rfl)
theorem dX0_copy_90 : decode cX0_copy 90 = .ok (.aload_n 0, 1) := dk_42 (dk_at dksX0_copy_3 20 rfl rfl)
theorem dX0_copy_91 : decode cX0_copy 91 = .ok (.iconst 1, 1) := dk_4 (dk_at dksX0_copy_3 21 rfl rfl)
theorem dX0_copy_92 : decode cX0_copy 92 = .ok (.invokevirtual 211, 3) := dk_182 0 211 (dk_at dksX0_copy_4 0 rfl rfl)
theorem dX0_copy_95 : decode cX0_copy 95 = .ok (.ireturn, 1) := dk_172 (dk_at dksX0_copy_4 3 rfl rfl)
theorem dX0_copy_96 : decode cX0_copy 96 = .ok (.astore 8, 2) := dk_58 8 (dk_at dksX0_copy_4 4 rfl rfl)
theorem dX0_copy_98 : decode cX0_copy 98 = .ok (.aload_n 0, 1) := dk_42 (dk_at dksX0_copy_4 6 rfl rfl)
theorem dX0_copy_99 : decode cX0_copy 99 = .ok (.iconst 2, 1) := dk_5 (dk_at dksX0_copy_4 7 rfl rfl)
theorem dX0_copy_100 : decode cX0_copy 100 = .ok (.invokevirtual 211, 3) := dk_182 0 211 (dk_at dksX0_copy_4 8 rfl rfl)
theorem dX0_copy_103 : decode cX0_copy 103 = .ok (.ireturn, 1) := dk_172 (dk_at dksX0_copy_4 11 rfl rfl)
abbrev cX0_shake : ByteArray := prog_1_method_49_code
def yX0_shake : MethodName := ⟨RX0, "shake", "(II)I"⟩
def dkwX0_shake_3 : List UInt8 := [124, 16, 6, 112, 96, 184, 1, 13, 132, 5, 1, 167, 255, 209, 45, 182, 1, 8, 172]
abbrev dktX0_shake_3 : List UInt8 := dkwX0_shake_3 ++ []
def dkwX0_shake_2 : List UInt8 := [21, 4, 104, 17, 48, 57, 96, 54, 4, 45, 180, 0, 207, 45, 180, 0, 233, 21, 5, 4, 21, 4, 16, 16]
abbrev dktX0_shake_2 : List UInt8 := dkwX0_shake_2 ++ dktX0_shake_3
def dkwX0_shake_1 : List UInt8 := [42, 4, 182, 0, 211, 172, 28, 54, 4, 3, 54, 5, 21, 5, 45, 182, 1, 8, 162, 0, 44, 19, 1, 23]
abbrev dktX0_shake_1 : List UInt8 := dkwX0_shake_1 ++ dktX0_shake_2
def dkwX0_shake_0 : List UInt8 := [27, 184, 0, 204, 154, 0, 6, 16, 254, 172, 42, 180, 0, 64, 27, 50, 78, 45, 180, 0, 207, 199, 0, 9]
abbrev dktX0_shake_0 : List UInt8 := dkwX0_shake_0 ++ dktX0_shake_1
theorem dksX0_shake_0 : cX0_shake.data.toList.drop 0 = dktX0_shake_0 := by decide +kernel
theorem dksX0_shake_1 : cX0_shake.data.toList.drop 24 = dktX0_shake_1 := dk_seg dksX0_shake_0 24 rfl rfl
theorem dksX0_shake_2 : cX0_shake.data.toList.drop 48 = dktX0_shake_2 := dk_seg dksX0_shake_1 24 rfl rfl
theorem dksX0_shake_3 : cX0_shake.data.toList.drop 72 = dktX0_shake_3 := dk_seg dksX0_shake_2 24 rfl rfl
theorem dX0_shake_0 : decode cX0_shake 0 = .ok (.iload_n 1, 1) := dk_27 (dk_at dksX0_shake_0 0 rfl rfl)
theorem dX0_shake_1 : decode cX0_shake 1 = .ok (.invokestatic 204, 3) := dk_184 0 204 (dk_at dksX0_shake_0 1 rfl rfl)
theorem dX0_shake_4 : decode cX0_shake 4 = .ok (.ifCond .ne 6, 3) := dk_154 0 6 (dk_at dksX0_shake_0 4 rfl rfl)
theorem dX0_shake_7 : decode cX0_shake 7 = .ok (.bipush (-2), 2) := dk_16 254 (dk_at dksX0_shake_0 7 rfl rfl)
theorem dX0_shake_9 : decode cX0_shake 9 = .ok (.ireturn, 1) := dk_172 (dk_at dksX0_shake_0 9 rfl rfl)
theorem dX0_shake_10 : decode cX0_shake 10 = .ok (.aload_n 0, 1) := dk_42 (dk_at dksX0_shake_0 10 rfl rfl)
theorem dX0_shake_11 : decode cX0_shake 11 = .ok (.getfield 64, 3) := dk_180 0 64 (dk_at dksX0_shake_0 11 rfl rfl)
theorem dX0_shake_14 : decode cX0_shake 14 = .ok (.iload_n 1, 1) := dk_27 (dk_at dksX0_shake_0 14 rfl rfl)
theorem dX0_shake_15 : decode cX0_shake 15 = .ok (.aaload, 1) := dk_50 (dk_at dksX0_shake_0 15 rfl rfl)
theorem dX0_shake_16 : decode cX0_shake 16 = .ok (.astore_n 3, 1) := dk_78 (dk_at dksX0_shake_0 16 rfl rfl)
theorem dX0_shake_17 : decode cX0_shake 17 = .ok (.aload_n 3, 1) := dk_45 (dk_at dksX0_shake_0 17 rfl rfl)
theorem dX0_shake_18 : decode cX0_shake 18 = .ok (.getfield 207, 3) := dk_180 0 207 (dk_at dksX0_shake_0 18 rfl rfl)
theorem dX0_shake_21 : decode cX0_shake 21 = .ok (.ifnonnull 9, 3) := dk_199 0 9 (dk_at dksX0_shake_0 21 rfl rfl)
theorem dX0_shake_24 : decode cX0_shake 24 = .ok (.aload_n 0, 1) := dk_42 (dk_at dksX0_shake_1 0 rfl rfl)
theorem dX0_shake_25 : decode cX0_shake 25 = .ok (.iconst 1, 1) := dk_4 (dk_at dksX0_shake_1 1 rfl rfl)
theorem dX0_shake_26 : decode cX0_shake 26 = .ok (.invokevirtual 211, 3) := dk_182 0 211 (dk_at dksX0_shake_1 2 rfl rfl)
theorem dX0_shake_29 : decode cX0_shake 29 = .ok (.ireturn, 1) := dk_172 (dk_at dksX0_shake_1 5 rfl rfl)
theorem dX0_shake_30 : decode cX0_shake 30 = .ok (.iload_n 2, 1) := dk_28 (dk_at dksX0_shake_1 6 rfl rfl)
theorem dX0_shake_31 : decode cX0_shake 31 = .ok (.istore 4, 2) := dk_54 4 (dk_at dksX0_shake_1 7 rfl rfl)
theorem dX0_shake_33 : decode cX0_shake 33 = .ok (.iconst 0, 1) := dk_3 (dk_at dksX0_shake_1 9 rfl rfl)
theorem dX0_shake_34 : decode cX0_shake 34 = .ok (.istore 5, 2) := dk_54 5 (dk_at dksX0_shake_1 10 rfl rfl)
theorem dX0_shake_36 : decode cX0_shake 36 = .ok (.iload 5, 2) := dk_21 5 (dk_at dksX0_shake_1 12 rfl rfl)
theorem dX0_shake_38 : decode cX0_shake 38 = .ok (.aload_n 3, 1) := dk_45 (dk_at dksX0_shake_1 14 rfl rfl)
theorem dX0_shake_39 : decode cX0_shake 39 = .ok (.invokevirtual 264, 3) := dk_182 1 8 (dk_at dksX0_shake_1 15 rfl rfl)
theorem dX0_shake_42 : decode cX0_shake 42 = .ok (.if_icmp .ge 44, 3) := dk_162 0 44 (dk_at dksX0_shake_1 18 rfl rfl)
theorem dX0_shake_45 : decode cX0_shake 45 = .ok (.ldc_w 279, 3) := dk_19 1 23 (dk_at dksX0_shake_1 21 rfl rfl)
theorem dX0_shake_48 : decode cX0_shake 48 = .ok (.iload 4, 2) := dk_21 4 (dk_at dksX0_shake_2 0 rfl rfl)
theorem dX0_shake_50 : decode cX0_shake 50 = .ok (.imul, 1) := dk_104 (dk_at dksX0_shake_2 2 rfl rfl)
theorem dX0_shake_51 : decode cX0_shake 51 = .ok (.sipush 12345, 3) := dk_17 48 57 (dk_at dksX0_shake_2 3 rfl rfl)
theorem dX0_shake_54 : decode cX0_shake 54 = .ok (.iadd, 1) := dk_96 (dk_at dksX0_shake_2 6 rfl rfl)
theorem dX0_shake_55 : decode cX0_shake 55 = .ok (.istore 4, 2) := dk_54 4 (dk_at dksX0_shake_2 7 rfl rfl)
theorem dX0_shake_57 : decode cX0_shake 57 = .ok (.aload_n 3, 1) := dk_45 (dk_at dksX0_shake_2 9 rfl rfl)
theorem dX0_shake_58 : decode cX0_shake 58 = .ok (.getfield 207, 3) := dk_180 0 207 (dk_at dksX0_shake_2 10 rfl rfl)
theorem dX0_shake_61 : decode cX0_shake 61 = .ok (.aload_n 3, 1) := dk_45 (dk_at dksX0_shake_2 13 rfl rfl)
theorem dX0_shake_62 : decode cX0_shake 62 = .ok (.getfield 233, 3) := dk_180 0 233 (dk_at dksX0_shake_2 14 rfl rfl)
theorem dX0_shake_65 : decode cX0_shake 65 = .ok (.iload 5, 2) := dk_21 5 (dk_at dksX0_shake_2 17 rfl rfl)
theorem dX0_shake_67 : decode cX0_shake 67 = .ok (.iconst 1, 1) := dk_4 (dk_at dksX0_shake_2 19 rfl rfl)
theorem dX0_shake_68 : decode cX0_shake 68 = .ok (.iload 4, 2) := dk_21 4 (dk_at dksX0_shake_2 20 rfl rfl)
theorem dX0_shake_70 : decode cX0_shake 70 = .ok (.bipush 16, 2) := dk_16 16 (dk_at dksX0_shake_2 22 rfl rfl)
theorem dX0_shake_72 : decode cX0_shake 72 = .ok (.iushr, 1) := dk_124 (dk_at dksX0_shake_3 0 rfl rfl)
theorem dX0_shake_73 : decode cX0_shake 73 = .ok (.bipush 6, 2) := dk_16 6 (dk_at dksX0_shake_3 1 rfl rfl)
theorem dX0_shake_75 : decode cX0_shake 75 = .ok (.irem, 1) := dk_112 (dk_at dksX0_shake_3 3 rfl rfl)
theorem dX0_shake_76 : decode cX0_shake 76 = .ok (.iadd, 1) := dk_96 (dk_at dksX0_shake_3 4 rfl rfl)
theorem dX0_shake_77 : decode cX0_shake 77 = .ok (.invokestatic 269, 3) := dk_184 1 13 (dk_at dksX0_shake_3 5 rfl rfl)
theorem dX0_shake_80 : decode cX0_shake 80 = .ok (.iinc 5 1, 3) := dk_132 5 1 (dk_at dksX0_shake_3 8 rfl rfl)
theorem dX0_shake_83 : decode cX0_shake 83 = .ok (.goto (-47), 3) := dk_167 255 209 (dk_at dksX0_shake_3 11 rfl rfl)
theorem dX0_shake_86 : decode cX0_shake 86 = .ok (.aload_n 3, 1) := dk_45 (dk_at dksX0_shake_3 14 rfl rfl)
theorem dX0_shake_87 : decode cX0_shake 87 = .ok (.invokevirtual 264, 3) := dk_182 1 8 (dk_at dksX0_shake_3 15 rfl rfl)
theorem dX0_shake_90 : decode cX0_shake 90 = .ok (.ireturn, 1) := dk_172 (dk_at dksX0_shake_3 18 rfl rfl)
abbrev cX0_count : ByteArray := prog_1_method_50_code
def yX0_count : MethodName := ⟨RX0, "count", "(I)I"⟩
def dkwX0_count_4 : List UInt8 := [180, 0, 47, 172, 42, 180, 0, 50, 172, 16, 254, 172]
abbrev dktX0_count_4 : List UInt8 := dkwX0_count_4 ++ []
def dkwX0_count_3 : List UInt8 := [180, 0, 97, 172, 42, 180, 0, 43, 182, 0, 157, 172, 42, 180, 0, 255, 172, 42, 180, 0, 27, 172, 42]
abbrev dktX0_count_3 : List UInt8 := dkwX0_count_3 ++ dktX0_count_4
def dkwX0_count_2 : List UInt8 := [42, 180, 0, 73, 172, 42, 180, 0, 19, 27, 4, 100, 50, 184, 0, 93, 172, 42, 180, 0, 23, 172, 42]
abbrev dktX0_count_2 : List UInt8 := dkwX0_count_2 ++ dktX0_count_3
def dkwX0_count_1 : List UInt8 := [170, 0, 0, 0, 0, 0, 110, 0, 0, 0, 0, 0, 0, 0, 9, 0, 0, 0, 55, 0, 0, 0, 60, 0, 0, 0, 60, 0, 0, 0, 72, 0, 0, 0, 77, 0, 0, 0, 82, 0, 0, 0, 90, 0, 0, 0, 95, 0, 0, 0, 100, 0, 0, 0, 105]
abbrev dktX0_count_1 : List UInt8 := dkwX0_count_1 ++ dktX0_count_2
def dkwX0_count_0 : List UInt8 := [27]
abbrev dktX0_count_0 : List UInt8 := dkwX0_count_0 ++ dktX0_count_1
theorem dksX0_count_0 : cX0_count.data.toList.drop 0 = dktX0_count_0 := by decide +kernel
theorem dksX0_count_1 : cX0_count.data.toList.drop 1 = dktX0_count_1 := dk_seg dksX0_count_0 1 rfl rfl
theorem dksX0_count_2 : cX0_count.data.toList.drop 56 = dktX0_count_2 := dk_seg dksX0_count_1 55 rfl rfl
theorem dksX0_count_3 : cX0_count.data.toList.drop 79 = dktX0_count_3 := dk_seg dksX0_count_2 23 rfl rfl
theorem dksX0_count_4 : cX0_count.data.toList.drop 102 = dktX0_count_4 := dk_seg dksX0_count_3 23 rfl rfl
theorem dX0_count_0 : decode cX0_count 0 = .ok (.iload_n 1, 1) := dk_27 (dk_at dksX0_count_0 0 rfl rfl)
theorem dX0_count_1 : decode cX0_count 1 = .ok (.tableswitch 110 0 9 #[55, 60, 60, 72, 77, 82, 90, 95, 100, 105], 55) := by decide +kernel
theorem dX0_count_56 : decode cX0_count 56 = .ok (.aload_n 0, 1) := dk_42 (dk_at dksX0_count_2 0 rfl rfl)
theorem dX0_count_57 : decode cX0_count 57 = .ok (.getfield 73, 3) := dk_180 0 73 (dk_at dksX0_count_2 1 rfl rfl)
theorem dX0_count_60 : decode cX0_count 60 = .ok (.ireturn, 1) := dk_172 (dk_at dksX0_count_2 4 rfl rfl)
theorem dX0_count_61 : decode cX0_count 61 = .ok (.aload_n 0, 1) := dk_42 (dk_at dksX0_count_2 5 rfl rfl)
theorem dX0_count_62 : decode cX0_count 62 = .ok (.getfield 19, 3) := dk_180 0 19 (dk_at dksX0_count_2 6 rfl rfl)
theorem dX0_count_65 : decode cX0_count 65 = .ok (.iload_n 1, 1) := dk_27 (dk_at dksX0_count_2 9 rfl rfl)
theorem dX0_count_66 : decode cX0_count 66 = .ok (.iconst 1, 1) := dk_4 (dk_at dksX0_count_2 10 rfl rfl)
theorem dX0_count_67 : decode cX0_count 67 = .ok (.isub, 1) := dk_100 (dk_at dksX0_count_2 11 rfl rfl)
theorem dX0_count_68 : decode cX0_count 68 = .ok (.aaload, 1) := dk_50 (dk_at dksX0_count_2 12 rfl rfl)
theorem dX0_count_69 : decode cX0_count 69 = .ok (.invokestatic 93, 3) := dk_184 0 93 (dk_at dksX0_count_2 13 rfl rfl)
theorem dX0_count_72 : decode cX0_count 72 = .ok (.ireturn, 1) := dk_172 (dk_at dksX0_count_2 16 rfl rfl)
theorem dX0_count_73 : decode cX0_count 73 = .ok (.aload_n 0, 1) := dk_42 (dk_at dksX0_count_2 17 rfl rfl)
theorem dX0_count_74 : decode cX0_count 74 = .ok (.getfield 23, 3) := dk_180 0 23 (dk_at dksX0_count_2 18 rfl rfl)
theorem dX0_count_77 : decode cX0_count 77 = .ok (.ireturn, 1) := dk_172 (dk_at dksX0_count_2 21 rfl rfl)
theorem dX0_count_78 : decode cX0_count 78 = .ok (.aload_n 0, 1) := dk_42 (dk_at dksX0_count_2 22 rfl rfl)
theorem dX0_count_79 : decode cX0_count 79 = .ok (.getfield 97, 3) := dk_180 0 97 (dk_at dksX0_count_3 0 rfl rfl)
theorem dX0_count_82 : decode cX0_count 82 = .ok (.ireturn, 1) := dk_172 (dk_at dksX0_count_3 3 rfl rfl)
theorem dX0_count_83 : decode cX0_count 83 = .ok (.aload_n 0, 1) := dk_42 (dk_at dksX0_count_3 4 rfl rfl)
theorem dX0_count_84 : decode cX0_count 84 = .ok (.getfield 43, 3) := dk_180 0 43 (dk_at dksX0_count_3 5 rfl rfl)
theorem dX0_count_87 : decode cX0_count 87 = .ok (.invokevirtual 157, 3) := dk_182 0 157 (dk_at dksX0_count_3 8 rfl rfl)
theorem dX0_count_90 : decode cX0_count 90 = .ok (.ireturn, 1) := dk_172 (dk_at dksX0_count_3 11 rfl rfl)
theorem dX0_count_91 : decode cX0_count 91 = .ok (.aload_n 0, 1) := dk_42 (dk_at dksX0_count_3 12 rfl rfl)
theorem dX0_count_92 : decode cX0_count 92 = .ok (.getfield 255, 3) := dk_180 0 255 (dk_at dksX0_count_3 13 rfl rfl)
theorem dX0_count_95 : decode cX0_count 95 = .ok (.ireturn, 1) := dk_172 (dk_at dksX0_count_3 16 rfl rfl)
theorem dX0_count_96 : decode cX0_count 96 = .ok (.aload_n 0, 1) := dk_42 (dk_at dksX0_count_3 17 rfl rfl)
theorem dX0_count_97 : decode cX0_count 97 = .ok (.getfield 27, 3) := dk_180 0 27 (dk_at dksX0_count_3 18 rfl rfl)
theorem dX0_count_100 : decode cX0_count 100 = .ok (.ireturn, 1) := dk_172 (dk_at dksX0_count_3 21 rfl rfl)
theorem dX0_count_101 : decode cX0_count 101 = .ok (.aload_n 0, 1) := dk_42 (dk_at dksX0_count_3 22 rfl rfl)
theorem dX0_count_102 : decode cX0_count 102 = .ok (.getfield 47, 3) := dk_180 0 47 (dk_at dksX0_count_4 0 rfl rfl)
theorem dX0_count_105 : decode cX0_count 105 = .ok (.ireturn, 1) := dk_172 (dk_at dksX0_count_4 3 rfl rfl)
theorem dX0_count_106 : decode cX0_count 106 = .ok (.aload_n 0, 1) := dk_42 (dk_at dksX0_count_4 4 rfl rfl)
theorem dX0_count_107 : decode cX0_count 107 = .ok (.getfield 50, 3) := dk_180 0 50 (dk_at dksX0_count_4 5 rfl rfl)
theorem dX0_count_110 : decode cX0_count 110 = .ok (.ireturn, 1) := dk_172 (dk_at dksX0_count_4 8 rfl rfl)
theorem dX0_count_111 : decode cX0_count 111 = .ok (.bipush (-2), 2) := dk_16 254 (dk_at dksX0_count_4 9 rfl rfl)
theorem dX0_count_113 : decode cX0_count 113 = .ok (.ireturn, 1) := dk_172 (dk_at dksX0_count_4 11 rfl rfl)
abbrev cX0_digest : ByteArray := prog_1_method_51_code
def yX0_digest : MethodName := ⟨RX0, "digest", "()J"⟩
def dkwX0_digest_7 : List UInt8 := [167, 255, 234, 31, 173]
abbrev dktX0_digest_7 : List UInt8 := dkwX0_digest_7 ++ []
def dkwX0_digest_6 : List UInt8 := [3, 62, 29, 6, 162, 0, 23, 20, 1, 26, 31, 105, 42, 180, 0, 56, 29, 46, 133, 97, 64, 132, 3, 1]
abbrev dktX0_digest_6 : List UInt8 := dkwX0_digest_6 ++ dktX0_digest_7
def dkwX0_digest_5 : List UInt8 := [42, 180, 0, 19, 29, 50, 21, 4, 46, 133, 97, 64, 132, 4, 1, 167, 255, 230, 132, 3, 1, 167, 255, 216]
abbrev dktX0_digest_5 : List UInt8 := dkwX0_digest_5 ++ dktX0_digest_6
def dkwX0_digest_4 : List UInt8 := [167, 255, 209, 3, 62, 29, 5, 162, 0, 41, 3, 54, 4, 21, 4, 6, 162, 0, 26, 20, 1, 26, 31, 105]
abbrev dktX0_digest_4 : List UInt8 := dkwX0_digest_4 ++ dktX0_digest_5
def dkwX0_digest_3 : List UInt8 := [180, 0, 13, 29, 50, 180, 0, 87, 21, 4, 46, 133, 97, 64, 132, 4, 1, 167, 255, 226, 132, 3, 1]
abbrev dktX0_digest_3 : List UInt8 := dkwX0_digest_3 ++ dktX0_digest_4
def dkwX0_digest_2 : List UInt8 := [180, 0, 73, 162, 0, 45, 3, 54, 4, 21, 4, 16, 6, 162, 0, 29, 20, 1, 26, 31, 105, 42]
abbrev dktX0_digest_2 : List UInt8 := dkwX0_digest_2 ++ dktX0_digest_3
def dkwX0_digest_1 : List UInt8 := [20, 1, 26, 31, 105, 42, 29, 182, 1, 28, 133, 97, 64, 132, 3, 1, 167, 255, 224, 3, 62, 29, 42]
abbrev dktX0_digest_1 : List UInt8 := dkwX0_digest_1 ++ dktX0_digest_2
def dkwX0_digest_0 : List UInt8 := [20, 1, 24, 64, 3, 62, 29, 16, 10, 162, 0, 32, 29, 16, 6, 160, 0, 7, 31, 167, 0, 15]
abbrev dktX0_digest_0 : List UInt8 := dkwX0_digest_0 ++ dktX0_digest_1
theorem dksX0_digest_0 : cX0_digest.data.toList.drop 0 = dktX0_digest_0 := by decide +kernel
theorem dksX0_digest_1 : cX0_digest.data.toList.drop 22 = dktX0_digest_1 := dk_seg dksX0_digest_0 22 rfl rfl
theorem dksX0_digest_2 : cX0_digest.data.toList.drop 45 = dktX0_digest_2 := dk_seg dksX0_digest_1 23 rfl rfl
theorem dksX0_digest_3 : cX0_digest.data.toList.drop 67 = dktX0_digest_3 := dk_seg dksX0_digest_2 22 rfl rfl
theorem dksX0_digest_4 : cX0_digest.data.toList.drop 90 = dktX0_digest_4 := dk_seg dksX0_digest_3 23 rfl rfl
theorem dksX0_digest_5 : cX0_digest.data.toList.drop 114 = dktX0_digest_5 := dk_seg dksX0_digest_4 24 rfl rfl
theorem dksX0_digest_6 : cX0_digest.data.toList.drop 138 = dktX0_digest_6 := dk_seg dksX0_digest_5 24 rfl rfl
theorem dksX0_digest_7 : cX0_digest.data.toList.drop 162 = dktX0_digest_7 := dk_seg dksX0_digest_6 24 rfl rfl
theorem dX0_digest_0 : decode cX0_digest 0 = .ok (.ldc2_w 280, 3) := dk_20 1 24 (dk_at dksX0_digest_0 0 rfl rfl)
theorem dX0_digest_3 : decode cX0_digest 3 = .ok (.lstore_n 1, 1) := dk_64 (dk_at dksX0_digest_0 3 rfl rfl)
theorem dX0_digest_4 : decode cX0_digest 4 = .ok (.iconst 0, 1) := dk_3 (dk_at dksX0_digest_0 4 rfl rfl)
theorem dX0_digest_5 : decode cX0_digest 5 = .ok (.istore_n 3, 1) := dk_62 (dk_at dksX0_digest_0 5 rfl rfl)
theorem dX0_digest_6 : decode cX0_digest 6 = .ok (.iload_n 3, 1) := dk_29 (dk_at dksX0_digest_0 6 rfl rfl)
theorem dX0_digest_7 : decode cX0_digest 7 = .ok (.bipush 10, 2) := dk_16 10 (dk_at dksX0_digest_0 7 rfl rfl)
theorem dX0_digest_9 : decode cX0_digest 9 = .ok (.if_icmp .ge 32, 3) := dk_162 0 32 (dk_at dksX0_digest_0 9 rfl rfl)
theorem dX0_digest_12 : decode cX0_digest 12 = .ok (.iload_n 3, 1) := dk_29 (dk_at dksX0_digest_0 12 rfl rfl)
theorem dX0_digest_13 : decode cX0_digest 13 = .ok (.bipush 6, 2) := dk_16 6 (dk_at dksX0_digest_0 13 rfl rfl)
theorem dX0_digest_15 : decode cX0_digest 15 = .ok (.if_icmp .ne 7, 3) := dk_160 0 7 (dk_at dksX0_digest_0 15 rfl rfl)
theorem dX0_digest_18 : decode cX0_digest 18 = .ok (.lload_n 1, 1) := dk_31 (dk_at dksX0_digest_0 18 rfl rfl)
theorem dX0_digest_19 : decode cX0_digest 19 = .ok (.goto 15, 3) := dk_167 0 15 (dk_at dksX0_digest_0 19 rfl rfl)
theorem dX0_digest_22 : decode cX0_digest 22 = .ok (.ldc2_w 282, 3) := dk_20 1 26 (dk_at dksX0_digest_1 0 rfl rfl)
theorem dX0_digest_25 : decode cX0_digest 25 = .ok (.lload_n 1, 1) := dk_31 (dk_at dksX0_digest_1 3 rfl rfl)
theorem dX0_digest_26 : decode cX0_digest 26 = .ok (.lmul, 1) := dk_105 (dk_at dksX0_digest_1 4 rfl rfl)
theorem dX0_digest_27 : decode cX0_digest 27 = .ok (.aload_n 0, 1) := dk_42 (dk_at dksX0_digest_1 5 rfl rfl)
theorem dX0_digest_28 : decode cX0_digest 28 = .ok (.iload_n 3, 1) := dk_29 (dk_at dksX0_digest_1 6 rfl rfl)
theorem dX0_digest_29 : decode cX0_digest 29 = .ok (.invokevirtual 284, 3) := dk_182 1 28 (dk_at dksX0_digest_1 7 rfl rfl)
theorem dX0_digest_32 : decode cX0_digest 32 = .ok (.i2l, 1) := dk_133 (dk_at dksX0_digest_1 10 rfl rfl)
theorem dX0_digest_33 : decode cX0_digest 33 = .ok (.ladd, 1) := dk_97 (dk_at dksX0_digest_1 11 rfl rfl)
theorem dX0_digest_34 : decode cX0_digest 34 = .ok (.lstore_n 1, 1) := dk_64 (dk_at dksX0_digest_1 12 rfl rfl)
theorem dX0_digest_35 : decode cX0_digest 35 = .ok (.iinc 3 1, 3) := dk_132 3 1 (dk_at dksX0_digest_1 13 rfl rfl)
theorem dX0_digest_38 : decode cX0_digest 38 = .ok (.goto (-32), 3) := dk_167 255 224 (dk_at dksX0_digest_1 16 rfl rfl)
theorem dX0_digest_41 : decode cX0_digest 41 = .ok (.iconst 0, 1) := dk_3 (dk_at dksX0_digest_1 19 rfl rfl)
theorem dX0_digest_42 : decode cX0_digest 42 = .ok (.istore_n 3, 1) := dk_62 (dk_at dksX0_digest_1 20 rfl rfl)
theorem dX0_digest_43 : decode cX0_digest 43 = .ok (.iload_n 3, 1) := dk_29 (dk_at dksX0_digest_1 21 rfl rfl)
theorem dX0_digest_44 : decode cX0_digest 44 = .ok (.aload_n 0, 1) := dk_42 (dk_at dksX0_digest_1 22 rfl rfl)
theorem dX0_digest_45 : decode cX0_digest 45 = .ok (.getfield 73, 3) := dk_180 0 73 (dk_at dksX0_digest_2 0 rfl rfl)
theorem dX0_digest_48 : decode cX0_digest 48 = .ok (.if_icmp .ge 45, 3) := dk_162 0 45 (dk_at dksX0_digest_2 3 rfl rfl)
theorem dX0_digest_51 : decode cX0_digest 51 = .ok (.iconst 0, 1) := dk_3 (dk_at dksX0_digest_2 6 rfl rfl)
theorem dX0_digest_52 : decode cX0_digest 52 = .ok (.istore 4, 2) := dk_54 4 (dk_at dksX0_digest_2 7 rfl rfl)
theorem dX0_digest_54 : decode cX0_digest 54 = .ok (.iload 4, 2) := dk_21 4 (dk_at dksX0_digest_2 9 rfl rfl)
theorem dX0_digest_56 : decode cX0_digest 56 = .ok (.bipush 6, 2) := dk_16 6 (dk_at dksX0_digest_2 11 rfl rfl)
theorem dX0_digest_58 : decode cX0_digest 58 = .ok (.if_icmp .ge 29, 3) := dk_162 0 29 (dk_at dksX0_digest_2 13 rfl rfl)
theorem dX0_digest_61 : decode cX0_digest 61 = .ok (.ldc2_w 282, 3) := dk_20 1 26 (dk_at dksX0_digest_2 16 rfl rfl)
theorem dX0_digest_64 : decode cX0_digest 64 = .ok (.lload_n 1, 1) := dk_31 (dk_at dksX0_digest_2 19 rfl rfl)
theorem dX0_digest_65 : decode cX0_digest 65 = .ok (.lmul, 1) := dk_105 (dk_at dksX0_digest_2 20 rfl rfl)
theorem dX0_digest_66 : decode cX0_digest 66 = .ok (.aload_n 0, 1) := dk_42 (dk_at dksX0_digest_2 21 rfl rfl)
theorem dX0_digest_67 : decode cX0_digest 67 = .ok (.getfield 13, 3) := dk_180 0 13 (dk_at dksX0_digest_3 0 rfl rfl)
theorem dX0_digest_70 : decode cX0_digest 70 = .ok (.iload_n 3, 1) := dk_29 (dk_at dksX0_digest_3 3 rfl rfl)
theorem dX0_digest_71 : decode cX0_digest 71 = .ok (.aaload, 1) := dk_50 (dk_at dksX0_digest_3 4 rfl rfl)
theorem dX0_digest_72 : decode cX0_digest 72 = .ok (.getfield 87, 3) := dk_180 0 87 (dk_at dksX0_digest_3 5 rfl rfl)
theorem dX0_digest_75 : decode cX0_digest 75 = .ok (.iload 4, 2) := dk_21 4 (dk_at dksX0_digest_3 8 rfl rfl)
theorem dX0_digest_77 : decode cX0_digest 77 = .ok (.iaload, 1) := dk_46 (dk_at dksX0_digest_3 10 rfl rfl)
theorem dX0_digest_78 : decode cX0_digest 78 = .ok (.i2l, 1) := dk_133 (dk_at dksX0_digest_3 11 rfl rfl)
theorem dX0_digest_79 : decode cX0_digest 79 = .ok (.ladd, 1) := dk_97 (dk_at dksX0_digest_3 12 rfl rfl)
theorem dX0_digest_80 : decode cX0_digest 80 = .ok (.lstore_n 1, 1) := dk_64 (dk_at dksX0_digest_3 13 rfl rfl)
theorem dX0_digest_81 : decode cX0_digest 81 = .ok (.iinc 4 1, 3) := dk_132 4 1 (dk_at dksX0_digest_3 14 rfl rfl)
theorem dX0_digest_84 : decode cX0_digest 84 = .ok (.goto (-30), 3) := dk_167 255 226 (dk_at dksX0_digest_3 17 rfl rfl)
theorem dX0_digest_87 : decode cX0_digest 87 = .ok (.iinc 3 1, 3) := dk_132 3 1 (dk_at dksX0_digest_3 20 rfl rfl)
theorem dX0_digest_90 : decode cX0_digest 90 = .ok (.goto (-47), 3) := dk_167 255 209 (dk_at dksX0_digest_4 0 rfl rfl)
theorem dX0_digest_93 : decode cX0_digest 93 = .ok (.iconst 0, 1) := dk_3 (dk_at dksX0_digest_4 3 rfl rfl)
theorem dX0_digest_94 : decode cX0_digest 94 = .ok (.istore_n 3, 1) := dk_62 (dk_at dksX0_digest_4 4 rfl rfl)
theorem dX0_digest_95 : decode cX0_digest 95 = .ok (.iload_n 3, 1) := dk_29 (dk_at dksX0_digest_4 5 rfl rfl)
theorem dX0_digest_96 : decode cX0_digest 96 = .ok (.iconst 2, 1) := dk_5 (dk_at dksX0_digest_4 6 rfl rfl)
theorem dX0_digest_97 : decode cX0_digest 97 = .ok (.if_icmp .ge 41, 3) := dk_162 0 41 (dk_at dksX0_digest_4 7 rfl rfl)
theorem dX0_digest_100 : decode cX0_digest 100 = .ok (.iconst 0, 1) := dk_3 (dk_at dksX0_digest_4 10 rfl rfl)
theorem dX0_digest_101 : decode cX0_digest 101 = .ok (.istore 4, 2) := dk_54 4 (dk_at dksX0_digest_4 11 rfl rfl)
theorem dX0_digest_103 : decode cX0_digest 103 = .ok (.iload 4, 2) := dk_21 4 (dk_at dksX0_digest_4 13 rfl rfl)
theorem dX0_digest_105 : decode cX0_digest 105 = .ok (.iconst 3, 1) := dk_6 (dk_at dksX0_digest_4 15 rfl rfl)
theorem dX0_digest_106 : decode cX0_digest 106 = .ok (.if_icmp .ge 26, 3) := dk_162 0 26 (dk_at dksX0_digest_4 16 rfl rfl)
theorem dX0_digest_109 : decode cX0_digest 109 = .ok (.ldc2_w 282, 3) := dk_20 1 26 (dk_at dksX0_digest_4 19 rfl rfl)
theorem dX0_digest_112 : decode cX0_digest 112 = .ok (.lload_n 1, 1) := dk_31 (dk_at dksX0_digest_4 22 rfl rfl)
theorem dX0_digest_113 : decode cX0_digest 113 = .ok (.lmul, 1) := dk_105 (dk_at dksX0_digest_4 23 rfl rfl)
theorem dX0_digest_114 : decode cX0_digest 114 = .ok (.aload_n 0, 1) := dk_42 (dk_at dksX0_digest_5 0 rfl rfl)
theorem dX0_digest_115 : decode cX0_digest 115 = .ok (.getfield 19, 3) := dk_180 0 19 (dk_at dksX0_digest_5 1 rfl rfl)
theorem dX0_digest_118 : decode cX0_digest 118 = .ok (.iload_n 3, 1) := dk_29 (dk_at dksX0_digest_5 4 rfl rfl)
theorem dX0_digest_119 : decode cX0_digest 119 = .ok (.aaload, 1) := dk_50 (dk_at dksX0_digest_5 5 rfl rfl)
theorem dX0_digest_120 : decode cX0_digest 120 = .ok (.iload 4, 2) := dk_21 4 (dk_at dksX0_digest_5 6 rfl rfl)
theorem dX0_digest_122 : decode cX0_digest 122 = .ok (.iaload, 1) := dk_46 (dk_at dksX0_digest_5 8 rfl rfl)
theorem dX0_digest_123 : decode cX0_digest 123 = .ok (.i2l, 1) := dk_133 (dk_at dksX0_digest_5 9 rfl rfl)
theorem dX0_digest_124 : decode cX0_digest 124 = .ok (.ladd, 1) := dk_97 (dk_at dksX0_digest_5 10 rfl rfl)
theorem dX0_digest_125 : decode cX0_digest 125 = .ok (.lstore_n 1, 1) := dk_64 (dk_at dksX0_digest_5 11 rfl rfl)
theorem dX0_digest_126 : decode cX0_digest 126 = .ok (.iinc 4 1, 3) := dk_132 4 1 (dk_at dksX0_digest_5 12 rfl rfl)
theorem dX0_digest_129 : decode cX0_digest 129 = .ok (.goto (-26), 3) := dk_167 255 230 (dk_at dksX0_digest_5 15 rfl rfl)
theorem dX0_digest_132 : decode cX0_digest 132 = .ok (.iinc 3 1, 3) := dk_132 3 1 (dk_at dksX0_digest_5 18 rfl rfl)
theorem dX0_digest_135 : decode cX0_digest 135 = .ok (.goto (-40), 3) := dk_167 255 216 (dk_at dksX0_digest_5 21 rfl rfl)
theorem dX0_digest_138 : decode cX0_digest 138 = .ok (.iconst 0, 1) := dk_3 (dk_at dksX0_digest_6 0 rfl rfl)
theorem dX0_digest_139 : decode cX0_digest 139 = .ok (.istore_n 3, 1) := dk_62 (dk_at dksX0_digest_6 1 rfl rfl)
theorem dX0_digest_140 : decode cX0_digest 140 = .ok (.iload_n 3, 1) := dk_29 (dk_at dksX0_digest_6 2 rfl rfl)
theorem dX0_digest_141 : decode cX0_digest 141 = .ok (.iconst 3, 1) := dk_6 (dk_at dksX0_digest_6 3 rfl rfl)
theorem dX0_digest_142 : decode cX0_digest 142 = .ok (.if_icmp .ge 23, 3) := dk_162 0 23 (dk_at dksX0_digest_6 4 rfl rfl)
theorem dX0_digest_145 : decode cX0_digest 145 = .ok (.ldc2_w 282, 3) := dk_20 1 26 (dk_at dksX0_digest_6 7 rfl rfl)
theorem dX0_digest_148 : decode cX0_digest 148 = .ok (.lload_n 1, 1) := dk_31 (dk_at dksX0_digest_6 10 rfl rfl)
theorem dX0_digest_149 : decode cX0_digest 149 = .ok (.lmul, 1) := dk_105 (dk_at dksX0_digest_6 11 rfl rfl)
theorem dX0_digest_150 : decode cX0_digest 150 = .ok (.aload_n 0, 1) := dk_42 (dk_at dksX0_digest_6 12 rfl rfl)
theorem dX0_digest_151 : decode cX0_digest 151 = .ok (.getfield 56, 3) := dk_180 0 56 (dk_at dksX0_digest_6 13 rfl rfl)
theorem dX0_digest_154 : decode cX0_digest 154 = .ok (.iload_n 3, 1) := dk_29 (dk_at dksX0_digest_6 16 rfl rfl)
theorem dX0_digest_155 : decode cX0_digest 155 = .ok (.iaload, 1) := dk_46 (dk_at dksX0_digest_6 17 rfl rfl)
theorem dX0_digest_156 : decode cX0_digest 156 = .ok (.i2l, 1) := dk_133 (dk_at dksX0_digest_6 18 rfl rfl)
theorem dX0_digest_157 : decode cX0_digest 157 = .ok (.ladd, 1) := dk_97 (dk_at dksX0_digest_6 19 rfl rfl)
theorem dX0_digest_158 : decode cX0_digest 158 = .ok (.lstore_n 1, 1) := dk_64 (dk_at dksX0_digest_6 20 rfl rfl)
theorem dX0_digest_159 : decode cX0_digest 159 = .ok (.iinc 3 1, 3) := dk_132 3 1 (dk_at dksX0_digest_6 21 rfl rfl)
theorem dX0_digest_162 : decode cX0_digest 162 = .ok (.goto (-22), 3) := dk_167 255 234 (dk_at dksX0_digest_7 0 rfl rfl)
theorem dX0_digest_165 : decode cX0_digest 165 = .ok (.lload_n 1, 1) := dk_31 (dk_at dksX0_digest_7 3 rfl rfl)
theorem dX0_digest_166 : decode cX0_digest 166 = .ok (.lreturn, 1) := dk_173 (dk_at dksX0_digest_7 4 rfl rfl)
theorem q40 : (Jvm.Cond.initialized "FairFight") ∈ lw_all := lw_g (lw_at lw_m1 1 rfl) rfl
theorem q69 : (Jvm.Cond.instantiable "FairFight" (18 : Nat)) ∈ lw_all := lw_g (lw_at lw_m1 30 rfl) rfl
theorem q71 : (Jvm.Cond.instanceMethod ({ cls := "FairFight", name := "<init>", desc := "()V" } : Jvm.MethodName)) ∈ lw_all := lw_g (lw_at lw_m1 32 rfl) rfl
theorem q72 : (Jvm.Cond.code ({ cls := "FairFight", name := "<init>", desc := "()V" } : Jvm.MethodName) prog_1_method_3_code (2 : Nat) (Option.none : Option Jvm.ClassFile.FieldType)) ∈ lw_all := lw_g (lw_at lw_m1 33 rfl) rfl
theorem q73 : (Jvm.Cond.methodLink "FairFight" (5 : Nat) ({ cls := "java/lang/Object", name := "<init>", desc := "()V" } : Jvm.MethodName)) ∈ lw_all := lw_g (lw_at lw_m1 34 rfl) rfl
theorem q76 : (Jvm.Cond.classLink "FairFight" (11 : Nat) "FairFight$Fighter") ∈ lw_all := lw_g (lw_at lw_m1 37 rfl) rfl
theorem q78 : (Jvm.Cond.classLink "FairFight" (17 : Nat) "[I") ∈ lw_all := lw_g (lw_at lw_m1 39 rfl) rfl
theorem q80 : (Jvm.Cond.classLink "FairFight" (30 : Nat) "FairFight$Table") ∈ lw_all := lw_g (lw_at lw_m1 41 rfl) rfl
theorem q82 : (Jvm.Cond.methodLinkNest "FairFight" (32 : Nat) ({ cls := "FairFight$Table", name := "<init>", desc := "()V" } : Jvm.MethodName) "FairFight") ∈ lw_tbl := lw_at lw_m1 43 rfl
theorem q105 : (Jvm.Cond.classLink "FairFight" (40 : Nat) "java/util/ArrayList") ∈ lw_all := lw_g (lw_at lw_m1 66 rfl) rfl
theorem q107 : (Jvm.Cond.methodLink "FairFight" (42 : Nat) ({ cls := "java/util/ArrayList", name := "<init>", desc := "()V" } : Jvm.MethodName)) ∈ lw_all := lw_g (lw_at lw_m1 68 rfl) rfl
theorem q131 : (Jvm.Cond.classLink "FairFight" (62 : Nat) "FairFight$Sheet") ∈ lw_all := lw_g (lw_at lw_m1 92 rfl) rfl
theorem q134 : (Jvm.Cond.methodLinkNest "FairFight" (68 : Nat) ({ cls := "FairFight$Sheet", name := "<init>", desc := "()V" } : Jvm.MethodName) "FairFight") ∈ lw_tbl := lw_at lw_m1 95 rfl
theorem q139 : (Jvm.Cond.fieldLinkNest "FairFight" (233 : Nat) "FairFight$Sheet" "form" "I" "FairFight") ∈ lw_tbl := lw_at lw_m1 100 rfl
theorem q141 : (Jvm.Cond.fieldLinkNest "FairFight" (207 : Nat) "FairFight$Sheet" "row" "Ljava/lang/Object;" "FairFight") ∈ lw_tbl := lw_at lw_m1 102 rfl
theorem q148 : (Jvm.Cond.fieldLink "FairFight" (13 : Nat) "FairFight" "fighters" "[LFairFight$Fighter;") ∈ lw_all := lw_g (lw_at lw_m1 109 rfl) rfl
theorem q149 : (Jvm.Cond.fieldLink "FairFight" (73 : Nat) "FairFight" "fighterMany" "I") ∈ lw_all := lw_g (lw_at lw_m1 110 rfl) rfl
theorem q150 : (Jvm.Cond.fieldLink "FairFight" (19 : Nat) "FairFight" "sides" "[[I") ∈ lw_all := lw_g (lw_at lw_m1 111 rfl) rfl
theorem q152 : (Jvm.Cond.fieldLink "FairFight" (23 : Nat) "FairFight" "rounds" "I") ∈ lw_all := lw_g (lw_at lw_m1 113 rfl) rfl
theorem q154 : (Jvm.Cond.fieldLink "FairFight" (97 : Nat) "FairFight" "aim" "I") ∈ lw_all := lw_g (lw_at lw_m1 115 rfl) rfl
theorem q155 : (Jvm.Cond.fieldLink "FairFight" (27 : Nat) "FairFight" "surprised" "I") ∈ lw_all := lw_g (lw_at lw_m1 116 rfl) rfl
theorem q158 : (Jvm.Cond.fieldLink "FairFight" (33 : Nat) "FairFight" "nowTable" "LFairFight$Table;") ∈ lw_all := lw_g (lw_at lw_m1 119 rfl) rfl
theorem q160 : (Jvm.Cond.fieldLink "FairFight" (37 : Nat) "FairFight" "nextTable" "LFairFight$Table;") ∈ lw_all := lw_g (lw_at lw_m1 121 rfl) rfl
theorem q161 : (Jvm.Cond.fieldLink "FairFight" (43 : Nat) "FairFight" "fights" "Ljava/util/ArrayList;") ∈ lw_all := lw_g (lw_at lw_m1 122 rfl) rfl
theorem q162 : (Jvm.Cond.fieldLink "FairFight" (47 : Nat) "FairFight" "purse" "I") ∈ lw_all := lw_g (lw_at lw_m1 123 rfl) rfl
theorem q163 : (Jvm.Cond.fieldLink "FairFight" (50 : Nat) "FairFight" "bonus" "I") ∈ lw_all := lw_g (lw_at lw_m1 124 rfl) rfl
theorem q164 : (Jvm.Cond.fieldLink "FairFight" (171 : Nat) "FairFight" "daySum" "I") ∈ lw_all := lw_g (lw_at lw_m1 125 rfl) rfl
theorem q165 : (Jvm.Cond.fieldLink "FairFight" (178 : Nat) "FairFight" "dayUse" "I") ∈ lw_all := lw_g (lw_at lw_m1 126 rfl) rfl
theorem q166 : (Jvm.Cond.fieldLink "FairFight" (53 : Nat) "FairFight" "bands" "Ljava/util/ArrayList;") ∈ lw_all := lw_g (lw_at lw_m1 127 rfl) rfl
theorem q167 : (Jvm.Cond.fieldLink "FairFight" (56 : Nat) "FairFight" "played" "[I") ∈ lw_all := lw_g (lw_at lw_m1 128 rfl) rfl
theorem q168 : (Jvm.Cond.fieldLink "FairFight" (59 : Nat) "FairFight" "playedLife" "[[I") ∈ lw_all := lw_g (lw_at lw_m1 129 rfl) rfl
theorem q169 : (Jvm.Cond.fieldLink "FairFight" (64 : Nat) "FairFight" "sheets" "[LFairFight$Sheet;") ∈ lw_all := lw_g (lw_at lw_m1 130 rfl) rfl
theorem q170 : (Jvm.Cond.fieldLink "FairFight" (255 : Nat) "FairFight" "finding" "I") ∈ lw_all := lw_g (lw_at lw_m1 131 rfl) rfl
theorem q171 : (Jvm.Cond.laysFinal "FairFight" "FairFight" "fighters" "[LFairFight$Fighter;") ∈ lw_all := lw_g (lw_at lw_m1 132 rfl) rfl
theorem q172 : (Jvm.Cond.soleField "FairFight" "fighters") ∈ lw_all := lw_g (lw_at lw_m1 133 rfl) rfl
theorem q173 : (Jvm.Cond.lays "FairFight" "FairFight" "fighterMany" "I") ∈ lw_all := lw_g (lw_at lw_m1 134 rfl) rfl
theorem q174 : (Jvm.Cond.soleField "FairFight" "fighterMany") ∈ lw_all := lw_g (lw_at lw_m1 135 rfl) rfl
theorem q175 : (Jvm.Cond.laysFinal "FairFight" "FairFight" "sides" "[[I") ∈ lw_all := lw_g (lw_at lw_m1 136 rfl) rfl
theorem q176 : (Jvm.Cond.soleField "FairFight" "sides") ∈ lw_all := lw_g (lw_at lw_m1 137 rfl) rfl
theorem q177 : (Jvm.Cond.lays "FairFight" "FairFight" "rounds" "I") ∈ lw_all := lw_g (lw_at lw_m1 138 rfl) rfl
theorem q178 : (Jvm.Cond.soleField "FairFight" "rounds") ∈ lw_all := lw_g (lw_at lw_m1 139 rfl) rfl
theorem q179 : (Jvm.Cond.lays "FairFight" "FairFight" "aim" "I") ∈ lw_all := lw_g (lw_at lw_m1 140 rfl) rfl
theorem q180 : (Jvm.Cond.soleField "FairFight" "aim") ∈ lw_all := lw_g (lw_at lw_m1 141 rfl) rfl
theorem q181 : (Jvm.Cond.lays "FairFight" "FairFight" "surprised" "I") ∈ lw_all := lw_g (lw_at lw_m1 142 rfl) rfl
theorem q182 : (Jvm.Cond.soleField "FairFight" "surprised") ∈ lw_all := lw_g (lw_at lw_m1 143 rfl) rfl
theorem q183 : (Jvm.Cond.lays "FairFight" "FairFight" "nowTable" "LFairFight$Table;") ∈ lw_all := lw_g (lw_at lw_m1 144 rfl) rfl
theorem q184 : (Jvm.Cond.soleField "FairFight" "nowTable") ∈ lw_all := lw_g (lw_at lw_m1 145 rfl) rfl
theorem q185 : (Jvm.Cond.lays "FairFight" "FairFight" "nextTable" "LFairFight$Table;") ∈ lw_all := lw_g (lw_at lw_m1 146 rfl) rfl
theorem q186 : (Jvm.Cond.soleField "FairFight" "nextTable") ∈ lw_all := lw_g (lw_at lw_m1 147 rfl) rfl
theorem q187 : (Jvm.Cond.laysFinal "FairFight" "FairFight" "fights" "Ljava/util/ArrayList;") ∈ lw_all := lw_g (lw_at lw_m1 148 rfl) rfl
theorem q188 : (Jvm.Cond.soleField "FairFight" "fights") ∈ lw_all := lw_g (lw_at lw_m1 149 rfl) rfl
theorem q189 : (Jvm.Cond.lays "FairFight" "FairFight" "purse" "I") ∈ lw_all := lw_g (lw_at lw_m1 150 rfl) rfl
theorem q190 : (Jvm.Cond.soleField "FairFight" "purse") ∈ lw_all := lw_g (lw_at lw_m1 151 rfl) rfl
theorem q191 : (Jvm.Cond.lays "FairFight" "FairFight" "bonus" "I") ∈ lw_all := lw_g (lw_at lw_m1 152 rfl) rfl
theorem q192 : (Jvm.Cond.soleField "FairFight" "bonus") ∈ lw_all := lw_g (lw_at lw_m1 153 rfl) rfl
theorem q193 : (Jvm.Cond.lays "FairFight" "FairFight" "daySum" "I") ∈ lw_all := lw_g (lw_at lw_m1 154 rfl) rfl
theorem q194 : (Jvm.Cond.soleField "FairFight" "daySum") ∈ lw_all := lw_g (lw_at lw_m1 155 rfl) rfl
theorem q195 : (Jvm.Cond.lays "FairFight" "FairFight" "dayUse" "I") ∈ lw_all := lw_g (lw_at lw_m1 156 rfl) rfl
theorem q196 : (Jvm.Cond.soleField "FairFight" "dayUse") ∈ lw_all := lw_g (lw_at lw_m1 157 rfl) rfl
theorem q197 : (Jvm.Cond.laysFinal "FairFight" "FairFight" "bands" "Ljava/util/ArrayList;") ∈ lw_all := lw_g (lw_at lw_m1 158 rfl) rfl
theorem q198 : (Jvm.Cond.soleField "FairFight" "bands") ∈ lw_all := lw_g (lw_at lw_m1 159 rfl) rfl
theorem q199 : (Jvm.Cond.laysFinal "FairFight" "FairFight" "played" "[I") ∈ lw_all := lw_g (lw_at lw_m1 160 rfl) rfl
theorem q200 : (Jvm.Cond.soleField "FairFight" "played") ∈ lw_all := lw_g (lw_at lw_m1 161 rfl) rfl
theorem q201 : (Jvm.Cond.laysFinal "FairFight" "FairFight" "playedLife" "[[I") ∈ lw_all := lw_g (lw_at lw_m1 162 rfl) rfl
theorem q202 : (Jvm.Cond.soleField "FairFight" "playedLife") ∈ lw_all := lw_g (lw_at lw_m1 163 rfl) rfl
theorem q203 : (Jvm.Cond.laysFinal "FairFight" "FairFight" "sheets" "[LFairFight$Sheet;") ∈ lw_all := lw_g (lw_at lw_m1 164 rfl) rfl
theorem q204 : (Jvm.Cond.soleField "FairFight" "sheets") ∈ lw_all := lw_g (lw_at lw_m1 165 rfl) rfl
theorem q205 : (Jvm.Cond.lays "FairFight" "FairFight" "finding" "I") ∈ lw_all := lw_g (lw_at lw_m1 166 rfl) rfl
theorem q206 : (Jvm.Cond.soleField "FairFight" "finding") ∈ lw_all := lw_g (lw_at lw_m1 167 rfl) rfl
theorem q207 : (Jvm.Cond.superclass "FairFight" "java/lang/Object") ∈ lw_all := lw_g (lw_at lw_m1 168 rfl) rfl
theorem q209 : (Jvm.Cond.instanceMethod ({ cls := "FairFight", name := "fighter", desc := "(IIIIII)I" } : Jvm.MethodName)) ∈ lw_all := lw_g (lw_at lw_m1 170 rfl) rfl
theorem q210 : (Jvm.Cond.selects "FairFight" ({ cls := "FairFight", name := "fighter", desc := "(IIIIII)I" } : Jvm.MethodName) ({ cls := "FairFight", name := "fighter", desc := "(IIIIII)I" } : Jvm.MethodName)) ∈ lw_all := lw_g (lw_at lw_m1 171 rfl) rfl
theorem q211 : (Jvm.Cond.code ({ cls := "FairFight", name := "fighter", desc := "(IIIIII)I" } : Jvm.MethodName) prog_1_method_6_code (9 : Nat) (Option.some Jvm.ClassFile.FieldType.int)) ∈ lw_all := lw_g (lw_at lw_m1 172 rfl) rfl
theorem q212 : (Jvm.Cond.methodLink "FairFight" (76 : Nat) ({ cls := "FairFight", name := "isNumber", desc := "(II)Z" } : Jvm.MethodName)) ∈ lw_all := lw_g (lw_at lw_m1 173 rfl) rfl
theorem q213 : (Jvm.Cond.static ({ cls := "FairFight", name := "isNumber", desc := "(II)Z" } : Jvm.MethodName)) ∈ lw_all := lw_g (lw_at lw_m1 174 rfl) rfl
theorem q214 : (Jvm.Cond.code ({ cls := "FairFight", name := "isNumber", desc := "(II)Z" } : Jvm.MethodName) prog_1_method_4_code (2 : Nat) (Option.some Jvm.ClassFile.FieldType.boolean)) ∈ lw_all := lw_g (lw_at lw_m1 175 rfl) rfl
theorem q215 : (Jvm.Cond.methodLink "FairFight" (69 : Nat) ({ cls := "FairFight", name := "in", desc := "(III)Z" } : Jvm.MethodName)) ∈ lw_all := lw_g (lw_at lw_m1 176 rfl) rfl
theorem q216 : (Jvm.Cond.static ({ cls := "FairFight", name := "in", desc := "(III)Z" } : Jvm.MethodName)) ∈ lw_all := lw_g (lw_at lw_m1 177 rfl) rfl
theorem q217 : (Jvm.Cond.code ({ cls := "FairFight", name := "in", desc := "(III)Z" } : Jvm.MethodName) prog_1_method_1_code (3 : Nat) (Option.some Jvm.ClassFile.FieldType.boolean)) ∈ lw_all := lw_g (lw_at lw_m1 178 rfl) rfl
theorem q219 : (Jvm.Cond.methodLink "FairFight" (80 : Nat) ({ cls := "FairFight$Fighter", name := "<init>", desc := "([I)V" } : Jvm.MethodName)) ∈ lw_all := lw_g (lw_at lw_m1 180 rfl) rfl
theorem q225 : (Jvm.Cond.fieldLinkNest "FairFight" (87 : Nat) "FairFight$Fighter" "told" "[I" "FairFight") ∈ lw_tbl := lw_at lw_m1 186 rfl
theorem q230 : (Jvm.Cond.instanceMethod ({ cls := "FairFight", name := "about", desc := "(II)I" } : Jvm.MethodName)) ∈ lw_all := lw_g (lw_at lw_m1 191 rfl) rfl
theorem q231 : (Jvm.Cond.selects "FairFight" ({ cls := "FairFight", name := "about", desc := "(II)I" } : Jvm.MethodName) ({ cls := "FairFight", name := "about", desc := "(II)I" } : Jvm.MethodName)) ∈ lw_all := lw_g (lw_at lw_m1 192 rfl) rfl
theorem q232 : (Jvm.Cond.code ({ cls := "FairFight", name := "about", desc := "(II)I" } : Jvm.MethodName) prog_1_method_7_code (3 : Nat) (Option.some Jvm.ClassFile.FieldType.int)) ∈ lw_all := lw_g (lw_at lw_m1 193 rfl) rfl
theorem q233 : (Jvm.Cond.methodLink "FairFight" (83 : Nat) ({ cls := "FairFight", name := "isFighter", desc := "(I)Z" } : Jvm.MethodName)) ∈ lw_all := lw_g (lw_at lw_m1 194 rfl) rfl
theorem q234 : (Jvm.Cond.privateMethod ({ cls := "FairFight", name := "isFighter", desc := "(I)Z" } : Jvm.MethodName)) ∈ lw_tbl := lw_at lw_m1 195 rfl
theorem q235 : (Jvm.Cond.instanceMethod ({ cls := "FairFight", name := "isFighter", desc := "(I)Z" } : Jvm.MethodName)) ∈ lw_all := lw_g (lw_at lw_m1 196 rfl) rfl
theorem q236 : (Jvm.Cond.code ({ cls := "FairFight", name := "isFighter", desc := "(I)Z" } : Jvm.MethodName) prog_1_method_5_code (2 : Nat) (Option.some Jvm.ClassFile.FieldType.boolean)) ∈ lw_all := lw_g (lw_at lw_m1 197 rfl) rfl
theorem q238 : (Jvm.Cond.instanceMethod ({ cls := "FairFight", name := "tune", desc := "(III)I" } : Jvm.MethodName)) ∈ lw_all := lw_g (lw_at lw_m1 199 rfl) rfl
theorem q239 : (Jvm.Cond.selects "FairFight" ({ cls := "FairFight", name := "tune", desc := "(III)I" } : Jvm.MethodName) ({ cls := "FairFight", name := "tune", desc := "(III)I" } : Jvm.MethodName)) ∈ lw_all := lw_g (lw_at lw_m1 200 rfl) rfl
theorem q240 : (Jvm.Cond.code ({ cls := "FairFight", name := "tune", desc := "(III)I" } : Jvm.MethodName) prog_1_method_8_code (5 : Nat) (Option.some Jvm.ClassFile.FieldType.int)) ∈ lw_all := lw_g (lw_at lw_m1 201 rfl) rfl
theorem q242 : (Jvm.Cond.instanceMethod ({ cls := "FairFight", name := "side", desc := "(IIII)I" } : Jvm.MethodName)) ∈ lw_all := lw_g (lw_at lw_m1 203 rfl) rfl
theorem q243 : (Jvm.Cond.selects "FairFight" ({ cls := "FairFight", name := "side", desc := "(IIII)I" } : Jvm.MethodName) ({ cls := "FairFight", name := "side", desc := "(IIII)I" } : Jvm.MethodName)) ∈ lw_all := lw_g (lw_at lw_m1 204 rfl) rfl
theorem q244 : (Jvm.Cond.code ({ cls := "FairFight", name := "side", desc := "(IIII)I" } : Jvm.MethodName) prog_1_method_11_code (6 : Nat) (Option.some Jvm.ClassFile.FieldType.int)) ∈ lw_all := lw_g (lw_at lw_m1 205 rfl) rfl
theorem q245 : (Jvm.Cond.methodLink "FairFight" (90 : Nat) ({ cls := "FairFight", name := "isRow", desc := "(III)Z" } : Jvm.MethodName)) ∈ lw_all := lw_g (lw_at lw_m1 206 rfl) rfl
theorem q246 : (Jvm.Cond.privateMethod ({ cls := "FairFight", name := "isRow", desc := "(III)Z" } : Jvm.MethodName)) ∈ lw_tbl := lw_at lw_m1 207 rfl
theorem q247 : (Jvm.Cond.instanceMethod ({ cls := "FairFight", name := "isRow", desc := "(III)Z" } : Jvm.MethodName)) ∈ lw_all := lw_g (lw_at lw_m1 208 rfl) rfl
theorem q248 : (Jvm.Cond.code ({ cls := "FairFight", name := "isRow", desc := "(III)Z" } : Jvm.MethodName) prog_1_method_9_code (5 : Nat) (Option.some Jvm.ClassFile.FieldType.boolean)) ∈ lw_all := lw_g (lw_at lw_m1 209 rfl) rfl
theorem q249 : (Jvm.Cond.methodLink "FairFight" (93 : Nat) ({ cls := "FairFight", name := "manyOf", desc := "([I)I" } : Jvm.MethodName)) ∈ lw_all := lw_g (lw_at lw_m1 210 rfl) rfl
theorem q250 : (Jvm.Cond.static ({ cls := "FairFight", name := "manyOf", desc := "([I)I" } : Jvm.MethodName)) ∈ lw_all := lw_g (lw_at lw_m1 211 rfl) rfl
theorem q251 : (Jvm.Cond.code ({ cls := "FairFight", name := "manyOf", desc := "([I)I" } : Jvm.MethodName) prog_1_method_10_code (2 : Nat) (Option.some Jvm.ClassFile.FieldType.int)) ∈ lw_all := lw_g (lw_at lw_m1 212 rfl) rfl
theorem q253 : (Jvm.Cond.instanceMethod ({ cls := "FairFight", name := "at", desc := "(II)I" } : Jvm.MethodName)) ∈ lw_all := lw_g (lw_at lw_m1 214 rfl) rfl
theorem q254 : (Jvm.Cond.selects "FairFight" ({ cls := "FairFight", name := "at", desc := "(II)I" } : Jvm.MethodName) ({ cls := "FairFight", name := "at", desc := "(II)I" } : Jvm.MethodName)) ∈ lw_all := lw_g (lw_at lw_m1 215 rfl) rfl
theorem q255 : (Jvm.Cond.code ({ cls := "FairFight", name := "at", desc := "(II)I" } : Jvm.MethodName) prog_1_method_12_code (3 : Nat) (Option.some Jvm.ClassFile.FieldType.int)) ∈ lw_all := lw_g (lw_at lw_m1 216 rfl) rfl
theorem q257 : (Jvm.Cond.instanceMethod ({ cls := "FairFight", name := "laws", desc := "(III)I" } : Jvm.MethodName)) ∈ lw_all := lw_g (lw_at lw_m1 218 rfl) rfl
theorem q258 : (Jvm.Cond.selects "FairFight" ({ cls := "FairFight", name := "laws", desc := "(III)I" } : Jvm.MethodName) ({ cls := "FairFight", name := "laws", desc := "(III)I" } : Jvm.MethodName)) ∈ lw_all := lw_g (lw_at lw_m1 219 rfl) rfl
theorem q259 : (Jvm.Cond.code ({ cls := "FairFight", name := "laws", desc := "(III)I" } : Jvm.MethodName) prog_1_method_13_code (4 : Nat) (Option.some Jvm.ClassFile.FieldType.int)) ∈ lw_all := lw_g (lw_at lw_m1 220 rfl) rfl
theorem q261 : (Jvm.Cond.instanceMethod ({ cls := "FairFight", name := "slots", desc := "()I" } : Jvm.MethodName)) ∈ lw_all := lw_g (lw_at lw_m1 222 rfl) rfl
theorem q262 : (Jvm.Cond.selects "FairFight" ({ cls := "FairFight", name := "slots", desc := "()I" } : Jvm.MethodName) ({ cls := "FairFight", name := "slots", desc := "()I" } : Jvm.MethodName)) ∈ lw_all := lw_g (lw_at lw_m1 223 rfl) rfl
theorem q263 : (Jvm.Cond.code ({ cls := "FairFight", name := "slots", desc := "()I" } : Jvm.MethodName) prog_1_method_15_code (1 : Nat) (Option.some Jvm.ClassFile.FieldType.int)) ∈ lw_all := lw_g (lw_at lw_m1 224 rfl) rfl
theorem q265 : (Jvm.Cond.instanceMethod ({ cls := "FairFight", name := "all", desc := "()J" } : Jvm.MethodName)) ∈ lw_all := lw_g (lw_at lw_m1 226 rfl) rfl
theorem q266 : (Jvm.Cond.selects "FairFight" ({ cls := "FairFight", name := "all", desc := "()J" } : Jvm.MethodName) ({ cls := "FairFight", name := "all", desc := "()J" } : Jvm.MethodName)) ∈ lw_all := lw_g (lw_at lw_m1 227 rfl) rfl
theorem q267 : (Jvm.Cond.code ({ cls := "FairFight", name := "all", desc := "()J" } : Jvm.MethodName) prog_1_method_16_code (2 : Nat) (Option.some Jvm.ClassFile.FieldType.long)) ∈ lw_all := lw_g (lw_at lw_m1 228 rfl) rfl
theorem q268 : (Jvm.Cond.methodLink "FairFight" (110 : Nat) ({ cls := "FairFight", name := "oddsNow", desc := "()LFairFight$Odds;" } : Jvm.MethodName)) ∈ lw_all := lw_g (lw_at lw_m1 229 rfl) rfl
theorem q269 : (Jvm.Cond.privateMethod ({ cls := "FairFight", name := "oddsNow", desc := "()LFairFight$Odds;" } : Jvm.MethodName)) ∈ lw_tbl := lw_at lw_m1 230 rfl
theorem q270 : (Jvm.Cond.instanceMethod ({ cls := "FairFight", name := "oddsNow", desc := "()LFairFight$Odds;" } : Jvm.MethodName)) ∈ lw_all := lw_g (lw_at lw_m1 231 rfl) rfl
theorem q271 : (Jvm.Cond.code ({ cls := "FairFight", name := "oddsNow", desc := "()LFairFight$Odds;" } : Jvm.MethodName) prog_1_method_14_code (1 : Nat) (Option.some (Jvm.ClassFile.FieldType.object "FairFight$Odds"))) ∈ lw_all := lw_g (lw_at lw_m1 232 rfl) rfl
theorem q272 : (Jvm.Cond.classLink "FairFight" (100 : Nat) "FairFight$Odds") ∈ lw_all := lw_g (lw_at lw_m1 233 rfl) rfl
theorem q274 : (Jvm.Cond.classLink "FairFight" (102 : Nat) "FairFight$Fight") ∈ lw_all := lw_g (lw_at lw_m1 235 rfl) rfl
theorem q276 : (Jvm.Cond.methodLink "FairFight" (104 : Nat) ({ cls := "FairFight$Fight", name := "<init>", desc := "(LFairFight;[I[II)V" } : Jvm.MethodName)) ∈ lw_all := lw_g (lw_at lw_m1 237 rfl) rfl
theorem q290 : (Jvm.Cond.fieldLinkNest "FairFight" (217 : Nat) "FairFight$Fight" "many" "I" "FairFight") ∈ lw_tbl := lw_at lw_m2 11 rfl
theorem q298 : (Jvm.Cond.fieldLinkNest "FairFight" (227 : Nat) "FairFight$Fight" "side" "[I" "FairFight") ∈ lw_tbl := lw_at lw_m2 19 rfl
theorem q300 : (Jvm.Cond.fieldLinkNest "FairFight" (249 : Nat) "FairFight$Fight" "place" "[I" "FairFight") ∈ lw_tbl := lw_at lw_m2 21 rfl
theorem q306 : (Jvm.Cond.fieldLinkNest "FairFight" (240 : Nat) "FairFight$Fight" "hit" "[I" "FairFight") ∈ lw_tbl := lw_at lw_m2 27 rfl
theorem q314 : (Jvm.Cond.fieldLinkNest "FairFight" (220 : Nat) "FairFight$Fight" "turns" "[I" "FairFight") ∈ lw_tbl := lw_at lw_m2 35 rfl
theorem q319 : (Jvm.Cond.fieldLinkNest "FairFight" (252 : Nat) "FairFight$Fight" "life" "[I" "FairFight") ∈ lw_tbl := lw_at lw_m2 40 rfl
theorem q325 : (Jvm.Cond.fieldLinkNest "FairFight" (223 : Nat) "FairFight$Fight" "isUp" "[Z" "FairFight") ∈ lw_tbl := lw_at lw_m2 46 rfl
theorem q352 : (Jvm.Cond.methodLink "FairFight" (107 : Nat) ({ cls := "FairFight$Odds", name := "<init>", desc := "(LFairFight;LFairFight$Fight;Z)V" } : Jvm.MethodName)) ∈ lw_all := lw_g (lw_at lw_m2 73 rfl) rfl
theorem q409 : (Jvm.Cond.laysStatic "FairFight" "KINDS" "[LFairFight$Kind;") ∈ lw_tbl := lw_at lw_m2 130 rfl
theorem q434 : (Jvm.Cond.fieldLinkNest "FairFight" (122 : Nat) "FairFight$Odds" "all" "J" "FairFight") ∈ lw_tbl := lw_at lw_m2 155 rfl
theorem q436 : (Jvm.Cond.fieldLinkNest "FairFight" (126 : Nat) "FairFight$Odds" "ways" "[J" "FairFight") ∈ lw_tbl := lw_at lw_m2 157 rfl
theorem q438 : (Jvm.Cond.fieldLinkNest "FairFight" (145 : Nat) "FairFight$Odds" "byRound" "[J" "FairFight") ∈ lw_tbl := lw_at lw_m2 159 rfl
theorem q440 : (Jvm.Cond.fieldLinkNest "FairFight" (138 : Nat) "FairFight$Odds" "left" "[[J" "FairFight") ∈ lw_tbl := lw_at lw_m2 161 rfl
theorem q442 : (Jvm.Cond.fieldLinkNest "FairFight" (142 : Nat) "FairFight$Odds" "widest" "I" "FairFight") ∈ lw_tbl := lw_at lw_m2 163 rfl
theorem q444 : (Jvm.Cond.fieldLinkNest "FairFight" (114 : Nat) "FairFight$Odds" "isWide" "Z" "FairFight") ∈ lw_tbl := lw_at lw_m2 165 rfl
theorem q465 : (Jvm.Cond.methodLink "FairFight" (118 : Nat) ({ cls := "FairFight", name := "no", desc := "(I)J" } : Jvm.MethodName)) ∈ lw_all := lw_g (lw_at lw_m2 186 rfl) rfl
theorem q466 : (Jvm.Cond.static ({ cls := "FairFight", name := "no", desc := "(I)J" } : Jvm.MethodName)) ∈ lw_all := lw_g (lw_at lw_m2 187 rfl) rfl
theorem q467 : (Jvm.Cond.code ({ cls := "FairFight", name := "no", desc := "(I)J" } : Jvm.MethodName) prog_1_method_2_code (1 : Nat) (Option.some Jvm.ClassFile.FieldType.long)) ∈ lw_all := lw_g (lw_at lw_m2 188 rfl) rfl
theorem q468 : (Jvm.Cond.constantLong "FairFight" (3 : Nat) (-9223372036854775808 : Int64)) ∈ lw_all := lw_g (lw_at lw_m2 189 rfl) rfl
theorem q470 : (Jvm.Cond.instanceMethod ({ cls := "FairFight", name := "ways", desc := "(I)J" } : Jvm.MethodName)) ∈ lw_all := lw_g (lw_at lw_m2 191 rfl) rfl
theorem q471 : (Jvm.Cond.selects "FairFight" ({ cls := "FairFight", name := "ways", desc := "(I)J" } : Jvm.MethodName) ({ cls := "FairFight", name := "ways", desc := "(I)J" } : Jvm.MethodName)) ∈ lw_all := lw_g (lw_at lw_m2 192 rfl) rfl
theorem q472 : (Jvm.Cond.code ({ cls := "FairFight", name := "ways", desc := "(I)J" } : Jvm.MethodName) prog_1_method_17_code (3 : Nat) (Option.some Jvm.ClassFile.FieldType.long)) ∈ lw_all := lw_g (lw_at lw_m2 193 rfl) rfl
theorem q474 : (Jvm.Cond.instanceMethod ({ cls := "FairFight", name := "chance", desc := "()I" } : Jvm.MethodName)) ∈ lw_all := lw_g (lw_at lw_m2 195 rfl) rfl
theorem q475 : (Jvm.Cond.selects "FairFight" ({ cls := "FairFight", name := "chance", desc := "()I" } : Jvm.MethodName) ({ cls := "FairFight", name := "chance", desc := "()I" } : Jvm.MethodName)) ∈ lw_all := lw_g (lw_at lw_m2 196 rfl) rfl
theorem q476 : (Jvm.Cond.code ({ cls := "FairFight", name := "chance", desc := "()I" } : Jvm.MethodName) prog_1_method_19_code (1 : Nat) (Option.some Jvm.ClassFile.FieldType.int)) ∈ lw_all := lw_g (lw_at lw_m2 197 rfl) rfl
theorem q477 : (Jvm.Cond.methodLink "FairFight" (134 : Nat) ({ cls := "FairFight", name := "chanceOf", desc := "([I[II)I" } : Jvm.MethodName)) ∈ lw_all := lw_g (lw_at lw_m2 198 rfl) rfl
theorem q478 : (Jvm.Cond.privateMethod ({ cls := "FairFight", name := "chanceOf", desc := "([I[II)I" } : Jvm.MethodName)) ∈ lw_tbl := lw_at lw_m2 199 rfl
theorem q479 : (Jvm.Cond.instanceMethod ({ cls := "FairFight", name := "chanceOf", desc := "([I[II)I" } : Jvm.MethodName)) ∈ lw_all := lw_g (lw_at lw_m2 200 rfl) rfl
theorem q480 : (Jvm.Cond.code ({ cls := "FairFight", name := "chanceOf", desc := "([I[II)I" } : Jvm.MethodName) prog_1_method_18_code (5 : Nat) (Option.some Jvm.ClassFile.FieldType.int)) ∈ lw_all := lw_g (lw_at lw_m2 201 rfl) rfl
theorem q481 : (Jvm.Cond.methodLink "FairFight" (130 : Nat) ({ cls := "FairFight$Odds", name := "chance", desc := "()I" } : Jvm.MethodName)) ∈ lw_all := lw_g (lw_at lw_m2 202 rfl) rfl
theorem q487 : (Jvm.Cond.instanceMethod ({ cls := "FairFight", name := "left", desc := "(IIII)J" } : Jvm.MethodName)) ∈ lw_all := lw_g (lw_at lw_m2 208 rfl) rfl
theorem q488 : (Jvm.Cond.selects "FairFight" ({ cls := "FairFight", name := "left", desc := "(IIII)J" } : Jvm.MethodName) ({ cls := "FairFight", name := "left", desc := "(IIII)J" } : Jvm.MethodName)) ∈ lw_all := lw_g (lw_at lw_m2 209 rfl) rfl
theorem q489 : (Jvm.Cond.code ({ cls := "FairFight", name := "left", desc := "(IIII)J" } : Jvm.MethodName) prog_1_method_20_code (6 : Nat) (Option.some Jvm.ClassFile.FieldType.long)) ∈ lw_all := lw_g (lw_at lw_m2 210 rfl) rfl
theorem q491 : (Jvm.Cond.instanceMethod ({ cls := "FairFight", name := "states", desc := "()I" } : Jvm.MethodName)) ∈ lw_all := lw_g (lw_at lw_m2 212 rfl) rfl
theorem q492 : (Jvm.Cond.selects "FairFight" ({ cls := "FairFight", name := "states", desc := "()I" } : Jvm.MethodName) ({ cls := "FairFight", name := "states", desc := "()I" } : Jvm.MethodName)) ∈ lw_all := lw_g (lw_at lw_m2 213 rfl) rfl
theorem q493 : (Jvm.Cond.code ({ cls := "FairFight", name := "states", desc := "()I" } : Jvm.MethodName) prog_1_method_21_code (2 : Nat) (Option.some Jvm.ClassFile.FieldType.int)) ∈ lw_all := lw_g (lw_at lw_m2 214 rfl) rfl
theorem q495 : (Jvm.Cond.instanceMethod ({ cls := "FairFight", name := "ends", desc := "(I)J" } : Jvm.MethodName)) ∈ lw_all := lw_g (lw_at lw_m2 216 rfl) rfl
theorem q496 : (Jvm.Cond.selects "FairFight" ({ cls := "FairFight", name := "ends", desc := "(I)J" } : Jvm.MethodName) ({ cls := "FairFight", name := "ends", desc := "(I)J" } : Jvm.MethodName)) ∈ lw_all := lw_g (lw_at lw_m2 217 rfl) rfl
theorem q497 : (Jvm.Cond.code ({ cls := "FairFight", name := "ends", desc := "(I)J" } : Jvm.MethodName) prog_1_method_22_code (3 : Nat) (Option.some Jvm.ClassFile.FieldType.long)) ∈ lw_all := lw_g (lw_at lw_m2 218 rfl) rfl
theorem q499 : (Jvm.Cond.instanceMethod ({ cls := "FairFight", name := "better", desc := "(II)I" } : Jvm.MethodName)) ∈ lw_all := lw_g (lw_at lw_m2 220 rfl) rfl
theorem q500 : (Jvm.Cond.selects "FairFight" ({ cls := "FairFight", name := "better", desc := "(II)I" } : Jvm.MethodName) ({ cls := "FairFight", name := "better", desc := "(II)I" } : Jvm.MethodName)) ∈ lw_all := lw_g (lw_at lw_m2 221 rfl) rfl
theorem q501 : (Jvm.Cond.codeWith ({ cls := "FairFight", name := "better", desc := "(II)I" } : Jvm.MethodName) prog_1_method_23_code (6 : Nat) (Option.some Jvm.ClassFile.FieldType.int) [((63 : Nat), (69 : Nat), (87 : Nat), (0 : Nat)), ((87 : Nat), (89 : Nat), (87 : Nat), (0 : Nat))]) ∈ lw_all := lw_g (lw_at lw_m2 222 rfl) rfl
theorem q502 : (Jvm.Cond.constant "FairFight" (148 : Nat) (-2147483648 : Int32)) ∈ lw_all := lw_g (lw_at lw_m2 223 rfl) rfl
theorem q503 : (Jvm.Cond.methodLink "FairFight" (149 : Nat) ({ cls := "FairFight", name := "chance", desc := "()I" } : Jvm.MethodName)) ∈ lw_all := lw_g (lw_at lw_m2 224 rfl) rfl
theorem q504 : (Jvm.Cond.constant "FairFight" (150 : Nat) (-2147483647 : Int32)) ∈ lw_all := lw_g (lw_at lw_m2 225 rfl) rfl
theorem q506 : (Jvm.Cond.instanceMethod ({ cls := "FairFight", name := "without", desc := "(I)I" } : Jvm.MethodName)) ∈ lw_all := lw_g (lw_at lw_m2 227 rfl) rfl
theorem q507 : (Jvm.Cond.selects "FairFight" ({ cls := "FairFight", name := "without", desc := "(I)I" } : Jvm.MethodName) ({ cls := "FairFight", name := "without", desc := "(I)I" } : Jvm.MethodName)) ∈ lw_all := lw_g (lw_at lw_m2 228 rfl) rfl
theorem q508 : (Jvm.Cond.code ({ cls := "FairFight", name := "without", desc := "(I)I" } : Jvm.MethodName) prog_1_method_24_code (3 : Nat) (Option.some Jvm.ClassFile.FieldType.int)) ∈ lw_all := lw_g (lw_at lw_m2 229 rfl) rfl
theorem q509 : (Jvm.Cond.methodLink "FairFight" (151 : Nat) ({ cls := "java/lang/System", name := "arraycopy", desc := "(Ljava/lang/Object;ILjava/lang/Object;II)V" } : Jvm.MethodName)) ∈ lw_all := lw_g (lw_at lw_m2 230 rfl) rfl
theorem q513 : (Jvm.Cond.instanceMethod ({ cls := "FairFight", name := "surprised", desc := "(I)I" } : Jvm.MethodName)) ∈ lw_all := lw_g (lw_at lw_m2 234 rfl) rfl
theorem q514 : (Jvm.Cond.selects "FairFight" ({ cls := "FairFight", name := "surprised", desc := "(I)I" } : Jvm.MethodName) ({ cls := "FairFight", name := "surprised", desc := "(I)I" } : Jvm.MethodName)) ∈ lw_all := lw_g (lw_at lw_m2 235 rfl) rfl
theorem q515 : (Jvm.Cond.codeWith ({ cls := "FairFight", name := "surprised", desc := "(I)I" } : Jvm.MethodName) prog_1_method_25_code (5 : Nat) (Option.some Jvm.ClassFile.FieldType.int) [((22 : Nat), (27 : Nat), (34 : Nat), (0 : Nat)), ((34 : Nat), (36 : Nat), (34 : Nat), (0 : Nat))]) ∈ lw_all := lw_g (lw_at lw_m2 236 rfl) rfl
theorem q517 : (Jvm.Cond.instanceMethod ({ cls := "FairFight", name := "fight", desc := "(III)I" } : Jvm.MethodName)) ∈ lw_all := lw_g (lw_at lw_m2 238 rfl) rfl
theorem q518 : (Jvm.Cond.selects "FairFight" ({ cls := "FairFight", name := "fight", desc := "(III)I" } : Jvm.MethodName) ({ cls := "FairFight", name := "fight", desc := "(III)I" } : Jvm.MethodName)) ∈ lw_all := lw_g (lw_at lw_m2 239 rfl) rfl
theorem q519 : (Jvm.Cond.code ({ cls := "FairFight", name := "fight", desc := "(III)I" } : Jvm.MethodName) prog_1_method_26_code (5 : Nat) (Option.some Jvm.ClassFile.FieldType.int)) ∈ lw_all := lw_g (lw_at lw_m3 0 rfl) rfl
theorem q520 : (Jvm.Cond.methodLink "FairFight" (157 : Nat) ({ cls := "java/util/ArrayList", name := "size", desc := "()I" } : Jvm.MethodName)) ∈ lw_all := lw_g (lw_at lw_m3 1 rfl) rfl
theorem q524 : (Jvm.Cond.methodLink "FairFight" (160 : Nat) ({ cls := "java/util/ArrayList", name := "add", desc := "(Ljava/lang/Object;)Z" } : Jvm.MethodName)) ∈ lw_all := lw_g (lw_at lw_m3 5 rfl) rfl
theorem q554 : (Jvm.Cond.selects "FairFight" ({ cls := "java/lang/Object", name := "getClass", desc := "()Ljava/lang/Class;" } : Jvm.MethodName) ({ cls := "java/lang/Object", name := "getClass", desc := "()Ljava/lang/Class;" } : Jvm.MethodName)) ∈ lw_all := lw_g (lw_at lw_m3 35 rfl) rfl
theorem q582 : (Jvm.Cond.instanceMethod ({ cls := "FairFight", name := "rest", desc := "()I" } : Jvm.MethodName)) ∈ lw_all := lw_g (lw_at lw_m3 63 rfl) rfl
theorem q583 : (Jvm.Cond.selects "FairFight" ({ cls := "FairFight", name := "rest", desc := "()I" } : Jvm.MethodName) ({ cls := "FairFight", name := "rest", desc := "()I" } : Jvm.MethodName)) ∈ lw_all := lw_g (lw_at lw_m3 64 rfl) rfl
theorem q584 : (Jvm.Cond.code ({ cls := "FairFight", name := "rest", desc := "()I" } : Jvm.MethodName) prog_1_method_27_code (2 : Nat) (Option.some Jvm.ClassFile.FieldType.int)) ∈ lw_all := lw_g (lw_at lw_m3 65 rfl) rfl
theorem q585 : (Jvm.Cond.methodLink "FairFight" (164 : Nat) ({ cls := "java/util/ArrayList", name := "clear", desc := "()V" } : Jvm.MethodName)) ∈ lw_all := lw_g (lw_at lw_m3 66 rfl) rfl
theorem q590 : (Jvm.Cond.instanceMethod ({ cls := "FairFight", name := "purse", desc := "(II)I" } : Jvm.MethodName)) ∈ lw_all := lw_g (lw_at lw_m3 71 rfl) rfl
theorem q591 : (Jvm.Cond.selects "FairFight" ({ cls := "FairFight", name := "purse", desc := "(II)I" } : Jvm.MethodName) ({ cls := "FairFight", name := "purse", desc := "(II)I" } : Jvm.MethodName)) ∈ lw_all := lw_g (lw_at lw_m3 72 rfl) rfl
theorem q592 : (Jvm.Cond.code ({ cls := "FairFight", name := "purse", desc := "(II)I" } : Jvm.MethodName) prog_1_method_28_code (3 : Nat) (Option.some Jvm.ClassFile.FieldType.int)) ∈ lw_all := lw_g (lw_at lw_m3 73 rfl) rfl
theorem q594 : (Jvm.Cond.instanceMethod ({ cls := "FairFight", name := "day", desc := "()I" } : Jvm.MethodName)) ∈ lw_all := lw_g (lw_at lw_m3 75 rfl) rfl
theorem q595 : (Jvm.Cond.selects "FairFight" ({ cls := "FairFight", name := "day", desc := "()I" } : Jvm.MethodName) ({ cls := "FairFight", name := "day", desc := "()I" } : Jvm.MethodName)) ∈ lw_all := lw_g (lw_at lw_m3 76 rfl) rfl
theorem q596 : (Jvm.Cond.code ({ cls := "FairFight", name := "day", desc := "()I" } : Jvm.MethodName) prog_1_method_31_code (2 : Nat) (Option.some Jvm.ClassFile.FieldType.int)) ∈ lw_all := lw_g (lw_at lw_m3 77 rfl) rfl
theorem q597 : (Jvm.Cond.methodLink "FairFight" (181 : Nat) ({ cls := "FairFight", name := "looks", desc := "()I" } : Jvm.MethodName)) ∈ lw_all := lw_g (lw_at lw_m3 78 rfl) rfl
theorem q598 : (Jvm.Cond.privateMethod ({ cls := "FairFight", name := "looks", desc := "()I" } : Jvm.MethodName)) ∈ lw_tbl := lw_at lw_m3 79 rfl
theorem q599 : (Jvm.Cond.instanceMethod ({ cls := "FairFight", name := "looks", desc := "()I" } : Jvm.MethodName)) ∈ lw_all := lw_g (lw_at lw_m3 80 rfl) rfl
theorem q600 : (Jvm.Cond.code ({ cls := "FairFight", name := "looks", desc := "()I" } : Jvm.MethodName) prog_1_method_30_code (7 : Nat) (Option.some Jvm.ClassFile.FieldType.int)) ∈ lw_all := lw_g (lw_at lw_m3 81 rfl) rfl
theorem q601 : (Jvm.Cond.methodLink "FairFight" (167 : Nat) ({ cls := "java/util/ArrayList", name := "get", desc := "(I)Ljava/lang/Object;" } : Jvm.MethodName)) ∈ lw_all := lw_g (lw_at lw_m3 82 rfl) rfl
theorem q615 : (Jvm.Cond.methodLink "FairFight" (174 : Nat) ({ cls := "FairFight", name := "ones", desc := "(I)I" } : Jvm.MethodName)) ∈ lw_all := lw_g (lw_at lw_m3 96 rfl) rfl
theorem q616 : (Jvm.Cond.static ({ cls := "FairFight", name := "ones", desc := "(I)I" } : Jvm.MethodName)) ∈ lw_all := lw_g (lw_at lw_m3 97 rfl) rfl
theorem q617 : (Jvm.Cond.code ({ cls := "FairFight", name := "ones", desc := "(I)I" } : Jvm.MethodName) prog_1_method_29_code (3 : Nat) (Option.some Jvm.ClassFile.FieldType.int)) ∈ lw_all := lw_g (lw_at lw_m3 98 rfl) rfl
theorem q619 : (Jvm.Cond.instanceMethod ({ cls := "FairFight", name := "use", desc := "()I" } : Jvm.MethodName)) ∈ lw_all := lw_g (lw_at lw_m3 100 rfl) rfl
theorem q620 : (Jvm.Cond.selects "FairFight" ({ cls := "FairFight", name := "use", desc := "()I" } : Jvm.MethodName) ({ cls := "FairFight", name := "use", desc := "()I" } : Jvm.MethodName)) ∈ lw_all := lw_g (lw_at lw_m3 101 rfl) rfl
theorem q621 : (Jvm.Cond.code ({ cls := "FairFight", name := "use", desc := "()I" } : Jvm.MethodName) prog_1_method_32_code (2 : Nat) (Option.some Jvm.ClassFile.FieldType.int)) ∈ lw_all := lw_g (lw_at lw_m3 102 rfl) rfl
theorem q623 : (Jvm.Cond.instanceMethod ({ cls := "FairFight", name := "odds", desc := "(II)I" } : Jvm.MethodName)) ∈ lw_all := lw_g (lw_at lw_m3 104 rfl) rfl
theorem q624 : (Jvm.Cond.selects "FairFight" ({ cls := "FairFight", name := "odds", desc := "(II)I" } : Jvm.MethodName) ({ cls := "FairFight", name := "odds", desc := "(II)I" } : Jvm.MethodName)) ∈ lw_all := lw_g (lw_at lw_m3 105 rfl) rfl
theorem q625 : (Jvm.Cond.code ({ cls := "FairFight", name := "odds", desc := "(II)I" } : Jvm.MethodName) prog_1_method_33_code (3 : Nat) (Option.some Jvm.ClassFile.FieldType.int)) ∈ lw_all := lw_g (lw_at lw_m3 106 rfl) rfl
theorem q627 : (Jvm.Cond.instanceMethod ({ cls := "FairFight", name := "wish", desc := "(II)I" } : Jvm.MethodName)) ∈ lw_all := lw_g (lw_at lw_m3 108 rfl) rfl
theorem q628 : (Jvm.Cond.selects "FairFight" ({ cls := "FairFight", name := "wish", desc := "(II)I" } : Jvm.MethodName) ({ cls := "FairFight", name := "wish", desc := "(II)I" } : Jvm.MethodName)) ∈ lw_all := lw_g (lw_at lw_m3 109 rfl) rfl
theorem q629 : (Jvm.Cond.code ({ cls := "FairFight", name := "wish", desc := "(II)I" } : Jvm.MethodName) prog_1_method_35_code (6 : Nat) (Option.some Jvm.ClassFile.FieldType.int)) ∈ lw_all := lw_g (lw_at lw_m3 110 rfl) rfl
theorem q630 : (Jvm.Cond.constant "FairFight" (190 : Nat) (1000000 : Int32)) ∈ lw_all := lw_g (lw_at lw_m3 111 rfl) rfl
theorem q631 : (Jvm.Cond.methodLink "FairFight" (191 : Nat) ({ cls := "java/lang/Math", name := "min", desc := "(II)I" } : Jvm.MethodName)) ∈ lw_all := lw_g (lw_at lw_m3 112 rfl) rfl
theorem q632 : (Jvm.Cond.methodLink "FairFight" (197 : Nat) ({ cls := "FairFight", name := "tries", desc := "(IIII)V" } : Jvm.MethodName)) ∈ lw_all := lw_g (lw_at lw_m3 113 rfl) rfl
theorem q633 : (Jvm.Cond.privateMethod ({ cls := "FairFight", name := "tries", desc := "(IIII)V" } : Jvm.MethodName)) ∈ lw_tbl := lw_at lw_m3 114 rfl
theorem q634 : (Jvm.Cond.instanceMethod ({ cls := "FairFight", name := "tries", desc := "(IIII)V" } : Jvm.MethodName)) ∈ lw_all := lw_g (lw_at lw_m3 115 rfl) rfl
theorem q635 : (Jvm.Cond.code ({ cls := "FairFight", name := "tries", desc := "(IIII)V" } : Jvm.MethodName) prog_1_method_34_code (7 : Nat) (Option.none : Option Jvm.ClassFile.FieldType)) ∈ lw_all := lw_g (lw_at lw_m3 116 rfl) rfl
theorem q636 : (Jvm.Cond.methodLink "FairFight" (184 : Nat) ({ cls := "java/lang/Integer", name := "valueOf", desc := "(I)Ljava/lang/Integer;" } : Jvm.MethodName)) ∈ lw_all := lw_g (lw_at lw_m3 117 rfl) rfl
theorem q657 : (Jvm.Cond.instanceMethod ({ cls := "FairFight", name := "band", desc := "(I)I" } : Jvm.MethodName)) ∈ lw_all := lw_g (lw_at lw_m3 138 rfl) rfl
theorem q658 : (Jvm.Cond.selects "FairFight" ({ cls := "FairFight", name := "band", desc := "(I)I" } : Jvm.MethodName) ({ cls := "FairFight", name := "band", desc := "(I)I" } : Jvm.MethodName)) ∈ lw_all := lw_g (lw_at lw_m3 139 rfl) rfl
theorem q659 : (Jvm.Cond.code ({ cls := "FairFight", name := "band", desc := "(I)I" } : Jvm.MethodName) prog_1_method_36_code (2 : Nat) (Option.some Jvm.ClassFile.FieldType.int)) ∈ lw_all := lw_g (lw_at lw_m3 140 rfl) rfl
theorem q660 : (Jvm.Cond.classLink "FairFight" (185 : Nat) "java/lang/Integer") ∈ lw_all := lw_g (lw_at lw_m3 141 rfl) rfl
theorem q661 : (Jvm.Cond.methodLink "FairFight" (201 : Nat) ({ cls := "java/lang/Integer", name := "intValue", desc := "()I" } : Jvm.MethodName)) ∈ lw_all := lw_g (lw_at lw_m3 142 rfl) rfl
theorem q666 : (Jvm.Cond.instanceMethod ({ cls := "FairFight", name := "play", desc := "(I)I" } : Jvm.MethodName)) ∈ lw_all := lw_g (lw_at lw_m3 147 rfl) rfl
theorem q667 : (Jvm.Cond.selects "FairFight" ({ cls := "FairFight", name := "play", desc := "(I)I" } : Jvm.MethodName) ({ cls := "FairFight", name := "play", desc := "(I)I" } : Jvm.MethodName)) ∈ lw_all := lw_g (lw_at lw_m3 148 rfl) rfl
theorem q668 : (Jvm.Cond.codeWith ({ cls := "FairFight", name := "play", desc := "(I)I" } : Jvm.MethodName) prog_1_method_37_code (10 : Nat) (Option.some Jvm.ClassFile.FieldType.int) [((58 : Nat), (206 : Nat), (209 : Nat), (247 : Nat))]) ∈ lw_all := lw_g (lw_at lw_m3 149 rfl) rfl
theorem q669 : (Jvm.Cond.classLink "FairFight" (247 : Nat) "java/lang/ArrayIndexOutOfBoundsException") ∈ lw_all := lw_g (lw_at lw_m3 150 rfl) rfl
theorem q759 : (Jvm.Cond.methodLink "FairFight" (204 : Nat) ({ cls := "FairFight", name := "isSheet", desc := "(I)Z" } : Jvm.MethodName)) ∈ lw_all := lw_g (lw_at lw_m4 0 rfl) rfl
theorem q760 : (Jvm.Cond.static ({ cls := "FairFight", name := "isSheet", desc := "(I)Z" } : Jvm.MethodName)) ∈ lw_all := lw_g (lw_at lw_m4 1 rfl) rfl
theorem q761 : (Jvm.Cond.code ({ cls := "FairFight", name := "isSheet", desc := "(I)Z" } : Jvm.MethodName) prog_1_method_40_code (1 : Nat) (Option.some Jvm.ClassFile.FieldType.boolean)) ∈ lw_all := lw_g (lw_at lw_m4 2 rfl) rfl
theorem q762 : (Jvm.Cond.methodLink "FairFight" (211 : Nat) ({ cls := "FairFight", name := "meets", desc := "(I)I" } : Jvm.MethodName)) ∈ lw_all := lw_g (lw_at lw_m4 3 rfl) rfl
theorem q763 : (Jvm.Cond.privateMethod ({ cls := "FairFight", name := "meets", desc := "(I)I" } : Jvm.MethodName)) ∈ lw_tbl := lw_at lw_m4 4 rfl
theorem q764 : (Jvm.Cond.instanceMethod ({ cls := "FairFight", name := "meets", desc := "(I)I" } : Jvm.MethodName)) ∈ lw_all := lw_g (lw_at lw_m4 5 rfl) rfl
theorem q765 : (Jvm.Cond.code ({ cls := "FairFight", name := "meets", desc := "(I)I" } : Jvm.MethodName) prog_1_method_39_code (2 : Nat) (Option.some Jvm.ClassFile.FieldType.int)) ∈ lw_all := lw_g (lw_at lw_m4 6 rfl) rfl
theorem q766 : (Jvm.Cond.methodLink "FairFight" (214 : Nat) ({ cls := "FairFight$Fight", name := "end", desc := "()I" } : Jvm.MethodName)) ∈ lw_all := lw_g (lw_at lw_m4 7 rfl) rfl
theorem q767 : (Jvm.Cond.methodLink "FairFight" (230 : Nat) ({ cls := "FairFight$Fight", name := "rolls", desc := "(I)Z" } : Jvm.MethodName)) ∈ lw_all := lw_g (lw_at lw_m4 8 rfl) rfl
theorem q768 : (Jvm.Cond.methodLink "FairFight" (236 : Nat) ({ cls := "FairFight", name := "item", desc := "(Ljava/lang/Object;II)I" } : Jvm.MethodName)) ∈ lw_all := lw_g (lw_at lw_m4 9 rfl) rfl
theorem q769 : (Jvm.Cond.static ({ cls := "FairFight", name := "item", desc := "(Ljava/lang/Object;II)I" } : Jvm.MethodName)) ∈ lw_all := lw_g (lw_at lw_m4 10 rfl) rfl
theorem q770 : (Jvm.Cond.code ({ cls := "FairFight", name := "item", desc := "(Ljava/lang/Object;II)I" } : Jvm.MethodName) prog_1_method_45_code (3 : Nat) (Option.some Jvm.ClassFile.FieldType.int)) ∈ lw_all := lw_g (lw_at lw_m4 11 rfl) rfl
theorem q771 : (Jvm.Cond.classLink "FairFight" (265 : Nat) "[B") ∈ lw_all := lw_g (lw_at lw_m4 12 rfl) rfl
theorem q772 : (Jvm.Cond.classLink "FairFight" (267 : Nat) "[S") ∈ lw_all := lw_g (lw_at lw_m4 13 rfl) rfl
theorem q773 : (Jvm.Cond.methodLink "FairFight" (243 : Nat) ({ cls := "FairFight$Fight", name := "hits", desc := "(I)V" } : Jvm.MethodName)) ∈ lw_all := lw_g (lw_at lw_m4 14 rfl) rfl
theorem q775 : (Jvm.Cond.instanceMethod ({ cls := "FairFight", name := "played", desc := "(I)I" } : Jvm.MethodName)) ∈ lw_all := lw_g (lw_at lw_m4 16 rfl) rfl
theorem q776 : (Jvm.Cond.selects "FairFight" ({ cls := "FairFight", name := "played", desc := "(I)I" } : Jvm.MethodName) ({ cls := "FairFight", name := "played", desc := "(I)I" } : Jvm.MethodName)) ∈ lw_all := lw_g (lw_at lw_m4 17 rfl) rfl
theorem q777 : (Jvm.Cond.code ({ cls := "FairFight", name := "played", desc := "(I)I" } : Jvm.MethodName) prog_1_method_38_code (3 : Nat) (Option.some Jvm.ClassFile.FieldType.int)) ∈ lw_all := lw_g (lw_at lw_m4 18 rfl) rfl
theorem q779 : (Jvm.Cond.instanceMethod ({ cls := "FairFight", name := "sheet", desc := "(III)I" } : Jvm.MethodName)) ∈ lw_all := lw_g (lw_at lw_m4 20 rfl) rfl
theorem q780 : (Jvm.Cond.selects "FairFight" ({ cls := "FairFight", name := "sheet", desc := "(III)I" } : Jvm.MethodName) ({ cls := "FairFight", name := "sheet", desc := "(III)I" } : Jvm.MethodName)) ∈ lw_all := lw_g (lw_at lw_m4 21 rfl) rfl
theorem q781 : (Jvm.Cond.codeWith ({ cls := "FairFight", name := "sheet", desc := "(III)I" } : Jvm.MethodName) prog_1_method_42_code (5 : Nat) (Option.some Jvm.ClassFile.FieldType.int) [((25 : Nat), (39 : Nat), (42 : Nat), (262 : Nat))]) ∈ lw_all := lw_g (lw_at lw_m4 22 rfl) rfl
theorem q782 : (Jvm.Cond.classLink "FairFight" (262 : Nat) "java/lang/NegativeArraySizeException") ∈ lw_all := lw_g (lw_at lw_m4 23 rfl) rfl
theorem q796 : (Jvm.Cond.methodLink "FairFight" (258 : Nat) ({ cls := "FairFight", name := "rowOf", desc := "(II)Ljava/lang/Object;" } : Jvm.MethodName)) ∈ lw_all := lw_g (lw_at lw_m4 37 rfl) rfl
theorem q797 : (Jvm.Cond.static ({ cls := "FairFight", name := "rowOf", desc := "(II)Ljava/lang/Object;" } : Jvm.MethodName)) ∈ lw_all := lw_g (lw_at lw_m4 38 rfl) rfl
theorem q798 : (Jvm.Cond.code ({ cls := "FairFight", name := "rowOf", desc := "(II)Ljava/lang/Object;" } : Jvm.MethodName) prog_1_method_41_code (2 : Nat) (Option.some (Jvm.ClassFile.FieldType.object "java/lang/Object"))) ∈ lw_all := lw_g (lw_at lw_m4 39 rfl) rfl
theorem q801 : (Jvm.Cond.instanceMethod ({ cls := "FairFight", name := "lose", desc := "(I)I" } : Jvm.MethodName)) ∈ lw_all := lw_g (lw_at lw_m4 42 rfl) rfl
theorem q802 : (Jvm.Cond.selects "FairFight" ({ cls := "FairFight", name := "lose", desc := "(I)I" } : Jvm.MethodName) ({ cls := "FairFight", name := "lose", desc := "(I)I" } : Jvm.MethodName)) ∈ lw_all := lw_g (lw_at lw_m4 43 rfl) rfl
theorem q803 : (Jvm.Cond.code ({ cls := "FairFight", name := "lose", desc := "(I)I" } : Jvm.MethodName) prog_1_method_43_code (3 : Nat) (Option.some Jvm.ClassFile.FieldType.int)) ∈ lw_all := lw_g (lw_at lw_m4 44 rfl) rfl
theorem q804 : (Jvm.Cond.methodLink "FairFight" (264 : Nat) ({ cls := "FairFight$Sheet", name := "size", desc := "()I" } : Jvm.MethodName)) ∈ lw_all := lw_g (lw_at lw_m4 45 rfl) rfl
theorem q812 : (Jvm.Cond.instanceMethod ({ cls := "FairFight", name := "put", desc := "(IIII)I" } : Jvm.MethodName)) ∈ lw_all := lw_g (lw_at lw_m4 53 rfl) rfl
theorem q813 : (Jvm.Cond.selects "FairFight" ({ cls := "FairFight", name := "put", desc := "(IIII)I" } : Jvm.MethodName) ({ cls := "FairFight", name := "put", desc := "(IIII)I" } : Jvm.MethodName)) ∈ lw_all := lw_g (lw_at lw_m4 54 rfl) rfl
theorem q814 : (Jvm.Cond.codeWith ({ cls := "FairFight", name := "put", desc := "(IIII)I" } : Jvm.MethodName) prog_1_method_46_code (6 : Nat) (Option.some Jvm.ClassFile.FieldType.int) [((19 : Nat), (36 : Nat), (37 : Nat), (273 : Nat)), ((19 : Nat), (36 : Nat), (45 : Nat), (275 : Nat)), ((19 : Nat), (36 : Nat), (53 : Nat), (247 : Nat))]) ∈ lw_all := lw_g (lw_at lw_m4 55 rfl) rfl
theorem q815 : (Jvm.Cond.classLink "FairFight" (273 : Nat) "java/lang/NullPointerException") ∈ lw_all := lw_g (lw_at lw_m4 56 rfl) rfl
theorem q840 : (Jvm.Cond.classLink "FairFight" (275 : Nat) "java/lang/ClassCastException") ∈ lw_all := lw_g (lw_at lw_m4 81 rfl) rfl
theorem q854 : (Jvm.Cond.methodLink "FairFight" (269 : Nat) ({ cls := "FairFight", name := "lay", desc := "(Ljava/lang/Object;III)V" } : Jvm.MethodName)) ∈ lw_all := lw_g (lw_at lw_m4 95 rfl) rfl
theorem q855 : (Jvm.Cond.static ({ cls := "FairFight", name := "lay", desc := "(Ljava/lang/Object;III)V" } : Jvm.MethodName)) ∈ lw_all := lw_g (lw_at lw_m4 96 rfl) rfl
theorem q856 : (Jvm.Cond.code ({ cls := "FairFight", name := "lay", desc := "(Ljava/lang/Object;III)V" } : Jvm.MethodName) prog_1_method_44_code (4 : Nat) (Option.none : Option Jvm.ClassFile.FieldType)) ∈ lw_all := lw_g (lw_at lw_m4 97 rfl) rfl
theorem q858 : (Jvm.Cond.instanceMethod ({ cls := "FairFight", name := "get", desc := "(III)I" } : Jvm.MethodName)) ∈ lw_all := lw_g (lw_at lw_m4 99 rfl) rfl
theorem q859 : (Jvm.Cond.selects "FairFight" ({ cls := "FairFight", name := "get", desc := "(III)I" } : Jvm.MethodName) ({ cls := "FairFight", name := "get", desc := "(III)I" } : Jvm.MethodName)) ∈ lw_all := lw_g (lw_at lw_m4 100 rfl) rfl
theorem q860 : (Jvm.Cond.codeWith ({ cls := "FairFight", name := "get", desc := "(III)I" } : Jvm.MethodName) prog_1_method_47_code (6 : Nat) (Option.some Jvm.ClassFile.FieldType.int) [((22 : Nat), (36 : Nat), (37 : Nat), (273 : Nat)), ((22 : Nat), (36 : Nat), (45 : Nat), (275 : Nat)), ((22 : Nat), (36 : Nat), (53 : Nat), (247 : Nat))]) ∈ lw_all := lw_g (lw_at lw_m4 101 rfl) rfl
theorem q862 : (Jvm.Cond.instanceMethod ({ cls := "FairFight", name := "copy", desc := "(IIIII)I" } : Jvm.MethodName)) ∈ lw_all := lw_g (lw_at lw_m4 103 rfl) rfl
theorem q863 : (Jvm.Cond.selects "FairFight" ({ cls := "FairFight", name := "copy", desc := "(IIIII)I" } : Jvm.MethodName) ({ cls := "FairFight", name := "copy", desc := "(IIIII)I" } : Jvm.MethodName)) ∈ lw_all := lw_g (lw_at lw_m4 104 rfl) rfl
theorem q864 : (Jvm.Cond.codeWith ({ cls := "FairFight", name := "copy", desc := "(IIIII)I" } : Jvm.MethodName) prog_1_method_48_code (9 : Nat) (Option.some Jvm.ClassFile.FieldType.int) [((68 : Nat), (87 : Nat), (88 : Nat), (273 : Nat)), ((68 : Nat), (87 : Nat), (96 : Nat), (277 : Nat))]) ∈ lw_all := lw_g (lw_at lw_m4 105 rfl) rfl
theorem q865 : (Jvm.Cond.classLink "FairFight" (277 : Nat) "java/lang/IndexOutOfBoundsException") ∈ lw_all := lw_g (lw_at lw_m4 106 rfl) rfl
theorem q867 : (Jvm.Cond.instanceMethod ({ cls := "FairFight", name := "shake", desc := "(II)I" } : Jvm.MethodName)) ∈ lw_all := lw_g (lw_at lw_m4 108 rfl) rfl
theorem q868 : (Jvm.Cond.selects "FairFight" ({ cls := "FairFight", name := "shake", desc := "(II)I" } : Jvm.MethodName) ({ cls := "FairFight", name := "shake", desc := "(II)I" } : Jvm.MethodName)) ∈ lw_all := lw_g (lw_at lw_m4 109 rfl) rfl
theorem q869 : (Jvm.Cond.code ({ cls := "FairFight", name := "shake", desc := "(II)I" } : Jvm.MethodName) prog_1_method_49_code (6 : Nat) (Option.some Jvm.ClassFile.FieldType.int)) ∈ lw_all := lw_g (lw_at lw_m4 110 rfl) rfl
theorem q870 : (Jvm.Cond.constant "FairFight" (279 : Nat) (1103515245 : Int32)) ∈ lw_all := lw_g (lw_at lw_m4 111 rfl) rfl
theorem q872 : (Jvm.Cond.instanceMethod ({ cls := "FairFight", name := "count", desc := "(I)I" } : Jvm.MethodName)) ∈ lw_all := lw_g (lw_at lw_m4 113 rfl) rfl
theorem q873 : (Jvm.Cond.selects "FairFight" ({ cls := "FairFight", name := "count", desc := "(I)I" } : Jvm.MethodName) ({ cls := "FairFight", name := "count", desc := "(I)I" } : Jvm.MethodName)) ∈ lw_all := lw_g (lw_at lw_m4 114 rfl) rfl
theorem q874 : (Jvm.Cond.code ({ cls := "FairFight", name := "count", desc := "(I)I" } : Jvm.MethodName) prog_1_method_50_code (2 : Nat) (Option.some Jvm.ClassFile.FieldType.int)) ∈ lw_all := lw_g (lw_at lw_m4 115 rfl) rfl
theorem q876 : (Jvm.Cond.instanceMethod ({ cls := "FairFight", name := "digest", desc := "()J" } : Jvm.MethodName)) ∈ lw_all := lw_g (lw_at lw_m4 117 rfl) rfl
theorem q877 : (Jvm.Cond.selects "FairFight" ({ cls := "FairFight", name := "digest", desc := "()J" } : Jvm.MethodName) ({ cls := "FairFight", name := "digest", desc := "()J" } : Jvm.MethodName)) ∈ lw_all := lw_g (lw_at lw_m4 118 rfl) rfl
theorem q878 : (Jvm.Cond.code ({ cls := "FairFight", name := "digest", desc := "()J" } : Jvm.MethodName) prog_1_method_51_code (5 : Nat) (Option.some Jvm.ClassFile.FieldType.long)) ∈ lw_all := lw_g (lw_at lw_m4 119 rfl) rfl
theorem q879 : (Jvm.Cond.constantLong "FairFight" (280 : Nat) (17 : Int64)) ∈ lw_all := lw_g (lw_at lw_m4 120 rfl) rfl
theorem q880 : (Jvm.Cond.constantLong "FairFight" (282 : Nat) (31 : Int64)) ∈ lw_all := lw_g (lw_at lw_m4 121 rfl) rfl
theorem q881 : (Jvm.Cond.methodLink "FairFight" (284 : Nat) ({ cls := "FairFight", name := "count", desc := "(I)I" } : Jvm.MethodName)) ∈ lw_all := lw_g (lw_at lw_m4 122 rfl) rfl
theorem q1285 : (Jvm.Cond.castable "FairFight" "java/lang/Object") ∈ lw_tbl := lw_at lw_m6 46 rfl
theorem in_X0 : ∀ w ∈ wsX00, w ∈ lw_all := lw_in wsX00 [171, 173, 175, 177, 179, 181, 183, 185, 187, 189, 191, 193, 195, 197, 199, 201, 203, 205] (by decide +kernel) (by decide +kernel)
