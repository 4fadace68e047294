/-! FairFight$Table -/
set_option maxRecDepth 100000
def RX1 : String := "FairFight$Table"
def TX1 : u_T := fun k => match k with
  | 0 => ("FairFight$Table", "keys", "[J", true)
  | 1 => ("FairFight$Table", "ways", "[J", true)
  | 2 => ("FairFight$Table", "used", "[I", true)
  | _ => ("FairFight$Table", "many", "I", false)
def tyX1 : Nat → FieldType := fun k => match k with
  | 0 => .array .long
  | 1 => .array .long
  | 2 => .array .int
  | _ => .int
abbrev wsX10 : List Cond := u_ws RX1 TX1 4
theorem nmX1 : ∀ a, a < 4 → ∀ b, b < 4 → a ≠ b → (TX1 a).2.1 ≠ (TX1 b).2.1 := by decide +kernel
theorem tyX1_ok : ∀ k, k < 4 → parseFieldDescriptor (TX1 k).2.2.1 = some (tyX1 k) := by decide +kernel
abbrev cX1_init : ByteArray := prog_10_method_1_code
def yX1_init : MethodName := ⟨RX1, "<init>", "()V"⟩
def dkwX1_init_1 : List UInt8 := [17, 1, 146, 188, 10, 181, 0, 18, 177]
abbrev dktX1_init_1 : List UInt8 := dkwX1_init_1 ++ []
def dkwX1_init_0 : List UInt8 := [42, 183, 0, 3, 42, 17, 8, 0, 188, 11, 181, 0, 11, 42, 17, 8, 0, 188, 11, 181, 0, 15, 42]
abbrev dktX1_init_0 : List UInt8 := dkwX1_init_0 ++ dktX1_init_1
theorem dksX1_init_0 : cX1_init.data.toList.drop 0 = dktX1_init_0 := by decide +kernel
theorem dksX1_init_1 : cX1_init.data.toList.drop 23 = dktX1_init_1 := dk_seg dksX1_init_0 23 rfl rfl
theorem dX1_init_0 : decode cX1_init 0 = .ok (.aload_n 0, 1) := dk_42 (dk_at dksX1_init_0 0 rfl rfl)
theorem dX1_init_1 : decode cX1_init 1 = .ok (.invokespecial 3, 3) := dk_183 0 3 (dk_at dksX1_init_0 1 rfl rfl)
theorem dX1_init_4 : decode cX1_init 4 = .ok (.aload_n 0, 1) := dk_42 (dk_at dksX1_init_0 4 rfl rfl)
theorem dX1_init_5 : decode cX1_init 5 = .ok (.sipush 2048, 3) := dk_17 8 0 (dk_at dksX1_init_0 5 rfl rfl)
theorem dX1_init_8 : decode cX1_init 8 = .ok (.newarray .long, 2) := dk_188_11 (dk_at dksX1_init_0 8 rfl rfl)
theorem dX1_init_10 : decode cX1_init 10 = .ok (.putfield 11, 3) := dk_181 0 11 (dk_at dksX1_init_0 10 rfl rfl)
theorem dX1_init_13 : decode cX1_init 13 = .ok (.aload_n 0, 1) := dk_42 (dk_at dksX1_init_0 13 rfl rfl)
theorem dX1_init_14 : decode cX1_init 14 = .ok (.sipush 2048, 3) := dk_17 8 0 (dk_at dksX1_init_0 14 rfl rfl)
theorem dX1_init_17 : decode cX1_init 17 = .ok (.newarray .long, 2) := dk_188_11 (dk_at dksX1_init_0 17 rfl rfl)
theorem dX1_init_19 : decode cX1_init 19 = .ok (.putfield 15, 3) := dk_181 0 15 (dk_at dksX1_init_0 19 rfl rfl)
theorem dX1_init_22 : decode cX1_init 22 = .ok (.aload_n 0, 1) := dk_42 (dk_at dksX1_init_0 22 rfl rfl)
theorem dX1_init_23 : decode cX1_init 23 = .ok (.sipush 402, 3) := dk_17 1 146 (dk_at dksX1_init_1 0 rfl rfl)
theorem dX1_init_26 : decode cX1_init 26 = .ok (.newarray .int, 2) := dk_188_10 (dk_at dksX1_init_1 3 rfl rfl)
theorem dX1_init_28 : decode cX1_init 28 = .ok (.putfield 18, 3) := dk_181 0 18 (dk_at dksX1_init_1 5 rfl rfl)
theorem dX1_init_31 : decode cX1_init 31 = .ok (.return_, 1) := dk_177 (dk_at dksX1_init_1 8 rfl rfl)
abbrev cX1_clear : ByteArray := prog_10_method_2_code
def yX1_clear : MethodName := ⟨RX1, "clear", "()V"⟩
def dkwX1_clear_1 : List UInt8 := [132, 1, 1, 167, 255, 233, 42, 3, 181, 0, 22, 177]
abbrev dktX1_clear_1 : List UInt8 := dkwX1_clear_1 ++ []
def dkwX1_clear_0 : List UInt8 := [3, 60, 27, 42, 180, 0, 22, 162, 0, 21, 42, 180, 0, 15, 42, 180, 0, 18, 27, 46, 9, 80]
abbrev dktX1_clear_0 : List UInt8 := dkwX1_clear_0 ++ dktX1_clear_1
theorem dksX1_clear_0 : cX1_clear.data.toList.drop 0 = dktX1_clear_0 := by decide +kernel
theorem dksX1_clear_1 : cX1_clear.data.toList.drop 22 = dktX1_clear_1 := dk_seg dksX1_clear_0 22 rfl rfl
theorem dX1_clear_0 : decode cX1_clear 0 = .ok (.iconst 0, 1) := dk_3 (dk_at dksX1_clear_0 0 rfl rfl)
theorem dX1_clear_1 : decode cX1_clear 1 = .ok (.istore_n 1, 1) := dk_60 (dk_at dksX1_clear_0 1 rfl rfl)
theorem dX1_clear_2 : decode cX1_clear 2 = .ok (.iload_n 1, 1) := dk_27 (dk_at dksX1_clear_0 2 rfl rfl)
theorem dX1_clear_3 : decode cX1_clear 3 = .ok (.aload_n 0, 1) := dk_42 (dk_at dksX1_clear_0 3 rfl rfl)
theorem dX1_clear_4 : decode cX1_clear 4 = .ok (.getfield 22, 3) := dk_180 0 22 (dk_at dksX1_clear_0 4 rfl rfl)
theorem dX1_clear_7 : decode cX1_clear 7 = .ok (.if_icmp .ge 21, 3) := dk_162 0 21 (dk_at dksX1_clear_0 7 rfl rfl)
theorem dX1_clear_10 : decode cX1_clear 10 = .ok (.aload_n 0, 1) := dk_42 (dk_at dksX1_clear_0 10 rfl rfl)
theorem dX1_clear_11 : decode cX1_clear 11 = .ok (.getfield 15, 3) := dk_180 0 15 (dk_at dksX1_clear_0 11 rfl rfl)
theorem dX1_clear_14 : decode cX1_clear 14 = .ok (.aload_n 0, 1) := dk_42 (dk_at dksX1_clear_0 14 rfl rfl)
theorem dX1_clear_15 : decode cX1_clear 15 = .ok (.getfield 18, 3) := dk_180 0 18 (dk_at dksX1_clear_0 15 rfl rfl)
theorem dX1_clear_18 : decode cX1_clear 18 = .ok (.iload_n 1, 1) := dk_27 (dk_at dksX1_clear_0 18 rfl rfl)
theorem dX1_clear_19 : decode cX1_clear 19 = .ok (.iaload, 1) := dk_46 (dk_at dksX1_clear_0 19 rfl rfl)
theorem dX1_clear_20 : decode cX1_clear 20 = .ok (.lconst 0, 1) := dk_9 (dk_at dksX1_clear_0 20 rfl rfl)
theorem dX1_clear_21 : decode cX1_clear 21 = .ok (.lastore, 1) := dk_80 (dk_at dksX1_clear_0 21 rfl rfl)
theorem dX1_clear_22 : decode cX1_clear 22 = .ok (.iinc 1 1, 3) := dk_132 1 1 (dk_at dksX1_clear_1 0 rfl rfl)
theorem dX1_clear_25 : decode cX1_clear 25 = .ok (.goto (-23), 3) := dk_167 255 233 (dk_at dksX1_clear_1 3 rfl rfl)
theorem dX1_clear_28 : decode cX1_clear 28 = .ok (.aload_n 0, 1) := dk_42 (dk_at dksX1_clear_1 6 rfl rfl)
theorem dX1_clear_29 : decode cX1_clear 29 = .ok (.iconst 0, 1) := dk_3 (dk_at dksX1_clear_1 7 rfl rfl)
theorem dX1_clear_30 : decode cX1_clear 30 = .ok (.putfield 22, 3) := dk_181 0 22 (dk_at dksX1_clear_1 8 rfl rfl)
theorem dX1_clear_33 : decode cX1_clear 33 = .ok (.return_, 1) := dk_177 (dk_at dksX1_clear_1 11 rfl rfl)
abbrev cX1_add : ByteArray := prog_10_method_3_code
def yX1_add : MethodName := ⟨RX1, "add", "(JJ)Z"⟩
def dkwX1_add_5 : List UInt8 := [33, 97, 80, 4, 172]
abbrev dktX1_add_5 : List UInt8 := dkwX1_add_5 ++ []
def dkwX1_add_4 : List UInt8 := [180, 0, 22, 21, 5, 79, 42, 89, 180, 0, 22, 4, 96, 181, 0, 22, 42, 180, 0, 15, 21, 5, 92, 47]
abbrev dktX1_add_4 : List UInt8 := dkwX1_add_4 ++ dktX1_add_5
def dkwX1_add_3 : List UInt8 := [180, 0, 22, 17, 1, 144, 164, 0, 5, 3, 172, 42, 180, 0, 11, 21, 5, 31, 80, 42, 180, 0, 18, 42]
abbrev dktX1_add_3 : List UInt8 := dkwX1_add_3 ++ dktX1_add_4
def dkwX1_add_2 : List UInt8 := [17, 7, 255, 126, 54, 5, 167, 255, 222, 42, 180, 0, 15, 21, 5, 47, 9, 148, 154, 0, 44, 42]
abbrev dktX1_add_2 : List UInt8 := dkwX1_add_2 ++ dktX1_add_3
def dkwX1_add_1 : List UInt8 := [47, 9, 148, 153, 0, 28, 42, 180, 0, 11, 21, 5, 47, 31, 148, 153, 0, 16, 21, 5, 4, 96]
abbrev dktX1_add_1 : List UInt8 := dkwX1_add_1 ++ dktX1_add_2
def dkwX1_add_0 : List UInt8 := [31, 31, 16, 17, 125, 131, 31, 16, 31, 125, 131, 20, 0, 26, 127, 136, 54, 5, 42, 180, 0, 15, 21, 5]
abbrev dktX1_add_0 : List UInt8 := dkwX1_add_0 ++ dktX1_add_1
theorem dksX1_add_0 : cX1_add.data.toList.drop 0 = dktX1_add_0 := by decide +kernel
theorem dksX1_add_1 : cX1_add.data.toList.drop 24 = dktX1_add_1 := dk_seg dksX1_add_0 24 rfl rfl
theorem dksX1_add_2 : cX1_add.data.toList.drop 46 = dktX1_add_2 := dk_seg dksX1_add_1 22 rfl rfl
theorem dksX1_add_3 : cX1_add.data.toList.drop 68 = dktX1_add_3 := dk_seg dksX1_add_2 22 rfl rfl
theorem dksX1_add_4 : cX1_add.data.toList.drop 92 = dktX1_add_4 := dk_seg dksX1_add_3 24 rfl rfl
theorem dksX1_add_5 : cX1_add.data.toList.drop 116 = dktX1_add_5 := dk_seg dksX1_add_4 24 rfl rfl
theorem dX1_add_0 : decode cX1_add 0 = .ok (.lload_n 1, 1) := dk_31 (dk_at dksX1_add_0 0 rfl rfl)
theorem dX1_add_1 : decode cX1_add 1 = .ok (.lload_n 1, 1) := dk_31 (dk_at dksX1_add_0 1 rfl rfl)
theorem dX1_add_2 : decode cX1_add 2 = .ok (.bipush 17, 2) := dk_16 17 (dk_at dksX1_add_0 2 rfl rfl)
theorem dX1_add_4 : decode cX1_add 4 = .ok (.lushr, 1) := dk_125 (dk_at dksX1_add_0 4 rfl rfl)
theorem dX1_add_5 : decode cX1_add 5 = .ok (.lxor, 1) := dk_131 (dk_at dksX1_add_0 5 rfl rfl)
theorem dX1_add_6 : decode cX1_add 6 = .ok (.lload_n 1, 1) := dk_31 (dk_at dksX1_add_0 6 rfl rfl)
theorem dX1_add_7 : decode cX1_add 7 = .ok (.bipush 31, 2) := dk_16 31 (dk_at dksX1_add_0 7 rfl rfl)
theorem dX1_add_9 : decode cX1_add 9 = .ok (.lushr, 1) := dk_125 (dk_at dksX1_add_0 9 rfl rfl)
theorem dX1_add_10 : decode cX1_add 10 = .ok (.lxor, 1) := dk_131 (dk_at dksX1_add_0 10 rfl rfl)
theorem dX1_add_11 : decode cX1_add 11 = .ok (.ldc2_w 26, 3) := dk_20 0 26 (dk_at dksX1_add_0 11 rfl rfl)
theorem dX1_add_14 : decode cX1_add 14 = .ok (.land, 1) := dk_127 (dk_at dksX1_add_0 14 rfl rfl)
theorem dX1_add_15 : decode cX1_add 15 = .ok (.l2i, 1) := dk_136 (dk_at dksX1_add_0 15 rfl rfl)
theorem dX1_add_16 : decode cX1_add 16 = .ok (.istore 5, 2) := dk_54 5 (dk_at dksX1_add_0 16 rfl rfl)
theorem dX1_add_18 : decode cX1_add 18 = .ok (.aload_n 0, 1) := dk_42 (dk_at dksX1_add_0 18 rfl rfl)
theorem dX1_add_19 : decode cX1_add 19 = .ok (.getfield 15, 3) := dk_180 0 15 (dk_at dksX1_add_0 19 rfl rfl)
theorem dX1_add_22 : decode cX1_add 22 = .ok (.iload 5, 2) := dk_21 5 (dk_at dksX1_add_0 22 rfl rfl)
theorem dX1_add_24 : decode cX1_add 24 = .ok (.laload, 1) := dk_47 (dk_at dksX1_add_1 0 rfl rfl)
theorem dX1_add_25 : decode cX1_add 25 = .ok (.lconst 0, 1) := dk_9 (dk_at dksX1_add_1 1 rfl rfl)
theorem dX1_add_26 : decode cX1_add 26 = .ok (.lcmp, 1) := dk_148 (dk_at dksX1_add_1 2 rfl rfl)
theorem dX1_add_27 : decode cX1_add 27 = .ok (.ifCond .eq 28, 3) := dk_153 0 28 (dk_at dksX1_add_1 3 rfl rfl)
theorem dX1_add_30 : decode cX1_add 30 = .ok (.aload_n 0, 1) := dk_42 (dk_at dksX1_add_1 6 rfl rfl)
theorem dX1_add_31 : decode cX1_add 31 = .ok (.getfield 11, 3) := dk_180 0 11 (dk_at dksX1_add_1 7 rfl rfl)
theorem dX1_add_34 : decode cX1_add 34 = .ok (.iload 5, 2) := dk_21 5 (dk_at dksX1_add_1 10 rfl rfl)
theorem dX1_add_36 : decode cX1_add 36 = .ok (.laload, 1) := dk_47 (dk_at dksX1_add_1 12 rfl rfl)
theorem dX1_add_37 : decode cX1_add 37 = .ok (.lload_n 1, 1) := dk_31 (dk_at dksX1_add_1 13 rfl rfl)
theorem dX1_add_38 : decode cX1_add 38 = .ok (.lcmp, 1) := dk_148 (dk_at dksX1_add_1 14 rfl rfl)
theorem dX1_add_39 : decode cX1_add 39 = .ok (.ifCond .eq 16, 3) := dk_153 0 16 (dk_at dksX1_add_1 15 rfl rfl)
theorem dX1_add_42 : decode cX1_add 42 = .ok (.iload 5, 2) := dk_21 5 (dk_at dksX1_add_1 18 rfl rfl)
theorem dX1_add_44 : decode cX1_add 44 = .ok (.iconst 1, 1) := dk_4 (dk_at dksX1_add_1 20 rfl rfl)
theorem dX1_add_45 : decode cX1_add 45 = .ok (.iadd, 1) := dk_96 (dk_at dksX1_add_1 21 rfl rfl)
theorem dX1_add_46 : decode cX1_add 46 = .ok (.sipush 2047, 3) := dk_17 7 255 (dk_at dksX1_add_2 0 rfl rfl)
theorem dX1_add_49 : decode cX1_add 49 = .ok (.iand, 1) := dk_126 (dk_at dksX1_add_2 3 rfl rfl)
theorem dX1_add_50 : decode cX1_add 50 = .ok (.istore 5, 2) := dk_54 5 (dk_at dksX1_add_2 4 rfl rfl)
theorem dX1_add_52 : decode cX1_add 52 = .ok (.goto (-34), 3) := dk_167 255 222 (dk_at dksX1_add_2 6 rfl rfl)
theorem dX1_add_55 : decode cX1_add 55 = .ok (.aload_n 0, 1) := dk_42 (dk_at dksX1_add_2 9 rfl rfl)
theorem dX1_add_56 : decode cX1_add 56 = .ok (.getfield 15, 3) := dk_180 0 15 (dk_at dksX1_add_2 10 rfl rfl)
theorem dX1_add_59 : decode cX1_add 59 = .ok (.iload 5, 2) := dk_21 5 (dk_at dksX1_add_2 13 rfl rfl)
theorem dX1_add_61 : decode cX1_add 61 = .ok (.laload, 1) := dk_47 (dk_at dksX1_add_2 15 rfl rfl)
theorem dX1_add_62 : decode cX1_add 62 = .ok (.lconst 0, 1) := dk_9 (dk_at dksX1_add_2 16 rfl rfl)
theorem dX1_add_63 : decode cX1_add 63 = .ok (.lcmp, 1) := dk_148 (dk_at dksX1_add_2 17 rfl rfl)
theorem dX1_add_64 : decode cX1_add 64 = .ok (.ifCond .ne 44, 3) := dk_154 0 44 (dk_at dksX1_add_2 18 rfl rfl)
theorem dX1_add_67 : decode cX1_add 67 = .ok (.aload_n 0, 1) := dk_42 (dk_at dksX1_add_2 21 rfl rfl)
theorem dX1_add_68 : decode cX1_add 68 = .ok (.getfield 22, 3) := dk_180 0 22 (dk_at dksX1_add_3 0 rfl rfl)
theorem dX1_add_71 : decode cX1_add 71 = .ok (.sipush 400, 3) := dk_17 1 144 (dk_at dksX1_add_3 3 rfl rfl)
theorem dX1_add_74 : decode cX1_add 74 = .ok (.if_icmp .le 5, 3) := dk_164 0 5 (dk_at dksX1_add_3 6 rfl rfl)
theorem dX1_add_77 : decode cX1_add 77 = .ok (.iconst 0, 1) := dk_3 (dk_at dksX1_add_3 9 rfl rfl)
theorem dX1_add_78 : decode cX1_add 78 = .ok (.ireturn, 1) := dk_172 (dk_at dksX1_add_3 10 rfl rfl)
theorem dX1_add_79 : decode cX1_add 79 = .ok (.aload_n 0, 1) := dk_42 (dk_at dksX1_add_3 11 rfl rfl)
theorem dX1_add_80 : decode cX1_add 80 = .ok (.getfield 11, 3) := dk_180 0 11 (dk_at dksX1_add_3 12 rfl rfl)
theorem dX1_add_83 : decode cX1_add 83 = .ok (.iload 5, 2) := dk_21 5 (dk_at dksX1_add_3 15 rfl rfl)
theorem dX1_add_85 : decode cX1_add 85 = .ok (.lload_n 1, 1) := dk_31 (dk_at dksX1_add_3 17 rfl rfl)
theorem dX1_add_86 : decode cX1_add 86 = .ok (.lastore, 1) := dk_80 (dk_at dksX1_add_3 18 rfl rfl)
theorem dX1_add_87 : decode cX1_add 87 = .ok (.aload_n 0, 1) := dk_42 (dk_at dksX1_add_3 19 rfl rfl)
theorem dX1_add_88 : decode cX1_add 88 = .ok (.getfield 18, 3) := dk_180 0 18 (dk_at dksX1_add_3 20 rfl rfl)
theorem dX1_add_91 : decode cX1_add 91 = .ok (.aload_n 0, 1) := dk_42 (dk_at dksX1_add_3 23 rfl rfl)
theorem dX1_add_92 : decode cX1_add 92 = .ok (.getfield 22, 3) := dk_180 0 22 (dk_at dksX1_add_4 0 rfl rfl)
theorem dX1_add_95 : decode cX1_add 95 = .ok (.iload 5, 2) := dk_21 5 (dk_at dksX1_add_4 3 rfl rfl)
theorem dX1_add_97 : decode cX1_add 97 = .ok (.iastore, 1) := dk_79 (dk_at dksX1_add_4 5 rfl rfl)
theorem dX1_add_98 : decode cX1_add 98 = .ok (.aload_n 0, 1) := dk_42 (dk_at dksX1_add_4 6 rfl rfl)
theorem dX1_add_99 : decode cX1_add 99 = .ok (.dup, 1) := dk_89 (dk_at dksX1_add_4 7 rfl rfl)
theorem dX1_add_100 : decode cX1_add 100 = .ok (.getfield 22, 3) := dk_180 0 22 (dk_at dksX1_add_4 8 rfl rfl)
theorem dX1_add_103 : decode cX1_add 103 = .ok (.iconst 1, 1) := dk_4 (dk_at dksX1_add_4 11 rfl rfl)
theorem dX1_add_104 : decode cX1_add 104 = .ok (.iadd, 1) := dk_96 (dk_at dksX1_add_4 12 rfl rfl)
theorem dX1_add_105 : decode cX1_add 105 = .ok (.putfield 22, 3) := dk_181 0 22 (dk_at dksX1_add_4 13 rfl rfl)
theorem dX1_add_108 : decode cX1_add 108 = .ok (.aload_n 0, 1) := dk_42 (dk_at dksX1_add_4 16 rfl rfl)
theorem dX1_add_109 : decode cX1_add 109 = .ok (.getfield 15, 3) := dk_180 0 15 (dk_at dksX1_add_4 17 rfl rfl)
theorem dX1_add_112 : decode cX1_add 112 = .ok (.iload 5, 2) := dk_21 5 (dk_at dksX1_add_4 20 rfl rfl)
theorem dX1_add_114 : decode cX1_add 114 = .ok (.dup2, 1) := dk_92 (dk_at dksX1_add_4 22 rfl rfl)
theorem dX1_add_115 : decode cX1_add 115 = .ok (.laload, 1) := dk_47 (dk_at dksX1_add_4 23 rfl rfl)
theorem dX1_add_116 : decode cX1_add 116 = .ok (.lload_n 3, 1) := dk_33 (dk_at dksX1_add_5 0 rfl rfl)
theorem dX1_add_117 : decode cX1_add 117 = .ok (.ladd, 1) := dk_97 (dk_at dksX1_add_5 1 rfl rfl)
theorem dX1_add_118 : decode cX1_add 118 = .ok (.lastore, 1) := dk_80 (dk_at dksX1_add_5 2 rfl rfl)
theorem dX1_add_119 : decode cX1_add 119 = .ok (.iconst 1, 1) := dk_4 (dk_at dksX1_add_5 3 rfl rfl)
theorem dX1_add_120 : decode cX1_add 120 = .ok (.ireturn, 1) := dk_172 (dk_at dksX1_add_5 4 rfl rfl)
theorem q41 : (Jvm.Cond.initialized "FairFight$Table") ∈ lw_all := lw_g (lw_at lw_m1 2 rfl) rfl
theorem q81 : (Jvm.Cond.instantiable "FairFight$Table" (4 : Nat)) ∈ lw_all := lw_g (lw_at lw_m1 42 rfl) rfl
theorem q83 : (Jvm.Cond.instanceMethod ({ cls := "FairFight$Table", name := "<init>", desc := "()V" } : Jvm.MethodName)) ∈ lw_all := lw_g (lw_at lw_m1 44 rfl) rfl
theorem q84 : (Jvm.Cond.code ({ cls := "FairFight$Table", name := "<init>", desc := "()V" } : Jvm.MethodName) prog_10_method_1_code (1 : Nat) (Option.none : Option Jvm.ClassFile.FieldType)) ∈ lw_all := lw_g (lw_at lw_m1 45 rfl) rfl
theorem q85 : (Jvm.Cond.methodLink "FairFight$Table" (3 : Nat) ({ cls := "java/lang/Object", name := "<init>", desc := "()V" } : Jvm.MethodName)) ∈ lw_all := lw_g (lw_at lw_m1 46 rfl) rfl
theorem q86 : (Jvm.Cond.fieldLink "FairFight$Table" (11 : Nat) "FairFight$Table" "keys" "[J") ∈ lw_all := lw_g (lw_at lw_m1 47 rfl) rfl
theorem q88 : (Jvm.Cond.fieldLink "FairFight$Table" (15 : Nat) "FairFight$Table" "ways" "[J") ∈ lw_all := lw_g (lw_at lw_m1 49 rfl) rfl
theorem q90 : (Jvm.Cond.fieldLink "FairFight$Table" (18 : Nat) "FairFight$Table" "used" "[I") ∈ lw_all := lw_g (lw_at lw_m1 51 rfl) rfl
theorem q92 : (Jvm.Cond.fieldLink "FairFight$Table" (22 : Nat) "FairFight$Table" "many" "I") ∈ lw_all := lw_g (lw_at lw_m1 53 rfl) rfl
theorem q94 : (Jvm.Cond.laysFinal "FairFight$Table" "FairFight$Table" "keys" "[J") ∈ lw_all := lw_g (lw_at lw_m1 55 rfl) rfl
theorem q95 : (Jvm.Cond.soleField "FairFight$Table" "keys") ∈ lw_all := lw_g (lw_at lw_m1 56 rfl) rfl
theorem q96 : (Jvm.Cond.laysFinal "FairFight$Table" "FairFight$Table" "ways" "[J") ∈ lw_all := lw_g (lw_at lw_m1 57 rfl) rfl
theorem q97 : (Jvm.Cond.soleField "FairFight$Table" "ways") ∈ lw_all := lw_g (lw_at lw_m1 58 rfl) rfl
theorem q98 : (Jvm.Cond.laysFinal "FairFight$Table" "FairFight$Table" "used" "[I") ∈ lw_all := lw_g (lw_at lw_m1 59 rfl) rfl
theorem q99 : (Jvm.Cond.soleField "FairFight$Table" "used") ∈ lw_all := lw_g (lw_at lw_m1 60 rfl) rfl
theorem q100 : (Jvm.Cond.lays "FairFight$Table" "FairFight$Table" "many" "I") ∈ lw_all := lw_g (lw_at lw_m1 61 rfl) rfl
theorem q101 : (Jvm.Cond.soleField "FairFight$Table" "many") ∈ lw_all := lw_g (lw_at lw_m1 62 rfl) rfl
theorem q102 : (Jvm.Cond.superclass "FairFight$Table" "java/lang/Object") ∈ lw_all := lw_g (lw_at lw_m1 63 rfl) rfl
theorem q363 : (Jvm.Cond.instanceMethod ({ cls := "FairFight$Table", name := "clear", desc := "()V" } : Jvm.MethodName)) ∈ lw_all := lw_g (lw_at lw_m2 84 rfl) rfl
theorem q364 : (Jvm.Cond.selects "FairFight$Table" ({ cls := "FairFight$Table", name := "clear", desc := "()V" } : Jvm.MethodName) ({ cls := "FairFight$Table", name := "clear", desc := "()V" } : Jvm.MethodName)) ∈ lw_all := lw_g (lw_at lw_m2 85 rfl) rfl
theorem q365 : (Jvm.Cond.code ({ cls := "FairFight$Table", name := "clear", desc := "()V" } : Jvm.MethodName) prog_10_method_2_code (2 : Nat) (Option.none : Option Jvm.ClassFile.FieldType)) ∈ lw_all := lw_g (lw_at lw_m2 86 rfl) rfl
theorem q384 : (Jvm.Cond.instanceMethod ({ cls := "FairFight$Table", name := "add", desc := "(JJ)Z" } : Jvm.MethodName)) ∈ lw_all := lw_g (lw_at lw_m2 105 rfl) rfl
theorem q385 : (Jvm.Cond.selects "FairFight$Table" ({ cls := "FairFight$Table", name := "add", desc := "(JJ)Z" } : Jvm.MethodName) ({ cls := "FairFight$Table", name := "add", desc := "(JJ)Z" } : Jvm.MethodName)) ∈ lw_all := lw_g (lw_at lw_m2 106 rfl) rfl
theorem q386 : (Jvm.Cond.code ({ cls := "FairFight$Table", name := "add", desc := "(JJ)Z" } : Jvm.MethodName) prog_10_method_3_code (6 : Nat) (Option.some Jvm.ClassFile.FieldType.boolean)) ∈ lw_all := lw_g (lw_at lw_m2 107 rfl) rfl
theorem q387 : (Jvm.Cond.constantLong "FairFight$Table" (26 : Nat) (2047 : Int64)) ∈ lw_all := lw_g (lw_at lw_m2 108 rfl) rfl
theorem q562 : (Jvm.Cond.selects "FairFight$Table" ({ cls := "java/lang/Object", name := "getClass", desc := "()Ljava/lang/Class;" } : Jvm.MethodName) ({ cls := "java/lang/Object", name := "getClass", desc := "()Ljava/lang/Class;" } : Jvm.MethodName)) ∈ lw_all := lw_g (lw_at lw_m3 43 rfl) rfl
theorem q1286 : (Jvm.Cond.castable "FairFight$Table" "java/lang/Object") ∈ lw_tbl := lw_at lw_m6 47 rfl
theorem in_X1 : ∀ w ∈ wsX10, w ∈ lw_all := lw_in wsX10 [94, 96, 98, 100] (by decide +kernel) (by decide +kernel)
/-! FairFight$Sheet -/
set_option maxRecDepth 100000
def RX2 : String := "FairFight$Sheet"
def TX2 : u_T := fun k => match k with
  | 0 => ("FairFight$Sheet", "form", "I", false)
  | _ => ("FairFight$Sheet", "row", "Ljava/lang/Object;", false)
def tyX2 : Nat → FieldType := fun k => match k with
  | 0 => .int
  | _ => .object "java/lang/Object"
abbrev wsX20 : List Cond := u_ws RX2 TX2 2
theorem nmX2 : ∀ a, a < 2 → ∀ b, b < 2 → a ≠ b → (TX2 a).2.1 ≠ (TX2 b).2.1 := by decide +kernel
theorem tyX2_ok : ∀ k, k < 2 → parseFieldDescriptor (TX2 k).2.2.1 = some (tyX2 k) := by decide +kernel
abbrev cX2_init : ByteArray := prog_8_method_1_code
def yX2_init : MethodName := ⟨RX2, "<init>", "()V"⟩
theorem dX2_init_0 : decode cX2_init 0 = .ok (.aload_n 0, 1) := by decide +kernel
theorem dX2_init_1 : decode cX2_init 1 = .ok (.invokespecial 1, 3) := by decide +kernel
theorem dX2_init_4 : decode cX2_init 4 = .ok (.return_, 1) := by decide +kernel
abbrev cX2_size : ByteArray := prog_8_method_2_code
def yX2_size : MethodName := ⟨RX2, "size", "()I"⟩
def dkwX2_size_1 : List UInt8 := [160, 0, 14, 42, 180, 0, 13, 192, 0, 19, 190, 167, 0, 11, 42, 180, 0, 13, 192, 0, 21, 190, 172]
abbrev dktX2_size_1 : List UInt8 := dkwX2_size_1 ++ []
def dkwX2_size_0 : List UInt8 := [42, 180, 0, 7, 154, 0, 14, 42, 180, 0, 13, 192, 0, 17, 190, 167, 0, 30, 42, 180, 0, 7, 4]
abbrev dktX2_size_0 : List UInt8 := dkwX2_size_0 ++ dktX2_size_1
theorem dksX2_size_0 : cX2_size.data.toList.drop 0 = dktX2_size_0 := by decide +kernel
theorem dksX2_size_1 : cX2_size.data.toList.drop 23 = dktX2_size_1 := dk_seg dksX2_size_0 23 rfl rfl
theorem dX2_size_0 : decode cX2_size 0 = .ok (.aload_n 0, 1) := dk_42 (dk_at dksX2_size_0 0 rfl rfl)
theorem dX2_size_1 : decode cX2_size 1 = .ok (.getfield 7, 3) := dk_180 0 7 (dk_at dksX2_size_0 1 rfl rfl)
theorem dX2_size_4 : decode cX2_size 4 = .ok (.ifCond .ne 14, 3) := dk_154 0 14 (dk_at dksX2_size_0 4 rfl rfl)
theorem dX2_size_7 : decode cX2_size 7 = .ok (.aload_n 0, 1) := dk_42 (dk_at dksX2_size_0 7 rfl rfl)
theorem dX2_size_8 : decode cX2_size 8 = .ok (.getfield 13, 3) := dk_180 0 13 (dk_at dksX2_size_0 8 rfl rfl)
theorem dX2_size_11 : decode cX2_size 11 = .ok (.checkcast 17, 3) := dk_192 0 17 (dk_at dksX2_size_0 11 rfl rfl)
theorem dX2_size_14 : decode cX2_size 14 = .ok (.arraylength, 1) := dk_190 (dk_at dksX2_size_0 14 rfl rfl)
theorem dX2_size_15 : decode cX2_size 15 = .ok (.goto 30, 3) := dk_167 0 30 (dk_at dksX2_size_0 15 rfl rfl)
theorem dX2_size_18 : decode cX2_size 18 = .ok (.aload_n 0, 1) := dk_42 (dk_at dksX2_size_0 18 rfl rfl)
theorem dX2_size_19 : decode cX2_size 19 = .ok (.getfield 7, 3) := dk_180 0 7 (dk_at dksX2_size_0 19 rfl rfl)
theorem dX2_size_22 : decode cX2_size 22 = .ok (.iconst 1, 1) := dk_4 (dk_at dksX2_size_0 22 rfl rfl)
theorem dX2_size_23 : decode cX2_size 23 = .ok (.if_icmp .ne 14, 3) := dk_160 0 14 (dk_at dksX2_size_1 0 rfl rfl)
theorem dX2_size_26 : decode cX2_size 26 = .ok (.aload_n 0, 1) := dk_42 (dk_at dksX2_size_1 3 rfl rfl)
theorem dX2_size_27 : decode cX2_size 27 = .ok (.getfield 13, 3) := dk_180 0 13 (dk_at dksX2_size_1 4 rfl rfl)
theorem dX2_size_30 : decode cX2_size 30 = .ok (.checkcast 19, 3) := dk_192 0 19 (dk_at dksX2_size_1 7 rfl rfl)
theorem dX2_size_33 : decode cX2_size 33 = .ok (.arraylength, 1) := dk_190 (dk_at dksX2_size_1 10 rfl rfl)
theorem dX2_size_34 : decode cX2_size 34 = .ok (.goto 11, 3) := dk_167 0 11 (dk_at dksX2_size_1 11 rfl rfl)
theorem dX2_size_37 : decode cX2_size 37 = .ok (.aload_n 0, 1) := dk_42 (dk_at dksX2_size_1 14 rfl rfl)
theorem dX2_size_38 : decode cX2_size 38 = .ok (.getfield 13, 3) := dk_180 0 13 (dk_at dksX2_size_1 15 rfl rfl)
theorem dX2_size_41 : decode cX2_size 41 = .ok (.checkcast 21, 3) := dk_192 0 21 (dk_at dksX2_size_1 18 rfl rfl)
theorem dX2_size_44 : decode cX2_size 44 = .ok (.arraylength, 1) := dk_190 (dk_at dksX2_size_1 21 rfl rfl)
theorem dX2_size_45 : decode cX2_size 45 = .ok (.ireturn, 1) := dk_172 (dk_at dksX2_size_1 22 rfl rfl)
theorem q45 : (Jvm.Cond.initialized "FairFight$Sheet") ∈ lw_all := lw_g (lw_at lw_m1 6 rfl) rfl
theorem q133 : (Jvm.Cond.instantiable "FairFight$Sheet" (2 : Nat)) ∈ lw_all := lw_g (lw_at lw_m1 94 rfl) rfl
theorem q135 : (Jvm.Cond.instanceMethod ({ cls := "FairFight$Sheet", name := "<init>", desc := "()V" } : Jvm.MethodName)) ∈ lw_all := lw_g (lw_at lw_m1 96 rfl) rfl
theorem q136 : (Jvm.Cond.code ({ cls := "FairFight$Sheet", name := "<init>", desc := "()V" } : Jvm.MethodName) prog_8_method_1_code (1 : Nat) (Option.none : Option Jvm.ClassFile.FieldType)) ∈ lw_all := lw_g (lw_at lw_m1 97 rfl) rfl
theorem q137 : (Jvm.Cond.methodLink "FairFight$Sheet" (1 : Nat) ({ cls := "java/lang/Object", name := "<init>", desc := "()V" } : Jvm.MethodName)) ∈ lw_all := lw_g (lw_at lw_m1 98 rfl) rfl
theorem q138 : (Jvm.Cond.fieldLink "FairFight$Sheet" (7 : Nat) "FairFight$Sheet" "form" "I") ∈ lw_all := lw_g (lw_at lw_m1 99 rfl) rfl
theorem q140 : (Jvm.Cond.fieldLink "FairFight$Sheet" (13 : Nat) "FairFight$Sheet" "row" "Ljava/lang/Object;") ∈ lw_all := lw_g (lw_at lw_m1 101 rfl) rfl
theorem q142 : (Jvm.Cond.lays "FairFight$Sheet" "FairFight$Sheet" "form" "I") ∈ lw_all := lw_g (lw_at lw_m1 103 rfl) rfl
theorem q143 : (Jvm.Cond.soleField "FairFight$Sheet" "form") ∈ lw_all := lw_g (lw_at lw_m1 104 rfl) rfl
theorem q144 : (Jvm.Cond.lays "FairFight$Sheet" "FairFight$Sheet" "row" "Ljava/lang/Object;") ∈ lw_all := lw_g (lw_at lw_m1 105 rfl) rfl
theorem q145 : (Jvm.Cond.soleField "FairFight$Sheet" "row") ∈ lw_all := lw_g (lw_at lw_m1 106 rfl) rfl
theorem q146 : (Jvm.Cond.superclass "FairFight$Sheet" "java/lang/Object") ∈ lw_all := lw_g (lw_at lw_m1 107 rfl) rfl
theorem q560 : (Jvm.Cond.selects "FairFight$Sheet" ({ cls := "java/lang/Object", name := "getClass", desc := "()Ljava/lang/Class;" } : Jvm.MethodName) ({ cls := "java/lang/Object", name := "getClass", desc := "()Ljava/lang/Class;" } : Jvm.MethodName)) ∈ lw_all := lw_g (lw_at lw_m3 41 rfl) rfl
theorem q805 : (Jvm.Cond.instanceMethod ({ cls := "FairFight$Sheet", name := "size", desc := "()I" } : Jvm.MethodName)) ∈ lw_all := lw_g (lw_at lw_m4 46 rfl) rfl
theorem q806 : (Jvm.Cond.selects "FairFight$Sheet" ({ cls := "FairFight$Sheet", name := "size", desc := "()I" } : Jvm.MethodName) ({ cls := "FairFight$Sheet", name := "size", desc := "()I" } : Jvm.MethodName)) ∈ lw_all := lw_g (lw_at lw_m4 47 rfl) rfl
theorem q807 : (Jvm.Cond.code ({ cls := "FairFight$Sheet", name := "size", desc := "()I" } : Jvm.MethodName) prog_8_method_2_code (1 : Nat) (Option.some Jvm.ClassFile.FieldType.int)) ∈ lw_all := lw_g (lw_at lw_m4 48 rfl) rfl
theorem q808 : (Jvm.Cond.classLink "FairFight$Sheet" (17 : Nat) "[B") ∈ lw_all := lw_g (lw_at lw_m4 49 rfl) rfl
theorem q809 : (Jvm.Cond.classLink "FairFight$Sheet" (19 : Nat) "[S") ∈ lw_all := lw_g (lw_at lw_m4 50 rfl) rfl
theorem q810 : (Jvm.Cond.classLink "FairFight$Sheet" (21 : Nat) "[I") ∈ lw_all := lw_g (lw_at lw_m4 51 rfl) rfl
theorem q1283 : (Jvm.Cond.castable "FairFight$Sheet" "java/lang/Object") ∈ lw_tbl := lw_at lw_m6 44 rfl
theorem in_X2 : ∀ w ∈ wsX20, w ∈ lw_all := lw_in wsX20 [142, 144] (by decide +kernel) (by decide +kernel)
/-! FairFight$Fighter -/
set_option maxRecDepth 100000
def RX4 : String := "FairFight$Fighter"
def TX4 : u_T := fun k => match k with
  | _ => ("FairFight$Fighter", "told", "[I", true)
def tyX4 : Nat → FieldType := fun k => match k with
  | _ => .array .int
abbrev wsX40 : List Cond := u_ws RX4 TX4 1
theorem nmX4 : ∀ a, a < 1 → ∀ b, b < 1 → a ≠ b → (TX4 a).2.1 ≠ (TX4 b).2.1 := by decide +kernel
theorem tyX4_ok : ∀ k, k < 1 → parseFieldDescriptor (TX4 k).2.2.1 = some (tyX4 k) := by decide +kernel
abbrev cX4_init : ByteArray := prog_4_method_1_code
def yX4_init : MethodName := ⟨RX4, "<init>", "([I)V"⟩
def dkwX4_init_0 : List UInt8 := [42, 183, 0, 1, 42, 43, 181, 0, 7, 177]
abbrev dktX4_init_0 : List UInt8 := dkwX4_init_0 ++ []
theorem dksX4_init_0 : cX4_init.data.toList.drop 0 = dktX4_init_0 := by decide +kernel
theorem dX4_init_0 : decode cX4_init 0 = .ok (.aload_n 0, 1) := dk_42 (dk_at dksX4_init_0 0 rfl rfl)
theorem dX4_init_1 : decode cX4_init 1 = .ok (.invokespecial 1, 3) := dk_183 0 1 (dk_at dksX4_init_0 1 rfl rfl)
theorem dX4_init_4 : decode cX4_init 4 = .ok (.aload_n 0, 1) := dk_42 (dk_at dksX4_init_0 4 rfl rfl)
theorem dX4_init_5 : decode cX4_init 5 = .ok (.aload_n 1, 1) := dk_43 (dk_at dksX4_init_0 5 rfl rfl)
theorem dX4_init_6 : decode cX4_init 6 = .ok (.putfield 7, 3) := dk_181 0 7 (dk_at dksX4_init_0 6 rfl rfl)
theorem dX4_init_9 : decode cX4_init 9 = .ok (.return_, 1) := dk_177 (dk_at dksX4_init_0 9 rfl rfl)
theorem q47 : (Jvm.Cond.initialized "FairFight$Fighter") ∈ lw_all := lw_g (lw_at lw_m1 8 rfl) rfl
theorem q218 : (Jvm.Cond.instantiable "FairFight$Fighter" (1 : Nat)) ∈ lw_all := lw_g (lw_at lw_m1 179 rfl) rfl
theorem q220 : (Jvm.Cond.instanceMethod ({ cls := "FairFight$Fighter", name := "<init>", desc := "([I)V" } : Jvm.MethodName)) ∈ lw_all := lw_g (lw_at lw_m1 181 rfl) rfl
theorem q221 : (Jvm.Cond.code ({ cls := "FairFight$Fighter", name := "<init>", desc := "([I)V" } : Jvm.MethodName) prog_4_method_1_code (2 : Nat) (Option.none : Option Jvm.ClassFile.FieldType)) ∈ lw_all := lw_g (lw_at lw_m1 182 rfl) rfl
theorem q222 : (Jvm.Cond.methodLink "FairFight$Fighter" (1 : Nat) ({ cls := "java/lang/Object", name := "<init>", desc := "()V" } : Jvm.MethodName)) ∈ lw_all := lw_g (lw_at lw_m1 183 rfl) rfl
theorem q223 : (Jvm.Cond.fieldLink "FairFight$Fighter" (7 : Nat) "FairFight$Fighter" "told" "[I") ∈ lw_all := lw_g (lw_at lw_m1 184 rfl) rfl
theorem q226 : (Jvm.Cond.laysFinal "FairFight$Fighter" "FairFight$Fighter" "told" "[I") ∈ lw_all := lw_g (lw_at lw_m1 187 rfl) rfl
theorem q227 : (Jvm.Cond.soleField "FairFight$Fighter" "told") ∈ lw_all := lw_g (lw_at lw_m1 188 rfl) rfl
theorem q228 : (Jvm.Cond.superclass "FairFight$Fighter" "java/lang/Object") ∈ lw_all := lw_g (lw_at lw_m1 189 rfl) rfl
theorem q557 : (Jvm.Cond.selects "FairFight$Fighter" ({ cls := "java/lang/Object", name := "getClass", desc := "()Ljava/lang/Class;" } : Jvm.MethodName) ({ cls := "java/lang/Object", name := "getClass", desc := "()Ljava/lang/Class;" } : Jvm.MethodName)) ∈ lw_all := lw_g (lw_at lw_m3 38 rfl) rfl
theorem q1282 : (Jvm.Cond.castable "FairFight$Fighter" "java/lang/Object") ∈ lw_tbl := lw_at lw_m6 43 rfl
theorem in_X4 : ∀ w ∈ wsX40, w ∈ lw_all := lw_in wsX40 [226] (by decide +kernel) (by decide +kernel)
/-! FairFight$Odds -/
set_option maxRecDepth 100000
def RX5 : String := "FairFight$Odds"
def TX5 : u_T := fun k => match k with
  | 0 => ("FairFight$Odds", "f", "LFairFight$Fight;", true)
  | 1 => ("FairFight$Odds", "slots", "I", true)
  | 2 => ("FairFight$Odds", "all", "J", false)
  | 3 => ("FairFight$Odds", "ways", "[J", true)
  | 4 => ("FairFight$Odds", "byRound", "[J", true)
  | 5 => ("FairFight$Odds", "left", "[[J", true)
  | 6 => ("FairFight$Odds", "widest", "I", false)
  | 7 => ("FairFight$Odds", "isWide", "Z", false)
  | _ => ("FairFight$Odds", "this$0", "LFairFight;", true)
def tyX5 : Nat → FieldType := fun k => match k with
  | 0 => .object "FairFight$Fight"
  | 1 => .int
  | 2 => .long
  | 3 => .array .long
  | 4 => .array .long
  | 5 => .array (.array .long)
  | 6 => .int
  | 7 => .boolean
  | _ => .object "FairFight"
abbrev wsX50 : List Cond := u_ws RX5 TX5 9
theorem nmX5 : ∀ a, a < 9 → ∀ b, b < 9 → a ≠ b → (TX5 a).2.1 ≠ (TX5 b).2.1 := by decide +kernel
theorem tyX5_ok : ∀ k, k < 9 → parseFieldDescriptor (TX5 k).2.2.1 = some (tyX5 k) := by decide +kernel
abbrev cX5_init : ByteArray := prog_7_method_1_code
def yX5_init : MethodName := ⟨RX5, "<init>", "(LFairFight;LFairFight$Fight;Z)V"⟩
def dkwX5_init_4 : List UInt8 := [182, 0, 51, 177]
abbrev dktX5_init_4 : List UInt8 := dkwX5_init_4 ++ []
def dkwX5_init_3 : List UInt8 := [180, 0, 44, 16, 22, 164, 0, 7, 4, 167, 0, 4, 3, 181, 0, 47, 42, 180, 0, 47, 154, 0, 7, 42]
abbrev dktX5_init_3 : List UInt8 := dkwX5_init_3 ++ dktX5_init_4
def dkwX5_init_2 : List UInt8 := [167, 0, 4, 1, 181, 0, 32, 42, 43, 180, 0, 35, 44, 180, 0, 39, 104, 181, 0, 44, 42, 42]
abbrev dktX5_init_2 : List UInt8 := dkwX5_init_2 ++ dktX5_init_3
def dkwX5_init_1 : List UInt8 := [188, 11, 181, 0, 23, 42, 44, 181, 0, 26, 42, 29, 153, 0, 14, 16, 6, 16, 42, 197, 0, 30, 2]
abbrev dktX5_init_1 : List UInt8 := dkwX5_init_1 ++ dktX5_init_2
def dkwX5_init_0 : List UInt8 := [42, 43, 181, 0, 3, 42, 183, 0, 9, 42, 10, 181, 0, 15, 42, 6, 188, 11, 181, 0, 19, 42, 16, 7]
abbrev dktX5_init_0 : List UInt8 := dkwX5_init_0 ++ dktX5_init_1
theorem dksX5_init_0 : cX5_init.data.toList.drop 0 = dktX5_init_0 := by decide +kernel
theorem dksX5_init_1 : cX5_init.data.toList.drop 24 = dktX5_init_1 := dk_seg dksX5_init_0 24 rfl rfl
theorem dksX5_init_2 : cX5_init.data.toList.drop 47 = dktX5_init_2 := dk_seg dksX5_init_1 23 rfl rfl
theorem dksX5_init_3 : cX5_init.data.toList.drop 69 = dktX5_init_3 := dk_seg dksX5_init_2 22 rfl rfl
theorem dksX5_init_4 : cX5_init.data.toList.drop 93 = dktX5_init_4 := dk_seg dksX5_init_3 24 rfl rfl
theorem dX5_init_0 : decode cX5_init 0 = .ok (.aload_n 0, 1) := dk_42 (dk_at dksX5_init_0 0 rfl rfl)
theorem dX5_init_1 : decode cX5_init 1 = .ok (.aload_n 1, 1) := dk_43 (dk_at dksX5_init_0 1 rfl rfl)
theorem dX5_init_2 : decode cX5_init 2 = .ok (.putfield 3, 3) := dk_181 0 3 (dk_at dksX5_init_0 2 rfl rfl)
theorem dX5_init_5 : decode cX5_init 5 = .ok (.aload_n 0, 1) := dk_42 (dk_at dksX5_init_0 5 rfl rfl)
theorem dX5_init_6 : decode cX5_init 6 = .ok (.invokespecial 9, 3) := dk_183 0 9 (dk_at dksX5_init_0 6 rfl rfl)
theorem dX5_init_9 : decode cX5_init 9 = .ok (.aload_n 0, 1) := dk_42 (dk_at dksX5_init_0 9 rfl rfl)
theorem dX5_init_10 : decode cX5_init 10 = .ok (.lconst 1, 1) := dk_10 (dk_at dksX5_init_0 10 rfl rfl)
theorem dX5_init_11 : decode cX5_init 11 = .ok (.putfield 15, 3) := dk_181 0 15 (dk_at dksX5_init_0 11 rfl rfl)
theorem dX5_init_14 : decode cX5_init 14 = .ok (.aload_n 0, 1) := dk_42 (dk_at dksX5_init_0 14 rfl rfl)
theorem dX5_init_15 : decode cX5_init 15 = .ok (.iconst 3, 1) := dk_6 (dk_at dksX5_init_0 15 rfl rfl)
theorem dX5_init_16 : decode cX5_init 16 = .ok (.newarray .long, 2) := dk_188_11 (dk_at dksX5_init_0 16 rfl rfl)
theorem dX5_init_18 : decode cX5_init 18 = .ok (.putfield 19, 3) := dk_181 0 19 (dk_at dksX5_init_0 18 rfl rfl)
theorem dX5_init_21 : decode cX5_init 21 = .ok (.aload_n 0, 1) := dk_42 (dk_at dksX5_init_0 21 rfl rfl)
theorem dX5_init_22 : decode cX5_init 22 = .ok (.bipush 7, 2) := dk_16 7 (dk_at dksX5_init_0 22 rfl rfl)
theorem dX5_init_24 : decode cX5_init 24 = .ok (.newarray .long, 2) := dk_188_11 (dk_at dksX5_init_1 0 rfl rfl)
theorem dX5_init_26 : decode cX5_init 26 = .ok (.putfield 23, 3) := dk_181 0 23 (dk_at dksX5_init_1 2 rfl rfl)
theorem dX5_init_29 : decode cX5_init 29 = .ok (.aload_n 0, 1) := dk_42 (dk_at dksX5_init_1 5 rfl rfl)
theorem dX5_init_30 : decode cX5_init 30 = .ok (.aload_n 2, 1) := dk_44 (dk_at dksX5_init_1 6 rfl rfl)
theorem dX5_init_31 : decode cX5_init 31 = .ok (.putfield 26, 3) := dk_181 0 26 (dk_at dksX5_init_1 7 rfl rfl)
theorem dX5_init_34 : decode cX5_init 34 = .ok (.aload_n 0, 1) := dk_42 (dk_at dksX5_init_1 10 rfl rfl)
theorem dX5_init_35 : decode cX5_init 35 = .ok (.iload_n 3, 1) := dk_29 (dk_at dksX5_init_1 11 rfl rfl)
theorem dX5_init_36 : decode cX5_init 36 = .ok (.ifCond .eq 14, 3) := dk_153 0 14 (dk_at dksX5_init_1 12 rfl rfl)
theorem dX5_init_39 : decode cX5_init 39 = .ok (.bipush 6, 2) := dk_16 6 (dk_at dksX5_init_1 15 rfl rfl)
theorem dX5_init_41 : decode cX5_init 41 = .ok (.bipush 42, 2) := dk_16 42 (dk_at dksX5_init_1 17 rfl rfl)
theorem dX5_init_43 : decode cX5_init 43 = .ok (.multianewarray 30 2, 4) := by decide +kernel
theorem dX5_init_47 : decode cX5_init 47 = .ok (.goto 4, 3) := dk_167 0 4 (dk_at dksX5_init_2 0 rfl rfl)
theorem dX5_init_50 : decode cX5_init 50 = .ok (.aconst_null, 1) := dk_1 (dk_at dksX5_init_2 3 rfl rfl)
theorem dX5_init_51 : decode cX5_init 51 = .ok (.putfield 32, 3) := dk_181 0 32 (dk_at dksX5_init_2 4 rfl rfl)
theorem dX5_init_54 : decode cX5_init 54 = .ok (.aload_n 0, 1) := dk_42 (dk_at dksX5_init_2 7 rfl rfl)
theorem dX5_init_55 : decode cX5_init 55 = .ok (.aload_n 1, 1) := dk_43 (dk_at dksX5_init_2 8 rfl rfl)
theorem dX5_init_56 : decode cX5_init 56 = .ok (.getfield 35, 3) := dk_180 0 35 (dk_at dksX5_init_2 9 rfl rfl)
theorem dX5_init_59 : decode cX5_init 59 = .ok (.aload_n 2, 1) := dk_44 (dk_at dksX5_init_2 12 rfl rfl)
theorem dX5_init_60 : decode cX5_init 60 = .ok (.getfield 39, 3) := dk_180 0 39 (dk_at dksX5_init_2 13 rfl rfl)
theorem dX5_init_63 : decode cX5_init 63 = .ok (.imul, 1) := dk_104 (dk_at dksX5_init_2 16 rfl rfl)
theorem dX5_init_64 : decode cX5_init 64 = .ok (.putfield 44, 3) := dk_181 0 44 (dk_at dksX5_init_2 17 rfl rfl)
theorem dX5_init_67 : decode cX5_init 67 = .ok (.aload_n 0, 1) := dk_42 (dk_at dksX5_init_2 20 rfl rfl)
theorem dX5_init_68 : decode cX5_init 68 = .ok (.aload_n 0, 1) := dk_42 (dk_at dksX5_init_2 21 rfl rfl)
theorem dX5_init_69 : decode cX5_init 69 = .ok (.getfield 44, 3) := dk_180 0 44 (dk_at dksX5_init_3 0 rfl rfl)
theorem dX5_init_72 : decode cX5_init 72 = .ok (.bipush 22, 2) := dk_16 22 (dk_at dksX5_init_3 3 rfl rfl)
theorem dX5_init_74 : decode cX5_init 74 = .ok (.if_icmp .le 7, 3) := dk_164 0 7 (dk_at dksX5_init_3 5 rfl rfl)
theorem dX5_init_77 : decode cX5_init 77 = .ok (.iconst 1, 1) := dk_4 (dk_at dksX5_init_3 8 rfl rfl)
theorem dX5_init_78 : decode cX5_init 78 = .ok (.goto 4, 3) := dk_167 0 4 (dk_at dksX5_init_3 9 rfl rfl)
theorem dX5_init_81 : decode cX5_init 81 = .ok (.iconst 0, 1) := dk_3 (dk_at dksX5_init_3 12 rfl rfl)
theorem dX5_init_82 : decode cX5_init 82 = .ok (.putfield 47, 3) := dk_181 0 47 (dk_at dksX5_init_3 13 rfl rfl)
theorem dX5_init_85 : decode cX5_init 85 = .ok (.aload_n 0, 1) := dk_42 (dk_at dksX5_init_3 16 rfl rfl)
theorem dX5_init_86 : decode cX5_init 86 = .ok (.getfield 47, 3) := dk_180 0 47 (dk_at dksX5_init_3 17 rfl rfl)
theorem dX5_init_89 : decode cX5_init 89 = .ok (.ifCond .ne 7, 3) := dk_154 0 7 (dk_at dksX5_init_3 20 rfl rfl)
theorem dX5_init_92 : decode cX5_init 92 = .ok (.aload_n 0, 1) := dk_42 (dk_at dksX5_init_3 23 rfl rfl)
theorem dX5_init_93 : decode cX5_init 93 = .ok (.invokevirtual 51, 3) := dk_182 0 51 (dk_at dksX5_init_4 0 rfl rfl)
theorem dX5_init_96 : decode cX5_init 96 = .ok (.return_, 1) := dk_177 (dk_at dksX5_init_4 3 rfl rfl)
abbrev cX5_work : ByteArray := prog_7_method_3_code
def yX5_work : MethodName := ⟨RX5, "work", "()V"⟩
def dkwX5_work_12 : List UInt8 := [167, 255, 38, 177]
abbrev dktX5_work_12 : List UInt8 := dkwX5_work_12 ++ []
def dkwX5_work_11 : List UInt8 := [180, 0, 78, 180, 0, 98, 17, 1, 144, 164, 0, 7, 4, 167, 0, 4, 3, 128, 181, 0, 47, 132, 1, 1]
abbrev dktX5_work_11 : List UInt8 := dkwX5_work_11 ++ dktX5_work_12
def dkwX5_work_10 : List UInt8 := [25, 4, 181, 0, 85, 42, 180, 0, 3, 180, 0, 85, 182, 0, 82, 42, 89, 180, 0, 47, 42, 180, 0, 3]
abbrev dktX5_work_10 : List UInt8 := dkwX5_work_10 ++ dktX5_work_11
def dkwX5_work_9 : List UInt8 := [180, 0, 78, 58, 4, 42, 180, 0, 3, 42, 180, 0, 3, 180, 0, 85, 181, 0, 78, 42, 180, 0, 3]
abbrev dktX5_work_9 : List UInt8 := dkwX5_work_9 ++ dktX5_work_10
def dkwX5_work_8 : List UInt8 := [180, 0, 111, 21, 5, 47, 29, 27, 28, 182, 0, 112, 132, 4, 1, 167, 255, 183, 42, 180, 0, 3]
abbrev dktX5_work_8 : List UInt8 := dkwX5_work_8 ++ dktX5_work_9
def dkwX5_work_7 : List UInt8 := [54, 5, 42, 42, 180, 0, 3, 180, 0, 78, 180, 0, 108, 21, 5, 47, 42, 180, 0, 3, 180, 0, 78]
abbrev dktX5_work_7 : List UInt8 := dkwX5_work_7 ++ dktX5_work_8
def dkwX5_work_6 : List UInt8 := [162, 0, 64, 42, 180, 0, 47, 154, 0, 57, 42, 180, 0, 3, 180, 0, 78, 180, 0, 105, 21, 4, 46]
abbrev dktX5_work_6 : List UInt8 := dkwX5_work_6 ++ dktX5_work_7
def dkwX5_work_5 : List UInt8 := [180, 0, 98, 184, 0, 99, 181, 0, 95, 3, 54, 4, 21, 4, 42, 180, 0, 3, 180, 0, 78, 180, 0, 98]
abbrev dktX5_work_5 : List UInt8 := dkwX5_work_5 ++ dktX5_work_6
def dkwX5_work_4 : List UInt8 := [27, 42, 180, 0, 26, 180, 0, 39, 112, 46, 62, 42, 42, 180, 0, 95, 42, 180, 0, 3, 180, 0, 78]
abbrev dktX5_work_4 : List UInt8 := dkwX5_work_4 ++ dktX5_work_5
def dkwX5_work_3 : List UInt8 := [42, 180, 0, 47, 154, 0, 209, 27, 42, 180, 0, 26, 180, 0, 39, 108, 61, 42, 180, 0, 26, 180, 0, 92]
abbrev dktX5_work_3 : List UInt8 := dkwX5_work_3 ++ dktX5_work_4
def dkwX5_work_2 : List UInt8 := [42, 42, 180, 0, 3, 180, 0, 78, 10, 3, 3, 182, 0, 88, 3, 60, 27, 42, 180, 0, 44, 162, 0, 216]
abbrev dktX5_work_2 : List UInt8 := dkwX5_work_2 ++ dktX5_work_3
def dkwX5_work_1 : List UInt8 := [180, 0, 44, 162, 0, 21, 42, 89, 180, 0, 15, 20, 0, 68, 105, 181, 0, 15, 132, 1, 1, 167, 255, 233]
abbrev dktX5_work_1 : List UInt8 := dkwX5_work_1 ++ dktX5_work_2
def dkwX5_work_0 : List UInt8 := [42, 180, 0, 3, 180, 0, 78, 182, 0, 82, 42, 180, 0, 3, 180, 0, 85, 182, 0, 82, 3, 60, 27, 42]
abbrev dktX5_work_0 : List UInt8 := dkwX5_work_0 ++ dktX5_work_1
theorem dksX5_work_0 : cX5_work.data.toList.drop 0 = dktX5_work_0 := by decide +kernel
theorem dksX5_work_1 : cX5_work.data.toList.drop 24 = dktX5_work_1 := dk_seg dksX5_work_0 24 rfl rfl
theorem dksX5_work_2 : cX5_work.data.toList.drop 48 = dktX5_work_2 := dk_seg dksX5_work_1 24 rfl rfl
theorem dksX5_work_3 : cX5_work.data.toList.drop 72 = dktX5_work_3 := dk_seg dksX5_work_2 24 rfl rfl
theorem dksX5_work_4 : cX5_work.data.toList.drop 96 = dktX5_work_4 := dk_seg dksX5_work_3 24 rfl rfl
theorem dksX5_work_5 : cX5_work.data.toList.drop 119 = dktX5_work_5 := dk_seg dksX5_work_4 23 rfl rfl
theorem dksX5_work_6 : cX5_work.data.toList.drop 143 = dktX5_work_6 := dk_seg dksX5_work_5 24 rfl rfl
theorem dksX5_work_7 : cX5_work.data.toList.drop 166 = dktX5_work_7 := dk_seg dksX5_work_6 23 rfl rfl
theorem dksX5_work_8 : cX5_work.data.toList.drop 189 = dktX5_work_8 := dk_seg dksX5_work_7 23 rfl rfl
theorem dksX5_work_9 : cX5_work.data.toList.drop 211 = dktX5_work_9 := dk_seg dksX5_work_8 22 rfl rfl
theorem dksX5_work_10 : cX5_work.data.toList.drop 234 = dktX5_work_10 := dk_seg dksX5_work_9 23 rfl rfl
theorem dksX5_work_11 : cX5_work.data.toList.drop 258 = dktX5_work_11 := dk_seg dksX5_work_10 24 rfl rfl
theorem dksX5_work_12 : cX5_work.data.toList.drop 282 = dktX5_work_12 := dk_seg dksX5_work_11 24 rfl rfl
theorem dX5_work_0 : decode cX5_work 0 = .ok (.aload_n 0, 1) := dk_42 (dk_at dksX5_work_0 0 rfl rfl)
theorem dX5_work_1 : decode cX5_work 1 = .ok (.getfield 3, 3) := dk_180 0 3 (dk_at dksX5_work_0 1 rfl rfl)
theorem dX5_work_4 : decode cX5_work 4 = .ok (.getfield 78, 3) := dk_180 0 78 (dk_at dksX5_work_0 4 rfl rfl)
theorem dX5_work_7 : decode cX5_work 7 = .ok (.invokevirtual 82, 3) := dk_182 0 82 (dk_at dksX5_work_0 7 rfl rfl)
theorem dX5_work_10 : decode cX5_work 10 = .ok (.aload_n 0, 1) := dk_42 (dk_at dksX5_work_0 10 rfl rfl)
theorem dX5_work_11 : decode cX5_work 11 = .ok (.getfield 3, 3) := dk_180 0 3 (dk_at dksX5_work_0 11 rfl rfl)
theorem dX5_work_14 : decode cX5_work 14 = .ok (.getfield 85, 3) := dk_180 0 85 (dk_at dksX5_work_0 14 rfl rfl)
theorem dX5_work_17 : decode cX5_work 17 = .ok (.invokevirtual 82, 3) := dk_182 0 82 (dk_at dksX5_work_0 17 rfl rfl)
theorem dX5_work_20 : decode cX5_work 20 = .ok (.iconst 0, 1) := dk_3 (dk_at dksX5_work_0 20 rfl rfl)
theorem dX5_work_21 : decode cX5_work 21 = .ok (.istore_n 1, 1) := dk_60 (dk_at dksX5_work_0 21 rfl rfl)
theorem dX5_work_22 : decode cX5_work 22 = .ok (.iload_n 1, 1) := dk_27 (dk_at dksX5_work_0 22 rfl rfl)
theorem dX5_work_23 : decode cX5_work 23 = .ok (.aload_n 0, 1) := dk_42 (dk_at dksX5_work_0 23 rfl rfl)
theorem dX5_work_24 : decode cX5_work 24 = .ok (.getfield 44, 3) := dk_180 0 44 (dk_at dksX5_work_1 0 rfl rfl)
theorem dX5_work_27 : decode cX5_work 27 = .ok (.if_icmp .ge 21, 3) := dk_162 0 21 (dk_at dksX5_work_1 3 rfl rfl)
theorem dX5_work_30 : decode cX5_work 30 = .ok (.aload_n 0, 1) := dk_42 (dk_at dksX5_work_1 6 rfl rfl)
theorem dX5_work_31 : decode cX5_work 31 = .ok (.dup, 1) := dk_89 (dk_at dksX5_work_1 7 rfl rfl)
theorem dX5_work_32 : decode cX5_work 32 = .ok (.getfield 15, 3) := dk_180 0 15 (dk_at dksX5_work_1 8 rfl rfl)
theorem dX5_work_35 : decode cX5_work 35 = .ok (.ldc2_w 68, 3) := dk_20 0 68 (dk_at dksX5_work_1 11 rfl rfl)
theorem dX5_work_38 : decode cX5_work 38 = .ok (.lmul, 1) := dk_105 (dk_at dksX5_work_1 14 rfl rfl)
theorem dX5_work_39 : decode cX5_work 39 = .ok (.putfield 15, 3) := dk_181 0 15 (dk_at dksX5_work_1 15 rfl rfl)
theorem dX5_work_42 : decode cX5_work 42 = .ok (.iinc 1 1, 3) := dk_132 1 1 (dk_at dksX5_work_1 18 rfl rfl)
theorem dX5_work_45 : decode cX5_work 45 = .ok (.goto (-23), 3) := dk_167 255 233 (dk_at dksX5_work_1 21 rfl rfl)
theorem dX5_work_48 : decode cX5_work 48 = .ok (.aload_n 0, 1) := dk_42 (dk_at dksX5_work_2 0 rfl rfl)
theorem dX5_work_49 : decode cX5_work 49 = .ok (.aload_n 0, 1) := dk_42 (dk_at dksX5_work_2 1 rfl rfl)
theorem dX5_work_50 : decode cX5_work 50 = .ok (.getfield 3, 3) := dk_180 0 3 (dk_at dksX5_work_2 2 rfl rfl)
theorem dX5_work_53 : decode cX5_work 53 = .ok (.getfield 78, 3) := dk_180 0 78 (dk_at dksX5_work_2 5 rfl rfl)
theorem dX5_work_56 : decode cX5_work 56 = .ok (.lconst 1, 1) := dk_10 (dk_at dksX5_work_2 8 rfl rfl)
theorem dX5_work_57 : decode cX5_work 57 = .ok (.iconst 0, 1) := dk_3 (dk_at dksX5_work_2 9 rfl rfl)
theorem dX5_work_58 : decode cX5_work 58 = .ok (.iconst 0, 1) := dk_3 (dk_at dksX5_work_2 10 rfl rfl)
theorem dX5_work_59 : decode cX5_work 59 = .ok (.invokevirtual 88, 3) := dk_182 0 88 (dk_at dksX5_work_2 11 rfl rfl)
theorem dX5_work_62 : decode cX5_work 62 = .ok (.iconst 0, 1) := dk_3 (dk_at dksX5_work_2 14 rfl rfl)
theorem dX5_work_63 : decode cX5_work 63 = .ok (.istore_n 1, 1) := dk_60 (dk_at dksX5_work_2 15 rfl rfl)
theorem dX5_work_64 : decode cX5_work 64 = .ok (.iload_n 1, 1) := dk_27 (dk_at dksX5_work_2 16 rfl rfl)
theorem dX5_work_65 : decode cX5_work 65 = .ok (.aload_n 0, 1) := dk_42 (dk_at dksX5_work_2 17 rfl rfl)
theorem dX5_work_66 : decode cX5_work 66 = .ok (.getfield 44, 3) := dk_180 0 44 (dk_at dksX5_work_2 18 rfl rfl)
theorem dX5_work_69 : decode cX5_work 69 = .ok (.if_icmp .ge 216, 3) := dk_162 0 216 (dk_at dksX5_work_2 21 rfl rfl)
theorem dX5_work_72 : decode cX5_work 72 = .ok (.aload_n 0, 1) := dk_42 (dk_at dksX5_work_3 0 rfl rfl)
theorem dX5_work_73 : decode cX5_work 73 = .ok (.getfield 47, 3) := dk_180 0 47 (dk_at dksX5_work_3 1 rfl rfl)
theorem dX5_work_76 : decode cX5_work 76 = .ok (.ifCond .ne 209, 3) := dk_154 0 209 (dk_at dksX5_work_3 4 rfl rfl)
theorem dX5_work_79 : decode cX5_work 79 = .ok (.iload_n 1, 1) := dk_27 (dk_at dksX5_work_3 7 rfl rfl)
theorem dX5_work_80 : decode cX5_work 80 = .ok (.aload_n 0, 1) := dk_42 (dk_at dksX5_work_3 8 rfl rfl)
theorem dX5_work_81 : decode cX5_work 81 = .ok (.getfield 26, 3) := dk_180 0 26 (dk_at dksX5_work_3 9 rfl rfl)
theorem dX5_work_84 : decode cX5_work 84 = .ok (.getfield 39, 3) := dk_180 0 39 (dk_at dksX5_work_3 12 rfl rfl)
theorem dX5_work_87 : decode cX5_work 87 = .ok (.idiv, 1) := dk_108 (dk_at dksX5_work_3 15 rfl rfl)
theorem dX5_work_88 : decode cX5_work 88 = .ok (.istore_n 2, 1) := dk_61 (dk_at dksX5_work_3 16 rfl rfl)
theorem dX5_work_89 : decode cX5_work 89 = .ok (.aload_n 0, 1) := dk_42 (dk_at dksX5_work_3 17 rfl rfl)
theorem dX5_work_90 : decode cX5_work 90 = .ok (.getfield 26, 3) := dk_180 0 26 (dk_at dksX5_work_3 18 rfl rfl)
theorem dX5_work_93 : decode cX5_work 93 = .ok (.getfield 92, 3) := dk_180 0 92 (dk_at dksX5_work_3 21 rfl rfl)
theorem dX5_work_96 : decode cX5_work 96 = .ok (.iload_n 1, 1) := dk_27 (dk_at dksX5_work_4 0 rfl rfl)
theorem dX5_work_97 : decode cX5_work 97 = .ok (.aload_n 0, 1) := dk_42 (dk_at dksX5_work_4 1 rfl rfl)
theorem dX5_work_98 : decode cX5_work 98 = .ok (.getfield 26, 3) := dk_180 0 26 (dk_at dksX5_work_4 2 rfl rfl)
theorem dX5_work_101 : decode cX5_work 101 = .ok (.getfield 39, 3) := dk_180 0 39 (dk_at dksX5_work_4 5 rfl rfl)
theorem dX5_work_104 : decode cX5_work 104 = .ok (.irem, 1) := dk_112 (dk_at dksX5_work_4 8 rfl rfl)
theorem dX5_work_105 : decode cX5_work 105 = .ok (.iaload, 1) := dk_46 (dk_at dksX5_work_4 9 rfl rfl)
theorem dX5_work_106 : decode cX5_work 106 = .ok (.istore_n 3, 1) := dk_62 (dk_at dksX5_work_4 10 rfl rfl)
theorem dX5_work_107 : decode cX5_work 107 = .ok (.aload_n 0, 1) := dk_42 (dk_at dksX5_work_4 11 rfl rfl)
theorem dX5_work_108 : decode cX5_work 108 = .ok (.aload_n 0, 1) := dk_42 (dk_at dksX5_work_4 12 rfl rfl)
theorem dX5_work_109 : decode cX5_work 109 = .ok (.getfield 95, 3) := dk_180 0 95 (dk_at dksX5_work_4 13 rfl rfl)
theorem dX5_work_112 : decode cX5_work 112 = .ok (.aload_n 0, 1) := dk_42 (dk_at dksX5_work_4 16 rfl rfl)
theorem dX5_work_113 : decode cX5_work 113 = .ok (.getfield 3, 3) := dk_180 0 3 (dk_at dksX5_work_4 17 rfl rfl)
theorem dX5_work_116 : decode cX5_work 116 = .ok (.getfield 78, 3) := dk_180 0 78 (dk_at dksX5_work_4 20 rfl rfl)
theorem dX5_work_119 : decode cX5_work 119 = .ok (.getfield 98, 3) := dk_180 0 98 (dk_at dksX5_work_5 0 rfl rfl)
theorem dX5_work_122 : decode cX5_work 122 = .ok (.invokestatic 99, 3) := dk_184 0 99 (dk_at dksX5_work_5 3 rfl rfl)
theorem dX5_work_125 : decode cX5_work 125 = .ok (.putfield 95, 3) := dk_181 0 95 (dk_at dksX5_work_5 6 rfl rfl)
theorem dX5_work_128 : decode cX5_work 128 = .ok (.iconst 0, 1) := dk_3 (dk_at dksX5_work_5 9 rfl rfl)
theorem dX5_work_129 : decode cX5_work 129 = .ok (.istore 4, 2) := dk_54 4 (dk_at dksX5_work_5 10 rfl rfl)
theorem dX5_work_131 : decode cX5_work 131 = .ok (.iload 4, 2) := dk_21 4 (dk_at dksX5_work_5 12 rfl rfl)
theorem dX5_work_133 : decode cX5_work 133 = .ok (.aload_n 0, 1) := dk_42 (dk_at dksX5_work_5 14 rfl rfl)
theorem dX5_work_134 : decode cX5_work 134 = .ok (.getfield 3, 3) := dk_180 0 3 (dk_at dksX5_work_5 15 rfl rfl)
theorem dX5_work_137 : decode cX5_work 137 = .ok (.getfield 78, 3) := dk_180 0 78 (dk_at dksX5_work_5 18 rfl rfl)
theorem dX5_work_140 : decode cX5_work 140 = .ok (.getfield 98, 3) := dk_180 0 98 (dk_at dksX5_work_5 21 rfl rfl)
theorem dX5_work_143 : decode cX5_work 143 = .ok (.if_icmp .ge 64, 3) := dk_162 0 64 (dk_at dksX5_work_6 0 rfl rfl)
theorem dX5_work_146 : decode cX5_work 146 = .ok (.aload_n 0, 1) := dk_42 (dk_at dksX5_work_6 3 rfl rfl)
theorem dX5_work_147 : decode cX5_work 147 = .ok (.getfield 47, 3) := dk_180 0 47 (dk_at dksX5_work_6 4 rfl rfl)
theorem dX5_work_150 : decode cX5_work 150 = .ok (.ifCond .ne 57, 3) := dk_154 0 57 (dk_at dksX5_work_6 7 rfl rfl)
theorem dX5_work_153 : decode cX5_work 153 = .ok (.aload_n 0, 1) := dk_42 (dk_at dksX5_work_6 10 rfl rfl)
theorem dX5_work_154 : decode cX5_work 154 = .ok (.getfield 3, 3) := dk_180 0 3 (dk_at dksX5_work_6 11 rfl rfl)
theorem dX5_work_157 : decode cX5_work 157 = .ok (.getfield 78, 3) := dk_180 0 78 (dk_at dksX5_work_6 14 rfl rfl)
theorem dX5_work_160 : decode cX5_work 160 = .ok (.getfield 105, 3) := dk_180 0 105 (dk_at dksX5_work_6 17 rfl rfl)
theorem dX5_work_163 : decode cX5_work 163 = .ok (.iload 4, 2) := dk_21 4 (dk_at dksX5_work_6 20 rfl rfl)
theorem dX5_work_165 : decode cX5_work 165 = .ok (.iaload, 1) := dk_46 (dk_at dksX5_work_6 22 rfl rfl)
theorem dX5_work_166 : decode cX5_work 166 = .ok (.istore 5, 2) := dk_54 5 (dk_at dksX5_work_7 0 rfl rfl)
theorem dX5_work_168 : decode cX5_work 168 = .ok (.aload_n 0, 1) := dk_42 (dk_at dksX5_work_7 2 rfl rfl)
theorem dX5_work_169 : decode cX5_work 169 = .ok (.aload_n 0, 1) := dk_42 (dk_at dksX5_work_7 3 rfl rfl)
theorem dX5_work_170 : decode cX5_work 170 = .ok (.getfield 3, 3) := dk_180 0 3 (dk_at dksX5_work_7 4 rfl rfl)
theorem dX5_work_173 : decode cX5_work 173 = .ok (.getfield 78, 3) := dk_180 0 78 (dk_at dksX5_work_7 7 rfl rfl)
theorem dX5_work_176 : decode cX5_work 176 = .ok (.getfield 108, 3) := dk_180 0 108 (dk_at dksX5_work_7 10 rfl rfl)
theorem dX5_work_179 : decode cX5_work 179 = .ok (.iload 5, 2) := dk_21 5 (dk_at dksX5_work_7 13 rfl rfl)
theorem dX5_work_181 : decode cX5_work 181 = .ok (.laload, 1) := dk_47 (dk_at dksX5_work_7 15 rfl rfl)
theorem dX5_work_182 : decode cX5_work 182 = .ok (.aload_n 0, 1) := dk_42 (dk_at dksX5_work_7 16 rfl rfl)
theorem dX5_work_183 : decode cX5_work 183 = .ok (.getfield 3, 3) := dk_180 0 3 (dk_at dksX5_work_7 17 rfl rfl)
theorem dX5_work_186 : decode cX5_work 186 = .ok (.getfield 78, 3) := dk_180 0 78 (dk_at dksX5_work_7 20 rfl rfl)
theorem dX5_work_189 : decode cX5_work 189 = .ok (.getfield 111, 3) := dk_180 0 111 (dk_at dksX5_work_8 0 rfl rfl)
theorem dX5_work_192 : decode cX5_work 192 = .ok (.iload 5, 2) := dk_21 5 (dk_at dksX5_work_8 3 rfl rfl)
theorem dX5_work_194 : decode cX5_work 194 = .ok (.laload, 1) := dk_47 (dk_at dksX5_work_8 5 rfl rfl)
theorem dX5_work_195 : decode cX5_work 195 = .ok (.iload_n 3, 1) := dk_29 (dk_at dksX5_work_8 6 rfl rfl)
theorem dX5_work_196 : decode cX5_work 196 = .ok (.iload_n 1, 1) := dk_27 (dk_at dksX5_work_8 7 rfl rfl)
theorem dX5_work_197 : decode cX5_work 197 = .ok (.iload_n 2, 1) := dk_28 (dk_at dksX5_work_8 8 rfl rfl)
theorem dX5_work_198 : decode cX5_work 198 = .ok (.invokevirtual 112, 3) := dk_182 0 112 (dk_at dksX5_work_8 9 rfl rfl)
theorem dX5_work_201 : decode cX5_work 201 = .ok (.iinc 4 1, 3) := dk_132 4 1 (dk_at dksX5_work_8 12 rfl rfl)
theorem dX5_work_204 : decode cX5_work 204 = .ok (.goto (-73), 3) := dk_167 255 183 (dk_at dksX5_work_8 15 rfl rfl)
theorem dX5_work_207 : decode cX5_work 207 = .ok (.aload_n 0, 1) := dk_42 (dk_at dksX5_work_8 18 rfl rfl)
theorem dX5_work_208 : decode cX5_work 208 = .ok (.getfield 3, 3) := dk_180 0 3 (dk_at dksX5_work_8 19 rfl rfl)
theorem dX5_work_211 : decode cX5_work 211 = .ok (.getfield 78, 3) := dk_180 0 78 (dk_at dksX5_work_9 0 rfl rfl)
theorem dX5_work_214 : decode cX5_work 214 = .ok (.astore 4, 2) := dk_58 4 (dk_at dksX5_work_9 3 rfl rfl)
theorem dX5_work_216 : decode cX5_work 216 = .ok (.aload_n 0, 1) := dk_42 (dk_at dksX5_work_9 5 rfl rfl)
theorem dX5_work_217 : decode cX5_work 217 = .ok (.getfield 3, 3) := dk_180 0 3 (dk_at dksX5_work_9 6 rfl rfl)
theorem dX5_work_220 : decode cX5_work 220 = .ok (.aload_n 0, 1) := dk_42 (dk_at dksX5_work_9 9 rfl rfl)
theorem dX5_work_221 : decode cX5_work 221 = .ok (.getfield 3, 3) := dk_180 0 3 (dk_at dksX5_work_9 10 rfl rfl)
theorem dX5_work_224 : decode cX5_work 224 = .ok (.getfield 85, 3) := dk_180 0 85 (dk_at dksX5_work_9 13 rfl rfl)
theorem dX5_work_227 : decode cX5_work 227 = .ok (.putfield 78, 3) := dk_181 0 78 (dk_at dksX5_work_9 16 rfl rfl)
theorem dX5_work_230 : decode cX5_work 230 = .ok (.aload_n 0, 1) := dk_42 (dk_at dksX5_work_9 19 rfl rfl)
theorem dX5_work_231 : decode cX5_work 231 = .ok (.getfield 3, 3) := dk_180 0 3 (dk_at dksX5_work_9 20 rfl rfl)
theorem dX5_work_234 : decode cX5_work 234 = .ok (.aload 4, 2) := dk_25 4 (dk_at dksX5_work_10 0 rfl rfl)
theorem dX5_work_236 : decode cX5_work 236 = .ok (.putfield 85, 3) := dk_181 0 85 (dk_at dksX5_work_10 2 rfl rfl)
theorem dX5_work_239 : decode cX5_work 239 = .ok (.aload_n 0, 1) := dk_42 (dk_at dksX5_work_10 5 rfl rfl)
theorem dX5_work_240 : decode cX5_work 240 = .ok (.getfield 3, 3) := dk_180 0 3 (dk_at dksX5_work_10 6 rfl rfl)
theorem dX5_work_243 : decode cX5_work 243 = .ok (.getfield 85, 3) := dk_180 0 85 (dk_at dksX5_work_10 9 rfl rfl)
theorem dX5_work_246 : decode cX5_work 246 = .ok (.invokevirtual 82, 3) := dk_182 0 82 (dk_at dksX5_work_10 12 rfl rfl)
theorem dX5_work_249 : decode cX5_work 249 = .ok (.aload_n 0, 1) := dk_42 (dk_at dksX5_work_10 15 rfl rfl)
theorem dX5_work_250 : decode cX5_work 250 = .ok (.dup, 1) := dk_89 (dk_at dksX5_work_10 16 rfl rfl)
theorem dX5_work_251 : decode cX5_work 251 = .ok (.getfield 47, 3) := dk_180 0 47 (dk_at dksX5_work_10 17 rfl rfl)
theorem dX5_work_254 : decode cX5_work 254 = .ok (.aload_n 0, 1) := dk_42 (dk_at dksX5_work_10 20 rfl rfl)
theorem dX5_work_255 : decode cX5_work 255 = .ok (.getfield 3, 3) := dk_180 0 3 (dk_at dksX5_work_10 21 rfl rfl)
theorem dX5_work_258 : decode cX5_work 258 = .ok (.getfield 78, 3) := dk_180 0 78 (dk_at dksX5_work_11 0 rfl rfl)
theorem dX5_work_261 : decode cX5_work 261 = .ok (.getfield 98, 3) := dk_180 0 98 (dk_at dksX5_work_11 3 rfl rfl)
theorem dX5_work_264 : decode cX5_work 264 = .ok (.sipush 400, 3) := dk_17 1 144 (dk_at dksX5_work_11 6 rfl rfl)
theorem dX5_work_267 : decode cX5_work 267 = .ok (.if_icmp .le 7, 3) := dk_164 0 7 (dk_at dksX5_work_11 9 rfl rfl)
theorem dX5_work_270 : decode cX5_work 270 = .ok (.iconst 1, 1) := dk_4 (dk_at dksX5_work_11 12 rfl rfl)
theorem dX5_work_271 : decode cX5_work 271 = .ok (.goto 4, 3) := dk_167 0 4 (dk_at dksX5_work_11 13 rfl rfl)
theorem dX5_work_274 : decode cX5_work 274 = .ok (.iconst 0, 1) := dk_3 (dk_at dksX5_work_11 16 rfl rfl)
theorem dX5_work_275 : decode cX5_work 275 = .ok (.ior, 1) := dk_128 (dk_at dksX5_work_11 17 rfl rfl)
theorem dX5_work_276 : decode cX5_work 276 = .ok (.putfield 47, 3) := dk_181 0 47 (dk_at dksX5_work_11 18 rfl rfl)
theorem dX5_work_279 : decode cX5_work 279 = .ok (.iinc 1 1, 3) := dk_132 1 1 (dk_at dksX5_work_11 21 rfl rfl)
theorem dX5_work_282 : decode cX5_work 282 = .ok (.goto (-218), 3) := dk_167 255 38 (dk_at dksX5_work_12 0 rfl rfl)
theorem dX5_work_285 : decode cX5_work 285 = .ok (.return_, 1) := dk_177 (dk_at dksX5_work_12 3 rfl rfl)
abbrev cX5_comes : ByteArray := prog_7_method_2_code
def yX5_comes : MethodName := ⟨RX5, "comes", "(LFairFight$Table;JII)V"⟩
def dkwX5_comes_8 : List UInt8 := [51, 153, 0, 7, 4, 167, 0, 4, 3, 96, 92, 47, 22, 7, 97, 80, 132, 9, 1, 167, 255, 190, 177]
abbrev dktX5_comes_8 : List UInt8 := dkwX5_comes_8 ++ []
def dkwX5_comes_7 : List UInt8 := [21, 9, 50, 5, 42, 180, 0, 26, 180, 0, 70, 21, 9, 46, 104, 42, 180, 0, 26, 180, 0, 74, 21, 9]
abbrev dktX5_comes_7 : List UInt8 := dkwX5_comes_7 ++ dktX5_comes_8
def dkwX5_comes_6 : List UInt8 := [21, 9, 42, 180, 0, 26, 180, 0, 39, 162, 0, 60, 42, 180, 0, 32, 198, 0, 53, 42, 180, 0, 32]
abbrev dktX5_comes_6 : List UInt8 := dkwX5_comes_6 ++ dktX5_comes_7
def dkwX5_comes_5 : List UInt8 := [167, 0, 5, 21, 5, 92, 47, 21, 6, 2, 160, 0, 7, 9, 167, 0, 5, 22, 7, 97, 80, 3, 54, 9]
abbrev dktX5_comes_5 : List UInt8 := dkwX5_comes_5 ++ dktX5_comes_6
def dkwX5_comes_4 : List UInt8 := [167, 0, 5, 21, 6, 92, 47, 22, 7, 97, 80, 42, 180, 0, 23, 21, 6, 2, 160, 0, 7, 3]
abbrev dktX5_comes_4 : List UInt8 := dkwX5_comes_4 ++ dktX5_comes_5
def dkwX5_comes_3 : List UInt8 := [20, 0, 68, 105, 55, 7, 132, 9, 1, 167, 255, 236, 42, 180, 0, 19, 21, 6, 2, 160, 0, 7, 5]
abbrev dktX5_comes_3 : List UInt8 := dkwX5_comes_3 ++ dktX5_comes_4
def dkwX5_comes_2 : List UInt8 := [3, 128, 181, 0, 47, 177, 32, 55, 7, 21, 4, 54, 9, 21, 9, 42, 180, 0, 44, 162, 0, 17, 22, 7]
abbrev dktX5_comes_2 : List UInt8 := dkwX5_comes_2 ++ dktX5_comes_3
def dkwX5_comes_1 : List UInt8 := [42, 89, 180, 0, 47, 43, 42, 180, 0, 26, 182, 0, 58, 32, 182, 0, 62, 154, 0, 7, 4, 167, 0, 4]
abbrev dktX5_comes_1 : List UInt8 := dkwX5_comes_1 ++ dktX5_comes_2
def dkwX5_comes_0 : List UInt8 := [42, 180, 0, 26, 182, 0, 54, 54, 6, 21, 6, 2, 160, 0, 42, 21, 4, 42, 180, 0, 44, 162, 0, 33]
abbrev dktX5_comes_0 : List UInt8 := dkwX5_comes_0 ++ dktX5_comes_1
theorem dksX5_comes_0 : cX5_comes.data.toList.drop 0 = dktX5_comes_0 := by decide +kernel
theorem dksX5_comes_1 : cX5_comes.data.toList.drop 24 = dktX5_comes_1 := dk_seg dksX5_comes_0 24 rfl rfl
theorem dksX5_comes_2 : cX5_comes.data.toList.drop 48 = dktX5_comes_2 := dk_seg dksX5_comes_1 24 rfl rfl
theorem dksX5_comes_3 : cX5_comes.data.toList.drop 72 = dktX5_comes_3 := dk_seg dksX5_comes_2 24 rfl rfl
theorem dksX5_comes_4 : cX5_comes.data.toList.drop 95 = dktX5_comes_4 := dk_seg dksX5_comes_3 23 rfl rfl
theorem dksX5_comes_5 : cX5_comes.data.toList.drop 117 = dktX5_comes_5 := dk_seg dksX5_comes_4 22 rfl rfl
theorem dksX5_comes_6 : cX5_comes.data.toList.drop 141 = dktX5_comes_6 := dk_seg dksX5_comes_5 24 rfl rfl
theorem dksX5_comes_7 : cX5_comes.data.toList.drop 164 = dktX5_comes_7 := dk_seg dksX5_comes_6 23 rfl rfl
theorem dksX5_comes_8 : cX5_comes.data.toList.drop 188 = dktX5_comes_8 := dk_seg dksX5_comes_7 24 rfl rfl
theorem dX5_comes_0 : decode cX5_comes 0 = .ok (.aload_n 0, 1) := dk_42 (dk_at dksX5_comes_0 0 rfl rfl)
theorem dX5_comes_1 : decode cX5_comes 1 = .ok (.getfield 26, 3) := dk_180 0 26 (dk_at dksX5_comes_0 1 rfl rfl)
theorem dX5_comes_4 : decode cX5_comes 4 = .ok (.invokevirtual 54, 3) := dk_182 0 54 (dk_at dksX5_comes_0 4 rfl rfl)
theorem dX5_comes_7 : decode cX5_comes 7 = .ok (.istore 6, 2) := dk_54 6 (dk_at dksX5_comes_0 7 rfl rfl)
theorem dX5_comes_9 : decode cX5_comes 9 = .ok (.iload 6, 2) := dk_21 6 (dk_at dksX5_comes_0 9 rfl rfl)
theorem dX5_comes_11 : decode cX5_comes 11 = .ok (.iconst (-1), 1) := dk_2 (dk_at dksX5_comes_0 11 rfl rfl)
theorem dX5_comes_12 : decode cX5_comes 12 = .ok (.if_icmp .ne 42, 3) := dk_160 0 42 (dk_at dksX5_comes_0 12 rfl rfl)
theorem dX5_comes_15 : decode cX5_comes 15 = .ok (.iload 4, 2) := dk_21 4 (dk_at dksX5_comes_0 15 rfl rfl)
theorem dX5_comes_17 : decode cX5_comes 17 = .ok (.aload_n 0, 1) := dk_42 (dk_at dksX5_comes_0 17 rfl rfl)
theorem dX5_comes_18 : decode cX5_comes 18 = .ok (.getfield 44, 3) := dk_180 0 44 (dk_at dksX5_comes_0 18 rfl rfl)
theorem dX5_comes_21 : decode cX5_comes 21 = .ok (.if_icmp .ge 33, 3) := dk_162 0 33 (dk_at dksX5_comes_0 21 rfl rfl)
theorem dX5_comes_24 : decode cX5_comes 24 = .ok (.aload_n 0, 1) := dk_42 (dk_at dksX5_comes_1 0 rfl rfl)
theorem dX5_comes_25 : decode cX5_comes 25 = .ok (.dup, 1) := dk_89 (dk_at dksX5_comes_1 1 rfl rfl)
theorem dX5_comes_26 : decode cX5_comes 26 = .ok (.getfield 47, 3) := dk_180 0 47 (dk_at dksX5_comes_1 2 rfl rfl)
theorem dX5_comes_29 : decode cX5_comes 29 = .ok (.aload_n 1, 1) := dk_43 (dk_at dksX5_comes_1 5 rfl rfl)
theorem dX5_comes_30 : decode cX5_comes 30 = .ok (.aload_n 0, 1) := dk_42 (dk_at dksX5_comes_1 6 rfl rfl)
theorem dX5_comes_31 : decode cX5_comes 31 = .ok (.getfield 26, 3) := dk_180 0 26 (dk_at dksX5_comes_1 7 rfl rfl)
theorem dX5_comes_34 : decode cX5_comes 34 = .ok (.invokevirtual 58, 3) := dk_182 0 58 (dk_at dksX5_comes_1 10 rfl rfl)
theorem dX5_comes_37 : decode cX5_comes 37 = .ok (.lload_n 2, 1) := dk_32 (dk_at dksX5_comes_1 13 rfl rfl)
theorem dX5_comes_38 : decode cX5_comes 38 = .ok (.invokevirtual 62, 3) := dk_182 0 62 (dk_at dksX5_comes_1 14 rfl rfl)
theorem dX5_comes_41 : decode cX5_comes 41 = .ok (.ifCond .ne 7, 3) := dk_154 0 7 (dk_at dksX5_comes_1 17 rfl rfl)
theorem dX5_comes_44 : decode cX5_comes 44 = .ok (.iconst 1, 1) := dk_4 (dk_at dksX5_comes_1 20 rfl rfl)
theorem dX5_comes_45 : decode cX5_comes 45 = .ok (.goto 4, 3) := dk_167 0 4 (dk_at dksX5_comes_1 21 rfl rfl)
theorem dX5_comes_48 : decode cX5_comes 48 = .ok (.iconst 0, 1) := dk_3 (dk_at dksX5_comes_2 0 rfl rfl)
theorem dX5_comes_49 : decode cX5_comes 49 = .ok (.ior, 1) := dk_128 (dk_at dksX5_comes_2 1 rfl rfl)
theorem dX5_comes_50 : decode cX5_comes 50 = .ok (.putfield 47, 3) := dk_181 0 47 (dk_at dksX5_comes_2 2 rfl rfl)
theorem dX5_comes_53 : decode cX5_comes 53 = .ok (.return_, 1) := dk_177 (dk_at dksX5_comes_2 5 rfl rfl)
theorem dX5_comes_54 : decode cX5_comes 54 = .ok (.lload_n 2, 1) := dk_32 (dk_at dksX5_comes_2 6 rfl rfl)
theorem dX5_comes_55 : decode cX5_comes 55 = .ok (.lstore 7, 2) := dk_55 7 (dk_at dksX5_comes_2 7 rfl rfl)
theorem dX5_comes_57 : decode cX5_comes 57 = .ok (.iload 4, 2) := dk_21 4 (dk_at dksX5_comes_2 9 rfl rfl)
theorem dX5_comes_59 : decode cX5_comes 59 = .ok (.istore 9, 2) := dk_54 9 (dk_at dksX5_comes_2 11 rfl rfl)
theorem dX5_comes_61 : decode cX5_comes 61 = .ok (.iload 9, 2) := dk_21 9 (dk_at dksX5_comes_2 13 rfl rfl)
theorem dX5_comes_63 : decode cX5_comes 63 = .ok (.aload_n 0, 1) := dk_42 (dk_at dksX5_comes_2 15 rfl rfl)
theorem dX5_comes_64 : decode cX5_comes 64 = .ok (.getfield 44, 3) := dk_180 0 44 (dk_at dksX5_comes_2 16 rfl rfl)
theorem dX5_comes_67 : decode cX5_comes 67 = .ok (.if_icmp .ge 17, 3) := dk_162 0 17 (dk_at dksX5_comes_2 19 rfl rfl)
theorem dX5_comes_70 : decode cX5_comes 70 = .ok (.lload 7, 2) := dk_22 7 (dk_at dksX5_comes_2 22 rfl rfl)
theorem dX5_comes_72 : decode cX5_comes 72 = .ok (.ldc2_w 68, 3) := dk_20 0 68 (dk_at dksX5_comes_3 0 rfl rfl)
theorem dX5_comes_75 : decode cX5_comes 75 = .ok (.lmul, 1) := dk_105 (dk_at dksX5_comes_3 3 rfl rfl)
theorem dX5_comes_76 : decode cX5_comes 76 = .ok (.lstore 7, 2) := dk_55 7 (dk_at dksX5_comes_3 4 rfl rfl)
theorem dX5_comes_78 : decode cX5_comes 78 = .ok (.iinc 9 1, 3) := dk_132 9 1 (dk_at dksX5_comes_3 6 rfl rfl)
theorem dX5_comes_81 : decode cX5_comes 81 = .ok (.goto (-20), 3) := dk_167 255 236 (dk_at dksX5_comes_3 9 rfl rfl)
theorem dX5_comes_84 : decode cX5_comes 84 = .ok (.aload_n 0, 1) := dk_42 (dk_at dksX5_comes_3 12 rfl rfl)
theorem dX5_comes_85 : decode cX5_comes 85 = .ok (.getfield 19, 3) := dk_180 0 19 (dk_at dksX5_comes_3 13 rfl rfl)
theorem dX5_comes_88 : decode cX5_comes 88 = .ok (.iload 6, 2) := dk_21 6 (dk_at dksX5_comes_3 16 rfl rfl)
theorem dX5_comes_90 : decode cX5_comes 90 = .ok (.iconst (-1), 1) := dk_2 (dk_at dksX5_comes_3 18 rfl rfl)
theorem dX5_comes_91 : decode cX5_comes 91 = .ok (.if_icmp .ne 7, 3) := dk_160 0 7 (dk_at dksX5_comes_3 19 rfl rfl)
theorem dX5_comes_94 : decode cX5_comes 94 = .ok (.iconst 2, 1) := dk_5 (dk_at dksX5_comes_3 22 rfl rfl)
theorem dX5_comes_95 : decode cX5_comes 95 = .ok (.goto 5, 3) := dk_167 0 5 (dk_at dksX5_comes_4 0 rfl rfl)
theorem dX5_comes_98 : decode cX5_comes 98 = .ok (.iload 6, 2) := dk_21 6 (dk_at dksX5_comes_4 3 rfl rfl)
theorem dX5_comes_100 : decode cX5_comes 100 = .ok (.dup2, 1) := dk_92 (dk_at dksX5_comes_4 5 rfl rfl)
theorem dX5_comes_101 : decode cX5_comes 101 = .ok (.laload, 1) := dk_47 (dk_at dksX5_comes_4 6 rfl rfl)
theorem dX5_comes_102 : decode cX5_comes 102 = .ok (.lload 7, 2) := dk_22 7 (dk_at dksX5_comes_4 7 rfl rfl)
theorem dX5_comes_104 : decode cX5_comes 104 = .ok (.ladd, 1) := dk_97 (dk_at dksX5_comes_4 9 rfl rfl)
theorem dX5_comes_105 : decode cX5_comes 105 = .ok (.lastore, 1) := dk_80 (dk_at dksX5_comes_4 10 rfl rfl)
theorem dX5_comes_106 : decode cX5_comes 106 = .ok (.aload_n 0, 1) := dk_42 (dk_at dksX5_comes_4 11 rfl rfl)
theorem dX5_comes_107 : decode cX5_comes 107 = .ok (.getfield 23, 3) := dk_180 0 23 (dk_at dksX5_comes_4 12 rfl rfl)
theorem dX5_comes_110 : decode cX5_comes 110 = .ok (.iload 6, 2) := dk_21 6 (dk_at dksX5_comes_4 15 rfl rfl)
theorem dX5_comes_112 : decode cX5_comes 112 = .ok (.iconst (-1), 1) := dk_2 (dk_at dksX5_comes_4 17 rfl rfl)
theorem dX5_comes_113 : decode cX5_comes 113 = .ok (.if_icmp .ne 7, 3) := dk_160 0 7 (dk_at dksX5_comes_4 18 rfl rfl)
theorem dX5_comes_116 : decode cX5_comes 116 = .ok (.iconst 0, 1) := dk_3 (dk_at dksX5_comes_4 21 rfl rfl)
theorem dX5_comes_117 : decode cX5_comes 117 = .ok (.goto 5, 3) := dk_167 0 5 (dk_at dksX5_comes_5 0 rfl rfl)
theorem dX5_comes_120 : decode cX5_comes 120 = .ok (.iload 5, 2) := dk_21 5 (dk_at dksX5_comes_5 3 rfl rfl)
theorem dX5_comes_122 : decode cX5_comes 122 = .ok (.dup2, 1) := dk_92 (dk_at dksX5_comes_5 5 rfl rfl)
theorem dX5_comes_123 : decode cX5_comes 123 = .ok (.laload, 1) := dk_47 (dk_at dksX5_comes_5 6 rfl rfl)
theorem dX5_comes_124 : decode cX5_comes 124 = .ok (.iload 6, 2) := dk_21 6 (dk_at dksX5_comes_5 7 rfl rfl)
theorem dX5_comes_126 : decode cX5_comes 126 = .ok (.iconst (-1), 1) := dk_2 (dk_at dksX5_comes_5 9 rfl rfl)
theorem dX5_comes_127 : decode cX5_comes 127 = .ok (.if_icmp .ne 7, 3) := dk_160 0 7 (dk_at dksX5_comes_5 10 rfl rfl)
theorem dX5_comes_130 : decode cX5_comes 130 = .ok (.lconst 0, 1) := dk_9 (dk_at dksX5_comes_5 13 rfl rfl)
theorem dX5_comes_131 : decode cX5_comes 131 = .ok (.goto 5, 3) := dk_167 0 5 (dk_at dksX5_comes_5 14 rfl rfl)
theorem dX5_comes_134 : decode cX5_comes 134 = .ok (.lload 7, 2) := dk_22 7 (dk_at dksX5_comes_5 17 rfl rfl)
theorem dX5_comes_136 : decode cX5_comes 136 = .ok (.ladd, 1) := dk_97 (dk_at dksX5_comes_5 19 rfl rfl)
theorem dX5_comes_137 : decode cX5_comes 137 = .ok (.lastore, 1) := dk_80 (dk_at dksX5_comes_5 20 rfl rfl)
theorem dX5_comes_138 : decode cX5_comes 138 = .ok (.iconst 0, 1) := dk_3 (dk_at dksX5_comes_5 21 rfl rfl)
theorem dX5_comes_139 : decode cX5_comes 139 = .ok (.istore 9, 2) := dk_54 9 (dk_at dksX5_comes_5 22 rfl rfl)
theorem dX5_comes_141 : decode cX5_comes 141 = .ok (.iload 9, 2) := dk_21 9 (dk_at dksX5_comes_6 0 rfl rfl)
theorem dX5_comes_143 : decode cX5_comes 143 = .ok (.aload_n 0, 1) := dk_42 (dk_at dksX5_comes_6 2 rfl rfl)
theorem dX5_comes_144 : decode cX5_comes 144 = .ok (.getfield 26, 3) := dk_180 0 26 (dk_at dksX5_comes_6 3 rfl rfl)
theorem dX5_comes_147 : decode cX5_comes 147 = .ok (.getfield 39, 3) := dk_180 0 39 (dk_at dksX5_comes_6 6 rfl rfl)
theorem dX5_comes_150 : decode cX5_comes 150 = .ok (.if_icmp .ge 60, 3) := dk_162 0 60 (dk_at dksX5_comes_6 9 rfl rfl)
theorem dX5_comes_153 : decode cX5_comes 153 = .ok (.aload_n 0, 1) := dk_42 (dk_at dksX5_comes_6 12 rfl rfl)
theorem dX5_comes_154 : decode cX5_comes 154 = .ok (.getfield 32, 3) := dk_180 0 32 (dk_at dksX5_comes_6 13 rfl rfl)
theorem dX5_comes_157 : decode cX5_comes 157 = .ok (.ifnull 53, 3) := dk_198 0 53 (dk_at dksX5_comes_6 16 rfl rfl)
theorem dX5_comes_160 : decode cX5_comes 160 = .ok (.aload_n 0, 1) := dk_42 (dk_at dksX5_comes_6 19 rfl rfl)
theorem dX5_comes_161 : decode cX5_comes 161 = .ok (.getfield 32, 3) := dk_180 0 32 (dk_at dksX5_comes_6 20 rfl rfl)
theorem dX5_comes_164 : decode cX5_comes 164 = .ok (.iload 9, 2) := dk_21 9 (dk_at dksX5_comes_7 0 rfl rfl)
theorem dX5_comes_166 : decode cX5_comes 166 = .ok (.aaload, 1) := dk_50 (dk_at dksX5_comes_7 2 rfl rfl)
theorem dX5_comes_167 : decode cX5_comes 167 = .ok (.iconst 2, 1) := dk_5 (dk_at dksX5_comes_7 3 rfl rfl)
theorem dX5_comes_168 : decode cX5_comes 168 = .ok (.aload_n 0, 1) := dk_42 (dk_at dksX5_comes_7 4 rfl rfl)
theorem dX5_comes_169 : decode cX5_comes 169 = .ok (.getfield 26, 3) := dk_180 0 26 (dk_at dksX5_comes_7 5 rfl rfl)
theorem dX5_comes_172 : decode cX5_comes 172 = .ok (.getfield 70, 3) := dk_180 0 70 (dk_at dksX5_comes_7 8 rfl rfl)
theorem dX5_comes_175 : decode cX5_comes 175 = .ok (.iload 9, 2) := dk_21 9 (dk_at dksX5_comes_7 11 rfl rfl)
theorem dX5_comes_177 : decode cX5_comes 177 = .ok (.iaload, 1) := dk_46 (dk_at dksX5_comes_7 13 rfl rfl)
theorem dX5_comes_178 : decode cX5_comes 178 = .ok (.imul, 1) := dk_104 (dk_at dksX5_comes_7 14 rfl rfl)
theorem dX5_comes_179 : decode cX5_comes 179 = .ok (.aload_n 0, 1) := dk_42 (dk_at dksX5_comes_7 15 rfl rfl)
theorem dX5_comes_180 : decode cX5_comes 180 = .ok (.getfield 26, 3) := dk_180 0 26 (dk_at dksX5_comes_7 16 rfl rfl)
theorem dX5_comes_183 : decode cX5_comes 183 = .ok (.getfield 74, 3) := dk_180 0 74 (dk_at dksX5_comes_7 19 rfl rfl)
theorem dX5_comes_186 : decode cX5_comes 186 = .ok (.iload 9, 2) := dk_21 9 (dk_at dksX5_comes_7 22 rfl rfl)
theorem dX5_comes_188 : decode cX5_comes 188 = .ok (.baload, 1) := dk_51 (dk_at dksX5_comes_8 0 rfl rfl)
theorem dX5_comes_189 : decode cX5_comes 189 = .ok (.ifCond .eq 7, 3) := dk_153 0 7 (dk_at dksX5_comes_8 1 rfl rfl)
theorem dX5_comes_192 : decode cX5_comes 192 = .ok (.iconst 1, 1) := dk_4 (dk_at dksX5_comes_8 4 rfl rfl)
theorem dX5_comes_193 : decode cX5_comes 193 = .ok (.goto 4, 3) := dk_167 0 4 (dk_at dksX5_comes_8 5 rfl rfl)
theorem dX5_comes_196 : decode cX5_comes 196 = .ok (.iconst 0, 1) := dk_3 (dk_at dksX5_comes_8 8 rfl rfl)
theorem dX5_comes_197 : decode cX5_comes 197 = .ok (.iadd, 1) := dk_96 (dk_at dksX5_comes_8 9 rfl rfl)
theorem dX5_comes_198 : decode cX5_comes 198 = .ok (.dup2, 1) := dk_92 (dk_at dksX5_comes_8 10 rfl rfl)
theorem dX5_comes_199 : decode cX5_comes 199 = .ok (.laload, 1) := dk_47 (dk_at dksX5_comes_8 11 rfl rfl)
theorem dX5_comes_200 : decode cX5_comes 200 = .ok (.lload 7, 2) := dk_22 7 (dk_at dksX5_comes_8 12 rfl rfl)
theorem dX5_comes_202 : decode cX5_comes 202 = .ok (.ladd, 1) := dk_97 (dk_at dksX5_comes_8 14 rfl rfl)
theorem dX5_comes_203 : decode cX5_comes 203 = .ok (.lastore, 1) := dk_80 (dk_at dksX5_comes_8 15 rfl rfl)
theorem dX5_comes_204 : decode cX5_comes 204 = .ok (.iinc 9 1, 3) := dk_132 9 1 (dk_at dksX5_comes_8 16 rfl rfl)
theorem dX5_comes_207 : decode cX5_comes 207 = .ok (.goto (-66), 3) := dk_167 255 190 (dk_at dksX5_comes_8 19 rfl rfl)
theorem dX5_comes_210 : decode cX5_comes 210 = .ok (.return_, 1) := dk_177 (dk_at dksX5_comes_8 22 rfl rfl)
abbrev cX5_turn : ByteArray := prog_7_method_4_code
def yX5_turn : MethodName := ⟨RX5, "turn", "(JJIII)V"⟩
def dkwX5_turn_8 : List UInt8 := [21, 5, 46, 133, 33, 105, 21, 6, 4, 96, 21, 7, 4, 96, 182, 0, 88, 177]
abbrev dktX5_turn_8 : List UInt8 := dkwX5_turn_8 ++ []
def dkwX5_turn_7 : List UInt8 := [42, 180, 0, 26, 21, 5, 182, 0, 133, 42, 42, 180, 0, 3, 180, 0, 85, 42, 180, 0, 26, 180, 0, 130]
abbrev dktX5_turn_7 : List UInt8 := dkwX5_turn_7 ++ dktX5_turn_8
def dkwX5_turn_6 : List UInt8 := [182, 0, 88, 42, 180, 0, 26, 180, 0, 130, 21, 5, 46, 158, 0, 52, 42, 180, 0, 26, 31, 182, 0, 116]
abbrev dktX5_turn_6 : List UInt8 := dkwX5_turn_6 ++ dktX5_turn_7
def dkwX5_turn_5 : List UInt8 := [16, 6, 42, 180, 0, 26, 180, 0, 130, 21, 5, 46, 100, 133, 33, 105, 21, 6, 4, 96, 21, 7, 4, 96]
abbrev dktX5_turn_5 : List UInt8 := dkwX5_turn_5 ++ dktX5_turn_6
def dkwX5_turn_4 : List UInt8 := [42, 180, 0, 26, 180, 0, 130, 21, 5, 46, 16, 6, 162, 0, 38, 42, 42, 180, 0, 3, 180, 0, 85]
abbrev dktX5_turn_4 : List UInt8 := dkwX5_turn_4 ++ dktX5_turn_5
def dkwX5_turn_3 : List UInt8 := [42, 180, 0, 3, 180, 0, 85, 20, 0, 68, 33, 105, 21, 6, 4, 96, 21, 7, 4, 96, 182, 0, 88, 177]
abbrev dktX5_turn_3 : List UInt8 := dkwX5_turn_3 ++ dktX5_turn_4
def dkwX5_turn_2 : List UInt8 := [167, 0, 4, 3, 54, 8, 21, 8, 153, 0, 15, 42, 180, 0, 26, 21, 5, 182, 0, 126, 154, 0, 28, 42]
abbrev dktX5_turn_2 : List UInt8 := dkwX5_turn_2 ++ dktX5_turn_3
def dkwX5_turn_1 : List UInt8 := [157, 0, 23, 42, 180, 0, 26, 180, 0, 120, 21, 5, 46, 42, 180, 0, 3, 180, 0, 123, 159, 0, 7, 4]
abbrev dktX5_turn_1 : List UInt8 := dkwX5_turn_1 ++ dktX5_turn_2
def dkwX5_turn_0 : List UInt8 := [42, 180, 0, 26, 31, 182, 0, 116, 42, 180, 0, 26, 180, 0, 74, 21, 5, 51, 153, 0, 32, 21, 7]
abbrev dktX5_turn_0 : List UInt8 := dkwX5_turn_0 ++ dktX5_turn_1
theorem dksX5_turn_0 : cX5_turn.data.toList.drop 0 = dktX5_turn_0 := by decide +kernel
theorem dksX5_turn_1 : cX5_turn.data.toList.drop 23 = dktX5_turn_1 := dk_seg dksX5_turn_0 23 rfl rfl
theorem dksX5_turn_2 : cX5_turn.data.toList.drop 47 = dktX5_turn_2 := dk_seg dksX5_turn_1 24 rfl rfl
theorem dksX5_turn_3 : cX5_turn.data.toList.drop 71 = dktX5_turn_3 := dk_seg dksX5_turn_2 24 rfl rfl
theorem dksX5_turn_4 : cX5_turn.data.toList.drop 95 = dktX5_turn_4 := dk_seg dksX5_turn_3 24 rfl rfl
theorem dksX5_turn_5 : cX5_turn.data.toList.drop 118 = dktX5_turn_5 := dk_seg dksX5_turn_4 23 rfl rfl
theorem dksX5_turn_6 : cX5_turn.data.toList.drop 142 = dktX5_turn_6 := dk_seg dksX5_turn_5 24 rfl rfl
theorem dksX5_turn_7 : cX5_turn.data.toList.drop 166 = dktX5_turn_7 := dk_seg dksX5_turn_6 24 rfl rfl
theorem dksX5_turn_8 : cX5_turn.data.toList.drop 190 = dktX5_turn_8 := dk_seg dksX5_turn_7 24 rfl rfl
theorem dX5_turn_0 : decode cX5_turn 0 = .ok (.aload_n 0, 1) := dk_42 (dk_at dksX5_turn_0 0 rfl rfl)
theorem dX5_turn_1 : decode cX5_turn 1 = .ok (.getfield 26, 3) := dk_180 0 26 (dk_at dksX5_turn_0 1 rfl rfl)
theorem dX5_turn_4 : decode cX5_turn 4 = .ok (.lload_n 1, 1) := dk_31 (dk_at dksX5_turn_0 4 rfl rfl)
theorem dX5_turn_5 : decode cX5_turn 5 = .ok (.invokevirtual 116, 3) := dk_182 0 116 (dk_at dksX5_turn_0 5 rfl rfl)
theorem dX5_turn_8 : decode cX5_turn 8 = .ok (.aload_n 0, 1) := dk_42 (dk_at dksX5_turn_0 8 rfl rfl)
theorem dX5_turn_9 : decode cX5_turn 9 = .ok (.getfield 26, 3) := dk_180 0 26 (dk_at dksX5_turn_0 9 rfl rfl)
theorem dX5_turn_12 : decode cX5_turn 12 = .ok (.getfield 74, 3) := dk_180 0 74 (dk_at dksX5_turn_0 12 rfl rfl)
theorem dX5_turn_15 : decode cX5_turn 15 = .ok (.iload 5, 2) := dk_21 5 (dk_at dksX5_turn_0 15 rfl rfl)
theorem dX5_turn_17 : decode cX5_turn 17 = .ok (.baload, 1) := dk_51 (dk_at dksX5_turn_0 17 rfl rfl)
theorem dX5_turn_18 : decode cX5_turn 18 = .ok (.ifCond .eq 32, 3) := dk_153 0 32 (dk_at dksX5_turn_0 18 rfl rfl)
theorem dX5_turn_21 : decode cX5_turn 21 = .ok (.iload 7, 2) := dk_21 7 (dk_at dksX5_turn_0 21 rfl rfl)
theorem dX5_turn_23 : decode cX5_turn 23 = .ok (.ifCond .gt 23, 3) := dk_157 0 23 (dk_at dksX5_turn_1 0 rfl rfl)
theorem dX5_turn_26 : decode cX5_turn 26 = .ok (.aload_n 0, 1) := dk_42 (dk_at dksX5_turn_1 3 rfl rfl)
theorem dX5_turn_27 : decode cX5_turn 27 = .ok (.getfield 26, 3) := dk_180 0 26 (dk_at dksX5_turn_1 4 rfl rfl)
theorem dX5_turn_30 : decode cX5_turn 30 = .ok (.getfield 120, 3) := dk_180 0 120 (dk_at dksX5_turn_1 7 rfl rfl)
theorem dX5_turn_33 : decode cX5_turn 33 = .ok (.iload 5, 2) := dk_21 5 (dk_at dksX5_turn_1 10 rfl rfl)
theorem dX5_turn_35 : decode cX5_turn 35 = .ok (.iaload, 1) := dk_46 (dk_at dksX5_turn_1 12 rfl rfl)
theorem dX5_turn_36 : decode cX5_turn 36 = .ok (.aload_n 0, 1) := dk_42 (dk_at dksX5_turn_1 13 rfl rfl)
theorem dX5_turn_37 : decode cX5_turn 37 = .ok (.getfield 3, 3) := dk_180 0 3 (dk_at dksX5_turn_1 14 rfl rfl)
theorem dX5_turn_40 : decode cX5_turn 40 = .ok (.getfield 123, 3) := dk_180 0 123 (dk_at dksX5_turn_1 17 rfl rfl)
theorem dX5_turn_43 : decode cX5_turn 43 = .ok (.if_icmp .eq 7, 3) := dk_159 0 7 (dk_at dksX5_turn_1 20 rfl rfl)
theorem dX5_turn_46 : decode cX5_turn 46 = .ok (.iconst 1, 1) := dk_4 (dk_at dksX5_turn_1 23 rfl rfl)
theorem dX5_turn_47 : decode cX5_turn 47 = .ok (.goto 4, 3) := dk_167 0 4 (dk_at dksX5_turn_2 0 rfl rfl)
theorem dX5_turn_50 : decode cX5_turn 50 = .ok (.iconst 0, 1) := dk_3 (dk_at dksX5_turn_2 3 rfl rfl)
theorem dX5_turn_51 : decode cX5_turn 51 = .ok (.istore 8, 2) := dk_54 8 (dk_at dksX5_turn_2 4 rfl rfl)
theorem dX5_turn_53 : decode cX5_turn 53 = .ok (.iload 8, 2) := dk_21 8 (dk_at dksX5_turn_2 6 rfl rfl)
theorem dX5_turn_55 : decode cX5_turn 55 = .ok (.ifCond .eq 15, 3) := dk_153 0 15 (dk_at dksX5_turn_2 8 rfl rfl)
theorem dX5_turn_58 : decode cX5_turn 58 = .ok (.aload_n 0, 1) := dk_42 (dk_at dksX5_turn_2 11 rfl rfl)
theorem dX5_turn_59 : decode cX5_turn 59 = .ok (.getfield 26, 3) := dk_180 0 26 (dk_at dksX5_turn_2 12 rfl rfl)
theorem dX5_turn_62 : decode cX5_turn 62 = .ok (.iload 5, 2) := dk_21 5 (dk_at dksX5_turn_2 15 rfl rfl)
theorem dX5_turn_64 : decode cX5_turn 64 = .ok (.invokevirtual 126, 3) := dk_182 0 126 (dk_at dksX5_turn_2 17 rfl rfl)
theorem dX5_turn_67 : decode cX5_turn 67 = .ok (.ifCond .ne 28, 3) := dk_154 0 28 (dk_at dksX5_turn_2 20 rfl rfl)
theorem dX5_turn_70 : decode cX5_turn 70 = .ok (.aload_n 0, 1) := dk_42 (dk_at dksX5_turn_2 23 rfl rfl)
theorem dX5_turn_71 : decode cX5_turn 71 = .ok (.aload_n 0, 1) := dk_42 (dk_at dksX5_turn_3 0 rfl rfl)
theorem dX5_turn_72 : decode cX5_turn 72 = .ok (.getfield 3, 3) := dk_180 0 3 (dk_at dksX5_turn_3 1 rfl rfl)
theorem dX5_turn_75 : decode cX5_turn 75 = .ok (.getfield 85, 3) := dk_180 0 85 (dk_at dksX5_turn_3 4 rfl rfl)
theorem dX5_turn_78 : decode cX5_turn 78 = .ok (.ldc2_w 68, 3) := dk_20 0 68 (dk_at dksX5_turn_3 7 rfl rfl)
theorem dX5_turn_81 : decode cX5_turn 81 = .ok (.lload_n 3, 1) := dk_33 (dk_at dksX5_turn_3 10 rfl rfl)
theorem dX5_turn_82 : decode cX5_turn 82 = .ok (.lmul, 1) := dk_105 (dk_at dksX5_turn_3 11 rfl rfl)
theorem dX5_turn_83 : decode cX5_turn 83 = .ok (.iload 6, 2) := dk_21 6 (dk_at dksX5_turn_3 12 rfl rfl)
theorem dX5_turn_85 : decode cX5_turn 85 = .ok (.iconst 1, 1) := dk_4 (dk_at dksX5_turn_3 14 rfl rfl)
theorem dX5_turn_86 : decode cX5_turn 86 = .ok (.iadd, 1) := dk_96 (dk_at dksX5_turn_3 15 rfl rfl)
theorem dX5_turn_87 : decode cX5_turn 87 = .ok (.iload 7, 2) := dk_21 7 (dk_at dksX5_turn_3 16 rfl rfl)
theorem dX5_turn_89 : decode cX5_turn 89 = .ok (.iconst 1, 1) := dk_4 (dk_at dksX5_turn_3 18 rfl rfl)
theorem dX5_turn_90 : decode cX5_turn 90 = .ok (.iadd, 1) := dk_96 (dk_at dksX5_turn_3 19 rfl rfl)
theorem dX5_turn_91 : decode cX5_turn 91 = .ok (.invokevirtual 88, 3) := dk_182 0 88 (dk_at dksX5_turn_3 20 rfl rfl)
theorem dX5_turn_94 : decode cX5_turn 94 = .ok (.return_, 1) := dk_177 (dk_at dksX5_turn_3 23 rfl rfl)
theorem dX5_turn_95 : decode cX5_turn 95 = .ok (.aload_n 0, 1) := dk_42 (dk_at dksX5_turn_4 0 rfl rfl)
theorem dX5_turn_96 : decode cX5_turn 96 = .ok (.getfield 26, 3) := dk_180 0 26 (dk_at dksX5_turn_4 1 rfl rfl)
theorem dX5_turn_99 : decode cX5_turn 99 = .ok (.getfield 130, 3) := dk_180 0 130 (dk_at dksX5_turn_4 4 rfl rfl)
theorem dX5_turn_102 : decode cX5_turn 102 = .ok (.iload 5, 2) := dk_21 5 (dk_at dksX5_turn_4 7 rfl rfl)
theorem dX5_turn_104 : decode cX5_turn 104 = .ok (.iaload, 1) := dk_46 (dk_at dksX5_turn_4 9 rfl rfl)
theorem dX5_turn_105 : decode cX5_turn 105 = .ok (.bipush 6, 2) := dk_16 6 (dk_at dksX5_turn_4 10 rfl rfl)
theorem dX5_turn_107 : decode cX5_turn 107 = .ok (.if_icmp .ge 38, 3) := dk_162 0 38 (dk_at dksX5_turn_4 12 rfl rfl)
theorem dX5_turn_110 : decode cX5_turn 110 = .ok (.aload_n 0, 1) := dk_42 (dk_at dksX5_turn_4 15 rfl rfl)
theorem dX5_turn_111 : decode cX5_turn 111 = .ok (.aload_n 0, 1) := dk_42 (dk_at dksX5_turn_4 16 rfl rfl)
theorem dX5_turn_112 : decode cX5_turn 112 = .ok (.getfield 3, 3) := dk_180 0 3 (dk_at dksX5_turn_4 17 rfl rfl)
theorem dX5_turn_115 : decode cX5_turn 115 = .ok (.getfield 85, 3) := dk_180 0 85 (dk_at dksX5_turn_4 20 rfl rfl)
theorem dX5_turn_118 : decode cX5_turn 118 = .ok (.bipush 6, 2) := dk_16 6 (dk_at dksX5_turn_5 0 rfl rfl)
theorem dX5_turn_120 : decode cX5_turn 120 = .ok (.aload_n 0, 1) := dk_42 (dk_at dksX5_turn_5 2 rfl rfl)
theorem dX5_turn_121 : decode cX5_turn 121 = .ok (.getfield 26, 3) := dk_180 0 26 (dk_at dksX5_turn_5 3 rfl rfl)
theorem dX5_turn_124 : decode cX5_turn 124 = .ok (.getfield 130, 3) := dk_180 0 130 (dk_at dksX5_turn_5 6 rfl rfl)
theorem dX5_turn_127 : decode cX5_turn 127 = .ok (.iload 5, 2) := dk_21 5 (dk_at dksX5_turn_5 9 rfl rfl)
theorem dX5_turn_129 : decode cX5_turn 129 = .ok (.iaload, 1) := dk_46 (dk_at dksX5_turn_5 11 rfl rfl)
theorem dX5_turn_130 : decode cX5_turn 130 = .ok (.isub, 1) := dk_100 (dk_at dksX5_turn_5 12 rfl rfl)
theorem dX5_turn_131 : decode cX5_turn 131 = .ok (.i2l, 1) := dk_133 (dk_at dksX5_turn_5 13 rfl rfl)
theorem dX5_turn_132 : decode cX5_turn 132 = .ok (.lload_n 3, 1) := dk_33 (dk_at dksX5_turn_5 14 rfl rfl)
theorem dX5_turn_133 : decode cX5_turn 133 = .ok (.lmul, 1) := dk_105 (dk_at dksX5_turn_5 15 rfl rfl)
theorem dX5_turn_134 : decode cX5_turn 134 = .ok (.iload 6, 2) := dk_21 6 (dk_at dksX5_turn_5 16 rfl rfl)
theorem dX5_turn_136 : decode cX5_turn 136 = .ok (.iconst 1, 1) := dk_4 (dk_at dksX5_turn_5 18 rfl rfl)
theorem dX5_turn_137 : decode cX5_turn 137 = .ok (.iadd, 1) := dk_96 (dk_at dksX5_turn_5 19 rfl rfl)
theorem dX5_turn_138 : decode cX5_turn 138 = .ok (.iload 7, 2) := dk_21 7 (dk_at dksX5_turn_5 20 rfl rfl)
theorem dX5_turn_140 : decode cX5_turn 140 = .ok (.iconst 1, 1) := dk_4 (dk_at dksX5_turn_5 22 rfl rfl)
theorem dX5_turn_141 : decode cX5_turn 141 = .ok (.iadd, 1) := dk_96 (dk_at dksX5_turn_5 23 rfl rfl)
theorem dX5_turn_142 : decode cX5_turn 142 = .ok (.invokevirtual 88, 3) := dk_182 0 88 (dk_at dksX5_turn_6 0 rfl rfl)
theorem dX5_turn_145 : decode cX5_turn 145 = .ok (.aload_n 0, 1) := dk_42 (dk_at dksX5_turn_6 3 rfl rfl)
theorem dX5_turn_146 : decode cX5_turn 146 = .ok (.getfield 26, 3) := dk_180 0 26 (dk_at dksX5_turn_6 4 rfl rfl)
theorem dX5_turn_149 : decode cX5_turn 149 = .ok (.getfield 130, 3) := dk_180 0 130 (dk_at dksX5_turn_6 7 rfl rfl)
theorem dX5_turn_152 : decode cX5_turn 152 = .ok (.iload 5, 2) := dk_21 5 (dk_at dksX5_turn_6 10 rfl rfl)
theorem dX5_turn_154 : decode cX5_turn 154 = .ok (.iaload, 1) := dk_46 (dk_at dksX5_turn_6 12 rfl rfl)
theorem dX5_turn_155 : decode cX5_turn 155 = .ok (.ifCond .le 52, 3) := dk_158 0 52 (dk_at dksX5_turn_6 13 rfl rfl)
theorem dX5_turn_158 : decode cX5_turn 158 = .ok (.aload_n 0, 1) := dk_42 (dk_at dksX5_turn_6 16 rfl rfl)
theorem dX5_turn_159 : decode cX5_turn 159 = .ok (.getfield 26, 3) := dk_180 0 26 (dk_at dksX5_turn_6 17 rfl rfl)
theorem dX5_turn_162 : decode cX5_turn 162 = .ok (.lload_n 1, 1) := dk_31 (dk_at dksX5_turn_6 20 rfl rfl)
theorem dX5_turn_163 : decode cX5_turn 163 = .ok (.invokevirtual 116, 3) := dk_182 0 116 (dk_at dksX5_turn_6 21 rfl rfl)
theorem dX5_turn_166 : decode cX5_turn 166 = .ok (.aload_n 0, 1) := dk_42 (dk_at dksX5_turn_7 0 rfl rfl)
theorem dX5_turn_167 : decode cX5_turn 167 = .ok (.getfield 26, 3) := dk_180 0 26 (dk_at dksX5_turn_7 1 rfl rfl)
theorem dX5_turn_170 : decode cX5_turn 170 = .ok (.iload 5, 2) := dk_21 5 (dk_at dksX5_turn_7 4 rfl rfl)
theorem dX5_turn_172 : decode cX5_turn 172 = .ok (.invokevirtual 133, 3) := dk_182 0 133 (dk_at dksX5_turn_7 6 rfl rfl)
theorem dX5_turn_175 : decode cX5_turn 175 = .ok (.aload_n 0, 1) := dk_42 (dk_at dksX5_turn_7 9 rfl rfl)
theorem dX5_turn_176 : decode cX5_turn 176 = .ok (.aload_n 0, 1) := dk_42 (dk_at dksX5_turn_7 10 rfl rfl)
theorem dX5_turn_177 : decode cX5_turn 177 = .ok (.getfield 3, 3) := dk_180 0 3 (dk_at dksX5_turn_7 11 rfl rfl)
theorem dX5_turn_180 : decode cX5_turn 180 = .ok (.getfield 85, 3) := dk_180 0 85 (dk_at dksX5_turn_7 14 rfl rfl)
theorem dX5_turn_183 : decode cX5_turn 183 = .ok (.aload_n 0, 1) := dk_42 (dk_at dksX5_turn_7 17 rfl rfl)
theorem dX5_turn_184 : decode cX5_turn 184 = .ok (.getfield 26, 3) := dk_180 0 26 (dk_at dksX5_turn_7 18 rfl rfl)
theorem dX5_turn_187 : decode cX5_turn 187 = .ok (.getfield 130, 3) := dk_180 0 130 (dk_at dksX5_turn_7 21 rfl rfl)
theorem dX5_turn_190 : decode cX5_turn 190 = .ok (.iload 5, 2) := dk_21 5 (dk_at dksX5_turn_8 0 rfl rfl)
theorem dX5_turn_192 : decode cX5_turn 192 = .ok (.iaload, 1) := dk_46 (dk_at dksX5_turn_8 2 rfl rfl)
theorem dX5_turn_193 : decode cX5_turn 193 = .ok (.i2l, 1) := dk_133 (dk_at dksX5_turn_8 3 rfl rfl)
theorem dX5_turn_194 : decode cX5_turn 194 = .ok (.lload_n 3, 1) := dk_33 (dk_at dksX5_turn_8 4 rfl rfl)
theorem dX5_turn_195 : decode cX5_turn 195 = .ok (.lmul, 1) := dk_105 (dk_at dksX5_turn_8 5 rfl rfl)
theorem dX5_turn_196 : decode cX5_turn 196 = .ok (.iload 6, 2) := dk_21 6 (dk_at dksX5_turn_8 6 rfl rfl)
theorem dX5_turn_198 : decode cX5_turn 198 = .ok (.iconst 1, 1) := dk_4 (dk_at dksX5_turn_8 8 rfl rfl)
theorem dX5_turn_199 : decode cX5_turn 199 = .ok (.iadd, 1) := dk_96 (dk_at dksX5_turn_8 9 rfl rfl)
theorem dX5_turn_200 : decode cX5_turn 200 = .ok (.iload 7, 2) := dk_21 7 (dk_at dksX5_turn_8 10 rfl rfl)
theorem dX5_turn_202 : decode cX5_turn 202 = .ok (.iconst 1, 1) := dk_4 (dk_at dksX5_turn_8 12 rfl rfl)
theorem dX5_turn_203 : decode cX5_turn 203 = .ok (.iadd, 1) := dk_96 (dk_at dksX5_turn_8 13 rfl rfl)
theorem dX5_turn_204 : decode cX5_turn 204 = .ok (.invokevirtual 88, 3) := dk_182 0 88 (dk_at dksX5_turn_8 14 rfl rfl)
theorem dX5_turn_207 : decode cX5_turn 207 = .ok (.return_, 1) := dk_177 (dk_at dksX5_turn_8 17 rfl rfl)
abbrev cX5_chance : ByteArray := prog_7_method_5_code
def yX5_chance : MethodName := ⟨RX5, "chance", "()I"⟩
def dkwX5_chance_2 : List UInt8 := [167, 255, 220, 27, 172]
abbrev dktX5_chance_2 : List UInt8 := dkwX5_chance_2 ++ []
def dkwX5_chance_1 : List UInt8 := [65, 16, 10, 27, 104, 32, 42, 180, 0, 15, 109, 136, 96, 60, 32, 42, 180, 0, 15, 113, 65, 132, 4, 1]
abbrev dktX5_chance_1 : List UInt8 := dkwX5_chance_1 ++ dktX5_chance_2
def dkwX5_chance_0 : List UInt8 := [3, 60, 42, 180, 0, 19, 3, 47, 65, 3, 54, 4, 21, 4, 16, 6, 162, 0, 35, 32, 20, 0, 137, 105]
abbrev dktX5_chance_0 : List UInt8 := dkwX5_chance_0 ++ dktX5_chance_1
theorem dksX5_chance_0 : cX5_chance.data.toList.drop 0 = dktX5_chance_0 := by decide +kernel
theorem dksX5_chance_1 : cX5_chance.data.toList.drop 24 = dktX5_chance_1 := dk_seg dksX5_chance_0 24 rfl rfl
theorem dksX5_chance_2 : cX5_chance.data.toList.drop 48 = dktX5_chance_2 := dk_seg dksX5_chance_1 24 rfl rfl
theorem dX5_chance_0 : decode cX5_chance 0 = .ok (.iconst 0, 1) := dk_3 (dk_at dksX5_chance_0 0 rfl rfl)
theorem dX5_chance_1 : decode cX5_chance 1 = .ok (.istore_n 1, 1) := dk_60 (dk_at dksX5_chance_0 1 rfl rfl)
theorem dX5_chance_2 : decode cX5_chance 2 = .ok (.aload_n 0, 1) := dk_42 (dk_at dksX5_chance_0 2 rfl rfl)
theorem dX5_chance_3 : decode cX5_chance 3 = .ok (.getfield 19, 3) := dk_180 0 19 (dk_at dksX5_chance_0 3 rfl rfl)
theorem dX5_chance_6 : decode cX5_chance 6 = .ok (.iconst 0, 1) := dk_3 (dk_at dksX5_chance_0 6 rfl rfl)
theorem dX5_chance_7 : decode cX5_chance 7 = .ok (.laload, 1) := dk_47 (dk_at dksX5_chance_0 7 rfl rfl)
theorem dX5_chance_8 : decode cX5_chance 8 = .ok (.lstore_n 2, 1) := dk_65 (dk_at dksX5_chance_0 8 rfl rfl)
theorem dX5_chance_9 : decode cX5_chance 9 = .ok (.iconst 0, 1) := dk_3 (dk_at dksX5_chance_0 9 rfl rfl)
theorem dX5_chance_10 : decode cX5_chance 10 = .ok (.istore 4, 2) := dk_54 4 (dk_at dksX5_chance_0 10 rfl rfl)
theorem dX5_chance_12 : decode cX5_chance 12 = .ok (.iload 4, 2) := dk_21 4 (dk_at dksX5_chance_0 12 rfl rfl)
theorem dX5_chance_14 : decode cX5_chance 14 = .ok (.bipush 6, 2) := dk_16 6 (dk_at dksX5_chance_0 14 rfl rfl)
theorem dX5_chance_16 : decode cX5_chance 16 = .ok (.if_icmp .ge 35, 3) := dk_162 0 35 (dk_at dksX5_chance_0 16 rfl rfl)
theorem dX5_chance_19 : decode cX5_chance 19 = .ok (.lload_n 2, 1) := dk_32 (dk_at dksX5_chance_0 19 rfl rfl)
theorem dX5_chance_20 : decode cX5_chance 20 = .ok (.ldc2_w 137, 3) := dk_20 0 137 (dk_at dksX5_chance_0 20 rfl rfl)
theorem dX5_chance_23 : decode cX5_chance 23 = .ok (.lmul, 1) := dk_105 (dk_at dksX5_chance_0 23 rfl rfl)
theorem dX5_chance_24 : decode cX5_chance 24 = .ok (.lstore_n 2, 1) := dk_65 (dk_at dksX5_chance_1 0 rfl rfl)
theorem dX5_chance_25 : decode cX5_chance 25 = .ok (.bipush 10, 2) := dk_16 10 (dk_at dksX5_chance_1 1 rfl rfl)
theorem dX5_chance_27 : decode cX5_chance 27 = .ok (.iload_n 1, 1) := dk_27 (dk_at dksX5_chance_1 3 rfl rfl)
theorem dX5_chance_28 : decode cX5_chance 28 = .ok (.imul, 1) := dk_104 (dk_at dksX5_chance_1 4 rfl rfl)
theorem dX5_chance_29 : decode cX5_chance 29 = .ok (.lload_n 2, 1) := dk_32 (dk_at dksX5_chance_1 5 rfl rfl)
theorem dX5_chance_30 : decode cX5_chance 30 = .ok (.aload_n 0, 1) := dk_42 (dk_at dksX5_chance_1 6 rfl rfl)
theorem dX5_chance_31 : decode cX5_chance 31 = .ok (.getfield 15, 3) := dk_180 0 15 (dk_at dksX5_chance_1 7 rfl rfl)
theorem dX5_chance_34 : decode cX5_chance 34 = .ok (.ldiv, 1) := dk_109 (dk_at dksX5_chance_1 10 rfl rfl)
theorem dX5_chance_35 : decode cX5_chance 35 = .ok (.l2i, 1) := dk_136 (dk_at dksX5_chance_1 11 rfl rfl)
theorem dX5_chance_36 : decode cX5_chance 36 = .ok (.iadd, 1) := dk_96 (dk_at dksX5_chance_1 12 rfl rfl)
theorem dX5_chance_37 : decode cX5_chance 37 = .ok (.istore_n 1, 1) := dk_60 (dk_at dksX5_chance_1 13 rfl rfl)
theorem dX5_chance_38 : decode cX5_chance 38 = .ok (.lload_n 2, 1) := dk_32 (dk_at dksX5_chance_1 14 rfl rfl)
theorem dX5_chance_39 : decode cX5_chance 39 = .ok (.aload_n 0, 1) := dk_42 (dk_at dksX5_chance_1 15 rfl rfl)
theorem dX5_chance_40 : decode cX5_chance 40 = .ok (.getfield 15, 3) := dk_180 0 15 (dk_at dksX5_chance_1 16 rfl rfl)
theorem dX5_chance_43 : decode cX5_chance 43 = .ok (.lrem, 1) := dk_113 (dk_at dksX5_chance_1 19 rfl rfl)
theorem dX5_chance_44 : decode cX5_chance 44 = .ok (.lstore_n 2, 1) := dk_65 (dk_at dksX5_chance_1 20 rfl rfl)
theorem dX5_chance_45 : decode cX5_chance 45 = .ok (.iinc 4 1, 3) := dk_132 4 1 (dk_at dksX5_chance_1 21 rfl rfl)
theorem dX5_chance_48 : decode cX5_chance 48 = .ok (.goto (-36), 3) := dk_167 255 220 (dk_at dksX5_chance_2 0 rfl rfl)
theorem dX5_chance_51 : decode cX5_chance 51 = .ok (.iload_n 1, 1) := dk_27 (dk_at dksX5_chance_2 3 rfl rfl)
theorem dX5_chance_52 : decode cX5_chance 52 = .ok (.ireturn, 1) := dk_172 (dk_at dksX5_chance_2 4 rfl rfl)
theorem q48 : (Jvm.Cond.initialized "FairFight$Odds") ∈ lw_all := lw_g (lw_at lw_m1 9 rfl) rfl
theorem q87 : (Jvm.Cond.fieldLinkNest "FairFight$Odds" (108 : Nat) "FairFight$Table" "keys" "[J" "FairFight") ∈ lw_tbl := lw_at lw_m1 48 rfl
theorem q89 : (Jvm.Cond.fieldLinkNest "FairFight$Odds" (111 : Nat) "FairFight$Table" "ways" "[J" "FairFight") ∈ lw_tbl := lw_at lw_m1 50 rfl
theorem q91 : (Jvm.Cond.fieldLinkNest "FairFight$Odds" (105 : Nat) "FairFight$Table" "used" "[I" "FairFight") ∈ lw_tbl := lw_at lw_m1 52 rfl
theorem q93 : (Jvm.Cond.fieldLinkNest "FairFight$Odds" (98 : Nat) "FairFight$Table" "many" "I" "FairFight") ∈ lw_tbl := lw_at lw_m1 54 rfl
theorem q151 : (Jvm.Cond.fieldLinkNest "FairFight$Odds" (35 : Nat) "FairFight" "rounds" "I" "FairFight") ∈ lw_tbl := lw_at lw_m1 112 rfl
theorem q156 : (Jvm.Cond.fieldLinkNest "FairFight$Odds" (123 : Nat) "FairFight" "surprised" "I" "FairFight") ∈ lw_tbl := lw_at lw_m1 117 rfl
theorem q157 : (Jvm.Cond.fieldLinkNest "FairFight$Odds" (78 : Nat) "FairFight" "nowTable" "LFairFight$Table;" "FairFight") ∈ lw_tbl := lw_at lw_m1 118 rfl
theorem q159 : (Jvm.Cond.fieldLinkNest "FairFight$Odds" (85 : Nat) "FairFight" "nextTable" "LFairFight$Table;" "FairFight") ∈ lw_tbl := lw_at lw_m1 120 rfl
theorem q273 : (Jvm.Cond.instantiable "FairFight$Odds" (9 : Nat)) ∈ lw_all := lw_g (lw_at lw_m1 234 rfl) rfl
theorem q285 : (Jvm.Cond.fieldLinkNest "FairFight$Odds" (39 : Nat) "FairFight$Fight" "many" "I" "FairFight") ∈ lw_tbl := lw_at lw_m2 6 rfl
theorem q297 : (Jvm.Cond.fieldLinkNest "FairFight$Odds" (120 : Nat) "FairFight$Fight" "side" "[I" "FairFight") ∈ lw_tbl := lw_at lw_m2 18 rfl
theorem q305 : (Jvm.Cond.fieldLinkNest "FairFight$Odds" (130 : Nat) "FairFight$Fight" "hit" "[I" "FairFight") ∈ lw_tbl := lw_at lw_m2 26 rfl
theorem q313 : (Jvm.Cond.fieldLinkNest "FairFight$Odds" (92 : Nat) "FairFight$Fight" "turns" "[I" "FairFight") ∈ lw_tbl := lw_at lw_m2 34 rfl
theorem q318 : (Jvm.Cond.fieldLinkNest "FairFight$Odds" (70 : Nat) "FairFight$Fight" "life" "[I" "FairFight") ∈ lw_tbl := lw_at lw_m2 39 rfl
theorem q324 : (Jvm.Cond.fieldLinkNest "FairFight$Odds" (74 : Nat) "FairFight$Fight" "isUp" "[Z" "FairFight") ∈ lw_tbl := lw_at lw_m2 45 rfl
theorem q353 : (Jvm.Cond.instanceMethod ({ cls := "FairFight$Odds", name := "<init>", desc := "(LFairFight;LFairFight$Fight;Z)V" } : Jvm.MethodName)) ∈ lw_all := lw_g (lw_at lw_m2 74 rfl) rfl
theorem q354 : (Jvm.Cond.code ({ cls := "FairFight$Odds", name := "<init>", desc := "(LFairFight;LFairFight$Fight;Z)V" } : Jvm.MethodName) prog_7_method_1_code (4 : Nat) (Option.none : Option Jvm.ClassFile.FieldType)) ∈ lw_all := lw_g (lw_at lw_m2 75 rfl) rfl
theorem q355 : (Jvm.Cond.methodLink "FairFight$Odds" (9 : Nat) ({ cls := "java/lang/Object", name := "<init>", desc := "()V" } : Jvm.MethodName)) ∈ lw_all := lw_g (lw_at lw_m2 76 rfl) rfl
theorem q356 : (Jvm.Cond.classLink "FairFight$Odds" (30 : Nat) "[[J") ∈ lw_all := lw_g (lw_at lw_m2 77 rfl) rfl
theorem q358 : (Jvm.Cond.methodLink "FairFight$Odds" (51 : Nat) ({ cls := "FairFight$Odds", name := "work", desc := "()V" } : Jvm.MethodName)) ∈ lw_all := lw_g (lw_at lw_m2 79 rfl) rfl
theorem q359 : (Jvm.Cond.privateMethod ({ cls := "FairFight$Odds", name := "work", desc := "()V" } : Jvm.MethodName)) ∈ lw_tbl := lw_at lw_m2 80 rfl
theorem q360 : (Jvm.Cond.instanceMethod ({ cls := "FairFight$Odds", name := "work", desc := "()V" } : Jvm.MethodName)) ∈ lw_all := lw_g (lw_at lw_m2 81 rfl) rfl
theorem q361 : (Jvm.Cond.code ({ cls := "FairFight$Odds", name := "work", desc := "()V" } : Jvm.MethodName) prog_7_method_3_code (6 : Nat) (Option.none : Option Jvm.ClassFile.FieldType)) ∈ lw_all := lw_g (lw_at lw_m2 82 rfl) rfl
theorem q362 : (Jvm.Cond.methodLink "FairFight$Odds" (82 : Nat) ({ cls := "FairFight$Table", name := "clear", desc := "()V" } : Jvm.MethodName)) ∈ lw_all := lw_g (lw_at lw_m2 83 rfl) rfl
theorem q366 : (Jvm.Cond.constantLong "FairFight$Odds" (68 : Nat) (6 : Int64)) ∈ lw_all := lw_g (lw_at lw_m2 87 rfl) rfl
theorem q367 : (Jvm.Cond.methodLink "FairFight$Odds" (88 : Nat) ({ cls := "FairFight$Odds", name := "comes", desc := "(LFairFight$Table;JII)V" } : Jvm.MethodName)) ∈ lw_all := lw_g (lw_at lw_m2 88 rfl) rfl
theorem q368 : (Jvm.Cond.privateMethod ({ cls := "FairFight$Odds", name := "comes", desc := "(LFairFight$Table;JII)V" } : Jvm.MethodName)) ∈ lw_tbl := lw_at lw_m2 89 rfl
theorem q369 : (Jvm.Cond.instanceMethod ({ cls := "FairFight$Odds", name := "comes", desc := "(LFairFight$Table;JII)V" } : Jvm.MethodName)) ∈ lw_all := lw_g (lw_at lw_m2 90 rfl) rfl
theorem q370 : (Jvm.Cond.code ({ cls := "FairFight$Odds", name := "comes", desc := "(LFairFight$Table;JII)V" } : Jvm.MethodName) prog_7_method_2_code (10 : Nat) (Option.none : Option Jvm.ClassFile.FieldType)) ∈ lw_all := lw_g (lw_at lw_m2 91 rfl) rfl
theorem q371 : (Jvm.Cond.methodLink "FairFight$Odds" (54 : Nat) ({ cls := "FairFight$Fight", name := "end", desc := "()I" } : Jvm.MethodName)) ∈ lw_all := lw_g (lw_at lw_m2 92 rfl) rfl
theorem q379 : (Jvm.Cond.methodLink "FairFight$Odds" (58 : Nat) ({ cls := "FairFight$Fight", name := "key", desc := "()J" } : Jvm.MethodName)) ∈ lw_all := lw_g (lw_at lw_m2 100 rfl) rfl
theorem q383 : (Jvm.Cond.methodLink "FairFight$Odds" (62 : Nat) ({ cls := "FairFight$Table", name := "add", desc := "(JJ)Z" } : Jvm.MethodName)) ∈ lw_all := lw_g (lw_at lw_m2 104 rfl) rfl
theorem q388 : (Jvm.Cond.methodLink "FairFight$Odds" (99 : Nat) ({ cls := "java/lang/Math", name := "max", desc := "(II)I" } : Jvm.MethodName)) ∈ lw_all := lw_g (lw_at lw_m2 109 rfl) rfl
theorem q391 : (Jvm.Cond.methodLink "FairFight$Odds" (112 : Nat) ({ cls := "FairFight$Odds", name := "turn", desc := "(JJIII)V" } : Jvm.MethodName)) ∈ lw_all := lw_g (lw_at lw_m2 112 rfl) rfl
theorem q392 : (Jvm.Cond.privateMethod ({ cls := "FairFight$Odds", name := "turn", desc := "(JJIII)V" } : Jvm.MethodName)) ∈ lw_tbl := lw_at lw_m2 113 rfl
theorem q393 : (Jvm.Cond.instanceMethod ({ cls := "FairFight$Odds", name := "turn", desc := "(JJIII)V" } : Jvm.MethodName)) ∈ lw_all := lw_g (lw_at lw_m2 114 rfl) rfl
theorem q394 : (Jvm.Cond.code ({ cls := "FairFight$Odds", name := "turn", desc := "(JJIII)V" } : Jvm.MethodName) prog_7_method_4_code (9 : Nat) (Option.none : Option Jvm.ClassFile.FieldType)) ∈ lw_all := lw_g (lw_at lw_m2 115 rfl) rfl
theorem q395 : (Jvm.Cond.methodLink "FairFight$Odds" (116 : Nat) ({ cls := "FairFight$Fight", name := "become", desc := "(J)V" } : Jvm.MethodName)) ∈ lw_all := lw_g (lw_at lw_m2 116 rfl) rfl
theorem q400 : (Jvm.Cond.methodLink "FairFight$Odds" (126 : Nat) ({ cls := "FairFight$Fight", name := "rolls", desc := "(I)Z" } : Jvm.MethodName)) ∈ lw_all := lw_g (lw_at lw_m2 121 rfl) rfl
theorem q404 : (Jvm.Cond.methodLink "FairFight$Odds" (133 : Nat) ({ cls := "FairFight$Fight", name := "hits", desc := "(I)V" } : Jvm.MethodName)) ∈ lw_all := lw_g (lw_at lw_m2 125 rfl) rfl
theorem q431 : (Jvm.Cond.fieldLink "FairFight$Odds" (26 : Nat) "FairFight$Odds" "f" "LFairFight$Fight;") ∈ lw_all := lw_g (lw_at lw_m2 152 rfl) rfl
theorem q432 : (Jvm.Cond.fieldLink "FairFight$Odds" (44 : Nat) "FairFight$Odds" "slots" "I") ∈ lw_all := lw_g (lw_at lw_m2 153 rfl) rfl
theorem q433 : (Jvm.Cond.fieldLink "FairFight$Odds" (15 : Nat) "FairFight$Odds" "all" "J") ∈ lw_all := lw_g (lw_at lw_m2 154 rfl) rfl
theorem q435 : (Jvm.Cond.fieldLink "FairFight$Odds" (19 : Nat) "FairFight$Odds" "ways" "[J") ∈ lw_all := lw_g (lw_at lw_m2 156 rfl) rfl
theorem q437 : (Jvm.Cond.fieldLink "FairFight$Odds" (23 : Nat) "FairFight$Odds" "byRound" "[J") ∈ lw_all := lw_g (lw_at lw_m2 158 rfl) rfl
theorem q439 : (Jvm.Cond.fieldLink "FairFight$Odds" (32 : Nat) "FairFight$Odds" "left" "[[J") ∈ lw_all := lw_g (lw_at lw_m2 160 rfl) rfl
theorem q441 : (Jvm.Cond.fieldLink "FairFight$Odds" (95 : Nat) "FairFight$Odds" "widest" "I") ∈ lw_all := lw_g (lw_at lw_m2 162 rfl) rfl
theorem q443 : (Jvm.Cond.fieldLink "FairFight$Odds" (47 : Nat) "FairFight$Odds" "isWide" "Z") ∈ lw_all := lw_g (lw_at lw_m2 164 rfl) rfl
theorem q445 : (Jvm.Cond.fieldLink "FairFight$Odds" (3 : Nat) "FairFight$Odds" "this$0" "LFairFight;") ∈ lw_all := lw_g (lw_at lw_m2 166 rfl) rfl
theorem q446 : (Jvm.Cond.laysFinal "FairFight$Odds" "FairFight$Odds" "f" "LFairFight$Fight;") ∈ lw_all := lw_g (lw_at lw_m2 167 rfl) rfl
theorem q447 : (Jvm.Cond.soleField "FairFight$Odds" "f") ∈ lw_all := lw_g (lw_at lw_m2 168 rfl) rfl
theorem q448 : (Jvm.Cond.laysFinal "FairFight$Odds" "FairFight$Odds" "slots" "I") ∈ lw_all := lw_g (lw_at lw_m2 169 rfl) rfl
theorem q449 : (Jvm.Cond.soleField "FairFight$Odds" "slots") ∈ lw_all := lw_g (lw_at lw_m2 170 rfl) rfl
theorem q450 : (Jvm.Cond.lays "FairFight$Odds" "FairFight$Odds" "all" "J") ∈ lw_all := lw_g (lw_at lw_m2 171 rfl) rfl
theorem q451 : (Jvm.Cond.soleField "FairFight$Odds" "all") ∈ lw_all := lw_g (lw_at lw_m2 172 rfl) rfl
theorem q452 : (Jvm.Cond.laysFinal "FairFight$Odds" "FairFight$Odds" "ways" "[J") ∈ lw_all := lw_g (lw_at lw_m2 173 rfl) rfl
theorem q453 : (Jvm.Cond.soleField "FairFight$Odds" "ways") ∈ lw_all := lw_g (lw_at lw_m2 174 rfl) rfl
theorem q454 : (Jvm.Cond.laysFinal "FairFight$Odds" "FairFight$Odds" "byRound" "[J") ∈ lw_all := lw_g (lw_at lw_m2 175 rfl) rfl
theorem q455 : (Jvm.Cond.soleField "FairFight$Odds" "byRound") ∈ lw_all := lw_g (lw_at lw_m2 176 rfl) rfl
theorem q456 : (Jvm.Cond.laysFinal "FairFight$Odds" "FairFight$Odds" "left" "[[J") ∈ lw_all := lw_g (lw_at lw_m2 177 rfl) rfl
theorem q457 : (Jvm.Cond.soleField "FairFight$Odds" "left") ∈ lw_all := lw_g (lw_at lw_m2 178 rfl) rfl
theorem q458 : (Jvm.Cond.lays "FairFight$Odds" "FairFight$Odds" "widest" "I") ∈ lw_all := lw_g (lw_at lw_m2 179 rfl) rfl
theorem q459 : (Jvm.Cond.soleField "FairFight$Odds" "widest") ∈ lw_all := lw_g (lw_at lw_m2 180 rfl) rfl
theorem q460 : (Jvm.Cond.lays "FairFight$Odds" "FairFight$Odds" "isWide" "Z") ∈ lw_all := lw_g (lw_at lw_m2 181 rfl) rfl
theorem q461 : (Jvm.Cond.soleField "FairFight$Odds" "isWide") ∈ lw_all := lw_g (lw_at lw_m2 182 rfl) rfl
theorem q462 : (Jvm.Cond.laysFinal "FairFight$Odds" "FairFight$Odds" "this$0" "LFairFight;") ∈ lw_all := lw_g (lw_at lw_m2 183 rfl) rfl
theorem q463 : (Jvm.Cond.soleField "FairFight$Odds" "this$0") ∈ lw_all := lw_g (lw_at lw_m2 184 rfl) rfl
theorem q464 : (Jvm.Cond.superclass "FairFight$Odds" "java/lang/Object") ∈ lw_all := lw_g (lw_at lw_m2 185 rfl) rfl
theorem q482 : (Jvm.Cond.instanceMethod ({ cls := "FairFight$Odds", name := "chance", desc := "()I" } : Jvm.MethodName)) ∈ lw_all := lw_g (lw_at lw_m2 203 rfl) rfl
theorem q483 : (Jvm.Cond.selects "FairFight$Odds" ({ cls := "FairFight$Odds", name := "chance", desc := "()I" } : Jvm.MethodName) ({ cls := "FairFight$Odds", name := "chance", desc := "()I" } : Jvm.MethodName)) ∈ lw_all := lw_g (lw_at lw_m2 204 rfl) rfl
theorem q484 : (Jvm.Cond.code ({ cls := "FairFight$Odds", name := "chance", desc := "()I" } : Jvm.MethodName) prog_7_method_5_code (5 : Nat) (Option.some Jvm.ClassFile.FieldType.int)) ∈ lw_all := lw_g (lw_at lw_m2 205 rfl) rfl
theorem q485 : (Jvm.Cond.constantLong "FairFight$Odds" (137 : Nat) (10 : Int64)) ∈ lw_all := lw_g (lw_at lw_m2 206 rfl) rfl
theorem q559 : (Jvm.Cond.selects "FairFight$Odds" ({ cls := "java/lang/Object", name := "getClass", desc := "()Ljava/lang/Class;" } : Jvm.MethodName) ({ cls := "java/lang/Object", name := "getClass", desc := "()Ljava/lang/Class;" } : Jvm.MethodName)) ∈ lw_all := lw_g (lw_at lw_m3 40 rfl) rfl
theorem q1289 : (Jvm.Cond.castable "FairFight$Odds" "java/lang/Object") ∈ lw_tbl := lw_at lw_m6 50 rfl
theorem in_X5 : ∀ w ∈ wsX50, w ∈ lw_all := lw_in wsX50 [446, 448, 450, 452, 454, 456, 458, 460, 462] (by decide +kernel) (by decide +kernel)
/-! FairFight$Fight -/
set_option maxRecDepth 100000
def RX6 : String := "FairFight$Fight"
def TX6 : u_T := fun k => match k with
  | 0 => ("FairFight$Fight", "many", "I", true)
  | 1 => ("FairFight$Fight", "aims", "I", true)
  | 2 => ("FairFight$Fight", "side", "[I", true)
  | 3 => ("FairFight$Fight", "place", "[I", true)
  | 4 => ("FairFight$Fight", "kind", "[I", true)
  | 5 => ("FairFight$Fight", "full", "[I", true)
  | 6 => ("FairFight$Fight", "hit", "[I", true)
  | 7 => ("FairFight$Fight", "force", "[I", true)
  | 8 => ("FairFight$Fight", "flee", "[I", true)
  | 9 => ("FairFight$Fight", "turns", "[I", true)
  | 10 => ("FairFight$Fight", "life", "[I", true)
  | _ => ("FairFight$Fight", "isUp", "[Z", true)
def tyX6 : Nat → FieldType := fun k => match k with
  | 0 => .int
  | 1 => .int
  | 2 => .array .int
  | 3 => .array .int
  | 4 => .array .int
  | 5 => .array .int
  | 6 => .array .int
  | 7 => .array .int
  | 8 => .array .int
  | 9 => .array .int
  | 10 => .array .int
  | _ => .array .boolean
abbrev wsX60 : List Cond := u_ws RX6 TX6 12
theorem nmX6 : ∀ a, a < 12 → ∀ b, b < 12 → a ≠ b → (TX6 a).2.1 ≠ (TX6 b).2.1 := by decide +kernel
theorem tyX6_ok : ∀ k, k < 12 → parseFieldDescriptor (TX6 k).2.2.1 = some (tyX6 k) := by decide +kernel
abbrev cX6_init : ByteArray := prog_3_method_1_code
def yX6_init : MethodName := ⟨RX6, "<init>", "(LFairFight;[I[II)V"⟩
def dkwX6_init_14 : List UInt8 := [21, 7, 79, 132, 7, 1, 167, 255, 186, 42, 182, 0, 66, 177]
abbrev dktX6_init_14 : List UInt8 := dkwX6_init_14 ++ []
def dkwX6_init_13 : List UInt8 := [21, 8, 42, 180, 0, 33, 21, 8, 4, 100, 46, 79, 132, 8, 255, 167, 255, 212, 42, 180, 0, 33, 21, 8]
abbrev dktX6_init_13 : List UInt8 := dkwX6_init_13 ++ dktX6_init_14
def dkwX6_init_12 : List UInt8 := [25, 6, 42, 180, 0, 33, 21, 8, 4, 100, 46, 46, 25, 6, 21, 7, 46, 162, 0, 25, 42, 180, 0, 33]
abbrev dktX6_init_12 : List UInt8 := dkwX6_init_12 ++ dktX6_init_13
def dkwX6_init_11 : List UInt8 := [21, 5, 181, 0, 63, 3, 54, 7, 21, 7, 21, 5, 162, 0, 69, 21, 7, 54, 8, 21, 8, 158, 0, 45]
abbrev dktX6_init_11 : List UInt8 := dkwX6_init_11 ++ dktX6_init_12
def dkwX6_init_10 : List UInt8 := [21, 5, 25, 10, 8, 46, 79, 132, 5, 1, 132, 9, 1, 167, 255, 131, 132, 7, 1, 167, 255, 104, 42]
abbrev dktX6_init_10 : List UInt8 := dkwX6_init_10 ++ dktX6_init_11
def dkwX6_init_9 : List UInt8 := [154, 0, 8, 21, 4, 167, 0, 4, 3, 96, 79, 42, 180, 0, 30, 21, 5, 25, 10, 7, 46, 79, 25, 6]
abbrev dktX6_init_9 : List UInt8 := dkwX6_init_9 ++ dktX6_init_10
def dkwX6_init_8 : List UInt8 := [180, 0, 24, 21, 5, 25, 10, 5, 46, 79, 42, 180, 0, 27, 21, 5, 25, 10, 6, 46, 21, 7]
abbrev dktX6_init_8 : List UInt8 := dkwX6_init_8 ++ dktX6_init_9
def dkwX6_init_7 : List UInt8 := [79, 42, 180, 0, 18, 21, 5, 25, 10, 3, 46, 79, 42, 180, 0, 21, 21, 5, 25, 10, 4, 46, 79, 42]
abbrev dktX6_init_7 : List UInt8 := dkwX6_init_7 ++ dktX6_init_8
def dkwX6_init_6 : List UInt8 := [46, 50, 180, 0, 58, 58, 10, 42, 180, 0, 9, 21, 5, 21, 7, 79, 42, 180, 0, 15, 21, 5, 21, 9]
abbrev dktX6_init_6 : List UInt8 := dkwX6_init_6 ++ dktX6_init_7
def dkwX6_init_5 : List UInt8 := [45, 58, 8, 3, 54, 9, 21, 9, 25, 8, 184, 0, 50, 162, 0, 121, 43, 180, 0, 54, 25, 8, 21, 9]
abbrev dktX6_init_5 : List UInt8 := dkwX6_init_5 ++ dktX6_init_6
def dkwX6_init_4 : List UInt8 := [16, 6, 188, 10, 58, 6, 3, 54, 7, 21, 7, 5, 162, 0, 152, 21, 7, 154, 0, 7, 44, 167, 0, 4]
abbrev dktX6_init_4 : List UInt8 := dkwX6_init_4 ++ dktX6_init_5
def dkwX6_init_3 : List UInt8 := [188, 10, 181, 0, 36, 42, 16, 6, 188, 4, 181, 0, 39, 42, 43, 180, 0, 43, 181, 0, 47, 3, 54, 5]
abbrev dktX6_init_3 : List UInt8 := dkwX6_init_3 ++ dktX6_init_4
def dkwX6_init_2 : List UInt8 := [188, 10, 181, 0, 27, 42, 16, 6, 188, 10, 181, 0, 30, 42, 16, 6, 188, 10, 181, 0, 33, 42, 16, 6]
abbrev dktX6_init_2 : List UInt8 := dkwX6_init_2 ++ dktX6_init_3
def dkwX6_init_1 : List UInt8 := [188, 10, 181, 0, 18, 42, 16, 6, 188, 10, 181, 0, 21, 42, 16, 6, 188, 10, 181, 0, 24, 42, 16, 6]
abbrev dktX6_init_1 : List UInt8 := dkwX6_init_1 ++ dktX6_init_2
def dkwX6_init_0 : List UInt8 := [42, 183, 0, 3, 42, 16, 6, 188, 10, 181, 0, 9, 42, 16, 6, 188, 10, 181, 0, 15, 42, 16, 6]
abbrev dktX6_init_0 : List UInt8 := dkwX6_init_0 ++ dktX6_init_1
theorem dksX6_init_0 : cX6_init.data.toList.drop 0 = dktX6_init_0 := by decide +kernel
theorem dksX6_init_1 : cX6_init.data.toList.drop 23 = dktX6_init_1 := dk_seg dksX6_init_0 23 rfl rfl
theorem dksX6_init_2 : cX6_init.data.toList.drop 47 = dktX6_init_2 := dk_seg dksX6_init_1 24 rfl rfl
theorem dksX6_init_3 : cX6_init.data.toList.drop 71 = dktX6_init_3 := dk_seg dksX6_init_2 24 rfl rfl
theorem dksX6_init_4 : cX6_init.data.toList.drop 95 = dktX6_init_4 := dk_seg dksX6_init_3 24 rfl rfl
theorem dksX6_init_5 : cX6_init.data.toList.drop 119 = dktX6_init_5 := dk_seg dksX6_init_4 24 rfl rfl
theorem dksX6_init_6 : cX6_init.data.toList.drop 143 = dktX6_init_6 := dk_seg dksX6_init_5 24 rfl rfl
theorem dksX6_init_7 : cX6_init.data.toList.drop 167 = dktX6_init_7 := dk_seg dksX6_init_6 24 rfl rfl
theorem dksX6_init_8 : cX6_init.data.toList.drop 191 = dktX6_init_8 := dk_seg dksX6_init_7 24 rfl rfl
theorem dksX6_init_9 : cX6_init.data.toList.drop 213 = dktX6_init_9 := dk_seg dksX6_init_8 22 rfl rfl
theorem dksX6_init_10 : cX6_init.data.toList.drop 237 = dktX6_init_10 := dk_seg dksX6_init_9 24 rfl rfl
theorem dksX6_init_11 : cX6_init.data.toList.drop 260 = dktX6_init_11 := dk_seg dksX6_init_10 23 rfl rfl
theorem dksX6_init_12 : cX6_init.data.toList.drop 284 = dktX6_init_12 := dk_seg dksX6_init_11 24 rfl rfl
theorem dksX6_init_13 : cX6_init.data.toList.drop 308 = dktX6_init_13 := dk_seg dksX6_init_12 24 rfl rfl
theorem dksX6_init_14 : cX6_init.data.toList.drop 332 = dktX6_init_14 := dk_seg dksX6_init_13 24 rfl rfl
theorem dX6_init_0 : decode cX6_init 0 = .ok (.aload_n 0, 1) := dk_42 (dk_at dksX6_init_0 0 rfl rfl)
theorem dX6_init_1 : decode cX6_init 1 = .ok (.invokespecial 3, 3) := dk_183 0 3 (dk_at dksX6_init_0 1 rfl rfl)
theorem dX6_init_4 : decode cX6_init 4 = .ok (.aload_n 0, 1) := dk_42 (dk_at dksX6_init_0 4 rfl rfl)
theorem dX6_init_5 : decode cX6_init 5 = .ok (.bipush 6, 2) := dk_16 6 (dk_at dksX6_init_0 5 rfl rfl)
theorem dX6_init_7 : decode cX6_init 7 = .ok (.newarray .int, 2) := dk_188_10 (dk_at dksX6_init_0 7 rfl rfl)
theorem dX6_init_9 : decode cX6_init 9 = .ok (.putfield 9, 3) := dk_181 0 9 (dk_at dksX6_init_0 9 rfl rfl)
theorem dX6_init_12 : decode cX6_init 12 = .ok (.aload_n 0, 1) := dk_42 (dk_at dksX6_init_0 12 rfl rfl)
theorem dX6_init_13 : decode cX6_init 13 = .ok (.bipush 6, 2) := dk_16 6 (dk_at dksX6_init_0 13 rfl rfl)
theorem dX6_init_15 : decode cX6_init 15 = .ok (.newarray .int, 2) := dk_188_10 (dk_at dksX6_init_0 15 rfl rfl)
theorem dX6_init_17 : decode cX6_init 17 = .ok (.putfield 15, 3) := dk_181 0 15 (dk_at dksX6_init_0 17 rfl rfl)
theorem dX6_init_20 : decode cX6_init 20 = .ok (.aload_n 0, 1) := dk_42 (dk_at dksX6_init_0 20 rfl rfl)
theorem dX6_init_21 : decode cX6_init 21 = .ok (.bipush 6, 2) := dk_16 6 (dk_at dksX6_init_0 21 rfl rfl)
theorem dX6_init_23 : decode cX6_init 23 = .ok (.newarray .int, 2) := dk_188_10 (dk_at dksX6_init_1 0 rfl rfl)
theorem dX6_init_25 : decode cX6_init 25 = .ok (.putfield 18, 3) := dk_181 0 18 (dk_at dksX6_init_1 2 rfl rfl)
theorem dX6_init_28 : decode cX6_init 28 = .ok (.aload_n 0, 1) := dk_42 (dk_at dksX6_init_1 5 rfl rfl)
theorem dX6_init_29 : decode cX6_init 29 = .ok (.bipush 6, 2) := dk_16 6 (dk_at dksX6_init_1 6 rfl rfl)
theorem dX6_init_31 : decode cX6_init 31 = .ok (.newarray .int, 2) := dk_188_10 (dk_at dksX6_init_1 8 rfl rfl)
theorem dX6_init_33 : decode cX6_init 33 = .ok (.putfield 21, 3) := dk_181 0 21 (dk_at dksX6_init_1 10 rfl rfl)
theorem dX6_init_36 : decode cX6_init 36 = .ok (.aload_n 0, 1) := dk_42 (dk_at dksX6_init_1 13 rfl rfl)
theorem dX6_init_37 : decode cX6_init 37 = .ok (.bipush 6, 2) := dk_16 6 (dk_at dksX6_init_1 14 rfl rfl)
theorem dX6_init_39 : decode cX6_init 39 = .ok (.newarray .int, 2) := dk_188_10 (dk_at dksX6_init_1 16 rfl rfl)
theorem dX6_init_41 : decode cX6_init 41 = .ok (.putfield 24, 3) := dk_181 0 24 (dk_at dksX6_init_1 18 rfl rfl)
theorem dX6_init_44 : decode cX6_init 44 = .ok (.aload_n 0, 1) := dk_42 (dk_at dksX6_init_1 21 rfl rfl)
theorem dX6_init_45 : decode cX6_init 45 = .ok (.bipush 6, 2) := dk_16 6 (dk_at dksX6_init_1 22 rfl rfl)
theorem dX6_init_47 : decode cX6_init 47 = .ok (.newarray .int, 2) := dk_188_10 (dk_at dksX6_init_2 0 rfl rfl)
theorem dX6_init_49 : decode cX6_init 49 = .ok (.putfield 27, 3) := dk_181 0 27 (dk_at dksX6_init_2 2 rfl rfl)
theorem dX6_init_52 : decode cX6_init 52 = .ok (.aload_n 0, 1) := dk_42 (dk_at dksX6_init_2 5 rfl rfl)
theorem dX6_init_53 : decode cX6_init 53 = .ok (.bipush 6, 2) := dk_16 6 (dk_at dksX6_init_2 6 rfl rfl)
theorem dX6_init_55 : decode cX6_init 55 = .ok (.newarray .int, 2) := dk_188_10 (dk_at dksX6_init_2 8 rfl rfl)
theorem dX6_init_57 : decode cX6_init 57 = .ok (.putfield 30, 3) := dk_181 0 30 (dk_at dksX6_init_2 10 rfl rfl)
theorem dX6_init_60 : decode cX6_init 60 = .ok (.aload_n 0, 1) := dk_42 (dk_at dksX6_init_2 13 rfl rfl)
theorem dX6_init_61 : decode cX6_init 61 = .ok (.bipush 6, 2) := dk_16 6 (dk_at dksX6_init_2 14 rfl rfl)
theorem dX6_init_63 : decode cX6_init 63 = .ok (.newarray .int, 2) := dk_188_10 (dk_at dksX6_init_2 16 rfl rfl)
theorem dX6_init_65 : decode cX6_init 65 = .ok (.putfield 33, 3) := dk_181 0 33 (dk_at dksX6_init_2 18 rfl rfl)
theorem dX6_init_68 : decode cX6_init 68 = .ok (.aload_n 0, 1) := dk_42 (dk_at dksX6_init_2 21 rfl rfl)
theorem dX6_init_69 : decode cX6_init 69 = .ok (.bipush 6, 2) := dk_16 6 (dk_at dksX6_init_2 22 rfl rfl)
theorem dX6_init_71 : decode cX6_init 71 = .ok (.newarray .int, 2) := dk_188_10 (dk_at dksX6_init_3 0 rfl rfl)
theorem dX6_init_73 : decode cX6_init 73 = .ok (.putfield 36, 3) := dk_181 0 36 (dk_at dksX6_init_3 2 rfl rfl)
theorem dX6_init_76 : decode cX6_init 76 = .ok (.aload_n 0, 1) := dk_42 (dk_at dksX6_init_3 5 rfl rfl)
theorem dX6_init_77 : decode cX6_init 77 = .ok (.bipush 6, 2) := dk_16 6 (dk_at dksX6_init_3 6 rfl rfl)
theorem dX6_init_79 : decode cX6_init 79 = .ok (.newarray .boolean, 2) := dk_188_4 (dk_at dksX6_init_3 8 rfl rfl)
theorem dX6_init_81 : decode cX6_init 81 = .ok (.putfield 39, 3) := dk_181 0 39 (dk_at dksX6_init_3 10 rfl rfl)
theorem dX6_init_84 : decode cX6_init 84 = .ok (.aload_n 0, 1) := dk_42 (dk_at dksX6_init_3 13 rfl rfl)
theorem dX6_init_85 : decode cX6_init 85 = .ok (.aload_n 1, 1) := dk_43 (dk_at dksX6_init_3 14 rfl rfl)
theorem dX6_init_86 : decode cX6_init 86 = .ok (.getfield 43, 3) := dk_180 0 43 (dk_at dksX6_init_3 15 rfl rfl)
theorem dX6_init_89 : decode cX6_init 89 = .ok (.putfield 47, 3) := dk_181 0 47 (dk_at dksX6_init_3 18 rfl rfl)
theorem dX6_init_92 : decode cX6_init 92 = .ok (.iconst 0, 1) := dk_3 (dk_at dksX6_init_3 21 rfl rfl)
theorem dX6_init_93 : decode cX6_init 93 = .ok (.istore 5, 2) := dk_54 5 (dk_at dksX6_init_3 22 rfl rfl)
theorem dX6_init_95 : decode cX6_init 95 = .ok (.bipush 6, 2) := dk_16 6 (dk_at dksX6_init_4 0 rfl rfl)
theorem dX6_init_97 : decode cX6_init 97 = .ok (.newarray .int, 2) := dk_188_10 (dk_at dksX6_init_4 2 rfl rfl)
theorem dX6_init_99 : decode cX6_init 99 = .ok (.astore 6, 2) := dk_58 6 (dk_at dksX6_init_4 4 rfl rfl)
theorem dX6_init_101 : decode cX6_init 101 = .ok (.iconst 0, 1) := dk_3 (dk_at dksX6_init_4 6 rfl rfl)
theorem dX6_init_102 : decode cX6_init 102 = .ok (.istore 7, 2) := dk_54 7 (dk_at dksX6_init_4 7 rfl rfl)
theorem dX6_init_104 : decode cX6_init 104 = .ok (.iload 7, 2) := dk_21 7 (dk_at dksX6_init_4 9 rfl rfl)
theorem dX6_init_106 : decode cX6_init 106 = .ok (.iconst 2, 1) := dk_5 (dk_at dksX6_init_4 11 rfl rfl)
theorem dX6_init_107 : decode cX6_init 107 = .ok (.if_icmp .ge 152, 3) := dk_162 0 152 (dk_at dksX6_init_4 12 rfl rfl)
theorem dX6_init_110 : decode cX6_init 110 = .ok (.iload 7, 2) := dk_21 7 (dk_at dksX6_init_4 15 rfl rfl)
theorem dX6_init_112 : decode cX6_init 112 = .ok (.ifCond .ne 7, 3) := dk_154 0 7 (dk_at dksX6_init_4 17 rfl rfl)
theorem dX6_init_115 : decode cX6_init 115 = .ok (.aload_n 2, 1) := dk_44 (dk_at dksX6_init_4 20 rfl rfl)
theorem dX6_init_116 : decode cX6_init 116 = .ok (.goto 4, 3) := dk_167 0 4 (dk_at dksX6_init_4 21 rfl rfl)
theorem dX6_init_119 : decode cX6_init 119 = .ok (.aload_n 3, 1) := dk_45 (dk_at dksX6_init_5 0 rfl rfl)
theorem dX6_init_120 : decode cX6_init 120 = .ok (.astore 8, 2) := dk_58 8 (dk_at dksX6_init_5 1 rfl rfl)
theorem dX6_init_122 : decode cX6_init 122 = .ok (.iconst 0, 1) := dk_3 (dk_at dksX6_init_5 3 rfl rfl)
theorem dX6_init_123 : decode cX6_init 123 = .ok (.istore 9, 2) := dk_54 9 (dk_at dksX6_init_5 4 rfl rfl)
theorem dX6_init_125 : decode cX6_init 125 = .ok (.iload 9, 2) := dk_21 9 (dk_at dksX6_init_5 6 rfl rfl)
theorem dX6_init_127 : decode cX6_init 127 = .ok (.aload 8, 2) := dk_25 8 (dk_at dksX6_init_5 8 rfl rfl)
theorem dX6_init_129 : decode cX6_init 129 = .ok (.invokestatic 50, 3) := dk_184 0 50 (dk_at dksX6_init_5 10 rfl rfl)
theorem dX6_init_132 : decode cX6_init 132 = .ok (.if_icmp .ge 121, 3) := dk_162 0 121 (dk_at dksX6_init_5 13 rfl rfl)
theorem dX6_init_135 : decode cX6_init 135 = .ok (.aload_n 1, 1) := dk_43 (dk_at dksX6_init_5 16 rfl rfl)
theorem dX6_init_136 : decode cX6_init 136 = .ok (.getfield 54, 3) := dk_180 0 54 (dk_at dksX6_init_5 17 rfl rfl)
theorem dX6_init_139 : decode cX6_init 139 = .ok (.aload 8, 2) := dk_25 8 (dk_at dksX6_init_5 20 rfl rfl)
theorem dX6_init_141 : decode cX6_init 141 = .ok (.iload 9, 2) := dk_21 9 (dk_at dksX6_init_5 22 rfl rfl)
theorem dX6_init_143 : decode cX6_init 143 = .ok (.iaload, 1) := dk_46 (dk_at dksX6_init_6 0 rfl rfl)
theorem dX6_init_144 : decode cX6_init 144 = .ok (.aaload, 1) := dk_50 (dk_at dksX6_init_6 1 rfl rfl)
theorem dX6_init_145 : decode cX6_init 145 = .ok (.getfield 58, 3) := dk_180 0 58 (dk_at dksX6_init_6 2 rfl rfl)
theorem dX6_init_148 : decode cX6_init 148 = .ok (.astore 10, 2) := dk_58 10 (dk_at dksX6_init_6 5 rfl rfl)
theorem dX6_init_150 : decode cX6_init 150 = .ok (.aload_n 0, 1) := dk_42 (dk_at dksX6_init_6 7 rfl rfl)
theorem dX6_init_151 : decode cX6_init 151 = .ok (.getfield 9, 3) := dk_180 0 9 (dk_at dksX6_init_6 8 rfl rfl)
theorem dX6_init_154 : decode cX6_init 154 = .ok (.iload 5, 2) := dk_21 5 (dk_at dksX6_init_6 11 rfl rfl)
theorem dX6_init_156 : decode cX6_init 156 = .ok (.iload 7, 2) := dk_21 7 (dk_at dksX6_init_6 13 rfl rfl)
theorem dX6_init_158 : decode cX6_init 158 = .ok (.iastore, 1) := dk_79 (dk_at dksX6_init_6 15 rfl rfl)
theorem dX6_init_159 : decode cX6_init 159 = .ok (.aload_n 0, 1) := dk_42 (dk_at dksX6_init_6 16 rfl rfl)
theorem dX6_init_160 : decode cX6_init 160 = .ok (.getfield 15, 3) := dk_180 0 15 (dk_at dksX6_init_6 17 rfl rfl)
theorem dX6_init_163 : decode cX6_init 163 = .ok (.iload 5, 2) := dk_21 5 (dk_at dksX6_init_6 20 rfl rfl)
theorem dX6_init_165 : decode cX6_init 165 = .ok (.iload 9, 2) := dk_21 9 (dk_at dksX6_init_6 22 rfl rfl)
theorem dX6_init_167 : decode cX6_init 167 = .ok (.iastore, 1) := dk_79 (dk_at dksX6_init_7 0 rfl rfl)
theorem dX6_init_168 : decode cX6_init 168 = .ok (.aload_n 0, 1) := dk_42 (dk_at dksX6_init_7 1 rfl rfl)
theorem dX6_init_169 : decode cX6_init 169 = .ok (.getfield 18, 3) := dk_180 0 18 (dk_at dksX6_init_7 2 rfl rfl)
theorem dX6_init_172 : decode cX6_init 172 = .ok (.iload 5, 2) := dk_21 5 (dk_at dksX6_init_7 5 rfl rfl)
theorem dX6_init_174 : decode cX6_init 174 = .ok (.aload 10, 2) := dk_25 10 (dk_at dksX6_init_7 7 rfl rfl)
theorem dX6_init_176 : decode cX6_init 176 = .ok (.iconst 0, 1) := dk_3 (dk_at dksX6_init_7 9 rfl rfl)
theorem dX6_init_177 : decode cX6_init 177 = .ok (.iaload, 1) := dk_46 (dk_at dksX6_init_7 10 rfl rfl)
theorem dX6_init_178 : decode cX6_init 178 = .ok (.iastore, 1) := dk_79 (dk_at dksX6_init_7 11 rfl rfl)
theorem dX6_init_179 : decode cX6_init 179 = .ok (.aload_n 0, 1) := dk_42 (dk_at dksX6_init_7 12 rfl rfl)
theorem dX6_init_180 : decode cX6_init 180 = .ok (.getfield 21, 3) := dk_180 0 21 (dk_at dksX6_init_7 13 rfl rfl)
theorem dX6_init_183 : decode cX6_init 183 = .ok (.iload 5, 2) := dk_21 5 (dk_at dksX6_init_7 16 rfl rfl)
theorem dX6_init_185 : decode cX6_init 185 = .ok (.aload 10, 2) := dk_25 10 (dk_at dksX6_init_7 18 rfl rfl)
theorem dX6_init_187 : decode cX6_init 187 = .ok (.iconst 1, 1) := dk_4 (dk_at dksX6_init_7 20 rfl rfl)
theorem dX6_init_188 : decode cX6_init 188 = .ok (.iaload, 1) := dk_46 (dk_at dksX6_init_7 21 rfl rfl)
theorem dX6_init_189 : decode cX6_init 189 = .ok (.iastore, 1) := dk_79 (dk_at dksX6_init_7 22 rfl rfl)
theorem dX6_init_190 : decode cX6_init 190 = .ok (.aload_n 0, 1) := dk_42 (dk_at dksX6_init_7 23 rfl rfl)
theorem dX6_init_191 : decode cX6_init 191 = .ok (.getfield 24, 3) := dk_180 0 24 (dk_at dksX6_init_8 0 rfl rfl)
theorem dX6_init_194 : decode cX6_init 194 = .ok (.iload 5, 2) := dk_21 5 (dk_at dksX6_init_8 3 rfl rfl)
theorem dX6_init_196 : decode cX6_init 196 = .ok (.aload 10, 2) := dk_25 10 (dk_at dksX6_init_8 5 rfl rfl)
theorem dX6_init_198 : decode cX6_init 198 = .ok (.iconst 2, 1) := dk_5 (dk_at dksX6_init_8 7 rfl rfl)
theorem dX6_init_199 : decode cX6_init 199 = .ok (.iaload, 1) := dk_46 (dk_at dksX6_init_8 8 rfl rfl)
theorem dX6_init_200 : decode cX6_init 200 = .ok (.iastore, 1) := dk_79 (dk_at dksX6_init_8 9 rfl rfl)
theorem dX6_init_201 : decode cX6_init 201 = .ok (.aload_n 0, 1) := dk_42 (dk_at dksX6_init_8 10 rfl rfl)
theorem dX6_init_202 : decode cX6_init 202 = .ok (.getfield 27, 3) := dk_180 0 27 (dk_at dksX6_init_8 11 rfl rfl)
theorem dX6_init_205 : decode cX6_init 205 = .ok (.iload 5, 2) := dk_21 5 (dk_at dksX6_init_8 14 rfl rfl)
theorem dX6_init_207 : decode cX6_init 207 = .ok (.aload 10, 2) := dk_25 10 (dk_at dksX6_init_8 16 rfl rfl)
theorem dX6_init_209 : decode cX6_init 209 = .ok (.iconst 3, 1) := dk_6 (dk_at dksX6_init_8 18 rfl rfl)
theorem dX6_init_210 : decode cX6_init 210 = .ok (.iaload, 1) := dk_46 (dk_at dksX6_init_8 19 rfl rfl)
theorem dX6_init_211 : decode cX6_init 211 = .ok (.iload 7, 2) := dk_21 7 (dk_at dksX6_init_8 20 rfl rfl)
theorem dX6_init_213 : decode cX6_init 213 = .ok (.ifCond .ne 8, 3) := dk_154 0 8 (dk_at dksX6_init_9 0 rfl rfl)
theorem dX6_init_216 : decode cX6_init 216 = .ok (.iload 4, 2) := dk_21 4 (dk_at dksX6_init_9 3 rfl rfl)
theorem dX6_init_218 : decode cX6_init 218 = .ok (.goto 4, 3) := dk_167 0 4 (dk_at dksX6_init_9 5 rfl rfl)
theorem dX6_init_221 : decode cX6_init 221 = .ok (.iconst 0, 1) := dk_3 (dk_at dksX6_init_9 8 rfl rfl)
theorem dX6_init_222 : decode cX6_init 222 = .ok (.iadd, 1) := dk_96 (dk_at dksX6_init_9 9 rfl rfl)
theorem dX6_init_223 : decode cX6_init 223 = .ok (.iastore, 1) := dk_79 (dk_at dksX6_init_9 10 rfl rfl)
theorem dX6_init_224 : decode cX6_init 224 = .ok (.aload_n 0, 1) := dk_42 (dk_at dksX6_init_9 11 rfl rfl)
theorem dX6_init_225 : decode cX6_init 225 = .ok (.getfield 30, 3) := dk_180 0 30 (dk_at dksX6_init_9 12 rfl rfl)
theorem dX6_init_228 : decode cX6_init 228 = .ok (.iload 5, 2) := dk_21 5 (dk_at dksX6_init_9 15 rfl rfl)
theorem dX6_init_230 : decode cX6_init 230 = .ok (.aload 10, 2) := dk_25 10 (dk_at dksX6_init_9 17 rfl rfl)
theorem dX6_init_232 : decode cX6_init 232 = .ok (.iconst 4, 1) := dk_7 (dk_at dksX6_init_9 19 rfl rfl)
theorem dX6_init_233 : decode cX6_init 233 = .ok (.iaload, 1) := dk_46 (dk_at dksX6_init_9 20 rfl rfl)
theorem dX6_init_234 : decode cX6_init 234 = .ok (.iastore, 1) := dk_79 (dk_at dksX6_init_9 21 rfl rfl)
theorem dX6_init_235 : decode cX6_init 235 = .ok (.aload 6, 2) := dk_25 6 (dk_at dksX6_init_9 22 rfl rfl)
theorem dX6_init_237 : decode cX6_init 237 = .ok (.iload 5, 2) := dk_21 5 (dk_at dksX6_init_10 0 rfl rfl)
theorem dX6_init_239 : decode cX6_init 239 = .ok (.aload 10, 2) := dk_25 10 (dk_at dksX6_init_10 2 rfl rfl)
theorem dX6_init_241 : decode cX6_init 241 = .ok (.iconst 5, 1) := dk_8 (dk_at dksX6_init_10 4 rfl rfl)
theorem dX6_init_242 : decode cX6_init 242 = .ok (.iaload, 1) := dk_46 (dk_at dksX6_init_10 5 rfl rfl)
theorem dX6_init_243 : decode cX6_init 243 = .ok (.iastore, 1) := dk_79 (dk_at dksX6_init_10 6 rfl rfl)
theorem dX6_init_244 : decode cX6_init 244 = .ok (.iinc 5 1, 3) := dk_132 5 1 (dk_at dksX6_init_10 7 rfl rfl)
theorem dX6_init_247 : decode cX6_init 247 = .ok (.iinc 9 1, 3) := dk_132 9 1 (dk_at dksX6_init_10 10 rfl rfl)
theorem dX6_init_250 : decode cX6_init 250 = .ok (.goto (-125), 3) := dk_167 255 131 (dk_at dksX6_init_10 13 rfl rfl)
theorem dX6_init_253 : decode cX6_init 253 = .ok (.iinc 7 1, 3) := dk_132 7 1 (dk_at dksX6_init_10 16 rfl rfl)
theorem dX6_init_256 : decode cX6_init 256 = .ok (.goto (-152), 3) := dk_167 255 104 (dk_at dksX6_init_10 19 rfl rfl)
theorem dX6_init_259 : decode cX6_init 259 = .ok (.aload_n 0, 1) := dk_42 (dk_at dksX6_init_10 22 rfl rfl)
theorem dX6_init_260 : decode cX6_init 260 = .ok (.iload 5, 2) := dk_21 5 (dk_at dksX6_init_11 0 rfl rfl)
theorem dX6_init_262 : decode cX6_init 262 = .ok (.putfield 63, 3) := dk_181 0 63 (dk_at dksX6_init_11 2 rfl rfl)
theorem dX6_init_265 : decode cX6_init 265 = .ok (.iconst 0, 1) := dk_3 (dk_at dksX6_init_11 5 rfl rfl)
theorem dX6_init_266 : decode cX6_init 266 = .ok (.istore 7, 2) := dk_54 7 (dk_at dksX6_init_11 6 rfl rfl)
theorem dX6_init_268 : decode cX6_init 268 = .ok (.iload 7, 2) := dk_21 7 (dk_at dksX6_init_11 8 rfl rfl)
theorem dX6_init_270 : decode cX6_init 270 = .ok (.iload 5, 2) := dk_21 5 (dk_at dksX6_init_11 10 rfl rfl)
theorem dX6_init_272 : decode cX6_init 272 = .ok (.if_icmp .ge 69, 3) := dk_162 0 69 (dk_at dksX6_init_11 12 rfl rfl)
theorem dX6_init_275 : decode cX6_init 275 = .ok (.iload 7, 2) := dk_21 7 (dk_at dksX6_init_11 15 rfl rfl)
theorem dX6_init_277 : decode cX6_init 277 = .ok (.istore 8, 2) := dk_54 8 (dk_at dksX6_init_11 17 rfl rfl)
theorem dX6_init_279 : decode cX6_init 279 = .ok (.iload 8, 2) := dk_21 8 (dk_at dksX6_init_11 19 rfl rfl)
theorem dX6_init_281 : decode cX6_init 281 = .ok (.ifCond .le 45, 3) := dk_158 0 45 (dk_at dksX6_init_11 21 rfl rfl)
theorem dX6_init_284 : decode cX6_init 284 = .ok (.aload 6, 2) := dk_25 6 (dk_at dksX6_init_12 0 rfl rfl)
theorem dX6_init_286 : decode cX6_init 286 = .ok (.aload_n 0, 1) := dk_42 (dk_at dksX6_init_12 2 rfl rfl)
theorem dX6_init_287 : decode cX6_init 287 = .ok (.getfield 33, 3) := dk_180 0 33 (dk_at dksX6_init_12 3 rfl rfl)
theorem dX6_init_290 : decode cX6_init 290 = .ok (.iload 8, 2) := dk_21 8 (dk_at dksX6_init_12 6 rfl rfl)
theorem dX6_init_292 : decode cX6_init 292 = .ok (.iconst 1, 1) := dk_4 (dk_at dksX6_init_12 8 rfl rfl)
theorem dX6_init_293 : decode cX6_init 293 = .ok (.isub, 1) := dk_100 (dk_at dksX6_init_12 9 rfl rfl)
theorem dX6_init_294 : decode cX6_init 294 = .ok (.iaload, 1) := dk_46 (dk_at dksX6_init_12 10 rfl rfl)
theorem dX6_init_295 : decode cX6_init 295 = .ok (.iaload, 1) := dk_46 (dk_at dksX6_init_12 11 rfl rfl)
theorem dX6_init_296 : decode cX6_init 296 = .ok (.aload 6, 2) := dk_25 6 (dk_at dksX6_init_12 12 rfl rfl)
theorem dX6_init_298 : decode cX6_init 298 = .ok (.iload 7, 2) := dk_21 7 (dk_at dksX6_init_12 14 rfl rfl)
theorem dX6_init_300 : decode cX6_init 300 = .ok (.iaload, 1) := dk_46 (dk_at dksX6_init_12 16 rfl rfl)
theorem dX6_init_301 : decode cX6_init 301 = .ok (.if_icmp .ge 25, 3) := dk_162 0 25 (dk_at dksX6_init_12 17 rfl rfl)
theorem dX6_init_304 : decode cX6_init 304 = .ok (.aload_n 0, 1) := dk_42 (dk_at dksX6_init_12 20 rfl rfl)
theorem dX6_init_305 : decode cX6_init 305 = .ok (.getfield 33, 3) := dk_180 0 33 (dk_at dksX6_init_12 21 rfl rfl)
theorem dX6_init_308 : decode cX6_init 308 = .ok (.iload 8, 2) := dk_21 8 (dk_at dksX6_init_13 0 rfl rfl)
theorem dX6_init_310 : decode cX6_init 310 = .ok (.aload_n 0, 1) := dk_42 (dk_at dksX6_init_13 2 rfl rfl)
theorem dX6_init_311 : decode cX6_init 311 = .ok (.getfield 33, 3) := dk_180 0 33 (dk_at dksX6_init_13 3 rfl rfl)
theorem dX6_init_314 : decode cX6_init 314 = .ok (.iload 8, 2) := dk_21 8 (dk_at dksX6_init_13 6 rfl rfl)
theorem dX6_init_316 : decode cX6_init 316 = .ok (.iconst 1, 1) := dk_4 (dk_at dksX6_init_13 8 rfl rfl)
theorem dX6_init_317 : decode cX6_init 317 = .ok (.isub, 1) := dk_100 (dk_at dksX6_init_13 9 rfl rfl)
theorem dX6_init_318 : decode cX6_init 318 = .ok (.iaload, 1) := dk_46 (dk_at dksX6_init_13 10 rfl rfl)
theorem dX6_init_319 : decode cX6_init 319 = .ok (.iastore, 1) := dk_79 (dk_at dksX6_init_13 11 rfl rfl)
theorem dX6_init_320 : decode cX6_init 320 = .ok (.iinc 8 (-1), 3) := dk_132 8 255 (dk_at dksX6_init_13 12 rfl rfl)
theorem dX6_init_323 : decode cX6_init 323 = .ok (.goto (-44), 3) := dk_167 255 212 (dk_at dksX6_init_13 15 rfl rfl)
theorem dX6_init_326 : decode cX6_init 326 = .ok (.aload_n 0, 1) := dk_42 (dk_at dksX6_init_13 18 rfl rfl)
theorem dX6_init_327 : decode cX6_init 327 = .ok (.getfield 33, 3) := dk_180 0 33 (dk_at dksX6_init_13 19 rfl rfl)
theorem dX6_init_330 : decode cX6_init 330 = .ok (.iload 8, 2) := dk_21 8 (dk_at dksX6_init_13 22 rfl rfl)
theorem dX6_init_332 : decode cX6_init 332 = .ok (.iload 7, 2) := dk_21 7 (dk_at dksX6_init_14 0 rfl rfl)
theorem dX6_init_334 : decode cX6_init 334 = .ok (.iastore, 1) := dk_79 (dk_at dksX6_init_14 2 rfl rfl)
theorem dX6_init_335 : decode cX6_init 335 = .ok (.iinc 7 1, 3) := dk_132 7 1 (dk_at dksX6_init_14 3 rfl rfl)
theorem dX6_init_338 : decode cX6_init 338 = .ok (.goto (-70), 3) := dk_167 255 186 (dk_at dksX6_init_14 6 rfl rfl)
theorem dX6_init_341 : decode cX6_init 341 = .ok (.aload_n 0, 1) := dk_42 (dk_at dksX6_init_14 9 rfl rfl)
theorem dX6_init_342 : decode cX6_init 342 = .ok (.invokevirtual 66, 3) := dk_182 0 66 (dk_at dksX6_init_14 10 rfl rfl)
theorem dX6_init_345 : decode cX6_init 345 = .ok (.return_, 1) := dk_177 (dk_at dksX6_init_14 13 rfl rfl)
abbrev cX6_begins : ByteArray := prog_3_method_2_code
def yX6_begins : MethodName := ⟨RX6, "begins", "()V"⟩
def dkwX6_begins_1 : List UInt8 := [180, 0, 39, 27, 4, 84, 132, 1, 1, 167, 255, 226, 177]
abbrev dktX6_begins_1 : List UInt8 := dkwX6_begins_1 ++ []
def dkwX6_begins_0 : List UInt8 := [3, 60, 27, 42, 180, 0, 63, 162, 0, 28, 42, 180, 0, 36, 27, 42, 180, 0, 21, 27, 46, 79, 42]
abbrev dktX6_begins_0 : List UInt8 := dkwX6_begins_0 ++ dktX6_begins_1
theorem dksX6_begins_0 : cX6_begins.data.toList.drop 0 = dktX6_begins_0 := by decide +kernel
theorem dksX6_begins_1 : cX6_begins.data.toList.drop 23 = dktX6_begins_1 := dk_seg dksX6_begins_0 23 rfl rfl
theorem dX6_begins_0 : decode cX6_begins 0 = .ok (.iconst 0, 1) := dk_3 (dk_at dksX6_begins_0 0 rfl rfl)
theorem dX6_begins_1 : decode cX6_begins 1 = .ok (.istore_n 1, 1) := dk_60 (dk_at dksX6_begins_0 1 rfl rfl)
theorem dX6_begins_2 : decode cX6_begins 2 = .ok (.iload_n 1, 1) := dk_27 (dk_at dksX6_begins_0 2 rfl rfl)
theorem dX6_begins_3 : decode cX6_begins 3 = .ok (.aload_n 0, 1) := dk_42 (dk_at dksX6_begins_0 3 rfl rfl)
theorem dX6_begins_4 : decode cX6_begins 4 = .ok (.getfield 63, 3) := dk_180 0 63 (dk_at dksX6_begins_0 4 rfl rfl)
theorem dX6_begins_7 : decode cX6_begins 7 = .ok (.if_icmp .ge 28, 3) := dk_162 0 28 (dk_at dksX6_begins_0 7 rfl rfl)
theorem dX6_begins_10 : decode cX6_begins 10 = .ok (.aload_n 0, 1) := dk_42 (dk_at dksX6_begins_0 10 rfl rfl)
theorem dX6_begins_11 : decode cX6_begins 11 = .ok (.getfield 36, 3) := dk_180 0 36 (dk_at dksX6_begins_0 11 rfl rfl)
theorem dX6_begins_14 : decode cX6_begins 14 = .ok (.iload_n 1, 1) := dk_27 (dk_at dksX6_begins_0 14 rfl rfl)
theorem dX6_begins_15 : decode cX6_begins 15 = .ok (.aload_n 0, 1) := dk_42 (dk_at dksX6_begins_0 15 rfl rfl)
theorem dX6_begins_16 : decode cX6_begins 16 = .ok (.getfield 21, 3) := dk_180 0 21 (dk_at dksX6_begins_0 16 rfl rfl)
theorem dX6_begins_19 : decode cX6_begins 19 = .ok (.iload_n 1, 1) := dk_27 (dk_at dksX6_begins_0 19 rfl rfl)
theorem dX6_begins_20 : decode cX6_begins 20 = .ok (.iaload, 1) := dk_46 (dk_at dksX6_begins_0 20 rfl rfl)
theorem dX6_begins_21 : decode cX6_begins 21 = .ok (.iastore, 1) := dk_79 (dk_at dksX6_begins_0 21 rfl rfl)
theorem dX6_begins_22 : decode cX6_begins 22 = .ok (.aload_n 0, 1) := dk_42 (dk_at dksX6_begins_0 22 rfl rfl)
theorem dX6_begins_23 : decode cX6_begins 23 = .ok (.getfield 39, 3) := dk_180 0 39 (dk_at dksX6_begins_1 0 rfl rfl)
theorem dX6_begins_26 : decode cX6_begins 26 = .ok (.iload_n 1, 1) := dk_27 (dk_at dksX6_begins_1 3 rfl rfl)
theorem dX6_begins_27 : decode cX6_begins 27 = .ok (.iconst 1, 1) := dk_4 (dk_at dksX6_begins_1 4 rfl rfl)
theorem dX6_begins_28 : decode cX6_begins 28 = .ok (.bastore, 1) := dk_84 (dk_at dksX6_begins_1 5 rfl rfl)
theorem dX6_begins_29 : decode cX6_begins 29 = .ok (.iinc 1 1, 3) := dk_132 1 1 (dk_at dksX6_begins_1 6 rfl rfl)
theorem dX6_begins_32 : decode cX6_begins 32 = .ok (.goto (-30), 3) := dk_167 255 226 (dk_at dksX6_begins_1 9 rfl rfl)
theorem dX6_begins_35 : decode cX6_begins 35 = .ok (.return_, 1) := dk_177 (dk_at dksX6_begins_1 12 rfl rfl)
abbrev cX6_end : ByteArray := prog_3_method_7_code
def yX6_end : MethodName := ⟨RX6, "end", "()I"⟩
def dkwX6_end_1 : List UInt8 := [2, 172]
abbrev dktX6_end_1 : List UInt8 := dkwX6_end_1 ++ []
def dkwX6_end_0 : List UInt8 := [42, 3, 182, 0, 85, 154, 0, 7, 4, 167, 0, 16, 42, 4, 182, 0, 85, 154, 0, 7, 3, 167, 0, 4]
abbrev dktX6_end_0 : List UInt8 := dkwX6_end_0 ++ dktX6_end_1
theorem dksX6_end_0 : cX6_end.data.toList.drop 0 = dktX6_end_0 := by decide +kernel
theorem dksX6_end_1 : cX6_end.data.toList.drop 24 = dktX6_end_1 := dk_seg dksX6_end_0 24 rfl rfl
theorem dX6_end_0 : decode cX6_end 0 = .ok (.aload_n 0, 1) := dk_42 (dk_at dksX6_end_0 0 rfl rfl)
theorem dX6_end_1 : decode cX6_end 1 = .ok (.iconst 0, 1) := dk_3 (dk_at dksX6_end_0 1 rfl rfl)
theorem dX6_end_2 : decode cX6_end 2 = .ok (.invokevirtual 85, 3) := dk_182 0 85 (dk_at dksX6_end_0 2 rfl rfl)
theorem dX6_end_5 : decode cX6_end 5 = .ok (.ifCond .ne 7, 3) := dk_154 0 7 (dk_at dksX6_end_0 5 rfl rfl)
theorem dX6_end_8 : decode cX6_end 8 = .ok (.iconst 1, 1) := dk_4 (dk_at dksX6_end_0 8 rfl rfl)
theorem dX6_end_9 : decode cX6_end 9 = .ok (.goto 16, 3) := dk_167 0 16 (dk_at dksX6_end_0 9 rfl rfl)
theorem dX6_end_12 : decode cX6_end 12 = .ok (.aload_n 0, 1) := dk_42 (dk_at dksX6_end_0 12 rfl rfl)
theorem dX6_end_13 : decode cX6_end 13 = .ok (.iconst 1, 1) := dk_4 (dk_at dksX6_end_0 13 rfl rfl)
theorem dX6_end_14 : decode cX6_end 14 = .ok (.invokevirtual 85, 3) := dk_182 0 85 (dk_at dksX6_end_0 14 rfl rfl)
theorem dX6_end_17 : decode cX6_end 17 = .ok (.ifCond .ne 7, 3) := dk_154 0 7 (dk_at dksX6_end_0 17 rfl rfl)
theorem dX6_end_20 : decode cX6_end 20 = .ok (.iconst 0, 1) := dk_3 (dk_at dksX6_end_0 20 rfl rfl)
theorem dX6_end_21 : decode cX6_end 21 = .ok (.goto 4, 3) := dk_167 0 4 (dk_at dksX6_end_0 21 rfl rfl)
theorem dX6_end_24 : decode cX6_end 24 = .ok (.iconst (-1), 1) := dk_2 (dk_at dksX6_end_1 0 rfl rfl)
theorem dX6_end_25 : decode cX6_end 25 = .ok (.ireturn, 1) := dk_172 (dk_at dksX6_end_1 1 rfl rfl)
abbrev cX6_isThere : ByteArray := prog_3_method_6_code
def yX6_isThere : MethodName := ⟨RX6, "isThere", "(I)Z"⟩
def dkwX6_isThere_1 : List UInt8 := [46, 27, 160, 0, 5, 4, 172, 132, 2, 1, 167, 255, 224, 3, 172]
abbrev dktX6_isThere_1 : List UInt8 := dkwX6_isThere_1 ++ []
def dkwX6_isThere_0 : List UInt8 := [3, 61, 28, 42, 180, 0, 63, 162, 0, 30, 42, 180, 0, 39, 28, 51, 153, 0, 15, 42, 180, 0, 9, 28]
abbrev dktX6_isThere_0 : List UInt8 := dkwX6_isThere_0 ++ dktX6_isThere_1
theorem dksX6_isThere_0 : cX6_isThere.data.toList.drop 0 = dktX6_isThere_0 := by decide +kernel
theorem dksX6_isThere_1 : cX6_isThere.data.toList.drop 24 = dktX6_isThere_1 := dk_seg dksX6_isThere_0 24 rfl rfl
theorem dX6_isThere_0 : decode cX6_isThere 0 = .ok (.iconst 0, 1) := dk_3 (dk_at dksX6_isThere_0 0 rfl rfl)
theorem dX6_isThere_1 : decode cX6_isThere 1 = .ok (.istore_n 2, 1) := dk_61 (dk_at dksX6_isThere_0 1 rfl rfl)
theorem dX6_isThere_2 : decode cX6_isThere 2 = .ok (.iload_n 2, 1) := dk_28 (dk_at dksX6_isThere_0 2 rfl rfl)
theorem dX6_isThere_3 : decode cX6_isThere 3 = .ok (.aload_n 0, 1) := dk_42 (dk_at dksX6_isThere_0 3 rfl rfl)
theorem dX6_isThere_4 : decode cX6_isThere 4 = .ok (.getfield 63, 3) := dk_180 0 63 (dk_at dksX6_isThere_0 4 rfl rfl)
theorem dX6_isThere_7 : decode cX6_isThere 7 = .ok (.if_icmp .ge 30, 3) := dk_162 0 30 (dk_at dksX6_isThere_0 7 rfl rfl)
theorem dX6_isThere_10 : decode cX6_isThere 10 = .ok (.aload_n 0, 1) := dk_42 (dk_at dksX6_isThere_0 10 rfl rfl)
theorem dX6_isThere_11 : decode cX6_isThere 11 = .ok (.getfield 39, 3) := dk_180 0 39 (dk_at dksX6_isThere_0 11 rfl rfl)
theorem dX6_isThere_14 : decode cX6_isThere 14 = .ok (.iload_n 2, 1) := dk_28 (dk_at dksX6_isThere_0 14 rfl rfl)
theorem dX6_isThere_15 : decode cX6_isThere 15 = .ok (.baload, 1) := dk_51 (dk_at dksX6_isThere_0 15 rfl rfl)
theorem dX6_isThere_16 : decode cX6_isThere 16 = .ok (.ifCond .eq 15, 3) := dk_153 0 15 (dk_at dksX6_isThere_0 16 rfl rfl)
theorem dX6_isThere_19 : decode cX6_isThere 19 = .ok (.aload_n 0, 1) := dk_42 (dk_at dksX6_isThere_0 19 rfl rfl)
theorem dX6_isThere_20 : decode cX6_isThere 20 = .ok (.getfield 9, 3) := dk_180 0 9 (dk_at dksX6_isThere_0 20 rfl rfl)
theorem dX6_isThere_23 : decode cX6_isThere 23 = .ok (.iload_n 2, 1) := dk_28 (dk_at dksX6_isThere_0 23 rfl rfl)
theorem dX6_isThere_24 : decode cX6_isThere 24 = .ok (.iaload, 1) := dk_46 (dk_at dksX6_isThere_1 0 rfl rfl)
theorem dX6_isThere_25 : decode cX6_isThere 25 = .ok (.iload_n 1, 1) := dk_27 (dk_at dksX6_isThere_1 1 rfl rfl)
theorem dX6_isThere_26 : decode cX6_isThere 26 = .ok (.if_icmp .ne 5, 3) := dk_160 0 5 (dk_at dksX6_isThere_1 2 rfl rfl)
theorem dX6_isThere_29 : decode cX6_isThere 29 = .ok (.iconst 1, 1) := dk_4 (dk_at dksX6_isThere_1 5 rfl rfl)
theorem dX6_isThere_30 : decode cX6_isThere 30 = .ok (.ireturn, 1) := dk_172 (dk_at dksX6_isThere_1 6 rfl rfl)
theorem dX6_isThere_31 : decode cX6_isThere 31 = .ok (.iinc 2 1, 3) := dk_132 2 1 (dk_at dksX6_isThere_1 7 rfl rfl)
theorem dX6_isThere_34 : decode cX6_isThere 34 = .ok (.goto (-32), 3) := dk_167 255 224 (dk_at dksX6_isThere_1 10 rfl rfl)
theorem dX6_isThere_37 : decode cX6_isThere 37 = .ok (.iconst 0, 1) := dk_3 (dk_at dksX6_isThere_1 13 rfl rfl)
theorem dX6_isThere_38 : decode cX6_isThere 38 = .ok (.ireturn, 1) := dk_172 (dk_at dksX6_isThere_1 14 rfl rfl)
abbrev cX6_key : ByteArray := prog_3_method_8_code
def yX6_key : MethodName := ⟨RX6, "key", "()J"⟩
def dkwX6_key_2 : List UInt8 := [31, 173]
abbrev dktX6_key_2 : List UInt8 := dkwX6_key_2 ++ []
def dkwX6_key_1 : List UInt8 := [42, 180, 0, 39, 29, 51, 153, 0, 7, 4, 167, 0, 4, 3, 96, 133, 129, 64, 132, 3, 1, 167, 255, 215]
abbrev dktX6_key_1 : List UInt8 := dkwX6_key_1 ++ dktX6_key_2
def dkwX6_key_0 : List UInt8 := [9, 64, 3, 62, 29, 42, 180, 0, 63, 162, 0, 39, 31, 16, 6, 121, 5, 42, 180, 0, 36, 29, 46, 104]
abbrev dktX6_key_0 : List UInt8 := dkwX6_key_0 ++ dktX6_key_1
theorem dksX6_key_0 : cX6_key.data.toList.drop 0 = dktX6_key_0 := by decide +kernel
theorem dksX6_key_1 : cX6_key.data.toList.drop 24 = dktX6_key_1 := dk_seg dksX6_key_0 24 rfl rfl
theorem dksX6_key_2 : cX6_key.data.toList.drop 48 = dktX6_key_2 := dk_seg dksX6_key_1 24 rfl rfl
theorem dX6_key_0 : decode cX6_key 0 = .ok (.lconst 0, 1) := dk_9 (dk_at dksX6_key_0 0 rfl rfl)
theorem dX6_key_1 : decode cX6_key 1 = .ok (.lstore_n 1, 1) := dk_64 (dk_at dksX6_key_0 1 rfl rfl)
theorem dX6_key_2 : decode cX6_key 2 = .ok (.iconst 0, 1) := dk_3 (dk_at dksX6_key_0 2 rfl rfl)
theorem dX6_key_3 : decode cX6_key 3 = .ok (.istore_n 3, 1) := dk_62 (dk_at dksX6_key_0 3 rfl rfl)
theorem dX6_key_4 : decode cX6_key 4 = .ok (.iload_n 3, 1) := dk_29 (dk_at dksX6_key_0 4 rfl rfl)
theorem dX6_key_5 : decode cX6_key 5 = .ok (.aload_n 0, 1) := dk_42 (dk_at dksX6_key_0 5 rfl rfl)
theorem dX6_key_6 : decode cX6_key 6 = .ok (.getfield 63, 3) := dk_180 0 63 (dk_at dksX6_key_0 6 rfl rfl)
theorem dX6_key_9 : decode cX6_key 9 = .ok (.if_icmp .ge 39, 3) := dk_162 0 39 (dk_at dksX6_key_0 9 rfl rfl)
theorem dX6_key_12 : decode cX6_key 12 = .ok (.lload_n 1, 1) := dk_31 (dk_at dksX6_key_0 12 rfl rfl)
theorem dX6_key_13 : decode cX6_key 13 = .ok (.bipush 6, 2) := dk_16 6 (dk_at dksX6_key_0 13 rfl rfl)
theorem dX6_key_15 : decode cX6_key 15 = .ok (.lshl, 1) := dk_121 (dk_at dksX6_key_0 15 rfl rfl)
theorem dX6_key_16 : decode cX6_key 16 = .ok (.iconst 2, 1) := dk_5 (dk_at dksX6_key_0 16 rfl rfl)
theorem dX6_key_17 : decode cX6_key 17 = .ok (.aload_n 0, 1) := dk_42 (dk_at dksX6_key_0 17 rfl rfl)
theorem dX6_key_18 : decode cX6_key 18 = .ok (.getfield 36, 3) := dk_180 0 36 (dk_at dksX6_key_0 18 rfl rfl)
theorem dX6_key_21 : decode cX6_key 21 = .ok (.iload_n 3, 1) := dk_29 (dk_at dksX6_key_0 21 rfl rfl)
theorem dX6_key_22 : decode cX6_key 22 = .ok (.iaload, 1) := dk_46 (dk_at dksX6_key_0 22 rfl rfl)
theorem dX6_key_23 : decode cX6_key 23 = .ok (.imul, 1) := dk_104 (dk_at dksX6_key_0 23 rfl rfl)
theorem dX6_key_24 : decode cX6_key 24 = .ok (.aload_n 0, 1) := dk_42 (dk_at dksX6_key_1 0 rfl rfl)
theorem dX6_key_25 : decode cX6_key 25 = .ok (.getfield 39, 3) := dk_180 0 39 (dk_at dksX6_key_1 1 rfl rfl)
theorem dX6_key_28 : decode cX6_key 28 = .ok (.iload_n 3, 1) := dk_29 (dk_at dksX6_key_1 4 rfl rfl)
theorem dX6_key_29 : decode cX6_key 29 = .ok (.baload, 1) := dk_51 (dk_at dksX6_key_1 5 rfl rfl)
theorem dX6_key_30 : decode cX6_key 30 = .ok (.ifCond .eq 7, 3) := dk_153 0 7 (dk_at dksX6_key_1 6 rfl rfl)
theorem dX6_key_33 : decode cX6_key 33 = .ok (.iconst 1, 1) := dk_4 (dk_at dksX6_key_1 9 rfl rfl)
theorem dX6_key_34 : decode cX6_key 34 = .ok (.goto 4, 3) := dk_167 0 4 (dk_at dksX6_key_1 10 rfl rfl)
theorem dX6_key_37 : decode cX6_key 37 = .ok (.iconst 0, 1) := dk_3 (dk_at dksX6_key_1 13 rfl rfl)
theorem dX6_key_38 : decode cX6_key 38 = .ok (.iadd, 1) := dk_96 (dk_at dksX6_key_1 14 rfl rfl)
theorem dX6_key_39 : decode cX6_key 39 = .ok (.i2l, 1) := dk_133 (dk_at dksX6_key_1 15 rfl rfl)
theorem dX6_key_40 : decode cX6_key 40 = .ok (.lor, 1) := dk_129 (dk_at dksX6_key_1 16 rfl rfl)
theorem dX6_key_41 : decode cX6_key 41 = .ok (.lstore_n 1, 1) := dk_64 (dk_at dksX6_key_1 17 rfl rfl)
theorem dX6_key_42 : decode cX6_key 42 = .ok (.iinc 3 1, 3) := dk_132 3 1 (dk_at dksX6_key_1 18 rfl rfl)
theorem dX6_key_45 : decode cX6_key 45 = .ok (.goto (-41), 3) := dk_167 255 215 (dk_at dksX6_key_1 21 rfl rfl)
theorem dX6_key_48 : decode cX6_key 48 = .ok (.lload_n 1, 1) := dk_31 (dk_at dksX6_key_2 0 rfl rfl)
theorem dX6_key_49 : decode cX6_key 49 = .ok (.lreturn, 1) := dk_173 (dk_at dksX6_key_2 1 rfl rfl)
abbrev cX6_become : ByteArray := prog_3_method_9_code
def yX6_become : MethodName := ⟨RX6, "become", "(J)V"⟩
def dkwX6_become_2 : List UInt8 := [3, 84, 33, 16, 6, 123, 66, 132, 5, 255, 167, 255, 208, 177]
abbrev dktX6_become_2 : List UInt8 := dkwX6_become_2 ++ []
def dkwX6_become_1 : List UInt8 := [20, 0, 89, 127, 136, 79, 42, 180, 0, 39, 21, 5, 33, 10, 127, 10, 148, 154, 0, 7, 4, 167, 0, 4]
abbrev dktX6_become_1 : List UInt8 := dkwX6_become_1 ++ dktX6_become_2
def dkwX6_become_0 : List UInt8 := [31, 66, 42, 180, 0, 63, 4, 100, 54, 5, 21, 5, 155, 0, 49, 42, 180, 0, 36, 21, 5, 33, 4, 123]
abbrev dktX6_become_0 : List UInt8 := dkwX6_become_0 ++ dktX6_become_1
theorem dksX6_become_0 : cX6_become.data.toList.drop 0 = dktX6_become_0 := by decide +kernel
theorem dksX6_become_1 : cX6_become.data.toList.drop 24 = dktX6_become_1 := dk_seg dksX6_become_0 24 rfl rfl
theorem dksX6_become_2 : cX6_become.data.toList.drop 48 = dktX6_become_2 := dk_seg dksX6_become_1 24 rfl rfl
theorem dX6_become_0 : decode cX6_become 0 = .ok (.lload_n 1, 1) := dk_31 (dk_at dksX6_become_0 0 rfl rfl)
theorem dX6_become_1 : decode cX6_become 1 = .ok (.lstore_n 3, 1) := dk_66 (dk_at dksX6_become_0 1 rfl rfl)
theorem dX6_become_2 : decode cX6_become 2 = .ok (.aload_n 0, 1) := dk_42 (dk_at dksX6_become_0 2 rfl rfl)
theorem dX6_become_3 : decode cX6_become 3 = .ok (.getfield 63, 3) := dk_180 0 63 (dk_at dksX6_become_0 3 rfl rfl)
theorem dX6_become_6 : decode cX6_become 6 = .ok (.iconst 1, 1) := dk_4 (dk_at dksX6_become_0 6 rfl rfl)
theorem dX6_become_7 : decode cX6_become 7 = .ok (.isub, 1) := dk_100 (dk_at dksX6_become_0 7 rfl rfl)
theorem dX6_become_8 : decode cX6_become 8 = .ok (.istore 5, 2) := dk_54 5 (dk_at dksX6_become_0 8 rfl rfl)
theorem dX6_become_10 : decode cX6_become 10 = .ok (.iload 5, 2) := dk_21 5 (dk_at dksX6_become_0 10 rfl rfl)
theorem dX6_become_12 : decode cX6_become 12 = .ok (.ifCond .lt 49, 3) := dk_155 0 49 (dk_at dksX6_become_0 12 rfl rfl)
theorem dX6_become_15 : decode cX6_become 15 = .ok (.aload_n 0, 1) := dk_42 (dk_at dksX6_become_0 15 rfl rfl)
theorem dX6_become_16 : decode cX6_become 16 = .ok (.getfield 36, 3) := dk_180 0 36 (dk_at dksX6_become_0 16 rfl rfl)
theorem dX6_become_19 : decode cX6_become 19 = .ok (.iload 5, 2) := dk_21 5 (dk_at dksX6_become_0 19 rfl rfl)
theorem dX6_become_21 : decode cX6_become 21 = .ok (.lload_n 3, 1) := dk_33 (dk_at dksX6_become_0 21 rfl rfl)
theorem dX6_become_22 : decode cX6_become 22 = .ok (.iconst 1, 1) := dk_4 (dk_at dksX6_become_0 22 rfl rfl)
theorem dX6_become_23 : decode cX6_become 23 = .ok (.lshr, 1) := dk_123 (dk_at dksX6_become_0 23 rfl rfl)
theorem dX6_become_24 : decode cX6_become 24 = .ok (.ldc2_w 89, 3) := dk_20 0 89 (dk_at dksX6_become_1 0 rfl rfl)
theorem dX6_become_27 : decode cX6_become 27 = .ok (.land, 1) := dk_127 (dk_at dksX6_become_1 3 rfl rfl)
theorem dX6_become_28 : decode cX6_become 28 = .ok (.l2i, 1) := dk_136 (dk_at dksX6_become_1 4 rfl rfl)
theorem dX6_become_29 : decode cX6_become 29 = .ok (.iastore, 1) := dk_79 (dk_at dksX6_become_1 5 rfl rfl)
theorem dX6_become_30 : decode cX6_become 30 = .ok (.aload_n 0, 1) := dk_42 (dk_at dksX6_become_1 6 rfl rfl)
theorem dX6_become_31 : decode cX6_become 31 = .ok (.getfield 39, 3) := dk_180 0 39 (dk_at dksX6_become_1 7 rfl rfl)
theorem dX6_become_34 : decode cX6_become 34 = .ok (.iload 5, 2) := dk_21 5 (dk_at dksX6_become_1 10 rfl rfl)
theorem dX6_become_36 : decode cX6_become 36 = .ok (.lload_n 3, 1) := dk_33 (dk_at dksX6_become_1 12 rfl rfl)
theorem dX6_become_37 : decode cX6_become 37 = .ok (.lconst 1, 1) := dk_10 (dk_at dksX6_become_1 13 rfl rfl)
theorem dX6_become_38 : decode cX6_become 38 = .ok (.land, 1) := dk_127 (dk_at dksX6_become_1 14 rfl rfl)
theorem dX6_become_39 : decode cX6_become 39 = .ok (.lconst 1, 1) := dk_10 (dk_at dksX6_become_1 15 rfl rfl)
theorem dX6_become_40 : decode cX6_become 40 = .ok (.lcmp, 1) := dk_148 (dk_at dksX6_become_1 16 rfl rfl)
theorem dX6_become_41 : decode cX6_become 41 = .ok (.ifCond .ne 7, 3) := dk_154 0 7 (dk_at dksX6_become_1 17 rfl rfl)
theorem dX6_become_44 : decode cX6_become 44 = .ok (.iconst 1, 1) := dk_4 (dk_at dksX6_become_1 20 rfl rfl)
theorem dX6_become_45 : decode cX6_become 45 = .ok (.goto 4, 3) := dk_167 0 4 (dk_at dksX6_become_1 21 rfl rfl)
theorem dX6_become_48 : decode cX6_become 48 = .ok (.iconst 0, 1) := dk_3 (dk_at dksX6_become_2 0 rfl rfl)
theorem dX6_become_49 : decode cX6_become 49 = .ok (.bastore, 1) := dk_84 (dk_at dksX6_become_2 1 rfl rfl)
theorem dX6_become_50 : decode cX6_become 50 = .ok (.lload_n 3, 1) := dk_33 (dk_at dksX6_become_2 2 rfl rfl)
theorem dX6_become_51 : decode cX6_become 51 = .ok (.bipush 6, 2) := dk_16 6 (dk_at dksX6_become_2 3 rfl rfl)
theorem dX6_become_53 : decode cX6_become 53 = .ok (.lshr, 1) := dk_123 (dk_at dksX6_become_2 5 rfl rfl)
theorem dX6_become_54 : decode cX6_become 54 = .ok (.lstore_n 3, 1) := dk_66 (dk_at dksX6_become_2 6 rfl rfl)
theorem dX6_become_55 : decode cX6_become 55 = .ok (.iinc 5 (-1), 3) := dk_132 5 255 (dk_at dksX6_become_2 7 rfl rfl)
theorem dX6_become_58 : decode cX6_become 58 = .ok (.goto (-48), 3) := dk_167 255 208 (dk_at dksX6_become_2 10 rfl rfl)
theorem dX6_become_61 : decode cX6_become 61 = .ok (.return_, 1) := dk_177 (dk_at dksX6_become_2 13 rfl rfl)
abbrev cX6_rolls : ByteArray := prog_3_method_4_code
def yX6_rolls : MethodName := ⟨RX6, "rolls", "(I)Z"⟩
def dkwX6_rolls_1 : List UInt8 := [42, 180, 0, 39, 27, 3, 84, 42, 180, 0, 39, 27, 51, 172]
abbrev dktX6_rolls_1 : List UInt8 := dkwX6_rolls_1 ++ []
def dkwX6_rolls_0 : List UInt8 := [42, 180, 0, 39, 27, 51, 153, 0, 25, 42, 180, 0, 36, 27, 46, 42, 180, 0, 30, 27, 46, 163, 0, 10]
abbrev dktX6_rolls_0 : List UInt8 := dkwX6_rolls_0 ++ dktX6_rolls_1
theorem dksX6_rolls_0 : cX6_rolls.data.toList.drop 0 = dktX6_rolls_0 := by decide +kernel
theorem dksX6_rolls_1 : cX6_rolls.data.toList.drop 24 = dktX6_rolls_1 := dk_seg dksX6_rolls_0 24 rfl rfl
theorem dX6_rolls_0 : decode cX6_rolls 0 = .ok (.aload_n 0, 1) := dk_42 (dk_at dksX6_rolls_0 0 rfl rfl)
theorem dX6_rolls_1 : decode cX6_rolls 1 = .ok (.getfield 39, 3) := dk_180 0 39 (dk_at dksX6_rolls_0 1 rfl rfl)
theorem dX6_rolls_4 : decode cX6_rolls 4 = .ok (.iload_n 1, 1) := dk_27 (dk_at dksX6_rolls_0 4 rfl rfl)
theorem dX6_rolls_5 : decode cX6_rolls 5 = .ok (.baload, 1) := dk_51 (dk_at dksX6_rolls_0 5 rfl rfl)
theorem dX6_rolls_6 : decode cX6_rolls 6 = .ok (.ifCond .eq 25, 3) := dk_153 0 25 (dk_at dksX6_rolls_0 6 rfl rfl)
theorem dX6_rolls_9 : decode cX6_rolls 9 = .ok (.aload_n 0, 1) := dk_42 (dk_at dksX6_rolls_0 9 rfl rfl)
theorem dX6_rolls_10 : decode cX6_rolls 10 = .ok (.getfield 36, 3) := dk_180 0 36 (dk_at dksX6_rolls_0 10 rfl rfl)
theorem dX6_rolls_13 : decode cX6_rolls 13 = .ok (.iload_n 1, 1) := dk_27 (dk_at dksX6_rolls_0 13 rfl rfl)
theorem dX6_rolls_14 : decode cX6_rolls 14 = .ok (.iaload, 1) := dk_46 (dk_at dksX6_rolls_0 14 rfl rfl)
theorem dX6_rolls_15 : decode cX6_rolls 15 = .ok (.aload_n 0, 1) := dk_42 (dk_at dksX6_rolls_0 15 rfl rfl)
theorem dX6_rolls_16 : decode cX6_rolls 16 = .ok (.getfield 30, 3) := dk_180 0 30 (dk_at dksX6_rolls_0 16 rfl rfl)
theorem dX6_rolls_19 : decode cX6_rolls 19 = .ok (.iload_n 1, 1) := dk_27 (dk_at dksX6_rolls_0 19 rfl rfl)
theorem dX6_rolls_20 : decode cX6_rolls 20 = .ok (.iaload, 1) := dk_46 (dk_at dksX6_rolls_0 20 rfl rfl)
theorem dX6_rolls_21 : decode cX6_rolls 21 = .ok (.if_icmp .gt 10, 3) := dk_163 0 10 (dk_at dksX6_rolls_0 21 rfl rfl)
theorem dX6_rolls_24 : decode cX6_rolls 24 = .ok (.aload_n 0, 1) := dk_42 (dk_at dksX6_rolls_1 0 rfl rfl)
theorem dX6_rolls_25 : decode cX6_rolls 25 = .ok (.getfield 39, 3) := dk_180 0 39 (dk_at dksX6_rolls_1 1 rfl rfl)
theorem dX6_rolls_28 : decode cX6_rolls 28 = .ok (.iload_n 1, 1) := dk_27 (dk_at dksX6_rolls_1 4 rfl rfl)
theorem dX6_rolls_29 : decode cX6_rolls 29 = .ok (.iconst 0, 1) := dk_3 (dk_at dksX6_rolls_1 5 rfl rfl)
theorem dX6_rolls_30 : decode cX6_rolls 30 = .ok (.bastore, 1) := dk_84 (dk_at dksX6_rolls_1 6 rfl rfl)
theorem dX6_rolls_31 : decode cX6_rolls 31 = .ok (.aload_n 0, 1) := dk_42 (dk_at dksX6_rolls_1 7 rfl rfl)
theorem dX6_rolls_32 : decode cX6_rolls 32 = .ok (.getfield 39, 3) := dk_180 0 39 (dk_at dksX6_rolls_1 8 rfl rfl)
theorem dX6_rolls_35 : decode cX6_rolls 35 = .ok (.iload_n 1, 1) := dk_27 (dk_at dksX6_rolls_1 11 rfl rfl)
theorem dX6_rolls_36 : decode cX6_rolls 36 = .ok (.baload, 1) := dk_51 (dk_at dksX6_rolls_1 12 rfl rfl)
theorem dX6_rolls_37 : decode cX6_rolls 37 = .ok (.ireturn, 1) := dk_172 (dk_at dksX6_rolls_1 13 rfl rfl)
abbrev cX6_hits : ByteArray := prog_3_method_5_code
def yX6_hits : MethodName := ⟨RX6, "hits", "(I)V"⟩
def dkwX6_hits_0 : List UInt8 := [178, 0, 75, 42, 180, 0, 18, 27, 46, 50, 42, 27, 182, 0, 79, 177]
abbrev dktX6_hits_0 : List UInt8 := dkwX6_hits_0 ++ []
theorem dksX6_hits_0 : cX6_hits.data.toList.drop 0 = dktX6_hits_0 := by decide +kernel
theorem dX6_hits_0 : decode cX6_hits 0 = .ok (.getstatic 75, 3) := dk_178 0 75 (dk_at dksX6_hits_0 0 rfl rfl)
theorem dX6_hits_3 : decode cX6_hits 3 = .ok (.aload_n 0, 1) := dk_42 (dk_at dksX6_hits_0 3 rfl rfl)
theorem dX6_hits_4 : decode cX6_hits 4 = .ok (.getfield 18, 3) := dk_180 0 18 (dk_at dksX6_hits_0 4 rfl rfl)
theorem dX6_hits_7 : decode cX6_hits 7 = .ok (.iload_n 1, 1) := dk_27 (dk_at dksX6_hits_0 7 rfl rfl)
theorem dX6_hits_8 : decode cX6_hits 8 = .ok (.iaload, 1) := dk_46 (dk_at dksX6_hits_0 8 rfl rfl)
theorem dX6_hits_9 : decode cX6_hits 9 = .ok (.aaload, 1) := dk_50 (dk_at dksX6_hits_0 9 rfl rfl)
theorem dX6_hits_10 : decode cX6_hits 10 = .ok (.aload_n 0, 1) := dk_42 (dk_at dksX6_hits_0 10 rfl rfl)
theorem dX6_hits_11 : decode cX6_hits 11 = .ok (.iload_n 1, 1) := dk_27 (dk_at dksX6_hits_0 11 rfl rfl)
theorem dX6_hits_12 : decode cX6_hits 12 = .ok (.invokevirtual 79, 3) := dk_182 0 79 (dk_at dksX6_hits_0 12 rfl rfl)
theorem dX6_hits_15 : decode cX6_hits 15 = .ok (.return_, 1) := dk_177 (dk_at dksX6_hits_0 15 rfl rfl)
abbrev cX6_loses : ByteArray := prog_3_method_3_code
def yX6_loses : MethodName := ⟨RX6, "loses", "(II)V"⟩
def dkwX6_loses_1 : List UInt8 := [180, 0, 36, 27, 46, 158, 0, 7, 4, 167, 0, 4, 3, 84, 177]
abbrev dktX6_loses_1 : List UInt8 := dkwX6_loses_1 ++ []
def dkwX6_loses_0 : List UInt8 := [42, 180, 0, 36, 27, 3, 42, 180, 0, 36, 27, 46, 28, 100, 184, 0, 69, 79, 42, 180, 0, 39, 27, 42]
abbrev dktX6_loses_0 : List UInt8 := dkwX6_loses_0 ++ dktX6_loses_1
theorem dksX6_loses_0 : cX6_loses.data.toList.drop 0 = dktX6_loses_0 := by decide +kernel
theorem dksX6_loses_1 : cX6_loses.data.toList.drop 24 = dktX6_loses_1 := dk_seg dksX6_loses_0 24 rfl rfl
theorem dX6_loses_0 : decode cX6_loses 0 = .ok (.aload_n 0, 1) := dk_42 (dk_at dksX6_loses_0 0 rfl rfl)
theorem dX6_loses_1 : decode cX6_loses 1 = .ok (.getfield 36, 3) := dk_180 0 36 (dk_at dksX6_loses_0 1 rfl rfl)
theorem dX6_loses_4 : decode cX6_loses 4 = .ok (.iload_n 1, 1) := dk_27 (dk_at dksX6_loses_0 4 rfl rfl)
theorem dX6_loses_5 : decode cX6_loses 5 = .ok (.iconst 0, 1) := dk_3 (dk_at dksX6_loses_0 5 rfl rfl)
theorem dX6_loses_6 : decode cX6_loses 6 = .ok (.aload_n 0, 1) := dk_42 (dk_at dksX6_loses_0 6 rfl rfl)
theorem dX6_loses_7 : decode cX6_loses 7 = .ok (.getfield 36, 3) := dk_180 0 36 (dk_at dksX6_loses_0 7 rfl rfl)
theorem dX6_loses_10 : decode cX6_loses 10 = .ok (.iload_n 1, 1) := dk_27 (dk_at dksX6_loses_0 10 rfl rfl)
theorem dX6_loses_11 : decode cX6_loses 11 = .ok (.iaload, 1) := dk_46 (dk_at dksX6_loses_0 11 rfl rfl)
theorem dX6_loses_12 : decode cX6_loses 12 = .ok (.iload_n 2, 1) := dk_28 (dk_at dksX6_loses_0 12 rfl rfl)
theorem dX6_loses_13 : decode cX6_loses 13 = .ok (.isub, 1) := dk_100 (dk_at dksX6_loses_0 13 rfl rfl)
theorem dX6_loses_14 : decode cX6_loses 14 = .ok (.invokestatic 69, 3) := dk_184 0 69 (dk_at dksX6_loses_0 14 rfl rfl)
theorem dX6_loses_17 : decode cX6_loses 17 = .ok (.iastore, 1) := dk_79 (dk_at dksX6_loses_0 17 rfl rfl)
theorem dX6_loses_18 : decode cX6_loses 18 = .ok (.aload_n 0, 1) := dk_42 (dk_at dksX6_loses_0 18 rfl rfl)
theorem dX6_loses_19 : decode cX6_loses 19 = .ok (.getfield 39, 3) := dk_180 0 39 (dk_at dksX6_loses_0 19 rfl rfl)
theorem dX6_loses_22 : decode cX6_loses 22 = .ok (.iload_n 1, 1) := dk_27 (dk_at dksX6_loses_0 22 rfl rfl)
theorem dX6_loses_23 : decode cX6_loses 23 = .ok (.aload_n 0, 1) := dk_42 (dk_at dksX6_loses_0 23 rfl rfl)
theorem dX6_loses_24 : decode cX6_loses 24 = .ok (.getfield 36, 3) := dk_180 0 36 (dk_at dksX6_loses_1 0 rfl rfl)
theorem dX6_loses_27 : decode cX6_loses 27 = .ok (.iload_n 1, 1) := dk_27 (dk_at dksX6_loses_1 3 rfl rfl)
theorem dX6_loses_28 : decode cX6_loses 28 = .ok (.iaload, 1) := dk_46 (dk_at dksX6_loses_1 4 rfl rfl)
theorem dX6_loses_29 : decode cX6_loses 29 = .ok (.ifCond .le 7, 3) := dk_158 0 7 (dk_at dksX6_loses_1 5 rfl rfl)
theorem dX6_loses_32 : decode cX6_loses 32 = .ok (.iconst 1, 1) := dk_4 (dk_at dksX6_loses_1 8 rfl rfl)
theorem dX6_loses_33 : decode cX6_loses 33 = .ok (.goto 4, 3) := dk_167 0 4 (dk_at dksX6_loses_1 9 rfl rfl)
theorem dX6_loses_36 : decode cX6_loses 36 = .ok (.iconst 0, 1) := dk_3 (dk_at dksX6_loses_1 12 rfl rfl)
theorem dX6_loses_37 : decode cX6_loses 37 = .ok (.bastore, 1) := dk_84 (dk_at dksX6_loses_1 13 rfl rfl)
theorem dX6_loses_38 : decode cX6_loses 38 = .ok (.return_, 1) := dk_177 (dk_at dksX6_loses_1 14 rfl rfl)
theorem q49 : (Jvm.Cond.initialized "FairFight$Fight") ∈ lw_all := lw_g (lw_at lw_m1 10 rfl) rfl
theorem q147 : (Jvm.Cond.fieldLinkNest "FairFight$Fight" (54 : Nat) "FairFight" "fighters" "[LFairFight$Fighter;" "FairFight") ∈ lw_tbl := lw_at lw_m1 108 rfl
theorem q153 : (Jvm.Cond.fieldLinkNest "FairFight$Fight" (43 : Nat) "FairFight" "aim" "I" "FairFight") ∈ lw_tbl := lw_at lw_m1 114 rfl
theorem q224 : (Jvm.Cond.fieldLinkNest "FairFight$Fight" (58 : Nat) "FairFight$Fighter" "told" "[I" "FairFight") ∈ lw_tbl := lw_at lw_m1 185 rfl
theorem q275 : (Jvm.Cond.instantiable "FairFight$Fight" (12 : Nat)) ∈ lw_all := lw_g (lw_at lw_m1 236 rfl) rfl
theorem q277 : (Jvm.Cond.instanceMethod ({ cls := "FairFight$Fight", name := "<init>", desc := "(LFairFight;[I[II)V" } : Jvm.MethodName)) ∈ lw_all := lw_g (lw_at lw_m1 238 rfl) rfl
theorem q278 : (Jvm.Cond.code ({ cls := "FairFight$Fight", name := "<init>", desc := "(LFairFight;[I[II)V" } : Jvm.MethodName) prog_3_method_1_code (11 : Nat) (Option.none : Option Jvm.ClassFile.FieldType)) ∈ lw_all := lw_g (lw_at lw_m1 239 rfl) rfl
theorem q279 : (Jvm.Cond.methodLink "FairFight$Fight" (3 : Nat) ({ cls := "java/lang/Object", name := "<init>", desc := "()V" } : Jvm.MethodName)) ∈ lw_all := lw_g (lw_at lw_m2 0 rfl) rfl
theorem q280 : (Jvm.Cond.methodLinkNest "FairFight$Fight" (50 : Nat) ({ cls := "FairFight", name := "manyOf", desc := "([I)I" } : Jvm.MethodName) "FairFight") ∈ lw_tbl := lw_at lw_m2 1 rfl
theorem q281 : (Jvm.Cond.methodLink "FairFight$Fight" (66 : Nat) ({ cls := "FairFight$Fight", name := "begins", desc := "()V" } : Jvm.MethodName)) ∈ lw_all := lw_g (lw_at lw_m2 2 rfl) rfl
theorem q282 : (Jvm.Cond.instanceMethod ({ cls := "FairFight$Fight", name := "begins", desc := "()V" } : Jvm.MethodName)) ∈ lw_all := lw_g (lw_at lw_m2 3 rfl) rfl
theorem q283 : (Jvm.Cond.selects "FairFight$Fight" ({ cls := "FairFight$Fight", name := "begins", desc := "()V" } : Jvm.MethodName) ({ cls := "FairFight$Fight", name := "begins", desc := "()V" } : Jvm.MethodName)) ∈ lw_all := lw_g (lw_at lw_m2 4 rfl) rfl
theorem q284 : (Jvm.Cond.code ({ cls := "FairFight$Fight", name := "begins", desc := "()V" } : Jvm.MethodName) prog_3_method_2_code (2 : Nat) (Option.none : Option Jvm.ClassFile.FieldType)) ∈ lw_all := lw_g (lw_at lw_m2 5 rfl) rfl
theorem q286 : (Jvm.Cond.fieldLink "FairFight$Fight" (63 : Nat) "FairFight$Fight" "many" "I") ∈ lw_all := lw_g (lw_at lw_m2 7 rfl) rfl
theorem q291 : (Jvm.Cond.fieldLink "FairFight$Fight" (47 : Nat) "FairFight$Fight" "aims" "I") ∈ lw_all := lw_g (lw_at lw_m2 12 rfl) rfl
theorem q293 : (Jvm.Cond.fieldLink "FairFight$Fight" (9 : Nat) "FairFight$Fight" "side" "[I") ∈ lw_all := lw_g (lw_at lw_m2 14 rfl) rfl
theorem q299 : (Jvm.Cond.fieldLink "FairFight$Fight" (15 : Nat) "FairFight$Fight" "place" "[I") ∈ lw_all := lw_g (lw_at lw_m2 20 rfl) rfl
theorem q301 : (Jvm.Cond.fieldLink "FairFight$Fight" (18 : Nat) "FairFight$Fight" "kind" "[I") ∈ lw_all := lw_g (lw_at lw_m2 22 rfl) rfl
theorem q302 : (Jvm.Cond.fieldLink "FairFight$Fight" (21 : Nat) "FairFight$Fight" "full" "[I") ∈ lw_all := lw_g (lw_at lw_m2 23 rfl) rfl
theorem q304 : (Jvm.Cond.fieldLink "FairFight$Fight" (24 : Nat) "FairFight$Fight" "hit" "[I") ∈ lw_all := lw_g (lw_at lw_m2 25 rfl) rfl
theorem q307 : (Jvm.Cond.fieldLink "FairFight$Fight" (27 : Nat) "FairFight$Fight" "force" "[I") ∈ lw_all := lw_g (lw_at lw_m2 28 rfl) rfl
theorem q311 : (Jvm.Cond.fieldLink "FairFight$Fight" (30 : Nat) "FairFight$Fight" "flee" "[I") ∈ lw_all := lw_g (lw_at lw_m2 32 rfl) rfl
theorem q312 : (Jvm.Cond.fieldLink "FairFight$Fight" (33 : Nat) "FairFight$Fight" "turns" "[I") ∈ lw_all := lw_g (lw_at lw_m2 33 rfl) rfl
theorem q315 : (Jvm.Cond.fieldLink "FairFight$Fight" (36 : Nat) "FairFight$Fight" "life" "[I") ∈ lw_all := lw_g (lw_at lw_m2 36 rfl) rfl
theorem q320 : (Jvm.Cond.fieldLink "FairFight$Fight" (39 : Nat) "FairFight$Fight" "isUp" "[Z") ∈ lw_all := lw_g (lw_at lw_m2 41 rfl) rfl
theorem q326 : (Jvm.Cond.laysFinal "FairFight$Fight" "FairFight$Fight" "many" "I") ∈ lw_all := lw_g (lw_at lw_m2 47 rfl) rfl
theorem q327 : (Jvm.Cond.soleField "FairFight$Fight" "many") ∈ lw_all := lw_g (lw_at lw_m2 48 rfl) rfl
theorem q328 : (Jvm.Cond.laysFinal "FairFight$Fight" "FairFight$Fight" "aims" "I") ∈ lw_all := lw_g (lw_at lw_m2 49 rfl) rfl
theorem q329 : (Jvm.Cond.soleField "FairFight$Fight" "aims") ∈ lw_all := lw_g (lw_at lw_m2 50 rfl) rfl
theorem q330 : (Jvm.Cond.laysFinal "FairFight$Fight" "FairFight$Fight" "side" "[I") ∈ lw_all := lw_g (lw_at lw_m2 51 rfl) rfl
theorem q331 : (Jvm.Cond.soleField "FairFight$Fight" "side") ∈ lw_all := lw_g (lw_at lw_m2 52 rfl) rfl
theorem q332 : (Jvm.Cond.laysFinal "FairFight$Fight" "FairFight$Fight" "place" "[I") ∈ lw_all := lw_g (lw_at lw_m2 53 rfl) rfl
theorem q333 : (Jvm.Cond.soleField "FairFight$Fight" "place") ∈ lw_all := lw_g (lw_at lw_m2 54 rfl) rfl
theorem q334 : (Jvm.Cond.laysFinal "FairFight$Fight" "FairFight$Fight" "kind" "[I") ∈ lw_all := lw_g (lw_at lw_m2 55 rfl) rfl
theorem q335 : (Jvm.Cond.soleField "FairFight$Fight" "kind") ∈ lw_all := lw_g (lw_at lw_m2 56 rfl) rfl
theorem q336 : (Jvm.Cond.laysFinal "FairFight$Fight" "FairFight$Fight" "full" "[I") ∈ lw_all := lw_g (lw_at lw_m2 57 rfl) rfl
theorem q337 : (Jvm.Cond.soleField "FairFight$Fight" "full") ∈ lw_all := lw_g (lw_at lw_m2 58 rfl) rfl
theorem q338 : (Jvm.Cond.laysFinal "FairFight$Fight" "FairFight$Fight" "hit" "[I") ∈ lw_all := lw_g (lw_at lw_m2 59 rfl) rfl
theorem q339 : (Jvm.Cond.soleField "FairFight$Fight" "hit") ∈ lw_all := lw_g (lw_at lw_m2 60 rfl) rfl
theorem q340 : (Jvm.Cond.laysFinal "FairFight$Fight" "FairFight$Fight" "force" "[I") ∈ lw_all := lw_g (lw_at lw_m2 61 rfl) rfl
theorem q341 : (Jvm.Cond.soleField "FairFight$Fight" "force") ∈ lw_all := lw_g (lw_at lw_m2 62 rfl) rfl
theorem q342 : (Jvm.Cond.laysFinal "FairFight$Fight" "FairFight$Fight" "flee" "[I") ∈ lw_all := lw_g (lw_at lw_m2 63 rfl) rfl
theorem q343 : (Jvm.Cond.soleField "FairFight$Fight" "flee") ∈ lw_all := lw_g (lw_at lw_m2 64 rfl) rfl
theorem q344 : (Jvm.Cond.laysFinal "FairFight$Fight" "FairFight$Fight" "turns" "[I") ∈ lw_all := lw_g (lw_at lw_m2 65 rfl) rfl
theorem q345 : (Jvm.Cond.soleField "FairFight$Fight" "turns") ∈ lw_all := lw_g (lw_at lw_m2 66 rfl) rfl
theorem q346 : (Jvm.Cond.laysFinal "FairFight$Fight" "FairFight$Fight" "life" "[I") ∈ lw_all := lw_g (lw_at lw_m2 67 rfl) rfl
theorem q347 : (Jvm.Cond.soleField "FairFight$Fight" "life") ∈ lw_all := lw_g (lw_at lw_m2 68 rfl) rfl
theorem q348 : (Jvm.Cond.laysFinal "FairFight$Fight" "FairFight$Fight" "isUp" "[Z") ∈ lw_all := lw_g (lw_at lw_m2 69 rfl) rfl
theorem q349 : (Jvm.Cond.soleField "FairFight$Fight" "isUp") ∈ lw_all := lw_g (lw_at lw_m2 70 rfl) rfl
theorem q350 : (Jvm.Cond.superclass "FairFight$Fight" "java/lang/Object") ∈ lw_all := lw_g (lw_at lw_m2 71 rfl) rfl
theorem q372 : (Jvm.Cond.instanceMethod ({ cls := "FairFight$Fight", name := "end", desc := "()I" } : Jvm.MethodName)) ∈ lw_all := lw_g (lw_at lw_m2 93 rfl) rfl
theorem q373 : (Jvm.Cond.selects "FairFight$Fight" ({ cls := "FairFight$Fight", name := "end", desc := "()I" } : Jvm.MethodName) ({ cls := "FairFight$Fight", name := "end", desc := "()I" } : Jvm.MethodName)) ∈ lw_all := lw_g (lw_at lw_m2 94 rfl) rfl
theorem q374 : (Jvm.Cond.code ({ cls := "FairFight$Fight", name := "end", desc := "()I" } : Jvm.MethodName) prog_3_method_7_code (1 : Nat) (Option.some Jvm.ClassFile.FieldType.int)) ∈ lw_all := lw_g (lw_at lw_m2 95 rfl) rfl
theorem q375 : (Jvm.Cond.methodLink "FairFight$Fight" (85 : Nat) ({ cls := "FairFight$Fight", name := "isThere", desc := "(I)Z" } : Jvm.MethodName)) ∈ lw_all := lw_g (lw_at lw_m2 96 rfl) rfl
theorem q376 : (Jvm.Cond.privateMethod ({ cls := "FairFight$Fight", name := "isThere", desc := "(I)Z" } : Jvm.MethodName)) ∈ lw_tbl := lw_at lw_m2 97 rfl
theorem q377 : (Jvm.Cond.instanceMethod ({ cls := "FairFight$Fight", name := "isThere", desc := "(I)Z" } : Jvm.MethodName)) ∈ lw_all := lw_g (lw_at lw_m2 98 rfl) rfl
theorem q378 : (Jvm.Cond.code ({ cls := "FairFight$Fight", name := "isThere", desc := "(I)Z" } : Jvm.MethodName) prog_3_method_6_code (3 : Nat) (Option.some Jvm.ClassFile.FieldType.boolean)) ∈ lw_all := lw_g (lw_at lw_m2 99 rfl) rfl
theorem q380 : (Jvm.Cond.instanceMethod ({ cls := "FairFight$Fight", name := "key", desc := "()J" } : Jvm.MethodName)) ∈ lw_all := lw_g (lw_at lw_m2 101 rfl) rfl
theorem q381 : (Jvm.Cond.selects "FairFight$Fight" ({ cls := "FairFight$Fight", name := "key", desc := "()J" } : Jvm.MethodName) ({ cls := "FairFight$Fight", name := "key", desc := "()J" } : Jvm.MethodName)) ∈ lw_all := lw_g (lw_at lw_m2 102 rfl) rfl
theorem q382 : (Jvm.Cond.code ({ cls := "FairFight$Fight", name := "key", desc := "()J" } : Jvm.MethodName) prog_3_method_8_code (4 : Nat) (Option.some Jvm.ClassFile.FieldType.long)) ∈ lw_all := lw_g (lw_at lw_m2 103 rfl) rfl
theorem q396 : (Jvm.Cond.instanceMethod ({ cls := "FairFight$Fight", name := "become", desc := "(J)V" } : Jvm.MethodName)) ∈ lw_all := lw_g (lw_at lw_m2 117 rfl) rfl
theorem q397 : (Jvm.Cond.selects "FairFight$Fight" ({ cls := "FairFight$Fight", name := "become", desc := "(J)V" } : Jvm.MethodName) ({ cls := "FairFight$Fight", name := "become", desc := "(J)V" } : Jvm.MethodName)) ∈ lw_all := lw_g (lw_at lw_m2 118 rfl) rfl
theorem q398 : (Jvm.Cond.code ({ cls := "FairFight$Fight", name := "become", desc := "(J)V" } : Jvm.MethodName) prog_3_method_9_code (6 : Nat) (Option.none : Option Jvm.ClassFile.FieldType)) ∈ lw_all := lw_g (lw_at lw_m2 119 rfl) rfl
theorem q399 : (Jvm.Cond.constantLong "FairFight$Fight" (89 : Nat) (31 : Int64)) ∈ lw_all := lw_g (lw_at lw_m2 120 rfl) rfl
theorem q401 : (Jvm.Cond.instanceMethod ({ cls := "FairFight$Fight", name := "rolls", desc := "(I)Z" } : Jvm.MethodName)) ∈ lw_all := lw_g (lw_at lw_m2 122 rfl) rfl
theorem q402 : (Jvm.Cond.selects "FairFight$Fight" ({ cls := "FairFight$Fight", name := "rolls", desc := "(I)Z" } : Jvm.MethodName) ({ cls := "FairFight$Fight", name := "rolls", desc := "(I)Z" } : Jvm.MethodName)) ∈ lw_all := lw_g (lw_at lw_m2 123 rfl) rfl
theorem q403 : (Jvm.Cond.code ({ cls := "FairFight$Fight", name := "rolls", desc := "(I)Z" } : Jvm.MethodName) prog_3_method_4_code (2 : Nat) (Option.some Jvm.ClassFile.FieldType.boolean)) ∈ lw_all := lw_g (lw_at lw_m2 124 rfl) rfl
theorem q405 : (Jvm.Cond.instanceMethod ({ cls := "FairFight$Fight", name := "hits", desc := "(I)V" } : Jvm.MethodName)) ∈ lw_all := lw_g (lw_at lw_m2 126 rfl) rfl
theorem q406 : (Jvm.Cond.selects "FairFight$Fight" ({ cls := "FairFight$Fight", name := "hits", desc := "(I)V" } : Jvm.MethodName) ({ cls := "FairFight$Fight", name := "hits", desc := "(I)V" } : Jvm.MethodName)) ∈ lw_all := lw_g (lw_at lw_m2 127 rfl) rfl
theorem q407 : (Jvm.Cond.code ({ cls := "FairFight$Fight", name := "hits", desc := "(I)V" } : Jvm.MethodName) prog_3_method_5_code (2 : Nat) (Option.none : Option Jvm.ClassFile.FieldType)) ∈ lw_all := lw_g (lw_at lw_m2 128 rfl) rfl
theorem q408 : (Jvm.Cond.fieldLinkNest "FairFight$Fight" (75 : Nat) "FairFight" "KINDS" "[LFairFight$Kind;" "FairFight") ∈ lw_tbl := lw_at lw_m2 129 rfl
theorem q410 : (Jvm.Cond.methodLink "FairFight$Fight" (79 : Nat) ({ cls := "FairFight$Kind", name := "hits", desc := "(LFairFight$Fight;I)V" } : Jvm.MethodName)) ∈ lw_all := lw_g (lw_at lw_m2 131 rfl) rfl
theorem q417 : (Jvm.Cond.instanceMethod ({ cls := "FairFight$Fight", name := "loses", desc := "(II)V" } : Jvm.MethodName)) ∈ lw_all := lw_g (lw_at lw_m2 138 rfl) rfl
theorem q418 : (Jvm.Cond.selects "FairFight$Fight" ({ cls := "FairFight$Fight", name := "loses", desc := "(II)V" } : Jvm.MethodName) ({ cls := "FairFight$Fight", name := "loses", desc := "(II)V" } : Jvm.MethodName)) ∈ lw_all := lw_g (lw_at lw_m2 139 rfl) rfl
theorem q419 : (Jvm.Cond.code ({ cls := "FairFight$Fight", name := "loses", desc := "(II)V" } : Jvm.MethodName) prog_3_method_3_code (3 : Nat) (Option.none : Option Jvm.ClassFile.FieldType)) ∈ lw_all := lw_g (lw_at lw_m2 140 rfl) rfl
theorem q420 : (Jvm.Cond.methodLink "FairFight$Fight" (69 : Nat) ({ cls := "java/lang/Math", name := "max", desc := "(II)I" } : Jvm.MethodName)) ∈ lw_all := lw_g (lw_at lw_m2 141 rfl) rfl
theorem q556 : (Jvm.Cond.selects "FairFight$Fight" ({ cls := "java/lang/Object", name := "getClass", desc := "()Ljava/lang/Class;" } : Jvm.MethodName) ({ cls := "java/lang/Object", name := "getClass", desc := "()Ljava/lang/Class;" } : Jvm.MethodName)) ∈ lw_all := lw_g (lw_at lw_m3 37 rfl) rfl
theorem q1290 : (Jvm.Cond.castable "FairFight$Fight" "java/lang/Object") ∈ lw_tbl := lw_at lw_m6 51 rfl
theorem in_X6 : ∀ w ∈ wsX60, w ∈ lw_all := lw_in wsX60 [326, 328, 330, 332, 334, 336, 338, 340, 342, 344, 346, 348] (by decide +kernel) (by decide +kernel)
/-! FairFight$Area -/
set_option maxRecDepth 100000
def RX7 : String := "FairFight$Area"
abbrev cX7_hits : ByteArray := prog_2_method_2_code
def yX7_hits : MethodName := ⟨RX7, "hits", "(LFairFight$Fight;I)V"⟩
def dkwX7_hits_2 : List UInt8 := [167, 255, 210, 177]
abbrev dktX7_hits_2 : List UInt8 := dkwX7_hits_2 ++ []
def dkwX7_hits_1 : List UInt8 := [46, 43, 180, 0, 17, 28, 46, 159, 0, 14, 43, 29, 43, 180, 0, 21, 28, 46, 182, 0, 24, 132, 3, 1]
abbrev dktX7_hits_1 : List UInt8 := dkwX7_hits_1 ++ dktX7_hits_2
def dkwX7_hits_0 : List UInt8 := [3, 62, 29, 43, 180, 0, 7, 162, 0, 44, 43, 180, 0, 13, 29, 51, 153, 0, 29, 43, 180, 0, 17, 29]
abbrev dktX7_hits_0 : List UInt8 := dkwX7_hits_0 ++ dktX7_hits_1
theorem dksX7_hits_0 : cX7_hits.data.toList.drop 0 = dktX7_hits_0 := by decide +kernel
theorem dksX7_hits_1 : cX7_hits.data.toList.drop 24 = dktX7_hits_1 := dk_seg dksX7_hits_0 24 rfl rfl
theorem dksX7_hits_2 : cX7_hits.data.toList.drop 48 = dktX7_hits_2 := dk_seg dksX7_hits_1 24 rfl rfl
theorem dX7_hits_0 : decode cX7_hits 0 = .ok (.iconst 0, 1) := dk_3 (dk_at dksX7_hits_0 0 rfl rfl)
theorem dX7_hits_1 : decode cX7_hits 1 = .ok (.istore_n 3, 1) := dk_62 (dk_at dksX7_hits_0 1 rfl rfl)
theorem dX7_hits_2 : decode cX7_hits 2 = .ok (.iload_n 3, 1) := dk_29 (dk_at dksX7_hits_0 2 rfl rfl)
theorem dX7_hits_3 : decode cX7_hits 3 = .ok (.aload_n 1, 1) := dk_43 (dk_at dksX7_hits_0 3 rfl rfl)
theorem dX7_hits_4 : decode cX7_hits 4 = .ok (.getfield 7, 3) := dk_180 0 7 (dk_at dksX7_hits_0 4 rfl rfl)
theorem dX7_hits_7 : decode cX7_hits 7 = .ok (.if_icmp .ge 44, 3) := dk_162 0 44 (dk_at dksX7_hits_0 7 rfl rfl)
theorem dX7_hits_10 : decode cX7_hits 10 = .ok (.aload_n 1, 1) := dk_43 (dk_at dksX7_hits_0 10 rfl rfl)
theorem dX7_hits_11 : decode cX7_hits 11 = .ok (.getfield 13, 3) := dk_180 0 13 (dk_at dksX7_hits_0 11 rfl rfl)
theorem dX7_hits_14 : decode cX7_hits 14 = .ok (.iload_n 3, 1) := dk_29 (dk_at dksX7_hits_0 14 rfl rfl)
theorem dX7_hits_15 : decode cX7_hits 15 = .ok (.baload, 1) := dk_51 (dk_at dksX7_hits_0 15 rfl rfl)
theorem dX7_hits_16 : decode cX7_hits 16 = .ok (.ifCond .eq 29, 3) := dk_153 0 29 (dk_at dksX7_hits_0 16 rfl rfl)
theorem dX7_hits_19 : decode cX7_hits 19 = .ok (.aload_n 1, 1) := dk_43 (dk_at dksX7_hits_0 19 rfl rfl)
theorem dX7_hits_20 : decode cX7_hits 20 = .ok (.getfield 17, 3) := dk_180 0 17 (dk_at dksX7_hits_0 20 rfl rfl)
theorem dX7_hits_23 : decode cX7_hits 23 = .ok (.iload_n 3, 1) := dk_29 (dk_at dksX7_hits_0 23 rfl rfl)
theorem dX7_hits_24 : decode cX7_hits 24 = .ok (.iaload, 1) := dk_46 (dk_at dksX7_hits_1 0 rfl rfl)
theorem dX7_hits_25 : decode cX7_hits 25 = .ok (.aload_n 1, 1) := dk_43 (dk_at dksX7_hits_1 1 rfl rfl)
theorem dX7_hits_26 : decode cX7_hits 26 = .ok (.getfield 17, 3) := dk_180 0 17 (dk_at dksX7_hits_1 2 rfl rfl)
theorem dX7_hits_29 : decode cX7_hits 29 = .ok (.iload_n 2, 1) := dk_28 (dk_at dksX7_hits_1 5 rfl rfl)
theorem dX7_hits_30 : decode cX7_hits 30 = .ok (.iaload, 1) := dk_46 (dk_at dksX7_hits_1 6 rfl rfl)
theorem dX7_hits_31 : decode cX7_hits 31 = .ok (.if_icmp .eq 14, 3) := dk_159 0 14 (dk_at dksX7_hits_1 7 rfl rfl)
theorem dX7_hits_34 : decode cX7_hits 34 = .ok (.aload_n 1, 1) := dk_43 (dk_at dksX7_hits_1 10 rfl rfl)
theorem dX7_hits_35 : decode cX7_hits 35 = .ok (.iload_n 3, 1) := dk_29 (dk_at dksX7_hits_1 11 rfl rfl)
theorem dX7_hits_36 : decode cX7_hits 36 = .ok (.aload_n 1, 1) := dk_43 (dk_at dksX7_hits_1 12 rfl rfl)
theorem dX7_hits_37 : decode cX7_hits 37 = .ok (.getfield 21, 3) := dk_180 0 21 (dk_at dksX7_hits_1 13 rfl rfl)
theorem dX7_hits_40 : decode cX7_hits 40 = .ok (.iload_n 2, 1) := dk_28 (dk_at dksX7_hits_1 16 rfl rfl)
theorem dX7_hits_41 : decode cX7_hits 41 = .ok (.iaload, 1) := dk_46 (dk_at dksX7_hits_1 17 rfl rfl)
theorem dX7_hits_42 : decode cX7_hits 42 = .ok (.invokevirtual 24, 3) := dk_182 0 24 (dk_at dksX7_hits_1 18 rfl rfl)
theorem dX7_hits_45 : decode cX7_hits 45 = .ok (.iinc 3 1, 3) := dk_132 3 1 (dk_at dksX7_hits_1 21 rfl rfl)
theorem dX7_hits_48 : decode cX7_hits 48 = .ok (.goto (-46), 3) := dk_167 255 210 (dk_at dksX7_hits_2 0 rfl rfl)
theorem dX7_hits_51 : decode cX7_hits 51 = .ok (.return_, 1) := dk_177 (dk_at dksX7_hits_2 3 rfl rfl)
theorem q287 : (Jvm.Cond.fieldLinkNest "FairFight$Area" (7 : Nat) "FairFight$Fight" "many" "I" "FairFight") ∈ lw_tbl := lw_at lw_m2 8 rfl
theorem q294 : (Jvm.Cond.fieldLinkNest "FairFight$Area" (17 : Nat) "FairFight$Fight" "side" "[I" "FairFight") ∈ lw_tbl := lw_at lw_m2 15 rfl
theorem q308 : (Jvm.Cond.fieldLinkNest "FairFight$Area" (21 : Nat) "FairFight$Fight" "force" "[I" "FairFight") ∈ lw_tbl := lw_at lw_m2 29 rfl
theorem q321 : (Jvm.Cond.fieldLinkNest "FairFight$Area" (13 : Nat) "FairFight$Fight" "isUp" "[Z" "FairFight") ∈ lw_tbl := lw_at lw_m2 42 rfl
theorem q413 : (Jvm.Cond.selects "FairFight$Area" ({ cls := "FairFight$Kind", name := "hits", desc := "(LFairFight$Fight;I)V" } : Jvm.MethodName) ({ cls := "FairFight$Area", name := "hits", desc := "(LFairFight$Fight;I)V" } : Jvm.MethodName)) ∈ lw_all := lw_g (lw_at lw_m2 134 rfl) rfl
theorem q414 : (Jvm.Cond.instanceMethod ({ cls := "FairFight$Area", name := "hits", desc := "(LFairFight$Fight;I)V" } : Jvm.MethodName)) ∈ lw_all := lw_g (lw_at lw_m2 135 rfl) rfl
theorem q415 : (Jvm.Cond.code ({ cls := "FairFight$Area", name := "hits", desc := "(LFairFight$Fight;I)V" } : Jvm.MethodName) prog_2_method_2_code (4 : Nat) (Option.none : Option Jvm.ClassFile.FieldType)) ∈ lw_all := lw_g (lw_at lw_m2 136 rfl) rfl
theorem q416 : (Jvm.Cond.methodLink "FairFight$Area" (24 : Nat) ({ cls := "FairFight$Fight", name := "loses", desc := "(II)V" } : Jvm.MethodName)) ∈ lw_all := lw_g (lw_at lw_m2 137 rfl) rfl
theorem q555 : (Jvm.Cond.selects "FairFight$Area" ({ cls := "java/lang/Object", name := "getClass", desc := "()Ljava/lang/Class;" } : Jvm.MethodName) ({ cls := "java/lang/Object", name := "getClass", desc := "()Ljava/lang/Class;" } : Jvm.MethodName)) ∈ lw_all := lw_g (lw_at lw_m3 36 rfl) rfl
theorem q1278 : (Jvm.Cond.initialized "FairFight$Area") ∈ lw_all := lw_g (lw_at lw_m6 39 rfl) rfl
theorem q1292 : (Jvm.Cond.castable "FairFight$Area" "java/lang/Object") ∈ lw_tbl := lw_at lw_m6 53 rfl
/-! FairFight$Healer -/
set_option maxRecDepth 100000
def RX8 : String := "FairFight$Healer"
abbrev cX8_hits : ByteArray := prog_5_method_2_code
def yX8_hits : MethodName := ⟨RX8, "hits", "(LFairFight$Fight;I)V"⟩
def dkwX8_hits_4 : List UInt8 := [180, 0, 26, 29, 46, 43, 180, 0, 23, 29, 46, 43, 180, 0, 29, 28, 46, 96, 184, 0, 32, 79, 177]
abbrev dktX8_hits_4 : List UInt8 := dkwX8_hits_4 ++ []
def dkwX8_hits_3 : List UInt8 := [162, 0, 8, 21, 4, 167, 0, 4, 29, 62, 132, 4, 1, 167, 255, 178, 43, 180, 0, 23, 29, 43]
abbrev dktX8_hits_3 : List UInt8 := dkwX8_hits_3 ++ dktX8_hits_4
def dkwX8_hits_2 : List UInt8 := [21, 5, 153, 0, 29, 29, 2, 159, 0, 19, 43, 180, 0, 23, 21, 4, 46, 43, 180, 0, 23, 29, 46]
abbrev dktX8_hits_2 : List UInt8 := dkwX8_hits_2 ++ dktX8_hits_3
def dkwX8_hits_1 : List UInt8 := [43, 180, 0, 19, 21, 4, 46, 43, 180, 0, 19, 28, 46, 160, 0, 7, 4, 167, 0, 4, 3, 54, 5]
abbrev dktX8_hits_1 : List UInt8 := dkwX8_hits_1 ++ dktX8_hits_2
def dkwX8_hits_0 : List UInt8 := [2, 62, 3, 54, 4, 21, 4, 43, 180, 0, 9, 162, 0, 75, 43, 180, 0, 15, 21, 4, 51, 153, 0, 23]
abbrev dktX8_hits_0 : List UInt8 := dkwX8_hits_0 ++ dktX8_hits_1
theorem dksX8_hits_0 : cX8_hits.data.toList.drop 0 = dktX8_hits_0 := by decide +kernel
theorem dksX8_hits_1 : cX8_hits.data.toList.drop 24 = dktX8_hits_1 := dk_seg dksX8_hits_0 24 rfl rfl
theorem dksX8_hits_2 : cX8_hits.data.toList.drop 47 = dktX8_hits_2 := dk_seg dksX8_hits_1 23 rfl rfl
theorem dksX8_hits_3 : cX8_hits.data.toList.drop 70 = dktX8_hits_3 := dk_seg dksX8_hits_2 23 rfl rfl
theorem dksX8_hits_4 : cX8_hits.data.toList.drop 92 = dktX8_hits_4 := dk_seg dksX8_hits_3 22 rfl rfl
theorem dX8_hits_0 : decode cX8_hits 0 = .ok (.iconst (-1), 1) := dk_2 (dk_at dksX8_hits_0 0 rfl rfl)
theorem dX8_hits_1 : decode cX8_hits 1 = .ok (.istore_n 3, 1) := dk_62 (dk_at dksX8_hits_0 1 rfl rfl)
theorem dX8_hits_2 : decode cX8_hits 2 = .ok (.iconst 0, 1) := dk_3 (dk_at dksX8_hits_0 2 rfl rfl)
theorem dX8_hits_3 : decode cX8_hits 3 = .ok (.istore 4, 2) := dk_54 4 (dk_at dksX8_hits_0 3 rfl rfl)
theorem dX8_hits_5 : decode cX8_hits 5 = .ok (.iload 4, 2) := dk_21 4 (dk_at dksX8_hits_0 5 rfl rfl)
theorem dX8_hits_7 : decode cX8_hits 7 = .ok (.aload_n 1, 1) := dk_43 (dk_at dksX8_hits_0 7 rfl rfl)
theorem dX8_hits_8 : decode cX8_hits 8 = .ok (.getfield 9, 3) := dk_180 0 9 (dk_at dksX8_hits_0 8 rfl rfl)
theorem dX8_hits_11 : decode cX8_hits 11 = .ok (.if_icmp .ge 75, 3) := dk_162 0 75 (dk_at dksX8_hits_0 11 rfl rfl)
theorem dX8_hits_14 : decode cX8_hits 14 = .ok (.aload_n 1, 1) := dk_43 (dk_at dksX8_hits_0 14 rfl rfl)
theorem dX8_hits_15 : decode cX8_hits 15 = .ok (.getfield 15, 3) := dk_180 0 15 (dk_at dksX8_hits_0 15 rfl rfl)
theorem dX8_hits_18 : decode cX8_hits 18 = .ok (.iload 4, 2) := dk_21 4 (dk_at dksX8_hits_0 18 rfl rfl)
theorem dX8_hits_20 : decode cX8_hits 20 = .ok (.baload, 1) := dk_51 (dk_at dksX8_hits_0 20 rfl rfl)
theorem dX8_hits_21 : decode cX8_hits 21 = .ok (.ifCond .eq 23, 3) := dk_153 0 23 (dk_at dksX8_hits_0 21 rfl rfl)
theorem dX8_hits_24 : decode cX8_hits 24 = .ok (.aload_n 1, 1) := dk_43 (dk_at dksX8_hits_1 0 rfl rfl)
theorem dX8_hits_25 : decode cX8_hits 25 = .ok (.getfield 19, 3) := dk_180 0 19 (dk_at dksX8_hits_1 1 rfl rfl)
theorem dX8_hits_28 : decode cX8_hits 28 = .ok (.iload 4, 2) := dk_21 4 (dk_at dksX8_hits_1 4 rfl rfl)
theorem dX8_hits_30 : decode cX8_hits 30 = .ok (.iaload, 1) := dk_46 (dk_at dksX8_hits_1 6 rfl rfl)
theorem dX8_hits_31 : decode cX8_hits 31 = .ok (.aload_n 1, 1) := dk_43 (dk_at dksX8_hits_1 7 rfl rfl)
theorem dX8_hits_32 : decode cX8_hits 32 = .ok (.getfield 19, 3) := dk_180 0 19 (dk_at dksX8_hits_1 8 rfl rfl)
theorem dX8_hits_35 : decode cX8_hits 35 = .ok (.iload_n 2, 1) := dk_28 (dk_at dksX8_hits_1 11 rfl rfl)
theorem dX8_hits_36 : decode cX8_hits 36 = .ok (.iaload, 1) := dk_46 (dk_at dksX8_hits_1 12 rfl rfl)
theorem dX8_hits_37 : decode cX8_hits 37 = .ok (.if_icmp .ne 7, 3) := dk_160 0 7 (dk_at dksX8_hits_1 13 rfl rfl)
theorem dX8_hits_40 : decode cX8_hits 40 = .ok (.iconst 1, 1) := dk_4 (dk_at dksX8_hits_1 16 rfl rfl)
theorem dX8_hits_41 : decode cX8_hits 41 = .ok (.goto 4, 3) := dk_167 0 4 (dk_at dksX8_hits_1 17 rfl rfl)
theorem dX8_hits_44 : decode cX8_hits 44 = .ok (.iconst 0, 1) := dk_3 (dk_at dksX8_hits_1 20 rfl rfl)
theorem dX8_hits_45 : decode cX8_hits 45 = .ok (.istore 5, 2) := dk_54 5 (dk_at dksX8_hits_1 21 rfl rfl)
theorem dX8_hits_47 : decode cX8_hits 47 = .ok (.iload 5, 2) := dk_21 5 (dk_at dksX8_hits_2 0 rfl rfl)
theorem dX8_hits_49 : decode cX8_hits 49 = .ok (.ifCond .eq 29, 3) := dk_153 0 29 (dk_at dksX8_hits_2 2 rfl rfl)
theorem dX8_hits_52 : decode cX8_hits 52 = .ok (.iload_n 3, 1) := dk_29 (dk_at dksX8_hits_2 5 rfl rfl)
theorem dX8_hits_53 : decode cX8_hits 53 = .ok (.iconst (-1), 1) := dk_2 (dk_at dksX8_hits_2 6 rfl rfl)
theorem dX8_hits_54 : decode cX8_hits 54 = .ok (.if_icmp .eq 19, 3) := dk_159 0 19 (dk_at dksX8_hits_2 7 rfl rfl)
theorem dX8_hits_57 : decode cX8_hits 57 = .ok (.aload_n 1, 1) := dk_43 (dk_at dksX8_hits_2 10 rfl rfl)
theorem dX8_hits_58 : decode cX8_hits 58 = .ok (.getfield 23, 3) := dk_180 0 23 (dk_at dksX8_hits_2 11 rfl rfl)
theorem dX8_hits_61 : decode cX8_hits 61 = .ok (.iload 4, 2) := dk_21 4 (dk_at dksX8_hits_2 14 rfl rfl)
theorem dX8_hits_63 : decode cX8_hits 63 = .ok (.iaload, 1) := dk_46 (dk_at dksX8_hits_2 16 rfl rfl)
theorem dX8_hits_64 : decode cX8_hits 64 = .ok (.aload_n 1, 1) := dk_43 (dk_at dksX8_hits_2 17 rfl rfl)
theorem dX8_hits_65 : decode cX8_hits 65 = .ok (.getfield 23, 3) := dk_180 0 23 (dk_at dksX8_hits_2 18 rfl rfl)
theorem dX8_hits_68 : decode cX8_hits 68 = .ok (.iload_n 3, 1) := dk_29 (dk_at dksX8_hits_2 21 rfl rfl)
theorem dX8_hits_69 : decode cX8_hits 69 = .ok (.iaload, 1) := dk_46 (dk_at dksX8_hits_2 22 rfl rfl)
theorem dX8_hits_70 : decode cX8_hits 70 = .ok (.if_icmp .ge 8, 3) := dk_162 0 8 (dk_at dksX8_hits_3 0 rfl rfl)
theorem dX8_hits_73 : decode cX8_hits 73 = .ok (.iload 4, 2) := dk_21 4 (dk_at dksX8_hits_3 3 rfl rfl)
theorem dX8_hits_75 : decode cX8_hits 75 = .ok (.goto 4, 3) := dk_167 0 4 (dk_at dksX8_hits_3 5 rfl rfl)
theorem dX8_hits_78 : decode cX8_hits 78 = .ok (.iload_n 3, 1) := dk_29 (dk_at dksX8_hits_3 8 rfl rfl)
theorem dX8_hits_79 : decode cX8_hits 79 = .ok (.istore_n 3, 1) := dk_62 (dk_at dksX8_hits_3 9 rfl rfl)
theorem dX8_hits_80 : decode cX8_hits 80 = .ok (.iinc 4 1, 3) := dk_132 4 1 (dk_at dksX8_hits_3 10 rfl rfl)
theorem dX8_hits_83 : decode cX8_hits 83 = .ok (.goto (-78), 3) := dk_167 255 178 (dk_at dksX8_hits_3 13 rfl rfl)
theorem dX8_hits_86 : decode cX8_hits 86 = .ok (.aload_n 1, 1) := dk_43 (dk_at dksX8_hits_3 16 rfl rfl)
theorem dX8_hits_87 : decode cX8_hits 87 = .ok (.getfield 23, 3) := dk_180 0 23 (dk_at dksX8_hits_3 17 rfl rfl)
theorem dX8_hits_90 : decode cX8_hits 90 = .ok (.iload_n 3, 1) := dk_29 (dk_at dksX8_hits_3 20 rfl rfl)
theorem dX8_hits_91 : decode cX8_hits 91 = .ok (.aload_n 1, 1) := dk_43 (dk_at dksX8_hits_3 21 rfl rfl)
theorem dX8_hits_92 : decode cX8_hits 92 = .ok (.getfield 26, 3) := dk_180 0 26 (dk_at dksX8_hits_4 0 rfl rfl)
theorem dX8_hits_95 : decode cX8_hits 95 = .ok (.iload_n 3, 1) := dk_29 (dk_at dksX8_hits_4 3 rfl rfl)
theorem dX8_hits_96 : decode cX8_hits 96 = .ok (.iaload, 1) := dk_46 (dk_at dksX8_hits_4 4 rfl rfl)
theorem dX8_hits_97 : decode cX8_hits 97 = .ok (.aload_n 1, 1) := dk_43 (dk_at dksX8_hits_4 5 rfl rfl)
theorem dX8_hits_98 : decode cX8_hits 98 = .ok (.getfield 23, 3) := dk_180 0 23 (dk_at dksX8_hits_4 6 rfl rfl)
theorem dX8_hits_101 : decode cX8_hits 101 = .ok (.iload_n 3, 1) := dk_29 (dk_at dksX8_hits_4 9 rfl rfl)
theorem dX8_hits_102 : decode cX8_hits 102 = .ok (.iaload, 1) := dk_46 (dk_at dksX8_hits_4 10 rfl rfl)
theorem dX8_hits_103 : decode cX8_hits 103 = .ok (.aload_n 1, 1) := dk_43 (dk_at dksX8_hits_4 11 rfl rfl)
theorem dX8_hits_104 : decode cX8_hits 104 = .ok (.getfield 29, 3) := dk_180 0 29 (dk_at dksX8_hits_4 12 rfl rfl)
theorem dX8_hits_107 : decode cX8_hits 107 = .ok (.iload_n 2, 1) := dk_28 (dk_at dksX8_hits_4 15 rfl rfl)
theorem dX8_hits_108 : decode cX8_hits 108 = .ok (.iaload, 1) := dk_46 (dk_at dksX8_hits_4 16 rfl rfl)
theorem dX8_hits_109 : decode cX8_hits 109 = .ok (.iadd, 1) := dk_96 (dk_at dksX8_hits_4 17 rfl rfl)
theorem dX8_hits_110 : decode cX8_hits 110 = .ok (.invokestatic 32, 3) := dk_184 0 32 (dk_at dksX8_hits_4 18 rfl rfl)
theorem dX8_hits_113 : decode cX8_hits 113 = .ok (.iastore, 1) := dk_79 (dk_at dksX8_hits_4 21 rfl rfl)
theorem dX8_hits_114 : decode cX8_hits 114 = .ok (.return_, 1) := dk_177 (dk_at dksX8_hits_4 22 rfl rfl)
theorem q288 : (Jvm.Cond.fieldLinkNest "FairFight$Healer" (9 : Nat) "FairFight$Fight" "many" "I" "FairFight") ∈ lw_tbl := lw_at lw_m2 9 rfl
theorem q295 : (Jvm.Cond.fieldLinkNest "FairFight$Healer" (19 : Nat) "FairFight$Fight" "side" "[I" "FairFight") ∈ lw_tbl := lw_at lw_m2 16 rfl
theorem q303 : (Jvm.Cond.fieldLinkNest "FairFight$Healer" (26 : Nat) "FairFight$Fight" "full" "[I" "FairFight") ∈ lw_tbl := lw_at lw_m2 24 rfl
theorem q310 : (Jvm.Cond.fieldLinkNest "FairFight$Healer" (29 : Nat) "FairFight$Fight" "force" "[I" "FairFight") ∈ lw_tbl := lw_at lw_m2 31 rfl
theorem q316 : (Jvm.Cond.fieldLinkNest "FairFight$Healer" (23 : Nat) "FairFight$Fight" "life" "[I" "FairFight") ∈ lw_tbl := lw_at lw_m2 37 rfl
theorem q322 : (Jvm.Cond.fieldLinkNest "FairFight$Healer" (15 : Nat) "FairFight$Fight" "isUp" "[Z" "FairFight") ∈ lw_tbl := lw_at lw_m2 43 rfl
theorem q421 : (Jvm.Cond.selects "FairFight$Healer" ({ cls := "FairFight$Kind", name := "hits", desc := "(LFairFight$Fight;I)V" } : Jvm.MethodName) ({ cls := "FairFight$Healer", name := "hits", desc := "(LFairFight$Fight;I)V" } : Jvm.MethodName)) ∈ lw_all := lw_g (lw_at lw_m2 142 rfl) rfl
theorem q422 : (Jvm.Cond.instanceMethod ({ cls := "FairFight$Healer", name := "hits", desc := "(LFairFight$Fight;I)V" } : Jvm.MethodName)) ∈ lw_all := lw_g (lw_at lw_m2 143 rfl) rfl
theorem q423 : (Jvm.Cond.code ({ cls := "FairFight$Healer", name := "hits", desc := "(LFairFight$Fight;I)V" } : Jvm.MethodName) prog_5_method_2_code (6 : Nat) (Option.none : Option Jvm.ClassFile.FieldType)) ∈ lw_all := lw_g (lw_at lw_m2 144 rfl) rfl
theorem q424 : (Jvm.Cond.methodLink "FairFight$Healer" (32 : Nat) ({ cls := "java/lang/Math", name := "min", desc := "(II)I" } : Jvm.MethodName)) ∈ lw_all := lw_g (lw_at lw_m2 145 rfl) rfl
theorem q558 : (Jvm.Cond.selects "FairFight$Healer" ({ cls := "java/lang/Object", name := "getClass", desc := "()Ljava/lang/Class;" } : Jvm.MethodName) ({ cls := "java/lang/Object", name := "getClass", desc := "()Ljava/lang/Class;" } : Jvm.MethodName)) ∈ lw_all := lw_g (lw_at lw_m3 39 rfl) rfl
theorem q1279 : (Jvm.Cond.initialized "FairFight$Healer") ∈ lw_all := lw_g (lw_at lw_m6 40 rfl) rfl
theorem q1293 : (Jvm.Cond.castable "FairFight$Healer" "java/lang/Object") ∈ lw_tbl := lw_at lw_m6 54 rfl
/-! FairFight$Striker -/
set_option maxRecDepth 100000
def RX9 : String := "FairFight$Striker"
abbrev cX9_hits : ByteArray := prog_9_method_2_code
def yX9_hits : MethodName := ⟨RX9, "hits", "(LFairFight$Fight;I)V"⟩
def dkwX9_hits_4 : List UInt8 := [29, 43, 180, 0, 29, 28, 46, 182, 0, 32, 177]
abbrev dktX9_hits_4 : List UInt8 := dkwX9_hits_4 ++ []
def dkwX9_hits_3 : List UInt8 := [46, 43, 180, 0, 26, 29, 46, 162, 0, 8, 21, 4, 167, 0, 4, 29, 62, 132, 4, 1, 167, 255, 170, 43]
abbrev dktX9_hits_3 : List UInt8 := dkwX9_hits_3 ++ dktX9_hits_4
def dkwX9_hits_2 : List UInt8 := [21, 5, 153, 0, 37, 29, 2, 159, 0, 27, 43, 180, 0, 23, 4, 160, 0, 24, 43, 180, 0, 26, 21, 4]
abbrev dktX9_hits_2 : List UInt8 := dkwX9_hits_2 ++ dktX9_hits_3
def dkwX9_hits_1 : List UInt8 := [43, 180, 0, 19, 21, 4, 46, 43, 180, 0, 19, 28, 46, 159, 0, 7, 4, 167, 0, 4, 3, 54, 5]
abbrev dktX9_hits_1 : List UInt8 := dkwX9_hits_1 ++ dktX9_hits_2
def dkwX9_hits_0 : List UInt8 := [2, 62, 3, 54, 4, 21, 4, 43, 180, 0, 9, 162, 0, 83, 43, 180, 0, 15, 21, 4, 51, 153, 0, 23]
abbrev dktX9_hits_0 : List UInt8 := dkwX9_hits_0 ++ dktX9_hits_1
theorem dksX9_hits_0 : cX9_hits.data.toList.drop 0 = dktX9_hits_0 := by decide +kernel
theorem dksX9_hits_1 : cX9_hits.data.toList.drop 24 = dktX9_hits_1 := dk_seg dksX9_hits_0 24 rfl rfl
theorem dksX9_hits_2 : cX9_hits.data.toList.drop 47 = dktX9_hits_2 := dk_seg dksX9_hits_1 23 rfl rfl
theorem dksX9_hits_3 : cX9_hits.data.toList.drop 71 = dktX9_hits_3 := dk_seg dksX9_hits_2 24 rfl rfl
theorem dksX9_hits_4 : cX9_hits.data.toList.drop 95 = dktX9_hits_4 := dk_seg dksX9_hits_3 24 rfl rfl
theorem dX9_hits_0 : decode cX9_hits 0 = .ok (.iconst (-1), 1) := dk_2 (dk_at dksX9_hits_0 0 rfl rfl)
theorem dX9_hits_1 : decode cX9_hits 1 = .ok (.istore_n 3, 1) := dk_62 (dk_at dksX9_hits_0 1 rfl rfl)
theorem dX9_hits_2 : decode cX9_hits 2 = .ok (.iconst 0, 1) := dk_3 (dk_at dksX9_hits_0 2 rfl rfl)
theorem dX9_hits_3 : decode cX9_hits 3 = .ok (.istore 4, 2) := dk_54 4 (dk_at dksX9_hits_0 3 rfl rfl)
theorem dX9_hits_5 : decode cX9_hits 5 = .ok (.iload 4, 2) := dk_21 4 (dk_at dksX9_hits_0 5 rfl rfl)
theorem dX9_hits_7 : decode cX9_hits 7 = .ok (.aload_n 1, 1) := dk_43 (dk_at dksX9_hits_0 7 rfl rfl)
theorem dX9_hits_8 : decode cX9_hits 8 = .ok (.getfield 9, 3) := dk_180 0 9 (dk_at dksX9_hits_0 8 rfl rfl)
theorem dX9_hits_11 : decode cX9_hits 11 = .ok (.if_icmp .ge 83, 3) := dk_162 0 83 (dk_at dksX9_hits_0 11 rfl rfl)
theorem dX9_hits_14 : decode cX9_hits 14 = .ok (.aload_n 1, 1) := dk_43 (dk_at dksX9_hits_0 14 rfl rfl)
theorem dX9_hits_15 : decode cX9_hits 15 = .ok (.getfield 15, 3) := dk_180 0 15 (dk_at dksX9_hits_0 15 rfl rfl)
theorem dX9_hits_18 : decode cX9_hits 18 = .ok (.iload 4, 2) := dk_21 4 (dk_at dksX9_hits_0 18 rfl rfl)
theorem dX9_hits_20 : decode cX9_hits 20 = .ok (.baload, 1) := dk_51 (dk_at dksX9_hits_0 20 rfl rfl)
theorem dX9_hits_21 : decode cX9_hits 21 = .ok (.ifCond .eq 23, 3) := dk_153 0 23 (dk_at dksX9_hits_0 21 rfl rfl)
theorem dX9_hits_24 : decode cX9_hits 24 = .ok (.aload_n 1, 1) := dk_43 (dk_at dksX9_hits_1 0 rfl rfl)
theorem dX9_hits_25 : decode cX9_hits 25 = .ok (.getfield 19, 3) := dk_180 0 19 (dk_at dksX9_hits_1 1 rfl rfl)
theorem dX9_hits_28 : decode cX9_hits 28 = .ok (.iload 4, 2) := dk_21 4 (dk_at dksX9_hits_1 4 rfl rfl)
theorem dX9_hits_30 : decode cX9_hits 30 = .ok (.iaload, 1) := dk_46 (dk_at dksX9_hits_1 6 rfl rfl)
theorem dX9_hits_31 : decode cX9_hits 31 = .ok (.aload_n 1, 1) := dk_43 (dk_at dksX9_hits_1 7 rfl rfl)
theorem dX9_hits_32 : decode cX9_hits 32 = .ok (.getfield 19, 3) := dk_180 0 19 (dk_at dksX9_hits_1 8 rfl rfl)
theorem dX9_hits_35 : decode cX9_hits 35 = .ok (.iload_n 2, 1) := dk_28 (dk_at dksX9_hits_1 11 rfl rfl)
theorem dX9_hits_36 : decode cX9_hits 36 = .ok (.iaload, 1) := dk_46 (dk_at dksX9_hits_1 12 rfl rfl)
theorem dX9_hits_37 : decode cX9_hits 37 = .ok (.if_icmp .eq 7, 3) := dk_159 0 7 (dk_at dksX9_hits_1 13 rfl rfl)
theorem dX9_hits_40 : decode cX9_hits 40 = .ok (.iconst 1, 1) := dk_4 (dk_at dksX9_hits_1 16 rfl rfl)
theorem dX9_hits_41 : decode cX9_hits 41 = .ok (.goto 4, 3) := dk_167 0 4 (dk_at dksX9_hits_1 17 rfl rfl)
theorem dX9_hits_44 : decode cX9_hits 44 = .ok (.iconst 0, 1) := dk_3 (dk_at dksX9_hits_1 20 rfl rfl)
theorem dX9_hits_45 : decode cX9_hits 45 = .ok (.istore 5, 2) := dk_54 5 (dk_at dksX9_hits_1 21 rfl rfl)
theorem dX9_hits_47 : decode cX9_hits 47 = .ok (.iload 5, 2) := dk_21 5 (dk_at dksX9_hits_2 0 rfl rfl)
theorem dX9_hits_49 : decode cX9_hits 49 = .ok (.ifCond .eq 37, 3) := dk_153 0 37 (dk_at dksX9_hits_2 2 rfl rfl)
theorem dX9_hits_52 : decode cX9_hits 52 = .ok (.iload_n 3, 1) := dk_29 (dk_at dksX9_hits_2 5 rfl rfl)
theorem dX9_hits_53 : decode cX9_hits 53 = .ok (.iconst (-1), 1) := dk_2 (dk_at dksX9_hits_2 6 rfl rfl)
theorem dX9_hits_54 : decode cX9_hits 54 = .ok (.if_icmp .eq 27, 3) := dk_159 0 27 (dk_at dksX9_hits_2 7 rfl rfl)
theorem dX9_hits_57 : decode cX9_hits 57 = .ok (.aload_n 1, 1) := dk_43 (dk_at dksX9_hits_2 10 rfl rfl)
theorem dX9_hits_58 : decode cX9_hits 58 = .ok (.getfield 23, 3) := dk_180 0 23 (dk_at dksX9_hits_2 11 rfl rfl)
theorem dX9_hits_61 : decode cX9_hits 61 = .ok (.iconst 1, 1) := dk_4 (dk_at dksX9_hits_2 14 rfl rfl)
theorem dX9_hits_62 : decode cX9_hits 62 = .ok (.if_icmp .ne 24, 3) := dk_160 0 24 (dk_at dksX9_hits_2 15 rfl rfl)
theorem dX9_hits_65 : decode cX9_hits 65 = .ok (.aload_n 1, 1) := dk_43 (dk_at dksX9_hits_2 18 rfl rfl)
theorem dX9_hits_66 : decode cX9_hits 66 = .ok (.getfield 26, 3) := dk_180 0 26 (dk_at dksX9_hits_2 19 rfl rfl)
theorem dX9_hits_69 : decode cX9_hits 69 = .ok (.iload 4, 2) := dk_21 4 (dk_at dksX9_hits_2 22 rfl rfl)
theorem dX9_hits_71 : decode cX9_hits 71 = .ok (.iaload, 1) := dk_46 (dk_at dksX9_hits_3 0 rfl rfl)
theorem dX9_hits_72 : decode cX9_hits 72 = .ok (.aload_n 1, 1) := dk_43 (dk_at dksX9_hits_3 1 rfl rfl)
theorem dX9_hits_73 : decode cX9_hits 73 = .ok (.getfield 26, 3) := dk_180 0 26 (dk_at dksX9_hits_3 2 rfl rfl)
theorem dX9_hits_76 : decode cX9_hits 76 = .ok (.iload_n 3, 1) := dk_29 (dk_at dksX9_hits_3 5 rfl rfl)
theorem dX9_hits_77 : decode cX9_hits 77 = .ok (.iaload, 1) := dk_46 (dk_at dksX9_hits_3 6 rfl rfl)
theorem dX9_hits_78 : decode cX9_hits 78 = .ok (.if_icmp .ge 8, 3) := dk_162 0 8 (dk_at dksX9_hits_3 7 rfl rfl)
theorem dX9_hits_81 : decode cX9_hits 81 = .ok (.iload 4, 2) := dk_21 4 (dk_at dksX9_hits_3 10 rfl rfl)
theorem dX9_hits_83 : decode cX9_hits 83 = .ok (.goto 4, 3) := dk_167 0 4 (dk_at dksX9_hits_3 12 rfl rfl)
theorem dX9_hits_86 : decode cX9_hits 86 = .ok (.iload_n 3, 1) := dk_29 (dk_at dksX9_hits_3 15 rfl rfl)
theorem dX9_hits_87 : decode cX9_hits 87 = .ok (.istore_n 3, 1) := dk_62 (dk_at dksX9_hits_3 16 rfl rfl)
theorem dX9_hits_88 : decode cX9_hits 88 = .ok (.iinc 4 1, 3) := dk_132 4 1 (dk_at dksX9_hits_3 17 rfl rfl)
theorem dX9_hits_91 : decode cX9_hits 91 = .ok (.goto (-86), 3) := dk_167 255 170 (dk_at dksX9_hits_3 20 rfl rfl)
theorem dX9_hits_94 : decode cX9_hits 94 = .ok (.aload_n 1, 1) := dk_43 (dk_at dksX9_hits_3 23 rfl rfl)
theorem dX9_hits_95 : decode cX9_hits 95 = .ok (.iload_n 3, 1) := dk_29 (dk_at dksX9_hits_4 0 rfl rfl)
theorem dX9_hits_96 : decode cX9_hits 96 = .ok (.aload_n 1, 1) := dk_43 (dk_at dksX9_hits_4 1 rfl rfl)
theorem dX9_hits_97 : decode cX9_hits 97 = .ok (.getfield 29, 3) := dk_180 0 29 (dk_at dksX9_hits_4 2 rfl rfl)
theorem dX9_hits_100 : decode cX9_hits 100 = .ok (.iload_n 2, 1) := dk_28 (dk_at dksX9_hits_4 5 rfl rfl)
theorem dX9_hits_101 : decode cX9_hits 101 = .ok (.iaload, 1) := dk_46 (dk_at dksX9_hits_4 6 rfl rfl)
theorem dX9_hits_102 : decode cX9_hits 102 = .ok (.invokevirtual 32, 3) := dk_182 0 32 (dk_at dksX9_hits_4 7 rfl rfl)
theorem dX9_hits_105 : decode cX9_hits 105 = .ok (.return_, 1) := dk_177 (dk_at dksX9_hits_4 10 rfl rfl)
theorem q289 : (Jvm.Cond.fieldLinkNest "FairFight$Striker" (9 : Nat) "FairFight$Fight" "many" "I" "FairFight") ∈ lw_tbl := lw_at lw_m2 10 rfl
theorem q292 : (Jvm.Cond.fieldLinkNest "FairFight$Striker" (23 : Nat) "FairFight$Fight" "aims" "I" "FairFight") ∈ lw_tbl := lw_at lw_m2 13 rfl
theorem q296 : (Jvm.Cond.fieldLinkNest "FairFight$Striker" (19 : Nat) "FairFight$Fight" "side" "[I" "FairFight") ∈ lw_tbl := lw_at lw_m2 17 rfl
theorem q309 : (Jvm.Cond.fieldLinkNest "FairFight$Striker" (29 : Nat) "FairFight$Fight" "force" "[I" "FairFight") ∈ lw_tbl := lw_at lw_m2 30 rfl
theorem q317 : (Jvm.Cond.fieldLinkNest "FairFight$Striker" (26 : Nat) "FairFight$Fight" "life" "[I" "FairFight") ∈ lw_tbl := lw_at lw_m2 38 rfl
theorem q323 : (Jvm.Cond.fieldLinkNest "FairFight$Striker" (15 : Nat) "FairFight$Fight" "isUp" "[Z" "FairFight") ∈ lw_tbl := lw_at lw_m2 44 rfl
theorem q427 : (Jvm.Cond.selects "FairFight$Striker" ({ cls := "FairFight$Kind", name := "hits", desc := "(LFairFight$Fight;I)V" } : Jvm.MethodName) ({ cls := "FairFight$Striker", name := "hits", desc := "(LFairFight$Fight;I)V" } : Jvm.MethodName)) ∈ lw_all := lw_g (lw_at lw_m2 148 rfl) rfl
theorem q428 : (Jvm.Cond.instanceMethod ({ cls := "FairFight$Striker", name := "hits", desc := "(LFairFight$Fight;I)V" } : Jvm.MethodName)) ∈ lw_all := lw_g (lw_at lw_m2 149 rfl) rfl
theorem q429 : (Jvm.Cond.code ({ cls := "FairFight$Striker", name := "hits", desc := "(LFairFight$Fight;I)V" } : Jvm.MethodName) prog_9_method_2_code (6 : Nat) (Option.none : Option Jvm.ClassFile.FieldType)) ∈ lw_all := lw_g (lw_at lw_m2 150 rfl) rfl
theorem q430 : (Jvm.Cond.methodLink "FairFight$Striker" (32 : Nat) ({ cls := "FairFight$Fight", name := "loses", desc := "(II)V" } : Jvm.MethodName)) ∈ lw_all := lw_g (lw_at lw_m2 151 rfl) rfl
theorem q561 : (Jvm.Cond.selects "FairFight$Striker" ({ cls := "java/lang/Object", name := "getClass", desc := "()Ljava/lang/Class;" } : Jvm.MethodName) ({ cls := "java/lang/Object", name := "getClass", desc := "()Ljava/lang/Class;" } : Jvm.MethodName)) ∈ lw_all := lw_g (lw_at lw_m3 42 rfl) rfl
theorem q1280 : (Jvm.Cond.initialized "FairFight$Striker") ∈ lw_all := lw_g (lw_at lw_m6 41 rfl) rfl
theorem q1291 : (Jvm.Cond.castable "FairFight$Striker" "java/lang/Object") ∈ lw_tbl := lw_at lw_m6 52 rfl
