/-! bits: rows of kit/laws/BITS.to-paste, and rows over them -/
theorem u_tn {n : Nat} (h : n < 2 ^ 64) : (UInt64.ofNat n).toNat = n := Nat.mod_eq_of_lt h
theorem g_and {a b c : Nat} (ha : a < 2 ^ 64) (hb : b < 2 ^ 64) (hc : a &&& b = c) : lN a &&& lN b = lN c := by
  subst hc
  have h : UInt64.ofNat a &&& UInt64.ofNat b = UInt64.ofNat (a &&& b) := UInt64.toNat_inj.mp (by rw [UInt64.toNat_and, u_tn ha, u_tn hb, u_tn (Nat.and_lt_two_pow a hb)])
  have h2 := congrArg UInt64.toInt64 h
  exact h2
theorem g_and1 {a : Nat} (ha : a < 2 ^ 64) : lN a &&& 1 = lN (a % 2) := g_and (b := 1) ha (by decide) (Nat.and_two_pow_sub_one_eq_mod a 1)
theorem g_mask {a s p : Nat} (hp : 2 ^ s = p) (hs : s < 64) (ha : a < 2 ^ 64) : lN a &&& lN (p - 1) = lN (a % p) := by
  subst hp
  have := Nat.pow_lt_pow_right (show 1 < 2 by decide) hs
  exact g_and ha (by omega) (Nat.and_two_pow_sub_one_eq_mod a s)
theorem g_or {k p a b : Nat} (hp : 2 ^ k = p) (ha : a < p) (h : b * p + a < 2 ^ 64) : lN (b * p) ||| lN a = lN (b * p + a) := by
  subst hp
  have h1 : b * 2 ^ k ||| a = b * 2 ^ k + a := by rw [← Nat.shiftLeft_eq, Nat.shiftLeft_add_eq_or_of_lt ha]
  have h3 : UInt64.ofNat (b * 2 ^ k) ||| UInt64.ofNat a = UInt64.ofNat (b * 2 ^ k + a) := UInt64.toNat_inj.mp (by rw [UInt64.toNat_or, u_tn (by omega), u_tn (by omega), u_tn h, h1])
  have h2 := congrArg UInt64.toInt64 h3
  exact h2
theorem g_or' {k p a b : Nat} (hp : 2 ^ k = p) (ha : a < p) (h : a + b * p < 2 ^ 64) : lN a ||| lN (b * p) = lN (a + b * p) := by
  rw [Int64.or_comm, g_or hp ha (by omega), Nat.add_comm]
theorem g_ushr {a k p : Nat} {y : UInt64} (hy : y = UInt64.ofNat k) (hk : k < 64) (hp : 2 ^ k = p) (ha : a < 2 ^ 64) : ((lN a).toUInt64 >>> y).toInt64 = lN (a / p) := by
  subst hy hp
  have h : UInt64.ofNat a >>> UInt64.ofNat k = UInt64.ofNat (a / 2 ^ k) := UInt64.toNat_inj.mp (by rw [UInt64.toNat_shiftRight, u_tn ha, u_tn (by omega), u_tn (Nat.lt_of_le_of_lt (Nat.div_le_self _ _) ha), Nat.mod_eq_of_lt hk, Nat.shiftRight_eq_div_pow])
  have h2 := congrArg UInt64.toInt64 h
  exact h2
theorem g_shl {a k p : Nat} {y : Int64} (hy : y.toBitVec.smod 64 = BitVec.ofNat 64 k) (hk : k < 64) (hp : 2 ^ k = p) (ha : a < 2 ^ 64) : lN a <<< y = lN (a * p) := by
  subst hp
  apply Int64.toBitVec_inj.mp
  rw [Int64.toBitVec_shiftLeft, hy]
  apply BitVec.eq_of_toNat_eq
  have hb : (lN a).toBitVec.toNat = a := Nat.mod_eq_of_lt ha
  have hk' : (BitVec.ofNat 64 k).toNat = k := Nat.mod_eq_of_lt (by omega)
  have h : ((lN a).toBitVec <<< BitVec.ofNat 64 k).toNat = (a * 2 ^ k) % 2 ^ 64 := by simp only [BitVec.shiftLeft_eq', BitVec.toNat_shiftLeft, hb, hk', Nat.shiftLeft_eq]
  exact h
theorem pf_lI {a : Nat} (h : a < 2 ^ 63) : (lN a).toInt = (a : Int) := lg_ofNat_toInt h
theorem pf_shr {a d : Nat} {D : Int64} (hD : (D.toBitVec.smod 64).toNat = d) (h : a < 2 ^ 62) : lN a >>> D = lN (a / 2 ^ d) := by
  have hd : a / 2 ^ d ≤ a := Nat.div_le_self _ _
  apply Int64.toInt_inj.mp
  have e : (lN a >>> D).toInt = (lN a).toInt >>> d := by
    rw [← hD]
    exact BitVec.toInt_sshiftRight ..
  rw [e, Int.shiftRight_eq_div_pow, pf_lI (by omega), pf_lI (by omega)]
  rfl
theorem lI_N {a : Int} (h : 0 ≤ a) : lI a = lN a.toNat := by
  unfold lI lN
  rw [← Int64.ofInt_eq_ofNat, Int.toNat_of_nonneg h]
theorem lI_shl {a : Int} (h : 0 ≤ a ∧ a < 9223372036854775808) : lI a <<< ((iI 6).toInt64 &&& 63) = lI (a * 64) := by
  rw [lI_N h.1, lI_N (by omega), g_shl (k := 6) (p := 64) (by decide) (by decide) (by decide) (by omega)]
  congr 1
  omega
theorem lI_shr1 {a : Int} (h : 0 ≤ a ∧ a < 4611686018427387904) : lI a >>> ((iI 1).toInt64 &&& 63) = lI (a / 2) := by
  rw [lI_N h.1, lI_N (by omega), pf_shr (d := 1) (by decide) (by omega)]
  congr 1
  omega
theorem lI_shr6 {a : Int} (h : 0 ≤ a ∧ a < 4611686018427387904) : lI a >>> ((iI 6).toInt64 &&& 63) = lI (a / 64) := by
  rw [lI_N h.1, lI_N (by omega), pf_shr (d := 6) (by decide) (by omega)]
  congr 1
  omega
theorem lI_and1 {a : Int} (h : 0 ≤ a ∧ a < 9223372036854775808) : lI a &&& lI 1 = lI (a % 2) := by
  rw [lI_N h.1, lI_N (show (0 : Int) ≤ a % 2 by omega), show lI 1 = lN (2 - 1) from rfl, g_mask (s := 1) (p := 2) (by decide) (by decide) (by omega)]
  congr 1
  omega
theorem lI_and31 {a : Int} (h : 0 ≤ a ∧ a < 9223372036854775808) : lI a &&& lI 31 = lI (a % 32) := by
  rw [lI_N h.1, lI_N (show (0 : Int) ≤ a % 32 by omega), show lI 31 = lN (32 - 1) from rfl, g_mask (s := 5) (p := 32) (by decide) (by decide) (by omega)]
  congr 1
  omega
/-- any long under the mask 2047 -/
theorem l_and2047 (x : Int64) : ∃ z : Int, (0 ≤ z ∧ z < 2048) ∧ x &&& lI 2047 = lI z := by
  refine ⟨(x.toBitVec.toNat % 2048 : Nat), ⟨by omega, by omega⟩, ?_⟩
  apply Int64.toBitVec_inj.mp
  apply BitVec.eq_of_toNat_eq
  have e1 : (x &&& lI 2047).toBitVec = x.toBitVec &&& 2047#64 := rfl
  have e2 : (lI ((x.toBitVec.toNat % 2048 : Nat) : Int)).toBitVec = BitVec.ofNat 64 (x.toBitVec.toNat % 2048) := by
    rw [lI_N (by omega)]
    rfl
  rw [e1, e2, BitVec.toNat_and, BitVec.toNat_ofNat, BitVec.toNat_ofNat, Nat.mod_eq_of_lt (show x.toBitVec.toNat % 2048 < 2 ^ 64 by omega)]
  exact Nat.and_two_pow_sub_one_eq_mod _ 11
/-- 'or' of parts that don't overlap -/
theorem lI_or {a b : Int} (h : 0 ≤ a ∧ a < 9223372036854775808 ∧ 0 ≤ b ∧ b < 64 ∧ a % 64 = 0 ∧ a + b < 9223372036854775808) : lI a ||| lI b = lI (a + b) := by
  rw [lI_N h.1, lI_N h.2.2.1, lI_N (by omega)]
  have e : a.toNat = (a.toNat / 64) * 64 := by omega
  rw [e, g_or (k := 6) (p := 64) (by decide) (by omega) (by omega)]
  congr 1
  omega
theorem lI_or1 {a b : Int} (h : 0 ≤ a ∧ a < 9223372036854775808 ∧ 0 ≤ b ∧ b < 2 ∧ a % 2 = 0 ∧ a + b < 9223372036854775808) : lI a ||| lI b = lI (a + b) := by
  rw [lI_N h.1, lI_N h.2.2.1, lI_N (by omega)]
  have e : a.toNat = (a.toNat / 2) * 2 := by omega
  rw [e, g_or (k := 1) (p := 2) (by decide) (by omega) (by omega)]
  congr 1
  omega
theorem iI_shl1 (a : Int) : iI a <<< (iI 1 &&& 31) = iI (a * 2) := by
  apply Int32.toBitVec_inj.mp
  have e1 : (iI a <<< (iI 1 &&& 31)).toBitVec = BitVec.ofInt 32 a <<< 1 := rfl
  have e2 : (iI (a * 2)).toBitVec = BitVec.ofInt 32 (a * 2) := rfl
  rw [e1, e2, BitVec.ofInt_mul, BitVec.shiftLeft_eq_mul_twoPow]
  rfl
theorem iI_pow {k : Int} (h : 0 ≤ k ∧ k ≤ 6) : iI 1 <<< (iI k &&& 31) = iI (2 ^ k.toNat) := by
  have : k = 0 ∨ k = 1 ∨ k = 2 ∨ k = 3 ∨ k = 4 ∨ k = 5 ∨ k = 6 := by omega
  rcases this with rfl | rfl | rfl | rfl | rfl | rfl | rfl <;> rfl
/-- bit k of a small number -/
def bitF (a k : Int) : Int := a / 2 ^ k.toNat % 2
theorem bit_tab : ∀ a : Fin 64, ∀ k : Fin 6, (iI (a.val : Int) >>> (iI (k.val : Int) &&& 31)) &&& iI 1 = iI (bitF a.val k.val) := by decide +kernel
theorem iI_bit {a k : Int} (h : 0 ≤ a ∧ a < 64 ∧ 0 ≤ k ∧ k < 6) : (iI a >>> (iI k &&& 31)) &&& iI 1 = iI (bitF a k) := by
  have := bit_tab ⟨a.toNat, by omega⟩ ⟨k.toNat, by omega⟩
  simp only [Int.toNat_of_nonneg h.1, Int.toNat_of_nonneg h.2.2.1] at this
  exact this
theorem bitF_01 (a k : Int) : bitF a k = 0 ∨ bitF a k = 1 := by
  unfold bitF
  omega
/-- any int under the mask 63 -/
theorem i_and63 (x : Int32) : ∃ z : Int, (0 ≤ z ∧ z < 64) ∧ x &&& iI 63 = iI z := by
  refine ⟨(x.toBitVec.toNat % 64 : Nat), ⟨by omega, by omega⟩, ?_⟩
  apply Int32.toBitVec_inj.mp
  apply BitVec.eq_of_toNat_eq
  have e1 : (x &&& iI 63).toBitVec = x.toBitVec &&& 63#32 := rfl
  have e2 : (iI ((x.toBitVec.toNat % 64 : Nat) : Int)).toBitVec = BitVec.ofNat 32 (x.toBitVec.toNat % 64) := by
    rw [iI_ofNat]
    rfl
  rw [e1, e2, BitVec.toNat_and, BitVec.toNat_ofNat, BitVec.toNat_ofNat, Nat.mod_eq_of_lt (show x.toBitVec.toNat % 64 < 2 ^ 32 by omega)]
  exact Nat.and_two_pow_sub_one_eq_mod _ 6
theorem iI_ushr16 (a : Int) : ((iI a).toUInt32 >>> ((iI 16).toUInt32 &&& Int32.toUInt32 31)).toInt32 = iI (a % 4294967296 / 65536) := by
  apply Int32.toBitVec_inj.mp
  apply BitVec.eq_of_toNat_eq
  have e1 : (((iI a).toUInt32 >>> ((iI 16).toUInt32 &&& Int32.toUInt32 31)).toInt32).toBitVec = BitVec.ofInt 32 a >>> 16 := rfl
  have e2 : (iI (a % 4294967296 / 65536)).toBitVec = BitVec.ofInt 32 (a % 4294967296 / 65536) := rfl
  rw [e1, e2, BitVec.toNat_ushiftRight, BitVec.toNat_ofInt, BitVec.toNat_ofInt, Nat.shiftRight_eq_div_pow]
  omega
section JBITS
variable {p : Program} {l : Launch} {e : Env} {R : Room} {s : State} {m : MethodId} {args : Array Value} {below : List Frame} {meth : Method} {c : Code} {H : Heap} {locs : List Loc} {cells slots : Nat} {Q : State → Prop}
variable {cc : ByteArray} {pc : Nat} {ls : Array Slot} {rest : List Value} {D : va_G} {T N : Nat → Nat} {A : Nat → Prop} {nL : Nat} {own : String}
theorem j_i2b (hC : Ct D T N A p s m args c cc own nL) {a : Int} (hdg : decode cc pc = .ok (.i2b, 1)) (k : W p l e R s m args below meth c H locs cells slots Q (F0 m (pc + 1) ls (.int (iI (Int8.ofInt a).toInt) :: rest))) : W p l e R s m args below meth c H locs cells slots Q (F0 m pc ls (.int (iI a) :: rest)) :=
  lv_i2b hC.x hC.b hdg (by unfold iI; rw [Int32.toInt8_ofInt]; rfl) k
theorem j_i2s (hC : Ct D T N A p s m args c cc own nL) {a : Int} (hdg : decode cc pc = .ok (.i2s, 1)) (k : W p l e R s m args below meth c H locs cells slots Q (F0 m (pc + 1) ls (.int (iI (Int16.ofInt a).toInt) :: rest))) : W p l e R s m args below meth c H locs cells slots Q (F0 m pc ls (.int (iI a) :: rest)) :=
  lv_i2s hC.x hC.b hdg (by unfold iI; rw [Int32.toInt16_ofInt]; rfl) k
theorem j_ldc_w (hC : Ct D T N A p s m args c cc own nL) {i : Nat} {v : Int32} {z : Int} (hq : (Jvm.Cond.constant own i v) ∈ lw_all) (hdg : decode cc pc = .ok (.ldc_w i, 3)) (hz : v = iI z) (k : W p l e R s m args below meth c H locs cells slots Q (F0 m (pc + 3) ls (.int (iI z) :: rest))) : W p l e R s m args below meth c H locs cells slots Q (F0 m pc ls rest) :=
  lv_ldcw hC.x hC.b hC.ow (hC.ts _ hq) hdg (hz ▸ k)
theorem j_iushr16 (hC : Ct D T N A p s m args c cc own nL) {a : Int} (hdg : decode cc pc = .ok (.iushr, 1)) (k : W p l e R s m args below meth c H locs cells slots Q (F0 m (pc + 1) ls (.int (iI (a % 4294967296 / 65536)) :: rest))) : W p l e R s m args below meth c H locs cells slots Q (F0 m pc ls (.int (iI 16) :: .int (iI a) :: rest)) :=
  lv_iushr hC.x hC.b hdg (iI_ushr16 a) k
theorem j_lshl6 (hC : Ct D T N A p s m args c cc own nL) {a : Int} (hdg : decode cc pc = .ok (.lshl, 1)) (h : 0 ≤ a ∧ a < 9223372036854775808) (k : W p l e R s m args below meth c H locs cells slots Q (F0 m (pc + 1) ls (.long (lI (a * 64)) :: rest))) : W p l e R s m args below meth c H locs cells slots Q (F0 m pc ls (.int (iI 6) :: .long (lI a) :: rest)) :=
  lv_lshl hC.x hC.b hdg (lI_shl h) k
theorem j_lshr1 (hC : Ct D T N A p s m args c cc own nL) {a : Int} (hdg : decode cc pc = .ok (.lshr, 1)) (h : 0 ≤ a ∧ a < 4611686018427387904) (k : W p l e R s m args below meth c H locs cells slots Q (F0 m (pc + 1) ls (.long (lI (a / 2)) :: rest))) : W p l e R s m args below meth c H locs cells slots Q (F0 m pc ls (.int (iI 1) :: .long (lI a) :: rest)) :=
  lv_lshr hC.x hC.b hdg (lI_shr1 h) k
theorem j_lshr6 (hC : Ct D T N A p s m args c cc own nL) {a : Int} (hdg : decode cc pc = .ok (.lshr, 1)) (h : 0 ≤ a ∧ a < 4611686018427387904) (k : W p l e R s m args below meth c H locs cells slots Q (F0 m (pc + 1) ls (.long (lI (a / 64)) :: rest))) : W p l e R s m args below meth c H locs cells slots Q (F0 m pc ls (.int (iI 6) :: .long (lI a) :: rest)) :=
  lv_lshr hC.x hC.b hdg (lI_shr6 h) k
theorem j_land1 (hC : Ct D T N A p s m args c cc own nL) {a : Int} (hdg : decode cc pc = .ok (.land, 1)) (h : 0 ≤ a ∧ a < 9223372036854775808) (k : W p l e R s m args below meth c H locs cells slots Q (F0 m (pc + 1) ls (.long (lI (a % 2)) :: rest))) : W p l e R s m args below meth c H locs cells slots Q (F0 m pc ls (.long (lI 1) :: .long (lI a) :: rest)) :=
  lv_land hC.x hC.b hdg (by rw [lI_and1 h]; exact k)
theorem j_land31 (hC : Ct D T N A p s m args c cc own nL) {a : Int} (hdg : decode cc pc = .ok (.land, 1)) (h : 0 ≤ a ∧ a < 9223372036854775808) (k : W p l e R s m args below meth c H locs cells slots Q (F0 m (pc + 1) ls (.long (lI (a % 32)) :: rest))) : W p l e R s m args below meth c H locs cells slots Q (F0 m pc ls (.long (lI 31) :: .long (lI a) :: rest)) :=
  lv_land hC.x hC.b hdg (by rw [lI_and31 h]; exact k)
theorem j_land2047 (hC : Ct D T N A p s m args c cc own nL) {x : Int64} (hdg : decode cc pc = .ok (.land, 1)) (k : ∀ z : Int, 0 ≤ z ∧ z < 2048 → W p l e R s m args below meth c H locs cells slots Q (F0 m (pc + 1) ls (.long (lI z) :: rest))) : W p l e R s m args below meth c H locs cells slots Q (F0 m pc ls (.long (lI 2047) :: .long x :: rest)) := by
  obtain ⟨z, h1, h2⟩ := l_and2047 x
  refine lv_land hC.x hC.b hdg ?_
  rw [h2]
  exact k z h1
theorem j_lor (hC : Ct D T N A p s m args c cc own nL) {a b : Int} (hdg : decode cc pc = .ok (.lor, 1)) (h : 0 ≤ a ∧ a < 9223372036854775808 ∧ 0 ≤ b ∧ b < 64 ∧ a % 64 = 0 ∧ a + b < 9223372036854775808) (k : W p l e R s m args below meth c H locs cells slots Q (F0 m (pc + 1) ls (.long (lI (a + b)) :: rest))) : W p l e R s m args below meth c H locs cells slots Q (F0 m pc ls (.long (lI b) :: .long (lI a) :: rest)) :=
  lv_lor hC.x hC.b hdg (by rw [lI_or h]; exact k)
theorem j_lor1 (hC : Ct D T N A p s m args c cc own nL) {a b : Int} (hdg : decode cc pc = .ok (.lor, 1)) (h : 0 ≤ a ∧ a < 9223372036854775808 ∧ 0 ≤ b ∧ b < 2 ∧ a % 2 = 0 ∧ a + b < 9223372036854775808) (k : W p l e R s m args below meth c H locs cells slots Q (F0 m (pc + 1) ls (.long (lI (a + b)) :: rest))) : W p l e R s m args below meth c H locs cells slots Q (F0 m pc ls (.long (lI b) :: .long (lI a) :: rest)) :=
  lv_lor hC.x hC.b hdg (by rw [lI_or1 h]; exact k)
theorem j_ishl1 (hC : Ct D T N A p s m args c cc own nL) {a : Int} (hdg : decode cc pc = .ok (.ishl, 1)) (k : W p l e R s m args below meth c H locs cells slots Q (F0 m (pc + 1) ls (.int (iI (a * 2)) :: rest))) : W p l e R s m args below meth c H locs cells slots Q (F0 m pc ls (.int (iI 1) :: .int (iI a) :: rest)) :=
  lv_ishl hC.x hC.b hdg (by rw [iI_shl1]; exact k)
theorem j_ishlP (hC : Ct D T N A p s m args c cc own nL) {a : Int} (hdg : decode cc pc = .ok (.ishl, 1)) (h : 0 ≤ a ∧ a ≤ 6) (k : W p l e R s m args below meth c H locs cells slots Q (F0 m (pc + 1) ls (.int (iI (2 ^ a.toNat)) :: rest))) : W p l e R s m args below meth c H locs cells slots Q (F0 m pc ls (.int (iI a) :: .int (iI 1) :: rest)) :=
  lv_ishl hC.x hC.b hdg (by rw [iI_pow h]; exact k)
/-- bits >> k & 1: two rows and what stands between -/
theorem j_bit (hC : Ct D T N A p s m args c cc own nL) {a b : Int} (hd1 : decode cc pc = .ok (.ishr, 1)) (hd2 : decode cc (pc + 1) = .ok (.iconst 1, 1)) (hd3 : decode cc (pc + 1 + 1) = .ok (.iand, 1)) (h : 0 ≤ a ∧ a < 64 ∧ 0 ≤ b ∧ b < 6) (k : W p l e R s m args below meth c H locs cells slots Q (F0 m (pc + 1 + 1 + 1) ls (.int (iI (bitF a b)) :: rest))) : W p l e R s m args below meth c H locs cells slots Q (F0 m pc ls (.int (iI b) :: .int (iI a) :: rest)) :=
  lv_ishr hC.x hC.b hd1 (j_iconst hC hd2 (lv_iand hC.x hC.b hd3 (by rw [iI_bit h]; exact k)))
theorem j_iand63 (hC : Ct D T N A p s m args c cc own nL) {a : Int} (hdg : decode cc pc = .ok (.iand, 1)) (k : ∀ z : Int, 0 ≤ z ∧ z < 64 → W p l e R s m args below meth c H locs cells slots Q (F0 m (pc + 1) ls (.int (iI z) :: rest))) : W p l e R s m args below meth c H locs cells slots Q (F0 m pc ls (.int (iI 63) :: .int (iI a) :: rest)) := by
  obtain ⟨z, h1, h2⟩ := i_and63 (iI a)
  refine lv_iand hC.x hC.b hdg ?_
  rw [h2]
  exact k z h1
/-- a reference or null out of the locals -/
theorem j_aloadq_n (hC : Ct D T N A p s m args c cc own nL) {k : Fin 4} {i : Nat} {x : Option Nat} (hdg : decode cc pc = .ok (.aload_n k, 1)) (hi : (k : Nat) = i) (hl : ls[i]? = some (.val (va_rf x))) (kk : W p l e R s m args below meth c H locs cells slots Q (F0 m (pc + 1) ls (va_rf x :: rest))) : W p l e R s m args below meth c H locs cells slots Q (F0 m pc ls rest) := by
  cases x with
  | none => exact lv_aload_nN hC.x hC.b hdg hi hl kk
  | some a => exact lv_aload_n hC.x hC.b hdg hi hl kk
theorem j_aloadq (hC : Ct D T N A p s m args c cc own nL) {i : Nat} {x : Option Nat} (hdg : decode cc pc = .ok (.aload i, 2)) (hl : ls[i]? = some (.val (va_rf x))) (kk : W p l e R s m args below meth c H locs cells slots Q (F0 m (pc + 2) ls (va_rf x :: rest))) : W p l e R s m args below meth c H locs cells slots Q (F0 m pc ls rest) := by
  cases x with
  | none => exact lv_aloadN hC.x hC.b hdg hl kk
  | some a => exact lv_aload hC.x hC.b hdg hl kk
end JBITS
