/-! Integers; FairFight: band -/
theorem vb_i (k : Nat) : Value.int (vb_c k) = .int (iI ((k : Int) - 128)) := by
  unfold vb_c
  rw [← iI_sub, iI_ofNat]
  rfl
theorem vb_f : (fun k => Value.int (vb_c k)) = fun k : Nat => Value.int (iI ((k : Int) - 128)) := funext vb_i

set_option maxHeartbeats 4000000 in
set_option maxRecDepth 100000 in
theorem i_valC (D : va_G) (T N : Nat → Nat) (l : Launch) {g0 : GH} {S : LbS} {Z : Nat → Int → Int} (hL : lR T g0 S Z) (n : Nat) (k : Nat) (hk : k < 256) : Met l yJ9_intValue (ws_ yJ9_intValue cJ9_intValue 1 (some .int)) ({ frames := 0, cells := 0, slots := 0, locals := 0 } : Room) (gPc D T N [.ref (N (6 + k))] g0 n) (gQi D g0 n (fun r g' n' => n' = n ∧ ∃ Z', lR T g' S Z' ∧ Z' = Z ∧ r = (k : Int) - 128)) 0 0 (gA g0 n) := by
  refine j_start (by decide) (Nat.le_of_ble_eq_true rfl) ?_
  intro p e s mi args below meth c hC hr hlk hnm hX ls hl
  have hC : Ct D T N (gA g0 n) p s mi args c cJ9_intValue RJ9 1 := hC
  have hx := hC.x
  have hb := hC.b
  generalize hQ : MQ below _ args s 0 0 (gA g0 n) = Q
  have hl : lv_has ls 1 [(0, .ref (N (6 + k)))] := hl
  refine lv_aload_n hx hb (pc := 0) dJ9_intValue_0 rfl (lv_at hl 0 rfl) ?_
  have hE_ := hC.Z.2.2.2.2.2.2.2.2.2.2.1.2
  rw [vb_f] at hE_
  refine va_getX (i := k) (pc := 1) hx hb hE_ hk hX.2.2.2.1 hC.ow (hC.ts _ q652) (fun _ z => z) dJ9_intValue_1 ?_
  subst hQ
  exact j_iret hC (pc := 4) hX hr hlk (Nat.le_of_ble_eq_true rfl) (Nat.le_of_ble_eq_true rfl) dJ9_intValue_4 ⟨rfl, _, hL, ⟨rfl, rfl⟩⟩

set_option maxHeartbeats 4000000 in
set_option maxRecDepth 100000 in
theorem i_val (D : va_G) (T N : Nat → Nat) (l : Launch) {g0 : GH} {S : LbS} {Z : Nat → Int → Int} (hL : lR T g0 S Z) (n : Nat) (lb : Nat) (hk : zK S lb = 28) : Met l yJ9_intValue (ws_ yJ9_intValue cJ9_intValue 1 (some .int)) ({ frames := 0, cells := 0, slots := 0, locals := 0 } : Room) (gPc D T N [.ref (zB S lb)] g0 n) (gQi D g0 n (fun r g' n' => n' = n ∧ ∃ Z', lR T g' S Z' ∧ Z' = Z ∧ r = Z lb 0)) 0 0 (gA g0 n) := by
  refine j_start (by decide) (Nat.le_of_ble_eq_true rfl) ?_
  intro p e s mi args below meth c hC hr hlk hnm hX ls hl
  have hC : Ct D T N (gA g0 n) p s mi args c cJ9_intValue RJ9 1 := hC
  have hx := hC.x
  have hb := hC.b
  generalize hQ : MQ below _ args s 0 0 (gA g0 n) = Q
  have hl : lv_has ls 1 [(0, .ref (zB S lb))] := hl
  refine lv_aload_n hx hb (pc := 0) dJ9_intValue_0 rfl (lv_at hl 0 rfl) ?_
  refine L_get hC hX hL in_J9 (ci := 8) rfl (pc := 1) lb hk 0 (by decide) q652 rfl (v := .int (iI (Z lb 0))) rfl dJ9_intValue_1 ?_
  subst hQ
  exact j_iret hC (pc := 4) hX hr hlk (Nat.le_of_ble_eq_true rfl) (Nat.le_of_ble_eq_true rfl) dJ9_intValue_4 ⟨rfl, _, hL, ⟨rfl, rfl⟩⟩

set_option maxHeartbeats 4000000 in
set_option maxRecDepth 100000 in
theorem n_init (D : va_G) (T N : Nat → Nat) (l : Launch) {g0 : GH} {S : LbS} {Z : Nat → Int → Int} (hL : lR T g0 S Z) (n : Nat)   : Met l yJ8_init (ws_ yJ8_init cJ8_init 1 none) ({ frames := 1, cells := 0, slots := 0, locals := 12 } : Room) (gPc D T N [.ref (zB S 102)] g0 n) (gQv D g0 n (fun g' n' => n' = n ∧ ∃ Z', lR T g' S Z' ∧ Z' = Z)) 0 0 (gA g0 n) := by
  refine j_start (by decide) (Nat.le_of_ble_eq_true rfl) ?_
  intro p e s mi args below meth c hC hr hlk hnm hX ls hl
  have hC : Ct D T N (gA g0 n) p s mi args c cJ8_init RJ8 1 := hC
  have hx := hC.x
  have hb := hC.b
  generalize hQ : MQ below _ args s 0 0 (gA g0 n) = Q
  have hl : lv_has ls 1 [(0, .ref (zB S 102))] := hl
  refine lv_aload_n hx hb (pc := 0) dJ8_init_0 rfl (lv_at hl 0 rfl) ?_
  refine j_objInit hC (pc := 1) q651 hl.1 (Nat.le_of_ble_eq_true rfl) (Nat.le_of_ble_eq_true rfl) dJ8_init_1 ?_
  subst hQ
  exact j_vret hC (pc := 4) hX hr hlk (Nat.le_of_ble_eq_true rfl) (Nat.le_of_ble_eq_true rfl) dJ8_init_4 ⟨rfl, _, hL, rfl⟩

set_option maxHeartbeats 4000000 in
set_option maxRecDepth 100000 in
theorem i_init (D : va_G) (T N : Nat → Nat) (l : Launch) {g0 : GH} {S : LbS} {Z : Nat → Int → Int} (hL : lR T g0 S Z) (n : Nat) (v : Int) (hk0 : zK S 102 = 28) : Met l yJ9_init (ws_ yJ9_init cJ9_init 2 none) ({ frames := 2, cells := 0, slots := 0, locals := 32 } : Room) (gPc D T N [.ref (zB S 102), .int (iI (v))] g0 n) (gQv D g0 n (fun g' n' => n' = n ∧ ∃ Z', lR T g' S Z' ∧ Z' = va_up Z 102 (uI (Z 102) 0 v))) 0 0 (gA g0 n) := by
  refine j_start (by decide) (Nat.le_of_ble_eq_true rfl) ?_
  intro p e s mi args below meth c hC hr hlk hnm hX ls hl
  have hC : Ct D T N (gA g0 n) p s mi args c cJ9_init RJ9 2 := hC
  have hx := hC.x
  have hb := hC.b
  generalize hQ : MQ below _ args s 0 0 (gA g0 n) = Q
  have hl : lv_has ls 2 [(0, .ref (zB S 102)), (1, .int (iI (v)))] := hl
  refine lv_aload_n hx hb (pc := 0) dJ9_init_0 rfl (lv_at hl 0 rfl) ?_
  refine j_callv (rest := []) hX (va_runI hC.fix (n_init D T N l hL _ ) (cwI 0 hC.ts (lw_meth q650) rfl rfl rfl (hC.ts _ q56) (hC.ts _ q648) (hC.ts _ q649) rfl (by decide +kernel) ⟨Nat.le_of_ble_eq_true rfl, Nat.le_of_ble_eq_true rfl⟩) (j_preS hC hX _) rfl rfl hl.1 rfl (Nat.le_of_ble_eq_true rfl) dJ9_init_1 ⟨(Nat.le_of_ble_eq_true rfl), (Nat.le_of_ble_eq_true rfl)⟩) (fun g m2 H locs hp hle hX => ?_)
  obtain ⟨hn_, Z3, hL, hp⟩ := hp
  rw [hn_] at hX
  rw [hp] at hL
  refine lv_aload_n hx hb (pc := 4) dJ9_init_4 rfl (lv_at hl 0 rfl) ?_
  refine lv_iload_n hx hb (pc := 5) dJ9_init_5 rfl (lv_at hl 1 rfl) ?_
  refine L_putF hC hX hL in_J9 tyJ9 tyJ9_ok nmJ9 (ci := 8) rfl (pc := 6) 102 hk0 0 (by decide) q652 rfl rfl hnm rfl rfl rfl (f := uI (Z 102) 0 v) (show 0 < 1 by decide) rfl dJ9_init_6 (fun g H locs hX hL => ?_)
  subst hQ
  exact j_vret hC (pc := 9) hX hr hlk (Nat.le_of_ble_eq_true rfl) (Nat.le_of_ble_eq_true rfl) dJ9_init_9 ⟨rfl, _, hL, rfl⟩

set_option maxHeartbeats 4000000 in
set_option maxRecDepth 100000 in
theorem i_of (D : va_G) (T N : Nat → Nat) (l : Launch) {g0 : GH} {S : LbS} {Z : Nat → Int → Int} (hL : lR T g0 S Z) (n : Nat) (v : Int) (hv : 0 ≤ v ∧ v ≤ 1000) : Met l yJ9_valueOf (ws_ yJ9_valueOf cJ9_valueOf 1 (some (.object "java/lang/Integer"))) ({ frames := 3, cells := 1, slots := 1, locals := 53 } : Room) (gPc D T N [.int (iI (v))] g0 n) (gQq D g0 n (fun r g' n' => ∃ S' Z', lR T g' S' Z' ∧ ((v ≤ 127 ∧ S' = S ∧ Z' = Z ∧ n' = n ∧ r = some (N (6 + (128 + v).toNat))) ∨ (127 < v ∧ S' = uN S 102 n 28 0 ∧ Z' = va_up (va_up Z 102 (fun _ => 0)) 102 (uI (fun _ => 0) 0 v) ∧ n' = n + 1 ∧ r = some n)))) 1 1 (gA g0 n) := by
  refine j_start (by decide) (Nat.le_of_ble_eq_true rfl) ?_
  intro p e s mi args below meth c hC hr hlk hnm hX ls hl
  have hC : Ct D T N (gA g0 n) p s mi args c cJ9_valueOf RJ9 1 := hC
  have hx := hC.x
  have hb := hC.b
  generalize hQ : MQ below _ args s 1 1 (gA g0 n) = Q
  have hl : lv_has ls 1 [(0, .int (iI (v)))] := hl
  refine lv_iload_n hx hb (pc := 0) dJ9_valueOf_0 rfl (lv_at hl 0 rfl) ?_
  refine j_bipush hC (pc := 1) dJ9_valueOf_1 (by decide) ?_
  refine j_icmp_lt hC (pc := 3) 23 dJ9_valueOf_3 (by decide) (by omega) (fun c1 => ?_) (fun c1 => ?_)
  · skip
    omega
  · skip
    refine lv_iload_n hx hb (pc := 6) dJ9_valueOf_6 rfl (lv_at hl 0 rfl) ?_
    refine j_high hC hX (pc := 7) dJ9_valueOf_7 ?_
    refine j_icmp_gt hC (pc := 10) 23 dJ9_valueOf_10 (by decide) (by omega) (fun c2 => ?_) (fun c2 => ?_)
    · skip
      refine L_new hC hX hL (pc := 23) 102 8 in_J9 tyJ9 tyJ9_ok q643 q644 q57 rfl (by decide) (Nat.le_of_ble_eq_true rfl) (Nat.le_of_ble_eq_true rfl) dJ9_valueOf_23 (fun g H hX hL => ?_)
      refine lv_dup hx hb (pc := 26) dJ9_valueOf_26 rfl ?_
      refine lv_iload_n hx hb (pc := 27) dJ9_valueOf_27 rfl (lv_at hl 0 rfl) ?_
      refine j_callv (rest := [.ref (n)]) hX (va_runI hC.fix (i_init D T N l hL _ v rfl) (cwI 1 hC.ts (lw_meth q647) rfl rfl rfl (hC.ts _ q57) (hC.ts _ q645) (hC.ts _ q646) rfl (by decide +kernel) ⟨Nat.le_of_ble_eq_true rfl, Nat.le_of_ble_eq_true rfl⟩) (j_preS hC hX _) rfl rfl hl.1 rfl (Nat.le_of_ble_eq_true rfl) dJ9_valueOf_28 ⟨(Nat.le_of_ble_eq_true rfl), (Nat.le_of_ble_eq_true rfl)⟩) (fun g m4 H locs hp hle hX => ?_)
      obtain ⟨hn_, Z5, hL, hp⟩ := hp
      rw [hn_] at hX
      rw [hp] at hL
      subst hQ
      exact j_aret (z := some (n)) hC (pc := 31) hX hr (Or.inl ⟨_, rfl⟩) hlk (Nat.le_of_ble_eq_true rfl) (Nat.le_of_ble_eq_true rfl) dJ9_valueOf_31 ⟨_, _, hL, (Or.inr ⟨by omega, rfl, rfl, rfl, rfl⟩)⟩
    · skip
      refine j_cache hC hX (pc := 13) dJ9_valueOf_13 ?_
      refine lv_iload_n hx hb (pc := 16) dJ9_valueOf_16 rfl (lv_at hl 0 rfl) ?_
      refine j_sipush hC (pc := 17) dJ9_valueOf_17 (by decide) ?_
      refine j_iadd hC (pc := 20) dJ9_valueOf_20 ?_
      refine j_cached hC hX (i := v + 128) (pc := 21) (by omega) dJ9_valueOf_21 ?_
      subst hQ
      exact j_aret (z := some (N (6 + (v + 128).toNat))) hC (pc := 22) hX hr (Or.inl ⟨_, rfl⟩) hlk (Nat.le_of_ble_eq_true rfl) (Nat.le_of_ble_eq_true rfl) dJ9_valueOf_22 ⟨_, _, hL, (Or.inl ⟨by omega, rfl, rfl, rfl, by rw [Int.add_comm]⟩)⟩

set_option maxHeartbeats 4000000 in
set_option maxRecDepth 100000 in
theorem f0_band (D : va_G) (T N : Nat → Nat) (l : Launch) {g0 : GH} {S : LbS} {Z : Nat → Int → Int} (hL : lR T g0 S Z) (n : Nat) (x : Nat) (F : Nat → Int) (V : Nat → Int → Int) (k : Int) (hx0 : xRel N x S Z F V) (hI : SI F V) (hg : (-2147483648 ≤ k ∧ k ≤ 2147483647)) : Met l yX0_band (ws_ yX0_band cX0_band 2 (some .int)) ({ frames := 3, cells := 0, slots := 0, locals := 64 } : Room) (gPc D T N [.ref (zB S 0), .int (iI (k))] g0 n) (gQi D g0 n (fun r g' n' => ∃ S' Z', lR T g' S' Z' ∧ xP N x S Z (op_band F V k) r S' Z')) 0 0 (gA g0 n) := by
  refine j_start (by decide) (Nat.le_of_ble_eq_true rfl) ?_
  intro p e s mi args below meth c hC hr hlk hnm hX ls hl
  have hC : Ct D T N (gA g0 n) p s mi args c cX0_band RX0 2 := hC
  have hx := hC.x
  have hb := hC.b
  generalize hQ : MQ below _ args s 0 0 (gA g0 n) = Q
  have hl : lv_has ls 2 [(0, .ref (zB S 0)), (1, .int (iI (k)))] := hl
  have hnn := hI.nums
  have hxn := hx0.n
  refine lv_iload_n hx hb (pc := 0) dX0_band_0 rfl (lv_at hl 1 rfl) ?_
  refine j_iconst hC (pc := 1) dX0_band_1 ?_
  refine lv_aload_n hx hb (pc := 2) dX0_band_2 rfl (lv_at hl 0 rfl) ?_
  refine L_getr hC hX hL in_X0 (ci := 0) rfl (pc := 3) 0 hx0.T.2.2.1 13 (by decide) q166 rfl (q := zA S 0 13) (b := zB S 14) hx0.r13 rfl dX0_band_3 ?_
  refine j_calli (rest := [.int (iI (0)), .int (iI (k))]) hX (va_runV hC.fix (l_size14 D T N l hL _ (hx0.sp.k 14 rfl)) (cwV 0 hC.ts (lw_V q520 q521 q522 q44 q523) rfl rfl rfl (by decide +kernel) ⟨Nat.le_of_ble_eq_true rfl, Nat.le_of_ble_eq_true rfl⟩) (j_preV hC hX (hL.ob 14 (hx0.sp.k 14 rfl)) (ci := 7) (r := (RJ2, TJ2, 3)) rfl _) rfl rfl hl.1 rfl (Nat.le_of_ble_eq_true rfl) dX0_band_6 ⟨(Nat.le_of_ble_eq_true rfl), (Nat.le_of_ble_eq_true rfl)⟩) (fun r1 g m2 H locs hp hle hX => ?_)
  obtain ⟨hn_, Z_, hL, hS_, hp⟩ := hp
  rw [hn_] at hX
  rw [hS_] at hL
  have hz_r1 : r1 = F 31 := hp.trans hx0.bd.1
  refine j_iconst hC (pc := 9) dX0_band_9 ?_
  refine j_isub hC (pc := 10) dX0_band_10 ?_
  refine j_calli (rest := []) hX (va_runS hC.fix (f0_in D T N l k 0 (r1 - 1) (by omega) _ _) (va_cwS 3 hC.ts (lw_S q215 q216 q40 q217) rfl rfl rfl (by decide +kernel) ⟨Nat.le_of_ble_eq_true rfl, Nat.le_of_ble_eq_true rfl⟩) (j_preS hC hX _) rfl rfl hl.1 rfl (Nat.le_of_ble_eq_true rfl) dX0_band_11 ⟨(Nat.le_of_ble_eq_true rfl), (Nat.le_of_ble_eq_true rfl)⟩) (fun r4 g m5 H locs hp hle hX => ?_)
  obtain ⟨hn_, hg_, hp⟩ := hp
  rw [hn_, hg_] at hX
  have hq_r4 := inF_of hp
  refine j_if_eq hC (pc := 14) 34 dX0_band_14 (by decide) (by omega) (fun c6 => ?_) (fun c6 => ?_)
  · skip
    refine j_bipush hC (pc := 34) dX0_band_34 (by decide) ?_
    subst hQ
    exact j_iret hC (pc := 36) hX hr hlk (Nat.le_of_ble_eq_true rfl) (Nat.le_of_ble_eq_true rfl) dX0_band_36 ⟨_, _, hL, ⟨by show _ = (op_band F V k).1; unfold op_band; rw [if_neg (by omega)], (fun k hk => sk.rf), by show xRel N x S Z (op_band F V k).2.1 (op_band F V k).2.2; unfold op_band; (repeat' split) <;> exact hx0⟩⟩
  · skip
    have h19_ := hI.i19 (i := k) (by omega)
    have hb_ := (hx0.bd.2.2 k (by omega) (by omega)).1
    have hel : zA S 14 1 = some (zB S 25) ∧ zK S 25 = 10 ∧ (zN S 25 ≤ 33 ∧ F 31 ≤ zN S 25) := by rcases hx0.bd.2.1 with ⟨q, _⟩ | ⟨q1, q2, q3, q4⟩; omega; exact ⟨q1, q2, by omega, q4⟩
    refine lv_aload_n hx hb (pc := 17) dX0_band_17 rfl (lv_at hl 0 rfl) ?_
    rcases Classical.em (V 19 k ≤ 127) with h127 | h127
    · skip
      rw [if_pos h127] at hb_
      refine L_getr hC hX hL in_X0 (ci := 0) rfl (pc := 18) 0 hx0.T.2.2.1 13 (by decide) q166 rfl (q := zA S 0 13) (b := zB S 14) hx0.r13 rfl dX0_band_18 ?_
      refine lv_iload_n hx hb (pc := 21) dX0_band_21 rfl (lv_at hl 1 rfl) ?_
      refine j_callq (rest := []) hX (va_runV hC.fix (l_get14 D T N l hL _ (zN S 25) k _ (hx0.sp.k 14 rfl) hel.1 ⟨hel.2.1, rfl⟩ (by have := hel.2.2.1; omega) (by rw [hx0.bd.1]; have := hel.2.2; omega) hb_) (cwV 1 hC.ts (lw_V q601 q602 q603 q44 q604) rfl rfl rfl (by decide +kernel) ⟨Nat.le_of_ble_eq_true rfl, Nat.le_of_ble_eq_true rfl⟩) (j_preV hC hX (hL.ob 14 (hx0.sp.k 14 rfl)) (ci := 7) (r := (RJ2, TJ2, 3)) rfl _) rfl rfl hl.1 rfl (Nat.le_of_ble_eq_true rfl) dX0_band_22 ⟨(Nat.le_of_ble_eq_true rfl), (Nat.le_of_ble_eq_true rfl)⟩) (fun r7 g m8 H locs hp hle hX => ?_)
      obtain ⟨hn_, Z9, hL, hp⟩ := hp
      rw [hn_] at hX
      obtain ⟨hz_, hr_⟩ := hp
      rw [hz_] at hL
      rw [hr_]
      refine j_cast hC (pc := 25) q660 (hasC_int hC hX (by omega)) dX0_band_25 ?_
      refine j_calli (rest := []) hX (va_runV hC.fix (i_valC D T N l hL _ (128 + V 19 k).toNat (by omega)) (cwV 0 hC.ts (lw_V q661 q662 q663 q57 q664) rfl rfl rfl (by decide +kernel) ⟨Nat.le_of_ble_eq_true rfl, Nat.le_of_ble_eq_true rfl⟩) (j_preO hC hX (hC.Z.2.2.2.2.2.2.2.2.2.2.1.1 _ (by omega)) _) rfl rfl hl.1 rfl (Nat.le_of_ble_eq_true rfl) dX0_band_28 ⟨(Nat.le_of_ble_eq_true rfl), (Nat.le_of_ble_eq_true rfl)⟩) (fun r10 g m11 H locs hp hle hX => ?_)
      obtain ⟨hn_, Z_, hL, hS_, hp⟩ := hp
      rw [hn_] at hX
      rw [hS_] at hL
      refine j_goto hC (pc := 31) 36 dX0_band_31 (by decide) ?_
      subst hQ
      exact j_iret hC (pc := 36) hX hr hlk (Nat.le_of_ble_eq_true rfl) (Nat.le_of_ble_eq_true rfl) dX0_band_36 ⟨_, _, hL, ⟨by show _ = (op_band F V k).1; unfold op_band; rw [if_pos (by omega)]; rw [hp]; omega, (fun k hk => sk.rf), by show xRel N x S Z (op_band F V k).2.1 (op_band F V k).2.2; unfold op_band; (repeat' split) <;> exact hx0⟩⟩
    · skip
      rw [if_neg h127] at hb_
      have hbd : True ∧ zK S (70 + k.toNat) = 28 ∧ Z (70 + k.toNat) 0 = V 19 k := ⟨trivial, (hx0.bd.2.2 k (by omega) (by omega)).2 (by omega)⟩
      refine L_getr hC hX hL in_X0 (ci := 0) rfl (pc := 18) 0 hx0.T.2.2.1 13 (by decide) q166 rfl (q := zA S 0 13) (b := zB S 14) hx0.r13 rfl dX0_band_18 ?_
      refine lv_iload_n hx hb (pc := 21) dX0_band_21 rfl (lv_at hl 1 rfl) ?_
      refine j_callq (rest := []) hX (va_runV hC.fix (l_get14 D T N l hL _ (zN S 25) k _ (hx0.sp.k 14 rfl) hel.1 ⟨hel.2.1, rfl⟩ (by have := hel.2.2.1; omega) (by rw [hx0.bd.1]; have := hel.2.2; omega) hb_) (cwV 1 hC.ts (lw_V q601 q602 q603 q44 q604) rfl rfl rfl (by decide +kernel) ⟨Nat.le_of_ble_eq_true rfl, Nat.le_of_ble_eq_true rfl⟩) (j_preV hC hX (hL.ob 14 (hx0.sp.k 14 rfl)) (ci := 7) (r := (RJ2, TJ2, 3)) rfl _) rfl rfl hl.1 rfl (Nat.le_of_ble_eq_true rfl) dX0_band_22 ⟨(Nat.le_of_ble_eq_true rfl), (Nat.le_of_ble_eq_true rfl)⟩) (fun r13 g m14 H locs hp hle hX => ?_)
      obtain ⟨hn_, Z15, hL, hp⟩ := hp
      rw [hn_] at hX
      obtain ⟨hz_, hr_⟩ := hp
      rw [hz_] at hL
      rw [hr_]
      refine j_cast hC (pc := 25) q660 (hasC_ob hC hX (hL.ob (70 + k.toNat) (ci := 8) hbd.2.1) (r := ("java/lang/Integer", TJ9, 1)) rfl) dX0_band_25 ?_
      refine j_calli (rest := []) hX (va_runV hC.fix (i_val D T N l hL _ (70 + k.toNat) hbd.2.1) (cwV 0 hC.ts (lw_V q661 q662 q663 q57 q664) rfl rfl rfl (by decide +kernel) ⟨Nat.le_of_ble_eq_true rfl, Nat.le_of_ble_eq_true rfl⟩) (j_preV hC hX (hL.ob (70 + k.toNat) hbd.2.1) (ci := 8) (r := (RJ9, TJ9, 1)) rfl _) rfl rfl hl.1 rfl (Nat.le_of_ble_eq_true rfl) dX0_band_28 ⟨(Nat.le_of_ble_eq_true rfl), (Nat.le_of_ble_eq_true rfl)⟩) (fun r16 g m17 H locs hp hle hX => ?_)
      obtain ⟨hn_, Z_, hL, hS_, hp⟩ := hp
      rw [hn_] at hX
      rw [hS_] at hL
      refine j_goto hC (pc := 31) 36 dX0_band_31 (by decide) ?_
      subst hQ
      exact j_iret hC (pc := 36) hX hr hlk (Nat.le_of_ble_eq_true rfl) (Nat.le_of_ble_eq_true rfl) dX0_band_36 ⟨_, _, hL, ⟨by show _ = (op_band F V k).1; unfold op_band; rw [if_pos (by omega)]; exact hp.trans hbd.2.2, (fun k hk => sk.rf), by show xRel N x S Z (op_band F V k).2.1 (op_band F V k).2.2; unfold op_band; (repeat' split) <;> exact hx0⟩⟩
