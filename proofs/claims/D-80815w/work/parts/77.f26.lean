/-! FairFight: day, use -/
theorem dayB_0 {F : Nat → Int} {V : Nat → Int → Int} (hI : SI F V) (h4 : anyW (oddO F V) (F 25).toNat ≠ 1) : 0 ≤ (dayB F V).1 := by
  have ha : anyW (oddO F V) (F 25).toNat = 0 := by
    rcases anyW_01 (oddO F V) (F 25).toNat with q | q
    · exact q
    · exact absurd q h4
  have hn := hI.nums
  have hp6 := pow2_6 (n := F 25) (by omega)
  have hcr : ∀ j : Int, 0 ≤ j → j < ((F 25).toNat : Int) → (0 ≤ oddO F V j 0 ∧ oddO F V j 0 ≤ 1000000) ∧ 0 ≤ oddO F V j 1 ∧ oddO F V j 1 ≤ 1000000 := fun j a b => by
    have q_ := anyW_0 ha j a b
    have q0 := oddO_rg hI (i := j) (b := 0) (by omega)
    have q1 := oddO_rg hI (i := j) (b := 1) (by omega)
    omega
  exact (dayS_rg (c := oddO F V) (n := (F 25).toNat) (pu := F 27) hcr (by omega) (2 ^ (F 25).toNat : Int).toNat).2.2.2 (by omega)
theorem lkP.day {N : Nat → Nat} {x : Nat} {S : LbS} {Z : Nat → Int → Int} {F : Nat → Int} {V : Nat → Int → Int} {r : Int} {S' : LbS} {Z' : Nat → Int → Int} (hI : SI F V) (h : lkP N x S Z F V r S' Z') : (r = 0 ∧ Z' 0 11 = dayR F V ∧ 0 ≤ dayR F V ∧ Z' 0 12 = (dayB F V).2.2) ∨ ((r = -3 ∨ r = -5) ∧ r = dayR F V) := by
  rcases h.2.2 with ⟨h1, h2, h3, h4, h5, h6⟩ | ⟨q1, q2⟩
  · have e : dayR F V = (dayB F V).1 := by
      unfold dayR
      rw [if_neg (by rintro (q | q); exact h2 q; exact h3 q), if_neg h4]
    rw [e]
    exact Or.inl ⟨h1, h5, dayB_0 hI h4, h6⟩
  · refine Or.inr ⟨?_, q2⟩
    unfold dayR at q2
    split at q2
    · exact Or.inl q2
    · split at q2
      · exact Or.inr q2
      · rename_i h4
        have := dayB_0 hI h4
        omega

set_option maxHeartbeats 4000000 in
set_option maxRecDepth 100000 in
theorem f0_day (D : va_G) (T N : Nat → Nat) (l : Launch) {g0 : GH} {S : LbS} {Z : Nat → Int → Int} (hL : lR T g0 S Z) (n : Nat) (x : Nat) (F : Nat → Int) (V : Nat → Int → Int) (hx0 : xRel N x S Z F V) (hI : SI F V) : Met l yX0_day (ws_ yX0_day cX0_day 2 (some .int)) ({ frames := 9, cells := 182, slots := 1176, locals := 215 } : Room) (gPc D T N [.ref (zB S 0)] g0 n) (gQi D g0 n (fun r g' n' => ∃ S' Z', lR T g' S' Z' ∧ xP N x S Z (op_day F V) r S' Z')) 182 1176 (gA g0 n) := by
  refine j_start (by decide) (Nat.le_of_ble_eq_true rfl) ?_
  intro p e s mi args below meth c hC hr hlk hnm hX ls hl
  have hC : Ct D T N (gA g0 n) p s mi args c cX0_day RX0 2 := hC
  have hx := hC.x
  have hb := hC.b
  generalize hQ : MQ below _ args s 182 1176 (gA g0 n) = Q
  have hl : lv_has ls 2 [(0, .ref (zB S 0))] := hl
  have hnn := hI.nums
  have hxn := hx0.n
  refine lv_aload_n hx hb (pc := 0) dX0_day_0 rfl (lv_at hl 0 rfl) ?_
  refine j_calli (rest := []) hX (va_runV hC.fix (f0_looks D T N l hL _ _ _ _ hx0 hI) (cwV 0 hC.ts (lw_V q597 q599 qs11 q40 q600) rfl rfl rfl (by decide +kernel) ⟨Nat.le_of_ble_eq_true rfl, Nat.le_of_ble_eq_true rfl⟩) (j_preV hC hX (hL.ob 0 hx0.T.2.2.1) (ci := 0) (r := (RX0, TX0, 18)) rfl _) rfl rfl hl.1 rfl (Nat.le_of_ble_eq_true rfl) dX0_day_1 ⟨(Nat.le_of_ble_eq_true rfl), (Nat.le_of_ble_eq_true rfl)⟩) (fun r1 g m2 H locs hp hle hX => ?_)
  obtain ⟨S3, Z3, hL, hp⟩ := hp
  have hdy := hp.day hI
  have hx3 := hp.2.1
  have f0_ : zB S3 0 = zB S 0 := hx3.b0.trans hx0.b0.symm
  rw [← f0_] at hl
  refine lv_istore_n (lv' := [(1, .int (iI (r1))), (0, .ref (zB S3 0))]) hx hb (pc := 4) dX0_day_4 rfl hl (by decide) rfl (fun ls hl => ?_)
  refine lv_iload_n hx hb (pc := 5) dX0_day_5 rfl (lv_at hl 0 rfl) ?_
  refine j_if_ne hC (pc := 6) 16 dX0_day_6 (by decide) (by omega) (fun c4 => ?_) (fun c4 => ?_)
  · skip
    refine lv_iload_n hx hb (pc := 16) dX0_day_16 rfl (lv_at hl 0 rfl) ?_
    subst hQ
    exact j_iret hC (pc := 17) hX hr hlk (Nat.le_of_ble_eq_true rfl) (Nat.le_of_ble_eq_true rfl) dX0_day_17 ⟨_, _, hL, ⟨by show _ = (op_day F V).1; unfold op_day; rcases hdy with q | q; omega; exact q.2, hp.1, hx3⟩⟩
  · skip
    refine lv_aload_n hx hb (pc := 9) dX0_day_9 rfl (lv_at hl 1 rfl) ?_
    refine L_get hC hX hL in_X0 (ci := 0) rfl (pc := 10) 0 hx3.T.2.2.1 11 (by decide) q164 rfl (v := .int (iI (Z3 0 11))) rfl dX0_day_10 ?_
    refine j_goto hC (pc := 13) 17 dX0_day_13 (by decide) ?_
    subst hQ
    exact j_iret hC (pc := 17) hX hr hlk (Nat.le_of_ble_eq_true rfl) (Nat.le_of_ble_eq_true rfl) dX0_day_17 ⟨_, _, hL, ⟨by show _ = (op_day F V).1; unfold op_day; rcases hdy with q | q; exact q.2.1; omega, hp.1, hx3⟩⟩

set_option maxHeartbeats 4000000 in
set_option maxRecDepth 100000 in
theorem f0_use (D : va_G) (T N : Nat → Nat) (l : Launch) {g0 : GH} {S : LbS} {Z : Nat → Int → Int} (hL : lR T g0 S Z) (n : Nat) (x : Nat) (F : Nat → Int) (V : Nat → Int → Int) (hx0 : xRel N x S Z F V) (hI : SI F V) : Met l yX0_use (ws_ yX0_use cX0_use 2 (some .int)) ({ frames := 9, cells := 182, slots := 1176, locals := 215 } : Room) (gPc D T N [.ref (zB S 0)] g0 n) (gQi D g0 n (fun r g' n' => ∃ S' Z', lR T g' S' Z' ∧ xP N x S Z (op_use F V) r S' Z')) 182 1176 (gA g0 n) := by
  refine j_start (by decide) (Nat.le_of_ble_eq_true rfl) ?_
  intro p e s mi args below meth c hC hr hlk hnm hX ls hl
  have hC : Ct D T N (gA g0 n) p s mi args c cX0_use RX0 2 := hC
  have hx := hC.x
  have hb := hC.b
  generalize hQ : MQ below _ args s 182 1176 (gA g0 n) = Q
  have hl : lv_has ls 2 [(0, .ref (zB S 0))] := hl
  have hnn := hI.nums
  have hxn := hx0.n
  refine lv_aload_n hx hb (pc := 0) dX0_use_0 rfl (lv_at hl 0 rfl) ?_
  refine j_calli (rest := []) hX (va_runV hC.fix (f0_looks D T N l hL _ _ _ _ hx0 hI) (cwV 0 hC.ts (lw_V q597 q599 qs11 q40 q600) rfl rfl rfl (by decide +kernel) ⟨Nat.le_of_ble_eq_true rfl, Nat.le_of_ble_eq_true rfl⟩) (j_preV hC hX (hL.ob 0 hx0.T.2.2.1) (ci := 0) (r := (RX0, TX0, 18)) rfl _) rfl rfl hl.1 rfl (Nat.le_of_ble_eq_true rfl) dX0_use_1 ⟨(Nat.le_of_ble_eq_true rfl), (Nat.le_of_ble_eq_true rfl)⟩) (fun r1 g m2 H locs hp hle hX => ?_)
  obtain ⟨S3, Z3, hL, hp⟩ := hp
  have hdy := hp.day hI
  have hx3 := hp.2.1
  have f0_ : zB S3 0 = zB S 0 := hx3.b0.trans hx0.b0.symm
  rw [← f0_] at hl
  refine lv_istore_n (lv' := [(1, .int (iI (r1))), (0, .ref (zB S3 0))]) hx hb (pc := 4) dX0_use_4 rfl hl (by decide) rfl (fun ls hl => ?_)
  refine lv_iload_n hx hb (pc := 5) dX0_use_5 rfl (lv_at hl 0 rfl) ?_
  refine j_if_ne hC (pc := 6) 16 dX0_use_6 (by decide) (by omega) (fun c4 => ?_) (fun c4 => ?_)
  · skip
    refine lv_iload_n hx hb (pc := 16) dX0_use_16 rfl (lv_at hl 0 rfl) ?_
    subst hQ
    exact j_iret hC (pc := 17) hX hr hlk (Nat.le_of_ble_eq_true rfl) (Nat.le_of_ble_eq_true rfl) dX0_use_17 ⟨_, _, hL, ⟨by show _ = (op_use F V).1; unfold op_use; rcases hdy with q | q; omega; rw [if_pos (by omega)]; exact q.2, hp.1, hx3⟩⟩
  · skip
    refine lv_aload_n hx hb (pc := 9) dX0_use_9 rfl (lv_at hl 1 rfl) ?_
    refine L_get hC hX hL in_X0 (ci := 0) rfl (pc := 10) 0 hx3.T.2.2.1 12 (by decide) q165 rfl (v := .int (iI (Z3 0 12))) rfl dX0_use_10 ?_
    refine j_goto hC (pc := 13) 17 dX0_use_13 (by decide) ?_
    subst hQ
    exact j_iret hC (pc := 17) hX hr hlk (Nat.le_of_ble_eq_true rfl) (Nat.le_of_ble_eq_true rfl) dX0_use_17 ⟨_, _, hL, ⟨by show _ = (op_use F V).1; unfold op_use; rcases hdy with q | q; rw [if_neg (by omega)]; exact q.2.2.2; omega, hp.1, hx3⟩⟩
