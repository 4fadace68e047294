/-! FairFight: without one -/
theorem xRel.kpL {N : Nat → Nat} {x : Nat} {S S' : LbS} {Z Z' : Nat → Int → Int} {F : Nat → Int} {V : Nat → Int → Int} {T : Nat → Nat} {g : GH} (_hL : lR T g S' Z') (h : xRel N x S Z F V) (hI : SI F V) {ks : List Nat} (hs : sm S S' ks) (hc : ch Z Z' ks) (hk : (ks.all (fun k => decide (97 ≤ k))) = true) : xRel N x S' Z' F V := h.kp hI fun k q => by
  have nk : k ∉ ks := fun z => by
    have := List.all_eq_true.mp hk k z
    simp at this
    omega
  exact sk.of hs hc nk nk
theorem rwW {F : Nat → Int} {V : Nat → Int → Int} (h : SI F V) (pl : Int) (hp : 0 ≤ pl ∧ pl ≤ 2) : rwOk F (whW V pl) := by
  have h1 := h.2.2.1.1
  have h2 := h.nums
  have h3 := h.2.2.1.2
  have hf : whW V pl 3 = V 2 3 ∧ whW V pl 4 = V 2 4 ∧ whW V pl 5 = V 2 5 := by
    unfold whW
    refine ⟨?_, ?_, ?_⟩ <;> rw [if_neg (by decide), if_neg (by omega)]
  refine ⟨?_, by rw [hf.1, hf.2.1, hf.2.2]; exact h3⟩
  unfold rowA at h1 ⊢
  have : pl = 0 ∨ pl = 1 ∨ pl = 2 := by omega
  rcases this with rfl | rfl | rfl
  · have e0 : whW V 0 0 = V 2 1 := rfl
    have e1 : whW V 0 1 = V 2 2 := rfl
    have e2 : whW V 0 2 = -1 := rfl
    rw [e0, e1, e2]
    omega
  · have e0 : whW V 1 0 = V 2 0 := rfl
    have e1 : whW V 1 1 = V 2 2 := rfl
    have e2 : whW V 1 2 = -1 := rfl
    rw [e0, e1, e2]
    omega
  · have e0 : whW V 2 0 = V 2 0 := rfl
    have e1 : whW V 2 1 = V 2 1 := rfl
    have e2 : whW V 2 2 = -1 := rfl
    rw [e0, e1, e2]
    omega
theorem wo_iff {F : Nat → Int} {V : Nat → Int → Int} (h : SI F V) {pl : Int} : (0 ≤ pl ∧ pl ≤ cnR (V 2) - 1) ↔ ((0 ≤ pl ∧ pl ≤ 2) ∧ V 2 pl ≠ -1) := by
  have h3 := cnR_rg (V 2)
  constructor
  · intro q
    exact ⟨by omega, cnR_at (by omega)⟩
  · intro q
    have := cnR_lt h.2.2.1.1 q.1 q.2
    omega
theorem wo_row {f : Int → Int} {u : Int → Int} {V : Nat → Int → Int} {pl : Int} (hp : 0 ≤ pl ∧ pl ≤ 2) (hf : ∀ q : Int, 0 ≤ q → q < 3 → f q = V 2 q) (hu : ∀ q : Int, 0 ≤ q → q < 3 → u q = -1) : ∀ q : Int, 0 ≤ q → q < 3 → cpF f (cpF f u 0 0 pl) (pl + 1) pl (2 - pl) q = whW V pl q := by
  intro q a b
  unfold cpF whW
  by_cases h2 : q = 2
  · rw [if_neg (by omega), if_neg (by omega), if_pos h2]
    exact hu q a b
  · rw [if_neg h2]
    by_cases h : pl ≤ q ∧ q < 2
    · rw [if_pos (by omega), if_pos h, hf _ (by omega) (by omega)]
      congr 1
      omega
    · rw [if_neg (by omega), if_pos (by omega), if_neg h, hf _ (by omega) (by omega)]
      congr 1
      omega

set_option maxHeartbeats 4000000 in
set_option maxRecDepth 100000 in
theorem f0_without (D : va_G) (T N : Nat → Nat) (l : Launch) {g0 : GH} {S : LbS} {Z : Nat → Int → Int} (hL : lR T g0 S Z) (n : Nat) (x : Nat) (F : Nat → Int) (V : Nat → Int → Int) (pl : Int) (hx0 : xRel N x S Z F V) (hI : SI F V) (hg : (-2147483648 ≤ pl ∧ pl ≤ 2147483647)) : Met l yX0_without (ws_ yX0_without cX0_without 3 (some .int)) ({ frames := 8, cells := 16, slots := 100, locals := 189 } : Room) (gPc D T N [.ref (zB S 0), .int (iI (pl))] g0 n) (gQi D g0 n (fun r g' n' => ∃ S' Z', lR T g' S' Z' ∧ xP N x S Z (op_without F V pl) r S' Z')) 16 100 (gA g0 n) := by
  refine j_start (by decide) (Nat.le_of_ble_eq_true rfl) ?_
  intro p e s mi args below meth c hC hr hlk hnm hX ls hl
  have hC : Ct D T N (gA g0 n) p s mi args c cX0_without RX0 3 := hC
  have hx := hC.x
  have hb := hC.b
  generalize hQ : MQ below _ args s 16 100 (gA g0 n) = Q
  have hl : lv_has ls 3 [(0, .ref (zB S 0)), (1, .int (iI (pl)))] := hl
  have hnn := hI.nums
  have hxn := hx0.n
  have hcn_ := cnR_rg (V 2)
  refine lv_iload_n hx hb (pc := 0) dX0_without_0 rfl (lv_at hl 1 rfl) ?_
  refine j_iconst hC (pc := 1) dX0_without_1 ?_
  refine lv_aload_n hx hb (pc := 2) dX0_without_2 rfl (lv_at hl 0 rfl) ?_
  refine L_getr hC hX hL in_X0 (ci := 0) rfl (pc := 3) 0 hx0.T.2.2.1 2 (by decide) q150 rfl (q := zA S 0 2) (b := zB S 2) hx0.r2 rfl dX0_without_3 ?_
  refine j_iconst hC (pc := 6) dX0_without_6 ?_
  refine L_aald hC hX hL (pc := 7) 2 5 (hx0.sp.k 2 rfl) (by decide) rfl rfl (L := 2) (hx0.sp.n 2 rfl) (by decide) (by omega) (b := zB S 3) (show _ from hx0.e.1.1) dX0_without_7 ?_
  refine j_calli (rest := [.int (iI (0)), .int (iI (pl))]) hX (va_runS hC.fix (x_manyOf D T N l hL _ 3 (hx0.sp.k 3 rfl) (hx0.sp.n 3 rfl) (hx0.rw15 N hI).1) (va_cwS 1 hC.ts (lw_S q249 q250 q40 q251) rfl rfl rfl (by decide +kernel) ⟨Nat.le_of_ble_eq_true rfl, Nat.le_of_ble_eq_true rfl⟩) (j_preS hC hX _) rfl rfl hl.1 rfl (Nat.le_of_ble_eq_true rfl) dX0_without_8 ⟨(Nat.le_of_ble_eq_true rfl), (Nat.le_of_ble_eq_true rfl)⟩) (fun r1 g m2 H locs hp hle hX => ?_)
  obtain ⟨hn_, Z_, hL, hS_, hp⟩ := hp
  rw [hn_] at hX
  rw [hS_] at hL
  have hm_r1 : r1 = cnR (V 2) := hp.trans (many3 hx0.row.1)
  refine j_iconst hC (pc := 11) dX0_without_11 ?_
  refine j_isub hC (pc := 12) dX0_without_12 ?_
  refine j_calli (rest := []) hX (va_runS hC.fix (f0_in D T N l pl 0 (r1 - 1) (by omega) _ _) (va_cwS 3 hC.ts (lw_S q215 q216 q40 q217) rfl rfl rfl (by decide +kernel) ⟨Nat.le_of_ble_eq_true rfl, Nat.le_of_ble_eq_true rfl⟩) (j_preS hC hX _) rfl rfl hl.1 rfl (Nat.le_of_ble_eq_true rfl) dX0_without_13 ⟨(Nat.le_of_ble_eq_true rfl), (Nat.le_of_ble_eq_true rfl)⟩) (fun r4 g m5 H locs hp hle hX => ?_)
  obtain ⟨hn_, hg_, hp⟩ := hp
  rw [hn_, hg_] at hX
  have hq_r4 := inF_of hp
  refine j_if_ne hC (pc := 16) 22 dX0_without_16 (by decide) (by omega) (fun c6 => ?_) (fun c6 => ?_)
  · skip
    refine j_iconst hC (pc := 22) dX0_without_22 ?_
    refine L_newI hC hX hL (pc := 23) 100 0 (by decide) (atype := .int) (ty := .int) rfl rfl (fun cA h => h) rfl q103 (k := 3) rfl (by decide) (by decide) (Nat.le_of_ble_eq_true rfl) (Nat.le_of_ble_eq_true rfl) dX0_without_23 (fun g H hX hL => ?_)
    refine lv_dup hx hb (pc := 25) dX0_without_25 rfl ?_
    refine j_iconst hC (pc := 26) dX0_without_26 ?_
    refine j_iconst hC (pc := 27) dX0_without_27 ?_
    refine L_iast hC hX hL (pc := 28) 100 rfl (L := 3) rfl (by decide) (by omega) (f := uI (fun _ => 0) 0 (-1)) rfl dX0_without_28 (fun g H locs hX hL => ?_)
    refine lv_dup hx hb (pc := 29) dX0_without_29 rfl ?_
    refine j_iconst hC (pc := 30) dX0_without_30 ?_
    refine j_iconst hC (pc := 31) dX0_without_31 ?_
    refine L_iast hC hX hL (pc := 32) 100 rfl (L := 3) rfl (by decide) (by omega) (f := uI (uI (fun _ => 0) 0 (-1)) 1 (-1)) rfl dX0_without_32 (fun g H locs hX hL => ?_)
    refine lv_dup hx hb (pc := 33) dX0_without_33 rfl ?_
    refine j_iconst hC (pc := 34) dX0_without_34 ?_
    refine j_iconst hC (pc := 35) dX0_without_35 ?_
    refine L_iast hC hX hL (pc := 36) 100 rfl (L := 3) rfl (by decide) (by omega) (f := uI (uI (uI (fun _ => 0) 0 (-1)) 1 (-1)) 2 (-1)) rfl dX0_without_36 (fun g H locs hX hL => ?_)
    refine lv_astore_n (lv' := [(2, .ref (n)), (0, .ref (zB S 0)), (1, .int (iI (pl)))]) hx hb (pc := 37) dX0_without_37 rfl hl (by decide) rfl (fun ls hl => ?_)
    have hwo_ := (wo_iff (pl := pl) hI).mp (by omega)
    refine lv_aload_n hx hb (pc := 38) dX0_without_38 rfl (lv_at hl 1 rfl) ?_
    refine L_getr hC hX hL in_X0 (ci := 0) rfl (pc := 39) 0 hx0.T.2.2.1 2 (by decide) q150 rfl (q := zA S 0 2) (b := zB S 2) hx0.r2 rfl dX0_without_39 ?_
    refine j_iconst hC (pc := 42) dX0_without_42 ?_
    refine L_aald hC hX hL (pc := 43) 2 5 (hx0.sp.k 2 rfl) (by decide) rfl rfl (L := 2) (hx0.sp.n 2 rfl) (by decide) (by omega) (b := zB S 3) (show _ from hx0.e.1.1) dX0_without_43 ?_
    refine j_iconst hC (pc := 44) dX0_without_44 ?_
    refine lv_aload_n hx hb (pc := 45) dX0_without_45 rfl (lv_at hl 0 rfl) ?_
    refine j_iconst hC (pc := 46) dX0_without_46 ?_
    refine lv_iload_n hx hb (pc := 47) dX0_without_47 rfl (lv_at hl 2 rfl) ?_
    refine L_copyI hC hX hL (pc := 48) 3 100 0 rfl (by decide) rfl q509 hl.1 (hx0.sp.k 3 rfl) rfl (n0 := 3) (n1 := 3) (hx0.sp.n 3 rfl) rfl (by omega) (fun i _ _ => rfl) (Nat.le_of_ble_eq_true rfl) (Nat.le_of_ble_eq_true rfl) dX0_without_48 (fun g H locs hX hL => ?_)
    refine lv_aload_n hx hb (pc := 51) dX0_without_51 rfl (lv_at hl 1 rfl) ?_
    refine L_getr hC hX hL in_X0 (ci := 0) rfl (pc := 52) 0 hx0.T.2.2.1 2 (by decide) q150 rfl (q := zA S 0 2) (b := zB S 2) hx0.r2 rfl dX0_without_52 ?_
    refine j_iconst hC (pc := 55) dX0_without_55 ?_
    refine L_aald hC hX hL (pc := 56) 2 5 (hx0.sp.k 2 rfl) (by decide) rfl rfl (L := 2) (hx0.sp.n 2 rfl) (by decide) (by omega) (b := zB S 3) (show _ from hx0.e.1.1) dX0_without_56 ?_
    refine lv_iload_n hx hb (pc := 57) dX0_without_57 rfl (lv_at hl 2 rfl) ?_
    refine j_iconst hC (pc := 58) dX0_without_58 ?_
    refine j_iadd hC (pc := 59) dX0_without_59 ?_
    refine lv_aload_n hx hb (pc := 60) dX0_without_60 rfl (lv_at hl 0 rfl) ?_
    refine lv_iload_n hx hb (pc := 61) dX0_without_61 rfl (lv_at hl 2 rfl) ?_
    refine j_iconst hC (pc := 62) dX0_without_62 ?_
    refine lv_iload_n hx hb (pc := 63) dX0_without_63 rfl (lv_at hl 2 rfl) ?_
    refine j_isub hC (pc := 64) dX0_without_64 ?_
    refine L_copyI hC hX hL (pc := 65) 3 100 0 rfl (by decide) rfl q509 hl.1 (hx0.sp.k 3 rfl) rfl (n0 := 3) (n1 := 3) (hx0.sp.n 3 rfl) rfl (by omega) (fun i _ _ => rfl) (Nat.le_of_ble_eq_true rfl) (Nat.le_of_ble_eq_true rfl) dX0_without_65 (fun g H locs hX hL => ?_)
    have hx1 := xRel.kpL hL hx0 hI (ks := [100]) (sm.rf.uN 100 _ _ _ (by decide)) ((((((ch.rf.up 100 _ (by decide)).up 100 _ (by decide)).up 100 _ (by decide)).up 100 _ (by decide)).up 100 _ (by decide)).up 100 _ (by decide)) (by decide)
    refine lv_aload_n hx hb (pc := 68) dX0_without_68 rfl (lv_at hl 1 rfl) ?_
    refine lv_aload_n hx hb (pc := 69) dX0_without_69 rfl (lv_at hl 0 rfl) ?_
    refine lv_aload_n hx hb (pc := 70) dX0_without_70 rfl (lv_at hl 1 rfl) ?_
    refine L_getr hC hX hL in_X0 (ci := 0) rfl (pc := 71) 0 hx0.T.2.2.1 2 (by decide) q150 rfl (q := zA S 0 2) (b := zB S 2) hx0.r2 rfl dX0_without_71 ?_
    refine j_iconst hC (pc := 74) dX0_without_74 ?_
    refine L_aald hC hX hL (pc := 75) 2 5 (hx0.sp.k 2 rfl) (by decide) rfl rfl (L := 2) (hx0.sp.n 2 rfl) (by decide) (by omega) (b := zB S 4) (show _ from hx0.e.1.2) dX0_without_75 ?_
    refine j_iconst hC (pc := 76) dX0_without_76 ?_
    refine j_calli (rest := []) hX (va_runV hC.fix (f0_chanceOf D T N l hL _ _ _ _ 100 4 (whW V pl) 0 hx1 hI (rwW hI pl (by omega)) (by decide) ⟨by decide, rfl, rfl, wo_row (by omega) (fun q y1 y2 => (hx0.si q y1 y2).1) (fun q y1 y2 => by rcases (show q = 0 ∨ q = 1 ∨ q = 2 by omega) with rfl | rfl | rfl <;> rfl)⟩ (rwA.kp (f := fun q => whW V pl (3 + q)) ⟨by decide, hx0.sp.k 4 rfl, hx0.sp.n 4 rfl, fun q y1 y2 => by rw [(hx0.si q y1 y2).2]; show _ = whW V pl (3 + q); unfold whW; rw [if_neg (by omega), if_neg (by omega)]⟩ (sk.of (show sm S _ [100] from (sm.rf.uN 100 _ _ _ (by decide))) (show ch Z _ [100] from ((((((ch.rf.up 100 _ (by decide)).up 100 _ (by decide)).up 100 _ (by decide)).up 100 _ (by decide)).up 100 _ (by decide)).up 100 _ (by decide))) (by decide) (by decide)))) (cwV 3 hC.ts (lw_V q477 q479 qs7 q40 q480) rfl rfl rfl (by decide +kernel) ⟨Nat.le_of_ble_eq_true rfl, Nat.le_of_ble_eq_true rfl⟩) (j_preV hC hX (hL.ob 0 hx0.T.2.2.1) (ci := 0) (r := (RX0, TX0, 18)) rfl _) rfl rfl hl.1 rfl (Nat.le_of_ble_eq_true rfl) dX0_without_77 ⟨(Nat.le_of_ble_eq_true rfl), (Nat.le_of_ble_eq_true rfl)⟩) (fun r7 g m8 H locs hp hle hX => ?_)
    obtain ⟨S3, Z3, hL, hp⟩ := hp
    obtain ⟨hr_, hkk⟩ := hp
    have hx3 := hx1.xk hI hkk
    subst hQ
    exact j_iret hC (pc := 80) hX hr hlk (Nat.le_of_ble_eq_true rfl) (Nat.le_of_ble_eq_true rfl) dX0_without_80 ⟨_, _, hL, ⟨by show _ = (op_without F V pl).1; unfold op_without; rw [if_pos ((wo_iff hI).mp (by omega)), hr_], (fun k hk => (sk.of (show sm S _ [100] from (sm.rf.uN 100 _ _ _ (by decide))) (show ch Z _ [100] from ((((((ch.rf.up 100 _ (by decide)).up 100 _ (by decide)).up 100 _ (by decide)).up 100 _ (by decide)).up 100 _ (by decide)).up 100 _ (by decide))) (by simp; omega) (by simp; omega)).tr (hkk.1 k (Or.inr hk) (by simp; omega))), hx3⟩⟩
  · skip
    refine j_bipush hC (pc := 19) dX0_without_19 (by decide) ?_
    subst hQ
    exact j_iret hC (pc := 21) hX hr hlk (Nat.le_of_ble_eq_true rfl) (Nat.le_of_ble_eq_true rfl) dX0_without_21 ⟨_, _, hL, ⟨by show _ = (op_without F V pl).1; unfold op_without; rw [if_neg (fun q => by have := (wo_iff hI).mpr q; omega)], (fun k hk => sk.rf), by show xRel N x S Z (op_without F V pl).2.1 (op_without F V pl).2.2; unfold op_without; exact hx0⟩⟩
