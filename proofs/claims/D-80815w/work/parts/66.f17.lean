/-! FairFight: a fighter -/
set_option maxHeartbeats 4000000 in
set_option maxRecDepth 100000 in
theorem f4_init (D : va_G) (T N : Nat → Nat) (l : Launch) {g0 : GH} {S : LbS} {Z : Nat → Int → Int} (hL : lR T g0 S Z) (n : Nat)  (hk0 : zK S 101 = 24) : Met l yX4_init (ws_ yX4_init cX4_init 2 none) ({ frames := 1, cells := 0, slots := 0, locals := 12 } : Room) (gPc D T N [.ref (zB S 101), .ref (zB S 100)] g0 n) (gQv D g0 n (fun g' n' => ∃ S' Z', lR T g' S' Z' ∧ S' = uA S 101 (uI (zA S 101) 0 (some (zB S 100))) ∧ Z' = Z ∧ n' = n)) 0 0 (gA g0 n) := by
  refine j_start (by decide) (Nat.le_of_ble_eq_true rfl) ?_
  intro p e s mi args below meth c hC hr hlk hnm hX ls hl
  have hC : Ct D T N (gA g0 n) p s mi args c cX4_init RX4 2 := hC
  have hx := hC.x
  have hb := hC.b
  generalize hQ : MQ below _ args s 0 0 (gA g0 n) = Q
  have hl : lv_has ls 2 [(0, .ref (zB S 101)), (1, .ref (zB S 100))] := hl
  refine lv_aload_n hx hb (pc := 0) dX4_init_0 rfl (lv_at hl 0 rfl) ?_
  refine j_objInit hC (pc := 1) q222 hl.1 (Nat.le_of_ble_eq_true rfl) (Nat.le_of_ble_eq_true rfl) dX4_init_1 ?_
  refine lv_aload_n hx hb (pc := 4) dX4_init_4 rfl (lv_at hl 0 rfl) ?_
  refine lv_aload_n hx hb (pc := 5) dX4_init_5 rfl (lv_at hl 1 rfl) ?_
  refine L_putAF hC hX hL in_X4 tyX4 tyX4_ok nmX4 (ci := 4) rfl (pc := 6) 101 hk0 0 (by decide) q223 rfl rfl hnm rfl rfl rfl (f := uI (zA S 101) 0 (some (zB S 100))) (show 0 < 1 by decide) rfl dX4_init_6 (fun g H locs hX hL => ?_)
  subst hQ
  exact j_vret hC (pc := 9) hX hr hlk (Nat.le_of_ble_eq_true rfl) (Nat.le_of_ble_eq_true rfl) dX4_init_9 ⟨_, _, hL, ⟨rfl, rfl, rfl⟩⟩

theorem numF_1 {q v : Int} : numF q v = 0 ∨ numF q v = 1 := by
  unfold numF inF
  (repeat' split) <;> omega
theorem fgt_bad {F : Nat → Int} {V : Nat → Int → Int} {f0 : Int → Int} {a0 a1 a2 a3 a4 a5 i : Int} (hi : 0 ≤ i ∧ i < 6) (h : ¬ numF i (u6 f0 0 a0 a1 a2 a3 a4 a5 i) = 1) : op_fighter F V a0 a1 a2 a3 a4 a5 = (-2, F, V) := by
  unfold op_fighter
  rw [if_neg]
  rintro ⟨h0, h1, h2, h3, h4, h5⟩
  have : i = 0 ∨ i = 1 ∨ i = 2 ∨ i = 3 ∨ i = 4 ∨ i = 5 := by omega
  rcases this with rfl | rfl | rfl | rfl | rfl | rfl
  · exact h h0
  · exact h h1
  · exact h h2
  · exact h h3
  · exact h h4
  · exact h h5
theorem fgt_ok {F : Nat → Int} {V : Nat → Int → Int} {f0 : Int → Int} {a0 a1 a2 a3 a4 a5 : Int} (h : ∀ i : Int, 0 ≤ i → i < 6 → numF i (u6 f0 0 a0 a1 a2 a3 a4 a5 i) = 1) : op_fighter F V a0 a1 a2 a3 a4 a5 = if F 0 = 16 then (-4, F, V) else (F 0, va_up F 0 (F 0 + 1), va_up V 1 (u6 (V 1) (6 * F 0) a0 a1 a2 a3 a4 a5)) := by
  unfold op_fighter
  rw [if_pos ⟨h 0 (by decide) (by decide), h 1 (by decide) (by decide), h 2 (by decide) (by decide), h 3 (by decide) (by decide), h 4 (by decide) (by decide), h 5 (by decide) (by decide)⟩]
  rfl

set_option maxHeartbeats 4000000 in
set_option maxRecDepth 100000 in
theorem f0_fighter (D : va_G) (T N : Nat → Nat) (l : Launch) {g0 : GH} {S : LbS} {Z : Nat → Int → Int} (hL : lR T g0 S Z) (n : Nat) (x : Nat) (F : Nat → Int) (V : Nat → Int → Int) (a0 a1 a2 a3 a4 a5 : Int) (hx0 : xRel N x S Z F V) (hI : SI F V) (hg : (-2147483648 ≤ a0 ∧ a0 ≤ 2147483647) ∧ (-2147483648 ≤ a1 ∧ a1 ≤ 2147483647) ∧ (-2147483648 ≤ a2 ∧ a2 ≤ 2147483647) ∧ (-2147483648 ≤ a3 ∧ a3 ≤ 2147483647) ∧ (-2147483648 ≤ a4 ∧ a4 ≤ 2147483647) ∧ (-2147483648 ≤ a5 ∧ a5 ≤ 2147483647)) : Met l yX0_fighter (ws_ yX0_fighter cX0_fighter 9 (some .int)) ({ frames := 2, cells := 2, slots := 7, locals := 43 } : Room) (gPc D T N [.ref (zB S 0), .int (iI (a0)), .int (iI (a1)), .int (iI (a2)), .int (iI (a3)), .int (iI (a4)), .int (iI (a5))] g0 n) (gQi D g0 n (fun r g' n' => ∃ S' Z', lR T g' S' Z' ∧ xP N x S Z (op_fighter F V a0 a1 a2 a3 a4 a5) r S' Z')) 2 7 (gA g0 n) := by
  refine j_start (by decide) (Nat.le_of_ble_eq_true rfl) ?_
  intro p e s mi args below meth c hC hr hlk hnm hX ls hl
  have hC : Ct D T N (gA g0 n) p s mi args c cX0_fighter RX0 9 := hC
  have hx := hC.x
  have hb := hC.b
  generalize hQ : MQ below _ args s 2 7 (gA g0 n) = Q
  have hl : lv_has ls 9 [(0, .ref (zB S 0)), (1, .int (iI (a0))), (2, .int (iI (a1))), (3, .int (iI (a2))), (4, .int (iI (a3))), (5, .int (iI (a4))), (6, .int (iI (a5)))] := hl
  have hnn := hI.nums
  have hxn := hx0.n
  refine j_bipush hC (pc := 0) dX0_fighter_0 (by decide) ?_
  refine L_newI hC hX hL (pc := 2) 100 0 (by decide) (atype := .int) (ty := .int) rfl rfl (fun cA h => h) rfl q103 (k := 6) rfl (by decide) (by decide) (Nat.le_of_ble_eq_true rfl) (Nat.le_of_ble_eq_true rfl) dX0_fighter_2 (fun g H hX hL => ?_)
  refine lv_dup hx hb (pc := 4) dX0_fighter_4 rfl ?_
  refine j_iconst hC (pc := 5) dX0_fighter_5 ?_
  refine lv_iload_n hx hb (pc := 6) dX0_fighter_6 rfl (lv_at hl 1 rfl) ?_
  refine L_iast hC hX hL (pc := 7) 100 rfl (L := 6) rfl (by decide) (by omega) (f := uI (fun _ => 0) 0 a0) rfl dX0_fighter_7 (fun g H locs hX hL => ?_)
  refine lv_dup hx hb (pc := 8) dX0_fighter_8 rfl ?_
  refine j_iconst hC (pc := 9) dX0_fighter_9 ?_
  refine lv_iload_n hx hb (pc := 10) dX0_fighter_10 rfl (lv_at hl 2 rfl) ?_
  refine L_iast hC hX hL (pc := 11) 100 rfl (L := 6) rfl (by decide) (by omega) (f := uI (uI (fun _ => 0) 0 a0) 1 a1) rfl dX0_fighter_11 (fun g H locs hX hL => ?_)
  refine lv_dup hx hb (pc := 12) dX0_fighter_12 rfl ?_
  refine j_iconst hC (pc := 13) dX0_fighter_13 ?_
  refine lv_iload_n hx hb (pc := 14) dX0_fighter_14 rfl (lv_at hl 3 rfl) ?_
  refine L_iast hC hX hL (pc := 15) 100 rfl (L := 6) rfl (by decide) (by omega) (f := uI (uI (uI (fun _ => 0) 0 a0) 1 a1) 2 a2) rfl dX0_fighter_15 (fun g H locs hX hL => ?_)
  refine lv_dup hx hb (pc := 16) dX0_fighter_16 rfl ?_
  refine j_iconst hC (pc := 17) dX0_fighter_17 ?_
  refine lv_iload hx hb (pc := 18) dX0_fighter_18 (lv_at hl 4 rfl) ?_
  refine L_iast hC hX hL (pc := 20) 100 rfl (L := 6) rfl (by decide) (by omega) (f := uI (uI (uI (uI (fun _ => 0) 0 a0) 1 a1) 2 a2) 3 a3) rfl dX0_fighter_20 (fun g H locs hX hL => ?_)
  refine lv_dup hx hb (pc := 21) dX0_fighter_21 rfl ?_
  refine j_iconst hC (pc := 22) dX0_fighter_22 ?_
  refine lv_iload hx hb (pc := 23) dX0_fighter_23 (lv_at hl 5 rfl) ?_
  refine L_iast hC hX hL (pc := 25) 100 rfl (L := 6) rfl (by decide) (by omega) (f := uI (uI (uI (uI (uI (fun _ => 0) 0 a0) 1 a1) 2 a2) 3 a3) 4 a4) rfl dX0_fighter_25 (fun g H locs hX hL => ?_)
  refine lv_dup hx hb (pc := 26) dX0_fighter_26 rfl ?_
  refine j_iconst hC (pc := 27) dX0_fighter_27 ?_
  refine lv_iload hx hb (pc := 28) dX0_fighter_28 (lv_at hl 6 rfl) ?_
  refine L_iast hC hX hL (pc := 30) 100 rfl (L := 6) rfl (by decide) (by omega) (f := uI (uI (uI (uI (uI (uI (fun _ => 0) 0 a0) 1 a1) 2 a2) 3 a3) 4 a4) 5 a5) rfl dX0_fighter_30 (fun g H locs hX hL => ?_)
  refine lv_astore (lv' := [(7, .ref (n)), (0, .ref (zB S 0)), (1, .int (iI (a0))), (2, .int (iI (a1))), (3, .int (iI (a2))), (4, .int (iI (a3))), (5, .int (iI (a4))), (6, .int (iI (a5)))]) hx hb (pc := 31) dX0_fighter_31 hl (by decide) rfl (fun ls hl => ?_)
  refine j_iconst hC (pc := 33) dX0_fighter_33 ?_
  refine lv_istore (lv' := [(8, .int (iI (0))), (7, .ref (n)), (0, .ref (zB S 0)), (1, .int (iI (a0))), (2, .int (iI (a1))), (3, .int (iI (a2))), (4, .int (iI (a3))), (5, .int (iI (a4))), (6, .int (iI (a5)))]) hx hb (pc := 34) dX0_fighter_34 hl (by decide) rfl (fun ls hl => ?_)
  have L36 : ∀ (fu : Nat) (i : Int) (g : GH) (nj36 : Nat) (S1 : LbS) (Z1 : Nat → Int → Int), 6 - i < (fu : Int) → (0 ≤ i ∧ i ≤ 6) → (sm S S1 [100]) → (zK S1 100 = 1 ∧ zN S1 100 = 6) → (ch Z Z1 [100]) → (Z1 100 = u6 (fun _ => 0) 0 a0 a1 a2 a3 a4 a5) → (∀ q : Int, 0 ≤ q → q < i → numF q (u6 (fun _ => 0) 0 a0 a1 a2 a3 a4 a5 q) = 1) → ∀ (H : Heap) (locs : List Loc), Wd D (gA g0 n) s g nj36 H locs → lR T g S1 Z1 → ∀ (ls : Array Slot), lv_has ls 9 [(8, .int (iI (i))), (7, .ref (zB S1 100)), (0, .ref (zB S1 0)), (1, .int (iI (a0))), (2, .int (iI (a1))), (3, .int (iI (a2))), (4, .int (iI (a3))), (5, .int (iI (a4))), (6, .int (iI (a5)))] → W p l e ({ frames := 2, cells := 2, slots := 7, locals := 43 } : Room) s mi args below meth c H locs 1 6 Q (F0 mi 36 ls []) := by
    intro fu
    induction fu with
    | zero =>
      intro i g nj36 S1 Z1 hfu hi hsm1 hkn hch1 hv1 hnum H locs hX hL ls hl
      exfalso
      omega
    | succ fu ih36 =>
      intro i g nj36 S1 Z1 hfu hi hsm1 hkn hch1 hv1 hnum H locs hX hL ls hl
      have hx1 : xRel N x S1 Z1 F V := hx0.kp hI (fun k hk => sk.of hsm1 hch1 (by simp; omega) (by simp; omega))
      have e01_ : Z1 0 1 = Z 0 1 := congrFun (hch1 0 (by decide)) 1
      have hv_ : -2147483648 ≤ Z1 100 i ∧ Z1 100 i ≤ 2147483647 ∨ i = 6 := by rcases (show i = 0 ∨ i = 1 ∨ i = 2 ∨ i = 3 ∨ i = 4 ∨ i = 5 ∨ i = 6 by omega) with q_ | q_ | q_ | q_ | q_ | q_ | q_; (rw [q_, hv1]; exact Or.inl (show -2147483648 ≤ a0 ∧ a0 ≤ 2147483647 by omega)); (rw [q_, hv1]; exact Or.inl (show -2147483648 ≤ a1 ∧ a1 ≤ 2147483647 by omega)); (rw [q_, hv1]; exact Or.inl (show -2147483648 ≤ a2 ∧ a2 ≤ 2147483647 by omega)); (rw [q_, hv1]; exact Or.inl (show -2147483648 ≤ a3 ∧ a3 ≤ 2147483647 by omega)); (rw [q_, hv1]; exact Or.inl (show -2147483648 ≤ a4 ∧ a4 ≤ 2147483647 by omega)); (rw [q_, hv1]; exact Or.inl (show -2147483648 ≤ a5 ∧ a5 ≤ 2147483647 by omega)); exact Or.inr q_
      refine lv_iload hx hb (pc := 36) dX0_fighter_36 (lv_at hl 0 rfl) ?_
      refine j_bipush hC (pc := 38) dX0_fighter_38 (by decide) ?_
      refine j_icmp_ge hC (pc := 40) 65 dX0_fighter_40 (by decide) (by omega) (fun c1 => ?_) (fun c1 => ?_)
      · skip
        have hall : ∀ q : Int, 0 ≤ q → q < 6 → numF q (u6 (fun _ => 0) 0 a0 a1 a2 a3 a4 a5 q) = 1 := fun q y1 y2 => hnum q y1 (by omega)
        have hS0 := hsm1 0 (by decide)
        have hS1 := hsm1 1 (by decide)
        have hxn1 := hx1.n
        refine lv_aload_n hx hb (pc := 65) dX0_fighter_65 rfl (lv_at hl 2 rfl) ?_
        refine L_get hC hX hL in_X0 (ci := 0) rfl (pc := 66) 0 hx1.T.2.2.1 1 (by decide) q149 rfl (v := .int (iI (Z1 0 1))) rfl dX0_fighter_66 ?_
        refine j_bipush hC (pc := 69) dX0_fighter_69 (by decide) ?_
        refine j_icmp_ne hC (pc := 71) 77 dX0_fighter_71 (by decide) (by omega) (fun c2 => ?_) (fun c2 => ?_)
        · skip
          refine lv_aload_n hx hb (pc := 77) dX0_fighter_77 rfl (lv_at hl 2 rfl) ?_
          refine L_getr hC hX hL in_X0 (ci := 0) rfl (pc := 78) 0 hx1.T.2.2.1 0 (by decide) q148 rfl (q := zA S1 0 0) (b := zB S1 1) hx1.r0 rfl dX0_fighter_78 ?_
          refine lv_aload_n hx hb (pc := 81) dX0_fighter_81 rfl (lv_at hl 2 rfl) ?_
          refine L_get hC hX hL in_X0 (ci := 0) rfl (pc := 82) 0 hx1.T.2.2.1 1 (by decide) q149 rfl (v := .int (iI (Z1 0 1))) rfl dX0_fighter_82 ?_
          refine L_new hC hX hL (pc := 85) 101 4 in_X4 tyX4 tyX4_ok q76 q218 q47 rfl (by decide) (Nat.le_of_ble_eq_true rfl) (Nat.le_of_ble_eq_true rfl) dX0_fighter_85 (fun g H hX hL => ?_)
          refine lv_dup hx hb (pc := 88) dX0_fighter_88 rfl ?_
          refine lv_aload hx hb (pc := 89) dX0_fighter_89 (lv_at hl 1 rfl) ?_
          refine j_callv (rest := [.ref (nj36), .int (iI (Z1 0 1)), .ref (zB S1 1)]) hX (va_runI hC.fix (f4_init D T N l hL _ rfl) (cwI 1 hC.ts (lw_meth q221) rfl rfl rfl (hC.ts _ q47) (hC.ts _ q219) (hC.ts _ q220) rfl (by decide +kernel) ⟨Nat.le_of_ble_eq_true rfl, Nat.le_of_ble_eq_true rfl⟩) (j_preS hC hX _) rfl rfl hl.1 rfl (Nat.le_of_ble_eq_true rfl) dX0_fighter_91 ⟨(Nat.le_of_ble_eq_true rfl), (Nat.le_of_ble_eq_true rfl)⟩) (fun g m4 H locs hp hle hX => ?_)
          obtain ⟨S5, Z5, hL, hp⟩ := hp
          obtain ⟨hSS, hZZ, hnn_⟩ := hp
          rw [hSS, hZZ] at hL
          rw [hnn_] at hX
          refine L_aast hC hX hL (pc := 94) 1 7 4 101 (hx1.sp.k 1 rfl) (by decide) rfl rfl rfl (L := 16) (hx1.sp.n 1 rfl) (by decide) (by omega) dX0_fighter_94 (fun g H locs hX hL => ?_)
          refine lv_aload_n hx hb (pc := 95) dX0_fighter_95 rfl (lv_at hl 2 rfl) ?_
          refine lv_dup hx hb (pc := 96) dX0_fighter_96 rfl ?_
          refine L_get hC hX hL in_X0 (ci := 0) rfl (pc := 97) 0 hx1.T.2.2.1 1 (by decide) q149 rfl (v := .int (iI (Z1 0 1))) rfl dX0_fighter_97 ?_
          refine j_iconst hC (pc := 100) dX0_fighter_100 ?_
          refine j_iadd hC (pc := 101) dX0_fighter_101 ?_
          refine L_put hC hX hL in_X0 tyX0 tyX0_ok nmX0 (ci := 0) rfl (pc := 102) 0 hx1.T.2.2.1 1 (by decide) q149 rfl rfl rfl rfl (f := uI (Z1 0) 1 ((Z1 0 1) + 1)) (show 1 < 18 by decide) rfl dX0_fighter_102 (fun g H locs hX hL => ?_)
          refine lv_aload_n hx hb (pc := 105) dX0_fighter_105 rfl (lv_at hl 2 rfl) ?_
          refine L_get hC hX hL in_X0 (ci := 0) rfl (pc := 106) 0 hx1.T.2.2.1 1 (by decide) q149 rfl (v := .int (iI ((uI (Z1 0) 1 ((Z1 0 1) + 1)) 1))) rfl dX0_fighter_106 ?_
          refine j_eqi (b := (Z1 0 1) + 1) (by rfl) ?_
          refine j_iconst hC (pc := 109) dX0_fighter_109 ?_
          refine j_isub hC (pc := 110) dX0_fighter_110 ?_
          subst hQ
          exact j_iret hC (pc := 111) hX hr hlk (Nat.le_of_ble_eq_true rfl) (Nat.le_of_ble_eq_true rfl) dX0_fighter_111 ⟨_, _, ((hL.pm (sw_sw 100 (48 + (F 0).toNat))).pm (sw_sw 101 (32 + (F 0).toNat))), (by rw [fgt_ok hall, if_neg (by omega)]; exact ⟨by show _ = F 0; rw [← hxn.1]; rw [← e01_]; omega, (fun k hk => ((sk.of (sm.tr hsm1 (show sm S1 _ [1, 101] from (((sm.rf.uN 101 _ _ _ (by decide)).uA 101 _ (by decide)).uA 1 _ (by decide))) (ks := [1, 100, 101]) (by decide)) (ch.tr hch1 (show ch Z1 _ [0, 101] from ((ch.rf.up 101 _ (by decide)).up 0 _ (by decide))) (ks := [0, 100, 101]) (by decide)) (by simp; omega) (by simp; omega)).swp (by omega) (by omega)).swp (by omega) (by omega)), hx0.addX hI (by omega) (fun k q1 q2 q3 => sk.of (sm.tr hsm1 (show sm S1 _ [1, 101] from (((sm.rf.uN 101 _ _ _ (by decide)).uA 101 _ (by decide)).uA 1 _ (by decide))) (ks := [1, 100, 101]) (by decide)) (ch.tr hch1 (show ch Z1 _ [0, 101] from ((ch.rf.up 101 _ (by decide)).up 0 _ (by decide))) (ks := [0, 100, 101]) (by decide)) (by simp; omega) (by simp; omega)) ⟨hS0.1, hS0.2.1, hS0.2.2.1, hS0.2.2.2⟩ ⟨(uI_s (Z1 0) 1 (Z1 0 1 + 1)).trans (by rw [e01_, hxn.1]), fun j hj => (uI_n (Z1 0) (Z1 0 1 + 1) hj).trans (congrFun (hch1 0 (by decide)) j)⟩ ⟨hS1.1, hS1.2.1, hS1.2.2.1⟩ (fun k q1 q2 => (uI_n (zA S1 1) _ (show k ≠ Z1 0 1 by rw [e01_, hxn.1]; omega)).trans (congrFun hS1.2.2.2 k)) (by rw [← hxn.1, ← e01_]; exact uI_s (zA S1 1) (Z1 0 1) _) ⟨rfl, rfl⟩ hkn (f0 := fun _ => 0) hv1⟩)⟩
        · skip
          refine j_bipush hC (pc := 74) dX0_fighter_74 (by decide) ?_
          subst hQ
          exact j_iret hC (pc := 76) hX hr hlk (Nat.le_of_ble_eq_true rfl) (Nat.le_of_ble_eq_true rfl) dX0_fighter_76 ⟨_, _, hL, (by rw [fgt_ok hall, if_pos (by omega)]; exact ⟨rfl, fun k hk => sk.of hsm1 hch1 (by simp; omega) (by simp; omega), hx1⟩)⟩
      · skip
        refine lv_iload hx hb (pc := 43) dX0_fighter_43 (lv_at hl 0 rfl) ?_
        refine lv_aload hx hb (pc := 45) dX0_fighter_45 (lv_at hl 1 rfl) ?_
        refine lv_iload hx hb (pc := 47) dX0_fighter_47 (lv_at hl 0 rfl) ?_
        refine L_iald hC hX hL (pc := 49) 100 hkn.1 (L := 6) hkn.2 (by decide) (by omega) (z := Z1 100 i) rfl dX0_fighter_49 ?_
        refine j_calli (rest := []) hX (va_runS hC.fix (f0_isNumber D T N l i (Z1 100 i) (by omega) _ _) (va_cwS 2 hC.ts (lw_S q212 q213 q40 q214) rfl rfl rfl (by decide +kernel) ⟨Nat.le_of_ble_eq_true rfl, Nat.le_of_ble_eq_true rfl⟩) (j_preS hC hX _) rfl rfl hl.1 rfl (Nat.le_of_ble_eq_true rfl) dX0_fighter_50 ⟨(Nat.le_of_ble_eq_true rfl), (Nat.le_of_ble_eq_true rfl)⟩) (fun r6 g m7 H locs hp hle hX => ?_)
        obtain ⟨hn_, hg_, hp⟩ := hp
        rw [hn_, hg_] at hX
        have hq_r6 := numF_of hp
        refine j_if_ne hC (pc := 53) 59 dX0_fighter_53 (by decide) (by omega) (fun c8 => ?_) (fun c8 => ?_)
        · skip
          refine j_iinc hC (pc := 59) (lv' := [(8, .int (iI (i + 1))), (7, .ref (zB S1 100)), (0, .ref (zB S1 0)), (1, .int (iI (a0))), (2, .int (iI (a1))), (3, .int (iI (a2))), (4, .int (iI (a3))), (5, .int (iI (a4))), (6, .int (iI (a5)))]) dX0_fighter_59 hl (k := 0) rfl (by decide) rfl (fun ls hl => ?_)
          refine j_goto hC (pc := 62) 36 dX0_fighter_62 (by decide) ?_
          exact ih36 (i + 1) _ _ _ _ (by omega) (by omega) hsm1 hkn hch1 hv1 (fun q y1 y2 => by rcases (show q < i ∨ q = i by omega) with z | z; exact hnum q y1 z; rw [z, ← hv1]; omega) _ _ hX hL ls (lv_sub hl [0, 1, 2, 3, 4, 5, 6, 7, 8] rfl)
        · skip
          refine j_bipush hC (pc := 56) dX0_fighter_56 (by decide) ?_
          subst hQ
          exact j_iret hC (pc := 58) hX hr hlk (Nat.le_of_ble_eq_true rfl) (Nat.le_of_ble_eq_true rfl) dX0_fighter_58 ⟨_, _, hL, (by rw [fgt_bad (i := i) (by omega) (by rw [← hv1]; omega)]; exact ⟨rfl, fun k hk => sk.of hsm1 hch1 (by simp; omega) (by simp; omega), hx1⟩)⟩
  exact L36 ((6 - 0 : Int).toNat + 1) 0 _ _ _ _ (by omega) (by omega) (sm.rf.uN 100 _ _ _ (by decide)) ⟨rfl, rfl⟩ (((((((ch.rf.up 100 _ (by decide)).up 100 _ (by decide)).up 100 _ (by decide)).up 100 _ (by decide)).up 100 _ (by decide)).up 100 _ (by decide)).up 100 _ (by decide)) rfl (fun q y1 y2 => by omega) _ _ hX hL ls (lv_sub hl [0, 1, 2, 3, 4, 5, 6, 7, 8] rfl)
