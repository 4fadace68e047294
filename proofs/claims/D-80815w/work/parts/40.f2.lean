/-! FairFight: its tables -/
theorem tbR.abs {K W U : Int → Int} {m : Int} {N : List (Int × Int)} (h : tbR K W U m N) {c : Int} {d : Nat} (ha : prA K W c d) (h0 : W (prb (hsF c) d) = 0) : ∀ x ∈ N, x.1 ≠ c := by
  obtain ⟨-, -, -, t, h1, h2, h3, h4⟩ := h
  have pr := fun e : Nat => prb_rg (hsF c) e
  refine h1.absent (d := d) ((h2 _ (pr d).1 (pr d).2).mpr h0) (fun e he => ?_)
  have h5 : t (prb (hsF c) e) ≠ 0 := fun z => (ha e he).1 ((h2 _ (pr e).1 (pr e).2).mp z)
  refine ⟨h5, fun x hx => ?_⟩
  have h6 := h1.1 _ (pr e).1 (pr e).2
  have h7 := h3 _ _ hx
  rw [Int.toNat_of_nonneg (by omega), h4 _ (pr e).1 (pr e).2 h5] at h7
  rw [← h7.2.2.1]
  exact (ha e he).2

set_option maxHeartbeats 4000000 in
set_option maxRecDepth 100000 in
theorem t5_clear (D : va_G) (T N : Nat → Nat) (l : Launch) {g0 : GH} {S : LbS} {Z : Nat → Int → Int} (hL : lR T g0 S Z) (n : Nat) (N0 : List (Int × Int)) (ht : tS 5 S) (hN : tZ 5 Z N0) : Met l yX1_clear (ws_ yX1_clear cX1_clear 2 none) ({ frames := 0, cells := 0, slots := 0, locals := 0 } : Room) (gPc D T N [.ref (zB S 5)] g0 n) (gQv D g0 n (fun g' n' => n' = n ∧ ∃ Z', lR T g' S Z' ∧ ch Z Z' [5, 7] ∧ tZ 5 Z' [])) 0 0 (gA g0 n) := by
  refine j_start (by decide) (Nat.le_of_ble_eq_true rfl) ?_
  intro p e s mi args below meth c hC hr hlk hnm hX ls hl
  have hC : Ct D T N (gA g0 n) p s mi args c cX1_clear RX1 2 := hC
  have hx := hC.x
  have hb := hC.b
  generalize hQ : MQ below _ args s 0 0 (gA g0 n) = Q
  have hl : lv_has ls 2 [(0, .ref (zB S 5))] := hl
  have hsh := ht.1
  have hlen := hN.len
  refine j_iconst hC (pc := 0) dX1_clear_0 ?_
  refine lv_istore_n (lv' := [(1, .int (iI (0))), (0, .ref (zB S 5))]) hx hb (pc := 1) dX1_clear_1 rfl hl (by decide) rfl (fun ls hl => ?_)
  have L2 : ∀ (fu : Nat) (i : Int) (g : GH) (Z1 : Nat → Int → Int), 402 - i < (fu : Int) → (0 ≤ i ∧ i ≤ Z 5 3) → (ch Z Z1 [7]) → (∀ q : Int, 0 ≤ q → q < 2048 → Z1 7 q = 0 ∨ (Z1 7 q = Z 7 q ∧ ∀ j : Int, 0 ≤ j → j < i → Z 8 j ≠ q)) → ∀ (H : Heap) (locs : List Loc), Wd D (gA g0 n) s g n H locs → lR T g S Z1 → ∀ (ls : Array Slot), lv_has ls 2 [(1, .int (iI (i))), (0, .ref (zB S 5))] → W p l e ({ frames := 0, cells := 0, slots := 0, locals := 0 } : Room) s mi args below meth c H locs 0 0 Q (F0 mi 2 ls []) := by
    intro fu
    induction fu with
    | zero =>
      intro i g Z1 hfu hi hc hd H locs hX hL ls hl
      exfalso
      omega
    | succ fu ih2 =>
      intro i g Z1 hfu hi hc hd H locs hX hL ls hl
      have e0 : Z1 5 3 = Z 5 3 := by rw [hc 5 (by decide)]
      have e3 : Z1 8 = Z 8 := hc 8 (by decide)
      refine lv_iload_n hx hb (pc := 2) dX1_clear_2 rfl (lv_at hl 0 rfl) ?_
      refine lv_aload_n hx hb (pc := 3) dX1_clear_3 rfl (lv_at hl 1 rfl) ?_
      refine L_get hC hX hL in_X1 (ci := 1) rfl (pc := 4) 5 (hsh.k 5 rfl) 3 (by decide) q92 rfl (v := .int (iI (Z1 5 3))) rfl dX1_clear_4 ?_
      refine j_icmp_ge hC (pc := 7) 28 dX1_clear_7 (by decide) (by omega) (fun c1 => ?_) (fun c1 => ?_)
      · skip
        refine lv_aload_n hx hb (pc := 28) dX1_clear_28 rfl (lv_at hl 1 rfl) ?_
        refine j_iconst hC (pc := 29) dX1_clear_29 ?_
        refine L_put hC hX hL in_X1 tyX1 tyX1_ok nmX1 (ci := 1) rfl (pc := 30) 5 (hsh.k 5 rfl) 3 (by decide) q92 rfl rfl rfl rfl (f := uI (Z1 5) 3 0) (show 3 < 4 by decide) rfl dX1_clear_30 (fun g H locs hX hL => ?_)
        subst hQ
        exact j_vret hC (pc := 33) hX hr hlk (Nat.le_of_ble_eq_true rfl) (Nat.le_of_ble_eq_true rfl) dX1_clear_33 ⟨rfl, _, hL, ⟨ch.tr hc ((ch.rf (f := Z1)).up 5 _ (show 5 ∈ [5, 7] by decide)) (by decide), by show tbR _ (Z1 7) _ (uI (Z1 5) 3 0 3) []; rw [uI_s]; exact tbR.nil fun q h1 h2 => by rcases hd q h1 h2 with z | ⟨z1, z2⟩; exact z; rw [z1]; rcases Decidable.em (Z 7 q = 0) with y | y; exact y; obtain ⟨j, hj1, hj2⟩ := hN.of ⟨h1, h2⟩ y; exact absurd hj2 (z2 j hj1.1 (by omega))⟩⟩
      · skip
        obtain ⟨x_, hx1, hx2, hx3, -⟩ := hN.at (i := i) (by omega)
        refine lv_aload_n hx hb (pc := 10) dX1_clear_10 rfl (lv_at hl 1 rfl) ?_
        refine L_getr hC hX hL in_X1 (ci := 1) rfl (pc := 11) 5 (hsh.k 5 rfl) 1 (by decide) q88 rfl (q := zA S 5 1) (b := zB S 7) ht.2.2.1 rfl dX1_clear_11 ?_
        refine lv_aload_n hx hb (pc := 14) dX1_clear_14 rfl (lv_at hl 1 rfl) ?_
        refine L_getr hC hX hL in_X1 (ci := 1) rfl (pc := 15) 5 (hsh.k 5 rfl) 2 (by decide) q90 rfl (q := zA S 5 2) (b := zB S 8) ht.2.2.2 rfl dX1_clear_15 ?_
        refine lv_iload_n hx hb (pc := 18) dX1_clear_18 rfl (lv_at hl 0 rfl) ?_
        refine L_iald hC hX hL (pc := 19) 8 (hsh.k 8 rfl) (L := 402) (hsh.n 8 rfl) (by decide) (by omega) (z := Z1 8 i) rfl dX1_clear_19 ?_
        refine j_eqi (b := Z 8 i) (by rw [e3]) ?_
        refine j_lconst hC (pc := 20) (w := 0) dX1_clear_20 rfl ?_
        refine L_last hC hX hL (pc := 21) 7 (hsh.k 7 rfl) (L := 2048) (hsh.n 7 rfl) (by decide) (by omega) (f := uI (Z1 7) (Z 8 i) 0) rfl dX1_clear_21 (fun g H locs hX hL => ?_)
        refine j_iinc hC (pc := 22) (lv' := [(1, .int (iI (i + 1))), (0, .ref (zB S 5))]) dX1_clear_22 hl (k := 0) rfl (by decide) rfl (fun ls hl => ?_)
        refine j_goto hC (pc := 25) 2 dX1_clear_25 (by decide) ?_
        exact ih2 (i + 1) _ _ (by omega) (by omega) (hc.up 7 _ (by decide)) (fun q h1 h2 => by show uI (Z1 7) (Z 8 i) 0 q = 0 ∨ (uI (Z1 7) (Z 8 i) 0 q = _ ∧ _); unfold uI; split; exact Or.inl rfl; rename_i hq; rcases hd q h1 h2 with z | ⟨z1, z2⟩; exact Or.inl z; exact Or.inr ⟨z1, fun j h3 h4 => by rcases Decidable.em (j = i) with y | y; rw [y]; exact fun w => hq w.symm; exact z2 j h3 (by omega)⟩) _ _ hX hL ls (lv_sub hl [0, 1] rfl)
  exact L2 ((402 - 0 : Int).toNat + 1) 0 _ _ (by omega) (by omega) ch.rf (fun q h1 h2 => Or.inr ⟨rfl, fun j h3 h4 => by omega⟩) _ _ hX hL ls (lv_sub hl [0, 1] rfl)

set_option maxHeartbeats 4000000 in
set_option maxRecDepth 100000 in
theorem t5_add (D : va_G) (T N : Nat → Nat) (l : Launch) {g0 : GH} {S : LbS} {Z : Nat → Int → Int} (hL : lR T g0 S Z) (n : Nat) (N0 : List (Int × Int)) (c_ n_ : Int) (ht : tS 5 S) (hN : tZ 5 Z N0) (hc_ : 0 ≤ c_ ∧ c_ < 68719476736) (hn_0 : 0 < n_ ∧ n_ ≤ 9223372036854775807) (hb_0 : ∀ x ∈ N0, x.2 + n_ ≤ 9223372036854775807) : Met l yX1_add (ws_ yX1_add cX1_add 6 (some .boolean)) ({ frames := 0, cells := 0, slots := 0, locals := 0 } : Room) (gPc D T N [.ref (zB S 5), .long (lI (c_)), .long (lI (n_))] g0 n) (gQi D g0 n (fun r g' n' => n' = n ∧ ∃ Z', lR T g' S Z' ∧ ch Z Z' [5, 6, 7, 8] ∧ ((r = 1 ∧ tZ 5 Z' (insN N0 c_ n_)) ∨ (r = 0 ∧ Z' = Z ∧ 400 < (insN N0 c_ n_).length)))) 0 0 (gA g0 n) := by
  refine j_start (by decide) (Nat.le_of_ble_eq_true rfl) ?_
  intro p e s mi args below meth c hC hr hlk hnm hX ls hl
  have hC : Ct D T N (gA g0 n) p s mi args c cX1_add RX1 6 := hC
  have hx := hC.x
  have hb := hC.b
  generalize hQ : MQ below _ args s 0 0 (gA g0 n) = Q
  have hl : lv_has ls 6 [(0, .ref (zB S 5)), (1, .long (lI (c_))), (3, .long (lI (n_)))] := hl
  have hsh := ht.1
  have hlen := hN.len
  refine lv_lload_n hx hb (pc := 0) dX1_add_0 rfl (lv_at hl 1 rfl) ?_
  refine lv_lload_n hx hb (pc := 1) dX1_add_1 rfl (lv_at hl 1 rfl) ?_
  refine j_bipush hC (pc := 2) dX1_add_2 (by decide) ?_
  refine lv_lushr hx hb (pc := 4) dX1_add_4 rfl ?_
  refine lv_lxor hx hb (pc := 5) dX1_add_5 ?_
  refine lv_lload_n hx hb (pc := 6) dX1_add_6 rfl (lv_at hl 1 rfl) ?_
  refine j_bipush hC (pc := 7) dX1_add_7 (by decide) ?_
  refine lv_lushr hx hb (pc := 9) dX1_add_9 rfl ?_
  refine lv_lxor hx hb (pc := 10) dX1_add_10 ?_
  refine j_ldc2 hC (pc := 11) (z := 2047) q387 dX1_add_11 rfl ?_
  refine j_land2047m hC (pc := 14) dX1_add_14 ?_
  refine j_eql (b := hsF c_) rfl ?_
  refine j_l2i hC (pc := 15) dX1_add_15 ?_
  refine j_eqi (b := prb (hsF c_) ((0 : Nat) : Int)) (prb_0 (hsF_rg c_)).symm ?_
  refine lv_istore (lv' := [(5, .int (iI (prb (hsF c_) ((0 : Nat) : Int)))), (0, .ref (zB S 5)), (1, .long (lI (c_))), (3, .long (lI (n_)))]) hx hb (pc := 16) dX1_add_16 hl (by decide) rfl (fun ls hl => ?_)
  have L18 : ∀ (fu : Nat) (d : Nat) (g : GH), 2048 - (d : Int) < (fu : Int) → (d < 2048) → (prA (Z 6) (Z 7) c_ d) → ∀ (H : Heap) (locs : List Loc), Wd D (gA g0 n) s g n H locs → lR T g S Z → ∀ (ls : Array Slot), lv_has ls 6 [(5, .int (iI (prb (hsF c_) d))), (0, .ref (zB S 5)), (1, .long (lI (c_))), (3, .long (lI (n_)))] → W p l e ({ frames := 0, cells := 0, slots := 0, locals := 0 } : Room) s mi args below meth c H locs 0 0 Q (F0 mi 18 ls []) := by
    intro fu
    induction fu with
    | zero =>
      intro d g hfu hd ha H locs hX hL ls hl
      exfalso
      omega
    | succ fu ih18 =>
      intro d g hfu hd ha H locs hX hL ls hl
      have hp_ := prb_rg (hsF c_) d
      have hwr : Z 7 (prb (hsF c_) d) = 0 ∨ (0 < Z 7 (prb (hsF c_) d) ∧ Z 7 (prb (hsF c_) d) ≤ 9223372036854775807 ∧ 0 ≤ Z 6 (prb (hsF c_) d) ∧ Z 6 (prb (hsF c_) d) < 68719476736) := by rcases Decidable.em (Z 7 (prb (hsF c_) d) = 0) with y | y; exact Or.inl y; obtain ⟨j, hj1, hj2⟩ := hN.of hp_ y; obtain ⟨x, hx1, hx2, hx3, hx4, hx5⟩ := hN.at hj1; rw [hj2] at hx4 hx5; have := hN.2.2.1 x hx2; rw [hx4, hx5]; exact Or.inr ⟨this.2.1, this.2.2, this.1⟩
      refine lv_aload_n hx hb (pc := 18) dX1_add_18 rfl (lv_at hl 1 rfl) ?_
      refine L_getr hC hX hL in_X1 (ci := 1) rfl (pc := 19) 5 (hsh.k 5 rfl) 1 (by decide) q88 rfl (q := zA S 5 1) (b := zB S 7) ht.2.2.1 rfl dX1_add_19 ?_
      refine lv_iload hx hb (pc := 22) dX1_add_22 (lv_at hl 0 rfl) ?_
      refine L_lald hC hX hL (pc := 24) 7 (hsh.k 7 rfl) (L := 2048) (hsh.n 7 rfl) (by decide) (by omega) (z := Z 7 (prb (hsF c_) d)) rfl dX1_add_24 ?_
      refine j_lconst hC (pc := 25) (w := 0) dX1_add_25 rfl ?_
      refine j_lcmp hC (pc := 26) dX1_add_26 (by omega) (fun z2 h1 => ?_)
      refine j_if_eq hC (pc := 27) 55 dX1_add_27 (by decide) (by omega) (fun c3 => ?_) (fun c3 => ?_)
      · skip
        refine lv_aload_n hx hb (pc := 55) dX1_add_55 rfl (lv_at hl 1 rfl) ?_
        refine L_getr hC hX hL in_X1 (ci := 1) rfl (pc := 56) 5 (hsh.k 5 rfl) 1 (by decide) q88 rfl (q := zA S 5 1) (b := zB S 7) ht.2.2.1 rfl dX1_add_56 ?_
        refine lv_iload hx hb (pc := 59) dX1_add_59 (lv_at hl 0 rfl) ?_
        refine L_lald hC hX hL (pc := 61) 7 (hsh.k 7 rfl) (L := 2048) (hsh.n 7 rfl) (by decide) (by omega) (z := Z 7 (prb (hsF c_) d)) rfl dX1_add_61 ?_
        refine j_lconst hC (pc := 62) (w := 0) dX1_add_62 rfl ?_
        refine j_lcmp hC (pc := 63) dX1_add_63 (by omega) (fun z5 h4 => ?_)
        refine j_if_ne hC (pc := 64) 108 dX1_add_64 (by decide) (by omega) (fun c6 => ?_) (fun c6 => ?_)
        · skip
          exfalso; omega
        · skip
          refine lv_aload_n hx hb (pc := 67) dX1_add_67 rfl (lv_at hl 1 rfl) ?_
          refine L_get hC hX hL in_X1 (ci := 1) rfl (pc := 68) 5 (hsh.k 5 rfl) 3 (by decide) q92 rfl (v := .int (iI (Z 5 3))) rfl dX1_add_68 ?_
          refine j_sipush hC (pc := 71) dX1_add_71 (by decide) ?_
          refine j_icmp_le hC (pc := 74) 79 dX1_add_74 (by decide) (by omega) (fun c7 => ?_) (fun c7 => ?_)
          · skip
            refine lv_aload_n hx hb (pc := 79) dX1_add_79 rfl (lv_at hl 1 rfl) ?_
            refine L_getr hC hX hL in_X1 (ci := 1) rfl (pc := 80) 5 (hsh.k 5 rfl) 0 (by decide) q86 rfl (q := zA S 5 0) (b := zB S 6) ht.2.1 rfl dX1_add_80 ?_
            refine lv_iload hx hb (pc := 83) dX1_add_83 (lv_at hl 0 rfl) ?_
            refine lv_lload_n hx hb (pc := 85) dX1_add_85 rfl (lv_at hl 2 rfl) ?_
            refine L_last hC hX hL (pc := 86) 6 (hsh.k 6 rfl) (L := 2048) (hsh.n 6 rfl) (by decide) (by omega) (f := uI (Z 6) (prb (hsF c_) d) c_) rfl dX1_add_86 (fun g H locs hX hL => ?_)
            refine lv_aload_n hx hb (pc := 87) dX1_add_87 rfl (lv_at hl 1 rfl) ?_
            refine L_getr hC hX hL in_X1 (ci := 1) rfl (pc := 88) 5 (hsh.k 5 rfl) 2 (by decide) q90 rfl (q := zA S 5 2) (b := zB S 8) ht.2.2.2 rfl dX1_add_88 ?_
            refine lv_aload_n hx hb (pc := 91) dX1_add_91 rfl (lv_at hl 1 rfl) ?_
            refine L_get hC hX hL in_X1 (ci := 1) rfl (pc := 92) 5 (hsh.k 5 rfl) 3 (by decide) q92 rfl (v := .int (iI (Z 5 3))) rfl dX1_add_92 ?_
            refine lv_iload hx hb (pc := 95) dX1_add_95 (lv_at hl 0 rfl) ?_
            refine L_iast hC hX hL (pc := 97) 8 (hsh.k 8 rfl) (L := 402) (hsh.n 8 rfl) (by decide) (by omega) (f := uI (Z 8) (Z 5 3) (prb (hsF c_) d)) rfl dX1_add_97 (fun g H locs hX hL => ?_)
            refine lv_aload_n hx hb (pc := 98) dX1_add_98 rfl (lv_at hl 1 rfl) ?_
            refine lv_dup hx hb (pc := 99) dX1_add_99 rfl ?_
            refine L_get hC hX hL in_X1 (ci := 1) rfl (pc := 100) 5 (hsh.k 5 rfl) 3 (by decide) q92 rfl (v := .int (iI (Z 5 3))) rfl dX1_add_100 ?_
            refine j_iconst hC (pc := 103) dX1_add_103 ?_
            refine j_iadd hC (pc := 104) dX1_add_104 ?_
            refine L_put hC hX hL in_X1 tyX1 tyX1_ok nmX1 (ci := 1) rfl (pc := 105) 5 (hsh.k 5 rfl) 3 (by decide) q92 rfl rfl rfl rfl (f := uI (Z 5) 3 ((Z 5 3) + 1)) (show 3 < 4 by decide) rfl dX1_add_105 (fun g H locs hX hL => ?_)
            refine lv_aload_n hx hb (pc := 108) dX1_add_108 rfl (lv_at hl 1 rfl) ?_
            refine L_getr hC hX hL in_X1 (ci := 1) rfl (pc := 109) 5 (hsh.k 5 rfl) 1 (by decide) q88 rfl (q := zA S 5 1) (b := zB S 7) ht.2.2.1 rfl dX1_add_109 ?_
            refine lv_iload hx hb (pc := 112) dX1_add_112 (lv_at hl 0 rfl) ?_
            refine lv_dup2_11 hx hb (pc := 114) dX1_add_114 rfl rfl ?_
            refine L_lald hC hX hL (pc := 115) 7 (hsh.k 7 rfl) (L := 2048) (hsh.n 7 rfl) (by decide) (by omega) (z := Z 7 (prb (hsF c_) d)) rfl dX1_add_115 ?_
            refine lv_lload_n hx hb (pc := 116) dX1_add_116 rfl (lv_at hl 3 rfl) ?_
            refine j_ladd hC (pc := 117) dX1_add_117 ?_
            refine L_last hC hX hL (pc := 118) 7 (hsh.k 7 rfl) (L := 2048) (hsh.n 7 rfl) (by decide) (by omega) (f := uI (Z 7) (prb (hsF c_) d) ((Z 7 (prb (hsF c_) d)) + n_)) rfl dX1_add_118 (fun g H locs hX hL => ?_)
            refine j_iconst hC (pc := 119) dX1_add_119 ?_
            subst hQ
            exact j_zret hC (pc := 120) hX hr hlk (Nat.le_of_ble_eq_true rfl) (Nat.le_of_ble_eq_true rfl) dX1_add_120 (by omega) ⟨rfl, _, hL, ⟨(((ch.rf.up 6 _ (by decide)).up 8 _ (by decide)).up 5 _ (by decide)).up 7 _ (by decide), Or.inl ⟨rfl, by show tbR (uI (Z 6) (prb (hsF c_) d) c_) (uI (Z 7) (prb (hsF c_) d) (Z 7 (prb (hsF c_) d) + n_)) (uI (Z 8) (Z 5 3) (prb (hsF c_) d)) (uI (Z 5) 3 (Z 5 3 + 1) 3) _; rw [uI_s, show Z 7 (prb (hsF c_) d) = 0 by omega, Int.zero_add]; exact hN.new hc_ hn_0 hd ha (show Z 7 (prb (hsF c_) d) = 0 by omega) (by omega)⟩⟩⟩
          · skip
            refine j_iconst hC (pc := 77) dX1_add_77 ?_
            subst hQ
            exact j_zret hC (pc := 78) hX hr hlk (Nat.le_of_ble_eq_true rfl) (Nat.le_of_ble_eq_true rfl) dX1_add_78 (by omega) ⟨rfl, _, hL, ⟨ch.rf, Or.inr ⟨rfl, rfl, by rw [insN_new (hN.abs ha (show Z 7 (prb (hsF c_) d) = 0 by omega)), List.length_append, List.length_singleton]; omega⟩⟩⟩
      · skip
        refine lv_aload_n hx hb (pc := 30) dX1_add_30 rfl (lv_at hl 1 rfl) ?_
        refine L_getr hC hX hL in_X1 (ci := 1) rfl (pc := 31) 5 (hsh.k 5 rfl) 0 (by decide) q86 rfl (q := zA S 5 0) (b := zB S 6) ht.2.1 rfl dX1_add_31 ?_
        refine lv_iload hx hb (pc := 34) dX1_add_34 (lv_at hl 0 rfl) ?_
        refine L_lald hC hX hL (pc := 36) 6 (hsh.k 6 rfl) (L := 2048) (hsh.n 6 rfl) (by decide) (by omega) (z := Z 6 (prb (hsF c_) d)) rfl dX1_add_36 ?_
        refine lv_lload_n hx hb (pc := 37) dX1_add_37 rfl (lv_at hl 2 rfl) ?_
        refine j_lcmp hC (pc := 38) dX1_add_38 (by omega) (fun z9 h8 => ?_)
        refine j_if_eq hC (pc := 39) 55 dX1_add_39 (by decide) (by omega) (fun c10 => ?_) (fun c10 => ?_)
        · skip
          refine lv_aload_n hx hb (pc := 55) dX1_add_55 rfl (lv_at hl 1 rfl) ?_
          refine L_getr hC hX hL in_X1 (ci := 1) rfl (pc := 56) 5 (hsh.k 5 rfl) 1 (by decide) q88 rfl (q := zA S 5 1) (b := zB S 7) ht.2.2.1 rfl dX1_add_56 ?_
          refine lv_iload hx hb (pc := 59) dX1_add_59 (lv_at hl 0 rfl) ?_
          refine L_lald hC hX hL (pc := 61) 7 (hsh.k 7 rfl) (L := 2048) (hsh.n 7 rfl) (by decide) (by omega) (z := Z 7 (prb (hsF c_) d)) rfl dX1_add_61 ?_
          refine j_lconst hC (pc := 62) (w := 0) dX1_add_62 rfl ?_
          refine j_lcmp hC (pc := 63) dX1_add_63 (by omega) (fun z12 h11 => ?_)
          refine j_if_ne hC (pc := 64) 108 dX1_add_64 (by decide) (by omega) (fun c13 => ?_) (fun c13 => ?_)
          · skip
            refine lv_aload_n hx hb (pc := 108) dX1_add_108 rfl (lv_at hl 1 rfl) ?_
            refine L_getr hC hX hL in_X1 (ci := 1) rfl (pc := 109) 5 (hsh.k 5 rfl) 1 (by decide) q88 rfl (q := zA S 5 1) (b := zB S 7) ht.2.2.1 rfl dX1_add_109 ?_
            refine lv_iload hx hb (pc := 112) dX1_add_112 (lv_at hl 0 rfl) ?_
            refine lv_dup2_11 hx hb (pc := 114) dX1_add_114 rfl rfl ?_
            refine L_lald hC hX hL (pc := 115) 7 (hsh.k 7 rfl) (L := 2048) (hsh.n 7 rfl) (by decide) (by omega) (z := Z 7 (prb (hsF c_) d)) rfl dX1_add_115 ?_
            refine lv_lload_n hx hb (pc := 116) dX1_add_116 rfl (lv_at hl 3 rfl) ?_
            refine j_ladd hC (pc := 117) dX1_add_117 ?_
            refine L_last hC hX hL (pc := 118) 7 (hsh.k 7 rfl) (L := 2048) (hsh.n 7 rfl) (by decide) (by omega) (f := uI (Z 7) (prb (hsF c_) d) ((Z 7 (prb (hsF c_) d)) + n_)) rfl dX1_add_118 (fun g H locs hX hL => ?_)
            refine j_iconst hC (pc := 119) dX1_add_119 ?_
            subst hQ
            exact j_zret hC (pc := 120) hX hr hlk (Nat.le_of_ble_eq_true rfl) (Nat.le_of_ble_eq_true rfl) dX1_add_120 (by omega) ⟨rfl, _, hL, ⟨ch.rf.up 7 _ (by decide), Or.inl ⟨rfl, by show tbR _ (uI (Z 7) (prb (hsF c_) d) (Z 7 (prb (hsF c_) d) + n_)) _ _ _; exact hN.old hp_ (show ¬ Z 7 (prb (hsF c_) d) = 0 by omega) (show Z 6 (prb (hsF c_) d) = c_ by omega) hn_0.1 hb_0⟩⟩⟩
          · skip
            exfalso; omega
        · skip
          refine lv_iload hx hb (pc := 42) dX1_add_42 (lv_at hl 0 rfl) ?_
          refine j_iconst hC (pc := 44) dX1_add_44 ?_
          refine j_iadd hC (pc := 45) dX1_add_45 ?_
          refine j_sipush hC (pc := 46) dX1_add_46 (by decide) ?_
          refine j_iand2047 hC (pc := 49) dX1_add_49 (by omega) ?_
          refine j_eqi (b := prb (hsF c_) ((d + 1 : Nat) : Int)) (by unfold prb; omega) ?_
          refine lv_istore (lv' := [(5, .int (iI (prb (hsF c_) ((d + 1 : Nat) : Int)))), (0, .ref (zB S 5)), (1, .long (lI (c_))), (3, .long (lI (n_)))]) hx hb (pc := 50) dX1_add_50 hl (by decide) rfl (fun ls hl => ?_)
          refine j_goto hC (pc := 52) 18 dX1_add_52 (by decide) ?_
          have hmo : prA (Z 6) (Z 7) c_ (d + 1) := fun e he => by rcases Nat.lt_or_ge e d with q | q; exact ha e q; rw [show e = d by omega]; exact ⟨by omega, by omega⟩
          exact ih18 (d + 1) _ (by omega) (hN.more hd hmo) hmo _ _ hX hL ls (lv_sub hl [0, 1, 2, 3] rfl)
  exact L18 2049 0 _ (by omega) (by decide) (fun e he => absurd he (Nat.not_lt_zero e)) _ _ hX hL ls (lv_sub hl [0, 1, 2, 3] rfl)

set_option maxHeartbeats 4000000 in
set_option maxRecDepth 100000 in
theorem t9_clear (D : va_G) (T N : Nat → Nat) (l : Launch) {g0 : GH} {S : LbS} {Z : Nat → Int → Int} (hL : lR T g0 S Z) (n : Nat) (N0 : List (Int × Int)) (ht : tS 9 S) (hN : tZ 9 Z N0) : Met l yX1_clear (ws_ yX1_clear cX1_clear 2 none) ({ frames := 0, cells := 0, slots := 0, locals := 0 } : Room) (gPc D T N [.ref (zB S 9)] g0 n) (gQv D g0 n (fun g' n' => n' = n ∧ ∃ Z', lR T g' S Z' ∧ ch Z Z' [9, 11] ∧ tZ 9 Z' [])) 0 0 (gA g0 n) := by
  refine j_start (by decide) (Nat.le_of_ble_eq_true rfl) ?_
  intro p e s mi args below meth c hC hr hlk hnm hX ls hl
  have hC : Ct D T N (gA g0 n) p s mi args c cX1_clear RX1 2 := hC
  have hx := hC.x
  have hb := hC.b
  generalize hQ : MQ below _ args s 0 0 (gA g0 n) = Q
  have hl : lv_has ls 2 [(0, .ref (zB S 9))] := hl
  have hsh := ht.1
  have hlen := hN.len
  refine j_iconst hC (pc := 0) dX1_clear_0 ?_
  refine lv_istore_n (lv' := [(1, .int (iI (0))), (0, .ref (zB S 9))]) hx hb (pc := 1) dX1_clear_1 rfl hl (by decide) rfl (fun ls hl => ?_)
  have L2 : ∀ (fu : Nat) (i : Int) (g : GH) (Z1 : Nat → Int → Int), 402 - i < (fu : Int) → (0 ≤ i ∧ i ≤ Z 9 3) → (ch Z Z1 [11]) → (∀ q : Int, 0 ≤ q → q < 2048 → Z1 11 q = 0 ∨ (Z1 11 q = Z 11 q ∧ ∀ j : Int, 0 ≤ j → j < i → Z 12 j ≠ q)) → ∀ (H : Heap) (locs : List Loc), Wd D (gA g0 n) s g n H locs → lR T g S Z1 → ∀ (ls : Array Slot), lv_has ls 2 [(1, .int (iI (i))), (0, .ref (zB S 9))] → W p l e ({ frames := 0, cells := 0, slots := 0, locals := 0 } : Room) s mi args below meth c H locs 0 0 Q (F0 mi 2 ls []) := by
    intro fu
    induction fu with
    | zero =>
      intro i g Z1 hfu hi hc hd H locs hX hL ls hl
      exfalso
      omega
    | succ fu ih2 =>
      intro i g Z1 hfu hi hc hd H locs hX hL ls hl
      have e0 : Z1 9 3 = Z 9 3 := by rw [hc 9 (by decide)]
      have e3 : Z1 12 = Z 12 := hc 12 (by decide)
      refine lv_iload_n hx hb (pc := 2) dX1_clear_2 rfl (lv_at hl 0 rfl) ?_
      refine lv_aload_n hx hb (pc := 3) dX1_clear_3 rfl (lv_at hl 1 rfl) ?_
      refine L_get hC hX hL in_X1 (ci := 1) rfl (pc := 4) 9 (hsh.k 9 rfl) 3 (by decide) q92 rfl (v := .int (iI (Z1 9 3))) rfl dX1_clear_4 ?_
      refine j_icmp_ge hC (pc := 7) 28 dX1_clear_7 (by decide) (by omega) (fun c1 => ?_) (fun c1 => ?_)
      · skip
        refine lv_aload_n hx hb (pc := 28) dX1_clear_28 rfl (lv_at hl 1 rfl) ?_
        refine j_iconst hC (pc := 29) dX1_clear_29 ?_
        refine L_put hC hX hL in_X1 tyX1 tyX1_ok nmX1 (ci := 1) rfl (pc := 30) 9 (hsh.k 9 rfl) 3 (by decide) q92 rfl rfl rfl rfl (f := uI (Z1 9) 3 0) (show 3 < 4 by decide) rfl dX1_clear_30 (fun g H locs hX hL => ?_)
        subst hQ
        exact j_vret hC (pc := 33) hX hr hlk (Nat.le_of_ble_eq_true rfl) (Nat.le_of_ble_eq_true rfl) dX1_clear_33 ⟨rfl, _, hL, ⟨ch.tr hc ((ch.rf (f := Z1)).up 9 _ (show 9 ∈ [9, 11] by decide)) (by decide), by show tbR _ (Z1 11) _ (uI (Z1 9) 3 0 3) []; rw [uI_s]; exact tbR.nil fun q h1 h2 => by rcases hd q h1 h2 with z | ⟨z1, z2⟩; exact z; rw [z1]; rcases Decidable.em (Z 11 q = 0) with y | y; exact y; obtain ⟨j, hj1, hj2⟩ := hN.of ⟨h1, h2⟩ y; exact absurd hj2 (z2 j hj1.1 (by omega))⟩⟩
      · skip
        obtain ⟨x_, hx1, hx2, hx3, -⟩ := hN.at (i := i) (by omega)
        refine lv_aload_n hx hb (pc := 10) dX1_clear_10 rfl (lv_at hl 1 rfl) ?_
        refine L_getr hC hX hL in_X1 (ci := 1) rfl (pc := 11) 9 (hsh.k 9 rfl) 1 (by decide) q88 rfl (q := zA S 9 1) (b := zB S 11) ht.2.2.1 rfl dX1_clear_11 ?_
        refine lv_aload_n hx hb (pc := 14) dX1_clear_14 rfl (lv_at hl 1 rfl) ?_
        refine L_getr hC hX hL in_X1 (ci := 1) rfl (pc := 15) 9 (hsh.k 9 rfl) 2 (by decide) q90 rfl (q := zA S 9 2) (b := zB S 12) ht.2.2.2 rfl dX1_clear_15 ?_
        refine lv_iload_n hx hb (pc := 18) dX1_clear_18 rfl (lv_at hl 0 rfl) ?_
        refine L_iald hC hX hL (pc := 19) 12 (hsh.k 12 rfl) (L := 402) (hsh.n 12 rfl) (by decide) (by omega) (z := Z1 12 i) rfl dX1_clear_19 ?_
        refine j_eqi (b := Z 12 i) (by rw [e3]) ?_
        refine j_lconst hC (pc := 20) (w := 0) dX1_clear_20 rfl ?_
        refine L_last hC hX hL (pc := 21) 11 (hsh.k 11 rfl) (L := 2048) (hsh.n 11 rfl) (by decide) (by omega) (f := uI (Z1 11) (Z 12 i) 0) rfl dX1_clear_21 (fun g H locs hX hL => ?_)
        refine j_iinc hC (pc := 22) (lv' := [(1, .int (iI (i + 1))), (0, .ref (zB S 9))]) dX1_clear_22 hl (k := 0) rfl (by decide) rfl (fun ls hl => ?_)
        refine j_goto hC (pc := 25) 2 dX1_clear_25 (by decide) ?_
        exact ih2 (i + 1) _ _ (by omega) (by omega) (hc.up 11 _ (by decide)) (fun q h1 h2 => by show uI (Z1 11) (Z 12 i) 0 q = 0 ∨ (uI (Z1 11) (Z 12 i) 0 q = _ ∧ _); unfold uI; split; exact Or.inl rfl; rename_i hq; rcases hd q h1 h2 with z | ⟨z1, z2⟩; exact Or.inl z; exact Or.inr ⟨z1, fun j h3 h4 => by rcases Decidable.em (j = i) with y | y; rw [y]; exact fun w => hq w.symm; exact z2 j h3 (by omega)⟩) _ _ hX hL ls (lv_sub hl [0, 1] rfl)
  exact L2 ((402 - 0 : Int).toNat + 1) 0 _ _ (by omega) (by omega) ch.rf (fun q h1 h2 => Or.inr ⟨rfl, fun j h3 h4 => by omega⟩) _ _ hX hL ls (lv_sub hl [0, 1] rfl)

set_option maxHeartbeats 4000000 in
set_option maxRecDepth 100000 in
theorem t9_add (D : va_G) (T N : Nat → Nat) (l : Launch) {g0 : GH} {S : LbS} {Z : Nat → Int → Int} (hL : lR T g0 S Z) (n : Nat) (N0 : List (Int × Int)) (c_ n_ : Int) (ht : tS 9 S) (hN : tZ 9 Z N0) (hc_ : 0 ≤ c_ ∧ c_ < 68719476736) (hn_0 : 0 < n_ ∧ n_ ≤ 9223372036854775807) (hb_0 : ∀ x ∈ N0, x.2 + n_ ≤ 9223372036854775807) : Met l yX1_add (ws_ yX1_add cX1_add 6 (some .boolean)) ({ frames := 0, cells := 0, slots := 0, locals := 0 } : Room) (gPc D T N [.ref (zB S 9), .long (lI (c_)), .long (lI (n_))] g0 n) (gQi D g0 n (fun r g' n' => n' = n ∧ ∃ Z', lR T g' S Z' ∧ ch Z Z' [9, 10, 11, 12] ∧ ((r = 1 ∧ tZ 9 Z' (insN N0 c_ n_)) ∨ (r = 0 ∧ Z' = Z ∧ 400 < (insN N0 c_ n_).length)))) 0 0 (gA g0 n) := by
  refine j_start (by decide) (Nat.le_of_ble_eq_true rfl) ?_
  intro p e s mi args below meth c hC hr hlk hnm hX ls hl
  have hC : Ct D T N (gA g0 n) p s mi args c cX1_add RX1 6 := hC
  have hx := hC.x
  have hb := hC.b
  generalize hQ : MQ below _ args s 0 0 (gA g0 n) = Q
  have hl : lv_has ls 6 [(0, .ref (zB S 9)), (1, .long (lI (c_))), (3, .long (lI (n_)))] := hl
  have hsh := ht.1
  have hlen := hN.len
  refine lv_lload_n hx hb (pc := 0) dX1_add_0 rfl (lv_at hl 1 rfl) ?_
  refine lv_lload_n hx hb (pc := 1) dX1_add_1 rfl (lv_at hl 1 rfl) ?_
  refine j_bipush hC (pc := 2) dX1_add_2 (by decide) ?_
  refine lv_lushr hx hb (pc := 4) dX1_add_4 rfl ?_
  refine lv_lxor hx hb (pc := 5) dX1_add_5 ?_
  refine lv_lload_n hx hb (pc := 6) dX1_add_6 rfl (lv_at hl 1 rfl) ?_
  refine j_bipush hC (pc := 7) dX1_add_7 (by decide) ?_
  refine lv_lushr hx hb (pc := 9) dX1_add_9 rfl ?_
  refine lv_lxor hx hb (pc := 10) dX1_add_10 ?_
  refine j_ldc2 hC (pc := 11) (z := 2047) q387 dX1_add_11 rfl ?_
  refine j_land2047m hC (pc := 14) dX1_add_14 ?_
  refine j_eql (b := hsF c_) rfl ?_
  refine j_l2i hC (pc := 15) dX1_add_15 ?_
  refine j_eqi (b := prb (hsF c_) ((0 : Nat) : Int)) (prb_0 (hsF_rg c_)).symm ?_
  refine lv_istore (lv' := [(5, .int (iI (prb (hsF c_) ((0 : Nat) : Int)))), (0, .ref (zB S 9)), (1, .long (lI (c_))), (3, .long (lI (n_)))]) hx hb (pc := 16) dX1_add_16 hl (by decide) rfl (fun ls hl => ?_)
  have L18 : ∀ (fu : Nat) (d : Nat) (g : GH), 2048 - (d : Int) < (fu : Int) → (d < 2048) → (prA (Z 10) (Z 11) c_ d) → ∀ (H : Heap) (locs : List Loc), Wd D (gA g0 n) s g n H locs → lR T g S Z → ∀ (ls : Array Slot), lv_has ls 6 [(5, .int (iI (prb (hsF c_) d))), (0, .ref (zB S 9)), (1, .long (lI (c_))), (3, .long (lI (n_)))] → W p l e ({ frames := 0, cells := 0, slots := 0, locals := 0 } : Room) s mi args below meth c H locs 0 0 Q (F0 mi 18 ls []) := by
    intro fu
    induction fu with
    | zero =>
      intro d g hfu hd ha H locs hX hL ls hl
      exfalso
      omega
    | succ fu ih18 =>
      intro d g hfu hd ha H locs hX hL ls hl
      have hp_ := prb_rg (hsF c_) d
      have hwr : Z 11 (prb (hsF c_) d) = 0 ∨ (0 < Z 11 (prb (hsF c_) d) ∧ Z 11 (prb (hsF c_) d) ≤ 9223372036854775807 ∧ 0 ≤ Z 10 (prb (hsF c_) d) ∧ Z 10 (prb (hsF c_) d) < 68719476736) := by rcases Decidable.em (Z 11 (prb (hsF c_) d) = 0) with y | y; exact Or.inl y; obtain ⟨j, hj1, hj2⟩ := hN.of hp_ y; obtain ⟨x, hx1, hx2, hx3, hx4, hx5⟩ := hN.at hj1; rw [hj2] at hx4 hx5; have := hN.2.2.1 x hx2; rw [hx4, hx5]; exact Or.inr ⟨this.2.1, this.2.2, this.1⟩
      refine lv_aload_n hx hb (pc := 18) dX1_add_18 rfl (lv_at hl 1 rfl) ?_
      refine L_getr hC hX hL in_X1 (ci := 1) rfl (pc := 19) 9 (hsh.k 9 rfl) 1 (by decide) q88 rfl (q := zA S 9 1) (b := zB S 11) ht.2.2.1 rfl dX1_add_19 ?_
      refine lv_iload hx hb (pc := 22) dX1_add_22 (lv_at hl 0 rfl) ?_
      refine L_lald hC hX hL (pc := 24) 11 (hsh.k 11 rfl) (L := 2048) (hsh.n 11 rfl) (by decide) (by omega) (z := Z 11 (prb (hsF c_) d)) rfl dX1_add_24 ?_
      refine j_lconst hC (pc := 25) (w := 0) dX1_add_25 rfl ?_
      refine j_lcmp hC (pc := 26) dX1_add_26 (by omega) (fun z2 h1 => ?_)
      refine j_if_eq hC (pc := 27) 55 dX1_add_27 (by decide) (by omega) (fun c3 => ?_) (fun c3 => ?_)
      · skip
        refine lv_aload_n hx hb (pc := 55) dX1_add_55 rfl (lv_at hl 1 rfl) ?_
        refine L_getr hC hX hL in_X1 (ci := 1) rfl (pc := 56) 9 (hsh.k 9 rfl) 1 (by decide) q88 rfl (q := zA S 9 1) (b := zB S 11) ht.2.2.1 rfl dX1_add_56 ?_
        refine lv_iload hx hb (pc := 59) dX1_add_59 (lv_at hl 0 rfl) ?_
        refine L_lald hC hX hL (pc := 61) 11 (hsh.k 11 rfl) (L := 2048) (hsh.n 11 rfl) (by decide) (by omega) (z := Z 11 (prb (hsF c_) d)) rfl dX1_add_61 ?_
        refine j_lconst hC (pc := 62) (w := 0) dX1_add_62 rfl ?_
        refine j_lcmp hC (pc := 63) dX1_add_63 (by omega) (fun z5 h4 => ?_)
        refine j_if_ne hC (pc := 64) 108 dX1_add_64 (by decide) (by omega) (fun c6 => ?_) (fun c6 => ?_)
        · skip
          exfalso; omega
        · skip
          refine lv_aload_n hx hb (pc := 67) dX1_add_67 rfl (lv_at hl 1 rfl) ?_
          refine L_get hC hX hL in_X1 (ci := 1) rfl (pc := 68) 9 (hsh.k 9 rfl) 3 (by decide) q92 rfl (v := .int (iI (Z 9 3))) rfl dX1_add_68 ?_
          refine j_sipush hC (pc := 71) dX1_add_71 (by decide) ?_
          refine j_icmp_le hC (pc := 74) 79 dX1_add_74 (by decide) (by omega) (fun c7 => ?_) (fun c7 => ?_)
          · skip
            refine lv_aload_n hx hb (pc := 79) dX1_add_79 rfl (lv_at hl 1 rfl) ?_
            refine L_getr hC hX hL in_X1 (ci := 1) rfl (pc := 80) 9 (hsh.k 9 rfl) 0 (by decide) q86 rfl (q := zA S 9 0) (b := zB S 10) ht.2.1 rfl dX1_add_80 ?_
            refine lv_iload hx hb (pc := 83) dX1_add_83 (lv_at hl 0 rfl) ?_
            refine lv_lload_n hx hb (pc := 85) dX1_add_85 rfl (lv_at hl 2 rfl) ?_
            refine L_last hC hX hL (pc := 86) 10 (hsh.k 10 rfl) (L := 2048) (hsh.n 10 rfl) (by decide) (by omega) (f := uI (Z 10) (prb (hsF c_) d) c_) rfl dX1_add_86 (fun g H locs hX hL => ?_)
            refine lv_aload_n hx hb (pc := 87) dX1_add_87 rfl (lv_at hl 1 rfl) ?_
            refine L_getr hC hX hL in_X1 (ci := 1) rfl (pc := 88) 9 (hsh.k 9 rfl) 2 (by decide) q90 rfl (q := zA S 9 2) (b := zB S 12) ht.2.2.2 rfl dX1_add_88 ?_
            refine lv_aload_n hx hb (pc := 91) dX1_add_91 rfl (lv_at hl 1 rfl) ?_
            refine L_get hC hX hL in_X1 (ci := 1) rfl (pc := 92) 9 (hsh.k 9 rfl) 3 (by decide) q92 rfl (v := .int (iI (Z 9 3))) rfl dX1_add_92 ?_
            refine lv_iload hx hb (pc := 95) dX1_add_95 (lv_at hl 0 rfl) ?_
            refine L_iast hC hX hL (pc := 97) 12 (hsh.k 12 rfl) (L := 402) (hsh.n 12 rfl) (by decide) (by omega) (f := uI (Z 12) (Z 9 3) (prb (hsF c_) d)) rfl dX1_add_97 (fun g H locs hX hL => ?_)
            refine lv_aload_n hx hb (pc := 98) dX1_add_98 rfl (lv_at hl 1 rfl) ?_
            refine lv_dup hx hb (pc := 99) dX1_add_99 rfl ?_
            refine L_get hC hX hL in_X1 (ci := 1) rfl (pc := 100) 9 (hsh.k 9 rfl) 3 (by decide) q92 rfl (v := .int (iI (Z 9 3))) rfl dX1_add_100 ?_
            refine j_iconst hC (pc := 103) dX1_add_103 ?_
            refine j_iadd hC (pc := 104) dX1_add_104 ?_
            refine L_put hC hX hL in_X1 tyX1 tyX1_ok nmX1 (ci := 1) rfl (pc := 105) 9 (hsh.k 9 rfl) 3 (by decide) q92 rfl rfl rfl rfl (f := uI (Z 9) 3 ((Z 9 3) + 1)) (show 3 < 4 by decide) rfl dX1_add_105 (fun g H locs hX hL => ?_)
            refine lv_aload_n hx hb (pc := 108) dX1_add_108 rfl (lv_at hl 1 rfl) ?_
            refine L_getr hC hX hL in_X1 (ci := 1) rfl (pc := 109) 9 (hsh.k 9 rfl) 1 (by decide) q88 rfl (q := zA S 9 1) (b := zB S 11) ht.2.2.1 rfl dX1_add_109 ?_
            refine lv_iload hx hb (pc := 112) dX1_add_112 (lv_at hl 0 rfl) ?_
            refine lv_dup2_11 hx hb (pc := 114) dX1_add_114 rfl rfl ?_
            refine L_lald hC hX hL (pc := 115) 11 (hsh.k 11 rfl) (L := 2048) (hsh.n 11 rfl) (by decide) (by omega) (z := Z 11 (prb (hsF c_) d)) rfl dX1_add_115 ?_
            refine lv_lload_n hx hb (pc := 116) dX1_add_116 rfl (lv_at hl 3 rfl) ?_
            refine j_ladd hC (pc := 117) dX1_add_117 ?_
            refine L_last hC hX hL (pc := 118) 11 (hsh.k 11 rfl) (L := 2048) (hsh.n 11 rfl) (by decide) (by omega) (f := uI (Z 11) (prb (hsF c_) d) ((Z 11 (prb (hsF c_) d)) + n_)) rfl dX1_add_118 (fun g H locs hX hL => ?_)
            refine j_iconst hC (pc := 119) dX1_add_119 ?_
            subst hQ
            exact j_zret hC (pc := 120) hX hr hlk (Nat.le_of_ble_eq_true rfl) (Nat.le_of_ble_eq_true rfl) dX1_add_120 (by omega) ⟨rfl, _, hL, ⟨(((ch.rf.up 10 _ (by decide)).up 12 _ (by decide)).up 9 _ (by decide)).up 11 _ (by decide), Or.inl ⟨rfl, by show tbR (uI (Z 10) (prb (hsF c_) d) c_) (uI (Z 11) (prb (hsF c_) d) (Z 11 (prb (hsF c_) d) + n_)) (uI (Z 12) (Z 9 3) (prb (hsF c_) d)) (uI (Z 9) 3 (Z 9 3 + 1) 3) _; rw [uI_s, show Z 11 (prb (hsF c_) d) = 0 by omega, Int.zero_add]; exact hN.new hc_ hn_0 hd ha (show Z 11 (prb (hsF c_) d) = 0 by omega) (by omega)⟩⟩⟩
          · skip
            refine j_iconst hC (pc := 77) dX1_add_77 ?_
            subst hQ
            exact j_zret hC (pc := 78) hX hr hlk (Nat.le_of_ble_eq_true rfl) (Nat.le_of_ble_eq_true rfl) dX1_add_78 (by omega) ⟨rfl, _, hL, ⟨ch.rf, Or.inr ⟨rfl, rfl, by rw [insN_new (hN.abs ha (show Z 11 (prb (hsF c_) d) = 0 by omega)), List.length_append, List.length_singleton]; omega⟩⟩⟩
      · skip
        refine lv_aload_n hx hb (pc := 30) dX1_add_30 rfl (lv_at hl 1 rfl) ?_
        refine L_getr hC hX hL in_X1 (ci := 1) rfl (pc := 31) 9 (hsh.k 9 rfl) 0 (by decide) q86 rfl (q := zA S 9 0) (b := zB S 10) ht.2.1 rfl dX1_add_31 ?_
        refine lv_iload hx hb (pc := 34) dX1_add_34 (lv_at hl 0 rfl) ?_
        refine L_lald hC hX hL (pc := 36) 10 (hsh.k 10 rfl) (L := 2048) (hsh.n 10 rfl) (by decide) (by omega) (z := Z 10 (prb (hsF c_) d)) rfl dX1_add_36 ?_
        refine lv_lload_n hx hb (pc := 37) dX1_add_37 rfl (lv_at hl 2 rfl) ?_
        refine j_lcmp hC (pc := 38) dX1_add_38 (by omega) (fun z9 h8 => ?_)
        refine j_if_eq hC (pc := 39) 55 dX1_add_39 (by decide) (by omega) (fun c10 => ?_) (fun c10 => ?_)
        · skip
          refine lv_aload_n hx hb (pc := 55) dX1_add_55 rfl (lv_at hl 1 rfl) ?_
          refine L_getr hC hX hL in_X1 (ci := 1) rfl (pc := 56) 9 (hsh.k 9 rfl) 1 (by decide) q88 rfl (q := zA S 9 1) (b := zB S 11) ht.2.2.1 rfl dX1_add_56 ?_
          refine lv_iload hx hb (pc := 59) dX1_add_59 (lv_at hl 0 rfl) ?_
          refine L_lald hC hX hL (pc := 61) 11 (hsh.k 11 rfl) (L := 2048) (hsh.n 11 rfl) (by decide) (by omega) (z := Z 11 (prb (hsF c_) d)) rfl dX1_add_61 ?_
          refine j_lconst hC (pc := 62) (w := 0) dX1_add_62 rfl ?_
          refine j_lcmp hC (pc := 63) dX1_add_63 (by omega) (fun z12 h11 => ?_)
          refine j_if_ne hC (pc := 64) 108 dX1_add_64 (by decide) (by omega) (fun c13 => ?_) (fun c13 => ?_)
          · skip
            refine lv_aload_n hx hb (pc := 108) dX1_add_108 rfl (lv_at hl 1 rfl) ?_
            refine L_getr hC hX hL in_X1 (ci := 1) rfl (pc := 109) 9 (hsh.k 9 rfl) 1 (by decide) q88 rfl (q := zA S 9 1) (b := zB S 11) ht.2.2.1 rfl dX1_add_109 ?_
            refine lv_iload hx hb (pc := 112) dX1_add_112 (lv_at hl 0 rfl) ?_
            refine lv_dup2_11 hx hb (pc := 114) dX1_add_114 rfl rfl ?_
            refine L_lald hC hX hL (pc := 115) 11 (hsh.k 11 rfl) (L := 2048) (hsh.n 11 rfl) (by decide) (by omega) (z := Z 11 (prb (hsF c_) d)) rfl dX1_add_115 ?_
            refine lv_lload_n hx hb (pc := 116) dX1_add_116 rfl (lv_at hl 3 rfl) ?_
            refine j_ladd hC (pc := 117) dX1_add_117 ?_
            refine L_last hC hX hL (pc := 118) 11 (hsh.k 11 rfl) (L := 2048) (hsh.n 11 rfl) (by decide) (by omega) (f := uI (Z 11) (prb (hsF c_) d) ((Z 11 (prb (hsF c_) d)) + n_)) rfl dX1_add_118 (fun g H locs hX hL => ?_)
            refine j_iconst hC (pc := 119) dX1_add_119 ?_
            subst hQ
            exact j_zret hC (pc := 120) hX hr hlk (Nat.le_of_ble_eq_true rfl) (Nat.le_of_ble_eq_true rfl) dX1_add_120 (by omega) ⟨rfl, _, hL, ⟨ch.rf.up 11 _ (by decide), Or.inl ⟨rfl, by show tbR _ (uI (Z 11) (prb (hsF c_) d) (Z 11 (prb (hsF c_) d) + n_)) _ _ _; exact hN.old hp_ (show ¬ Z 11 (prb (hsF c_) d) = 0 by omega) (show Z 10 (prb (hsF c_) d) = c_ by omega) hn_0.1 hb_0⟩⟩⟩
          · skip
            exfalso; omega
        · skip
          refine lv_iload hx hb (pc := 42) dX1_add_42 (lv_at hl 0 rfl) ?_
          refine j_iconst hC (pc := 44) dX1_add_44 ?_
          refine j_iadd hC (pc := 45) dX1_add_45 ?_
          refine j_sipush hC (pc := 46) dX1_add_46 (by decide) ?_
          refine j_iand2047 hC (pc := 49) dX1_add_49 (by omega) ?_
          refine j_eqi (b := prb (hsF c_) ((d + 1 : Nat) : Int)) (by unfold prb; omega) ?_
          refine lv_istore (lv' := [(5, .int (iI (prb (hsF c_) ((d + 1 : Nat) : Int)))), (0, .ref (zB S 9)), (1, .long (lI (c_))), (3, .long (lI (n_)))]) hx hb (pc := 50) dX1_add_50 hl (by decide) rfl (fun ls hl => ?_)
          refine j_goto hC (pc := 52) 18 dX1_add_52 (by decide) ?_
          have hmo : prA (Z 10) (Z 11) c_ (d + 1) := fun e he => by rcases Nat.lt_or_ge e d with q | q; exact ha e q; rw [show e = d by omega]; exact ⟨by omega, by omega⟩
          exact ih18 (d + 1) _ (by omega) (hN.more hd hmo) hmo _ _ hX hL ls (lv_sub hl [0, 1, 2, 3] rfl)
  exact L18 2049 0 _ (by omega) (by decide) (fun e he => absurd he (Nat.not_lt_zero e)) _ _ hX hL ls (lv_sub hl [0, 1, 2, 3] rfl)
