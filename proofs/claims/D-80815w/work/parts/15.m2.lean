/-! FairFightModel: rows, sheets, the digest -/
theorem SI.i1 {F : Nat → Int} {V : Nat → Int → Int} (h : SI F V) {i : Int} (hi : 0 ≤ i ∧ i < 6 * F 0) : 0 ≤ V 1 i ∧ V 1 i ≤ 20 := by
  have h1 := numF_rg (h.num (f := i / 6) (w := i % 6) (by omega))
  rw [show 6 * (i / 6) + i % 6 = i by omega] at h1
  exact h1
theorem SI.i2 {F : Nat → Int} {V : Nat → Int → Int} (h : SI F V) {i : Int} (hi : 0 ≤ i ∧ i < 6) : -1 ≤ V 2 i ∧ V 2 i ≤ 15 := by
  have h0 := h.nums
  obtain ⟨-, -, ⟨h1, h2⟩, -⟩ := h
  unfold rowA at h1 h2
  have : i = 0 ∨ i = 1 ∨ i = 2 ∨ i = 3 ∨ i = 4 ∨ i = 5 := by omega
  rcases this with rfl | rfl | rfl | rfl | rfl | rfl <;> omega
theorem SI.i19 {F : Nat → Int} {V : Nat → Int → Int} (h : SI F V) {i : Int} (hi : 0 ≤ i ∧ i < F 31) : 0 ≤ V 19 i ∧ V 19 i ≤ 336 := h.2.2.2.2.1 i hi.1 hi.2
theorem SI.i20 {F : Nat → Int} {V : Nat → Int → Int} (h : SI F V) {i : Int} (hi : 0 ≤ i ∧ i < 3) : 0 ≤ V 20 i ∧ V 20 i ≤ 60 := h.2.2.2.2.2.1 i hi.1 hi.2
theorem SI.i21 {F : Nat → Int} {V : Nat → Int → Int} (h : SI F V) {i : Int} (hi : 0 ≤ i ∧ i < 6) : (-1 ≤ V 21 i ∧ V 21 i ≤ 15) ∧ 0 ≤ V 22 i ∧ V 22 i ≤ 20 := h.2.2.2.2.2.2.1 i hi.1 hi.2
theorem SI.i23 {F : Nat → Int} {V : Nat → Int → Int} (h : SI F V) {i : Int} (hi : 0 ≤ i ∧ i < 4) : (-1 ≤ V 23 i ∧ V 23 i ≤ 2) ∧ 0 ≤ V 24 i ∧ V 24 i ≤ 60 := h.2.2.2.2.2.2.2.1 i hi.1 hi.2
theorem SI.i25 {F : Nat → Int} {V : Nat → Int → Int} (h : SI F V) {i : Int} (hi : 0 ≤ i ∧ i < 240) : -2147483648 ≤ V 25 i ∧ V 25 i ≤ 2147483647 := h.2.2.2.2.2.2.2.2 i hi.1 hi.2
theorem manyA_rg (a b c : Int) : 0 ≤ manyA a b c ∧ manyA a b c ≤ 3 := by
  unfold manyA
  (repeat' split) <;> omega
theorem countF_rg {F : Nat → Int} {V : Nat → Int → Int} (h : SI F V) (w : Int) : -2 ≤ countF F V w ∧ countF F V w ≤ 16 := by
  have h0 := h.nums
  have h1 := manyA_rg (V 2 0) (V 2 1) (V 2 2)
  have h2 := manyA_rg (V 2 3) (V 2 4) (V 2 5)
  unfold countF
  (repeat' split) <;> omega

set_option maxHeartbeats 4000000 in
set_option maxRecDepth 100000 in
theorem m3_fight (D : va_G) (T N : Nat → Nat) (l : Launch) {m : Nat} (F : Nat → Int) (V : Nat → Int → Int) (a b d : Int) (hI : SI F V) (hg : (-2147483648 ≤ a ∧ a ≤ 2147483647) ∧ (-2147483648 ≤ b ∧ b ≤ 2147483647) ∧ (-2147483648 ≤ d ∧ d ≤ 2147483647)) : MMi D T N l yX3_fight (ws_ yX3_fight cX3_fight 4 (some .int)) ({ frames := 2, cells := 0, slots := 0, locals := 49 } : Room) m [.int (iI (a)), .int (iI (b)), .int (iI (d))] F V (mP (op_fight F V a b d)) := by
  intro g0 n hM
  refine j_start (by decide) (Nat.le_of_ble_eq_true rfl) ?_
  intro p e s mi args below meth c hC hr hlk hnm hX ls hl
  have hC : Ct D T N (gA g0 n) p s mi args c cX3_fight RX3 4 := hC
  have hx := hC.x
  have hb := hC.b
  have ho : off g0 g0 m 27 := off.rf
  generalize hQ : MQ below _ args s 0 0 (gA g0 n) = Q
  have hl : lv_has ls 4 [(0, .ref (m)), (1, .int (iI (a))), (2, .int (iI (b))), (3, .int (iI (d)))] := hl
  have hn := hI.nums
  refine lv_aload_n hx hb (pc := 0) dX3_fight_0 rfl (lv_at hl 0 rfl) ?_
  refine lv_iload_n hx hb (pc := 1) dX3_fight_1 rfl (lv_at hl 1 rfl) ?_
  refine lv_iload_n hx hb (pc := 2) dX3_fight_2 rfl (lv_at hl 2 rfl) ?_
  refine lv_iload_n hx hb (pc := 3) dX3_fight_3 rfl (lv_at hl 3 rfl) ?_
  refine M_calli (As := [.int (iI (a)), .int (iI (b)), .int (iI (d))]) (rest := []) hC hX hM ho (m3_isRow D T N l _ _ a b d hI (by omega)) (cwV 3 hC.ts (lw_V q1044 q1046 qs17 q46 q1047) rfl rfl rfl (by decide +kernel) ⟨Nat.le_of_ble_eq_true rfl, Nat.le_of_ble_eq_true rfl⟩) rfl hl.1 (Nat.le_of_ble_eq_true rfl) dX3_fight_4 ⟨Nat.zero_le _, Nat.zero_le _⟩ (fun r1 F2 V2 g H locs hp hX hM ho => ?_)
  obtain ⟨hp, hF_, hV_⟩ := hp
  rw [hF_, hV_] at hM
  have hq_r1 := rowF_of hp
  refine j_if_eq hC (pc := 7) 15 dX3_fight_7 (by decide) (by omega) (fun c3 => ?_) (fun c3 => ?_)
  · skip
    refine j_bipush hC (pc := 15) dX3_fight_15 (by decide) ?_
    subst hQ
    exact j_iret hC (pc := 17) hX hr hlk (Nat.le_refl _) (Nat.le_refl _) dX3_fight_17 ⟨rfl, _, _, hM, ho, (by unfold op_fight; rw [if_neg (by omega)]; exact ⟨rfl, ch.rf, ch.rf⟩)⟩
  · skip
    refine lv_iload_n hx hb (pc := 10) dX3_fight_10 rfl (lv_at hl 1 rfl) ?_
    refine j_iconst hC (pc := 11) dX3_fight_11 ?_
    refine j_icmp_ne hC (pc := 12) 18 dX3_fight_12 (by decide) (by omega) (fun c4 => ?_) (fun c4 => ?_)
    · skip
      refine lv_aload_n hx hb (pc := 18) dX3_fight_18 rfl (lv_at hl 0 rfl) ?_
      refine M_get hC hX hM (pc := 19) 25 (by decide) q913 rfl (v := .int (iI (F 25))) rfl dX3_fight_19 ?_
      refine j_bipush hC (pc := 22) dX3_fight_22 (by decide) ?_
      refine j_icmp_ne hC (pc := 24) 30 dX3_fight_24 (by decide) (by omega) (fun c5 => ?_) (fun c5 => ?_)
      · skip
        refine lv_aload_n hx hb (pc := 30) dX3_fight_30 rfl (lv_at hl 0 rfl) ?_
        refine M_get hC hX hM (pc := 31) 26 (by decide) q914 rfl (v := .ref (m + 17)) rfl dX3_fight_31 ?_
        refine j_iconst hC (pc := 34) dX3_fight_34 ?_
        refine lv_aload_n hx hb (pc := 35) dX3_fight_35 rfl (lv_at hl 0 rfl) ?_
        refine M_get hC hX hM (pc := 36) 25 (by decide) q913 rfl (v := .int (iI (F 25))) rfl dX3_fight_36 ?_
        refine j_imul hC (pc := 39) dX3_fight_39 ?_
        refine lv_iload_n hx hb (pc := 40) dX3_fight_40 rfl (lv_at hl 1 rfl) ?_
        refine M_iast hC hX hM ho (pc := 41) 17 (by decide) (L := 18) ⟨rfl, by decide⟩ (by omega) dX3_fight_41 (fun g H locs hX hM ho => ?_)
        refine lv_aload_n hx hb (pc := 42) dX3_fight_42 rfl (lv_at hl 0 rfl) ?_
        refine M_get hC hX hM (pc := 43) 26 (by decide) q914 rfl (v := .ref (m + 17)) rfl dX3_fight_43 ?_
        refine j_iconst hC (pc := 46) dX3_fight_46 ?_
        refine lv_aload_n hx hb (pc := 47) dX3_fight_47 rfl (lv_at hl 0 rfl) ?_
        refine M_get hC hX hM (pc := 48) 25 (by decide) q913 rfl (v := .int (iI (F 25))) rfl dX3_fight_48 ?_
        refine j_imul hC (pc := 51) dX3_fight_51 ?_
        refine j_iconst hC (pc := 52) dX3_fight_52 ?_
        refine j_iadd hC (pc := 53) dX3_fight_53 ?_
        refine lv_iload_n hx hb (pc := 54) dX3_fight_54 rfl (lv_at hl 2 rfl) ?_
        refine M_iast hC hX hM ho (pc := 55) 17 (by decide) (L := 18) ⟨rfl, by decide⟩ (by omega) dX3_fight_55 (fun g H locs hX hM ho => ?_)
        refine lv_aload_n hx hb (pc := 56) dX3_fight_56 rfl (lv_at hl 0 rfl) ?_
        refine M_get hC hX hM (pc := 57) 26 (by decide) q914 rfl (v := .ref (m + 17)) rfl dX3_fight_57 ?_
        refine j_iconst hC (pc := 60) dX3_fight_60 ?_
        refine lv_aload_n hx hb (pc := 61) dX3_fight_61 rfl (lv_at hl 0 rfl) ?_
        refine M_get hC hX hM (pc := 62) 25 (by decide) q913 rfl (v := .int (iI (F 25))) rfl dX3_fight_62 ?_
        refine j_imul hC (pc := 65) dX3_fight_65 ?_
        refine j_iconst hC (pc := 66) dX3_fight_66 ?_
        refine j_iadd hC (pc := 67) dX3_fight_67 ?_
        refine lv_iload_n hx hb (pc := 68) dX3_fight_68 rfl (lv_at hl 3 rfl) ?_
        refine M_iast hC hX hM ho (pc := 69) 17 (by decide) (L := 18) ⟨rfl, by decide⟩ (by omega) dX3_fight_69 (fun g H locs hX hM ho => ?_)
        refine lv_aload_n hx hb (pc := 70) dX3_fight_70 rfl (lv_at hl 0 rfl) ?_
        refine lv_dup hx hb (pc := 71) dX3_fight_71 rfl ?_
        refine M_get hC hX hM (pc := 72) 25 (by decide) q913 rfl (v := .int (iI (F 25))) rfl dX3_fight_72 ?_
        refine j_iconst hC (pc := 75) dX3_fight_75 ?_
        refine j_iadd hC (pc := 76) dX3_fight_76 ?_
        refine M_put hC hX hM ho (pc := 77) 25 (by decide) q913 rfl dX3_fight_77 (fun g H locs hX hM ho => ?_)
        refine lv_aload_n hx hb (pc := 80) dX3_fight_80 rfl (lv_at hl 0 rfl) ?_
        refine M_get hC hX hM (pc := 81) 25 (by decide) q913 rfl (v := .int (iI ((F 25) + 1))) rfl dX3_fight_81 ?_
        subst hQ
        exact j_iret hC (pc := 84) hX hr hlk (Nat.le_refl _) (Nat.le_refl _) dX3_fight_84 ⟨rfl, _, _, hM, ho, (by unfold op_fight; rw [if_pos (by omega), if_neg (by omega)]; exact ⟨rfl, ch.rf, fun j _ => by simp only [va_up]; split <;> rfl⟩)⟩
      · skip
        refine j_bipush hC (pc := 27) dX3_fight_27 (by decide) ?_
        subst hQ
        exact j_iret hC (pc := 29) hX hr hlk (Nat.le_refl _) (Nat.le_refl _) dX3_fight_29 ⟨rfl, _, _, hM, ho, (by unfold op_fight; rw [if_pos (by omega), if_pos (by omega)]; exact ⟨rfl, ch.rf, ch.rf⟩)⟩
    · skip
      refine j_bipush hC (pc := 15) dX3_fight_15 (by decide) ?_
      subst hQ
      exact j_iret hC (pc := 17) hX hr hlk (Nat.le_refl _) (Nat.le_refl _) dX3_fight_17 ⟨rfl, _, _, hM, ho, (by unfold op_fight; rw [if_neg (by omega)]; exact ⟨rfl, ch.rf, ch.rf⟩)⟩

set_option maxHeartbeats 4000000 in
set_option maxRecDepth 100000 in
theorem m3_rest (D : va_G) (T N : Nat → Nat) (l : Launch) {m : Nat} (F : Nat → Int) (V : Nat → Int → Int)  (hI : SI F V) : MMi D T N l yX3_rest (ws_ yX3_rest cX3_rest 2 (some .int)) ({ frames := 0, cells := 0, slots := 0, locals := 0 } : Room) m [] F V (mP (op_rest F V)) := by
  intro g0 n hM
  refine j_start (by decide) (Nat.le_of_ble_eq_true rfl) ?_
  intro p e s mi args below meth c hC hr hlk hnm hX ls hl
  have hC : Ct D T N (gA g0 n) p s mi args c cX3_rest RX3 2 := hC
  have hx := hC.x
  have hb := hC.b
  have ho : off g0 g0 m 27 := off.rf
  generalize hQ : MQ below _ args s 0 0 (gA g0 n) = Q
  have hl : lv_has ls 2 [(0, .ref (m))] := hl
  have hn := hI.nums
  refine lv_aload_n hx hb (pc := 0) dX3_rest_0 rfl (lv_at hl 0 rfl) ?_
  refine M_get hC hX hM (pc := 1) 25 (by decide) q913 rfl (v := .int (iI (F 25))) rfl dX3_rest_1 ?_
  refine lv_istore_n (lv' := [(1, .int (iI (F 25))), (0, .ref (m))]) hx hb (pc := 4) dX3_rest_4 rfl hl (by decide) rfl (fun ls hl => ?_)
  refine lv_aload_n hx hb (pc := 5) dX3_rest_5 rfl (lv_at hl 1 rfl) ?_
  refine j_iconst hC (pc := 6) dX3_rest_6 ?_
  refine M_put hC hX hM ho (pc := 7) 25 (by decide) q913 rfl dX3_rest_7 (fun g H locs hX hM ho => ?_)
  refine lv_iload_n hx hb (pc := 10) dX3_rest_10 rfl (lv_at hl 0 rfl) ?_
  subst hQ
  exact j_iret hC (pc := 11) hX hr hlk (Nat.le_refl _) (Nat.le_refl _) dX3_rest_11 ⟨rfl, _, _, hM, ho, ⟨rfl, ch.rf, ch.rf⟩⟩

set_option maxHeartbeats 4000000 in
set_option maxRecDepth 100000 in
theorem m3_purse (D : va_G) (T N : Nat → Nat) (l : Launch) {m : Nat} (F : Nat → Int) (V : Nat → Int → Int) (k b : Int) (hI : SI F V) (hg : (-2147483648 ≤ k ∧ k ≤ 2147483647) ∧ (-2147483648 ≤ b ∧ b ≤ 2147483647)) : MMi D T N l yX3_purse (ws_ yX3_purse cX3_purse 3 (some .int)) ({ frames := 1, cells := 0, slots := 0, locals := 25 } : Room) m [.int (iI (k)), .int (iI (b))] F V (mP (op_purse F V k b)) := by
  intro g0 n hM
  refine j_start (by decide) (Nat.le_of_ble_eq_true rfl) ?_
  intro p e s mi args below meth c hC hr hlk hnm hX ls hl
  have hC : Ct D T N (gA g0 n) p s mi args c cX3_purse RX3 3 := hC
  have hx := hC.x
  have hb := hC.b
  have ho : off g0 g0 m 27 := off.rf
  generalize hQ : MQ below _ args s 0 0 (gA g0 n) = Q
  have hl : lv_has ls 3 [(0, .ref (m)), (1, .int (iI (k))), (2, .int (iI (b)))] := hl
  have hn := hI.nums
  refine lv_iload_n hx hb (pc := 0) dX3_purse_0 rfl (lv_at hl 1 rfl) ?_
  refine j_i2l hC (pc := 1) dX3_purse_1 (by omega) ?_
  refine j_lconst hC (pc := 2) (w := 0) dX3_purse_2 rfl ?_
  refine j_ldc2 hC (pc := 3) (z := 6) q1024 dX3_purse_3 rfl ?_
  refine S_calli (As := [.long (lI (k)), .long (lI (0)), .long (lI (6))]) (rest := []) hC hX (m3_in D T N l k 0 6 (by omega)) (va_cwS 3 hC.ts (lw_S q1020 q1021 q46 q1022) rfl rfl rfl (by decide +kernel) ⟨Nat.le_of_ble_eq_true rfl, Nat.le_of_ble_eq_true rfl⟩) rfl hl.1 (Nat.le_of_ble_eq_true rfl) dX3_purse_6 ⟨Nat.zero_le _, Nat.zero_le _⟩ (fun r1 H locs hp hX => ?_)
  have hq_r1 := inF_of hp
  refine j_if_eq hC (pc := 9) 24 dX3_purse_9 (by decide) (by omega) (fun c2 => ?_) (fun c2 => ?_)
  · skip
    refine j_bipush hC (pc := 24) dX3_purse_24 (by decide) ?_
    subst hQ
    exact j_iret hC (pc := 26) hX hr hlk (Nat.le_refl _) (Nat.le_refl _) dX3_purse_26 ⟨rfl, _, _, hM, ho, (by unfold op_purse; rw [if_neg (by omega)]; exact ⟨rfl, ch.rf, ch.rf⟩)⟩
  · skip
    refine lv_iload_n hx hb (pc := 12) dX3_purse_12 rfl (lv_at hl 2 rfl) ?_
    refine j_i2l hC (pc := 13) dX3_purse_13 (by omega) ?_
    refine j_lconst hC (pc := 14) (w := 1) dX3_purse_14 rfl ?_
    refine j_ldc2 hC (pc := 15) (z := 9) q1025 dX3_purse_15 rfl ?_
    refine S_calli (As := [.long (lI (b)), .long (lI (1)), .long (lI (9))]) (rest := []) hC hX (m3_in D T N l b 1 9 (by omega)) (va_cwS 3 hC.ts (lw_S q1020 q1021 q46 q1022) rfl rfl rfl (by decide +kernel) ⟨Nat.le_of_ble_eq_true rfl, Nat.le_of_ble_eq_true rfl⟩) rfl hl.1 (Nat.le_of_ble_eq_true rfl) dX3_purse_18 ⟨Nat.zero_le _, Nat.zero_le _⟩ (fun r3 H locs hp hX => ?_)
    have hq_r3 := inF_of hp
    refine j_if_ne hC (pc := 21) 27 dX3_purse_21 (by decide) (by omega) (fun c4 => ?_) (fun c4 => ?_)
    · skip
      refine lv_aload_n hx hb (pc := 27) dX3_purse_27 rfl (lv_at hl 0 rfl) ?_
      refine lv_iload_n hx hb (pc := 28) dX3_purse_28 rfl (lv_at hl 1 rfl) ?_
      refine M_put hC hX hM ho (pc := 29) 27 (by decide) q915 rfl dX3_purse_29 (fun g H locs hX hM ho => ?_)
      refine lv_aload_n hx hb (pc := 32) dX3_purse_32 rfl (lv_at hl 0 rfl) ?_
      refine lv_iload_n hx hb (pc := 33) dX3_purse_33 rfl (lv_at hl 2 rfl) ?_
      refine M_put hC hX hM ho (pc := 34) 28 (by decide) q916 rfl dX3_purse_34 (fun g H locs hX hM ho => ?_)
      refine j_iconst hC (pc := 37) dX3_purse_37 ?_
      subst hQ
      exact j_iret hC (pc := 38) hX hr hlk (Nat.le_refl _) (Nat.le_refl _) dX3_purse_38 ⟨rfl, _, _, hM, ho, (by unfold op_purse; rw [if_pos (by omega)]; exact ⟨rfl, ch.rf, ch.rf⟩)⟩
    · skip
      refine j_bipush hC (pc := 24) dX3_purse_24 (by decide) ?_
      subst hQ
      exact j_iret hC (pc := 26) hX hr hlk (Nat.le_refl _) (Nat.le_refl _) dX3_purse_26 ⟨rfl, _, _, hM, ho, (by unfold op_purse; rw [if_neg (by omega)]; exact ⟨rfl, ch.rf, ch.rf⟩)⟩

set_option maxHeartbeats 4000000 in
set_option maxRecDepth 100000 in
theorem m3_band (D : va_G) (T N : Nat → Nat) (l : Launch) {m : Nat} (F : Nat → Int) (V : Nat → Int → Int) (k : Int) (hI : SI F V) (hg : (-2147483648 ≤ k ∧ k ≤ 2147483647)) : MMi D T N l yX3_band (ws_ yX3_band cX3_band 2 (some .int)) ({ frames := 1, cells := 0, slots := 0, locals := 25 } : Room) m [.int (iI (k))] F V (mP (op_band F V k)) := by
  intro g0 n hM
  refine j_start (by decide) (Nat.le_of_ble_eq_true rfl) ?_
  intro p e s mi args below meth c hC hr hlk hnm hX ls hl
  have hC : Ct D T N (gA g0 n) p s mi args c cX3_band RX3 2 := hC
  have hx := hC.x
  have hb := hC.b
  have ho : off g0 g0 m 27 := off.rf
  generalize hQ : MQ below _ args s 0 0 (gA g0 n) = Q
  have hl : lv_has ls 2 [(0, .ref (m)), (1, .int (iI (k)))] := hl
  have hn := hI.nums
  refine lv_iload_n hx hb (pc := 0) dX3_band_0 rfl (lv_at hl 1 rfl) ?_
  refine j_i2l hC (pc := 1) dX3_band_1 (by omega) ?_
  refine j_lconst hC (pc := 2) (w := 0) dX3_band_2 rfl ?_
  refine lv_aload_n hx hb (pc := 3) dX3_band_3 rfl (lv_at hl 0 rfl) ?_
  refine M_get hC hX hM (pc := 4) 31 (by decide) q919 rfl (v := .int (iI (F 31))) rfl dX3_band_4 ?_
  refine j_iconst hC (pc := 7) dX3_band_7 ?_
  refine j_isub hC (pc := 8) dX3_band_8 ?_
  refine j_i2l hC (pc := 9) dX3_band_9 (by omega) ?_
  refine S_calli (As := [.long (lI (k)), .long (lI (0)), .long (lI ((F 31) - 1))]) (rest := []) hC hX (m3_in D T N l k 0 ((F 31) - 1) (by omega)) (va_cwS 3 hC.ts (lw_S q1020 q1021 q46 q1022) rfl rfl rfl (by decide +kernel) ⟨Nat.le_of_ble_eq_true rfl, Nat.le_of_ble_eq_true rfl⟩) rfl hl.1 (Nat.le_of_ble_eq_true rfl) dX3_band_10 ⟨Nat.zero_le _, Nat.zero_le _⟩ (fun r1 H locs hp hX => ?_)
  have hq_r1 := inF_of hp
  refine j_if_eq hC (pc := 13) 25 dX3_band_13 (by decide) (by omega) (fun c2 => ?_) (fun c2 => ?_)
  · skip
    refine j_bipush hC (pc := 25) dX3_band_25 (by decide) ?_
    subst hQ
    exact j_iret hC (pc := 27) hX hr hlk (Nat.le_refl _) (Nat.le_refl _) dX3_band_27 ⟨rfl, _, _, hM, ho, (by unfold op_band; rw [if_neg (by omega)]; exact ⟨rfl, ch.rf, ch.rf⟩)⟩
  · skip
    refine lv_aload_n hx hb (pc := 16) dX3_band_16 rfl (lv_at hl 0 rfl) ?_
    refine M_get hC hX hM (pc := 17) 32 (by decide) q920 rfl (v := .ref (m + 19)) rfl dX3_band_17 ?_
    refine lv_iload_n hx hb (pc := 20) dX3_band_20 rfl (lv_at hl 1 rfl) ?_
    refine M_iald hC hX hM (pc := 21) 19 (by decide) (L := 27) ⟨rfl, by decide⟩ (by omega) (z := V 19 k) rfl dX3_band_21 ?_
    refine j_goto hC (pc := 22) 27 dX3_band_22 (by decide) ?_
    subst hQ
    exact j_iret hC (pc := 27) hX hr hlk (Nat.le_refl _) (Nat.le_refl _) dX3_band_27 ⟨rfl, _, _, hM, ho, (by unfold op_band; rw [if_pos (by omega)]; exact ⟨rfl, ch.rf, ch.rf⟩)⟩

set_option maxHeartbeats 4000000 in
set_option maxRecDepth 100000 in
theorem m3_played (D : va_G) (T N : Nat → Nat) (l : Launch) {m : Nat} (F : Nat → Int) (V : Nat → Int → Int) (k : Int) (hI : SI F V) (hg : (-2147483648 ≤ k ∧ k ≤ 2147483647)) : MMi D T N l yX3_played (ws_ yX3_played cX3_played 2 (some .int)) ({ frames := 1, cells := 0, slots := 0, locals := 25 } : Room) m [.int (iI (k))] F V (mP (op_played F V k)) := by
  intro g0 n hM
  refine j_start (by decide) (Nat.le_of_ble_eq_true rfl) ?_
  intro p e s mi args below meth c hC hr hlk hnm hX ls hl
  have hC : Ct D T N (gA g0 n) p s mi args c cX3_played RX3 2 := hC
  have hx := hC.x
  have hb := hC.b
  have ho : off g0 g0 m 27 := off.rf
  generalize hQ : MQ below _ args s 0 0 (gA g0 n) = Q
  have hl : lv_has ls 2 [(0, .ref (m)), (1, .int (iI (k)))] := hl
  have hn := hI.nums
  refine lv_iload_n hx hb (pc := 0) dX3_played_0 rfl (lv_at hl 1 rfl) ?_
  refine j_i2l hC (pc := 1) dX3_played_1 (by omega) ?_
  refine j_lconst hC (pc := 2) (w := 0) dX3_played_2 rfl ?_
  refine j_ldc2 hC (pc := 3) (z := 2) q1019 dX3_played_3 rfl ?_
  refine S_calli (As := [.long (lI (k)), .long (lI (0)), .long (lI (2))]) (rest := []) hC hX (m3_in D T N l k 0 2 (by omega)) (va_cwS 3 hC.ts (lw_S q1020 q1021 q46 q1022) rfl rfl rfl (by decide +kernel) ⟨Nat.le_of_ble_eq_true rfl, Nat.le_of_ble_eq_true rfl⟩) rfl hl.1 (Nat.le_of_ble_eq_true rfl) dX3_played_6 ⟨Nat.zero_le _, Nat.zero_le _⟩ (fun r1 H locs hp hX => ?_)
  have hq_r1 := inF_of hp
  refine j_if_eq hC (pc := 9) 19 dX3_played_9 (by decide) (by omega) (fun c2 => ?_) (fun c2 => ?_)
  · skip
    refine lv_iload_n hx hb (pc := 19) dX3_played_19 rfl (lv_at hl 1 rfl) ?_
    refine j_i2l hC (pc := 20) dX3_played_20 (by omega) ?_
    refine j_ldc2 hC (pc := 21) (z := 10) q1151 dX3_played_21 rfl ?_
    refine j_ldc2 hC (pc := 24) (z := 15) q1236 dX3_played_24 rfl ?_
    refine S_calli (As := [.long (lI (k)), .long (lI (10)), .long (lI (15))]) (rest := []) hC hX (m3_in D T N l k 10 15 (by omega)) (va_cwS 3 hC.ts (lw_S q1020 q1021 q46 q1022) rfl rfl rfl (by decide +kernel) ⟨Nat.le_of_ble_eq_true rfl, Nat.le_of_ble_eq_true rfl⟩) rfl hl.1 (Nat.le_of_ble_eq_true rfl) dX3_played_27 ⟨Nat.zero_le _, Nat.zero_le _⟩ (fun r3 H locs hp hX => ?_)
    have hq_r3 := inF_of hp
    refine j_if_eq hC (pc := 30) 58 dX3_played_30 (by decide) (by omega) (fun c4 => ?_) (fun c4 => ?_)
    · skip
      refine j_bipush hC (pc := 58) dX3_played_58 (by decide) ?_
      subst hQ
      exact j_iret hC (pc := 60) hX hr hlk (Nat.le_refl _) (Nat.le_refl _) dX3_played_60 ⟨rfl, _, _, hM, ho, (by unfold op_played; rw [if_neg (by omega), if_neg (by omega)]; exact ⟨rfl, ch.rf, ch.rf⟩)⟩
    · skip
      refine lv_aload_n hx hb (pc := 33) dX3_played_33 rfl (lv_at hl 0 rfl) ?_
      refine M_get hC hX hM (pc := 34) 34 (by decide) q922 rfl (v := .ref (m + 21)) rfl dX3_played_34 ?_
      refine lv_iload_n hx hb (pc := 37) dX3_played_37 rfl (lv_at hl 1 rfl) ?_
      refine j_bipush hC (pc := 38) dX3_played_38 (by decide) ?_
      refine j_isub hC (pc := 40) dX3_played_40 ?_
      refine M_iald hC hX hM (pc := 41) 21 (by decide) (L := 6) ⟨rfl, by decide⟩ (by omega) (z := V 21 (k - 10)) rfl dX3_played_41 ?_
      refine j_iconst hC (pc := 42) dX3_played_42 ?_
      have h21 := hI.i21 (i := k - 10) (by omega)
      refine j_icmp_eq hC (pc := 43) 58 dX3_played_43 (by decide) (by omega) (fun c5 => ?_) (fun c5 => ?_)
      · skip
        refine j_bipush hC (pc := 58) dX3_played_58 (by decide) ?_
        subst hQ
        exact j_iret hC (pc := 60) hX hr hlk (Nat.le_refl _) (Nat.le_refl _) dX3_played_60 ⟨rfl, _, _, hM, ho, (by unfold op_played; rw [if_neg (by omega), if_neg (by omega)]; exact ⟨rfl, ch.rf, ch.rf⟩)⟩
      · skip
        refine lv_aload_n hx hb (pc := 46) dX3_played_46 rfl (lv_at hl 0 rfl) ?_
        refine M_get hC hX hM (pc := 47) 35 (by decide) q923 rfl (v := .ref (m + 22)) rfl dX3_played_47 ?_
        refine lv_iload_n hx hb (pc := 50) dX3_played_50 rfl (lv_at hl 1 rfl) ?_
        refine j_bipush hC (pc := 51) dX3_played_51 (by decide) ?_
        refine j_isub hC (pc := 53) dX3_played_53 ?_
        refine M_iald hC hX hM (pc := 54) 22 (by decide) (L := 6) ⟨rfl, by decide⟩ (by omega) (z := V 22 (k - 10)) rfl dX3_played_54 ?_
        refine j_goto hC (pc := 55) 60 dX3_played_55 (by decide) ?_
        subst hQ
        exact j_iret hC (pc := 60) hX hr hlk (Nat.le_refl _) (Nat.le_refl _) dX3_played_60 ⟨rfl, _, _, hM, ho, (by unfold op_played; rw [if_neg (by omega), if_pos (by omega)]; exact ⟨rfl, ch.rf, ch.rf⟩)⟩
  · skip
    refine lv_aload_n hx hb (pc := 12) dX3_played_12 rfl (lv_at hl 0 rfl) ?_
    refine M_get hC hX hM (pc := 13) 33 (by decide) q921 rfl (v := .ref (m + 20)) rfl dX3_played_13 ?_
    refine lv_iload_n hx hb (pc := 16) dX3_played_16 rfl (lv_at hl 1 rfl) ?_
    refine M_iald hC hX hM (pc := 17) 20 (by decide) (L := 3) ⟨rfl, by decide⟩ (by omega) (z := V 20 k) rfl dX3_played_17 ?_
    subst hQ
    exact j_iret hC (pc := 18) hX hr hlk (Nat.le_refl _) (Nat.le_refl _) dX3_played_18 ⟨rfl, _, _, hM, ho, (by unfold op_played; rw [if_pos (by omega)]; exact ⟨rfl, ch.rf, ch.rf⟩)⟩

set_option maxHeartbeats 4000000 in
set_option maxRecDepth 100000 in
theorem m3_met (D : va_G) (T N : Nat → Nat) (l : Launch) {m : Nat} (F : Nat → Int) (V : Nat → Int → Int) (k : Int) (hg : (-2147483648 ≤ k ∧ k ≤ 2147483647)) : MMi D T N l yX3_met (ws_ yX3_met cX3_met 2 (some .int)) ({ frames := 0, cells := 0, slots := 0, locals := 0 } : Room) m [.int (iI (k))] F V (fun r F' V' => r = -10 - k ∧ F' = va_up F 40 k ∧ V' = V) := by
  intro g0 n hM
  refine j_start (by decide) (Nat.le_of_ble_eq_true rfl) ?_
  intro p e s mi args below meth c hC hr hlk hnm hX ls hl
  have hC : Ct D T N (gA g0 n) p s mi args c cX3_met RX3 2 := hC
  have hx := hC.x
  have hb := hC.b
  have ho : off g0 g0 m 27 := off.rf
  generalize hQ : MQ below _ args s 0 0 (gA g0 n) = Q
  have hl : lv_has ls 2 [(0, .ref (m)), (1, .int (iI (k)))] := hl
  refine lv_aload_n hx hb (pc := 0) dX3_met_0 rfl (lv_at hl 0 rfl) ?_
  refine lv_iload_n hx hb (pc := 1) dX3_met_1 rfl (lv_at hl 1 rfl) ?_
  refine M_put hC hX hM ho (pc := 2) 40 (by decide) q928 rfl dX3_met_2 (fun g H locs hX hM ho => ?_)
  refine j_bipush hC (pc := 5) dX3_met_5 (by decide) ?_
  refine lv_iload_n hx hb (pc := 7) dX3_met_7 rfl (lv_at hl 1 rfl) ?_
  refine j_isub hC (pc := 8) dX3_met_8 ?_
  subst hQ
  exact j_iret hC (pc := 9) hX hr hlk (Nat.le_refl _) (Nat.le_refl _) dX3_met_9 ⟨rfl, _, _, hM, ho, ⟨rfl, rfl, rfl⟩⟩

set_option maxHeartbeats 4000000 in
set_option maxRecDepth 100000 in
theorem m3_lose (D : va_G) (T N : Nat → Nat) (l : Launch) {m : Nat} (F : Nat → Int) (V : Nat → Int → Int) (v : Int) (hI : SI F V) (hg : (-2147483648 ≤ v ∧ v ≤ 2147483647)) : MMi D T N l yX3_lose (ws_ yX3_lose cX3_lose 2 (some .int)) ({ frames := 2, cells := 0, slots := 0, locals := 45 } : Room) m [.int (iI (v))] F V (mP (op_lose F V v)) := by
  intro g0 n hM
  refine j_start (by decide) (Nat.le_of_ble_eq_true rfl) ?_
  intro p e s mi args below meth c hC hr hlk hnm hX ls hl
  have hC : Ct D T N (gA g0 n) p s mi args c cX3_lose RX3 2 := hC
  have hx := hC.x
  have hb := hC.b
  have ho : off g0 g0 m 27 := off.rf
  generalize hQ : MQ below _ args s 0 0 (gA g0 n) = Q
  have hl : lv_has ls 2 [(0, .ref (m)), (1, .int (iI (v)))] := hl
  have hn := hI.nums
  refine lv_iload_n hx hb (pc := 0) dX3_lose_0 rfl (lv_at hl 1 rfl) ?_
  refine S_calli (As := [.int (iI (v))]) (rest := []) hC hX (m3_isSheet D T N l v (by omega)) (va_cwS 1 hC.ts (lw_S q1224 q1225 q46 q1226) rfl rfl rfl (by decide +kernel) ⟨Nat.le_of_ble_eq_true rfl, Nat.le_of_ble_eq_true rfl⟩) rfl hl.1 (Nat.le_of_ble_eq_true rfl) dX3_lose_1 ⟨Nat.zero_le _, Nat.zero_le _⟩ (fun r1 H locs hp hX => ?_)
  have hq_r1 := inF_of hp
  refine j_if_ne hC (pc := 4) 10 dX3_lose_4 (by decide) (by omega) (fun c2 => ?_) (fun c2 => ?_)
  · skip
    refine lv_aload_n hx hb (pc := 10) dX3_lose_10 rfl (lv_at hl 0 rfl) ?_
    refine M_get hC hX hM (pc := 11) 36 (by decide) q924 rfl (v := .ref (m + 23)) rfl dX3_lose_11 ?_
    refine lv_iload_n hx hb (pc := 14) dX3_lose_14 rfl (lv_at hl 1 rfl) ?_
    refine M_iald hC hX hM (pc := 15) 23 (by decide) (L := 4) ⟨rfl, by decide⟩ (by omega) (z := V 23 v) rfl dX3_lose_15 ?_
    have h23_v := hI.i23 (i := v) (by omega)
    refine j_if_ge hC (pc := 16) 25 dX3_lose_16 (by decide) (by omega) (fun c3 => ?_) (fun c3 => ?_)
    · skip
      refine lv_aload_n hx hb (pc := 25) dX3_lose_25 rfl (lv_at hl 0 rfl) ?_
      refine M_get hC hX hM (pc := 26) 36 (by decide) q924 rfl (v := .ref (m + 23)) rfl dX3_lose_26 ?_
      refine lv_iload_n hx hb (pc := 29) dX3_lose_29 rfl (lv_at hl 1 rfl) ?_
      refine j_iconst hC (pc := 30) dX3_lose_30 ?_
      refine M_iast hC hX hM ho (pc := 31) 23 (by decide) (L := 4) ⟨rfl, by decide⟩ (by omega) dX3_lose_31 (fun g H locs hX hM ho => ?_)
      refine lv_aload_n hx hb (pc := 32) dX3_lose_32 rfl (lv_at hl 0 rfl) ?_
      refine M_get hC hX hM (pc := 33) 37 (by decide) q925 rfl (v := .ref (m + 24)) rfl dX3_lose_33 ?_
      refine lv_iload_n hx hb (pc := 36) dX3_lose_36 rfl (lv_at hl 1 rfl) ?_
      refine M_iald hC hX hM (pc := 37) 24 (by decide) (L := 4) ⟨rfl, by decide⟩ (by omega) (z := V 24 v) rfl dX3_lose_37 ?_
      subst hQ
      exact j_iret hC (pc := 38) hX hr hlk (Nat.le_refl _) (Nat.le_refl _) dX3_lose_38 ⟨rfl, _, _, hM, ho, (by unfold op_lose; rw [if_pos (by omega), if_neg (by omega)]; exact ⟨rfl, ch.rf, ch.rf⟩)⟩
    · skip
      refine lv_aload_n hx hb (pc := 19) dX3_lose_19 rfl (lv_at hl 0 rfl) ?_
      refine j_iconst hC (pc := 20) dX3_lose_20 ?_
      refine M_calli (As := [.int (iI (1))]) (rest := []) hC hX hM ho (m3_met D T N l _ _ 1 (by omega)) (cwV 1 hC.ts (lw_V q1228 q1230 qs37 q46 q1231) rfl rfl rfl (by decide +kernel) ⟨Nat.le_of_ble_eq_true rfl, Nat.le_of_ble_eq_true rfl⟩) rfl hl.1 (Nat.le_of_ble_eq_true rfl) dX3_lose_21 ⟨Nat.zero_le _, Nat.zero_le _⟩ (fun r4 F5 V5 g H locs hp hX hM ho => ?_)
      obtain ⟨hp, hF_, hV_⟩ := hp
      rw [hF_, hV_] at hM
      subst hQ
      exact j_iret hC (pc := 24) hX hr hlk (Nat.le_refl _) (Nat.le_refl _) dX3_lose_24 ⟨rfl, _, _, hM, ho, (by unfold op_lose; rw [if_pos (by omega), if_pos (by omega)]; exact ⟨by omega, ch.rf, ch.rf⟩)⟩
  · skip
    refine j_bipush hC (pc := 7) dX3_lose_7 (by decide) ?_
    subst hQ
    exact j_iret hC (pc := 9) hX hr hlk (Nat.le_refl _) (Nat.le_refl _) dX3_lose_9 ⟨rfl, _, _, hM, ho, (by unfold op_lose; rw [if_neg (by omega)]; exact ⟨rfl, ch.rf, ch.rf⟩)⟩

set_option maxHeartbeats 4000000 in
set_option maxRecDepth 100000 in
theorem m3_lacks (D : va_G) (T N : Nat → Nat) (l : Launch) {m : Nat} (F : Nat → Int) (V : Nat → Int → Int) (v f i : Int) (hI : SI F V) (hg : (-2147483648 ≤ v ∧ v ≤ 2147483647) ∧ (-2147483648 ≤ f ∧ f ≤ 2147483647) ∧ (-2147483648 ≤ i ∧ i ≤ 2147483647)) (hv : 0 ≤ v ∧ v < 4) : MMi D T N l yX3_lacks (ws_ yX3_lacks cX3_lacks 4 (some .int)) ({ frames := 1, cells := 0, slots := 0, locals := 25 } : Room) m [.int (iI (v)), .int (iI (f)), .int (iI (i))] F V (fun r F' V' => V' = V ∧ ((lacksF F V v f i = 0 ∧ r = 0 ∧ F' = F) ∨ ((1 ≤ lacksF F V v f i ∧ lacksF F V v f i ≤ 3) ∧ r = -10 - lacksF F V v f i ∧ F' = fin F (lacksF F V v f i)))) := by
  intro g0 n hM
  refine j_start (by decide) (Nat.le_of_ble_eq_true rfl) ?_
  intro p e s mi args below meth c hC hr hlk hnm hX ls hl
  have hC : Ct D T N (gA g0 n) p s mi args c cX3_lacks RX3 4 := hC
  have hx := hC.x
  have hb := hC.b
  have ho : off g0 g0 m 27 := off.rf
  generalize hQ : MQ below _ args s 0 0 (gA g0 n) = Q
  have hl : lv_has ls 4 [(0, .ref (m)), (1, .int (iI (v))), (2, .int (iI (f))), (3, .int (iI (i)))] := hl
  have hn := hI.nums
  have h23_v := hI.i23 (i := v) (by omega)
  refine lv_aload_n hx hb (pc := 0) dX3_lacks_0 rfl (lv_at hl 0 rfl) ?_
  refine M_get hC hX hM (pc := 1) 36 (by decide) q924 rfl (v := .ref (m + 23)) rfl dX3_lacks_1 ?_
  refine lv_iload_n hx hb (pc := 4) dX3_lacks_4 rfl (lv_at hl 1 rfl) ?_
  refine M_iald hC hX hM (pc := 5) 23 (by decide) (L := 4) ⟨rfl, by decide⟩ (by omega) (z := V 23 v) rfl dX3_lacks_5 ?_
  refine j_if_ge hC (pc := 6) 15 dX3_lacks_6 (by decide) (by omega) (fun c1 => ?_) (fun c1 => ?_)
  · skip
    refine lv_aload_n hx hb (pc := 15) dX3_lacks_15 rfl (lv_at hl 0 rfl) ?_
    refine M_get hC hX hM (pc := 16) 36 (by decide) q924 rfl (v := .ref (m + 23)) rfl dX3_lacks_16 ?_
    refine lv_iload_n hx hb (pc := 19) dX3_lacks_19 rfl (lv_at hl 1 rfl) ?_
    refine M_iald hC hX hM (pc := 20) 23 (by decide) (L := 4) ⟨rfl, by decide⟩ (by omega) (z := V 23 v) rfl dX3_lacks_20 ?_
    refine lv_iload_n hx hb (pc := 21) dX3_lacks_21 rfl (lv_at hl 2 rfl) ?_
    refine j_icmp_eq hC (pc := 22) 31 dX3_lacks_22 (by decide) (by omega) (fun c2 => ?_) (fun c2 => ?_)
    · skip
      refine lv_iload_n hx hb (pc := 31) dX3_lacks_31 rfl (lv_at hl 3 rfl) ?_
      refine j_i2l hC (pc := 32) dX3_lacks_32 (by omega) ?_
      refine j_lconst hC (pc := 33) (w := 0) dX3_lacks_33 rfl ?_
      refine lv_aload_n hx hb (pc := 34) dX3_lacks_34 rfl (lv_at hl 0 rfl) ?_
      refine M_get hC hX hM (pc := 35) 37 (by decide) q925 rfl (v := .ref (m + 24)) rfl dX3_lacks_35 ?_
      refine lv_iload_n hx hb (pc := 38) dX3_lacks_38 rfl (lv_at hl 1 rfl) ?_
      refine M_iald hC hX hM (pc := 39) 24 (by decide) (L := 4) ⟨rfl, by decide⟩ (by omega) (z := V 24 v) rfl dX3_lacks_39 ?_
      refine j_iconst hC (pc := 40) dX3_lacks_40 ?_
      refine j_isub hC (pc := 41) dX3_lacks_41 ?_
      refine j_i2l hC (pc := 42) dX3_lacks_42 (by omega) ?_
      refine S_calli (As := [.long (lI (i)), .long (lI (0)), .long (lI ((V 24 v) - 1))]) (rest := []) hC hX (m3_in D T N l i 0 ((V 24 v) - 1) (by omega)) (va_cwS 3 hC.ts (lw_S q1020 q1021 q46 q1022) rfl rfl rfl (by decide +kernel) ⟨Nat.le_of_ble_eq_true rfl, Nat.le_of_ble_eq_true rfl⟩) rfl hl.1 (Nat.le_of_ble_eq_true rfl) dX3_lacks_43 ⟨Nat.zero_le _, Nat.zero_le _⟩ (fun r3 H locs hp hX => ?_)
      have hq_r3 := inF_of hp
      refine j_if_eq hC (pc := 46) 53 dX3_lacks_46 (by decide) (by omega) (fun c4 => ?_) (fun c4 => ?_)
      · skip
        refine lv_aload_n hx hb (pc := 53) dX3_lacks_53 rfl (lv_at hl 0 rfl) ?_
        refine j_iconst hC (pc := 54) dX3_lacks_54 ?_
        refine M_calli (As := [.int (iI (2))]) (rest := []) hC hX hM ho (m3_met D T N l _ _ 2 (by omega)) (cwV 1 hC.ts (lw_V q1228 q1230 qs37 q46 q1231) rfl rfl rfl (by decide +kernel) ⟨Nat.le_of_ble_eq_true rfl, Nat.le_of_ble_eq_true rfl⟩) rfl hl.1 (Nat.le_of_ble_eq_true rfl) dX3_lacks_55 ⟨Nat.zero_le _, Nat.zero_le _⟩ (fun r5 F6 V6 g H locs hp hX hM ho => ?_)
        obtain ⟨hp, hF_, hV_⟩ := hp
        rw [hF_, hV_] at hM
        subst hQ
        exact j_iret hC (pc := 58) hX hr hlk (Nat.le_refl _) (Nat.le_refl _) dX3_lacks_58 ⟨rfl, _, _, hM, ho, (by have e : lacksF F V v f i = 2 := (by unfold lacksF; rw [if_neg (by omega), if_neg (by omega), if_neg (by omega)]); exact ⟨rfl, Or.inr ⟨by omega, by omega, by rw [e]; rfl⟩⟩)⟩
      · skip
        refine j_iconst hC (pc := 49) dX3_lacks_49 ?_
        refine j_goto hC (pc := 50) 58 dX3_lacks_50 (by decide) ?_
        subst hQ
        exact j_iret hC (pc := 58) hX hr hlk (Nat.le_refl _) (Nat.le_refl _) dX3_lacks_58 ⟨rfl, _, _, hM, ho, (by have e : lacksF F V v f i = 0 := (by unfold lacksF; rw [if_neg (by omega), if_neg (by omega), if_pos (by omega)]); exact ⟨rfl, Or.inl ⟨e, rfl, rfl⟩⟩)⟩
    · skip
      refine lv_aload_n hx hb (pc := 25) dX3_lacks_25 rfl (lv_at hl 0 rfl) ?_
      refine j_iconst hC (pc := 26) dX3_lacks_26 ?_
      refine M_calli (As := [.int (iI (3))]) (rest := []) hC hX hM ho (m3_met D T N l _ _ 3 (by omega)) (cwV 1 hC.ts (lw_V q1228 q1230 qs37 q46 q1231) rfl rfl rfl (by decide +kernel) ⟨Nat.le_of_ble_eq_true rfl, Nat.le_of_ble_eq_true rfl⟩) rfl hl.1 (Nat.le_of_ble_eq_true rfl) dX3_lacks_27 ⟨Nat.zero_le _, Nat.zero_le _⟩ (fun r7 F8 V8 g H locs hp hX hM ho => ?_)
      obtain ⟨hp, hF_, hV_⟩ := hp
      rw [hF_, hV_] at hM
      subst hQ
      exact j_iret hC (pc := 30) hX hr hlk (Nat.le_refl _) (Nat.le_refl _) dX3_lacks_30 ⟨rfl, _, _, hM, ho, (by have e : lacksF F V v f i = 3 := (by unfold lacksF; rw [if_neg (by omega), if_pos (by omega)]); exact ⟨rfl, Or.inr ⟨by omega, by omega, by rw [e]; rfl⟩⟩)⟩
  · skip
    refine lv_aload_n hx hb (pc := 9) dX3_lacks_9 rfl (lv_at hl 0 rfl) ?_
    refine j_iconst hC (pc := 10) dX3_lacks_10 ?_
    refine M_calli (As := [.int (iI (1))]) (rest := []) hC hX hM ho (m3_met D T N l _ _ 1 (by omega)) (cwV 1 hC.ts (lw_V q1228 q1230 qs37 q46 q1231) rfl rfl rfl (by decide +kernel) ⟨Nat.le_of_ble_eq_true rfl, Nat.le_of_ble_eq_true rfl⟩) rfl hl.1 (Nat.le_of_ble_eq_true rfl) dX3_lacks_11 ⟨Nat.zero_le _, Nat.zero_le _⟩ (fun r9 F10 V10 g H locs hp hX hM ho => ?_)
    obtain ⟨hp, hF_, hV_⟩ := hp
    rw [hF_, hV_] at hM
    subst hQ
    exact j_iret hC (pc := 14) hX hr hlk (Nat.le_refl _) (Nat.le_refl _) dX3_lacks_14 ⟨rfl, _, _, hM, ho, (by have e : lacksF F V v f i = 1 := (by unfold lacksF; rw [if_pos (by omega)]); exact ⟨rfl, Or.inr ⟨by omega, by omega, by rw [e]; rfl⟩⟩)⟩

set_option maxHeartbeats 4000000 in
set_option maxRecDepth 100000 in
theorem m3_put (D : va_G) (T N : Nat → Nat) (l : Launch) {m : Nat} (F : Nat → Int) (V : Nat → Int → Int) (v f i x : Int) (hI : SI F V) (hg : (-2147483648 ≤ v ∧ v ≤ 2147483647) ∧ (-2147483648 ≤ f ∧ f ≤ 2147483647) ∧ (-2147483648 ≤ i ∧ i ≤ 2147483647) ∧ (-2147483648 ≤ x ∧ x ≤ 2147483647)) : MMi D T N l yX3_put (ws_ yX3_put cX3_put 6 (some .int)) ({ frames := 2, cells := 0, slots := 0, locals := 48 } : Room) m [.int (iI (v)), .int (iI (f)), .int (iI (i)), .int (iI (x))] F V (mP (op_put F V v f i x)) := by
  intro g0 n hM
  refine j_start (by decide) (Nat.le_of_ble_eq_true rfl) ?_
  intro p e s mi args below meth c hC hr hlk hnm hX ls hl
  have hC : Ct D T N (gA g0 n) p s mi args c cX3_put RX3 6 := hC
  have hx := hC.x
  have hb := hC.b
  have ho : off g0 g0 m 27 := off.rf
  generalize hQ : MQ below _ args s 0 0 (gA g0 n) = Q
  have hl : lv_has ls 6 [(0, .ref (m)), (1, .int (iI (v))), (2, .int (iI (f))), (3, .int (iI (i))), (4, .int (iI (x)))] := hl
  have hn := hI.nums
  refine lv_iload_n hx hb (pc := 0) dX3_put_0 rfl (lv_at hl 1 rfl) ?_
  refine S_calli (As := [.int (iI (v))]) (rest := []) hC hX (m3_isSheet D T N l v (by omega)) (va_cwS 1 hC.ts (lw_S q1224 q1225 q46 q1226) rfl rfl rfl (by decide +kernel) ⟨Nat.le_of_ble_eq_true rfl, Nat.le_of_ble_eq_true rfl⟩) rfl hl.1 (Nat.le_of_ble_eq_true rfl) dX3_put_1 ⟨Nat.zero_le _, Nat.zero_le _⟩ (fun r1 H locs hp hX => ?_)
  have hq_r1 := inF_of hp
  refine j_if_eq hC (pc := 4) 19 dX3_put_4 (by decide) (by omega) (fun c2 => ?_) (fun c2 => ?_)
  · skip
    refine j_bipush hC (pc := 19) dX3_put_19 (by decide) ?_
    subst hQ
    exact j_iret hC (pc := 21) hX hr hlk (Nat.le_refl _) (Nat.le_refl _) dX3_put_21 ⟨rfl, _, _, hM, ho, (by unfold op_put; rw [if_neg (by omega)]; exact ⟨rfl, ch.rf, ch.rf⟩)⟩
  · skip
    refine lv_iload_n hx hb (pc := 7) dX3_put_7 rfl (lv_at hl 2 rfl) ?_
    refine j_i2l hC (pc := 8) dX3_put_8 (by omega) ?_
    refine j_lconst hC (pc := 9) (w := 0) dX3_put_9 rfl ?_
    refine j_ldc2 hC (pc := 10) (z := 2) q1019 dX3_put_10 rfl ?_
    refine S_calli (As := [.long (lI (f)), .long (lI (0)), .long (lI (2))]) (rest := []) hC hX (m3_in D T N l f 0 2 (by omega)) (va_cwS 3 hC.ts (lw_S q1020 q1021 q46 q1022) rfl rfl rfl (by decide +kernel) ⟨Nat.le_of_ble_eq_true rfl, Nat.le_of_ble_eq_true rfl⟩) rfl hl.1 (Nat.le_of_ble_eq_true rfl) dX3_put_13 ⟨Nat.zero_le _, Nat.zero_le _⟩ (fun r3 H locs hp hX => ?_)
    have hq_r3 := inF_of hp
    refine j_if_ne hC (pc := 16) 22 dX3_put_16 (by decide) (by omega) (fun c4 => ?_) (fun c4 => ?_)
    · skip
      refine lv_aload_n hx hb (pc := 22) dX3_put_22 rfl (lv_at hl 0 rfl) ?_
      refine lv_iload_n hx hb (pc := 23) dX3_put_23 rfl (lv_at hl 1 rfl) ?_
      refine lv_iload_n hx hb (pc := 24) dX3_put_24 rfl (lv_at hl 2 rfl) ?_
      refine lv_iload_n hx hb (pc := 25) dX3_put_25 rfl (lv_at hl 3 rfl) ?_
      refine M_calli (As := [.int (iI (v)), .int (iI (f)), .int (iI (i))]) (rest := []) hC hX hM ho (m3_lacks D T N l _ _ v f i hI (by omega) (by omega)) (cwV 3 hC.ts (lw_V q1249 q1251 qs38 q46 q1252) rfl rfl rfl (by decide +kernel) ⟨Nat.le_of_ble_eq_true rfl, Nat.le_of_ble_eq_true rfl⟩) rfl hl.1 (Nat.le_of_ble_eq_true rfl) dX3_put_26 ⟨Nat.zero_le _, Nat.zero_le _⟩ (fun r5 F6 V6 g H locs hp hX hM ho => ?_)
      obtain ⟨hV_, hp⟩ := hp
      rw [hV_] at hM
      have hlk_ : (lacksF F V v f i = 0 ∧ r5 = 0) ∨ ((1 ≤ lacksF F V v f i ∧ lacksF F V v f i ≤ 3) ∧ r5 = -10 - lacksF F V v f i) := by rcases hp with ⟨a1, a2, -⟩ | ⟨a1, a2, -⟩; exact Or.inl ⟨a1, a2⟩; exact Or.inr ⟨a1, a2⟩
      refine lv_istore (lv' := [(5, .int (iI (r5))), (0, .ref (m)), (1, .int (iI (v))), (2, .int (iI (f))), (3, .int (iI (i))), (4, .int (iI (x)))]) hx hb (pc := 29) dX3_put_29 hl (by decide) rfl (fun ls hl => ?_)
      refine lv_iload hx hb (pc := 31) dX3_put_31 (lv_at hl 0 rfl) ?_
      refine j_if_eq hC (pc := 33) 39 dX3_put_33 (by decide) (by omega) (fun c7 => ?_) (fun c7 => ?_)
      · skip
        obtain ⟨hz, hF_⟩ : lacksF F V v f i = 0 ∧ F6 = F := by rcases hp with ⟨a1, -, a3⟩ | ⟨a1, a2, -⟩; exact ⟨a1, a3⟩; exfalso; omega
        rw [hF_] at hM
        have hi2 : 0 ≤ i ∧ i < V 24 v := by unfold lacksF at hz; (repeat' split at hz) <;> omega
        have h23_v := hI.i23 (i := v) (by omega)
        refine lv_aload_n hx hb (pc := 39) dX3_put_39 rfl (lv_at hl 1 rfl) ?_
        refine M_get hC hX hM (pc := 40) 38 (by decide) q926 rfl (v := .ref (m + 25)) rfl dX3_put_40 ?_
        refine j_bipush hC (pc := 43) dX3_put_43 (by decide) ?_
        refine lv_iload_n hx hb (pc := 45) dX3_put_45 rfl (lv_at hl 2 rfl) ?_
        refine j_imul hC (pc := 46) dX3_put_46 ?_
        refine lv_iload_n hx hb (pc := 47) dX3_put_47 rfl (lv_at hl 4 rfl) ?_
        refine j_iadd hC (pc := 48) dX3_put_48 ?_
        refine lv_iload_n hx hb (pc := 49) dX3_put_49 rfl (lv_at hl 3 rfl) ?_
        refine j_if_ne hC (pc := 50) 59 dX3_put_50 (by decide) (by omega) (fun c8 => ?_) (fun c8 => ?_)
        · skip
          refine lv_iload_n hx hb (pc := 59) dX3_put_59 rfl (lv_at hl 3 rfl) ?_
          refine j_iconst hC (pc := 60) dX3_put_60 ?_
          refine j_icmp_ne hC (pc := 61) 70 dX3_put_61 (by decide) (by omega) (fun c9 => ?_) (fun c9 => ?_)
          · skip
            refine lv_iload hx hb (pc := 70) dX3_put_70 (lv_at hl 5 rfl) ?_
            refine M_iast hC hX hM ho (pc := 72) 25 (by decide) (L := 240) ⟨rfl, by decide⟩ (by omega) dX3_put_72 (fun g H locs hX hM ho => ?_)
            refine j_iconst hC (pc := 73) dX3_put_73 ?_
            subst hQ
            exact j_iret hC (pc := 74) hX hr hlk (Nat.le_refl _) (Nat.le_refl _) dX3_put_74 ⟨rfl, _, _, hM, ho, (by unfold op_put; rw [if_pos (by omega), if_pos (by omega)]; exact ⟨rfl, ch.rf, by unfold layF; rw [if_neg (by omega), if_neg (by omega)]; exact ch.rf⟩)⟩
          · skip
            refine lv_iload hx hb (pc := 64) dX3_put_64 (lv_at hl 5 rfl) ?_
            refine j_i2s hC (pc := 66) dX3_put_66 ?_
            refine j_goto hC (pc := 67) 72 dX3_put_67 (by decide) ?_
            refine M_iast hC hX hM ho (pc := 72) 25 (by decide) (L := 240) ⟨rfl, by decide⟩ (by omega) dX3_put_72 (fun g H locs hX hM ho => ?_)
            refine j_iconst hC (pc := 73) dX3_put_73 ?_
            subst hQ
            exact j_iret hC (pc := 74) hX hr hlk (Nat.le_refl _) (Nat.le_refl _) dX3_put_74 ⟨rfl, _, _, hM, ho, (by unfold op_put; rw [if_pos (by omega), if_pos (by omega)]; exact ⟨rfl, ch.rf, by unfold layF; rw [if_neg (by omega), if_pos (by omega)]; exact ch.rf⟩)⟩
        · skip
          refine lv_iload hx hb (pc := 53) dX3_put_53 (lv_at hl 5 rfl) ?_
          refine j_i2b hC (pc := 55) dX3_put_55 ?_
          refine j_goto hC (pc := 56) 72 dX3_put_56 (by decide) ?_
          refine M_iast hC hX hM ho (pc := 72) 25 (by decide) (L := 240) ⟨rfl, by decide⟩ (by omega) dX3_put_72 (fun g H locs hX hM ho => ?_)
          refine j_iconst hC (pc := 73) dX3_put_73 ?_
          subst hQ
          exact j_iret hC (pc := 74) hX hr hlk (Nat.le_refl _) (Nat.le_refl _) dX3_put_74 ⟨rfl, _, _, hM, ho, (by unfold op_put; rw [if_pos (by omega), if_pos (by omega)]; exact ⟨rfl, ch.rf, by unfold layF; rw [if_pos (by omega)]; exact ch.rf⟩)⟩
      · skip
        obtain ⟨hz, hz2, hF_⟩ : (1 ≤ lacksF F V v f i ∧ lacksF F V v f i ≤ 3) ∧ r5 = -10 - lacksF F V v f i ∧ F6 = fin F (lacksF F V v f i) := by rcases hp with ⟨a1, a2, a3⟩ | ⟨a1, a2, a3⟩; exfalso; omega; exact ⟨a1, a2, a3⟩
        refine lv_iload hx hb (pc := 36) dX3_put_36 (lv_at hl 0 rfl) ?_
        subst hQ
        exact j_iret hC (pc := 38) hX hr hlk (Nat.le_refl _) (Nat.le_refl _) dX3_put_38 ⟨rfl, _, _, hM, ho, (by unfold op_put; rw [if_pos (by omega), if_neg (by omega)]; exact ⟨by omega, by rw [hF_]; exact ch.rf, ch.rf⟩)⟩
    · skip
      refine j_bipush hC (pc := 19) dX3_put_19 (by decide) ?_
      subst hQ
      exact j_iret hC (pc := 21) hX hr hlk (Nat.le_refl _) (Nat.le_refl _) dX3_put_21 ⟨rfl, _, _, hM, ho, (by unfold op_put; rw [if_neg (by omega)]; exact ⟨rfl, ch.rf, ch.rf⟩)⟩

set_option maxHeartbeats 4000000 in
set_option maxRecDepth 100000 in
theorem m3_get (D : va_G) (T N : Nat → Nat) (l : Launch) {m : Nat} (F : Nat → Int) (V : Nat → Int → Int) (v f i : Int) (hI : SI F V) (hg : (-2147483648 ≤ v ∧ v ≤ 2147483647) ∧ (-2147483648 ≤ f ∧ f ≤ 2147483647) ∧ (-2147483648 ≤ i ∧ i ≤ 2147483647)) : MMi D T N l yX3_get (ws_ yX3_get cX3_get 4 (some .int)) ({ frames := 2, cells := 0, slots := 0, locals := 48 } : Room) m [.int (iI (v)), .int (iI (f)), .int (iI (i))] F V (mP (op_get F V v f i)) := by
  intro g0 n hM
  refine j_start (by decide) (Nat.le_of_ble_eq_true rfl) ?_
  intro p e s mi args below meth c hC hr hlk hnm hX ls hl
  have hC : Ct D T N (gA g0 n) p s mi args c cX3_get RX3 4 := hC
  have hx := hC.x
  have hb := hC.b
  have ho : off g0 g0 m 27 := off.rf
  generalize hQ : MQ below _ args s 0 0 (gA g0 n) = Q
  have hl : lv_has ls 4 [(0, .ref (m)), (1, .int (iI (v))), (2, .int (iI (f))), (3, .int (iI (i)))] := hl
  have hn := hI.nums
  refine lv_iload_n hx hb (pc := 0) dX3_get_0 rfl (lv_at hl 1 rfl) ?_
  refine S_calli (As := [.int (iI (v))]) (rest := []) hC hX (m3_isSheet D T N l v (by omega)) (va_cwS 1 hC.ts (lw_S q1224 q1225 q46 q1226) rfl rfl rfl (by decide +kernel) ⟨Nat.le_of_ble_eq_true rfl, Nat.le_of_ble_eq_true rfl⟩) rfl hl.1 (Nat.le_of_ble_eq_true rfl) dX3_get_1 ⟨Nat.zero_le _, Nat.zero_le _⟩ (fun r1 H locs hp hX => ?_)
  have hq_r1 := inF_of hp
  refine j_if_eq hC (pc := 4) 29 dX3_get_4 (by decide) (by omega) (fun c2 => ?_) (fun c2 => ?_)
  · skip
    refine j_ldc hC (pc := 29) (z := -2147483648) q1168 dX3_get_29 rfl ?_
    subst hQ
    exact j_iret hC (pc := 31) hX hr hlk (Nat.le_refl _) (Nat.le_refl _) dX3_get_31 ⟨rfl, _, _, hM, ho, (by unfold op_get; rw [if_neg (by omega)]; exact ⟨rfl, ch.rf, ch.rf⟩)⟩
  · skip
    refine lv_iload_n hx hb (pc := 7) dX3_get_7 rfl (lv_at hl 2 rfl) ?_
    refine j_i2l hC (pc := 8) dX3_get_8 (by omega) ?_
    refine j_lconst hC (pc := 9) (w := 0) dX3_get_9 rfl ?_
    refine j_ldc2 hC (pc := 10) (z := 2) q1019 dX3_get_10 rfl ?_
    refine S_calli (As := [.long (lI (f)), .long (lI (0)), .long (lI (2))]) (rest := []) hC hX (m3_in D T N l f 0 2 (by omega)) (va_cwS 3 hC.ts (lw_S q1020 q1021 q46 q1022) rfl rfl rfl (by decide +kernel) ⟨Nat.le_of_ble_eq_true rfl, Nat.le_of_ble_eq_true rfl⟩) rfl hl.1 (Nat.le_of_ble_eq_true rfl) dX3_get_13 ⟨Nat.zero_le _, Nat.zero_le _⟩ (fun r3 H locs hp hX => ?_)
    have hq_r3 := inF_of hp
    refine j_if_eq hC (pc := 16) 29 dX3_get_16 (by decide) (by omega) (fun c4 => ?_) (fun c4 => ?_)
    · skip
      refine j_ldc hC (pc := 29) (z := -2147483648) q1168 dX3_get_29 rfl ?_
      subst hQ
      exact j_iret hC (pc := 31) hX hr hlk (Nat.le_refl _) (Nat.le_refl _) dX3_get_31 ⟨rfl, _, _, hM, ho, (by unfold op_get; rw [if_neg (by omega)]; exact ⟨rfl, ch.rf, ch.rf⟩)⟩
    · skip
      refine lv_aload_n hx hb (pc := 19) dX3_get_19 rfl (lv_at hl 0 rfl) ?_
      refine lv_iload_n hx hb (pc := 20) dX3_get_20 rfl (lv_at hl 1 rfl) ?_
      refine lv_iload_n hx hb (pc := 21) dX3_get_21 rfl (lv_at hl 2 rfl) ?_
      refine lv_iload_n hx hb (pc := 22) dX3_get_22 rfl (lv_at hl 3 rfl) ?_
      refine M_calli (As := [.int (iI (v)), .int (iI (f)), .int (iI (i))]) (rest := []) hC hX hM ho (m3_lacks D T N l _ _ v f i hI (by omega) (by omega)) (cwV 3 hC.ts (lw_V q1249 q1251 qs38 q46 q1252) rfl rfl rfl (by decide +kernel) ⟨Nat.le_of_ble_eq_true rfl, Nat.le_of_ble_eq_true rfl⟩) rfl hl.1 (Nat.le_of_ble_eq_true rfl) dX3_get_23 ⟨Nat.zero_le _, Nat.zero_le _⟩ (fun r5 F6 V6 g H locs hp hX hM ho => ?_)
      obtain ⟨hV_, hp⟩ := hp
      rw [hV_] at hM
      have hlk_ : (lacksF F V v f i = 0 ∧ r5 = 0) ∨ ((1 ≤ lacksF F V v f i ∧ lacksF F V v f i ≤ 3) ∧ r5 = -10 - lacksF F V v f i) := by rcases hp with ⟨a1, a2, -⟩ | ⟨a1, a2, -⟩; exact Or.inl ⟨a1, a2⟩; exact Or.inr ⟨a1, a2⟩
      refine j_if_eq hC (pc := 26) 32 dX3_get_26 (by decide) (by omega) (fun c7 => ?_) (fun c7 => ?_)
      · skip
        obtain ⟨hz, hF_⟩ : lacksF F V v f i = 0 ∧ F6 = F := by rcases hp with ⟨a1, -, a3⟩ | ⟨a1, a2, -⟩; exact ⟨a1, a3⟩; exfalso; omega
        rw [hF_] at hM
        have hi2 : 0 ≤ i ∧ i < V 24 v := by unfold lacksF at hz; (repeat' split at hz) <;> omega
        have h23_v := hI.i23 (i := v) (by omega)
        refine lv_aload_n hx hb (pc := 32) dX3_get_32 rfl (lv_at hl 0 rfl) ?_
        refine M_get hC hX hM (pc := 33) 38 (by decide) q926 rfl (v := .ref (m + 25)) rfl dX3_get_33 ?_
        refine j_bipush hC (pc := 36) dX3_get_36 (by decide) ?_
        refine lv_iload_n hx hb (pc := 38) dX3_get_38 rfl (lv_at hl 1 rfl) ?_
        refine j_imul hC (pc := 39) dX3_get_39 ?_
        refine lv_iload_n hx hb (pc := 40) dX3_get_40 rfl (lv_at hl 3 rfl) ?_
        refine j_iadd hC (pc := 41) dX3_get_41 ?_
        refine M_iald hC hX hM (pc := 42) 25 (by decide) (L := 240) ⟨rfl, by decide⟩ (by omega) (z := V 25 ((60 * v) + i)) rfl dX3_get_42 ?_
        subst hQ
        exact j_iret hC (pc := 43) hX hr hlk (Nat.le_refl _) (Nat.le_refl _) dX3_get_43 ⟨rfl, _, _, hM, ho, (by unfold op_get; rw [if_pos (by omega), if_pos (by omega)]; exact ⟨rfl, ch.rf, ch.rf⟩)⟩
      · skip
        obtain ⟨hz, hz2, hF_⟩ : (1 ≤ lacksF F V v f i ∧ lacksF F V v f i ≤ 3) ∧ r5 = -10 - lacksF F V v f i ∧ F6 = fin F (lacksF F V v f i) := by rcases hp with ⟨a1, a2, a3⟩ | ⟨a1, a2, a3⟩; exfalso; omega; exact ⟨a1, a2, a3⟩
        refine j_ldc hC (pc := 29) (z := -2147483648) q1168 dX3_get_29 rfl ?_
        subst hQ
        exact j_iret hC (pc := 31) hX hr hlk (Nat.le_refl _) (Nat.le_refl _) dX3_get_31 ⟨rfl, _, _, hM, ho, (by unfold op_get; rw [if_pos (by omega), if_neg (by omega)]; exact ⟨rfl, by rw [hF_]; exact ch.rf, ch.rf⟩)⟩

set_option maxHeartbeats 4000000 in
set_option maxRecDepth 100000 in
theorem m3_sheet (D : va_G) (T N : Nat → Nat) (l : Launch) {m : Nat} (F : Nat → Int) (V : Nat → Int → Int) (v f k : Int) (hI : SI F V) (hg : (-2147483648 ≤ v ∧ v ≤ 2147483647) ∧ (-2147483648 ≤ f ∧ f ≤ 2147483647) ∧ (-2147483648 ≤ k ∧ k ≤ 2147483647)) : MMi D T N l yX3_sheet (ws_ yX3_sheet cX3_sheet 5 (some .int)) ({ frames := 2, cells := 0, slots := 0, locals := 45 } : Room) m [.int (iI (v)), .int (iI (f)), .int (iI (k))] F V (mP (op_sheet F V v f k)) := by
  intro g0 n hM
  refine j_start (by decide) (Nat.le_of_ble_eq_true rfl) ?_
  intro p e s mi args below meth c hC hr hlk hnm hX ls hl
  have hC : Ct D T N (gA g0 n) p s mi args c cX3_sheet RX3 5 := hC
  have hx := hC.x
  have hb := hC.b
  have ho : off g0 g0 m 27 := off.rf
  generalize hQ : MQ below _ args s 0 0 (gA g0 n) = Q
  have hl : lv_has ls 5 [(0, .ref (m)), (1, .int (iI (v))), (2, .int (iI (f))), (3, .int (iI (k)))] := hl
  have hn := hI.nums
  refine lv_iload_n hx hb (pc := 0) dX3_sheet_0 rfl (lv_at hl 1 rfl) ?_
  refine S_calli (As := [.int (iI (v))]) (rest := []) hC hX (m3_isSheet D T N l v (by omega)) (va_cwS 1 hC.ts (lw_S q1224 q1225 q46 q1226) rfl rfl rfl (by decide +kernel) ⟨Nat.le_of_ble_eq_true rfl, Nat.le_of_ble_eq_true rfl⟩) rfl hl.1 (Nat.le_of_ble_eq_true rfl) dX3_sheet_1 ⟨Nat.zero_le _, Nat.zero_le _⟩ (fun r1 H locs hp hX => ?_)
  have hq_r1 := inF_of hp
  refine j_if_eq hC (pc := 4) 25 dX3_sheet_4 (by decide) (by omega) (fun c2 => ?_) (fun c2 => ?_)
  · skip
    refine j_bipush hC (pc := 25) dX3_sheet_25 (by decide) ?_
    subst hQ
    exact j_iret hC (pc := 27) hX hr hlk (Nat.le_refl _) (Nat.le_refl _) dX3_sheet_27 ⟨rfl, _, _, hM, ho, (by unfold op_sheet; rw [if_neg (by omega)]; exact ⟨rfl, ch.rf, ch.rf⟩)⟩
  · skip
    refine lv_iload_n hx hb (pc := 7) dX3_sheet_7 rfl (lv_at hl 2 rfl) ?_
    refine j_i2l hC (pc := 8) dX3_sheet_8 (by omega) ?_
    refine j_lconst hC (pc := 9) (w := 0) dX3_sheet_9 rfl ?_
    refine j_ldc2 hC (pc := 10) (z := 2) q1019 dX3_sheet_10 rfl ?_
    refine S_calli (As := [.long (lI (f)), .long (lI (0)), .long (lI (2))]) (rest := []) hC hX (m3_in D T N l f 0 2 (by omega)) (va_cwS 3 hC.ts (lw_S q1020 q1021 q46 q1022) rfl rfl rfl (by decide +kernel) ⟨Nat.le_of_ble_eq_true rfl, Nat.le_of_ble_eq_true rfl⟩) rfl hl.1 (Nat.le_of_ble_eq_true rfl) dX3_sheet_13 ⟨Nat.zero_le _, Nat.zero_le _⟩ (fun r3 H locs hp hX => ?_)
    have hq_r3 := inF_of hp
    refine j_if_eq hC (pc := 16) 25 dX3_sheet_16 (by decide) (by omega) (fun c4 => ?_) (fun c4 => ?_)
    · skip
      refine j_bipush hC (pc := 25) dX3_sheet_25 (by decide) ?_
      subst hQ
      exact j_iret hC (pc := 27) hX hr hlk (Nat.le_refl _) (Nat.le_refl _) dX3_sheet_27 ⟨rfl, _, _, hM, ho, (by unfold op_sheet; rw [if_neg (by omega)]; exact ⟨rfl, ch.rf, ch.rf⟩)⟩
    · skip
      refine lv_iload_n hx hb (pc := 19) dX3_sheet_19 rfl (lv_at hl 3 rfl) ?_
      refine j_bipush hC (pc := 20) dX3_sheet_20 (by decide) ?_
      refine j_icmp_le hC (pc := 22) 28 dX3_sheet_22 (by decide) (by omega) (fun c5 => ?_) (fun c5 => ?_)
      · skip
        refine lv_iload_n hx hb (pc := 28) dX3_sheet_28 rfl (lv_at hl 3 rfl) ?_
        refine j_if_ge hC (pc := 29) 38 dX3_sheet_29 (by decide) (by omega) (fun c6 => ?_) (fun c6 => ?_)
        · skip
          refine lv_aload_n hx hb (pc := 38) dX3_sheet_38 rfl (lv_at hl 0 rfl) ?_
          refine M_get hC hX hM (pc := 39) 36 (by decide) q924 rfl (v := .ref (m + 23)) rfl dX3_sheet_39 ?_
          refine lv_iload_n hx hb (pc := 42) dX3_sheet_42 rfl (lv_at hl 1 rfl) ?_
          refine lv_iload_n hx hb (pc := 43) dX3_sheet_43 rfl (lv_at hl 2 rfl) ?_
          refine M_iast hC hX hM ho (pc := 44) 23 (by decide) (L := 4) ⟨rfl, by decide⟩ (by omega) dX3_sheet_44 (fun g H locs hX hM ho => ?_)
          refine lv_aload_n hx hb (pc := 45) dX3_sheet_45 rfl (lv_at hl 0 rfl) ?_
          refine M_get hC hX hM (pc := 46) 37 (by decide) q925 rfl (v := .ref (m + 24)) rfl dX3_sheet_46 ?_
          refine lv_iload_n hx hb (pc := 49) dX3_sheet_49 rfl (lv_at hl 1 rfl) ?_
          refine lv_iload_n hx hb (pc := 50) dX3_sheet_50 rfl (lv_at hl 3 rfl) ?_
          refine M_iast hC hX hM ho (pc := 51) 24 (by decide) (L := 4) ⟨rfl, by decide⟩ (by omega) dX3_sheet_51 (fun g H locs hX hM ho => ?_)
          refine j_iconst hC (pc := 52) dX3_sheet_52 ?_
          refine lv_istore (lv' := [(4, .int (iI (0))), (0, .ref (m)), (1, .int (iI (v))), (2, .int (iI (f))), (3, .int (iI (k)))]) hx hb (pc := 53) dX3_sheet_53 hl (by decide) rfl (fun ls hl => ?_)
          have L55 : ∀ (fu : Nat) (i : Int) (V1 : Nat → Int → Int), k - i < (fu : Int) → (0 ≤ i ∧ i ≤ k) → (ch (va_up (va_up V 23 (uI (V 23) v f)) 24 (uI (V 24) v k)) V1 [25]) → (V1 25 = zeroF (V 25) (60 * v) i.toNat) → ∀ (g : GH) (H : Heap) (locs : List Loc), Wd D (gA g0 n) s g n H locs → mR T g m F V1 → off g0 g m 27 → ∀ (ls : Array Slot), lv_has ls 5 [(4, .int (iI (i))), (0, .ref (m)), (1, .int (iI (v))), (2, .int (iI (f))), (3, .int (iI (k)))] → W p l e ({ frames := 2, cells := 0, slots := 0, locals := 45 } : Room) s mi args below meth c H locs 0 0 Q (F0 mi 55 ls []) := by
            intro fu
            induction fu with
            | zero =>
              intro i V1 hfu hi hc h25 g H locs hX hM ho ls hl
              exfalso
              omega
            | succ fu ih =>
              intro i V1 hfu hi hc h25 g H locs hX hM ho ls hl
              refine lv_iload hx hb (pc := 55) dX3_sheet_55 (lv_at hl 0 rfl) ?_
              refine lv_iload_n hx hb (pc := 57) dX3_sheet_57 rfl (lv_at hl 4 rfl) ?_
              refine j_icmp_ge hC (pc := 58) 80 dX3_sheet_58 (by decide) (by omega) (fun c7 => ?_) (fun c7 => ?_)
              · skip
                refine lv_iload_n hx hb (pc := 80) dX3_sheet_80 rfl (lv_at hl 4 rfl) ?_
                subst hQ
                exact j_iret hC (pc := 81) hX hr hlk (Nat.le_refl _) (Nat.le_refl _) dX3_sheet_81 ⟨rfl, _, _, hM, ho, (by unfold op_sheet; rw [if_pos (by omega), if_neg (by omega)]; exact ⟨rfl, ch.rf, fun j hj => if q : j = 25 then (by subst q; dsimp only; rw [va_up_self, h25, show i.toNat = k.toNat by omega]) else (by dsimp only; rw [va_up_ne _ _ q, hc j (by simp [q])])⟩)⟩
              · skip
                refine lv_aload_n hx hb (pc := 61) dX3_sheet_61 rfl (lv_at hl 1 rfl) ?_
                refine M_get hC hX hM (pc := 62) 38 (by decide) q926 rfl (v := .ref (m + 25)) rfl dX3_sheet_62 ?_
                refine j_bipush hC (pc := 65) dX3_sheet_65 (by decide) ?_
                refine lv_iload_n hx hb (pc := 67) dX3_sheet_67 rfl (lv_at hl 2 rfl) ?_
                refine j_imul hC (pc := 68) dX3_sheet_68 ?_
                refine lv_iload hx hb (pc := 69) dX3_sheet_69 (lv_at hl 0 rfl) ?_
                refine j_iadd hC (pc := 71) dX3_sheet_71 ?_
                refine j_iconst hC (pc := 72) dX3_sheet_72 ?_
                refine M_iast hC hX hM ho (pc := 73) 25 (by decide) (L := 240) ⟨rfl, by decide⟩ (by omega) dX3_sheet_73 (fun g H locs hX hM ho => ?_)
                refine j_iinc hC (pc := 74) (lv' := [(4, .int (iI (i + 1))), (0, .ref (m)), (1, .int (iI (v))), (2, .int (iI (f))), (3, .int (iI (k)))]) dX3_sheet_74 hl (k := 0) rfl (by decide) rfl (fun ls hl => ?_)
                refine j_goto hC (pc := 77) 55 dX3_sheet_77 (by decide) ?_
                exact ih (i + 1) _ (by omega) (by omega) (hc.up 25 _ (by decide)) (by rw [va_up_self, h25, show (i + 1).toNat = i.toNat + 1 by omega]; show uI (zeroF (V 25) (60 * v) i.toNat) (60 * v + i) 0 = uI (zeroF (V 25) (60 * v) i.toNat) (60 * v + (i.toNat : Int)) 0; rw [Int.toNat_of_nonneg (by omega)]) _ _ _ hX hM ho ls (lv_sub hl [0, 1, 2, 3, 4] rfl)
          exact L55 ((k - 0 : Int).toNat + 1) 0 _ (by omega) (by omega) ch.rf rfl _ _ _ hX hM ho ls (lv_sub hl [0, 1, 2, 3, 4] rfl)
        · skip
          refine lv_aload_n hx hb (pc := 32) dX3_sheet_32 rfl (lv_at hl 0 rfl) ?_
          refine j_iconst hC (pc := 33) dX3_sheet_33 ?_
          refine M_calli (As := [.int (iI (5))]) (rest := []) hC hX hM ho (m3_met D T N l _ _ 5 (by omega)) (cwV 1 hC.ts (lw_V q1228 q1230 qs37 q46 q1231) rfl rfl rfl (by decide +kernel) ⟨Nat.le_of_ble_eq_true rfl, Nat.le_of_ble_eq_true rfl⟩) rfl hl.1 (Nat.le_of_ble_eq_true rfl) dX3_sheet_34 ⟨Nat.zero_le _, Nat.zero_le _⟩ (fun r8 F9 V9 g H locs hp hX hM ho => ?_)
          obtain ⟨hp, hF_, hV_⟩ := hp
          rw [hF_, hV_] at hM
          subst hQ
          exact j_iret hC (pc := 37) hX hr hlk (Nat.le_refl _) (Nat.le_refl _) dX3_sheet_37 ⟨rfl, _, _, hM, ho, (by unfold op_sheet; rw [if_pos (by omega), if_pos (by omega)]; exact ⟨by omega, ch.rf, ch.rf⟩)⟩
      · skip
        refine j_bipush hC (pc := 25) dX3_sheet_25 (by decide) ?_
        subst hQ
        exact j_iret hC (pc := 27) hX hr hlk (Nat.le_refl _) (Nat.le_refl _) dX3_sheet_27 ⟨rfl, _, _, hM, ho, (by unfold op_sheet; rw [if_neg (by omega)]; exact ⟨rfl, ch.rf, ch.rf⟩)⟩

set_option maxHeartbeats 4000000 in
set_option maxRecDepth 100000 in
theorem m3_copy (D : va_G) (T N : Nat → Nat) (l : Launch) {m : Nat} (F : Nat → Int) (V : Nat → Int → Int) (v i t j k : Int) (hI : SI F V) (hg : (-2147483648 ≤ v ∧ v ≤ 2147483647) ∧ (-2147483648 ≤ i ∧ i ≤ 2147483647) ∧ (-2147483648 ≤ t ∧ t ≤ 2147483647) ∧ (-2147483648 ≤ j ∧ j ≤ 2147483647) ∧ (-2147483648 ≤ k ∧ k ≤ 2147483647)) : MMi D T N l yX3_copy (ws_ yX3_copy cX3_copy 7 (some .int)) ({ frames := 2, cells := 0, slots := 0, locals := 45 } : Room) m [.int (iI (v)), .int (iI (i)), .int (iI (t)), .int (iI (j)), .int (iI (k))] F V (mP (op_copy F V v i t j k)) := by
  intro g0 n hM
  refine j_start (by decide) (Nat.le_of_ble_eq_true rfl) ?_
  intro p e s mi args below meth c hC hr hlk hnm hX ls hl
  have hC : Ct D T N (gA g0 n) p s mi args c cX3_copy RX3 7 := hC
  have hx := hC.x
  have hb := hC.b
  have ho : off g0 g0 m 27 := off.rf
  generalize hQ : MQ below _ args s 0 0 (gA g0 n) = Q
  have hl : lv_has ls 7 [(0, .ref (m)), (1, .int (iI (v))), (2, .int (iI (i))), (3, .int (iI (t))), (4, .int (iI (j))), (5, .int (iI (k)))] := hl
  have hn := hI.nums
  refine lv_iload_n hx hb (pc := 0) dX3_copy_0 rfl (lv_at hl 1 rfl) ?_
  refine S_calli (As := [.int (iI (v))]) (rest := []) hC hX (m3_isSheet D T N l v (by omega)) (va_cwS 1 hC.ts (lw_S q1224 q1225 q46 q1226) rfl rfl rfl (by decide +kernel) ⟨Nat.le_of_ble_eq_true rfl, Nat.le_of_ble_eq_true rfl⟩) rfl hl.1 (Nat.le_of_ble_eq_true rfl) dX3_copy_1 ⟨Nat.zero_le _, Nat.zero_le _⟩ (fun r1 H locs hp hX => ?_)
  have hq_r1 := inF_of hp
  refine j_if_eq hC (pc := 4) 14 dX3_copy_4 (by decide) (by omega) (fun c2 => ?_) (fun c2 => ?_)
  · skip
    refine j_bipush hC (pc := 14) dX3_copy_14 (by decide) ?_
    subst hQ
    exact j_iret hC (pc := 16) hX hr hlk (Nat.le_refl _) (Nat.le_refl _) dX3_copy_16 ⟨rfl, _, _, hM, ho, (by unfold op_copy; rw [if_neg (by omega)]; exact ⟨rfl, ch.rf, ch.rf⟩)⟩
  · skip
    refine lv_iload_n hx hb (pc := 7) dX3_copy_7 rfl (lv_at hl 3 rfl) ?_
    refine S_calli (As := [.int (iI (t))]) (rest := []) hC hX (m3_isSheet D T N l t (by omega)) (va_cwS 1 hC.ts (lw_S q1224 q1225 q46 q1226) rfl rfl rfl (by decide +kernel) ⟨Nat.le_of_ble_eq_true rfl, Nat.le_of_ble_eq_true rfl⟩) rfl hl.1 (Nat.le_of_ble_eq_true rfl) dX3_copy_8 ⟨Nat.zero_le _, Nat.zero_le _⟩ (fun r3 H locs hp hX => ?_)
    have hq_r3 := inF_of hp
    refine j_if_ne hC (pc := 11) 17 dX3_copy_11 (by decide) (by omega) (fun c4 => ?_) (fun c4 => ?_)
    · skip
      refine lv_aload_n hx hb (pc := 17) dX3_copy_17 rfl (lv_at hl 0 rfl) ?_
      refine M_get hC hX hM (pc := 18) 36 (by decide) q924 rfl (v := .ref (m + 23)) rfl dX3_copy_18 ?_
      refine lv_iload_n hx hb (pc := 21) dX3_copy_21 rfl (lv_at hl 1 rfl) ?_
      refine M_iald hC hX hM (pc := 22) 23 (by decide) (L := 4) ⟨rfl, by decide⟩ (by omega) (z := V 23 v) rfl dX3_copy_22 ?_
      have h23_v := hI.i23 (i := v) (by omega)
      refine j_if_lt hC (pc := 23) 35 dX3_copy_23 (by decide) (by omega) (fun c5 => ?_) (fun c5 => ?_)
      · skip
        refine lv_aload_n hx hb (pc := 35) dX3_copy_35 rfl (lv_at hl 0 rfl) ?_
        refine j_iconst hC (pc := 36) dX3_copy_36 ?_
        refine M_calli (As := [.int (iI (1))]) (rest := []) hC hX hM ho (m3_met D T N l _ _ 1 (by omega)) (cwV 1 hC.ts (lw_V q1228 q1230 qs37 q46 q1231) rfl rfl rfl (by decide +kernel) ⟨Nat.le_of_ble_eq_true rfl, Nat.le_of_ble_eq_true rfl⟩) rfl hl.1 (Nat.le_of_ble_eq_true rfl) dX3_copy_37 ⟨Nat.zero_le _, Nat.zero_le _⟩ (fun r6 F7 V7 g H locs hp hX hM ho => ?_)
        obtain ⟨hp, hF_, hV_⟩ := hp
        rw [hF_, hV_] at hM
        subst hQ
        exact j_iret hC (pc := 40) hX hr hlk (Nat.le_refl _) (Nat.le_refl _) dX3_copy_40 ⟨rfl, _, _, hM, ho, (by unfold op_copy; rw [if_pos (by omega), if_pos (by omega)]; exact ⟨by omega, ch.rf, ch.rf⟩)⟩
      · skip
        refine lv_aload_n hx hb (pc := 26) dX3_copy_26 rfl (lv_at hl 0 rfl) ?_
        refine M_get hC hX hM (pc := 27) 36 (by decide) q924 rfl (v := .ref (m + 23)) rfl dX3_copy_27 ?_
        refine lv_iload_n hx hb (pc := 30) dX3_copy_30 rfl (lv_at hl 3 rfl) ?_
        refine M_iald hC hX hM (pc := 31) 23 (by decide) (L := 4) ⟨rfl, by decide⟩ (by omega) (z := V 23 t) rfl dX3_copy_31 ?_
        have h23_t := hI.i23 (i := t) (by omega)
        refine j_if_ge hC (pc := 32) 41 dX3_copy_32 (by decide) (by omega) (fun c8 => ?_) (fun c8 => ?_)
        · skip
          refine lv_aload_n hx hb (pc := 41) dX3_copy_41 rfl (lv_at hl 0 rfl) ?_
          refine M_get hC hX hM (pc := 42) 36 (by decide) q924 rfl (v := .ref (m + 23)) rfl dX3_copy_42 ?_
          refine lv_iload_n hx hb (pc := 45) dX3_copy_45 rfl (lv_at hl 1 rfl) ?_
          refine M_iald hC hX hM (pc := 46) 23 (by decide) (L := 4) ⟨rfl, by decide⟩ (by omega) (z := V 23 v) rfl dX3_copy_46 ?_
          refine lv_aload_n hx hb (pc := 47) dX3_copy_47 rfl (lv_at hl 0 rfl) ?_
          refine M_get hC hX hM (pc := 48) 36 (by decide) q924 rfl (v := .ref (m + 23)) rfl dX3_copy_48 ?_
          refine lv_iload_n hx hb (pc := 51) dX3_copy_51 rfl (lv_at hl 3 rfl) ?_
          refine M_iald hC hX hM (pc := 52) 23 (by decide) (L := 4) ⟨rfl, by decide⟩ (by omega) (z := V 23 t) rfl dX3_copy_52 ?_
          have h23_t := hI.i23 (i := t) (by omega)
          refine j_icmp_eq hC (pc := 53) 62 dX3_copy_53 (by decide) (by omega) (fun c9 => ?_) (fun c9 => ?_)
          · skip
            refine lv_iload_n hx hb (pc := 62) dX3_copy_62 rfl (lv_at hl 2 rfl) ?_
            refine j_if_lt hC (pc := 63) 111 dX3_copy_63 (by decide) (by omega) (fun c10 => ?_) (fun c10 => ?_)
            · skip
              refine lv_aload_n hx hb (pc := 111) dX3_copy_111 rfl (lv_at hl 0 rfl) ?_
              refine j_iconst hC (pc := 112) dX3_copy_112 ?_
              refine M_calli (As := [.int (iI (2))]) (rest := []) hC hX hM ho (m3_met D T N l _ _ 2 (by omega)) (cwV 1 hC.ts (lw_V q1228 q1230 qs37 q46 q1231) rfl rfl rfl (by decide +kernel) ⟨Nat.le_of_ble_eq_true rfl, Nat.le_of_ble_eq_true rfl⟩) rfl hl.1 (Nat.le_of_ble_eq_true rfl) dX3_copy_113 ⟨Nat.zero_le _, Nat.zero_le _⟩ (fun r11 F12 V12 g H locs hp hX hM ho => ?_)
              obtain ⟨hp, hF_, hV_⟩ := hp
              rw [hF_, hV_] at hM
              subst hQ
              exact j_iret hC (pc := 116) hX hr hlk (Nat.le_refl _) (Nat.le_refl _) dX3_copy_116 ⟨rfl, _, _, hM, ho, (by unfold op_copy; rw [if_pos (by omega), if_neg (by omega), if_neg (by omega), if_pos (by omega)]; exact ⟨by omega, ch.rf, ch.rf⟩)⟩
            · skip
              refine lv_iload hx hb (pc := 66) dX3_copy_66 (lv_at hl 4 rfl) ?_
              refine j_if_lt hC (pc := 68) 111 dX3_copy_68 (by decide) (by omega) (fun c13 => ?_) (fun c13 => ?_)
              · skip
                refine lv_aload_n hx hb (pc := 111) dX3_copy_111 rfl (lv_at hl 0 rfl) ?_
                refine j_iconst hC (pc := 112) dX3_copy_112 ?_
                refine M_calli (As := [.int (iI (2))]) (rest := []) hC hX hM ho (m3_met D T N l _ _ 2 (by omega)) (cwV 1 hC.ts (lw_V q1228 q1230 qs37 q46 q1231) rfl rfl rfl (by decide +kernel) ⟨Nat.le_of_ble_eq_true rfl, Nat.le_of_ble_eq_true rfl⟩) rfl hl.1 (Nat.le_of_ble_eq_true rfl) dX3_copy_113 ⟨Nat.zero_le _, Nat.zero_le _⟩ (fun r14 F15 V15 g H locs hp hX hM ho => ?_)
                obtain ⟨hp, hF_, hV_⟩ := hp
                rw [hF_, hV_] at hM
                subst hQ
                exact j_iret hC (pc := 116) hX hr hlk (Nat.le_refl _) (Nat.le_refl _) dX3_copy_116 ⟨rfl, _, _, hM, ho, (by unfold op_copy; rw [if_pos (by omega), if_neg (by omega), if_neg (by omega), if_pos (by omega)]; exact ⟨by omega, ch.rf, ch.rf⟩)⟩
              · skip
                refine lv_iload hx hb (pc := 71) dX3_copy_71 (lv_at hl 5 rfl) ?_
                refine j_if_lt hC (pc := 73) 111 dX3_copy_73 (by decide) (by omega) (fun c16 => ?_) (fun c16 => ?_)
                · skip
                  refine lv_aload_n hx hb (pc := 111) dX3_copy_111 rfl (lv_at hl 0 rfl) ?_
                  refine j_iconst hC (pc := 112) dX3_copy_112 ?_
                  refine M_calli (As := [.int (iI (2))]) (rest := []) hC hX hM ho (m3_met D T N l _ _ 2 (by omega)) (cwV 1 hC.ts (lw_V q1228 q1230 qs37 q46 q1231) rfl rfl rfl (by decide +kernel) ⟨Nat.le_of_ble_eq_true rfl, Nat.le_of_ble_eq_true rfl⟩) rfl hl.1 (Nat.le_of_ble_eq_true rfl) dX3_copy_113 ⟨Nat.zero_le _, Nat.zero_le _⟩ (fun r17 F18 V18 g H locs hp hX hM ho => ?_)
                  obtain ⟨hp, hF_, hV_⟩ := hp
                  rw [hF_, hV_] at hM
                  subst hQ
                  exact j_iret hC (pc := 116) hX hr hlk (Nat.le_refl _) (Nat.le_refl _) dX3_copy_116 ⟨rfl, _, _, hM, ho, (by unfold op_copy; rw [if_pos (by omega), if_neg (by omega), if_neg (by omega), if_pos (by omega)]; exact ⟨by omega, ch.rf, ch.rf⟩)⟩
                · skip
                  refine lv_iload_n hx hb (pc := 76) dX3_copy_76 rfl (lv_at hl 2 rfl) ?_
                  refine j_i2l hC (pc := 77) dX3_copy_77 (by omega) ?_
                  refine lv_iload hx hb (pc := 78) dX3_copy_78 (lv_at hl 5 rfl) ?_
                  refine j_i2l hC (pc := 80) dX3_copy_80 (by omega) ?_
                  refine j_ladd hC (pc := 81) dX3_copy_81 ?_
                  refine lv_aload_n hx hb (pc := 82) dX3_copy_82 rfl (lv_at hl 0 rfl) ?_
                  refine M_get hC hX hM (pc := 83) 37 (by decide) q925 rfl (v := .ref (m + 24)) rfl dX3_copy_83 ?_
                  refine lv_iload_n hx hb (pc := 86) dX3_copy_86 rfl (lv_at hl 1 rfl) ?_
                  refine M_iald hC hX hM (pc := 87) 24 (by decide) (L := 4) ⟨rfl, by decide⟩ (by omega) (z := V 24 v) rfl dX3_copy_87 ?_
                  refine j_i2l hC (pc := 88) dX3_copy_88 (by omega) ?_
                  refine j_lcmp hC (pc := 89) dX3_copy_89 (by omega) (fun z20 h19 => ?_)
                  refine j_if_gt hC (pc := 90) 111 dX3_copy_90 (by decide) (by omega) (fun c21 => ?_) (fun c21 => ?_)
                  · skip
                    refine lv_aload_n hx hb (pc := 111) dX3_copy_111 rfl (lv_at hl 0 rfl) ?_
                    refine j_iconst hC (pc := 112) dX3_copy_112 ?_
                    refine M_calli (As := [.int (iI (2))]) (rest := []) hC hX hM ho (m3_met D T N l _ _ 2 (by omega)) (cwV 1 hC.ts (lw_V q1228 q1230 qs37 q46 q1231) rfl rfl rfl (by decide +kernel) ⟨Nat.le_of_ble_eq_true rfl, Nat.le_of_ble_eq_true rfl⟩) rfl hl.1 (Nat.le_of_ble_eq_true rfl) dX3_copy_113 ⟨Nat.zero_le _, Nat.zero_le _⟩ (fun r22 F23 V23 g H locs hp hX hM ho => ?_)
                    obtain ⟨hp, hF_, hV_⟩ := hp
                    rw [hF_, hV_] at hM
                    subst hQ
                    exact j_iret hC (pc := 116) hX hr hlk (Nat.le_refl _) (Nat.le_refl _) dX3_copy_116 ⟨rfl, _, _, hM, ho, (by unfold op_copy; rw [if_pos (by omega), if_neg (by omega), if_neg (by omega), if_pos (by omega)]; exact ⟨by omega, ch.rf, ch.rf⟩)⟩
                  · skip
                    refine lv_iload hx hb (pc := 93) dX3_copy_93 (lv_at hl 4 rfl) ?_
                    refine j_i2l hC (pc := 95) dX3_copy_95 (by omega) ?_
                    refine lv_iload hx hb (pc := 96) dX3_copy_96 (lv_at hl 5 rfl) ?_
                    refine j_i2l hC (pc := 98) dX3_copy_98 (by omega) ?_
                    refine j_ladd hC (pc := 99) dX3_copy_99 ?_
                    refine lv_aload_n hx hb (pc := 100) dX3_copy_100 rfl (lv_at hl 0 rfl) ?_
                    refine M_get hC hX hM (pc := 101) 37 (by decide) q925 rfl (v := .ref (m + 24)) rfl dX3_copy_101 ?_
                    refine lv_iload_n hx hb (pc := 104) dX3_copy_104 rfl (lv_at hl 3 rfl) ?_
                    refine M_iald hC hX hM (pc := 105) 24 (by decide) (L := 4) ⟨rfl, by decide⟩ (by omega) (z := V 24 t) rfl dX3_copy_105 ?_
                    refine j_i2l hC (pc := 106) dX3_copy_106 (by omega) ?_
                    refine j_lcmp hC (pc := 107) dX3_copy_107 (by omega) (fun z25 h24 => ?_)
                    refine j_if_le hC (pc := 108) 117 dX3_copy_108 (by decide) (by omega) (fun c26 => ?_) (fun c26 => ?_)
                    · skip
                      refine j_iconst hC (pc := 117) dX3_copy_117 ?_
                      refine lv_istore (lv' := [(6, .int (iI (0))), (0, .ref (m)), (1, .int (iI (v))), (2, .int (iI (i))), (3, .int (iI (t))), (4, .int (iI (j))), (5, .int (iI (k)))]) hx hb (pc := 118) dX3_copy_118 hl (by decide) rfl (fun ls hl => ?_)
                      have L120 : ∀ (fu : Nat) (a : Int) (V1 : Nat → Int → Int), k - a < (fu : Int) → (0 ≤ a ∧ a ≤ k) → (ch V V1 [26]) → (∀ b : Int, 0 ≤ b → b < a → V1 26 b = V 25 (60 * v + i + b)) → ∀ (g : GH) (H : Heap) (locs : List Loc), Wd D (gA g0 n) s g n H locs → mR T g m F V1 → off g0 g m 27 → ∀ (ls : Array Slot), lv_has ls 7 [(6, .int (iI (a))), (0, .ref (m)), (1, .int (iI (v))), (2, .int (iI (i))), (3, .int (iI (t))), (4, .int (iI (j))), (5, .int (iI (k)))] → W p l e ({ frames := 2, cells := 0, slots := 0, locals := 45 } : Room) s mi args below meth c H locs 0 0 Q (F0 mi 120 ls []) := by
                        intro fu
                        induction fu with
                        | zero =>
                          intro a V1 hfu ha hc h26 g H locs hX hM ho ls hl
                          exfalso
                          omega
                        | succ fu ih =>
                          intro a V1 hfu ha hc h26 g H locs hX hM ho ls hl
                          have e25 : V1 25 = V 25 := hc 25 (by decide)
                          refine lv_iload hx hb (pc := 120) dX3_copy_120 (lv_at hl 0 rfl) ?_
                          refine lv_iload hx hb (pc := 122) dX3_copy_122 (lv_at hl 6 rfl) ?_
                          refine j_icmp_ge hC (pc := 124) 154 dX3_copy_124 (by decide) (by omega) (fun c27 => ?_) (fun c27 => ?_)
                          · skip
                            refine j_iconst hC (pc := 154) dX3_copy_154 ?_
                            refine lv_istore (lv' := [(6, .int (iI (0))), (0, .ref (m)), (1, .int (iI (v))), (2, .int (iI (i))), (3, .int (iI (t))), (4, .int (iI (j))), (5, .int (iI (k)))]) hx hb (pc := 155) dX3_copy_155 hl (by decide) rfl (fun ls hl => ?_)
                            have L157 : ∀ (fu : Nat) (b : Int) (V2 : Nat → Int → Int), k - b < (fu : Int) → (0 ≤ b ∧ b ≤ k) → (ch V1 V2 [25]) → (V2 25 = moveF (V 25) (V 25) (60 * v + i) (60 * t + j) b.toNat) → ∀ (g : GH) (H : Heap) (locs : List Loc), Wd D (gA g0 n) s g n H locs → mR T g m F V2 → off g0 g m 27 → ∀ (ls : Array Slot), lv_has ls 7 [(6, .int (iI (b))), (0, .ref (m)), (1, .int (iI (v))), (2, .int (iI (i))), (3, .int (iI (t))), (4, .int (iI (j))), (5, .int (iI (k)))] → W p l e ({ frames := 2, cells := 0, slots := 0, locals := 45 } : Room) s mi args below meth c H locs 0 0 Q (F0 mi 157 ls []) := by
                              intro fu
                              induction fu with
                              | zero =>
                                intro b V2 hfu hb2 hc2 h25 g H locs hX hM ho ls hl
                                exfalso
                                omega
                              | succ fu ih =>
                                intro b V2 hfu hb2 hc2 h25 g H locs hX hM ho ls hl
                                have e26 : V2 26 = V1 26 := hc2 26 (by decide)
                                refine lv_iload hx hb (pc := 157) dX3_copy_157 (lv_at hl 0 rfl) ?_
                                refine lv_iload hx hb (pc := 159) dX3_copy_159 (lv_at hl 6 rfl) ?_
                                refine j_icmp_ge hC (pc := 161) 192 dX3_copy_161 (by decide) (by omega) (fun c28 => ?_) (fun c28 => ?_)
                                · skip
                                  refine j_iconst hC (pc := 192) dX3_copy_192 ?_
                                  subst hQ
                                  exact j_iret hC (pc := 193) hX hr hlk (Nat.le_refl _) (Nat.le_refl _) dX3_copy_193 ⟨rfl, _, _, hM, ho, (by unfold op_copy; rw [if_pos (by omega), if_neg (by omega), if_neg (by omega), if_neg (by omega)]; exact ⟨rfl, ch.rf, fun x hx => if q : x = 25 then (by subst q; dsimp only; rw [va_up_self, h25, show b.toNat = k.toNat by omega]) else (by dsimp only; rw [va_up_ne _ _ q, hc2 x (by simp [q]), hc x (fun z => hx (by simp at z; simp [z]))])⟩)⟩
                                · skip
                                  refine lv_aload_n hx hb (pc := 164) dX3_copy_164 rfl (lv_at hl 1 rfl) ?_
                                  refine M_get hC hX hM (pc := 165) 38 (by decide) q926 rfl (v := .ref (m + 25)) rfl dX3_copy_165 ?_
                                  refine j_bipush hC (pc := 168) dX3_copy_168 (by decide) ?_
                                  refine lv_iload_n hx hb (pc := 170) dX3_copy_170 rfl (lv_at hl 4 rfl) ?_
                                  refine j_imul hC (pc := 171) dX3_copy_171 ?_
                                  refine lv_iload hx hb (pc := 172) dX3_copy_172 (lv_at hl 5 rfl) ?_
                                  refine j_iadd hC (pc := 174) dX3_copy_174 ?_
                                  refine lv_iload hx hb (pc := 175) dX3_copy_175 (lv_at hl 0 rfl) ?_
                                  refine j_iadd hC (pc := 177) dX3_copy_177 ?_
                                  refine lv_aload_n hx hb (pc := 178) dX3_copy_178 rfl (lv_at hl 1 rfl) ?_
                                  refine M_get hC hX hM (pc := 179) 39 (by decide) q927 rfl (v := .ref (m + 26)) rfl dX3_copy_179 ?_
                                  refine lv_iload hx hb (pc := 182) dX3_copy_182 (lv_at hl 0 rfl) ?_
                                  refine M_iald hC hX hM (pc := 184) 26 (by decide) (L := 60) ⟨rfl, by decide⟩ (by omega) (z := V2 26 b) rfl dX3_copy_184 ?_
                                  refine M_iast hC hX hM ho (pc := 185) 25 (by decide) (L := 240) ⟨rfl, by decide⟩ (by omega) dX3_copy_185 (fun g H locs hX hM ho => ?_)
                                  refine j_iinc hC (pc := 186) (lv' := [(6, .int (iI (b + 1))), (0, .ref (m)), (1, .int (iI (v))), (2, .int (iI (i))), (3, .int (iI (t))), (4, .int (iI (j))), (5, .int (iI (k)))]) dX3_copy_186 hl (k := 0) rfl (by decide) rfl (fun ls hl => ?_)
                                  refine j_goto hC (pc := 189) 157 dX3_copy_189 (by decide) ?_
                                  exact ih (b + 1) _ (by omega) (by omega) (hc2.up 25 _ (by decide)) (by rw [va_up_self, h25, e26, h26 b (by omega) (by omega), show (b + 1).toNat = b.toNat + 1 by omega]; show uI _ _ _ = uI _ (60 * t + j + (b.toNat : Int)) (V 25 (60 * v + i + (b.toNat : Int))); rw [Int.toNat_of_nonneg (by omega)]) _ _ _ hX hM ho ls (lv_sub hl [0, 1, 2, 3, 4, 5, 6] rfl)
                            exact L157 ((k - 0 : Int).toNat + 1) 0 _ (by omega) (by omega) ch.rf (by rw [e25]; rfl) _ _ _ hX hM ho ls (lv_sub hl [0, 1, 2, 3, 4, 5, 6] rfl)
                          · skip
                            refine lv_aload_n hx hb (pc := 127) dX3_copy_127 rfl (lv_at hl 1 rfl) ?_
                            refine M_get hC hX hM (pc := 128) 39 (by decide) q927 rfl (v := .ref (m + 26)) rfl dX3_copy_128 ?_
                            refine lv_iload hx hb (pc := 131) dX3_copy_131 (lv_at hl 0 rfl) ?_
                            refine lv_aload_n hx hb (pc := 133) dX3_copy_133 rfl (lv_at hl 1 rfl) ?_
                            refine M_get hC hX hM (pc := 134) 38 (by decide) q926 rfl (v := .ref (m + 25)) rfl dX3_copy_134 ?_
                            refine j_bipush hC (pc := 137) dX3_copy_137 (by decide) ?_
                            refine lv_iload_n hx hb (pc := 139) dX3_copy_139 rfl (lv_at hl 2 rfl) ?_
                            refine j_imul hC (pc := 140) dX3_copy_140 ?_
                            refine lv_iload_n hx hb (pc := 141) dX3_copy_141 rfl (lv_at hl 3 rfl) ?_
                            refine j_iadd hC (pc := 142) dX3_copy_142 ?_
                            refine lv_iload hx hb (pc := 143) dX3_copy_143 (lv_at hl 0 rfl) ?_
                            refine j_iadd hC (pc := 145) dX3_copy_145 ?_
                            refine M_iald hC hX hM (pc := 146) 25 (by decide) (L := 240) ⟨rfl, by decide⟩ (by omega) (z := V1 25 (((60 * v) + i) + a)) rfl dX3_copy_146 ?_
                            refine M_iast hC hX hM ho (pc := 147) 26 (by decide) (L := 60) ⟨rfl, by decide⟩ (by omega) dX3_copy_147 (fun g H locs hX hM ho => ?_)
                            refine j_iinc hC (pc := 148) (lv' := [(6, .int (iI (a + 1))), (0, .ref (m)), (1, .int (iI (v))), (2, .int (iI (i))), (3, .int (iI (t))), (4, .int (iI (j))), (5, .int (iI (k)))]) dX3_copy_148 hl (k := 0) rfl (by decide) rfl (fun ls hl => ?_)
                            refine j_goto hC (pc := 151) 120 dX3_copy_151 (by decide) ?_
                            exact ih (a + 1) _ (by omega) (by omega) (hc.up 26 _ (by decide)) (fun b h1 h2 => by rw [va_up_self]; exact (if q : b = a then by rw [q, uI_s, e25] else by rw [uI_n _ _ q]; exact h26 b h1 (by omega))) _ _ _ hX hM ho ls (lv_sub hl [0, 1, 2, 3, 4, 5, 6] rfl)
                      exact L120 ((k - 0 : Int).toNat + 1) 0 _ (by omega) (by omega) ch.rf (fun b h1 h2 => by omega) _ _ _ hX hM ho ls (lv_sub hl [0, 1, 2, 3, 4, 5, 6] rfl)
                    · skip
                      refine lv_aload_n hx hb (pc := 111) dX3_copy_111 rfl (lv_at hl 0 rfl) ?_
                      refine j_iconst hC (pc := 112) dX3_copy_112 ?_
                      refine M_calli (As := [.int (iI (2))]) (rest := []) hC hX hM ho (m3_met D T N l _ _ 2 (by omega)) (cwV 1 hC.ts (lw_V q1228 q1230 qs37 q46 q1231) rfl rfl rfl (by decide +kernel) ⟨Nat.le_of_ble_eq_true rfl, Nat.le_of_ble_eq_true rfl⟩) rfl hl.1 (Nat.le_of_ble_eq_true rfl) dX3_copy_113 ⟨Nat.zero_le _, Nat.zero_le _⟩ (fun r29 F30 V30 g H locs hp hX hM ho => ?_)
                      obtain ⟨hp, hF_, hV_⟩ := hp
                      rw [hF_, hV_] at hM
                      subst hQ
                      exact j_iret hC (pc := 116) hX hr hlk (Nat.le_refl _) (Nat.le_refl _) dX3_copy_116 ⟨rfl, _, _, hM, ho, (by unfold op_copy; rw [if_pos (by omega), if_neg (by omega), if_neg (by omega), if_pos (by omega)]; exact ⟨by omega, ch.rf, ch.rf⟩)⟩
          · skip
            refine lv_aload_n hx hb (pc := 56) dX3_copy_56 rfl (lv_at hl 0 rfl) ?_
            refine j_iconst hC (pc := 57) dX3_copy_57 ?_
            refine M_calli (As := [.int (iI (4))]) (rest := []) hC hX hM ho (m3_met D T N l _ _ 4 (by omega)) (cwV 1 hC.ts (lw_V q1228 q1230 qs37 q46 q1231) rfl rfl rfl (by decide +kernel) ⟨Nat.le_of_ble_eq_true rfl, Nat.le_of_ble_eq_true rfl⟩) rfl hl.1 (Nat.le_of_ble_eq_true rfl) dX3_copy_58 ⟨Nat.zero_le _, Nat.zero_le _⟩ (fun r31 F32 V32 g H locs hp hX hM ho => ?_)
            obtain ⟨hp, hF_, hV_⟩ := hp
            rw [hF_, hV_] at hM
            subst hQ
            exact j_iret hC (pc := 61) hX hr hlk (Nat.le_refl _) (Nat.le_refl _) dX3_copy_61 ⟨rfl, _, _, hM, ho, (by unfold op_copy; rw [if_pos (by omega), if_neg (by omega), if_pos (by omega)]; exact ⟨by omega, ch.rf, ch.rf⟩)⟩
        · skip
          refine lv_aload_n hx hb (pc := 35) dX3_copy_35 rfl (lv_at hl 0 rfl) ?_
          refine j_iconst hC (pc := 36) dX3_copy_36 ?_
          refine M_calli (As := [.int (iI (1))]) (rest := []) hC hX hM ho (m3_met D T N l _ _ 1 (by omega)) (cwV 1 hC.ts (lw_V q1228 q1230 qs37 q46 q1231) rfl rfl rfl (by decide +kernel) ⟨Nat.le_of_ble_eq_true rfl, Nat.le_of_ble_eq_true rfl⟩) rfl hl.1 (Nat.le_of_ble_eq_true rfl) dX3_copy_37 ⟨Nat.zero_le _, Nat.zero_le _⟩ (fun r33 F34 V34 g H locs hp hX hM ho => ?_)
          obtain ⟨hp, hF_, hV_⟩ := hp
          rw [hF_, hV_] at hM
          subst hQ
          exact j_iret hC (pc := 40) hX hr hlk (Nat.le_refl _) (Nat.le_refl _) dX3_copy_40 ⟨rfl, _, _, hM, ho, (by unfold op_copy; rw [if_pos (by omega), if_pos (by omega)]; exact ⟨by omega, ch.rf, ch.rf⟩)⟩
    · skip
      refine j_bipush hC (pc := 14) dX3_copy_14 (by decide) ?_
      subst hQ
      exact j_iret hC (pc := 16) hX hr hlk (Nat.le_refl _) (Nat.le_refl _) dX3_copy_16 ⟨rfl, _, _, hM, ho, (by unfold op_copy; rw [if_neg (by omega)]; exact ⟨rfl, ch.rf, ch.rf⟩)⟩

set_option maxHeartbeats 4000000 in
set_option maxRecDepth 100000 in
theorem m3_shake (D : va_G) (T N : Nat → Nat) (l : Launch) {m : Nat} (F : Nat → Int) (V : Nat → Int → Int) (v x : Int) (hI : SI F V) (hg : (-2147483648 ≤ v ∧ v ≤ 2147483647) ∧ (-2147483648 ≤ x ∧ x ≤ 2147483647)) : MMi D T N l yX3_shake (ws_ yX3_shake cX3_shake 5 (some .int)) ({ frames := 2, cells := 0, slots := 0, locals := 45 } : Room) m [.int (iI (v)), .int (iI (x))] F V (mP (op_shake F V v x)) := by
  intro g0 n hM
  refine j_start (by decide) (Nat.le_of_ble_eq_true rfl) ?_
  intro p e s mi args below meth c hC hr hlk hnm hX ls hl
  have hC : Ct D T N (gA g0 n) p s mi args c cX3_shake RX3 5 := hC
  have hx := hC.x
  have hb := hC.b
  have ho : off g0 g0 m 27 := off.rf
  generalize hQ : MQ below _ args s 0 0 (gA g0 n) = Q
  have hl : lv_has ls 5 [(0, .ref (m)), (1, .int (iI (v))), (2, .int (iI (x)))] := hl
  have hn := hI.nums
  refine lv_iload_n hx hb (pc := 0) dX3_shake_0 rfl (lv_at hl 1 rfl) ?_
  refine S_calli (As := [.int (iI (v))]) (rest := []) hC hX (m3_isSheet D T N l v (by omega)) (va_cwS 1 hC.ts (lw_S q1224 q1225 q46 q1226) rfl rfl rfl (by decide +kernel) ⟨Nat.le_of_ble_eq_true rfl, Nat.le_of_ble_eq_true rfl⟩) rfl hl.1 (Nat.le_of_ble_eq_true rfl) dX3_shake_1 ⟨Nat.zero_le _, Nat.zero_le _⟩ (fun r1 H locs hp hX => ?_)
  have hq_r1 := inF_of hp
  refine j_if_ne hC (pc := 4) 10 dX3_shake_4 (by decide) (by omega) (fun c2 => ?_) (fun c2 => ?_)
  · skip
    refine lv_aload_n hx hb (pc := 10) dX3_shake_10 rfl (lv_at hl 0 rfl) ?_
    refine M_get hC hX hM (pc := 11) 36 (by decide) q924 rfl (v := .ref (m + 23)) rfl dX3_shake_11 ?_
    refine lv_iload_n hx hb (pc := 14) dX3_shake_14 rfl (lv_at hl 1 rfl) ?_
    refine M_iald hC hX hM (pc := 15) 23 (by decide) (L := 4) ⟨rfl, by decide⟩ (by omega) (z := V 23 v) rfl dX3_shake_15 ?_
    have h23_v := hI.i23 (i := v) (by omega)
    refine j_if_ge hC (pc := 16) 25 dX3_shake_16 (by decide) (by omega) (fun c3 => ?_) (fun c3 => ?_)
    · skip
      refine lv_iload_n hx hb (pc := 25) dX3_shake_25 rfl (lv_at hl 2 rfl) ?_
      refine lv_istore_n (lv' := [(3, .int (iI (x))), (0, .ref (m)), (1, .int (iI (v))), (2, .int (iI (x)))]) hx hb (pc := 26) dX3_shake_26 rfl hl (by decide) rfl (fun ls hl => ?_)
      refine j_iconst hC (pc := 27) dX3_shake_27 ?_
      refine lv_istore (lv' := [(4, .int (iI (0))), (3, .int (iI (x))), (0, .ref (m)), (1, .int (iI (v))), (2, .int (iI (x)))]) hx hb (pc := 28) dX3_shake_28 hl (by decide) rfl (fun ls hl => ?_)
      have L30 : ∀ (fu : Nat) (i : Int) (z : Int) (V1 : Nat → Int → Int), V 24 v - i < (fu : Int) → (0 ≤ i ∧ i ≤ V 24 v) → (z = seedF x i.toNat) → (ch V V1 [25]) → (V1 25 = shakeF (V 25) (60 * v) x i.toNat) → ∀ (g : GH) (H : Heap) (locs : List Loc), Wd D (gA g0 n) s g n H locs → mR T g m F V1 → off g0 g m 27 → ∀ (ls : Array Slot), lv_has ls 5 [(4, .int (iI (i))), (3, .int (iI (z))), (0, .ref (m)), (1, .int (iI (v))), (2, .int (iI (x)))] → W p l e ({ frames := 2, cells := 0, slots := 0, locals := 45 } : Room) s mi args below meth c H locs 0 0 Q (F0 mi 30 ls []) := by
        intro fu
        induction fu with
        | zero =>
          intro i z V1 hfu hi hz hc h25 g H locs hX hM ho ls hl
          exfalso
          omega
        | succ fu ih =>
          intro i z V1 hfu hi hz hc h25 g H locs hX hM ho ls hl
          have e24 : V1 24 = V 24 := hc 24 (by decide)
          have e24v : V1 24 v = V 24 v := by rw [e24]
          refine lv_iload hx hb (pc := 30) dX3_shake_30 (lv_at hl 0 rfl) ?_
          refine lv_aload_n hx hb (pc := 32) dX3_shake_32 rfl (lv_at hl 2 rfl) ?_
          refine M_get hC hX hM (pc := 33) 37 (by decide) q925 rfl (v := .ref (m + 24)) rfl dX3_shake_33 ?_
          refine lv_iload_n hx hb (pc := 36) dX3_shake_36 rfl (lv_at hl 3 rfl) ?_
          refine M_iald hC hX hM (pc := 37) 24 (by decide) (L := 4) ⟨rfl, by decide⟩ (by omega) (z := V1 24 v) rfl dX3_shake_37 ?_
          refine j_icmp_ge hC (pc := 38) 78 dX3_shake_38 (by decide) (by omega) (fun c4 => ?_) (fun c4 => ?_)
          · skip
            refine lv_aload_n hx hb (pc := 78) dX3_shake_78 rfl (lv_at hl 2 rfl) ?_
            refine M_get hC hX hM (pc := 79) 37 (by decide) q925 rfl (v := .ref (m + 24)) rfl dX3_shake_79 ?_
            refine lv_iload_n hx hb (pc := 82) dX3_shake_82 rfl (lv_at hl 3 rfl) ?_
            refine M_iald hC hX hM (pc := 83) 24 (by decide) (L := 4) ⟨rfl, by decide⟩ (by omega) (z := V1 24 v) rfl dX3_shake_83 ?_
            subst hQ
            exact j_iret hC (pc := 84) hX hr hlk (Nat.le_refl _) (Nat.le_refl _) dX3_shake_84 ⟨rfl, _, _, hM, ho, (by unfold op_shake; rw [if_pos (by omega), if_neg (by omega)]; exact ⟨e24v, ch.rf, fun j hj => if q : j = 25 then (by subst q; dsimp only; rw [va_up_self, h25, show i.toNat = (V 24 v).toNat by omega]) else (by dsimp only; rw [va_up_ne _ _ q, hc j (by simp [q])])⟩)⟩
          · skip
            refine j_ldc_w hC (pc := 41) (z := 1103515245) q1265 dX3_shake_41 rfl ?_
            refine lv_iload_n hx hb (pc := 44) dX3_shake_44 rfl (lv_at hl 1 rfl) ?_
            refine j_imul hC (pc := 45) dX3_shake_45 ?_
            refine j_sipush hC (pc := 46) dX3_shake_46 (by decide) ?_
            refine j_iadd hC (pc := 49) dX3_shake_49 ?_
            refine lv_istore_n (lv' := [(3, .int (iI ((1103515245 * z) + 12345))), (4, .int (iI (i))), (0, .ref (m)), (1, .int (iI (v))), (2, .int (iI (x)))]) hx hb (pc := 50) dX3_shake_50 rfl hl (by decide) rfl (fun ls hl => ?_)
            refine lv_aload_n hx hb (pc := 51) dX3_shake_51 rfl (lv_at hl 2 rfl) ?_
            refine M_get hC hX hM (pc := 52) 38 (by decide) q926 rfl (v := .ref (m + 25)) rfl dX3_shake_52 ?_
            refine j_bipush hC (pc := 55) dX3_shake_55 (by decide) ?_
            refine lv_iload_n hx hb (pc := 57) dX3_shake_57 rfl (lv_at hl 3 rfl) ?_
            refine j_imul hC (pc := 58) dX3_shake_58 ?_
            refine lv_iload hx hb (pc := 59) dX3_shake_59 (lv_at hl 1 rfl) ?_
            refine j_iadd hC (pc := 61) dX3_shake_61 ?_
            refine j_iconst hC (pc := 62) dX3_shake_62 ?_
            refine lv_iload_n hx hb (pc := 63) dX3_shake_63 rfl (lv_at hl 0 rfl) ?_
            refine j_bipush hC (pc := 64) dX3_shake_64 (by decide) ?_
            refine j_iushr16 hC (pc := 66) dX3_shake_66 ?_
            refine j_bipush hC (pc := 67) dX3_shake_67 (by decide) ?_
            refine j_irem hC (pc := 69) dX3_shake_69 (by omega) ?_
            refine j_iadd hC (pc := 70) dX3_shake_70 ?_
            refine M_iast hC hX hM ho (pc := 71) 25 (by decide) (L := 240) ⟨rfl, by decide⟩ (by omega) dX3_shake_71 (fun g H locs hX hM ho => ?_)
            refine j_iinc hC (pc := 72) (lv' := [(4, .int (iI (i + 1))), (3, .int (iI ((1103515245 * z) + 12345))), (0, .ref (m)), (1, .int (iI (v))), (2, .int (iI (x)))]) dX3_shake_72 hl (k := 1) rfl (by decide) rfl (fun ls hl => ?_)
            refine j_goto hC (pc := 75) 30 dX3_shake_75 (by decide) ?_
            exact ih (i + 1) ((1103515245 * z) + 12345) _ (by omega) (by omega) (by rw [show (i + 1).toNat = i.toNat + 1 by omega, hz]; rfl) (hc.up 25 _ (by decide)) (by rw [va_up_self, h25, hz, show (i + 1).toNat = i.toNat + 1 by omega]; show uI (shakeF (V 25) (60 * v) x i.toNat) (60 * v + i) (faceF (seedF x (i.toNat + 1))) = uI (shakeF (V 25) (60 * v) x i.toNat) (60 * v + (i.toNat : Int)) (faceF (seedF x (i.toNat + 1))); rw [Int.toNat_of_nonneg (by omega)]) _ _ _ hX hM ho ls (lv_sub hl [0, 1, 2, 3, 4] rfl)
      exact L30 ((V 24 v - 0 : Int).toNat + 1) 0 x _ (by omega) (by omega) rfl ch.rf rfl _ _ _ hX hM ho ls (lv_sub hl [0, 1, 2, 3, 4] rfl)
    · skip
      refine lv_aload_n hx hb (pc := 19) dX3_shake_19 rfl (lv_at hl 0 rfl) ?_
      refine j_iconst hC (pc := 20) dX3_shake_20 ?_
      refine M_calli (As := [.int (iI (1))]) (rest := []) hC hX hM ho (m3_met D T N l _ _ 1 (by omega)) (cwV 1 hC.ts (lw_V q1228 q1230 qs37 q46 q1231) rfl rfl rfl (by decide +kernel) ⟨Nat.le_of_ble_eq_true rfl, Nat.le_of_ble_eq_true rfl⟩) rfl hl.1 (Nat.le_of_ble_eq_true rfl) dX3_shake_21 ⟨Nat.zero_le _, Nat.zero_le _⟩ (fun r5 F6 V6 g H locs hp hX hM ho => ?_)
      obtain ⟨hp, hF_, hV_⟩ := hp
      rw [hF_, hV_] at hM
      subst hQ
      exact j_iret hC (pc := 24) hX hr hlk (Nat.le_refl _) (Nat.le_refl _) dX3_shake_24 ⟨rfl, _, _, hM, ho, (by unfold op_shake; rw [if_pos (by omega), if_pos (by omega)]; exact ⟨by omega, ch.rf, ch.rf⟩)⟩
  · skip
    refine j_bipush hC (pc := 7) dX3_shake_7 (by decide) ?_
    subst hQ
    exact j_iret hC (pc := 9) hX hr hlk (Nat.le_refl _) (Nat.le_refl _) dX3_shake_9 ⟨rfl, _, _, hM, ho, (by unfold op_shake; rw [if_neg (by omega)]; exact ⟨rfl, ch.rf, ch.rf⟩)⟩

set_option maxHeartbeats 4000000 in
set_option maxRecDepth 100000 in
theorem m3_count (D : va_G) (T N : Nat → Nat) (l : Launch) {m : Nat} (F : Nat → Int) (V : Nat → Int → Int) (k : Int) (hI : SI F V) (hg : (-2147483648 ≤ k ∧ k ≤ 2147483647)) : MMi D T N l yX3_count (ws_ yX3_count cX3_count 2 (some .int)) ({ frames := 1, cells := 0, slots := 0, locals := 22 } : Room) m [.int (iI (k))] F V (fun r F' V' => r = countF F V k ∧ F' = F ∧ V' = V) := by
  intro g0 n hM
  refine j_start (by decide) (Nat.le_of_ble_eq_true rfl) ?_
  intro p e s mi args below meth c hC hr hlk hnm hX ls hl
  have hC : Ct D T N (gA g0 n) p s mi args c cX3_count RX3 2 := hC
  have hx := hC.x
  have hb := hC.b
  have ho : off g0 g0 m 27 := off.rf
  generalize hQ : MQ below _ args s 0 0 (gA g0 n) = Q
  have hl : lv_has ls 2 [(0, .ref (m)), (1, .int (iI (k)))] := hl
  have hn := hI.nums
  have g0_ := hI.i2 (i := 0) (by omega)
  have g1_ := hI.i2 (i := 1) (by omega)
  have g2_ := hI.i2 (i := 2) (by omega)
  have g3_ := hI.i2 (i := 3) (by omega)
  have g4_ := hI.i2 (i := 4) (by omega)
  have g5_ := hI.i2 (i := 5) (by omega)
  refine lv_iload_n hx hb (pc := 0) dX3_count_0 rfl (lv_at hl 1 rfl) ?_
  have c1r := show -2147483648 ≤ k ∧ k ≤ 2147483647 from (by omega)
  have c1 : k = 0 ∨ k = 1 ∨ k = 2 ∨ k = 3 ∨ k = 4 ∨ k = 5 ∨ k = 6 ∨ k = 7 ∨ k = 8 ∨ k = 9 ∨ (k < 0 ∨ 9 < k) := by omega
  rcases c1 with c1 | c1 | c1 | c1 | c1 | c1 | c1 | c1 | c1 | c1 | c1
  · refine lv_tableIn (tgt := 56) (off := 55) hx hb (pc := 1) dX3_count_1 (by rw [iI_toInt c1r.1 c1r.2]; omega) (by rw [iI_toInt c1r.1 c1r.2]; omega) (by rw [iI_toInt c1r.1 c1r.2, c1]; rfl) (by decide) ?_
    refine lv_aload_n hx hb (pc := 56) dX3_count_56 rfl (lv_at hl 0 rfl) ?_
    refine M_get hC hX hM (pc := 57) 0 (by decide) q888 rfl (v := .int (iI (F 0))) rfl dX3_count_57 ?_
    subst hQ
    exact j_iret hC (pc := 60) hX hr hlk (Nat.le_refl _) (Nat.le_refl _) dX3_count_60 ⟨rfl, _, _, hM, ho, ⟨by unfold countF; (repeat' split) <;> first | omega | rfl, rfl, rfl⟩⟩
  · refine lv_tableIn (tgt := 61) (off := 60) hx hb (pc := 1) dX3_count_1 (by rw [iI_toInt c1r.1 c1r.2]; omega) (by rw [iI_toInt c1r.1 c1r.2]; omega) (by rw [iI_toInt c1r.1 c1r.2, c1]; rfl) (by decide) ?_
    refine lv_aload_n hx hb (pc := 61) dX3_count_61 rfl (lv_at hl 0 rfl) ?_
    refine M_get hC hX hM (pc := 62) 2 (by decide) q890 rfl (v := .ref (m + 2)) rfl dX3_count_62 ?_
    refine j_iconst hC (pc := 65) dX3_count_65 ?_
    refine M_iald hC hX hM (pc := 66) 2 (by decide) (L := 6) ⟨rfl, by decide⟩ (by omega) (z := V 2 0) rfl dX3_count_66 ?_
    refine lv_aload_n hx hb (pc := 67) dX3_count_67 rfl (lv_at hl 0 rfl) ?_
    refine M_get hC hX hM (pc := 68) 2 (by decide) q890 rfl (v := .ref (m + 2)) rfl dX3_count_68 ?_
    refine j_iconst hC (pc := 71) dX3_count_71 ?_
    refine M_iald hC hX hM (pc := 72) 2 (by decide) (L := 6) ⟨rfl, by decide⟩ (by omega) (z := V 2 1) rfl dX3_count_72 ?_
    refine lv_aload_n hx hb (pc := 73) dX3_count_73 rfl (lv_at hl 0 rfl) ?_
    refine M_get hC hX hM (pc := 74) 2 (by decide) q890 rfl (v := .ref (m + 2)) rfl dX3_count_74 ?_
    refine j_iconst hC (pc := 77) dX3_count_77 ?_
    refine M_iald hC hX hM (pc := 78) 2 (by decide) (L := 6) ⟨rfl, by decide⟩ (by omega) (z := V 2 2) rfl dX3_count_78 ?_
    refine S_calli (As := [.int (iI (V 2 0)), .int (iI (V 2 1)), .int (iI (V 2 2))]) (rest := []) hC hX (m3_manyOf D T N l (V 2 0) (V 2 1) (V 2 2) (by omega)) (va_cwS 3 hC.ts (lw_S q1049 q1050 q46 q1051) rfl rfl rfl (by decide +kernel) ⟨Nat.le_of_ble_eq_true rfl, Nat.le_of_ble_eq_true rfl⟩) rfl hl.1 (Nat.le_of_ble_eq_true rfl) dX3_count_79 ⟨Nat.zero_le _, Nat.zero_le _⟩ (fun r2 H locs hp hX => ?_)
    subst hQ
    exact j_iret hC (pc := 82) hX hr hlk (Nat.le_refl _) (Nat.le_refl _) dX3_count_82 ⟨rfl, _, _, hM, ho, ⟨by unfold countF; (repeat' split) <;> first | omega | rfl, rfl, rfl⟩⟩
  · refine lv_tableIn (tgt := 83) (off := 82) hx hb (pc := 1) dX3_count_1 (by rw [iI_toInt c1r.1 c1r.2]; omega) (by rw [iI_toInt c1r.1 c1r.2]; omega) (by rw [iI_toInt c1r.1 c1r.2, c1]; rfl) (by decide) ?_
    refine lv_aload_n hx hb (pc := 83) dX3_count_83 rfl (lv_at hl 0 rfl) ?_
    refine M_get hC hX hM (pc := 84) 2 (by decide) q890 rfl (v := .ref (m + 2)) rfl dX3_count_84 ?_
    refine j_iconst hC (pc := 87) dX3_count_87 ?_
    refine M_iald hC hX hM (pc := 88) 2 (by decide) (L := 6) ⟨rfl, by decide⟩ (by omega) (z := V 2 3) rfl dX3_count_88 ?_
    refine lv_aload_n hx hb (pc := 89) dX3_count_89 rfl (lv_at hl 0 rfl) ?_
    refine M_get hC hX hM (pc := 90) 2 (by decide) q890 rfl (v := .ref (m + 2)) rfl dX3_count_90 ?_
    refine j_iconst hC (pc := 93) dX3_count_93 ?_
    refine M_iald hC hX hM (pc := 94) 2 (by decide) (L := 6) ⟨rfl, by decide⟩ (by omega) (z := V 2 4) rfl dX3_count_94 ?_
    refine lv_aload_n hx hb (pc := 95) dX3_count_95 rfl (lv_at hl 0 rfl) ?_
    refine M_get hC hX hM (pc := 96) 2 (by decide) q890 rfl (v := .ref (m + 2)) rfl dX3_count_96 ?_
    refine j_iconst hC (pc := 99) dX3_count_99 ?_
    refine M_iald hC hX hM (pc := 100) 2 (by decide) (L := 6) ⟨rfl, by decide⟩ (by omega) (z := V 2 5) rfl dX3_count_100 ?_
    refine S_calli (As := [.int (iI (V 2 3)), .int (iI (V 2 4)), .int (iI (V 2 5))]) (rest := []) hC hX (m3_manyOf D T N l (V 2 3) (V 2 4) (V 2 5) (by omega)) (va_cwS 3 hC.ts (lw_S q1049 q1050 q46 q1051) rfl rfl rfl (by decide +kernel) ⟨Nat.le_of_ble_eq_true rfl, Nat.le_of_ble_eq_true rfl⟩) rfl hl.1 (Nat.le_of_ble_eq_true rfl) dX3_count_101 ⟨Nat.zero_le _, Nat.zero_le _⟩ (fun r3 H locs hp hX => ?_)
    subst hQ
    exact j_iret hC (pc := 104) hX hr hlk (Nat.le_refl _) (Nat.le_refl _) dX3_count_104 ⟨rfl, _, _, hM, ho, ⟨by unfold countF; (repeat' split) <;> first | omega | rfl, rfl, rfl⟩⟩
  · refine lv_tableIn (tgt := 105) (off := 104) hx hb (pc := 1) dX3_count_1 (by rw [iI_toInt c1r.1 c1r.2]; omega) (by rw [iI_toInt c1r.1 c1r.2]; omega) (by rw [iI_toInt c1r.1 c1r.2, c1]; rfl) (by decide) ?_
    refine lv_aload_n hx hb (pc := 105) dX3_count_105 rfl (lv_at hl 0 rfl) ?_
    refine M_get hC hX hM (pc := 106) 3 (by decide) q891 rfl (v := .int (iI (F 3))) rfl dX3_count_106 ?_
    subst hQ
    exact j_iret hC (pc := 109) hX hr hlk (Nat.le_refl _) (Nat.le_refl _) dX3_count_109 ⟨rfl, _, _, hM, ho, ⟨by unfold countF; (repeat' split) <;> first | omega | rfl, rfl, rfl⟩⟩
  · refine lv_tableIn (tgt := 110) (off := 109) hx hb (pc := 1) dX3_count_1 (by rw [iI_toInt c1r.1 c1r.2]; omega) (by rw [iI_toInt c1r.1 c1r.2]; omega) (by rw [iI_toInt c1r.1 c1r.2, c1]; rfl) (by decide) ?_
    refine lv_aload_n hx hb (pc := 110) dX3_count_110 rfl (lv_at hl 0 rfl) ?_
    refine M_get hC hX hM (pc := 111) 4 (by decide) q892 rfl (v := .int (iI (F 4))) rfl dX3_count_111 ?_
    subst hQ
    exact j_iret hC (pc := 114) hX hr hlk (Nat.le_refl _) (Nat.le_refl _) dX3_count_114 ⟨rfl, _, _, hM, ho, ⟨by unfold countF; (repeat' split) <;> first | omega | rfl, rfl, rfl⟩⟩
  · refine lv_tableIn (tgt := 115) (off := 114) hx hb (pc := 1) dX3_count_1 (by rw [iI_toInt c1r.1 c1r.2]; omega) (by rw [iI_toInt c1r.1 c1r.2]; omega) (by rw [iI_toInt c1r.1 c1r.2, c1]; rfl) (by decide) ?_
    refine lv_aload_n hx hb (pc := 115) dX3_count_115 rfl (lv_at hl 0 rfl) ?_
    refine M_get hC hX hM (pc := 116) 25 (by decide) q913 rfl (v := .int (iI (F 25))) rfl dX3_count_116 ?_
    subst hQ
    exact j_iret hC (pc := 119) hX hr hlk (Nat.le_refl _) (Nat.le_refl _) dX3_count_119 ⟨rfl, _, _, hM, ho, ⟨by unfold countF; (repeat' split) <;> first | omega | rfl, rfl, rfl⟩⟩
  · refine lv_tableIn (tgt := 120) (off := 119) hx hb (pc := 1) dX3_count_1 (by rw [iI_toInt c1r.1 c1r.2]; omega) (by rw [iI_toInt c1r.1 c1r.2]; omega) (by rw [iI_toInt c1r.1 c1r.2, c1]; rfl) (by decide) ?_
    refine lv_aload_n hx hb (pc := 120) dX3_count_120 rfl (lv_at hl 0 rfl) ?_
    refine M_get hC hX hM (pc := 121) 40 (by decide) q928 rfl (v := .int (iI (F 40))) rfl dX3_count_121 ?_
    subst hQ
    exact j_iret hC (pc := 124) hX hr hlk (Nat.le_refl _) (Nat.le_refl _) dX3_count_124 ⟨rfl, _, _, hM, ho, ⟨by unfold countF; (repeat' split) <;> first | omega | rfl, rfl, rfl⟩⟩
  · refine lv_tableIn (tgt := 125) (off := 124) hx hb (pc := 1) dX3_count_1 (by rw [iI_toInt c1r.1 c1r.2]; omega) (by rw [iI_toInt c1r.1 c1r.2]; omega) (by rw [iI_toInt c1r.1 c1r.2, c1]; rfl) (by decide) ?_
    refine lv_aload_n hx hb (pc := 125) dX3_count_125 rfl (lv_at hl 0 rfl) ?_
    refine M_get hC hX hM (pc := 126) 5 (by decide) q893 rfl (v := .int (iI (F 5))) rfl dX3_count_126 ?_
    subst hQ
    exact j_iret hC (pc := 129) hX hr hlk (Nat.le_refl _) (Nat.le_refl _) dX3_count_129 ⟨rfl, _, _, hM, ho, ⟨by unfold countF; (repeat' split) <;> first | omega | rfl, rfl, rfl⟩⟩
  · refine lv_tableIn (tgt := 130) (off := 129) hx hb (pc := 1) dX3_count_1 (by rw [iI_toInt c1r.1 c1r.2]; omega) (by rw [iI_toInt c1r.1 c1r.2]; omega) (by rw [iI_toInt c1r.1 c1r.2, c1]; rfl) (by decide) ?_
    refine lv_aload_n hx hb (pc := 130) dX3_count_130 rfl (lv_at hl 0 rfl) ?_
    refine M_get hC hX hM (pc := 131) 27 (by decide) q915 rfl (v := .int (iI (F 27))) rfl dX3_count_131 ?_
    subst hQ
    exact j_iret hC (pc := 134) hX hr hlk (Nat.le_refl _) (Nat.le_refl _) dX3_count_134 ⟨rfl, _, _, hM, ho, ⟨by unfold countF; (repeat' split) <;> first | omega | rfl, rfl, rfl⟩⟩
  · refine lv_tableIn (tgt := 135) (off := 134) hx hb (pc := 1) dX3_count_1 (by rw [iI_toInt c1r.1 c1r.2]; omega) (by rw [iI_toInt c1r.1 c1r.2]; omega) (by rw [iI_toInt c1r.1 c1r.2, c1]; rfl) (by decide) ?_
    refine lv_aload_n hx hb (pc := 135) dX3_count_135 rfl (lv_at hl 0 rfl) ?_
    refine M_get hC hX hM (pc := 136) 28 (by decide) q916 rfl (v := .int (iI (F 28))) rfl dX3_count_136 ?_
    subst hQ
    exact j_iret hC (pc := 139) hX hr hlk (Nat.le_refl _) (Nat.le_refl _) dX3_count_139 ⟨rfl, _, _, hM, ho, ⟨by unfold countF; (repeat' split) <;> first | omega | rfl, rfl, rfl⟩⟩
  · refine lv_tableOut (tgt := 140) hx hb (pc := 1) dX3_count_1 (by rw [iI_toInt c1r.1 c1r.2]; omega) (by decide) ?_
    refine j_bipush hC (pc := 140) dX3_count_140 (by decide) ?_
    subst hQ
    exact j_iret hC (pc := 142) hX hr hlk (Nat.le_refl _) (Nat.le_refl _) dX3_count_142 ⟨rfl, _, _, hM, ho, ⟨by unfold countF; (repeat' split) <;> first | omega | rfl, rfl, rfl⟩⟩

set_option maxHeartbeats 4000000 in
set_option maxRecDepth 100000 in
theorem m3_digest (D : va_G) (T N : Nat → Nat) (l : Launch) {m : Nat} (F : Nat → Int) (V : Nat → Int → Int)  (hI : SI F V) : MMl D T N l yX3_digest (ws_ yX3_digest cX3_digest 4 (some .long)) ({ frames := 2, cells := 0, slots := 0, locals := 43 } : Room) m [] F V (fun r F' V' => r = digestF F V ∧ F' = F ∧ V' = V) := by
  intro g0 n hM
  refine j_start (by decide) (Nat.le_of_ble_eq_true rfl) ?_
  intro p e s mi args below meth c hC hr hlk hnm hX ls hl
  have hC : Ct D T N (gA g0 n) p s mi args c cX3_digest RX3 4 := hC
  have hx := hC.x
  have hb := hC.b
  have ho : off g0 g0 m 27 := off.rf
  generalize hQ : MQ below _ args s 0 0 (gA g0 n) = Q
  have hl : lv_has ls 4 [(0, .ref (m))] := hl
  have hn := hI.nums
  refine j_ldc2 hC (pc := 0) (z := 17) q1274 dX3_digest_0 rfl ?_
  refine lv_lstore_n (lv' := [(1, .long (lI (17))), (0, .ref (m))]) hx hb (pc := 3) dX3_digest_3 rfl hl (by decide) rfl (fun ls hl => ?_)
  refine j_iconst hC (pc := 4) dX3_digest_4 ?_
  refine lv_istore_n (lv' := [(3, .int (iI (0))), (1, .long (lI (17))), (0, .ref (m))]) hx hb (pc := 5) dX3_digest_5 rfl hl (by decide) rfl (fun ls hl => ?_)
  have L6 : ∀ (fu : Nat) (i : Int) (z : Int), 10 - i < (fu : Int) → (0 ≤ i ∧ i ≤ 10) → (z = digC (countF F V) 17 i.toNat) → ∀ (g : GH) (H : Heap) (locs : List Loc), Wd D (gA g0 n) s g n H locs → mR T g m F V → off g0 g m 27 → ∀ (ls : Array Slot), lv_has ls 4 [(3, .int (iI (i))), (1, .long (lI (z))), (0, .ref (m))] → W p l e ({ frames := 2, cells := 0, slots := 0, locals := 43 } : Room) s mi args below meth c H locs 0 0 Q (F0 mi 6 ls []) := by
    intro fu
    induction fu with
    | zero =>
      intro i z hfu hi hz g H locs hX hM ho ls hl
      exfalso
      omega
    | succ fu ih =>
      intro i z hfu hi hz g H locs hX hM ho ls hl
      refine lv_iload_n hx hb (pc := 6) dX3_digest_6 rfl (lv_at hl 0 rfl) ?_
      refine j_bipush hC (pc := 7) dX3_digest_7 (by decide) ?_
      refine j_icmp_ge hC (pc := 9) 41 dX3_digest_9 (by decide) (by omega) (fun c1 => ?_) (fun c1 => ?_)
      · skip
        refine j_iconst hC (pc := 41) dX3_digest_41 ?_
        refine lv_istore_n (lv' := [(3, .int (iI (0))), (1, .long (lI (z))), (0, .ref (m))]) hx hb (pc := 42) dX3_digest_42 rfl hl (by decide) rfl (fun ls hl => ?_)
        have L43 : ∀ (fu : Nat) (i : Int) (z : Int), 6 * F 0 - i < (fu : Int) → (0 ≤ i ∧ i ≤ 6 * F 0) → (z = digF (V 1) (digC (countF F V) 17 10) i.toNat) → ∀ (g : GH) (H : Heap) (locs : List Loc), Wd D (gA g0 n) s g n H locs → mR T g m F V → off g0 g m 27 → ∀ (ls : Array Slot), lv_has ls 4 [(3, .int (iI (i))), (1, .long (lI (z))), (0, .ref (m))] → W p l e ({ frames := 2, cells := 0, slots := 0, locals := 43 } : Room) s mi args below meth c H locs 0 0 Q (F0 mi 43 ls []) := by
          intro fu
          induction fu with
          | zero =>
            intro i z hfu hi hz g H locs hX hM ho ls hl
            exfalso
            omega
          | succ fu ih =>
            intro i z hfu hi hz g H locs hX hM ho ls hl
            refine lv_iload_n hx hb (pc := 43) dX3_digest_43 rfl (lv_at hl 0 rfl) ?_
            refine j_bipush hC (pc := 44) dX3_digest_44 (by decide) ?_
            refine lv_aload_n hx hb (pc := 46) dX3_digest_46 rfl (lv_at hl 2 rfl) ?_
            refine M_get hC hX hM (pc := 47) 0 (by decide) q888 rfl (v := .int (iI (F 0))) rfl dX3_digest_47 ?_
            refine j_imul hC (pc := 50) dX3_digest_50 ?_
            refine j_icmp_ge hC (pc := 51) 74 dX3_digest_51 (by decide) (by omega) (fun c2 => ?_) (fun c2 => ?_)
            · skip
              refine j_iconst hC (pc := 74) dX3_digest_74 ?_
              refine lv_istore_n (lv' := [(3, .int (iI (0))), (1, .long (lI (z))), (0, .ref (m))]) hx hb (pc := 75) dX3_digest_75 rfl hl (by decide) rfl (fun ls hl => ?_)
              have L76 : ∀ (fu : Nat) (i : Int) (z : Int), 6 - i < (fu : Int) → (0 ≤ i ∧ i ≤ 6) → (z = digF (V 2) (digF (V 1) (digC (countF F V) 17 10) (6 * F 0).toNat) i.toNat) → ∀ (g : GH) (H : Heap) (locs : List Loc), Wd D (gA g0 n) s g n H locs → mR T g m F V → off g0 g m 27 → ∀ (ls : Array Slot), lv_has ls 4 [(3, .int (iI (i))), (1, .long (lI (z))), (0, .ref (m))] → W p l e ({ frames := 2, cells := 0, slots := 0, locals := 43 } : Room) s mi args below meth c H locs 0 0 Q (F0 mi 76 ls []) := by
                intro fu
                induction fu with
                | zero =>
                  intro i z hfu hi hz g H locs hX hM ho ls hl
                  exfalso
                  omega
                | succ fu ih =>
                  intro i z hfu hi hz g H locs hX hM ho ls hl
                  refine lv_iload_n hx hb (pc := 76) dX3_digest_76 rfl (lv_at hl 0 rfl) ?_
                  refine j_bipush hC (pc := 77) dX3_digest_77 (by decide) ?_
                  refine j_icmp_ge hC (pc := 79) 102 dX3_digest_79 (by decide) (by omega) (fun c3 => ?_) (fun c3 => ?_)
                  · skip
                    refine j_iconst hC (pc := 102) dX3_digest_102 ?_
                    refine lv_istore_n (lv' := [(3, .int (iI (0))), (1, .long (lI (z))), (0, .ref (m))]) hx hb (pc := 103) dX3_digest_103 rfl hl (by decide) rfl (fun ls hl => ?_)
                    have L104 : ∀ (fu : Nat) (i : Int) (z : Int), 3 - i < (fu : Int) → (0 ≤ i ∧ i ≤ 3) → (z = digF (V 20) (digF (V 2) (digF (V 1) (digC (countF F V) 17 10) (6 * F 0).toNat) 6) i.toNat) → ∀ (g : GH) (H : Heap) (locs : List Loc), Wd D (gA g0 n) s g n H locs → mR T g m F V → off g0 g m 27 → ∀ (ls : Array Slot), lv_has ls 4 [(3, .int (iI (i))), (1, .long (lI (z))), (0, .ref (m))] → W p l e ({ frames := 2, cells := 0, slots := 0, locals := 43 } : Room) s mi args below meth c H locs 0 0 Q (F0 mi 104 ls []) := by
                      intro fu
                      induction fu with
                      | zero =>
                        intro i z hfu hi hz g H locs hX hM ho ls hl
                        exfalso
                        omega
                      | succ fu ih =>
                        intro i z hfu hi hz g H locs hX hM ho ls hl
                        refine lv_iload_n hx hb (pc := 104) dX3_digest_104 rfl (lv_at hl 0 rfl) ?_
                        refine j_iconst hC (pc := 105) dX3_digest_105 ?_
                        refine j_icmp_ge hC (pc := 106) 129 dX3_digest_106 (by decide) (by omega) (fun c4 => ?_) (fun c4 => ?_)
                        · skip
                          refine lv_lload_n hx hb (pc := 129) dX3_digest_129 rfl (lv_at hl 1 rfl) ?_
                          subst hQ
                          exact j_lret hC (pc := 130) hX hr hlk (Nat.le_refl _) (Nat.le_refl _) dX3_digest_130 ⟨rfl, _, _, hM, ho, ⟨by unfold digestF; rw [hz, show i.toNat = 3 by omega], rfl, rfl⟩⟩
                        · skip
                          refine j_ldc2 hC (pc := 109) (z := 31) q1104 dX3_digest_109 rfl ?_
                          refine lv_lload_n hx hb (pc := 112) dX3_digest_112 rfl (lv_at hl 1 rfl) ?_
                          refine j_lmul hC (pc := 113) dX3_digest_113 ?_
                          refine lv_aload_n hx hb (pc := 114) dX3_digest_114 rfl (lv_at hl 2 rfl) ?_
                          refine M_get hC hX hM (pc := 115) 33 (by decide) q921 rfl (v := .ref (m + 20)) rfl dX3_digest_115 ?_
                          refine lv_iload_n hx hb (pc := 118) dX3_digest_118 rfl (lv_at hl 0 rfl) ?_
                          refine M_iald hC hX hM (pc := 119) 20 (by decide) (L := 3) ⟨rfl, by decide⟩ (by omega) (z := V 20 i) rfl dX3_digest_119 ?_
                          have hv_ := hI.i20 (i := i) (by omega)
                          refine j_i2l hC (pc := 120) dX3_digest_120 (by omega) ?_
                          refine j_ladd hC (pc := 121) dX3_digest_121 ?_
                          refine lv_lstore_n (lv' := [(1, .long (lI ((31 * z) + (V 20 i)))), (3, .int (iI (i))), (0, .ref (m))]) hx hb (pc := 122) dX3_digest_122 rfl hl (by decide) rfl (fun ls hl => ?_)
                          refine j_iinc hC (pc := 123) (lv' := [(3, .int (iI (i + 1))), (1, .long (lI ((31 * z) + (V 20 i)))), (0, .ref (m))]) dX3_digest_123 hl (k := 1) rfl (by decide) rfl (fun ls hl => ?_)
                          refine j_goto hC (pc := 126) 104 dX3_digest_126 (by decide) ?_
                          exact ih (i + 1) ((31 * z) + (V 20 i)) (by omega) (by omega) (by rw [show (i + 1).toNat = i.toNat + 1 by omega, hz]; show _ = 31 * digF (V 20) (digF (V 2) (digF (V 1) (digC (countF F V) 17 10) (6 * F 0).toNat) 6) i.toNat + (V 20) (i.toNat : Int); rw [Int.toNat_of_nonneg (by omega)]) _ _ _ hX hM ho ls (lv_sub hl [0, 1, 2] rfl)
                    exact L104 ((3 - 0 : Int).toNat + 1) 0 z (by omega) (by omega) (by have hz := hz; rw [show i.toNat = 6 by omega] at hz; exact hz) _ _ _ hX hM ho ls (lv_sub hl [0, 1, 2] rfl)
                  · skip
                    refine j_ldc2 hC (pc := 82) (z := 31) q1104 dX3_digest_82 rfl ?_
                    refine lv_lload_n hx hb (pc := 85) dX3_digest_85 rfl (lv_at hl 1 rfl) ?_
                    refine j_lmul hC (pc := 86) dX3_digest_86 ?_
                    refine lv_aload_n hx hb (pc := 87) dX3_digest_87 rfl (lv_at hl 2 rfl) ?_
                    refine M_get hC hX hM (pc := 88) 2 (by decide) q890 rfl (v := .ref (m + 2)) rfl dX3_digest_88 ?_
                    refine lv_iload_n hx hb (pc := 91) dX3_digest_91 rfl (lv_at hl 0 rfl) ?_
                    refine M_iald hC hX hM (pc := 92) 2 (by decide) (L := 6) ⟨rfl, by decide⟩ (by omega) (z := V 2 i) rfl dX3_digest_92 ?_
                    have hv_ := hI.i2 (i := i) (by omega)
                    refine j_i2l hC (pc := 93) dX3_digest_93 (by omega) ?_
                    refine j_ladd hC (pc := 94) dX3_digest_94 ?_
                    refine lv_lstore_n (lv' := [(1, .long (lI ((31 * z) + (V 2 i)))), (3, .int (iI (i))), (0, .ref (m))]) hx hb (pc := 95) dX3_digest_95 rfl hl (by decide) rfl (fun ls hl => ?_)
                    refine j_iinc hC (pc := 96) (lv' := [(3, .int (iI (i + 1))), (1, .long (lI ((31 * z) + (V 2 i)))), (0, .ref (m))]) dX3_digest_96 hl (k := 1) rfl (by decide) rfl (fun ls hl => ?_)
                    refine j_goto hC (pc := 99) 76 dX3_digest_99 (by decide) ?_
                    exact ih (i + 1) ((31 * z) + (V 2 i)) (by omega) (by omega) (by rw [show (i + 1).toNat = i.toNat + 1 by omega, hz]; show _ = 31 * digF (V 2) (digF (V 1) (digC (countF F V) 17 10) (6 * F 0).toNat) i.toNat + (V 2) (i.toNat : Int); rw [Int.toNat_of_nonneg (by omega)]) _ _ _ hX hM ho ls (lv_sub hl [0, 1, 2] rfl)
              exact L76 ((6 - 0 : Int).toNat + 1) 0 z (by omega) (by omega) (by have hz := hz; rw [show i.toNat = (6 * F 0).toNat by omega] at hz; exact hz) _ _ _ hX hM ho ls (lv_sub hl [0, 1, 2] rfl)
            · skip
              refine j_ldc2 hC (pc := 54) (z := 31) q1104 dX3_digest_54 rfl ?_
              refine lv_lload_n hx hb (pc := 57) dX3_digest_57 rfl (lv_at hl 1 rfl) ?_
              refine j_lmul hC (pc := 58) dX3_digest_58 ?_
              refine lv_aload_n hx hb (pc := 59) dX3_digest_59 rfl (lv_at hl 2 rfl) ?_
              refine M_get hC hX hM (pc := 60) 1 (by decide) q889 rfl (v := .ref (m + 1)) rfl dX3_digest_60 ?_
              refine lv_iload_n hx hb (pc := 63) dX3_digest_63 rfl (lv_at hl 0 rfl) ?_
              refine M_iald hC hX hM (pc := 64) 1 (by decide) (L := 96) ⟨rfl, by decide⟩ (by omega) (z := V 1 i) rfl dX3_digest_64 ?_
              have hv_ := hI.i1 (i := i) (by omega)
              refine j_i2l hC (pc := 65) dX3_digest_65 (by omega) ?_
              refine j_ladd hC (pc := 66) dX3_digest_66 ?_
              refine lv_lstore_n (lv' := [(1, .long (lI ((31 * z) + (V 1 i)))), (3, .int (iI (i))), (0, .ref (m))]) hx hb (pc := 67) dX3_digest_67 rfl hl (by decide) rfl (fun ls hl => ?_)
              refine j_iinc hC (pc := 68) (lv' := [(3, .int (iI (i + 1))), (1, .long (lI ((31 * z) + (V 1 i)))), (0, .ref (m))]) dX3_digest_68 hl (k := 1) rfl (by decide) rfl (fun ls hl => ?_)
              refine j_goto hC (pc := 71) 43 dX3_digest_71 (by decide) ?_
              exact ih (i + 1) ((31 * z) + (V 1 i)) (by omega) (by omega) (by rw [show (i + 1).toNat = i.toNat + 1 by omega, hz]; show _ = 31 * digF (V 1) (digC (countF F V) 17 10) i.toNat + (V 1) (i.toNat : Int); rw [Int.toNat_of_nonneg (by omega)]) _ _ _ hX hM ho ls (lv_sub hl [0, 1, 2] rfl)
        exact L43 ((6 * F 0 - 0 : Int).toNat + 1) 0 z (by omega) (by omega) (by have hz := hz; rw [show i.toNat = 10 by omega] at hz; exact hz) _ _ _ hX hM ho ls (lv_sub hl [0, 1, 2] rfl)
      · skip
        refine lv_iload_n hx hb (pc := 12) dX3_digest_12 rfl (lv_at hl 0 rfl) ?_
        refine j_bipush hC (pc := 13) dX3_digest_13 (by decide) ?_
        refine j_icmp_ne hC (pc := 15) 22 dX3_digest_15 (by decide) (by omega) (fun c5 => ?_) (fun c5 => ?_)
        · skip
          refine j_ldc2 hC (pc := 22) (z := 31) q1104 dX3_digest_22 rfl ?_
          refine lv_lload_n hx hb (pc := 25) dX3_digest_25 rfl (lv_at hl 1 rfl) ?_
          refine j_lmul hC (pc := 26) dX3_digest_26 ?_
          refine lv_aload_n hx hb (pc := 27) dX3_digest_27 rfl (lv_at hl 2 rfl) ?_
          refine lv_iload_n hx hb (pc := 28) dX3_digest_28 rfl (lv_at hl 0 rfl) ?_
          refine M_calli (As := [.int (iI (i))]) (rest := [.long (lI (31 * z))]) hC hX hM ho (m3_count D T N l _ _ i hI (by omega)) (cwV 1 hC.ts (lw_V q1275 q1267 q1268 q46 q1269) rfl rfl rfl (by decide +kernel) ⟨Nat.le_of_ble_eq_true rfl, Nat.le_of_ble_eq_true rfl⟩) rfl hl.1 (Nat.le_of_ble_eq_true rfl) dX3_digest_29 ⟨Nat.zero_le _, Nat.zero_le _⟩ (fun r6 F7 V7 g H locs hp hX hM ho => ?_)
          obtain ⟨hp, hF_, hV_⟩ := hp
          rw [hF_, hV_] at hM
          have hq_r6 := countF_rg hI i
          have hi_c := hp
          refine j_i2l hC (pc := 32) dX3_digest_32 (by omega) ?_
          refine j_ladd hC (pc := 33) dX3_digest_33 ?_
          refine lv_lstore_n (lv' := [(1, .long (lI ((31 * z) + r6))), (3, .int (iI (i))), (0, .ref (m))]) hx hb (pc := 34) dX3_digest_34 rfl hl (by decide) rfl (fun ls hl => ?_)
          refine j_iinc hC (pc := 35) (lv' := [(3, .int (iI (i + 1))), (1, .long (lI ((31 * z) + r6))), (0, .ref (m))]) dX3_digest_35 hl (k := 1) rfl (by decide) rfl (fun ls hl => ?_)
          refine j_goto hC (pc := 38) 6 dX3_digest_38 (by decide) ?_
          exact ih (i + 1) ((31 * z) + r6) (by omega) (by omega) (by rw [show (i + 1).toNat = i.toNat + 1 by omega, hz]; show _ = (if i.toNat = 6 then digC (countF F V) 17 i.toNat else 31 * digC (countF F V) 17 i.toNat + countF F V (i.toNat : Int)); rw [Int.toNat_of_nonneg (by omega)]; rw [if_neg (by omega), hi_c]) _ _ _ hX hM ho ls (lv_sub hl [0, 1, 2] rfl)
        · skip
          refine lv_lload_n hx hb (pc := 18) dX3_digest_18 rfl (lv_at hl 1 rfl) ?_
          refine j_goto hC (pc := 19) 34 dX3_digest_19 (by decide) ?_
          refine lv_lstore_n (lv' := [(1, .long (lI (z))), (3, .int (iI (i))), (0, .ref (m))]) hx hb (pc := 34) dX3_digest_34 rfl hl (by decide) rfl (fun ls hl => ?_)
          refine j_iinc hC (pc := 35) (lv' := [(3, .int (iI (i + 1))), (1, .long (lI (z))), (0, .ref (m))]) dX3_digest_35 hl (k := 1) rfl (by decide) rfl (fun ls hl => ?_)
          refine j_goto hC (pc := 38) 6 dX3_digest_38 (by decide) ?_
          exact ih (i + 1) z (by omega) (by omega) (by rw [show (i + 1).toNat = i.toNat + 1 by omega, hz]; show _ = (if i.toNat = 6 then digC (countF F V) 17 i.toNat else 31 * digC (countF F V) 17 i.toNat + countF F V (i.toNat : Int)); rw [Int.toNat_of_nonneg (by omega)]; rw [if_pos (by omega)]) _ _ _ hX hM ho ls (lv_sub hl [0, 1, 2] rfl)
  exact L6 ((10 - 0 : Int).toNat + 1) 0 17 (by omega) (by omega) rfl _ _ _ hX hM ho ls (lv_sub hl [0, 1, 2] rfl)
