/-! FairFightModel: small methods -/
set_option maxHeartbeats 4000000 in
set_option maxRecDepth 100000 in
theorem m3_in (D : va_G) (T N : Nat → Nat) (l : Launch) (v a b : Int) (h : -9223372036854775808 ≤ v ∧ v ≤ 9223372036854775807 ∧ -9223372036854775808 ≤ a ∧ a ≤ 9223372036854775807 ∧ -9223372036854775808 ≤ b ∧ b ≤ 9223372036854775807) : SSi D T N l yX3_in (ws_ yX3_in cX3_in 6 (some .boolean)) ({ frames := 0, cells := 0, slots := 0, locals := 0 } : Room) [.long (lI (v)), .long (lI (a)), .long (lI (b))] (fun r => r = inF v a b) := by
  intro g0 n
  refine j_start (by decide) (Nat.le_of_ble_eq_true rfl) ?_
  intro p e s mi args below meth c hC hr hlk hnm hX ls hl
  have hC : Ct D T N (gA g0 n) p s mi args c cX3_in RX3 6 := hC
  have hx := hC.x
  have hb := hC.b
  generalize hQ : MQ below _ args s 0 0 (gA g0 n) = Q
  have hl : lv_has ls 6 [(0, .long (lI (v))), (2, .long (lI (a))), (4, .long (lI (b)))] := hl
  refine lv_lload_n hx hb (pc := 0) dX3_in_0 rfl (lv_at hl 0 rfl) ?_
  refine lv_lload_n hx hb (pc := 1) dX3_in_1 rfl (lv_at hl 1 rfl) ?_
  refine j_lcmp hC (pc := 2) dX3_in_2 (by omega) (fun z2 h1 => ?_)
  refine j_if_lt hC (pc := 3) 17 dX3_in_3 (by decide) (by omega) (fun c3 => ?_) (fun c3 => ?_)
  · skip
    refine j_iconst hC (pc := 17) dX3_in_17 ?_
    subst hQ
    exact j_zret hC (pc := 18) hX hr hlk (Nat.le_refl _) (Nat.le_refl _) dX3_in_18 (by omega) ⟨rfl, rfl, (by unfold inF; split <;> omega)⟩
  · skip
    refine lv_lload_n hx hb (pc := 6) dX3_in_6 rfl (lv_at hl 0 rfl) ?_
    refine lv_lload hx hb (pc := 7) dX3_in_7 (lv_at hl 2 rfl) ?_
    refine j_lcmp hC (pc := 9) dX3_in_9 (by omega) (fun z5 h4 => ?_)
    refine j_if_gt hC (pc := 10) 17 dX3_in_10 (by decide) (by omega) (fun c6 => ?_) (fun c6 => ?_)
    · skip
      refine j_iconst hC (pc := 17) dX3_in_17 ?_
      subst hQ
      exact j_zret hC (pc := 18) hX hr hlk (Nat.le_refl _) (Nat.le_refl _) dX3_in_18 (by omega) ⟨rfl, rfl, (by unfold inF; split <;> omega)⟩
    · skip
      refine j_iconst hC (pc := 13) dX3_in_13 ?_
      refine j_goto hC (pc := 14) 18 dX3_in_14 (by decide) ?_
      subst hQ
      exact j_zret hC (pc := 18) hX hr hlk (Nat.le_refl _) (Nat.le_refl _) dX3_in_18 (by omega) ⟨rfl, rfl, (by unfold inF; split <;> omega)⟩

set_option maxHeartbeats 4000000 in
set_option maxRecDepth 100000 in
theorem m3_no (D : va_G) (T N : Nat → Nat) (l : Launch) (v : Int) (hg : (-2147483648 ≤ v ∧ v ≤ 2147483647)) : SSl D T N l yX3_no (ws_ yX3_no cX3_no 1 (some .long)) ({ frames := 0, cells := 0, slots := 0, locals := 0 } : Room) [.int (iI (v))] (fun r => r = -9223372036854775808 - v) := by
  intro g0 n
  refine j_start (by decide) (Nat.le_of_ble_eq_true rfl) ?_
  intro p e s mi args below meth c hC hr hlk hnm hX ls hl
  have hC : Ct D T N (gA g0 n) p s mi args c cX3_no RX3 1 := hC
  have hx := hC.x
  have hb := hC.b
  generalize hQ : MQ below _ args s 0 0 (gA g0 n) = Q
  have hl : lv_has ls 1 [(0, .int (iI (v)))] := hl
  refine j_ldc2 hC (pc := 0) (z := -9223372036854775808) q1138 dX3_no_0 rfl ?_
  refine lv_iload_n hx hb (pc := 3) dX3_no_3 rfl (lv_at hl 0 rfl) ?_
  refine j_i2l hC (pc := 4) dX3_no_4 (by omega) ?_
  refine j_lsub hC (pc := 5) dX3_no_5 ?_
  subst hQ
  exact j_lret hC (pc := 6) hX hr hlk (Nat.le_refl _) (Nat.le_refl _) dX3_no_6 ⟨rfl, rfl, rfl⟩

set_option maxHeartbeats 4000000 in
set_option maxRecDepth 100000 in
theorem m3_isSheet (D : va_G) (T N : Nat → Nat) (l : Launch) (v : Int) (hg : (-2147483648 ≤ v ∧ v ≤ 2147483647)) : SSi D T N l yX3_isSheet (ws_ yX3_isSheet cX3_isSheet 1 (some .boolean)) ({ frames := 1, cells := 0, slots := 0, locals := 25 } : Room) [.int (iI (v))] (fun r => r = inF v 0 3) := by
  intro g0 n
  refine j_start (by decide) (Nat.le_of_ble_eq_true rfl) ?_
  intro p e s mi args below meth c hC hr hlk hnm hX ls hl
  have hC : Ct D T N (gA g0 n) p s mi args c cX3_isSheet RX3 1 := hC
  have hx := hC.x
  have hb := hC.b
  generalize hQ : MQ below _ args s 0 0 (gA g0 n) = Q
  have hl : lv_has ls 1 [(0, .int (iI (v)))] := hl
  refine lv_iload_n hx hb (pc := 0) dX3_isSheet_0 rfl (lv_at hl 0 rfl) ?_
  refine j_i2l hC (pc := 1) dX3_isSheet_1 (by omega) ?_
  refine j_lconst hC (pc := 2) (w := 0) dX3_isSheet_2 rfl ?_
  refine j_ldc2 hC (pc := 3) (z := 3) q1227 dX3_isSheet_3 rfl ?_
  refine S_calli (As := [.long (lI (v)), .long (lI (0)), .long (lI (3))]) (rest := []) hC hX (m3_in D T N l v 0 3 (by omega)) (va_cwS 3 hC.ts (lw_S q1020 q1021 q46 q1022) rfl rfl rfl (by decide +kernel) ⟨Nat.le_of_ble_eq_true rfl, Nat.le_of_ble_eq_true rfl⟩) rfl hl.1 (Nat.le_of_ble_eq_true rfl) dX3_isSheet_6 ⟨Nat.zero_le _, Nat.zero_le _⟩ (fun r1 H locs hp hX => ?_)
  have hq_r1 := inF_of hp
  subst hQ
  exact j_zret hC (pc := 9) hX hr hlk (Nat.le_refl _) (Nat.le_refl _) dX3_isSheet_9 (by omega) ⟨rfl, rfl, hp⟩

set_option maxHeartbeats 4000000 in
set_option maxRecDepth 100000 in
theorem m3_isNumber (D : va_G) (T N : Nat → Nat) (l : Launch) (w v : Int) (hg : (-2147483648 ≤ w ∧ w ≤ 2147483647) ∧ (-2147483648 ≤ v ∧ v ≤ 2147483647)) : SSi D T N l yX3_isNumber (ws_ yX3_isNumber cX3_isNumber 2 (some .boolean)) ({ frames := 1, cells := 0, slots := 0, locals := 25 } : Room) [.int (iI (w)), .int (iI (v))] (fun r => r = numF w v) := by
  intro g0 n
  refine j_start (by decide) (Nat.le_of_ble_eq_true rfl) ?_
  intro p e s mi args below meth c hC hr hlk hnm hX ls hl
  have hC : Ct D T N (gA g0 n) p s mi args c cX3_isNumber RX3 2 := hC
  have hx := hC.x
  have hb := hC.b
  generalize hQ : MQ below _ args s 0 0 (gA g0 n) = Q
  have hl : lv_has ls 2 [(0, .int (iI (w))), (1, .int (iI (v)))] := hl
  refine lv_iload_n hx hb (pc := 0) dX3_isNumber_0 rfl (lv_at hl 0 rfl) ?_
  have c1r := show -2147483648 ≤ w ∧ w ≤ 2147483647 from (by omega)
  have c1 : w = 0 ∨ w = 1 ∨ w = 2 ∨ w = 3 ∨ w = 4 ∨ (w < 0 ∨ 4 < w) := by omega
  rcases c1 with c1 | c1 | c1 | c1 | c1 | c1
  · refine lv_tableIn (tgt := 36) (off := 35) hx hb (pc := 1) dX3_isNumber_1 (by rw [iI_toInt c1r.1 c1r.2]; omega) (by rw [iI_toInt c1r.1 c1r.2]; omega) (by rw [iI_toInt c1r.1 c1r.2, c1]; rfl) (by decide) ?_
    refine lv_iload_n hx hb (pc := 36) dX3_isNumber_36 rfl (lv_at hl 1 rfl) ?_
    refine j_i2l hC (pc := 37) dX3_isNumber_37 (by omega) ?_
    refine j_lconst hC (pc := 38) (w := 0) dX3_isNumber_38 rfl ?_
    refine j_ldc2 hC (pc := 39) (z := 2) q1019 dX3_isNumber_39 rfl ?_
    refine S_calli (As := [.long (lI (v)), .long (lI (0)), .long (lI (2))]) (rest := []) hC hX (m3_in D T N l v 0 2 (by omega)) (va_cwS 3 hC.ts (lw_S q1020 q1021 q46 q1022) rfl rfl rfl (by decide +kernel) ⟨Nat.le_of_ble_eq_true rfl, Nat.le_of_ble_eq_true rfl⟩) rfl hl.1 (Nat.le_of_ble_eq_true rfl) dX3_isNumber_42 ⟨Nat.zero_le _, Nat.zero_le _⟩ (fun r2 H locs hp hX => ?_)
    have hq_r2 := inF_of hp
    subst hQ
    exact j_zret hC (pc := 45) hX hr hlk (Nat.le_refl _) (Nat.le_refl _) dX3_isNumber_45 (by omega) ⟨rfl, rfl, (by rw [hp]; unfold numF; (repeat' split) <;> first | rfl | omega)⟩
  · refine lv_tableIn (tgt := 46) (off := 45) hx hb (pc := 1) dX3_isNumber_1 (by rw [iI_toInt c1r.1 c1r.2]; omega) (by rw [iI_toInt c1r.1 c1r.2]; omega) (by rw [iI_toInt c1r.1 c1r.2, c1]; rfl) (by decide) ?_
    refine lv_iload_n hx hb (pc := 46) dX3_isNumber_46 rfl (lv_at hl 1 rfl) ?_
    refine j_i2l hC (pc := 47) dX3_isNumber_47 (by omega) ?_
    refine j_lconst hC (pc := 48) (w := 1) dX3_isNumber_48 rfl ?_
    refine j_ldc2 hC (pc := 49) (z := 20) q1023 dX3_isNumber_49 rfl ?_
    refine S_calli (As := [.long (lI (v)), .long (lI (1)), .long (lI (20))]) (rest := []) hC hX (m3_in D T N l v 1 20 (by omega)) (va_cwS 3 hC.ts (lw_S q1020 q1021 q46 q1022) rfl rfl rfl (by decide +kernel) ⟨Nat.le_of_ble_eq_true rfl, Nat.le_of_ble_eq_true rfl⟩) rfl hl.1 (Nat.le_of_ble_eq_true rfl) dX3_isNumber_52 ⟨Nat.zero_le _, Nat.zero_le _⟩ (fun r3 H locs hp hX => ?_)
    have hq_r3 := inF_of hp
    subst hQ
    exact j_zret hC (pc := 55) hX hr hlk (Nat.le_refl _) (Nat.le_refl _) dX3_isNumber_55 (by omega) ⟨rfl, rfl, (by rw [hp]; unfold numF; (repeat' split) <;> first | rfl | omega)⟩
  · refine lv_tableIn (tgt := 56) (off := 55) hx hb (pc := 1) dX3_isNumber_1 (by rw [iI_toInt c1r.1 c1r.2]; omega) (by rw [iI_toInt c1r.1 c1r.2]; omega) (by rw [iI_toInt c1r.1 c1r.2, c1]; rfl) (by decide) ?_
    refine lv_iload_n hx hb (pc := 56) dX3_isNumber_56 rfl (lv_at hl 1 rfl) ?_
    refine j_i2l hC (pc := 57) dX3_isNumber_57 (by omega) ?_
    refine j_lconst hC (pc := 58) (w := 0) dX3_isNumber_58 rfl ?_
    refine j_ldc2 hC (pc := 59) (z := 6) q1024 dX3_isNumber_59 rfl ?_
    refine S_calli (As := [.long (lI (v)), .long (lI (0)), .long (lI (6))]) (rest := []) hC hX (m3_in D T N l v 0 6 (by omega)) (va_cwS 3 hC.ts (lw_S q1020 q1021 q46 q1022) rfl rfl rfl (by decide +kernel) ⟨Nat.le_of_ble_eq_true rfl, Nat.le_of_ble_eq_true rfl⟩) rfl hl.1 (Nat.le_of_ble_eq_true rfl) dX3_isNumber_62 ⟨Nat.zero_le _, Nat.zero_le _⟩ (fun r4 H locs hp hX => ?_)
    have hq_r4 := inF_of hp
    subst hQ
    exact j_zret hC (pc := 65) hX hr hlk (Nat.le_refl _) (Nat.le_refl _) dX3_isNumber_65 (by omega) ⟨rfl, rfl, (by rw [hp]; unfold numF; (repeat' split) <;> first | rfl | omega)⟩
  · refine lv_tableIn (tgt := 66) (off := 65) hx hb (pc := 1) dX3_isNumber_1 (by rw [iI_toInt c1r.1 c1r.2]; omega) (by rw [iI_toInt c1r.1 c1r.2]; omega) (by rw [iI_toInt c1r.1 c1r.2, c1]; rfl) (by decide) ?_
    refine lv_iload_n hx hb (pc := 66) dX3_isNumber_66 rfl (lv_at hl 1 rfl) ?_
    refine j_i2l hC (pc := 67) dX3_isNumber_67 (by omega) ?_
    refine j_lconst hC (pc := 68) (w := 1) dX3_isNumber_68 rfl ?_
    refine j_ldc2 hC (pc := 69) (z := 9) q1025 dX3_isNumber_69 rfl ?_
    refine S_calli (As := [.long (lI (v)), .long (lI (1)), .long (lI (9))]) (rest := []) hC hX (m3_in D T N l v 1 9 (by omega)) (va_cwS 3 hC.ts (lw_S q1020 q1021 q46 q1022) rfl rfl rfl (by decide +kernel) ⟨Nat.le_of_ble_eq_true rfl, Nat.le_of_ble_eq_true rfl⟩) rfl hl.1 (Nat.le_of_ble_eq_true rfl) dX3_isNumber_72 ⟨Nat.zero_le _, Nat.zero_le _⟩ (fun r5 H locs hp hX => ?_)
    have hq_r5 := inF_of hp
    subst hQ
    exact j_zret hC (pc := 75) hX hr hlk (Nat.le_refl _) (Nat.le_refl _) dX3_isNumber_75 (by omega) ⟨rfl, rfl, (by rw [hp]; unfold numF; (repeat' split) <;> first | rfl | omega)⟩
  · refine lv_tableIn (tgt := 76) (off := 75) hx hb (pc := 1) dX3_isNumber_1 (by rw [iI_toInt c1r.1 c1r.2]; omega) (by rw [iI_toInt c1r.1 c1r.2]; omega) (by rw [iI_toInt c1r.1 c1r.2, c1]; rfl) (by decide) ?_
    refine lv_iload_n hx hb (pc := 76) dX3_isNumber_76 rfl (lv_at hl 1 rfl) ?_
    refine j_i2l hC (pc := 77) dX3_isNumber_77 (by omega) ?_
    refine j_lconst hC (pc := 78) (w := 0) dX3_isNumber_78 rfl ?_
    refine j_ldc2 hC (pc := 79) (z := 19) q1026 dX3_isNumber_79 rfl ?_
    refine S_calli (As := [.long (lI (v)), .long (lI (0)), .long (lI (19))]) (rest := []) hC hX (m3_in D T N l v 0 19 (by omega)) (va_cwS 3 hC.ts (lw_S q1020 q1021 q46 q1022) rfl rfl rfl (by decide +kernel) ⟨Nat.le_of_ble_eq_true rfl, Nat.le_of_ble_eq_true rfl⟩) rfl hl.1 (Nat.le_of_ble_eq_true rfl) dX3_isNumber_82 ⟨Nat.zero_le _, Nat.zero_le _⟩ (fun r6 H locs hp hX => ?_)
    have hq_r6 := inF_of hp
    subst hQ
    exact j_zret hC (pc := 85) hX hr hlk (Nat.le_refl _) (Nat.le_refl _) dX3_isNumber_85 (by omega) ⟨rfl, rfl, (by rw [hp]; unfold numF; (repeat' split) <;> first | rfl | omega)⟩
  · refine lv_tableOut (tgt := 86) hx hb (pc := 1) dX3_isNumber_1 (by rw [iI_toInt c1r.1 c1r.2]; omega) (by decide) ?_
    refine lv_iload_n hx hb (pc := 86) dX3_isNumber_86 rfl (lv_at hl 1 rfl) ?_
    refine j_i2l hC (pc := 87) dX3_isNumber_87 (by omega) ?_
    refine j_lconst hC (pc := 88) (w := 0) dX3_isNumber_88 rfl ?_
    refine j_ldc2 hC (pc := 89) (z := 9) q1025 dX3_isNumber_89 rfl ?_
    refine S_calli (As := [.long (lI (v)), .long (lI (0)), .long (lI (9))]) (rest := []) hC hX (m3_in D T N l v 0 9 (by omega)) (va_cwS 3 hC.ts (lw_S q1020 q1021 q46 q1022) rfl rfl rfl (by decide +kernel) ⟨Nat.le_of_ble_eq_true rfl, Nat.le_of_ble_eq_true rfl⟩) rfl hl.1 (Nat.le_of_ble_eq_true rfl) dX3_isNumber_92 ⟨Nat.zero_le _, Nat.zero_le _⟩ (fun r7 H locs hp hX => ?_)
    have hq_r7 := inF_of hp
    subst hQ
    exact j_zret hC (pc := 95) hX hr hlk (Nat.le_refl _) (Nat.le_refl _) dX3_isNumber_95 (by omega) ⟨rfl, rfl, (by rw [hp]; unfold numF; (repeat' split) <;> first | rfl | omega)⟩

set_option maxHeartbeats 4000000 in
set_option maxRecDepth 100000 in
theorem m3_isFighter (D : va_G) (T N : Nat → Nat) (l : Launch) {m : Nat} (F : Nat → Int) (V : Nat → Int → Int) (f : Int) (hI : SI F V) (hg : (-2147483648 ≤ f ∧ f ≤ 2147483647)) : MMi D T N l yX3_isFighter (ws_ yX3_isFighter cX3_isFighter 2 (some .boolean)) ({ frames := 1, cells := 0, slots := 0, locals := 25 } : Room) m [.int (iI (f))] F V (fun r F' V' => r = inF f 0 (F 0 - 1) ∧ F' = F ∧ V' = V) := by
  intro g0 n hM
  refine j_start (by decide) (Nat.le_of_ble_eq_true rfl) ?_
  intro p e s mi args below meth c hC hr hlk hnm hX ls hl
  have hC : Ct D T N (gA g0 n) p s mi args c cX3_isFighter RX3 2 := hC
  have hx := hC.x
  have hb := hC.b
  have ho : off g0 g0 m 27 := off.rf
  generalize hQ : MQ below _ args s 0 0 (gA g0 n) = Q
  have hl : lv_has ls 2 [(0, .ref (m)), (1, .int (iI (f)))] := hl
  have hn := hI.nums
  refine lv_iload_n hx hb (pc := 0) dX3_isFighter_0 rfl (lv_at hl 1 rfl) ?_
  refine j_i2l hC (pc := 1) dX3_isFighter_1 (by omega) ?_
  refine j_lconst hC (pc := 2) (w := 0) dX3_isFighter_2 rfl ?_
  refine lv_aload_n hx hb (pc := 3) dX3_isFighter_3 rfl (lv_at hl 0 rfl) ?_
  refine M_get hC hX hM (pc := 4) 0 (by decide) q888 rfl (v := .int (iI (F 0))) rfl dX3_isFighter_4 ?_
  refine j_iconst hC (pc := 7) dX3_isFighter_7 ?_
  refine j_isub hC (pc := 8) dX3_isFighter_8 ?_
  refine j_i2l hC (pc := 9) dX3_isFighter_9 (by omega) ?_
  refine S_calli (As := [.long (lI (f)), .long (lI (0)), .long (lI ((F 0) - 1))]) (rest := []) hC hX (m3_in D T N l f 0 ((F 0) - 1) (by omega)) (va_cwS 3 hC.ts (lw_S q1020 q1021 q46 q1022) rfl rfl rfl (by decide +kernel) ⟨Nat.le_of_ble_eq_true rfl, Nat.le_of_ble_eq_true rfl⟩) rfl hl.1 (Nat.le_of_ble_eq_true rfl) dX3_isFighter_10 ⟨Nat.zero_le _, Nat.zero_le _⟩ (fun r1 H locs hp hX => ?_)
  have hq_r1 := inF_of hp
  subst hQ
  exact j_zret hC (pc := 13) hX hr hlk (Nat.le_refl _) (Nat.le_refl _) dX3_isFighter_13 (by omega) ⟨rfl, _, _, hM, ho, ⟨hp, rfl, rfl⟩⟩

set_option maxHeartbeats 4000000 in
set_option maxRecDepth 100000 in
theorem m3_fighter (D : va_G) (T N : Nat → Nat) (l : Launch) {m : Nat} (F : Nat → Int) (V : Nat → Int → Int) (k w h f x v : Int) (hI : SI F V) (hg : (-2147483648 ≤ k ∧ k ≤ 2147483647) ∧ (-2147483648 ≤ w ∧ w ≤ 2147483647) ∧ (-2147483648 ≤ h ∧ h ≤ 2147483647) ∧ (-2147483648 ≤ f ∧ f ≤ 2147483647) ∧ (-2147483648 ≤ x ∧ x ≤ 2147483647) ∧ (-2147483648 ≤ v ∧ v ≤ 2147483647)) : MMi D T N l yX3_fighter (ws_ yX3_fighter cX3_fighter 8 (some .int)) ({ frames := 2, cells := 0, slots := 0, locals := 46 } : Room) m [.int (iI (k)), .int (iI (w)), .int (iI (h)), .int (iI (f)), .int (iI (x)), .int (iI (v))] F V (mP (op_fighter F V k w h f x v)) := by
  intro g0 n hM
  refine j_start (by decide) (Nat.le_of_ble_eq_true rfl) ?_
  intro p e s mi args below meth c hC hr hlk hnm hX ls hl
  have hC : Ct D T N (gA g0 n) p s mi args c cX3_fighter RX3 8 := hC
  have hx := hC.x
  have hb := hC.b
  have ho : off g0 g0 m 27 := off.rf
  generalize hQ : MQ below _ args s 0 0 (gA g0 n) = Q
  have hl : lv_has ls 8 [(0, .ref (m)), (1, .int (iI (k))), (2, .int (iI (w))), (3, .int (iI (h))), (4, .int (iI (f))), (5, .int (iI (x))), (6, .int (iI (v)))] := hl
  have hn := hI.nums
  refine j_iconst hC (pc := 0) dX3_fighter_0 ?_
  refine lv_iload_n hx hb (pc := 1) dX3_fighter_1 rfl (lv_at hl 1 rfl) ?_
  refine S_calli (As := [.int (iI (0)), .int (iI (k))]) (rest := []) hC hX (m3_isNumber D T N l 0 k (by omega)) (va_cwS 2 hC.ts (lw_S q1016 q1017 q46 q1018) rfl rfl rfl (by decide +kernel) ⟨Nat.le_of_ble_eq_true rfl, Nat.le_of_ble_eq_true rfl⟩) rfl hl.1 (Nat.le_of_ble_eq_true rfl) dX3_fighter_2 ⟨Nat.zero_le _, Nat.zero_le _⟩ (fun r1 H locs hp hX => ?_)
  have hq_r1 := numF_of hp
  refine j_if_eq hC (pc := 5) 51 dX3_fighter_5 (by decide) (by omega) (fun c2 => ?_) (fun c2 => ?_)
  · skip
    refine j_bipush hC (pc := 51) dX3_fighter_51 (by decide) ?_
    subst hQ
    exact j_iret hC (pc := 53) hX hr hlk (Nat.le_refl _) (Nat.le_refl _) dX3_fighter_53 ⟨rfl, _, _, hM, ho, (by unfold op_fighter; rw [if_neg (by omega)]; exact ⟨rfl, ch.rf, ch.rf⟩)⟩
  · skip
    refine j_iconst hC (pc := 8) dX3_fighter_8 ?_
    refine lv_iload_n hx hb (pc := 9) dX3_fighter_9 rfl (lv_at hl 2 rfl) ?_
    refine S_calli (As := [.int (iI (1)), .int (iI (w))]) (rest := []) hC hX (m3_isNumber D T N l 1 w (by omega)) (va_cwS 2 hC.ts (lw_S q1016 q1017 q46 q1018) rfl rfl rfl (by decide +kernel) ⟨Nat.le_of_ble_eq_true rfl, Nat.le_of_ble_eq_true rfl⟩) rfl hl.1 (Nat.le_of_ble_eq_true rfl) dX3_fighter_10 ⟨Nat.zero_le _, Nat.zero_le _⟩ (fun r3 H locs hp hX => ?_)
    have hq_r3 := numF_of hp
    refine j_if_eq hC (pc := 13) 51 dX3_fighter_13 (by decide) (by omega) (fun c4 => ?_) (fun c4 => ?_)
    · skip
      refine j_bipush hC (pc := 51) dX3_fighter_51 (by decide) ?_
      subst hQ
      exact j_iret hC (pc := 53) hX hr hlk (Nat.le_refl _) (Nat.le_refl _) dX3_fighter_53 ⟨rfl, _, _, hM, ho, (by unfold op_fighter; rw [if_neg (by omega)]; exact ⟨rfl, ch.rf, ch.rf⟩)⟩
    · skip
      refine j_iconst hC (pc := 16) dX3_fighter_16 ?_
      refine lv_iload_n hx hb (pc := 17) dX3_fighter_17 rfl (lv_at hl 3 rfl) ?_
      refine S_calli (As := [.int (iI (2)), .int (iI (h))]) (rest := []) hC hX (m3_isNumber D T N l 2 h (by omega)) (va_cwS 2 hC.ts (lw_S q1016 q1017 q46 q1018) rfl rfl rfl (by decide +kernel) ⟨Nat.le_of_ble_eq_true rfl, Nat.le_of_ble_eq_true rfl⟩) rfl hl.1 (Nat.le_of_ble_eq_true rfl) dX3_fighter_18 ⟨Nat.zero_le _, Nat.zero_le _⟩ (fun r5 H locs hp hX => ?_)
      have hq_r5 := numF_of hp
      refine j_if_eq hC (pc := 21) 51 dX3_fighter_21 (by decide) (by omega) (fun c6 => ?_) (fun c6 => ?_)
      · skip
        refine j_bipush hC (pc := 51) dX3_fighter_51 (by decide) ?_
        subst hQ
        exact j_iret hC (pc := 53) hX hr hlk (Nat.le_refl _) (Nat.le_refl _) dX3_fighter_53 ⟨rfl, _, _, hM, ho, (by unfold op_fighter; rw [if_neg (by omega)]; exact ⟨rfl, ch.rf, ch.rf⟩)⟩
      · skip
        refine j_iconst hC (pc := 24) dX3_fighter_24 ?_
        refine lv_iload hx hb (pc := 25) dX3_fighter_25 (lv_at hl 4 rfl) ?_
        refine S_calli (As := [.int (iI (3)), .int (iI (f))]) (rest := []) hC hX (m3_isNumber D T N l 3 f (by omega)) (va_cwS 2 hC.ts (lw_S q1016 q1017 q46 q1018) rfl rfl rfl (by decide +kernel) ⟨Nat.le_of_ble_eq_true rfl, Nat.le_of_ble_eq_true rfl⟩) rfl hl.1 (Nat.le_of_ble_eq_true rfl) dX3_fighter_27 ⟨Nat.zero_le _, Nat.zero_le _⟩ (fun r7 H locs hp hX => ?_)
        have hq_r7 := numF_of hp
        refine j_if_eq hC (pc := 30) 51 dX3_fighter_30 (by decide) (by omega) (fun c8 => ?_) (fun c8 => ?_)
        · skip
          refine j_bipush hC (pc := 51) dX3_fighter_51 (by decide) ?_
          subst hQ
          exact j_iret hC (pc := 53) hX hr hlk (Nat.le_refl _) (Nat.le_refl _) dX3_fighter_53 ⟨rfl, _, _, hM, ho, (by unfold op_fighter; rw [if_neg (by omega)]; exact ⟨rfl, ch.rf, ch.rf⟩)⟩
        · skip
          refine j_iconst hC (pc := 33) dX3_fighter_33 ?_
          refine lv_iload hx hb (pc := 34) dX3_fighter_34 (lv_at hl 5 rfl) ?_
          refine S_calli (As := [.int (iI (4)), .int (iI (x))]) (rest := []) hC hX (m3_isNumber D T N l 4 x (by omega)) (va_cwS 2 hC.ts (lw_S q1016 q1017 q46 q1018) rfl rfl rfl (by decide +kernel) ⟨Nat.le_of_ble_eq_true rfl, Nat.le_of_ble_eq_true rfl⟩) rfl hl.1 (Nat.le_of_ble_eq_true rfl) dX3_fighter_36 ⟨Nat.zero_le _, Nat.zero_le _⟩ (fun r9 H locs hp hX => ?_)
          have hq_r9 := numF_of hp
          refine j_if_eq hC (pc := 39) 51 dX3_fighter_39 (by decide) (by omega) (fun c10 => ?_) (fun c10 => ?_)
          · skip
            refine j_bipush hC (pc := 51) dX3_fighter_51 (by decide) ?_
            subst hQ
            exact j_iret hC (pc := 53) hX hr hlk (Nat.le_refl _) (Nat.le_refl _) dX3_fighter_53 ⟨rfl, _, _, hM, ho, (by unfold op_fighter; rw [if_neg (by omega)]; exact ⟨rfl, ch.rf, ch.rf⟩)⟩
          · skip
            refine j_iconst hC (pc := 42) dX3_fighter_42 ?_
            refine lv_iload hx hb (pc := 43) dX3_fighter_43 (lv_at hl 6 rfl) ?_
            refine S_calli (As := [.int (iI (5)), .int (iI (v))]) (rest := []) hC hX (m3_isNumber D T N l 5 v (by omega)) (va_cwS 2 hC.ts (lw_S q1016 q1017 q46 q1018) rfl rfl rfl (by decide +kernel) ⟨Nat.le_of_ble_eq_true rfl, Nat.le_of_ble_eq_true rfl⟩) rfl hl.1 (Nat.le_of_ble_eq_true rfl) dX3_fighter_45 ⟨Nat.zero_le _, Nat.zero_le _⟩ (fun r11 H locs hp hX => ?_)
            have hq_r11 := numF_of hp
            refine j_if_ne hC (pc := 48) 54 dX3_fighter_48 (by decide) (by omega) (fun c12 => ?_) (fun c12 => ?_)
            · skip
              refine lv_aload_n hx hb (pc := 54) dX3_fighter_54 rfl (lv_at hl 0 rfl) ?_
              refine M_get hC hX hM (pc := 55) 0 (by decide) q888 rfl (v := .int (iI (F 0))) rfl dX3_fighter_55 ?_
              refine j_bipush hC (pc := 58) dX3_fighter_58 (by decide) ?_
              refine j_icmp_ne hC (pc := 60) 66 dX3_fighter_60 (by decide) (by omega) (fun c13 => ?_) (fun c13 => ?_)
              · skip
                refine j_bipush hC (pc := 66) dX3_fighter_66 (by decide) ?_
                refine lv_aload_n hx hb (pc := 68) dX3_fighter_68 rfl (lv_at hl 0 rfl) ?_
                refine M_get hC hX hM (pc := 69) 0 (by decide) q888 rfl (v := .int (iI (F 0))) rfl dX3_fighter_69 ?_
                refine j_imul hC (pc := 72) dX3_fighter_72 ?_
                refine lv_istore (lv' := [(7, .int (iI (6 * (F 0)))), (0, .ref (m)), (1, .int (iI (k))), (2, .int (iI (w))), (3, .int (iI (h))), (4, .int (iI (f))), (5, .int (iI (x))), (6, .int (iI (v)))]) hx hb (pc := 73) dX3_fighter_73 hl (by decide) rfl (fun ls hl => ?_)
                refine lv_aload_n hx hb (pc := 75) dX3_fighter_75 rfl (lv_at hl 1 rfl) ?_
                refine M_get hC hX hM (pc := 76) 1 (by decide) q889 rfl (v := .ref (m + 1)) rfl dX3_fighter_76 ?_
                refine lv_iload hx hb (pc := 79) dX3_fighter_79 (lv_at hl 0 rfl) ?_
                refine lv_iload_n hx hb (pc := 81) dX3_fighter_81 rfl (lv_at hl 2 rfl) ?_
                refine M_iast hC hX hM ho (pc := 82) 1 (by decide) (L := 96) ⟨rfl, by decide⟩ (by omega) dX3_fighter_82 (fun g H locs hX hM ho => ?_)
                refine lv_aload_n hx hb (pc := 83) dX3_fighter_83 rfl (lv_at hl 1 rfl) ?_
                refine M_get hC hX hM (pc := 84) 1 (by decide) q889 rfl (v := .ref (m + 1)) rfl dX3_fighter_84 ?_
                refine lv_iload hx hb (pc := 87) dX3_fighter_87 (lv_at hl 0 rfl) ?_
                refine j_iconst hC (pc := 89) dX3_fighter_89 ?_
                refine j_iadd hC (pc := 90) dX3_fighter_90 ?_
                refine lv_iload_n hx hb (pc := 91) dX3_fighter_91 rfl (lv_at hl 3 rfl) ?_
                refine M_iast hC hX hM ho (pc := 92) 1 (by decide) (L := 96) ⟨rfl, by decide⟩ (by omega) dX3_fighter_92 (fun g H locs hX hM ho => ?_)
                refine lv_aload_n hx hb (pc := 93) dX3_fighter_93 rfl (lv_at hl 1 rfl) ?_
                refine M_get hC hX hM (pc := 94) 1 (by decide) q889 rfl (v := .ref (m + 1)) rfl dX3_fighter_94 ?_
                refine lv_iload hx hb (pc := 97) dX3_fighter_97 (lv_at hl 0 rfl) ?_
                refine j_iconst hC (pc := 99) dX3_fighter_99 ?_
                refine j_iadd hC (pc := 100) dX3_fighter_100 ?_
                refine lv_iload_n hx hb (pc := 101) dX3_fighter_101 rfl (lv_at hl 4 rfl) ?_
                refine M_iast hC hX hM ho (pc := 102) 1 (by decide) (L := 96) ⟨rfl, by decide⟩ (by omega) dX3_fighter_102 (fun g H locs hX hM ho => ?_)
                refine lv_aload_n hx hb (pc := 103) dX3_fighter_103 rfl (lv_at hl 1 rfl) ?_
                refine M_get hC hX hM (pc := 104) 1 (by decide) q889 rfl (v := .ref (m + 1)) rfl dX3_fighter_104 ?_
                refine lv_iload hx hb (pc := 107) dX3_fighter_107 (lv_at hl 0 rfl) ?_
                refine j_iconst hC (pc := 109) dX3_fighter_109 ?_
                refine j_iadd hC (pc := 110) dX3_fighter_110 ?_
                refine lv_iload hx hb (pc := 111) dX3_fighter_111 (lv_at hl 5 rfl) ?_
                refine M_iast hC hX hM ho (pc := 113) 1 (by decide) (L := 96) ⟨rfl, by decide⟩ (by omega) dX3_fighter_113 (fun g H locs hX hM ho => ?_)
                refine lv_aload_n hx hb (pc := 114) dX3_fighter_114 rfl (lv_at hl 1 rfl) ?_
                refine M_get hC hX hM (pc := 115) 1 (by decide) q889 rfl (v := .ref (m + 1)) rfl dX3_fighter_115 ?_
                refine lv_iload hx hb (pc := 118) dX3_fighter_118 (lv_at hl 0 rfl) ?_
                refine j_iconst hC (pc := 120) dX3_fighter_120 ?_
                refine j_iadd hC (pc := 121) dX3_fighter_121 ?_
                refine lv_iload hx hb (pc := 122) dX3_fighter_122 (lv_at hl 6 rfl) ?_
                refine M_iast hC hX hM ho (pc := 124) 1 (by decide) (L := 96) ⟨rfl, by decide⟩ (by omega) dX3_fighter_124 (fun g H locs hX hM ho => ?_)
                refine lv_aload_n hx hb (pc := 125) dX3_fighter_125 rfl (lv_at hl 1 rfl) ?_
                refine M_get hC hX hM (pc := 126) 1 (by decide) q889 rfl (v := .ref (m + 1)) rfl dX3_fighter_126 ?_
                refine lv_iload hx hb (pc := 129) dX3_fighter_129 (lv_at hl 0 rfl) ?_
                refine j_iconst hC (pc := 131) dX3_fighter_131 ?_
                refine j_iadd hC (pc := 132) dX3_fighter_132 ?_
                refine lv_iload hx hb (pc := 133) dX3_fighter_133 (lv_at hl 7 rfl) ?_
                refine M_iast hC hX hM ho (pc := 135) 1 (by decide) (L := 96) ⟨rfl, by decide⟩ (by omega) dX3_fighter_135 (fun g H locs hX hM ho => ?_)
                refine lv_aload_n hx hb (pc := 136) dX3_fighter_136 rfl (lv_at hl 1 rfl) ?_
                refine lv_dup hx hb (pc := 137) dX3_fighter_137 rfl ?_
                refine M_get hC hX hM (pc := 138) 0 (by decide) q888 rfl (v := .int (iI (F 0))) rfl dX3_fighter_138 ?_
                refine j_iconst hC (pc := 141) dX3_fighter_141 ?_
                refine j_iadd hC (pc := 142) dX3_fighter_142 ?_
                refine M_put hC hX hM ho (pc := 143) 0 (by decide) q888 rfl dX3_fighter_143 (fun g H locs hX hM ho => ?_)
                refine lv_aload_n hx hb (pc := 146) dX3_fighter_146 rfl (lv_at hl 1 rfl) ?_
                refine M_get hC hX hM (pc := 147) 0 (by decide) q888 rfl (v := .int (iI ((F 0) + 1))) rfl dX3_fighter_147 ?_
                refine j_iconst hC (pc := 150) dX3_fighter_150 ?_
                refine j_isub hC (pc := 151) dX3_fighter_151 ?_
                subst hQ
                exact j_iret hC (pc := 152) hX hr hlk (Nat.le_refl _) (Nat.le_refl _) dX3_fighter_152 ⟨rfl, _, _, hM, ho, (by unfold op_fighter; rw [if_pos (by omega), if_neg (by omega)]; exact ⟨by omega, fun j _ => rfl, fun j _ => by simp only [va_up]; split <;> rfl⟩)⟩
              · skip
                refine j_bipush hC (pc := 63) dX3_fighter_63 (by decide) ?_
                subst hQ
                exact j_iret hC (pc := 65) hX hr hlk (Nat.le_refl _) (Nat.le_refl _) dX3_fighter_65 ⟨rfl, _, _, hM, ho, (by unfold op_fighter; rw [if_pos (by omega), if_pos (by omega)]; exact ⟨rfl, ch.rf, ch.rf⟩)⟩
            · skip
              refine j_bipush hC (pc := 51) dX3_fighter_51 (by decide) ?_
              subst hQ
              exact j_iret hC (pc := 53) hX hr hlk (Nat.le_refl _) (Nat.le_refl _) dX3_fighter_53 ⟨rfl, _, _, hM, ho, (by unfold op_fighter; rw [if_neg (by omega)]; exact ⟨rfl, ch.rf, ch.rf⟩)⟩

set_option maxHeartbeats 4000000 in
set_option maxRecDepth 100000 in
theorem m3_about (D : va_G) (T N : Nat → Nat) (l : Launch) {m : Nat} (F : Nat → Int) (V : Nat → Int → Int) (f w : Int) (hI : SI F V) (hg : (-2147483648 ≤ f ∧ f ≤ 2147483647) ∧ (-2147483648 ≤ w ∧ w ≤ 2147483647)) : MMi D T N l yX3_about (ws_ yX3_about cX3_about 3 (some .int)) ({ frames := 2, cells := 0, slots := 0, locals := 46 } : Room) m [.int (iI (f)), .int (iI (w))] F V (mP (op_about F V f w)) := by
  intro g0 n hM
  refine j_start (by decide) (Nat.le_of_ble_eq_true rfl) ?_
  intro p e s mi args below meth c hC hr hlk hnm hX ls hl
  have hC : Ct D T N (gA g0 n) p s mi args c cX3_about RX3 3 := hC
  have hx := hC.x
  have hb := hC.b
  have ho : off g0 g0 m 27 := off.rf
  generalize hQ : MQ below _ args s 0 0 (gA g0 n) = Q
  have hl : lv_has ls 3 [(0, .ref (m)), (1, .int (iI (f))), (2, .int (iI (w)))] := hl
  have hn := hI.nums
  refine lv_aload_n hx hb (pc := 0) dX3_about_0 rfl (lv_at hl 0 rfl) ?_
  refine lv_iload_n hx hb (pc := 1) dX3_about_1 rfl (lv_at hl 1 rfl) ?_
  refine M_calli (As := [.int (iI (f))]) (rest := []) hC hX hM ho (m3_isFighter D T N l _ _ f hI (by omega)) (cwV 1 hC.ts (lw_V q1031 q1033 qs16 q46 q1034) rfl rfl rfl (by decide +kernel) ⟨Nat.le_of_ble_eq_true rfl, Nat.le_of_ble_eq_true rfl⟩) rfl hl.1 (Nat.le_of_ble_eq_true rfl) dX3_about_2 ⟨Nat.zero_le _, Nat.zero_le _⟩ (fun r1 F2 V2 g H locs hp hX hM ho => ?_)
  obtain ⟨hp, hF_, hV_⟩ := hp
  rw [hF_, hV_] at hM
  have hq_r1 := inF_of hp
  refine j_if_eq hC (pc := 5) 34 dX3_about_5 (by decide) (by omega) (fun c3 => ?_) (fun c3 => ?_)
  · skip
    refine j_bipush hC (pc := 34) dX3_about_34 (by decide) ?_
    subst hQ
    exact j_iret hC (pc := 36) hX hr hlk (Nat.le_refl _) (Nat.le_refl _) dX3_about_36 ⟨rfl, _, _, hM, ho, (by unfold op_about; rw [if_neg (by omega)]; exact ⟨rfl, ch.rf, ch.rf⟩)⟩
  · skip
    refine lv_iload_n hx hb (pc := 8) dX3_about_8 rfl (lv_at hl 2 rfl) ?_
    refine j_i2l hC (pc := 9) dX3_about_9 (by omega) ?_
    refine j_lconst hC (pc := 10) (w := 0) dX3_about_10 rfl ?_
    refine j_ldc2 hC (pc := 11) (z := 5) q1035 dX3_about_11 rfl ?_
    refine S_calli (As := [.long (lI (w)), .long (lI (0)), .long (lI (5))]) (rest := []) hC hX (m3_in D T N l w 0 5 (by omega)) (va_cwS 3 hC.ts (lw_S q1020 q1021 q46 q1022) rfl rfl rfl (by decide +kernel) ⟨Nat.le_of_ble_eq_true rfl, Nat.le_of_ble_eq_true rfl⟩) rfl hl.1 (Nat.le_of_ble_eq_true rfl) dX3_about_14 ⟨Nat.zero_le _, Nat.zero_le _⟩ (fun r4 H locs hp hX => ?_)
    have hq_r4 := inF_of hp
    refine j_if_eq hC (pc := 17) 34 dX3_about_17 (by decide) (by omega) (fun c5 => ?_) (fun c5 => ?_)
    · skip
      refine j_bipush hC (pc := 34) dX3_about_34 (by decide) ?_
      subst hQ
      exact j_iret hC (pc := 36) hX hr hlk (Nat.le_refl _) (Nat.le_refl _) dX3_about_36 ⟨rfl, _, _, hM, ho, (by unfold op_about; rw [if_neg (by omega)]; exact ⟨rfl, ch.rf, ch.rf⟩)⟩
    · skip
      refine lv_aload_n hx hb (pc := 20) dX3_about_20 rfl (lv_at hl 0 rfl) ?_
      refine M_get hC hX hM (pc := 21) 1 (by decide) q889 rfl (v := .ref (m + 1)) rfl dX3_about_21 ?_
      refine j_bipush hC (pc := 24) dX3_about_24 (by decide) ?_
      refine lv_iload_n hx hb (pc := 26) dX3_about_26 rfl (lv_at hl 1 rfl) ?_
      refine j_imul hC (pc := 27) dX3_about_27 ?_
      refine lv_iload_n hx hb (pc := 28) dX3_about_28 rfl (lv_at hl 2 rfl) ?_
      refine j_iadd hC (pc := 29) dX3_about_29 ?_
      refine M_iald hC hX hM (pc := 30) 1 (by decide) (L := 96) ⟨rfl, by decide⟩ (by omega) (z := V 1 ((6 * f) + w)) rfl dX3_about_30 ?_
      refine j_goto hC (pc := 31) 36 dX3_about_31 (by decide) ?_
      subst hQ
      exact j_iret hC (pc := 36) hX hr hlk (Nat.le_refl _) (Nat.le_refl _) dX3_about_36 ⟨rfl, _, _, hM, ho, (by unfold op_about; rw [if_pos (by omega)]; exact ⟨rfl, ch.rf, ch.rf⟩)⟩

set_option maxHeartbeats 4000000 in
set_option maxRecDepth 100000 in
theorem m3_tune (D : va_G) (T N : Nat → Nat) (l : Launch) {m : Nat} (F : Nat → Int) (V : Nat → Int → Int) (f w v : Int) (hI : SI F V) (hg : (-2147483648 ≤ f ∧ f ≤ 2147483647) ∧ (-2147483648 ≤ w ∧ w ≤ 2147483647) ∧ (-2147483648 ≤ v ∧ v ≤ 2147483647)) : MMi D T N l yX3_tune (ws_ yX3_tune cX3_tune 5 (some .int)) ({ frames := 2, cells := 0, slots := 0, locals := 46 } : Room) m [.int (iI (f)), .int (iI (w)), .int (iI (v))] F V (mP (op_tune F V f w v)) := by
  intro g0 n hM
  refine j_start (by decide) (Nat.le_of_ble_eq_true rfl) ?_
  intro p e s mi args below meth c hC hr hlk hnm hX ls hl
  have hC : Ct D T N (gA g0 n) p s mi args c cX3_tune RX3 5 := hC
  have hx := hC.x
  have hb := hC.b
  have ho : off g0 g0 m 27 := off.rf
  generalize hQ : MQ below _ args s 0 0 (gA g0 n) = Q
  have hl : lv_has ls 5 [(0, .ref (m)), (1, .int (iI (f))), (2, .int (iI (w))), (3, .int (iI (v)))] := hl
  have hn := hI.nums
  refine lv_aload_n hx hb (pc := 0) dX3_tune_0 rfl (lv_at hl 0 rfl) ?_
  refine lv_iload_n hx hb (pc := 1) dX3_tune_1 rfl (lv_at hl 1 rfl) ?_
  refine M_calli (As := [.int (iI (f))]) (rest := []) hC hX hM ho (m3_isFighter D T N l _ _ f hI (by omega)) (cwV 1 hC.ts (lw_V q1031 q1033 qs16 q46 q1034) rfl rfl rfl (by decide +kernel) ⟨Nat.le_of_ble_eq_true rfl, Nat.le_of_ble_eq_true rfl⟩) rfl hl.1 (Nat.le_of_ble_eq_true rfl) dX3_tune_2 ⟨Nat.zero_le _, Nat.zero_le _⟩ (fun r1 F2 V2 g H locs hp hX hM ho => ?_)
  obtain ⟨hp, hF_, hV_⟩ := hp
  rw [hF_, hV_] at hM
  have hq_r1 := inF_of hp
  refine j_if_eq hC (pc := 5) 28 dX3_tune_5 (by decide) (by omega) (fun c3 => ?_) (fun c3 => ?_)
  · skip
    refine j_bipush hC (pc := 28) dX3_tune_28 (by decide) ?_
    subst hQ
    exact j_iret hC (pc := 30) hX hr hlk (Nat.le_refl _) (Nat.le_refl _) dX3_tune_30 ⟨rfl, _, _, hM, ho, (by unfold op_tune; rw [if_neg (by omega)]; exact ⟨rfl, ch.rf, ch.rf⟩)⟩
  · skip
    refine lv_iload_n hx hb (pc := 8) dX3_tune_8 rfl (lv_at hl 2 rfl) ?_
    refine j_i2l hC (pc := 9) dX3_tune_9 (by omega) ?_
    refine j_lconst hC (pc := 10) (w := 1) dX3_tune_10 rfl ?_
    refine j_ldc2 hC (pc := 11) (z := 5) q1035 dX3_tune_11 rfl ?_
    refine S_calli (As := [.long (lI (w)), .long (lI (1)), .long (lI (5))]) (rest := []) hC hX (m3_in D T N l w 1 5 (by omega)) (va_cwS 3 hC.ts (lw_S q1020 q1021 q46 q1022) rfl rfl rfl (by decide +kernel) ⟨Nat.le_of_ble_eq_true rfl, Nat.le_of_ble_eq_true rfl⟩) rfl hl.1 (Nat.le_of_ble_eq_true rfl) dX3_tune_14 ⟨Nat.zero_le _, Nat.zero_le _⟩ (fun r4 H locs hp hX => ?_)
    have hq_r4 := inF_of hp
    refine j_if_eq hC (pc := 17) 28 dX3_tune_17 (by decide) (by omega) (fun c5 => ?_) (fun c5 => ?_)
    · skip
      refine j_bipush hC (pc := 28) dX3_tune_28 (by decide) ?_
      subst hQ
      exact j_iret hC (pc := 30) hX hr hlk (Nat.le_refl _) (Nat.le_refl _) dX3_tune_30 ⟨rfl, _, _, hM, ho, (by unfold op_tune; rw [if_neg (by omega)]; exact ⟨rfl, ch.rf, ch.rf⟩)⟩
    · skip
      refine lv_iload_n hx hb (pc := 20) dX3_tune_20 rfl (lv_at hl 2 rfl) ?_
      refine lv_iload_n hx hb (pc := 21) dX3_tune_21 rfl (lv_at hl 3 rfl) ?_
      refine S_calli (As := [.int (iI (w)), .int (iI (v))]) (rest := []) hC hX (m3_isNumber D T N l w v (by omega)) (va_cwS 2 hC.ts (lw_S q1016 q1017 q46 q1018) rfl rfl rfl (by decide +kernel) ⟨Nat.le_of_ble_eq_true rfl, Nat.le_of_ble_eq_true rfl⟩) rfl hl.1 (Nat.le_of_ble_eq_true rfl) dX3_tune_22 ⟨Nat.zero_le _, Nat.zero_le _⟩ (fun r6 H locs hp hX => ?_)
      have hq_r6 := numF_of hp
      refine j_if_ne hC (pc := 25) 31 dX3_tune_25 (by decide) (by omega) (fun c7 => ?_) (fun c7 => ?_)
      · skip
        refine lv_aload_n hx hb (pc := 31) dX3_tune_31 rfl (lv_at hl 0 rfl) ?_
        refine M_get hC hX hM (pc := 32) 1 (by decide) q889 rfl (v := .ref (m + 1)) rfl dX3_tune_32 ?_
        refine j_bipush hC (pc := 35) dX3_tune_35 (by decide) ?_
        refine lv_iload_n hx hb (pc := 37) dX3_tune_37 rfl (lv_at hl 1 rfl) ?_
        refine j_imul hC (pc := 38) dX3_tune_38 ?_
        refine lv_iload_n hx hb (pc := 39) dX3_tune_39 rfl (lv_at hl 2 rfl) ?_
        refine j_iadd hC (pc := 40) dX3_tune_40 ?_
        refine M_iald hC hX hM (pc := 41) 1 (by decide) (L := 96) ⟨rfl, by decide⟩ (by omega) (z := V 1 ((6 * f) + w)) rfl dX3_tune_41 ?_
        refine lv_istore (lv' := [(4, .int (iI (V 1 ((6 * f) + w)))), (0, .ref (m)), (1, .int (iI (f))), (2, .int (iI (w))), (3, .int (iI (v)))]) hx hb (pc := 42) dX3_tune_42 hl (by decide) rfl (fun ls hl => ?_)
        refine lv_aload_n hx hb (pc := 44) dX3_tune_44 rfl (lv_at hl 1 rfl) ?_
        refine M_get hC hX hM (pc := 45) 1 (by decide) q889 rfl (v := .ref (m + 1)) rfl dX3_tune_45 ?_
        refine j_bipush hC (pc := 48) dX3_tune_48 (by decide) ?_
        refine lv_iload_n hx hb (pc := 50) dX3_tune_50 rfl (lv_at hl 2 rfl) ?_
        refine j_imul hC (pc := 51) dX3_tune_51 ?_
        refine lv_iload_n hx hb (pc := 52) dX3_tune_52 rfl (lv_at hl 3 rfl) ?_
        refine j_iadd hC (pc := 53) dX3_tune_53 ?_
        refine lv_iload_n hx hb (pc := 54) dX3_tune_54 rfl (lv_at hl 4 rfl) ?_
        refine M_iast hC hX hM ho (pc := 55) 1 (by decide) (L := 96) ⟨rfl, by decide⟩ (by omega) dX3_tune_55 (fun g H locs hX hM ho => ?_)
        refine lv_iload hx hb (pc := 56) dX3_tune_56 (lv_at hl 0 rfl) ?_
        subst hQ
        exact j_iret hC (pc := 58) hX hr hlk (Nat.le_refl _) (Nat.le_refl _) dX3_tune_58 ⟨rfl, _, _, hM, ho, (by unfold op_tune; rw [if_pos (by omega)]; exact ⟨rfl, ch.rf, ch.rf⟩)⟩
      · skip
        refine j_bipush hC (pc := 28) dX3_tune_28 (by decide) ?_
        subst hQ
        exact j_iret hC (pc := 30) hX hr hlk (Nat.le_refl _) (Nat.le_refl _) dX3_tune_30 ⟨rfl, _, _, hM, ho, (by unfold op_tune; rw [if_neg (by omega)]; exact ⟨rfl, ch.rf, ch.rf⟩)⟩

set_option maxHeartbeats 4000000 in
set_option maxRecDepth 100000 in
theorem m3_isRow (D : va_G) (T N : Nat → Nat) (l : Launch) {m : Nat} (F : Nat → Int) (V : Nat → Int → Int) (a b d : Int) (hI : SI F V) (hg : (-2147483648 ≤ a ∧ a ≤ 2147483647) ∧ (-2147483648 ≤ b ∧ b ≤ 2147483647) ∧ (-2147483648 ≤ d ∧ d ≤ 2147483647)) : MMi D T N l yX3_isRow (ws_ yX3_isRow cX3_isRow 5 (some .boolean)) ({ frames := 1, cells := 0, slots := 0, locals := 25 } : Room) m [.int (iI (a)), .int (iI (b)), .int (iI (d))] F V (fun r F' V' => r = rowF a b d (F 0) ∧ F' = F ∧ V' = V) := by
  intro g0 n hM
  refine j_start (by decide) (Nat.le_of_ble_eq_true rfl) ?_
  intro p e s mi args below meth c hC hr hlk hnm hX ls hl
  have hC : Ct D T N (gA g0 n) p s mi args c cX3_isRow RX3 5 := hC
  have hx := hC.x
  have hb := hC.b
  have ho : off g0 g0 m 27 := off.rf
  generalize hQ : MQ below _ args s 0 0 (gA g0 n) = Q
  have hl : lv_has ls 5 [(0, .ref (m)), (1, .int (iI (a))), (2, .int (iI (b))), (3, .int (iI (d)))] := hl
  have hn := hI.nums
  have J59 : ∀ (z : Int), (z = 1 ∧ -1 ≤ a ∧ a < F 0 ∧ -1 ≤ b ∧ b < F 0 ∧ -1 ≤ d ∧ d < F 0) ∨ (z = 0 ∧ ¬ (-1 ≤ a ∧ a < F 0 ∧ -1 ≤ b ∧ b < F 0 ∧ -1 ≤ d ∧ d < F 0)) → ∀ (g : GH) (H : Heap) (locs : List Loc), Wd D (gA g0 n) s g n H locs → mR T g m F V → off g0 g m 27 → ∀ (ls : Array Slot), lv_has ls 5 [(0, .ref (m)), (1, .int (iI (a))), (2, .int (iI (b))), (3, .int (iI (d)))] → W p l e ({ frames := 1, cells := 0, slots := 0, locals := 25 } : Room) s mi args below meth c H locs 0 0 Q (F0 mi 59 ls [.int (iI (z))]) := by
    intro z hz g H locs hX hM ho ls hl
    refine lv_istore (lv' := [(4, .int (iI (z))), (0, .ref (m)), (1, .int (iI (a))), (2, .int (iI (b))), (3, .int (iI (d)))]) hx hb (pc := 59) dX3_isRow_59 hl (by decide) rfl (fun ls hl => ?_)
    refine lv_iload hx hb (pc := 61) dX3_isRow_61 (lv_at hl 0 rfl) ?_
    refine j_if_eq hC (pc := 63) 90 dX3_isRow_63 (by decide) (by omega) (fun c1 => ?_) (fun c1 => ?_)
    · skip
      refine j_iconst hC (pc := 90) dX3_isRow_90 ?_
      subst hQ
      exact j_zret hC (pc := 91) hX hr hlk (Nat.le_refl _) (Nat.le_refl _) dX3_isRow_91 (by omega) ⟨rfl, _, _, hM, ho, ⟨by unfold rowF; split <;> omega, rfl, rfl⟩⟩
    · skip
      refine lv_iload_n hx hb (pc := 66) dX3_isRow_66 rfl (lv_at hl 2 rfl) ?_
      refine j_iconst hC (pc := 67) dX3_isRow_67 ?_
      refine j_icmp_ne hC (pc := 68) 76 dX3_isRow_68 (by decide) (by omega) (fun c2 => ?_) (fun c2 => ?_)
      · skip
        refine lv_iload_n hx hb (pc := 76) dX3_isRow_76 rfl (lv_at hl 3 rfl) ?_
        refine j_iconst hC (pc := 77) dX3_isRow_77 ?_
        refine j_icmp_ne hC (pc := 78) 86 dX3_isRow_78 (by decide) (by omega) (fun c3 => ?_) (fun c3 => ?_)
        · skip
          refine j_iconst hC (pc := 86) dX3_isRow_86 ?_
          refine j_goto hC (pc := 87) 91 dX3_isRow_87 (by decide) ?_
          subst hQ
          exact j_zret hC (pc := 91) hX hr hlk (Nat.le_refl _) (Nat.le_refl _) dX3_isRow_91 (by omega) ⟨rfl, _, _, hM, ho, ⟨by unfold rowF; split <;> omega, rfl, rfl⟩⟩
        · skip
          refine lv_iload_n hx hb (pc := 81) dX3_isRow_81 rfl (lv_at hl 4 rfl) ?_
          refine j_iconst hC (pc := 82) dX3_isRow_82 ?_
          refine j_icmp_ne hC (pc := 83) 90 dX3_isRow_83 (by decide) (by omega) (fun c4 => ?_) (fun c4 => ?_)
          · skip
            refine j_iconst hC (pc := 90) dX3_isRow_90 ?_
            subst hQ
            exact j_zret hC (pc := 91) hX hr hlk (Nat.le_refl _) (Nat.le_refl _) dX3_isRow_91 (by omega) ⟨rfl, _, _, hM, ho, ⟨by unfold rowF; split <;> omega, rfl, rfl⟩⟩
          · skip
            refine j_iconst hC (pc := 86) dX3_isRow_86 ?_
            refine j_goto hC (pc := 87) 91 dX3_isRow_87 (by decide) ?_
            subst hQ
            exact j_zret hC (pc := 91) hX hr hlk (Nat.le_refl _) (Nat.le_refl _) dX3_isRow_91 (by omega) ⟨rfl, _, _, hM, ho, ⟨by unfold rowF; split <;> omega, rfl, rfl⟩⟩
      · skip
        refine lv_iload_n hx hb (pc := 71) dX3_isRow_71 rfl (lv_at hl 3 rfl) ?_
        refine j_iconst hC (pc := 72) dX3_isRow_72 ?_
        refine j_icmp_ne hC (pc := 73) 90 dX3_isRow_73 (by decide) (by omega) (fun c5 => ?_) (fun c5 => ?_)
        · skip
          refine j_iconst hC (pc := 90) dX3_isRow_90 ?_
          subst hQ
          exact j_zret hC (pc := 91) hX hr hlk (Nat.le_refl _) (Nat.le_refl _) dX3_isRow_91 (by omega) ⟨rfl, _, _, hM, ho, ⟨by unfold rowF; split <;> omega, rfl, rfl⟩⟩
        · skip
          refine lv_iload_n hx hb (pc := 76) dX3_isRow_76 rfl (lv_at hl 3 rfl) ?_
          refine j_iconst hC (pc := 77) dX3_isRow_77 ?_
          refine j_icmp_ne hC (pc := 78) 86 dX3_isRow_78 (by decide) (by omega) (fun c6 => ?_) (fun c6 => ?_)
          · skip
            refine j_iconst hC (pc := 86) dX3_isRow_86 ?_
            refine j_goto hC (pc := 87) 91 dX3_isRow_87 (by decide) ?_
            subst hQ
            exact j_zret hC (pc := 91) hX hr hlk (Nat.le_refl _) (Nat.le_refl _) dX3_isRow_91 (by omega) ⟨rfl, _, _, hM, ho, ⟨by unfold rowF; split <;> omega, rfl, rfl⟩⟩
          · skip
            refine lv_iload_n hx hb (pc := 81) dX3_isRow_81 rfl (lv_at hl 4 rfl) ?_
            refine j_iconst hC (pc := 82) dX3_isRow_82 ?_
            refine j_icmp_ne hC (pc := 83) 90 dX3_isRow_83 (by decide) (by omega) (fun c7 => ?_) (fun c7 => ?_)
            · skip
              refine j_iconst hC (pc := 90) dX3_isRow_90 ?_
              subst hQ
              exact j_zret hC (pc := 91) hX hr hlk (Nat.le_refl _) (Nat.le_refl _) dX3_isRow_91 (by omega) ⟨rfl, _, _, hM, ho, ⟨by unfold rowF; split <;> omega, rfl, rfl⟩⟩
            · skip
              refine j_iconst hC (pc := 86) dX3_isRow_86 ?_
              refine j_goto hC (pc := 87) 91 dX3_isRow_87 (by decide) ?_
              subst hQ
              exact j_zret hC (pc := 91) hX hr hlk (Nat.le_refl _) (Nat.le_refl _) dX3_isRow_91 (by omega) ⟨rfl, _, _, hM, ho, ⟨by unfold rowF; split <;> omega, rfl, rfl⟩⟩
  refine lv_iload_n hx hb (pc := 0) dX3_isRow_0 rfl (lv_at hl 1 rfl) ?_
  refine j_i2l hC (pc := 1) dX3_isRow_1 (by omega) ?_
  refine j_ldc2 hC (pc := 2) (z := -1) q1048 dX3_isRow_2 rfl ?_
  refine lv_aload_n hx hb (pc := 5) dX3_isRow_5 rfl (lv_at hl 0 rfl) ?_
  refine M_get hC hX hM (pc := 6) 0 (by decide) q888 rfl (v := .int (iI (F 0))) rfl dX3_isRow_6 ?_
  refine j_iconst hC (pc := 9) dX3_isRow_9 ?_
  refine j_isub hC (pc := 10) dX3_isRow_10 ?_
  refine j_i2l hC (pc := 11) dX3_isRow_11 (by omega) ?_
  refine S_calli (As := [.long (lI (a)), .long (lI (-1)), .long (lI ((F 0) - 1))]) (rest := []) hC hX (m3_in D T N l a (-1) ((F 0) - 1) (by omega)) (va_cwS 3 hC.ts (lw_S q1020 q1021 q46 q1022) rfl rfl rfl (by decide +kernel) ⟨Nat.le_of_ble_eq_true rfl, Nat.le_of_ble_eq_true rfl⟩) rfl hl.1 (Nat.le_of_ble_eq_true rfl) dX3_isRow_12 ⟨Nat.zero_le _, Nat.zero_le _⟩ (fun r8 H locs hp hX => ?_)
  have hq_r8 := inF_of hp
  refine j_if_eq hC (pc := 15) 58 dX3_isRow_15 (by decide) (by omega) (fun c9 => ?_) (fun c9 => ?_)
  · skip
    refine j_iconst hC (pc := 58) dX3_isRow_58 ?_
    exact J59 0 (by omega) _ _ _ hX hM ho ls (lv_sub hl [0, 1, 2, 3] rfl)
  · skip
    refine lv_iload_n hx hb (pc := 18) dX3_isRow_18 rfl (lv_at hl 2 rfl) ?_
    refine j_i2l hC (pc := 19) dX3_isRow_19 (by omega) ?_
    refine j_ldc2 hC (pc := 20) (z := -1) q1048 dX3_isRow_20 rfl ?_
    refine lv_aload_n hx hb (pc := 23) dX3_isRow_23 rfl (lv_at hl 0 rfl) ?_
    refine M_get hC hX hM (pc := 24) 0 (by decide) q888 rfl (v := .int (iI (F 0))) rfl dX3_isRow_24 ?_
    refine j_iconst hC (pc := 27) dX3_isRow_27 ?_
    refine j_isub hC (pc := 28) dX3_isRow_28 ?_
    refine j_i2l hC (pc := 29) dX3_isRow_29 (by omega) ?_
    refine S_calli (As := [.long (lI (b)), .long (lI (-1)), .long (lI ((F 0) - 1))]) (rest := []) hC hX (m3_in D T N l b (-1) ((F 0) - 1) (by omega)) (va_cwS 3 hC.ts (lw_S q1020 q1021 q46 q1022) rfl rfl rfl (by decide +kernel) ⟨Nat.le_of_ble_eq_true rfl, Nat.le_of_ble_eq_true rfl⟩) rfl hl.1 (Nat.le_of_ble_eq_true rfl) dX3_isRow_30 ⟨Nat.zero_le _, Nat.zero_le _⟩ (fun r10 H locs hp hX => ?_)
    have hq_r10 := inF_of hp
    refine j_if_eq hC (pc := 33) 58 dX3_isRow_33 (by decide) (by omega) (fun c11 => ?_) (fun c11 => ?_)
    · skip
      refine j_iconst hC (pc := 58) dX3_isRow_58 ?_
      exact J59 0 (by omega) _ _ _ hX hM ho ls (lv_sub hl [0, 1, 2, 3] rfl)
    · skip
      refine lv_iload_n hx hb (pc := 36) dX3_isRow_36 rfl (lv_at hl 3 rfl) ?_
      refine j_i2l hC (pc := 37) dX3_isRow_37 (by omega) ?_
      refine j_ldc2 hC (pc := 38) (z := -1) q1048 dX3_isRow_38 rfl ?_
      refine lv_aload_n hx hb (pc := 41) dX3_isRow_41 rfl (lv_at hl 0 rfl) ?_
      refine M_get hC hX hM (pc := 42) 0 (by decide) q888 rfl (v := .int (iI (F 0))) rfl dX3_isRow_42 ?_
      refine j_iconst hC (pc := 45) dX3_isRow_45 ?_
      refine j_isub hC (pc := 46) dX3_isRow_46 ?_
      refine j_i2l hC (pc := 47) dX3_isRow_47 (by omega) ?_
      refine S_calli (As := [.long (lI (d)), .long (lI (-1)), .long (lI ((F 0) - 1))]) (rest := []) hC hX (m3_in D T N l d (-1) ((F 0) - 1) (by omega)) (va_cwS 3 hC.ts (lw_S q1020 q1021 q46 q1022) rfl rfl rfl (by decide +kernel) ⟨Nat.le_of_ble_eq_true rfl, Nat.le_of_ble_eq_true rfl⟩) rfl hl.1 (Nat.le_of_ble_eq_true rfl) dX3_isRow_48 ⟨Nat.zero_le _, Nat.zero_le _⟩ (fun r12 H locs hp hX => ?_)
      have hq_r12 := inF_of hp
      refine j_if_eq hC (pc := 51) 58 dX3_isRow_51 (by decide) (by omega) (fun c13 => ?_) (fun c13 => ?_)
      · skip
        refine j_iconst hC (pc := 58) dX3_isRow_58 ?_
        exact J59 0 (by omega) _ _ _ hX hM ho ls (lv_sub hl [0, 1, 2, 3] rfl)
      · skip
        refine j_iconst hC (pc := 54) dX3_isRow_54 ?_
        refine j_goto hC (pc := 55) 59 dX3_isRow_55 (by decide) ?_
        exact J59 1 (by omega) _ _ _ hX hM ho ls (lv_sub hl [0, 1, 2, 3] rfl)

set_option maxHeartbeats 4000000 in
set_option maxRecDepth 100000 in
theorem m3_manyOf (D : va_G) (T N : Nat → Nat) (l : Launch) (a b d : Int) (hg : (-2147483648 ≤ a ∧ a ≤ 2147483647) ∧ (-2147483648 ≤ b ∧ b ≤ 2147483647) ∧ (-2147483648 ≤ d ∧ d ≤ 2147483647)) : SSi D T N l yX3_manyOf (ws_ yX3_manyOf cX3_manyOf 3 (some .int)) ({ frames := 0, cells := 0, slots := 0, locals := 0 } : Room) [.int (iI (a)), .int (iI (b)), .int (iI (d))] (fun r => r = manyA a b d) := by
  intro g0 n
  refine j_start (by decide) (Nat.le_of_ble_eq_true rfl) ?_
  intro p e s mi args below meth c hC hr hlk hnm hX ls hl
  have hC : Ct D T N (gA g0 n) p s mi args c cX3_manyOf RX3 3 := hC
  have hx := hC.x
  have hb := hC.b
  generalize hQ : MQ below _ args s 0 0 (gA g0 n) = Q
  have hl : lv_has ls 3 [(0, .int (iI (a))), (1, .int (iI (b))), (2, .int (iI (d)))] := hl
  refine lv_iload_n hx hb (pc := 0) dX3_manyOf_0 rfl (lv_at hl 0 rfl) ?_
  refine j_iconst hC (pc := 1) dX3_manyOf_1 ?_
  refine j_icmp_ne hC (pc := 2) 9 dX3_manyOf_2 (by decide) (by omega) (fun c1 => ?_) (fun c1 => ?_)
  · skip
    refine j_iconst hC (pc := 9) dX3_manyOf_9 ?_
    refine lv_iload_n hx hb (pc := 10) dX3_manyOf_10 rfl (lv_at hl 1 rfl) ?_
    refine j_iconst hC (pc := 11) dX3_manyOf_11 ?_
    refine j_icmp_ne hC (pc := 12) 19 dX3_manyOf_12 (by decide) (by omega) (fun c2 => ?_) (fun c2 => ?_)
    · skip
      refine j_iconst hC (pc := 19) dX3_manyOf_19 ?_
      refine j_iadd hC (pc := 20) dX3_manyOf_20 ?_
      refine j_eqi (b := 2) (by decide) ?_
      refine lv_iload_n hx hb (pc := 21) dX3_manyOf_21 rfl (lv_at hl 2 rfl) ?_
      refine j_iconst hC (pc := 22) dX3_manyOf_22 ?_
      refine j_icmp_ne hC (pc := 23) 30 dX3_manyOf_23 (by decide) (by omega) (fun c3 => ?_) (fun c3 => ?_)
      · skip
        refine j_iconst hC (pc := 30) dX3_manyOf_30 ?_
        refine j_iadd hC (pc := 31) dX3_manyOf_31 ?_
        refine j_eqi (b := 3) (by decide) ?_
        subst hQ
        exact j_iret hC (pc := 32) hX hr hlk (Nat.le_refl _) (Nat.le_refl _) dX3_manyOf_32 ⟨rfl, rfl, (by unfold manyA; (repeat' split) <;> omega)⟩
      · skip
        refine j_iconst hC (pc := 26) dX3_manyOf_26 ?_
        refine j_goto hC (pc := 27) 31 dX3_manyOf_27 (by decide) ?_
        refine j_iadd hC (pc := 31) dX3_manyOf_31 ?_
        refine j_eqi (b := 2) (by decide) ?_
        subst hQ
        exact j_iret hC (pc := 32) hX hr hlk (Nat.le_refl _) (Nat.le_refl _) dX3_manyOf_32 ⟨rfl, rfl, (by unfold manyA; (repeat' split) <;> omega)⟩
    · skip
      refine j_iconst hC (pc := 15) dX3_manyOf_15 ?_
      refine j_goto hC (pc := 16) 20 dX3_manyOf_16 (by decide) ?_
      refine j_iadd hC (pc := 20) dX3_manyOf_20 ?_
      refine j_eqi (b := 1) (by decide) ?_
      refine lv_iload_n hx hb (pc := 21) dX3_manyOf_21 rfl (lv_at hl 2 rfl) ?_
      refine j_iconst hC (pc := 22) dX3_manyOf_22 ?_
      refine j_icmp_ne hC (pc := 23) 30 dX3_manyOf_23 (by decide) (by omega) (fun c4 => ?_) (fun c4 => ?_)
      · skip
        refine j_iconst hC (pc := 30) dX3_manyOf_30 ?_
        refine j_iadd hC (pc := 31) dX3_manyOf_31 ?_
        refine j_eqi (b := 2) (by decide) ?_
        subst hQ
        exact j_iret hC (pc := 32) hX hr hlk (Nat.le_refl _) (Nat.le_refl _) dX3_manyOf_32 ⟨rfl, rfl, (by unfold manyA; (repeat' split) <;> omega)⟩
      · skip
        refine j_iconst hC (pc := 26) dX3_manyOf_26 ?_
        refine j_goto hC (pc := 27) 31 dX3_manyOf_27 (by decide) ?_
        refine j_iadd hC (pc := 31) dX3_manyOf_31 ?_
        refine j_eqi (b := 1) (by decide) ?_
        subst hQ
        exact j_iret hC (pc := 32) hX hr hlk (Nat.le_refl _) (Nat.le_refl _) dX3_manyOf_32 ⟨rfl, rfl, (by unfold manyA; (repeat' split) <;> omega)⟩
  · skip
    refine j_iconst hC (pc := 5) dX3_manyOf_5 ?_
    refine j_goto hC (pc := 6) 10 dX3_manyOf_6 (by decide) ?_
    refine lv_iload_n hx hb (pc := 10) dX3_manyOf_10 rfl (lv_at hl 1 rfl) ?_
    refine j_iconst hC (pc := 11) dX3_manyOf_11 ?_
    refine j_icmp_ne hC (pc := 12) 19 dX3_manyOf_12 (by decide) (by omega) (fun c5 => ?_) (fun c5 => ?_)
    · skip
      refine j_iconst hC (pc := 19) dX3_manyOf_19 ?_
      refine j_iadd hC (pc := 20) dX3_manyOf_20 ?_
      refine j_eqi (b := 1) (by decide) ?_
      refine lv_iload_n hx hb (pc := 21) dX3_manyOf_21 rfl (lv_at hl 2 rfl) ?_
      refine j_iconst hC (pc := 22) dX3_manyOf_22 ?_
      refine j_icmp_ne hC (pc := 23) 30 dX3_manyOf_23 (by decide) (by omega) (fun c6 => ?_) (fun c6 => ?_)
      · skip
        refine j_iconst hC (pc := 30) dX3_manyOf_30 ?_
        refine j_iadd hC (pc := 31) dX3_manyOf_31 ?_
        refine j_eqi (b := 2) (by decide) ?_
        subst hQ
        exact j_iret hC (pc := 32) hX hr hlk (Nat.le_refl _) (Nat.le_refl _) dX3_manyOf_32 ⟨rfl, rfl, (by unfold manyA; (repeat' split) <;> omega)⟩
      · skip
        refine j_iconst hC (pc := 26) dX3_manyOf_26 ?_
        refine j_goto hC (pc := 27) 31 dX3_manyOf_27 (by decide) ?_
        refine j_iadd hC (pc := 31) dX3_manyOf_31 ?_
        refine j_eqi (b := 1) (by decide) ?_
        subst hQ
        exact j_iret hC (pc := 32) hX hr hlk (Nat.le_refl _) (Nat.le_refl _) dX3_manyOf_32 ⟨rfl, rfl, (by unfold manyA; (repeat' split) <;> omega)⟩
    · skip
      refine j_iconst hC (pc := 15) dX3_manyOf_15 ?_
      refine j_goto hC (pc := 16) 20 dX3_manyOf_16 (by decide) ?_
      refine j_iadd hC (pc := 20) dX3_manyOf_20 ?_
      refine j_eqi (b := 0) (by decide) ?_
      refine lv_iload_n hx hb (pc := 21) dX3_manyOf_21 rfl (lv_at hl 2 rfl) ?_
      refine j_iconst hC (pc := 22) dX3_manyOf_22 ?_
      refine j_icmp_ne hC (pc := 23) 30 dX3_manyOf_23 (by decide) (by omega) (fun c7 => ?_) (fun c7 => ?_)
      · skip
        refine j_iconst hC (pc := 30) dX3_manyOf_30 ?_
        refine j_iadd hC (pc := 31) dX3_manyOf_31 ?_
        refine j_eqi (b := 1) (by decide) ?_
        subst hQ
        exact j_iret hC (pc := 32) hX hr hlk (Nat.le_refl _) (Nat.le_refl _) dX3_manyOf_32 ⟨rfl, rfl, (by unfold manyA; (repeat' split) <;> omega)⟩
      · skip
        refine j_iconst hC (pc := 26) dX3_manyOf_26 ?_
        refine j_goto hC (pc := 27) 31 dX3_manyOf_27 (by decide) ?_
        refine j_iadd hC (pc := 31) dX3_manyOf_31 ?_
        refine j_eqi (b := 0) (by decide) ?_
        subst hQ
        exact j_iret hC (pc := 32) hX hr hlk (Nat.le_refl _) (Nat.le_refl _) dX3_manyOf_32 ⟨rfl, rfl, (by unfold manyA; (repeat' split) <;> omega)⟩

set_option maxHeartbeats 4000000 in
set_option maxRecDepth 100000 in
theorem m3_side (D : va_G) (T N : Nat → Nat) (l : Launch) {m : Nat} (F : Nat → Int) (V : Nat → Int → Int) (v a b d : Int) (hI : SI F V) (hg : (-2147483648 ≤ v ∧ v ≤ 2147483647) ∧ (-2147483648 ≤ a ∧ a ≤ 2147483647) ∧ (-2147483648 ≤ b ∧ b ≤ 2147483647) ∧ (-2147483648 ≤ d ∧ d ≤ 2147483647)) : MMi D T N l yX3_side (ws_ yX3_side cX3_side 5 (some .int)) ({ frames := 2, cells := 0, slots := 0, locals := 49 } : Room) m [.int (iI (v)), .int (iI (a)), .int (iI (b)), .int (iI (d))] F V (mP (op_side F V v a b d)) := by
  intro g0 n hM
  refine j_start (by decide) (Nat.le_of_ble_eq_true rfl) ?_
  intro p e s mi args below meth c hC hr hlk hnm hX ls hl
  have hC : Ct D T N (gA g0 n) p s mi args c cX3_side RX3 5 := hC
  have hx := hC.x
  have hb := hC.b
  have ho : off g0 g0 m 27 := off.rf
  generalize hQ : MQ below _ args s 0 0 (gA g0 n) = Q
  have hl : lv_has ls 5 [(0, .ref (m)), (1, .int (iI (v))), (2, .int (iI (a))), (3, .int (iI (b))), (4, .int (iI (d)))] := hl
  have hn := hI.nums
  refine lv_iload_n hx hb (pc := 0) dX3_side_0 rfl (lv_at hl 1 rfl) ?_
  refine j_i2l hC (pc := 1) dX3_side_1 (by omega) ?_
  refine j_lconst hC (pc := 2) (w := 0) dX3_side_2 rfl ?_
  refine j_lconst hC (pc := 3) (w := 1) dX3_side_3 rfl ?_
  refine S_calli (As := [.long (lI (v)), .long (lI (0)), .long (lI (1))]) (rest := []) hC hX (m3_in D T N l v 0 1 (by omega)) (va_cwS 3 hC.ts (lw_S q1020 q1021 q46 q1022) rfl rfl rfl (by decide +kernel) ⟨Nat.le_of_ble_eq_true rfl, Nat.le_of_ble_eq_true rfl⟩) rfl hl.1 (Nat.le_of_ble_eq_true rfl) dX3_side_4 ⟨Nat.zero_le _, Nat.zero_le _⟩ (fun r1 H locs hp hX => ?_)
  have hq_r1 := inF_of hp
  refine j_if_eq hC (pc := 7) 21 dX3_side_7 (by decide) (by omega) (fun c2 => ?_) (fun c2 => ?_)
  · skip
    refine j_bipush hC (pc := 21) dX3_side_21 (by decide) ?_
    subst hQ
    exact j_iret hC (pc := 23) hX hr hlk (Nat.le_refl _) (Nat.le_refl _) dX3_side_23 ⟨rfl, _, _, hM, ho, (by unfold op_side; rw [if_neg (by omega)]; exact ⟨rfl, ch.rf, ch.rf⟩)⟩
  · skip
    refine lv_aload_n hx hb (pc := 10) dX3_side_10 rfl (lv_at hl 0 rfl) ?_
    refine lv_iload_n hx hb (pc := 11) dX3_side_11 rfl (lv_at hl 2 rfl) ?_
    refine lv_iload_n hx hb (pc := 12) dX3_side_12 rfl (lv_at hl 3 rfl) ?_
    refine lv_iload hx hb (pc := 13) dX3_side_13 (lv_at hl 4 rfl) ?_
    refine M_calli (As := [.int (iI (a)), .int (iI (b)), .int (iI (d))]) (rest := []) hC hX hM ho (m3_isRow D T N l _ _ a b d hI (by omega)) (cwV 3 hC.ts (lw_V q1044 q1046 qs17 q46 q1047) rfl rfl rfl (by decide +kernel) ⟨Nat.le_of_ble_eq_true rfl, Nat.le_of_ble_eq_true rfl⟩) rfl hl.1 (Nat.le_of_ble_eq_true rfl) dX3_side_15 ⟨Nat.zero_le _, Nat.zero_le _⟩ (fun r3 F4 V4 g H locs hp hX hM ho => ?_)
    obtain ⟨hp, hF_, hV_⟩ := hp
    rw [hF_, hV_] at hM
    have hq_r3 := rowF_of hp
    refine j_if_ne hC (pc := 18) 24 dX3_side_18 (by decide) (by omega) (fun c5 => ?_) (fun c5 => ?_)
    · skip
      refine lv_aload_n hx hb (pc := 24) dX3_side_24 rfl (lv_at hl 0 rfl) ?_
      refine M_get hC hX hM (pc := 25) 2 (by decide) q890 rfl (v := .ref (m + 2)) rfl dX3_side_25 ?_
      refine j_iconst hC (pc := 28) dX3_side_28 ?_
      refine lv_iload_n hx hb (pc := 29) dX3_side_29 rfl (lv_at hl 1 rfl) ?_
      refine j_imul hC (pc := 30) dX3_side_30 ?_
      refine lv_iload_n hx hb (pc := 31) dX3_side_31 rfl (lv_at hl 2 rfl) ?_
      refine M_iast hC hX hM ho (pc := 32) 2 (by decide) (L := 6) ⟨rfl, by decide⟩ (by omega) dX3_side_32 (fun g H locs hX hM ho => ?_)
      refine lv_aload_n hx hb (pc := 33) dX3_side_33 rfl (lv_at hl 0 rfl) ?_
      refine M_get hC hX hM (pc := 34) 2 (by decide) q890 rfl (v := .ref (m + 2)) rfl dX3_side_34 ?_
      refine j_iconst hC (pc := 37) dX3_side_37 ?_
      refine lv_iload_n hx hb (pc := 38) dX3_side_38 rfl (lv_at hl 1 rfl) ?_
      refine j_imul hC (pc := 39) dX3_side_39 ?_
      refine j_iconst hC (pc := 40) dX3_side_40 ?_
      refine j_iadd hC (pc := 41) dX3_side_41 ?_
      refine lv_iload_n hx hb (pc := 42) dX3_side_42 rfl (lv_at hl 3 rfl) ?_
      refine M_iast hC hX hM ho (pc := 43) 2 (by decide) (L := 6) ⟨rfl, by decide⟩ (by omega) dX3_side_43 (fun g H locs hX hM ho => ?_)
      refine lv_aload_n hx hb (pc := 44) dX3_side_44 rfl (lv_at hl 0 rfl) ?_
      refine M_get hC hX hM (pc := 45) 2 (by decide) q890 rfl (v := .ref (m + 2)) rfl dX3_side_45 ?_
      refine j_iconst hC (pc := 48) dX3_side_48 ?_
      refine lv_iload_n hx hb (pc := 49) dX3_side_49 rfl (lv_at hl 1 rfl) ?_
      refine j_imul hC (pc := 50) dX3_side_50 ?_
      refine j_iconst hC (pc := 51) dX3_side_51 ?_
      refine j_iadd hC (pc := 52) dX3_side_52 ?_
      refine lv_iload hx hb (pc := 53) dX3_side_53 (lv_at hl 4 rfl) ?_
      refine M_iast hC hX hM ho (pc := 55) 2 (by decide) (L := 6) ⟨rfl, by decide⟩ (by omega) dX3_side_55 (fun g H locs hX hM ho => ?_)
      refine lv_iload_n hx hb (pc := 56) dX3_side_56 rfl (lv_at hl 2 rfl) ?_
      refine lv_iload_n hx hb (pc := 57) dX3_side_57 rfl (lv_at hl 3 rfl) ?_
      refine lv_iload hx hb (pc := 58) dX3_side_58 (lv_at hl 4 rfl) ?_
      refine S_calli (As := [.int (iI (a)), .int (iI (b)), .int (iI (d))]) (rest := []) hC hX (m3_manyOf D T N l a b d (by omega)) (va_cwS 3 hC.ts (lw_S q1049 q1050 q46 q1051) rfl rfl rfl (by decide +kernel) ⟨Nat.le_of_ble_eq_true rfl, Nat.le_of_ble_eq_true rfl⟩) rfl hl.1 (Nat.le_of_ble_eq_true rfl) dX3_side_60 ⟨Nat.zero_le _, Nat.zero_le _⟩ (fun r6 H locs hp hX => ?_)
      subst hQ
      exact j_iret hC (pc := 63) hX hr hlk (Nat.le_refl _) (Nat.le_refl _) dX3_side_63 ⟨rfl, _, _, hM, ho, (by unfold op_side; rw [if_pos (by omega)]; exact ⟨hp, ch.rf, fun j _ => by simp only [va_up]; split <;> rfl⟩)⟩
    · skip
      refine j_bipush hC (pc := 21) dX3_side_21 (by decide) ?_
      subst hQ
      exact j_iret hC (pc := 23) hX hr hlk (Nat.le_refl _) (Nat.le_refl _) dX3_side_23 ⟨rfl, _, _, hM, ho, (by unfold op_side; rw [if_neg (by omega)]; exact ⟨rfl, ch.rf, ch.rf⟩)⟩

set_option maxHeartbeats 4000000 in
set_option maxRecDepth 100000 in
theorem m3_at (D : va_G) (T N : Nat → Nat) (l : Launch) {m : Nat} (F : Nat → Int) (V : Nat → Int → Int) (v k : Int) (hI : SI F V) (hg : (-2147483648 ≤ v ∧ v ≤ 2147483647) ∧ (-2147483648 ≤ k ∧ k ≤ 2147483647)) : MMi D T N l yX3_at (ws_ yX3_at cX3_at 3 (some .int)) ({ frames := 1, cells := 0, slots := 0, locals := 25 } : Room) m [.int (iI (v)), .int (iI (k))] F V (mP (op_at F V v k)) := by
  intro g0 n hM
  refine j_start (by decide) (Nat.le_of_ble_eq_true rfl) ?_
  intro p e s mi args below meth c hC hr hlk hnm hX ls hl
  have hC : Ct D T N (gA g0 n) p s mi args c cX3_at RX3 3 := hC
  have hx := hC.x
  have hb := hC.b
  have ho : off g0 g0 m 27 := off.rf
  generalize hQ : MQ below _ args s 0 0 (gA g0 n) = Q
  have hl : lv_has ls 3 [(0, .ref (m)), (1, .int (iI (v))), (2, .int (iI (k)))] := hl
  have hn := hI.nums
  refine lv_iload_n hx hb (pc := 0) dX3_at_0 rfl (lv_at hl 1 rfl) ?_
  refine j_i2l hC (pc := 1) dX3_at_1 (by omega) ?_
  refine j_lconst hC (pc := 2) (w := 0) dX3_at_2 rfl ?_
  refine j_lconst hC (pc := 3) (w := 1) dX3_at_3 rfl ?_
  refine S_calli (As := [.long (lI (v)), .long (lI (0)), .long (lI (1))]) (rest := []) hC hX (m3_in D T N l v 0 1 (by omega)) (va_cwS 3 hC.ts (lw_S q1020 q1021 q46 q1022) rfl rfl rfl (by decide +kernel) ⟨Nat.le_of_ble_eq_true rfl, Nat.le_of_ble_eq_true rfl⟩) rfl hl.1 (Nat.le_of_ble_eq_true rfl) dX3_at_4 ⟨Nat.zero_le _, Nat.zero_le _⟩ (fun r1 H locs hp hX => ?_)
  have hq_r1 := inF_of hp
  refine j_if_eq hC (pc := 7) 35 dX3_at_7 (by decide) (by omega) (fun c2 => ?_) (fun c2 => ?_)
  · skip
    refine j_bipush hC (pc := 35) dX3_at_35 (by decide) ?_
    subst hQ
    exact j_iret hC (pc := 37) hX hr hlk (Nat.le_refl _) (Nat.le_refl _) dX3_at_37 ⟨rfl, _, _, hM, ho, (by unfold op_at; rw [if_neg (by omega)]; exact ⟨rfl, ch.rf, ch.rf⟩)⟩
  · skip
    refine lv_iload_n hx hb (pc := 10) dX3_at_10 rfl (lv_at hl 2 rfl) ?_
    refine j_i2l hC (pc := 11) dX3_at_11 (by omega) ?_
    refine j_lconst hC (pc := 12) (w := 0) dX3_at_12 rfl ?_
    refine j_ldc2 hC (pc := 13) (z := 2) q1019 dX3_at_13 rfl ?_
    refine S_calli (As := [.long (lI (k)), .long (lI (0)), .long (lI (2))]) (rest := []) hC hX (m3_in D T N l k 0 2 (by omega)) (va_cwS 3 hC.ts (lw_S q1020 q1021 q46 q1022) rfl rfl rfl (by decide +kernel) ⟨Nat.le_of_ble_eq_true rfl, Nat.le_of_ble_eq_true rfl⟩) rfl hl.1 (Nat.le_of_ble_eq_true rfl) dX3_at_16 ⟨Nat.zero_le _, Nat.zero_le _⟩ (fun r3 H locs hp hX => ?_)
    have hq_r3 := inF_of hp
    refine j_if_eq hC (pc := 19) 35 dX3_at_19 (by decide) (by omega) (fun c4 => ?_) (fun c4 => ?_)
    · skip
      refine j_bipush hC (pc := 35) dX3_at_35 (by decide) ?_
      subst hQ
      exact j_iret hC (pc := 37) hX hr hlk (Nat.le_refl _) (Nat.le_refl _) dX3_at_37 ⟨rfl, _, _, hM, ho, (by unfold op_at; rw [if_neg (by omega)]; exact ⟨rfl, ch.rf, ch.rf⟩)⟩
    · skip
      refine lv_aload_n hx hb (pc := 22) dX3_at_22 rfl (lv_at hl 0 rfl) ?_
      refine M_get hC hX hM (pc := 23) 2 (by decide) q890 rfl (v := .ref (m + 2)) rfl dX3_at_23 ?_
      refine j_iconst hC (pc := 26) dX3_at_26 ?_
      refine lv_iload_n hx hb (pc := 27) dX3_at_27 rfl (lv_at hl 1 rfl) ?_
      refine j_imul hC (pc := 28) dX3_at_28 ?_
      refine lv_iload_n hx hb (pc := 29) dX3_at_29 rfl (lv_at hl 2 rfl) ?_
      refine j_iadd hC (pc := 30) dX3_at_30 ?_
      refine M_iald hC hX hM (pc := 31) 2 (by decide) (L := 6) ⟨rfl, by decide⟩ (by omega) (z := V 2 ((3 * v) + k)) rfl dX3_at_31 ?_
      refine j_goto hC (pc := 32) 37 dX3_at_32 (by decide) ?_
      subst hQ
      exact j_iret hC (pc := 37) hX hr hlk (Nat.le_refl _) (Nat.le_refl _) dX3_at_37 ⟨rfl, _, _, hM, ho, (by unfold op_at; rw [if_pos (by omega)]; exact ⟨rfl, ch.rf, ch.rf⟩)⟩

set_option maxHeartbeats 4000000 in
set_option maxRecDepth 100000 in
theorem m3_laws (D : va_G) (T N : Nat → Nat) (l : Launch) {m : Nat} (F : Nat → Int) (V : Nat → Int → Int) (k a w : Int) (hI : SI F V) (hg : (-2147483648 ≤ k ∧ k ≤ 2147483647) ∧ (-2147483648 ≤ a ∧ a ≤ 2147483647) ∧ (-2147483648 ≤ w ∧ w ≤ 2147483647)) : MMi D T N l yX3_laws (ws_ yX3_laws cX3_laws 4 (some .int)) ({ frames := 1, cells := 0, slots := 0, locals := 25 } : Room) m [.int (iI (k)), .int (iI (a)), .int (iI (w))] F V (mP (op_laws F V k a w)) := by
  intro g0 n hM
  refine j_start (by decide) (Nat.le_of_ble_eq_true rfl) ?_
  intro p e s mi args below meth c hC hr hlk hnm hX ls hl
  have hC : Ct D T N (gA g0 n) p s mi args c cX3_laws RX3 4 := hC
  have hx := hC.x
  have hb := hC.b
  have ho : off g0 g0 m 27 := off.rf
  generalize hQ : MQ below _ args s 0 0 (gA g0 n) = Q
  have hl : lv_has ls 4 [(0, .ref (m)), (1, .int (iI (k))), (2, .int (iI (a))), (3, .int (iI (w)))] := hl
  have hn := hI.nums
  refine lv_iload_n hx hb (pc := 0) dX3_laws_0 rfl (lv_at hl 1 rfl) ?_
  refine j_i2l hC (pc := 1) dX3_laws_1 (by omega) ?_
  refine j_lconst hC (pc := 2) (w := 1) dX3_laws_2 rfl ?_
  refine j_ldc2 hC (pc := 3) (z := 6) q1024 dX3_laws_3 rfl ?_
  refine S_calli (As := [.long (lI (k)), .long (lI (1)), .long (lI (6))]) (rest := []) hC hX (m3_in D T N l k 1 6 (by omega)) (va_cwS 3 hC.ts (lw_S q1020 q1021 q46 q1022) rfl rfl rfl (by decide +kernel) ⟨Nat.le_of_ble_eq_true rfl, Nat.le_of_ble_eq_true rfl⟩) rfl hl.1 (Nat.le_of_ble_eq_true rfl) dX3_laws_6 ⟨Nat.zero_le _, Nat.zero_le _⟩ (fun r1 H locs hp hX => ?_)
  have hq_r1 := inF_of hp
  refine j_if_eq hC (pc := 9) 34 dX3_laws_9 (by decide) (by omega) (fun c2 => ?_) (fun c2 => ?_)
  · skip
    refine j_bipush hC (pc := 34) dX3_laws_34 (by decide) ?_
    subst hQ
    exact j_iret hC (pc := 36) hX hr hlk (Nat.le_refl _) (Nat.le_refl _) dX3_laws_36 ⟨rfl, _, _, hM, ho, (by unfold op_laws; rw [if_neg (by omega)]; exact ⟨rfl, ch.rf, ch.rf⟩)⟩
  · skip
    refine lv_iload_n hx hb (pc := 12) dX3_laws_12 rfl (lv_at hl 2 rfl) ?_
    refine j_i2l hC (pc := 13) dX3_laws_13 (by omega) ?_
    refine j_lconst hC (pc := 14) (w := 0) dX3_laws_14 rfl ?_
    refine j_lconst hC (pc := 15) (w := 1) dX3_laws_15 rfl ?_
    refine S_calli (As := [.long (lI (a)), .long (lI (0)), .long (lI (1))]) (rest := []) hC hX (m3_in D T N l a 0 1 (by omega)) (va_cwS 3 hC.ts (lw_S q1020 q1021 q46 q1022) rfl rfl rfl (by decide +kernel) ⟨Nat.le_of_ble_eq_true rfl, Nat.le_of_ble_eq_true rfl⟩) rfl hl.1 (Nat.le_of_ble_eq_true rfl) dX3_laws_16 ⟨Nat.zero_le _, Nat.zero_le _⟩ (fun r3 H locs hp hX => ?_)
    have hq_r3 := inF_of hp
    refine j_if_eq hC (pc := 19) 34 dX3_laws_19 (by decide) (by omega) (fun c4 => ?_) (fun c4 => ?_)
    · skip
      refine j_bipush hC (pc := 34) dX3_laws_34 (by decide) ?_
      subst hQ
      exact j_iret hC (pc := 36) hX hr hlk (Nat.le_refl _) (Nat.le_refl _) dX3_laws_36 ⟨rfl, _, _, hM, ho, (by unfold op_laws; rw [if_neg (by omega)]; exact ⟨rfl, ch.rf, ch.rf⟩)⟩
    · skip
      refine lv_iload_n hx hb (pc := 22) dX3_laws_22 rfl (lv_at hl 3 rfl) ?_
      refine j_i2l hC (pc := 23) dX3_laws_23 (by omega) ?_
      refine j_ldc2 hC (pc := 24) (z := -1) q1048 dX3_laws_24 rfl ?_
      refine j_lconst hC (pc := 27) (w := 1) dX3_laws_27 rfl ?_
      refine S_calli (As := [.long (lI (w)), .long (lI (-1)), .long (lI (1))]) (rest := []) hC hX (m3_in D T N l w (-1) 1 (by omega)) (va_cwS 3 hC.ts (lw_S q1020 q1021 q46 q1022) rfl rfl rfl (by decide +kernel) ⟨Nat.le_of_ble_eq_true rfl, Nat.le_of_ble_eq_true rfl⟩) rfl hl.1 (Nat.le_of_ble_eq_true rfl) dX3_laws_28 ⟨Nat.zero_le _, Nat.zero_le _⟩ (fun r5 H locs hp hX => ?_)
      have hq_r5 := inF_of hp
      refine j_if_ne hC (pc := 31) 37 dX3_laws_31 (by decide) (by omega) (fun c6 => ?_) (fun c6 => ?_)
      · skip
        refine lv_aload_n hx hb (pc := 37) dX3_laws_37 rfl (lv_at hl 0 rfl) ?_
        refine lv_iload_n hx hb (pc := 38) dX3_laws_38 rfl (lv_at hl 1 rfl) ?_
        refine M_put hC hX hM ho (pc := 39) 3 (by decide) q891 rfl dX3_laws_39 (fun g H locs hX hM ho => ?_)
        refine lv_aload_n hx hb (pc := 42) dX3_laws_42 rfl (lv_at hl 0 rfl) ?_
        refine lv_iload_n hx hb (pc := 43) dX3_laws_43 rfl (lv_at hl 2 rfl) ?_
        refine M_put hC hX hM ho (pc := 44) 4 (by decide) q892 rfl dX3_laws_44 (fun g H locs hX hM ho => ?_)
        refine lv_aload_n hx hb (pc := 47) dX3_laws_47 rfl (lv_at hl 0 rfl) ?_
        refine lv_iload_n hx hb (pc := 48) dX3_laws_48 rfl (lv_at hl 3 rfl) ?_
        refine M_put hC hX hM ho (pc := 49) 5 (by decide) q893 rfl dX3_laws_49 (fun g H locs hX hM ho => ?_)
        refine j_iconst hC (pc := 52) dX3_laws_52 ?_
        subst hQ
        exact j_iret hC (pc := 53) hX hr hlk (Nat.le_refl _) (Nat.le_refl _) dX3_laws_53 ⟨rfl, _, _, hM, ho, (by unfold op_laws; rw [if_pos (by omega)]; exact ⟨rfl, ch.rf, ch.rf⟩)⟩
      · skip
        refine j_bipush hC (pc := 34) dX3_laws_34 (by decide) ?_
        subst hQ
        exact j_iret hC (pc := 36) hX hr hlk (Nat.le_refl _) (Nat.le_refl _) dX3_laws_36 ⟨rfl, _, _, hM, ho, (by unfold op_laws; rw [if_neg (by omega)]; exact ⟨rfl, ch.rf, ch.rf⟩)⟩
