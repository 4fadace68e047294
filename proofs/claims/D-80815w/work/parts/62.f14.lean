/-! the lists -/
set_option maxHeartbeats 4000000 in
set_option maxRecDepth 100000 in
theorem l_check7 (D : va_G) (T N : Nat → Nat) (l : Launch) (i k : Int) (hi : 0 ≤ i ∧ i < k ∧ k ≤ 2147483647) : SSi D T N l yJ7_checkIndex (ws_ yJ7_checkIndex cJ7_checkIndex 3 (some .int)) ({ frames := 0, cells := 0, slots := 0, locals := 0 } : Room) [.int (iI (i)), .int (iI (k)), .null] (fun r => r = i) := by
  intro g0 n
  refine j_start (by decide) (Nat.le_of_ble_eq_true rfl) ?_
  intro p e s mi args below meth c hC hr hlk hnm hX ls hl
  have hC : Ct D T N (gA g0 n) p s mi args c cJ7_checkIndex RJ7 3 := hC
  have hx := hC.x
  have hb := hC.b
  generalize hQ : MQ below _ args s 0 0 (gA g0 n) = Q
  have hl : lv_has ls 3 [(0, .int (iI (i))), (1, .int (iI (k))), (2, .null)] := hl
  refine lv_iload_n hx hb (pc := 0) dJ7_checkIndex_0 rfl (lv_at hl 0 rfl) ?_
  refine j_if_lt hC (pc := 1) 9 dJ7_checkIndex_1 (by decide) (by omega) (fun c1 => ?_) (fun c1 => ?_)
  · skip
    omega
  · skip
    refine lv_iload_n hx hb (pc := 4) dJ7_checkIndex_4 rfl (lv_at hl 0 rfl) ?_
    refine lv_iload_n hx hb (pc := 5) dJ7_checkIndex_5 rfl (lv_at hl 1 rfl) ?_
    refine j_icmp_lt hC (pc := 6) 16 dJ7_checkIndex_6 (by decide) (by omega) (fun c2 => ?_) (fun c2 => ?_)
    · skip
      refine lv_iload_n hx hb (pc := 16) dJ7_checkIndex_16 rfl (lv_at hl 0 rfl) ?_
      subst hQ
      exact j_iret hC (pc := 17) hX hr hlk (Nat.le_of_ble_eq_true rfl) (Nat.le_of_ble_eq_true rfl) dJ7_checkIndex_17 ⟨rfl, rfl, rfl⟩
    · skip
      omega

set_option maxHeartbeats 4000000 in
set_option maxRecDepth 100000 in
theorem l_check6 (D : va_G) (T N : Nat → Nat) (l : Launch) (i k : Int) (hi : 0 ≤ i ∧ i < k ∧ k ≤ 2147483647) : SSi D T N l yJ6_checkIndex (ws_ yJ6_checkIndex cJ6_checkIndex 2 (some .int)) ({ frames := 1, cells := 0, slots := 0, locals := 22 } : Room) [.int (iI (i)), .int (iI (k))] (fun r => r = i) := by
  intro g0 n
  refine j_start (by decide) (Nat.le_of_ble_eq_true rfl) ?_
  intro p e s mi args below meth c hC hr hlk hnm hX ls hl
  have hC : Ct D T N (gA g0 n) p s mi args c cJ6_checkIndex RJ6 2 := hC
  have hx := hC.x
  have hb := hC.b
  generalize hQ : MQ below _ args s 0 0 (gA g0 n) = Q
  have hl : lv_has ls 2 [(0, .int (iI (i))), (1, .int (iI (k)))] := hl
  refine lv_iload_n hx hb (pc := 0) dJ6_checkIndex_0 rfl (lv_at hl 0 rfl) ?_
  refine lv_iload_n hx hb (pc := 1) dJ6_checkIndex_1 rfl (lv_at hl 1 rfl) ?_
  refine lv_null hx hb (pc := 2) dJ6_checkIndex_2 ?_
  refine j_calli (rest := []) hX (va_runS hC.fix (l_check7 D T N l i k hi _ _) (va_cwS 3 hC.ts (lw_S q608 q609 q55 q610) rfl rfl rfl (by decide +kernel) ⟨Nat.le_of_ble_eq_true rfl, Nat.le_of_ble_eq_true rfl⟩) (j_preS hC hX _) rfl rfl hl.1 rfl (Nat.le_of_ble_eq_true rfl) dJ6_checkIndex_3 ⟨(Nat.le_of_ble_eq_true rfl), (Nat.le_of_ble_eq_true rfl)⟩) (fun r1 g m2 H locs hp hle hX => ?_)
  obtain ⟨hn_, hg_, hp⟩ := hp
  rw [hn_, hg_] at hX
  subst hQ
  exact j_iret hC (pc := 6) hX hr hlk (Nat.le_of_ble_eq_true rfl) (Nat.le_of_ble_eq_true rfl) dJ6_checkIndex_6 ⟨rfl, rfl, hp⟩

set_option maxHeartbeats 4000000 in
set_option maxRecDepth 100000 in
theorem l_size13 (D : va_G) (T N : Nat → Nat) (l : Launch) {g0 : GH} {S : LbS} {Z : Nat → Int → Int} (hL : lR T g0 S Z) (n : Nat)  (hk0 : zK S 13 = 27) : Met l yJ2_size (ws_ yJ2_size cJ2_size 1 (some .int)) ({ frames := 0, cells := 0, slots := 0, locals := 0 } : Room) (gPc D T N [.ref (zB S 13)] g0 n) (gQi D g0 n (fun r g' n' => n' = n ∧ ∃ Z', lR T g' S Z' ∧ Z' = Z ∧ r = Z 13 2)) 0 0 (gA g0 n) := by
  refine j_start (by decide) (Nat.le_of_ble_eq_true rfl) ?_
  intro p e s mi args below meth c hC hr hlk hnm hX ls hl
  have hC : Ct D T N (gA g0 n) p s mi args c cJ2_size RJ2 1 := hC
  have hx := hC.x
  have hb := hC.b
  generalize hQ : MQ below _ args s 0 0 (gA g0 n) = Q
  have hl : lv_has ls 1 [(0, .ref (zB S 13))] := hl
  refine lv_aload_n hx hb (pc := 0) dJ2_size_0 rfl (lv_at hl 0 rfl) ?_
  refine L_get hC hX hL in_J2 (ci := 7) rfl (pc := 1) 13 hk0 2 (by decide) q120 rfl (v := .int (iI (Z 13 2))) rfl dJ2_size_1 ?_
  subst hQ
  exact j_iret hC (pc := 4) hX hr hlk (Nat.le_of_ble_eq_true rfl) (Nat.le_of_ble_eq_true rfl) dJ2_size_4 ⟨rfl, _, hL, ⟨rfl, rfl⟩⟩

set_option maxHeartbeats 4000000 in
set_option maxRecDepth 100000 in
theorem l_elem13 (D : va_G) (T N : Nat → Nat) (l : Launch) {g0 : GH} {S : LbS} {Z : Nat → Int → Int} (hL : lR T g0 S Z) (n : Nat) (L : Nat) (i : Int) (b : Nat) (hk0 : zK S 13 = 27) (hea : zA S 13 1 = some (zB S 24)) (he : zK S 24 = 10 ∧ zN S 24 = L) (hL1 : L ≤ 100000) (hi : 0 ≤ i ∧ i < L) (hb_ : zA S 24 i = some b) : Met l yJ2_elementData (ws_ yJ2_elementData cJ2_elementData 2 (some (.object "java/lang/Object"))) ({ frames := 0, cells := 0, slots := 0, locals := 0 } : Room) (gPc D T N [.ref (zB S 13), .int (iI (i))] g0 n) (gQq D g0 n (fun r g' n' => n' = n ∧ ∃ Z', lR T g' S Z' ∧ Z' = Z ∧ r = some b)) 0 0 (gA g0 n) := by
  refine j_start (by decide) (Nat.le_of_ble_eq_true rfl) ?_
  intro p e s mi args below meth c hC hr hlk hnm hX ls hl
  have hC : Ct D T N (gA g0 n) p s mi args c cJ2_elementData RJ2 2 := hC
  have hx := hC.x
  have hb := hC.b
  generalize hQ : MQ below _ args s 0 0 (gA g0 n) = Q
  have hl : lv_has ls 2 [(0, .ref (zB S 13)), (1, .int (iI (i)))] := hl
  refine lv_aload_n hx hb (pc := 0) dJ2_elementData_0 rfl (lv_at hl 0 rfl) ?_
  refine L_getr hC hX hL in_J2 (ci := 7) rfl (pc := 1) 13 hk0 1 (by decide) q119 rfl (q := zA S 13 1) (b := zB S 24) hea rfl dJ2_elementData_1 ?_
  refine lv_iload_n hx hb (pc := 4) dJ2_elementData_4 rfl (lv_at hl 1 rfl) ?_
  refine L_aald hC hX hL (pc := 5) 24 9 he.1 (by decide) rfl rfl (L := L) he.2 (by omega) hi (b := b) hb_ dJ2_elementData_5 ?_
  subst hQ
  exact j_aret (z := some (b)) hC (pc := 6) hX hr (Or.inl ⟨_, rfl⟩) hlk (Nat.le_of_ble_eq_true rfl) (Nat.le_of_ble_eq_true rfl) dJ2_elementData_6 ⟨rfl, _, hL, ⟨rfl, rfl⟩⟩

set_option maxHeartbeats 4000000 in
set_option maxRecDepth 100000 in
theorem l_get13 (D : va_G) (T N : Nat → Nat) (l : Launch) {g0 : GH} {S : LbS} {Z : Nat → Int → Int} (hL : lR T g0 S Z) (n : Nat) (L : Nat) (i : Int) (b : Nat) (hk0 : zK S 13 = 27) (hea : zA S 13 1 = some (zB S 24)) (he : zK S 24 = 10 ∧ zN S 24 = L) (hL1 : L ≤ 100000) (hi : 0 ≤ i ∧ i < L ∧ i < Z 13 2 ∧ Z 13 2 ≤ 100000) (hb_ : zA S 24 i = some b) : Met l yJ2_get (ws_ yJ2_get cJ2_get 2 (some (.object "java/lang/Object"))) ({ frames := 2, cells := 0, slots := 0, locals := 43 } : Room) (gPc D T N [.ref (zB S 13), .int (iI (i))] g0 n) (gQq D g0 n (fun r g' n' => n' = n ∧ ∃ Z', lR T g' S Z' ∧ Z' = Z ∧ r = some b)) 0 0 (gA g0 n) := by
  refine j_start (by decide) (Nat.le_of_ble_eq_true rfl) ?_
  intro p e s mi args below meth c hC hr hlk hnm hX ls hl
  have hC : Ct D T N (gA g0 n) p s mi args c cJ2_get RJ2 2 := hC
  have hx := hC.x
  have hb := hC.b
  generalize hQ : MQ below _ args s 0 0 (gA g0 n) = Q
  have hl : lv_has ls 2 [(0, .ref (zB S 13)), (1, .int (iI (i)))] := hl
  refine lv_iload_n hx hb (pc := 0) dJ2_get_0 rfl (lv_at hl 1 rfl) ?_
  refine lv_aload_n hx hb (pc := 1) dJ2_get_1 rfl (lv_at hl 0 rfl) ?_
  refine L_get hC hX hL in_J2 (ci := 7) rfl (pc := 2) 13 hk0 2 (by decide) q120 rfl (v := .int (iI (Z 13 2))) rfl dJ2_get_2 ?_
  refine j_calli (rest := []) hX (va_runS hC.fix (l_check6 D T N l i (Z 13 2) (by omega) _ _) (va_cwS 2 hC.ts (lw_S q605 q606 q54 q607) rfl rfl rfl (by decide +kernel) ⟨Nat.le_of_ble_eq_true rfl, Nat.le_of_ble_eq_true rfl⟩) (j_preS hC hX _) rfl rfl hl.1 rfl (Nat.le_of_ble_eq_true rfl) dJ2_get_5 ⟨(Nat.le_of_ble_eq_true rfl), (Nat.le_of_ble_eq_true rfl)⟩) (fun r1 g m2 H locs hp hle hX => ?_)
  obtain ⟨hn_, hg_, hp⟩ := hp
  rw [hn_, hg_] at hX
  refine lv_pop hx hb (pc := 8) dJ2_get_8 rfl ?_
  refine lv_aload_n hx hb (pc := 9) dJ2_get_9 rfl (lv_at hl 0 rfl) ?_
  refine lv_iload_n hx hb (pc := 10) dJ2_get_10 rfl (lv_at hl 1 rfl) ?_
  refine j_callq (rest := []) hX (va_runV hC.fix (l_elem13 D T N l hL _ L i b hk0 hea he hL1 ⟨hi.1, hi.2.1⟩ hb_) (cwV 1 hC.ts (lw_V q611 q612 q613 q44 q614) rfl rfl rfl (by decide +kernel) ⟨Nat.le_of_ble_eq_true rfl, Nat.le_of_ble_eq_true rfl⟩) (j_preV hC hX (hL.ob 13 hk0) (ci := 7) (r := (RJ2, TJ2, 3)) rfl _) rfl rfl hl.1 rfl (Nat.le_of_ble_eq_true rfl) dJ2_get_11 ⟨(Nat.le_of_ble_eq_true rfl), (Nat.le_of_ble_eq_true rfl)⟩) (fun r3 g m4 H locs hp hle hX => ?_)
  obtain ⟨hn_, Z5, hL, hp⟩ := hp
  rw [hn_] at hX
  obtain ⟨hz_, hr_⟩ := hp
  rw [hz_] at hL
  rw [hr_]
  subst hQ
  exact j_aret (z := some (b)) hC (pc := 14) hX hr (Or.inl ⟨_, rfl⟩) hlk (Nat.le_of_ble_eq_true rfl) (Nat.le_of_ble_eq_true rfl) dJ2_get_14 ⟨rfl, _, hL, ⟨rfl, rfl⟩⟩

set_option maxHeartbeats 4000000 in
set_option maxRecDepth 100000 in
theorem l_clearE13 (D : va_G) (T N : Nat → Nat) (l : Launch) {g0 : GH} {S : LbS} {Z : Nat → Int → Int} (hL : lR T g0 S Z) (n : Nat)  (hk0 : zK S 13 = 27) (hea : zA S 13 1 = some (N 4)) (hs0 : Z 13 2 = 0) : Met l yJ2_clear (ws_ yJ2_clear cJ2_clear 4 none) ({ frames := 0, cells := 0, slots := 0, locals := 0 } : Room) (gPc D T N [.ref (zB S 13)] g0 n) (gQv D g0 n (fun g' n' => n' = n ∧ ∃ Z', lR T g' S Z' ∧ ch Z Z' [13] ∧ Z' 13 2 = 0)) 0 0 (gA g0 n) := by
  refine j_start (by decide) (Nat.le_of_ble_eq_true rfl) ?_
  intro p e s mi args below meth c hC hr hlk hnm hX ls hl
  have hC : Ct D T N (gA g0 n) p s mi args c cJ2_clear RJ2 4 := hC
  have hx := hC.x
  have hb := hC.b
  generalize hQ : MQ below _ args s 0 0 (gA g0 n) = Q
  have hl : lv_has ls 4 [(0, .ref (zB S 13))] := hl
  refine lv_aload_n hx hb (pc := 0) dJ2_clear_0 rfl (lv_at hl 0 rfl) ?_
  refine lv_dup hx hb (pc := 1) dJ2_clear_1 rfl ?_
  refine L_getM hC hX hL (pc := 2) 13 hk0 dJ2_clear_2 ?_
  refine j_iconst hC (pc := 5) dJ2_clear_5 ?_
  refine j_iadd hC (pc := 6) dJ2_clear_6 ?_
  refine L_putM hC hX hL (pc := 7) 13 hk0 (z := ((Z 13 0) + 1)) dJ2_clear_7 (fun g H locs hX hL => ?_)
  refine lv_aload_n hx hb (pc := 10) dJ2_clear_10 rfl (lv_at hl 0 rfl) ?_
  refine L_getr hC hX hL in_J2 (ci := 7) rfl (pc := 11) 13 hk0 1 (by decide) q119 rfl (q := zA S 13 1) (b := N 4) hea rfl dJ2_clear_11 ?_
  refine lv_astore_n (lv' := [(1, .ref (N 4)), (0, .ref (zB S 13))]) hx hb (pc := 14) dJ2_clear_14 rfl hl (by decide) rfl (fun ls hl => ?_)
  refine lv_aload_n hx hb (pc := 15) dJ2_clear_15 rfl (lv_at hl 1 rfl) ?_
  refine L_get hC hX hL in_J2 (ci := 7) rfl (pc := 16) 13 hk0 2 (by decide) q120 rfl (v := .int (iI ((uI (Z 13) 0 ((Z 13 0) + 1)) 2))) rfl dJ2_clear_16 ?_
  refine j_eqi (b := 0) ((uI_n (Z 13) (Z 13 0 + 1) (show (2 : Int) ≠ 0 by decide)).trans hs0) ?_
  refine lv_istore_n (lv' := [(2, .int (iI (0))), (1, .ref (N 4)), (0, .ref (zB S 13))]) hx hb (pc := 19) dJ2_clear_19 rfl hl (by decide) rfl (fun ls hl => ?_)
  refine lv_aload_n hx hb (pc := 20) dJ2_clear_20 rfl (lv_at hl 2 rfl) ?_
  refine j_iconst hC (pc := 21) dJ2_clear_21 ?_
  refine lv_dup_x1 hx hb (pc := 22) dJ2_clear_22 rfl rfl ?_
  refine L_put hC hX hL in_J2 tyJ2 tyJ2_ok nmJ2 (ci := 7) rfl (pc := 23) 13 hk0 2 (by decide) q120 rfl rfl rfl rfl (f := uI (uI (Z 13) 0 ((Z 13 0) + 1)) 2 0) (show 2 < 3 by decide) rfl dJ2_clear_23 (fun g H locs hX hL => ?_)
  refine lv_istore_n (lv' := [(3, .int (iI (0))), (2, .int (iI (0))), (1, .ref (N 4)), (0, .ref (zB S 13))]) hx hb (pc := 26) dJ2_clear_26 rfl hl (by decide) rfl (fun ls hl => ?_)
  refine lv_iload_n hx hb (pc := 27) dJ2_clear_27 rfl (lv_at hl 0 rfl) ?_
  refine lv_iload_n hx hb (pc := 28) dJ2_clear_28 rfl (lv_at hl 1 rfl) ?_
  refine j_icmp_ge hC (pc := 29) 42 dJ2_clear_29 (by decide) (by omega) (fun c1 => ?_) (fun c1 => ?_)
  · skip
    subst hQ
    exact j_vret hC (pc := 42) hX hr hlk (Nat.le_of_ble_eq_true rfl) (Nat.le_of_ble_eq_true rfl) dJ2_clear_42 ⟨rfl, _, hL, ⟨((ch.rf.up 13 _ (by decide)).up 13 _ (by decide)), rfl⟩⟩
  · skip
    exact absurd (by decide) c1

set_option maxHeartbeats 4000000 in
set_option maxRecDepth 100000 in
theorem l_clearN13 (D : va_G) (T N : Nat → Nat) (l : Launch) {g0 : GH} {S : LbS} {Z : Nat → Int → Int} (hL : lR T g0 S Z) (n : Nat) (L : Nat) (hk0 : zK S 13 = 27) (hea : zA S 13 1 = some (zB S 24)) (he : zK S 24 = 10 ∧ zN S 24 = L) (hL1 : L ≤ 100000) (hsz : 0 ≤ Z 13 2 ∧ Z 13 2 ≤ L) : Met l yJ2_clear (ws_ yJ2_clear cJ2_clear 4 none) ({ frames := 0, cells := 0, slots := 0, locals := 0 } : Room) (gPc D T N [.ref (zB S 13)] g0 n) (gQv D g0 n (fun g' n' => ∃ S' Z', lR T g' S' Z' ∧ (zB S' = zB S ∧ zK S' = zK S ∧ zN S' = zN S) ∧ (∀ k, k ≠ 24 → zA S' k = zA S k) ∧ ch Z Z' [13] ∧ Z' 13 2 = 0)) 0 0 (gA g0 n) := by
  refine j_start (by decide) (Nat.le_of_ble_eq_true rfl) ?_
  intro p e s mi args below meth c hC hr hlk hnm hX ls hl
  have hC : Ct D T N (gA g0 n) p s mi args c cJ2_clear RJ2 4 := hC
  have hx := hC.x
  have hb := hC.b
  generalize hQ : MQ below _ args s 0 0 (gA g0 n) = Q
  have hl : lv_has ls 4 [(0, .ref (zB S 13))] := hl
  obtain ⟨sz, hsz1⟩ : ∃ sz, Z 13 2 = sz := ⟨_, rfl⟩
  rw [hsz1] at hsz
  have hsz2 : uI (Z 13) 0 (Z 13 0 + 1) 2 = sz := (uI_n (Z 13) (Z 13 0 + 1) (show (2 : Int) ≠ 0 by decide)).trans hsz1
  refine lv_aload_n hx hb (pc := 0) dJ2_clear_0 rfl (lv_at hl 0 rfl) ?_
  refine lv_dup hx hb (pc := 1) dJ2_clear_1 rfl ?_
  refine L_getM hC hX hL (pc := 2) 13 hk0 dJ2_clear_2 ?_
  refine j_iconst hC (pc := 5) dJ2_clear_5 ?_
  refine j_iadd hC (pc := 6) dJ2_clear_6 ?_
  refine L_putM hC hX hL (pc := 7) 13 hk0 (z := ((Z 13 0) + 1)) dJ2_clear_7 (fun g H locs hX hL => ?_)
  refine lv_aload_n hx hb (pc := 10) dJ2_clear_10 rfl (lv_at hl 0 rfl) ?_
  refine L_getr hC hX hL in_J2 (ci := 7) rfl (pc := 11) 13 hk0 1 (by decide) q119 rfl (q := zA S 13 1) (b := zB S 24) hea rfl dJ2_clear_11 ?_
  refine lv_astore_n (lv' := [(1, .ref (zB S 24)), (0, .ref (zB S 13))]) hx hb (pc := 14) dJ2_clear_14 rfl hl (by decide) rfl (fun ls hl => ?_)
  refine lv_aload_n hx hb (pc := 15) dJ2_clear_15 rfl (lv_at hl 1 rfl) ?_
  refine L_get hC hX hL in_J2 (ci := 7) rfl (pc := 16) 13 hk0 2 (by decide) q120 rfl (v := .int (iI ((uI (Z 13) 0 ((Z 13 0) + 1)) 2))) rfl dJ2_clear_16 ?_
  refine j_eqi (b := sz) (hsz2) ?_
  refine lv_istore_n (lv' := [(2, .int (iI (sz))), (1, .ref (zB S 24)), (0, .ref (zB S 13))]) hx hb (pc := 19) dJ2_clear_19 rfl hl (by decide) rfl (fun ls hl => ?_)
  refine lv_aload_n hx hb (pc := 20) dJ2_clear_20 rfl (lv_at hl 2 rfl) ?_
  refine j_iconst hC (pc := 21) dJ2_clear_21 ?_
  refine lv_dup_x1 hx hb (pc := 22) dJ2_clear_22 rfl rfl ?_
  refine L_put hC hX hL in_J2 tyJ2 tyJ2_ok nmJ2 (ci := 7) rfl (pc := 23) 13 hk0 2 (by decide) q120 rfl rfl rfl rfl (f := uI (uI (Z 13) 0 ((Z 13 0) + 1)) 2 0) (show 2 < 3 by decide) rfl dJ2_clear_23 (fun g H locs hX hL => ?_)
  refine lv_istore_n (lv' := [(3, .int (iI (0))), (2, .int (iI (sz))), (1, .ref (zB S 24)), (0, .ref (zB S 13))]) hx hb (pc := 26) dJ2_clear_26 rfl hl (by decide) rfl (fun ls hl => ?_)
  have L27 : ∀ (fu : Nat) (i : Int) (g : GH) (nj27 : Nat) (S1 : LbS) (Z1 : Nat → Int → Int), sz - i < (fu : Int) → (0 ≤ i ∧ i ≤ sz) → (zB S1 = zB S ∧ zK S1 = zK S ∧ zN S1 = zN S) → (∀ k, k ≠ 24 → zA S1 k = zA S k) → (ch Z Z1 [13]) → (Z1 13 2 = 0) → ∀ (H : Heap) (locs : List Loc), Wd D (gA g0 n) s g nj27 H locs → lR T g S1 Z1 → ∀ (ls : Array Slot), lv_has ls 4 [(3, .int (iI (i))), (2, .int (iI (sz))), (1, .ref (zB S1 24)), (0, .ref (zB S1 13))] → W p l e ({ frames := 0, cells := 0, slots := 0, locals := 0 } : Room) s mi args below meth c H locs 0 0 Q (F0 mi 27 ls []) := by
    intro fu
    induction fu with
    | zero =>
      intro i g nj27 S1 Z1 hfu hi hpk hoa hcz h20 H locs hX hL ls hl
      exfalso
      omega
    | succ fu ih27 =>
      intro i g nj27 S1 Z1 hfu hi hpk hoa hcz h20 H locs hX hL ls hl
      have hk1 : zK S1 13 = 27 := by rw [hpk.2.1]; exact hk0
      have he1 : zK S1 24 = 10 := by rw [hpk.2.1]; exact he.1
      have hn1 : zN S1 24 = L := by rw [hpk.2.2]; exact he.2
      refine lv_iload_n hx hb (pc := 27) dJ2_clear_27 rfl (lv_at hl 0 rfl) ?_
      refine lv_iload_n hx hb (pc := 28) dJ2_clear_28 rfl (lv_at hl 1 rfl) ?_
      refine j_icmp_ge hC (pc := 29) 42 dJ2_clear_29 (by decide) (by omega) (fun c1 => ?_) (fun c1 => ?_)
      · skip
        subst hQ
        exact j_vret hC (pc := 42) hX hr hlk (Nat.le_of_ble_eq_true rfl) (Nat.le_of_ble_eq_true rfl) dJ2_clear_42 ⟨_, _, hL, ⟨hpk, hoa, hcz, h20⟩⟩
      · skip
        refine lv_aload_n hx hb (pc := 32) dJ2_clear_32 rfl (lv_at hl 2 rfl) ?_
        refine lv_iload_n hx hb (pc := 33) dJ2_clear_33 rfl (lv_at hl 0 rfl) ?_
        refine lv_null hx hb (pc := 34) dJ2_clear_34 ?_
        refine L_aastN hC hX hL (pc := 35) 24 9 he1 (by decide) rfl (L := L) hn1 (by omega) (by omega) dJ2_clear_35 (fun g H locs hX hL => ?_)
        refine j_iinc hC (pc := 36) (lv' := [(3, .int (iI (i + 1))), (2, .int (iI (sz))), (1, .ref (zB S1 24)), (0, .ref (zB S1 13))]) dJ2_clear_36 hl (k := 0) rfl (by decide) rfl (fun ls hl => ?_)
        refine j_goto hC (pc := 39) 27 dJ2_clear_39 (by decide) ?_
        exact ih27 (i + 1) _ _ _ _ (by omega) (by omega) (by exact hpk) (by exact (fun k hk => (va_up_ne _ _ hk).trans (hoa k hk))) (by exact hcz) (by exact h20) _ _ hX hL ls (lv_sub hl [0, 1, 2, 3] rfl)
  exact L27 (sz.toNat + 1) 0 _ _ _ _ (by omega) (by omega) ⟨rfl, rfl, rfl⟩ (fun _ _ => rfl) ((ch.rf.up 13 _ (by decide)).up 13 _ (by decide)) rfl _ _ hX hL ls (lv_sub hl [0, 1, 2, 3] rfl)

set_option maxHeartbeats 4000000 in
set_option maxRecDepth 100000 in
theorem l_size14 (D : va_G) (T N : Nat → Nat) (l : Launch) {g0 : GH} {S : LbS} {Z : Nat → Int → Int} (hL : lR T g0 S Z) (n : Nat)  (hk0 : zK S 14 = 27) : Met l yJ2_size (ws_ yJ2_size cJ2_size 1 (some .int)) ({ frames := 0, cells := 0, slots := 0, locals := 0 } : Room) (gPc D T N [.ref (zB S 14)] g0 n) (gQi D g0 n (fun r g' n' => n' = n ∧ ∃ Z', lR T g' S Z' ∧ Z' = Z ∧ r = Z 14 2)) 0 0 (gA g0 n) := by
  refine j_start (by decide) (Nat.le_of_ble_eq_true rfl) ?_
  intro p e s mi args below meth c hC hr hlk hnm hX ls hl
  have hC : Ct D T N (gA g0 n) p s mi args c cJ2_size RJ2 1 := hC
  have hx := hC.x
  have hb := hC.b
  generalize hQ : MQ below _ args s 0 0 (gA g0 n) = Q
  have hl : lv_has ls 1 [(0, .ref (zB S 14))] := hl
  refine lv_aload_n hx hb (pc := 0) dJ2_size_0 rfl (lv_at hl 0 rfl) ?_
  refine L_get hC hX hL in_J2 (ci := 7) rfl (pc := 1) 14 hk0 2 (by decide) q120 rfl (v := .int (iI (Z 14 2))) rfl dJ2_size_1 ?_
  subst hQ
  exact j_iret hC (pc := 4) hX hr hlk (Nat.le_of_ble_eq_true rfl) (Nat.le_of_ble_eq_true rfl) dJ2_size_4 ⟨rfl, _, hL, ⟨rfl, rfl⟩⟩

set_option maxHeartbeats 4000000 in
set_option maxRecDepth 100000 in
theorem l_elem14 (D : va_G) (T N : Nat → Nat) (l : Launch) {g0 : GH} {S : LbS} {Z : Nat → Int → Int} (hL : lR T g0 S Z) (n : Nat) (L : Nat) (i : Int) (b : Nat) (hk0 : zK S 14 = 27) (hea : zA S 14 1 = some (zB S 25)) (he : zK S 25 = 10 ∧ zN S 25 = L) (hL1 : L ≤ 100000) (hi : 0 ≤ i ∧ i < L) (hb_ : zA S 25 i = some b) : Met l yJ2_elementData (ws_ yJ2_elementData cJ2_elementData 2 (some (.object "java/lang/Object"))) ({ frames := 0, cells := 0, slots := 0, locals := 0 } : Room) (gPc D T N [.ref (zB S 14), .int (iI (i))] g0 n) (gQq D g0 n (fun r g' n' => n' = n ∧ ∃ Z', lR T g' S Z' ∧ Z' = Z ∧ r = some b)) 0 0 (gA g0 n) := by
  refine j_start (by decide) (Nat.le_of_ble_eq_true rfl) ?_
  intro p e s mi args below meth c hC hr hlk hnm hX ls hl
  have hC : Ct D T N (gA g0 n) p s mi args c cJ2_elementData RJ2 2 := hC
  have hx := hC.x
  have hb := hC.b
  generalize hQ : MQ below _ args s 0 0 (gA g0 n) = Q
  have hl : lv_has ls 2 [(0, .ref (zB S 14)), (1, .int (iI (i)))] := hl
  refine lv_aload_n hx hb (pc := 0) dJ2_elementData_0 rfl (lv_at hl 0 rfl) ?_
  refine L_getr hC hX hL in_J2 (ci := 7) rfl (pc := 1) 14 hk0 1 (by decide) q119 rfl (q := zA S 14 1) (b := zB S 25) hea rfl dJ2_elementData_1 ?_
  refine lv_iload_n hx hb (pc := 4) dJ2_elementData_4 rfl (lv_at hl 1 rfl) ?_
  refine L_aald hC hX hL (pc := 5) 25 9 he.1 (by decide) rfl rfl (L := L) he.2 (by omega) hi (b := b) hb_ dJ2_elementData_5 ?_
  subst hQ
  exact j_aret (z := some (b)) hC (pc := 6) hX hr (Or.inl ⟨_, rfl⟩) hlk (Nat.le_of_ble_eq_true rfl) (Nat.le_of_ble_eq_true rfl) dJ2_elementData_6 ⟨rfl, _, hL, ⟨rfl, rfl⟩⟩

set_option maxHeartbeats 4000000 in
set_option maxRecDepth 100000 in
theorem l_get14 (D : va_G) (T N : Nat → Nat) (l : Launch) {g0 : GH} {S : LbS} {Z : Nat → Int → Int} (hL : lR T g0 S Z) (n : Nat) (L : Nat) (i : Int) (b : Nat) (hk0 : zK S 14 = 27) (hea : zA S 14 1 = some (zB S 25)) (he : zK S 25 = 10 ∧ zN S 25 = L) (hL1 : L ≤ 100000) (hi : 0 ≤ i ∧ i < L ∧ i < Z 14 2 ∧ Z 14 2 ≤ 100000) (hb_ : zA S 25 i = some b) : Met l yJ2_get (ws_ yJ2_get cJ2_get 2 (some (.object "java/lang/Object"))) ({ frames := 2, cells := 0, slots := 0, locals := 43 } : Room) (gPc D T N [.ref (zB S 14), .int (iI (i))] g0 n) (gQq D g0 n (fun r g' n' => n' = n ∧ ∃ Z', lR T g' S Z' ∧ Z' = Z ∧ r = some b)) 0 0 (gA g0 n) := by
  refine j_start (by decide) (Nat.le_of_ble_eq_true rfl) ?_
  intro p e s mi args below meth c hC hr hlk hnm hX ls hl
  have hC : Ct D T N (gA g0 n) p s mi args c cJ2_get RJ2 2 := hC
  have hx := hC.x
  have hb := hC.b
  generalize hQ : MQ below _ args s 0 0 (gA g0 n) = Q
  have hl : lv_has ls 2 [(0, .ref (zB S 14)), (1, .int (iI (i)))] := hl
  refine lv_iload_n hx hb (pc := 0) dJ2_get_0 rfl (lv_at hl 1 rfl) ?_
  refine lv_aload_n hx hb (pc := 1) dJ2_get_1 rfl (lv_at hl 0 rfl) ?_
  refine L_get hC hX hL in_J2 (ci := 7) rfl (pc := 2) 14 hk0 2 (by decide) q120 rfl (v := .int (iI (Z 14 2))) rfl dJ2_get_2 ?_
  refine j_calli (rest := []) hX (va_runS hC.fix (l_check6 D T N l i (Z 14 2) (by omega) _ _) (va_cwS 2 hC.ts (lw_S q605 q606 q54 q607) rfl rfl rfl (by decide +kernel) ⟨Nat.le_of_ble_eq_true rfl, Nat.le_of_ble_eq_true rfl⟩) (j_preS hC hX _) rfl rfl hl.1 rfl (Nat.le_of_ble_eq_true rfl) dJ2_get_5 ⟨(Nat.le_of_ble_eq_true rfl), (Nat.le_of_ble_eq_true rfl)⟩) (fun r1 g m2 H locs hp hle hX => ?_)
  obtain ⟨hn_, hg_, hp⟩ := hp
  rw [hn_, hg_] at hX
  refine lv_pop hx hb (pc := 8) dJ2_get_8 rfl ?_
  refine lv_aload_n hx hb (pc := 9) dJ2_get_9 rfl (lv_at hl 0 rfl) ?_
  refine lv_iload_n hx hb (pc := 10) dJ2_get_10 rfl (lv_at hl 1 rfl) ?_
  refine j_callq (rest := []) hX (va_runV hC.fix (l_elem14 D T N l hL _ L i b hk0 hea he hL1 ⟨hi.1, hi.2.1⟩ hb_) (cwV 1 hC.ts (lw_V q611 q612 q613 q44 q614) rfl rfl rfl (by decide +kernel) ⟨Nat.le_of_ble_eq_true rfl, Nat.le_of_ble_eq_true rfl⟩) (j_preV hC hX (hL.ob 14 hk0) (ci := 7) (r := (RJ2, TJ2, 3)) rfl _) rfl rfl hl.1 rfl (Nat.le_of_ble_eq_true rfl) dJ2_get_11 ⟨(Nat.le_of_ble_eq_true rfl), (Nat.le_of_ble_eq_true rfl)⟩) (fun r3 g m4 H locs hp hle hX => ?_)
  obtain ⟨hn_, Z5, hL, hp⟩ := hp
  rw [hn_] at hX
  obtain ⟨hz_, hr_⟩ := hp
  rw [hz_] at hL
  rw [hr_]
  subst hQ
  exact j_aret (z := some (b)) hC (pc := 14) hX hr (Or.inl ⟨_, rfl⟩) hlk (Nat.le_of_ble_eq_true rfl) (Nat.le_of_ble_eq_true rfl) dJ2_get_14 ⟨rfl, _, hL, ⟨rfl, rfl⟩⟩

set_option maxHeartbeats 4000000 in
set_option maxRecDepth 100000 in
theorem l_clearE14 (D : va_G) (T N : Nat → Nat) (l : Launch) {g0 : GH} {S : LbS} {Z : Nat → Int → Int} (hL : lR T g0 S Z) (n : Nat)  (hk0 : zK S 14 = 27) (hea : zA S 14 1 = some (N 4)) (hs0 : Z 14 2 = 0) : Met l yJ2_clear (ws_ yJ2_clear cJ2_clear 4 none) ({ frames := 0, cells := 0, slots := 0, locals := 0 } : Room) (gPc D T N [.ref (zB S 14)] g0 n) (gQv D g0 n (fun g' n' => n' = n ∧ ∃ Z', lR T g' S Z' ∧ ch Z Z' [14] ∧ Z' 14 2 = 0)) 0 0 (gA g0 n) := by
  refine j_start (by decide) (Nat.le_of_ble_eq_true rfl) ?_
  intro p e s mi args below meth c hC hr hlk hnm hX ls hl
  have hC : Ct D T N (gA g0 n) p s mi args c cJ2_clear RJ2 4 := hC
  have hx := hC.x
  have hb := hC.b
  generalize hQ : MQ below _ args s 0 0 (gA g0 n) = Q
  have hl : lv_has ls 4 [(0, .ref (zB S 14))] := hl
  refine lv_aload_n hx hb (pc := 0) dJ2_clear_0 rfl (lv_at hl 0 rfl) ?_
  refine lv_dup hx hb (pc := 1) dJ2_clear_1 rfl ?_
  refine L_getM hC hX hL (pc := 2) 14 hk0 dJ2_clear_2 ?_
  refine j_iconst hC (pc := 5) dJ2_clear_5 ?_
  refine j_iadd hC (pc := 6) dJ2_clear_6 ?_
  refine L_putM hC hX hL (pc := 7) 14 hk0 (z := ((Z 14 0) + 1)) dJ2_clear_7 (fun g H locs hX hL => ?_)
  refine lv_aload_n hx hb (pc := 10) dJ2_clear_10 rfl (lv_at hl 0 rfl) ?_
  refine L_getr hC hX hL in_J2 (ci := 7) rfl (pc := 11) 14 hk0 1 (by decide) q119 rfl (q := zA S 14 1) (b := N 4) hea rfl dJ2_clear_11 ?_
  refine lv_astore_n (lv' := [(1, .ref (N 4)), (0, .ref (zB S 14))]) hx hb (pc := 14) dJ2_clear_14 rfl hl (by decide) rfl (fun ls hl => ?_)
  refine lv_aload_n hx hb (pc := 15) dJ2_clear_15 rfl (lv_at hl 1 rfl) ?_
  refine L_get hC hX hL in_J2 (ci := 7) rfl (pc := 16) 14 hk0 2 (by decide) q120 rfl (v := .int (iI ((uI (Z 14) 0 ((Z 14 0) + 1)) 2))) rfl dJ2_clear_16 ?_
  refine j_eqi (b := 0) ((uI_n (Z 14) (Z 14 0 + 1) (show (2 : Int) ≠ 0 by decide)).trans hs0) ?_
  refine lv_istore_n (lv' := [(2, .int (iI (0))), (1, .ref (N 4)), (0, .ref (zB S 14))]) hx hb (pc := 19) dJ2_clear_19 rfl hl (by decide) rfl (fun ls hl => ?_)
  refine lv_aload_n hx hb (pc := 20) dJ2_clear_20 rfl (lv_at hl 2 rfl) ?_
  refine j_iconst hC (pc := 21) dJ2_clear_21 ?_
  refine lv_dup_x1 hx hb (pc := 22) dJ2_clear_22 rfl rfl ?_
  refine L_put hC hX hL in_J2 tyJ2 tyJ2_ok nmJ2 (ci := 7) rfl (pc := 23) 14 hk0 2 (by decide) q120 rfl rfl rfl rfl (f := uI (uI (Z 14) 0 ((Z 14 0) + 1)) 2 0) (show 2 < 3 by decide) rfl dJ2_clear_23 (fun g H locs hX hL => ?_)
  refine lv_istore_n (lv' := [(3, .int (iI (0))), (2, .int (iI (0))), (1, .ref (N 4)), (0, .ref (zB S 14))]) hx hb (pc := 26) dJ2_clear_26 rfl hl (by decide) rfl (fun ls hl => ?_)
  refine lv_iload_n hx hb (pc := 27) dJ2_clear_27 rfl (lv_at hl 0 rfl) ?_
  refine lv_iload_n hx hb (pc := 28) dJ2_clear_28 rfl (lv_at hl 1 rfl) ?_
  refine j_icmp_ge hC (pc := 29) 42 dJ2_clear_29 (by decide) (by omega) (fun c1 => ?_) (fun c1 => ?_)
  · skip
    subst hQ
    exact j_vret hC (pc := 42) hX hr hlk (Nat.le_of_ble_eq_true rfl) (Nat.le_of_ble_eq_true rfl) dJ2_clear_42 ⟨rfl, _, hL, ⟨((ch.rf.up 14 _ (by decide)).up 14 _ (by decide)), rfl⟩⟩
  · skip
    exact absurd (by decide) c1

set_option maxHeartbeats 4000000 in
set_option maxRecDepth 100000 in
theorem l_clearN14 (D : va_G) (T N : Nat → Nat) (l : Launch) {g0 : GH} {S : LbS} {Z : Nat → Int → Int} (hL : lR T g0 S Z) (n : Nat) (L : Nat) (hk0 : zK S 14 = 27) (hea : zA S 14 1 = some (zB S 25)) (he : zK S 25 = 10 ∧ zN S 25 = L) (hL1 : L ≤ 100000) (hsz : 0 ≤ Z 14 2 ∧ Z 14 2 ≤ L) : Met l yJ2_clear (ws_ yJ2_clear cJ2_clear 4 none) ({ frames := 0, cells := 0, slots := 0, locals := 0 } : Room) (gPc D T N [.ref (zB S 14)] g0 n) (gQv D g0 n (fun g' n' => ∃ S' Z', lR T g' S' Z' ∧ (zB S' = zB S ∧ zK S' = zK S ∧ zN S' = zN S) ∧ (∀ k, k ≠ 25 → zA S' k = zA S k) ∧ ch Z Z' [14] ∧ Z' 14 2 = 0)) 0 0 (gA g0 n) := by
  refine j_start (by decide) (Nat.le_of_ble_eq_true rfl) ?_
  intro p e s mi args below meth c hC hr hlk hnm hX ls hl
  have hC : Ct D T N (gA g0 n) p s mi args c cJ2_clear RJ2 4 := hC
  have hx := hC.x
  have hb := hC.b
  generalize hQ : MQ below _ args s 0 0 (gA g0 n) = Q
  have hl : lv_has ls 4 [(0, .ref (zB S 14))] := hl
  obtain ⟨sz, hsz1⟩ : ∃ sz, Z 14 2 = sz := ⟨_, rfl⟩
  rw [hsz1] at hsz
  have hsz2 : uI (Z 14) 0 (Z 14 0 + 1) 2 = sz := (uI_n (Z 14) (Z 14 0 + 1) (show (2 : Int) ≠ 0 by decide)).trans hsz1
  refine lv_aload_n hx hb (pc := 0) dJ2_clear_0 rfl (lv_at hl 0 rfl) ?_
  refine lv_dup hx hb (pc := 1) dJ2_clear_1 rfl ?_
  refine L_getM hC hX hL (pc := 2) 14 hk0 dJ2_clear_2 ?_
  refine j_iconst hC (pc := 5) dJ2_clear_5 ?_
  refine j_iadd hC (pc := 6) dJ2_clear_6 ?_
  refine L_putM hC hX hL (pc := 7) 14 hk0 (z := ((Z 14 0) + 1)) dJ2_clear_7 (fun g H locs hX hL => ?_)
  refine lv_aload_n hx hb (pc := 10) dJ2_clear_10 rfl (lv_at hl 0 rfl) ?_
  refine L_getr hC hX hL in_J2 (ci := 7) rfl (pc := 11) 14 hk0 1 (by decide) q119 rfl (q := zA S 14 1) (b := zB S 25) hea rfl dJ2_clear_11 ?_
  refine lv_astore_n (lv' := [(1, .ref (zB S 25)), (0, .ref (zB S 14))]) hx hb (pc := 14) dJ2_clear_14 rfl hl (by decide) rfl (fun ls hl => ?_)
  refine lv_aload_n hx hb (pc := 15) dJ2_clear_15 rfl (lv_at hl 1 rfl) ?_
  refine L_get hC hX hL in_J2 (ci := 7) rfl (pc := 16) 14 hk0 2 (by decide) q120 rfl (v := .int (iI ((uI (Z 14) 0 ((Z 14 0) + 1)) 2))) rfl dJ2_clear_16 ?_
  refine j_eqi (b := sz) (hsz2) ?_
  refine lv_istore_n (lv' := [(2, .int (iI (sz))), (1, .ref (zB S 25)), (0, .ref (zB S 14))]) hx hb (pc := 19) dJ2_clear_19 rfl hl (by decide) rfl (fun ls hl => ?_)
  refine lv_aload_n hx hb (pc := 20) dJ2_clear_20 rfl (lv_at hl 2 rfl) ?_
  refine j_iconst hC (pc := 21) dJ2_clear_21 ?_
  refine lv_dup_x1 hx hb (pc := 22) dJ2_clear_22 rfl rfl ?_
  refine L_put hC hX hL in_J2 tyJ2 tyJ2_ok nmJ2 (ci := 7) rfl (pc := 23) 14 hk0 2 (by decide) q120 rfl rfl rfl rfl (f := uI (uI (Z 14) 0 ((Z 14 0) + 1)) 2 0) (show 2 < 3 by decide) rfl dJ2_clear_23 (fun g H locs hX hL => ?_)
  refine lv_istore_n (lv' := [(3, .int (iI (0))), (2, .int (iI (sz))), (1, .ref (zB S 25)), (0, .ref (zB S 14))]) hx hb (pc := 26) dJ2_clear_26 rfl hl (by decide) rfl (fun ls hl => ?_)
  have L27 : ∀ (fu : Nat) (i : Int) (g : GH) (nj27 : Nat) (S1 : LbS) (Z1 : Nat → Int → Int), sz - i < (fu : Int) → (0 ≤ i ∧ i ≤ sz) → (zB S1 = zB S ∧ zK S1 = zK S ∧ zN S1 = zN S) → (∀ k, k ≠ 25 → zA S1 k = zA S k) → (ch Z Z1 [14]) → (Z1 14 2 = 0) → ∀ (H : Heap) (locs : List Loc), Wd D (gA g0 n) s g nj27 H locs → lR T g S1 Z1 → ∀ (ls : Array Slot), lv_has ls 4 [(3, .int (iI (i))), (2, .int (iI (sz))), (1, .ref (zB S1 25)), (0, .ref (zB S1 14))] → W p l e ({ frames := 0, cells := 0, slots := 0, locals := 0 } : Room) s mi args below meth c H locs 0 0 Q (F0 mi 27 ls []) := by
    intro fu
    induction fu with
    | zero =>
      intro i g nj27 S1 Z1 hfu hi hpk hoa hcz h20 H locs hX hL ls hl
      exfalso
      omega
    | succ fu ih27 =>
      intro i g nj27 S1 Z1 hfu hi hpk hoa hcz h20 H locs hX hL ls hl
      have hk1 : zK S1 14 = 27 := by rw [hpk.2.1]; exact hk0
      have he1 : zK S1 25 = 10 := by rw [hpk.2.1]; exact he.1
      have hn1 : zN S1 25 = L := by rw [hpk.2.2]; exact he.2
      refine lv_iload_n hx hb (pc := 27) dJ2_clear_27 rfl (lv_at hl 0 rfl) ?_
      refine lv_iload_n hx hb (pc := 28) dJ2_clear_28 rfl (lv_at hl 1 rfl) ?_
      refine j_icmp_ge hC (pc := 29) 42 dJ2_clear_29 (by decide) (by omega) (fun c1 => ?_) (fun c1 => ?_)
      · skip
        subst hQ
        exact j_vret hC (pc := 42) hX hr hlk (Nat.le_of_ble_eq_true rfl) (Nat.le_of_ble_eq_true rfl) dJ2_clear_42 ⟨_, _, hL, ⟨hpk, hoa, hcz, h20⟩⟩
      · skip
        refine lv_aload_n hx hb (pc := 32) dJ2_clear_32 rfl (lv_at hl 2 rfl) ?_
        refine lv_iload_n hx hb (pc := 33) dJ2_clear_33 rfl (lv_at hl 0 rfl) ?_
        refine lv_null hx hb (pc := 34) dJ2_clear_34 ?_
        refine L_aastN hC hX hL (pc := 35) 25 9 he1 (by decide) rfl (L := L) hn1 (by omega) (by omega) dJ2_clear_35 (fun g H locs hX hL => ?_)
        refine j_iinc hC (pc := 36) (lv' := [(3, .int (iI (i + 1))), (2, .int (iI (sz))), (1, .ref (zB S1 25)), (0, .ref (zB S1 14))]) dJ2_clear_36 hl (k := 0) rfl (by decide) rfl (fun ls hl => ?_)
        refine j_goto hC (pc := 39) 27 dJ2_clear_39 (by decide) ?_
        exact ih27 (i + 1) _ _ _ _ (by omega) (by omega) (by exact hpk) (by exact (fun k hk => (va_up_ne _ _ hk).trans (hoa k hk))) (by exact hcz) (by exact h20) _ _ hX hL ls (lv_sub hl [0, 1, 2, 3] rfl)
  exact L27 (sz.toNat + 1) 0 _ _ _ _ (by omega) (by omega) ⟨rfl, rfl, rfl⟩ (fun _ _ => rfl) ((ch.rf.up 14 _ (by decide)).up 14 _ (by decide)) rfl _ _ hX hL ls (lv_sub hl [0, 1, 2, 3] rfl)
