/-! FairFightModel: a fight -/
set_option maxHeartbeats 4000000 in
set_option maxRecDepth 100000 in
theorem m3_winner (D : va_G) (T N : Nat → Nat) (l : Launch) {m : Nat} (F : Nat → Int) (V : Nat → Int → Int)  (hO : okS (V 6) (V 7)) : MMi D T N l yX3_winner (ws_ yX3_winner cX3_winner 1 (some .int)) ({ frames := 0, cells := 0, slots := 0, locals := 0 } : Room) m [] F V (fun r F' V' => r = winF (V 7) ∧ F' = F ∧ V' = V) := by
  intro g0 n hM
  refine j_start (by decide) (Nat.le_of_ble_eq_true rfl) ?_
  intro p e s mi args below meth c hC hr hlk hnm hX ls hl
  have hC : Ct D T N (gA g0 n) p s mi args c cX3_winner RX3 1 := hC
  have hx := hC.x
  have hb := hC.b
  have ho : off g0 g0 m 27 := off.rf
  generalize hQ : MQ below _ args s 0 0 (gA g0 n) = Q
  have hl : lv_has ls 1 [(0, .ref (m))] := hl
  have hu_0 := hO 0 (by omega) (by omega)
  have hu_1 := hO 1 (by omega) (by omega)
  have hu_2 := hO 2 (by omega) (by omega)
  have hu_3 := hO 3 (by omega) (by omega)
  have hu_4 := hO 4 (by omega) (by omega)
  have hu_5 := hO 5 (by omega) (by omega)
  have J29 : (¬ (V 7 0 = 0 ∧ V 7 1 = 0 ∧ V 7 2 = 0)) → ∀ (g : GH) (H : Heap) (locs : List Loc), Wd D (gA g0 n) s g n H locs → mR T g m F V → off g0 g m 27 → ∀ (ls : Array Slot), lv_has ls 1 [(0, .ref (m))] → W p l e ({ frames := 0, cells := 0, slots := 0, locals := 0 } : Room) s mi args below meth c H locs 0 0 Q (F0 mi 29 ls []) := by
    intro h29 g H locs hX hM ho ls hl
    refine lv_aload_n hx hb (pc := 29) dX3_winner_29 rfl (lv_at hl 0 rfl) ?_
    refine M_get hC hX hM (pc := 30) 12 (by decide) q900 rfl (v := .ref (m + 7)) rfl dX3_winner_30 ?_
    refine j_iconst hC (pc := 33) dX3_winner_33 ?_
    refine M_zald hC hX hM (pc := 34) (by omega) (z := V 7 3) rfl dX3_winner_34 ?_
    refine j_if_ne hC (pc := 35) 60 dX3_winner_35 (by decide) (by omega) (fun c1 => ?_) (fun c1 => ?_)
    · skip
      refine j_iconst hC (pc := 60) dX3_winner_60 ?_
      subst hQ
      exact j_iret hC (pc := 61) hX hr hlk (Nat.le_refl _) (Nat.le_refl _) dX3_winner_61 ⟨rfl, _, _, hM, ho, ⟨by unfold winF; (repeat' split) <;> omega, rfl, rfl⟩⟩
    · skip
      refine lv_aload_n hx hb (pc := 38) dX3_winner_38 rfl (lv_at hl 0 rfl) ?_
      refine M_get hC hX hM (pc := 39) 12 (by decide) q900 rfl (v := .ref (m + 7)) rfl dX3_winner_39 ?_
      refine j_iconst hC (pc := 42) dX3_winner_42 ?_
      refine M_zald hC hX hM (pc := 43) (by omega) (z := V 7 4) rfl dX3_winner_43 ?_
      refine j_if_ne hC (pc := 44) 60 dX3_winner_44 (by decide) (by omega) (fun c2 => ?_) (fun c2 => ?_)
      · skip
        refine j_iconst hC (pc := 60) dX3_winner_60 ?_
        subst hQ
        exact j_iret hC (pc := 61) hX hr hlk (Nat.le_refl _) (Nat.le_refl _) dX3_winner_61 ⟨rfl, _, _, hM, ho, ⟨by unfold winF; (repeat' split) <;> omega, rfl, rfl⟩⟩
      · skip
        refine lv_aload_n hx hb (pc := 47) dX3_winner_47 rfl (lv_at hl 0 rfl) ?_
        refine M_get hC hX hM (pc := 48) 12 (by decide) q900 rfl (v := .ref (m + 7)) rfl dX3_winner_48 ?_
        refine j_iconst hC (pc := 51) dX3_winner_51 ?_
        refine M_zald hC hX hM (pc := 52) (by omega) (z := V 7 5) rfl dX3_winner_52 ?_
        refine j_if_ne hC (pc := 53) 60 dX3_winner_53 (by decide) (by omega) (fun c3 => ?_) (fun c3 => ?_)
        · skip
          refine j_iconst hC (pc := 60) dX3_winner_60 ?_
          subst hQ
          exact j_iret hC (pc := 61) hX hr hlk (Nat.le_refl _) (Nat.le_refl _) dX3_winner_61 ⟨rfl, _, _, hM, ho, ⟨by unfold winF; (repeat' split) <;> omega, rfl, rfl⟩⟩
        · skip
          refine j_iconst hC (pc := 56) dX3_winner_56 ?_
          refine j_goto hC (pc := 57) 61 dX3_winner_57 (by decide) ?_
          subst hQ
          exact j_iret hC (pc := 61) hX hr hlk (Nat.le_refl _) (Nat.le_refl _) dX3_winner_61 ⟨rfl, _, _, hM, ho, ⟨by unfold winF; (repeat' split) <;> omega, rfl, rfl⟩⟩
  refine lv_aload_n hx hb (pc := 0) dX3_winner_0 rfl (lv_at hl 0 rfl) ?_
  refine M_get hC hX hM (pc := 1) 12 (by decide) q900 rfl (v := .ref (m + 7)) rfl dX3_winner_1 ?_
  refine j_iconst hC (pc := 4) dX3_winner_4 ?_
  refine M_zald hC hX hM (pc := 5) (by omega) (z := V 7 0) rfl dX3_winner_5 ?_
  refine j_if_ne hC (pc := 6) 29 dX3_winner_6 (by decide) (by omega) (fun c4 => ?_) (fun c4 => ?_)
  · skip
    exact J29  (by omega) _ _ _ hX hM ho ls (lv_sub hl [0] rfl)
  · skip
    refine lv_aload_n hx hb (pc := 9) dX3_winner_9 rfl (lv_at hl 0 rfl) ?_
    refine M_get hC hX hM (pc := 10) 12 (by decide) q900 rfl (v := .ref (m + 7)) rfl dX3_winner_10 ?_
    refine j_iconst hC (pc := 13) dX3_winner_13 ?_
    refine M_zald hC hX hM (pc := 14) (by omega) (z := V 7 1) rfl dX3_winner_14 ?_
    refine j_if_ne hC (pc := 15) 29 dX3_winner_15 (by decide) (by omega) (fun c5 => ?_) (fun c5 => ?_)
    · skip
      exact J29  (by omega) _ _ _ hX hM ho ls (lv_sub hl [0] rfl)
    · skip
      refine lv_aload_n hx hb (pc := 18) dX3_winner_18 rfl (lv_at hl 0 rfl) ?_
      refine M_get hC hX hM (pc := 19) 12 (by decide) q900 rfl (v := .ref (m + 7)) rfl dX3_winner_19 ?_
      refine j_iconst hC (pc := 22) dX3_winner_22 ?_
      refine M_zald hC hX hM (pc := 23) (by omega) (z := V 7 2) rfl dX3_winner_23 ?_
      refine j_if_ne hC (pc := 24) 29 dX3_winner_24 (by decide) (by omega) (fun c6 => ?_) (fun c6 => ?_)
      · skip
        exact J29  (by omega) _ _ _ hX hM ho ls (lv_sub hl [0] rfl)
      · skip
        refine j_iconst hC (pc := 27) dX3_winner_27 ?_
        subst hQ
        exact j_iret hC (pc := 28) hX hr hlk (Nat.le_refl _) (Nat.le_refl _) dX3_winner_28 ⟨rfl, _, _, hM, ho, ⟨by unfold winF; (repeat' split) <;> omega, rfl, rfl⟩⟩

set_option maxHeartbeats 4000000 in
set_option maxRecDepth 100000 in
theorem m3_hurts (D : va_G) (T N : Nat → Nat) (l : Launch) {m : Nat} (F : Nat → Int) (V : Nat → Int → Int) (k b : Int) (hO : okS (V 6) (V 7)) (hk : 0 ≤ k ∧ k < 6) (hb_ : 0 ≤ b ∧ b ≤ 100) : MMv D T N l yX3_hurts (ws_ yX3_hurts cX3_hurts 3 none) ({ frames := 0, cells := 0, slots := 0, locals := 0 } : Room) m [.int (iI (k)), .int (iI (b))] F V (fun F' V' => F' = F ∧ V' = va_up (va_up V 6 (huL (V 6) k b)) 7 (huU (V 6) (V 7) k b)) := by
  intro g0 n hM
  refine j_start (by decide) (Nat.le_of_ble_eq_true rfl) ?_
  intro p e s mi args below meth c hC hr hlk hnm hX ls hl
  have hC : Ct D T N (gA g0 n) p s mi args c cX3_hurts RX3 3 := hC
  have hx := hC.x
  have hb := hC.b
  have ho : off g0 g0 m 27 := off.rf
  generalize hQ : MQ below _ args s 0 0 (gA g0 n) = Q
  have hl : lv_has ls 3 [(0, .ref (m)), (1, .int (iI (k))), (2, .int (iI (b)))] := hl
  have hu_k := hO k (by omega) (by omega)
  refine lv_aload_n hx hb (pc := 0) dX3_hurts_0 rfl (lv_at hl 0 rfl) ?_
  refine M_get hC hX hM (pc := 1) 11 (by decide) q899 rfl (v := .ref (m + 6)) rfl dX3_hurts_1 ?_
  refine lv_iload_n hx hb (pc := 4) dX3_hurts_4 rfl (lv_at hl 1 rfl) ?_
  refine lv_aload_n hx hb (pc := 5) dX3_hurts_5 rfl (lv_at hl 0 rfl) ?_
  refine M_get hC hX hM (pc := 6) 11 (by decide) q899 rfl (v := .ref (m + 6)) rfl dX3_hurts_6 ?_
  refine lv_iload_n hx hb (pc := 9) dX3_hurts_9 rfl (lv_at hl 1 rfl) ?_
  refine M_iald hC hX hM (pc := 10) 6 (by decide) (L := 6) ⟨rfl, by decide⟩ (by omega) (z := V 6 k) rfl dX3_hurts_10 ?_
  refine lv_iload_n hx hb (pc := 11) dX3_hurts_11 rfl (lv_at hl 2 rfl) ?_
  refine j_icmp_le hC (pc := 12) 26 dX3_hurts_12 (by decide) (by omega) (fun c1 => ?_) (fun c1 => ?_)
  · skip
    refine j_iconst hC (pc := 26) dX3_hurts_26 ?_
    refine M_iast hC hX hM ho (pc := 27) 6 (by decide) (L := 6) ⟨rfl, by decide⟩ (by omega) dX3_hurts_27 (fun g H locs hX hM ho => ?_)
    refine lv_aload_n hx hb (pc := 28) dX3_hurts_28 rfl (lv_at hl 0 rfl) ?_
    refine M_get hC hX hM (pc := 29) 12 (by decide) q900 rfl (v := .ref (m + 7)) rfl dX3_hurts_29 ?_
    refine lv_iload_n hx hb (pc := 32) dX3_hurts_32 rfl (lv_at hl 1 rfl) ?_
    refine lv_aload_n hx hb (pc := 33) dX3_hurts_33 rfl (lv_at hl 0 rfl) ?_
    refine M_get hC hX hM (pc := 34) 11 (by decide) q899 rfl (v := .ref (m + 6)) rfl dX3_hurts_34 ?_
    refine lv_iload_n hx hb (pc := 37) dX3_hurts_37 rfl (lv_at hl 1 rfl) ?_
    refine M_iald hC hX hM (pc := 38) 6 (by decide) (L := 6) ⟨rfl, by decide⟩ (by omega) (z := (uI (V 6) k 0) k) rfl dX3_hurts_38 ?_
    refine j_eqi (b := 0) (uI_s _ _ _) ?_
    refine j_if_le hC (pc := 39) 46 dX3_hurts_39 (by decide) (by omega) (fun c2 => ?_) (fun c2 => ?_)
    · skip
      refine j_iconst hC (pc := 46) dX3_hurts_46 ?_
      refine M_zast hC hX hM ho (pc := 47) (by omega) (by omega) dX3_hurts_47 (fun g H locs hX hM ho => ?_)
      subst hQ
      exact j_vret hC (pc := 48) hX hr hlk (Nat.le_refl _) (Nat.le_refl _) dX3_hurts_48 ⟨rfl, _, _, hM, ho, ⟨rfl, by unfold huL huU; rw [if_neg (by omega), if_neg (by omega)]; rfl⟩⟩
    · skip
      refine j_iconst hC (pc := 42) dX3_hurts_42 ?_
      refine j_goto hC (pc := 43) 47 dX3_hurts_43 (by decide) ?_
      refine M_zast hC hX hM ho (pc := 47) (by omega) (by omega) dX3_hurts_47 (fun g H locs hX hM ho => ?_)
      subst hQ
      exact j_vret hC (pc := 48) hX hr hlk (Nat.le_refl _) (Nat.le_refl _) dX3_hurts_48 ⟨rfl, _, _, hM, ho, ⟨rfl, by exfalso; omega⟩⟩
  · skip
    refine lv_aload_n hx hb (pc := 15) dX3_hurts_15 rfl (lv_at hl 0 rfl) ?_
    refine M_get hC hX hM (pc := 16) 11 (by decide) q899 rfl (v := .ref (m + 6)) rfl dX3_hurts_16 ?_
    refine lv_iload_n hx hb (pc := 19) dX3_hurts_19 rfl (lv_at hl 1 rfl) ?_
    refine M_iald hC hX hM (pc := 20) 6 (by decide) (L := 6) ⟨rfl, by decide⟩ (by omega) (z := V 6 k) rfl dX3_hurts_20 ?_
    refine lv_iload_n hx hb (pc := 21) dX3_hurts_21 rfl (lv_at hl 2 rfl) ?_
    refine j_isub hC (pc := 22) dX3_hurts_22 ?_
    refine j_goto hC (pc := 23) 27 dX3_hurts_23 (by decide) ?_
    refine M_iast hC hX hM ho (pc := 27) 6 (by decide) (L := 6) ⟨rfl, by decide⟩ (by omega) dX3_hurts_27 (fun g H locs hX hM ho => ?_)
    refine lv_aload_n hx hb (pc := 28) dX3_hurts_28 rfl (lv_at hl 0 rfl) ?_
    refine M_get hC hX hM (pc := 29) 12 (by decide) q900 rfl (v := .ref (m + 7)) rfl dX3_hurts_29 ?_
    refine lv_iload_n hx hb (pc := 32) dX3_hurts_32 rfl (lv_at hl 1 rfl) ?_
    refine lv_aload_n hx hb (pc := 33) dX3_hurts_33 rfl (lv_at hl 0 rfl) ?_
    refine M_get hC hX hM (pc := 34) 11 (by decide) q899 rfl (v := .ref (m + 6)) rfl dX3_hurts_34 ?_
    refine lv_iload_n hx hb (pc := 37) dX3_hurts_37 rfl (lv_at hl 1 rfl) ?_
    refine M_iald hC hX hM (pc := 38) 6 (by decide) (L := 6) ⟨rfl, by decide⟩ (by omega) (z := (uI (V 6) k ((V 6 k) - b)) k) rfl dX3_hurts_38 ?_
    refine j_eqi (b := (V 6 k) - b) (uI_s _ _ _) ?_
    refine j_if_le hC (pc := 39) 46 dX3_hurts_39 (by decide) (by omega) (fun c3 => ?_) (fun c3 => ?_)
    · skip
      refine j_iconst hC (pc := 46) dX3_hurts_46 ?_
      refine M_zast hC hX hM ho (pc := 47) (by omega) (by omega) dX3_hurts_47 (fun g H locs hX hM ho => ?_)
      subst hQ
      exact j_vret hC (pc := 48) hX hr hlk (Nat.le_refl _) (Nat.le_refl _) dX3_hurts_48 ⟨rfl, _, _, hM, ho, ⟨rfl, by exfalso; omega⟩⟩
    · skip
      refine j_iconst hC (pc := 42) dX3_hurts_42 ?_
      refine j_goto hC (pc := 43) 47 dX3_hurts_43 (by decide) ?_
      refine M_zast hC hX hM ho (pc := 47) (by omega) (by omega) dX3_hurts_47 (fun g H locs hX hM ho => ?_)
      subst hQ
      exact j_vret hC (pc := 48) hX hr hlk (Nat.le_refl _) (Nat.le_refl _) dX3_hurts_48 ⟨rfl, _, _, hM, ho, ⟨rfl, by unfold huL huU; rw [if_pos (by omega), if_pos (by omega)]; rfl⟩⟩

set_option maxHeartbeats 4000000 in
set_option maxRecDepth 100000 in
theorem m3_target (D : va_G) (T N : Nat → Nat) (l : Launch) {m : Nat} (F : Nat → Int) (V : Nat → Int → Int) (o t : Int) (hO : okS (V 6) (V 7)) (ho_ : o = 0 ∨ o = 3) (ht : t = 0 ∨ t = 1) : MMi D T N l yX3_target (ws_ yX3_target cX3_target 5 (some .int)) ({ frames := 0, cells := 0, slots := 0, locals := 0 } : Room) m [.int (iI (o)), .int (iI (t))] F V (fun r F' V' => r = tgt (V 6) (V 7) t o ∧ F' = F ∧ V' = V) := by
  intro g0 n hM
  refine j_start (by decide) (Nat.le_of_ble_eq_true rfl) ?_
  intro p e s mi args below meth c hC hr hlk hnm hX ls hl
  have hC : Ct D T N (gA g0 n) p s mi args c cX3_target RX3 5 := hC
  have hx := hC.x
  have hb := hC.b
  have ho : off g0 g0 m 27 := off.rf
  generalize hQ : MQ below _ args s 0 0 (gA g0 n) = Q
  have hl : lv_has ls 5 [(0, .ref (m)), (1, .int (iI (o))), (2, .int (iI (t)))] := hl
  refine j_iconst hC (pc := 0) dX3_target_0 ?_
  refine lv_istore_n (lv' := [(3, .int (iI (-1))), (0, .ref (m)), (1, .int (iI (o))), (2, .int (iI (t)))]) hx hb (pc := 1) dX3_target_1 rfl hl (by decide) rfl (fun ls hl => ?_)
  refine lv_iload_n hx hb (pc := 2) dX3_target_2 rfl (lv_at hl 2 rfl) ?_
  refine lv_istore (lv' := [(4, .int (iI (o))), (3, .int (iI (-1))), (0, .ref (m)), (1, .int (iI (o))), (2, .int (iI (t)))]) hx hb (pc := 3) dX3_target_3 hl (by decide) rfl (fun ls hl => ?_)
  have L5 : ∀ (fu : Nat) (k : Int) (b : Int), o + 3 - k < (fu : Int) → (o ≤ k ∧ k ≤ o + 3) → (b = tst (V 6) (V 7) t o (k - o).toNat) → ∀ (g : GH) (H : Heap) (locs : List Loc), Wd D (gA g0 n) s g n H locs → mR T g m F V → off g0 g m 27 → ∀ (ls : Array Slot), lv_has ls 5 [(4, .int (iI (k))), (3, .int (iI (b))), (0, .ref (m)), (1, .int (iI (o))), (2, .int (iI (t)))] → W p l e ({ frames := 0, cells := 0, slots := 0, locals := 0 } : Room) s mi args below meth c H locs 0 0 Q (F0 mi 5 ls []) := by
    intro fu
    induction fu with
    | zero =>
      intro k b hfu hk hb_ g H locs hX hM ho ls hl
      exfalso
      omega
    | succ fu ih =>
      intro k b hfu hk hb_ g H locs hX hM ho ls hl
      have hr_ := tst_rg (L := V 6) (U := V 7) (ls := t) (o := o) (k - o).toNat
      rw [← hb_] at hr_
      refine lv_iload hx hb (pc := 5) dX3_target_5 (lv_at hl 0 rfl) ?_
      refine lv_iload_n hx hb (pc := 7) dX3_target_7 rfl (lv_at hl 3 rfl) ?_
      refine j_iconst hC (pc := 8) dX3_target_8 ?_
      refine j_iadd hC (pc := 9) dX3_target_9 ?_
      refine j_icmp_ge hC (pc := 10) 57 dX3_target_10 (by decide) (by omega) (fun c1 => ?_) (fun c1 => ?_)
      · skip
        refine lv_iload_n hx hb (pc := 57) dX3_target_57 rfl (lv_at hl 1 rfl) ?_
        subst hQ
        exact j_iret hC (pc := 58) hX hr hlk (Nat.le_refl _) (Nat.le_refl _) dX3_target_58 ⟨rfl, _, _, hM, ho, ⟨by show b = tst (V 6) (V 7) t o 3; rw [hb_, show (k - o).toNat = 3 by omega], rfl, rfl⟩⟩
      · skip
        refine lv_aload_n hx hb (pc := 13) dX3_target_13 rfl (lv_at hl 2 rfl) ?_
        refine M_get hC hX hM (pc := 14) 12 (by decide) q900 rfl (v := .ref (m + 7)) rfl dX3_target_14 ?_
        refine lv_iload hx hb (pc := 17) dX3_target_17 (lv_at hl 0 rfl) ?_
        refine M_zald hC hX hM (pc := 19) (by omega) (z := V 7 k) rfl dX3_target_19 ?_
        have hu_k := hO k (by omega) (by omega)
        refine j_if_eq hC (pc := 20) 51 dX3_target_20 (by decide) (by omega) (fun c2 => ?_) (fun c2 => ?_)
        · skip
          refine j_iinc hC (pc := 51) (lv' := [(4, .int (iI (k + 1))), (3, .int (iI (b))), (0, .ref (m)), (1, .int (iI (o))), (2, .int (iI (t)))]) dX3_target_51 hl (k := 0) rfl (by decide) rfl (fun ls hl => ?_)
          refine j_goto hC (pc := 54) 5 dX3_target_54 (by decide) ?_
          exact ih (k + 1) b (by omega) (by omega) (by rw [show (k + 1 - o).toNat = (k - o).toNat + 1 by omega]; show _ = tstep (V 6) (V 7) t (tst (V 6) (V 7) t o (k - o).toNat) (o + ((k - o).toNat : Int)); rw [← hb_, Int.toNat_of_nonneg (by omega), show o + (k - o) = k by omega]; unfold tstep; split <;> omega) _ _ _ hX hM ho ls (lv_sub hl [0, 1, 2, 3, 4] rfl)
        · skip
          refine lv_iload_n hx hb (pc := 23) dX3_target_23 rfl (lv_at hl 1 rfl) ?_
          refine j_iconst hC (pc := 24) dX3_target_24 ?_
          refine j_icmp_eq hC (pc := 25) 48 dX3_target_25 (by decide) (by omega) (fun c3 => ?_) (fun c3 => ?_)
          · skip
            refine lv_iload hx hb (pc := 48) dX3_target_48 (lv_at hl 0 rfl) ?_
            refine lv_istore_n (lv' := [(3, .int (iI (k))), (4, .int (iI (k))), (0, .ref (m)), (1, .int (iI (o))), (2, .int (iI (t)))]) hx hb (pc := 50) dX3_target_50 rfl hl (by decide) rfl (fun ls hl => ?_)
            refine j_iinc hC (pc := 51) (lv' := [(4, .int (iI (k + 1))), (3, .int (iI (k))), (0, .ref (m)), (1, .int (iI (o))), (2, .int (iI (t)))]) dX3_target_51 hl (k := 1) rfl (by decide) rfl (fun ls hl => ?_)
            refine j_goto hC (pc := 54) 5 dX3_target_54 (by decide) ?_
            exact ih (k + 1) k (by omega) (by omega) (by rw [show (k + 1 - o).toNat = (k - o).toNat + 1 by omega]; show _ = tstep (V 6) (V 7) t (tst (V 6) (V 7) t o (k - o).toNat) (o + ((k - o).toNat : Int)); rw [← hb_, Int.toNat_of_nonneg (by omega), show o + (k - o) = k by omega]; unfold tstep; split <;> omega) _ _ _ hX hM ho ls (lv_sub hl [0, 1, 2, 3, 4] rfl)
          · skip
            refine lv_iload_n hx hb (pc := 28) dX3_target_28 rfl (lv_at hl 4 rfl) ?_
            refine j_if_eq hC (pc := 29) 51 dX3_target_29 (by decide) (by omega) (fun c4 => ?_) (fun c4 => ?_)
            · skip
              refine j_iinc hC (pc := 51) (lv' := [(4, .int (iI (k + 1))), (3, .int (iI (b))), (0, .ref (m)), (1, .int (iI (o))), (2, .int (iI (t)))]) dX3_target_51 hl (k := 0) rfl (by decide) rfl (fun ls hl => ?_)
              refine j_goto hC (pc := 54) 5 dX3_target_54 (by decide) ?_
              exact ih (k + 1) b (by omega) (by omega) (by rw [show (k + 1 - o).toNat = (k - o).toNat + 1 by omega]; show _ = tstep (V 6) (V 7) t (tst (V 6) (V 7) t o (k - o).toNat) (o + ((k - o).toNat : Int)); rw [← hb_, Int.toNat_of_nonneg (by omega), show o + (k - o) = k by omega]; unfold tstep; split <;> omega) _ _ _ hX hM ho ls (lv_sub hl [0, 1, 2, 3, 4] rfl)
            · skip
              refine lv_aload_n hx hb (pc := 32) dX3_target_32 rfl (lv_at hl 2 rfl) ?_
              refine M_get hC hX hM (pc := 33) 11 (by decide) q899 rfl (v := .ref (m + 6)) rfl dX3_target_33 ?_
              refine lv_iload hx hb (pc := 36) dX3_target_36 (lv_at hl 0 rfl) ?_
              refine M_iald hC hX hM (pc := 38) 6 (by decide) (L := 6) ⟨rfl, by decide⟩ (by omega) (z := V 6 k) rfl dX3_target_38 ?_
              refine lv_aload_n hx hb (pc := 39) dX3_target_39 rfl (lv_at hl 2 rfl) ?_
              refine M_get hC hX hM (pc := 40) 11 (by decide) q899 rfl (v := .ref (m + 6)) rfl dX3_target_40 ?_
              refine lv_iload_n hx hb (pc := 43) dX3_target_43 rfl (lv_at hl 1 rfl) ?_
              refine M_iald hC hX hM (pc := 44) 6 (by decide) (L := 6) ⟨rfl, by decide⟩ (by omega) (z := V 6 b) rfl dX3_target_44 ?_
              have hu_b := hO b (by omega) (by omega)
              refine j_icmp_ge hC (pc := 45) 51 dX3_target_45 (by decide) (by omega) (fun c5 => ?_) (fun c5 => ?_)
              · skip
                refine j_iinc hC (pc := 51) (lv' := [(4, .int (iI (k + 1))), (3, .int (iI (b))), (0, .ref (m)), (1, .int (iI (o))), (2, .int (iI (t)))]) dX3_target_51 hl (k := 0) rfl (by decide) rfl (fun ls hl => ?_)
                refine j_goto hC (pc := 54) 5 dX3_target_54 (by decide) ?_
                exact ih (k + 1) b (by omega) (by omega) (by rw [show (k + 1 - o).toNat = (k - o).toNat + 1 by omega]; show _ = tstep (V 6) (V 7) t (tst (V 6) (V 7) t o (k - o).toNat) (o + ((k - o).toNat : Int)); rw [← hb_, Int.toNat_of_nonneg (by omega), show o + (k - o) = k by omega]; unfold tstep; split <;> omega) _ _ _ hX hM ho ls (lv_sub hl [0, 1, 2, 3, 4] rfl)
              · skip
                refine lv_iload hx hb (pc := 48) dX3_target_48 (lv_at hl 0 rfl) ?_
                refine lv_istore_n (lv' := [(3, .int (iI (k))), (4, .int (iI (k))), (0, .ref (m)), (1, .int (iI (o))), (2, .int (iI (t)))]) hx hb (pc := 50) dX3_target_50 rfl hl (by decide) rfl (fun ls hl => ?_)
                refine j_iinc hC (pc := 51) (lv' := [(4, .int (iI (k + 1))), (3, .int (iI (k))), (0, .ref (m)), (1, .int (iI (o))), (2, .int (iI (t)))]) dX3_target_51 hl (k := 1) rfl (by decide) rfl (fun ls hl => ?_)
                refine j_goto hC (pc := 54) 5 dX3_target_54 (by decide) ?_
                exact ih (k + 1) k (by omega) (by omega) (by rw [show (k + 1 - o).toNat = (k - o).toNat + 1 by omega]; show _ = tstep (V 6) (V 7) t (tst (V 6) (V 7) t o (k - o).toNat) (o + ((k - o).toNat : Int)); rw [← hb_, Int.toNat_of_nonneg (by omega), show o + (k - o) = k by omega]; unfold tstep; split <;> omega) _ _ _ hX hM ho ls (lv_sub hl [0, 1, 2, 3, 4] rfl)
  exact L5 ((o + 3 - o : Int).toNat + 1) o (-1) (by omega) (by omega) (by rw [show (o - o).toNat = 0 by omega]; rfl) _ _ _ hX hM ho ls (lv_sub hl [0, 1, 2, 3, 4] rfl)

set_option maxHeartbeats 4000000 in
set_option maxRecDepth 100000 in
theorem m3_hasTurn (D : va_G) (T N : Nat → Nat) (l : Launch) {m : Nat} (F : Nat → Int) (V : Nat → Int → Int) (k d : Int) (hO : okS (V 6) (V 7)) (hk : 0 ≤ k ∧ k < 6) (hd : 0 ≤ d ∧ d ≤ 100) (h8 : -1 ≤ F 8 ∧ F 8 ≤ 1) : MMi D T N l yX3_hasTurn (ws_ yX3_hasTurn cX3_hasTurn 3 (some .boolean)) ({ frames := 0, cells := 0, slots := 0, locals := 0 } : Room) m [.int (iI (k)), .int (iI (d))] F V (fun r F' V' => r = (if V 7 k = 0 ∨ (d = 0 ∧ F 8 = k / 3) then 0 else 1) ∧ F' = F ∧ V' = V) := by
  intro g0 n hM
  refine j_start (by decide) (Nat.le_of_ble_eq_true rfl) ?_
  intro p e s mi args below meth c hC hr hlk hnm hX ls hl
  have hC : Ct D T N (gA g0 n) p s mi args c cX3_hasTurn RX3 3 := hC
  have hx := hC.x
  have hb := hC.b
  have ho : off g0 g0 m 27 := off.rf
  generalize hQ : MQ below _ args s 0 0 (gA g0 n) = Q
  have hl : lv_has ls 3 [(0, .ref (m)), (1, .int (iI (k))), (2, .int (iI (d)))] := hl
  have hu_k := hO k (by omega) (by omega)
  refine lv_aload_n hx hb (pc := 0) dX3_hasTurn_0 rfl (lv_at hl 0 rfl) ?_
  refine M_get hC hX hM (pc := 1) 12 (by decide) q900 rfl (v := .ref (m + 7)) rfl dX3_hasTurn_1 ?_
  refine lv_iload_n hx hb (pc := 4) dX3_hasTurn_4 rfl (lv_at hl 1 rfl) ?_
  refine M_zald hC hX hM (pc := 5) (by omega) (z := V 7 k) rfl dX3_hasTurn_5 ?_
  refine j_if_eq hC (pc := 6) 27 dX3_hasTurn_6 (by decide) (by omega) (fun c1 => ?_) (fun c1 => ?_)
  · skip
    refine j_iconst hC (pc := 27) dX3_hasTurn_27 ?_
    subst hQ
    exact j_zret hC (pc := 28) hX hr hlk (Nat.le_refl _) (Nat.le_refl _) dX3_hasTurn_28 (by omega) ⟨rfl, _, _, hM, ho, ⟨by split <;> omega, rfl, rfl⟩⟩
  · skip
    refine lv_iload_n hx hb (pc := 9) dX3_hasTurn_9 rfl (lv_at hl 2 rfl) ?_
    refine j_if_ne hC (pc := 10) 23 dX3_hasTurn_10 (by decide) (by omega) (fun c2 => ?_) (fun c2 => ?_)
    · skip
      refine j_iconst hC (pc := 23) dX3_hasTurn_23 ?_
      refine j_goto hC (pc := 24) 28 dX3_hasTurn_24 (by decide) ?_
      subst hQ
      exact j_zret hC (pc := 28) hX hr hlk (Nat.le_refl _) (Nat.le_refl _) dX3_hasTurn_28 (by omega) ⟨rfl, _, _, hM, ho, ⟨by split <;> omega, rfl, rfl⟩⟩
    · skip
      refine lv_aload_n hx hb (pc := 13) dX3_hasTurn_13 rfl (lv_at hl 0 rfl) ?_
      refine M_get hC hX hM (pc := 14) 8 (by decide) q896 rfl (v := .int (iI (F 8))) rfl dX3_hasTurn_14 ?_
      refine lv_iload_n hx hb (pc := 17) dX3_hasTurn_17 rfl (lv_at hl 1 rfl) ?_
      refine j_iconst hC (pc := 18) dX3_hasTurn_18 ?_
      refine j_idiv hC (pc := 19) dX3_hasTurn_19 (by omega) ?_
      refine j_icmp_eq hC (pc := 20) 27 dX3_hasTurn_20 (by decide) (by omega) (fun c3 => ?_) (fun c3 => ?_)
      · skip
        refine j_iconst hC (pc := 27) dX3_hasTurn_27 ?_
        subst hQ
        exact j_zret hC (pc := 28) hX hr hlk (Nat.le_refl _) (Nat.le_refl _) dX3_hasTurn_28 (by omega) ⟨rfl, _, _, hM, ho, ⟨by split <;> omega, rfl, rfl⟩⟩
      · skip
        refine j_iconst hC (pc := 23) dX3_hasTurn_23 ?_
        refine j_goto hC (pc := 24) 28 dX3_hasTurn_24 (by decide) ?_
        subst hQ
        exact j_zret hC (pc := 28) hX hr hlk (Nat.le_refl _) (Nat.le_refl _) dX3_hasTurn_28 (by omega) ⟨rfl, _, _, hM, ho, ⟨by split <;> omega, rfl, rfl⟩⟩

set_option maxHeartbeats 4000000 in
set_option maxRecDepth 100000 in
theorem m3_flees (D : va_G) (T N : Nat → Nat) (l : Launch) {m : Nat} (F : Nat → Int) (V : Nat → Int → Int) (k : Int) (hI : SI F V) (hO : okS (V 6) (V 7)) (hk : 0 ≤ k ∧ k < 6) (hw_ : 0 ≤ V 3 k ∧ V 3 k < F 0) : MMi D T N l yX3_flees (ws_ yX3_flees cX3_flees 2 (some .boolean)) ({ frames := 0, cells := 0, slots := 0, locals := 0 } : Room) m [.int (iI (k))] F V (fun r F' V' => r = (if V 6 k ≤ V 1 (6 * V 3 k + 4) then 1 else 0) ∧ F' = F ∧ V' = V) := by
  intro g0 n hM
  refine j_start (by decide) (Nat.le_of_ble_eq_true rfl) ?_
  intro p e s mi args below meth c hC hr hlk hnm hX ls hl
  have hC : Ct D T N (gA g0 n) p s mi args c cX3_flees RX3 2 := hC
  have hx := hC.x
  have hb := hC.b
  have ho : off g0 g0 m 27 := off.rf
  generalize hQ : MQ below _ args s 0 0 (gA g0 n) = Q
  have hl : lv_has ls 2 [(0, .ref (m)), (1, .int (iI (k)))] := hl
  have hn := hI.nums
  have hu_k := hO k (by omega) (by omega)
  have hn_4 := numF_rg (hI.num (f := V 3 k) (w := 4) (by omega))
  refine lv_aload_n hx hb (pc := 0) dX3_flees_0 rfl (lv_at hl 0 rfl) ?_
  refine M_get hC hX hM (pc := 1) 11 (by decide) q899 rfl (v := .ref (m + 6)) rfl dX3_flees_1 ?_
  refine lv_iload_n hx hb (pc := 4) dX3_flees_4 rfl (lv_at hl 1 rfl) ?_
  refine M_iald hC hX hM (pc := 5) 6 (by decide) (L := 6) ⟨rfl, by decide⟩ (by omega) (z := V 6 k) rfl dX3_flees_5 ?_
  refine lv_aload_n hx hb (pc := 6) dX3_flees_6 rfl (lv_at hl 0 rfl) ?_
  refine M_get hC hX hM (pc := 7) 1 (by decide) q889 rfl (v := .ref (m + 1)) rfl dX3_flees_7 ?_
  refine j_bipush hC (pc := 10) dX3_flees_10 (by decide) ?_
  refine lv_aload_n hx hb (pc := 12) dX3_flees_12 rfl (lv_at hl 0 rfl) ?_
  refine M_get hC hX hM (pc := 13) 6 (by decide) q894 rfl (v := .ref (m + 3)) rfl dX3_flees_13 ?_
  refine lv_iload_n hx hb (pc := 16) dX3_flees_16 rfl (lv_at hl 1 rfl) ?_
  refine M_iald hC hX hM (pc := 17) 3 (by decide) (L := 6) ⟨rfl, by decide⟩ (by omega) (z := V 3 k) rfl dX3_flees_17 ?_
  refine j_imul hC (pc := 18) dX3_flees_18 ?_
  refine j_iconst hC (pc := 19) dX3_flees_19 ?_
  refine j_iadd hC (pc := 20) dX3_flees_20 ?_
  refine M_iald hC hX hM (pc := 21) 1 (by decide) (L := 96) ⟨rfl, by decide⟩ (by omega) (z := V 1 ((6 * (V 3 k)) + 4)) rfl dX3_flees_21 ?_
  refine j_icmp_gt hC (pc := 22) 29 dX3_flees_22 (by decide) (by omega) (fun c1 => ?_) (fun c1 => ?_)
  · skip
    refine j_iconst hC (pc := 29) dX3_flees_29 ?_
    subst hQ
    exact j_zret hC (pc := 30) hX hr hlk (Nat.le_refl _) (Nat.le_refl _) dX3_flees_30 (by omega) ⟨rfl, _, _, hM, ho, ⟨by split <;> omega, rfl, rfl⟩⟩
  · skip
    refine j_iconst hC (pc := 25) dX3_flees_25 ?_
    refine j_goto hC (pc := 26) 30 dX3_flees_26 (by decide) ?_
    subst hQ
    exact j_zret hC (pc := 30) hX hr hlk (Nat.le_refl _) (Nat.le_refl _) dX3_flees_30 (by omega) ⟨rfl, _, _, hM, ho, ⟨by split <;> omega, rfl, rfl⟩⟩

theorem win2 {U : Int → Int} (h : winF U = 2) : (U 0 ≠ 0 ∨ U 1 ≠ 0 ∨ U 2 ≠ 0) ∧ (U 3 ≠ 0 ∨ U 4 ≠ 0 ∨ U 5 ≠ 0) := by
  unfold winF at h
  (repeat' split at h) <;> omega
theorem tgt2 {L U : Int → Int} (h : winF U = 2) {o : Int} (ho : o = 0 ∨ o = 3) (t : Int) : o ≤ tgt L U t o ∧ tgt L U t o < o + 3 ∧ U (tgt L U t o) ≠ 0 := by
  have h2 := win2 h
  rcases ho with rfl | rfl
  · exact tgt_rg (by decide) h2.1
  · exact tgt_rg (by decide) h2.2
theorem otherF_rg (k : Int) : (otherF k = 0 ∨ otherF k = 3) ∧ (3 - otherF k = 0 ∨ 3 - otherF k = 3) := by unfold otherF; split <;> omega

theorem pk_rg {L U : Int → Int} (h : okS L U) {i : Int} (hi : 0 ≤ i ∧ i ≤ 6) : 0 ≤ pkF L U i.toNat ∧ pkF L U i.toNat < 68719476736 ∧ (i ≤ 5 → pkF L U i.toNat < 1073741824) := by
  have rg := pkF_rg (L := L) (U := U) i.toNat (fun k h1 h2 => by have := h k h1 (by omega); omega)
  refine ⟨rg.1, Int.lt_of_lt_of_le rg.2 ?_, fun q => Int.lt_of_lt_of_le rg.2 ?_⟩
  · have e : i.toNat = 0 ∨ i.toNat = 1 ∨ i.toNat = 2 ∨ i.toNat = 3 ∨ i.toNat = 4 ∨ i.toNat = 5 ∨ i.toNat = 6 := by omega
    rcases e with e | e | e | e | e | e | e <;> rw [e] <;> decide
  · have e : i.toNat = 0 ∨ i.toNat = 1 ∨ i.toNat = 2 ∨ i.toNat = 3 ∨ i.toNat = 4 ∨ i.toNat = 5 := by omega
    rcases e with e | e | e | e | e | e <;> rw [e] <;> decide

set_option maxHeartbeats 4000000 in
set_option maxRecDepth 100000 in
theorem m3_pack (D : va_G) (T N : Nat → Nat) (l : Launch) {m : Nat} (F : Nat → Int) (V : Nat → Int → Int)  (hO : okS (V 6) (V 7)) : MMl D T N l yX3_pack (ws_ yX3_pack cX3_pack 4 (some .long)) ({ frames := 0, cells := 0, slots := 0, locals := 0 } : Room) m [] F V (fun r F' V' => r = pkF (V 6) (V 7) 6 ∧ F' = F ∧ V' = V) := by
  intro g0 n hM
  refine j_start (by decide) (Nat.le_of_ble_eq_true rfl) ?_
  intro p e s mi args below meth c hC hr hlk hnm hX ls hl
  have hC : Ct D T N (gA g0 n) p s mi args c cX3_pack RX3 4 := hC
  have hx := hC.x
  have hb := hC.b
  have ho : off g0 g0 m 27 := off.rf
  generalize hQ : MQ below _ args s 0 0 (gA g0 n) = Q
  have hl : lv_has ls 4 [(0, .ref (m))] := hl
  refine j_lconst hC (pc := 0) (w := 0) dX3_pack_0 rfl ?_
  refine lv_lstore_n (lv' := [(1, .long (lI (0))), (0, .ref (m))]) hx hb (pc := 1) dX3_pack_1 rfl hl (by decide) rfl (fun ls hl => ?_)
  refine j_iconst hC (pc := 2) dX3_pack_2 ?_
  refine lv_istore_n (lv' := [(3, .int (iI (0))), (1, .long (lI (0))), (0, .ref (m))]) hx hb (pc := 3) dX3_pack_3 rfl hl (by decide) rfl (fun ls hl => ?_)
  have L4 : ∀ (fu : Nat) (i : Int) (v : Int), 6 - i < (fu : Int) → (0 ≤ i ∧ i ≤ 6) → (v = pkF (V 6) (V 7) i.toNat) → ∀ (g : GH) (H : Heap) (locs : List Loc), Wd D (gA g0 n) s g n H locs → mR T g m F V → off g0 g m 27 → ∀ (ls : Array Slot), lv_has ls 4 [(3, .int (iI (i))), (1, .long (lI (v))), (0, .ref (m))] → W p l e ({ frames := 0, cells := 0, slots := 0, locals := 0 } : Room) s mi args below meth c H locs 0 0 Q (F0 mi 4 ls []) := by
    intro fu
    induction fu with
    | zero =>
      intro i v hfu hi hv g H locs hX hM ho ls hl
      exfalso
      omega
    | succ fu ih =>
      intro i v hfu hi hv g H locs hX hM ho ls hl
      have hvr := pk_rg hO hi
      rw [← hv] at hvr
      refine lv_iload_n hx hb (pc := 4) dX3_pack_4 rfl (lv_at hl 0 rfl) ?_
      refine j_bipush hC (pc := 5) dX3_pack_5 (by decide) ?_
      refine j_icmp_ge hC (pc := 7) 47 dX3_pack_7 (by decide) (by omega) (fun c1 => ?_) (fun c1 => ?_)
      · skip
        refine lv_lload_n hx hb (pc := 47) dX3_pack_47 rfl (lv_at hl 1 rfl) ?_
        subst hQ
        exact j_lret hC (pc := 48) hX hr hlk (Nat.le_refl _) (Nat.le_refl _) dX3_pack_48 ⟨rfl, _, _, hM, ho, ⟨by rw [hv, show i.toNat = 6 by omega], rfl, rfl⟩⟩
      · skip
        refine lv_lload_n hx hb (pc := 10) dX3_pack_10 rfl (lv_at hl 1 rfl) ?_
        refine j_bipush hC (pc := 11) dX3_pack_11 (by decide) ?_
        refine j_lshl6 hC (pc := 13) dX3_pack_13 (by omega) ?_
        refine lv_aload_n hx hb (pc := 14) dX3_pack_14 rfl (lv_at hl 2 rfl) ?_
        refine M_get hC hX hM (pc := 15) 11 (by decide) q899 rfl (v := .ref (m + 6)) rfl dX3_pack_15 ?_
        have hu_i := hO i (by omega) (by omega)
        refine lv_iload_n hx hb (pc := 18) dX3_pack_18 rfl (lv_at hl 0 rfl) ?_
        refine M_iald hC hX hM (pc := 19) 6 (by decide) (L := 6) ⟨rfl, by decide⟩ (by omega) (z := V 6 i) rfl dX3_pack_19 ?_
        refine j_iconst hC (pc := 20) dX3_pack_20 ?_
        refine j_ishl1 hC (pc := 21) dX3_pack_21 ?_
        refine j_i2l hC (pc := 22) dX3_pack_22 (by omega) ?_
        refine j_lor hC (pc := 23) dX3_pack_23 (by omega) ?_
        refine lv_aload_n hx hb (pc := 24) dX3_pack_24 rfl (lv_at hl 2 rfl) ?_
        refine M_get hC hX hM (pc := 25) 12 (by decide) q900 rfl (v := .ref (m + 7)) rfl dX3_pack_25 ?_
        refine lv_iload_n hx hb (pc := 28) dX3_pack_28 rfl (lv_at hl 0 rfl) ?_
        refine M_zald hC hX hM (pc := 29) (by omega) (z := V 7 i) rfl dX3_pack_29 ?_
        refine j_if_eq hC (pc := 30) 37 dX3_pack_30 (by decide) (by omega) (fun c2 => ?_) (fun c2 => ?_)
        · skip
          refine j_iconst hC (pc := 37) dX3_pack_37 ?_
          refine j_i2l hC (pc := 38) dX3_pack_38 (by decide) ?_
          refine j_lor1 hC (pc := 39) dX3_pack_39 (by omega) ?_
          refine lv_lstore_n (lv' := [(1, .long (lI (((v * 64) + ((V 6 i) * 2)) + 0))), (3, .int (iI (i))), (0, .ref (m))]) hx hb (pc := 40) dX3_pack_40 rfl hl (by decide) rfl (fun ls hl => ?_)
          refine j_iinc hC (pc := 41) (lv' := [(3, .int (iI (i + 1))), (1, .long (lI (((v * 64) + ((V 6 i) * 2)) + 0))), (0, .ref (m))]) dX3_pack_41 hl (k := 1) rfl (by decide) rfl (fun ls hl => ?_)
          refine j_goto hC (pc := 44) 4 dX3_pack_44 (by decide) ?_
          exact ih (i + 1) (((v * 64) + ((V 6 i) * 2)) + 0) (by omega) (by omega) (by rw [show (i + 1).toNat = i.toNat + 1 by omega]; show _ = pkF (V 6) (V 7) i.toNat * 64 + (2 * V 6 (i.toNat : Int) + V 7 (i.toNat : Int)); rw [← hv, Int.toNat_of_nonneg (by omega)]; omega) _ _ _ hX hM ho ls (lv_sub hl [0, 1, 2] rfl)
        · skip
          refine j_iconst hC (pc := 33) dX3_pack_33 ?_
          refine j_goto hC (pc := 34) 38 dX3_pack_34 (by decide) ?_
          refine j_i2l hC (pc := 38) dX3_pack_38 (by decide) ?_
          refine j_lor1 hC (pc := 39) dX3_pack_39 (by omega) ?_
          refine lv_lstore_n (lv' := [(1, .long (lI (((v * 64) + ((V 6 i) * 2)) + 1))), (3, .int (iI (i))), (0, .ref (m))]) hx hb (pc := 40) dX3_pack_40 rfl hl (by decide) rfl (fun ls hl => ?_)
          refine j_iinc hC (pc := 41) (lv' := [(3, .int (iI (i + 1))), (1, .long (lI (((v * 64) + ((V 6 i) * 2)) + 1))), (0, .ref (m))]) dX3_pack_41 hl (k := 1) rfl (by decide) rfl (fun ls hl => ?_)
          refine j_goto hC (pc := 44) 4 dX3_pack_44 (by decide) ?_
          exact ih (i + 1) (((v * 64) + ((V 6 i) * 2)) + 1) (by omega) (by omega) (by rw [show (i + 1).toNat = i.toNat + 1 by omega]; show _ = pkF (V 6) (V 7) i.toNat * 64 + (2 * V 6 (i.toNat : Int) + V 7 (i.toNat : Int)); rw [← hv, Int.toNat_of_nonneg (by omega)]; omega) _ _ _ hX hM ho ls (lv_sub hl [0, 1, 2] rfl)
  exact L4 ((6 - 0 : Int).toNat + 1) 0 0 (by omega) (by omega) rfl _ _ _ hX hM ho ls (lv_sub hl [0, 1, 2] rfl)

set_option maxHeartbeats 4000000 in
set_option maxRecDepth 100000 in
theorem m3_unpack (D : va_G) (T N : Nat → Nat) (l : Launch) {m : Nat} (F : Nat → Int) (V : Nat → Int → Int) (x : Int) (hx_ : 0 ≤ x ∧ x < 68719476736) : MMv D T N l yX3_unpack (ws_ yX3_unpack cX3_unpack 6 none) ({ frames := 0, cells := 0, slots := 0, locals := 0 } : Room) m [.long (lI (x))] F V (fun F' V' => F' = F ∧ ch V V' [6, 7] ∧ ∀ k : Int, 0 ≤ k → k < 6 → V' 6 k = lfD x k ∧ V' 7 k = ufD x k) := by
  intro g0 n hM
  refine j_start (by decide) (Nat.le_of_ble_eq_true rfl) ?_
  intro p e s mi args below meth c hC hr hlk hnm hX ls hl
  have hC : Ct D T N (gA g0 n) p s mi args c cX3_unpack RX3 6 := hC
  have hx := hC.x
  have hb := hC.b
  have ho : off g0 g0 m 27 := off.rf
  generalize hQ : MQ below _ args s 0 0 (gA g0 n) = Q
  have hl : lv_has ls 6 [(0, .ref (m)), (1, .long (lI (x)))] := hl
  refine lv_lload_n hx hb (pc := 0) dX3_unpack_0 rfl (lv_at hl 1 rfl) ?_
  refine lv_lstore_n (lv' := [(3, .long (lI (x))), (0, .ref (m)), (1, .long (lI (x)))]) hx hb (pc := 1) dX3_unpack_1 rfl hl (by decide) rfl (fun ls hl => ?_)
  refine j_iconst hC (pc := 2) dX3_unpack_2 ?_
  refine lv_istore (lv' := [(5, .int (iI (5))), (3, .long (lI (x))), (0, .ref (m)), (1, .long (lI (x)))]) hx hb (pc := 3) dX3_unpack_3 hl (by decide) rfl (fun ls hl => ?_)
  have L5 : ∀ (fu : Nat) (i : Int) (v : Int) (V1 : Nat → Int → Int), i + 1 < (fu : Int) → (-1 ≤ i ∧ i ≤ 5) → (v = dgt x (5 - i).toNat) → (ch V V1 [6, 7]) → (∀ k : Int, i < k → k < 6 → V1 6 k = lfD x k ∧ V1 7 k = ufD x k) → ∀ (g : GH) (H : Heap) (locs : List Loc), Wd D (gA g0 n) s g n H locs → mR T g m F V1 → off g0 g m 27 → ∀ (ls : Array Slot), lv_has ls 6 [(5, .int (iI (i))), (3, .long (lI (v))), (0, .ref (m)), (1, .long (lI (x)))] → W p l e ({ frames := 0, cells := 0, slots := 0, locals := 0 } : Room) s mi args below meth c H locs 0 0 Q (F0 mi 5 ls []) := by
    intro fu
    induction fu with
    | zero =>
      intro i v V1 hfu hi hv hc hd g H locs hX hM ho ls hl
      exfalso
      omega
    | succ fu ih =>
      intro i v V1 hfu hi hv hc hd g H locs hX hM ho ls hl
      have hvr := dgt_rg (c := x) (by omega) (5 - i).toNat
      rw [← hv] at hvr
      refine lv_iload hx hb (pc := 5) dX3_unpack_5 (lv_at hl 0 rfl) ?_
      refine j_if_lt hC (pc := 7) 56 dX3_unpack_7 (by decide) (by omega) (fun c1 => ?_) (fun c1 => ?_)
      · skip
        subst hQ
        exact j_vret hC (pc := 56) hX hr hlk (Nat.le_refl _) (Nat.le_refl _) dX3_unpack_56 ⟨rfl, _, _, hM, ho, ⟨rfl, hc, fun k h1 h2 => hd k (by omega) h2⟩⟩
      · skip
        refine lv_aload_n hx hb (pc := 10) dX3_unpack_10 rfl (lv_at hl 2 rfl) ?_
        refine M_get hC hX hM (pc := 11) 12 (by decide) q900 rfl (v := .ref (m + 7)) rfl dX3_unpack_11 ?_
        refine lv_iload hx hb (pc := 14) dX3_unpack_14 (lv_at hl 0 rfl) ?_
        refine lv_lload_n hx hb (pc := 16) dX3_unpack_16 rfl (lv_at hl 1 rfl) ?_
        refine j_lconst hC (pc := 17) (w := 1) dX3_unpack_17 rfl ?_
        refine j_land1 hC (pc := 18) dX3_unpack_18 (by omega) ?_
        refine j_lconst hC (pc := 19) (w := 1) dX3_unpack_19 rfl ?_
        refine j_lcmp hC (pc := 20) dX3_unpack_20 (by omega) (fun z3 h2 => ?_)
        refine j_if_ne hC (pc := 21) 28 dX3_unpack_21 (by decide) (by omega) (fun c4 => ?_) (fun c4 => ?_)
        · skip
          refine j_iconst hC (pc := 28) dX3_unpack_28 ?_
          refine M_zast hC hX hM ho (pc := 29) (by omega) (by omega) dX3_unpack_29 (fun g H locs hX hM ho => ?_)
          refine lv_aload_n hx hb (pc := 30) dX3_unpack_30 rfl (lv_at hl 2 rfl) ?_
          refine M_get hC hX hM (pc := 31) 11 (by decide) q899 rfl (v := .ref (m + 6)) rfl dX3_unpack_31 ?_
          refine lv_iload hx hb (pc := 34) dX3_unpack_34 (lv_at hl 0 rfl) ?_
          refine lv_lload_n hx hb (pc := 36) dX3_unpack_36 rfl (lv_at hl 1 rfl) ?_
          refine j_iconst hC (pc := 37) dX3_unpack_37 ?_
          refine j_lshr1 hC (pc := 38) dX3_unpack_38 (by omega) ?_
          refine j_ldc2 hC (pc := 39) (z := 31) q1104 dX3_unpack_39 rfl ?_
          refine j_land31 hC (pc := 42) dX3_unpack_42 (by omega) ?_
          refine j_l2i hC (pc := 43) dX3_unpack_43 ?_
          refine M_iast hC hX hM ho (pc := 44) 6 (by decide) (L := 6) ⟨rfl, by decide⟩ (by omega) dX3_unpack_44 (fun g H locs hX hM ho => ?_)
          refine lv_lload_n hx hb (pc := 45) dX3_unpack_45 rfl (lv_at hl 1 rfl) ?_
          refine j_bipush hC (pc := 46) dX3_unpack_46 (by decide) ?_
          refine j_lshr6 hC (pc := 48) dX3_unpack_48 (by omega) ?_
          refine lv_lstore_n (lv' := [(3, .long (lI (v / 64))), (5, .int (iI (i))), (0, .ref (m)), (1, .long (lI (x)))]) hx hb (pc := 49) dX3_unpack_49 rfl hl (by decide) rfl (fun ls hl => ?_)
          refine j_iinc hC (pc := 50) (lv' := [(5, .int (iI (i + (-1)))), (3, .long (lI (v / 64))), (0, .ref (m)), (1, .long (lI (x)))]) dX3_unpack_50 hl (k := 1) rfl (by decide) rfl (fun ls hl => ?_)
          refine j_goto hC (pc := 53) 5 dX3_unpack_53 (by decide) ?_
          exact ih (i + (-1)) (v / 64) _ (by omega) (by omega) (by rw [show (5 - (i + -1)).toNat = (5 - i).toNat + 1 by omega, dgt_s, hv]) ((hc.up 7 _ (by decide)).up 6 _ (by decide)) (fun k h1 h2 => by rcases Decidable.em (k = i) with q | q; subst q; exact ⟨by show uI (V1 6) k _ k = _; rw [uI_s]; unfold lfD; rw [← hv], by show uI (V1 7) k _ k = _; rw [uI_s]; unfold ufD; rw [← hv]; omega⟩; exact ⟨by show uI (V1 6) i _ k = _; rw [uI_n _ _ q]; exact (hd k (by omega) h2).1, by show uI (V1 7) i _ k = _; rw [uI_n _ _ q]; exact (hd k (by omega) h2).2⟩) _ _ _ hX hM ho ls (lv_sub hl [0, 1, 2, 3] rfl)
        · skip
          refine j_iconst hC (pc := 24) dX3_unpack_24 ?_
          refine j_goto hC (pc := 25) 29 dX3_unpack_25 (by decide) ?_
          refine M_zast hC hX hM ho (pc := 29) (by omega) (by omega) dX3_unpack_29 (fun g H locs hX hM ho => ?_)
          refine lv_aload_n hx hb (pc := 30) dX3_unpack_30 rfl (lv_at hl 2 rfl) ?_
          refine M_get hC hX hM (pc := 31) 11 (by decide) q899 rfl (v := .ref (m + 6)) rfl dX3_unpack_31 ?_
          refine lv_iload hx hb (pc := 34) dX3_unpack_34 (lv_at hl 0 rfl) ?_
          refine lv_lload_n hx hb (pc := 36) dX3_unpack_36 rfl (lv_at hl 1 rfl) ?_
          refine j_iconst hC (pc := 37) dX3_unpack_37 ?_
          refine j_lshr1 hC (pc := 38) dX3_unpack_38 (by omega) ?_
          refine j_ldc2 hC (pc := 39) (z := 31) q1104 dX3_unpack_39 rfl ?_
          refine j_land31 hC (pc := 42) dX3_unpack_42 (by omega) ?_
          refine j_l2i hC (pc := 43) dX3_unpack_43 ?_
          refine M_iast hC hX hM ho (pc := 44) 6 (by decide) (L := 6) ⟨rfl, by decide⟩ (by omega) dX3_unpack_44 (fun g H locs hX hM ho => ?_)
          refine lv_lload_n hx hb (pc := 45) dX3_unpack_45 rfl (lv_at hl 1 rfl) ?_
          refine j_bipush hC (pc := 46) dX3_unpack_46 (by decide) ?_
          refine j_lshr6 hC (pc := 48) dX3_unpack_48 (by omega) ?_
          refine lv_lstore_n (lv' := [(3, .long (lI (v / 64))), (5, .int (iI (i))), (0, .ref (m)), (1, .long (lI (x)))]) hx hb (pc := 49) dX3_unpack_49 rfl hl (by decide) rfl (fun ls hl => ?_)
          refine j_iinc hC (pc := 50) (lv' := [(5, .int (iI (i + (-1)))), (3, .long (lI (v / 64))), (0, .ref (m)), (1, .long (lI (x)))]) dX3_unpack_50 hl (k := 1) rfl (by decide) rfl (fun ls hl => ?_)
          refine j_goto hC (pc := 53) 5 dX3_unpack_53 (by decide) ?_
          exact ih (i + (-1)) (v / 64) _ (by omega) (by omega) (by rw [show (5 - (i + -1)).toNat = (5 - i).toNat + 1 by omega, dgt_s, hv]) ((hc.up 7 _ (by decide)).up 6 _ (by decide)) (fun k h1 h2 => by rcases Decidable.em (k = i) with q | q; subst q; exact ⟨by show uI (V1 6) k _ k = _; rw [uI_s]; unfold lfD; rw [← hv], by show uI (V1 7) k _ k = _; rw [uI_s]; unfold ufD; rw [← hv]; omega⟩; exact ⟨by show uI (V1 6) i _ k = _; rw [uI_n _ _ q]; exact (hd k (by omega) h2).1, by show uI (V1 7) i _ k = _; rw [uI_n _ _ q]; exact (hd k (by omega) h2).2⟩) _ _ _ hX hM ho ls (lv_sub hl [0, 1, 2, 3] rfl)
  exact L5 ((5 + 1 : Int).toNat + 1) 5 x _ (by omega) (by omega) (by rw [show (5 - 5 : Int).toNat = 0 from rfl, dgt_0]) ch.rf (fun k h1 h2 => by omega) _ _ _ hX hM ho ls (lv_sub hl [0, 1, 2, 3] rfl)

set_option maxHeartbeats 4000000 in
set_option maxRecDepth 100000 in
theorem m3_counts (D : va_G) (T N : Nat → Nat) (l : Launch) {m : Nat} (F : Nat → Int) (V : Nat → Int → Int) (x d n_ : Int) (hO : okS (V 6) (V 7)) (hx_ : 0 ≤ x ∧ x ≤ 2) (hd : 0 ≤ d ∧ d ≤ 6) : MMv D T N l yX3_counts (ws_ yX3_counts cX3_counts 6 none) ({ frames := 0, cells := 0, slots := 0, locals := 0 } : Room) m [.int (iI (x)), .int (iI (d)), .long (lI (n_))] F V (fun F' V' => F' = F ∧ ch V V' [13, 14, 15] ∧ V' 13 = uI (V 13) x (V 13 x + n_) ∧ V' 14 = (if x < 2 then uI (V 14) d (V 14 d + n_) else V 14) ∧ V' 15 = cLf (V 15) (V 6) (V 7) n_ 6) := by
  intro g0 n hM
  refine j_start (by decide) (Nat.le_of_ble_eq_true rfl) ?_
  intro p e s mi args below meth c hC hr hlk hnm hX ls hl
  have hC : Ct D T N (gA g0 n) p s mi args c cX3_counts RX3 6 := hC
  have hx := hC.x
  have hb := hC.b
  have ho : off g0 g0 m 27 := off.rf
  generalize hQ : MQ below _ args s 0 0 (gA g0 n) = Q
  have hl : lv_has ls 6 [(0, .ref (m)), (1, .int (iI (x))), (2, .int (iI (d))), (3, .long (lI (n_)))] := hl
  refine lv_aload_n hx hb (pc := 0) dX3_counts_0 rfl (lv_at hl 0 rfl) ?_
  refine M_get hC hX hM (pc := 1) 20 (by decide) q908 rfl (v := .ref (m + 13)) rfl dX3_counts_1 ?_
  refine lv_iload_n hx hb (pc := 4) dX3_counts_4 rfl (lv_at hl 1 rfl) ?_
  refine lv_dup2_11 hx hb (pc := 5) dX3_counts_5 rfl rfl ?_
  refine M_lald hC hX hM (pc := 6) 13 (by decide) (L := 3) ⟨rfl, by decide⟩ (by omega) (z := V 13 x) rfl dX3_counts_6 ?_
  refine lv_lload_n hx hb (pc := 7) dX3_counts_7 rfl (lv_at hl 3 rfl) ?_
  refine j_ladd hC (pc := 8) dX3_counts_8 ?_
  refine M_last hC hX hM ho (pc := 9) 13 (by decide) (L := 3) ⟨rfl, by decide⟩ (by omega) dX3_counts_9 (fun g H locs hX hM ho => ?_)
  have J25 : ∀ (V0 : Nat → Int → Int), (ch V V0 [13, 14]) → (V0 13 = uI (V 13) x (V 13 x + n_)) → (V0 14 = (if x < 2 then uI (V 14) d (V 14 d + n_) else V 14)) → ∀ (g : GH) (H : Heap) (locs : List Loc), Wd D (gA g0 n) s g n H locs → mR T g m F V0 → off g0 g m 27 → ∀ (ls : Array Slot), lv_has ls 6 [(0, .ref (m)), (1, .int (iI (x))), (2, .int (iI (d))), (3, .long (lI (n_)))] → W p l e ({ frames := 0, cells := 0, slots := 0, locals := 0 } : Room) s mi args below meth c H locs 0 0 Q (F0 mi 25 ls []) := by
    intro V0 hc h13 h14 g H locs hX hM ho ls hl
    have e6 : V0 6 = V 6 := hc 6 (by decide)
    have e7 : V0 7 = V 7 := hc 7 (by decide)
    have e15 : V0 15 = V 15 := hc 15 (by decide)
    refine j_iconst hC (pc := 25) dX3_counts_25 ?_
    refine lv_istore (lv' := [(5, .int (iI (0))), (0, .ref (m)), (1, .int (iI (x))), (2, .int (iI (d))), (3, .long (lI (n_)))]) hx hb (pc := 26) dX3_counts_26 hl (by decide) rfl (fun ls hl => ?_)
    have L28 : ∀ (fu : Nat) (i : Int) (V1 : Nat → Int → Int), 6 - i < (fu : Int) → (0 ≤ i ∧ i ≤ 6) → (ch V0 V1 [15]) → (V1 15 = cLf (V 15) (V 6) (V 7) n_ i.toNat) → ∀ (g : GH) (H : Heap) (locs : List Loc), Wd D (gA g0 n) s g n H locs → mR T g m F V1 → off g0 g m 27 → ∀ (ls : Array Slot), lv_has ls 6 [(5, .int (iI (i))), (0, .ref (m)), (1, .int (iI (x))), (2, .int (iI (d))), (3, .long (lI (n_)))] → W p l e ({ frames := 0, cells := 0, slots := 0, locals := 0 } : Room) s mi args below meth c H locs 0 0 Q (F0 mi 28 ls []) := by
      intro fu
      induction fu with
      | zero =>
        intro i V1 hfu hi hc1 h15 g H locs hX hM ho ls hl
        exfalso
        omega
      | succ fu ih =>
        intro i V1 hfu hi hc1 h15 g H locs hX hM ho ls hl
        have f6 : V1 6 = V 6 := (hc1 6 (by decide)).trans e6
        have f7 : V1 7 = V 7 := (hc1 7 (by decide)).trans e7
        refine lv_iload hx hb (pc := 28) dX3_counts_28 (lv_at hl 0 rfl) ?_
        refine j_bipush hC (pc := 30) dX3_counts_30 (by decide) ?_
        refine j_icmp_ge hC (pc := 32) 81 dX3_counts_32 (by decide) (by omega) (fun c1 => ?_) (fun c1 => ?_)
        · skip
          subst hQ
          exact j_vret hC (pc := 81) hX hr hlk (Nat.le_refl _) (Nat.le_refl _) dX3_counts_81 ⟨rfl, _, _, hM, ho, ⟨rfl, fun j hj => (hc1 j (fun z => hj (by simp at z; simp [z]))).trans (hc j (fun z => hj (by simp at z ⊢; omega))), (hc1 13 (by decide)).trans h13, (hc1 14 (by decide)).trans h14, by rw [h15, show i.toNat = 6 by omega]⟩⟩
        · skip
          refine lv_aload_n hx hb (pc := 35) dX3_counts_35 rfl (lv_at hl 1 rfl) ?_
          refine M_get hC hX hM (pc := 36) 22 (by decide) q910 rfl (v := .ref (m + 15)) rfl dX3_counts_36 ?_
          refine j_bipush hC (pc := 39) dX3_counts_39 (by decide) ?_
          refine lv_iload hx hb (pc := 41) dX3_counts_41 (lv_at hl 0 rfl) ?_
          refine j_imul hC (pc := 43) dX3_counts_43 ?_
          refine j_iconst hC (pc := 44) dX3_counts_44 ?_
          refine lv_aload_n hx hb (pc := 45) dX3_counts_45 rfl (lv_at hl 1 rfl) ?_
          refine M_get hC hX hM (pc := 46) 11 (by decide) q899 rfl (v := .ref (m + 6)) rfl dX3_counts_46 ?_
          have hu_i := hO i (by omega) (by omega)
          refine lv_iload hx hb (pc := 49) dX3_counts_49 (lv_at hl 0 rfl) ?_
          refine M_iald hC hX hM (pc := 51) 6 (by decide) (L := 6) ⟨rfl, by decide⟩ (by omega) (z := V1 6 i) rfl dX3_counts_51 ?_
          refine j_eqi (b := V 6 i) (by rw [f6]) ?_
          refine j_imul hC (pc := 52) dX3_counts_52 ?_
          refine j_iadd hC (pc := 53) dX3_counts_53 ?_
          refine lv_aload_n hx hb (pc := 54) dX3_counts_54 rfl (lv_at hl 1 rfl) ?_
          refine M_get hC hX hM (pc := 55) 12 (by decide) q900 rfl (v := .ref (m + 7)) rfl dX3_counts_55 ?_
          refine lv_iload hx hb (pc := 58) dX3_counts_58 (lv_at hl 0 rfl) ?_
          refine M_zald hC hX hM (pc := 60) (by omega) (z := V1 7 i) rfl dX3_counts_60 ?_
          refine j_eqi (b := V 7 i) (by rw [f7]) ?_
          refine j_if_eq hC (pc := 61) 68 dX3_counts_61 (by decide) (by omega) (fun c2 => ?_) (fun c2 => ?_)
          · skip
            refine j_iconst hC (pc := 68) dX3_counts_68 ?_
            refine j_iadd hC (pc := 69) dX3_counts_69 ?_
            refine lv_dup2_11 hx hb (pc := 70) dX3_counts_70 rfl rfl ?_
            refine M_lald hC hX hM (pc := 71) 15 (by decide) (L := 252) ⟨rfl, by decide⟩ (by omega) (z := V1 15 (((42 * i) + (2 * (V 6 i))) + 0)) rfl dX3_counts_71 ?_
            refine lv_lload_n hx hb (pc := 72) dX3_counts_72 rfl (lv_at hl 4 rfl) ?_
            refine j_ladd hC (pc := 73) dX3_counts_73 ?_
            refine M_last hC hX hM ho (pc := 74) 15 (by decide) (L := 252) ⟨rfl, by decide⟩ (by omega) dX3_counts_74 (fun g H locs hX hM ho => ?_)
            refine j_iinc hC (pc := 75) (lv' := [(5, .int (iI (i + 1))), (0, .ref (m)), (1, .int (iI (x))), (2, .int (iI (d))), (3, .long (lI (n_)))]) dX3_counts_75 hl (k := 0) rfl (by decide) rfl (fun ls hl => ?_)
            refine j_goto hC (pc := 78) 28 dX3_counts_78 (by decide) ?_
            exact ih (i + 1) _ (by omega) (by omega) (hc1.up 15 _ (by decide)) (by rw [va_up_self, h15, show (i + 1).toNat = i.toNat + 1 by omega]; show _ = uI (cLf (V 15) (V 6) (V 7) n_ i.toNat) (42 * (i.toNat : Int) + 2 * V 6 (i.toNat : Int) + V 7 (i.toNat : Int)) (cLf (V 15) (V 6) (V 7) n_ i.toNat (42 * (i.toNat : Int) + 2 * V 6 (i.toNat : Int) + V 7 (i.toNat : Int)) + n_); rw [Int.toNat_of_nonneg (by omega), show V 7 i = (0 : Int) by omega]) _ _ _ hX hM ho ls (lv_sub hl [0, 1, 2, 3, 4] rfl)
          · skip
            refine j_iconst hC (pc := 64) dX3_counts_64 ?_
            refine j_goto hC (pc := 65) 69 dX3_counts_65 (by decide) ?_
            refine j_iadd hC (pc := 69) dX3_counts_69 ?_
            refine lv_dup2_11 hx hb (pc := 70) dX3_counts_70 rfl rfl ?_
            refine M_lald hC hX hM (pc := 71) 15 (by decide) (L := 252) ⟨rfl, by decide⟩ (by omega) (z := V1 15 (((42 * i) + (2 * (V 6 i))) + 1)) rfl dX3_counts_71 ?_
            refine lv_lload_n hx hb (pc := 72) dX3_counts_72 rfl (lv_at hl 4 rfl) ?_
            refine j_ladd hC (pc := 73) dX3_counts_73 ?_
            refine M_last hC hX hM ho (pc := 74) 15 (by decide) (L := 252) ⟨rfl, by decide⟩ (by omega) dX3_counts_74 (fun g H locs hX hM ho => ?_)
            refine j_iinc hC (pc := 75) (lv' := [(5, .int (iI (i + 1))), (0, .ref (m)), (1, .int (iI (x))), (2, .int (iI (d))), (3, .long (lI (n_)))]) dX3_counts_75 hl (k := 0) rfl (by decide) rfl (fun ls hl => ?_)
            refine j_goto hC (pc := 78) 28 dX3_counts_78 (by decide) ?_
            exact ih (i + 1) _ (by omega) (by omega) (hc1.up 15 _ (by decide)) (by rw [va_up_self, h15, show (i + 1).toNat = i.toNat + 1 by omega]; show _ = uI (cLf (V 15) (V 6) (V 7) n_ i.toNat) (42 * (i.toNat : Int) + 2 * V 6 (i.toNat : Int) + V 7 (i.toNat : Int)) (cLf (V 15) (V 6) (V 7) n_ i.toNat (42 * (i.toNat : Int) + 2 * V 6 (i.toNat : Int) + V 7 (i.toNat : Int)) + n_); rw [Int.toNat_of_nonneg (by omega), show V 7 i = (1 : Int) by omega]) _ _ _ hX hM ho ls (lv_sub hl [0, 1, 2, 3, 4] rfl)
    exact L28 ((6 - 0 : Int).toNat + 1) 0 _ (by omega) (by omega) ch.rf e15 _ _ _ hX hM ho ls (lv_sub hl [0, 1, 2, 3, 4] rfl)
  refine lv_iload_n hx hb (pc := 10) dX3_counts_10 rfl (lv_at hl 1 rfl) ?_
  refine j_iconst hC (pc := 11) dX3_counts_11 ?_
  refine j_icmp_ge hC (pc := 12) 25 dX3_counts_12 (by decide) (by omega) (fun c3 => ?_) (fun c3 => ?_)
  · skip
    exact J25  _ (ch.rf.up 13 _ (by decide)) rfl (by rw [if_neg (by omega)]; rfl) _ _ _ hX hM ho ls (lv_sub hl [0, 1, 2, 3] rfl)
  · skip
    refine lv_aload_n hx hb (pc := 15) dX3_counts_15 rfl (lv_at hl 0 rfl) ?_
    refine M_get hC hX hM (pc := 16) 21 (by decide) q909 rfl (v := .ref (m + 14)) rfl dX3_counts_16 ?_
    refine lv_iload_n hx hb (pc := 19) dX3_counts_19 rfl (lv_at hl 2 rfl) ?_
    refine lv_dup2_11 hx hb (pc := 20) dX3_counts_20 rfl rfl ?_
    refine M_lald hC hX hM (pc := 21) 14 (by decide) (L := 7) ⟨rfl, by decide⟩ (by omega) (z := V 14 d) rfl dX3_counts_21 ?_
    refine lv_lload_n hx hb (pc := 22) dX3_counts_22 rfl (lv_at hl 3 rfl) ?_
    refine j_ladd hC (pc := 23) dX3_counts_23 ?_
    refine M_last hC hX hM ho (pc := 24) 14 (by decide) (L := 7) ⟨rfl, by decide⟩ (by omega) dX3_counts_24 (fun g H locs hX hM ho => ?_)
    exact J25  _ ((ch.rf.up 13 _ (by decide)).up 14 _ (by decide)) rfl (by rw [if_pos (by omega)]; rfl) _ _ _ hX hM ho ls (lv_sub hl [0, 1, 2, 3] rfl)

set_option maxHeartbeats 4000000 in
set_option maxRecDepth 100000 in
theorem m3_slotsNow (D : va_G) (T N : Nat → Nat) (l : Launch) {m : Nat} (F : Nat → Int) (V : Nat → Int → Int)   : MMi D T N l yX3_slotsNow (ws_ yX3_slotsNow cX3_slotsNow 1 (some .int)) ({ frames := 0, cells := 0, slots := 0, locals := 0 } : Room) m [] F V (fun r F' V' => r = F 3 * F 9 ∧ F' = F ∧ V' = V) := by
  intro g0 n hM
  refine j_start (by decide) (Nat.le_of_ble_eq_true rfl) ?_
  intro p e s mi args below meth c hC hr hlk hnm hX ls hl
  have hC : Ct D T N (gA g0 n) p s mi args c cX3_slotsNow RX3 1 := hC
  have hx := hC.x
  have hb := hC.b
  have ho : off g0 g0 m 27 := off.rf
  generalize hQ : MQ below _ args s 0 0 (gA g0 n) = Q
  have hl : lv_has ls 1 [(0, .ref (m))] := hl
  refine lv_aload_n hx hb (pc := 0) dX3_slotsNow_0 rfl (lv_at hl 0 rfl) ?_
  refine M_get hC hX hM (pc := 1) 3 (by decide) q891 rfl (v := .int (iI (F 3))) rfl dX3_slotsNow_1 ?_
  refine lv_aload_n hx hb (pc := 4) dX3_slotsNow_4 rfl (lv_at hl 0 rfl) ?_
  refine M_get hC hX hM (pc := 5) 9 (by decide) q897 rfl (v := .int (iI (F 9))) rfl dX3_slotsNow_5 ?_
  refine j_imul hC (pc := 8) dX3_slotsNow_8 ?_
  subst hQ
  exact j_iret hC (pc := 9) hX hr hlk (Nat.le_refl _) (Nat.le_refl _) dX3_slotsNow_9 ⟨rfl, _, _, hM, ho, ⟨rfl, rfl, rfl⟩⟩
