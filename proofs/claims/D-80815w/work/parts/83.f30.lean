/-! FairFight's constructor -/
set_option maxHeartbeats 4000000 in
set_option maxRecDepth 100000 in
theorem t_initE5 (D : va_G) (T N : Nat → Nat) (l : Launch) {g0 : GH} {S : LbS} {Z : Nat → Int → Int} (hL : lR T g0 S Z) (n : Nat)  (hk0 : zK S 5 = 21) : Met l yX1_init (ws_ yX1_init cX1_init 1 none) ({ frames := 1, cells := 3, slots := 4498, locals := 12 } : Room) (gPc D T N [.ref (zB S 5)] g0 n) (gQv D g0 n (fun g' n' => ∃ S' Z', lR T g' S' Z' ∧ n' = n + 3 ∧ S' = uA (uN (uA (uN (uA (uN S 6 n 2 2048) 5 (uI (zA S 5) 0 (some (n)))) 7 (n + 1) 2 2048) 5 (uI (uI (zA S 5) 0 (some (n))) 1 (some (n + 1)))) 8 (n + 2) 1 402) 5 (uI (uI (uI (zA S 5) 0 (some (n))) 1 (some (n + 1))) 2 (some (n + 2))) ∧ Z' = va_up (va_up (va_up Z 6 (fun _ => 0)) 7 (fun _ => 0)) 8 (fun _ => 0))) 3 4498 (gA g0 n) := by
  refine j_start (by decide) (Nat.le_of_ble_eq_true rfl) ?_
  intro p e s mi args below meth c hC hr hlk hnm hX ls hl
  have hC : Ct D T N (gA g0 n) p s mi args c cX1_init RX1 1 := hC
  have hx := hC.x
  have hb := hC.b
  generalize hQ : MQ below _ args s 3 4498 (gA g0 n) = Q
  have hl : lv_has ls 1 [(0, .ref (zB S 5))] := hl
  refine lv_aload_n hx hb (pc := 0) dX1_init_0 rfl (lv_at hl 0 rfl) ?_
  refine j_objInit hC (pc := 1) q85 hl.1 (Nat.le_of_ble_eq_true rfl) (Nat.le_of_ble_eq_true rfl) dX1_init_1 ?_
  refine lv_aload_n hx hb (pc := 4) dX1_init_4 rfl (lv_at hl 0 rfl) ?_
  refine j_sipush hC (pc := 5) dX1_init_5 (by decide) ?_
  refine L_newL hC hX hL (pc := 8) 6 (k := 2048) rfl (by decide) (Nat.le_of_ble_eq_true rfl) (Nat.le_of_ble_eq_true rfl) dX1_init_8 (fun g H hX hL => ?_)
  refine L_putAF hC hX hL in_X1 tyX1 tyX1_ok nmX1 (ci := 1) rfl (pc := 10) 5 hk0 0 (by decide) q86 rfl rfl hnm rfl rfl rfl (f := uI (zA S 5) 0 (some (n))) (show 0 < 4 by decide) rfl dX1_init_10 (fun g H locs hX hL => ?_)
  refine lv_aload_n hx hb (pc := 13) dX1_init_13 rfl (lv_at hl 0 rfl) ?_
  refine j_sipush hC (pc := 14) dX1_init_14 (by decide) ?_
  refine L_newL hC hX hL (pc := 17) 7 (k := 2048) rfl (by decide) (Nat.le_of_ble_eq_true rfl) (Nat.le_of_ble_eq_true rfl) dX1_init_17 (fun g H hX hL => ?_)
  refine L_putAF hC hX hL in_X1 tyX1 tyX1_ok nmX1 (ci := 1) rfl (pc := 19) 5 hk0 1 (by decide) q88 rfl rfl hnm rfl rfl rfl (f := uI (uI (zA S 5) 0 (some (n))) 1 (some (n + 1))) (show 1 < 4 by decide) rfl dX1_init_19 (fun g H locs hX hL => ?_)
  refine lv_aload_n hx hb (pc := 22) dX1_init_22 rfl (lv_at hl 0 rfl) ?_
  refine j_sipush hC (pc := 23) dX1_init_23 (by decide) ?_
  refine L_newI hC hX hL (pc := 26) 8 0 (by decide) (atype := .int) (ty := .int) rfl rfl (fun cA h => h) rfl q103 (k := 402) rfl (by decide) (by decide) (Nat.le_of_ble_eq_true rfl) (Nat.le_of_ble_eq_true rfl) dX1_init_26 (fun g H hX hL => ?_)
  refine L_putAF hC hX hL in_X1 tyX1 tyX1_ok nmX1 (ci := 1) rfl (pc := 28) 5 hk0 2 (by decide) q90 rfl rfl hnm rfl rfl rfl (f := uI (uI (uI (zA S 5) 0 (some (n))) 1 (some (n + 1))) 2 (some (n + 2))) (show 2 < 4 by decide) rfl dX1_init_28 (fun g H locs hX hL => ?_)
  subst hQ
  exact j_vret hC (pc := 31) hX hr hlk (Nat.le_of_ble_eq_true rfl) (Nat.le_of_ble_eq_true rfl) dX1_init_31 ⟨_, _, hL, ⟨rfl, rfl, rfl⟩⟩

set_option maxHeartbeats 4000000 in
set_option maxRecDepth 100000 in
theorem t_initE9 (D : va_G) (T N : Nat → Nat) (l : Launch) {g0 : GH} {S : LbS} {Z : Nat → Int → Int} (hL : lR T g0 S Z) (n : Nat)  (hk0 : zK S 9 = 21) : Met l yX1_init (ws_ yX1_init cX1_init 1 none) ({ frames := 1, cells := 3, slots := 4498, locals := 12 } : Room) (gPc D T N [.ref (zB S 9)] g0 n) (gQv D g0 n (fun g' n' => ∃ S' Z', lR T g' S' Z' ∧ n' = n + 3 ∧ S' = uA (uN (uA (uN (uA (uN S 10 n 2 2048) 9 (uI (zA S 9) 0 (some (n)))) 11 (n + 1) 2 2048) 9 (uI (uI (zA S 9) 0 (some (n))) 1 (some (n + 1)))) 12 (n + 2) 1 402) 9 (uI (uI (uI (zA S 9) 0 (some (n))) 1 (some (n + 1))) 2 (some (n + 2))) ∧ Z' = va_up (va_up (va_up Z 10 (fun _ => 0)) 11 (fun _ => 0)) 12 (fun _ => 0))) 3 4498 (gA g0 n) := by
  refine j_start (by decide) (Nat.le_of_ble_eq_true rfl) ?_
  intro p e s mi args below meth c hC hr hlk hnm hX ls hl
  have hC : Ct D T N (gA g0 n) p s mi args c cX1_init RX1 1 := hC
  have hx := hC.x
  have hb := hC.b
  generalize hQ : MQ below _ args s 3 4498 (gA g0 n) = Q
  have hl : lv_has ls 1 [(0, .ref (zB S 9))] := hl
  refine lv_aload_n hx hb (pc := 0) dX1_init_0 rfl (lv_at hl 0 rfl) ?_
  refine j_objInit hC (pc := 1) q85 hl.1 (Nat.le_of_ble_eq_true rfl) (Nat.le_of_ble_eq_true rfl) dX1_init_1 ?_
  refine lv_aload_n hx hb (pc := 4) dX1_init_4 rfl (lv_at hl 0 rfl) ?_
  refine j_sipush hC (pc := 5) dX1_init_5 (by decide) ?_
  refine L_newL hC hX hL (pc := 8) 10 (k := 2048) rfl (by decide) (Nat.le_of_ble_eq_true rfl) (Nat.le_of_ble_eq_true rfl) dX1_init_8 (fun g H hX hL => ?_)
  refine L_putAF hC hX hL in_X1 tyX1 tyX1_ok nmX1 (ci := 1) rfl (pc := 10) 9 hk0 0 (by decide) q86 rfl rfl hnm rfl rfl rfl (f := uI (zA S 9) 0 (some (n))) (show 0 < 4 by decide) rfl dX1_init_10 (fun g H locs hX hL => ?_)
  refine lv_aload_n hx hb (pc := 13) dX1_init_13 rfl (lv_at hl 0 rfl) ?_
  refine j_sipush hC (pc := 14) dX1_init_14 (by decide) ?_
  refine L_newL hC hX hL (pc := 17) 11 (k := 2048) rfl (by decide) (Nat.le_of_ble_eq_true rfl) (Nat.le_of_ble_eq_true rfl) dX1_init_17 (fun g H hX hL => ?_)
  refine L_putAF hC hX hL in_X1 tyX1 tyX1_ok nmX1 (ci := 1) rfl (pc := 19) 9 hk0 1 (by decide) q88 rfl rfl hnm rfl rfl rfl (f := uI (uI (zA S 9) 0 (some (n))) 1 (some (n + 1))) (show 1 < 4 by decide) rfl dX1_init_19 (fun g H locs hX hL => ?_)
  refine lv_aload_n hx hb (pc := 22) dX1_init_22 rfl (lv_at hl 0 rfl) ?_
  refine j_sipush hC (pc := 23) dX1_init_23 (by decide) ?_
  refine L_newI hC hX hL (pc := 26) 12 0 (by decide) (atype := .int) (ty := .int) rfl rfl (fun cA h => h) rfl q103 (k := 402) rfl (by decide) (by decide) (Nat.le_of_ble_eq_true rfl) (Nat.le_of_ble_eq_true rfl) dX1_init_26 (fun g H hX hL => ?_)
  refine L_putAF hC hX hL in_X1 tyX1 tyX1_ok nmX1 (ci := 1) rfl (pc := 28) 9 hk0 2 (by decide) q90 rfl rfl hnm rfl rfl rfl (f := uI (uI (uI (zA S 9) 0 (some (n))) 1 (some (n + 1))) 2 (some (n + 2))) (show 2 < 4 by decide) rfl dX1_init_28 (fun g H locs hX hL => ?_)
  subst hQ
  exact j_vret hC (pc := 31) hX hr hlk (Nat.le_of_ble_eq_true rfl) (Nat.le_of_ble_eq_true rfl) dX1_init_31 ⟨_, _, hL, ⟨rfl, rfl, rfl⟩⟩

def iFV (F : Nat → Int) (V : Nat → Int → Int) : Prop := (0 = F 0 ∧ 3 = F 3 ∧ 0 = F 4 ∧ -1 = F 5 ∧ 1 = F 27 ∧ 1 = F 28 ∧ 0 = F 40) ∧ (F 25 = 0 ∧ F 31 = 0) ∧ (∀ j : Int, 0 ≤ j → j < 6 → V 2 j = -1) ∧ (∀ j : Int, 0 ≤ j → j < 3 → V 20 j = 0) ∧ (∀ j : Int, 0 ≤ j → j < 6 → V 21 j = -1) ∧ ∀ j : Int, 0 ≤ j → j < 4 → V 23 j < 0

set_option maxHeartbeats 16000000 in
set_option maxRecDepth 100000 in
theorem f0_init (D : va_G) (T N : Nat → Nat) (l : Launch) {g0 : GH} {S : LbS} {Z : Nat → Int → Int} (hL : lR T g0 S Z) (n : Nat)  (hk0 : zK S 0 = 20) (hz0 : Z 0 = fun _ => 0) : Met l yX0_init (ws_ yX0_init cX0_init 2 none) ({ frames := 4, cells := 29, slots := 9100, locals := 72 } : Room) (gPc D T N [.ref (zB S 0)] g0 n) (gQv D g0 n (fun g' n' => ∃ S' Z', lR T g' S' Z' ∧ sm S S' [0, 1, 2, 3, 4, 5, 6, 7, 8, 9, 10, 11, 12, 13, 14, 15, 16, 17, 18, 19, 20, 21, 22, 23] ∧ ch Z Z' [0, 1, 2, 3, 4, 5, 6, 7, 8, 9, 10, 11, 12, 13, 14, 15, 16, 17, 18, 19, 20, 21, 22, 23] ∧ ∀ F V, iFV F V → xRel N (zB S 0) S' Z' F V)) 29 9100 (gA g0 n) := by
  refine j_start (by decide) (Nat.le_of_ble_eq_true rfl) ?_
  intro p e s mi args below meth c hC hr hlk hnm hX ls hl
  have hC : Ct D T N (gA g0 n) p s mi args c cX0_init RX0 2 := hC
  have hx := hC.x
  have hb := hC.b
  generalize hQ : MQ below _ args s 29 9100 (gA g0 n) = Q
  have hl : lv_has ls 2 [(0, .ref (zB S 0))] := hl
  refine lv_aload_n hx hb (pc := 0) dX0_init_0 rfl (lv_at hl 0 rfl) ?_
  refine j_objInit hC (pc := 1) q73 hl.1 (Nat.le_of_ble_eq_true rfl) (Nat.le_of_ble_eq_true rfl) dX0_init_1 ?_
  refine lv_aload_n hx hb (pc := 4) dX0_init_4 rfl (lv_at hl 0 rfl) ?_
  refine j_bipush hC (pc := 5) dX0_init_5 (by decide) ?_
  refine L_newR hC hX hL (pc := 7) 1 7 (by decide) q76 q77 rfl (k := 16) rfl (by decide) (Nat.le_of_ble_eq_true rfl) (Nat.le_of_ble_eq_true rfl) dX0_init_7 (fun g H hX hL => ?_)
  refine L_putAF hC hX hL in_X0 tyX0 tyX0_ok nmX0 (ci := 0) rfl (pc := 10) 0 hk0 0 (by decide) q148 rfl rfl hnm rfl rfl rfl (f := uI (zA S 0) 0 (some (n))) (show 0 < 18 by decide) rfl dX0_init_10 (fun g H locs hX hL => ?_)
  refine lv_aload_n hx hb (pc := 13) dX0_init_13 rfl (lv_at hl 0 rfl) ?_
  refine j_iconst hC (pc := 14) dX0_init_14 ?_
  refine L_newRA (t := .int) hC hX hL (pc := 15) 2 5 (by decide) q78 q79 rfl (k := 2) rfl (by decide) (Nat.le_of_ble_eq_true rfl) (Nat.le_of_ble_eq_true rfl) dX0_init_15 (fun g H hX hL => ?_)
  refine lv_dup hx hb (pc := 18) dX0_init_18 rfl ?_
  refine j_iconst hC (pc := 19) dX0_init_19 ?_
  refine j_iconst hC (pc := 20) dX0_init_20 ?_
  refine L_newI hC hX hL (pc := 21) 3 0 (by decide) (atype := .int) (ty := .int) rfl rfl (fun cA h => h) rfl q103 (k := 3) rfl (by decide) (by decide) (Nat.le_of_ble_eq_true rfl) (Nat.le_of_ble_eq_true rfl) dX0_init_21 (fun g H hX hL => ?_)
  refine lv_dup hx hb (pc := 23) dX0_init_23 rfl ?_
  refine j_iconst hC (pc := 24) dX0_init_24 ?_
  refine j_iconst hC (pc := 25) dX0_init_25 ?_
  refine L_iast hC hX hL (pc := 26) 3 rfl (L := 3) rfl (by decide) (by omega) (f := uI (fun _ => 0) 0 (-1)) rfl dX0_init_26 (fun g H locs hX hL => ?_)
  refine lv_dup hx hb (pc := 27) dX0_init_27 rfl ?_
  refine j_iconst hC (pc := 28) dX0_init_28 ?_
  refine j_iconst hC (pc := 29) dX0_init_29 ?_
  refine L_iast hC hX hL (pc := 30) 3 rfl (L := 3) rfl (by decide) (by omega) (f := uI (uI (fun _ => 0) 0 (-1)) 1 (-1)) rfl dX0_init_30 (fun g H locs hX hL => ?_)
  refine lv_dup hx hb (pc := 31) dX0_init_31 rfl ?_
  refine j_iconst hC (pc := 32) dX0_init_32 ?_
  refine j_iconst hC (pc := 33) dX0_init_33 ?_
  refine L_iast hC hX hL (pc := 34) 3 rfl (L := 3) rfl (by decide) (by omega) (f := uI (uI (uI (fun _ => 0) 0 (-1)) 1 (-1)) 2 (-1)) rfl dX0_init_34 (fun g H locs hX hL => ?_)
  refine L_aastR hC hX hL (pc := 35) 2 3 rfl rfl (L := 2) rfl (by decide) (by omega) dX0_init_35 (fun g H locs hX hL => ?_)
  refine lv_dup hx hb (pc := 36) dX0_init_36 rfl ?_
  refine j_iconst hC (pc := 37) dX0_init_37 ?_
  refine j_iconst hC (pc := 38) dX0_init_38 ?_
  refine L_newI hC hX hL (pc := 39) 4 0 (by decide) (atype := .int) (ty := .int) rfl rfl (fun cA h => h) rfl q103 (k := 3) rfl (by decide) (by decide) (Nat.le_of_ble_eq_true rfl) (Nat.le_of_ble_eq_true rfl) dX0_init_39 (fun g H hX hL => ?_)
  refine lv_dup hx hb (pc := 41) dX0_init_41 rfl ?_
  refine j_iconst hC (pc := 42) dX0_init_42 ?_
  refine j_iconst hC (pc := 43) dX0_init_43 ?_
  refine L_iast hC hX hL (pc := 44) 4 rfl (L := 3) rfl (by decide) (by omega) (f := uI (fun _ => 0) 0 (-1)) rfl dX0_init_44 (fun g H locs hX hL => ?_)
  refine lv_dup hx hb (pc := 45) dX0_init_45 rfl ?_
  refine j_iconst hC (pc := 46) dX0_init_46 ?_
  refine j_iconst hC (pc := 47) dX0_init_47 ?_
  refine L_iast hC hX hL (pc := 48) 4 rfl (L := 3) rfl (by decide) (by omega) (f := uI (uI (fun _ => 0) 0 (-1)) 1 (-1)) rfl dX0_init_48 (fun g H locs hX hL => ?_)
  refine lv_dup hx hb (pc := 49) dX0_init_49 rfl ?_
  refine j_iconst hC (pc := 50) dX0_init_50 ?_
  refine j_iconst hC (pc := 51) dX0_init_51 ?_
  refine L_iast hC hX hL (pc := 52) 4 rfl (L := 3) rfl (by decide) (by omega) (f := uI (uI (uI (fun _ => 0) 0 (-1)) 1 (-1)) 2 (-1)) rfl dX0_init_52 (fun g H locs hX hL => ?_)
  refine L_aastR hC hX hL (pc := 53) 2 4 rfl rfl (L := 2) rfl (by decide) (by omega) dX0_init_53 (fun g H locs hX hL => ?_)
  refine L_putAF hC hX hL in_X0 tyX0 tyX0_ok nmX0 (ci := 0) rfl (pc := 54) 0 hk0 2 (by decide) q150 rfl rfl hnm rfl rfl rfl (f := uI (uI (zA S 0) 0 (some (n))) 2 (some (n + 1))) (show 2 < 18 by decide) rfl dX0_init_54 (fun g H locs hX hL => ?_)
  refine lv_aload_n hx hb (pc := 57) dX0_init_57 rfl (lv_at hl 0 rfl) ?_
  refine j_iconst hC (pc := 58) dX0_init_58 ?_
  refine L_put hC hX hL in_X0 tyX0 tyX0_ok nmX0 (ci := 0) rfl (pc := 59) 0 hk0 3 (by decide) q152 rfl rfl rfl rfl (f := uI (Z 0) 3 3) (show 3 < 18 by decide) rfl dX0_init_59 (fun g H locs hX hL => ?_)
  refine lv_aload_n hx hb (pc := 62) dX0_init_62 rfl (lv_at hl 0 rfl) ?_
  refine j_iconst hC (pc := 63) dX0_init_63 ?_
  refine L_put hC hX hL in_X0 tyX0 tyX0_ok nmX0 (ci := 0) rfl (pc := 64) 0 hk0 5 (by decide) q155 rfl rfl rfl rfl (f := uI (uI (Z 0) 3 3) 5 (-1)) (show 5 < 18 by decide) rfl dX0_init_64 (fun g H locs hX hL => ?_)
  refine lv_aload_n hx hb (pc := 67) dX0_init_67 rfl (lv_at hl 0 rfl) ?_
  refine L_new hC hX hL (pc := 68) 5 1 in_X1 tyX1 tyX1_ok q80 q81 q41 rfl (by decide) (Nat.le_of_ble_eq_true rfl) (Nat.le_of_ble_eq_true rfl) dX0_init_68 (fun g H hX hL => ?_)
  refine lv_dup hx hb (pc := 71) dX0_init_71 rfl ?_
  refine j_callv (rest := [.ref (n + 4), .ref (zB S 0)]) hX (va_runIN hC.fix (t_initE5 D T N l hL _ rfl) ⟨va_cnB 0 hC.ts (lw_meth q84) rfl rfl rfl (hC.W.w q82 rfl) (hC.ts _ q41) (by decide +kernel) ⟨Nat.le_of_ble_eq_true rfl, Nat.le_of_ble_eq_true rfl⟩, rfl, hC.ts _ q83⟩ (j_preS hC hX _) rfl rfl hl.1 rfl (Nat.le_of_ble_eq_true rfl) dX0_init_72 ⟨(Nat.le_of_ble_eq_true rfl), (Nat.le_of_ble_eq_true rfl)⟩) (fun g m2 H locs hp hle hX => ?_)
  obtain ⟨S3, Z3, hL, hp⟩ := hp
  obtain ⟨hnn_, hSS, hZZ⟩ := hp
  rw [hSS, hZZ] at hL
  rw [hnn_] at hX
  refine L_putA hC hX hL in_X0 tyX0 tyX0_ok nmX0 (ci := 0) rfl (pc := 75) 0 hk0 6 (by decide) q158 rfl rfl rfl rfl (f := uI (uI (uI (zA S 0) 0 (some (n))) 2 (some (n + 1))) 6 (some (n + 4))) (show 6 < 18 by decide) rfl dX0_init_75 (fun g H locs hX hL => ?_)
  refine lv_aload_n hx hb (pc := 78) dX0_init_78 rfl (lv_at hl 0 rfl) ?_
  refine L_new hC hX hL (pc := 79) 9 1 in_X1 tyX1 tyX1_ok q80 q81 q41 rfl (by decide) (Nat.le_of_ble_eq_true rfl) (Nat.le_of_ble_eq_true rfl) dX0_init_79 (fun g H hX hL => ?_)
  refine lv_dup hx hb (pc := 82) dX0_init_82 rfl ?_
  refine j_callv (rest := [.ref (n + 8), .ref (zB S 0)]) hX (va_runIN hC.fix (t_initE9 D T N l hL _ rfl) ⟨va_cnB 0 hC.ts (lw_meth q84) rfl rfl rfl (hC.W.w q82 rfl) (hC.ts _ q41) (by decide +kernel) ⟨Nat.le_of_ble_eq_true rfl, Nat.le_of_ble_eq_true rfl⟩, rfl, hC.ts _ q83⟩ (j_preS hC hX _) rfl rfl hl.1 rfl (Nat.le_of_ble_eq_true rfl) dX0_init_83 ⟨(Nat.le_of_ble_eq_true rfl), (Nat.le_of_ble_eq_true rfl)⟩) (fun g m5 H locs hp hle hX => ?_)
  obtain ⟨S6, Z6, hL, hp⟩ := hp
  obtain ⟨hnn_, hSS, hZZ⟩ := hp
  rw [hSS, hZZ] at hL
  rw [hnn_] at hX
  refine L_putA hC hX hL in_X0 tyX0 tyX0_ok nmX0 (ci := 0) rfl (pc := 86) 0 hk0 7 (by decide) q160 rfl rfl rfl rfl (f := uI (uI (uI (uI (zA S 0) 0 (some (n))) 2 (some (n + 1))) 6 (some (n + 4))) 7 (some (n + 8))) (show 7 < 18 by decide) rfl dX0_init_86 (fun g H locs hX hL => ?_)
  refine lv_aload_n hx hb (pc := 89) dX0_init_89 rfl (lv_at hl 0 rfl) ?_
  refine L_new hC hX hL (pc := 90) 13 7 in_J2 tyJ2 tyJ2_ok q105 q106 q44 rfl (by decide) (Nat.le_of_ble_eq_true rfl) (Nat.le_of_ble_eq_true rfl) dX0_init_90 (fun g H hX hL => ?_)
  refine lv_dup hx hb (pc := 93) dX0_init_93 rfl ?_
  refine j_callv (rest := [.ref (n + 12), .ref (zB S 0)]) hX (va_runI hC.fix (l_init13 D T N l hL _ rfl) (cwI 0 hC.ts (lw_meth q109) rfl rfl rfl (hC.ts _ q44) (hC.ts _ q107) (hC.ts _ q108) rfl (by decide +kernel) ⟨Nat.le_of_ble_eq_true rfl, Nat.le_of_ble_eq_true rfl⟩) (j_preS hC hX _) rfl rfl hl.1 rfl (Nat.le_of_ble_eq_true rfl) dX0_init_94 ⟨(Nat.le_of_ble_eq_true rfl), (Nat.le_of_ble_eq_true rfl)⟩) (fun g m8 H locs hp hle hX => ?_)
  obtain ⟨S9, Z9, hL, hp⟩ := hp
  obtain ⟨hSS, hZZ, hnn_⟩ := hp
  rw [hSS, hZZ] at hL
  rw [hnn_] at hX
  refine L_putAF hC hX hL in_X0 tyX0 tyX0_ok nmX0 (ci := 0) rfl (pc := 97) 0 hk0 8 (by decide) q161 rfl rfl hnm rfl rfl rfl (f := uI (uI (uI (uI (uI (zA S 0) 0 (some (n))) 2 (some (n + 1))) 6 (some (n + 4))) 7 (some (n + 8))) 8 (some (n + 12))) (show 8 < 18 by decide) rfl dX0_init_97 (fun g H locs hX hL => ?_)
  refine lv_aload_n hx hb (pc := 100) dX0_init_100 rfl (lv_at hl 0 rfl) ?_
  refine j_iconst hC (pc := 101) dX0_init_101 ?_
  refine L_put hC hX hL in_X0 tyX0 tyX0_ok nmX0 (ci := 0) rfl (pc := 102) 0 hk0 9 (by decide) q162 rfl rfl rfl rfl (f := uI (uI (uI (Z 0) 3 3) 5 (-1)) 9 1) (show 9 < 18 by decide) rfl dX0_init_102 (fun g H locs hX hL => ?_)
  refine lv_aload_n hx hb (pc := 105) dX0_init_105 rfl (lv_at hl 0 rfl) ?_
  refine j_iconst hC (pc := 106) dX0_init_106 ?_
  refine L_put hC hX hL in_X0 tyX0 tyX0_ok nmX0 (ci := 0) rfl (pc := 107) 0 hk0 10 (by decide) q163 rfl rfl rfl rfl (f := uI (uI (uI (uI (Z 0) 3 3) 5 (-1)) 9 1) 10 1) (show 10 < 18 by decide) rfl dX0_init_107 (fun g H locs hX hL => ?_)
  refine lv_aload_n hx hb (pc := 110) dX0_init_110 rfl (lv_at hl 0 rfl) ?_
  refine L_new hC hX hL (pc := 111) 14 7 in_J2 tyJ2 tyJ2_ok q105 q106 q44 rfl (by decide) (Nat.le_of_ble_eq_true rfl) (Nat.le_of_ble_eq_true rfl) dX0_init_111 (fun g H hX hL => ?_)
  refine lv_dup hx hb (pc := 114) dX0_init_114 rfl ?_
  refine j_callv (rest := [.ref (n + 13), .ref (zB S 0)]) hX (va_runI hC.fix (l_init14 D T N l hL _ rfl) (cwI 0 hC.ts (lw_meth q109) rfl rfl rfl (hC.ts _ q44) (hC.ts _ q107) (hC.ts _ q108) rfl (by decide +kernel) ⟨Nat.le_of_ble_eq_true rfl, Nat.le_of_ble_eq_true rfl⟩) (j_preS hC hX _) rfl rfl hl.1 rfl (Nat.le_of_ble_eq_true rfl) dX0_init_115 ⟨(Nat.le_of_ble_eq_true rfl), (Nat.le_of_ble_eq_true rfl)⟩) (fun g m11 H locs hp hle hX => ?_)
  obtain ⟨S12, Z12, hL, hp⟩ := hp
  obtain ⟨hSS, hZZ, hnn_⟩ := hp
  rw [hSS, hZZ] at hL
  rw [hnn_] at hX
  refine L_putAF hC hX hL in_X0 tyX0 tyX0_ok nmX0 (ci := 0) rfl (pc := 118) 0 hk0 13 (by decide) q166 rfl rfl hnm rfl rfl rfl (f := uI (uI (uI (uI (uI (uI (zA S 0) 0 (some (n))) 2 (some (n + 1))) 6 (some (n + 4))) 7 (some (n + 8))) 8 (some (n + 12))) 13 (some (n + 13))) (show 13 < 18 by decide) rfl dX0_init_118 (fun g H locs hX hL => ?_)
  refine lv_aload_n hx hb (pc := 121) dX0_init_121 rfl (lv_at hl 0 rfl) ?_
  refine j_iconst hC (pc := 122) dX0_init_122 ?_
  refine L_newI hC hX hL (pc := 123) 15 0 (by decide) (atype := .int) (ty := .int) rfl rfl (fun cA h => h) rfl q103 (k := 3) rfl (by decide) (by decide) (Nat.le_of_ble_eq_true rfl) (Nat.le_of_ble_eq_true rfl) dX0_init_123 (fun g H hX hL => ?_)
  refine L_putAF hC hX hL in_X0 tyX0 tyX0_ok nmX0 (ci := 0) rfl (pc := 125) 0 hk0 14 (by decide) q167 rfl rfl hnm rfl rfl rfl (f := uI (uI (uI (uI (uI (uI (uI (zA S 0) 0 (some (n))) 2 (some (n + 1))) 6 (some (n + 4))) 7 (some (n + 8))) 8 (some (n + 12))) 13 (some (n + 13))) 14 (some (n + 14))) (show 14 < 18 by decide) rfl dX0_init_125 (fun g H locs hX hL => ?_)
  refine lv_aload_n hx hb (pc := 128) dX0_init_128 rfl (lv_at hl 0 rfl) ?_
  refine j_iconst hC (pc := 129) dX0_init_129 ?_
  refine L_newRA (t := .int) hC hX hL (pc := 130) 16 5 (by decide) q78 q79 rfl (k := 2) rfl (by decide) (Nat.le_of_ble_eq_true rfl) (Nat.le_of_ble_eq_true rfl) dX0_init_130 (fun g H hX hL => ?_)
  refine lv_dup hx hb (pc := 133) dX0_init_133 rfl ?_
  refine j_iconst hC (pc := 134) dX0_init_134 ?_
  refine j_iconst hC (pc := 135) dX0_init_135 ?_
  refine L_newI hC hX hL (pc := 136) 17 0 (by decide) (atype := .int) (ty := .int) rfl rfl (fun cA h => h) rfl q103 (k := 3) rfl (by decide) (by decide) (Nat.le_of_ble_eq_true rfl) (Nat.le_of_ble_eq_true rfl) dX0_init_136 (fun g H hX hL => ?_)
  refine lv_dup hx hb (pc := 138) dX0_init_138 rfl ?_
  refine j_iconst hC (pc := 139) dX0_init_139 ?_
  refine j_iconst hC (pc := 140) dX0_init_140 ?_
  refine L_iast hC hX hL (pc := 141) 17 rfl (L := 3) rfl (by decide) (by omega) (f := uI (fun _ => 0) 0 (-1)) rfl dX0_init_141 (fun g H locs hX hL => ?_)
  refine lv_dup hx hb (pc := 142) dX0_init_142 rfl ?_
  refine j_iconst hC (pc := 143) dX0_init_143 ?_
  refine j_iconst hC (pc := 144) dX0_init_144 ?_
  refine L_iast hC hX hL (pc := 145) 17 rfl (L := 3) rfl (by decide) (by omega) (f := uI (uI (fun _ => 0) 0 (-1)) 1 (-1)) rfl dX0_init_145 (fun g H locs hX hL => ?_)
  refine lv_dup hx hb (pc := 146) dX0_init_146 rfl ?_
  refine j_iconst hC (pc := 147) dX0_init_147 ?_
  refine j_iconst hC (pc := 148) dX0_init_148 ?_
  refine L_iast hC hX hL (pc := 149) 17 rfl (L := 3) rfl (by decide) (by omega) (f := uI (uI (uI (fun _ => 0) 0 (-1)) 1 (-1)) 2 (-1)) rfl dX0_init_149 (fun g H locs hX hL => ?_)
  refine L_aastR hC hX hL (pc := 150) 16 17 rfl rfl (L := 2) rfl (by decide) (by omega) dX0_init_150 (fun g H locs hX hL => ?_)
  refine lv_dup hx hb (pc := 151) dX0_init_151 rfl ?_
  refine j_iconst hC (pc := 152) dX0_init_152 ?_
  refine j_iconst hC (pc := 153) dX0_init_153 ?_
  refine L_newI hC hX hL (pc := 154) 18 0 (by decide) (atype := .int) (ty := .int) rfl rfl (fun cA h => h) rfl q103 (k := 3) rfl (by decide) (by decide) (Nat.le_of_ble_eq_true rfl) (Nat.le_of_ble_eq_true rfl) dX0_init_154 (fun g H hX hL => ?_)
  refine lv_dup hx hb (pc := 156) dX0_init_156 rfl ?_
  refine j_iconst hC (pc := 157) dX0_init_157 ?_
  refine j_iconst hC (pc := 158) dX0_init_158 ?_
  refine L_iast hC hX hL (pc := 159) 18 rfl (L := 3) rfl (by decide) (by omega) (f := uI (fun _ => 0) 0 (-1)) rfl dX0_init_159 (fun g H locs hX hL => ?_)
  refine lv_dup hx hb (pc := 160) dX0_init_160 rfl ?_
  refine j_iconst hC (pc := 161) dX0_init_161 ?_
  refine j_iconst hC (pc := 162) dX0_init_162 ?_
  refine L_iast hC hX hL (pc := 163) 18 rfl (L := 3) rfl (by decide) (by omega) (f := uI (uI (fun _ => 0) 0 (-1)) 1 (-1)) rfl dX0_init_163 (fun g H locs hX hL => ?_)
  refine lv_dup hx hb (pc := 164) dX0_init_164 rfl ?_
  refine j_iconst hC (pc := 165) dX0_init_165 ?_
  refine j_iconst hC (pc := 166) dX0_init_166 ?_
  refine L_iast hC hX hL (pc := 167) 18 rfl (L := 3) rfl (by decide) (by omega) (f := uI (uI (uI (fun _ => 0) 0 (-1)) 1 (-1)) 2 (-1)) rfl dX0_init_167 (fun g H locs hX hL => ?_)
  refine L_aastR hC hX hL (pc := 168) 16 18 rfl rfl (L := 2) rfl (by decide) (by omega) dX0_init_168 (fun g H locs hX hL => ?_)
  refine L_putAF hC hX hL in_X0 tyX0 tyX0_ok nmX0 (ci := 0) rfl (pc := 169) 0 hk0 15 (by decide) q168 rfl rfl hnm rfl rfl rfl (f := uI (uI (uI (uI (uI (uI (uI (uI (zA S 0) 0 (some (n))) 2 (some (n + 1))) 6 (some (n + 4))) 7 (some (n + 8))) 8 (some (n + 12))) 13 (some (n + 13))) 14 (some (n + 14))) 15 (some (n + 15))) (show 15 < 18 by decide) rfl dX0_init_169 (fun g H locs hX hL => ?_)
  refine lv_aload_n hx hb (pc := 172) dX0_init_172 rfl (lv_at hl 0 rfl) ?_
  refine j_iconst hC (pc := 173) dX0_init_173 ?_
  refine L_newR hC hX hL (pc := 174) 19 8 (by decide) q131 q132 rfl (k := 4) rfl (by decide) (Nat.le_of_ble_eq_true rfl) (Nat.le_of_ble_eq_true rfl) dX0_init_174 (fun g H hX hL => ?_)
  refine L_putAF hC hX hL in_X0 tyX0 tyX0_ok nmX0 (ci := 0) rfl (pc := 177) 0 hk0 16 (by decide) q169 rfl rfl hnm rfl rfl rfl (f := uI (uI (uI (uI (uI (uI (uI (uI (uI (zA S 0) 0 (some (n))) 2 (some (n + 1))) 6 (some (n + 4))) 7 (some (n + 8))) 8 (some (n + 12))) 13 (some (n + 13))) 14 (some (n + 14))) 15 (some (n + 15))) 16 (some (n + 18))) (show 16 < 18 by decide) rfl dX0_init_177 (fun g H locs hX hL => ?_)
  refine j_iconst hC (pc := 180) dX0_init_180 ?_
  refine lv_istore_n (lv' := [(1, .int (iI (0))), (0, .ref (zB S 0))]) hx hb (pc := 181) dX0_init_181 rfl hl (by decide) rfl (fun ls hl => ?_)
  refine lv_iload_n hx hb (pc := 182) dX0_init_182 rfl (lv_at hl 0 rfl) ?_
  refine j_iconst hC (pc := 183) dX0_init_183 ?_
  refine j_icmp_ge hC (pc := 184) 206 dX0_init_184 (by decide) (by omega) (fun c13 => ?_) (fun c13 => ?_)
  · skip
    omega
  · skip
    refine lv_aload_n hx hb (pc := 187) dX0_init_187 rfl (lv_at hl 1 rfl) ?_
    refine L_getr hC hX hL in_X0 (ci := 0) rfl (pc := 188) 0 hk0 16 (by decide) q169 rfl (q := (uI (uI (uI (uI (uI (uI (uI (uI (uI (zA S 0) 0 (some (n))) 2 (some (n + 1))) 6 (some (n + 4))) 7 (some (n + 8))) 8 (some (n + 12))) 13 (some (n + 13))) 14 (some (n + 14))) 15 (some (n + 15))) 16 (some (n + 18))) 16) (b := n + 18) rfl rfl dX0_init_188 ?_
    refine lv_iload_n hx hb (pc := 191) dX0_init_191 rfl (lv_at hl 0 rfl) ?_
    refine L_new hC hX hL (pc := 192) 20 2 in_X2 tyX2 tyX2_ok q131 q133 q45 rfl (by decide) (Nat.le_of_ble_eq_true rfl) (Nat.le_of_ble_eq_true rfl) dX0_init_192 (fun g H hX hL => ?_)
    refine lv_dup hx hb (pc := 195) dX0_init_195 rfl ?_
    refine j_callv (rest := [.ref (n + 19), .int (iI (0)), .ref (n + 18)]) hX (va_runIN hC.fix (s_init D T N l hL _ 20) ⟨va_cnB 0 hC.ts (lw_meth q136) rfl rfl rfl (hC.W.w q134 rfl) (hC.ts _ q45) (by decide +kernel) ⟨Nat.le_of_ble_eq_true rfl, Nat.le_of_ble_eq_true rfl⟩, rfl, hC.ts _ q135⟩ (j_preS hC hX _) rfl rfl hl.1 rfl (Nat.le_of_ble_eq_true rfl) dX0_init_196 ⟨(Nat.le_of_ble_eq_true rfl), (Nat.le_of_ble_eq_true rfl)⟩) (fun g m15 H locs hp hle hX => ?_)
    obtain ⟨hn_, Z16, hL, hp⟩ := hp
    rw [hn_] at hX
    rw [hp] at hL
    refine L_aast hC hX hL (pc := 199) 19 8 2 20 rfl (by decide) rfl rfl rfl (L := 4) rfl (by decide) (by omega) dX0_init_199 (fun g H locs hX hL => ?_)
    refine j_iinc hC (pc := 200) (lv' := [(1, .int (iI (0 + 1))), (0, .ref (zB S 0))]) dX0_init_200 hl (k := 0) rfl (by decide) rfl (fun ls hl => ?_)
    refine j_goto hC (pc := 203) 182 dX0_init_203 (by decide) ?_
    refine lv_iload_n hx hb (pc := 182) dX0_init_182 rfl (lv_at hl 0 rfl) ?_
    refine j_iconst hC (pc := 183) dX0_init_183 ?_
    refine j_icmp_ge hC (pc := 184) 206 dX0_init_184 (by decide) (by omega) (fun c17 => ?_) (fun c17 => ?_)
    · skip
      omega
    · skip
      refine lv_aload_n hx hb (pc := 187) dX0_init_187 rfl (lv_at hl 1 rfl) ?_
      refine L_getr hC hX hL in_X0 (ci := 0) rfl (pc := 188) 0 hk0 16 (by decide) q169 rfl (q := (uI (uI (uI (uI (uI (uI (uI (uI (uI (zA S 0) 0 (some (n))) 2 (some (n + 1))) 6 (some (n + 4))) 7 (some (n + 8))) 8 (some (n + 12))) 13 (some (n + 13))) 14 (some (n + 14))) 15 (some (n + 15))) 16 (some (n + 18))) 16) (b := n + 18) rfl rfl dX0_init_188 ?_
      refine lv_iload_n hx hb (pc := 191) dX0_init_191 rfl (lv_at hl 0 rfl) ?_
      refine L_new hC hX hL (pc := 192) 21 2 in_X2 tyX2 tyX2_ok q131 q133 q45 rfl (by decide) (Nat.le_of_ble_eq_true rfl) (Nat.le_of_ble_eq_true rfl) dX0_init_192 (fun g H hX hL => ?_)
      refine lv_dup hx hb (pc := 195) dX0_init_195 rfl ?_
      refine j_callv (rest := [.ref (n + 20), .int (iI (0 + 1)), .ref (n + 18)]) hX (va_runIN hC.fix (s_init D T N l hL _ 21) ⟨va_cnB 0 hC.ts (lw_meth q136) rfl rfl rfl (hC.W.w q134 rfl) (hC.ts _ q45) (by decide +kernel) ⟨Nat.le_of_ble_eq_true rfl, Nat.le_of_ble_eq_true rfl⟩, rfl, hC.ts _ q135⟩ (j_preS hC hX _) rfl rfl hl.1 rfl (Nat.le_of_ble_eq_true rfl) dX0_init_196 ⟨(Nat.le_of_ble_eq_true rfl), (Nat.le_of_ble_eq_true rfl)⟩) (fun g m19 H locs hp hle hX => ?_)
      obtain ⟨hn_, Z20, hL, hp⟩ := hp
      rw [hn_] at hX
      rw [hp] at hL
      refine L_aast hC hX hL (pc := 199) 19 8 2 21 rfl (by decide) rfl rfl rfl (L := 4) rfl (by decide) (by omega) dX0_init_199 (fun g H locs hX hL => ?_)
      refine j_iinc hC (pc := 200) (lv' := [(1, .int (iI ((0 + 1) + 1))), (0, .ref (zB S 0))]) dX0_init_200 hl (k := 0) rfl (by decide) rfl (fun ls hl => ?_)
      refine j_goto hC (pc := 203) 182 dX0_init_203 (by decide) ?_
      refine lv_iload_n hx hb (pc := 182) dX0_init_182 rfl (lv_at hl 0 rfl) ?_
      refine j_iconst hC (pc := 183) dX0_init_183 ?_
      refine j_icmp_ge hC (pc := 184) 206 dX0_init_184 (by decide) (by omega) (fun c21 => ?_) (fun c21 => ?_)
      · skip
        omega
      · skip
        refine lv_aload_n hx hb (pc := 187) dX0_init_187 rfl (lv_at hl 1 rfl) ?_
        refine L_getr hC hX hL in_X0 (ci := 0) rfl (pc := 188) 0 hk0 16 (by decide) q169 rfl (q := (uI (uI (uI (uI (uI (uI (uI (uI (uI (zA S 0) 0 (some (n))) 2 (some (n + 1))) 6 (some (n + 4))) 7 (some (n + 8))) 8 (some (n + 12))) 13 (some (n + 13))) 14 (some (n + 14))) 15 (some (n + 15))) 16 (some (n + 18))) 16) (b := n + 18) rfl rfl dX0_init_188 ?_
        refine lv_iload_n hx hb (pc := 191) dX0_init_191 rfl (lv_at hl 0 rfl) ?_
        refine L_new hC hX hL (pc := 192) 22 2 in_X2 tyX2 tyX2_ok q131 q133 q45 rfl (by decide) (Nat.le_of_ble_eq_true rfl) (Nat.le_of_ble_eq_true rfl) dX0_init_192 (fun g H hX hL => ?_)
        refine lv_dup hx hb (pc := 195) dX0_init_195 rfl ?_
        refine j_callv (rest := [.ref (n + 21), .int (iI ((0 + 1) + 1)), .ref (n + 18)]) hX (va_runIN hC.fix (s_init D T N l hL _ 22) ⟨va_cnB 0 hC.ts (lw_meth q136) rfl rfl rfl (hC.W.w q134 rfl) (hC.ts _ q45) (by decide +kernel) ⟨Nat.le_of_ble_eq_true rfl, Nat.le_of_ble_eq_true rfl⟩, rfl, hC.ts _ q135⟩ (j_preS hC hX _) rfl rfl hl.1 rfl (Nat.le_of_ble_eq_true rfl) dX0_init_196 ⟨(Nat.le_of_ble_eq_true rfl), (Nat.le_of_ble_eq_true rfl)⟩) (fun g m23 H locs hp hle hX => ?_)
        obtain ⟨hn_, Z24, hL, hp⟩ := hp
        rw [hn_] at hX
        rw [hp] at hL
        refine L_aast hC hX hL (pc := 199) 19 8 2 22 rfl (by decide) rfl rfl rfl (L := 4) rfl (by decide) (by omega) dX0_init_199 (fun g H locs hX hL => ?_)
        refine j_iinc hC (pc := 200) (lv' := [(1, .int (iI (((0 + 1) + 1) + 1))), (0, .ref (zB S 0))]) dX0_init_200 hl (k := 0) rfl (by decide) rfl (fun ls hl => ?_)
        refine j_goto hC (pc := 203) 182 dX0_init_203 (by decide) ?_
        refine lv_iload_n hx hb (pc := 182) dX0_init_182 rfl (lv_at hl 0 rfl) ?_
        refine j_iconst hC (pc := 183) dX0_init_183 ?_
        refine j_icmp_ge hC (pc := 184) 206 dX0_init_184 (by decide) (by omega) (fun c25 => ?_) (fun c25 => ?_)
        · skip
          omega
        · skip
          refine lv_aload_n hx hb (pc := 187) dX0_init_187 rfl (lv_at hl 1 rfl) ?_
          refine L_getr hC hX hL in_X0 (ci := 0) rfl (pc := 188) 0 hk0 16 (by decide) q169 rfl (q := (uI (uI (uI (uI (uI (uI (uI (uI (uI (zA S 0) 0 (some (n))) 2 (some (n + 1))) 6 (some (n + 4))) 7 (some (n + 8))) 8 (some (n + 12))) 13 (some (n + 13))) 14 (some (n + 14))) 15 (some (n + 15))) 16 (some (n + 18))) 16) (b := n + 18) rfl rfl dX0_init_188 ?_
          refine lv_iload_n hx hb (pc := 191) dX0_init_191 rfl (lv_at hl 0 rfl) ?_
          refine L_new hC hX hL (pc := 192) 23 2 in_X2 tyX2 tyX2_ok q131 q133 q45 rfl (by decide) (Nat.le_of_ble_eq_true rfl) (Nat.le_of_ble_eq_true rfl) dX0_init_192 (fun g H hX hL => ?_)
          refine lv_dup hx hb (pc := 195) dX0_init_195 rfl ?_
          refine j_callv (rest := [.ref (n + 22), .int (iI (((0 + 1) + 1) + 1)), .ref (n + 18)]) hX (va_runIN hC.fix (s_init D T N l hL _ 23) ⟨va_cnB 0 hC.ts (lw_meth q136) rfl rfl rfl (hC.W.w q134 rfl) (hC.ts _ q45) (by decide +kernel) ⟨Nat.le_of_ble_eq_true rfl, Nat.le_of_ble_eq_true rfl⟩, rfl, hC.ts _ q135⟩ (j_preS hC hX _) rfl rfl hl.1 rfl (Nat.le_of_ble_eq_true rfl) dX0_init_196 ⟨(Nat.le_of_ble_eq_true rfl), (Nat.le_of_ble_eq_true rfl)⟩) (fun g m27 H locs hp hle hX => ?_)
          obtain ⟨hn_, Z28, hL, hp⟩ := hp
          rw [hn_] at hX
          rw [hp] at hL
          refine L_aast hC hX hL (pc := 199) 19 8 2 23 rfl (by decide) rfl rfl rfl (L := 4) rfl (by decide) (by omega) dX0_init_199 (fun g H locs hX hL => ?_)
          refine j_iinc hC (pc := 200) (lv' := [(1, .int (iI ((((0 + 1) + 1) + 1) + 1))), (0, .ref (zB S 0))]) dX0_init_200 hl (k := 0) rfl (by decide) rfl (fun ls hl => ?_)
          refine j_goto hC (pc := 203) 182 dX0_init_203 (by decide) ?_
          refine lv_iload_n hx hb (pc := 182) dX0_init_182 rfl (lv_at hl 0 rfl) ?_
          refine j_iconst hC (pc := 183) dX0_init_183 ?_
          refine j_icmp_ge hC (pc := 184) 206 dX0_init_184 (by decide) (by omega) (fun c29 => ?_) (fun c29 => ?_)
          · skip
            subst hQ
            exact j_vret hC (pc := 206) hX hr hlk (Nat.le_of_ble_eq_true rfl) (Nat.le_of_ble_eq_true rfl) dX0_init_206 ⟨_, _, hL, ⟨((((((((((((((((((((((((((((((((((((((((((((((((sm.rf.uN 1 _ _ _ (by decide)).uA 0 _ (by decide)).uN 2 _ _ _ (by decide)).uN 3 _ _ _ (by decide)).uA 2 _ (by decide)).uN 4 _ _ _ (by decide)).uA 2 _ (by decide)).uA 0 _ (by decide)).uN 5 _ _ _ (by decide)).uN 6 _ _ _ (by decide)).uA 5 _ (by decide)).uN 7 _ _ _ (by decide)).uA 5 _ (by decide)).uN 8 _ _ _ (by decide)).uA 5 _ (by decide)).uA 0 _ (by decide)).uN 9 _ _ _ (by decide)).uN 10 _ _ _ (by decide)).uA 9 _ (by decide)).uN 11 _ _ _ (by decide)).uA 9 _ (by decide)).uN 12 _ _ _ (by decide)).uA 9 _ (by decide)).uA 0 _ (by decide)).uN 13 _ _ _ (by decide)).uA 13 _ (by decide)).uA 0 _ (by decide)).uN 14 _ _ _ (by decide)).uA 14 _ (by decide)).uA 0 _ (by decide)).uN 15 _ _ _ (by decide)).uA 0 _ (by decide)).uN 16 _ _ _ (by decide)).uN 17 _ _ _ (by decide)).uA 16 _ (by decide)).uN 18 _ _ _ (by decide)).uA 16 _ (by decide)).uA 0 _ (by decide)).uN 19 _ _ _ (by decide)).uA 0 _ (by decide)).uN 20 _ _ _ (by decide)).uA 19 _ (by decide)).uN 21 _ _ _ (by decide)).uA 19 _ (by decide)).uN 22 _ _ _ (by decide)).uA 19 _ (by decide)).uN 23 _ _ _ (by decide)).uA 19 _ (by decide)), (((((((((((((((((((((((((((((((((((((((((ch.rf.up 1 _ (by decide)).up 2 _ (by decide)).up 3 _ (by decide)).up 3 _ (by decide)).up 3 _ (by decide)).up 3 _ (by decide)).up 4 _ (by decide)).up 4 _ (by decide)).up 4 _ (by decide)).up 4 _ (by decide)).up 0 _ (by decide)).up 0 _ (by decide)).up 5 _ (by decide)).up 6 _ (by decide)).up 7 _ (by decide)).up 8 _ (by decide)).up 9 _ (by decide)).up 10 _ (by decide)).up 11 _ (by decide)).up 12 _ (by decide)).up 13 _ (by decide)).up 13 _ (by decide)).up 0 _ (by decide)).up 0 _ (by decide)).up 14 _ (by decide)).up 14 _ (by decide)).up 15 _ (by decide)).up 16 _ (by decide)).up 17 _ (by decide)).up 17 _ (by decide)).up 17 _ (by decide)).up 17 _ (by decide)).up 18 _ (by decide)).up 18 _ (by decide)).up 18 _ (by decide)).up 18 _ (by decide)).up 19 _ (by decide)).up 20 _ (by decide)).up 21 _ (by decide)).up 22 _ (by decide)).up 23 _ (by decide)), fun F V h => ⟨⟨rfl, ⟨⟨fun k hk => by simp at hk; rcases hk with rfl | rfl | rfl | rfl <;> exact ⟨rfl, fun _ => rfl⟩, rfl, rfl, rfl⟩, ⟨fun k hk => by simp at hk; rcases hk with rfl | rfl | rfl | rfl <;> exact ⟨rfl, fun _ => rfl⟩, rfl, rfl, rfl⟩, hk0, rfl, rfl⟩, fun k hk => by simp at hk; rcases hk with rfl | rfl | rfl | rfl | rfl | rfl | rfl | rfl | rfl | rfl | rfl | rfl | rfl | rfl | rfl <;> exact ⟨rfl, fun _ => rfl⟩, ⟨rfl, rfl, rfl, rfl, rfl, rfl, rfl⟩, ⟨⟨rfl, rfl⟩, ⟨rfl, rfl⟩, rfl, rfl, rfl, rfl⟩, ⟨by rw [← h.1.1]; exact congrFun hz0 1, h.1.2.1, by rw [← h.1.2.2.1]; exact congrFun hz0 4, h.1.2.2.2.1, h.1.2.2.2.2.1, h.1.2.2.2.2.2.1, by rw [← h.1.2.2.2.2.2.2]; exact congrFun hz0 17⟩⟩, ⟨⟨[], tbR.nil fun _ _ _ => rfl⟩, ⟨[], tbR.nil fun _ _ _ => rfl⟩⟩, fun j a b => by have := h.1.1; omega, fun q a b => by rw [h.2.2.1 q a (by omega), h.2.2.1 (3 + q) (by omega) (by omega)]; rcases (show q = 0 ∨ q = 1 ∨ q = 2 by omega) with rfl | rfl | rfl <;> exact ⟨rfl, rfl⟩, ⟨fun k a b => by rw [h.2.2.2.1 k a b]; rfl, fun q a b => by rw [if_pos (h.2.2.2.2.1 q a (by omega)), if_pos (h.2.2.2.2.1 (3 + q) (by omega) (by omega))]; rcases (show q = 0 ∨ q = 1 ∨ q = 2 by omega) with rfl | rfl | rfl <;> exact ⟨rfl, rfl⟩⟩, ⟨h.2.1.1.symm, Or.inl ⟨h.2.1.1, rfl⟩, fun k a b => by have := h.2.1.1; omega⟩, ⟨h.2.1.2.symm, Or.inl ⟨h.2.1.2, rfl⟩, fun k a b => by have := h.2.1.2; omega⟩, fun j a b => Or.inl ⟨h.2.2.2.2.2 j a b, by rcases (show j = 0 ∨ j = 1 ∨ j = 2 ∨ j = 3 by omega) with rfl | rfl | rfl | rfl <;> rfl⟩⟩⟩⟩
          · skip
            omega
