/-! constructors of lists, tables, sheets -/
set_option maxHeartbeats 4000000 in
set_option maxRecDepth 100000 in
theorem l_init0_13 (D : va_G) (T N : Nat → Nat) (l : Launch) {g0 : GH} {S : LbS} {Z : Nat → Int → Int} (hL : lR T g0 S Z) (n : Nat)  (hk0 : zK S 13 = 27) : Met l yJ0_init (ws_ yJ0_init cJ0_init 1 none) ({ frames := 1, cells := 0, slots := 0, locals := 12 } : Room) (gPc D T N [.ref (zB S 13)] g0 n) (gQv D g0 n (fun g' n' => n' = n ∧ ∃ Z', lR T g' S Z' ∧ Z' = Z)) 0 0 (gA g0 n) := by
  refine j_start (by decide) (Nat.le_of_ble_eq_true rfl) ?_
  intro p e s mi args below meth c hC hr hlk hnm hX ls hl
  have hC : Ct D T N (gA g0 n) p s mi args c cJ0_init RJ0 1 := hC
  have hx := hC.x
  have hb := hC.b
  generalize hQ : MQ below _ args s 0 0 (gA g0 n) = Q
  have hl : lv_has ls 1 [(0, .ref (zB S 13))] := hl
  refine lv_aload_n hx hb (pc := 0) dJ0_init_0 rfl (lv_at hl 0 rfl) ?_
  refine j_objInit hC (pc := 1) q116 hl.1 (Nat.le_of_ble_eq_true rfl) (Nat.le_of_ble_eq_true rfl) dJ0_init_1 ?_
  subst hQ
  exact j_vret hC (pc := 4) hX hr hlk (Nat.le_of_ble_eq_true rfl) (Nat.le_of_ble_eq_true rfl) dJ0_init_4 ⟨rfl, _, hL, rfl⟩

set_option maxHeartbeats 4000000 in
set_option maxRecDepth 100000 in
theorem l_init1_13 (D : va_G) (T N : Nat → Nat) (l : Launch) {g0 : GH} {S : LbS} {Z : Nat → Int → Int} (hL : lR T g0 S Z) (n : Nat)  (hk0 : zK S 13 = 27) : Met l yJ1_init (ws_ yJ1_init cJ1_init 1 none) ({ frames := 2, cells := 0, slots := 0, locals := 32 } : Room) (gPc D T N [.ref (zB S 13)] g0 n) (gQv D g0 n (fun g' n' => n' = n ∧ ∃ Z', lR T g' S Z' ∧ Z' = va_up Z 13 (uI (Z 13) 0 0))) 0 0 (gA g0 n) := by
  refine j_start (by decide) (Nat.le_of_ble_eq_true rfl) ?_
  intro p e s mi args below meth c hC hr hlk hnm hX ls hl
  have hC : Ct D T N (gA g0 n) p s mi args c cJ1_init RJ1 1 := hC
  have hx := hC.x
  have hb := hC.b
  generalize hQ : MQ below _ args s 0 0 (gA g0 n) = Q
  have hl : lv_has ls 1 [(0, .ref (zB S 13))] := hl
  refine lv_aload_n hx hb (pc := 0) dJ1_init_0 rfl (lv_at hl 0 rfl) ?_
  refine j_callv (rest := []) hX (va_runI hC.fix (l_init0_13 D T N l hL _ hk0) (cwI 0 hC.ts (lw_meth q115) rfl rfl rfl (hC.ts _ q42) (hC.ts _ q113) (hC.ts _ q114) rfl (by decide +kernel) ⟨Nat.le_of_ble_eq_true rfl, Nat.le_of_ble_eq_true rfl⟩) (j_preS hC hX _) rfl rfl hl.1 rfl (Nat.le_of_ble_eq_true rfl) dJ1_init_1 ⟨(Nat.le_of_ble_eq_true rfl), (Nat.le_of_ble_eq_true rfl)⟩) (fun g m2 H locs hp hle hX => ?_)
  obtain ⟨hn_, Z3, hL, hp⟩ := hp
  rw [hn_] at hX
  rw [hp] at hL
  refine lv_aload_n hx hb (pc := 4) dJ1_init_4 rfl (lv_at hl 0 rfl) ?_
  refine j_iconst hC (pc := 5) dJ1_init_5 ?_
  refine L_put hC hX hL in_J2 tyJ2 tyJ2_ok nmJ2 (ci := 7) rfl (pc := 6) 13 hk0 0 (by decide) q121 rfl rfl rfl rfl (f := uI (Z 13) 0 0) (show 0 < 3 by decide) rfl dJ1_init_6 (fun g H locs hX hL => ?_)
  subst hQ
  exact j_vret hC (pc := 9) hX hr hlk (Nat.le_of_ble_eq_true rfl) (Nat.le_of_ble_eq_true rfl) dJ1_init_9 ⟨rfl, _, hL, rfl⟩

set_option maxHeartbeats 4000000 in
set_option maxRecDepth 100000 in
theorem l_init13 (D : va_G) (T N : Nat → Nat) (l : Launch) {g0 : GH} {S : LbS} {Z : Nat → Int → Int} (hL : lR T g0 S Z) (n : Nat)  (hk0 : zK S 13 = 27) : Met l yJ2_init (ws_ yJ2_init cJ2_init 1 none) ({ frames := 3, cells := 0, slots := 0, locals := 52 } : Room) (gPc D T N [.ref (zB S 13)] g0 n) (gQv D g0 n (fun g' n' => ∃ S' Z', lR T g' S' Z' ∧ S' = uA S 13 (uI (zA S 13) 1 (some (N 4))) ∧ Z' = va_up Z 13 (uI (Z 13) 0 0) ∧ n' = n)) 0 0 (gA g0 n) := by
  refine j_start (by decide) (Nat.le_of_ble_eq_true rfl) ?_
  intro p e s mi args below meth c hC hr hlk hnm hX ls hl
  have hC : Ct D T N (gA g0 n) p s mi args c cJ2_init RJ2 1 := hC
  have hx := hC.x
  have hb := hC.b
  generalize hQ : MQ below _ args s 0 0 (gA g0 n) = Q
  have hl : lv_has ls 1 [(0, .ref (zB S 13))] := hl
  refine lv_aload_n hx hb (pc := 0) dJ2_init_0 rfl (lv_at hl 0 rfl) ?_
  refine j_callv (rest := []) hX (va_runI hC.fix (l_init1_13 D T N l hL _ hk0) (cwI 0 hC.ts (lw_meth q112) rfl rfl rfl (hC.ts _ q43) (hC.ts _ q110) (hC.ts _ q111) rfl (by decide +kernel) ⟨Nat.le_of_ble_eq_true rfl, Nat.le_of_ble_eq_true rfl⟩) (j_preS hC hX _) rfl rfl hl.1 rfl (Nat.le_of_ble_eq_true rfl) dJ2_init_1 ⟨(Nat.le_of_ble_eq_true rfl), (Nat.le_of_ble_eq_true rfl)⟩) (fun g m2 H locs hp hle hX => ?_)
  obtain ⟨hn_, Z3, hL, hp⟩ := hp
  rw [hn_] at hX
  rw [hp] at hL
  refine lv_aload_n hx hb (pc := 4) dJ2_init_4 rfl (lv_at hl 0 rfl) ?_
  refine j_empty hC hX (pc := 5) dJ2_init_5 ?_
  refine L_putA hC hX hL in_J2 tyJ2 tyJ2_ok nmJ2 (ci := 7) rfl (pc := 8) 13 hk0 1 (by decide) q119 rfl rfl rfl rfl (f := uI (zA S 13) 1 (some (N 4))) (show 1 < 3 by decide) rfl dJ2_init_8 (fun g H locs hX hL => ?_)
  subst hQ
  exact j_vret hC (pc := 11) hX hr hlk (Nat.le_of_ble_eq_true rfl) (Nat.le_of_ble_eq_true rfl) dJ2_init_11 ⟨_, _, hL, ⟨rfl, rfl, rfl⟩⟩

set_option maxHeartbeats 4000000 in
set_option maxRecDepth 100000 in
theorem l_init0_14 (D : va_G) (T N : Nat → Nat) (l : Launch) {g0 : GH} {S : LbS} {Z : Nat → Int → Int} (hL : lR T g0 S Z) (n : Nat)  (hk0 : zK S 14 = 27) : Met l yJ0_init (ws_ yJ0_init cJ0_init 1 none) ({ frames := 1, cells := 0, slots := 0, locals := 12 } : Room) (gPc D T N [.ref (zB S 14)] g0 n) (gQv D g0 n (fun g' n' => n' = n ∧ ∃ Z', lR T g' S Z' ∧ Z' = Z)) 0 0 (gA g0 n) := by
  refine j_start (by decide) (Nat.le_of_ble_eq_true rfl) ?_
  intro p e s mi args below meth c hC hr hlk hnm hX ls hl
  have hC : Ct D T N (gA g0 n) p s mi args c cJ0_init RJ0 1 := hC
  have hx := hC.x
  have hb := hC.b
  generalize hQ : MQ below _ args s 0 0 (gA g0 n) = Q
  have hl : lv_has ls 1 [(0, .ref (zB S 14))] := hl
  refine lv_aload_n hx hb (pc := 0) dJ0_init_0 rfl (lv_at hl 0 rfl) ?_
  refine j_objInit hC (pc := 1) q116 hl.1 (Nat.le_of_ble_eq_true rfl) (Nat.le_of_ble_eq_true rfl) dJ0_init_1 ?_
  subst hQ
  exact j_vret hC (pc := 4) hX hr hlk (Nat.le_of_ble_eq_true rfl) (Nat.le_of_ble_eq_true rfl) dJ0_init_4 ⟨rfl, _, hL, rfl⟩

set_option maxHeartbeats 4000000 in
set_option maxRecDepth 100000 in
theorem l_init1_14 (D : va_G) (T N : Nat → Nat) (l : Launch) {g0 : GH} {S : LbS} {Z : Nat → Int → Int} (hL : lR T g0 S Z) (n : Nat)  (hk0 : zK S 14 = 27) : Met l yJ1_init (ws_ yJ1_init cJ1_init 1 none) ({ frames := 2, cells := 0, slots := 0, locals := 32 } : Room) (gPc D T N [.ref (zB S 14)] g0 n) (gQv D g0 n (fun g' n' => n' = n ∧ ∃ Z', lR T g' S Z' ∧ Z' = va_up Z 14 (uI (Z 14) 0 0))) 0 0 (gA g0 n) := by
  refine j_start (by decide) (Nat.le_of_ble_eq_true rfl) ?_
  intro p e s mi args below meth c hC hr hlk hnm hX ls hl
  have hC : Ct D T N (gA g0 n) p s mi args c cJ1_init RJ1 1 := hC
  have hx := hC.x
  have hb := hC.b
  generalize hQ : MQ below _ args s 0 0 (gA g0 n) = Q
  have hl : lv_has ls 1 [(0, .ref (zB S 14))] := hl
  refine lv_aload_n hx hb (pc := 0) dJ1_init_0 rfl (lv_at hl 0 rfl) ?_
  refine j_callv (rest := []) hX (va_runI hC.fix (l_init0_14 D T N l hL _ hk0) (cwI 0 hC.ts (lw_meth q115) rfl rfl rfl (hC.ts _ q42) (hC.ts _ q113) (hC.ts _ q114) rfl (by decide +kernel) ⟨Nat.le_of_ble_eq_true rfl, Nat.le_of_ble_eq_true rfl⟩) (j_preS hC hX _) rfl rfl hl.1 rfl (Nat.le_of_ble_eq_true rfl) dJ1_init_1 ⟨(Nat.le_of_ble_eq_true rfl), (Nat.le_of_ble_eq_true rfl)⟩) (fun g m2 H locs hp hle hX => ?_)
  obtain ⟨hn_, Z3, hL, hp⟩ := hp
  rw [hn_] at hX
  rw [hp] at hL
  refine lv_aload_n hx hb (pc := 4) dJ1_init_4 rfl (lv_at hl 0 rfl) ?_
  refine j_iconst hC (pc := 5) dJ1_init_5 ?_
  refine L_put hC hX hL in_J2 tyJ2 tyJ2_ok nmJ2 (ci := 7) rfl (pc := 6) 14 hk0 0 (by decide) q121 rfl rfl rfl rfl (f := uI (Z 14) 0 0) (show 0 < 3 by decide) rfl dJ1_init_6 (fun g H locs hX hL => ?_)
  subst hQ
  exact j_vret hC (pc := 9) hX hr hlk (Nat.le_of_ble_eq_true rfl) (Nat.le_of_ble_eq_true rfl) dJ1_init_9 ⟨rfl, _, hL, rfl⟩

set_option maxHeartbeats 4000000 in
set_option maxRecDepth 100000 in
theorem l_init14 (D : va_G) (T N : Nat → Nat) (l : Launch) {g0 : GH} {S : LbS} {Z : Nat → Int → Int} (hL : lR T g0 S Z) (n : Nat)  (hk0 : zK S 14 = 27) : Met l yJ2_init (ws_ yJ2_init cJ2_init 1 none) ({ frames := 3, cells := 0, slots := 0, locals := 52 } : Room) (gPc D T N [.ref (zB S 14)] g0 n) (gQv D g0 n (fun g' n' => ∃ S' Z', lR T g' S' Z' ∧ S' = uA S 14 (uI (zA S 14) 1 (some (N 4))) ∧ Z' = va_up Z 14 (uI (Z 14) 0 0) ∧ n' = n)) 0 0 (gA g0 n) := by
  refine j_start (by decide) (Nat.le_of_ble_eq_true rfl) ?_
  intro p e s mi args below meth c hC hr hlk hnm hX ls hl
  have hC : Ct D T N (gA g0 n) p s mi args c cJ2_init RJ2 1 := hC
  have hx := hC.x
  have hb := hC.b
  generalize hQ : MQ below _ args s 0 0 (gA g0 n) = Q
  have hl : lv_has ls 1 [(0, .ref (zB S 14))] := hl
  refine lv_aload_n hx hb (pc := 0) dJ2_init_0 rfl (lv_at hl 0 rfl) ?_
  refine j_callv (rest := []) hX (va_runI hC.fix (l_init1_14 D T N l hL _ hk0) (cwI 0 hC.ts (lw_meth q112) rfl rfl rfl (hC.ts _ q43) (hC.ts _ q110) (hC.ts _ q111) rfl (by decide +kernel) ⟨Nat.le_of_ble_eq_true rfl, Nat.le_of_ble_eq_true rfl⟩) (j_preS hC hX _) rfl rfl hl.1 rfl (Nat.le_of_ble_eq_true rfl) dJ2_init_1 ⟨(Nat.le_of_ble_eq_true rfl), (Nat.le_of_ble_eq_true rfl)⟩) (fun g m2 H locs hp hle hX => ?_)
  obtain ⟨hn_, Z3, hL, hp⟩ := hp
  rw [hn_] at hX
  rw [hp] at hL
  refine lv_aload_n hx hb (pc := 4) dJ2_init_4 rfl (lv_at hl 0 rfl) ?_
  refine j_empty hC hX (pc := 5) dJ2_init_5 ?_
  refine L_putA hC hX hL in_J2 tyJ2 tyJ2_ok nmJ2 (ci := 7) rfl (pc := 8) 14 hk0 1 (by decide) q119 rfl rfl rfl rfl (f := uI (zA S 14) 1 (some (N 4))) (show 1 < 3 by decide) rfl dJ2_init_8 (fun g H locs hX hL => ?_)
  subst hQ
  exact j_vret hC (pc := 11) hX hr hlk (Nat.le_of_ble_eq_true rfl) (Nat.le_of_ble_eq_true rfl) dJ2_init_11 ⟨_, _, hL, ⟨rfl, rfl, rfl⟩⟩

set_option maxHeartbeats 4000000 in
set_option maxRecDepth 100000 in
theorem t_init5 (D : va_G) (T N : Nat → Nat) (l : Launch) {g0 : GH} {S : LbS} {Z : Nat → Int → Int} (hL : lR T g0 S Z) (n : Nat)  (hk0 : zK S 5 = 21) : Met l yX1_init (ws_ yX1_init cX1_init 1 none) ({ frames := 1, cells := 3, slots := 4498, locals := 12 } : Room) (gPc D T N [.ref (zB S 5)] g0 n) (gQv D g0 n (fun g' n' => ∃ S' Z', lR T g' S' Z' ∧ n' = n + 3 ∧ sm S S' [5, 6, 7, 8] ∧ (zB S' 5 = zB S 5 ∧ zK S' 5 = 21) ∧ (zA S' 5 0 = some (zB S' 6) ∧ zA S' 5 1 = some (zB S' 7) ∧ zA S' 5 2 = some (zB S' 8)) ∧ (zK S' 6 = 2 ∧ zN S' 6 = 2048) ∧ (zK S' 7 = 2 ∧ zN S' 7 = 2048) ∧ (zK S' 8 = 1 ∧ zN S' 8 = 402) ∧ ch Z Z' [6, 7, 8] ∧ Z' 6 = (fun _ => 0) ∧ Z' 7 = (fun _ => 0) ∧ Z' 8 = (fun _ => 0))) 3 4498 (gA g0 n) := by
  refine j_start (by decide) (Nat.le_of_ble_eq_true rfl) ?_
  intro p e s mi args below meth c hC hr hlk hnm hX ls hl
  have hC : Ct D T N (gA g0 n) p s mi args c cX1_init RX1 1 := hC
  have hx := hC.x
  have hb := hC.b
  generalize hQ : MQ below _ args s 3 4498 (gA g0 n) = Q
  have hl : lv_has ls 1 [(0, .ref (zB S 5))] := hl
  refine lv_aload_n hx hb (pc := 0) dX1_init_0 rfl (lv_at hl 0 rfl) ?_
  refine j_objInit hC (pc := 1) q85 hl.1 (Nat.le_of_ble_eq_true rfl) (Nat.le_of_ble_eq_true rfl) dX1_init_1 ?_
  refine lv_aload_n hx hb (pc := 4) dX1_init_4 rfl (lv_at hl 0 rfl) ?_
  refine j_sipush hC (pc := 5) dX1_init_5 (by decide) ?_
  refine L_newL hC hX hL (pc := 8) 6 (k := 2048) rfl (by decide) (Nat.le_of_ble_eq_true rfl) (Nat.le_of_ble_eq_true rfl) dX1_init_8 (fun g H hX hL => ?_)
  refine L_putAF hC hX hL in_X1 tyX1 tyX1_ok nmX1 (ci := 1) rfl (pc := 10) 5 hk0 0 (by decide) q86 rfl rfl hnm rfl rfl rfl (f := uI (zA S 5) 0 (some (n))) (show 0 < 4 by decide) rfl dX1_init_10 (fun g H locs hX hL => ?_)
  refine lv_aload_n hx hb (pc := 13) dX1_init_13 rfl (lv_at hl 0 rfl) ?_
  refine j_sipush hC (pc := 14) dX1_init_14 (by decide) ?_
  refine L_newL hC hX hL (pc := 17) 7 (k := 2048) rfl (by decide) (Nat.le_of_ble_eq_true rfl) (Nat.le_of_ble_eq_true rfl) dX1_init_17 (fun g H hX hL => ?_)
  refine L_putAF hC hX hL in_X1 tyX1 tyX1_ok nmX1 (ci := 1) rfl (pc := 19) 5 hk0 1 (by decide) q88 rfl rfl hnm rfl rfl rfl (f := uI (uI (zA S 5) 0 (some (n))) 1 (some (n + 1))) (show 1 < 4 by decide) rfl dX1_init_19 (fun g H locs hX hL => ?_)
  refine lv_aload_n hx hb (pc := 22) dX1_init_22 rfl (lv_at hl 0 rfl) ?_
  refine j_sipush hC (pc := 23) dX1_init_23 (by decide) ?_
  refine L_newI hC hX hL (pc := 26) 8 0 (by decide) (atype := .int) (ty := .int) rfl rfl (fun cA h => h) rfl q103 (k := 402) rfl (by decide) (by decide) (Nat.le_of_ble_eq_true rfl) (Nat.le_of_ble_eq_true rfl) dX1_init_26 (fun g H hX hL => ?_)
  refine L_putAF hC hX hL in_X1 tyX1 tyX1_ok nmX1 (ci := 1) rfl (pc := 28) 5 hk0 2 (by decide) q90 rfl rfl hnm rfl rfl rfl (f := uI (uI (uI (zA S 5) 0 (some (n))) 1 (some (n + 1))) 2 (some (n + 2))) (show 2 < 4 by decide) rfl dX1_init_28 (fun g H locs hX hL => ?_)
  subst hQ
  exact j_vret hC (pc := 31) hX hr hlk (Nat.le_of_ble_eq_true rfl) (Nat.le_of_ble_eq_true rfl) dX1_init_31 ⟨_, _, hL, ⟨rfl, ((((((sm.rf.uN 6 _ _ _ (by decide)).uA 5 _ (by decide)).uN 7 _ _ _ (by decide)).uA 5 _ (by decide)).uN 8 _ _ _ (by decide)).uA 5 _ (by decide)), ⟨rfl, hk0⟩, ⟨rfl, rfl, rfl⟩, ⟨rfl, rfl⟩, ⟨rfl, rfl⟩, ⟨rfl, rfl⟩, (((ch.rf.up 6 _ (by decide)).up 7 _ (by decide)).up 8 _ (by decide)), rfl, rfl, rfl⟩⟩

set_option maxHeartbeats 4000000 in
set_option maxRecDepth 100000 in
theorem t_init9 (D : va_G) (T N : Nat → Nat) (l : Launch) {g0 : GH} {S : LbS} {Z : Nat → Int → Int} (hL : lR T g0 S Z) (n : Nat)  (hk0 : zK S 9 = 21) : Met l yX1_init (ws_ yX1_init cX1_init 1 none) ({ frames := 1, cells := 3, slots := 4498, locals := 12 } : Room) (gPc D T N [.ref (zB S 9)] g0 n) (gQv D g0 n (fun g' n' => ∃ S' Z', lR T g' S' Z' ∧ n' = n + 3 ∧ sm S S' [9, 10, 11, 12] ∧ (zB S' 9 = zB S 9 ∧ zK S' 9 = 21) ∧ (zA S' 9 0 = some (zB S' 10) ∧ zA S' 9 1 = some (zB S' 11) ∧ zA S' 9 2 = some (zB S' 12)) ∧ (zK S' 10 = 2 ∧ zN S' 10 = 2048) ∧ (zK S' 11 = 2 ∧ zN S' 11 = 2048) ∧ (zK S' 12 = 1 ∧ zN S' 12 = 402) ∧ ch Z Z' [10, 11, 12] ∧ Z' 10 = (fun _ => 0) ∧ Z' 11 = (fun _ => 0) ∧ Z' 12 = (fun _ => 0))) 3 4498 (gA g0 n) := by
  refine j_start (by decide) (Nat.le_of_ble_eq_true rfl) ?_
  intro p e s mi args below meth c hC hr hlk hnm hX ls hl
  have hC : Ct D T N (gA g0 n) p s mi args c cX1_init RX1 1 := hC
  have hx := hC.x
  have hb := hC.b
  generalize hQ : MQ below _ args s 3 4498 (gA g0 n) = Q
  have hl : lv_has ls 1 [(0, .ref (zB S 9))] := hl
  refine lv_aload_n hx hb (pc := 0) dX1_init_0 rfl (lv_at hl 0 rfl) ?_
  refine j_objInit hC (pc := 1) q85 hl.1 (Nat.le_of_ble_eq_true rfl) (Nat.le_of_ble_eq_true rfl) dX1_init_1 ?_
  refine lv_aload_n hx hb (pc := 4) dX1_init_4 rfl (lv_at hl 0 rfl) ?_
  refine j_sipush hC (pc := 5) dX1_init_5 (by decide) ?_
  refine L_newL hC hX hL (pc := 8) 10 (k := 2048) rfl (by decide) (Nat.le_of_ble_eq_true rfl) (Nat.le_of_ble_eq_true rfl) dX1_init_8 (fun g H hX hL => ?_)
  refine L_putAF hC hX hL in_X1 tyX1 tyX1_ok nmX1 (ci := 1) rfl (pc := 10) 9 hk0 0 (by decide) q86 rfl rfl hnm rfl rfl rfl (f := uI (zA S 9) 0 (some (n))) (show 0 < 4 by decide) rfl dX1_init_10 (fun g H locs hX hL => ?_)
  refine lv_aload_n hx hb (pc := 13) dX1_init_13 rfl (lv_at hl 0 rfl) ?_
  refine j_sipush hC (pc := 14) dX1_init_14 (by decide) ?_
  refine L_newL hC hX hL (pc := 17) 11 (k := 2048) rfl (by decide) (Nat.le_of_ble_eq_true rfl) (Nat.le_of_ble_eq_true rfl) dX1_init_17 (fun g H hX hL => ?_)
  refine L_putAF hC hX hL in_X1 tyX1 tyX1_ok nmX1 (ci := 1) rfl (pc := 19) 9 hk0 1 (by decide) q88 rfl rfl hnm rfl rfl rfl (f := uI (uI (zA S 9) 0 (some (n))) 1 (some (n + 1))) (show 1 < 4 by decide) rfl dX1_init_19 (fun g H locs hX hL => ?_)
  refine lv_aload_n hx hb (pc := 22) dX1_init_22 rfl (lv_at hl 0 rfl) ?_
  refine j_sipush hC (pc := 23) dX1_init_23 (by decide) ?_
  refine L_newI hC hX hL (pc := 26) 12 0 (by decide) (atype := .int) (ty := .int) rfl rfl (fun cA h => h) rfl q103 (k := 402) rfl (by decide) (by decide) (Nat.le_of_ble_eq_true rfl) (Nat.le_of_ble_eq_true rfl) dX1_init_26 (fun g H hX hL => ?_)
  refine L_putAF hC hX hL in_X1 tyX1 tyX1_ok nmX1 (ci := 1) rfl (pc := 28) 9 hk0 2 (by decide) q90 rfl rfl hnm rfl rfl rfl (f := uI (uI (uI (zA S 9) 0 (some (n))) 1 (some (n + 1))) 2 (some (n + 2))) (show 2 < 4 by decide) rfl dX1_init_28 (fun g H locs hX hL => ?_)
  subst hQ
  exact j_vret hC (pc := 31) hX hr hlk (Nat.le_of_ble_eq_true rfl) (Nat.le_of_ble_eq_true rfl) dX1_init_31 ⟨_, _, hL, ⟨rfl, ((((((sm.rf.uN 10 _ _ _ (by decide)).uA 9 _ (by decide)).uN 11 _ _ _ (by decide)).uA 9 _ (by decide)).uN 12 _ _ _ (by decide)).uA 9 _ (by decide)), ⟨rfl, hk0⟩, ⟨rfl, rfl, rfl⟩, ⟨rfl, rfl⟩, ⟨rfl, rfl⟩, ⟨rfl, rfl⟩, (((ch.rf.up 10 _ (by decide)).up 11 _ (by decide)).up 12 _ (by decide)), rfl, rfl, rfl⟩⟩

set_option maxHeartbeats 4000000 in
set_option maxRecDepth 100000 in
theorem s_init (D : va_G) (T N : Nat → Nat) (l : Launch) {g0 : GH} {S : LbS} {Z : Nat → Int → Int} (hL : lR T g0 S Z) (n : Nat) (lb : Nat)  : Met l yX2_init (ws_ yX2_init cX2_init 1 none) ({ frames := 1, cells := 0, slots := 0, locals := 12 } : Room) (gPc D T N [.ref (zB S lb)] g0 n) (gQv D g0 n (fun g' n' => n' = n ∧ ∃ Z', lR T g' S Z' ∧ Z' = Z)) 0 0 (gA g0 n) := by
  refine j_start (by decide) (Nat.le_of_ble_eq_true rfl) ?_
  intro p e s mi args below meth c hC hr hlk hnm hX ls hl
  have hC : Ct D T N (gA g0 n) p s mi args c cX2_init RX2 1 := hC
  have hx := hC.x
  have hb := hC.b
  generalize hQ : MQ below _ args s 0 0 (gA g0 n) = Q
  have hl : lv_has ls 1 [(0, .ref (zB S lb))] := hl
  refine lv_aload_n hx hb (pc := 0) dX2_init_0 rfl (lv_at hl 0 rfl) ?_
  refine j_objInit hC (pc := 1) q137 hl.1 (Nat.le_of_ble_eq_true rfl) (Nat.le_of_ble_eq_true rfl) dX2_init_1 ?_
  subst hQ
  exact j_vret hC (pc := 4) hX hr hlk (Nat.le_of_ble_eq_true rfl) (Nat.le_of_ble_eq_true rfl) dX2_init_4 ⟨rfl, _, hL, rfl⟩
