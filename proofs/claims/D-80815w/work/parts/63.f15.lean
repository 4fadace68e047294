/-! the lists: add -/
set_option maxHeartbeats 4000000 in
set_option maxRecDepth 100000 in
theorem l_grow2E13 (D : va_G) (T N : Nat → Nat) (l : Launch) {g0 : GH} {S : LbS} {Z : Nat → Int → Int} (hL : lR T g0 S Z) (n : Nat)  (hk0 : zK S 13 = 27) (hea : zA S 13 1 = some (N 4)) : Met l yJ2_grow_2 (ws_ yJ2_grow_2 cJ2_grow_2 4 (some (.array (.object "java/lang/Object")))) ({ frames := 3, cells := 1, slots := 10, locals := 84 } : Room) (gPc D T N [.ref (zB S 13), .int (iI (1))] g0 n) (gQq D g0 n (fun r g' n' => ∃ S' Z', lR T g' S' Z' ∧ S' = uA (uN S 24 n 10 10) 13 (uI (zA S 13) 1 (some n)) ∧ Z' = va_up Z 24 (fun _ => 0) ∧ n' = n + 1 ∧ r = some n)) 1 10 (gA g0 n) := by
  refine j_start (by decide) (Nat.le_of_ble_eq_true rfl) ?_
  intro p e s mi args below meth c hC hr hlk hnm hX ls hl
  have hC : Ct D T N (gA g0 n) p s mi args c cJ2_grow_2 RJ2 4 := hC
  have hx := hC.x
  have hb := hC.b
  generalize hQ : MQ below _ args s 1 10 (gA g0 n) = Q
  have hl : lv_has ls 4 [(0, .ref (zB S 13)), (1, .int (iI (1)))] := hl
  refine lv_aload_n hx hb (pc := 0) dJ2_grow_2_0 rfl (lv_at hl 0 rfl) ?_
  refine L_getr hC hX hL in_J2 (ci := 7) rfl (pc := 1) 13 hk0 1 (by decide) q119 rfl (q := zA S 13 1) (b := N 4) hea rfl dJ2_grow_2_1 ?_
  refine j_emlen hC hX (pc := 4) dJ2_grow_2_4 ?_
  refine lv_istore_n (lv' := [(2, .int (iI (0))), (0, .ref (zB S 13)), (1, .int (iI (1)))]) hx hb (pc := 5) dJ2_grow_2_5 rfl hl (by decide) rfl (fun ls hl => ?_)
  refine lv_iload_n hx hb (pc := 6) dJ2_grow_2_6 rfl (lv_at hl 0 rfl) ?_
  refine j_if_gt hC (pc := 7) 20 dJ2_grow_2_7 (by decide) (by omega) (fun c1 => ?_) (fun c1 => ?_)
  · skip
    exact absurd c1 (by decide)
  · skip
    refine lv_aload_n hx hb (pc := 10) dJ2_grow_2_10 rfl (lv_at hl 1 rfl) ?_
    refine L_getr hC hX hL in_J2 (ci := 7) rfl (pc := 11) 13 hk0 1 (by decide) q119 rfl (q := zA S 13 1) (b := N 4) hea rfl dJ2_grow_2_11 ?_
    refine j_empty hC hX (pc := 14) dJ2_grow_2_14 ?_
    refine lv_acmp_eq (rx := some (N 4)) (ry := some (N 4)) (tgt := 45) hx hb (pc := 17) dJ2_grow_2_17 (by decide) (fun _ => ?_) (fun h => absurd rfl h)
    refine lv_aload_n hx hb (pc := 45) dJ2_grow_2_45 rfl (lv_at hl 1 rfl) ?_
    refine j_bipush hC (pc := 46) dJ2_grow_2_46 (by decide) ?_
    refine lv_iload_n hx hb (pc := 48) dJ2_grow_2_48 rfl (lv_at hl 2 rfl) ?_
    refine j_mmax hC (pc := 49) q579 hl.1 (Nat.le_of_ble_eq_true rfl) (Nat.le_of_ble_eq_true rfl) (Nat.le_of_ble_eq_true rfl) (Nat.le_of_ble_eq_true rfl) (by omega) dJ2_grow_2_49 ?_
    refine j_eqi (b := 10) (by decide) ?_
    refine L_newR hC hX hL (pc := 52) 24 9 (by decide) q580 q575 rfl (k := 10) rfl (by decide) (Nat.le_of_ble_eq_true rfl) (Nat.le_of_ble_eq_true rfl) dJ2_grow_2_52 (fun g H hX hL => ?_)
    refine lv_dup_x1 hx hb (pc := 55) dJ2_grow_2_55 rfl rfl ?_
    refine L_putA hC hX hL in_J2 tyJ2 tyJ2_ok nmJ2 (ci := 7) rfl (pc := 56) 13 hk0 1 (by decide) q119 rfl rfl rfl rfl (f := uI (zA S 13) 1 (some (n))) (show 1 < 3 by decide) rfl dJ2_grow_2_56 (fun g H locs hX hL => ?_)
    subst hQ
    exact j_aret (z := some (n)) hC (pc := 59) hX hr (Or.inr ⟨_, rfl⟩) hlk (Nat.le_of_ble_eq_true rfl) (Nat.le_of_ble_eq_true rfl) dJ2_grow_2_59 ⟨_, _, hL, ⟨rfl, rfl, rfl, rfl⟩⟩

set_option maxHeartbeats 4000000 in
set_option maxRecDepth 100000 in
theorem l_growE13 (D : va_G) (T N : Nat → Nat) (l : Launch) {g0 : GH} {S : LbS} {Z : Nat → Int → Int} (hL : lR T g0 S Z) (n : Nat)  (hk0 : zK S 13 = 27) (hea : zA S 13 1 = some (N 4)) (hs0 : Z 13 2 = 0) : Met l yJ2_grow (ws_ yJ2_grow cJ2_grow 1 (some (.array (.object "java/lang/Object")))) ({ frames := 4, cells := 1, slots := 10, locals := 107 } : Room) (gPc D T N [.ref (zB S 13)] g0 n) (gQq D g0 n (fun r g' n' => ∃ S' Z', lR T g' S' Z' ∧ S' = uA (uN S 24 n 10 10) 13 (uI (zA S 13) 1 (some n)) ∧ Z' = va_up Z 24 (fun _ => 0) ∧ n' = n + 1 ∧ r = some n)) 1 10 (gA g0 n) := by
  refine j_start (by decide) (Nat.le_of_ble_eq_true rfl) ?_
  intro p e s mi args below meth c hC hr hlk hnm hX ls hl
  have hC : Ct D T N (gA g0 n) p s mi args c cJ2_grow RJ2 1 := hC
  have hx := hC.x
  have hb := hC.b
  generalize hQ : MQ below _ args s 1 10 (gA g0 n) = Q
  have hl : lv_has ls 1 [(0, .ref (zB S 13))] := hl
  refine lv_aload_n hx hb (pc := 0) dJ2_grow_0 rfl (lv_at hl 0 rfl) ?_
  refine lv_aload_n hx hb (pc := 1) dJ2_grow_1 rfl (lv_at hl 0 rfl) ?_
  refine L_get hC hX hL in_J2 (ci := 7) rfl (pc := 2) 13 hk0 2 (by decide) q120 rfl (v := .int (iI (Z 13 2))) rfl dJ2_grow_2 ?_
  refine j_iconst hC (pc := 5) dJ2_grow_5 ?_
  refine j_iadd hC (pc := 6) dJ2_grow_6 ?_
  refine j_eqi (b := 1) (by rw [hs0]; rfl) ?_
  refine j_callq (rest := []) hX (va_runV hC.fix (l_grow2E13 D T N l hL _ hk0 hea) (cwV 1 hC.ts (lw_V q536 q538 qs10 q44 q539) rfl rfl rfl (by decide +kernel) ⟨Nat.le_of_ble_eq_true rfl, Nat.le_of_ble_eq_true rfl⟩) (j_preV hC hX (hL.ob 13 hk0) (ci := 7) (r := (RJ2, TJ2, 3)) rfl _) rfl rfl hl.1 rfl (Nat.le_of_ble_eq_true rfl) dJ2_grow_7 ⟨(Nat.le_of_ble_eq_true rfl), (Nat.le_of_ble_eq_true rfl)⟩) (fun r1 g m2 H locs hp hle hX => ?_)
  obtain ⟨S3, Z3, hL, hp⟩ := hp
  obtain ⟨hS_, hZ_, hn_, hr_⟩ := hp
  rw [hS_, hZ_] at hL
  rw [hn_] at hX
  rw [hr_]
  subst hQ
  exact j_aret (z := some (n)) hC (pc := 10) hX hr (Or.inr ⟨_, rfl⟩) hlk (Nat.le_of_ble_eq_true rfl) (Nat.le_of_ble_eq_true rfl) dJ2_grow_10 ⟨_, _, hL, ⟨rfl, rfl, rfl, rfl⟩⟩

set_option maxHeartbeats 4000000 in
set_option maxRecDepth 100000 in
theorem l_add2E13 (D : va_G) (T N : Nat → Nat) (l : Launch) {g0 : GH} {S : LbS} {Z : Nat → Int → Int} (hL : lR T g0 S Z) (n : Nat) (v : Nat) (C : String) (hk0 : zK S 13 = 27) (hea : zA S 13 1 = some (N 4)) (hs0 : Z 13 2 = 0) (hcs : (Cond.castable C "java/lang/Object") ∈ lw_tbl) (hv : ∀ {A : Nat → Prop} {p : Program} {s : State} {mi : MethodId} {args : Array Value} {c : Code} {cc : ByteArray} {own : String} {nL : Nat} {H : Heap} {locs : List Loc} {g : GH} {n' : Nat} {S' : LbS} {Z' : Nat → Int → Int}, Ct D T N A p s mi args c cc own nL → Wd D A s g n' H locs → lR T g S' Z' → sm S S' [13, 24] → hasC C s H v) : Met l yJ2_add_2 (ws_ yJ2_add_2 cJ2_add_2 4 none) ({ frames := 5, cells := 1, slots := 10, locals := 127 } : Room) (gPc D T N [.ref (zB S 13), .ref (v), .ref (N 4), .int (iI (0))] g0 n) (gQv D g0 n (fun g' n' => ∃ S' Z', lR T g' S' Z' ∧ S' = uA (uA (uN S 24 n 10 10) 13 (uI (zA S 13) 1 (some n))) 24 (uI (fun _ => none) 0 (some v)) ∧ Z' = va_up (va_up Z 24 (fun _ => 0)) 13 (uI (Z 13) 2 1) ∧ n' = n + 1)) 1 10 (gA g0 n) := by
  refine j_start (by decide) (Nat.le_of_ble_eq_true rfl) ?_
  intro p e s mi args below meth c hC hr hlk hnm hX ls hl
  have hC : Ct D T N (gA g0 n) p s mi args c cJ2_add_2 RJ2 4 := hC
  have hx := hC.x
  have hb := hC.b
  generalize hQ : MQ below _ args s 1 10 (gA g0 n) = Q
  have hl : lv_has ls 4 [(0, .ref (zB S 13)), (1, .ref (v)), (2, .ref (N 4)), (3, .int (iI (0)))] := hl
  refine lv_iload_n hx hb (pc := 0) dJ2_add_2_0 rfl (lv_at hl 3 rfl) ?_
  refine lv_aload_n hx hb (pc := 1) dJ2_add_2_1 rfl (lv_at hl 2 rfl) ?_
  refine j_emlen hC hX (pc := 2) dJ2_add_2_2 ?_
  refine j_icmp_ne hC (pc := 3) 11 dJ2_add_2_3 (by decide) (by omega) (fun c1 => ?_) (fun c1 => ?_)
  · skip
    exact absurd rfl c1
  · skip
    refine lv_aload_n hx hb (pc := 6) dJ2_add_2_6 rfl (lv_at hl 0 rfl) ?_
    refine j_callq (rest := []) hX (va_runV hC.fix (l_growE13 D T N l hL _ hk0 hea hs0) (cwV 0 hC.ts (lw_V q532 q534 qs9 q44 q535) rfl rfl rfl (by decide +kernel) ⟨Nat.le_of_ble_eq_true rfl, Nat.le_of_ble_eq_true rfl⟩) (j_preV hC hX (hL.ob 13 hk0) (ci := 7) (r := (RJ2, TJ2, 3)) rfl _) rfl rfl hl.1 rfl (Nat.le_of_ble_eq_true rfl) dJ2_add_2_7 ⟨(Nat.le_of_ble_eq_true rfl), (Nat.le_of_ble_eq_true rfl)⟩) (fun r2 g m3 H locs hp hle hX => ?_)
    obtain ⟨S4, Z4, hL, hp⟩ := hp
    obtain ⟨hS_, hZ_, hn_, hr_⟩ := hp
    rw [hS_, hZ_] at hL
    rw [hn_] at hX
    rw [hr_]
    refine lv_astore_n (lv' := [(2, .ref (n)), (0, .ref (zB S 13)), (1, .ref (v)), (3, .int (iI (0)))]) hx hb (pc := 10) dJ2_add_2_10 rfl hl (by decide) rfl (fun ls hl => ?_)
    refine lv_aload_n hx hb (pc := 11) dJ2_add_2_11 rfl (lv_at hl 0 rfl) ?_
    refine lv_iload_n hx hb (pc := 12) dJ2_add_2_12 rfl (lv_at hl 3 rfl) ?_
    refine lv_aload_n hx hb (pc := 13) dJ2_add_2_13 rfl (lv_at hl 2 rfl) ?_
    refine L_aastC hC hX hL (pc := 14) 24 9 rfl (by decide) rfl (hv hC hX hL ((sm.rf.uN 24 _ _ _ (by decide)).uA 13 _ (by decide))) hcs rfl (L := 10) rfl (by omega) (by omega) dJ2_add_2_14 (fun g H locs hX hL => ?_)
    refine lv_aload_n hx hb (pc := 15) dJ2_add_2_15 rfl (lv_at hl 1 rfl) ?_
    refine lv_iload_n hx hb (pc := 16) dJ2_add_2_16 rfl (lv_at hl 3 rfl) ?_
    refine j_iconst hC (pc := 17) dJ2_add_2_17 ?_
    refine j_iadd hC (pc := 18) dJ2_add_2_18 ?_
    refine j_eqi (b := 1) (by decide) ?_
    refine L_put hC hX hL in_J2 tyJ2 tyJ2_ok nmJ2 (ci := 7) rfl (pc := 19) 13 hk0 2 (by decide) q120 rfl rfl rfl rfl (f := uI (Z 13) 2 1) (show 2 < 3 by decide) rfl dJ2_add_2_19 (fun g H locs hX hL => ?_)
    subst hQ
    exact j_vret hC (pc := 22) hX hr hlk (Nat.le_of_ble_eq_true rfl) (Nat.le_of_ble_eq_true rfl) dJ2_add_2_22 ⟨_, _, hL, ⟨rfl, rfl, rfl⟩⟩

set_option maxHeartbeats 4000000 in
set_option maxRecDepth 100000 in
theorem l_addE13 (D : va_G) (T N : Nat → Nat) (l : Launch) {g0 : GH} {S : LbS} {Z : Nat → Int → Int} (hL : lR T g0 S Z) (n : Nat) (v : Nat) (C : String) (hk0 : zK S 13 = 27) (hea : zA S 13 1 = some (N 4)) (hs0 : Z 13 2 = 0) (hcs : (Cond.castable C "java/lang/Object") ∈ lw_tbl) (hv : ∀ {A : Nat → Prop} {p : Program} {s : State} {mi : MethodId} {args : Array Value} {c : Code} {cc : ByteArray} {own : String} {nL : Nat} {H : Heap} {locs : List Loc} {g : GH} {n' : Nat} {S' : LbS} {Z' : Nat → Int → Int}, Ct D T N A p s mi args c cc own nL → Wd D A s g n' H locs → lR T g S' Z' → sm S S' [13, 24] → hasC C s H v) : Met l yJ2_add (ws_ yJ2_add cJ2_add 2 (some .boolean)) ({ frames := 6, cells := 1, slots := 10, locals := 150 } : Room) (gPc D T N [.ref (zB S 13), .ref (v)] g0 n) (gQi D g0 n (fun r g' n' => ∃ S' Z', lR T g' S' Z' ∧ r = 1 ∧ S' = uA (uA (uN S 24 n 10 10) 13 (uI (zA S 13) 1 (some n))) 24 (uI (fun _ => none) 0 (some v)) ∧ ch Z Z' [13, 24] ∧ Z' 13 2 = 1)) 1 10 (gA g0 n) := by
  refine j_start (by decide) (Nat.le_of_ble_eq_true rfl) ?_
  intro p e s mi args below meth c hC hr hlk hnm hX ls hl
  have hC : Ct D T N (gA g0 n) p s mi args c cJ2_add RJ2 2 := hC
  have hx := hC.x
  have hb := hC.b
  generalize hQ : MQ below _ args s 1 10 (gA g0 n) = Q
  have hl : lv_has ls 2 [(0, .ref (zB S 13)), (1, .ref (v))] := hl
  refine lv_aload_n hx hb (pc := 0) dJ2_add_0 rfl (lv_at hl 0 rfl) ?_
  refine lv_dup hx hb (pc := 1) dJ2_add_1 rfl ?_
  refine L_getM hC hX hL (pc := 2) 13 hk0 dJ2_add_2 ?_
  refine j_iconst hC (pc := 5) dJ2_add_5 ?_
  refine j_iadd hC (pc := 6) dJ2_add_6 ?_
  refine L_putM hC hX hL (pc := 7) 13 hk0 (z := ((Z 13 0) + 1)) dJ2_add_7 (fun g H locs hX hL => ?_)
  refine lv_aload_n hx hb (pc := 10) dJ2_add_10 rfl (lv_at hl 0 rfl) ?_
  refine lv_aload_n hx hb (pc := 11) dJ2_add_11 rfl (lv_at hl 1 rfl) ?_
  refine lv_aload_n hx hb (pc := 12) dJ2_add_12 rfl (lv_at hl 0 rfl) ?_
  refine L_getr hC hX hL in_J2 (ci := 7) rfl (pc := 13) 13 hk0 1 (by decide) q119 rfl (q := zA S 13 1) (b := N 4) hea rfl dJ2_add_13 ?_
  refine lv_aload_n hx hb (pc := 16) dJ2_add_16 rfl (lv_at hl 0 rfl) ?_
  refine L_get hC hX hL in_J2 (ci := 7) rfl (pc := 17) 13 hk0 2 (by decide) q120 rfl (v := .int (iI ((uI (Z 13) 0 ((Z 13 0) + 1)) 2))) rfl dJ2_add_17 ?_
  refine j_eqi (b := 0) ((uI_n (Z 13) (Z 13 0 + 1) (show (2 : Int) ≠ 0 by decide)).trans hs0) ?_
  refine j_callv (rest := []) hX (va_runV hC.fix (l_add2E13 D T N l hL _ v C hk0 hea ((uI_n (Z 13) (Z 13 0 + 1) (show (2 : Int) ≠ 0 by decide)).trans hs0) hcs hv) (cwV 3 hC.ts (lw_V q528 q530 qs8 q44 q531) rfl rfl rfl (by decide +kernel) ⟨Nat.le_of_ble_eq_true rfl, Nat.le_of_ble_eq_true rfl⟩) (j_preV hC hX (hL.ob 13 hk0) (ci := 7) (r := (RJ2, TJ2, 3)) rfl _) rfl rfl hl.1 rfl (Nat.le_of_ble_eq_true rfl) dJ2_add_20 ⟨(Nat.le_of_ble_eq_true rfl), (Nat.le_of_ble_eq_true rfl)⟩) (fun g m2 H locs hp hle hX => ?_)
  obtain ⟨S3, Z3, hL, hp⟩ := hp
  refine j_iconst hC (pc := 23) dJ2_add_23 ?_
  subst hQ
  exact j_zret hC (pc := 24) hX hr hlk (Nat.le_of_ble_eq_true rfl) (Nat.le_of_ble_eq_true rfl) dJ2_add_24 (by omega) ⟨_, _, hL, ⟨rfl, hp.1, by rw [hp.2.1]; exact ((ch.rf.up 13 _ (by decide)).up 24 _ (by decide)).up 13 _ (by decide), by rw [hp.2.1]; rfl⟩⟩

set_option maxHeartbeats 4000000 in
set_option maxRecDepth 100000 in
theorem l_add2N13 (D : va_G) (T N : Nat → Nat) (l : Launch) {g0 : GH} {S : LbS} {Z : Nat → Int → Int} (hL : lR T g0 S Z) (n : Nat) (v : Nat) (C : String) (L : Nat) (k : Int) (hk0 : zK S 13 = 27) (hea : zA S 13 1 = some (zB S 24)) (he : zK S 24 = 10 ∧ zN S 24 = L) (hL1 : L ≤ 100000) (hk2 : 0 ≤ k ∧ k < L) (hcs : (Cond.castable C "java/lang/Object") ∈ lw_tbl) (hv : ∀ {A : Nat → Prop} {p : Program} {s : State} {mi : MethodId} {args : Array Value} {c : Code} {cc : ByteArray} {own : String} {nL : Nat} {H : Heap} {locs : List Loc} {g : GH} {n' : Nat} {S' : LbS} {Z' : Nat → Int → Int}, Ct D T N A p s mi args c cc own nL → Wd D A s g n' H locs → lR T g S' Z' → sm S S' [13, 24] → hasC C s H v) : Met l yJ2_add_2 (ws_ yJ2_add_2 cJ2_add_2 4 none) ({ frames := 5, cells := 0, slots := 0, locals := 127 } : Room) (gPc D T N [.ref (zB S 13), .ref (v), .ref (zB S 24), .int (iI (k))] g0 n) (gQv D g0 n (fun g' n' => ∃ S' Z', lR T g' S' Z' ∧ S' = uA S 24 (uI (zA S 24) k (some v)) ∧ Z' = va_up Z 13 (uI (Z 13) 2 (k + 1)) ∧ n' = n)) 0 0 (gA g0 n) := by
  refine j_start (by decide) (Nat.le_of_ble_eq_true rfl) ?_
  intro p e s mi args below meth c hC hr hlk hnm hX ls hl
  have hC : Ct D T N (gA g0 n) p s mi args c cJ2_add_2 RJ2 4 := hC
  have hx := hC.x
  have hb := hC.b
  generalize hQ : MQ below _ args s 0 0 (gA g0 n) = Q
  have hl : lv_has ls 4 [(0, .ref (zB S 13)), (1, .ref (v)), (2, .ref (zB S 24)), (3, .int (iI (k)))] := hl
  refine lv_iload_n hx hb (pc := 0) dJ2_add_2_0 rfl (lv_at hl 3 rfl) ?_
  refine lv_aload_n hx hb (pc := 1) dJ2_add_2_1 rfl (lv_at hl 2 rfl) ?_
  refine L_alen hC hX hL (pc := 2) 24 9 he.1 (by decide) (L := L) he.2 (z := (L : Int)) rfl dJ2_add_2_2 ?_
  refine j_icmp_ne hC (pc := 3) 11 dJ2_add_2_3 (by decide) (by omega) (fun c1 => ?_) (fun c1 => ?_)
  · skip
    refine lv_aload_n hx hb (pc := 11) dJ2_add_2_11 rfl (lv_at hl 2 rfl) ?_
    refine lv_iload_n hx hb (pc := 12) dJ2_add_2_12 rfl (lv_at hl 3 rfl) ?_
    refine lv_aload_n hx hb (pc := 13) dJ2_add_2_13 rfl (lv_at hl 1 rfl) ?_
    refine L_aastC hC hX hL (pc := 14) 24 9 he.1 (by decide) rfl (hv hC hX hL sm.rf) hcs rfl (L := L) he.2 (by omega) (by omega) dJ2_add_2_14 (fun g H locs hX hL => ?_)
    refine lv_aload_n hx hb (pc := 15) dJ2_add_2_15 rfl (lv_at hl 0 rfl) ?_
    refine lv_iload_n hx hb (pc := 16) dJ2_add_2_16 rfl (lv_at hl 3 rfl) ?_
    refine j_iconst hC (pc := 17) dJ2_add_2_17 ?_
    refine j_iadd hC (pc := 18) dJ2_add_2_18 ?_
    refine L_put hC hX hL in_J2 tyJ2 tyJ2_ok nmJ2 (ci := 7) rfl (pc := 19) 13 hk0 2 (by decide) q120 rfl rfl rfl rfl (f := uI (Z 13) 2 (k + 1)) (show 2 < 3 by decide) rfl dJ2_add_2_19 (fun g H locs hX hL => ?_)
    subst hQ
    exact j_vret hC (pc := 22) hX hr hlk (Nat.le_of_ble_eq_true rfl) (Nat.le_of_ble_eq_true rfl) dJ2_add_2_22 ⟨_, _, hL, ⟨rfl, rfl, rfl⟩⟩
  · skip
    omega

set_option maxHeartbeats 4000000 in
set_option maxRecDepth 100000 in
theorem l_addN13 (D : va_G) (T N : Nat → Nat) (l : Launch) {g0 : GH} {S : LbS} {Z : Nat → Int → Int} (hL : lR T g0 S Z) (n : Nat) (v : Nat) (C : String) (L : Nat) (hk0 : zK S 13 = 27) (hea : zA S 13 1 = some (zB S 24)) (he : zK S 24 = 10 ∧ zN S 24 = L) (hL1 : L ≤ 100000) (hsz : 0 ≤ Z 13 2 ∧ Z 13 2 < L) (hcs : (Cond.castable C "java/lang/Object") ∈ lw_tbl) (hv : ∀ {A : Nat → Prop} {p : Program} {s : State} {mi : MethodId} {args : Array Value} {c : Code} {cc : ByteArray} {own : String} {nL : Nat} {H : Heap} {locs : List Loc} {g : GH} {n' : Nat} {S' : LbS} {Z' : Nat → Int → Int}, Ct D T N A p s mi args c cc own nL → Wd D A s g n' H locs → lR T g S' Z' → sm S S' [13, 24] → hasC C s H v) : Met l yJ2_add (ws_ yJ2_add cJ2_add 2 (some .boolean)) ({ frames := 6, cells := 0, slots := 0, locals := 150 } : Room) (gPc D T N [.ref (zB S 13), .ref (v)] g0 n) (gQi D g0 n (fun r g' n' => ∃ S' Z', lR T g' S' Z' ∧ r = 1 ∧ S' = uA S 24 (uI (zA S 24) (Z 13 2) (some v)) ∧ ch Z Z' [13] ∧ Z' 13 2 = Z 13 2 + 1)) 0 0 (gA g0 n) := by
  refine j_start (by decide) (Nat.le_of_ble_eq_true rfl) ?_
  intro p e s mi args below meth c hC hr hlk hnm hX ls hl
  have hC : Ct D T N (gA g0 n) p s mi args c cJ2_add RJ2 2 := hC
  have hx := hC.x
  have hb := hC.b
  generalize hQ : MQ below _ args s 0 0 (gA g0 n) = Q
  have hl : lv_has ls 2 [(0, .ref (zB S 13)), (1, .ref (v))] := hl
  refine lv_aload_n hx hb (pc := 0) dJ2_add_0 rfl (lv_at hl 0 rfl) ?_
  refine lv_dup hx hb (pc := 1) dJ2_add_1 rfl ?_
  refine L_getM hC hX hL (pc := 2) 13 hk0 dJ2_add_2 ?_
  refine j_iconst hC (pc := 5) dJ2_add_5 ?_
  refine j_iadd hC (pc := 6) dJ2_add_6 ?_
  refine L_putM hC hX hL (pc := 7) 13 hk0 (z := ((Z 13 0) + 1)) dJ2_add_7 (fun g H locs hX hL => ?_)
  refine lv_aload_n hx hb (pc := 10) dJ2_add_10 rfl (lv_at hl 0 rfl) ?_
  refine lv_aload_n hx hb (pc := 11) dJ2_add_11 rfl (lv_at hl 1 rfl) ?_
  refine lv_aload_n hx hb (pc := 12) dJ2_add_12 rfl (lv_at hl 0 rfl) ?_
  refine L_getr hC hX hL in_J2 (ci := 7) rfl (pc := 13) 13 hk0 1 (by decide) q119 rfl (q := zA S 13 1) (b := zB S 24) hea rfl dJ2_add_13 ?_
  refine lv_aload_n hx hb (pc := 16) dJ2_add_16 rfl (lv_at hl 0 rfl) ?_
  refine L_get hC hX hL in_J2 (ci := 7) rfl (pc := 17) 13 hk0 2 (by decide) q120 rfl (v := .int (iI ((uI (Z 13) 0 ((Z 13 0) + 1)) 2))) rfl dJ2_add_17 ?_
  refine j_eqi (b := Z 13 2) (uI_n (Z 13) (Z 13 0 + 1) (show (2 : Int) ≠ 0 by decide)) ?_
  refine j_callv (rest := []) hX (va_runV hC.fix (l_add2N13 D T N l hL _ v C L (Z 13 2) hk0 hea he hL1 hsz hcs hv) (cwV 3 hC.ts (lw_V q528 q530 qs8 q44 q531) rfl rfl rfl (by decide +kernel) ⟨Nat.le_of_ble_eq_true rfl, Nat.le_of_ble_eq_true rfl⟩) (j_preV hC hX (hL.ob 13 hk0) (ci := 7) (r := (RJ2, TJ2, 3)) rfl _) rfl rfl hl.1 rfl (Nat.le_of_ble_eq_true rfl) dJ2_add_20 ⟨(Nat.le_of_ble_eq_true rfl), (Nat.le_of_ble_eq_true rfl)⟩) (fun g m2 H locs hp hle hX => ?_)
  obtain ⟨S3, Z3, hL, hp⟩ := hp
  refine j_iconst hC (pc := 23) dJ2_add_23 ?_
  subst hQ
  exact j_zret hC (pc := 24) hX hr hlk (Nat.le_of_ble_eq_true rfl) (Nat.le_of_ble_eq_true rfl) dJ2_add_24 (by omega) ⟨_, _, hL, ⟨rfl, hp.1, by rw [hp.2.1]; exact (ch.rf.up 13 _ (by decide)).up 13 _ (by decide), by rw [hp.2.1]; rfl⟩⟩

set_option maxHeartbeats 4000000 in
set_option maxRecDepth 100000 in
theorem l_grow2E14 (D : va_G) (T N : Nat → Nat) (l : Launch) {g0 : GH} {S : LbS} {Z : Nat → Int → Int} (hL : lR T g0 S Z) (n : Nat)  (hk0 : zK S 14 = 27) (hea : zA S 14 1 = some (N 4)) : Met l yJ2_grow_2 (ws_ yJ2_grow_2 cJ2_grow_2 4 (some (.array (.object "java/lang/Object")))) ({ frames := 3, cells := 1, slots := 10, locals := 84 } : Room) (gPc D T N [.ref (zB S 14), .int (iI (1))] g0 n) (gQq D g0 n (fun r g' n' => ∃ S' Z', lR T g' S' Z' ∧ S' = uA (uN S 25 n 10 10) 14 (uI (zA S 14) 1 (some n)) ∧ Z' = va_up Z 25 (fun _ => 0) ∧ n' = n + 1 ∧ r = some n)) 1 10 (gA g0 n) := by
  refine j_start (by decide) (Nat.le_of_ble_eq_true rfl) ?_
  intro p e s mi args below meth c hC hr hlk hnm hX ls hl
  have hC : Ct D T N (gA g0 n) p s mi args c cJ2_grow_2 RJ2 4 := hC
  have hx := hC.x
  have hb := hC.b
  generalize hQ : MQ below _ args s 1 10 (gA g0 n) = Q
  have hl : lv_has ls 4 [(0, .ref (zB S 14)), (1, .int (iI (1)))] := hl
  refine lv_aload_n hx hb (pc := 0) dJ2_grow_2_0 rfl (lv_at hl 0 rfl) ?_
  refine L_getr hC hX hL in_J2 (ci := 7) rfl (pc := 1) 14 hk0 1 (by decide) q119 rfl (q := zA S 14 1) (b := N 4) hea rfl dJ2_grow_2_1 ?_
  refine j_emlen hC hX (pc := 4) dJ2_grow_2_4 ?_
  refine lv_istore_n (lv' := [(2, .int (iI (0))), (0, .ref (zB S 14)), (1, .int (iI (1)))]) hx hb (pc := 5) dJ2_grow_2_5 rfl hl (by decide) rfl (fun ls hl => ?_)
  refine lv_iload_n hx hb (pc := 6) dJ2_grow_2_6 rfl (lv_at hl 0 rfl) ?_
  refine j_if_gt hC (pc := 7) 20 dJ2_grow_2_7 (by decide) (by omega) (fun c1 => ?_) (fun c1 => ?_)
  · skip
    exact absurd c1 (by decide)
  · skip
    refine lv_aload_n hx hb (pc := 10) dJ2_grow_2_10 rfl (lv_at hl 1 rfl) ?_
    refine L_getr hC hX hL in_J2 (ci := 7) rfl (pc := 11) 14 hk0 1 (by decide) q119 rfl (q := zA S 14 1) (b := N 4) hea rfl dJ2_grow_2_11 ?_
    refine j_empty hC hX (pc := 14) dJ2_grow_2_14 ?_
    refine lv_acmp_eq (rx := some (N 4)) (ry := some (N 4)) (tgt := 45) hx hb (pc := 17) dJ2_grow_2_17 (by decide) (fun _ => ?_) (fun h => absurd rfl h)
    refine lv_aload_n hx hb (pc := 45) dJ2_grow_2_45 rfl (lv_at hl 1 rfl) ?_
    refine j_bipush hC (pc := 46) dJ2_grow_2_46 (by decide) ?_
    refine lv_iload_n hx hb (pc := 48) dJ2_grow_2_48 rfl (lv_at hl 2 rfl) ?_
    refine j_mmax hC (pc := 49) q579 hl.1 (Nat.le_of_ble_eq_true rfl) (Nat.le_of_ble_eq_true rfl) (Nat.le_of_ble_eq_true rfl) (Nat.le_of_ble_eq_true rfl) (by omega) dJ2_grow_2_49 ?_
    refine j_eqi (b := 10) (by decide) ?_
    refine L_newR hC hX hL (pc := 52) 25 9 (by decide) q580 q575 rfl (k := 10) rfl (by decide) (Nat.le_of_ble_eq_true rfl) (Nat.le_of_ble_eq_true rfl) dJ2_grow_2_52 (fun g H hX hL => ?_)
    refine lv_dup_x1 hx hb (pc := 55) dJ2_grow_2_55 rfl rfl ?_
    refine L_putA hC hX hL in_J2 tyJ2 tyJ2_ok nmJ2 (ci := 7) rfl (pc := 56) 14 hk0 1 (by decide) q119 rfl rfl rfl rfl (f := uI (zA S 14) 1 (some (n))) (show 1 < 3 by decide) rfl dJ2_grow_2_56 (fun g H locs hX hL => ?_)
    subst hQ
    exact j_aret (z := some (n)) hC (pc := 59) hX hr (Or.inr ⟨_, rfl⟩) hlk (Nat.le_of_ble_eq_true rfl) (Nat.le_of_ble_eq_true rfl) dJ2_grow_2_59 ⟨_, _, hL, ⟨rfl, rfl, rfl, rfl⟩⟩

set_option maxHeartbeats 4000000 in
set_option maxRecDepth 100000 in
theorem l_growE14 (D : va_G) (T N : Nat → Nat) (l : Launch) {g0 : GH} {S : LbS} {Z : Nat → Int → Int} (hL : lR T g0 S Z) (n : Nat)  (hk0 : zK S 14 = 27) (hea : zA S 14 1 = some (N 4)) (hs0 : Z 14 2 = 0) : Met l yJ2_grow (ws_ yJ2_grow cJ2_grow 1 (some (.array (.object "java/lang/Object")))) ({ frames := 4, cells := 1, slots := 10, locals := 107 } : Room) (gPc D T N [.ref (zB S 14)] g0 n) (gQq D g0 n (fun r g' n' => ∃ S' Z', lR T g' S' Z' ∧ S' = uA (uN S 25 n 10 10) 14 (uI (zA S 14) 1 (some n)) ∧ Z' = va_up Z 25 (fun _ => 0) ∧ n' = n + 1 ∧ r = some n)) 1 10 (gA g0 n) := by
  refine j_start (by decide) (Nat.le_of_ble_eq_true rfl) ?_
  intro p e s mi args below meth c hC hr hlk hnm hX ls hl
  have hC : Ct D T N (gA g0 n) p s mi args c cJ2_grow RJ2 1 := hC
  have hx := hC.x
  have hb := hC.b
  generalize hQ : MQ below _ args s 1 10 (gA g0 n) = Q
  have hl : lv_has ls 1 [(0, .ref (zB S 14))] := hl
  refine lv_aload_n hx hb (pc := 0) dJ2_grow_0 rfl (lv_at hl 0 rfl) ?_
  refine lv_aload_n hx hb (pc := 1) dJ2_grow_1 rfl (lv_at hl 0 rfl) ?_
  refine L_get hC hX hL in_J2 (ci := 7) rfl (pc := 2) 14 hk0 2 (by decide) q120 rfl (v := .int (iI (Z 14 2))) rfl dJ2_grow_2 ?_
  refine j_iconst hC (pc := 5) dJ2_grow_5 ?_
  refine j_iadd hC (pc := 6) dJ2_grow_6 ?_
  refine j_eqi (b := 1) (by rw [hs0]; rfl) ?_
  refine j_callq (rest := []) hX (va_runV hC.fix (l_grow2E14 D T N l hL _ hk0 hea) (cwV 1 hC.ts (lw_V q536 q538 qs10 q44 q539) rfl rfl rfl (by decide +kernel) ⟨Nat.le_of_ble_eq_true rfl, Nat.le_of_ble_eq_true rfl⟩) (j_preV hC hX (hL.ob 14 hk0) (ci := 7) (r := (RJ2, TJ2, 3)) rfl _) rfl rfl hl.1 rfl (Nat.le_of_ble_eq_true rfl) dJ2_grow_7 ⟨(Nat.le_of_ble_eq_true rfl), (Nat.le_of_ble_eq_true rfl)⟩) (fun r1 g m2 H locs hp hle hX => ?_)
  obtain ⟨S3, Z3, hL, hp⟩ := hp
  obtain ⟨hS_, hZ_, hn_, hr_⟩ := hp
  rw [hS_, hZ_] at hL
  rw [hn_] at hX
  rw [hr_]
  subst hQ
  exact j_aret (z := some (n)) hC (pc := 10) hX hr (Or.inr ⟨_, rfl⟩) hlk (Nat.le_of_ble_eq_true rfl) (Nat.le_of_ble_eq_true rfl) dJ2_grow_10 ⟨_, _, hL, ⟨rfl, rfl, rfl, rfl⟩⟩

set_option maxHeartbeats 4000000 in
set_option maxRecDepth 100000 in
theorem l_add2E14 (D : va_G) (T N : Nat → Nat) (l : Launch) {g0 : GH} {S : LbS} {Z : Nat → Int → Int} (hL : lR T g0 S Z) (n : Nat) (v : Nat) (C : String) (hk0 : zK S 14 = 27) (hea : zA S 14 1 = some (N 4)) (hs0 : Z 14 2 = 0) (hcs : (Cond.castable C "java/lang/Object") ∈ lw_tbl) (hv : ∀ {A : Nat → Prop} {p : Program} {s : State} {mi : MethodId} {args : Array Value} {c : Code} {cc : ByteArray} {own : String} {nL : Nat} {H : Heap} {locs : List Loc} {g : GH} {n' : Nat} {S' : LbS} {Z' : Nat → Int → Int}, Ct D T N A p s mi args c cc own nL → Wd D A s g n' H locs → lR T g S' Z' → sm S S' [14, 25] → hasC C s H v) : Met l yJ2_add_2 (ws_ yJ2_add_2 cJ2_add_2 4 none) ({ frames := 5, cells := 1, slots := 10, locals := 127 } : Room) (gPc D T N [.ref (zB S 14), .ref (v), .ref (N 4), .int (iI (0))] g0 n) (gQv D g0 n (fun g' n' => ∃ S' Z', lR T g' S' Z' ∧ S' = uA (uA (uN S 25 n 10 10) 14 (uI (zA S 14) 1 (some n))) 25 (uI (fun _ => none) 0 (some v)) ∧ Z' = va_up (va_up Z 25 (fun _ => 0)) 14 (uI (Z 14) 2 1) ∧ n' = n + 1)) 1 10 (gA g0 n) := by
  refine j_start (by decide) (Nat.le_of_ble_eq_true rfl) ?_
  intro p e s mi args below meth c hC hr hlk hnm hX ls hl
  have hC : Ct D T N (gA g0 n) p s mi args c cJ2_add_2 RJ2 4 := hC
  have hx := hC.x
  have hb := hC.b
  generalize hQ : MQ below _ args s 1 10 (gA g0 n) = Q
  have hl : lv_has ls 4 [(0, .ref (zB S 14)), (1, .ref (v)), (2, .ref (N 4)), (3, .int (iI (0)))] := hl
  refine lv_iload_n hx hb (pc := 0) dJ2_add_2_0 rfl (lv_at hl 3 rfl) ?_
  refine lv_aload_n hx hb (pc := 1) dJ2_add_2_1 rfl (lv_at hl 2 rfl) ?_
  refine j_emlen hC hX (pc := 2) dJ2_add_2_2 ?_
  refine j_icmp_ne hC (pc := 3) 11 dJ2_add_2_3 (by decide) (by omega) (fun c1 => ?_) (fun c1 => ?_)
  · skip
    exact absurd rfl c1
  · skip
    refine lv_aload_n hx hb (pc := 6) dJ2_add_2_6 rfl (lv_at hl 0 rfl) ?_
    refine j_callq (rest := []) hX (va_runV hC.fix (l_growE14 D T N l hL _ hk0 hea hs0) (cwV 0 hC.ts (lw_V q532 q534 qs9 q44 q535) rfl rfl rfl (by decide +kernel) ⟨Nat.le_of_ble_eq_true rfl, Nat.le_of_ble_eq_true rfl⟩) (j_preV hC hX (hL.ob 14 hk0) (ci := 7) (r := (RJ2, TJ2, 3)) rfl _) rfl rfl hl.1 rfl (Nat.le_of_ble_eq_true rfl) dJ2_add_2_7 ⟨(Nat.le_of_ble_eq_true rfl), (Nat.le_of_ble_eq_true rfl)⟩) (fun r2 g m3 H locs hp hle hX => ?_)
    obtain ⟨S4, Z4, hL, hp⟩ := hp
    obtain ⟨hS_, hZ_, hn_, hr_⟩ := hp
    rw [hS_, hZ_] at hL
    rw [hn_] at hX
    rw [hr_]
    refine lv_astore_n (lv' := [(2, .ref (n)), (0, .ref (zB S 14)), (1, .ref (v)), (3, .int (iI (0)))]) hx hb (pc := 10) dJ2_add_2_10 rfl hl (by decide) rfl (fun ls hl => ?_)
    refine lv_aload_n hx hb (pc := 11) dJ2_add_2_11 rfl (lv_at hl 0 rfl) ?_
    refine lv_iload_n hx hb (pc := 12) dJ2_add_2_12 rfl (lv_at hl 3 rfl) ?_
    refine lv_aload_n hx hb (pc := 13) dJ2_add_2_13 rfl (lv_at hl 2 rfl) ?_
    refine L_aastC hC hX hL (pc := 14) 25 9 rfl (by decide) rfl (hv hC hX hL ((sm.rf.uN 25 _ _ _ (by decide)).uA 14 _ (by decide))) hcs rfl (L := 10) rfl (by omega) (by omega) dJ2_add_2_14 (fun g H locs hX hL => ?_)
    refine lv_aload_n hx hb (pc := 15) dJ2_add_2_15 rfl (lv_at hl 1 rfl) ?_
    refine lv_iload_n hx hb (pc := 16) dJ2_add_2_16 rfl (lv_at hl 3 rfl) ?_
    refine j_iconst hC (pc := 17) dJ2_add_2_17 ?_
    refine j_iadd hC (pc := 18) dJ2_add_2_18 ?_
    refine j_eqi (b := 1) (by decide) ?_
    refine L_put hC hX hL in_J2 tyJ2 tyJ2_ok nmJ2 (ci := 7) rfl (pc := 19) 14 hk0 2 (by decide) q120 rfl rfl rfl rfl (f := uI (Z 14) 2 1) (show 2 < 3 by decide) rfl dJ2_add_2_19 (fun g H locs hX hL => ?_)
    subst hQ
    exact j_vret hC (pc := 22) hX hr hlk (Nat.le_of_ble_eq_true rfl) (Nat.le_of_ble_eq_true rfl) dJ2_add_2_22 ⟨_, _, hL, ⟨rfl, rfl, rfl⟩⟩

set_option maxHeartbeats 4000000 in
set_option maxRecDepth 100000 in
theorem l_addE14 (D : va_G) (T N : Nat → Nat) (l : Launch) {g0 : GH} {S : LbS} {Z : Nat → Int → Int} (hL : lR T g0 S Z) (n : Nat) (v : Nat) (C : String) (hk0 : zK S 14 = 27) (hea : zA S 14 1 = some (N 4)) (hs0 : Z 14 2 = 0) (hcs : (Cond.castable C "java/lang/Object") ∈ lw_tbl) (hv : ∀ {A : Nat → Prop} {p : Program} {s : State} {mi : MethodId} {args : Array Value} {c : Code} {cc : ByteArray} {own : String} {nL : Nat} {H : Heap} {locs : List Loc} {g : GH} {n' : Nat} {S' : LbS} {Z' : Nat → Int → Int}, Ct D T N A p s mi args c cc own nL → Wd D A s g n' H locs → lR T g S' Z' → sm S S' [14, 25] → hasC C s H v) : Met l yJ2_add (ws_ yJ2_add cJ2_add 2 (some .boolean)) ({ frames := 6, cells := 1, slots := 10, locals := 150 } : Room) (gPc D T N [.ref (zB S 14), .ref (v)] g0 n) (gQi D g0 n (fun r g' n' => ∃ S' Z', lR T g' S' Z' ∧ r = 1 ∧ S' = uA (uA (uN S 25 n 10 10) 14 (uI (zA S 14) 1 (some n))) 25 (uI (fun _ => none) 0 (some v)) ∧ ch Z Z' [14, 25] ∧ Z' 14 2 = 1)) 1 10 (gA g0 n) := by
  refine j_start (by decide) (Nat.le_of_ble_eq_true rfl) ?_
  intro p e s mi args below meth c hC hr hlk hnm hX ls hl
  have hC : Ct D T N (gA g0 n) p s mi args c cJ2_add RJ2 2 := hC
  have hx := hC.x
  have hb := hC.b
  generalize hQ : MQ below _ args s 1 10 (gA g0 n) = Q
  have hl : lv_has ls 2 [(0, .ref (zB S 14)), (1, .ref (v))] := hl
  refine lv_aload_n hx hb (pc := 0) dJ2_add_0 rfl (lv_at hl 0 rfl) ?_
  refine lv_dup hx hb (pc := 1) dJ2_add_1 rfl ?_
  refine L_getM hC hX hL (pc := 2) 14 hk0 dJ2_add_2 ?_
  refine j_iconst hC (pc := 5) dJ2_add_5 ?_
  refine j_iadd hC (pc := 6) dJ2_add_6 ?_
  refine L_putM hC hX hL (pc := 7) 14 hk0 (z := ((Z 14 0) + 1)) dJ2_add_7 (fun g H locs hX hL => ?_)
  refine lv_aload_n hx hb (pc := 10) dJ2_add_10 rfl (lv_at hl 0 rfl) ?_
  refine lv_aload_n hx hb (pc := 11) dJ2_add_11 rfl (lv_at hl 1 rfl) ?_
  refine lv_aload_n hx hb (pc := 12) dJ2_add_12 rfl (lv_at hl 0 rfl) ?_
  refine L_getr hC hX hL in_J2 (ci := 7) rfl (pc := 13) 14 hk0 1 (by decide) q119 rfl (q := zA S 14 1) (b := N 4) hea rfl dJ2_add_13 ?_
  refine lv_aload_n hx hb (pc := 16) dJ2_add_16 rfl (lv_at hl 0 rfl) ?_
  refine L_get hC hX hL in_J2 (ci := 7) rfl (pc := 17) 14 hk0 2 (by decide) q120 rfl (v := .int (iI ((uI (Z 14) 0 ((Z 14 0) + 1)) 2))) rfl dJ2_add_17 ?_
  refine j_eqi (b := 0) ((uI_n (Z 14) (Z 14 0 + 1) (show (2 : Int) ≠ 0 by decide)).trans hs0) ?_
  refine j_callv (rest := []) hX (va_runV hC.fix (l_add2E14 D T N l hL _ v C hk0 hea ((uI_n (Z 14) (Z 14 0 + 1) (show (2 : Int) ≠ 0 by decide)).trans hs0) hcs hv) (cwV 3 hC.ts (lw_V q528 q530 qs8 q44 q531) rfl rfl rfl (by decide +kernel) ⟨Nat.le_of_ble_eq_true rfl, Nat.le_of_ble_eq_true rfl⟩) (j_preV hC hX (hL.ob 14 hk0) (ci := 7) (r := (RJ2, TJ2, 3)) rfl _) rfl rfl hl.1 rfl (Nat.le_of_ble_eq_true rfl) dJ2_add_20 ⟨(Nat.le_of_ble_eq_true rfl), (Nat.le_of_ble_eq_true rfl)⟩) (fun g m2 H locs hp hle hX => ?_)
  obtain ⟨S3, Z3, hL, hp⟩ := hp
  refine j_iconst hC (pc := 23) dJ2_add_23 ?_
  subst hQ
  exact j_zret hC (pc := 24) hX hr hlk (Nat.le_of_ble_eq_true rfl) (Nat.le_of_ble_eq_true rfl) dJ2_add_24 (by omega) ⟨_, _, hL, ⟨rfl, hp.1, by rw [hp.2.1]; exact ((ch.rf.up 14 _ (by decide)).up 25 _ (by decide)).up 14 _ (by decide), by rw [hp.2.1]; rfl⟩⟩

set_option maxHeartbeats 4000000 in
set_option maxRecDepth 100000 in
theorem l_add2N14 (D : va_G) (T N : Nat → Nat) (l : Launch) {g0 : GH} {S : LbS} {Z : Nat → Int → Int} (hL : lR T g0 S Z) (n : Nat) (v : Nat) (C : String) (L : Nat) (k : Int) (hk0 : zK S 14 = 27) (hea : zA S 14 1 = some (zB S 25)) (he : zK S 25 = 10 ∧ zN S 25 = L) (hL1 : L ≤ 100000) (hk2 : 0 ≤ k ∧ k < L) (hcs : (Cond.castable C "java/lang/Object") ∈ lw_tbl) (hv : ∀ {A : Nat → Prop} {p : Program} {s : State} {mi : MethodId} {args : Array Value} {c : Code} {cc : ByteArray} {own : String} {nL : Nat} {H : Heap} {locs : List Loc} {g : GH} {n' : Nat} {S' : LbS} {Z' : Nat → Int → Int}, Ct D T N A p s mi args c cc own nL → Wd D A s g n' H locs → lR T g S' Z' → sm S S' [14, 25] → hasC C s H v) : Met l yJ2_add_2 (ws_ yJ2_add_2 cJ2_add_2 4 none) ({ frames := 5, cells := 0, slots := 0, locals := 127 } : Room) (gPc D T N [.ref (zB S 14), .ref (v), .ref (zB S 25), .int (iI (k))] g0 n) (gQv D g0 n (fun g' n' => ∃ S' Z', lR T g' S' Z' ∧ S' = uA S 25 (uI (zA S 25) k (some v)) ∧ Z' = va_up Z 14 (uI (Z 14) 2 (k + 1)) ∧ n' = n)) 0 0 (gA g0 n) := by
  refine j_start (by decide) (Nat.le_of_ble_eq_true rfl) ?_
  intro p e s mi args below meth c hC hr hlk hnm hX ls hl
  have hC : Ct D T N (gA g0 n) p s mi args c cJ2_add_2 RJ2 4 := hC
  have hx := hC.x
  have hb := hC.b
  generalize hQ : MQ below _ args s 0 0 (gA g0 n) = Q
  have hl : lv_has ls 4 [(0, .ref (zB S 14)), (1, .ref (v)), (2, .ref (zB S 25)), (3, .int (iI (k)))] := hl
  refine lv_iload_n hx hb (pc := 0) dJ2_add_2_0 rfl (lv_at hl 3 rfl) ?_
  refine lv_aload_n hx hb (pc := 1) dJ2_add_2_1 rfl (lv_at hl 2 rfl) ?_
  refine L_alen hC hX hL (pc := 2) 25 9 he.1 (by decide) (L := L) he.2 (z := (L : Int)) rfl dJ2_add_2_2 ?_
  refine j_icmp_ne hC (pc := 3) 11 dJ2_add_2_3 (by decide) (by omega) (fun c1 => ?_) (fun c1 => ?_)
  · skip
    refine lv_aload_n hx hb (pc := 11) dJ2_add_2_11 rfl (lv_at hl 2 rfl) ?_
    refine lv_iload_n hx hb (pc := 12) dJ2_add_2_12 rfl (lv_at hl 3 rfl) ?_
    refine lv_aload_n hx hb (pc := 13) dJ2_add_2_13 rfl (lv_at hl 1 rfl) ?_
    refine L_aastC hC hX hL (pc := 14) 25 9 he.1 (by decide) rfl (hv hC hX hL sm.rf) hcs rfl (L := L) he.2 (by omega) (by omega) dJ2_add_2_14 (fun g H locs hX hL => ?_)
    refine lv_aload_n hx hb (pc := 15) dJ2_add_2_15 rfl (lv_at hl 0 rfl) ?_
    refine lv_iload_n hx hb (pc := 16) dJ2_add_2_16 rfl (lv_at hl 3 rfl) ?_
    refine j_iconst hC (pc := 17) dJ2_add_2_17 ?_
    refine j_iadd hC (pc := 18) dJ2_add_2_18 ?_
    refine L_put hC hX hL in_J2 tyJ2 tyJ2_ok nmJ2 (ci := 7) rfl (pc := 19) 14 hk0 2 (by decide) q120 rfl rfl rfl rfl (f := uI (Z 14) 2 (k + 1)) (show 2 < 3 by decide) rfl dJ2_add_2_19 (fun g H locs hX hL => ?_)
    subst hQ
    exact j_vret hC (pc := 22) hX hr hlk (Nat.le_of_ble_eq_true rfl) (Nat.le_of_ble_eq_true rfl) dJ2_add_2_22 ⟨_, _, hL, ⟨rfl, rfl, rfl⟩⟩
  · skip
    omega

set_option maxHeartbeats 4000000 in
set_option maxRecDepth 100000 in
theorem l_addN14 (D : va_G) (T N : Nat → Nat) (l : Launch) {g0 : GH} {S : LbS} {Z : Nat → Int → Int} (hL : lR T g0 S Z) (n : Nat) (v : Nat) (C : String) (L : Nat) (hk0 : zK S 14 = 27) (hea : zA S 14 1 = some (zB S 25)) (he : zK S 25 = 10 ∧ zN S 25 = L) (hL1 : L ≤ 100000) (hsz : 0 ≤ Z 14 2 ∧ Z 14 2 < L) (hcs : (Cond.castable C "java/lang/Object") ∈ lw_tbl) (hv : ∀ {A : Nat → Prop} {p : Program} {s : State} {mi : MethodId} {args : Array Value} {c : Code} {cc : ByteArray} {own : String} {nL : Nat} {H : Heap} {locs : List Loc} {g : GH} {n' : Nat} {S' : LbS} {Z' : Nat → Int → Int}, Ct D T N A p s mi args c cc own nL → Wd D A s g n' H locs → lR T g S' Z' → sm S S' [14, 25] → hasC C s H v) : Met l yJ2_add (ws_ yJ2_add cJ2_add 2 (some .boolean)) ({ frames := 6, cells := 0, slots := 0, locals := 150 } : Room) (gPc D T N [.ref (zB S 14), .ref (v)] g0 n) (gQi D g0 n (fun r g' n' => ∃ S' Z', lR T g' S' Z' ∧ r = 1 ∧ S' = uA S 25 (uI (zA S 25) (Z 14 2) (some v)) ∧ ch Z Z' [14] ∧ Z' 14 2 = Z 14 2 + 1)) 0 0 (gA g0 n) := by
  refine j_start (by decide) (Nat.le_of_ble_eq_true rfl) ?_
  intro p e s mi args below meth c hC hr hlk hnm hX ls hl
  have hC : Ct D T N (gA g0 n) p s mi args c cJ2_add RJ2 2 := hC
  have hx := hC.x
  have hb := hC.b
  generalize hQ : MQ below _ args s 0 0 (gA g0 n) = Q
  have hl : lv_has ls 2 [(0, .ref (zB S 14)), (1, .ref (v))] := hl
  refine lv_aload_n hx hb (pc := 0) dJ2_add_0 rfl (lv_at hl 0 rfl) ?_
  refine lv_dup hx hb (pc := 1) dJ2_add_1 rfl ?_
  refine L_getM hC hX hL (pc := 2) 14 hk0 dJ2_add_2 ?_
  refine j_iconst hC (pc := 5) dJ2_add_5 ?_
  refine j_iadd hC (pc := 6) dJ2_add_6 ?_
  refine L_putM hC hX hL (pc := 7) 14 hk0 (z := ((Z 14 0) + 1)) dJ2_add_7 (fun g H locs hX hL => ?_)
  refine lv_aload_n hx hb (pc := 10) dJ2_add_10 rfl (lv_at hl 0 rfl) ?_
  refine lv_aload_n hx hb (pc := 11) dJ2_add_11 rfl (lv_at hl 1 rfl) ?_
  refine lv_aload_n hx hb (pc := 12) dJ2_add_12 rfl (lv_at hl 0 rfl) ?_
  refine L_getr hC hX hL in_J2 (ci := 7) rfl (pc := 13) 14 hk0 1 (by decide) q119 rfl (q := zA S 14 1) (b := zB S 25) hea rfl dJ2_add_13 ?_
  refine lv_aload_n hx hb (pc := 16) dJ2_add_16 rfl (lv_at hl 0 rfl) ?_
  refine L_get hC hX hL in_J2 (ci := 7) rfl (pc := 17) 14 hk0 2 (by decide) q120 rfl (v := .int (iI ((uI (Z 14) 0 ((Z 14 0) + 1)) 2))) rfl dJ2_add_17 ?_
  refine j_eqi (b := Z 14 2) (uI_n (Z 14) (Z 14 0 + 1) (show (2 : Int) ≠ 0 by decide)) ?_
  refine j_callv (rest := []) hX (va_runV hC.fix (l_add2N14 D T N l hL _ v C L (Z 14 2) hk0 hea he hL1 hsz hcs hv) (cwV 3 hC.ts (lw_V q528 q530 qs8 q44 q531) rfl rfl rfl (by decide +kernel) ⟨Nat.le_of_ble_eq_true rfl, Nat.le_of_ble_eq_true rfl⟩) (j_preV hC hX (hL.ob 14 hk0) (ci := 7) (r := (RJ2, TJ2, 3)) rfl _) rfl rfl hl.1 rfl (Nat.le_of_ble_eq_true rfl) dJ2_add_20 ⟨(Nat.le_of_ble_eq_true rfl), (Nat.le_of_ble_eq_true rfl)⟩) (fun g m2 H locs hp hle hX => ?_)
  obtain ⟨S3, Z3, hL, hp⟩ := hp
  refine j_iconst hC (pc := 23) dJ2_add_23 ?_
  subst hQ
  exact j_zret hC (pc := 24) hX hr hlk (Nat.le_of_ble_eq_true rfl) (Nat.le_of_ble_eq_true rfl) dJ2_add_24 (by omega) ⟨_, _, hL, ⟨rfl, hp.1, by rw [hp.2.1]; exact (ch.rf.up 14 _ (by decide)).up 14 _ (by decide), by rw [hp.2.1]; rfl⟩⟩
