/-! a list that grows -/
set_option maxHeartbeats 4000000 in
set_option maxRecDepth 100000 in
theorem l_newLen (D : va_G) (T N : Nat → Nat) (l : Launch) (a b d : Int) (h : 0 ≤ a ∧ a ≤ 100 ∧ 0 ≤ b ∧ b ≤ d ∧ 1 ≤ d ∧ d ≤ 100) : SSi D T N l yJ4_newLength (ws_ yJ4_newLength cJ4_newLength 4 (some .int)) ({ frames := 1, cells := 0, slots := 0, locals := 22 } : Room) [.int (iI (a)), .int (iI (b)), .int (iI (d))] (fun r => r = a + d) := by
  intro g0 n
  refine j_start (by decide) (Nat.le_of_ble_eq_true rfl) ?_
  intro p e s mi args below meth c hC hr hlk hnm hX ls hl
  have hC : Ct D T N (gA g0 n) p s mi args c cJ4_newLength RJ4 4 := hC
  have hx := hC.x
  have hb := hC.b
  generalize hQ : MQ below _ args s 0 0 (gA g0 n) = Q
  have hl : lv_has ls 4 [(0, .int (iI (a))), (1, .int (iI (b))), (2, .int (iI (d)))] := hl
  refine lv_iload_n hx hb (pc := 0) dJ4_newLength_0 rfl (lv_at hl 0 rfl) ?_
  refine lv_iload_n hx hb (pc := 1) dJ4_newLength_1 rfl (lv_at hl 1 rfl) ?_
  refine lv_iload_n hx hb (pc := 2) dJ4_newLength_2 rfl (lv_at hl 2 rfl) ?_
  refine j_mmax hC (pc := 3) q543 hl.1 (Nat.le_of_ble_eq_true rfl) (Nat.le_of_ble_eq_true rfl) (Nat.le_of_ble_eq_true rfl) (Nat.le_of_ble_eq_true rfl) (by omega) dJ4_newLength_3 ?_
  refine j_eqi (b := d) (maxF_r (by omega)) ?_
  refine j_iadd hC (pc := 6) dJ4_newLength_6 ?_
  refine lv_istore_n (lv' := [(3, .int (iI (a + d))), (0, .int (iI (a))), (1, .int (iI (b))), (2, .int (iI (d)))]) hx hb (pc := 7) dJ4_newLength_7 rfl hl (by decide) rfl (fun ls hl => ?_)
  refine j_iconst hC (pc := 8) dJ4_newLength_8 ?_
  refine lv_iload_n hx hb (pc := 9) dJ4_newLength_9 rfl (lv_at hl 0 rfl) ?_
  refine j_icmp_ge hC (pc := 10) 21 dJ4_newLength_10 (by decide) (by omega) (fun c1 => ?_) (fun c1 => ?_)
  · skip
    omega
  · skip
    refine lv_iload_n hx hb (pc := 13) dJ4_newLength_13 rfl (lv_at hl 0 rfl) ?_
    refine j_ldc hC (pc := 14) (z := 2147483639) q544 dJ4_newLength_14 rfl ?_
    refine j_icmp_gt hC (pc := 16) 21 dJ4_newLength_16 (by decide) (by omega) (fun c2 => ?_) (fun c2 => ?_)
    · skip
      omega
    · skip
      refine lv_iload_n hx hb (pc := 19) dJ4_newLength_19 rfl (lv_at hl 0 rfl) ?_
      subst hQ
      exact j_iret hC (pc := 20) hX hr hlk (Nat.le_of_ble_eq_true rfl) (Nat.le_of_ble_eq_true rfl) dJ4_newLength_20 ⟨rfl, rfl, rfl⟩

set_option maxHeartbeats 4000000 in
set_option maxRecDepth 100000 in
theorem l_copyOf2 (D : va_G) (T N : Nat → Nat) (l : Launch) {g0 : GH} {S : LbS} {Z : Nat → Int → Int} (hL : lR T g0 S Z) (n : Nat) (L M : Nat) (he : zK S 25 = 10 ∧ zN S 25 = L) (hLM : L ≤ M ∧ M ≤ 33) (hel : ∀ {A : Nat → Prop} {p : Program} {s : State} {mi : MethodId} {args : Array Value} {c : Code} {cc : ByteArray} {own : String} {nL : Nat} {H : Heap} {locs : List Loc} {g : GH} {n' : Nat} {S' : LbS} {Z' : Nat → Int → Int}, Ct D T N A p s mi args c cc own nL → Wd D A s g n' H locs → lR T g S' Z' → sm S S' [14, 104] → ∀ i : Int, 0 ≤ i → i < (L : Int) → ∀ y : Nat, zA S 25 i = some y → hasC "java/lang/Integer" s H y) : Met l yJ5_copyOf_2 (ws_ yJ5_copyOf_2 cJ5_copyOf_2 4 (some (.array (.object "java/lang/Object")))) ({ frames := 1, cells := 1, slots := 33, locals := 40 } : Room) (gPc D T N [.ref (zB S 25), .int (iI ((M : Int))), .ref (N 262)] g0 n) (gQq D g0 n (fun r g' n' => ∃ S' Z', lR T g' S' Z' ∧ S' = uA (uN S 104 n 10 M) 104 (cpR (zA S 25) (fun _ => none) 0 0 (L : Int)) ∧ Z' = va_up Z 104 (fun _ => 0) ∧ n' = n + 1 ∧ r = some n)) 1 33 (gA g0 n) := by
  refine j_start (by decide) (Nat.le_of_ble_eq_true rfl) ?_
  intro p e s mi args below meth c hC hr hlk hnm hX ls hl
  have hC : Ct D T N (gA g0 n) p s mi args c cJ5_copyOf_2 RJ5 4 := hC
  have hx := hC.x
  have hb := hC.b
  generalize hQ : MQ below _ args s 1 33 (gA g0 n) = Q
  have hl : lv_has ls 4 [(0, .ref (zB S 25)), (1, .int (iI ((M : Int)))), (2, .ref (N 262))] := hl
  refine lv_aload_n hx hb (pc := 0) dJ5_copyOf_2_0 rfl (lv_at hl 2 rfl) ?_
  refine j_ldcO hC (pc := 1) dJ5_copyOf_2_1 ?_
  refine lv_acmp_ne (rx := some (N 262)) (ry := some (N 262)) (tgt := 13) hx hb (pc := 3) dJ5_copyOf_2_3 (by decide) (fun h => absurd rfl h) (fun _ => ?_)
  refine lv_iload_n hx hb (pc := 6) dJ5_copyOf_2_6 rfl (lv_at hl 1 rfl) ?_
  refine L_newR hC hX hL (pc := 7) 104 9 (by decide) q576 q575 rfl (k := M) rfl (by omega) (by first | exact Nat.le_of_ble_eq_true rfl | (show 0 + M ≤ 33; omega)) (by show 0 + M ≤ 33; omega) dJ5_copyOf_2_7 (fun g H hX hL => ?_)
  refine j_goto hC (pc := 10) 24 dJ5_copyOf_2_10 (by decide) ?_
  refine lv_astore_n (lv' := [(3, .ref (n)), (0, .ref (zB S 25)), (1, .int (iI ((M : Int)))), (2, .ref (N 262))]) hx hb (pc := 24) dJ5_copyOf_2_24 rfl hl (by decide) rfl (fun ls hl => ?_)
  refine lv_aload_n hx hb (pc := 25) dJ5_copyOf_2_25 rfl (lv_at hl 1 rfl) ?_
  refine j_iconst hC (pc := 26) dJ5_copyOf_2_26 ?_
  refine lv_aload_n hx hb (pc := 27) dJ5_copyOf_2_27 rfl (lv_at hl 0 rfl) ?_
  refine j_iconst hC (pc := 28) dJ5_copyOf_2_28 ?_
  refine lv_aload_n hx hb (pc := 29) dJ5_copyOf_2_29 rfl (lv_at hl 1 rfl) ?_
  refine L_alen hC hX hL (pc := 30) 25 9 he.1 (by decide) (L := L) he.2 (z := (L : Int)) rfl dJ5_copyOf_2_30 ?_
  refine lv_iload_n hx hb (pc := 31) dJ5_copyOf_2_31 rfl (lv_at hl 2 rfl) ?_
  refine j_mmin hC (pc := 32) q577 hl.1 (Nat.le_of_ble_eq_true rfl) (Nat.le_of_ble_eq_true rfl) (by first | exact Nat.le_of_ble_eq_true rfl | (show 0 + M ≤ 33; omega)) (by first | exact Nat.le_of_ble_eq_true rfl | (show 0 + M ≤ 33; omega)) (by omega) dJ5_copyOf_2_32 ?_
  refine j_eqi (b := (L : Int)) (minF_l (by omega)) ?_
  refine L_copyR hC hX hL (pc := 35) 25 104 9 rfl (by decide) q578 q1294 rfl hl.1 he.1 rfl (n0 := L) (n1 := M) he.2 rfl (by omega) (fun i h1 h2 y hy => hel hC hX hL (sm.rf.uN 104 _ _ _ (by decide)) i h1 h2 y (by rw [Int.zero_add] at hy; exact hy)) (Nat.le_of_ble_eq_true rfl) (Nat.le_of_ble_eq_true rfl) dJ5_copyOf_2_35 (fun g H locs hX hL => ?_)
  refine lv_aload_n hx hb (pc := 38) dJ5_copyOf_2_38 rfl (lv_at hl 0 rfl) ?_
  subst hQ
  exact j_aret (z := some (n)) hC (pc := 39) hX hr (Or.inr ⟨_, rfl⟩) hlk (by first | exact Nat.le_refl _ | (show 0 + M ≤ 33; omega)) (by first | exact Nat.le_refl _ | (show 0 + M ≤ 33; omega)) dJ5_copyOf_2_39 ⟨_, _, hL, ⟨rfl, rfl, rfl, rfl⟩⟩

set_option maxHeartbeats 4000000 in
set_option maxRecDepth 100000 in
theorem l_copyOf (D : va_G) (T N : Nat → Nat) (l : Launch) {g0 : GH} {S : LbS} {Z : Nat → Int → Int} (hL : lR T g0 S Z) (n : Nat) (L M : Nat) (he : zK S 25 = 10 ∧ zN S 25 = L) (hLM : L ≤ M ∧ M ≤ 33) (hel : ∀ {A : Nat → Prop} {p : Program} {s : State} {mi : MethodId} {args : Array Value} {c : Code} {cc : ByteArray} {own : String} {nL : Nat} {H : Heap} {locs : List Loc} {g : GH} {n' : Nat} {S' : LbS} {Z' : Nat → Int → Int}, Ct D T N A p s mi args c cc own nL → Wd D A s g n' H locs → lR T g S' Z' → sm S S' [14, 104] → ∀ i : Int, 0 ≤ i → i < (L : Int) → ∀ y : Nat, zA S 25 i = some y → hasC "java/lang/Integer" s H y) : Met l yJ5_copyOf (ws_ yJ5_copyOf cJ5_copyOf 2 (some (.array (.object "java/lang/Object")))) ({ frames := 2, cells := 1, slots := 33, locals := 63 } : Room) (gPc D T N [.ref (zB S 25), .int (iI ((M : Int)))] g0 n) (gQq D g0 n (fun r g' n' => ∃ S' Z', lR T g' S' Z' ∧ S' = uA (uN S 104 n 10 M) 104 (cpR (zA S 25) (fun _ => none) 0 0 (L : Int)) ∧ Z' = va_up Z 104 (fun _ => 0) ∧ n' = n + 1 ∧ r = some n)) 1 33 (gA g0 n) := by
  refine j_start (by decide) (Nat.le_of_ble_eq_true rfl) ?_
  intro p e s mi args below meth c hC hr hlk hnm hX ls hl
  have hC : Ct D T N (gA g0 n) p s mi args c cJ5_copyOf RJ5 2 := hC
  have hx := hC.x
  have hb := hC.b
  generalize hQ : MQ below _ args s 1 33 (gA g0 n) = Q
  have hl : lv_has ls 2 [(0, .ref (zB S 25)), (1, .int (iI ((M : Int))))] := hl
  refine lv_aload_n hx hb (pc := 0) dJ5_copyOf_0 rfl (lv_at hl 0 rfl) ?_
  refine lv_iload_n hx hb (pc := 1) dJ5_copyOf_1 rfl (lv_at hl 1 rfl) ?_
  refine lv_aload_n hx hb (pc := 2) dJ5_copyOf_2 rfl (lv_at hl 0 rfl) ?_
  refine L_getCl hC hX hL (pc := 3) 25 he.1 he.2 hl.1 (Nat.le_of_ble_eq_true rfl) (Nat.le_of_ble_eq_true rfl) dJ5_copyOf_3 ?_
  refine j_callq (rest := []) hX (va_runS hC.fix (l_copyOf2 D T N l hL _ L M he hLM hel) (va_cwS 3 hC.ts (lw_S q571 q572 q53 q573) rfl rfl rfl (by decide +kernel) ⟨Nat.le_of_ble_eq_true rfl, Nat.le_of_ble_eq_true rfl⟩) (j_preS hC hX _) rfl rfl hl.1 rfl (Nat.le_of_ble_eq_true rfl) dJ5_copyOf_6 ⟨(Nat.le_of_ble_eq_true rfl), (Nat.le_of_ble_eq_true rfl)⟩) (fun r1 g m2 H locs hp hle hX => ?_)
  obtain ⟨S3, Z3, hL, hp⟩ := hp
  obtain ⟨hS_, hZ_, hn_, hr_⟩ := hp
  rw [hS_, hZ_] at hL
  rw [hn_] at hX
  rw [hr_]
  subst hQ
  exact j_aret (z := some (n)) hC (pc := 9) hX hr (Or.inr ⟨_, rfl⟩) hlk (Nat.le_of_ble_eq_true rfl) (Nat.le_of_ble_eq_true rfl) dJ5_copyOf_9 ⟨_, _, hL, ⟨rfl, rfl, rfl, rfl⟩⟩

set_option maxHeartbeats 4000000 in
set_option maxRecDepth 100000 in
theorem l_grow2G (D : va_G) (T N : Nat → Nat) (l : Launch) {g0 : GH} {S : LbS} {Z : Nat → Int → Int} (hL : lR T g0 S Z) (n : Nat) (L : Nat) (hk0 : zK S 14 = 27) (hea : zA S 14 1 = some (zB S 25)) (he : zK S 25 = 10 ∧ zN S 25 = L) (hL3 : L = 10 ∨ L = 15 ∨ L = 22) (hel : ∀ {A : Nat → Prop} {p : Program} {s : State} {mi : MethodId} {args : Array Value} {c : Code} {cc : ByteArray} {own : String} {nL : Nat} {H : Heap} {locs : List Loc} {g : GH} {n' : Nat} {S' : LbS} {Z' : Nat → Int → Int}, Ct D T N A p s mi args c cc own nL → Wd D A s g n' H locs → lR T g S' Z' → sm S S' [14, 104] → ∀ i : Int, 0 ≤ i → i < (L : Int) → ∀ y : Nat, zA S 25 i = some y → hasC "java/lang/Integer" s H y) : Met l yJ2_grow_2 (ws_ yJ2_grow_2 cJ2_grow_2 4 (some (.array (.object "java/lang/Object")))) ({ frames := 3, cells := 1, slots := 33, locals := 84 } : Room) (gPc D T N [.ref (zB S 14), .int (iI ((L : Int) + 1))] g0 n) (gQq D g0 n (fun r g' n' => ∃ S' Z', lR T g' S' Z' ∧ S' = uA (uA (uN S 104 n 10 (L + L / 2)) 104 (cpR (zA S 25) (fun _ => none) 0 0 (L : Int))) 14 (uI (zA S 14) 1 (some n)) ∧ Z' = va_up Z 104 (fun _ => 0) ∧ n' = n + 1 ∧ r = some n)) 1 33 (gA g0 n) := by
  refine j_start (by decide) (Nat.le_of_ble_eq_true rfl) ?_
  intro p e s mi args below meth c hC hr hlk hnm hX ls hl
  have hC : Ct D T N (gA g0 n) p s mi args c cJ2_grow_2 RJ2 4 := hC
  have hx := hC.x
  have hb := hC.b
  generalize hQ : MQ below _ args s 1 33 (gA g0 n) = Q
  have hl : lv_has ls 4 [(0, .ref (zB S 14)), (1, .int (iI ((L : Int) + 1)))] := hl
  refine lv_aload_n hx hb (pc := 0) dJ2_grow_2_0 rfl (lv_at hl 0 rfl) ?_
  refine L_getr hC hX hL in_J2 (ci := 7) rfl (pc := 1) 14 hk0 1 (by decide) q119 rfl (q := zA S 14 1) (b := zB S 25) hea rfl dJ2_grow_2_1 ?_
  refine L_alen hC hX hL (pc := 4) 25 9 he.1 (by decide) (L := L) he.2 (z := (L : Int)) rfl dJ2_grow_2_4 ?_
  refine lv_istore_n (lv' := [(2, .int (iI ((L : Int)))), (0, .ref (zB S 14)), (1, .int (iI ((L : Int) + 1)))]) hx hb (pc := 5) dJ2_grow_2_5 rfl hl (by decide) rfl (fun ls hl => ?_)
  refine lv_iload_n hx hb (pc := 6) dJ2_grow_2_6 rfl (lv_at hl 0 rfl) ?_
  refine j_if_gt hC (pc := 7) 20 dJ2_grow_2_7 (by decide) (by omega) (fun c1 => ?_) (fun c1 => ?_)
  · skip
    refine lv_iload_n hx hb (pc := 20) dJ2_grow_2_20 rfl (lv_at hl 0 rfl) ?_
    refine lv_iload_n hx hb (pc := 21) dJ2_grow_2_21 rfl (lv_at hl 2 rfl) ?_
    refine lv_iload_n hx hb (pc := 22) dJ2_grow_2_22 rfl (lv_at hl 0 rfl) ?_
    refine j_isub hC (pc := 23) dJ2_grow_2_23 ?_
    refine lv_iload_n hx hb (pc := 24) dJ2_grow_2_24 rfl (lv_at hl 0 rfl) ?_
    refine j_iconst hC (pc := 25) dJ2_grow_2_25 ?_
    refine j_half hC (pc := 26) hL3 dJ2_grow_2_26 ?_
    refine j_calli (rest := []) hX (va_runS hC.fix (l_newLen D T N l (L : Int) (((L : Int) + 1) - (L : Int)) ((L : Int) / 2) (by rcases hL3 with rfl | rfl | rfl <;> decide) _ _) (va_cwS 3 hC.ts (lw_S q540 q541 q52 q542) rfl rfl rfl (by decide +kernel) ⟨Nat.le_of_ble_eq_true rfl, Nat.le_of_ble_eq_true rfl⟩) (j_preS hC hX _) rfl rfl hl.1 rfl (Nat.le_of_ble_eq_true rfl) dJ2_grow_2_27 ⟨(Nat.le_of_ble_eq_true rfl), (Nat.le_of_ble_eq_true rfl)⟩) (fun r2 g m3 H locs hp hle hX => ?_)
    obtain ⟨hn_, hg_, hp⟩ := hp
    rw [hn_, hg_] at hX
    refine j_eqi (b := ((L + L / 2 : Nat) : Int)) (hp.trans (by omega)) ?_
    refine lv_istore_n (lv' := [(3, .int (iI (((L + L / 2 : Nat) : Int)))), (2, .int (iI ((L : Int)))), (0, .ref (zB S 14)), (1, .int (iI ((L : Int) + 1)))]) hx hb (pc := 30) dJ2_grow_2_30 rfl hl (by decide) rfl (fun ls hl => ?_)
    refine lv_aload_n hx hb (pc := 31) dJ2_grow_2_31 rfl (lv_at hl 2 rfl) ?_
    refine lv_aload_n hx hb (pc := 32) dJ2_grow_2_32 rfl (lv_at hl 2 rfl) ?_
    refine L_getr hC hX hL in_J2 (ci := 7) rfl (pc := 33) 14 hk0 1 (by decide) q119 rfl (q := zA S 14 1) (b := zB S 25) hea rfl dJ2_grow_2_33 ?_
    refine lv_iload_n hx hb (pc := 36) dJ2_grow_2_36 rfl (lv_at hl 0 rfl) ?_
    refine j_callq (rest := [.ref (zB S 14)]) hX (va_runS hC.fix (l_copyOf D T N l hL _ L (L + L / 2) he (by omega) hel) (va_cwS 2 hC.ts (lw_S q548 q549 q53 q550) rfl rfl rfl (by decide +kernel) ⟨Nat.le_of_ble_eq_true rfl, Nat.le_of_ble_eq_true rfl⟩) (j_preS hC hX _) rfl rfl hl.1 rfl (Nat.le_of_ble_eq_true rfl) dJ2_grow_2_37 ⟨(Nat.le_of_ble_eq_true rfl), (Nat.le_of_ble_eq_true rfl)⟩) (fun r4 g m5 H locs hp hle hX => ?_)
    obtain ⟨S6, Z6, hL, hp⟩ := hp
    obtain ⟨hS_, hZ_, hn_, hr_⟩ := hp
    rw [hS_, hZ_] at hL
    rw [hn_] at hX
    rw [hr_]
    refine lv_dup_x1 hx hb (pc := 40) dJ2_grow_2_40 rfl rfl ?_
    refine L_putA hC hX hL in_J2 tyJ2 tyJ2_ok nmJ2 (ci := 7) rfl (pc := 41) 14 hk0 1 (by decide) q119 rfl rfl rfl rfl (f := uI (zA S 14) 1 (some (n))) (show 1 < 3 by decide) rfl dJ2_grow_2_41 (fun g H locs hX hL => ?_)
    subst hQ
    exact j_aret (z := some (n)) hC (pc := 44) hX hr (Or.inr ⟨_, rfl⟩) hlk (Nat.le_of_ble_eq_true rfl) (Nat.le_of_ble_eq_true rfl) dJ2_grow_2_44 ⟨_, _, hL, ⟨rfl, rfl, rfl, rfl⟩⟩
  · skip
    omega

set_option maxHeartbeats 4000000 in
set_option maxRecDepth 100000 in
theorem l_growG (D : va_G) (T N : Nat → Nat) (l : Launch) {g0 : GH} {S : LbS} {Z : Nat → Int → Int} (hL : lR T g0 S Z) (n : Nat) (L : Nat) (hk0 : zK S 14 = 27) (hea : zA S 14 1 = some (zB S 25)) (he : zK S 25 = 10 ∧ zN S 25 = L) (hL3 : L = 10 ∨ L = 15 ∨ L = 22) (hel : ∀ {A : Nat → Prop} {p : Program} {s : State} {mi : MethodId} {args : Array Value} {c : Code} {cc : ByteArray} {own : String} {nL : Nat} {H : Heap} {locs : List Loc} {g : GH} {n' : Nat} {S' : LbS} {Z' : Nat → Int → Int}, Ct D T N A p s mi args c cc own nL → Wd D A s g n' H locs → lR T g S' Z' → sm S S' [14, 104] → ∀ i : Int, 0 ≤ i → i < (L : Int) → ∀ y : Nat, zA S 25 i = some y → hasC "java/lang/Integer" s H y) (hsz : Z 14 2 = L) : Met l yJ2_grow (ws_ yJ2_grow cJ2_grow 1 (some (.array (.object "java/lang/Object")))) ({ frames := 4, cells := 1, slots := 33, locals := 107 } : Room) (gPc D T N [.ref (zB S 14)] g0 n) (gQq D g0 n (fun r g' n' => ∃ S' Z', lR T g' S' Z' ∧ S' = uA (uA (uN S 104 n 10 (L + L / 2)) 104 (cpR (zA S 25) (fun _ => none) 0 0 (L : Int))) 14 (uI (zA S 14) 1 (some n)) ∧ Z' = va_up Z 104 (fun _ => 0) ∧ n' = n + 1 ∧ r = some n)) 1 33 (gA g0 n) := by
  refine j_start (by decide) (Nat.le_of_ble_eq_true rfl) ?_
  intro p e s mi args below meth c hC hr hlk hnm hX ls hl
  have hC : Ct D T N (gA g0 n) p s mi args c cJ2_grow RJ2 1 := hC
  have hx := hC.x
  have hb := hC.b
  generalize hQ : MQ below _ args s 1 33 (gA g0 n) = Q
  have hl : lv_has ls 1 [(0, .ref (zB S 14))] := hl
  refine lv_aload_n hx hb (pc := 0) dJ2_grow_0 rfl (lv_at hl 0 rfl) ?_
  refine lv_aload_n hx hb (pc := 1) dJ2_grow_1 rfl (lv_at hl 0 rfl) ?_
  refine L_get hC hX hL in_J2 (ci := 7) rfl (pc := 2) 14 hk0 2 (by decide) q120 rfl (v := .int (iI (Z 14 2))) rfl dJ2_grow_2 ?_
  refine j_iconst hC (pc := 5) dJ2_grow_5 ?_
  refine j_iadd hC (pc := 6) dJ2_grow_6 ?_
  refine j_eqi (b := (L : Int) + 1) (by rw [hsz]) ?_
  refine j_callq (rest := []) hX (va_runV hC.fix (l_grow2G D T N l hL _ L hk0 hea he hL3 hel) (cwV 1 hC.ts (lw_V q536 q538 qs10 q44 q539) rfl rfl rfl (by decide +kernel) ⟨Nat.le_of_ble_eq_true rfl, Nat.le_of_ble_eq_true rfl⟩) (j_preV hC hX (hL.ob 14 hk0) (ci := 7) (r := (RJ2, TJ2, 3)) rfl _) rfl rfl hl.1 rfl (Nat.le_of_ble_eq_true rfl) dJ2_grow_7 ⟨(Nat.le_of_ble_eq_true rfl), (Nat.le_of_ble_eq_true rfl)⟩) (fun r1 g m2 H locs hp hle hX => ?_)
  obtain ⟨S3, Z3, hL, hp⟩ := hp
  obtain ⟨hS_, hZ_, hn_, hr_⟩ := hp
  rw [hS_, hZ_] at hL
  rw [hn_] at hX
  rw [hr_]
  subst hQ
  exact j_aret (z := some (n)) hC (pc := 10) hX hr (Or.inr ⟨_, rfl⟩) hlk (Nat.le_of_ble_eq_true rfl) (Nat.le_of_ble_eq_true rfl) dJ2_grow_10 ⟨_, _, hL, ⟨rfl, rfl, rfl, rfl⟩⟩

set_option maxHeartbeats 4000000 in
set_option maxRecDepth 100000 in
theorem l_add2G (D : va_G) (T N : Nat → Nat) (l : Launch) {g0 : GH} {S : LbS} {Z : Nat → Int → Int} (hL : lR T g0 S Z) (n : Nat) (v : Nat) (C : String) (L : Nat) (hk0 : zK S 14 = 27) (hea : zA S 14 1 = some (zB S 25)) (he : zK S 25 = 10 ∧ zN S 25 = L) (hL3 : L = 10 ∨ L = 15 ∨ L = 22) (hel : ∀ {A : Nat → Prop} {p : Program} {s : State} {mi : MethodId} {args : Array Value} {c : Code} {cc : ByteArray} {own : String} {nL : Nat} {H : Heap} {locs : List Loc} {g : GH} {n' : Nat} {S' : LbS} {Z' : Nat → Int → Int}, Ct D T N A p s mi args c cc own nL → Wd D A s g n' H locs → lR T g S' Z' → sm S S' [14, 104] → ∀ i : Int, 0 ≤ i → i < (L : Int) → ∀ y : Nat, zA S 25 i = some y → hasC "java/lang/Integer" s H y) (hsz : Z 14 2 = L) (hcs : (Cond.castable C "java/lang/Object") ∈ lw_tbl) (hv : ∀ {A : Nat → Prop} {p : Program} {s : State} {mi : MethodId} {args : Array Value} {c : Code} {cc : ByteArray} {own : String} {nL : Nat} {H : Heap} {locs : List Loc} {g : GH} {n' : Nat} {S' : LbS} {Z' : Nat → Int → Int}, Ct D T N A p s mi args c cc own nL → Wd D A s g n' H locs → lR T g S' Z' → sm S S' [14, 104] → hasC C s H v) : Met l yJ2_add_2 (ws_ yJ2_add_2 cJ2_add_2 4 none) ({ frames := 5, cells := 1, slots := 33, locals := 127 } : Room) (gPc D T N [.ref (zB S 14), .ref (v), .ref (zB S 25), .int (iI ((L : Int)))] g0 n) (gQv D g0 n (fun g' n' => ∃ S' Z', lR T g' S' Z' ∧ S' = uA (uA (uA (uN S 104 n 10 (L + L / 2)) 104 (cpR (zA S 25) (fun _ => none) 0 0 (L : Int))) 14 (uI (zA S 14) 1 (some n))) 104 (uI (cpR (zA S 25) (fun _ => none) 0 0 (L : Int)) (L : Int) (some v)) ∧ Z' = va_up (va_up Z 104 (fun _ => 0)) 14 (uI (Z 14) 2 ((L : Int) + 1)) ∧ n' = n + 1)) 1 33 (gA g0 n) := by
  refine j_start (by decide) (Nat.le_of_ble_eq_true rfl) ?_
  intro p e s mi args below meth c hC hr hlk hnm hX ls hl
  have hC : Ct D T N (gA g0 n) p s mi args c cJ2_add_2 RJ2 4 := hC
  have hx := hC.x
  have hb := hC.b
  generalize hQ : MQ below _ args s 1 33 (gA g0 n) = Q
  have hl : lv_has ls 4 [(0, .ref (zB S 14)), (1, .ref (v)), (2, .ref (zB S 25)), (3, .int (iI ((L : Int))))] := hl
  refine lv_iload_n hx hb (pc := 0) dJ2_add_2_0 rfl (lv_at hl 3 rfl) ?_
  refine lv_aload_n hx hb (pc := 1) dJ2_add_2_1 rfl (lv_at hl 2 rfl) ?_
  refine L_alen hC hX hL (pc := 2) 25 9 he.1 (by decide) (L := L) he.2 (z := (L : Int)) rfl dJ2_add_2_2 ?_
  refine j_icmp_ne hC (pc := 3) 11 dJ2_add_2_3 (by decide) (by omega) (fun c1 => ?_) (fun c1 => ?_)
  · skip
    exact absurd rfl c1
  · skip
    refine lv_aload_n hx hb (pc := 6) dJ2_add_2_6 rfl (lv_at hl 0 rfl) ?_
    refine j_callq (rest := []) hX (va_runV hC.fix (l_growG D T N l hL _ L hk0 hea he hL3 hel hsz) (cwV 0 hC.ts (lw_V q532 q534 qs9 q44 q535) rfl rfl rfl (by decide +kernel) ⟨Nat.le_of_ble_eq_true rfl, Nat.le_of_ble_eq_true rfl⟩) (j_preV hC hX (hL.ob 14 hk0) (ci := 7) (r := (RJ2, TJ2, 3)) rfl _) rfl rfl hl.1 rfl (Nat.le_of_ble_eq_true rfl) dJ2_add_2_7 ⟨(Nat.le_of_ble_eq_true rfl), (Nat.le_of_ble_eq_true rfl)⟩) (fun r2 g m3 H locs hp hle hX => ?_)
    obtain ⟨S4, Z4, hL, hp⟩ := hp
    obtain ⟨hS_, hZ_, hn_, hr_⟩ := hp
    rw [hS_, hZ_] at hL
    rw [hn_] at hX
    rw [hr_]
    refine lv_astore_n (lv' := [(2, .ref (n)), (0, .ref (zB S 14)), (1, .ref (v)), (3, .int (iI ((L : Int))))]) hx hb (pc := 10) dJ2_add_2_10 rfl hl (by decide) rfl (fun ls hl => ?_)
    refine lv_aload_n hx hb (pc := 11) dJ2_add_2_11 rfl (lv_at hl 0 rfl) ?_
    refine lv_iload_n hx hb (pc := 12) dJ2_add_2_12 rfl (lv_at hl 3 rfl) ?_
    refine lv_aload_n hx hb (pc := 13) dJ2_add_2_13 rfl (lv_at hl 2 rfl) ?_
    refine L_aastC hC hX hL (pc := 14) 104 9 rfl (by decide) rfl (hv hC hX hL (((sm.rf.uN 104 _ _ _ (by decide)).uA 104 _ (by decide)).uA 14 _ (by decide))) hcs rfl (L := (L + L / 2)) rfl (by omega) (by omega) dJ2_add_2_14 (fun g H locs hX hL => ?_)
    refine lv_aload_n hx hb (pc := 15) dJ2_add_2_15 rfl (lv_at hl 1 rfl) ?_
    refine lv_iload_n hx hb (pc := 16) dJ2_add_2_16 rfl (lv_at hl 3 rfl) ?_
    refine j_iconst hC (pc := 17) dJ2_add_2_17 ?_
    refine j_iadd hC (pc := 18) dJ2_add_2_18 ?_
    refine L_put hC hX hL in_J2 tyJ2 tyJ2_ok nmJ2 (ci := 7) rfl (pc := 19) 14 hk0 2 (by decide) q120 rfl rfl rfl rfl (f := uI (Z 14) 2 ((L : Int) + 1)) (show 2 < 3 by decide) rfl dJ2_add_2_19 (fun g H locs hX hL => ?_)
    subst hQ
    exact j_vret hC (pc := 22) hX hr hlk (Nat.le_of_ble_eq_true rfl) (Nat.le_of_ble_eq_true rfl) dJ2_add_2_22 ⟨_, _, hL, ⟨rfl, rfl, rfl⟩⟩

set_option maxHeartbeats 4000000 in
set_option maxRecDepth 100000 in
theorem l_addG (D : va_G) (T N : Nat → Nat) (l : Launch) {g0 : GH} {S : LbS} {Z : Nat → Int → Int} (hL : lR T g0 S Z) (n : Nat) (v : Nat) (C : String) (L : Nat) (hk0 : zK S 14 = 27) (hea : zA S 14 1 = some (zB S 25)) (he : zK S 25 = 10 ∧ zN S 25 = L) (hL3 : L = 10 ∨ L = 15 ∨ L = 22) (hel : ∀ {A : Nat → Prop} {p : Program} {s : State} {mi : MethodId} {args : Array Value} {c : Code} {cc : ByteArray} {own : String} {nL : Nat} {H : Heap} {locs : List Loc} {g : GH} {n' : Nat} {S' : LbS} {Z' : Nat → Int → Int}, Ct D T N A p s mi args c cc own nL → Wd D A s g n' H locs → lR T g S' Z' → sm S S' [14, 104] → ∀ i : Int, 0 ≤ i → i < (L : Int) → ∀ y : Nat, zA S 25 i = some y → hasC "java/lang/Integer" s H y) (hsz : Z 14 2 = L) (hcs : (Cond.castable C "java/lang/Object") ∈ lw_tbl) (hv : ∀ {A : Nat → Prop} {p : Program} {s : State} {mi : MethodId} {args : Array Value} {c : Code} {cc : ByteArray} {own : String} {nL : Nat} {H : Heap} {locs : List Loc} {g : GH} {n' : Nat} {S' : LbS} {Z' : Nat → Int → Int}, Ct D T N A p s mi args c cc own nL → Wd D A s g n' H locs → lR T g S' Z' → sm S S' [14, 104] → hasC C s H v) : Met l yJ2_add (ws_ yJ2_add cJ2_add 2 (some .boolean)) ({ frames := 6, cells := 1, slots := 33, locals := 150 } : Room) (gPc D T N [.ref (zB S 14), .ref (v)] g0 n) (gQi D g0 n (fun r g' n' => ∃ S' Z', lR T g' S' Z' ∧ r = 1 ∧ S' = uA (uA (uA (uN S 104 n 10 (L + L / 2)) 104 (cpR (zA S 25) (fun _ => none) 0 0 (L : Int))) 14 (uI (zA S 14) 1 (some n))) 104 (uI (cpR (zA S 25) (fun _ => none) 0 0 (L : Int)) (L : Int) (some v)) ∧ ch Z Z' [14, 104] ∧ Z' 14 2 = (L : Int) + 1)) 1 33 (gA g0 n) := by
  refine j_start (by decide) (Nat.le_of_ble_eq_true rfl) ?_
  intro p e s mi args below meth c hC hr hlk hnm hX ls hl
  have hC : Ct D T N (gA g0 n) p s mi args c cJ2_add RJ2 2 := hC
  have hx := hC.x
  have hb := hC.b
  generalize hQ : MQ below _ args s 1 33 (gA g0 n) = Q
  have hl : lv_has ls 2 [(0, .ref (zB S 14)), (1, .ref (v))] := hl
  refine lv_aload_n hx hb (pc := 0) dJ2_add_0 rfl (lv_at hl 0 rfl) ?_
  refine lv_dup hx hb (pc := 1) dJ2_add_1 rfl ?_
  refine L_getM hC hX hL (pc := 2) 14 hk0 dJ2_add_2 ?_
  refine j_iconst hC (pc := 5) dJ2_add_5 ?_
  refine j_iadd hC (pc := 6) dJ2_add_6 ?_
  refine L_putM hC hX hL (pc := 7) 14 hk0 (z := ((Z 14 0) + 1)) dJ2_add_7 (fun g H locs hX hL => ?_)
  refine lv_aload_n hx hb (pc := 10) dJ2_add_10 rfl (lv_at hl 0 rfl) ?_
  refine lv_aload_n hx hb (pc := 11) dJ2_add_11 rfl (lv_at hl 1 rfl) ?_
  refine lv_aload_n hx hb (pc := 12) dJ2_add_12 rfl (lv_at hl 0 rfl) ?_
  refine L_getr hC hX hL in_J2 (ci := 7) rfl (pc := 13) 14 hk0 1 (by decide) q119 rfl (q := zA S 14 1) (b := zB S 25) hea rfl dJ2_add_13 ?_
  refine lv_aload_n hx hb (pc := 16) dJ2_add_16 rfl (lv_at hl 0 rfl) ?_
  refine L_get hC hX hL in_J2 (ci := 7) rfl (pc := 17) 14 hk0 2 (by decide) q120 rfl (v := .int (iI ((uI (Z 14) 0 ((Z 14 0) + 1)) 2))) rfl dJ2_add_17 ?_
  refine j_eqi (b := (L : Int)) ((uI_n (Z 14) (Z 14 0 + 1) (show (2 : Int) ≠ 0 by decide)).trans hsz) ?_
  refine j_callv (rest := []) hX (va_runV hC.fix (l_add2G D T N l hL _ v C L hk0 hea he hL3 hel ((uI_n (Z 14) (Z 14 0 + 1) (show (2 : Int) ≠ 0 by decide)).trans hsz) hcs hv) (cwV 3 hC.ts (lw_V q528 q530 qs8 q44 q531) rfl rfl rfl (by decide +kernel) ⟨Nat.le_of_ble_eq_true rfl, Nat.le_of_ble_eq_true rfl⟩) (j_preV hC hX (hL.ob 14 hk0) (ci := 7) (r := (RJ2, TJ2, 3)) rfl _) rfl rfl hl.1 rfl (Nat.le_of_ble_eq_true rfl) dJ2_add_20 ⟨(Nat.le_of_ble_eq_true rfl), (Nat.le_of_ble_eq_true rfl)⟩) (fun g m2 H locs hp hle hX => ?_)
  obtain ⟨S3, Z3, hL, hp⟩ := hp
  refine j_iconst hC (pc := 23) dJ2_add_23 ?_
  subst hQ
  exact j_zret hC (pc := 24) hX hr hlk (Nat.le_of_ble_eq_true rfl) (Nat.le_of_ble_eq_true rfl) dJ2_add_24 (by omega) ⟨_, _, hL, ⟨rfl, hp.1, by rw [hp.2.1]; exact ((ch.rf.up 14 _ (by decide)).up 104 _ (by decide)).up 14 _ (by decide), by rw [hp.2.1]; rfl⟩⟩
