/-! FairFight: a fight -/
theorem fL.hu {Z : Nat → Int → Int} (h : fL Z) {k b : Int} (hb : 0 ≤ b) : fL (va_up (va_up Z 210 (huL (Z 210) k b)) 211 (huU (Z 210) (Z 211) k b)) := by
  intro j h1 h2
  have h2 : j < Z 201 0 := h2
  have := h j h1 h2
  show (0 ≤ huL (Z 210) k b j ∧ huL (Z 210) k b j ≤ 31) ∧ (huU (Z 210) (Z 211) k b j = 0 ∨ huU (Z 210) (Z 211) k b j = 1)
  unfold huL huU uI
  split
  · rename_i q
    subst q
    split <;> omega
  · exact this
theorem hu_p {x b : Int} (h : ¬ (if b < x then x - b else 0) ≤ 0) : b < x := by
  split at h <;> omega
theorem hu_n {x b : Int} (h : (if b < x then x - b else 0) ≤ 0) : ¬ b < x := by
  split at h <;> omega
theorem thF_at {U sd : Int → Int} {s : Int} {n : Nat} {k : Int} (hk : 0 ≤ k ∧ k < n) (h : U k ≠ 0 ∧ sd k = s) : thF U sd s n = 1 := by
  rcases thF_01 (U := U) (sd := sd) (s := s) n with ⟨q, _⟩ | ⟨_, q⟩
  · exact q
  · exact absurd h (q k hk.1 hk.2)
theorem pkc_rg {L U : Int → Int} {n : Int} (h : ∀ k : Int, 0 ≤ k → k < n → (0 ≤ L k ∧ L k ≤ 31) ∧ (U k = 0 ∨ U k = 1)) {i : Int} (hi : 0 ≤ i ∧ i ≤ n ∧ n ≤ 6) : 0 ≤ pkF L U i.toNat ∧ pkF L U i.toNat < 68719476736 ∧ (i ≤ 5 → pkF L U i.toNat < 1073741824) := by
  have rg := pkF_rg (L := L) (U := U) i.toNat (fun k h1 h2 => by have := h k h1 (by omega); omega)
  refine ⟨rg.1, Int.lt_of_lt_of_le rg.2 ?_, fun q => Int.lt_of_lt_of_le rg.2 ?_⟩
  · have e : i.toNat = 0 ∨ i.toNat = 1 ∨ i.toNat = 2 ∨ i.toNat = 3 ∨ i.toNat = 4 ∨ i.toNat = 5 ∨ i.toNat = 6 := by omega
    rcases e with e | e | e | e | e | e | e <;> rw [e] <;> decide
  · have e : i.toNat = 0 ∨ i.toNat = 1 ∨ i.toNat = 2 ∨ i.toNat = 3 ∨ i.toNat = 4 ∨ i.toNat = 5 := by omega
    rcases e with e | e | e | e | e | e <;> rw [e] <;> decide

set_option maxHeartbeats 4000000 in
set_option maxRecDepth 100000 in
theorem f6_begins (D : va_G) (T N : Nat → Nat) (l : Launch) {g0 : GH} {S : LbS} {Z : Nat → Int → Int} (hL : lR T g0 S Z) (n : Nat)  (hf : fS S Z) : Met l yX6_begins (ws_ yX6_begins cX6_begins 2 none) ({ frames := 0, cells := 0, slots := 0, locals := 0 } : Room) (gPc D T N [.ref (zB S 201)] g0 n) (gQv D g0 n (fun g' n' => n' = n ∧ ∃ Z', lR T g' S Z' ∧ ch Z Z' [210, 211] ∧ ∀ k : Int, 0 ≤ k → k < Z 201 0 → Z' 210 k = Z 205 k ∧ Z' 211 k = 1)) 0 0 (gA g0 n) := by
  refine j_start (by decide) (Nat.le_of_ble_eq_true rfl) ?_
  intro p e s mi args below meth c hC hr hlk hnm hX ls hl
  have hC : Ct D T N (gA g0 n) p s mi args c cX6_begins RX6 2 := hC
  have hx := hC.x
  have hb := hC.b
  generalize hQ : MQ below _ args s 0 0 (gA g0 n) = Q
  have hl : lv_has ls 2 [(0, .ref (zB S 201))] := hl
  have hsh := hf.sh
  have hfn := hf.n
  have hfa := hf.aim
  refine j_iconst hC (pc := 0) dX6_begins_0 ?_
  refine lv_istore_n (lv' := [(1, .int (iI (0))), (0, .ref (zB S 201))]) hx hb (pc := 1) dX6_begins_1 rfl hl (by decide) rfl (fun ls hl => ?_)
  have L2 : ∀ (fu : Nat) (i : Int) (g : GH) (Z1 : Nat → Int → Int), 6 - i < (fu : Int) → (0 ≤ i ∧ i ≤ Z 201 0) → (ch Z Z1 [210, 211]) → (∀ k : Int, 0 ≤ k → k < i → Z1 210 k = Z 205 k ∧ Z1 211 k = 1) → ∀ (H : Heap) (locs : List Loc), Wd D (gA g0 n) s g n H locs → lR T g S Z1 → ∀ (ls : Array Slot), lv_has ls 2 [(1, .int (iI (i))), (0, .ref (zB S 201))] → W p l e ({ frames := 0, cells := 0, slots := 0, locals := 0 } : Room) s mi args below meth c H locs 0 0 Q (F0 mi 2 ls []) := by
    intro fu
    induction fu with
    | zero =>
      intro i g Z1 hfu hi hc hd H locs hX hL ls hl
      exfalso
      omega
    | succ fu ih2 =>
      intro i g Z1 hfu hi hc hd H locs hX hL ls hl
      have e0 : Z1 201 0 = Z 201 0 := by rw [hc 201 (by decide)]
      have e5 : Z1 205 = Z 205 := hc 205 (by decide)
      refine lv_iload_n hx hb (pc := 2) dX6_begins_2 rfl (lv_at hl 0 rfl) ?_
      refine lv_aload_n hx hb (pc := 3) dX6_begins_3 rfl (lv_at hl 1 rfl) ?_
      refine L_get hC hX hL in_X6 (ci := 6) rfl (pc := 4) 201 (hsh.k 201 rfl) 0 (by decide) q286 rfl (v := .int (iI (Z1 201 0))) rfl dX6_begins_4 ?_
      refine j_icmp_ge hC (pc := 7) 35 dX6_begins_7 (by decide) (by omega) (fun c1 => ?_) (fun c1 => ?_)
      · skip
        subst hQ
        exact j_vret hC (pc := 35) hX hr hlk (Nat.le_of_ble_eq_true rfl) (Nat.le_of_ble_eq_true rfl) dX6_begins_35 ⟨rfl, _, hL, ⟨hc, fun k h1 h2 => hd k h1 (by omega)⟩⟩
      · skip
        have hk_i := hf.at (k := i) (by omega)
        refine lv_aload_n hx hb (pc := 10) dX6_begins_10 rfl (lv_at hl 1 rfl) ?_
        refine L_getr hC hX hL in_X6 (ci := 6) rfl (pc := 11) 201 (hsh.k 201 rfl) 10 (by decide) q315 rfl (q := zA S 201 10) (b := zB S 210) (hf.r 10 (by decide)) rfl dX6_begins_11 ?_
        refine lv_iload_n hx hb (pc := 14) dX6_begins_14 rfl (lv_at hl 0 rfl) ?_
        refine lv_aload_n hx hb (pc := 15) dX6_begins_15 rfl (lv_at hl 1 rfl) ?_
        refine L_getr hC hX hL in_X6 (ci := 6) rfl (pc := 16) 201 (hsh.k 201 rfl) 5 (by decide) q302 rfl (q := zA S 201 5) (b := zB S 205) (hf.r 5 (by decide)) rfl dX6_begins_16 ?_
        refine lv_iload_n hx hb (pc := 19) dX6_begins_19 rfl (lv_at hl 0 rfl) ?_
        refine L_iald hC hX hL (pc := 20) 205 (hsh.k 205 rfl) (L := 6) (hsh.n 205 rfl) (by decide) (by omega) (z := Z1 205 i) rfl dX6_begins_20 ?_
        refine j_eqi (b := Z 205 i) (by rw [e5]) ?_
        refine L_iast hC hX hL (pc := 21) 210 (hsh.k 210 rfl) (L := 6) (hsh.n 210 rfl) (by decide) (by omega) (f := uI (Z1 210) i (Z 205 i)) rfl dX6_begins_21 (fun g H locs hX hL => ?_)
        refine lv_aload_n hx hb (pc := 22) dX6_begins_22 rfl (lv_at hl 1 rfl) ?_
        refine L_getr hC hX hL in_X6 (ci := 6) rfl (pc := 23) 201 (hsh.k 201 rfl) 11 (by decide) q320 rfl (q := zA S 201 11) (b := zB S 211) (hf.r 11 (by decide)) rfl dX6_begins_23 ?_
        refine lv_iload_n hx hb (pc := 26) dX6_begins_26 rfl (lv_at hl 0 rfl) ?_
        refine j_iconst hC (pc := 27) dX6_begins_27 ?_
        refine L_zast hC hX hL (pc := 28) 211 (hsh.k 211 rfl) (L := 6) (hsh.n 211 rfl) (by decide) (by omega) (by omega) (f := uI (Z1 211) i 1) rfl dX6_begins_28 (fun g H locs hX hL => ?_)
        refine j_iinc hC (pc := 29) (lv' := [(1, .int (iI (i + 1))), (0, .ref (zB S 201))]) dX6_begins_29 hl (k := 0) rfl (by decide) rfl (fun ls hl => ?_)
        refine j_goto hC (pc := 32) 2 dX6_begins_32 (by decide) ?_
        exact ih2 (i + 1) _ _ (by omega) (by omega) ((hc.up 210 _ (by decide)).up 211 _ (by decide)) (fun k h1 h2 => ⟨by show uI (Z1 210) i _ k = _; unfold uI; split; rename_i q; rw [q]; exact (hd k h1 (by omega)).1, by show uI (Z1 211) i _ k = _; unfold uI; split; rfl; exact (hd k h1 (by omega)).2⟩) _ _ hX hL ls (lv_sub hl [0, 1] rfl)
  exact L2 ((6 - 0 : Int).toNat + 1) 0 _ _ (by omega) (by omega) ch.rf (fun k h1 h2 => by omega) _ _ hX hL ls (lv_sub hl [0, 1] rfl)

set_option maxHeartbeats 4000000 in
set_option maxRecDepth 100000 in
theorem f6_loses (D : va_G) (T N : Nat → Nat) (l : Launch) {g0 : GH} {S : LbS} {Z : Nat → Int → Int} (hL : lR T g0 S Z) (n : Nat) (k b : Int) (hf : fS S Z) (hs : fL Z) (hk : 0 ≤ k ∧ k < Z 201 0) (hb_ : 0 ≤ b ∧ b ≤ 100) : Met l yX6_loses (ws_ yX6_loses cX6_loses 3 none) ({ frames := 1, cells := 0, slots := 0, locals := 21 } : Room) (gPc D T N [.ref (zB S 201), .int (iI (k)), .int (iI (b))] g0 n) (gQv D g0 n (fun g' n' => n' = n ∧ ∃ Z', lR T g' S Z' ∧ Z' = va_up (va_up Z 210 (huL (Z 210) k b)) 211 (huU (Z 210) (Z 211) k b))) 0 0 (gA g0 n) := by
  refine j_start (by decide) (Nat.le_of_ble_eq_true rfl) ?_
  intro p e s mi args below meth c hC hr hlk hnm hX ls hl
  have hC : Ct D T N (gA g0 n) p s mi args c cX6_loses RX6 3 := hC
  have hx := hC.x
  have hb := hC.b
  generalize hQ : MQ below _ args s 0 0 (gA g0 n) = Q
  have hl : lv_has ls 3 [(0, .ref (zB S 201)), (1, .int (iI (k))), (2, .int (iI (b)))] := hl
  have hsh := hf.sh
  have hfn := hf.n
  have hfa := hf.aim
  have hl_k := hs k (by omega) (by omega)
  refine lv_aload_n hx hb (pc := 0) dX6_loses_0 rfl (lv_at hl 0 rfl) ?_
  refine L_getr hC hX hL in_X6 (ci := 6) rfl (pc := 1) 201 (hsh.k 201 rfl) 10 (by decide) q315 rfl (q := zA S 201 10) (b := zB S 210) (hf.r 10 (by decide)) rfl dX6_loses_1 ?_
  refine lv_iload_n hx hb (pc := 4) dX6_loses_4 rfl (lv_at hl 1 rfl) ?_
  refine j_iconst hC (pc := 5) dX6_loses_5 ?_
  refine lv_aload_n hx hb (pc := 6) dX6_loses_6 rfl (lv_at hl 0 rfl) ?_
  refine L_getr hC hX hL in_X6 (ci := 6) rfl (pc := 7) 201 (hsh.k 201 rfl) 10 (by decide) q315 rfl (q := zA S 201 10) (b := zB S 210) (hf.r 10 (by decide)) rfl dX6_loses_7 ?_
  refine lv_iload_n hx hb (pc := 10) dX6_loses_10 rfl (lv_at hl 1 rfl) ?_
  refine L_iald hC hX hL (pc := 11) 210 (hsh.k 210 rfl) (L := 6) (hsh.n 210 rfl) (by decide) (by omega) (z := Z 210 k) rfl dX6_loses_11 ?_
  refine lv_iload_n hx hb (pc := 12) dX6_loses_12 rfl (lv_at hl 2 rfl) ?_
  refine j_isub hC (pc := 13) dX6_loses_13 ?_
  refine j_mmax hC (pc := 14) q420 hl.1 (Nat.le_of_ble_eq_true rfl) (Nat.le_of_ble_eq_true rfl) (Nat.le_of_ble_eq_true rfl) (Nat.le_of_ble_eq_true rfl) (by omega) dX6_loses_14 ?_
  refine j_eqi (b := if b < Z 210 k then Z 210 k - b else 0) (by unfold maxF; (repeat' split) <;> omega) ?_
  refine L_iast hC hX hL (pc := 17) 210 (hsh.k 210 rfl) (L := 6) (hsh.n 210 rfl) (by decide) (by omega) (f := uI (Z 210) k (if b < Z 210 k then Z 210 k - b else 0)) rfl dX6_loses_17 (fun g H locs hX hL => ?_)
  refine lv_aload_n hx hb (pc := 18) dX6_loses_18 rfl (lv_at hl 0 rfl) ?_
  refine L_getr hC hX hL in_X6 (ci := 6) rfl (pc := 19) 201 (hsh.k 201 rfl) 11 (by decide) q320 rfl (q := zA S 201 11) (b := zB S 211) (hf.r 11 (by decide)) rfl dX6_loses_19 ?_
  refine lv_iload_n hx hb (pc := 22) dX6_loses_22 rfl (lv_at hl 1 rfl) ?_
  refine lv_aload_n hx hb (pc := 23) dX6_loses_23 rfl (lv_at hl 0 rfl) ?_
  refine L_getr hC hX hL in_X6 (ci := 6) rfl (pc := 24) 201 (hsh.k 201 rfl) 10 (by decide) q315 rfl (q := zA S 201 10) (b := zB S 210) (hf.r 10 (by decide)) rfl dX6_loses_24 ?_
  refine lv_iload_n hx hb (pc := 27) dX6_loses_27 rfl (lv_at hl 1 rfl) ?_
  refine L_iald hC hX hL (pc := 28) 210 (hsh.k 210 rfl) (L := 6) (hsh.n 210 rfl) (by decide) (by omega) (z := (uI (Z 210) k (if b < Z 210 k then Z 210 k - b else 0)) k) rfl dX6_loses_28 ?_
  refine j_eqi (b := if b < Z 210 k then Z 210 k - b else 0) (uI_s _ _ _) ?_
  refine j_if_le hC (pc := 29) 36 dX6_loses_29 (by decide) (by split <;> omega) (fun c1 => ?_) (fun c1 => ?_)
  · skip
    refine j_iconst hC (pc := 36) dX6_loses_36 ?_
    refine L_zast hC hX hL (pc := 37) 211 (hsh.k 211 rfl) (L := 6) (hsh.n 211 rfl) (by decide) (by omega) (by decide) (f := uI (Z 211) k 0) rfl dX6_loses_37 (fun g H locs hX hL => ?_)
    subst hQ
    exact j_vret hC (pc := 38) hX hr hlk (Nat.le_of_ble_eq_true rfl) (Nat.le_of_ble_eq_true rfl) dX6_loses_38 ⟨rfl, _, hL, by unfold huL huU; simp only [if_neg (hu_n (by assumption))]⟩
  · skip
    refine j_iconst hC (pc := 32) dX6_loses_32 ?_
    refine j_goto hC (pc := 33) 37 dX6_loses_33 (by decide) ?_
    refine L_zast hC hX hL (pc := 37) 211 (hsh.k 211 rfl) (L := 6) (hsh.n 211 rfl) (by decide) (by omega) (by decide) (f := uI (Z 211) k 1) rfl dX6_loses_37 (fun g H locs hX hL => ?_)
    subst hQ
    exact j_vret hC (pc := 38) hX hr hlk (Nat.le_of_ble_eq_true rfl) (Nat.le_of_ble_eq_true rfl) dX6_loses_38 ⟨rfl, _, hL, by unfold huL huU; simp only [if_pos (hu_p (by assumption))]⟩

set_option maxHeartbeats 4000000 in
set_option maxRecDepth 100000 in
theorem f6_rolls (D : va_G) (T N : Nat → Nat) (l : Launch) {g0 : GH} {S : LbS} {Z : Nat → Int → Int} (hL : lR T g0 S Z) (n : Nat) (k : Int) (hf : fS S Z) (hs : fL Z) (hk : 0 ≤ k ∧ k < Z 201 0) : Met l yX6_rolls (ws_ yX6_rolls cX6_rolls 2 (some .boolean)) ({ frames := 0, cells := 0, slots := 0, locals := 0 } : Room) (gPc D T N [.ref (zB S 201), .int (iI (k))] g0 n) (gQi D g0 n (fun r g' n' => n' = n ∧ ∃ Z', lR T g' S Z' ∧ (Z 211 k ≠ 0 ∧ Z 210 k ≤ Z 208 k → r = 0 ∧ Z' = va_up Z 211 (uI (Z 211) k 0)) ∧ (¬ (Z 211 k ≠ 0 ∧ Z 210 k ≤ Z 208 k) → r = Z 211 k ∧ Z' = Z))) 0 0 (gA g0 n) := by
  refine j_start (by decide) (Nat.le_of_ble_eq_true rfl) ?_
  intro p e s mi args below meth c hC hr hlk hnm hX ls hl
  have hC : Ct D T N (gA g0 n) p s mi args c cX6_rolls RX6 2 := hC
  have hx := hC.x
  have hb := hC.b
  generalize hQ : MQ below _ args s 0 0 (gA g0 n) = Q
  have hl : lv_has ls 2 [(0, .ref (zB S 201)), (1, .int (iI (k)))] := hl
  have hsh := hf.sh
  have hfn := hf.n
  have hfa := hf.aim
  have hl_k := hs k (by omega) (by omega)
  have hk_k := hf.at (k := k) (by omega)
  refine lv_aload_n hx hb (pc := 0) dX6_rolls_0 rfl (lv_at hl 0 rfl) ?_
  refine L_getr hC hX hL in_X6 (ci := 6) rfl (pc := 1) 201 (hsh.k 201 rfl) 11 (by decide) q320 rfl (q := zA S 201 11) (b := zB S 211) (hf.r 11 (by decide)) rfl dX6_rolls_1 ?_
  refine lv_iload_n hx hb (pc := 4) dX6_rolls_4 rfl (lv_at hl 1 rfl) ?_
  refine L_zald hC hX hL (pc := 5) 211 (hsh.k 211 rfl) (L := 6) (hsh.n 211 rfl) (by decide) (by omega) (z := Z 211 k) rfl dX6_rolls_5 ?_
  refine j_if_eq hC (pc := 6) 31 dX6_rolls_6 (by decide) (by omega) (fun c1 => ?_) (fun c1 => ?_)
  · skip
    refine lv_aload_n hx hb (pc := 31) dX6_rolls_31 rfl (lv_at hl 0 rfl) ?_
    refine L_getr hC hX hL in_X6 (ci := 6) rfl (pc := 32) 201 (hsh.k 201 rfl) 11 (by decide) q320 rfl (q := zA S 201 11) (b := zB S 211) (hf.r 11 (by decide)) rfl dX6_rolls_32 ?_
    refine lv_iload_n hx hb (pc := 35) dX6_rolls_35 rfl (lv_at hl 1 rfl) ?_
    refine L_zald hC hX hL (pc := 36) 211 (hsh.k 211 rfl) (L := 6) (hsh.n 211 rfl) (by decide) (by omega) (z := Z 211 k) rfl dX6_rolls_36 ?_
    subst hQ
    exact j_zret hC (pc := 37) hX hr hlk (Nat.le_of_ble_eq_true rfl) (Nat.le_of_ble_eq_true rfl) dX6_rolls_37 (by omega) ⟨rfl, _, hL, ⟨fun q => absurd q.1 (by omega), fun _ => ⟨rfl, rfl⟩⟩⟩
  · skip
    refine lv_aload_n hx hb (pc := 9) dX6_rolls_9 rfl (lv_at hl 0 rfl) ?_
    refine L_getr hC hX hL in_X6 (ci := 6) rfl (pc := 10) 201 (hsh.k 201 rfl) 10 (by decide) q315 rfl (q := zA S 201 10) (b := zB S 210) (hf.r 10 (by decide)) rfl dX6_rolls_10 ?_
    refine lv_iload_n hx hb (pc := 13) dX6_rolls_13 rfl (lv_at hl 1 rfl) ?_
    refine L_iald hC hX hL (pc := 14) 210 (hsh.k 210 rfl) (L := 6) (hsh.n 210 rfl) (by decide) (by omega) (z := Z 210 k) rfl dX6_rolls_14 ?_
    refine lv_aload_n hx hb (pc := 15) dX6_rolls_15 rfl (lv_at hl 0 rfl) ?_
    refine L_getr hC hX hL in_X6 (ci := 6) rfl (pc := 16) 201 (hsh.k 201 rfl) 8 (by decide) q311 rfl (q := zA S 201 8) (b := zB S 208) (hf.r 8 (by decide)) rfl dX6_rolls_16 ?_
    refine lv_iload_n hx hb (pc := 19) dX6_rolls_19 rfl (lv_at hl 1 rfl) ?_
    refine L_iald hC hX hL (pc := 20) 208 (hsh.k 208 rfl) (L := 6) (hsh.n 208 rfl) (by decide) (by omega) (z := Z 208 k) rfl dX6_rolls_20 ?_
    refine j_icmp_gt hC (pc := 21) 31 dX6_rolls_21 (by decide) (by omega) (fun c2 => ?_) (fun c2 => ?_)
    · skip
      refine lv_aload_n hx hb (pc := 31) dX6_rolls_31 rfl (lv_at hl 0 rfl) ?_
      refine L_getr hC hX hL in_X6 (ci := 6) rfl (pc := 32) 201 (hsh.k 201 rfl) 11 (by decide) q320 rfl (q := zA S 201 11) (b := zB S 211) (hf.r 11 (by decide)) rfl dX6_rolls_32 ?_
      refine lv_iload_n hx hb (pc := 35) dX6_rolls_35 rfl (lv_at hl 1 rfl) ?_
      refine L_zald hC hX hL (pc := 36) 211 (hsh.k 211 rfl) (L := 6) (hsh.n 211 rfl) (by decide) (by omega) (z := Z 211 k) rfl dX6_rolls_36 ?_
      subst hQ
      exact j_zret hC (pc := 37) hX hr hlk (Nat.le_of_ble_eq_true rfl) (Nat.le_of_ble_eq_true rfl) dX6_rolls_37 (by omega) ⟨rfl, _, hL, ⟨fun q => absurd q.2 (by omega), fun _ => ⟨rfl, rfl⟩⟩⟩
    · skip
      refine lv_aload_n hx hb (pc := 24) dX6_rolls_24 rfl (lv_at hl 0 rfl) ?_
      refine L_getr hC hX hL in_X6 (ci := 6) rfl (pc := 25) 201 (hsh.k 201 rfl) 11 (by decide) q320 rfl (q := zA S 201 11) (b := zB S 211) (hf.r 11 (by decide)) rfl dX6_rolls_25 ?_
      refine lv_iload_n hx hb (pc := 28) dX6_rolls_28 rfl (lv_at hl 1 rfl) ?_
      refine j_iconst hC (pc := 29) dX6_rolls_29 ?_
      refine L_zast hC hX hL (pc := 30) 211 (hsh.k 211 rfl) (L := 6) (hsh.n 211 rfl) (by decide) (by omega) (by decide) (f := uI (Z 211) k 0) rfl dX6_rolls_30 (fun g H locs hX hL => ?_)
      refine lv_aload_n hx hb (pc := 31) dX6_rolls_31 rfl (lv_at hl 0 rfl) ?_
      refine L_getr hC hX hL in_X6 (ci := 6) rfl (pc := 32) 201 (hsh.k 201 rfl) 11 (by decide) q320 rfl (q := zA S 201 11) (b := zB S 211) (hf.r 11 (by decide)) rfl dX6_rolls_32 ?_
      refine lv_iload_n hx hb (pc := 35) dX6_rolls_35 rfl (lv_at hl 1 rfl) ?_
      refine L_zald hC hX hL (pc := 36) 211 (hsh.k 211 rfl) (L := 6) (hsh.n 211 rfl) (by decide) (by omega) (z := (uI (Z 211) k 0) k) rfl dX6_rolls_36 ?_
      refine j_eqi (b := 0) (uI_s _ _ _) ?_
      subst hQ
      exact j_zret hC (pc := 37) hX hr hlk (Nat.le_of_ble_eq_true rfl) (Nat.le_of_ble_eq_true rfl) dX6_rolls_37 (by omega) ⟨rfl, _, hL, ⟨fun _ => ⟨rfl, rfl⟩, fun q => absurd (show _ ∧ _ by omega) q⟩⟩

set_option maxHeartbeats 4000000 in
set_option maxRecDepth 100000 in
theorem f6_isThere (D : va_G) (T N : Nat → Nat) (l : Launch) {g0 : GH} {S : LbS} {Z : Nat → Int → Int} (hL : lR T g0 S Z) (n : Nat) (t : Int) (hf : fS S Z) (hs : fL Z) (ht : t = 0 ∨ t = 1) : Met l yX6_isThere (ws_ yX6_isThere cX6_isThere 3 (some .boolean)) ({ frames := 0, cells := 0, slots := 0, locals := 0 } : Room) (gPc D T N [.ref (zB S 201), .int (iI (t))] g0 n) (gQi D g0 n (fun r g' n' => n' = n ∧ ∃ Z', lR T g' S Z' ∧ Z' = Z ∧ r = thF (Z 211) (Z 202) t (Z 201 0).toNat)) 0 0 (gA g0 n) := by
  refine j_start (by decide) (Nat.le_of_ble_eq_true rfl) ?_
  intro p e s mi args below meth c hC hr hlk hnm hX ls hl
  have hC : Ct D T N (gA g0 n) p s mi args c cX6_isThere RX6 3 := hC
  have hx := hC.x
  have hb := hC.b
  generalize hQ : MQ below _ args s 0 0 (gA g0 n) = Q
  have hl : lv_has ls 3 [(0, .ref (zB S 201)), (1, .int (iI (t)))] := hl
  have hsh := hf.sh
  have hfn := hf.n
  have hfa := hf.aim
  refine j_iconst hC (pc := 0) dX6_isThere_0 ?_
  refine lv_istore_n (lv' := [(2, .int (iI (0))), (0, .ref (zB S 201)), (1, .int (iI (t)))]) hx hb (pc := 1) dX6_isThere_1 rfl hl (by decide) rfl (fun ls hl => ?_)
  have L2 : ∀ (fu : Nat) (i : Int) (g : GH), 6 - i < (fu : Int) → (0 ≤ i ∧ i ≤ Z 201 0) → (∀ k : Int, 0 ≤ k → k < i → ¬ (Z 211 k ≠ 0 ∧ Z 202 k = t)) → ∀ (H : Heap) (locs : List Loc), Wd D (gA g0 n) s g n H locs → lR T g S Z → ∀ (ls : Array Slot), lv_has ls 3 [(2, .int (iI (i))), (0, .ref (zB S 201)), (1, .int (iI (t)))] → W p l e ({ frames := 0, cells := 0, slots := 0, locals := 0 } : Room) s mi args below meth c H locs 0 0 Q (F0 mi 2 ls []) := by
    intro fu
    induction fu with
    | zero =>
      intro i g hfu hi hn_ H locs hX hL ls hl
      exfalso
      omega
    | succ fu ih2 =>
      intro i g hfu hi hn_ H locs hX hL ls hl
      refine lv_iload_n hx hb (pc := 2) dX6_isThere_2 rfl (lv_at hl 0 rfl) ?_
      refine lv_aload_n hx hb (pc := 3) dX6_isThere_3 rfl (lv_at hl 1 rfl) ?_
      refine L_get hC hX hL in_X6 (ci := 6) rfl (pc := 4) 201 (hsh.k 201 rfl) 0 (by decide) q286 rfl (v := .int (iI (Z 201 0))) rfl dX6_isThere_4 ?_
      refine j_icmp_ge hC (pc := 7) 37 dX6_isThere_7 (by decide) (by omega) (fun c1 => ?_) (fun c1 => ?_)
      · skip
        refine j_iconst hC (pc := 37) dX6_isThere_37 ?_
        subst hQ
        exact j_zret hC (pc := 38) hX hr hlk (Nat.le_of_ble_eq_true rfl) (Nat.le_of_ble_eq_true rfl) dX6_isThere_38 (by omega) ⟨rfl, _, hL, ⟨rfl, by rcases thF_01 (U := Z 211) (sd := Z 202) (s := t) (Z 201 0).toNat with ⟨_, k, q1, q2, q3⟩ | ⟨q, _⟩; exact absurd q3 (hn_ k q1 (by omega)); exact q.symm⟩⟩
      · skip
        have hk_i := hf.at (k := i) (by omega)
        have hl_i := hs i (by omega) (by omega)
        refine lv_aload_n hx hb (pc := 10) dX6_isThere_10 rfl (lv_at hl 1 rfl) ?_
        refine L_getr hC hX hL in_X6 (ci := 6) rfl (pc := 11) 201 (hsh.k 201 rfl) 11 (by decide) q320 rfl (q := zA S 201 11) (b := zB S 211) (hf.r 11 (by decide)) rfl dX6_isThere_11 ?_
        refine lv_iload_n hx hb (pc := 14) dX6_isThere_14 rfl (lv_at hl 0 rfl) ?_
        refine L_zald hC hX hL (pc := 15) 211 (hsh.k 211 rfl) (L := 6) (hsh.n 211 rfl) (by decide) (by omega) (z := Z 211 i) rfl dX6_isThere_15 ?_
        refine j_if_eq hC (pc := 16) 31 dX6_isThere_16 (by decide) (by omega) (fun c2 => ?_) (fun c2 => ?_)
        · skip
          refine j_iinc hC (pc := 31) (lv' := [(2, .int (iI (i + 1))), (0, .ref (zB S 201)), (1, .int (iI (t)))]) dX6_isThere_31 hl (k := 0) rfl (by decide) rfl (fun ls hl => ?_)
          refine j_goto hC (pc := 34) 2 dX6_isThere_34 (by decide) ?_
          exact ih2 (i + 1) _ (by omega) (by omega) (fun k h1 h2 => by rcases Decidable.em (k = i) with q | q; subst q; omega; exact hn_ k h1 (by omega)) _ _ hX hL ls (lv_sub hl [0, 1, 2] rfl)
        · skip
          refine lv_aload_n hx hb (pc := 19) dX6_isThere_19 rfl (lv_at hl 1 rfl) ?_
          refine L_getr hC hX hL in_X6 (ci := 6) rfl (pc := 20) 201 (hsh.k 201 rfl) 2 (by decide) q293 rfl (q := zA S 201 2) (b := zB S 202) (hf.r 2 (by decide)) rfl dX6_isThere_20 ?_
          refine lv_iload_n hx hb (pc := 23) dX6_isThere_23 rfl (lv_at hl 0 rfl) ?_
          refine L_iald hC hX hL (pc := 24) 202 (hsh.k 202 rfl) (L := 6) (hsh.n 202 rfl) (by decide) (by omega) (z := Z 202 i) rfl dX6_isThere_24 ?_
          refine lv_iload_n hx hb (pc := 25) dX6_isThere_25 rfl (lv_at hl 2 rfl) ?_
          refine j_icmp_ne hC (pc := 26) 31 dX6_isThere_26 (by decide) (by omega) (fun c3 => ?_) (fun c3 => ?_)
          · skip
            refine j_iinc hC (pc := 31) (lv' := [(2, .int (iI (i + 1))), (0, .ref (zB S 201)), (1, .int (iI (t)))]) dX6_isThere_31 hl (k := 0) rfl (by decide) rfl (fun ls hl => ?_)
            refine j_goto hC (pc := 34) 2 dX6_isThere_34 (by decide) ?_
            exact ih2 (i + 1) _ (by omega) (by omega) (fun k h1 h2 => by rcases Decidable.em (k = i) with q | q; subst q; omega; exact hn_ k h1 (by omega)) _ _ hX hL ls (lv_sub hl [0, 1, 2] rfl)
          · skip
            refine j_iconst hC (pc := 29) dX6_isThere_29 ?_
            subst hQ
            exact j_zret hC (pc := 30) hX hr hlk (Nat.le_of_ble_eq_true rfl) (Nat.le_of_ble_eq_true rfl) dX6_isThere_30 (by omega) ⟨rfl, _, hL, ⟨rfl, (thF_at (k := i) (by omega) (by omega)).symm⟩⟩
  exact L2 ((6 - 0 : Int).toNat + 1) 0 _ (by omega) (by omega) (fun k h1 h2 => by omega) _ _ hX hL ls (lv_sub hl [0, 1, 2] rfl)

set_option maxHeartbeats 4000000 in
set_option maxRecDepth 100000 in
theorem f6_end (D : va_G) (T N : Nat → Nat) (l : Launch) {g0 : GH} {S : LbS} {Z : Nat → Int → Int} (hL : lR T g0 S Z) (n : Nat)  (hf : fS S Z) (hs : fL Z) : Met l yX6_end (ws_ yX6_end cX6_end 1 (some .int)) ({ frames := 1, cells := 0, slots := 0, locals := 22 } : Room) (gPc D T N [.ref (zB S 201)] g0 n) (gQi D g0 n (fun r g' n' => n' = n ∧ ∃ Z', lR T g' S Z' ∧ Z' = Z ∧ r = enF (Z 211) (Z 202) (Z 201 0).toNat)) 0 0 (gA g0 n) := by
  refine j_start (by decide) (Nat.le_of_ble_eq_true rfl) ?_
  intro p e s mi args below meth c hC hr hlk hnm hX ls hl
  have hC : Ct D T N (gA g0 n) p s mi args c cX6_end RX6 1 := hC
  have hx := hC.x
  have hb := hC.b
  generalize hQ : MQ below _ args s 0 0 (gA g0 n) = Q
  have hl : lv_has ls 1 [(0, .ref (zB S 201))] := hl
  have hsh := hf.sh
  have hfn := hf.n
  have hfa := hf.aim
  refine lv_aload_n hx hb (pc := 0) dX6_end_0 rfl (lv_at hl 0 rfl) ?_
  refine j_iconst hC (pc := 1) dX6_end_1 ?_
  refine j_calli (rest := []) hX (va_runV hC.fix (f6_isThere D T N l hL _ 0 hf hs (by decide)) (cwV 1 hC.ts (lw_V q375 q377 qs5 q49 q378) rfl rfl rfl (by decide +kernel) ⟨Nat.le_of_ble_eq_true rfl, Nat.le_of_ble_eq_true rfl⟩) (j_preV hC hX (hL.ob 201 (hsh.k 201 rfl)) (ci := 6) (r := (RX6, TX6, 12)) rfl _) rfl rfl hl.1 rfl (Nat.le_of_ble_eq_true rfl) dX6_end_2 ⟨(Nat.le_of_ble_eq_true rfl), (Nat.le_of_ble_eq_true rfl)⟩) (fun r1 g m2 H locs hp hle hX => ?_)
  obtain ⟨hn_, Z_, hL, hS_, hp⟩ := hp
  subst hn_
  rw [hS_] at hL
  have h01_r1 : r1 = 0 ∨ r1 = 1 := by rcases thF_01 (U := Z 211) (sd := Z 202) (s := 0) (Z 201 0).toNat with q | q <;> omega
  have hp_0 := hp
  refine j_if_ne hC (pc := 5) 12 dX6_end_5 (by decide) (by omega) (fun c4 => ?_) (fun c4 => ?_)
  · skip
    refine lv_aload_n hx hb (pc := 12) dX6_end_12 rfl (lv_at hl 0 rfl) ?_
    refine j_iconst hC (pc := 13) dX6_end_13 ?_
    refine j_calli (rest := []) hX (va_runV hC.fix (f6_isThere D T N l hL _ 1 hf hs (by decide)) (cwV 1 hC.ts (lw_V q375 q377 qs5 q49 q378) rfl rfl rfl (by decide +kernel) ⟨Nat.le_of_ble_eq_true rfl, Nat.le_of_ble_eq_true rfl⟩) (j_preV hC hX (hL.ob 201 (hsh.k 201 rfl)) (ci := 6) (r := (RX6, TX6, 12)) rfl _) rfl rfl hl.1 rfl (Nat.le_of_ble_eq_true rfl) dX6_end_14 ⟨(Nat.le_of_ble_eq_true rfl), (Nat.le_of_ble_eq_true rfl)⟩) (fun r5 g m6 H locs hp hle hX => ?_)
    obtain ⟨hn_, Z_, hL, hS_, hp⟩ := hp
    subst hn_
    rw [hS_] at hL
    have h01_r5 : r5 = 0 ∨ r5 = 1 := by rcases thF_01 (U := Z 211) (sd := Z 202) (s := 1) (Z 201 0).toNat with q | q <;> omega
    have hp_1 := hp
    refine j_if_ne hC (pc := 17) 24 dX6_end_17 (by decide) (by omega) (fun c8 => ?_) (fun c8 => ?_)
    · skip
      refine j_iconst hC (pc := 24) dX6_end_24 ?_
      subst hQ
      exact j_iret hC (pc := 25) hX hr hlk (Nat.le_of_ble_eq_true rfl) (Nat.le_of_ble_eq_true rfl) dX6_end_25 ⟨rfl, _, hL, ⟨rfl, by unfold enF; rw [if_neg (by omega), if_neg (by omega)]⟩⟩
    · skip
      refine j_iconst hC (pc := 20) dX6_end_20 ?_
      refine j_goto hC (pc := 21) 25 dX6_end_21 (by decide) ?_
      subst hQ
      exact j_iret hC (pc := 25) hX hr hlk (Nat.le_of_ble_eq_true rfl) (Nat.le_of_ble_eq_true rfl) dX6_end_25 ⟨rfl, _, hL, ⟨rfl, by unfold enF; rw [if_neg (by omega), if_pos (by omega)]⟩⟩
  · skip
    refine j_iconst hC (pc := 8) dX6_end_8 ?_
    refine j_goto hC (pc := 9) 25 dX6_end_9 (by decide) ?_
    subst hQ
    exact j_iret hC (pc := 25) hX hr hlk (Nat.le_of_ble_eq_true rfl) (Nat.le_of_ble_eq_true rfl) dX6_end_25 ⟨rfl, _, hL, ⟨rfl, by unfold enF; rw [if_pos (by omega)]⟩⟩

set_option maxHeartbeats 4000000 in
set_option maxRecDepth 100000 in
theorem f6_key (D : va_G) (T N : Nat → Nat) (l : Launch) {g0 : GH} {S : LbS} {Z : Nat → Int → Int} (hL : lR T g0 S Z) (n : Nat)  (hf : fS S Z) (hs : fL Z) : Met l yX6_key (ws_ yX6_key cX6_key 4 (some .long)) ({ frames := 0, cells := 0, slots := 0, locals := 0 } : Room) (gPc D T N [.ref (zB S 201)] g0 n) (gQl D g0 n (fun r g' n' => n' = n ∧ ∃ Z', lR T g' S Z' ∧ Z' = Z ∧ r = pkF (Z 210) (Z 211) (Z 201 0).toNat)) 0 0 (gA g0 n) := by
  refine j_start (by decide) (Nat.le_of_ble_eq_true rfl) ?_
  intro p e s mi args below meth c hC hr hlk hnm hX ls hl
  have hC : Ct D T N (gA g0 n) p s mi args c cX6_key RX6 4 := hC
  have hx := hC.x
  have hb := hC.b
  generalize hQ : MQ below _ args s 0 0 (gA g0 n) = Q
  have hl : lv_has ls 4 [(0, .ref (zB S 201))] := hl
  have hsh := hf.sh
  have hfn := hf.n
  have hfa := hf.aim
  refine j_lconst hC (pc := 0) (w := 0) dX6_key_0 rfl ?_
  refine lv_lstore_n (lv' := [(1, .long (lI (0))), (0, .ref (zB S 201))]) hx hb (pc := 1) dX6_key_1 rfl hl (by decide) rfl (fun ls hl => ?_)
  refine j_iconst hC (pc := 2) dX6_key_2 ?_
  refine lv_istore_n (lv' := [(3, .int (iI (0))), (1, .long (lI (0))), (0, .ref (zB S 201))]) hx hb (pc := 3) dX6_key_3 rfl hl (by decide) rfl (fun ls hl => ?_)
  have L4 : ∀ (fu : Nat) (i : Int) (v : Int) (g : GH), 6 - i < (fu : Int) → (0 ≤ i ∧ i ≤ Z 201 0) → (v = pkF (Z 210) (Z 211) i.toNat) → ∀ (H : Heap) (locs : List Loc), Wd D (gA g0 n) s g n H locs → lR T g S Z → ∀ (ls : Array Slot), lv_has ls 4 [(3, .int (iI (i))), (1, .long (lI (v))), (0, .ref (zB S 201))] → W p l e ({ frames := 0, cells := 0, slots := 0, locals := 0 } : Room) s mi args below meth c H locs 0 0 Q (F0 mi 4 ls []) := by
    intro fu
    induction fu with
    | zero =>
      intro i v g hfu hi hv H locs hX hL ls hl
      exfalso
      omega
    | succ fu ih4 =>
      intro i v g hfu hi hv H locs hX hL ls hl
      have hvr := pkc_rg (i := i) hs (by omega)
      rw [← hv] at hvr
      refine lv_iload_n hx hb (pc := 4) dX6_key_4 rfl (lv_at hl 0 rfl) ?_
      refine lv_aload_n hx hb (pc := 5) dX6_key_5 rfl (lv_at hl 2 rfl) ?_
      refine L_get hC hX hL in_X6 (ci := 6) rfl (pc := 6) 201 (hsh.k 201 rfl) 0 (by decide) q286 rfl (v := .int (iI (Z 201 0))) rfl dX6_key_6 ?_
      refine j_icmp_ge hC (pc := 9) 48 dX6_key_9 (by decide) (by omega) (fun c1 => ?_) (fun c1 => ?_)
      · skip
        refine lv_lload_n hx hb (pc := 48) dX6_key_48 rfl (lv_at hl 1 rfl) ?_
        subst hQ
        exact j_lret hC (pc := 49) hX hr hlk (Nat.le_of_ble_eq_true rfl) (Nat.le_of_ble_eq_true rfl) dX6_key_49 ⟨rfl, _, hL, ⟨rfl, by rw [hv, show i.toNat = (Z 201 0).toNat by omega]⟩⟩
      · skip
        have hl_i := hs i (by omega) (by omega)
        refine lv_lload_n hx hb (pc := 12) dX6_key_12 rfl (lv_at hl 1 rfl) ?_
        refine j_bipush hC (pc := 13) dX6_key_13 (by decide) ?_
        refine j_lshl6 hC (pc := 15) dX6_key_15 (by omega) ?_
        refine j_iconst hC (pc := 16) dX6_key_16 ?_
        refine lv_aload_n hx hb (pc := 17) dX6_key_17 rfl (lv_at hl 2 rfl) ?_
        refine L_getr hC hX hL in_X6 (ci := 6) rfl (pc := 18) 201 (hsh.k 201 rfl) 10 (by decide) q315 rfl (q := zA S 201 10) (b := zB S 210) (hf.r 10 (by decide)) rfl dX6_key_18 ?_
        refine lv_iload_n hx hb (pc := 21) dX6_key_21 rfl (lv_at hl 0 rfl) ?_
        refine L_iald hC hX hL (pc := 22) 210 (hsh.k 210 rfl) (L := 6) (hsh.n 210 rfl) (by decide) (by omega) (z := Z 210 i) rfl dX6_key_22 ?_
        refine j_imul hC (pc := 23) dX6_key_23 ?_
        refine lv_aload_n hx hb (pc := 24) dX6_key_24 rfl (lv_at hl 2 rfl) ?_
        refine L_getr hC hX hL in_X6 (ci := 6) rfl (pc := 25) 201 (hsh.k 201 rfl) 11 (by decide) q320 rfl (q := zA S 201 11) (b := zB S 211) (hf.r 11 (by decide)) rfl dX6_key_25 ?_
        refine lv_iload_n hx hb (pc := 28) dX6_key_28 rfl (lv_at hl 0 rfl) ?_
        refine L_zald hC hX hL (pc := 29) 211 (hsh.k 211 rfl) (L := 6) (hsh.n 211 rfl) (by decide) (by omega) (z := Z 211 i) rfl dX6_key_29 ?_
        refine j_if_eq hC (pc := 30) 37 dX6_key_30 (by decide) (by omega) (fun c2 => ?_) (fun c2 => ?_)
        · skip
          refine j_iconst hC (pc := 37) dX6_key_37 ?_
          refine j_iadd hC (pc := 38) dX6_key_38 ?_
          refine j_i2l hC (pc := 39) dX6_key_39 (by omega) ?_
          refine j_lor hC (pc := 40) dX6_key_40 (by omega) ?_
          refine lv_lstore_n (lv' := [(1, .long (lI ((v * 64) + ((2 * (Z 210 i)) + 0)))), (3, .int (iI (i))), (0, .ref (zB S 201))]) hx hb (pc := 41) dX6_key_41 rfl hl (by decide) rfl (fun ls hl => ?_)
          refine j_iinc hC (pc := 42) (lv' := [(3, .int (iI (i + 1))), (1, .long (lI ((v * 64) + ((2 * (Z 210 i)) + 0)))), (0, .ref (zB S 201))]) dX6_key_42 hl (k := 1) rfl (by decide) rfl (fun ls hl => ?_)
          refine j_goto hC (pc := 45) 4 dX6_key_45 (by decide) ?_
          exact ih4 (i + 1) ((v * 64) + ((2 * (Z 210 i)) + 0)) _ (by omega) (by omega) (by rw [show (i + 1).toNat = i.toNat + 1 by omega]; show _ = pkF (Z 210) (Z 211) i.toNat * 64 + (2 * Z 210 (i.toNat : Int) + Z 211 (i.toNat : Int)); rw [← hv, Int.toNat_of_nonneg (by omega)]; omega) _ _ hX hL ls (lv_sub hl [0, 1, 2] rfl)
        · skip
          refine j_iconst hC (pc := 33) dX6_key_33 ?_
          refine j_goto hC (pc := 34) 38 dX6_key_34 (by decide) ?_
          refine j_iadd hC (pc := 38) dX6_key_38 ?_
          refine j_i2l hC (pc := 39) dX6_key_39 (by omega) ?_
          refine j_lor hC (pc := 40) dX6_key_40 (by omega) ?_
          refine lv_lstore_n (lv' := [(1, .long (lI ((v * 64) + ((2 * (Z 210 i)) + 1)))), (3, .int (iI (i))), (0, .ref (zB S 201))]) hx hb (pc := 41) dX6_key_41 rfl hl (by decide) rfl (fun ls hl => ?_)
          refine j_iinc hC (pc := 42) (lv' := [(3, .int (iI (i + 1))), (1, .long (lI ((v * 64) + ((2 * (Z 210 i)) + 1)))), (0, .ref (zB S 201))]) dX6_key_42 hl (k := 1) rfl (by decide) rfl (fun ls hl => ?_)
          refine j_goto hC (pc := 45) 4 dX6_key_45 (by decide) ?_
          exact ih4 (i + 1) ((v * 64) + ((2 * (Z 210 i)) + 1)) _ (by omega) (by omega) (by rw [show (i + 1).toNat = i.toNat + 1 by omega]; show _ = pkF (Z 210) (Z 211) i.toNat * 64 + (2 * Z 210 (i.toNat : Int) + Z 211 (i.toNat : Int)); rw [← hv, Int.toNat_of_nonneg (by omega)]; omega) _ _ hX hL ls (lv_sub hl [0, 1, 2] rfl)
  exact L4 ((6 - 0 : Int).toNat + 1) 0 0 _ (by omega) (by omega) rfl _ _ hX hL ls (lv_sub hl [0, 1, 2] rfl)

set_option maxHeartbeats 4000000 in
set_option maxRecDepth 100000 in
theorem f6_become (D : va_G) (T N : Nat → Nat) (l : Launch) {g0 : GH} {S : LbS} {Z : Nat → Int → Int} (hL : lR T g0 S Z) (n : Nat) (x : Int) (hf : fS S Z) (hx_ : 0 ≤ x ∧ x < 68719476736) : Met l yX6_become (ws_ yX6_become cX6_become 6 none) ({ frames := 0, cells := 0, slots := 0, locals := 0 } : Room) (gPc D T N [.ref (zB S 201), .long (lI (x))] g0 n) (gQv D g0 n (fun g' n' => n' = n ∧ ∃ Z', lR T g' S Z' ∧ ch Z Z' [210, 211] ∧ ∀ k : Int, 0 ≤ k → k < Z 201 0 → Z' 210 k = dgt x (Z 201 0 - 1 - k).toNat / 2 % 32 ∧ Z' 211 k = dgt x (Z 201 0 - 1 - k).toNat % 2)) 0 0 (gA g0 n) := by
  refine j_start (by decide) (Nat.le_of_ble_eq_true rfl) ?_
  intro p e s mi args below meth c hC hr hlk hnm hX ls hl
  have hC : Ct D T N (gA g0 n) p s mi args c cX6_become RX6 6 := hC
  have hx := hC.x
  have hb := hC.b
  generalize hQ : MQ below _ args s 0 0 (gA g0 n) = Q
  have hl : lv_has ls 6 [(0, .ref (zB S 201)), (1, .long (lI (x)))] := hl
  have hsh := hf.sh
  have hfn := hf.n
  have hfa := hf.aim
  refine lv_lload_n hx hb (pc := 0) dX6_become_0 rfl (lv_at hl 1 rfl) ?_
  refine lv_lstore_n (lv' := [(3, .long (lI (x))), (0, .ref (zB S 201)), (1, .long (lI (x)))]) hx hb (pc := 1) dX6_become_1 rfl hl (by decide) rfl (fun ls hl => ?_)
  refine lv_aload_n hx hb (pc := 2) dX6_become_2 rfl (lv_at hl 1 rfl) ?_
  refine L_get hC hX hL in_X6 (ci := 6) rfl (pc := 3) 201 (hsh.k 201 rfl) 0 (by decide) q286 rfl (v := .int (iI (Z 201 0))) rfl dX6_become_3 ?_
  refine j_iconst hC (pc := 6) dX6_become_6 ?_
  refine j_isub hC (pc := 7) dX6_become_7 ?_
  refine lv_istore (lv' := [(5, .int (iI ((Z 201 0) - 1))), (3, .long (lI (x))), (0, .ref (zB S 201)), (1, .long (lI (x)))]) hx hb (pc := 8) dX6_become_8 hl (by decide) rfl (fun ls hl => ?_)
  have L10 : ∀ (fu : Nat) (i : Int) (v : Int) (g : GH) (Z1 : Nat → Int → Int), i + 1 < (fu : Int) → (-1 ≤ i ∧ i ≤ Z 201 0 - 1) → (v = dgt x (Z 201 0 - 1 - i).toNat) → (ch Z Z1 [210, 211]) → (∀ k : Int, i < k → k < Z 201 0 → Z1 210 k = dgt x (Z 201 0 - 1 - k).toNat / 2 % 32 ∧ Z1 211 k = dgt x (Z 201 0 - 1 - k).toNat % 2) → ∀ (H : Heap) (locs : List Loc), Wd D (gA g0 n) s g n H locs → lR T g S Z1 → ∀ (ls : Array Slot), lv_has ls 6 [(5, .int (iI (i))), (3, .long (lI (v))), (0, .ref (zB S 201)), (1, .long (lI (x)))] → W p l e ({ frames := 0, cells := 0, slots := 0, locals := 0 } : Room) s mi args below meth c H locs 0 0 Q (F0 mi 10 ls []) := by
    intro fu
    induction fu with
    | zero =>
      intro i v g Z1 hfu hi hv hc hd H locs hX hL ls hl
      exfalso
      omega
    | succ fu ih10 =>
      intro i v g Z1 hfu hi hv hc hd H locs hX hL ls hl
      have hvr := dgt_rg (c := x) (by omega) (Z 201 0 - 1 - i).toNat
      rw [← hv] at hvr
      refine lv_iload hx hb (pc := 10) dX6_become_10 (lv_at hl 0 rfl) ?_
      refine j_if_lt hC (pc := 12) 61 dX6_become_12 (by decide) (by omega) (fun c1 => ?_) (fun c1 => ?_)
      · skip
        subst hQ
        exact j_vret hC (pc := 61) hX hr hlk (Nat.le_of_ble_eq_true rfl) (Nat.le_of_ble_eq_true rfl) dX6_become_61 ⟨rfl, _, hL, ⟨hc, fun k h1 h2 => hd k (by omega) h2⟩⟩
      · skip
        refine lv_aload_n hx hb (pc := 15) dX6_become_15 rfl (lv_at hl 2 rfl) ?_
        refine L_getr hC hX hL in_X6 (ci := 6) rfl (pc := 16) 201 (hsh.k 201 rfl) 10 (by decide) q315 rfl (q := zA S 201 10) (b := zB S 210) (hf.r 10 (by decide)) rfl dX6_become_16 ?_
        refine lv_iload hx hb (pc := 19) dX6_become_19 (lv_at hl 0 rfl) ?_
        refine lv_lload_n hx hb (pc := 21) dX6_become_21 rfl (lv_at hl 1 rfl) ?_
        refine j_iconst hC (pc := 22) dX6_become_22 ?_
        refine j_lshr1 hC (pc := 23) dX6_become_23 (by omega) ?_
        refine j_ldc2 hC (pc := 24) (z := 31) q399 dX6_become_24 rfl ?_
        refine j_land31 hC (pc := 27) dX6_become_27 (by omega) ?_
        refine j_l2i hC (pc := 28) dX6_become_28 ?_
        refine L_iast hC hX hL (pc := 29) 210 (hsh.k 210 rfl) (L := 6) (hsh.n 210 rfl) (by decide) (by omega) (f := uI (Z1 210) i ((v / 2) % 32)) rfl dX6_become_29 (fun g H locs hX hL => ?_)
        refine lv_aload_n hx hb (pc := 30) dX6_become_30 rfl (lv_at hl 2 rfl) ?_
        refine L_getr hC hX hL in_X6 (ci := 6) rfl (pc := 31) 201 (hsh.k 201 rfl) 11 (by decide) q320 rfl (q := zA S 201 11) (b := zB S 211) (hf.r 11 (by decide)) rfl dX6_become_31 ?_
        refine lv_iload hx hb (pc := 34) dX6_become_34 (lv_at hl 0 rfl) ?_
        refine lv_lload_n hx hb (pc := 36) dX6_become_36 rfl (lv_at hl 1 rfl) ?_
        refine j_lconst hC (pc := 37) (w := 1) dX6_become_37 rfl ?_
        refine j_land1 hC (pc := 38) dX6_become_38 (by omega) ?_
        refine j_lconst hC (pc := 39) (w := 1) dX6_become_39 rfl ?_
        refine j_lcmp hC (pc := 40) dX6_become_40 (by omega) (fun z3 h2 => ?_)
        refine j_if_ne hC (pc := 41) 48 dX6_become_41 (by decide) (by omega) (fun c4 => ?_) (fun c4 => ?_)
        · skip
          refine j_iconst hC (pc := 48) dX6_become_48 ?_
          refine L_zast hC hX hL (pc := 49) 211 (hsh.k 211 rfl) (L := 6) (hsh.n 211 rfl) (by decide) (by omega) (by decide) (f := uI (Z1 211) i 0) rfl dX6_become_49 (fun g H locs hX hL => ?_)
          refine lv_lload_n hx hb (pc := 50) dX6_become_50 rfl (lv_at hl 1 rfl) ?_
          refine j_bipush hC (pc := 51) dX6_become_51 (by decide) ?_
          refine j_lshr6 hC (pc := 53) dX6_become_53 (by omega) ?_
          refine lv_lstore_n (lv' := [(3, .long (lI (v / 64))), (5, .int (iI (i))), (0, .ref (zB S 201)), (1, .long (lI (x)))]) hx hb (pc := 54) dX6_become_54 rfl hl (by decide) rfl (fun ls hl => ?_)
          refine j_iinc hC (pc := 55) (lv' := [(5, .int (iI (i + (-1)))), (3, .long (lI (v / 64))), (0, .ref (zB S 201)), (1, .long (lI (x)))]) dX6_become_55 hl (k := 1) rfl (by decide) rfl (fun ls hl => ?_)
          refine j_goto hC (pc := 58) 10 dX6_become_58 (by decide) ?_
          exact ih10 (i + (-1)) (v / 64) _ _ (by omega) (by omega) (by rw [show (Z 201 0 - 1 - (i + -1)).toNat = (Z 201 0 - 1 - i).toNat + 1 by omega, dgt_s, hv]) ((hc.up 210 _ (by decide)).up 211 _ (by decide)) (fun k h1 h2 => by rcases Decidable.em (k = i) with q | q; subst q; exact ⟨by show uI (Z1 210) k _ k = _; rw [uI_s, ← hv], by show uI (Z1 211) k _ k = _; rw [uI_s, ← hv]; omega⟩; exact ⟨by show uI (Z1 210) i _ k = _; rw [uI_n _ _ q]; exact (hd k (by omega) h2).1, by show uI (Z1 211) i _ k = _; rw [uI_n _ _ q]; exact (hd k (by omega) h2).2⟩) _ _ hX hL ls (lv_sub hl [0, 1, 2, 3] rfl)
        · skip
          refine j_iconst hC (pc := 44) dX6_become_44 ?_
          refine j_goto hC (pc := 45) 49 dX6_become_45 (by decide) ?_
          refine L_zast hC hX hL (pc := 49) 211 (hsh.k 211 rfl) (L := 6) (hsh.n 211 rfl) (by decide) (by omega) (by decide) (f := uI (Z1 211) i 1) rfl dX6_become_49 (fun g H locs hX hL => ?_)
          refine lv_lload_n hx hb (pc := 50) dX6_become_50 rfl (lv_at hl 1 rfl) ?_
          refine j_bipush hC (pc := 51) dX6_become_51 (by decide) ?_
          refine j_lshr6 hC (pc := 53) dX6_become_53 (by omega) ?_
          refine lv_lstore_n (lv' := [(3, .long (lI (v / 64))), (5, .int (iI (i))), (0, .ref (zB S 201)), (1, .long (lI (x)))]) hx hb (pc := 54) dX6_become_54 rfl hl (by decide) rfl (fun ls hl => ?_)
          refine j_iinc hC (pc := 55) (lv' := [(5, .int (iI (i + (-1)))), (3, .long (lI (v / 64))), (0, .ref (zB S 201)), (1, .long (lI (x)))]) dX6_become_55 hl (k := 1) rfl (by decide) rfl (fun ls hl => ?_)
          refine j_goto hC (pc := 58) 10 dX6_become_58 (by decide) ?_
          exact ih10 (i + (-1)) (v / 64) _ _ (by omega) (by omega) (by rw [show (Z 201 0 - 1 - (i + -1)).toNat = (Z 201 0 - 1 - i).toNat + 1 by omega, dgt_s, hv]) ((hc.up 210 _ (by decide)).up 211 _ (by decide)) (fun k h1 h2 => by rcases Decidable.em (k = i) with q | q; subst q; exact ⟨by show uI (Z1 210) k _ k = _; rw [uI_s, ← hv], by show uI (Z1 211) k _ k = _; rw [uI_s, ← hv]; omega⟩; exact ⟨by show uI (Z1 210) i _ k = _; rw [uI_n _ _ q]; exact (hd k (by omega) h2).1, by show uI (Z1 211) i _ k = _; rw [uI_n _ _ q]; exact (hd k (by omega) h2).2⟩) _ _ hX hL ls (lv_sub hl [0, 1, 2, 3] rfl)
  exact L10 ((((Z 201 0) - 1) + 1 : Int).toNat + 1) ((Z 201 0) - 1) x _ _ (by omega) (by omega) (by rw [show (Z 201 0 - 1 - (Z 201 0 - 1) : Int).toNat = 0 by omega, dgt_0]) ch.rf (fun k h1 h2 => by omega) _ _ hX hL ls (lv_sub hl [0, 1, 2, 3] rfl)

theorem caF_ok {sd L U : Int → Int} {t b m : Int} (hb : 0 ≤ b) (h : ∀ k : Int, 0 ≤ k → k < m → (0 ≤ L k ∧ L k ≤ 31) ∧ (U k = 0 ∨ U k = 1)) : ∀ n : Nat, ∀ k : Int, 0 ≤ k → k < m → (0 ≤ (caF sd t b (L, U) n).1 k ∧ (caF sd t b (L, U) n).1 k ≤ 31) ∧ ((caF sd t b (L, U) n).2 k = 0 ∨ (caF sd t b (L, U) n).2 k = 1)
  | 0 => h
  | n + 1 => by
    have ih := caF_ok (sd := sd) (t := t) hb h n
    unfold caF
    split
    · unfold aStep
      split
      · intro k h1 h2
        have := ih k h1 h2
        show (0 ≤ huL _ _ _ k ∧ huL _ _ _ k ≤ 31) ∧ (huU _ _ _ _ k = 0 ∨ huU _ _ _ _ k = 1)
        unfold huL huU uI
        split
        · rename_i q
          rw [q] at this
          split <;> omega
        · exact this
      · exact ih
    · exact ih
theorem caF_s {sd L U : Int → Int} {t b i : Int} (hi : 0 ≤ i) : caF sd t b (L, U) (i + 1).toNat = if sd i = t then aStep b i (caF sd t b (L, U) i.toNat) else caF sd t b (L, U) i.toNat := by
  rw [show (i + 1).toNat = i.toNat + 1 by omega]
  show (if sd (i.toNat : Int) = t then aStep b (i.toNat : Int) _ else _) = _
  rw [Int.toNat_of_nonneg hi]
theorem cbF_s {sd L U : Int → Int} {t ls i : Int} (hi : 0 ≤ i) : cbF L U sd t ls (i + 1).toNat = if sd i = t then tstep L U ls (cbF L U sd t ls i.toNat) i else cbF L U sd t ls i.toNat := by
  rw [show (i + 1).toNat = i.toNat + 1 by omega]
  show (if sd (i.toNat : Int) = t then tstep L U ls _ (i.toNat : Int) else _) = _
  rw [Int.toNat_of_nonneg hi]

set_option maxHeartbeats 4000000 in
set_option maxRecDepth 100000 in
theorem f7_hits (D : va_G) (T N : Nat → Nat) (l : Launch) {g0 : GH} {S : LbS} {Z : Nat → Int → Int} (hL : lR T g0 S Z) (n : Nat) (t : Nat) (k : Int) (hf : fS S Z) (hs : fL Z) (hk : 0 ≤ k ∧ k < Z 201 0) : Met l yX7_hits (ws_ yX7_hits cX7_hits 4 none) ({ frames := 2, cells := 0, slots := 0, locals := 43 } : Room) (gPc D T N [.ref (t), .ref (zB S 201), .int (iI (k))] g0 n) (gQv D g0 n (fun g' n' => n' = n ∧ ∃ Z', lR T g' S Z' ∧ ch Z Z' [210, 211] ∧ Z' 210 = (caF (Z 202) (1 - Z 202 k) (Z 207 k) (Z 210, Z 211) (Z 201 0).toNat).1 ∧ Z' 211 = (caF (Z 202) (1 - Z 202 k) (Z 207 k) (Z 210, Z 211) (Z 201 0).toNat).2)) 0 0 (gA g0 n) := by
  refine j_start (by decide) (Nat.le_of_ble_eq_true rfl) ?_
  intro p e s mi args below meth c hC hr hlk hnm hX ls hl
  have hC : Ct D T N (gA g0 n) p s mi args c cX7_hits RX7 4 := hC
  have hx := hC.x
  have hb := hC.b
  generalize hQ : MQ below _ args s 0 0 (gA g0 n) = Q
  have hl : lv_has ls 4 [(0, .ref (t)), (1, .ref (zB S 201)), (2, .int (iI (k)))] := hl
  have hsh := hf.sh
  have hfn := hf.n
  have hfa := hf.aim
  have hk_k := hf.at (k := k) (by omega)
  have hl_k := hs k (by omega) (by omega)
  refine j_iconst hC (pc := 0) dX7_hits_0 ?_
  refine lv_istore_n (lv' := [(3, .int (iI (0))), (0, .ref (t)), (1, .ref (zB S 201)), (2, .int (iI (k)))]) hx hb (pc := 1) dX7_hits_1 rfl hl (by decide) rfl (fun ls hl => ?_)
  have L2 : ∀ (fu : Nat) (i : Int) (g : GH) (Z1 : Nat → Int → Int), 6 - i < (fu : Int) → (0 ≤ i ∧ i ≤ Z 201 0) → (ch Z Z1 [210, 211]) → (Z1 210 = (caF (Z 202) (1 - Z 202 k) (Z 207 k) (Z 210, Z 211) i.toNat).1) → (Z1 211 = (caF (Z 202) (1 - Z 202 k) (Z 207 k) (Z 210, Z 211) i.toNat).2) → ∀ (H : Heap) (locs : List Loc), Wd D (gA g0 n) s g n H locs → lR T g S Z1 → ∀ (ls : Array Slot), lv_has ls 4 [(3, .int (iI (i))), (0, .ref (t)), (1, .ref (zB S 201)), (2, .int (iI (k)))] → W p l e ({ frames := 2, cells := 0, slots := 0, locals := 43 } : Room) s mi args below meth c H locs 0 0 Q (F0 mi 2 ls []) := by
    intro fu
    induction fu with
    | zero =>
      intro i g Z1 hfu hi hc hz1 hz2 H locs hX hL ls hl
      exfalso
      omega
    | succ fu ih2 =>
      intro i g Z1 hfu hi hc hz1 hz2 H locs hX hL ls hl
      have e0 : Z1 201 0 = Z 201 0 := by rw [hc 201 (by decide)]
      have e2 : Z1 202 = Z 202 := hc 202 (by decide)
      have e7 : Z1 207 = Z 207 := hc 207 (by decide)
      have hf1 := hf.ch hc (by decide)
      have hs1 : fL Z1 := fun j h1 h2 => by rw [e0] at h2; rw [hz1, hz2]; exact caF_ok (by omega) hs _ j h1 h2
      refine lv_iload_n hx hb (pc := 2) dX7_hits_2 rfl (lv_at hl 0 rfl) ?_
      refine lv_aload_n hx hb (pc := 3) dX7_hits_3 rfl (lv_at hl 2 rfl) ?_
      refine L_getN hC hX hL in_X6 (ci := 6) rfl (pc := 4) 201 (hsh.k 201 rfl) 0 (by decide) q287 rfl (v := .int (iI (Z1 201 0))) rfl dX7_hits_4 ?_
      refine j_icmp_ge hC (pc := 7) 51 dX7_hits_7 (by decide) (by omega) (fun c1 => ?_) (fun c1 => ?_)
      · skip
        subst hQ
        exact j_vret hC (pc := 51) hX hr hlk (Nat.le_of_ble_eq_true rfl) (Nat.le_of_ble_eq_true rfl) dX7_hits_51 ⟨rfl, _, hL, ⟨hc, by rw [hz1, show i.toNat = (Z 201 0).toNat by omega], by rw [hz2, show i.toNat = (Z 201 0).toNat by omega]⟩⟩
      · skip
        have hk_i := hf.at (k := i) (by omega)
        have hl_i := hs1 i (by omega) (by omega)
        refine lv_aload_n hx hb (pc := 10) dX7_hits_10 rfl (lv_at hl 2 rfl) ?_
        refine L_getrN hC hX hL in_X6 (ci := 6) rfl (pc := 11) 201 (hsh.k 201 rfl) 11 (by decide) q321 rfl (q := zA S 201 11) (b := zB S 211) (hf.r 11 (by decide)) rfl dX7_hits_11 ?_
        refine lv_iload_n hx hb (pc := 14) dX7_hits_14 rfl (lv_at hl 0 rfl) ?_
        refine L_zald hC hX hL (pc := 15) 211 (hsh.k 211 rfl) (L := 6) (hsh.n 211 rfl) (by decide) (by omega) (z := Z1 211 i) rfl dX7_hits_15 ?_
        refine j_if_eq hC (pc := 16) 45 dX7_hits_16 (by decide) (by omega) (fun c2 => ?_) (fun c2 => ?_)
        · skip
          refine j_iinc hC (pc := 45) (lv' := [(3, .int (iI (i + 1))), (0, .ref (t)), (1, .ref (zB S 201)), (2, .int (iI (k)))]) dX7_hits_45 hl (k := 0) rfl (by decide) rfl (fun ls hl => ?_)
          refine j_goto hC (pc := 48) 2 dX7_hits_48 (by decide) ?_
          exact ih2 (i + 1) _ _ (by omega) (by omega) hc (by show _ = (caF (Z 202) (1 - Z 202 k) (Z 207 k) (Z 210, Z 211) (i + 1).toNat).1; rw [caF_s (by omega)]; split; unfold aStep; rw [if_neg (by rw [← hz2]; omega)]; exact hz1; exact hz1) (by show _ = (caF (Z 202) (1 - Z 202 k) (Z 207 k) (Z 210, Z 211) (i + 1).toNat).2; rw [caF_s (by omega)]; split; unfold aStep; rw [if_neg (by rw [← hz2]; omega)]; exact hz2; exact hz2) _ _ hX hL ls (lv_sub hl [0, 1, 2, 3] rfl)
        · skip
          refine lv_aload_n hx hb (pc := 19) dX7_hits_19 rfl (lv_at hl 2 rfl) ?_
          refine L_getrN hC hX hL in_X6 (ci := 6) rfl (pc := 20) 201 (hsh.k 201 rfl) 2 (by decide) q294 rfl (q := zA S 201 2) (b := zB S 202) (hf.r 2 (by decide)) rfl dX7_hits_20 ?_
          refine lv_iload_n hx hb (pc := 23) dX7_hits_23 rfl (lv_at hl 0 rfl) ?_
          refine L_iald hC hX hL (pc := 24) 202 (hsh.k 202 rfl) (L := 6) (hsh.n 202 rfl) (by decide) (by omega) (z := Z1 202 i) rfl dX7_hits_24 ?_
          refine j_eqi (b := Z 202 i) (by rw [e2]) ?_
          refine lv_aload_n hx hb (pc := 25) dX7_hits_25 rfl (lv_at hl 2 rfl) ?_
          refine L_getrN hC hX hL in_X6 (ci := 6) rfl (pc := 26) 201 (hsh.k 201 rfl) 2 (by decide) q294 rfl (q := zA S 201 2) (b := zB S 202) (hf.r 2 (by decide)) rfl dX7_hits_26 ?_
          refine lv_iload_n hx hb (pc := 29) dX7_hits_29 rfl (lv_at hl 3 rfl) ?_
          refine L_iald hC hX hL (pc := 30) 202 (hsh.k 202 rfl) (L := 6) (hsh.n 202 rfl) (by decide) (by omega) (z := Z1 202 k) rfl dX7_hits_30 ?_
          refine j_eqi (b := Z 202 k) (by rw [e2]) ?_
          refine j_icmp_eq hC (pc := 31) 45 dX7_hits_31 (by decide) (by omega) (fun c3 => ?_) (fun c3 => ?_)
          · skip
            refine j_iinc hC (pc := 45) (lv' := [(3, .int (iI (i + 1))), (0, .ref (t)), (1, .ref (zB S 201)), (2, .int (iI (k)))]) dX7_hits_45 hl (k := 0) rfl (by decide) rfl (fun ls hl => ?_)
            refine j_goto hC (pc := 48) 2 dX7_hits_48 (by decide) ?_
            exact ih2 (i + 1) _ _ (by omega) (by omega) hc (by show _ = (caF (Z 202) (1 - Z 202 k) (Z 207 k) (Z 210, Z 211) (i + 1).toNat).1; rw [caF_s (by omega)]; rw [if_neg (by omega)]; exact hz1) (by show _ = (caF (Z 202) (1 - Z 202 k) (Z 207 k) (Z 210, Z 211) (i + 1).toNat).2; rw [caF_s (by omega)]; rw [if_neg (by omega)]; exact hz2) _ _ hX hL ls (lv_sub hl [0, 1, 2, 3] rfl)
          · skip
            refine lv_aload_n hx hb (pc := 34) dX7_hits_34 rfl (lv_at hl 2 rfl) ?_
            refine lv_iload_n hx hb (pc := 35) dX7_hits_35 rfl (lv_at hl 0 rfl) ?_
            refine lv_aload_n hx hb (pc := 36) dX7_hits_36 rfl (lv_at hl 2 rfl) ?_
            refine L_getrN hC hX hL in_X6 (ci := 6) rfl (pc := 37) 201 (hsh.k 201 rfl) 7 (by decide) q308 rfl (q := zA S 201 7) (b := zB S 207) (hf.r 7 (by decide)) rfl dX7_hits_37 ?_
            refine lv_iload_n hx hb (pc := 40) dX7_hits_40 rfl (lv_at hl 3 rfl) ?_
            refine L_iald hC hX hL (pc := 41) 207 (hsh.k 207 rfl) (L := 6) (hsh.n 207 rfl) (by decide) (by omega) (z := Z1 207 k) rfl dX7_hits_41 ?_
            refine j_eqi (b := Z 207 k) (by rw [e7]) ?_
            refine j_callv (rest := []) hX (va_runV hC.fix (f6_loses D T N l hL _ i (Z 207 k) hf1 hs1 (by omega) (by omega)) (cwV 2 hC.ts (lw_V q416 q417 q418 q49 q419) rfl rfl rfl (by decide +kernel) ⟨Nat.le_of_ble_eq_true rfl, Nat.le_of_ble_eq_true rfl⟩) (j_preV hC hX (hL.ob 201 (hsh.k 201 rfl)) (ci := 6) (r := (RX6, TX6, 12)) rfl _) rfl rfl hl.1 rfl (Nat.le_of_ble_eq_true rfl) dX7_hits_42 ⟨(Nat.le_of_ble_eq_true rfl), (Nat.le_of_ble_eq_true rfl)⟩) (fun g m5 H locs hp hle hX => ?_)
            obtain ⟨hn_, Z6, hL, hp⟩ := hp
            subst hn_
            subst hp
            refine j_iinc hC (pc := 45) (lv' := [(3, .int (iI (i + 1))), (0, .ref (t)), (1, .ref (zB S 201)), (2, .int (iI (k)))]) dX7_hits_45 hl (k := 0) rfl (by decide) rfl (fun ls hl => ?_)
            refine j_goto hC (pc := 48) 2 dX7_hits_48 (by decide) ?_
            exact ih2 (i + 1) _ _ (by omega) (by omega) ((hc.up 210 _ (by decide)).up 211 _ (by decide)) (by show _ = (caF (Z 202) (1 - Z 202 k) (Z 207 k) (Z 210, Z 211) (i + 1).toNat).1; rw [caF_s (by omega)]; rw [if_pos (by omega)]; unfold aStep; rw [if_pos (by rw [← hz2]; omega), ← hz1]; rfl) (by show _ = (caF (Z 202) (1 - Z 202 k) (Z 207 k) (Z 210, Z 211) (i + 1).toNat).2; rw [caF_s (by omega)]; rw [if_pos (by omega)]; unfold aStep; rw [if_pos (by rw [← hz2]; omega), ← hz1, ← hz2]; rfl) _ _ hX hL ls (lv_sub hl [0, 1, 2, 3] rfl)
  exact L2 ((6 - 0 : Int).toNat + 1) 0 _ _ (by omega) (by omega) ch.rf rfl rfl _ _ hX hL ls (lv_sub hl [0, 1, 2, 3] rfl)

set_option maxHeartbeats 4000000 in
set_option maxRecDepth 100000 in
theorem f9_hits (D : va_G) (T N : Nat → Nat) (l : Launch) {g0 : GH} {S : LbS} {Z : Nat → Int → Int} (hL : lR T g0 S Z) (n : Nat) (t : Nat) (k : Int) (hf : fS S Z) (hs : fL Z) (hk : 0 ≤ k ∧ k < Z 201 0) (hT : thF (Z 211) (Z 202) (1 - Z 202 k) (Z 201 0).toNat = 1) : Met l yX9_hits (ws_ yX9_hits cX9_hits 6 none) ({ frames := 2, cells := 0, slots := 0, locals := 43 } : Room) (gPc D T N [.ref (t), .ref (zB S 201), .int (iI (k))] g0 n) (gQv D g0 n (fun g' n' => n' = n ∧ ∃ Z', lR T g' S Z' ∧ Z' = va_up (va_up Z 210 (huL (Z 210) (cbF (Z 210) (Z 211) (Z 202) (1 - Z 202 k) (if Z 201 1 = 1 then 1 else 0) (Z 201 0).toNat) (Z 207 k))) 211 (huU (Z 210) (Z 211) (cbF (Z 210) (Z 211) (Z 202) (1 - Z 202 k) (if Z 201 1 = 1 then 1 else 0) (Z 201 0).toNat) (Z 207 k)))) 0 0 (gA g0 n) := by
  refine j_start (by decide) (Nat.le_of_ble_eq_true rfl) ?_
  intro p e s mi args below meth c hC hr hlk hnm hX ls hl
  have hC : Ct D T N (gA g0 n) p s mi args c cX9_hits RX9 6 := hC
  have hx := hC.x
  have hb := hC.b
  generalize hQ : MQ below _ args s 0 0 (gA g0 n) = Q
  have hl : lv_has ls 6 [(0, .ref (t)), (1, .ref (zB S 201)), (2, .int (iI (k)))] := hl
  have hsh := hf.sh
  have hfn := hf.n
  have hfa := hf.aim
  have hk_k := hf.at (k := k) (by omega)
  have hl_k := hs k (by omega) (by omega)
  refine j_iconst hC (pc := 0) dX9_hits_0 ?_
  refine lv_istore_n (lv' := [(3, .int (iI (-1))), (0, .ref (t)), (1, .ref (zB S 201)), (2, .int (iI (k)))]) hx hb (pc := 1) dX9_hits_1 rfl hl (by decide) rfl (fun ls hl => ?_)
  refine j_iconst hC (pc := 2) dX9_hits_2 ?_
  refine lv_istore (lv' := [(4, .int (iI (0))), (3, .int (iI (-1))), (0, .ref (t)), (1, .ref (zB S 201)), (2, .int (iI (k)))]) hx hb (pc := 3) dX9_hits_3 hl (by decide) rfl (fun ls hl => ?_)
  have L5 : ∀ (fu : Nat) (i : Int) (b : Int) (g : GH), 6 - i < (fu : Int) → (0 ≤ i ∧ i ≤ Z 201 0) → (b = cbF (Z 210) (Z 211) (Z 202) (1 - Z 202 k) (if Z 201 1 = 1 then 1 else 0) i.toNat) → ∀ (H : Heap) (locs : List Loc), Wd D (gA g0 n) s g n H locs → lR T g S Z → ∀ (ls : Array Slot), lv_has ls 6 [(4, .int (iI (i))), (3, .int (iI (b))), (0, .ref (t)), (1, .ref (zB S 201)), (2, .int (iI (k)))] → W p l e ({ frames := 2, cells := 0, slots := 0, locals := 43 } : Room) s mi args below meth c H locs 0 0 Q (F0 mi 5 ls []) := by
    intro fu
    induction fu with
    | zero =>
      intro i b g hfu hi hb_ H locs hX hL ls hl
      exfalso
      omega
    | succ fu ih5 =>
      intro i b g hfu hi hb_ H locs hX hL ls hl
      have hr_ := cbF_rg (L := Z 210) (U := Z 211) (sd := Z 202) (t := (1 - Z 202 k)) (ls := (if Z 201 1 = 1 then 1 else 0)) i.toNat
      rw [← hb_] at hr_
      refine lv_iload hx hb (pc := 5) dX9_hits_5 (lv_at hl 0 rfl) ?_
      refine lv_aload_n hx hb (pc := 7) dX9_hits_7 rfl (lv_at hl 3 rfl) ?_
      refine L_getN hC hX hL in_X6 (ci := 6) rfl (pc := 8) 201 (hsh.k 201 rfl) 0 (by decide) q289 rfl (v := .int (iI (Z 201 0))) rfl dX9_hits_8 ?_
      refine j_icmp_ge hC (pc := 11) 94 dX9_hits_11 (by decide) (by omega) (fun c1 => ?_) (fun c1 => ?_)
      · skip
        have hb0 := cbF_some (L := Z 210) (ls := if Z 201 1 = 1 then 1 else 0) _ hT
        rw [show (Z 201 0).toNat = i.toNat by omega, ← hb_] at hb0
        refine lv_aload_n hx hb (pc := 94) dX9_hits_94 rfl (lv_at hl 3 rfl) ?_
        refine lv_iload_n hx hb (pc := 95) dX9_hits_95 rfl (lv_at hl 1 rfl) ?_
        refine lv_aload_n hx hb (pc := 96) dX9_hits_96 rfl (lv_at hl 3 rfl) ?_
        refine L_getrN hC hX hL in_X6 (ci := 6) rfl (pc := 97) 201 (hsh.k 201 rfl) 7 (by decide) q309 rfl (q := zA S 201 7) (b := zB S 207) (hf.r 7 (by decide)) rfl dX9_hits_97 ?_
        refine lv_iload_n hx hb (pc := 100) dX9_hits_100 rfl (lv_at hl 4 rfl) ?_
        refine L_iald hC hX hL (pc := 101) 207 (hsh.k 207 rfl) (L := 6) (hsh.n 207 rfl) (by decide) (by omega) (z := Z 207 k) rfl dX9_hits_101 ?_
        refine j_callv (rest := []) hX (va_runV hC.fix (f6_loses D T N l hL _ b (Z 207 k) hf hs (by omega) (by omega)) (cwV 2 hC.ts (lw_V q430 q417 q418 q49 q419) rfl rfl rfl (by decide +kernel) ⟨Nat.le_of_ble_eq_true rfl, Nat.le_of_ble_eq_true rfl⟩) (j_preV hC hX (hL.ob 201 (hsh.k 201 rfl)) (ci := 6) (r := (RX6, TX6, 12)) rfl _) rfl rfl hl.1 rfl (Nat.le_of_ble_eq_true rfl) dX9_hits_102 ⟨(Nat.le_of_ble_eq_true rfl), (Nat.le_of_ble_eq_true rfl)⟩) (fun g m3 H locs hp hle hX => ?_)
        obtain ⟨hn_, Z4, hL, hp⟩ := hp
        subst hn_
        subst hp
        subst hQ
        exact j_vret hC (pc := 105) hX hr hlk (Nat.le_of_ble_eq_true rfl) (Nat.le_of_ble_eq_true rfl) dX9_hits_105 ⟨rfl, _, hL, by rw [show (Z 201 0).toNat = i.toNat by omega, ← hb_]⟩
      · skip
        have hk_i := hf.at (k := i) (by omega)
        have hl_i := hs i (by omega) (by omega)
        have J45 : ∀ (y : Int) (g : GH), ((y = 1 ∧ Z 211 i ≠ 0 ∧ Z 202 i = (1 - Z 202 k)) ∨ (y = 0 ∧ ¬ (Z 211 i ≠ 0 ∧ Z 202 i = (1 - Z 202 k)))) → ∀ (H : Heap) (locs : List Loc), Wd D (gA g0 n) s g n H locs → lR T g S Z → ∀ (ls : Array Slot), lv_has ls 6 [(4, .int (iI (i))), (3, .int (iI (b))), (0, .ref (t)), (1, .ref (zB S 201)), (2, .int (iI (k)))] → W p l e ({ frames := 2, cells := 0, slots := 0, locals := 43 } : Room) s mi args below meth c H locs 0 0 Q (F0 mi 45 ls [.int (iI (y))]) := by
          intro y g hy H locs hX hL ls hl
          have J87 : ∀ (b2 : Int) (g : GH), (b2 = cbF (Z 210) (Z 211) (Z 202) (1 - Z 202 k) (if Z 201 1 = 1 then 1 else 0) (i + 1).toNat) → ∀ (H : Heap) (locs : List Loc), Wd D (gA g0 n) s g n H locs → lR T g S Z → ∀ (ls : Array Slot), lv_has ls 6 [(4, .int (iI (i))), (3, .int (iI (b))), (0, .ref (t)), (1, .ref (zB S 201)), (2, .int (iI (k)))] → W p l e ({ frames := 2, cells := 0, slots := 0, locals := 43 } : Room) s mi args below meth c H locs 0 0 Q (F0 mi 87 ls [.int (iI (b2))]) := by
            intro b2 g hb2 H locs hX hL ls hl
            refine lv_istore_n (lv' := [(3, .int (iI (b2))), (4, .int (iI (i))), (0, .ref (t)), (1, .ref (zB S 201)), (2, .int (iI (k)))]) hx hb (pc := 87) dX9_hits_87 rfl hl (by decide) rfl (fun ls hl => ?_)
            refine j_iinc hC (pc := 88) (lv' := [(4, .int (iI (i + 1))), (3, .int (iI (b2))), (0, .ref (t)), (1, .ref (zB S 201)), (2, .int (iI (k)))]) dX9_hits_88 hl (k := 1) rfl (by decide) rfl (fun ls hl => ?_)
            refine j_goto hC (pc := 91) 5 dX9_hits_91 (by decide) ?_
            exact ih5 (i + 1) b2 _ (by omega) (by omega) hb2 _ _ hX hL ls (lv_sub hl [0, 1, 2, 3, 4] rfl)
          refine lv_istore (lv' := [(5, .int (iI (y))), (4, .int (iI (i))), (3, .int (iI (b))), (0, .ref (t)), (1, .ref (zB S 201)), (2, .int (iI (k)))]) hx hb (pc := 45) dX9_hits_45 hl (by decide) rfl (fun ls hl => ?_)
          refine lv_iload hx hb (pc := 47) dX9_hits_47 (lv_at hl 0 rfl) ?_
          refine j_if_eq hC (pc := 49) 86 dX9_hits_49 (by decide) (by omega) (fun c5 => ?_) (fun c5 => ?_)
          · skip
            refine lv_iload_n hx hb (pc := 86) dX9_hits_86 rfl (lv_at hl 2 rfl) ?_
            exact J87 b _ (by rw [cbF_s (by omega), ← hb_]; unfold tstep; (repeat' split) <;> omega) _ _ hX hL ls (lv_sub hl [1, 2, 3, 4, 5] rfl)
          · skip
            refine lv_iload_n hx hb (pc := 52) dX9_hits_52 rfl (lv_at hl 2 rfl) ?_
            refine j_iconst hC (pc := 53) dX9_hits_53 ?_
            refine j_icmp_eq hC (pc := 54) 81 dX9_hits_54 (by decide) (by omega) (fun c6 => ?_) (fun c6 => ?_)
            · skip
              refine lv_iload hx hb (pc := 81) dX9_hits_81 (lv_at hl 1 rfl) ?_
              refine j_goto hC (pc := 83) 87 dX9_hits_83 (by decide) ?_
              exact J87 i _ (by rw [cbF_s (by omega), ← hb_]; unfold tstep; (repeat' split) <;> omega) _ _ hX hL ls (lv_sub hl [1, 2, 3, 4, 5] rfl)
            · skip
              refine lv_aload_n hx hb (pc := 57) dX9_hits_57 rfl (lv_at hl 4 rfl) ?_
              refine L_getN hC hX hL in_X6 (ci := 6) rfl (pc := 58) 201 (hsh.k 201 rfl) 1 (by decide) q292 rfl (v := .int (iI (Z 201 1))) rfl dX9_hits_58 ?_
              refine j_iconst hC (pc := 61) dX9_hits_61 ?_
              refine j_icmp_ne hC (pc := 62) 86 dX9_hits_62 (by decide) (by omega) (fun c7 => ?_) (fun c7 => ?_)
              · skip
                refine lv_iload_n hx hb (pc := 86) dX9_hits_86 rfl (lv_at hl 2 rfl) ?_
                exact J87 b _ (by rw [cbF_s (by omega), ← hb_]; unfold tstep; (repeat' split) <;> omega) _ _ hX hL ls (lv_sub hl [1, 2, 3, 4, 5] rfl)
              · skip
                have hl_b := hs b (by omega) (by omega)
                refine lv_aload_n hx hb (pc := 65) dX9_hits_65 rfl (lv_at hl 4 rfl) ?_
                refine L_getrN hC hX hL in_X6 (ci := 6) rfl (pc := 66) 201 (hsh.k 201 rfl) 10 (by decide) q317 rfl (q := zA S 201 10) (b := zB S 210) (hf.r 10 (by decide)) rfl dX9_hits_66 ?_
                refine lv_iload hx hb (pc := 69) dX9_hits_69 (lv_at hl 1 rfl) ?_
                refine L_iald hC hX hL (pc := 71) 210 (hsh.k 210 rfl) (L := 6) (hsh.n 210 rfl) (by decide) (by omega) (z := Z 210 i) rfl dX9_hits_71 ?_
                refine lv_aload_n hx hb (pc := 72) dX9_hits_72 rfl (lv_at hl 4 rfl) ?_
                refine L_getrN hC hX hL in_X6 (ci := 6) rfl (pc := 73) 201 (hsh.k 201 rfl) 10 (by decide) q317 rfl (q := zA S 201 10) (b := zB S 210) (hf.r 10 (by decide)) rfl dX9_hits_73 ?_
                refine lv_iload_n hx hb (pc := 76) dX9_hits_76 rfl (lv_at hl 2 rfl) ?_
                refine L_iald hC hX hL (pc := 77) 210 (hsh.k 210 rfl) (L := 6) (hsh.n 210 rfl) (by decide) (by omega) (z := Z 210 b) rfl dX9_hits_77 ?_
                refine j_icmp_ge hC (pc := 78) 86 dX9_hits_78 (by decide) (by omega) (fun c8 => ?_) (fun c8 => ?_)
                · skip
                  refine lv_iload_n hx hb (pc := 86) dX9_hits_86 rfl (lv_at hl 2 rfl) ?_
                  exact J87 b _ (by rw [cbF_s (by omega), ← hb_]; unfold tstep; (repeat' split) <;> omega) _ _ hX hL ls (lv_sub hl [1, 2, 3, 4, 5] rfl)
                · skip
                  refine lv_iload hx hb (pc := 81) dX9_hits_81 (lv_at hl 1 rfl) ?_
                  refine j_goto hC (pc := 83) 87 dX9_hits_83 (by decide) ?_
                  exact J87 i _ (by rw [cbF_s (by omega), ← hb_]; unfold tstep; (repeat' split) <;> omega) _ _ hX hL ls (lv_sub hl [1, 2, 3, 4, 5] rfl)
        refine lv_aload_n hx hb (pc := 14) dX9_hits_14 rfl (lv_at hl 3 rfl) ?_
        refine L_getrN hC hX hL in_X6 (ci := 6) rfl (pc := 15) 201 (hsh.k 201 rfl) 11 (by decide) q323 rfl (q := zA S 201 11) (b := zB S 211) (hf.r 11 (by decide)) rfl dX9_hits_15 ?_
        refine lv_iload hx hb (pc := 18) dX9_hits_18 (lv_at hl 0 rfl) ?_
        refine L_zald hC hX hL (pc := 20) 211 (hsh.k 211 rfl) (L := 6) (hsh.n 211 rfl) (by decide) (by omega) (z := Z 211 i) rfl dX9_hits_20 ?_
        refine j_if_eq hC (pc := 21) 44 dX9_hits_21 (by decide) (by omega) (fun c9 => ?_) (fun c9 => ?_)
        · skip
          refine j_iconst hC (pc := 44) dX9_hits_44 ?_
          exact J45 0 _ (by omega) _ _ hX hL ls (lv_sub hl [0, 1, 2, 3, 4] rfl)
        · skip
          refine lv_aload_n hx hb (pc := 24) dX9_hits_24 rfl (lv_at hl 3 rfl) ?_
          refine L_getrN hC hX hL in_X6 (ci := 6) rfl (pc := 25) 201 (hsh.k 201 rfl) 2 (by decide) q296 rfl (q := zA S 201 2) (b := zB S 202) (hf.r 2 (by decide)) rfl dX9_hits_25 ?_
          refine lv_iload hx hb (pc := 28) dX9_hits_28 (lv_at hl 0 rfl) ?_
          refine L_iald hC hX hL (pc := 30) 202 (hsh.k 202 rfl) (L := 6) (hsh.n 202 rfl) (by decide) (by omega) (z := Z 202 i) rfl dX9_hits_30 ?_
          refine lv_aload_n hx hb (pc := 31) dX9_hits_31 rfl (lv_at hl 3 rfl) ?_
          refine L_getrN hC hX hL in_X6 (ci := 6) rfl (pc := 32) 201 (hsh.k 201 rfl) 2 (by decide) q296 rfl (q := zA S 201 2) (b := zB S 202) (hf.r 2 (by decide)) rfl dX9_hits_32 ?_
          refine lv_iload_n hx hb (pc := 35) dX9_hits_35 rfl (lv_at hl 4 rfl) ?_
          refine L_iald hC hX hL (pc := 36) 202 (hsh.k 202 rfl) (L := 6) (hsh.n 202 rfl) (by decide) (by omega) (z := Z 202 k) rfl dX9_hits_36 ?_
          refine j_icmp_eq hC (pc := 37) 44 dX9_hits_37 (by decide) (by omega) (fun c10 => ?_) (fun c10 => ?_)
          · skip
            refine j_iconst hC (pc := 44) dX9_hits_44 ?_
            exact J45 0 _ (by omega) _ _ hX hL ls (lv_sub hl [0, 1, 2, 3, 4] rfl)
          · skip
            refine j_iconst hC (pc := 40) dX9_hits_40 ?_
            refine j_goto hC (pc := 41) 45 dX9_hits_41 (by decide) ?_
            exact J45 1 _ (by omega) _ _ hX hL ls (lv_sub hl [0, 1, 2, 3, 4] rfl)
  exact L5 ((6 - 0 : Int).toNat + 1) 0 (-1) _ (by omega) (by omega) rfl _ _ hX hL ls (lv_sub hl [0, 1, 2, 3, 4] rfl)

set_option maxHeartbeats 4000000 in
set_option maxRecDepth 100000 in
theorem f8_hits (D : va_G) (T N : Nat → Nat) (l : Launch) {g0 : GH} {S : LbS} {Z : Nat → Int → Int} (hL : lR T g0 S Z) (n : Nat) (t : Nat) (k : Int) (hf : fS S Z) (hs : fL Z) (hk : 0 ≤ k ∧ k < Z 201 0) (hT : Z 211 k ≠ 0) : Met l yX8_hits (ws_ yX8_hits cX8_hits 6 none) ({ frames := 1, cells := 0, slots := 0, locals := 21 } : Room) (gPc D T N [.ref (t), .ref (zB S 201), .int (iI (k))] g0 n) (gQv D g0 n (fun g' n' => n' = n ∧ ∃ Z', lR T g' S Z' ∧ Z' = va_up Z 210 (uI (Z 210) (cbF (Z 210) (Z 211) (Z 202) (Z 202 k) 1 (Z 201 0).toNat) (minF (Z 205 (cbF (Z 210) (Z 211) (Z 202) (Z 202 k) 1 (Z 201 0).toNat)) (Z 210 (cbF (Z 210) (Z 211) (Z 202) (Z 202 k) 1 (Z 201 0).toNat) + Z 207 k))))) 0 0 (gA g0 n) := by
  refine j_start (by decide) (Nat.le_of_ble_eq_true rfl) ?_
  intro p e s mi args below meth c hC hr hlk hnm hX ls hl
  have hC : Ct D T N (gA g0 n) p s mi args c cX8_hits RX8 6 := hC
  have hx := hC.x
  have hb := hC.b
  generalize hQ : MQ below _ args s 0 0 (gA g0 n) = Q
  have hl : lv_has ls 6 [(0, .ref (t)), (1, .ref (zB S 201)), (2, .int (iI (k)))] := hl
  have hsh := hf.sh
  have hfn := hf.n
  have hfa := hf.aim
  have hk_k := hf.at (k := k) (by omega)
  have hl_k := hs k (by omega) (by omega)
  refine j_iconst hC (pc := 0) dX8_hits_0 ?_
  refine lv_istore_n (lv' := [(3, .int (iI (-1))), (0, .ref (t)), (1, .ref (zB S 201)), (2, .int (iI (k)))]) hx hb (pc := 1) dX8_hits_1 rfl hl (by decide) rfl (fun ls hl => ?_)
  refine j_iconst hC (pc := 2) dX8_hits_2 ?_
  refine lv_istore (lv' := [(4, .int (iI (0))), (3, .int (iI (-1))), (0, .ref (t)), (1, .ref (zB S 201)), (2, .int (iI (k)))]) hx hb (pc := 3) dX8_hits_3 hl (by decide) rfl (fun ls hl => ?_)
  have L5 : ∀ (fu : Nat) (i : Int) (b : Int) (g : GH), 6 - i < (fu : Int) → (0 ≤ i ∧ i ≤ Z 201 0) → (b = cbF (Z 210) (Z 211) (Z 202) (Z 202 k) 1 i.toNat) → ∀ (H : Heap) (locs : List Loc), Wd D (gA g0 n) s g n H locs → lR T g S Z → ∀ (ls : Array Slot), lv_has ls 6 [(4, .int (iI (i))), (3, .int (iI (b))), (0, .ref (t)), (1, .ref (zB S 201)), (2, .int (iI (k)))] → W p l e ({ frames := 1, cells := 0, slots := 0, locals := 21 } : Room) s mi args below meth c H locs 0 0 Q (F0 mi 5 ls []) := by
    intro fu
    induction fu with
    | zero =>
      intro i b g hfu hi hb_ H locs hX hL ls hl
      exfalso
      omega
    | succ fu ih5 =>
      intro i b g hfu hi hb_ H locs hX hL ls hl
      have hr_ := cbF_rg (L := Z 210) (U := Z 211) (sd := Z 202) (t := (Z 202 k)) (ls := 1) i.toNat
      rw [← hb_] at hr_
      refine lv_iload hx hb (pc := 5) dX8_hits_5 (lv_at hl 0 rfl) ?_
      refine lv_aload_n hx hb (pc := 7) dX8_hits_7 rfl (lv_at hl 3 rfl) ?_
      refine L_getN hC hX hL in_X6 (ci := 6) rfl (pc := 8) 201 (hsh.k 201 rfl) 0 (by decide) q288 rfl (v := .int (iI (Z 201 0))) rfl dX8_hits_8 ?_
      refine j_icmp_ge hC (pc := 11) 86 dX8_hits_11 (by decide) (by omega) (fun c1 => ?_) (fun c1 => ?_)
      · skip
        have hb0 := cbF_some (L := Z 210) (sd := Z 202) (t := Z 202 k) (ls := 1) (Z 201 0).toNat (thF_at (k := k) (by omega) ⟨hT, rfl⟩)
        rw [show (Z 201 0).toNat = i.toNat by omega, ← hb_] at hb0
        have hk_b := hf.at (k := b) (by omega)
        have hl_b := hs b (by omega) (by omega)
        refine lv_aload_n hx hb (pc := 86) dX8_hits_86 rfl (lv_at hl 3 rfl) ?_
        refine L_getrN hC hX hL in_X6 (ci := 6) rfl (pc := 87) 201 (hsh.k 201 rfl) 10 (by decide) q316 rfl (q := zA S 201 10) (b := zB S 210) (hf.r 10 (by decide)) rfl dX8_hits_87 ?_
        refine lv_iload_n hx hb (pc := 90) dX8_hits_90 rfl (lv_at hl 1 rfl) ?_
        refine lv_aload_n hx hb (pc := 91) dX8_hits_91 rfl (lv_at hl 3 rfl) ?_
        refine L_getrN hC hX hL in_X6 (ci := 6) rfl (pc := 92) 201 (hsh.k 201 rfl) 5 (by decide) q303 rfl (q := zA S 201 5) (b := zB S 205) (hf.r 5 (by decide)) rfl dX8_hits_92 ?_
        refine lv_iload_n hx hb (pc := 95) dX8_hits_95 rfl (lv_at hl 1 rfl) ?_
        refine L_iald hC hX hL (pc := 96) 205 (hsh.k 205 rfl) (L := 6) (hsh.n 205 rfl) (by decide) (by omega) (z := Z 205 b) rfl dX8_hits_96 ?_
        refine lv_aload_n hx hb (pc := 97) dX8_hits_97 rfl (lv_at hl 3 rfl) ?_
        refine L_getrN hC hX hL in_X6 (ci := 6) rfl (pc := 98) 201 (hsh.k 201 rfl) 10 (by decide) q316 rfl (q := zA S 201 10) (b := zB S 210) (hf.r 10 (by decide)) rfl dX8_hits_98 ?_
        refine lv_iload_n hx hb (pc := 101) dX8_hits_101 rfl (lv_at hl 1 rfl) ?_
        refine L_iald hC hX hL (pc := 102) 210 (hsh.k 210 rfl) (L := 6) (hsh.n 210 rfl) (by decide) (by omega) (z := Z 210 b) rfl dX8_hits_102 ?_
        refine lv_aload_n hx hb (pc := 103) dX8_hits_103 rfl (lv_at hl 3 rfl) ?_
        refine L_getrN hC hX hL in_X6 (ci := 6) rfl (pc := 104) 201 (hsh.k 201 rfl) 7 (by decide) q310 rfl (q := zA S 201 7) (b := zB S 207) (hf.r 7 (by decide)) rfl dX8_hits_104 ?_
        refine lv_iload_n hx hb (pc := 107) dX8_hits_107 rfl (lv_at hl 4 rfl) ?_
        refine L_iald hC hX hL (pc := 108) 207 (hsh.k 207 rfl) (L := 6) (hsh.n 207 rfl) (by decide) (by omega) (z := Z 207 k) rfl dX8_hits_108 ?_
        refine j_iadd hC (pc := 109) dX8_hits_109 ?_
        refine j_mmin hC (pc := 110) q424 hl.1 (Nat.le_of_ble_eq_true rfl) (Nat.le_of_ble_eq_true rfl) (Nat.le_of_ble_eq_true rfl) (Nat.le_of_ble_eq_true rfl) (by omega) dX8_hits_110 ?_
        refine L_iast hC hX hL (pc := 113) 210 (hsh.k 210 rfl) (L := 6) (hsh.n 210 rfl) (by decide) (by omega) (f := uI (Z 210) b (minF (Z 205 b) ((Z 210 b) + (Z 207 k)))) rfl dX8_hits_113 (fun g H locs hX hL => ?_)
        subst hQ
        exact j_vret hC (pc := 114) hX hr hlk (Nat.le_of_ble_eq_true rfl) (Nat.le_of_ble_eq_true rfl) dX8_hits_114 ⟨rfl, _, hL, by rw [show (Z 201 0).toNat = i.toNat by omega, ← hb_]⟩
      · skip
        have hk_i := hf.at (k := i) (by omega)
        have hl_i := hs i (by omega) (by omega)
        have J45 : ∀ (y : Int) (g : GH), ((y = 1 ∧ Z 211 i ≠ 0 ∧ Z 202 i = (Z 202 k)) ∨ (y = 0 ∧ ¬ (Z 211 i ≠ 0 ∧ Z 202 i = (Z 202 k)))) → ∀ (H : Heap) (locs : List Loc), Wd D (gA g0 n) s g n H locs → lR T g S Z → ∀ (ls : Array Slot), lv_has ls 6 [(4, .int (iI (i))), (3, .int (iI (b))), (0, .ref (t)), (1, .ref (zB S 201)), (2, .int (iI (k)))] → W p l e ({ frames := 1, cells := 0, slots := 0, locals := 21 } : Room) s mi args below meth c H locs 0 0 Q (F0 mi 45 ls [.int (iI (y))]) := by
          intro y g hy H locs hX hL ls hl
          have J79 : ∀ (b2 : Int) (g : GH), (b2 = cbF (Z 210) (Z 211) (Z 202) (Z 202 k) 1 (i + 1).toNat) → ∀ (H : Heap) (locs : List Loc), Wd D (gA g0 n) s g n H locs → lR T g S Z → ∀ (ls : Array Slot), lv_has ls 6 [(4, .int (iI (i))), (3, .int (iI (b))), (0, .ref (t)), (1, .ref (zB S 201)), (2, .int (iI (k)))] → W p l e ({ frames := 1, cells := 0, slots := 0, locals := 21 } : Room) s mi args below meth c H locs 0 0 Q (F0 mi 79 ls [.int (iI (b2))]) := by
            intro b2 g hb2 H locs hX hL ls hl
            refine lv_istore_n (lv' := [(3, .int (iI (b2))), (4, .int (iI (i))), (0, .ref (t)), (1, .ref (zB S 201)), (2, .int (iI (k)))]) hx hb (pc := 79) dX8_hits_79 rfl hl (by decide) rfl (fun ls hl => ?_)
            refine j_iinc hC (pc := 80) (lv' := [(4, .int (iI (i + 1))), (3, .int (iI (b2))), (0, .ref (t)), (1, .ref (zB S 201)), (2, .int (iI (k)))]) dX8_hits_80 hl (k := 1) rfl (by decide) rfl (fun ls hl => ?_)
            refine j_goto hC (pc := 83) 5 dX8_hits_83 (by decide) ?_
            exact ih5 (i + 1) b2 _ (by omega) (by omega) hb2 _ _ hX hL ls (lv_sub hl [0, 1, 2, 3, 4] rfl)
          refine lv_istore (lv' := [(5, .int (iI (y))), (4, .int (iI (i))), (3, .int (iI (b))), (0, .ref (t)), (1, .ref (zB S 201)), (2, .int (iI (k)))]) hx hb (pc := 45) dX8_hits_45 hl (by decide) rfl (fun ls hl => ?_)
          refine lv_iload hx hb (pc := 47) dX8_hits_47 (lv_at hl 0 rfl) ?_
          refine j_if_eq hC (pc := 49) 78 dX8_hits_49 (by decide) (by omega) (fun c2 => ?_) (fun c2 => ?_)
          · skip
            refine lv_iload_n hx hb (pc := 78) dX8_hits_78 rfl (lv_at hl 2 rfl) ?_
            exact J79 b _ (by rw [cbF_s (by omega), ← hb_]; unfold tstep; (repeat' split) <;> omega) _ _ hX hL ls (lv_sub hl [1, 2, 3, 4, 5] rfl)
          · skip
            refine lv_iload_n hx hb (pc := 52) dX8_hits_52 rfl (lv_at hl 2 rfl) ?_
            refine j_iconst hC (pc := 53) dX8_hits_53 ?_
            refine j_icmp_eq hC (pc := 54) 73 dX8_hits_54 (by decide) (by omega) (fun c3 => ?_) (fun c3 => ?_)
            · skip
              refine lv_iload hx hb (pc := 73) dX8_hits_73 (lv_at hl 1 rfl) ?_
              refine j_goto hC (pc := 75) 79 dX8_hits_75 (by decide) ?_
              exact J79 i _ (by rw [cbF_s (by omega), ← hb_]; unfold tstep; (repeat' split) <;> omega) _ _ hX hL ls (lv_sub hl [1, 2, 3, 4, 5] rfl)
            · skip
              have hl_b := hs b (by omega) (by omega)
              refine lv_aload_n hx hb (pc := 57) dX8_hits_57 rfl (lv_at hl 4 rfl) ?_
              refine L_getrN hC hX hL in_X6 (ci := 6) rfl (pc := 58) 201 (hsh.k 201 rfl) 10 (by decide) q316 rfl (q := zA S 201 10) (b := zB S 210) (hf.r 10 (by decide)) rfl dX8_hits_58 ?_
              refine lv_iload hx hb (pc := 61) dX8_hits_61 (lv_at hl 1 rfl) ?_
              refine L_iald hC hX hL (pc := 63) 210 (hsh.k 210 rfl) (L := 6) (hsh.n 210 rfl) (by decide) (by omega) (z := Z 210 i) rfl dX8_hits_63 ?_
              refine lv_aload_n hx hb (pc := 64) dX8_hits_64 rfl (lv_at hl 4 rfl) ?_
              refine L_getrN hC hX hL in_X6 (ci := 6) rfl (pc := 65) 201 (hsh.k 201 rfl) 10 (by decide) q316 rfl (q := zA S 201 10) (b := zB S 210) (hf.r 10 (by decide)) rfl dX8_hits_65 ?_
              refine lv_iload_n hx hb (pc := 68) dX8_hits_68 rfl (lv_at hl 2 rfl) ?_
              refine L_iald hC hX hL (pc := 69) 210 (hsh.k 210 rfl) (L := 6) (hsh.n 210 rfl) (by decide) (by omega) (z := Z 210 b) rfl dX8_hits_69 ?_
              refine j_icmp_ge hC (pc := 70) 78 dX8_hits_70 (by decide) (by omega) (fun c4 => ?_) (fun c4 => ?_)
              · skip
                refine lv_iload_n hx hb (pc := 78) dX8_hits_78 rfl (lv_at hl 2 rfl) ?_
                exact J79 b _ (by rw [cbF_s (by omega), ← hb_]; unfold tstep; (repeat' split) <;> omega) _ _ hX hL ls (lv_sub hl [1, 2, 3, 4, 5] rfl)
              · skip
                refine lv_iload hx hb (pc := 73) dX8_hits_73 (lv_at hl 1 rfl) ?_
                refine j_goto hC (pc := 75) 79 dX8_hits_75 (by decide) ?_
                exact J79 i _ (by rw [cbF_s (by omega), ← hb_]; unfold tstep; (repeat' split) <;> omega) _ _ hX hL ls (lv_sub hl [1, 2, 3, 4, 5] rfl)
        refine lv_aload_n hx hb (pc := 14) dX8_hits_14 rfl (lv_at hl 3 rfl) ?_
        refine L_getrN hC hX hL in_X6 (ci := 6) rfl (pc := 15) 201 (hsh.k 201 rfl) 11 (by decide) q322 rfl (q := zA S 201 11) (b := zB S 211) (hf.r 11 (by decide)) rfl dX8_hits_15 ?_
        refine lv_iload hx hb (pc := 18) dX8_hits_18 (lv_at hl 0 rfl) ?_
        refine L_zald hC hX hL (pc := 20) 211 (hsh.k 211 rfl) (L := 6) (hsh.n 211 rfl) (by decide) (by omega) (z := Z 211 i) rfl dX8_hits_20 ?_
        refine j_if_eq hC (pc := 21) 44 dX8_hits_21 (by decide) (by omega) (fun c5 => ?_) (fun c5 => ?_)
        · skip
          refine j_iconst hC (pc := 44) dX8_hits_44 ?_
          exact J45 0 _ (by omega) _ _ hX hL ls (lv_sub hl [0, 1, 2, 3, 4] rfl)
        · skip
          refine lv_aload_n hx hb (pc := 24) dX8_hits_24 rfl (lv_at hl 3 rfl) ?_
          refine L_getrN hC hX hL in_X6 (ci := 6) rfl (pc := 25) 201 (hsh.k 201 rfl) 2 (by decide) q295 rfl (q := zA S 201 2) (b := zB S 202) (hf.r 2 (by decide)) rfl dX8_hits_25 ?_
          refine lv_iload hx hb (pc := 28) dX8_hits_28 (lv_at hl 0 rfl) ?_
          refine L_iald hC hX hL (pc := 30) 202 (hsh.k 202 rfl) (L := 6) (hsh.n 202 rfl) (by decide) (by omega) (z := Z 202 i) rfl dX8_hits_30 ?_
          refine lv_aload_n hx hb (pc := 31) dX8_hits_31 rfl (lv_at hl 3 rfl) ?_
          refine L_getrN hC hX hL in_X6 (ci := 6) rfl (pc := 32) 201 (hsh.k 201 rfl) 2 (by decide) q295 rfl (q := zA S 201 2) (b := zB S 202) (hf.r 2 (by decide)) rfl dX8_hits_32 ?_
          refine lv_iload_n hx hb (pc := 35) dX8_hits_35 rfl (lv_at hl 4 rfl) ?_
          refine L_iald hC hX hL (pc := 36) 202 (hsh.k 202 rfl) (L := 6) (hsh.n 202 rfl) (by decide) (by omega) (z := Z 202 k) rfl dX8_hits_36 ?_
          refine j_icmp_ne hC (pc := 37) 44 dX8_hits_37 (by decide) (by omega) (fun c6 => ?_) (fun c6 => ?_)
          · skip
            refine j_iconst hC (pc := 44) dX8_hits_44 ?_
            exact J45 0 _ (by omega) _ _ hX hL ls (lv_sub hl [0, 1, 2, 3, 4] rfl)
          · skip
            refine j_iconst hC (pc := 40) dX8_hits_40 ?_
            refine j_goto hC (pc := 41) 45 dX8_hits_41 (by decide) ?_
            exact J45 1 _ (by omega) _ _ hX hL ls (lv_sub hl [0, 1, 2, 3, 4] rfl)
  exact L5 ((6 - 0 : Int).toNat + 1) 0 (-1) _ (by omega) (by omega) rfl _ _ hX hL ls (lv_sub hl [0, 1, 2, 3, 4] rfl)

set_option maxHeartbeats 4000000 in
set_option maxRecDepth 100000 in
theorem f6_hits (D : va_G) (T N : Nat → Nat) (l : Launch) {g0 : GH} {S : LbS} {Z : Nat → Int → Int} (hL : lR T g0 S Z) (n : Nat) (k : Int) (hf : fS S Z) (hs : fL Z) (hk : 0 ≤ k ∧ k < Z 201 0) (hT0 : Z 204 k = 0 → thF (Z 211) (Z 202) (1 - Z 202 k) (Z 201 0).toNat = 1) (hT1 : Z 211 k ≠ 0) : Met l yX6_hits (ws_ yX6_hits cX6_hits 2 none) ({ frames := 3, cells := 0, slots := 0, locals := 68 } : Room) (gPc D T N [.ref (zB S 201), .int (iI (k))] g0 n) (gQv D g0 n (fun g' n' => n' = n ∧ ∃ Z', lR T g' S Z' ∧ ch Z Z' [210, 211] ∧ Z' 210 = (chF (Z 204 k) (Z 207 k) (Z 201 1) (Z 205) (Z 202) (Z 210) (Z 211) k (Z 201 0).toNat).1 ∧ Z' 211 = (chF (Z 204 k) (Z 207 k) (Z 201 1) (Z 205) (Z 202) (Z 210) (Z 211) k (Z 201 0).toNat).2)) 0 0 (gA g0 n) := by
  refine j_start (by decide) (Nat.le_of_ble_eq_true rfl) ?_
  intro p e s mi args below meth c hC hr hlk hnm hX ls hl
  have hC : Ct D T N (gA g0 n) p s mi args c cX6_hits RX6 2 := hC
  have hx := hC.x
  have hb := hC.b
  generalize hQ : MQ below _ args s 0 0 (gA g0 n) = Q
  have hl : lv_has ls 2 [(0, .ref (zB S 201)), (1, .int (iI (k)))] := hl
  have hsh := hf.sh
  have hfn := hf.n
  have hfa := hf.aim
  have hk_k := hf.at (k := k) (by omega)
  have hl_k := hs k (by omega) (by omega)
  refine j_kinds hC hX (pc := 0) q408 dX6_hits_0 ?_
  refine lv_aload_n hx hb (pc := 3) dX6_hits_3 rfl (lv_at hl 0 rfl) ?_
  refine L_getr hC hX hL in_X6 (ci := 6) rfl (pc := 4) 201 (hsh.k 201 rfl) 4 (by decide) q301 rfl (q := zA S 201 4) (b := zB S 204) (hf.r 4 (by decide)) rfl dX6_hits_4 ?_
  refine lv_iload_n hx hb (pc := 7) dX6_hits_7 rfl (lv_at hl 1 rfl) ?_
  refine L_iald hC hX hL (pc := 8) 204 (hsh.k 204 rfl) (L := 6) (hsh.n 204 rfl) (by decide) (by omega) (z := Z 204 k) rfl dX6_hits_8 ?_
  rcases (show Z 204 k = 0 ∨ Z 204 k = 1 ∨ Z 204 k = 2 by omega) with hkd | hkd | hkd
  · skip
    refine j_eqi (b := 0) hkd ?_
    refine j_kind hC hX (pc := 9) (by decide) dX6_hits_9 ?_
    refine lv_aload_n hx hb (pc := 10) dX6_hits_10 rfl (lv_at hl 0 rfl) ?_
    refine lv_iload_n hx hb (pc := 11) dX6_hits_11 rfl (lv_at hl 1 rfl) ?_
    refine j_callv (rest := []) hX (va_runU hC.fix (f9_hits D T N l hL _ (N 1) k hf hs hk (hT0 hkd)) (va_cwA 2 hC.ts (lw_U q410 q412 q427 q428 q1280 q429) rfl rfl rfl (hC.W.w q411 rfl) (by decide +kernel) ⟨Nat.le_of_ble_eq_true rfl, Nat.le_of_ble_eq_true rfl⟩) (j_preO hC hX hC.Z.2.2.1 _) rfl rfl hl.1 rfl (Nat.le_of_ble_eq_true rfl) dX6_hits_12 ⟨(Nat.le_of_ble_eq_true rfl), (Nat.le_of_ble_eq_true rfl)⟩) (fun g m1 H locs hp hle hX => ?_)
    obtain ⟨hn_, Z1, hL, hp⟩ := hp
    subst hn_
    subst hQ
    exact j_vret hC (pc := 15) hX hr hlk (Nat.le_of_ble_eq_true rfl) (Nat.le_of_ble_eq_true rfl) dX6_hits_15 ⟨rfl, _, hL, ⟨by rw [hp]; exact (ch.rf.up 210 _ (by decide)).up 211 _ (by decide), by rw [hp]; unfold chF; rw [if_pos hkd]; rfl, by rw [hp]; unfold chF; rw [if_pos hkd]; rfl⟩⟩
  · skip
    refine j_eqi (b := 1) hkd ?_
    refine j_kind hC hX (pc := 9) (by decide) dX6_hits_9 ?_
    refine lv_aload_n hx hb (pc := 10) dX6_hits_10 rfl (lv_at hl 0 rfl) ?_
    refine lv_iload_n hx hb (pc := 11) dX6_hits_11 rfl (lv_at hl 1 rfl) ?_
    refine j_callv (rest := []) hX (va_runU hC.fix (f7_hits D T N l hL _ (N 2) k hf hs hk) (va_cwA 2 hC.ts (lw_U q410 q412 q413 q414 q1278 q415) rfl rfl rfl (hC.W.w q411 rfl) (by decide +kernel) ⟨Nat.le_of_ble_eq_true rfl, Nat.le_of_ble_eq_true rfl⟩) (j_preO hC hX hC.Z.2.2.2.1 _) rfl rfl hl.1 rfl (Nat.le_of_ble_eq_true rfl) dX6_hits_12 ⟨(Nat.le_of_ble_eq_true rfl), (Nat.le_of_ble_eq_true rfl)⟩) (fun g m1 H locs hp hle hX => ?_)
    obtain ⟨hn_, Z1, hL, hp⟩ := hp
    subst hn_
    subst hQ
    exact j_vret hC (pc := 15) hX hr hlk (Nat.le_of_ble_eq_true rfl) (Nat.le_of_ble_eq_true rfl) dX6_hits_15 ⟨rfl, _, hL, ⟨hp.1, by rw [hp.2.1]; unfold chF; rw [if_neg (by omega), if_pos hkd], by rw [hp.2.2]; unfold chF; rw [if_neg (by omega), if_pos hkd]⟩⟩
  · skip
    refine j_eqi (b := 2) hkd ?_
    refine j_kind hC hX (pc := 9) (by decide) dX6_hits_9 ?_
    refine lv_aload_n hx hb (pc := 10) dX6_hits_10 rfl (lv_at hl 0 rfl) ?_
    refine lv_iload_n hx hb (pc := 11) dX6_hits_11 rfl (lv_at hl 1 rfl) ?_
    refine j_callv (rest := []) hX (va_runU hC.fix (f8_hits D T N l hL _ (N 3) k hf hs hk hT1) (va_cwA 2 hC.ts (lw_U q410 q412 q421 q422 q1279 q423) rfl rfl rfl (hC.W.w q411 rfl) (by decide +kernel) ⟨Nat.le_of_ble_eq_true rfl, Nat.le_of_ble_eq_true rfl⟩) (j_preO hC hX hC.Z.2.2.2.2.1 _) rfl rfl hl.1 rfl (Nat.le_of_ble_eq_true rfl) dX6_hits_12 ⟨(Nat.le_of_ble_eq_true rfl), (Nat.le_of_ble_eq_true rfl)⟩) (fun g m1 H locs hp hle hX => ?_)
    obtain ⟨hn_, Z1, hL, hp⟩ := hp
    subst hn_
    subst hQ
    exact j_vret hC (pc := 15) hX hr hlk (Nat.le_of_ble_eq_true rfl) (Nat.le_of_ble_eq_true rfl) dX6_hits_15 ⟨rfl, _, hL, ⟨by rw [hp]; exact ch.rf.up 210 _ (by decide), by rw [hp]; unfold chF; rw [if_neg (by omega), if_neg (by omega)]; rfl, by rw [hp]; unfold chF; rw [if_neg (by omega), if_neg (by omega)]; rfl⟩⟩
