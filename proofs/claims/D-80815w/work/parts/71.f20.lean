/-! FairFight: played, count -/
set_option maxHeartbeats 4000000 in
set_option maxRecDepth 100000 in
theorem f0_meets (D : va_G) (T N : Nat → Nat) (l : Launch) {g0 : GH} {S : LbS} {Z : Nat → Int → Int} (hL : lR T g0 S Z) (n : Nat) (x : Nat) (F : Nat → Int) (V : Nat → Int → Int) (k : Int) (hx0 : xRel N x S Z F V) (hI : SI F V) (hk : 1 ≤ k ∧ k ≤ 5) : Met l yX0_meets (ws_ yX0_meets cX0_meets 2 (some .int)) ({ frames := 0, cells := 0, slots := 0, locals := 0 } : Room) (gPc D T N [.ref (zB S 0), .int (iI (k))] g0 n) (gQi D g0 n (fun r g' n' => n' = n ∧ ∃ Z', lR T g' S Z' ∧ Z' = va_up Z 0 (uI (Z 0) 17 k) ∧ r = -10 - k ∧ xRel N x S Z' (fin F k) V)) 0 0 (gA g0 n) := by
  refine j_start (by decide) (Nat.le_of_ble_eq_true rfl) ?_
  intro p e s mi args below meth c hC hr hlk hnm hX ls hl
  have hC : Ct D T N (gA g0 n) p s mi args c cX0_meets RX0 2 := hC
  have hx := hC.x
  have hb := hC.b
  generalize hQ : MQ below _ args s 0 0 (gA g0 n) = Q
  have hl : lv_has ls 2 [(0, .ref (zB S 0)), (1, .int (iI (k)))] := hl
  have hnn := hI.nums
  have hxn := hx0.n
  refine lv_aload_n hx hb (pc := 0) dX0_meets_0 rfl (lv_at hl 0 rfl) ?_
  refine lv_iload_n hx hb (pc := 1) dX0_meets_1 rfl (lv_at hl 1 rfl) ?_
  refine L_put hC hX hL in_X0 tyX0 tyX0_ok nmX0 (ci := 0) rfl (pc := 2) 0 hx0.T.2.2.1 17 (by decide) q170 rfl rfl rfl rfl (f := uI (Z 0) 17 k) (show 17 < 18 by decide) rfl dX0_meets_2 (fun g H locs hX hL => ?_)
  refine j_bipush hC (pc := 5) dX0_meets_5 (by decide) ?_
  refine lv_iload_n hx hb (pc := 7) dX0_meets_7 rfl (lv_at hl 1 rfl) ?_
  refine j_isub hC (pc := 8) dX0_meets_8 ?_
  subst hQ
  exact j_iret hC (pc := 9) hX hr hlk (Nat.le_of_ble_eq_true rfl) (Nat.le_of_ble_eq_true rfl) dX0_meets_9 ⟨rfl, _, hL, ⟨rfl, rfl, hx0.num (F' := fin F k) (ch.rf.up 0 _ (by decide)) ⟨hxn.1, hxn.2.1, hxn.2.2.1, hxn.2.2.2.1, hxn.2.2.2.2.1, hxn.2.2.2.2.2.1, rfl⟩ ⟨rfl, rfl, rfl⟩⟩⟩

section PLD
variable {N : Nat → Nat} {x : Nat} {S : LbS} {Z : Nat → Int → Int} {F : Nat → Int} {V : Nat → Int → Int}
theorem xRel.pld (h : xRel N x S Z F V) (hI : SI F V) {w : Int} (hw : 10 ≤ w ∧ w ≤ 15) : (0 ≤ (w - 10) / 3 ∧ (w - 10) / 3 ≤ 1) ∧ (0 ≤ (w - 10) % 3 ∧ (w - 10) % 3 < 3) ∧ Z (17 + ((w - 10) / 3).toNat) ((w - 10) % 3) = (if V 21 (w - 10) = -1 then -1 else V 22 (w - 10)) ∧ (0 ≤ V 22 (w - 10) ∧ V 22 (w - 10) ≤ 20) := by
  have c : w = 10 ∨ w = 11 ∨ w = 12 ∨ w = 13 ∨ w = 14 ∨ w = 15 := by omega
  have hp := h.pl.2
  have h0 := hp 0 (by decide) (by decide)
  have h1 := hp 1 (by decide) (by decide)
  have h2 := hp 2 (by decide) (by decide)
  have h22 := hI.i21 (i := w - 10) (by omega)
  refine ⟨by omega, by omega, ?_, h22.2⟩
  rcases c with rfl | rfl | rfl | rfl | rfl | rfl
  · exact h0.1
  · exact h1.1
  · exact h2.1
  · exact h0.2
  · exact h1.2
  · exact h2.2
end PLD

set_option maxHeartbeats 4000000 in
set_option maxRecDepth 100000 in
theorem f0_played (D : va_G) (T N : Nat → Nat) (l : Launch) {g0 : GH} {S : LbS} {Z : Nat → Int → Int} (hL : lR T g0 S Z) (n : Nat) (x : Nat) (F : Nat → Int) (V : Nat → Int → Int) (k : Int) (hx0 : xRel N x S Z F V) (hI : SI F V) (hg : (-2147483648 ≤ k ∧ k ≤ 2147483647)) : Met l yX0_played (ws_ yX0_played cX0_played 3 (some .int)) ({ frames := 1, cells := 0, slots := 0, locals := 22 } : Room) (gPc D T N [.ref (zB S 0), .int (iI (k))] g0 n) (gQi D g0 n (fun r g' n' => ∃ S' Z', lR T g' S' Z' ∧ xP N x S Z (op_played F V k) r S' Z')) 0 0 (gA g0 n) := by
  refine j_start (by decide) (Nat.le_of_ble_eq_true rfl) ?_
  intro p e s mi args below meth c hC hr hlk hnm hX ls hl
  have hC : Ct D T N (gA g0 n) p s mi args c cX0_played RX0 3 := hC
  have hx := hC.x
  have hb := hC.b
  generalize hQ : MQ below _ args s 0 0 (gA g0 n) = Q
  have hl : lv_has ls 3 [(0, .ref (zB S 0)), (1, .int (iI (k)))] := hl
  have hnn := hI.nums
  have hxn := hx0.n
  refine lv_iload_n hx hb (pc := 0) dX0_played_0 rfl (lv_at hl 1 rfl) ?_
  refine j_iconst hC (pc := 1) dX0_played_1 ?_
  refine j_iconst hC (pc := 2) dX0_played_2 ?_
  refine j_calli (rest := []) hX (va_runS hC.fix (f0_in D T N l k 0 2 (by omega) _ _) (va_cwS 3 hC.ts (lw_S q215 q216 q40 q217) rfl rfl rfl (by decide +kernel) ⟨Nat.le_of_ble_eq_true rfl, Nat.le_of_ble_eq_true rfl⟩) (j_preS hC hX _) rfl rfl hl.1 rfl (Nat.le_of_ble_eq_true rfl) dX0_played_3 ⟨(Nat.le_of_ble_eq_true rfl), (Nat.le_of_ble_eq_true rfl)⟩) (fun r1 g m2 H locs hp hle hX => ?_)
  obtain ⟨hn_, hg_, hp⟩ := hp
  rw [hn_, hg_] at hX
  have hq_r1 := inF_of hp
  refine j_if_eq hC (pc := 6) 16 dX0_played_6 (by decide) (by omega) (fun c3 => ?_) (fun c3 => ?_)
  · skip
    have J49 : ∀ (z : Int) (g : GH), ((10 ≤ k ∧ k ≤ 15 ∧ z = (if V 21 (k - 10) = -1 then -1 else V 22 (k - 10)) ∧ 0 ≤ V 22 (k - 10) ∧ V 22 (k - 10) ≤ 20) ∨ ((k < 10 ∨ 15 < k) ∧ z = -1)) → ∀ (H : Heap) (locs : List Loc), Wd D (gA g0 n) s g n H locs → lR T g S Z → ∀ (ls : Array Slot), lv_has ls 3 [(0, .ref (zB S 0)), (1, .int (iI (k)))] → W p l e ({ frames := 1, cells := 0, slots := 0, locals := 22 } : Room) s mi args below meth c H locs 0 0 Q (F0 mi 49 ls [.int (iI (z))]) := by
      intro z g hz H locs hX hL ls hl
      have hz2 : z = -1 ∨ 0 ≤ z ∧ z ≤ 20 := by rcases hz with ⟨_, _, q, _⟩ | ⟨_, q⟩; (rw [q]; split; exact Or.inl rfl; exact Or.inr (by omega)); exact Or.inl q
      refine lv_istore_n (lv' := [(2, .int (iI (z))), (0, .ref (zB S 0)), (1, .int (iI (k)))]) hx hb (pc := 49) dX0_played_49 rfl hl (by decide) rfl (fun ls hl => ?_)
      refine lv_iload_n hx hb (pc := 50) dX0_played_50 rfl (lv_at hl 0 rfl) ?_
      refine j_iconst hC (pc := 51) dX0_played_51 ?_
      refine j_icmp_ne hC (pc := 52) 60 dX0_played_52 (by decide) (by omega) (fun c4 => ?_) (fun c4 => ?_)
      · skip
        refine lv_iload_n hx hb (pc := 60) dX0_played_60 rfl (lv_at hl 0 rfl) ?_
        subst hQ
        exact j_iret hC (pc := 61) hX hr hlk (Nat.le_of_ble_eq_true rfl) (Nat.le_of_ble_eq_true rfl) dX0_played_61 ⟨_, _, hL, ⟨by show _ = (op_played F V k).1; unfold op_played; rw [if_neg (by omega)]; rcases hz with ⟨a, b, q, d⟩ | ⟨a, q⟩; (rw [if_pos ⟨⟨a, b⟩, fun e => by rw [if_pos e] at q; omega⟩]; rw [if_neg (fun e => by rw [if_pos e] at q; omega)] at q; exact q); omega, (fun k hk => sk.rf), by show xRel N x S Z (op_played F V k).2.1 (op_played F V k).2.2; unfold op_played; (repeat' split) <;> exact hx0⟩⟩
      · skip
        refine j_bipush hC (pc := 55) dX0_played_55 (by decide) ?_
        refine j_goto hC (pc := 57) 61 dX0_played_57 (by decide) ?_
        subst hQ
        exact j_iret hC (pc := 61) hX hr hlk (Nat.le_of_ble_eq_true rfl) (Nat.le_of_ble_eq_true rfl) dX0_played_61 ⟨_, _, hL, ⟨by show _ = (op_played F V k).1; unfold op_played; rw [if_neg (by omega), if_neg (fun e => by rcases hz with ⟨a, b, q, d⟩ | ⟨a, q⟩; (rw [if_neg e.2] at q; omega); omega)], (fun k hk => sk.rf), by show xRel N x S Z (op_played F V k).2.1 (op_played F V k).2.2; unfold op_played; (repeat' split) <;> exact hx0⟩⟩
    refine lv_iload_n hx hb (pc := 16) dX0_played_16 rfl (lv_at hl 1 rfl) ?_
    refine j_bipush hC (pc := 17) dX0_played_17 (by decide) ?_
    refine j_bipush hC (pc := 19) dX0_played_19 (by decide) ?_
    refine j_calli (rest := []) hX (va_runS hC.fix (f0_in D T N l k 10 15 (by omega) _ _) (va_cwS 3 hC.ts (lw_S q215 q216 q40 q217) rfl rfl rfl (by decide +kernel) ⟨Nat.le_of_ble_eq_true rfl, Nat.le_of_ble_eq_true rfl⟩) (j_preS hC hX _) rfl rfl hl.1 rfl (Nat.le_of_ble_eq_true rfl) dX0_played_21 ⟨(Nat.le_of_ble_eq_true rfl), (Nat.le_of_ble_eq_true rfl)⟩) (fun r5 g m6 H locs hp hle hX => ?_)
    obtain ⟨hn_, hg_, hp⟩ := hp
    rw [hn_, hg_] at hX
    have hq_r5 := inF_of hp
    refine j_if_eq hC (pc := 24) 48 dX0_played_24 (by decide) (by omega) (fun c7 => ?_) (fun c7 => ?_)
    · skip
      refine j_iconst hC (pc := 48) dX0_played_48 ?_
      exact J49 (-1) _ (Or.inr ⟨by omega, rfl⟩) _ _ hX hL ls (lv_sub hl [0, 1] rfl)
    · skip
      have hpd := hx0.pld hI (w := k) (by omega)
      have hrn := hx0.rown hpd.1
      refine lv_aload_n hx hb (pc := 27) dX0_played_27 rfl (lv_at hl 0 rfl) ?_
      refine L_getr hC hX hL in_X0 (ci := 0) rfl (pc := 28) 0 hx0.T.2.2.1 15 (by decide) q168 rfl (q := zA S 0 15) (b := zB S 16) hx0.r15 rfl dX0_played_28 ?_
      refine lv_iload_n hx hb (pc := 31) dX0_played_31 rfl (lv_at hl 1 rfl) ?_
      refine j_bipush hC (pc := 32) dX0_played_32 (by decide) ?_
      refine j_isub hC (pc := 34) dX0_played_34 ?_
      refine j_iconst hC (pc := 35) dX0_played_35 ?_
      refine j_idiv hC (pc := 36) dX0_played_36 (by omega) ?_
      refine L_aald hC hX hL (pc := 37) 16 5 (hx0.sp.k 16 rfl) (by decide) rfl rfl (L := 2) (hx0.sp.n 16 rfl) (by decide) (by omega) (b := zB S (17 + ((k - 10) / 3).toNat)) (hx0.pline hpd.1) dX0_played_37 ?_
      refine lv_iload_n hx hb (pc := 38) dX0_played_38 rfl (lv_at hl 1 rfl) ?_
      refine j_bipush hC (pc := 39) dX0_played_39 (by decide) ?_
      refine j_isub hC (pc := 41) dX0_played_41 ?_
      refine j_iconst hC (pc := 42) dX0_played_42 ?_
      refine j_irem hC (pc := 43) dX0_played_43 (by omega) ?_
      refine L_iald hC hX hL (pc := 44) (17 + ((k - 10) / 3).toNat) hrn.2.1 (L := 3) hrn.2.2 (by decide) ⟨hpd.2.1.1, hpd.2.1.2⟩ (z := (Z (17 + ((k - 10) / 3).toNat)) ((k - 10) % 3)) (by first | rfl | (repeat rw [va_up_ne _ _ (by omega)])) dX0_played_44 ?_
      refine j_goto hC (pc := 45) 49 dX0_played_45 (by decide) ?_
      exact J49 ((Z (17 + ((k - 10) / 3).toNat)) ((k - 10) % 3)) _ (Or.inl ⟨by omega, by omega, hpd.2.2.1, hpd.2.2.2⟩) _ _ hX hL ls (lv_sub hl [0, 1] rfl)
  · skip
    have hp2 := hx0.pl.1 k (by omega) (by omega)
    have h20 := hI.i20 (i := k) (by omega)
    refine lv_aload_n hx hb (pc := 9) dX0_played_9 rfl (lv_at hl 0 rfl) ?_
    refine L_getr hC hX hL in_X0 (ci := 0) rfl (pc := 10) 0 hx0.T.2.2.1 14 (by decide) q167 rfl (q := zA S 0 14) (b := zB S 15) hx0.r14 rfl dX0_played_10 ?_
    refine lv_iload_n hx hb (pc := 13) dX0_played_13 rfl (lv_at hl 1 rfl) ?_
    refine L_iald hC hX hL (pc := 14) 15 (hx0.sp.k 15 rfl) (L := 3) (hx0.sp.n 15 rfl) (by decide) (by omega) (z := Z 15 k) rfl dX0_played_14 ?_
    subst hQ
    exact j_iret hC (pc := 15) hX hr hlk (Nat.le_of_ble_eq_true rfl) (Nat.le_of_ble_eq_true rfl) dX0_played_15 ⟨_, _, hL, ⟨by show _ = (op_played F V k).1; unfold op_played; rw [if_pos (by omega)]; exact hp2, (fun k hk => sk.rf), by show xRel N x S Z (op_played F V k).2.1 (op_played F V k).2.2; unfold op_played; (repeat' split) <;> exact hx0⟩⟩

theorem manyR {S : LbS} {Z : Nat → Int → Int} {lb : Nat} {a b d : Int} {q : Int} (h0 : Z lb 0 = a) (h1 : Z lb 1 = b) (h2 : Z lb 2 = d) (hr : rowA a b d q) : cnR (Z lb) = manyA a b d := cnR_many (k := q) h0 h1 h2 (if_pos hr)

set_option maxHeartbeats 8000000 in
set_option maxRecDepth 100000 in
theorem f0_count (D : va_G) (T N : Nat → Nat) (l : Launch) {g0 : GH} {S : LbS} {Z : Nat → Int → Int} (hL : lR T g0 S Z) (n : Nat) (x : Nat) (F : Nat → Int) (V : Nat → Int → Int) (k : Int) (hx0 : xRel N x S Z F V) (hI : SI F V) (hg : (-2147483648 ≤ k ∧ k ≤ 2147483647)) : Met l yX0_count (ws_ yX0_count cX0_count 2 (some .int)) ({ frames := 1, cells := 0, slots := 0, locals := 21 } : Room) (gPc D T N [.ref (zB S 0), .int (iI (k))] g0 n) (gQi D g0 n (fun r g' n' => n' = n ∧ ∃ Z', lR T g' S Z' ∧ Z' = Z ∧ r = countF F V k)) 0 0 (gA g0 n) := by
  refine j_start (by decide) (Nat.le_of_ble_eq_true rfl) ?_
  intro p e s mi args below meth c hC hr hlk hnm hX ls hl
  have hC : Ct D T N (gA g0 n) p s mi args c cX0_count RX0 2 := hC
  have hx := hC.x
  have hb := hC.b
  generalize hQ : MQ below _ args s 0 0 (gA g0 n) = Q
  have hl : lv_has ls 2 [(0, .ref (zB S 0)), (1, .int (iI (k)))] := hl
  have hnn := hI.nums
  have hxn := hx0.n
  have hs0_ := hx0.si 0 (by decide) (by decide)
  have hs1_ := hx0.si 1 (by decide) (by decide)
  have hs2_ := hx0.si 2 (by decide) (by decide)
  refine lv_iload_n hx hb (pc := 0) dX0_count_0 rfl (lv_at hl 1 rfl) ?_
  have c1r := show -2147483648 ≤ k ∧ k ≤ 2147483647 from (by omega)
  have c1 : k = 0 ∨ k = 1 ∨ k = 2 ∨ k = 3 ∨ k = 4 ∨ k = 5 ∨ k = 6 ∨ k = 7 ∨ k = 8 ∨ k = 9 ∨ (k < 0 ∨ 9 < k) := by omega
  rcases c1 with c1 | c1 | c1 | c1 | c1 | c1 | c1 | c1 | c1 | c1 | c1
  · refine lv_tableIn (tgt := 56) (off := 55) hx hb (pc := 1) dX0_count_1 (by rw [iI_toInt c1r.1 c1r.2]; omega) (by rw [iI_toInt c1r.1 c1r.2]; omega) (by rw [iI_toInt c1r.1 c1r.2, c1]; rfl) (by decide) ?_
    refine lv_aload_n hx hb (pc := 56) dX0_count_56 rfl (lv_at hl 0 rfl) ?_
    refine L_get hC hX hL in_X0 (ci := 0) rfl (pc := 57) 0 hx0.T.2.2.1 1 (by decide) q149 rfl (v := .int (iI (Z 0 1))) rfl dX0_count_57 ?_
    subst hQ
    exact j_iret hC (pc := 60) hX hr hlk (Nat.le_of_ble_eq_true rfl) (Nat.le_of_ble_eq_true rfl) dX0_count_60 ⟨rfl, _, hL, (by refine ⟨rfl, ?_⟩; unfold countF; (repeat rw [if_neg (by omega)]); first | (rw [if_pos (by omega)]; exact hxn.1) | exact hxn.1)⟩
  · refine lv_tableIn (tgt := 61) (off := 60) hx hb (pc := 1) dX0_count_1 (by rw [iI_toInt c1r.1 c1r.2]; omega) (by rw [iI_toInt c1r.1 c1r.2]; omega) (by rw [iI_toInt c1r.1 c1r.2, c1]; rfl) (by decide) ?_
    refine lv_aload_n hx hb (pc := 61) dX0_count_61 rfl (lv_at hl 0 rfl) ?_
    refine L_getr hC hX hL in_X0 (ci := 0) rfl (pc := 62) 0 hx0.T.2.2.1 2 (by decide) q150 rfl (q := zA S 0 2) (b := zB S 2) hx0.r2 rfl dX0_count_62 ?_
    refine lv_iload_n hx hb (pc := 65) dX0_count_65 rfl (lv_at hl 1 rfl) ?_
    refine j_iconst hC (pc := 66) dX0_count_66 ?_
    refine j_isub hC (pc := 67) dX0_count_67 ?_
    refine j_eqi (b := 0) (by omega) ?_
    refine L_aald hC hX hL (pc := 68) 2 5 (hx0.sp.k 2 rfl) (by decide) rfl rfl (L := 2) (hx0.sp.n 2 rfl) (by decide) (by omega) (b := zB S 3) (show _ from hx0.e.1.1) dX0_count_68 ?_
    refine j_calli (rest := []) hX (va_runS hC.fix (x_manyOf D T N l hL _ 3 (hx0.sp.k 3 rfl) (hx0.sp.n 3 rfl) (hx0.rw15 N hI).1) (va_cwS 1 hC.ts (lw_S q249 q250 q40 q251) rfl rfl rfl (by decide +kernel) ⟨Nat.le_of_ble_eq_true rfl, Nat.le_of_ble_eq_true rfl⟩) (j_preS hC hX _) rfl rfl hl.1 rfl (Nat.le_of_ble_eq_true rfl) dX0_count_69 ⟨(Nat.le_of_ble_eq_true rfl), (Nat.le_of_ble_eq_true rfl)⟩) (fun r2 g m3 H locs hp hle hX => ?_)
    obtain ⟨hn_, Z_, hL, hS_, hp⟩ := hp
    rw [hn_] at hX
    rw [hS_] at hL
    subst hQ
    exact j_iret hC (pc := 72) hX hr hlk (Nat.le_of_ble_eq_true rfl) (Nat.le_of_ble_eq_true rfl) dX0_count_72 ⟨rfl, _, hL, (by refine ⟨rfl, ?_⟩; unfold countF; (repeat rw [if_neg (by omega)]); first | (rw [if_pos (by omega)]; exact hp.trans (manyR (S := S) hs0_.1 hs1_.1 hs2_.1 hI.2.2.1.1)) | exact hp.trans (manyR (S := S) hs0_.1 hs1_.1 hs2_.1 hI.2.2.1.1))⟩
  · refine lv_tableIn (tgt := 61) (off := 60) hx hb (pc := 1) dX0_count_1 (by rw [iI_toInt c1r.1 c1r.2]; omega) (by rw [iI_toInt c1r.1 c1r.2]; omega) (by rw [iI_toInt c1r.1 c1r.2, c1]; rfl) (by decide) ?_
    refine lv_aload_n hx hb (pc := 61) dX0_count_61 rfl (lv_at hl 0 rfl) ?_
    refine L_getr hC hX hL in_X0 (ci := 0) rfl (pc := 62) 0 hx0.T.2.2.1 2 (by decide) q150 rfl (q := zA S 0 2) (b := zB S 2) hx0.r2 rfl dX0_count_62 ?_
    refine lv_iload_n hx hb (pc := 65) dX0_count_65 rfl (lv_at hl 1 rfl) ?_
    refine j_iconst hC (pc := 66) dX0_count_66 ?_
    refine j_isub hC (pc := 67) dX0_count_67 ?_
    refine j_eqi (b := 1) (by omega) ?_
    refine L_aald hC hX hL (pc := 68) 2 5 (hx0.sp.k 2 rfl) (by decide) rfl rfl (L := 2) (hx0.sp.n 2 rfl) (by decide) (by omega) (b := zB S 4) (show _ from hx0.e.1.2) dX0_count_68 ?_
    refine j_calli (rest := []) hX (va_runS hC.fix (x_manyOf D T N l hL _ 4 (hx0.sp.k 4 rfl) (hx0.sp.n 4 rfl) (hx0.rw15 N hI).2) (va_cwS 1 hC.ts (lw_S q249 q250 q40 q251) rfl rfl rfl (by decide +kernel) ⟨Nat.le_of_ble_eq_true rfl, Nat.le_of_ble_eq_true rfl⟩) (j_preS hC hX _) rfl rfl hl.1 rfl (Nat.le_of_ble_eq_true rfl) dX0_count_69 ⟨(Nat.le_of_ble_eq_true rfl), (Nat.le_of_ble_eq_true rfl)⟩) (fun r5 g m6 H locs hp hle hX => ?_)
    obtain ⟨hn_, Z_, hL, hS_, hp⟩ := hp
    rw [hn_] at hX
    rw [hS_] at hL
    subst hQ
    exact j_iret hC (pc := 72) hX hr hlk (Nat.le_of_ble_eq_true rfl) (Nat.le_of_ble_eq_true rfl) dX0_count_72 ⟨rfl, _, hL, (by refine ⟨rfl, ?_⟩; unfold countF; (repeat rw [if_neg (by omega)]); first | (rw [if_pos (by omega)]; exact hp.trans (manyR (S := S) hs0_.2 hs1_.2 hs2_.2 hI.2.2.1.2)) | exact hp.trans (manyR (S := S) hs0_.2 hs1_.2 hs2_.2 hI.2.2.1.2))⟩
  · refine lv_tableIn (tgt := 73) (off := 72) hx hb (pc := 1) dX0_count_1 (by rw [iI_toInt c1r.1 c1r.2]; omega) (by rw [iI_toInt c1r.1 c1r.2]; omega) (by rw [iI_toInt c1r.1 c1r.2, c1]; rfl) (by decide) ?_
    refine lv_aload_n hx hb (pc := 73) dX0_count_73 rfl (lv_at hl 0 rfl) ?_
    refine L_get hC hX hL in_X0 (ci := 0) rfl (pc := 74) 0 hx0.T.2.2.1 3 (by decide) q152 rfl (v := .int (iI (Z 0 3))) rfl dX0_count_74 ?_
    subst hQ
    exact j_iret hC (pc := 77) hX hr hlk (Nat.le_of_ble_eq_true rfl) (Nat.le_of_ble_eq_true rfl) dX0_count_77 ⟨rfl, _, hL, (by refine ⟨rfl, ?_⟩; unfold countF; (repeat rw [if_neg (by omega)]); first | (rw [if_pos (by omega)]; exact hxn.2.1) | exact hxn.2.1)⟩
  · refine lv_tableIn (tgt := 78) (off := 77) hx hb (pc := 1) dX0_count_1 (by rw [iI_toInt c1r.1 c1r.2]; omega) (by rw [iI_toInt c1r.1 c1r.2]; omega) (by rw [iI_toInt c1r.1 c1r.2, c1]; rfl) (by decide) ?_
    refine lv_aload_n hx hb (pc := 78) dX0_count_78 rfl (lv_at hl 0 rfl) ?_
    refine L_get hC hX hL in_X0 (ci := 0) rfl (pc := 79) 0 hx0.T.2.2.1 4 (by decide) q154 rfl (v := .int (iI (Z 0 4))) rfl dX0_count_79 ?_
    subst hQ
    exact j_iret hC (pc := 82) hX hr hlk (Nat.le_of_ble_eq_true rfl) (Nat.le_of_ble_eq_true rfl) dX0_count_82 ⟨rfl, _, hL, (by refine ⟨rfl, ?_⟩; unfold countF; (repeat rw [if_neg (by omega)]); first | (rw [if_pos (by omega)]; exact hxn.2.2.1) | exact hxn.2.2.1)⟩
  · refine lv_tableIn (tgt := 83) (off := 82) hx hb (pc := 1) dX0_count_1 (by rw [iI_toInt c1r.1 c1r.2]; omega) (by rw [iI_toInt c1r.1 c1r.2]; omega) (by rw [iI_toInt c1r.1 c1r.2, c1]; rfl) (by decide) ?_
    refine lv_aload_n hx hb (pc := 83) dX0_count_83 rfl (lv_at hl 0 rfl) ?_
    refine L_getr hC hX hL in_X0 (ci := 0) rfl (pc := 84) 0 hx0.T.2.2.1 8 (by decide) q161 rfl (q := zA S 0 8) (b := zB S 13) hx0.r8 rfl dX0_count_84 ?_
    refine j_calli (rest := []) hX (va_runV hC.fix (l_size13 D T N l hL _ (hx0.sp.k 13 rfl)) (cwV 0 hC.ts (lw_V q520 q521 q522 q44 q523) rfl rfl rfl (by decide +kernel) ⟨Nat.le_of_ble_eq_true rfl, Nat.le_of_ble_eq_true rfl⟩) (j_preV hC hX (hL.ob 13 (hx0.sp.k 13 rfl)) (ci := 7) (r := (RJ2, TJ2, 3)) rfl _) rfl rfl hl.1 rfl (Nat.le_of_ble_eq_true rfl) dX0_count_87 ⟨(Nat.le_of_ble_eq_true rfl), (Nat.le_of_ble_eq_true rfl)⟩) (fun r8 g m9 H locs hp hle hX => ?_)
    obtain ⟨hn_, Z_, hL, hS_, hp⟩ := hp
    rw [hn_] at hX
    rw [hS_] at hL
    have hz_r8 : r8 = F 25 := hp.trans hx0.fg.1
    subst hQ
    exact j_iret hC (pc := 90) hX hr hlk (Nat.le_of_ble_eq_true rfl) (Nat.le_of_ble_eq_true rfl) dX0_count_90 ⟨rfl, _, hL, (by refine ⟨rfl, ?_⟩; unfold countF; (repeat rw [if_neg (by omega)]); first | (rw [if_pos (by omega)]; exact hp.trans hx0.fg.1) | exact hp.trans hx0.fg.1)⟩
  · refine lv_tableIn (tgt := 91) (off := 90) hx hb (pc := 1) dX0_count_1 (by rw [iI_toInt c1r.1 c1r.2]; omega) (by rw [iI_toInt c1r.1 c1r.2]; omega) (by rw [iI_toInt c1r.1 c1r.2, c1]; rfl) (by decide) ?_
    refine lv_aload_n hx hb (pc := 91) dX0_count_91 rfl (lv_at hl 0 rfl) ?_
    refine L_get hC hX hL in_X0 (ci := 0) rfl (pc := 92) 0 hx0.T.2.2.1 17 (by decide) q170 rfl (v := .int (iI (Z 0 17))) rfl dX0_count_92 ?_
    subst hQ
    exact j_iret hC (pc := 95) hX hr hlk (Nat.le_of_ble_eq_true rfl) (Nat.le_of_ble_eq_true rfl) dX0_count_95 ⟨rfl, _, hL, (by refine ⟨rfl, ?_⟩; unfold countF; (repeat rw [if_neg (by omega)]); first | (rw [if_pos (by omega)]; exact hxn.2.2.2.2.2.2) | exact hxn.2.2.2.2.2.2)⟩
  · refine lv_tableIn (tgt := 96) (off := 95) hx hb (pc := 1) dX0_count_1 (by rw [iI_toInt c1r.1 c1r.2]; omega) (by rw [iI_toInt c1r.1 c1r.2]; omega) (by rw [iI_toInt c1r.1 c1r.2, c1]; rfl) (by decide) ?_
    refine lv_aload_n hx hb (pc := 96) dX0_count_96 rfl (lv_at hl 0 rfl) ?_
    refine L_get hC hX hL in_X0 (ci := 0) rfl (pc := 97) 0 hx0.T.2.2.1 5 (by decide) q155 rfl (v := .int (iI (Z 0 5))) rfl dX0_count_97 ?_
    subst hQ
    exact j_iret hC (pc := 100) hX hr hlk (Nat.le_of_ble_eq_true rfl) (Nat.le_of_ble_eq_true rfl) dX0_count_100 ⟨rfl, _, hL, (by refine ⟨rfl, ?_⟩; unfold countF; (repeat rw [if_neg (by omega)]); first | (rw [if_pos (by omega)]; exact hxn.2.2.2.1) | exact hxn.2.2.2.1)⟩
  · refine lv_tableIn (tgt := 101) (off := 100) hx hb (pc := 1) dX0_count_1 (by rw [iI_toInt c1r.1 c1r.2]; omega) (by rw [iI_toInt c1r.1 c1r.2]; omega) (by rw [iI_toInt c1r.1 c1r.2, c1]; rfl) (by decide) ?_
    refine lv_aload_n hx hb (pc := 101) dX0_count_101 rfl (lv_at hl 0 rfl) ?_
    refine L_get hC hX hL in_X0 (ci := 0) rfl (pc := 102) 0 hx0.T.2.2.1 9 (by decide) q162 rfl (v := .int (iI (Z 0 9))) rfl dX0_count_102 ?_
    subst hQ
    exact j_iret hC (pc := 105) hX hr hlk (Nat.le_of_ble_eq_true rfl) (Nat.le_of_ble_eq_true rfl) dX0_count_105 ⟨rfl, _, hL, (by refine ⟨rfl, ?_⟩; unfold countF; (repeat rw [if_neg (by omega)]); first | (rw [if_pos (by omega)]; exact hxn.2.2.2.2.1) | exact hxn.2.2.2.2.1)⟩
  · refine lv_tableIn (tgt := 106) (off := 105) hx hb (pc := 1) dX0_count_1 (by rw [iI_toInt c1r.1 c1r.2]; omega) (by rw [iI_toInt c1r.1 c1r.2]; omega) (by rw [iI_toInt c1r.1 c1r.2, c1]; rfl) (by decide) ?_
    refine lv_aload_n hx hb (pc := 106) dX0_count_106 rfl (lv_at hl 0 rfl) ?_
    refine L_get hC hX hL in_X0 (ci := 0) rfl (pc := 107) 0 hx0.T.2.2.1 10 (by decide) q163 rfl (v := .int (iI (Z 0 10))) rfl dX0_count_107 ?_
    subst hQ
    exact j_iret hC (pc := 110) hX hr hlk (Nat.le_of_ble_eq_true rfl) (Nat.le_of_ble_eq_true rfl) dX0_count_110 ⟨rfl, _, hL, (by refine ⟨rfl, ?_⟩; unfold countF; (repeat rw [if_neg (by omega)]); first | (rw [if_pos (by omega)]; exact hxn.2.2.2.2.2.1) | exact hxn.2.2.2.2.2.1)⟩
  · refine lv_tableOut (tgt := 111) hx hb (pc := 1) dX0_count_1 (by rw [iI_toInt c1r.1 c1r.2]; omega) (by decide) ?_
    refine j_bipush hC (pc := 111) dX0_count_111 (by decide) ?_
    subst hQ
    exact j_iret hC (pc := 113) hX hr hlk (Nat.le_of_ble_eq_true rfl) (Nat.le_of_ble_eq_true rfl) dX0_count_113 ⟨rfl, _, hL, (by refine ⟨rfl, ?_⟩; unfold countF; (repeat rw [if_neg (by omega)]))⟩
