/-! FairFight: small calls -/
/-- a public call answered: the result, the world's other cells, the FairFight -/
def xP (N : Nat → Nat) (x : Nat) (S : LbS) (Z : Nat → Int → Int) (o : OT) (r : Int) (S' : LbS) (Z' : Nat → Int → Int) : Prop := r = o.1 ∧ (∀ k, 222 ≤ k → sk S Z S' Z' k) ∧ xRel N x S' Z' o.2.1 o.2.2

set_option maxHeartbeats 4000000 in
set_option maxRecDepth 100000 in
theorem f0_in (D : va_G) (T N : Nat → Nat) (l : Launch) (v a b : Int) (hg : (-2147483648 ≤ v ∧ v ≤ 2147483647) ∧ (-2147483648 ≤ a ∧ a ≤ 2147483647) ∧ (-2147483648 ≤ b ∧ b ≤ 2147483647)) : SSi D T N l yX0_in (ws_ yX0_in cX0_in 3 (some .boolean)) ({ frames := 0, cells := 0, slots := 0, locals := 0 } : Room) [.int (iI (v)), .int (iI (a)), .int (iI (b))] (fun r => r = inF v a b) := by
  intro g0 n
  refine j_start (by decide) (Nat.le_of_ble_eq_true rfl) ?_
  intro p e s mi args below meth c hC hr hlk hnm hX ls hl
  have hC : Ct D T N (gA g0 n) p s mi args c cX0_in RX0 3 := hC
  have hx := hC.x
  have hb := hC.b
  generalize hQ : MQ below _ args s 0 0 (gA g0 n) = Q
  have hl : lv_has ls 3 [(0, .int (iI (v))), (1, .int (iI (a))), (2, .int (iI (b)))] := hl
  refine lv_iload_n hx hb (pc := 0) dX0_in_0 rfl (lv_at hl 0 rfl) ?_
  refine lv_iload_n hx hb (pc := 1) dX0_in_1 rfl (lv_at hl 1 rfl) ?_
  refine j_icmp_lt hC (pc := 2) 14 dX0_in_2 (by decide) (by omega) (fun c1 => ?_) (fun c1 => ?_)
  · skip
    refine j_iconst hC (pc := 14) dX0_in_14 ?_
    subst hQ
    exact j_zret hC (pc := 15) hX hr hlk (Nat.le_of_ble_eq_true rfl) (Nat.le_of_ble_eq_true rfl) dX0_in_15 (by omega) ⟨rfl, rfl, (by unfold inF; split <;> omega)⟩
  · skip
    refine lv_iload_n hx hb (pc := 5) dX0_in_5 rfl (lv_at hl 0 rfl) ?_
    refine lv_iload_n hx hb (pc := 6) dX0_in_6 rfl (lv_at hl 2 rfl) ?_
    refine j_icmp_gt hC (pc := 7) 14 dX0_in_7 (by decide) (by omega) (fun c2 => ?_) (fun c2 => ?_)
    · skip
      refine j_iconst hC (pc := 14) dX0_in_14 ?_
      subst hQ
      exact j_zret hC (pc := 15) hX hr hlk (Nat.le_of_ble_eq_true rfl) (Nat.le_of_ble_eq_true rfl) dX0_in_15 (by omega) ⟨rfl, rfl, (by unfold inF; split <;> omega)⟩
    · skip
      refine j_iconst hC (pc := 10) dX0_in_10 ?_
      refine j_goto hC (pc := 11) 15 dX0_in_11 (by decide) ?_
      subst hQ
      exact j_zret hC (pc := 15) hX hr hlk (Nat.le_of_ble_eq_true rfl) (Nat.le_of_ble_eq_true rfl) dX0_in_15 (by omega) ⟨rfl, rfl, (by unfold inF; split <;> omega)⟩

set_option maxHeartbeats 4000000 in
set_option maxRecDepth 100000 in
theorem f0_no (D : va_G) (T N : Nat → Nat) (l : Launch) (v : Int) (hg : (-2147483648 ≤ v ∧ v ≤ 2147483647)) : SSl D T N l yX0_no (ws_ yX0_no cX0_no 1 (some .long)) ({ frames := 0, cells := 0, slots := 0, locals := 0 } : Room) [.int (iI (v))] (fun r => r = -9223372036854775808 - v) := by
  intro g0 n
  refine j_start (by decide) (Nat.le_of_ble_eq_true rfl) ?_
  intro p e s mi args below meth c hC hr hlk hnm hX ls hl
  have hC : Ct D T N (gA g0 n) p s mi args c cX0_no RX0 1 := hC
  have hx := hC.x
  have hb := hC.b
  generalize hQ : MQ below _ args s 0 0 (gA g0 n) = Q
  have hl : lv_has ls 1 [(0, .int (iI (v)))] := hl
  refine j_ldc2 hC (pc := 0) (z := -9223372036854775808) q468 dX0_no_0 rfl ?_
  refine lv_iload_n hx hb (pc := 3) dX0_no_3 rfl (lv_at hl 0 rfl) ?_
  refine j_i2l hC (pc := 4) dX0_no_4 (by omega) ?_
  refine j_lsub hC (pc := 5) dX0_no_5 ?_
  subst hQ
  exact j_lret hC (pc := 6) hX hr hlk (Nat.le_of_ble_eq_true rfl) (Nat.le_of_ble_eq_true rfl) dX0_no_6 ⟨rfl, rfl, rfl⟩

set_option maxHeartbeats 4000000 in
set_option maxRecDepth 100000 in
theorem f0_isSheet (D : va_G) (T N : Nat → Nat) (l : Launch) (v : Int) (hg : (-2147483648 ≤ v ∧ v ≤ 2147483647)) : SSi D T N l yX0_isSheet (ws_ yX0_isSheet cX0_isSheet 1 (some .boolean)) ({ frames := 1, cells := 0, slots := 0, locals := 22 } : Room) [.int (iI (v))] (fun r => r = inF v 0 3) := by
  intro g0 n
  refine j_start (by decide) (Nat.le_of_ble_eq_true rfl) ?_
  intro p e s mi args below meth c hC hr hlk hnm hX ls hl
  have hC : Ct D T N (gA g0 n) p s mi args c cX0_isSheet RX0 1 := hC
  have hx := hC.x
  have hb := hC.b
  generalize hQ : MQ below _ args s 0 0 (gA g0 n) = Q
  have hl : lv_has ls 1 [(0, .int (iI (v)))] := hl
  refine lv_iload_n hx hb (pc := 0) dX0_isSheet_0 rfl (lv_at hl 0 rfl) ?_
  refine j_iconst hC (pc := 1) dX0_isSheet_1 ?_
  refine j_iconst hC (pc := 2) dX0_isSheet_2 ?_
  refine j_calli (rest := []) hX (va_runS hC.fix (f0_in D T N l v 0 3 (by omega) _ _) (va_cwS 3 hC.ts (lw_S q215 q216 q40 q217) rfl rfl rfl (by decide +kernel) ⟨Nat.le_of_ble_eq_true rfl, Nat.le_of_ble_eq_true rfl⟩) (j_preS hC hX _) rfl rfl hl.1 rfl (Nat.le_of_ble_eq_true rfl) dX0_isSheet_3 ⟨(Nat.le_of_ble_eq_true rfl), (Nat.le_of_ble_eq_true rfl)⟩) (fun r1 g m2 H locs hp hle hX => ?_)
  obtain ⟨hn_, hg_, hp⟩ := hp
  rw [hn_, hg_] at hX
  have hq_r1 := inF_of hp
  subst hQ
  exact j_zret hC (pc := 6) hX hr hlk (Nat.le_of_ble_eq_true rfl) (Nat.le_of_ble_eq_true rfl) dX0_isSheet_6 (by omega) ⟨rfl, rfl, hp⟩

set_option maxHeartbeats 4000000 in
set_option maxRecDepth 100000 in
theorem f0_isNumber (D : va_G) (T N : Nat → Nat) (l : Launch) (w v : Int) (hg : (-2147483648 ≤ w ∧ w ≤ 2147483647) ∧ (-2147483648 ≤ v ∧ v ≤ 2147483647)) : SSi D T N l yX0_isNumber (ws_ yX0_isNumber cX0_isNumber 2 (some .boolean)) ({ frames := 1, cells := 0, slots := 0, locals := 22 } : Room) [.int (iI (w)), .int (iI (v))] (fun r => r = numF w v) := by
  intro g0 n
  refine j_start (by decide) (Nat.le_of_ble_eq_true rfl) ?_
  intro p e s mi args below meth c hC hr hlk hnm hX ls hl
  have hC : Ct D T N (gA g0 n) p s mi args c cX0_isNumber RX0 2 := hC
  have hx := hC.x
  have hb := hC.b
  generalize hQ : MQ below _ args s 0 0 (gA g0 n) = Q
  have hl : lv_has ls 2 [(0, .int (iI (w))), (1, .int (iI (v)))] := hl
  refine lv_iload_n hx hb (pc := 0) dX0_isNumber_0 rfl (lv_at hl 0 rfl) ?_
  have c1r := show -2147483648 ≤ w ∧ w ≤ 2147483647 from (by omega)
  have c1 : w = 0 ∨ w = 1 ∨ w = 2 ∨ w = 3 ∨ w = 4 ∨ (w < 0 ∨ 4 < w) := by omega
  rcases c1 with c1 | c1 | c1 | c1 | c1 | c1
  · refine lv_tableIn (tgt := 36) (off := 35) hx hb (pc := 1) dX0_isNumber_1 (by rw [iI_toInt c1r.1 c1r.2]; omega) (by rw [iI_toInt c1r.1 c1r.2]; omega) (by rw [iI_toInt c1r.1 c1r.2, c1]; rfl) (by decide) ?_
    refine lv_iload_n hx hb (pc := 36) dX0_isNumber_36 rfl (lv_at hl 1 rfl) ?_
    refine j_iconst hC (pc := 37) dX0_isNumber_37 ?_
    refine j_iconst hC (pc := 38) dX0_isNumber_38 ?_
    refine j_calli (rest := []) hX (va_runS hC.fix (f0_in D T N l v 0 2 (by omega) _ _) (va_cwS 3 hC.ts (lw_S q215 q216 q40 q217) rfl rfl rfl (by decide +kernel) ⟨Nat.le_of_ble_eq_true rfl, Nat.le_of_ble_eq_true rfl⟩) (j_preS hC hX _) rfl rfl hl.1 rfl (Nat.le_of_ble_eq_true rfl) dX0_isNumber_39 ⟨(Nat.le_of_ble_eq_true rfl), (Nat.le_of_ble_eq_true rfl)⟩) (fun r2 g m3 H locs hp hle hX => ?_)
    obtain ⟨hn_, hg_, hp⟩ := hp
    rw [hn_, hg_] at hX
    have hq_r2 := inF_of hp
    subst hQ
    exact j_zret hC (pc := 42) hX hr hlk (Nat.le_of_ble_eq_true rfl) (Nat.le_of_ble_eq_true rfl) dX0_isNumber_42 (by omega) ⟨rfl, rfl, (by rw [hp]; unfold numF; (repeat' split) <;> first | rfl | omega)⟩
  · refine lv_tableIn (tgt := 43) (off := 42) hx hb (pc := 1) dX0_isNumber_1 (by rw [iI_toInt c1r.1 c1r.2]; omega) (by rw [iI_toInt c1r.1 c1r.2]; omega) (by rw [iI_toInt c1r.1 c1r.2, c1]; rfl) (by decide) ?_
    refine lv_iload_n hx hb (pc := 43) dX0_isNumber_43 rfl (lv_at hl 1 rfl) ?_
    refine j_iconst hC (pc := 44) dX0_isNumber_44 ?_
    refine j_bipush hC (pc := 45) dX0_isNumber_45 (by decide) ?_
    refine j_calli (rest := []) hX (va_runS hC.fix (f0_in D T N l v 1 20 (by omega) _ _) (va_cwS 3 hC.ts (lw_S q215 q216 q40 q217) rfl rfl rfl (by decide +kernel) ⟨Nat.le_of_ble_eq_true rfl, Nat.le_of_ble_eq_true rfl⟩) (j_preS hC hX _) rfl rfl hl.1 rfl (Nat.le_of_ble_eq_true rfl) dX0_isNumber_47 ⟨(Nat.le_of_ble_eq_true rfl), (Nat.le_of_ble_eq_true rfl)⟩) (fun r4 g m5 H locs hp hle hX => ?_)
    obtain ⟨hn_, hg_, hp⟩ := hp
    rw [hn_, hg_] at hX
    have hq_r4 := inF_of hp
    subst hQ
    exact j_zret hC (pc := 50) hX hr hlk (Nat.le_of_ble_eq_true rfl) (Nat.le_of_ble_eq_true rfl) dX0_isNumber_50 (by omega) ⟨rfl, rfl, (by rw [hp]; unfold numF; (repeat' split) <;> first | rfl | omega)⟩
  · refine lv_tableIn (tgt := 51) (off := 50) hx hb (pc := 1) dX0_isNumber_1 (by rw [iI_toInt c1r.1 c1r.2]; omega) (by rw [iI_toInt c1r.1 c1r.2]; omega) (by rw [iI_toInt c1r.1 c1r.2, c1]; rfl) (by decide) ?_
    refine lv_iload_n hx hb (pc := 51) dX0_isNumber_51 rfl (lv_at hl 1 rfl) ?_
    refine j_iconst hC (pc := 52) dX0_isNumber_52 ?_
    refine j_bipush hC (pc := 53) dX0_isNumber_53 (by decide) ?_
    refine j_calli (rest := []) hX (va_runS hC.fix (f0_in D T N l v 0 6 (by omega) _ _) (va_cwS 3 hC.ts (lw_S q215 q216 q40 q217) rfl rfl rfl (by decide +kernel) ⟨Nat.le_of_ble_eq_true rfl, Nat.le_of_ble_eq_true rfl⟩) (j_preS hC hX _) rfl rfl hl.1 rfl (Nat.le_of_ble_eq_true rfl) dX0_isNumber_55 ⟨(Nat.le_of_ble_eq_true rfl), (Nat.le_of_ble_eq_true rfl)⟩) (fun r6 g m7 H locs hp hle hX => ?_)
    obtain ⟨hn_, hg_, hp⟩ := hp
    rw [hn_, hg_] at hX
    have hq_r6 := inF_of hp
    subst hQ
    exact j_zret hC (pc := 58) hX hr hlk (Nat.le_of_ble_eq_true rfl) (Nat.le_of_ble_eq_true rfl) dX0_isNumber_58 (by omega) ⟨rfl, rfl, (by rw [hp]; unfold numF; (repeat' split) <;> first | rfl | omega)⟩
  · refine lv_tableIn (tgt := 59) (off := 58) hx hb (pc := 1) dX0_isNumber_1 (by rw [iI_toInt c1r.1 c1r.2]; omega) (by rw [iI_toInt c1r.1 c1r.2]; omega) (by rw [iI_toInt c1r.1 c1r.2, c1]; rfl) (by decide) ?_
    refine lv_iload_n hx hb (pc := 59) dX0_isNumber_59 rfl (lv_at hl 1 rfl) ?_
    refine j_iconst hC (pc := 60) dX0_isNumber_60 ?_
    refine j_bipush hC (pc := 61) dX0_isNumber_61 (by decide) ?_
    refine j_calli (rest := []) hX (va_runS hC.fix (f0_in D T N l v 1 9 (by omega) _ _) (va_cwS 3 hC.ts (lw_S q215 q216 q40 q217) rfl rfl rfl (by decide +kernel) ⟨Nat.le_of_ble_eq_true rfl, Nat.le_of_ble_eq_true rfl⟩) (j_preS hC hX _) rfl rfl hl.1 rfl (Nat.le_of_ble_eq_true rfl) dX0_isNumber_63 ⟨(Nat.le_of_ble_eq_true rfl), (Nat.le_of_ble_eq_true rfl)⟩) (fun r8 g m9 H locs hp hle hX => ?_)
    obtain ⟨hn_, hg_, hp⟩ := hp
    rw [hn_, hg_] at hX
    have hq_r8 := inF_of hp
    subst hQ
    exact j_zret hC (pc := 66) hX hr hlk (Nat.le_of_ble_eq_true rfl) (Nat.le_of_ble_eq_true rfl) dX0_isNumber_66 (by omega) ⟨rfl, rfl, (by rw [hp]; unfold numF; (repeat' split) <;> first | rfl | omega)⟩
  · refine lv_tableIn (tgt := 67) (off := 66) hx hb (pc := 1) dX0_isNumber_1 (by rw [iI_toInt c1r.1 c1r.2]; omega) (by rw [iI_toInt c1r.1 c1r.2]; omega) (by rw [iI_toInt c1r.1 c1r.2, c1]; rfl) (by decide) ?_
    refine lv_iload_n hx hb (pc := 67) dX0_isNumber_67 rfl (lv_at hl 1 rfl) ?_
    refine j_iconst hC (pc := 68) dX0_isNumber_68 ?_
    refine j_bipush hC (pc := 69) dX0_isNumber_69 (by decide) ?_
    refine j_calli (rest := []) hX (va_runS hC.fix (f0_in D T N l v 0 19 (by omega) _ _) (va_cwS 3 hC.ts (lw_S q215 q216 q40 q217) rfl rfl rfl (by decide +kernel) ⟨Nat.le_of_ble_eq_true rfl, Nat.le_of_ble_eq_true rfl⟩) (j_preS hC hX _) rfl rfl hl.1 rfl (Nat.le_of_ble_eq_true rfl) dX0_isNumber_71 ⟨(Nat.le_of_ble_eq_true rfl), (Nat.le_of_ble_eq_true rfl)⟩) (fun r10 g m11 H locs hp hle hX => ?_)
    obtain ⟨hn_, hg_, hp⟩ := hp
    rw [hn_, hg_] at hX
    have hq_r10 := inF_of hp
    subst hQ
    exact j_zret hC (pc := 74) hX hr hlk (Nat.le_of_ble_eq_true rfl) (Nat.le_of_ble_eq_true rfl) dX0_isNumber_74 (by omega) ⟨rfl, rfl, (by rw [hp]; unfold numF; (repeat' split) <;> first | rfl | omega)⟩
  · refine lv_tableOut (tgt := 75) hx hb (pc := 1) dX0_isNumber_1 (by rw [iI_toInt c1r.1 c1r.2]; omega) (by decide) ?_
    refine lv_iload_n hx hb (pc := 75) dX0_isNumber_75 rfl (lv_at hl 1 rfl) ?_
    refine j_iconst hC (pc := 76) dX0_isNumber_76 ?_
    refine j_bipush hC (pc := 77) dX0_isNumber_77 (by decide) ?_
    refine j_calli (rest := []) hX (va_runS hC.fix (f0_in D T N l v 0 9 (by omega) _ _) (va_cwS 3 hC.ts (lw_S q215 q216 q40 q217) rfl rfl rfl (by decide +kernel) ⟨Nat.le_of_ble_eq_true rfl, Nat.le_of_ble_eq_true rfl⟩) (j_preS hC hX _) rfl rfl hl.1 rfl (Nat.le_of_ble_eq_true rfl) dX0_isNumber_79 ⟨(Nat.le_of_ble_eq_true rfl), (Nat.le_of_ble_eq_true rfl)⟩) (fun r12 g m13 H locs hp hle hX => ?_)
    obtain ⟨hn_, hg_, hp⟩ := hp
    rw [hn_, hg_] at hX
    have hq_r12 := inF_of hp
    subst hQ
    exact j_zret hC (pc := 82) hX hr hlk (Nat.le_of_ble_eq_true rfl) (Nat.le_of_ble_eq_true rfl) dX0_isNumber_82 (by omega) ⟨rfl, rfl, (by rw [hp]; unfold numF; (repeat' split) <;> first | rfl | omega)⟩

set_option maxHeartbeats 4000000 in
set_option maxRecDepth 100000 in
theorem f0_isFighter (D : va_G) (T N : Nat → Nat) (l : Launch) {g0 : GH} {S : LbS} {Z : Nat → Int → Int} (hL : lR T g0 S Z) (n : Nat) (x : Nat) (F : Nat → Int) (V : Nat → Int → Int) (f : Int) (hx0 : xRel N x S Z F V) (hI : SI F V) (hg : (-2147483648 ≤ f ∧ f ≤ 2147483647)) : Met l yX0_isFighter (ws_ yX0_isFighter cX0_isFighter 2 (some .boolean)) ({ frames := 1, cells := 0, slots := 0, locals := 22 } : Room) (gPc D T N [.ref (zB S 0), .int (iI (f))] g0 n) (gQi D g0 n (fun r g' n' => n' = n ∧ ∃ Z', lR T g' S Z' ∧ Z' = Z ∧ r = inF f 0 (F 0 - 1))) 0 0 (gA g0 n) := by
  refine j_start (by decide) (Nat.le_of_ble_eq_true rfl) ?_
  intro p e s mi args below meth c hC hr hlk hnm hX ls hl
  have hC : Ct D T N (gA g0 n) p s mi args c cX0_isFighter RX0 2 := hC
  have hx := hC.x
  have hb := hC.b
  generalize hQ : MQ below _ args s 0 0 (gA g0 n) = Q
  have hl : lv_has ls 2 [(0, .ref (zB S 0)), (1, .int (iI (f)))] := hl
  have hnn := hI.nums
  have hxn := hx0.n
  refine lv_iload_n hx hb (pc := 0) dX0_isFighter_0 rfl (lv_at hl 1 rfl) ?_
  refine j_iconst hC (pc := 1) dX0_isFighter_1 ?_
  refine lv_aload_n hx hb (pc := 2) dX0_isFighter_2 rfl (lv_at hl 0 rfl) ?_
  refine L_get hC hX hL in_X0 (ci := 0) rfl (pc := 3) 0 hx0.T.2.2.1 1 (by decide) q149 rfl (v := .int (iI (Z 0 1))) rfl dX0_isFighter_3 ?_
  refine j_iconst hC (pc := 6) dX0_isFighter_6 ?_
  refine j_isub hC (pc := 7) dX0_isFighter_7 ?_
  refine j_calli (rest := []) hX (va_runS hC.fix (f0_in D T N l f 0 ((Z 0 1) - 1) (by omega) _ _) (va_cwS 3 hC.ts (lw_S q215 q216 q40 q217) rfl rfl rfl (by decide +kernel) ⟨Nat.le_of_ble_eq_true rfl, Nat.le_of_ble_eq_true rfl⟩) (j_preS hC hX _) rfl rfl hl.1 rfl (Nat.le_of_ble_eq_true rfl) dX0_isFighter_8 ⟨(Nat.le_of_ble_eq_true rfl), (Nat.le_of_ble_eq_true rfl)⟩) (fun r1 g m2 H locs hp hle hX => ?_)
  obtain ⟨hn_, hg_, hp⟩ := hp
  rw [hn_, hg_] at hX
  have hq_r1 := inF_of hp
  subst hQ
  exact j_zret hC (pc := 11) hX hr hlk (Nat.le_of_ble_eq_true rfl) (Nat.le_of_ble_eq_true rfl) dX0_isFighter_11 (by omega) ⟨rfl, _, hL, ⟨rfl, by rw [hp, hxn.1]⟩⟩

set_option maxHeartbeats 4000000 in
set_option maxRecDepth 100000 in
theorem f0_isRow (D : va_G) (T N : Nat → Nat) (l : Launch) {g0 : GH} {S : LbS} {Z : Nat → Int → Int} (hL : lR T g0 S Z) (n : Nat) (x : Nat) (F : Nat → Int) (V : Nat → Int → Int) (a b d : Int) (hx0 : xRel N x S Z F V) (hI : SI F V) (hg : (-2147483648 ≤ a ∧ a ≤ 2147483647) ∧ (-2147483648 ≤ b ∧ b ≤ 2147483647) ∧ (-2147483648 ≤ d ∧ d ≤ 2147483647)) : Met l yX0_isRow (ws_ yX0_isRow cX0_isRow 5 (some .boolean)) ({ frames := 2, cells := 0, slots := 0, locals := 43 } : Room) (gPc D T N [.ref (zB S 0), .int (iI (a)), .int (iI (b)), .int (iI (d))] g0 n) (gQi D g0 n (fun r g' n' => n' = n ∧ ∃ Z', lR T g' S Z' ∧ Z' = Z ∧ r = rowF a b d (F 0))) 0 0 (gA g0 n) := by
  refine j_start (by decide) (Nat.le_of_ble_eq_true rfl) ?_
  intro p e s mi args below meth c hC hr hlk hnm hX ls hl
  have hC : Ct D T N (gA g0 n) p s mi args c cX0_isRow RX0 5 := hC
  have hx := hC.x
  have hb := hC.b
  generalize hQ : MQ below _ args s 0 0 (gA g0 n) = Q
  have hl : lv_has ls 5 [(0, .ref (zB S 0)), (1, .int (iI (a))), (2, .int (iI (b))), (3, .int (iI (d)))] := hl
  have hnn := hI.nums
  have hxn := hx0.n
  have J44 : ∀ (z : Int) (g : GH), ((z = 1 ∧ -1 ≤ a ∧ a < F 0 ∧ -1 ≤ b ∧ b < F 0 ∧ -1 ≤ d ∧ d < F 0) ∨ (z = 0 ∧ ¬ (-1 ≤ a ∧ a < F 0 ∧ -1 ≤ b ∧ b < F 0 ∧ -1 ≤ d ∧ d < F 0))) → ∀ (H : Heap) (locs : List Loc), Wd D (gA g0 n) s g n H locs → lR T g S Z → ∀ (ls : Array Slot), lv_has ls 5 [(0, .ref (zB S 0)), (1, .int (iI (a))), (2, .int (iI (b))), (3, .int (iI (d)))] → W p l e ({ frames := 2, cells := 0, slots := 0, locals := 43 } : Room) s mi args below meth c H locs 0 0 Q (F0 mi 44 ls [.int (iI (z))]) := by
    intro z g hz H locs hX hL ls hl
    refine lv_istore (lv' := [(4, .int (iI (z))), (0, .ref (zB S 0)), (1, .int (iI (a))), (2, .int (iI (b))), (3, .int (iI (d)))]) hx hb (pc := 44) dX0_isRow_44 hl (by decide) rfl (fun ls hl => ?_)
    refine lv_iload hx hb (pc := 46) dX0_isRow_46 (lv_at hl 0 rfl) ?_
    refine j_if_eq hC (pc := 48) 75 dX0_isRow_48 (by decide) (by omega) (fun c1 => ?_) (fun c1 => ?_)
    · skip
      refine j_iconst hC (pc := 75) dX0_isRow_75 ?_
      subst hQ
      exact j_zret hC (pc := 76) hX hr hlk (Nat.le_of_ble_eq_true rfl) (Nat.le_of_ble_eq_true rfl) dX0_isRow_76 (by omega) ⟨rfl, _, hL, ⟨rfl, by unfold rowF; split <;> omega⟩⟩
    · skip
      refine lv_iload_n hx hb (pc := 51) dX0_isRow_51 rfl (lv_at hl 2 rfl) ?_
      refine j_iconst hC (pc := 52) dX0_isRow_52 ?_
      refine j_icmp_ne hC (pc := 53) 61 dX0_isRow_53 (by decide) (by omega) (fun c2 => ?_) (fun c2 => ?_)
      · skip
        refine lv_iload_n hx hb (pc := 61) dX0_isRow_61 rfl (lv_at hl 3 rfl) ?_
        refine j_iconst hC (pc := 62) dX0_isRow_62 ?_
        refine j_icmp_ne hC (pc := 63) 71 dX0_isRow_63 (by decide) (by omega) (fun c3 => ?_) (fun c3 => ?_)
        · skip
          refine j_iconst hC (pc := 71) dX0_isRow_71 ?_
          refine j_goto hC (pc := 72) 76 dX0_isRow_72 (by decide) ?_
          subst hQ
          exact j_zret hC (pc := 76) hX hr hlk (Nat.le_of_ble_eq_true rfl) (Nat.le_of_ble_eq_true rfl) dX0_isRow_76 (by omega) ⟨rfl, _, hL, ⟨rfl, by unfold rowF; split <;> omega⟩⟩
        · skip
          refine lv_iload_n hx hb (pc := 66) dX0_isRow_66 rfl (lv_at hl 4 rfl) ?_
          refine j_iconst hC (pc := 67) dX0_isRow_67 ?_
          refine j_icmp_ne hC (pc := 68) 75 dX0_isRow_68 (by decide) (by omega) (fun c4 => ?_) (fun c4 => ?_)
          · skip
            refine j_iconst hC (pc := 75) dX0_isRow_75 ?_
            subst hQ
            exact j_zret hC (pc := 76) hX hr hlk (Nat.le_of_ble_eq_true rfl) (Nat.le_of_ble_eq_true rfl) dX0_isRow_76 (by omega) ⟨rfl, _, hL, ⟨rfl, by unfold rowF; split <;> omega⟩⟩
          · skip
            refine j_iconst hC (pc := 71) dX0_isRow_71 ?_
            refine j_goto hC (pc := 72) 76 dX0_isRow_72 (by decide) ?_
            subst hQ
            exact j_zret hC (pc := 76) hX hr hlk (Nat.le_of_ble_eq_true rfl) (Nat.le_of_ble_eq_true rfl) dX0_isRow_76 (by omega) ⟨rfl, _, hL, ⟨rfl, by unfold rowF; split <;> omega⟩⟩
      · skip
        refine lv_iload_n hx hb (pc := 56) dX0_isRow_56 rfl (lv_at hl 3 rfl) ?_
        refine j_iconst hC (pc := 57) dX0_isRow_57 ?_
        refine j_icmp_ne hC (pc := 58) 75 dX0_isRow_58 (by decide) (by omega) (fun c5 => ?_) (fun c5 => ?_)
        · skip
          refine j_iconst hC (pc := 75) dX0_isRow_75 ?_
          subst hQ
          exact j_zret hC (pc := 76) hX hr hlk (Nat.le_of_ble_eq_true rfl) (Nat.le_of_ble_eq_true rfl) dX0_isRow_76 (by omega) ⟨rfl, _, hL, ⟨rfl, by unfold rowF; split <;> omega⟩⟩
        · skip
          refine lv_iload_n hx hb (pc := 61) dX0_isRow_61 rfl (lv_at hl 3 rfl) ?_
          refine j_iconst hC (pc := 62) dX0_isRow_62 ?_
          refine j_icmp_ne hC (pc := 63) 71 dX0_isRow_63 (by decide) (by omega) (fun c6 => ?_) (fun c6 => ?_)
          · skip
            refine j_iconst hC (pc := 71) dX0_isRow_71 ?_
            refine j_goto hC (pc := 72) 76 dX0_isRow_72 (by decide) ?_
            subst hQ
            exact j_zret hC (pc := 76) hX hr hlk (Nat.le_of_ble_eq_true rfl) (Nat.le_of_ble_eq_true rfl) dX0_isRow_76 (by omega) ⟨rfl, _, hL, ⟨rfl, by unfold rowF; split <;> omega⟩⟩
          · skip
            refine lv_iload_n hx hb (pc := 66) dX0_isRow_66 rfl (lv_at hl 4 rfl) ?_
            refine j_iconst hC (pc := 67) dX0_isRow_67 ?_
            refine j_icmp_ne hC (pc := 68) 75 dX0_isRow_68 (by decide) (by omega) (fun c7 => ?_) (fun c7 => ?_)
            · skip
              refine j_iconst hC (pc := 75) dX0_isRow_75 ?_
              subst hQ
              exact j_zret hC (pc := 76) hX hr hlk (Nat.le_of_ble_eq_true rfl) (Nat.le_of_ble_eq_true rfl) dX0_isRow_76 (by omega) ⟨rfl, _, hL, ⟨rfl, by unfold rowF; split <;> omega⟩⟩
            · skip
              refine j_iconst hC (pc := 71) dX0_isRow_71 ?_
              refine j_goto hC (pc := 72) 76 dX0_isRow_72 (by decide) ?_
              subst hQ
              exact j_zret hC (pc := 76) hX hr hlk (Nat.le_of_ble_eq_true rfl) (Nat.le_of_ble_eq_true rfl) dX0_isRow_76 (by omega) ⟨rfl, _, hL, ⟨rfl, by unfold rowF; split <;> omega⟩⟩
  refine lv_iload_n hx hb (pc := 0) dX0_isRow_0 rfl (lv_at hl 1 rfl) ?_
  refine j_iconst hC (pc := 1) dX0_isRow_1 ?_
  refine j_icmp_eq hC (pc := 2) 13 dX0_isRow_2 (by decide) (by omega) (fun c8 => ?_) (fun c8 => ?_)
  · skip
    refine lv_iload_n hx hb (pc := 13) dX0_isRow_13 rfl (lv_at hl 2 rfl) ?_
    refine j_iconst hC (pc := 14) dX0_isRow_14 ?_
    refine j_icmp_eq hC (pc := 15) 26 dX0_isRow_15 (by decide) (by omega) (fun c9 => ?_) (fun c9 => ?_)
    · skip
      refine lv_iload_n hx hb (pc := 26) dX0_isRow_26 rfl (lv_at hl 3 rfl) ?_
      refine j_iconst hC (pc := 27) dX0_isRow_27 ?_
      refine j_icmp_eq hC (pc := 28) 39 dX0_isRow_28 (by decide) (by omega) (fun c10 => ?_) (fun c10 => ?_)
      · skip
        refine j_iconst hC (pc := 39) dX0_isRow_39 ?_
        refine j_goto hC (pc := 40) 44 dX0_isRow_40 (by decide) ?_
        exact J44 1 _ (by omega) _ _ hX hL ls (lv_sub hl [0, 1, 2, 3] rfl)
      · skip
        refine lv_aload_n hx hb (pc := 31) dX0_isRow_31 rfl (lv_at hl 0 rfl) ?_
        refine lv_iload_n hx hb (pc := 32) dX0_isRow_32 rfl (lv_at hl 3 rfl) ?_
        refine j_calli (rest := []) hX (va_runV hC.fix (f0_isFighter D T N l hL _ _ _ _ d hx0 hI (by omega)) (cwV 1 hC.ts (lw_V q233 q235 qs0 q40 q236) rfl rfl rfl (by decide +kernel) ⟨Nat.le_of_ble_eq_true rfl, Nat.le_of_ble_eq_true rfl⟩) (j_preV hC hX (hL.ob 0 hx0.T.2.2.1) (ci := 0) (r := (RX0, TX0, 18)) rfl _) rfl rfl hl.1 rfl (Nat.le_of_ble_eq_true rfl) dX0_isRow_33 ⟨(Nat.le_of_ble_eq_true rfl), (Nat.le_of_ble_eq_true rfl)⟩) (fun r11 g m12 H locs hp hle hX => ?_)
        obtain ⟨hn_, Z_, hL, hS_, hp⟩ := hp
        rw [hn_] at hX
        rw [hS_] at hL
        have hq_r11 := inF_of hp
        refine j_if_eq hC (pc := 36) 43 dX0_isRow_36 (by decide) (by omega) (fun c14 => ?_) (fun c14 => ?_)
        · skip
          refine j_iconst hC (pc := 43) dX0_isRow_43 ?_
          exact J44 0 _ (by omega) _ _ hX hL ls (lv_sub hl [0, 1, 2, 3] rfl)
        · skip
          refine j_iconst hC (pc := 39) dX0_isRow_39 ?_
          refine j_goto hC (pc := 40) 44 dX0_isRow_40 (by decide) ?_
          exact J44 1 _ (by omega) _ _ hX hL ls (lv_sub hl [0, 1, 2, 3] rfl)
    · skip
      refine lv_aload_n hx hb (pc := 18) dX0_isRow_18 rfl (lv_at hl 0 rfl) ?_
      refine lv_iload_n hx hb (pc := 19) dX0_isRow_19 rfl (lv_at hl 2 rfl) ?_
      refine j_calli (rest := []) hX (va_runV hC.fix (f0_isFighter D T N l hL _ _ _ _ b hx0 hI (by omega)) (cwV 1 hC.ts (lw_V q233 q235 qs0 q40 q236) rfl rfl rfl (by decide +kernel) ⟨Nat.le_of_ble_eq_true rfl, Nat.le_of_ble_eq_true rfl⟩) (j_preV hC hX (hL.ob 0 hx0.T.2.2.1) (ci := 0) (r := (RX0, TX0, 18)) rfl _) rfl rfl hl.1 rfl (Nat.le_of_ble_eq_true rfl) dX0_isRow_20 ⟨(Nat.le_of_ble_eq_true rfl), (Nat.le_of_ble_eq_true rfl)⟩) (fun r15 g m16 H locs hp hle hX => ?_)
      obtain ⟨hn_, Z_, hL, hS_, hp⟩ := hp
      rw [hn_] at hX
      rw [hS_] at hL
      have hq_r15 := inF_of hp
      refine j_if_eq hC (pc := 23) 43 dX0_isRow_23 (by decide) (by omega) (fun c18 => ?_) (fun c18 => ?_)
      · skip
        refine j_iconst hC (pc := 43) dX0_isRow_43 ?_
        exact J44 0 _ (by omega) _ _ hX hL ls (lv_sub hl [0, 1, 2, 3] rfl)
      · skip
        refine lv_iload_n hx hb (pc := 26) dX0_isRow_26 rfl (lv_at hl 3 rfl) ?_
        refine j_iconst hC (pc := 27) dX0_isRow_27 ?_
        refine j_icmp_eq hC (pc := 28) 39 dX0_isRow_28 (by decide) (by omega) (fun c19 => ?_) (fun c19 => ?_)
        · skip
          refine j_iconst hC (pc := 39) dX0_isRow_39 ?_
          refine j_goto hC (pc := 40) 44 dX0_isRow_40 (by decide) ?_
          exact J44 1 _ (by omega) _ _ hX hL ls (lv_sub hl [0, 1, 2, 3] rfl)
        · skip
          refine lv_aload_n hx hb (pc := 31) dX0_isRow_31 rfl (lv_at hl 0 rfl) ?_
          refine lv_iload_n hx hb (pc := 32) dX0_isRow_32 rfl (lv_at hl 3 rfl) ?_
          refine j_calli (rest := []) hX (va_runV hC.fix (f0_isFighter D T N l hL _ _ _ _ d hx0 hI (by omega)) (cwV 1 hC.ts (lw_V q233 q235 qs0 q40 q236) rfl rfl rfl (by decide +kernel) ⟨Nat.le_of_ble_eq_true rfl, Nat.le_of_ble_eq_true rfl⟩) (j_preV hC hX (hL.ob 0 hx0.T.2.2.1) (ci := 0) (r := (RX0, TX0, 18)) rfl _) rfl rfl hl.1 rfl (Nat.le_of_ble_eq_true rfl) dX0_isRow_33 ⟨(Nat.le_of_ble_eq_true rfl), (Nat.le_of_ble_eq_true rfl)⟩) (fun r20 g m21 H locs hp hle hX => ?_)
          obtain ⟨hn_, Z_, hL, hS_, hp⟩ := hp
          rw [hn_] at hX
          rw [hS_] at hL
          have hq_r20 := inF_of hp
          refine j_if_eq hC (pc := 36) 43 dX0_isRow_36 (by decide) (by omega) (fun c23 => ?_) (fun c23 => ?_)
          · skip
            refine j_iconst hC (pc := 43) dX0_isRow_43 ?_
            exact J44 0 _ (by omega) _ _ hX hL ls (lv_sub hl [0, 1, 2, 3] rfl)
          · skip
            refine j_iconst hC (pc := 39) dX0_isRow_39 ?_
            refine j_goto hC (pc := 40) 44 dX0_isRow_40 (by decide) ?_
            exact J44 1 _ (by omega) _ _ hX hL ls (lv_sub hl [0, 1, 2, 3] rfl)
  · skip
    refine lv_aload_n hx hb (pc := 5) dX0_isRow_5 rfl (lv_at hl 0 rfl) ?_
    refine lv_iload_n hx hb (pc := 6) dX0_isRow_6 rfl (lv_at hl 1 rfl) ?_
    refine j_calli (rest := []) hX (va_runV hC.fix (f0_isFighter D T N l hL _ _ _ _ a hx0 hI (by omega)) (cwV 1 hC.ts (lw_V q233 q235 qs0 q40 q236) rfl rfl rfl (by decide +kernel) ⟨Nat.le_of_ble_eq_true rfl, Nat.le_of_ble_eq_true rfl⟩) (j_preV hC hX (hL.ob 0 hx0.T.2.2.1) (ci := 0) (r := (RX0, TX0, 18)) rfl _) rfl rfl hl.1 rfl (Nat.le_of_ble_eq_true rfl) dX0_isRow_7 ⟨(Nat.le_of_ble_eq_true rfl), (Nat.le_of_ble_eq_true rfl)⟩) (fun r24 g m25 H locs hp hle hX => ?_)
    obtain ⟨hn_, Z_, hL, hS_, hp⟩ := hp
    rw [hn_] at hX
    rw [hS_] at hL
    have hq_r24 := inF_of hp
    refine j_if_eq hC (pc := 10) 43 dX0_isRow_10 (by decide) (by omega) (fun c27 => ?_) (fun c27 => ?_)
    · skip
      refine j_iconst hC (pc := 43) dX0_isRow_43 ?_
      exact J44 0 _ (by omega) _ _ hX hL ls (lv_sub hl [0, 1, 2, 3] rfl)
    · skip
      refine lv_iload_n hx hb (pc := 13) dX0_isRow_13 rfl (lv_at hl 2 rfl) ?_
      refine j_iconst hC (pc := 14) dX0_isRow_14 ?_
      refine j_icmp_eq hC (pc := 15) 26 dX0_isRow_15 (by decide) (by omega) (fun c28 => ?_) (fun c28 => ?_)
      · skip
        refine lv_iload_n hx hb (pc := 26) dX0_isRow_26 rfl (lv_at hl 3 rfl) ?_
        refine j_iconst hC (pc := 27) dX0_isRow_27 ?_
        refine j_icmp_eq hC (pc := 28) 39 dX0_isRow_28 (by decide) (by omega) (fun c29 => ?_) (fun c29 => ?_)
        · skip
          refine j_iconst hC (pc := 39) dX0_isRow_39 ?_
          refine j_goto hC (pc := 40) 44 dX0_isRow_40 (by decide) ?_
          exact J44 1 _ (by omega) _ _ hX hL ls (lv_sub hl [0, 1, 2, 3] rfl)
        · skip
          refine lv_aload_n hx hb (pc := 31) dX0_isRow_31 rfl (lv_at hl 0 rfl) ?_
          refine lv_iload_n hx hb (pc := 32) dX0_isRow_32 rfl (lv_at hl 3 rfl) ?_
          refine j_calli (rest := []) hX (va_runV hC.fix (f0_isFighter D T N l hL _ _ _ _ d hx0 hI (by omega)) (cwV 1 hC.ts (lw_V q233 q235 qs0 q40 q236) rfl rfl rfl (by decide +kernel) ⟨Nat.le_of_ble_eq_true rfl, Nat.le_of_ble_eq_true rfl⟩) (j_preV hC hX (hL.ob 0 hx0.T.2.2.1) (ci := 0) (r := (RX0, TX0, 18)) rfl _) rfl rfl hl.1 rfl (Nat.le_of_ble_eq_true rfl) dX0_isRow_33 ⟨(Nat.le_of_ble_eq_true rfl), (Nat.le_of_ble_eq_true rfl)⟩) (fun r30 g m31 H locs hp hle hX => ?_)
          obtain ⟨hn_, Z_, hL, hS_, hp⟩ := hp
          rw [hn_] at hX
          rw [hS_] at hL
          have hq_r30 := inF_of hp
          refine j_if_eq hC (pc := 36) 43 dX0_isRow_36 (by decide) (by omega) (fun c33 => ?_) (fun c33 => ?_)
          · skip
            refine j_iconst hC (pc := 43) dX0_isRow_43 ?_
            exact J44 0 _ (by omega) _ _ hX hL ls (lv_sub hl [0, 1, 2, 3] rfl)
          · skip
            refine j_iconst hC (pc := 39) dX0_isRow_39 ?_
            refine j_goto hC (pc := 40) 44 dX0_isRow_40 (by decide) ?_
            exact J44 1 _ (by omega) _ _ hX hL ls (lv_sub hl [0, 1, 2, 3] rfl)
      · skip
        refine lv_aload_n hx hb (pc := 18) dX0_isRow_18 rfl (lv_at hl 0 rfl) ?_
        refine lv_iload_n hx hb (pc := 19) dX0_isRow_19 rfl (lv_at hl 2 rfl) ?_
        refine j_calli (rest := []) hX (va_runV hC.fix (f0_isFighter D T N l hL _ _ _ _ b hx0 hI (by omega)) (cwV 1 hC.ts (lw_V q233 q235 qs0 q40 q236) rfl rfl rfl (by decide +kernel) ⟨Nat.le_of_ble_eq_true rfl, Nat.le_of_ble_eq_true rfl⟩) (j_preV hC hX (hL.ob 0 hx0.T.2.2.1) (ci := 0) (r := (RX0, TX0, 18)) rfl _) rfl rfl hl.1 rfl (Nat.le_of_ble_eq_true rfl) dX0_isRow_20 ⟨(Nat.le_of_ble_eq_true rfl), (Nat.le_of_ble_eq_true rfl)⟩) (fun r34 g m35 H locs hp hle hX => ?_)
        obtain ⟨hn_, Z_, hL, hS_, hp⟩ := hp
        rw [hn_] at hX
        rw [hS_] at hL
        have hq_r34 := inF_of hp
        refine j_if_eq hC (pc := 23) 43 dX0_isRow_23 (by decide) (by omega) (fun c37 => ?_) (fun c37 => ?_)
        · skip
          refine j_iconst hC (pc := 43) dX0_isRow_43 ?_
          exact J44 0 _ (by omega) _ _ hX hL ls (lv_sub hl [0, 1, 2, 3] rfl)
        · skip
          refine lv_iload_n hx hb (pc := 26) dX0_isRow_26 rfl (lv_at hl 3 rfl) ?_
          refine j_iconst hC (pc := 27) dX0_isRow_27 ?_
          refine j_icmp_eq hC (pc := 28) 39 dX0_isRow_28 (by decide) (by omega) (fun c38 => ?_) (fun c38 => ?_)
          · skip
            refine j_iconst hC (pc := 39) dX0_isRow_39 ?_
            refine j_goto hC (pc := 40) 44 dX0_isRow_40 (by decide) ?_
            exact J44 1 _ (by omega) _ _ hX hL ls (lv_sub hl [0, 1, 2, 3] rfl)
          · skip
            refine lv_aload_n hx hb (pc := 31) dX0_isRow_31 rfl (lv_at hl 0 rfl) ?_
            refine lv_iload_n hx hb (pc := 32) dX0_isRow_32 rfl (lv_at hl 3 rfl) ?_
            refine j_calli (rest := []) hX (va_runV hC.fix (f0_isFighter D T N l hL _ _ _ _ d hx0 hI (by omega)) (cwV 1 hC.ts (lw_V q233 q235 qs0 q40 q236) rfl rfl rfl (by decide +kernel) ⟨Nat.le_of_ble_eq_true rfl, Nat.le_of_ble_eq_true rfl⟩) (j_preV hC hX (hL.ob 0 hx0.T.2.2.1) (ci := 0) (r := (RX0, TX0, 18)) rfl _) rfl rfl hl.1 rfl (Nat.le_of_ble_eq_true rfl) dX0_isRow_33 ⟨(Nat.le_of_ble_eq_true rfl), (Nat.le_of_ble_eq_true rfl)⟩) (fun r39 g m40 H locs hp hle hX => ?_)
            obtain ⟨hn_, Z_, hL, hS_, hp⟩ := hp
            rw [hn_] at hX
            rw [hS_] at hL
            have hq_r39 := inF_of hp
            refine j_if_eq hC (pc := 36) 43 dX0_isRow_36 (by decide) (by omega) (fun c42 => ?_) (fun c42 => ?_)
            · skip
              refine j_iconst hC (pc := 43) dX0_isRow_43 ?_
              exact J44 0 _ (by omega) _ _ hX hL ls (lv_sub hl [0, 1, 2, 3] rfl)
            · skip
              refine j_iconst hC (pc := 39) dX0_isRow_39 ?_
              refine j_goto hC (pc := 40) 44 dX0_isRow_40 (by decide) ?_
              exact J44 1 _ (by omega) _ _ hX hL ls (lv_sub hl [0, 1, 2, 3] rfl)

set_option maxHeartbeats 4000000 in
set_option maxRecDepth 100000 in
theorem f0_about (D : va_G) (T N : Nat → Nat) (l : Launch) {g0 : GH} {S : LbS} {Z : Nat → Int → Int} (hL : lR T g0 S Z) (n : Nat) (x : Nat) (F : Nat → Int) (V : Nat → Int → Int) (f w : Int) (hx0 : xRel N x S Z F V) (hI : SI F V) (hg : (-2147483648 ≤ f ∧ f ≤ 2147483647) ∧ (-2147483648 ≤ w ∧ w ≤ 2147483647)) : Met l yX0_about (ws_ yX0_about cX0_about 3 (some .int)) ({ frames := 2, cells := 0, slots := 0, locals := 43 } : Room) (gPc D T N [.ref (zB S 0), .int (iI (f)), .int (iI (w))] g0 n) (gQi D g0 n (fun r g' n' => ∃ S' Z', lR T g' S' Z' ∧ xP N x S Z (op_about F V f w) r S' Z')) 0 0 (gA g0 n) := by
  refine j_start (by decide) (Nat.le_of_ble_eq_true rfl) ?_
  intro p e s mi args below meth c hC hr hlk hnm hX ls hl
  have hC : Ct D T N (gA g0 n) p s mi args c cX0_about RX0 3 := hC
  have hx := hC.x
  have hb := hC.b
  generalize hQ : MQ below _ args s 0 0 (gA g0 n) = Q
  have hl : lv_has ls 3 [(0, .ref (zB S 0)), (1, .int (iI (f))), (2, .int (iI (w)))] := hl
  have hnn := hI.nums
  have hxn := hx0.n
  refine lv_aload_n hx hb (pc := 0) dX0_about_0 rfl (lv_at hl 0 rfl) ?_
  refine lv_iload_n hx hb (pc := 1) dX0_about_1 rfl (lv_at hl 1 rfl) ?_
  refine j_calli (rest := []) hX (va_runV hC.fix (f0_isFighter D T N l hL _ _ _ _ f hx0 hI (by omega)) (cwV 1 hC.ts (lw_V q233 q235 qs0 q40 q236) rfl rfl rfl (by decide +kernel) ⟨Nat.le_of_ble_eq_true rfl, Nat.le_of_ble_eq_true rfl⟩) (j_preV hC hX (hL.ob 0 hx0.T.2.2.1) (ci := 0) (r := (RX0, TX0, 18)) rfl _) rfl rfl hl.1 rfl (Nat.le_of_ble_eq_true rfl) dX0_about_2 ⟨(Nat.le_of_ble_eq_true rfl), (Nat.le_of_ble_eq_true rfl)⟩) (fun r1 g m2 H locs hp hle hX => ?_)
  obtain ⟨hn_, Z_, hL, hS_, hp⟩ := hp
  rw [hn_] at hX
  rw [hS_] at hL
  have hq_r1 := inF_of hp
  refine j_if_eq hC (pc := 5) 31 dX0_about_5 (by decide) (by omega) (fun c4 => ?_) (fun c4 => ?_)
  · skip
    refine j_bipush hC (pc := 31) dX0_about_31 (by decide) ?_
    subst hQ
    exact j_iret hC (pc := 33) hX hr hlk (Nat.le_of_ble_eq_true rfl) (Nat.le_of_ble_eq_true rfl) dX0_about_33 ⟨_, _, hL, (by refine ⟨?_, fun _ _ => sk.rf, ?_⟩ <;> unfold op_about <;> rw [if_neg (by omega)]; exact hx0)⟩
  · skip
    refine lv_iload_n hx hb (pc := 8) dX0_about_8 rfl (lv_at hl 2 rfl) ?_
    refine j_iconst hC (pc := 9) dX0_about_9 ?_
    refine j_iconst hC (pc := 10) dX0_about_10 ?_
    refine j_calli (rest := []) hX (va_runS hC.fix (f0_in D T N l w 0 5 (by omega) _ _) (va_cwS 3 hC.ts (lw_S q215 q216 q40 q217) rfl rfl rfl (by decide +kernel) ⟨Nat.le_of_ble_eq_true rfl, Nat.le_of_ble_eq_true rfl⟩) (j_preS hC hX _) rfl rfl hl.1 rfl (Nat.le_of_ble_eq_true rfl) dX0_about_11 ⟨(Nat.le_of_ble_eq_true rfl), (Nat.le_of_ble_eq_true rfl)⟩) (fun r5 g m6 H locs hp hle hX => ?_)
    obtain ⟨hn_, hg_, hp⟩ := hp
    rw [hn_, hg_] at hX
    have hq_r5 := inF_of hp
    refine j_if_eq hC (pc := 14) 31 dX0_about_14 (by decide) (by omega) (fun c7 => ?_) (fun c7 => ?_)
    · skip
      refine j_bipush hC (pc := 31) dX0_about_31 (by decide) ?_
      subst hQ
      exact j_iret hC (pc := 33) hX hr hlk (Nat.le_of_ble_eq_true rfl) (Nat.le_of_ble_eq_true rfl) dX0_about_33 ⟨_, _, hL, (by refine ⟨?_, fun _ _ => sk.rf, ?_⟩ <;> unfold op_about <;> rw [if_neg (by omega)]; exact hx0)⟩
    · skip
      have hfi := hx0.fi f (by omega) (by omega)
      refine lv_aload_n hx hb (pc := 17) dX0_about_17 rfl (lv_at hl 0 rfl) ?_
      refine L_getr hC hX hL in_X0 (ci := 0) rfl (pc := 18) 0 hx0.T.2.2.1 0 (by decide) q148 rfl (q := zA S 0 0) (b := zB S 1) hx0.r0 rfl dX0_about_18 ?_
      refine lv_iload_n hx hb (pc := 21) dX0_about_21 rfl (lv_at hl 1 rfl) ?_
      refine L_aald hC hX hL (pc := 22) 1 7 (hx0.sp.k 1 rfl) (by decide) rfl rfl (L := 16) (hx0.sp.n 1 rfl) (by decide) (by omega) (b := zB S (32 + f.toNat)) hfi.1 dX0_about_22 ?_
      refine L_getrN hC hX hL in_X4 (ci := 4) rfl (pc := 23) (32 + f.toNat) hfi.2.1.1 0 (by decide) q225 rfl (q := zA S (32 + f.toNat) 0) (b := zB S (48 + f.toNat)) hfi.2.1.2 rfl dX0_about_23 ?_
      refine lv_iload_n hx hb (pc := 26) dX0_about_26 rfl (lv_at hl 2 rfl) ?_
      refine L_iald hC hX hL (pc := 27) (48 + f.toNat) hfi.2.2.1.1 (L := 6) hfi.2.2.1.2 (by decide) (by omega) (z := Z (48 + f.toNat) w) (by first | rfl | (repeat rw [va_up_ne _ _ (by omega)])) dX0_about_27 ?_
      refine j_goto hC (pc := 28) 33 dX0_about_28 (by decide) ?_
      subst hQ
      exact j_iret hC (pc := 33) hX hr hlk (Nat.le_of_ble_eq_true rfl) (Nat.le_of_ble_eq_true rfl) dX0_about_33 ⟨_, _, hL, (by refine ⟨?_, fun _ _ => sk.rf, ?_⟩ <;> unfold op_about <;> rw [if_pos (by omega)]; exact hfi.2.2.2 w (by omega) (by omega); exact hx0)⟩

set_option maxHeartbeats 4000000 in
set_option maxRecDepth 100000 in
theorem f0_at (D : va_G) (T N : Nat → Nat) (l : Launch) {g0 : GH} {S : LbS} {Z : Nat → Int → Int} (hL : lR T g0 S Z) (n : Nat) (x : Nat) (F : Nat → Int) (V : Nat → Int → Int) (v k : Int) (hx0 : xRel N x S Z F V) (hI : SI F V) (hg : (-2147483648 ≤ v ∧ v ≤ 2147483647) ∧ (-2147483648 ≤ k ∧ k ≤ 2147483647)) : Met l yX0_at (ws_ yX0_at cX0_at 3 (some .int)) ({ frames := 1, cells := 0, slots := 0, locals := 22 } : Room) (gPc D T N [.ref (zB S 0), .int (iI (v)), .int (iI (k))] g0 n) (gQi D g0 n (fun r g' n' => ∃ S' Z', lR T g' S' Z' ∧ xP N x S Z (op_at F V v k) r S' Z')) 0 0 (gA g0 n) := by
  refine j_start (by decide) (Nat.le_of_ble_eq_true rfl) ?_
  intro p e s mi args below meth c hC hr hlk hnm hX ls hl
  have hC : Ct D T N (gA g0 n) p s mi args c cX0_at RX0 3 := hC
  have hx := hC.x
  have hb := hC.b
  generalize hQ : MQ below _ args s 0 0 (gA g0 n) = Q
  have hl : lv_has ls 3 [(0, .ref (zB S 0)), (1, .int (iI (v))), (2, .int (iI (k)))] := hl
  have hnn := hI.nums
  have hxn := hx0.n
  refine lv_iload_n hx hb (pc := 0) dX0_at_0 rfl (lv_at hl 1 rfl) ?_
  refine j_iconst hC (pc := 1) dX0_at_1 ?_
  refine j_iconst hC (pc := 2) dX0_at_2 ?_
  refine j_calli (rest := []) hX (va_runS hC.fix (f0_in D T N l v 0 1 (by omega) _ _) (va_cwS 3 hC.ts (lw_S q215 q216 q40 q217) rfl rfl rfl (by decide +kernel) ⟨Nat.le_of_ble_eq_true rfl, Nat.le_of_ble_eq_true rfl⟩) (j_preS hC hX _) rfl rfl hl.1 rfl (Nat.le_of_ble_eq_true rfl) dX0_at_3 ⟨(Nat.le_of_ble_eq_true rfl), (Nat.le_of_ble_eq_true rfl)⟩) (fun r1 g m2 H locs hp hle hX => ?_)
  obtain ⟨hn_, hg_, hp⟩ := hp
  rw [hn_, hg_] at hX
  have hq_r1 := inF_of hp
  refine j_if_eq hC (pc := 6) 29 dX0_at_6 (by decide) (by omega) (fun c3 => ?_) (fun c3 => ?_)
  · skip
    refine j_bipush hC (pc := 29) dX0_at_29 (by decide) ?_
    subst hQ
    exact j_iret hC (pc := 31) hX hr hlk (Nat.le_of_ble_eq_true rfl) (Nat.le_of_ble_eq_true rfl) dX0_at_31 ⟨_, _, hL, (by refine ⟨?_, fun _ _ => sk.rf, ?_⟩ <;> unfold op_at <;> rw [if_neg (by omega)]; exact hx0)⟩
  · skip
    refine lv_iload_n hx hb (pc := 9) dX0_at_9 rfl (lv_at hl 2 rfl) ?_
    refine j_iconst hC (pc := 10) dX0_at_10 ?_
    refine j_iconst hC (pc := 11) dX0_at_11 ?_
    refine j_calli (rest := []) hX (va_runS hC.fix (f0_in D T N l k 0 2 (by omega) _ _) (va_cwS 3 hC.ts (lw_S q215 q216 q40 q217) rfl rfl rfl (by decide +kernel) ⟨Nat.le_of_ble_eq_true rfl, Nat.le_of_ble_eq_true rfl⟩) (j_preS hC hX _) rfl rfl hl.1 rfl (Nat.le_of_ble_eq_true rfl) dX0_at_12 ⟨(Nat.le_of_ble_eq_true rfl), (Nat.le_of_ble_eq_true rfl)⟩) (fun r4 g m5 H locs hp hle hX => ?_)
    obtain ⟨hn_, hg_, hp⟩ := hp
    rw [hn_, hg_] at hX
    have hq_r4 := inF_of hp
    refine j_if_eq hC (pc := 15) 29 dX0_at_15 (by decide) (by omega) (fun c6 => ?_) (fun c6 => ?_)
    · skip
      refine j_bipush hC (pc := 29) dX0_at_29 (by decide) ?_
      subst hQ
      exact j_iret hC (pc := 31) hX hr hlk (Nat.le_of_ble_eq_true rfl) (Nat.le_of_ble_eq_true rfl) dX0_at_31 ⟨_, _, hL, (by refine ⟨?_, fun _ _ => sk.rf, ?_⟩ <;> unfold op_at <;> rw [if_neg (by omega)]; exact hx0)⟩
    · skip
      have hrn := hx0.rown (i := v) (by omega)
      refine lv_aload_n hx hb (pc := 18) dX0_at_18 rfl (lv_at hl 0 rfl) ?_
      refine L_getr hC hX hL in_X0 (ci := 0) rfl (pc := 19) 0 hx0.T.2.2.1 2 (by decide) q150 rfl (q := zA S 0 2) (b := zB S 2) hx0.r2 rfl dX0_at_19 ?_
      refine lv_iload_n hx hb (pc := 22) dX0_at_22 rfl (lv_at hl 1 rfl) ?_
      refine L_aald hC hX hL (pc := 23) 2 5 (hx0.sp.k 2 rfl) (by decide) rfl rfl (L := 2) (hx0.sp.n 2 rfl) (by decide) (by omega) (b := zB S (3 + v.toNat)) (hx0.side (by omega)) dX0_at_23 ?_
      refine lv_iload_n hx hb (pc := 24) dX0_at_24 rfl (lv_at hl 2 rfl) ?_
      refine L_iald hC hX hL (pc := 25) (3 + v.toNat) hrn.1.1 (L := 3) hrn.1.2 (by decide) (by omega) (z := Z (3 + v.toNat) k) (by first | rfl | (repeat rw [va_up_ne _ _ (by omega)])) dX0_at_25 ?_
      refine j_goto hC (pc := 26) 31 dX0_at_26 (by decide) ?_
      subst hQ
      exact j_iret hC (pc := 31) hX hr hlk (Nat.le_of_ble_eq_true rfl) (Nat.le_of_ble_eq_true rfl) dX0_at_31 ⟨_, _, hL, (by refine ⟨?_, fun _ _ => sk.rf, ?_⟩ <;> unfold op_at <;> rw [if_pos (by omega)]; exact hx0.sval (by omega) (by omega); exact hx0)⟩

section UX
variable {N : Nat → Nat} {x : Nat} {S : LbS} {Z : Nat → Int → Int} {F : Nat → Int} {V : Nat → Int → Int}
/-- the FairFight's own numbers written -/
theorem xRel.num (h : xRel N x S Z F V) {Z' : Nat → Int → Int} {F' : Nat → Int} (hc : ch Z Z' [0]) (e : Z' 0 1 = F' 0 ∧ Z' 0 3 = F' 3 ∧ Z' 0 4 = F' 4 ∧ Z' 0 5 = F' 5 ∧ Z' 0 9 = F' 27 ∧ Z' 0 10 = F' 28 ∧ Z' 0 17 = F' 40) (e0 : F' 0 = F 0 ∧ F' 25 = F 25 ∧ F' 31 = F 31) : xRel N x S Z' F' V := by
  obtain ⟨⟨a1, a2, a3, a4, a5, a6⟩, b, c, d, e1, f1, f2, g1⟩ := h
  have W := fun (k : Nat) (q : k ≠ 0) => hc k (by simp; exact q)
  refine ⟨⟨a1, a2, a3, a4, a5, e⟩, ⟨?_, ?_⟩, ?_, ?_, ?_, ?_, ?_, ?_⟩
  · obtain ⟨L, hL⟩ := b.1
    exact ⟨L, tZ5.kp hL hc (by decide)⟩
  · obtain ⟨L, hL⟩ := b.2
    exact ⟨L, tZ9.kp hL hc (by decide)⟩
  · intro j y1 y2
    rw [e0.1] at y2
    rw [W (48 + j.toNat) (by omega)]
    exact c j y1 y2
  · unfold xSi
    rw [W 3 (by omega), W 4 (by omega)]
    exact d
  · unfold xPl
    rw [W 15 (by omega), W 17 (by omega), W 18 (by omega)]
    exact e1
  · unfold xFg
    rw [W 13 (by omega), e0.2.1]
    refine ⟨f1.1, f1.2.1, fun k y1 y2 => ?_⟩
    rw [W (64 + k.toNat) (by omega)]
    exact f1.2.2 k y1 y2
  · unfold xBd
    rw [W 14 (by omega), e0.2.2]
    refine ⟨f2.1, f2.2.1, fun k y1 y2 => ?_⟩
    rw [W (70 + k.toNat) (by omega)]
    exact f2.2.2 k y1 y2
  · intro i y1 y2
    rw [W (20 + i.toNat) (by omega), W (28 + i.toNat) (by omega)]
    exact g1 i y1 y2
theorem sk.c {S : LbS} {Z Z' : Nat → Int → Int} {ks : List Nat} (hc : ch Z Z' ks) {k : Nat} (h : k ∉ ks) : sk S Z S Z' k := ⟨rfl, rfl, rfl, rfl, hc k h⟩
end UX

set_option maxHeartbeats 4000000 in
set_option maxRecDepth 100000 in
theorem f0_laws (D : va_G) (T N : Nat → Nat) (l : Launch) {g0 : GH} {S : LbS} {Z : Nat → Int → Int} (hL : lR T g0 S Z) (n : Nat) (x : Nat) (F : Nat → Int) (V : Nat → Int → Int) (k a w : Int) (hx0 : xRel N x S Z F V) (hI : SI F V) (hg : (-2147483648 ≤ k ∧ k ≤ 2147483647) ∧ (-2147483648 ≤ a ∧ a ≤ 2147483647) ∧ (-2147483648 ≤ w ∧ w ≤ 2147483647)) : Met l yX0_laws (ws_ yX0_laws cX0_laws 4 (some .int)) ({ frames := 1, cells := 0, slots := 0, locals := 22 } : Room) (gPc D T N [.ref (zB S 0), .int (iI (k)), .int (iI (a)), .int (iI (w))] g0 n) (gQi D g0 n (fun r g' n' => ∃ S' Z', lR T g' S' Z' ∧ xP N x S Z (op_laws F V k a w) r S' Z')) 0 0 (gA g0 n) := by
  refine j_start (by decide) (Nat.le_of_ble_eq_true rfl) ?_
  intro p e s mi args below meth c hC hr hlk hnm hX ls hl
  have hC : Ct D T N (gA g0 n) p s mi args c cX0_laws RX0 4 := hC
  have hx := hC.x
  have hb := hC.b
  generalize hQ : MQ below _ args s 0 0 (gA g0 n) = Q
  have hl : lv_has ls 4 [(0, .ref (zB S 0)), (1, .int (iI (k))), (2, .int (iI (a))), (3, .int (iI (w)))] := hl
  have hnn := hI.nums
  have hxn := hx0.n
  refine lv_iload_n hx hb (pc := 0) dX0_laws_0 rfl (lv_at hl 1 rfl) ?_
  refine j_iconst hC (pc := 1) dX0_laws_1 ?_
  refine j_bipush hC (pc := 2) dX0_laws_2 (by decide) ?_
  refine j_calli (rest := []) hX (va_runS hC.fix (f0_in D T N l k 1 6 (by omega) _ _) (va_cwS 3 hC.ts (lw_S q215 q216 q40 q217) rfl rfl rfl (by decide +kernel) ⟨Nat.le_of_ble_eq_true rfl, Nat.le_of_ble_eq_true rfl⟩) (j_preS hC hX _) rfl rfl hl.1 rfl (Nat.le_of_ble_eq_true rfl) dX0_laws_4 ⟨(Nat.le_of_ble_eq_true rfl), (Nat.le_of_ble_eq_true rfl)⟩) (fun r1 g m2 H locs hp hle hX => ?_)
  obtain ⟨hn_, hg_, hp⟩ := hp
  rw [hn_, hg_] at hX
  have hq_r1 := inF_of hp
  refine j_if_eq hC (pc := 7) 28 dX0_laws_7 (by decide) (by omega) (fun c3 => ?_) (fun c3 => ?_)
  · skip
    refine j_bipush hC (pc := 28) dX0_laws_28 (by decide) ?_
    subst hQ
    exact j_iret hC (pc := 30) hX hr hlk (Nat.le_of_ble_eq_true rfl) (Nat.le_of_ble_eq_true rfl) dX0_laws_30 ⟨_, _, hL, (by refine ⟨?_, fun _ _ => sk.rf, ?_⟩ <;> unfold op_laws <;> rw [if_neg (by omega)]; exact hx0)⟩
  · skip
    refine lv_iload_n hx hb (pc := 10) dX0_laws_10 rfl (lv_at hl 2 rfl) ?_
    refine j_iconst hC (pc := 11) dX0_laws_11 ?_
    refine j_iconst hC (pc := 12) dX0_laws_12 ?_
    refine j_calli (rest := []) hX (va_runS hC.fix (f0_in D T N l a 0 1 (by omega) _ _) (va_cwS 3 hC.ts (lw_S q215 q216 q40 q217) rfl rfl rfl (by decide +kernel) ⟨Nat.le_of_ble_eq_true rfl, Nat.le_of_ble_eq_true rfl⟩) (j_preS hC hX _) rfl rfl hl.1 rfl (Nat.le_of_ble_eq_true rfl) dX0_laws_13 ⟨(Nat.le_of_ble_eq_true rfl), (Nat.le_of_ble_eq_true rfl)⟩) (fun r4 g m5 H locs hp hle hX => ?_)
    obtain ⟨hn_, hg_, hp⟩ := hp
    rw [hn_, hg_] at hX
    have hq_r4 := inF_of hp
    refine j_if_eq hC (pc := 16) 28 dX0_laws_16 (by decide) (by omega) (fun c6 => ?_) (fun c6 => ?_)
    · skip
      refine j_bipush hC (pc := 28) dX0_laws_28 (by decide) ?_
      subst hQ
      exact j_iret hC (pc := 30) hX hr hlk (Nat.le_of_ble_eq_true rfl) (Nat.le_of_ble_eq_true rfl) dX0_laws_30 ⟨_, _, hL, (by refine ⟨?_, fun _ _ => sk.rf, ?_⟩ <;> unfold op_laws <;> rw [if_neg (by omega)]; exact hx0)⟩
    · skip
      refine lv_iload_n hx hb (pc := 19) dX0_laws_19 rfl (lv_at hl 3 rfl) ?_
      refine j_iconst hC (pc := 20) dX0_laws_20 ?_
      refine j_iconst hC (pc := 21) dX0_laws_21 ?_
      refine j_calli (rest := []) hX (va_runS hC.fix (f0_in D T N l w (-1) 1 (by omega) _ _) (va_cwS 3 hC.ts (lw_S q215 q216 q40 q217) rfl rfl rfl (by decide +kernel) ⟨Nat.le_of_ble_eq_true rfl, Nat.le_of_ble_eq_true rfl⟩) (j_preS hC hX _) rfl rfl hl.1 rfl (Nat.le_of_ble_eq_true rfl) dX0_laws_22 ⟨(Nat.le_of_ble_eq_true rfl), (Nat.le_of_ble_eq_true rfl)⟩) (fun r7 g m8 H locs hp hle hX => ?_)
      obtain ⟨hn_, hg_, hp⟩ := hp
      rw [hn_, hg_] at hX
      have hq_r7 := inF_of hp
      refine j_if_ne hC (pc := 25) 31 dX0_laws_25 (by decide) (by omega) (fun c9 => ?_) (fun c9 => ?_)
      · skip
        refine lv_aload_n hx hb (pc := 31) dX0_laws_31 rfl (lv_at hl 0 rfl) ?_
        refine lv_iload_n hx hb (pc := 32) dX0_laws_32 rfl (lv_at hl 1 rfl) ?_
        refine L_put hC hX hL in_X0 tyX0 tyX0_ok nmX0 (ci := 0) rfl (pc := 33) 0 hx0.T.2.2.1 3 (by decide) q152 rfl rfl rfl rfl (f := uI (Z 0) 3 k) (show 3 < 18 by decide) rfl dX0_laws_33 (fun g H locs hX hL => ?_)
        refine lv_aload_n hx hb (pc := 36) dX0_laws_36 rfl (lv_at hl 0 rfl) ?_
        refine lv_iload_n hx hb (pc := 37) dX0_laws_37 rfl (lv_at hl 2 rfl) ?_
        refine L_put hC hX hL in_X0 tyX0 tyX0_ok nmX0 (ci := 0) rfl (pc := 38) 0 hx0.T.2.2.1 4 (by decide) q154 rfl rfl rfl rfl (f := uI (uI (Z 0) 3 k) 4 a) (show 4 < 18 by decide) rfl dX0_laws_38 (fun g H locs hX hL => ?_)
        refine lv_aload_n hx hb (pc := 41) dX0_laws_41 rfl (lv_at hl 0 rfl) ?_
        refine lv_iload_n hx hb (pc := 42) dX0_laws_42 rfl (lv_at hl 3 rfl) ?_
        refine L_put hC hX hL in_X0 tyX0 tyX0_ok nmX0 (ci := 0) rfl (pc := 43) 0 hx0.T.2.2.1 5 (by decide) q155 rfl rfl rfl rfl (f := uI (uI (uI (Z 0) 3 k) 4 a) 5 w) (show 5 < 18 by decide) rfl dX0_laws_43 (fun g H locs hX hL => ?_)
        refine j_iconst hC (pc := 46) dX0_laws_46 ?_
        subst hQ
        exact j_iret hC (pc := 47) hX hr hlk (Nat.le_of_ble_eq_true rfl) (Nat.le_of_ble_eq_true rfl) dX0_laws_47 ⟨_, _, hL, (by unfold op_laws; rw [if_pos (by omega)]; exact ⟨rfl, fun y hy => sk.c (show ch Z _ [0] from (((ch.rf.up 0 _ (by decide)).up 0 _ (by decide)).up 0 _ (by decide))) (by simp; omega), hx0.num (((ch.rf.up 0 _ (by decide)).up 0 _ (by decide)).up 0 _ (by decide)) ⟨hxn.1, rfl, rfl, rfl, hxn.2.2.2.2.1, hxn.2.2.2.2.2.1, hxn.2.2.2.2.2.2⟩ ⟨rfl, rfl, rfl⟩⟩)⟩
      · skip
        refine j_bipush hC (pc := 28) dX0_laws_28 (by decide) ?_
        subst hQ
        exact j_iret hC (pc := 30) hX hr hlk (Nat.le_of_ble_eq_true rfl) (Nat.le_of_ble_eq_true rfl) dX0_laws_30 ⟨_, _, hL, (by refine ⟨?_, fun _ _ => sk.rf, ?_⟩ <;> unfold op_laws <;> rw [if_neg (by omega)]; exact hx0)⟩

set_option maxHeartbeats 4000000 in
set_option maxRecDepth 100000 in
theorem f0_purse (D : va_G) (T N : Nat → Nat) (l : Launch) {g0 : GH} {S : LbS} {Z : Nat → Int → Int} (hL : lR T g0 S Z) (n : Nat) (x : Nat) (F : Nat → Int) (V : Nat → Int → Int) (k b : Int) (hx0 : xRel N x S Z F V) (hI : SI F V) (hg : (-2147483648 ≤ k ∧ k ≤ 2147483647) ∧ (-2147483648 ≤ b ∧ b ≤ 2147483647)) : Met l yX0_purse (ws_ yX0_purse cX0_purse 3 (some .int)) ({ frames := 1, cells := 0, slots := 0, locals := 22 } : Room) (gPc D T N [.ref (zB S 0), .int (iI (k)), .int (iI (b))] g0 n) (gQi D g0 n (fun r g' n' => ∃ S' Z', lR T g' S' Z' ∧ xP N x S Z (op_purse F V k b) r S' Z')) 0 0 (gA g0 n) := by
  refine j_start (by decide) (Nat.le_of_ble_eq_true rfl) ?_
  intro p e s mi args below meth c hC hr hlk hnm hX ls hl
  have hC : Ct D T N (gA g0 n) p s mi args c cX0_purse RX0 3 := hC
  have hx := hC.x
  have hb := hC.b
  generalize hQ : MQ below _ args s 0 0 (gA g0 n) = Q
  have hl : lv_has ls 3 [(0, .ref (zB S 0)), (1, .int (iI (k))), (2, .int (iI (b)))] := hl
  have hnn := hI.nums
  have hxn := hx0.n
  refine lv_iload_n hx hb (pc := 0) dX0_purse_0 rfl (lv_at hl 1 rfl) ?_
  refine j_iconst hC (pc := 1) dX0_purse_1 ?_
  refine j_bipush hC (pc := 2) dX0_purse_2 (by decide) ?_
  refine j_calli (rest := []) hX (va_runS hC.fix (f0_in D T N l k 0 6 (by omega) _ _) (va_cwS 3 hC.ts (lw_S q215 q216 q40 q217) rfl rfl rfl (by decide +kernel) ⟨Nat.le_of_ble_eq_true rfl, Nat.le_of_ble_eq_true rfl⟩) (j_preS hC hX _) rfl rfl hl.1 rfl (Nat.le_of_ble_eq_true rfl) dX0_purse_4 ⟨(Nat.le_of_ble_eq_true rfl), (Nat.le_of_ble_eq_true rfl)⟩) (fun r1 g m2 H locs hp hle hX => ?_)
  obtain ⟨hn_, hg_, hp⟩ := hp
  rw [hn_, hg_] at hX
  have hq_r1 := inF_of hp
  refine j_if_eq hC (pc := 7) 20 dX0_purse_7 (by decide) (by omega) (fun c3 => ?_) (fun c3 => ?_)
  · skip
    refine j_bipush hC (pc := 20) dX0_purse_20 (by decide) ?_
    subst hQ
    exact j_iret hC (pc := 22) hX hr hlk (Nat.le_of_ble_eq_true rfl) (Nat.le_of_ble_eq_true rfl) dX0_purse_22 ⟨_, _, hL, (by refine ⟨?_, fun _ _ => sk.rf, ?_⟩ <;> unfold op_purse <;> rw [if_neg (by omega)]; exact hx0)⟩
  · skip
    refine lv_iload_n hx hb (pc := 10) dX0_purse_10 rfl (lv_at hl 2 rfl) ?_
    refine j_iconst hC (pc := 11) dX0_purse_11 ?_
    refine j_bipush hC (pc := 12) dX0_purse_12 (by decide) ?_
    refine j_calli (rest := []) hX (va_runS hC.fix (f0_in D T N l b 1 9 (by omega) _ _) (va_cwS 3 hC.ts (lw_S q215 q216 q40 q217) rfl rfl rfl (by decide +kernel) ⟨Nat.le_of_ble_eq_true rfl, Nat.le_of_ble_eq_true rfl⟩) (j_preS hC hX _) rfl rfl hl.1 rfl (Nat.le_of_ble_eq_true rfl) dX0_purse_14 ⟨(Nat.le_of_ble_eq_true rfl), (Nat.le_of_ble_eq_true rfl)⟩) (fun r4 g m5 H locs hp hle hX => ?_)
    obtain ⟨hn_, hg_, hp⟩ := hp
    rw [hn_, hg_] at hX
    have hq_r4 := inF_of hp
    refine j_if_ne hC (pc := 17) 23 dX0_purse_17 (by decide) (by omega) (fun c6 => ?_) (fun c6 => ?_)
    · skip
      refine lv_aload_n hx hb (pc := 23) dX0_purse_23 rfl (lv_at hl 0 rfl) ?_
      refine lv_iload_n hx hb (pc := 24) dX0_purse_24 rfl (lv_at hl 1 rfl) ?_
      refine L_put hC hX hL in_X0 tyX0 tyX0_ok nmX0 (ci := 0) rfl (pc := 25) 0 hx0.T.2.2.1 9 (by decide) q162 rfl rfl rfl rfl (f := uI (Z 0) 9 k) (show 9 < 18 by decide) rfl dX0_purse_25 (fun g H locs hX hL => ?_)
      refine lv_aload_n hx hb (pc := 28) dX0_purse_28 rfl (lv_at hl 0 rfl) ?_
      refine lv_iload_n hx hb (pc := 29) dX0_purse_29 rfl (lv_at hl 2 rfl) ?_
      refine L_put hC hX hL in_X0 tyX0 tyX0_ok nmX0 (ci := 0) rfl (pc := 30) 0 hx0.T.2.2.1 10 (by decide) q163 rfl rfl rfl rfl (f := uI (uI (Z 0) 9 k) 10 b) (show 10 < 18 by decide) rfl dX0_purse_30 (fun g H locs hX hL => ?_)
      refine j_iconst hC (pc := 33) dX0_purse_33 ?_
      subst hQ
      exact j_iret hC (pc := 34) hX hr hlk (Nat.le_of_ble_eq_true rfl) (Nat.le_of_ble_eq_true rfl) dX0_purse_34 ⟨_, _, hL, (by unfold op_purse; rw [if_pos (by omega)]; exact ⟨rfl, fun y hy => sk.c (show ch Z _ [0] from ((ch.rf.up 0 _ (by decide)).up 0 _ (by decide))) (by simp; omega), hx0.num ((ch.rf.up 0 _ (by decide)).up 0 _ (by decide)) ⟨hxn.1, hxn.2.1, hxn.2.2.1, hxn.2.2.2.1, rfl, rfl, hxn.2.2.2.2.2.2⟩ ⟨rfl, rfl, rfl⟩⟩)⟩
    · skip
      refine j_bipush hC (pc := 20) dX0_purse_20 (by decide) ?_
      subst hQ
      exact j_iret hC (pc := 22) hX hr hlk (Nat.le_of_ble_eq_true rfl) (Nat.le_of_ble_eq_true rfl) dX0_purse_22 ⟨_, _, hL, (by refine ⟨?_, fun _ _ => sk.rf, ?_⟩ <;> unfold op_purse <;> rw [if_neg (by omega)]; exact hx0)⟩
