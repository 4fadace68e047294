/-! FairFight: slots, surprised -/
theorem SI.f5 {F : Nat → Int} {V : Nat → Int → Int} (h : SI F V) {v : Int} (hv : -1 ≤ v ∧ v ≤ 1) : SI (va_up F 5 v) V := by
  have hn := h.nums
  exact ⟨⟨hn.1, hn.2.1, hn.2.2.1, hv, hn.2.2.2.2⟩, h.2⟩
theorem mn_so {F : Nat → Int} {V : Nat → Int → Int} {wh : Int → Int} {bo st : Int} (hw : rwOk F wh) : suS F V wh bo st 6 2 = cnR wh + cnR (fun q => wh (3 + q)) := (ord_so hw (o := fun _ => 0) (o2 := fun _ => 0)).1
theorem many3 {S : LbS} {Z : Nat → Int → Int} {lb : Nat} {f : Int → Int} (h : rwA S Z lb f) : cnR (Z lb) = cnR f := by
  unfold cnR
  rw [h.2.2.2 0 (by decide) (by decide), h.2.2.2 1 (by decide) (by decide), h.2.2.2 2 (by decide) (by decide)]
theorem rwA15 {F : Nat → Int} {V : Nat → Int → Int} (hI : SI F V) {S : LbS} {Z : Nat → Int → Int} {lb : Nat} {f : Int → Int} (h : rwA S Z lb f) (hf : ∀ q : Int, 0 ≤ q → q < 3 → -1 ≤ f q ∧ f q < F 0) : ∀ q : Int, 0 ≤ q → q < 3 → -1 ≤ Z lb q ∧ Z lb q ≤ 15 := fun q a b => by
  have hn := hI.nums
  have := hf q a b
  rw [h.2.2.2 q a b]
  omega
theorem xRel.rw15 (N : Nat → Nat) {x : Nat} {S : LbS} {Z : Nat → Int → Int} {F : Nat → Int} {V : Nat → Int → Int} (h : xRel N x S Z F V) (hI : SI F V) : (∀ q : Int, 0 ≤ q → q < 3 → -1 ≤ Z 3 q ∧ Z 3 q ≤ 15) ∧ ∀ q : Int, 0 ≤ q → q < 3 → -1 ≤ Z 4 q ∧ Z 4 q ≤ 15 :=
  ⟨rwA15 hI h.row.1 fun q a b => hI.w2 q a (by omega), rwA15 hI h.row.2 fun q a b => hI.w2 (3 + q) (by omega) (by omega)⟩

set_option maxHeartbeats 4000000 in
set_option maxRecDepth 100000 in
theorem f0_slots (D : va_G) (T N : Nat → Nat) (l : Launch) {g0 : GH} {S : LbS} {Z : Nat → Int → Int} (hL : lR T g0 S Z) (n : Nat) (x : Nat) (F : Nat → Int) (V : Nat → Int → Int) (hx0 : xRel N x S Z F V) (hI : SI F V) : Met l yX0_slots (ws_ yX0_slots cX0_slots 1 (some .int)) ({ frames := 1, cells := 0, slots := 0, locals := 21 } : Room) (gPc D T N [.ref (zB S 0)] g0 n) (gQi D g0 n (fun r g' n' => ∃ S' Z', lR T g' S' Z' ∧ xP N x S Z (op_slots F V) r S' Z')) 0 0 (gA g0 n) := by
  refine j_start (by decide) (Nat.le_of_ble_eq_true rfl) ?_
  intro p e s mi args below meth c hC hr hlk hnm hX ls hl
  have hC : Ct D T N (gA g0 n) p s mi args c cX0_slots RX0 1 := hC
  have hx := hC.x
  have hb := hC.b
  generalize hQ : MQ below _ args s 0 0 (gA g0 n) = Q
  have hl : lv_has ls 1 [(0, .ref (zB S 0))] := hl
  have hnn := hI.nums
  have hxn := hx0.n
  refine lv_aload_n hx hb (pc := 0) dX0_slots_0 rfl (lv_at hl 0 rfl) ?_
  refine L_get hC hX hL in_X0 (ci := 0) rfl (pc := 1) 0 hx0.T.2.2.1 3 (by decide) q152 rfl (v := .int (iI (Z 0 3))) rfl dX0_slots_1 ?_
  refine lv_aload_n hx hb (pc := 4) dX0_slots_4 rfl (lv_at hl 0 rfl) ?_
  refine L_getr hC hX hL in_X0 (ci := 0) rfl (pc := 5) 0 hx0.T.2.2.1 2 (by decide) q150 rfl (q := zA S 0 2) (b := zB S 2) hx0.r2 rfl dX0_slots_5 ?_
  refine j_iconst hC (pc := 8) dX0_slots_8 ?_
  refine L_aald hC hX hL (pc := 9) 2 5 (hx0.sp.k 2 rfl) (by decide) rfl rfl (L := 2) (hx0.sp.n 2 rfl) (by decide) (by omega) (b := zB S 3) (show _ from hx0.e.1.1) dX0_slots_9 ?_
  refine j_calli (rest := [.int (iI (Z 0 3))]) hX (va_runS hC.fix (x_manyOf D T N l hL _ 3 (hx0.sp.k 3 rfl) (hx0.sp.n 3 rfl) (hx0.rw15 N hI).1) (va_cwS 1 hC.ts (lw_S q249 q250 q40 q251) rfl rfl rfl (by decide +kernel) ⟨Nat.le_of_ble_eq_true rfl, Nat.le_of_ble_eq_true rfl⟩) (j_preS hC hX _) rfl rfl hl.1 rfl (Nat.le_of_ble_eq_true rfl) dX0_slots_10 ⟨(Nat.le_of_ble_eq_true rfl), (Nat.le_of_ble_eq_true rfl)⟩) (fun r1 g m2 H locs hp hle hX => ?_)
  obtain ⟨hn_, Z_, hL, hS_, hp⟩ := hp
  rw [hn_] at hX
  rw [hS_] at hL
  have hm_r1 : r1 = cnR (V 2) := hp.trans (many3 hx0.row.1)
  refine lv_aload_n hx hb (pc := 13) dX0_slots_13 rfl (lv_at hl 0 rfl) ?_
  refine L_getr hC hX hL in_X0 (ci := 0) rfl (pc := 14) 0 hx0.T.2.2.1 2 (by decide) q150 rfl (q := zA S 0 2) (b := zB S 2) hx0.r2 rfl dX0_slots_14 ?_
  refine j_iconst hC (pc := 17) dX0_slots_17 ?_
  refine L_aald hC hX hL (pc := 18) 2 5 (hx0.sp.k 2 rfl) (by decide) rfl rfl (L := 2) (hx0.sp.n 2 rfl) (by decide) (by omega) (b := zB S 4) (show _ from hx0.e.1.2) dX0_slots_18 ?_
  refine j_calli (rest := [.int (iI (r1)), .int (iI (Z 0 3))]) hX (va_runS hC.fix (x_manyOf D T N l hL _ 4 (hx0.sp.k 4 rfl) (hx0.sp.n 4 rfl) (hx0.rw15 N hI).2) (va_cwS 1 hC.ts (lw_S q249 q250 q40 q251) rfl rfl rfl (by decide +kernel) ⟨Nat.le_of_ble_eq_true rfl, Nat.le_of_ble_eq_true rfl⟩) (j_preS hC hX _) rfl rfl hl.1 rfl (Nat.le_of_ble_eq_true rfl) dX0_slots_19 ⟨(Nat.le_of_ble_eq_true rfl), (Nat.le_of_ble_eq_true rfl)⟩) (fun r4 g m5 H locs hp hle hX => ?_)
  obtain ⟨hn_, Z_, hL, hS_, hp⟩ := hp
  rw [hn_] at hX
  rw [hS_] at hL
  have hm_r4 : r4 = cnR (fun q => V 2 (3 + q)) := hp.trans (many3 hx0.row.2)
  refine j_iadd hC (pc := 22) dX0_slots_22 ?_
  refine j_imul hC (pc := 23) dX0_slots_23 ?_
  subst hQ
  exact j_iret hC (pc := 24) hX hr hlk (Nat.le_of_ble_eq_true rfl) (Nat.le_of_ble_eq_true rfl) dX0_slots_24 ⟨_, _, hL, ⟨by show _ = F 3 * suS F V (V 2) 0 (F 5) 6 2; rw [mn_so hI.2.2.1, ← hm_r1, ← hm_r4, hxn.2.1], (fun k hk => sk.rf), hx0⟩⟩

set_option maxHeartbeats 4000000 in
set_option maxRecDepth 100000 in
theorem f0_surprised (D : va_G) (T N : Nat → Nat) (l : Launch) {g0 : GH} {S : LbS} {Z : Nat → Int → Int} (hL : lR T g0 S Z) (n : Nat) (x : Nat) (F : Nat → Int) (V : Nat → Int → Int) (v : Int) (hx0 : xRel N x S Z F V) (hI : SI F V) (hg : (-2147483648 ≤ v ∧ v ≤ 2147483647)) : Met l yX0_surprised (wsW_ yX0_surprised cX0_surprised 5 (some .int) [((22 : Nat), (27 : Nat), (34 : Nat), (0 : Nat)), ((34 : Nat), (36 : Nat), (34 : Nat), (0 : Nat))]) ({ frames := 9, cells := 15, slots := 97, locals := 209 } : Room) (gPc D T N [.ref (zB S 0), .int (iI (v))] g0 n) (gQi D g0 n (fun r g' n' => ∃ S' Z', lR T g' S' Z' ∧ xP N x S Z (op_surprised F V v) r S' Z')) 15 97 (gA g0 n) := by
  refine j_startW (by decide) (Nat.le_of_ble_eq_true rfl) ?_
  intro p e s mi args below meth c hC hr hlk hnm hX ls hl
  have hC : Ct D T N (gA g0 n) p s mi args c cX0_surprised RX0 5 := hC
  have hx := hC.x
  have hb := hC.b
  generalize hQ : MQ below _ args s 15 97 (gA g0 n) = Q
  have hl : lv_has ls 5 [(0, .ref (zB S 0)), (1, .int (iI (v)))] := hl
  have hnn := hI.nums
  have hxn := hx0.n
  refine lv_iload_n hx hb (pc := 0) dX0_surprised_0 rfl (lv_at hl 1 rfl) ?_
  refine j_iconst hC (pc := 1) dX0_surprised_1 ?_
  refine j_iconst hC (pc := 2) dX0_surprised_2 ?_
  refine j_calli (rest := []) hX (va_runS hC.fix (f0_in D T N l v (-1) 1 (by omega) _ _) (va_cwS 3 hC.ts (lw_S q215 q216 q40 q217) rfl rfl rfl (by decide +kernel) ⟨Nat.le_of_ble_eq_true rfl, Nat.le_of_ble_eq_true rfl⟩) (j_preS hC hX _) rfl rfl hl.1 rfl (Nat.le_of_ble_eq_true rfl) dX0_surprised_3 ⟨(Nat.le_of_ble_eq_true rfl), (Nat.le_of_ble_eq_true rfl)⟩) (fun r1 g m2 H locs hp hle hX => ?_)
  obtain ⟨hn_, hg_, hp⟩ := hp
  rw [hn_, hg_] at hX
  have hq_r1 := inF_of hp
  refine j_if_ne hC (pc := 6) 12 dX0_surprised_6 (by decide) (by omega) (fun c3 => ?_) (fun c3 => ?_)
  · skip
    refine lv_aload_n hx hb (pc := 12) dX0_surprised_12 rfl (lv_at hl 0 rfl) ?_
    refine L_get hC hX hL in_X0 (ci := 0) rfl (pc := 13) 0 hx0.T.2.2.1 5 (by decide) q155 rfl (v := .int (iI (Z 0 5))) rfl dX0_surprised_13 ?_
    refine lv_istore_n (lv' := [(2, .int (iI (Z 0 5))), (0, .ref (zB S 0)), (1, .int (iI (v)))]) hx hb (pc := 16) dX0_surprised_16 rfl hl (by decide) rfl (fun ls hl => ?_)
    refine lv_aload_n hx hb (pc := 17) dX0_surprised_17 rfl (lv_at hl 1 rfl) ?_
    refine lv_iload_n hx hb (pc := 18) dX0_surprised_18 rfl (lv_at hl 2 rfl) ?_
    refine L_put hC hX hL in_X0 tyX0 tyX0_ok nmX0 (ci := 0) rfl (pc := 19) 0 hx0.T.2.2.1 5 (by decide) q155 rfl rfl rfl rfl (f := uI (Z 0) 5 v) (show 5 < 18 by decide) rfl dX0_surprised_19 (fun g H locs hX hL => ?_)
    have hI1 : SI (va_up F 5 v) V := hI.f5 (by omega)
    have hx1 : xRel N x S (va_up Z 0 (uI (Z 0) 5 v)) (va_up F 5 v) V := hx0.num (show ch Z _ [0] from (ch.rf.up 0 _ (by decide))) ⟨hxn.1, hxn.2.1, hxn.2.2.1, rfl, hxn.2.2.2.2.1, hxn.2.2.2.2.2.1, hxn.2.2.2.2.2.2⟩ ⟨rfl, rfl, rfl⟩
    refine lv_aload_n hx hb (pc := 22) dX0_surprised_22 rfl (lv_at hl 1 rfl) ?_
    refine j_calli (rest := []) hX (va_runV hC.fix (f0_chance D T N l hL _ _ _ _ hx1 hI1) (cwV 0 hC.ts (lw_V q503 q474 q475 q40 q476) rfl rfl rfl (by decide +kernel) ⟨Nat.le_of_ble_eq_true rfl, Nat.le_of_ble_eq_true rfl⟩) (j_preV hC hX (hL.ob 0 hx0.T.2.2.1) (ci := 0) (r := (RX0, TX0, 18)) rfl _) rfl rfl hl.1 rfl (Nat.le_of_ble_eq_true rfl) dX0_surprised_23 ⟨(Nat.le_of_ble_eq_true rfl), (Nat.le_of_ble_eq_true rfl)⟩) (fun r4 g m5 H locs hp hle hX => ?_)
    obtain ⟨S3, Z3, hL, hp⟩ := hp
    obtain ⟨hr_, hsk, hx3⟩ := hp
    have f0_ : zB S3 0 = zB S 0 := hx3.b0.trans hx0.b0.symm
    rw [← f0_] at hl
    have hrg_ := oddW_rg hI1 (wh := V 2) (rwOk.wh hI1.2.2.1) (bo := 0) (by decide) hI1.nums.2.2.2.1
    refine lv_istore_n (lv' := [(3, .int (iI (r4))), (2, .int (iI (Z 0 5))), (0, .ref (zB S3 0)), (1, .int (iI (v)))]) hx hb (pc := 26) dX0_surprised_26 rfl hl (by decide) rfl (fun ls hl => ?_)
    refine lv_aload_n hx hb (pc := 27) dX0_surprised_27 rfl (lv_at hl 2 rfl) ?_
    refine lv_iload_n hx hb (pc := 28) dX0_surprised_28 rfl (lv_at hl 1 rfl) ?_
    refine L_put hC hX hL in_X0 tyX0 tyX0_ok nmX0 (ci := 0) rfl (pc := 29) 0 hx3.T.2.2.1 5 (by decide) q155 rfl rfl rfl rfl (f := uI (Z3 0) 5 (Z 0 5)) (show 5 < 18 by decide) rfl dX0_surprised_29 (fun g H locs hX hL => ?_)
    refine lv_iload_n hx hb (pc := 32) dX0_surprised_32 rfl (lv_at hl 0 rfl) ?_
    subst hQ
    exact j_iret hC (pc := 33) hX hr hlk (Nat.le_of_ble_eq_true rfl) (Nat.le_of_ble_eq_true rfl) dX0_surprised_33 ⟨_, _, hL, ⟨by show _ = (op_surprised F V v).1; unfold op_surprised; rw [if_pos (by omega), hr_]; exact oddW_cg (F := F) rfl rfl rfl, (fun k hk => ((sk.c (show ch Z _ [0] from ch.rf.up 0 (uI (Z 0) 5 v) (by decide)) (by simp; omega)).tr (hsk k hk)).tr (sk.c (show ch Z3 _ [0] from (ch.rf.up 0 _ (by decide))) (by simp; omega))), (by show xRel N x _ _ (op_surprised F V v).2.1 (op_surprised F V v).2.2; unfold op_surprised; exact hx3.num (F' := F) (show ch Z3 _ [0] from (ch.rf.up 0 _ (by decide))) ⟨hx3.n.1, hx3.n.2.1, hx3.n.2.2.1, hxn.2.2.2.1, hx3.n.2.2.2.2.1, hx3.n.2.2.2.2.2.1, hx3.n.2.2.2.2.2.2⟩ ⟨rfl, rfl, rfl⟩)⟩⟩
  · skip
    refine j_bipush hC (pc := 9) dX0_surprised_9 (by decide) ?_
    subst hQ
    exact j_iret hC (pc := 11) hX hr hlk (Nat.le_of_ble_eq_true rfl) (Nat.le_of_ble_eq_true rfl) dX0_surprised_11 ⟨_, _, hL, ⟨by show _ = (op_surprised F V v).1; unfold op_surprised; rw [if_neg (by omega)], (fun k hk => sk.rf), hx0⟩⟩

theorem oS.rowk {S : LbS} {Z : Nat → Int → Int} (h : oS 1 S Z) {k : Int} (hk : 0 ≤ k ∧ k < 6) : zA S 200 5 = some (zB S 215) ∧ (zK S 215 = 7 ∧ zN S 215 = 6) ∧ zA S 215 k = some (zB S (216 + k.toNat)) ∧ zK S (216 + k.toNat) = 2 ∧ zN S (216 + k.toNat) = 42 := by
  rcases h.l with ⟨q, -⟩ | ⟨-, a, b, d⟩
  · cases q
  · have hd := d k.toNat (by omega)
    rw [Int.toNat_of_nonneg hk.1] at hd
    have : k = 0 ∨ k = 1 ∨ k = 2 ∨ k = 3 ∨ k = 4 ∨ k = 5 := by omega
    refine ⟨a, ⟨b.k 215 rfl, b.n 215 rfl⟩, hd, ?_⟩
    rcases this with rfl | rfl | rfl | rfl | rfl | rfl
    · exact ⟨b.k 216 rfl, b.n 216 rfl⟩
    · exact ⟨b.k 217 rfl, b.n 217 rfl⟩
    · exact ⟨b.k 218 rfl, b.n 218 rfl⟩
    · exact ⟨b.k 219 rfl, b.n 219 rfl⟩
    · exact ⟨b.k 220 rfl, b.n 220 rfl⟩
    · exact ⟨b.k 221 rfl, b.n 221 rfl⟩
theorem cnR_lt {f : Int → Int} {k : Int} (h : rowA (f 0) (f 1) (f 2) k) {q : Int} (hq : 0 ≤ q ∧ q ≤ 2) (hf : f q ≠ -1) : q < cnR f := by
  unfold rowA at h
  unfold cnR
  have : q = 0 ∨ q = 1 ∨ q = 2 := by omega
  rcases this with rfl | rfl | rfl <;> (repeat' split) <;> omega
theorem lf_at {F : Nat → Int} {V : Nat → Int → Int} (hI : SI F V) {sd pl : Int} (hs : 0 ≤ sd ∧ sd ≤ 1) (hp : 0 ≤ pl ∧ pl ≤ 2) (hv : V 2 (3 * sd + pl) ≠ -1) {k : Int} (hk : (sd = 0 ∧ k = 0 + pl) ∨ (sd = 1 ∧ k = cnR (V 2) + pl)) :
    (0 ≤ k ∧ k < suS F V (V 2) 0 (F 5) 6 2 ∧ k < 6) ∧ slF (hdW (V 2)) k = 3 * sd + pl := by
  have h1 := cnR_rg (V 2)
  have h2 := cnR_rg (fun q => V 2 (3 + q))
  have hr := hI.2.2.1
  rw [mn_so hr]
  rcases hk with ⟨rfl, rfl⟩ | ⟨rfl, rfl⟩
  · have := cnR_lt hr.1 (q := pl) hp (by rw [show 3 * (0 : Int) + pl = pl by omega] at hv; exact hv)
    refine ⟨by omega, ?_⟩
    unfold slF hdW
    rw [if_pos (by omega)]
    omega
  · have := cnR_lt (f := fun q => V 2 (3 + q)) (k := F 0) (by show rowA (V 2 (3 + 0)) (V 2 (3 + 1)) (V 2 (3 + 2)) (F 0); rw [show (3 + 0 : Int) = 3 from rfl, show (3 + 1 : Int) = 4 from rfl, show (3 + 2 : Int) = 5 from rfl]; exact hr.2) (q := pl) hp (by rw [show 3 * (1 : Int) + pl = 3 + pl by omega] at hv; exact hv)
    refine ⟨by omega, ?_⟩
    unfold slF hdW
    rw [if_neg (by omega)]
    omega

set_option maxHeartbeats 8000000 in
set_option maxRecDepth 100000 in
theorem f0_left (D : va_G) (T N : Nat → Nat) (l : Launch) {g0 : GH} {S : LbS} {Z : Nat → Int → Int} (hL : lR T g0 S Z) (n : Nat) (x : Nat) (F : Nat → Int) (V : Nat → Int → Int) (sd pl li u : Int) (hx0 : xRel N x S Z F V) (hI : SI F V) (hg : (-2147483648 ≤ sd ∧ sd ≤ 2147483647) ∧ (-2147483648 ≤ pl ∧ pl ≤ 2147483647) ∧ (-2147483648 ≤ li ∧ li ≤ 2147483647) ∧ (-2147483648 ≤ u ∧ u ≤ 2147483647)) : Met l yX0_left (ws_ yX0_left cX0_left 6 (some .long)) ({ frames := 7, cells := 22, slots := 355, locals := 165 } : Room) (gPc D T N [.ref (zB S 0), .int (iI (sd)), .int (iI (pl)), .int (iI (li)), .int (iI (u))] g0 n) (gQl D g0 n (fun r g' n' => ∃ S' Z', lR T g' S' Z' ∧ xP N x S Z (op_left F V sd pl li u) r S' Z')) 22 355 (gA g0 n) := by
  refine j_start (by decide) (Nat.le_of_ble_eq_true rfl) ?_
  intro p e s mi args below meth c hC hr hlk hnm hX ls hl
  have hC : Ct D T N (gA g0 n) p s mi args c cX0_left RX0 6 := hC
  have hx := hC.x
  have hb := hC.b
  generalize hQ : MQ below _ args s 22 355 (gA g0 n) = Q
  have hl : lv_has ls 6 [(0, .ref (zB S 0)), (1, .int (iI (sd))), (2, .int (iI (pl))), (3, .int (iI (li))), (4, .int (iI (u)))] := hl
  have hnn := hI.nums
  have hxn := hx0.n
  have hwo : rwOk F (V 2) := hI.2.2.1
  have hbo : (0 : Int) ≤ 0 ∧ (0 : Int) ≤ 9 := by decide
  have hah := hx0.row.1
  have haf := hx0.row.2
  refine lv_iload_n hx hb (pc := 0) dX0_left_0 rfl (lv_at hl 1 rfl) ?_
  refine j_iconst hC (pc := 1) dX0_left_1 ?_
  refine j_iconst hC (pc := 2) dX0_left_2 ?_
  refine j_calli (rest := []) hX (va_runS hC.fix (f0_in D T N l sd 0 1 (by omega) _ _) (va_cwS 3 hC.ts (lw_S q215 q216 q40 q217) rfl rfl rfl (by decide +kernel) ⟨Nat.le_of_ble_eq_true rfl, Nat.le_of_ble_eq_true rfl⟩) (j_preS hC hX _) rfl rfl hl.1 rfl (Nat.le_of_ble_eq_true rfl) dX0_left_3 ⟨(Nat.le_of_ble_eq_true rfl), (Nat.le_of_ble_eq_true rfl)⟩) (fun r1 g m2 H locs hp hle hX => ?_)
  obtain ⟨hn_, hg_, hp⟩ := hp
  rw [hn_, hg_] at hX
  have hq_r1 := inF_of hp
  refine j_if_eq hC (pc := 6) 50 dX0_left_6 (by decide) (by omega) (fun c3 => ?_) (fun c3 => ?_)
  · skip
    refine j_bipush hC (pc := 50) dX0_left_50 (by decide) ?_
    refine j_calll (rest := []) hX (va_runS hC.fix (f0_no D T N l (-2) (by omega) _ _) (va_cwS 1 hC.ts (lw_S q465 q466 q40 q467) rfl rfl rfl (by decide +kernel) ⟨Nat.le_of_ble_eq_true rfl, Nat.le_of_ble_eq_true rfl⟩) (j_preS hC hX _) rfl rfl hl.1 rfl (Nat.le_of_ble_eq_true rfl) dX0_left_52 ⟨(Nat.le_of_ble_eq_true rfl), (Nat.le_of_ble_eq_true rfl)⟩) (fun r4 g m5 H locs hp hle hX => ?_)
    obtain ⟨hn_, hg_, hp⟩ := hp
    rw [hn_, hg_] at hX
    subst hQ
    exact j_lret hC (pc := 55) hX hr hlk (Nat.le_of_ble_eq_true rfl) (Nat.le_of_ble_eq_true rfl) dX0_left_55 ⟨_, _, hL, ⟨by show _ = (op_left F V sd pl li u).1; unfold op_left; rw [if_neg (by first | omega | (intro z_; exact z_.2.2.2.2 (by have := z_.1; omega)))]; exact hp, (fun k hk => sk.rf), hx0⟩⟩
  · skip
    refine lv_iload_n hx hb (pc := 9) dX0_left_9 rfl (lv_at hl 2 rfl) ?_
    refine j_iconst hC (pc := 10) dX0_left_10 ?_
    refine j_iconst hC (pc := 11) dX0_left_11 ?_
    refine j_calli (rest := []) hX (va_runS hC.fix (f0_in D T N l pl 0 2 (by omega) _ _) (va_cwS 3 hC.ts (lw_S q215 q216 q40 q217) rfl rfl rfl (by decide +kernel) ⟨Nat.le_of_ble_eq_true rfl, Nat.le_of_ble_eq_true rfl⟩) (j_preS hC hX _) rfl rfl hl.1 rfl (Nat.le_of_ble_eq_true rfl) dX0_left_12 ⟨(Nat.le_of_ble_eq_true rfl), (Nat.le_of_ble_eq_true rfl)⟩) (fun r6 g m7 H locs hp hle hX => ?_)
    obtain ⟨hn_, hg_, hp⟩ := hp
    rw [hn_, hg_] at hX
    have hq_r6 := inF_of hp
    refine j_if_eq hC (pc := 15) 50 dX0_left_15 (by decide) (by omega) (fun c8 => ?_) (fun c8 => ?_)
    · skip
      refine j_bipush hC (pc := 50) dX0_left_50 (by decide) ?_
      refine j_calll (rest := []) hX (va_runS hC.fix (f0_no D T N l (-2) (by omega) _ _) (va_cwS 1 hC.ts (lw_S q465 q466 q40 q467) rfl rfl rfl (by decide +kernel) ⟨Nat.le_of_ble_eq_true rfl, Nat.le_of_ble_eq_true rfl⟩) (j_preS hC hX _) rfl rfl hl.1 rfl (Nat.le_of_ble_eq_true rfl) dX0_left_52 ⟨(Nat.le_of_ble_eq_true rfl), (Nat.le_of_ble_eq_true rfl)⟩) (fun r9 g m10 H locs hp hle hX => ?_)
      obtain ⟨hn_, hg_, hp⟩ := hp
      rw [hn_, hg_] at hX
      subst hQ
      exact j_lret hC (pc := 55) hX hr hlk (Nat.le_of_ble_eq_true rfl) (Nat.le_of_ble_eq_true rfl) dX0_left_55 ⟨_, _, hL, ⟨by show _ = (op_left F V sd pl li u).1; unfold op_left; rw [if_neg (by first | omega | (intro z_; exact z_.2.2.2.2 (by have := z_.1; omega)))]; exact hp, (fun k hk => sk.rf), hx0⟩⟩
    · skip
      have hrn := hx0.rown (i := sd) (by omega)
      have hsv_ := hx0.sval (i := sd) (q := pl) (by omega) (by omega)
      have hw2_ := hI.w2 (3 * sd + pl) (by omega) (by omega)
      refine lv_aload_n hx hb (pc := 18) dX0_left_18 rfl (lv_at hl 0 rfl) ?_
      refine L_getr hC hX hL in_X0 (ci := 0) rfl (pc := 19) 0 hx0.T.2.2.1 2 (by decide) q150 rfl (q := zA S 0 2) (b := zB S 2) hx0.r2 rfl dX0_left_19 ?_
      refine lv_iload_n hx hb (pc := 22) dX0_left_22 rfl (lv_at hl 1 rfl) ?_
      refine L_aald hC hX hL (pc := 23) 2 5 (hx0.sp.k 2 rfl) (by decide) rfl rfl (L := 2) (hx0.sp.n 2 rfl) (by decide) (by omega) (b := zB S (3 + sd.toNat)) (hx0.side (by omega)) dX0_left_23 ?_
      refine lv_iload_n hx hb (pc := 24) dX0_left_24 rfl (lv_at hl 2 rfl) ?_
      refine L_iald hC hX hL (pc := 25) (3 + sd.toNat) hrn.1.1 (L := 3) hrn.1.2 (by decide) (by omega) (z := Z (3 + sd.toNat) pl) (by first | rfl | (repeat rw [va_up_ne _ _ (by omega)])) dX0_left_25 ?_
      refine j_iconst hC (pc := 26) dX0_left_26 ?_
      refine j_icmp_eq hC (pc := 27) 50 dX0_left_27 (by decide) (by omega) (fun c11 => ?_) (fun c11 => ?_)
      · skip
        refine j_bipush hC (pc := 50) dX0_left_50 (by decide) ?_
        refine j_calll (rest := []) hX (va_runS hC.fix (f0_no D T N l (-2) (by omega) _ _) (va_cwS 1 hC.ts (lw_S q465 q466 q40 q467) rfl rfl rfl (by decide +kernel) ⟨Nat.le_of_ble_eq_true rfl, Nat.le_of_ble_eq_true rfl⟩) (j_preS hC hX _) rfl rfl hl.1 rfl (Nat.le_of_ble_eq_true rfl) dX0_left_52 ⟨(Nat.le_of_ble_eq_true rfl), (Nat.le_of_ble_eq_true rfl)⟩) (fun r12 g m13 H locs hp hle hX => ?_)
        obtain ⟨hn_, hg_, hp⟩ := hp
        rw [hn_, hg_] at hX
        subst hQ
        exact j_lret hC (pc := 55) hX hr hlk (Nat.le_of_ble_eq_true rfl) (Nat.le_of_ble_eq_true rfl) dX0_left_55 ⟨_, _, hL, ⟨by show _ = (op_left F V sd pl li u).1; unfold op_left; rw [if_neg (by first | omega | (intro z_; exact z_.2.2.2.2 (by have := z_.1; omega)))]; exact hp, (fun k hk => sk.rf), hx0⟩⟩
      · skip
        refine lv_iload_n hx hb (pc := 30) dX0_left_30 rfl (lv_at hl 3 rfl) ?_
        refine j_iconst hC (pc := 31) dX0_left_31 ?_
        refine j_bipush hC (pc := 32) dX0_left_32 (by decide) ?_
        refine j_calli (rest := []) hX (va_runS hC.fix (f0_in D T N l li 0 20 (by omega) _ _) (va_cwS 3 hC.ts (lw_S q215 q216 q40 q217) rfl rfl rfl (by decide +kernel) ⟨Nat.le_of_ble_eq_true rfl, Nat.le_of_ble_eq_true rfl⟩) (j_preS hC hX _) rfl rfl hl.1 rfl (Nat.le_of_ble_eq_true rfl) dX0_left_34 ⟨(Nat.le_of_ble_eq_true rfl), (Nat.le_of_ble_eq_true rfl)⟩) (fun r14 g m15 H locs hp hle hX => ?_)
        obtain ⟨hn_, hg_, hp⟩ := hp
        rw [hn_, hg_] at hX
        have hq_r14 := inF_of hp
        refine j_if_eq hC (pc := 37) 50 dX0_left_37 (by decide) (by omega) (fun c16 => ?_) (fun c16 => ?_)
        · skip
          refine j_bipush hC (pc := 50) dX0_left_50 (by decide) ?_
          refine j_calll (rest := []) hX (va_runS hC.fix (f0_no D T N l (-2) (by omega) _ _) (va_cwS 1 hC.ts (lw_S q465 q466 q40 q467) rfl rfl rfl (by decide +kernel) ⟨Nat.le_of_ble_eq_true rfl, Nat.le_of_ble_eq_true rfl⟩) (j_preS hC hX _) rfl rfl hl.1 rfl (Nat.le_of_ble_eq_true rfl) dX0_left_52 ⟨(Nat.le_of_ble_eq_true rfl), (Nat.le_of_ble_eq_true rfl)⟩) (fun r17 g m18 H locs hp hle hX => ?_)
          obtain ⟨hn_, hg_, hp⟩ := hp
          rw [hn_, hg_] at hX
          subst hQ
          exact j_lret hC (pc := 55) hX hr hlk (Nat.le_of_ble_eq_true rfl) (Nat.le_of_ble_eq_true rfl) dX0_left_55 ⟨_, _, hL, ⟨by show _ = (op_left F V sd pl li u).1; unfold op_left; rw [if_neg (by first | omega | (intro z_; exact z_.2.2.2.2 (by have := z_.1; omega)))]; exact hp, (fun k hk => sk.rf), hx0⟩⟩
        · skip
          refine lv_iload hx hb (pc := 40) dX0_left_40 (lv_at hl 4 rfl) ?_
          refine j_iconst hC (pc := 42) dX0_left_42 ?_
          refine j_iconst hC (pc := 43) dX0_left_43 ?_
          refine j_calli (rest := []) hX (va_runS hC.fix (f0_in D T N l u 0 1 (by omega) _ _) (va_cwS 3 hC.ts (lw_S q215 q216 q40 q217) rfl rfl rfl (by decide +kernel) ⟨Nat.le_of_ble_eq_true rfl, Nat.le_of_ble_eq_true rfl⟩) (j_preS hC hX _) rfl rfl hl.1 rfl (Nat.le_of_ble_eq_true rfl) dX0_left_44 ⟨(Nat.le_of_ble_eq_true rfl), (Nat.le_of_ble_eq_true rfl)⟩) (fun r19 g m20 H locs hp hle hX => ?_)
          obtain ⟨hn_, hg_, hp⟩ := hp
          rw [hn_, hg_] at hX
          have hq_r19 := inF_of hp
          refine j_if_ne hC (pc := 47) 56 dX0_left_47 (by decide) (by omega) (fun c21 => ?_) (fun c21 => ?_)
          · skip
            have hv_ : V 2 (3 * sd + pl) ≠ -1 := by omega
            refine L_new hC hX hL (pc := 56) 200 5 in_X5 tyX5 tyX5_ok q272 q273 q48 rfl (by decide) (Nat.le_of_ble_eq_true rfl) (Nat.le_of_ble_eq_true rfl) dX0_left_56 (fun g H hX hL => ?_)
            refine lv_dup hx hb (pc := 59) dX0_left_59 rfl ?_
            refine lv_aload_n hx hb (pc := 60) dX0_left_60 rfl (lv_at hl 0 rfl) ?_
            refine L_new hC hX hL (pc := 61) 201 6 in_X6 tyX6 tyX6_ok q274 q275 q49 rfl (by decide) (Nat.le_of_ble_eq_true rfl) (Nat.le_of_ble_eq_true rfl) dX0_left_61 (fun g H hX hL => ?_)
            refine lv_dup hx hb (pc := 64) dX0_left_64 rfl ?_
            refine lv_aload_n hx hb (pc := 65) dX0_left_65 rfl (lv_at hl 0 rfl) ?_
            refine lv_aload_n hx hb (pc := 66) dX0_left_66 rfl (lv_at hl 0 rfl) ?_
            refine L_getr hC hX hL in_X0 (ci := 0) rfl (pc := 67) 0 hx0.T.2.2.1 2 (by decide) q150 rfl (q := zA S 0 2) (b := zB S 2) hx0.r2 rfl dX0_left_67 ?_
            refine j_iconst hC (pc := 70) dX0_left_70 ?_
            refine L_aald hC hX hL (pc := 71) 2 5 (hx0.sp.k 2 rfl) (by decide) rfl rfl (L := 2) (hx0.sp.n 2 rfl) (by decide) (by omega) (b := zB S 3) (show _ from hx0.e.1.1) dX0_left_71 ?_
            refine lv_aload_n hx hb (pc := 72) dX0_left_72 rfl (lv_at hl 0 rfl) ?_
            refine L_getr hC hX hL in_X0 (ci := 0) rfl (pc := 73) 0 hx0.T.2.2.1 2 (by decide) q150 rfl (q := zA S 0 2) (b := zB S 2) hx0.r2 rfl dX0_left_73 ?_
            refine j_iconst hC (pc := 76) dX0_left_76 ?_
            refine L_aald hC hX hL (pc := 77) 2 5 (hx0.sp.k 2 rfl) (by decide) rfl rfl (L := 2) (hx0.sp.n 2 rfl) (by decide) (by omega) (b := zB S 4) (show _ from hx0.e.1.2) dX0_left_77 ?_
            refine j_iconst hC (pc := 78) dX0_left_78 ?_
            refine j_callv (rest := [.ref (n + 1), .ref (zB S 0), .ref (n), .ref (n)]) hX (va_runI hC.fix (f6_init D T N l hL _ x 3 4 F V (V 2) 0 (hx0.kp hI (fun k hk => sk.of (show sm S _ [200, 201] from ((sm.rf.uN 200 _ _ _ (by decide)).uN 201 _ _ _ (by decide))) (show ch Z _ [200, 201] from ((ch.rf.up 200 _ (by decide)).up 201 _ (by decide))) (by simp; omega) (by simp; omega))) hI hwo hbo rfl (rwA.kp hx0.row.1 (sk.of (show sm S _ [200, 201] from ((sm.rf.uN 200 _ _ _ (by decide)).uN 201 _ _ _ (by decide))) (show ch Z _ [200, 201] from ((ch.rf.up 200 _ (by decide)).up 201 _ (by decide))) (by first | decide | (have := hah.1; have := haf.1; simp; omega)) (by first | decide | (have := hah.1; have := haf.1; simp; omega)))) (rwA.kp hx0.row.2 (sk.of (show sm S _ [200, 201] from ((sm.rf.uN 200 _ _ _ (by decide)).uN 201 _ _ _ (by decide))) (show ch Z _ [200, 201] from ((ch.rf.up 200 _ (by decide)).up 201 _ (by decide))) (by first | decide | (have := hah.1; have := haf.1; simp; omega)) (by first | decide | (have := hah.1; have := haf.1; simp; omega))))) (cwI 4 hC.ts (lw_meth q278) rfl rfl rfl (hC.ts _ q49) (hC.ts _ q276) (hC.ts _ q277) rfl (by decide +kernel) ⟨Nat.le_of_ble_eq_true rfl, Nat.le_of_ble_eq_true rfl⟩) (j_preS hC hX _) rfl rfl hl.1 rfl (Nat.le_of_ble_eq_true rfl) dX0_left_79 ⟨(Nat.le_of_ble_eq_true rfl), (Nat.le_of_ble_eq_true rfl)⟩) (fun g m23 H locs hp hle hX => ?_)
            obtain ⟨S2, Z2, hL, hp⟩ := hp
            obtain ⟨hq1, hq2, hq3, hq4, hq5, hq6, hq7⟩ := hp
            have e200 : zB S2 200 = n := (hq1 200 (by decide)).1
            have e201 : zB S2 201 = n + 1 := hq3
            have e0_ : zB S2 0 = zB S 0 := (hq1 0 (by decide)).1
            have hkx : xk S Z S2 Z2 := xk.of12 (sm.tr (show sm S _ [200, 201] from ((sm.rf.uN 200 _ _ _ (by decide)).uN 201 _ _ _ (by decide))) hq1 (by decide)) (ch.tr (show ch Z _ [200, 201] from ((ch.rf.up 200 _ (by decide)).up 201 _ (by decide))) hq2 (by decide)) hx0.T hx0.tb
            have hx2 := hx0.xk hI hkx
            rw [← e201, ← e200, ← e0_]
            rw [← e0_] at hl
            obtain ⟨⟨N5, hN5⟩, ⟨N9, hN9⟩⟩ := hx2.tb
            have hsu := suS_ok hI hwo.wh hbo hnn.2.2.2.1
            refine j_iconst hC (pc := 82) dX0_left_82 ?_
            refine j_callv (rest := [.ref (zB S2 200)]) hX (va_runI hC.fix (o_init1 D T N l hL _ _ _ N5 N9 hx2.T hq4 ((hq1 200 (by decide)).2.1) hq5 hsu.1 hN5 hN9 hq6 hnn.2.1 (by rw [hq2 200 (by decide)]; rfl) (by rw [hx2.n.2.2.2.1]; exact hnn.2.2.2.1) (fun y => (hsu.2.1 y).1)) (cwI 3 hC.ts (lw_meth q354) rfl rfl rfl (hC.ts _ q48) (hC.ts _ q352) (hC.ts _ q353) rfl (by decide +kernel) ⟨Nat.le_of_ble_eq_true rfl, Nat.le_of_ble_eq_true rfl⟩) (j_preS hC hX _) rfl rfl hl.1 rfl (Nat.le_of_ble_eq_true rfl) dX0_left_83 ⟨(Nat.le_of_ble_eq_true rfl), (Nat.le_of_ble_eq_true rfl)⟩) (fun g m26 H locs hp hle hX => ?_)
            obtain ⟨S3, Z3, hL, hp⟩ := hp
            obtain ⟨hkk, hno⟩ := nO_of (sl := slS F (suS F V (V 2) 0 (F 5))) hq5 rfl hkx hp
            have f200 : zB S3 200 = zB S2 200 := hp.2.1 200 (by decide) (by decide)
            have f0_ : zB S3 0 = zB S2 0 := hp.1.2.1.1
            have hx3 := hx0.xk hI hkk
            have h7_ := hno.b7
            rw [← f200]
            rw [← f0_] at hl
            refine lv_astore (lv' := [(5, .ref (zB S3 200)), (0, .ref (zB S3 0)), (1, .int (iI (sd))), (2, .int (iI (pl))), (3, .int (iI (li))), (4, .int (iI (u)))]) hx hb (pc := 86) dX0_left_86 hl (by decide) rfl (fun ls hl => ?_)
            refine lv_aload hx hb (pc := 88) dX0_left_88 (lv_at hl 0 rfl) ?_
            refine L_getN hC hX hL in_X5 (ci := 5) rfl (pc := 90) 200 (hno.1.o.k 200 rfl) 7 (by decide) q444 rfl (v := .int (iI (Z3 200 7))) rfl dX0_left_90 ?_
            refine j_if_eq hC (pc := 93) 104 dX0_left_93 (by decide) (by omega) (fun c28 => ?_) (fun c28 => ?_)
            · skip
              have hfi_ := hno.fine (by omega)
              refine lv_aload hx hb (pc := 104) dX0_left_104 (lv_at hl 0 rfl) ?_
              refine L_getrN hC hX hL in_X5 (ci := 5) rfl (pc := 106) 200 (hno.1.o.k 200 rfl) 5 (by decide) q440 rfl (q := zA S3 200 5) (b := zB S3 215) (hno.1.rowk (k := 0) (by decide)).1 rfl dX0_left_106 ?_
              refine lv_iload_n hx hb (pc := 109) dX0_left_109 rfl (lv_at hl 2 rfl) ?_
              refine j_if_ne hC (pc := 110) 117 dX0_left_110 (by decide) (by omega) (fun c29 => ?_) (fun c29 => ?_)
              · skip
                refine lv_aload_n hx hb (pc := 117) dX0_left_117 rfl (lv_at hl 1 rfl) ?_
                refine L_getr hC hX hL in_X0 (ci := 0) rfl (pc := 118) 0 hx3.T.2.2.1 2 (by decide) q150 rfl (q := zA S3 0 2) (b := zB S3 2) hx3.r2 rfl dX0_left_118 ?_
                refine j_iconst hC (pc := 121) dX0_left_121 ?_
                refine L_aald hC hX hL (pc := 122) 2 5 (hx3.sp.k 2 rfl) (by decide) rfl rfl (L := 2) (hx3.sp.n 2 rfl) (by decide) (by omega) (b := zB S3 3) hx3.e.1.1 dX0_left_122 ?_
                refine j_calli (rest := [.ref (zB S3 215)]) hX (va_runS hC.fix (x_manyOf D T N l hL _ 3 (hx3.sp.k 3 rfl) (hx3.sp.n 3 rfl) (hx3.rw15 N hI).1) (va_cwS 1 hC.ts (lw_S q249 q250 q40 q251) rfl rfl rfl (by decide +kernel) ⟨Nat.le_of_ble_eq_true rfl, Nat.le_of_ble_eq_true rfl⟩) (j_preS hC hX _) rfl rfl hl.1 rfl (Nat.le_of_ble_eq_true rfl) dX0_left_123 ⟨(Nat.le_of_ble_eq_true rfl), (Nat.le_of_ble_eq_true rfl)⟩) (fun r30 g m31 H locs hp hle hX => ?_)
                obtain ⟨hn_, Z_, hL, hS_, hp⟩ := hp
                rw [hn_] at hX
                rw [hS_] at hL
                have hm_ : r30 = cnR (V 2) := hp.trans (many3 hx3.row.1)
                refine lv_iload_n hx hb (pc := 126) dX0_left_126 rfl (lv_at hl 3 rfl) ?_
                refine j_iadd hC (pc := 127) dX0_left_127 ?_
                have hlf := lf_at hI (sd := sd) (pl := pl) (k := r30 + pl) (by omega) (by omega) hv_ (by omega)
                have hrk := hno.1.rowk (k := r30 + pl) ⟨hlf.1.1, hlf.1.2.2⟩
                have hac_ := hfi_.2.2.2.2.2 rfl (r30 + pl) hlf.1.1 (by rw [hno.2.1.1]; exact hlf.1.2.1) (2 * li + u) (by omega) (by omega)
                rw [hlf.2] at hac_
                refine L_aald hC hX hL (pc := 128) 215 6 hrk.2.1.1 (by decide) rfl rfl (L := 6) hrk.2.1.2 (by decide) (by omega) (b := zB S3 (216 + (r30 + pl).toNat)) hrk.2.2.1 dX0_left_128 ?_
                refine j_iconst hC (pc := 129) dX0_left_129 ?_
                refine lv_iload_n hx hb (pc := 130) dX0_left_130 rfl (lv_at hl 4 rfl) ?_
                refine j_imul hC (pc := 131) dX0_left_131 ?_
                refine lv_iload hx hb (pc := 132) dX0_left_132 (lv_at hl 5 rfl) ?_
                refine j_iadd hC (pc := 134) dX0_left_134 ?_
                refine L_lald hC hX hL (pc := 135) (216 + (r30 + pl).toNat) hrk.2.2.2.1 (L := 42) hrk.2.2.2.2 (by decide) (by omega) (z := (Z3 (216 + (r30 + pl).toNat)) ((2 * li) + u)) (by first | rfl | (repeat rw [va_up_ne _ _ (by omega)])) dX0_left_135 ?_
                subst hQ
                exact j_lret hC (pc := 136) hX hr hlk (Nat.le_of_ble_eq_true rfl) (Nat.le_of_ble_eq_true rfl) dX0_left_136 ⟨_, _, hL, ⟨by show _ = (op_left F V sd pl li u).1; unfold op_left; rw [if_pos ⟨by omega, by omega, by omega, by omega, hv_⟩, if_neg (by rw [show wideI (suN F V) (slS F (suN F V)) = 0 from hfi_.1]; decide)]; rw [hac_]; exact congrArg (resZ (suN F V) (slS F (suN F V)) z3).2.2 (show 42 * (3 * sd + pl) + (2 * li + u) = 42 * (3 * sd + pl) + 2 * li + u by omega), (fun k hk => hkk.1 k (Or.inr hk) (by simp; omega)), hx3⟩⟩
              · skip
                refine j_iconst hC (pc := 113) dX0_left_113 ?_
                refine j_goto hC (pc := 114) 126 dX0_left_114 (by decide) ?_
                refine lv_iload_n hx hb (pc := 126) dX0_left_126 rfl (lv_at hl 3 rfl) ?_
                refine j_iadd hC (pc := 127) dX0_left_127 ?_
                have hlf := lf_at hI (sd := sd) (pl := pl) (k := 0 + pl) (by omega) (by omega) hv_ (by omega)
                have hrk := hno.1.rowk (k := 0 + pl) ⟨hlf.1.1, hlf.1.2.2⟩
                have hac_ := hfi_.2.2.2.2.2 rfl (0 + pl) hlf.1.1 (by rw [hno.2.1.1]; exact hlf.1.2.1) (2 * li + u) (by omega) (by omega)
                rw [hlf.2] at hac_
                refine L_aald hC hX hL (pc := 128) 215 6 hrk.2.1.1 (by decide) rfl rfl (L := 6) hrk.2.1.2 (by decide) (by omega) (b := zB S3 (216 + (0 + pl).toNat)) hrk.2.2.1 dX0_left_128 ?_
                refine j_iconst hC (pc := 129) dX0_left_129 ?_
                refine lv_iload_n hx hb (pc := 130) dX0_left_130 rfl (lv_at hl 4 rfl) ?_
                refine j_imul hC (pc := 131) dX0_left_131 ?_
                refine lv_iload hx hb (pc := 132) dX0_left_132 (lv_at hl 5 rfl) ?_
                refine j_iadd hC (pc := 134) dX0_left_134 ?_
                refine L_lald hC hX hL (pc := 135) (216 + (0 + pl).toNat) hrk.2.2.2.1 (L := 42) hrk.2.2.2.2 (by decide) (by omega) (z := (Z3 (216 + (0 + pl).toNat)) ((2 * li) + u)) (by first | rfl | (repeat rw [va_up_ne _ _ (by omega)])) dX0_left_135 ?_
                subst hQ
                exact j_lret hC (pc := 136) hX hr hlk (Nat.le_of_ble_eq_true rfl) (Nat.le_of_ble_eq_true rfl) dX0_left_136 ⟨_, _, hL, ⟨by show _ = (op_left F V sd pl li u).1; unfold op_left; rw [if_pos ⟨by omega, by omega, by omega, by omega, hv_⟩, if_neg (by rw [show wideI (suN F V) (slS F (suN F V)) = 0 from hfi_.1]; decide)]; rw [hac_]; exact congrArg (resZ (suN F V) (slS F (suN F V)) z3).2.2 (show 42 * (3 * sd + pl) + (2 * li + u) = 42 * (3 * sd + pl) + 2 * li + u by omega), (fun k hk => hkk.1 k (Or.inr hk) (by simp; omega)), hx3⟩⟩
            · skip
              have hwi_ := hno.wide (by omega)
              refine j_bipush hC (pc := 96) dX0_left_96 (by decide) ?_
              refine j_calll (rest := []) hX (va_runS hC.fix (f0_no D T N l (-5) (by omega) _ _) (va_cwS 1 hC.ts (lw_S q465 q466 q40 q467) rfl rfl rfl (by decide +kernel) ⟨Nat.le_of_ble_eq_true rfl, Nat.le_of_ble_eq_true rfl⟩) (j_preS hC hX _) rfl rfl hl.1 rfl (Nat.le_of_ble_eq_true rfl) dX0_left_98 ⟨(Nat.le_of_ble_eq_true rfl), (Nat.le_of_ble_eq_true rfl)⟩) (fun r33 g m34 H locs hp hle hX => ?_)
              obtain ⟨hn_, hg_, hp⟩ := hp
              rw [hn_, hg_] at hX
              refine j_goto hC (pc := 101) 136 dX0_left_101 (by decide) ?_
              subst hQ
              exact j_lret hC (pc := 136) hX hr hlk (Nat.le_of_ble_eq_true rfl) (Nat.le_of_ble_eq_true rfl) dX0_left_136 ⟨_, _, hL, ⟨by show _ = (op_left F V sd pl li u).1; unfold op_left; rw [if_pos ⟨by omega, by omega, by omega, by omega, hv_⟩, if_pos (show wideI (suN F V) (slS F (suN F V)) = 1 from hwi_)]; exact hp, (fun k hk => hkk.1 k (Or.inr hk) (by simp; omega)), hx3⟩⟩
          · skip
            refine j_bipush hC (pc := 50) dX0_left_50 (by decide) ?_
            refine j_calll (rest := []) hX (va_runS hC.fix (f0_no D T N l (-2) (by omega) _ _) (va_cwS 1 hC.ts (lw_S q465 q466 q40 q467) rfl rfl rfl (by decide +kernel) ⟨Nat.le_of_ble_eq_true rfl, Nat.le_of_ble_eq_true rfl⟩) (j_preS hC hX _) rfl rfl hl.1 rfl (Nat.le_of_ble_eq_true rfl) dX0_left_52 ⟨(Nat.le_of_ble_eq_true rfl), (Nat.le_of_ble_eq_true rfl)⟩) (fun r35 g m36 H locs hp hle hX => ?_)
            obtain ⟨hn_, hg_, hp⟩ := hp
            rw [hn_, hg_] at hX
            subst hQ
            exact j_lret hC (pc := 55) hX hr hlk (Nat.le_of_ble_eq_true rfl) (Nat.le_of_ble_eq_true rfl) dX0_left_55 ⟨_, _, hL, ⟨by show _ = (op_left F V sd pl li u).1; unfold op_left; rw [if_neg (by first | omega | (intro z_; exact z_.2.2.2.2 (by have := z_.1; omega)))]; exact hp, (fun k hk => sk.rf), hx0⟩⟩
