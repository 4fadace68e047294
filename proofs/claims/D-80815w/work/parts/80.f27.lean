/-! FairFight: lay -/
set_option maxHeartbeats 4000000 in
set_option maxRecDepth 100000 in
theorem f0_lay0 (D : va_G) (T N : Nat → Nat) (l : Launch) {g0 : GH} {S : LbS} {Z : Nat → Int → Int} (hL : lR T g0 S Z) (n : Nat) (i : Int) (L : Nat) (k v : Int) (hk : zK S (28 + i.toNat) = 4) (hn : zN S (28 + i.toNat) = L) (hi_ : 0 ≤ k ∧ k < L) (hL60 : L ≤ 60) : Met l yX0_lay (ws_ yX0_lay cX0_lay 4 none) ({ frames := 0, cells := 0, slots := 0, locals := 0 } : Room) (gPc D T N [.ref (zB S (28 + i.toNat)), .int (iI (0)), .int (iI (k)), .int (iI (v))] g0 n) (gQv D g0 n (fun g' n' => n' = n ∧ ∃ Z', lR T g' S Z' ∧ Z' = va_up Z (28 + i.toNat) (uI (Z (28 + i.toNat)) k (layF 0 v)))) 0 0 (gA g0 n) := by
  refine j_start (by decide) (Nat.le_of_ble_eq_true rfl) ?_
  intro p e s mi args below meth c hC hr hlk hnm hX ls hl
  have hC : Ct D T N (gA g0 n) p s mi args c cX0_lay RX0 4 := hC
  have hx := hC.x
  have hb := hC.b
  generalize hQ : MQ below _ args s 0 0 (gA g0 n) = Q
  have hl : lv_has ls 4 [(0, .ref (zB S (28 + i.toNat))), (1, .int (iI (0))), (2, .int (iI (k))), (3, .int (iI (v)))] := hl
  refine lv_iload_n hx hb (pc := 0) dX0_lay_0 rfl (lv_at hl 1 rfl) ?_
  refine lv_lookup (off := 27) (tgt := 28) hx hb (pc := 1) dX0_lay_1 (by decide) (by decide +kernel) (by decide) ?_
  refine lv_aload_n hx hb (pc := 28) dX0_lay_28 rfl (lv_at hl 0 rfl) ?_
  refine j_cast hC (pc := 29) q771 (hasC_ai hC hX (hL.ai (28 + i.toNat) (t := 3) hk (by decide) rfl) (nm_B hC)) dX0_lay_29 ?_
  refine lv_iload_n hx hb (pc := 32) dX0_lay_32 rfl (lv_at hl 2 rfl) ?_
  refine lv_iload_n hx hb (pc := 33) dX0_lay_33 rfl (lv_at hl 3 rfl) ?_
  refine j_i2b hC (pc := 34) dX0_lay_34 ?_
  refine L_bast hC hX hL (pc := 35) (28 + i.toNat) hk (L := L) hn (by omega) hi_ (nar_b v) dX0_lay_35 (fun g H locs hX hL => ?_)
  refine j_goto hC (pc := 36) 57 dX0_lay_36 (by decide) ?_
  subst hQ
  exact j_vret hC (pc := 57) hX hr hlk (Nat.le_of_ble_eq_true rfl) (Nat.le_of_ble_eq_true rfl) dX0_lay_57 ⟨rfl, _, hL, rfl⟩

set_option maxHeartbeats 4000000 in
set_option maxRecDepth 100000 in
theorem f0_lay1 (D : va_G) (T N : Nat → Nat) (l : Launch) {g0 : GH} {S : LbS} {Z : Nat → Int → Int} (hL : lR T g0 S Z) (n : Nat) (i : Int) (L : Nat) (k v : Int) (hk : zK S (28 + i.toNat) = 5) (hn : zN S (28 + i.toNat) = L) (hi_ : 0 ≤ k ∧ k < L) (hL60 : L ≤ 60) : Met l yX0_lay (ws_ yX0_lay cX0_lay 4 none) ({ frames := 0, cells := 0, slots := 0, locals := 0 } : Room) (gPc D T N [.ref (zB S (28 + i.toNat)), .int (iI (1)), .int (iI (k)), .int (iI (v))] g0 n) (gQv D g0 n (fun g' n' => n' = n ∧ ∃ Z', lR T g' S Z' ∧ Z' = va_up Z (28 + i.toNat) (uI (Z (28 + i.toNat)) k (layF 1 v)))) 0 0 (gA g0 n) := by
  refine j_start (by decide) (Nat.le_of_ble_eq_true rfl) ?_
  intro p e s mi args below meth c hC hr hlk hnm hX ls hl
  have hC : Ct D T N (gA g0 n) p s mi args c cX0_lay RX0 4 := hC
  have hx := hC.x
  have hb := hC.b
  generalize hQ : MQ below _ args s 0 0 (gA g0 n) = Q
  have hl : lv_has ls 4 [(0, .ref (zB S (28 + i.toNat))), (1, .int (iI (1))), (2, .int (iI (k))), (3, .int (iI (v)))] := hl
  refine lv_iload_n hx hb (pc := 0) dX0_lay_0 rfl (lv_at hl 1 rfl) ?_
  refine lv_lookup (off := 38) (tgt := 39) hx hb (pc := 1) dX0_lay_1 (by decide) (by decide +kernel) (by decide) ?_
  refine lv_aload_n hx hb (pc := 39) dX0_lay_39 rfl (lv_at hl 0 rfl) ?_
  refine j_cast hC (pc := 40) q772 (hasC_ai hC hX (hL.ai (28 + i.toNat) (t := 4) hk (by decide) rfl) (nm_S hC)) dX0_lay_40 ?_
  refine lv_iload_n hx hb (pc := 43) dX0_lay_43 rfl (lv_at hl 2 rfl) ?_
  refine lv_iload_n hx hb (pc := 44) dX0_lay_44 rfl (lv_at hl 3 rfl) ?_
  refine j_i2s hC (pc := 45) dX0_lay_45 ?_
  refine L_sast hC hX hL (pc := 46) (28 + i.toNat) hk (L := L) hn (by omega) hi_ (nar_s v) dX0_lay_46 (fun g H locs hX hL => ?_)
  refine j_goto hC (pc := 47) 57 dX0_lay_47 (by decide) ?_
  subst hQ
  exact j_vret hC (pc := 57) hX hr hlk (Nat.le_of_ble_eq_true rfl) (Nat.le_of_ble_eq_true rfl) dX0_lay_57 ⟨rfl, _, hL, rfl⟩

set_option maxHeartbeats 4000000 in
set_option maxRecDepth 100000 in
theorem f0_lay2 (D : va_G) (T N : Nat → Nat) (l : Launch) {g0 : GH} {S : LbS} {Z : Nat → Int → Int} (hL : lR T g0 S Z) (n : Nat) (i : Int) (L : Nat) (k v : Int) (hk : zK S (28 + i.toNat) = 1) (hn : zN S (28 + i.toNat) = L) (hi_ : 0 ≤ k ∧ k < L) (hL60 : L ≤ 60) : Met l yX0_lay (ws_ yX0_lay cX0_lay 4 none) ({ frames := 0, cells := 0, slots := 0, locals := 0 } : Room) (gPc D T N [.ref (zB S (28 + i.toNat)), .int (iI (2)), .int (iI (k)), .int (iI (v))] g0 n) (gQv D g0 n (fun g' n' => n' = n ∧ ∃ Z', lR T g' S Z' ∧ Z' = va_up Z (28 + i.toNat) (uI (Z (28 + i.toNat)) k (layF 2 v)))) 0 0 (gA g0 n) := by
  refine j_start (by decide) (Nat.le_of_ble_eq_true rfl) ?_
  intro p e s mi args below meth c hC hr hlk hnm hX ls hl
  have hC : Ct D T N (gA g0 n) p s mi args c cX0_lay RX0 4 := hC
  have hx := hC.x
  have hb := hC.b
  generalize hQ : MQ below _ args s 0 0 (gA g0 n) = Q
  have hl : lv_has ls 4 [(0, .ref (zB S (28 + i.toNat))), (1, .int (iI (2))), (2, .int (iI (k))), (3, .int (iI (v)))] := hl
  refine lv_iload_n hx hb (pc := 0) dX0_lay_0 rfl (lv_at hl 1 rfl) ?_
  refine lv_lookup (off := 49) (tgt := 50) hx hb (pc := 1) dX0_lay_1 (by decide) (by decide +kernel) (by decide) ?_
  refine lv_aload_n hx hb (pc := 50) dX0_lay_50 rfl (lv_at hl 0 rfl) ?_
  refine j_cast hC (pc := 51) q78 (hasC_ai hC hX (hL.ai (28 + i.toNat) (t := 0) hk (by decide) rfl) (nm_I hC)) dX0_lay_51 ?_
  refine lv_iload_n hx hb (pc := 54) dX0_lay_54 rfl (lv_at hl 2 rfl) ?_
  refine lv_iload_n hx hb (pc := 55) dX0_lay_55 rfl (lv_at hl 3 rfl) ?_
  refine L_iast hC hX hL (pc := 56) (28 + i.toNat) hk (L := L) hn (by omega) (by omega) (f := uI (Z (28 + i.toNat)) k v) (by first | rfl | (repeat rw [va_up_ne _ _ (by omega)])) dX0_lay_56 (fun g H locs hX hL => ?_)
  subst hQ
  exact j_vret hC (pc := 57) hX hr hlk (Nat.le_of_ble_eq_true rfl) (Nat.le_of_ble_eq_true rfl) dX0_lay_57 ⟨rfl, _, hL, rfl⟩
