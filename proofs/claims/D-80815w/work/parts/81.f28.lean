/-! FairFight: shake -/
section SHK
variable {N : Nat → Nat} {x : Nat} {S : LbS} {Z Z' : Nat → Int → Int} {F : Nat → Int} {V : Nat → Int → Int}
theorem shakeF_n {f : Int → Int} {o v : Int} : ∀ {k : Nat} {j : Int}, (j < o ∨ o + k ≤ j) → shakeF f o v k j = f j
  | 0, _, _ => rfl
  | k + 1, j, h => by
    show uI (shakeF f o v k) (o + k) _ j = _
    rw [uI_n _ _ (by omega)]
    exact shakeF_n (by omega)
/-- the items of a sheet's row anew -/
theorem xRel.itm (h : xRel N x S Z F V) (hI : SI F V) {i : Int} (hi : 0 ≤ i ∧ i < 4) (h0 : 0 ≤ V 23 i) (hc : ch Z Z' [28 + i.toNat]) {e : Int → Int} (he : ∀ k : Int, 0 ≤ k → k < V 24 i → Z' (28 + i.toNat) k = e (60 * i + k)) (hn : ∀ j k : Int, 0 ≤ j → j < 4 → j ≠ i → 0 ≤ k → k < V 24 j → e (60 * j + k) = V 25 (60 * j + k)) : xRel N x S Z' F (va_up V 25 e) := by
  have hz : ∀ k, k ≠ 28 + i.toNat → Z' k = Z k := fun k q => hc k (by simp; exact q)
  obtain ⟨h1, h2, h3, h4, h5, h6⟩ : 0 ≤ V 23 i ∧ Z (20 + i.toNat) 0 = V 23 i ∧ zA S (20 + i.toNat) 1 = some (zB S (28 + i.toNat)) ∧ zK S (28 + i.toNat) = shKd (V 23 i) ∧ (zN S (28 + i.toNat) : Int) = V 24 i ∧ ∀ k : Int, 0 ≤ k → k < V 24 i → Z (28 + i.toNat) k = V 25 (60 * i + k) := by
    rcases h.sh i hi.1 hi.2 with q | q
    · omega
    · exact q
  have hw := h.shW (S' := S) (Z' := Z') hI hi (f := V 23) (g := V 24) (e := e) (fun k _ _ q => ⟨rfl, rfl, rfl, rfl, hz k q⟩) ⟨rfl, rfl, rfl⟩ (fun j y1 y2 y3 => ⟨rfl, rfl, fun k a b => hn j k y1 y2 y3 a b⟩) (Or.inr ⟨h1, by rw [hz (20 + i.toNat) (by omega)]; exact h2, h3, h4, h5, he⟩)
  rw [show va_up (va_up (va_up V 23 (V 23)) 24 (V 24)) 25 e = va_up V 25 e from by rw [up_id, up_id]] at hw
  exact hw
end SHK

theorem lay_face {fm w : Int} (h : fm = 0 ∨ fm = 1 ∨ fm = 2) : layF fm (1 + (1103515245 * w + 12345) % 4294967296 / 65536 % 6) = faceF (1103515245 * w + 12345) := by
  have hr : 1 ≤ faceF (1103515245 * w + 12345) ∧ faceF (1103515245 * w + 12345) ≤ 6 := by unfold faceF; omega
  show layF fm (faceF (1103515245 * w + 12345)) = _
  obtain ⟨z, hz⟩ : ∃ z, faceF (1103515245 * w + 12345) = z := ⟨_, rfl⟩
  rw [hz] at hr ⊢
  have : z = 1 ∨ z = 2 ∨ z = 3 ∨ z = 4 ∨ z = 5 ∨ z = 6 := by omega
  rcases this with rfl | rfl | rfl | rfl | rfl | rfl <;> rcases h with rfl | rfl | rfl <;> decide

set_option maxHeartbeats 8000000 in
set_option maxRecDepth 100000 in
theorem f0_shake (D : va_G) (T N : Nat → Nat) (l : Launch) {g0 : GH} {S : LbS} {Z : Nat → Int → Int} (hL : lR T g0 S Z) (n : Nat) (x : Nat) (F : Nat → Int) (V : Nat → Int → Int) (v y : Int) (hx0 : xRel N x S Z F V) (hI : SI F V) (hg : (-2147483648 ≤ v ∧ v ≤ 2147483647) ∧ (-2147483648 ≤ y ∧ y ≤ 2147483647)) : Met l yX0_shake (ws_ yX0_shake cX0_shake 6 (some .int)) ({ frames := 2, cells := 0, slots := 0, locals := 42 } : Room) (gPc D T N [.ref (zB S 0), .int (iI (v)), .int (iI (y))] g0 n) (gQi D g0 n (fun r g' n' => ∃ S' Z', lR T g' S' Z' ∧ xP N x S Z (op_shake F V v y) r S' Z')) 0 0 (gA g0 n) := by
  refine j_start (by decide) (Nat.le_of_ble_eq_true rfl) ?_
  intro p e s mi args below meth c hC hr hlk hnm hX ls hl
  have hC : Ct D T N (gA g0 n) p s mi args c cX0_shake RX0 6 := hC
  have hx := hC.x
  have hb := hC.b
  generalize hQ : MQ below _ args s 0 0 (gA g0 n) = Q
  have hl : lv_has ls 6 [(0, .ref (zB S 0)), (1, .int (iI (v))), (2, .int (iI (y)))] := hl
  have hnn := hI.nums
  have hxn := hx0.n
  refine lv_iload_n hx hb (pc := 0) dX0_shake_0 rfl (lv_at hl 1 rfl) ?_
  refine j_calli (rest := []) hX (va_runS hC.fix (f0_isSheet D T N l v (by omega) _ _) (va_cwS 1 hC.ts (lw_S q759 q760 q40 q761) rfl rfl rfl (by decide +kernel) ⟨Nat.le_of_ble_eq_true rfl, Nat.le_of_ble_eq_true rfl⟩) (j_preS hC hX _) rfl rfl hl.1 rfl (Nat.le_of_ble_eq_true rfl) dX0_shake_1 ⟨(Nat.le_of_ble_eq_true rfl), (Nat.le_of_ble_eq_true rfl)⟩) (fun r1 g m2 H locs hp hle hX => ?_)
  obtain ⟨hn_, hg_, hp⟩ := hp
  rw [hn_, hg_] at hX
  have hq_r1 := inF_of hp
  refine j_if_ne hC (pc := 4) 10 dX0_shake_4 (by decide) (by omega) (fun c3 => ?_) (fun c3 => ?_)
  · skip
    have h23_ := hI.i23 (i := v) (by omega)
    refine lv_aload_n hx hb (pc := 10) dX0_shake_10 rfl (lv_at hl 0 rfl) ?_
    refine L_getr hC hX hL in_X0 (ci := 0) rfl (pc := 11) 0 hx0.T.2.2.1 16 (by decide) q169 rfl (q := zA S 0 16) (b := zB S 19) hx0.r16 rfl dX0_shake_11 ?_
    refine lv_iload_n hx hb (pc := 14) dX0_shake_14 rfl (lv_at hl 1 rfl) ?_
    refine L_aald hC hX hL (pc := 15) 19 8 (hx0.sp.k 19 rfl) (by decide) rfl rfl (L := 4) (hx0.sp.n 19 rfl) (by decide) (by omega) (b := zB S (20 + v.toNat)) (hx0.sheet (by omega)) dX0_shake_15 ?_
    rcases hx0.sh v (by omega) (by omega) with ⟨hn0, hnl⟩ | ⟨h0_, hfm, hrw, hkd, hln, hvl⟩
    · skip
      refine lv_astore_n (lv' := [(3, .ref (zB S (20 + v.toNat))), (0, .ref (zB S 0)), (1, .int (iI (v))), (2, .int (iI (y)))]) hx hb (pc := 16) dX0_shake_16 rfl hl (by decide) rfl (fun ls hl => ?_)
      refine lv_aload_n hx hb (pc := 17) dX0_shake_17 rfl (lv_at hl 0 rfl) ?_
      refine L_getN hC hX hL in_X2 (ci := 2) rfl (pc := 18) (20 + v.toNat) (hx0.skn (by omega)) 1 (by decide) q141 rfl (v := .null) (congrArg (fun q => some (va_rf q)) hnl) dX0_shake_18 ?_
      refine lv_ifnonnullN hx hb (pc := 21) dX0_shake_21 ?_
      refine lv_aload_n hx hb (pc := 24) dX0_shake_24 rfl (lv_at hl 1 rfl) ?_
      refine j_iconst hC (pc := 25) dX0_shake_25 ?_
      refine j_calli (rest := []) hX (va_runV hC.fix (f0_meets D T N l hL _ _ _ _ 1 hx0 hI (by decide)) (cwV 1 hC.ts (lw_V q762 q764 qs15 q40 q765) rfl rfl rfl (by decide +kernel) ⟨Nat.le_of_ble_eq_true rfl, Nat.le_of_ble_eq_true rfl⟩) (j_preV hC hX (hL.ob 0 hx0.T.2.2.1) (ci := 0) (r := (RX0, TX0, 18)) rfl _) rfl rfl hl.1 rfl (Nat.le_of_ble_eq_true rfl) dX0_shake_26 ⟨(Nat.le_of_ble_eq_true rfl), (Nat.le_of_ble_eq_true rfl)⟩) (fun r4 g m5 H locs hp hle hX => ?_)
      obtain ⟨hn_, Z3, hL, hp⟩ := hp
      rw [hn_] at hX
      subst hQ
      exact j_iret hC (pc := 29) hX hr hlk (Nat.le_of_ble_eq_true rfl) (Nat.le_of_ble_eq_true rfl) dX0_shake_29 ⟨_, _, hL, ⟨by show _ = (op_shake F V v y).1; unfold op_shake; rw [if_pos (by omega), if_pos hn0]; exact hp.2.1, (fun k hk => by rw [hp.1]; exact sk.up (by omega)), by show xRel N x S Z3 (op_shake F V v y).2.1 (op_shake F V v y).2.2; unfold op_shake; rw [if_pos (by omega), if_pos hn0]; exact hp.2.2⟩⟩
    · skip
      refine lv_astore_n (lv' := [(3, .ref (zB S (20 + v.toNat))), (0, .ref (zB S 0)), (1, .int (iI (v))), (2, .int (iI (y)))]) hx hb (pc := 16) dX0_shake_16 rfl hl (by decide) rfl (fun ls hl => ?_)
      refine lv_aload_n hx hb (pc := 17) dX0_shake_17 rfl (lv_at hl 0 rfl) ?_
      refine L_getrN hC hX hL in_X2 (ci := 2) rfl (pc := 18) (20 + v.toNat) (hx0.skn (by omega)) 1 (by decide) q141 rfl (q := zA S (20 + v.toNat) 1) (b := zB S (28 + v.toNat)) hrw rfl dX0_shake_18 ?_
      refine lv_ifnonnull (tgt := 30) hx hb (pc := 21) dX0_shake_21 (by decide) ?_
      refine lv_iload_n hx hb (pc := 30) dX0_shake_30 rfl (lv_at hl 3 rfl) ?_
      refine lv_istore (lv' := [(4, .int (iI (y))), (3, .ref (zB S (20 + v.toNat))), (0, .ref (zB S 0)), (1, .int (iI (v))), (2, .int (iI (y)))]) hx hb (pc := 31) dX0_shake_31 hl (by decide) rfl (fun ls hl => ?_)
      rcases (show V 23 v = 0 ∨ V 23 v = 1 ∨ V 23 v = 2 by omega) with hf3 | hf3 | hf3
      · skip
        refine j_iconst hC (pc := 33) dX0_shake_33 ?_
        refine lv_istore (lv' := [(5, .int (iI (0))), (4, .int (iI (y))), (3, .ref (zB S (20 + v.toNat))), (0, .ref (zB S 0)), (1, .int (iI (v))), (2, .int (iI (y)))]) hx hb (pc := 34) dX0_shake_34 hl (by decide) rfl (fun ls hl => ?_)
        have L36 : ∀ (fu : Nat) (j : Int) (z : Int) (g : GH) (Z1 : Nat → Int → Int), V 24 v - j < (fu : Int) → (0 ≤ j ∧ j ≤ V 24 v) → (z = seedF y j.toNat) → (ch Z Z1 [28 + v.toNat]) → (∀ k : Int, 0 ≤ k → k < V 24 v → Z1 (28 + v.toNat) k = shakeF (V 25) (60 * v) y j.toNat (60 * v + k)) → ∀ (H : Heap) (locs : List Loc), Wd D (gA g0 n) s g n H locs → lR T g S Z1 → ∀ (ls : Array Slot), lv_has ls 6 [(5, .int (iI (j))), (4, .int (iI (z))), (3, .ref (zB S (20 + v.toNat))), (0, .ref (zB S 0)), (1, .int (iI (v))), (2, .int (iI (y)))] → W p l e ({ frames := 2, cells := 0, slots := 0, locals := 42 } : Room) s mi args below meth c H locs 0 0 Q (F0 mi 36 ls []) := by
          intro fu
          induction fu with
          | zero =>
            intro j z g Z1 hfu hj hz hc hrow H locs hX hL ls hl
            exfalso
            omega
          | succ fu ih36 =>
            intro j z g Z1 hfu hj hz hc hrow H locs hX hL ls hl
            have e20_ : Z1 (20 + v.toNat) 0 = Z (20 + v.toNat) 0 := congrFun (hc _ (by simp)) 0
            refine lv_iload hx hb (pc := 36) dX0_shake_36 (lv_at hl 0 rfl) ?_
            refine lv_aload_n hx hb (pc := 38) dX0_shake_38 rfl (lv_at hl 2 rfl) ?_
            refine j_calli (rest := [.int (iI (j))]) hX (va_runV hC.fix (s_size D T N l hL _ v _ (hx0.skn (by omega)) (by rw [e20_, hfm]; omega) hrw (by rw [e20_, hfm]; exact hkd) rfl (by omega)) (cwV 0 hC.ts (lw_V q804 q805 q806 q45 q807) rfl rfl rfl (by decide +kernel) ⟨Nat.le_of_ble_eq_true rfl, Nat.le_of_ble_eq_true rfl⟩) (j_preV hC hX (hL.ob (20 + v.toNat) (hx0.skn (by omega))) (ci := 2) (r := (RX2, TX2, 2)) rfl _) rfl rfl hl.1 rfl (Nat.le_of_ble_eq_true rfl) dX0_shake_39 ⟨(Nat.le_of_ble_eq_true rfl), (Nat.le_of_ble_eq_true rfl)⟩) (fun r7 g m8 H locs hp hle hX => ?_)
            obtain ⟨hn_, Z_, hL, hS_, hp⟩ := hp
            rw [hn_] at hX
            rw [hS_] at hL
            have hsz_ : r7 = V 24 v := hp.trans hln
            refine j_icmp_ge hC (pc := 42) 86 dX0_shake_42 (by decide) (by omega) (fun c10 => ?_) (fun c10 => ?_)
            · skip
              refine lv_aload_n hx hb (pc := 86) dX0_shake_86 rfl (lv_at hl 2 rfl) ?_
              refine j_calli (rest := []) hX (va_runV hC.fix (s_size D T N l hL _ v _ (hx0.skn (by omega)) (by rw [e20_, hfm]; omega) hrw (by rw [e20_, hfm]; exact hkd) rfl (by omega)) (cwV 0 hC.ts (lw_V q804 q805 q806 q45 q807) rfl rfl rfl (by decide +kernel) ⟨Nat.le_of_ble_eq_true rfl, Nat.le_of_ble_eq_true rfl⟩) (j_preV hC hX (hL.ob (20 + v.toNat) (hx0.skn (by omega))) (ci := 2) (r := (RX2, TX2, 2)) rfl _) rfl rfl hl.1 rfl (Nat.le_of_ble_eq_true rfl) dX0_shake_87 ⟨(Nat.le_of_ble_eq_true rfl), (Nat.le_of_ble_eq_true rfl)⟩) (fun r11 g m12 H locs hp hle hX => ?_)
              obtain ⟨hn_, Z_, hL, hS_, hp⟩ := hp
              rw [hn_] at hX
              rw [hS_] at hL
              have hsz_ : r11 = V 24 v := hp.trans hln
              subst hQ
              exact j_iret hC (pc := 90) hX hr hlk (Nat.le_of_ble_eq_true rfl) (Nat.le_of_ble_eq_true rfl) dX0_shake_90 ⟨_, _, hL, ⟨by show _ = (op_shake F V v y).1; unfold op_shake; rw [if_pos (by omega), if_neg (by omega)]; exact hp.trans hln, (fun k hk => sk.c hc (by simp; omega)), by show xRel N x _ _ (op_shake F V v y).2.1 (op_shake F V v y).2.2; unfold op_shake; rw [if_pos (by omega), if_neg (by omega)]; exact hx0.itm hI (by omega) h0_ hc (fun k a b => by rw [hrow k a b, show j.toNat = (V 24 v).toNat by omega]) (fun j2 k a b c_ d e_ => by have := hI.i23 (i := j2) (by omega); exact shakeF_n (by omega))⟩⟩
            · skip
              refine j_ldc_w hC (pc := 45) (z := 1103515245) q870 dX0_shake_45 rfl ?_
              refine lv_iload hx hb (pc := 48) dX0_shake_48 (lv_at hl 1 rfl) ?_
              refine j_imul hC (pc := 50) dX0_shake_50 ?_
              refine j_sipush hC (pc := 51) dX0_shake_51 (by decide) ?_
              refine j_iadd hC (pc := 54) dX0_shake_54 ?_
              refine lv_istore (lv' := [(4, .int (iI ((1103515245 * z) + 12345))), (5, .int (iI (j))), (3, .ref (zB S (20 + v.toNat))), (0, .ref (zB S 0)), (1, .int (iI (v))), (2, .int (iI (y)))]) hx hb (pc := 55) dX0_shake_55 hl (by decide) rfl (fun ls hl => ?_)
              refine lv_aload_n hx hb (pc := 57) dX0_shake_57 rfl (lv_at hl 2 rfl) ?_
              refine L_getrN hC hX hL in_X2 (ci := 2) rfl (pc := 58) (20 + v.toNat) (hx0.skn (by omega)) 1 (by decide) q141 rfl (q := zA S (20 + v.toNat) 1) (b := zB S (28 + v.toNat)) hrw rfl dX0_shake_58 ?_
              refine lv_aload_n hx hb (pc := 61) dX0_shake_61 rfl (lv_at hl 2 rfl) ?_
              refine L_getN hC hX hL in_X2 (ci := 2) rfl (pc := 62) (20 + v.toNat) (hx0.skn (by omega)) 0 (by decide) q139 rfl (v := .int (iI (Z1 (20 + v.toNat) 0))) rfl dX0_shake_62 ?_
              refine j_eqi (b := 0) (by rw [e20_, hfm]; exact hf3) ?_
              refine lv_iload hx hb (pc := 65) dX0_shake_65 (lv_at hl 1 rfl) ?_
              refine j_iconst hC (pc := 67) dX0_shake_67 ?_
              refine lv_iload hx hb (pc := 68) dX0_shake_68 (lv_at hl 0 rfl) ?_
              refine j_bipush hC (pc := 70) dX0_shake_70 (by decide) ?_
              refine j_iushr16 hC (pc := 72) dX0_shake_72 ?_
              refine j_bipush hC (pc := 73) dX0_shake_73 (by decide) ?_
              refine j_irem hC (pc := 75) dX0_shake_75 (by omega) ?_
              refine j_iadd hC (pc := 76) dX0_shake_76 ?_
              refine j_callv (rest := []) hX (va_runS hC.fix (f0_lay0 D T N l hL _ v _ j (1 + ((((1103515245 * z) + 12345) % 4294967296 / 65536) % 6)) (hkd.trans (by rw [hf3]; rfl)) rfl (by omega) (by omega)) (va_cwS 4 hC.ts (lw_S q854 q855 q40 q856) rfl rfl rfl (by decide +kernel) ⟨Nat.le_of_ble_eq_true rfl, Nat.le_of_ble_eq_true rfl⟩) (j_preS hC hX _) rfl rfl hl.1 rfl (Nat.le_of_ble_eq_true rfl) dX0_shake_77 ⟨(Nat.le_of_ble_eq_true rfl), (Nat.le_of_ble_eq_true rfl)⟩) (fun g m15 H locs hp hle hX => ?_)
              obtain ⟨hn_, Z16, hL, hp⟩ := hp
              rw [hn_] at hX
              rw [hp] at hL
              refine j_iinc hC (pc := 80) (lv' := [(5, .int (iI (j + 1))), (4, .int (iI ((1103515245 * z) + 12345))), (3, .ref (zB S (20 + v.toNat))), (0, .ref (zB S 0)), (1, .int (iI (v))), (2, .int (iI (y)))]) dX0_shake_80 hl (k := 1) rfl (by decide) rfl (fun ls hl => ?_)
              refine j_goto hC (pc := 83) 36 dX0_shake_83 (by decide) ?_
              exact ih36 (j + 1) ((1103515245 * z) + 12345) _ _ (by omega) (by omega) (by rw [show (j + 1).toNat = j.toNat + 1 by omega, hz]; rfl) (by exact hc.up _ _ (by simp)) (by exact (fun k a b => by show va_up Z1 (28 + v.toNat) _ (28 + v.toNat) k = _; rw [va_up_self, show (j + 1).toNat = j.toNat + 1 by omega]; show uI (Z1 (28 + v.toNat)) j _ k = uI (shakeF (V 25) (60 * v) y j.toNat) (60 * v + (j.toNat : Int)) (faceF (seedF y (j.toNat + 1))) (60 * v + k); by_cases q_ : k = j; (rw [q_, uI_s, show 60 * v + j = 60 * v + (j.toNat : Int) by omega, uI_s, hz]; exact lay_face (by omega)); (rw [uI_n _ _ q_, uI_n _ _ (by omega)]; exact hrow k a b))) _ _ hX hL ls (lv_sub hl [0, 1, 2, 3, 4, 5] rfl)
        exact L36 ((V 24 v - 0 : Int).toNat + 1) 0 y _ _ (by omega) (by omega) rfl ch.rf hvl _ _ hX hL ls (lv_sub hl [0, 1, 2, 3, 4, 5] rfl)
      · skip
        refine j_iconst hC (pc := 33) dX0_shake_33 ?_
        refine lv_istore (lv' := [(5, .int (iI (0))), (4, .int (iI (y))), (3, .ref (zB S (20 + v.toNat))), (0, .ref (zB S 0)), (1, .int (iI (v))), (2, .int (iI (y)))]) hx hb (pc := 34) dX0_shake_34 hl (by decide) rfl (fun ls hl => ?_)
        have L36 : ∀ (fu : Nat) (j : Int) (z : Int) (g : GH) (Z1 : Nat → Int → Int), V 24 v - j < (fu : Int) → (0 ≤ j ∧ j ≤ V 24 v) → (z = seedF y j.toNat) → (ch Z Z1 [28 + v.toNat]) → (∀ k : Int, 0 ≤ k → k < V 24 v → Z1 (28 + v.toNat) k = shakeF (V 25) (60 * v) y j.toNat (60 * v + k)) → ∀ (H : Heap) (locs : List Loc), Wd D (gA g0 n) s g n H locs → lR T g S Z1 → ∀ (ls : Array Slot), lv_has ls 6 [(5, .int (iI (j))), (4, .int (iI (z))), (3, .ref (zB S (20 + v.toNat))), (0, .ref (zB S 0)), (1, .int (iI (v))), (2, .int (iI (y)))] → W p l e ({ frames := 2, cells := 0, slots := 0, locals := 42 } : Room) s mi args below meth c H locs 0 0 Q (F0 mi 36 ls []) := by
          intro fu
          induction fu with
          | zero =>
            intro j z g Z1 hfu hj hz hc hrow H locs hX hL ls hl
            exfalso
            omega
          | succ fu ih36 =>
            intro j z g Z1 hfu hj hz hc hrow H locs hX hL ls hl
            have e20_ : Z1 (20 + v.toNat) 0 = Z (20 + v.toNat) 0 := congrFun (hc _ (by simp)) 0
            refine lv_iload hx hb (pc := 36) dX0_shake_36 (lv_at hl 0 rfl) ?_
            refine lv_aload_n hx hb (pc := 38) dX0_shake_38 rfl (lv_at hl 2 rfl) ?_
            refine j_calli (rest := [.int (iI (j))]) hX (va_runV hC.fix (s_size D T N l hL _ v _ (hx0.skn (by omega)) (by rw [e20_, hfm]; omega) hrw (by rw [e20_, hfm]; exact hkd) rfl (by omega)) (cwV 0 hC.ts (lw_V q804 q805 q806 q45 q807) rfl rfl rfl (by decide +kernel) ⟨Nat.le_of_ble_eq_true rfl, Nat.le_of_ble_eq_true rfl⟩) (j_preV hC hX (hL.ob (20 + v.toNat) (hx0.skn (by omega))) (ci := 2) (r := (RX2, TX2, 2)) rfl _) rfl rfl hl.1 rfl (Nat.le_of_ble_eq_true rfl) dX0_shake_39 ⟨(Nat.le_of_ble_eq_true rfl), (Nat.le_of_ble_eq_true rfl)⟩) (fun r17 g m18 H locs hp hle hX => ?_)
            obtain ⟨hn_, Z_, hL, hS_, hp⟩ := hp
            rw [hn_] at hX
            rw [hS_] at hL
            have hsz_ : r17 = V 24 v := hp.trans hln
            refine j_icmp_ge hC (pc := 42) 86 dX0_shake_42 (by decide) (by omega) (fun c20 => ?_) (fun c20 => ?_)
            · skip
              refine lv_aload_n hx hb (pc := 86) dX0_shake_86 rfl (lv_at hl 2 rfl) ?_
              refine j_calli (rest := []) hX (va_runV hC.fix (s_size D T N l hL _ v _ (hx0.skn (by omega)) (by rw [e20_, hfm]; omega) hrw (by rw [e20_, hfm]; exact hkd) rfl (by omega)) (cwV 0 hC.ts (lw_V q804 q805 q806 q45 q807) rfl rfl rfl (by decide +kernel) ⟨Nat.le_of_ble_eq_true rfl, Nat.le_of_ble_eq_true rfl⟩) (j_preV hC hX (hL.ob (20 + v.toNat) (hx0.skn (by omega))) (ci := 2) (r := (RX2, TX2, 2)) rfl _) rfl rfl hl.1 rfl (Nat.le_of_ble_eq_true rfl) dX0_shake_87 ⟨(Nat.le_of_ble_eq_true rfl), (Nat.le_of_ble_eq_true rfl)⟩) (fun r21 g m22 H locs hp hle hX => ?_)
              obtain ⟨hn_, Z_, hL, hS_, hp⟩ := hp
              rw [hn_] at hX
              rw [hS_] at hL
              have hsz_ : r21 = V 24 v := hp.trans hln
              subst hQ
              exact j_iret hC (pc := 90) hX hr hlk (Nat.le_of_ble_eq_true rfl) (Nat.le_of_ble_eq_true rfl) dX0_shake_90 ⟨_, _, hL, ⟨by show _ = (op_shake F V v y).1; unfold op_shake; rw [if_pos (by omega), if_neg (by omega)]; exact hp.trans hln, (fun k hk => sk.c hc (by simp; omega)), by show xRel N x _ _ (op_shake F V v y).2.1 (op_shake F V v y).2.2; unfold op_shake; rw [if_pos (by omega), if_neg (by omega)]; exact hx0.itm hI (by omega) h0_ hc (fun k a b => by rw [hrow k a b, show j.toNat = (V 24 v).toNat by omega]) (fun j2 k a b c_ d e_ => by have := hI.i23 (i := j2) (by omega); exact shakeF_n (by omega))⟩⟩
            · skip
              refine j_ldc_w hC (pc := 45) (z := 1103515245) q870 dX0_shake_45 rfl ?_
              refine lv_iload hx hb (pc := 48) dX0_shake_48 (lv_at hl 1 rfl) ?_
              refine j_imul hC (pc := 50) dX0_shake_50 ?_
              refine j_sipush hC (pc := 51) dX0_shake_51 (by decide) ?_
              refine j_iadd hC (pc := 54) dX0_shake_54 ?_
              refine lv_istore (lv' := [(4, .int (iI ((1103515245 * z) + 12345))), (5, .int (iI (j))), (3, .ref (zB S (20 + v.toNat))), (0, .ref (zB S 0)), (1, .int (iI (v))), (2, .int (iI (y)))]) hx hb (pc := 55) dX0_shake_55 hl (by decide) rfl (fun ls hl => ?_)
              refine lv_aload_n hx hb (pc := 57) dX0_shake_57 rfl (lv_at hl 2 rfl) ?_
              refine L_getrN hC hX hL in_X2 (ci := 2) rfl (pc := 58) (20 + v.toNat) (hx0.skn (by omega)) 1 (by decide) q141 rfl (q := zA S (20 + v.toNat) 1) (b := zB S (28 + v.toNat)) hrw rfl dX0_shake_58 ?_
              refine lv_aload_n hx hb (pc := 61) dX0_shake_61 rfl (lv_at hl 2 rfl) ?_
              refine L_getN hC hX hL in_X2 (ci := 2) rfl (pc := 62) (20 + v.toNat) (hx0.skn (by omega)) 0 (by decide) q139 rfl (v := .int (iI (Z1 (20 + v.toNat) 0))) rfl dX0_shake_62 ?_
              refine j_eqi (b := 1) (by rw [e20_, hfm]; exact hf3) ?_
              refine lv_iload hx hb (pc := 65) dX0_shake_65 (lv_at hl 1 rfl) ?_
              refine j_iconst hC (pc := 67) dX0_shake_67 ?_
              refine lv_iload hx hb (pc := 68) dX0_shake_68 (lv_at hl 0 rfl) ?_
              refine j_bipush hC (pc := 70) dX0_shake_70 (by decide) ?_
              refine j_iushr16 hC (pc := 72) dX0_shake_72 ?_
              refine j_bipush hC (pc := 73) dX0_shake_73 (by decide) ?_
              refine j_irem hC (pc := 75) dX0_shake_75 (by omega) ?_
              refine j_iadd hC (pc := 76) dX0_shake_76 ?_
              refine j_callv (rest := []) hX (va_runS hC.fix (f0_lay1 D T N l hL _ v _ j (1 + ((((1103515245 * z) + 12345) % 4294967296 / 65536) % 6)) (hkd.trans (by rw [hf3]; rfl)) rfl (by omega) (by omega)) (va_cwS 4 hC.ts (lw_S q854 q855 q40 q856) rfl rfl rfl (by decide +kernel) ⟨Nat.le_of_ble_eq_true rfl, Nat.le_of_ble_eq_true rfl⟩) (j_preS hC hX _) rfl rfl hl.1 rfl (Nat.le_of_ble_eq_true rfl) dX0_shake_77 ⟨(Nat.le_of_ble_eq_true rfl), (Nat.le_of_ble_eq_true rfl)⟩) (fun g m25 H locs hp hle hX => ?_)
              obtain ⟨hn_, Z26, hL, hp⟩ := hp
              rw [hn_] at hX
              rw [hp] at hL
              refine j_iinc hC (pc := 80) (lv' := [(5, .int (iI (j + 1))), (4, .int (iI ((1103515245 * z) + 12345))), (3, .ref (zB S (20 + v.toNat))), (0, .ref (zB S 0)), (1, .int (iI (v))), (2, .int (iI (y)))]) dX0_shake_80 hl (k := 1) rfl (by decide) rfl (fun ls hl => ?_)
              refine j_goto hC (pc := 83) 36 dX0_shake_83 (by decide) ?_
              exact ih36 (j + 1) ((1103515245 * z) + 12345) _ _ (by omega) (by omega) (by rw [show (j + 1).toNat = j.toNat + 1 by omega, hz]; rfl) (by exact hc.up _ _ (by simp)) (by exact (fun k a b => by show va_up Z1 (28 + v.toNat) _ (28 + v.toNat) k = _; rw [va_up_self, show (j + 1).toNat = j.toNat + 1 by omega]; show uI (Z1 (28 + v.toNat)) j _ k = uI (shakeF (V 25) (60 * v) y j.toNat) (60 * v + (j.toNat : Int)) (faceF (seedF y (j.toNat + 1))) (60 * v + k); by_cases q_ : k = j; (rw [q_, uI_s, show 60 * v + j = 60 * v + (j.toNat : Int) by omega, uI_s, hz]; exact lay_face (by omega)); (rw [uI_n _ _ q_, uI_n _ _ (by omega)]; exact hrow k a b))) _ _ hX hL ls (lv_sub hl [0, 1, 2, 3, 4, 5] rfl)
        exact L36 ((V 24 v - 0 : Int).toNat + 1) 0 y _ _ (by omega) (by omega) rfl ch.rf hvl _ _ hX hL ls (lv_sub hl [0, 1, 2, 3, 4, 5] rfl)
      · skip
        refine j_iconst hC (pc := 33) dX0_shake_33 ?_
        refine lv_istore (lv' := [(5, .int (iI (0))), (4, .int (iI (y))), (3, .ref (zB S (20 + v.toNat))), (0, .ref (zB S 0)), (1, .int (iI (v))), (2, .int (iI (y)))]) hx hb (pc := 34) dX0_shake_34 hl (by decide) rfl (fun ls hl => ?_)
        have L36 : ∀ (fu : Nat) (j : Int) (z : Int) (g : GH) (Z1 : Nat → Int → Int), V 24 v - j < (fu : Int) → (0 ≤ j ∧ j ≤ V 24 v) → (z = seedF y j.toNat) → (ch Z Z1 [28 + v.toNat]) → (∀ k : Int, 0 ≤ k → k < V 24 v → Z1 (28 + v.toNat) k = shakeF (V 25) (60 * v) y j.toNat (60 * v + k)) → ∀ (H : Heap) (locs : List Loc), Wd D (gA g0 n) s g n H locs → lR T g S Z1 → ∀ (ls : Array Slot), lv_has ls 6 [(5, .int (iI (j))), (4, .int (iI (z))), (3, .ref (zB S (20 + v.toNat))), (0, .ref (zB S 0)), (1, .int (iI (v))), (2, .int (iI (y)))] → W p l e ({ frames := 2, cells := 0, slots := 0, locals := 42 } : Room) s mi args below meth c H locs 0 0 Q (F0 mi 36 ls []) := by
          intro fu
          induction fu with
          | zero =>
            intro j z g Z1 hfu hj hz hc hrow H locs hX hL ls hl
            exfalso
            omega
          | succ fu ih36 =>
            intro j z g Z1 hfu hj hz hc hrow H locs hX hL ls hl
            have e20_ : Z1 (20 + v.toNat) 0 = Z (20 + v.toNat) 0 := congrFun (hc _ (by simp)) 0
            refine lv_iload hx hb (pc := 36) dX0_shake_36 (lv_at hl 0 rfl) ?_
            refine lv_aload_n hx hb (pc := 38) dX0_shake_38 rfl (lv_at hl 2 rfl) ?_
            refine j_calli (rest := [.int (iI (j))]) hX (va_runV hC.fix (s_size D T N l hL _ v _ (hx0.skn (by omega)) (by rw [e20_, hfm]; omega) hrw (by rw [e20_, hfm]; exact hkd) rfl (by omega)) (cwV 0 hC.ts (lw_V q804 q805 q806 q45 q807) rfl rfl rfl (by decide +kernel) ⟨Nat.le_of_ble_eq_true rfl, Nat.le_of_ble_eq_true rfl⟩) (j_preV hC hX (hL.ob (20 + v.toNat) (hx0.skn (by omega))) (ci := 2) (r := (RX2, TX2, 2)) rfl _) rfl rfl hl.1 rfl (Nat.le_of_ble_eq_true rfl) dX0_shake_39 ⟨(Nat.le_of_ble_eq_true rfl), (Nat.le_of_ble_eq_true rfl)⟩) (fun r27 g m28 H locs hp hle hX => ?_)
            obtain ⟨hn_, Z_, hL, hS_, hp⟩ := hp
            rw [hn_] at hX
            rw [hS_] at hL
            have hsz_ : r27 = V 24 v := hp.trans hln
            refine j_icmp_ge hC (pc := 42) 86 dX0_shake_42 (by decide) (by omega) (fun c30 => ?_) (fun c30 => ?_)
            · skip
              refine lv_aload_n hx hb (pc := 86) dX0_shake_86 rfl (lv_at hl 2 rfl) ?_
              refine j_calli (rest := []) hX (va_runV hC.fix (s_size D T N l hL _ v _ (hx0.skn (by omega)) (by rw [e20_, hfm]; omega) hrw (by rw [e20_, hfm]; exact hkd) rfl (by omega)) (cwV 0 hC.ts (lw_V q804 q805 q806 q45 q807) rfl rfl rfl (by decide +kernel) ⟨Nat.le_of_ble_eq_true rfl, Nat.le_of_ble_eq_true rfl⟩) (j_preV hC hX (hL.ob (20 + v.toNat) (hx0.skn (by omega))) (ci := 2) (r := (RX2, TX2, 2)) rfl _) rfl rfl hl.1 rfl (Nat.le_of_ble_eq_true rfl) dX0_shake_87 ⟨(Nat.le_of_ble_eq_true rfl), (Nat.le_of_ble_eq_true rfl)⟩) (fun r31 g m32 H locs hp hle hX => ?_)
              obtain ⟨hn_, Z_, hL, hS_, hp⟩ := hp
              rw [hn_] at hX
              rw [hS_] at hL
              have hsz_ : r31 = V 24 v := hp.trans hln
              subst hQ
              exact j_iret hC (pc := 90) hX hr hlk (Nat.le_of_ble_eq_true rfl) (Nat.le_of_ble_eq_true rfl) dX0_shake_90 ⟨_, _, hL, ⟨by show _ = (op_shake F V v y).1; unfold op_shake; rw [if_pos (by omega), if_neg (by omega)]; exact hp.trans hln, (fun k hk => sk.c hc (by simp; omega)), by show xRel N x _ _ (op_shake F V v y).2.1 (op_shake F V v y).2.2; unfold op_shake; rw [if_pos (by omega), if_neg (by omega)]; exact hx0.itm hI (by omega) h0_ hc (fun k a b => by rw [hrow k a b, show j.toNat = (V 24 v).toNat by omega]) (fun j2 k a b c_ d e_ => by have := hI.i23 (i := j2) (by omega); exact shakeF_n (by omega))⟩⟩
            · skip
              refine j_ldc_w hC (pc := 45) (z := 1103515245) q870 dX0_shake_45 rfl ?_
              refine lv_iload hx hb (pc := 48) dX0_shake_48 (lv_at hl 1 rfl) ?_
              refine j_imul hC (pc := 50) dX0_shake_50 ?_
              refine j_sipush hC (pc := 51) dX0_shake_51 (by decide) ?_
              refine j_iadd hC (pc := 54) dX0_shake_54 ?_
              refine lv_istore (lv' := [(4, .int (iI ((1103515245 * z) + 12345))), (5, .int (iI (j))), (3, .ref (zB S (20 + v.toNat))), (0, .ref (zB S 0)), (1, .int (iI (v))), (2, .int (iI (y)))]) hx hb (pc := 55) dX0_shake_55 hl (by decide) rfl (fun ls hl => ?_)
              refine lv_aload_n hx hb (pc := 57) dX0_shake_57 rfl (lv_at hl 2 rfl) ?_
              refine L_getrN hC hX hL in_X2 (ci := 2) rfl (pc := 58) (20 + v.toNat) (hx0.skn (by omega)) 1 (by decide) q141 rfl (q := zA S (20 + v.toNat) 1) (b := zB S (28 + v.toNat)) hrw rfl dX0_shake_58 ?_
              refine lv_aload_n hx hb (pc := 61) dX0_shake_61 rfl (lv_at hl 2 rfl) ?_
              refine L_getN hC hX hL in_X2 (ci := 2) rfl (pc := 62) (20 + v.toNat) (hx0.skn (by omega)) 0 (by decide) q139 rfl (v := .int (iI (Z1 (20 + v.toNat) 0))) rfl dX0_shake_62 ?_
              refine j_eqi (b := 2) (by rw [e20_, hfm]; exact hf3) ?_
              refine lv_iload hx hb (pc := 65) dX0_shake_65 (lv_at hl 1 rfl) ?_
              refine j_iconst hC (pc := 67) dX0_shake_67 ?_
              refine lv_iload hx hb (pc := 68) dX0_shake_68 (lv_at hl 0 rfl) ?_
              refine j_bipush hC (pc := 70) dX0_shake_70 (by decide) ?_
              refine j_iushr16 hC (pc := 72) dX0_shake_72 ?_
              refine j_bipush hC (pc := 73) dX0_shake_73 (by decide) ?_
              refine j_irem hC (pc := 75) dX0_shake_75 (by omega) ?_
              refine j_iadd hC (pc := 76) dX0_shake_76 ?_
              refine j_callv (rest := []) hX (va_runS hC.fix (f0_lay2 D T N l hL _ v _ j (1 + ((((1103515245 * z) + 12345) % 4294967296 / 65536) % 6)) (hkd.trans (by rw [hf3]; rfl)) rfl (by omega) (by omega)) (va_cwS 4 hC.ts (lw_S q854 q855 q40 q856) rfl rfl rfl (by decide +kernel) ⟨Nat.le_of_ble_eq_true rfl, Nat.le_of_ble_eq_true rfl⟩) (j_preS hC hX _) rfl rfl hl.1 rfl (Nat.le_of_ble_eq_true rfl) dX0_shake_77 ⟨(Nat.le_of_ble_eq_true rfl), (Nat.le_of_ble_eq_true rfl)⟩) (fun g m35 H locs hp hle hX => ?_)
              obtain ⟨hn_, Z36, hL, hp⟩ := hp
              rw [hn_] at hX
              rw [hp] at hL
              refine j_iinc hC (pc := 80) (lv' := [(5, .int (iI (j + 1))), (4, .int (iI ((1103515245 * z) + 12345))), (3, .ref (zB S (20 + v.toNat))), (0, .ref (zB S 0)), (1, .int (iI (v))), (2, .int (iI (y)))]) dX0_shake_80 hl (k := 1) rfl (by decide) rfl (fun ls hl => ?_)
              refine j_goto hC (pc := 83) 36 dX0_shake_83 (by decide) ?_
              exact ih36 (j + 1) ((1103515245 * z) + 12345) _ _ (by omega) (by omega) (by rw [show (j + 1).toNat = j.toNat + 1 by omega, hz]; rfl) (by exact hc.up _ _ (by simp)) (by exact (fun k a b => by show va_up Z1 (28 + v.toNat) _ (28 + v.toNat) k = _; rw [va_up_self, show (j + 1).toNat = j.toNat + 1 by omega]; show uI (Z1 (28 + v.toNat)) j _ k = uI (shakeF (V 25) (60 * v) y j.toNat) (60 * v + (j.toNat : Int)) (faceF (seedF y (j.toNat + 1))) (60 * v + k); by_cases q_ : k = j; (rw [q_, uI_s, show 60 * v + j = 60 * v + (j.toNat : Int) by omega, uI_s, hz]; exact lay_face (by omega)); (rw [uI_n _ _ q_, uI_n _ _ (by omega)]; exact hrow k a b))) _ _ hX hL ls (lv_sub hl [0, 1, 2, 3, 4, 5] rfl)
        exact L36 ((V 24 v - 0 : Int).toNat + 1) 0 y _ _ (by omega) (by omega) rfl ch.rf hvl _ _ hX hL ls (lv_sub hl [0, 1, 2, 3, 4, 5] rfl)
  · skip
    refine j_bipush hC (pc := 7) dX0_shake_7 (by decide) ?_
    subst hQ
    exact j_iret hC (pc := 9) hX hr hlk (Nat.le_of_ble_eq_true rfl) (Nat.le_of_ble_eq_true rfl) dX0_shake_9 ⟨_, _, hL, ⟨by show _ = (op_shake F V v y).1; unfold op_shake; rw [if_neg (by omega)], (fun k hk => sk.rf), by show xRel N x S Z (op_shake F V v y).2.1 (op_shake F V v y).2.2; unfold op_shake; rw [if_neg (by omega)]; exact hx0⟩⟩
