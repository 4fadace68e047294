/-! FairFight: better -/
theorem up_back {V : Nat → Int → Int} {f w v : Int} (hv : v = V 1 (6 * f + w)) : va_up (upN V f w) 1 (uI (upN V f w 1) (6 * f + w) v) = V := by
  funext k
  by_cases q : k = 1
  · subst q
    rw [va_up_self, hv]
    show uI (uI (V 1) (6 * f + w) (V 1 (6 * f + w) + 1)) (6 * f + w) (V 1 (6 * f + w)) = V 1
    exact uI_back _ _ _
  · rw [va_up_ne _ _ q]
    exact va_up_ne _ _ q

set_option maxHeartbeats 4000000 in
set_option maxRecDepth 100000 in
theorem f0_better (D : va_G) (T N : Nat → Nat) (l : Launch) {g0 : GH} {S : LbS} {Z : Nat → Int → Int} (hL : lR T g0 S Z) (n : Nat) (x : Nat) (F : Nat → Int) (V : Nat → Int → Int) (f w : Int) (hx0 : xRel N x S Z F V) (hI : SI F V) (hg : (-2147483648 ≤ f ∧ f ≤ 2147483647) ∧ (-2147483648 ≤ w ∧ w ≤ 2147483647)) : Met l yX0_better (wsW_ yX0_better cX0_better 6 (some .int) [((63 : Nat), (69 : Nat), (87 : Nat), (0 : Nat)), ((87 : Nat), (89 : Nat), (87 : Nat), (0 : Nat))]) ({ frames := 9, cells := 30, slots := 194, locals := 209 } : Room) (gPc D T N [.ref (zB S 0), .int (iI (f)), .int (iI (w))] g0 n) (gQi D g0 n (fun r g' n' => ∃ S' Z', lR T g' S' Z' ∧ xP N x S Z (op_better F V f w) r S' Z')) 30 194 (gA g0 n) := by
  refine j_startW (by decide) (Nat.le_of_ble_eq_true rfl) ?_
  intro p e s mi args below meth c hC hr hlk hnm hX ls hl
  have hC : Ct D T N (gA g0 n) p s mi args c cX0_better RX0 6 := hC
  have hx := hC.x
  have hb := hC.b
  generalize hQ : MQ below _ args s 30 194 (gA g0 n) = Q
  have hl : lv_has ls 6 [(0, .ref (zB S 0)), (1, .int (iI (f))), (2, .int (iI (w)))] := hl
  have hnn := hI.nums
  have hxn := hx0.n
  refine lv_aload_n hx hb (pc := 0) dX0_better_0 rfl (lv_at hl 0 rfl) ?_
  refine lv_iload_n hx hb (pc := 1) dX0_better_1 rfl (lv_at hl 1 rfl) ?_
  refine j_calli (rest := []) hX (va_runV hC.fix (f0_isFighter D T N l hL _ _ _ _ f hx0 hI (by omega)) (cwV 1 hC.ts (lw_V q233 q235 qs0 q40 q236) rfl rfl rfl (by decide +kernel) ⟨Nat.le_of_ble_eq_true rfl, Nat.le_of_ble_eq_true rfl⟩) (j_preV hC hX (hL.ob 0 hx0.T.2.2.1) (ci := 0) (r := (RX0, TX0, 18)) rfl _) rfl rfl hl.1 rfl (Nat.le_of_ble_eq_true rfl) dX0_better_2 ⟨(Nat.le_of_ble_eq_true rfl), (Nat.le_of_ble_eq_true rfl)⟩) (fun r1 g m2 H locs hp hle hX => ?_)
  obtain ⟨hn_, Z_, hL, hS_, hp⟩ := hp
  rw [hn_] at hX
  rw [hS_] at hL
  have hq_r1 := inF_of hp
  refine j_if_eq hC (pc := 5) 37 dX0_better_5 (by decide) (by omega) (fun c4 => ?_) (fun c4 => ?_)
  · skip
    refine j_ldc hC (pc := 37) (z := -2147483648) q502 dX0_better_37 rfl ?_
    subst hQ
    exact j_iret hC (pc := 39) hX hr hlk (Nat.le_of_ble_eq_true rfl) (Nat.le_of_ble_eq_true rfl) dX0_better_39 ⟨_, _, hL, ⟨by show _ = (op_better F V f w).1; unfold op_better; rw [if_neg (by omega)], (fun k hk => sk.rf), hx0⟩⟩
  · skip
    refine lv_iload_n hx hb (pc := 8) dX0_better_8 rfl (lv_at hl 2 rfl) ?_
    refine j_iconst hC (pc := 9) dX0_better_9 ?_
    refine j_iconst hC (pc := 10) dX0_better_10 ?_
    refine j_calli (rest := []) hX (va_runS hC.fix (f0_in D T N l w 1 5 (by omega) _ _) (va_cwS 3 hC.ts (lw_S q215 q216 q40 q217) rfl rfl rfl (by decide +kernel) ⟨Nat.le_of_ble_eq_true rfl, Nat.le_of_ble_eq_true rfl⟩) (j_preS hC hX _) rfl rfl hl.1 rfl (Nat.le_of_ble_eq_true rfl) dX0_better_11 ⟨(Nat.le_of_ble_eq_true rfl), (Nat.le_of_ble_eq_true rfl)⟩) (fun r5 g m6 H locs hp hle hX => ?_)
    obtain ⟨hn_, hg_, hp⟩ := hp
    rw [hn_, hg_] at hX
    have hq_r5 := inF_of hp
    refine j_if_eq hC (pc := 14) 37 dX0_better_14 (by decide) (by omega) (fun c7 => ?_) (fun c7 => ?_)
    · skip
      refine j_ldc hC (pc := 37) (z := -2147483648) q502 dX0_better_37 rfl ?_
      subst hQ
      exact j_iret hC (pc := 39) hX hr hlk (Nat.le_of_ble_eq_true rfl) (Nat.le_of_ble_eq_true rfl) dX0_better_39 ⟨_, _, hL, ⟨by show _ = (op_better F V f w).1; unfold op_better; rw [if_neg (by omega)], (fun k hk => sk.rf), hx0⟩⟩
    · skip
      have hfi := hx0.fi f (by omega) (by omega)
      have hv1 : Z (48 + f.toNat) w = V 1 (6 * f + w) := hfi.2.2.2 w (by omega) (by omega)
      have h1_ := hI.i1 (i := 6 * f + w) (by omega)
      refine lv_iload_n hx hb (pc := 17) dX0_better_17 rfl (lv_at hl 2 rfl) ?_
      refine lv_aload_n hx hb (pc := 18) dX0_better_18 rfl (lv_at hl 0 rfl) ?_
      refine L_getr hC hX hL in_X0 (ci := 0) rfl (pc := 19) 0 hx0.T.2.2.1 0 (by decide) q148 rfl (q := zA S 0 0) (b := zB S 1) hx0.r0 rfl dX0_better_19 ?_
      refine lv_iload_n hx hb (pc := 22) dX0_better_22 rfl (lv_at hl 1 rfl) ?_
      refine L_aald hC hX hL (pc := 23) 1 7 (hx0.sp.k 1 rfl) (by decide) rfl rfl (L := 16) (hx0.sp.n 1 rfl) (by decide) (by omega) (b := zB S (32 + f.toNat)) hfi.1 dX0_better_23 ?_
      refine L_getrN hC hX hL in_X4 (ci := 4) rfl (pc := 24) (32 + f.toNat) hfi.2.1.1 0 (by decide) q225 rfl (q := zA S (32 + f.toNat) 0) (b := zB S (48 + f.toNat)) hfi.2.1.2 rfl dX0_better_24 ?_
      refine lv_iload_n hx hb (pc := 27) dX0_better_27 rfl (lv_at hl 2 rfl) ?_
      refine L_iald hC hX hL (pc := 28) (48 + f.toNat) hfi.2.2.1.1 (L := 6) hfi.2.2.1.2 (by decide) (by omega) (z := Z (48 + f.toNat) w) (by first | rfl | (repeat rw [va_up_ne _ _ (by omega)])) dX0_better_28 ?_
      refine j_iconst hC (pc := 29) dX0_better_29 ?_
      refine j_iadd hC (pc := 30) dX0_better_30 ?_
      refine j_calli (rest := []) hX (va_runS hC.fix (f0_isNumber D T N l w ((Z (48 + f.toNat) w) + 1) (by omega) _ _) (va_cwS 2 hC.ts (lw_S q212 q213 q40 q214) rfl rfl rfl (by decide +kernel) ⟨Nat.le_of_ble_eq_true rfl, Nat.le_of_ble_eq_true rfl⟩) (j_preS hC hX _) rfl rfl hl.1 rfl (Nat.le_of_ble_eq_true rfl) dX0_better_31 ⟨(Nat.le_of_ble_eq_true rfl), (Nat.le_of_ble_eq_true rfl)⟩) (fun r8 g m9 H locs hp hle hX => ?_)
      obtain ⟨hn_, hg_, hp⟩ := hp
      rw [hn_, hg_] at hX
      have hq_r8 := numF_of hp
      refine j_if_ne hC (pc := 34) 40 dX0_better_34 (by decide) (by omega) (fun c10 => ?_) (fun c10 => ?_)
      · skip
        refine lv_aload_n hx hb (pc := 40) dX0_better_40 rfl (lv_at hl 0 rfl) ?_
        refine j_calli (rest := []) hX (va_runV hC.fix (f0_chance D T N l hL _ _ _ _ hx0 hI) (cwV 0 hC.ts (lw_V q503 q474 q475 q40 q476) rfl rfl rfl (by decide +kernel) ⟨Nat.le_of_ble_eq_true rfl, Nat.le_of_ble_eq_true rfl⟩) (j_preV hC hX (hL.ob 0 hx0.T.2.2.1) (ci := 0) (r := (RX0, TX0, 18)) rfl _) rfl rfl hl.1 rfl (Nat.le_of_ble_eq_true rfl) dX0_better_41 ⟨(Nat.le_of_ble_eq_true rfl), (Nat.le_of_ble_eq_true rfl)⟩) (fun r11 g m12 H locs hp hle hX => ?_)
        obtain ⟨S3, Z3, hL, hp⟩ := hp
        obtain ⟨hr3, hsk3, hx3⟩ := hp
        have hx3 : xRel N x S3 Z3 F V := hx3
        have f0_3 : zB S3 0 = zB S 0 := hx3.b0.trans hx0.b0.symm
        rw [← f0_3] at hl
        have hfi3 := hx3.fi f (by omega) (by omega)
        have hrg3 := oddW_rg hI (wh := V 2) (rwOk.wh hI.2.2.1) (bo := 0) (by decide) hnn.2.2.2.1
        refine lv_istore_n (lv' := [(3, .int (iI (r11))), (0, .ref (zB S3 0)), (1, .int (iI (f))), (2, .int (iI (w)))]) hx hb (pc := 44) dX0_better_44 rfl hl (by decide) rfl (fun ls hl => ?_)
        refine lv_aload_n hx hb (pc := 45) dX0_better_45 rfl (lv_at hl 1 rfl) ?_
        refine L_getr hC hX hL in_X0 (ci := 0) rfl (pc := 46) 0 hx3.T.2.2.1 0 (by decide) q148 rfl (q := zA S3 0 0) (b := zB S3 1) hx3.r0 rfl dX0_better_46 ?_
        refine lv_iload_n hx hb (pc := 49) dX0_better_49 rfl (lv_at hl 2 rfl) ?_
        refine L_aald hC hX hL (pc := 50) 1 7 (hx3.sp.k 1 rfl) (by decide) rfl rfl (L := 16) (hx3.sp.n 1 rfl) (by decide) (by omega) (b := zB S3 (32 + f.toNat)) hfi3.1 dX0_better_50 ?_
        refine L_getrN hC hX hL in_X4 (ci := 4) rfl (pc := 51) (32 + f.toNat) hfi3.2.1.1 0 (by decide) q225 rfl (q := zA S3 (32 + f.toNat) 0) (b := zB S3 (48 + f.toNat)) hfi3.2.1.2 rfl dX0_better_51 ?_
        refine lv_iload_n hx hb (pc := 54) dX0_better_54 rfl (lv_at hl 3 rfl) ?_
        refine lv_dup2_11 hx hb (pc := 55) dX0_better_55 rfl rfl ?_
        refine L_iald hC hX hL (pc := 56) (48 + f.toNat) hfi3.2.2.1.1 (L := 6) hfi3.2.2.1.2 (by decide) (by omega) (z := Z3 (48 + f.toNat) w) (by first | rfl | (repeat rw [va_up_ne _ _ (by omega)])) dX0_better_56 ?_
        refine j_iconst hC (pc := 57) dX0_better_57 ?_
        refine j_iadd hC (pc := 58) dX0_better_58 ?_
        refine L_iast hC hX hL (pc := 59) (48 + f.toNat) hfi3.2.2.1.1 (L := 6) hfi3.2.2.1.2 (by decide) (by omega) (f := uI (Z3 (48 + f.toNat)) w ((Z3 (48 + f.toNat) w) + 1)) (by first | rfl | (repeat rw [va_up_ne _ _ (by omega)])) dX0_better_59 (fun g H locs hX hL => ?_)
        refine j_iconst hC (pc := 60) dX0_better_60 ?_
        refine lv_istore (lv' := [(4, .int (iI (0))), (3, .int (iI (r11))), (0, .ref (zB S3 0)), (1, .int (iI (f))), (2, .int (iI (w)))]) hx hb (pc := 61) dX0_better_61 hl (by decide) rfl (fun ls hl => ?_)
        have ev_ : Z3 (48 + f.toNat) w = V 1 (6 * f + w) := hfi3.2.2.2 w (by omega) (by omega)
        have hI2 : SI F (upN V f w) := hI.up1 (by omega) (by omega) (by rw [← hv1]; omega)
        have hx4 : xRel N x S3 (va_up Z3 (48 + f.toNat) (uI (Z3 (48 + f.toNat)) w (Z3 (48 + f.toNat) w + 1))) F (upN V f w) := by have h_ := hx3.told hI (f := f) (w := w) (v := Z3 (48 + f.toNat) w + 1) (by omega) (by omega); rw [ev_] at h_ ⊢; exact h_
        refine lv_aload_n hx hb (pc := 63) dX0_better_63 rfl (lv_at hl 2 rfl) ?_
        refine j_calli (rest := []) hX (va_runV hC.fix (f0_chance D T N l hL _ _ _ _ hx4 hI2) (cwV 0 hC.ts (lw_V q503 q474 q475 q40 q476) rfl rfl rfl (by decide +kernel) ⟨Nat.le_of_ble_eq_true rfl, Nat.le_of_ble_eq_true rfl⟩) (j_preV hC hX (hL.ob 0 hx3.T.2.2.1) (ci := 0) (r := (RX0, TX0, 18)) rfl _) rfl rfl hl.1 rfl (Nat.le_of_ble_eq_true rfl) dX0_better_64 ⟨(Nat.le_of_ble_eq_true rfl), (Nat.le_of_ble_eq_true rfl)⟩) (fun r14 g m15 H locs hp hle hX => ?_)
        obtain ⟨S5, Z5, hL, hp⟩ := hp
        obtain ⟨hr5, hsk5, hx5⟩ := hp
        have hx5 : xRel N x S5 Z5 F (upN V f w) := hx5
        have f0_5 : zB S5 0 = zB S3 0 := hx5.b0.trans hx4.b0.symm
        rw [← f0_5] at hl
        have hfi5 := hx5.fi f (by omega) (by omega)
        have hrg5 := oddW_rg hI2 (wh := V 2) (rwOk.wh hI2.2.2.1) (bo := 0) (by decide) hnn.2.2.2.1
        refine lv_istore (lv' := [(4, .int (iI (r14))), (3, .int (iI (r11))), (0, .ref (zB S5 0)), (1, .int (iI (f))), (2, .int (iI (w)))]) hx hb (pc := 67) dX0_better_67 hl (by decide) rfl (fun ls hl => ?_)
        refine lv_aload_n hx hb (pc := 69) dX0_better_69 rfl (lv_at hl 2 rfl) ?_
        refine L_getr hC hX hL in_X0 (ci := 0) rfl (pc := 70) 0 hx5.T.2.2.1 0 (by decide) q148 rfl (q := zA S5 0 0) (b := zB S5 1) hx5.r0 rfl dX0_better_70 ?_
        refine lv_iload_n hx hb (pc := 73) dX0_better_73 rfl (lv_at hl 3 rfl) ?_
        refine L_aald hC hX hL (pc := 74) 1 7 (hx5.sp.k 1 rfl) (by decide) rfl rfl (L := 16) (hx5.sp.n 1 rfl) (by decide) (by omega) (b := zB S5 (32 + f.toNat)) hfi5.1 dX0_better_74 ?_
        refine L_getrN hC hX hL in_X4 (ci := 4) rfl (pc := 75) (32 + f.toNat) hfi5.2.1.1 0 (by decide) q225 rfl (q := zA S5 (32 + f.toNat) 0) (b := zB S5 (48 + f.toNat)) hfi5.2.1.2 rfl dX0_better_75 ?_
        refine lv_iload_n hx hb (pc := 78) dX0_better_78 rfl (lv_at hl 4 rfl) ?_
        refine lv_dup2_11 hx hb (pc := 79) dX0_better_79 rfl rfl ?_
        refine L_iald hC hX hL (pc := 80) (48 + f.toNat) hfi5.2.2.1.1 (L := 6) hfi5.2.2.1.2 (by decide) (by omega) (z := Z5 (48 + f.toNat) w) (by first | rfl | (repeat rw [va_up_ne _ _ (by omega)])) dX0_better_80 ?_
        refine j_iconst hC (pc := 81) dX0_better_81 ?_
        refine j_isub hC (pc := 82) dX0_better_82 ?_
        refine L_iast hC hX hL (pc := 83) (48 + f.toNat) hfi5.2.2.1.1 (L := 6) hfi5.2.2.1.2 (by decide) (by omega) (f := uI (Z5 (48 + f.toNat)) w ((Z5 (48 + f.toNat) w) - 1)) (by first | rfl | (repeat rw [va_up_ne _ _ (by omega)])) dX0_better_83 (fun g H locs hX hL => ?_)
        refine j_goto hC (pc := 84) 107 dX0_better_84 (by decide) ?_
        have hx6 : xRel N x S5 (va_up Z5 (48 + f.toNat) (uI (Z5 (48 + f.toNat)) w (Z5 (48 + f.toNat) w - 1))) F V := by have h_ := hx5.told hI2 (f := f) (w := w) (v := Z5 (48 + f.toNat) w - 1) (by omega) (by omega); have e_ : Z5 (48 + f.toNat) w - 1 = V 1 (6 * f + w) := (by have := hfi5.2.2.2 w (by omega) (by omega); rw [this]; show uI (V 1) (6 * f + w) (V 1 (6 * f + w) + 1) (6 * f + w) - 1 = _; rw [uI_s]; omega); rw [e_] at h_ ⊢; rw [up_back rfl] at h_; exact h_
        have hr3' : r11 = oddW F V (V 2) 0 (F 5) := hr3
        have hr5' : r14 = oddW F (upN V f w) (V 2) 0 (F 5) := hr5
        refine lv_iload_n hx hb (pc := 107) dX0_better_107 rfl (lv_at hl 1 rfl) ?_
        refine j_bipush hC (pc := 108) dX0_better_108 (by decide) ?_
        refine j_icmp_eq hC (pc := 110) 120 dX0_better_110 (by decide) (by omega) (fun c17 => ?_) (fun c17 => ?_)
        · skip
          refine j_ldc hC (pc := 120) (z := -2147483647) q504 dX0_better_120 rfl ?_
          refine j_goto hC (pc := 122) 129 dX0_better_122 (by decide) ?_
          subst hQ
          exact j_iret hC (pc := 129) hX hr hlk (Nat.le_of_ble_eq_true rfl) (Nat.le_of_ble_eq_true rfl) dX0_better_129 ⟨_, _, hL, ⟨by show _ = (op_better F V f w).1; unfold op_better; rw [if_pos (by rw [← hv1]; omega), ← hr3', ← hr5']; rw [if_pos (by omega)], (fun k hk => ((hsk3 k hk).tr (sk.up (by omega))).tr ((hsk5 k hk).tr (sk.up (by omega)))), hx6⟩⟩
        · skip
          refine lv_iload hx hb (pc := 113) dX0_better_113 (lv_at hl 0 rfl) ?_
          refine j_bipush hC (pc := 115) dX0_better_115 (by decide) ?_
          refine j_icmp_ne hC (pc := 117) 125 dX0_better_117 (by decide) (by omega) (fun c18 => ?_) (fun c18 => ?_)
          · skip
            refine lv_iload hx hb (pc := 125) dX0_better_125 (lv_at hl 0 rfl) ?_
            refine lv_iload_n hx hb (pc := 127) dX0_better_127 rfl (lv_at hl 1 rfl) ?_
            refine j_isub hC (pc := 128) dX0_better_128 ?_
            subst hQ
            exact j_iret hC (pc := 129) hX hr hlk (Nat.le_of_ble_eq_true rfl) (Nat.le_of_ble_eq_true rfl) dX0_better_129 ⟨_, _, hL, ⟨by show _ = (op_better F V f w).1; unfold op_better; rw [if_pos (by rw [← hv1]; omega), ← hr3', ← hr5']; rw [if_neg (by omega)], (fun k hk => ((hsk3 k hk).tr (sk.up (by omega))).tr ((hsk5 k hk).tr (sk.up (by omega)))), hx6⟩⟩
          · skip
            refine j_ldc hC (pc := 120) (z := -2147483647) q504 dX0_better_120 rfl ?_
            refine j_goto hC (pc := 122) 129 dX0_better_122 (by decide) ?_
            subst hQ
            exact j_iret hC (pc := 129) hX hr hlk (Nat.le_of_ble_eq_true rfl) (Nat.le_of_ble_eq_true rfl) dX0_better_129 ⟨_, _, hL, ⟨by show _ = (op_better F V f w).1; unfold op_better; rw [if_pos (by rw [← hv1]; omega), ← hr3', ← hr5']; rw [if_pos (by omega)], (fun k hk => ((hsk3 k hk).tr (sk.up (by omega))).tr ((hsk5 k hk).tr (sk.up (by omega)))), hx6⟩⟩
      · skip
        refine j_ldc hC (pc := 37) (z := -2147483648) q502 dX0_better_37 rfl ?_
        subst hQ
        exact j_iret hC (pc := 39) hX hr hlk (Nat.le_of_ble_eq_true rfl) (Nat.le_of_ble_eq_true rfl) dX0_better_39 ⟨_, _, hL, ⟨by show _ = (op_better F V f w).1; unfold op_better; rw [if_neg (by rw [← hv1]; omega)], (fun k hk => sk.rf), hx0⟩⟩
