/-! FairFight: a turn of the odds -/
set_option maxHeartbeats 8000000 in
set_option maxRecDepth 100000 in
theorem o_turn (D : va_G) (T N : Nat → Nat) (l : Launch) {g0 : GH} {S : LbS} {Z : Nat → Int → Int} (hL : lR T g0 S Z) (n : Nat) (q h : Int) (Su : Int → Int → Int) (c0 k w_ wh t_ rd B : Int) (a : Acc) (ho : oS q S Z) (hst : stR h Su Z) (hSu : okSu Su) (hv : vC Su c0) (hw : winF (ufD c0) = 2) (hwh : 0 ≤ wh ∧ wh < Z 201 0) (hk : slF h wh = k) (hrd : 0 ≤ rd ∧ rd ≤ 5) (ht : 0 ≤ t_ ∧ t_ + 1 ≤ Z 200 1 ∧ Z 200 1 ≤ 22) (h51 : -1 ≤ Z 0 5 ∧ Z 0 5 ≤ 1) (ha : ∀ x ∈ a.1, vC Su x.1) (hro : roX B q h (Z 200 1) t_ Z a) (hB : 0 ≤ B ∧ 0 < w_ ∧ B + 6 * w_ ≤ 9223372036854775807) : Met l yX5_turn (ws_ yX5_turn cX5_turn 9 none) ({ frames := 4, cells := 0, slots := 0, locals := 89 } : Room) (gPc D T N [.ref (zB S 200), .long (lI (ckC h (Z 201 0) c0)), .long (lI (w_)), .int (iI (wh)), .int (iI (t_)), .int (iI (rd))] g0 n) (gQv D g0 n (fun g' n' => n' = n ∧ ∃ Z', lR T g' S Z' ∧ (ch Z Z' [200, 9, 10, 11, 12, 210, 211, 213, 214, 216, 217, 218, 219, 220, 221] ∧ ∀ j : Int, j ≠ 7 → Z' 200 j = Z 200 j) ∧ roX (B + 6 * w_) q h (Z 200 1) t_ Z' (stepS Su k rd (6 ^ (Z 200 1 - 1 - t_).toNat) a (c0, w_)))) 0 0 (gA g0 n) := by
  refine j_start (by decide) (Nat.le_of_ble_eq_true rfl) ?_
  intro p e s mi args below meth c hC hr hlk hnm hX ls hl
  have hC : Ct D T N (gA g0 n) p s mi args c cX5_turn RX5 9 := hC
  have hx := hC.x
  have hb := hC.b
  generalize hQ : MQ below _ args s 0 0 (gA g0 n) = Q
  have hl : lv_has ls 9 [(0, .ref (zB S 200)), (1, .long (lI (ckC h (Z 201 0) c0))), (3, .long (lI (w_))), (5, .int (iI (wh))), (6, .int (iI (t_))), (7, .int (iI (rd)))] := hl
  have hf := ho.f
  have hm6 : Z 201 0 ≤ 6 := by have := hst.m; unfold hmOk at this; omega
  have hkr0 := slF_rg hst.m hwh
  rw [hk] at hkr0
  have hs2 := hSu.hit2 (k := k) ⟨hkr0.1, hkr0.2.1⟩
  have hmul : (6 - Su 2 k) * w_ + Su 2 k * w_ = 6 * w_ := by rw [← Int.add_mul, show 6 - Su 2 k + Su 2 k = 6 by omega]
  have hmu1 : 0 ≤ (6 - Su 2 k) * w_ := Int.mul_nonneg (by omega) (by omega)
  have hmu2 : 0 ≤ Su 2 k * w_ := Int.mul_nonneg (by omega) (by omega)
  have hmu3 : Su 2 k < 6 → 0 < (6 - Su 2 k) * w_ := fun y => Int.mul_pos (by omega) (by omega)
  have hmu4 : 0 < Su 2 k → 0 < Su 2 k * w_ := fun y => Int.mul_pos (by omega) (by omega)
  have hcc : c0 = pkF (lfD c0) (ufD c0) 6 := hv.2.2.1.symm
  have hvvb : vC Su (pkF (lfD c0) (ufD c0) 6) := by rw [← hcc]; exact hv
  have hab := ha
  have hk6 : 0 ≤ k ∧ k < 6 := ⟨hkr0.1, hkr0.2.1⟩
  have hn51 := hst.n.2.2.1
  clear hkr0
  refine lv_aload_n hx hb (pc := 0) dX5_turn_0 rfl (lv_at hl 0 rfl) ?_
  refine L_getr hC hX hL in_X5 (ci := 5) rfl (pc := 1) 200 (ho.o.k 200 rfl) 0 (by decide) q431 rfl (q := zA S 200 0) (b := zB S 201) ho.r.1 rfl dX5_turn_1 ?_
  refine lv_lload_n hx hb (pc := 4) dX5_turn_4 rfl (lv_at hl 1 rfl) ?_
  refine j_callv (rest := []) hX (va_runV hC.fix (f6_become D T N l hL _ (ckC h (Z 201 0) c0) hf (ckF_rg hst.m hv.2.1)) (cwV 1 hC.ts (lw_V q395 q396 q397 q49 q398) rfl rfl rfl (by decide +kernel) ⟨Nat.le_of_ble_eq_true rfl, Nat.le_of_ble_eq_true rfl⟩) (j_preV hC hX (hL.ob 201 (hf.sh.k 201 rfl)) (ci := 6) (r := (RX6, TX6, 12)) rfl _) rfl rfl hl.1 rfl (Nat.le_of_ble_eq_true rfl) dX5_turn_5 ⟨(Nat.le_of_ble_eq_true rfl), (Nat.le_of_ble_eq_true rfl)⟩) (fun g m2 H locs hp hle hX => ?_)
  obtain ⟨hn_, Zb, hL, hp⟩ := hp
  rw [hn_] at hX
  have hchb : ch Z Zb [200, 9, 10, 11, 12, 210, 211, 213, 214, 216, 217, 218, 219, 220, 221] := ch.wd hp.1 (by decide)
  have hob : oS q S Zb := ho.ch hchb (by decide)
  have hstb : stR h Su Zb := hst.ch hchb (by decide)
  have e1b : Zb 201 = Z 201 := hchb 201 (by decide)
  have e0b : Zb 0 = Z 0 := hchb 0 (by decide)
  have ehb : Zb 206 wh = Su 2 k := by have := (hstb.at (k := wh) (by rw [e1b]; exact hwh)).2.2.1; rw [hk] at this; exact this
  have e2b : Zb 200 = Z 200 := hp.1 200 (by decide)
  have hcsb : csR h (Zb 201 0) (lfD c0) (ufD c0) (Zb 210) (Zb 211) := by rw [e1b]; exact bec_cs hst.m hst.no hv hp.2
  have hOb : okS (lfD c0) (ufD c0) := hv.2.1
  have hsb : fL Zb := cs_fL hstb.m hOb hcsb
  have hrob : roX B q h (Z 200 1) t_ Zb a := hro.kp hm6 hp.1 (by decide)
  have hub := hcsb.1 wh hwh.1 (by rw [e1b]; exact hwh.2)
  rw [hk] at hub
  have hsdb := hstb.sd wh hwh.1 (by rw [e1b]; exact hwh.2)
  have hk3 := slF_3 hst.m hwh
  rw [hk, ← hsdb] at hk3
  have hx5 : Zb 0 5 = Su 6 1 := by rw [e0b]; exact hst.n.2.2.1
  have h01 := ufD_01 c0 k
  have hst8 : Zb 208 wh = Su 4 k := by have := (hstb.at (k := wh) (by rw [e1b]; exact hwh)).2.2.2.2.1; rw [hk] at this; exact this
  clear hp
  have J51 : ∀ (y : Int) (g : GH), ((y = 1 ∧ ¬ (ufD c0 k = 0 ∨ (rd = 0 ∧ Su 6 1 = k / 3))) ∨ (y = 0 ∧ (ufD c0 k = 0 ∨ (rd = 0 ∧ Su 6 1 = k / 3)))) → ∀ (H : Heap) (locs : List Loc), Wd D (gA g0 n) s g n H locs → lR T g S Zb → ∀ (ls : Array Slot), lv_has ls 9 [(0, .ref (zB S 200)), (1, .long (lI (ckC h (Z 201 0) c0))), (3, .long (lI (w_))), (5, .int (iI (wh))), (6, .int (iI (t_))), (7, .int (iI (rd)))] → W p l e ({ frames := 4, cells := 0, slots := 0, locals := 89 } : Room) s mi args below meth c H locs 0 0 Q (F0 mi 51 ls [.int (iI (y))]) := by
    intro y g hy H locs hX hL ls hl
    refine lv_istore (lv' := [(8, .int (iI (y))), (0, .ref (zB S 200)), (1, .long (lI (ckC h (Z 201 0) c0))), (3, .long (lI (w_))), (5, .int (iI (wh))), (6, .int (iI (t_))), (7, .int (iI (rd)))]) hx hb (pc := 51) dX5_turn_51 hl (by decide) rfl (fun ls hl => ?_)
    refine lv_iload hx hb (pc := 53) dX5_turn_53 (lv_at hl 0 rfl) ?_
    refine j_if_eq hC (pc := 55) 70 dX5_turn_55 (by decide) (by omega) (fun c4 => ?_) (fun c4 => ?_)
    · skip
      have hk0 : (ufD c0 k = 0 ∨ (rd = 0 ∧ Su 6 1 = k / 3)) := by omega
      refine lv_aload_n hx hb (pc := 70) dX5_turn_70 rfl (lv_at hl 1 rfl) ?_
      refine lv_aload_n hx hb (pc := 71) dX5_turn_71 rfl (lv_at hl 1 rfl) ?_
      refine L_getr hC hX hL in_X5 (ci := 5) rfl (pc := 72) 200 (ho.o.k 200 rfl) 8 (by decide) q445 rfl (q := zA S 200 8) (b := zB S 0) ho.r.2.2.2 rfl dX5_turn_72 ?_
      refine L_getrN hC hX hL in_X0 (ci := 0) rfl (pc := 75) 0 ho.x.2.2.1 7 (by decide) q159 rfl (q := zA S 0 7) (b := zB S 9) ho.x.2.2.2.2 rfl dX5_turn_75 ?_
      refine j_ldc2 hC (pc := 78) (z := 6) q366 dX5_turn_78 rfl ?_
      refine lv_lload_n hx hb (pc := 81) dX5_turn_81 rfl (lv_at hl 3 rfl) ?_
      refine j_lmul hC (pc := 82) dX5_turn_82 ?_
      refine lv_iload hx hb (pc := 83) dX5_turn_83 (lv_at hl 5 rfl) ?_
      refine j_iconst hC (pc := 85) dX5_turn_85 ?_
      refine j_iadd hC (pc := 86) dX5_turn_86 ?_
      refine lv_iload hx hb (pc := 87) dX5_turn_87 (lv_at hl 6 rfl) ?_
      refine j_iconst hC (pc := 89) dX5_turn_89 ?_
      refine j_iadd hC (pc := 90) dX5_turn_90 ?_
      obtain ⟨N1, z1, hN1, hac1, hNb1, hw71, hcase1⟩ := hrob
      refine j_callv (rest := []) hX (va_runV hC.fix (o9_comes D T N l hL _ q h (lfD c0) (ufD c0) N1 z1 (6 * w_) (t_ + 1) (rd + 1) hob (cs_fL hstb.m hOb hcsb) hstb.m hcsb hOb hstb.sd hN1 hac1 (by rw [e2b]; omega) (by omega) hw71 (fun _ => ⟨by omega, fun x hx => by have := hNb1 x hx; omega⟩)) (cwV 4 hC.ts (lw_V q367 q369 qs4 q48 q370) rfl rfl rfl (by decide +kernel) ⟨Nat.le_of_ble_eq_true rfl, Nat.le_of_ble_eq_true rfl⟩) (j_preV hC hX (hL.ob 200 (ho.o.k 200 rfl)) (ci := 5) (r := (RX5, TX5, 9)) rfl _) rfl rfl hl.1 rfl (Nat.le_of_ble_eq_true rfl) dX5_turn_91 ⟨(Nat.le_of_ble_eq_true rfl), (Nat.le_of_ble_eq_true rfl)⟩) (fun g m6 H locs hp hle hX => ?_)
      obtain ⟨hn_, Zc, hL, hp⟩ := hp
      rw [hn_] at hX
      have hx_ := roX_comes (rd := rd) (w := (6 * w_)) (sl := Z 200 1) (t := t_) hstb.m hstb.no hab hOb hvvb (by omega) (by omega) (by omega) (by first | (rw [e2b]; done) | (rw [e2b]; omega)) hN1 hac1 hNb1 hw71 hcase1 hp
      subst hQ
      exact j_vret hC (pc := 94) hX hr hlk (Nat.le_of_ble_eq_true rfl) (Nat.le_of_ble_eq_true rfl) dX5_turn_94 ⟨rfl, _, hL, ⟨⟨ch.tr hchb hx_.1.1 (by decide), (fun j hj => by rw [hx_.1.2 j hj, e2b])⟩, by have := hx_.2; rw [← hcc, absorb_c (Su := Su) hw] at this; rw [st_none hw hk0]; exact this⟩⟩
    · skip
      have hk0 : ¬ (ufD c0 k = 0 ∨ (rd = 0 ∧ Su 6 1 = k / 3)) := by omega
      refine lv_aload_n hx hb (pc := 58) dX5_turn_58 rfl (lv_at hl 1 rfl) ?_
      refine L_getr hC hX hL in_X5 (ci := 5) rfl (pc := 59) 200 (ho.o.k 200 rfl) 0 (by decide) q431 rfl (q := zA S 200 0) (b := zB S 201) ho.r.1 rfl dX5_turn_59 ?_
      refine lv_iload hx hb (pc := 62) dX5_turn_62 (lv_at hl 4 rfl) ?_
      refine j_calli (rest := []) hX (va_runV hC.fix (f6_rolls D T N l hL _ wh hob.f hsb (by rw [e1b]; exact hwh)) (cwV 1 hC.ts (lw_V q400 q401 q402 q49 q403) rfl rfl rfl (by decide +kernel) ⟨Nat.le_of_ble_eq_true rfl, Nat.le_of_ble_eq_true rfl⟩) (j_preV hC hX (hL.ob 201 (hf.sh.k 201 rfl)) (ci := 6) (r := (RX6, TX6, 12)) rfl _) rfl rfl hl.1 rfl (Nat.le_of_ble_eq_true rfl) dX5_turn_64 ⟨(Nat.le_of_ble_eq_true rfl), (Nat.le_of_ble_eq_true rfl)⟩) (fun r8 g m9 H locs hp hle hX => ?_)
      obtain ⟨hn_, Zr, hL, hp⟩ := hp
      rw [hn_] at hX
      have hr01 : r8 = 0 ∨ r8 = 1 := by rcases Classical.em (Zb 211 wh ≠ 0 ∧ Zb 210 wh ≤ Zb 208 wh) with y | y; exact Or.inl (hp.1 y).1; rw [(hp.2 y).1]; omega
      refine j_if_ne hC (pc := 67) 95 dX5_turn_67 (by decide) (by omega) (fun c11 => ?_) (fun c11 => ?_)
      · skip
        have hcon : ¬ (Zb 211 wh ≠ 0 ∧ Zb 210 wh ≤ Zb 208 wh) := fun y => by have := (hp.1 y).1; omega
        have hzr := (hp.2 hcon).2
        rw [hzr] at hL
        have hnf : ¬ lfD c0 k ≤ Su 4 k := by omega
        clear hp
        have J145 : ∀ (g : GH) (Zj : Nat → Int → Int), (ch Z Zj [200, 9, 10, 11, 12, 210, 211, 213, 214, 216, 217, 218, 219, 220, 221] ∧ ∀ j : Int, j ≠ 7 → Zj 200 j = Z 200 j) → (roX (B + (6 - Su 2 k) * w_) q h (Z 200 1) t_ Zj (if Su 2 k < 6 then (insN a.1 c0 ((6 - Su 2 k) * w_), a.2) else a)) → ∀ (H : Heap) (locs : List Loc), Wd D (gA g0 n) s g n H locs → lR T g S Zj → ∀ (ls : Array Slot), lv_has ls 9 [(8, .int (iI (y))), (0, .ref (zB S 200)), (1, .long (lI (ckC h (Z 201 0) c0))), (3, .long (lI (w_))), (5, .int (iI (wh))), (6, .int (iI (t_))), (7, .int (iI (rd)))] → W p l e ({ frames := 4, cells := 0, slots := 0, locals := 89 } : Room) s mi args below meth c H locs 0 0 Q (F0 mi 145 ls []) := by
          intro g Zj hj1 hj2 H locs hX hL ls hl
          have hchj := hj1.1
          have hoj : oS q S Zj := ho.ch hchj (by decide)
          have hstj : stR h Su Zj := hst.ch hchj (by decide)
          have e1j : Zj 201 = Z 201 := hchj 201 (by decide)
          have e0j : Zj 0 = Z 0 := hchj 0 (by decide)
          have ehj : Zj 206 wh = Su 2 k := by have := (hstj.at (k := wh) (by rw [e1j]; exact hwh)).2.2.1; rw [hk] at this; exact this
          have e2j : Zj 200 1 = Z 200 1 := hj1.2 1 (by decide)
          refine lv_aload_n hx hb (pc := 145) dX5_turn_145 rfl (lv_at hl 1 rfl) ?_
          refine L_getr hC hX hL in_X5 (ci := 5) rfl (pc := 146) 200 (ho.o.k 200 rfl) 0 (by decide) q431 rfl (q := zA S 200 0) (b := zB S 201) ho.r.1 rfl dX5_turn_146 ?_
          refine L_getrN hC hX hL in_X6 (ci := 6) rfl (pc := 149) 201 (hf.sh.k 201 rfl) 6 (by decide) q305 rfl (q := zA S 201 6) (b := zB S 206) (hf.r 6 (by decide)) rfl dX5_turn_149 ?_
          refine lv_iload hx hb (pc := 152) dX5_turn_152 (lv_at hl 4 rfl) ?_
          refine L_iald hC hX hL (pc := 154) 206 (hf.sh.k 206 rfl) (L := 6) (hf.sh.n 206 rfl) (by decide) (by omega) (z := Zj 206 wh) rfl dX5_turn_154 ?_
          refine j_if_le hC (pc := 155) 207 dX5_turn_155 (by decide) (by omega) (fun c12 => ?_) (fun c12 => ?_)
          · skip
            subst hQ
            exact j_vret hC (pc := 207) hX hr hlk (Nat.le_of_ble_eq_true rfl) (Nat.le_of_ble_eq_true rfl) dX5_turn_207 ⟨rfl, _, hL, ⟨hj1, by rw [st_turn hw hk0 hnf, if_neg (by omega)]; exact hj2.mono (by omega)⟩⟩
          · skip
            refine lv_aload_n hx hb (pc := 158) dX5_turn_158 rfl (lv_at hl 1 rfl) ?_
            refine L_getr hC hX hL in_X5 (ci := 5) rfl (pc := 159) 200 (ho.o.k 200 rfl) 0 (by decide) q431 rfl (q := zA S 200 0) (b := zB S 201) ho.r.1 rfl dX5_turn_159 ?_
            refine lv_lload_n hx hb (pc := 162) dX5_turn_162 rfl (lv_at hl 2 rfl) ?_
            refine j_callv (rest := []) hX (va_runV hC.fix (f6_become D T N l hL _ (ckC h (Z 201 0) c0) hoj.f (ckF_rg hst.m hv.2.1)) (cwV 1 hC.ts (lw_V q395 q396 q397 q49 q398) rfl rfl rfl (by decide +kernel) ⟨Nat.le_of_ble_eq_true rfl, Nat.le_of_ble_eq_true rfl⟩) (j_preV hC hX (hL.ob 201 (hf.sh.k 201 rfl)) (ci := 6) (r := (RX6, TX6, 12)) rfl _) rfl rfl hl.1 rfl (Nat.le_of_ble_eq_true rfl) dX5_turn_163 ⟨(Nat.le_of_ble_eq_true rfl), (Nat.le_of_ble_eq_true rfl)⟩) (fun g m14 H locs hp hle hX => ?_)
            obtain ⟨hn_, Zd, hL, hp⟩ := hp
            rw [hn_] at hX
            have hchd : ch Z Zd [200, 9, 10, 11, 12, 210, 211, 213, 214, 216, 217, 218, 219, 220, 221] := ch.tr hchj hp.1 (by decide)
            have hod : oS q S Zd := ho.ch hchd (by decide)
            have hstd : stR h Su Zd := hst.ch hchd (by decide)
            have e1d : Zd 201 = Z 201 := hchd 201 (by decide)
            have e0d : Zd 0 = Z 0 := hchd 0 (by decide)
            have ehd : Zd 206 wh = Su 2 k := by have := (hstd.at (k := wh) (by rw [e1d]; exact hwh)).2.2.1; rw [hk] at this; exact this
            have e2d : Zd 200 = Zj 200 := hp.1 200 (by decide)
            have hcsd : csR h (Zd 201 0) (lfD c0) (ufD c0) (Zd 210) (Zd 211) := by rw [e1d]; exact bec_cs hst.m hst.no hv (by have y := hp.2; rw [e1j] at y; exact y)
            have hsd_ : fL Zd := cs_fL hstd.m hv.2.1 hcsd
            have hrod := hj2.kp (by rw [e1j]; exact hm6) hp.1 (by decide)
            have hwu := win_up hstd.m hcsd hstd.sd hw
            have hsw := hstd.sd wh hwh.1 (by rw [e1d]; exact hwh.2)
            have hud := hcsd.1 wh hwh.1 (by rw [e1d]; exact hwh.2)
            rw [hk] at hud
            have hatd := hstd.at (k := wh) (by rw [e1d]; exact hwh)
            rw [hk] at hatd
            clear hp
            refine lv_aload_n hx hb (pc := 166) dX5_turn_166 rfl (lv_at hl 1 rfl) ?_
            refine L_getr hC hX hL in_X5 (ci := 5) rfl (pc := 167) 200 (ho.o.k 200 rfl) 0 (by decide) q431 rfl (q := zA S 200 0) (b := zB S 201) ho.r.1 rfl dX5_turn_167 ?_
            refine lv_iload hx hb (pc := 170) dX5_turn_170 (lv_at hl 4 rfl) ?_
            have hthd : thF (Zd 211) (Zd 202) (1 - Zd 202 wh) (Zd 201 0).toNat = 1 := by rw [hsw]; unfold sdF; split; exact hwu.2; exact hwu.1
            refine j_callv (rest := []) hX (va_runV hC.fix (f6_hits D T N l hL _ wh hod.f hsd_ (by rw [e1d]; exact hwh) (fun _ => hthd) (by rw [hud.2]; omega)) (cwV 1 hC.ts (lw_V q404 q405 q406 q49 q407) rfl rfl rfl (by decide +kernel) ⟨Nat.le_of_ble_eq_true rfl, Nat.le_of_ble_eq_true rfl⟩) (j_preV hC hX (hL.ob 201 (hf.sh.k 201 rfl)) (ci := 6) (r := (RX6, TX6, 12)) rfl _) rfl rfl hl.1 rfl (Nat.le_of_ble_eq_true rfl) dX5_turn_172 ⟨(Nat.le_of_ble_eq_true rfl), (Nat.le_of_ble_eq_true rfl)⟩) (fun g m17 H locs hp hle hX => ?_)
            obtain ⟨hn_, Zh, hL, hp⟩ := hp
            rw [hn_] at hX
            have hchh : ch Z Zh [200, 9, 10, 11, 12, 210, 211, 213, 214, 216, 217, 218, 219, 220, 221] := ch.tr hchd hp.1 (by decide)
            have hoh : oS q S Zh := ho.ch hchh (by decide)
            have hsth : stR h Su Zh := hst.ch hchh (by decide)
            have e1h : Zh 201 = Z 201 := hchh 201 (by decide)
            have e0h : Zh 0 = Z 0 := hchh 0 (by decide)
            have ehh : Zh 206 wh = Su 2 k := by have := (hsth.at (k := wh) (by rw [e1h]; exact hwh)).2.2.1; rw [hk] at this; exact this
            have e2h : Zh 200 = Zj 200 := (hp.1 200 (by decide)).trans e2d
            have hcsh : csR h (Zh 201 0) (hitP (Su 0 k) (Su 3 k) (Su 6 0) (Su 1) (lfD c0) (ufD c0) k).1 (hitP (Su 0 k) (Su 3 k) (Su 6 0) (Su 1) (lfD c0) (ufD c0) k).2 (Zh 210) (Zh 211) := by rw [hp.2.1, hp.2.2, hp.1 201 (by decide), hatd.1, hatd.2.2.2.1, show Zd 201 1 = Su 6 0 by rw [e1d]; exact hst.n.2.1, ← hk]; exact chF_hit hstd.m hcsd hstd.sd (fun j y1 y2 => (hstd.at ⟨y1, y2⟩).2.1) (by rw [e1d]; exact hwh) (by rw [hud.2]; omega) hthd
            have hkr := slF_rg hst.m hwh
            rw [hk] at hkr
            have hOh : okS (hitP (Su 0 k) (Su 3 k) (Su 6 0) (Su 1) (lfD c0) (ufD c0) k).1 (hitP (Su 0 k) (Su 3 k) (Su 6 0) (Su 1) (lfD c0) (ufD c0) k).2 := hv.2.1.hit (by have := hSu.1 k hkr.1 hkr.2.1; omega) (fun j y1 y2 _ => (hSu.1 j y1 y2).2.1) ⟨hkr.1, hkr.2.1⟩ (by omega)
            have hvvh : vC Su (pkF (hitP (Su 0 k) (Su 3 k) (Su 6 0) (Su 1) (lfD c0) (ufD c0) k).1 (hitP (Su 0 k) (Su 3 k) (Su 6 0) (Su 1) (lfD c0) (ufD c0) k).2 6) := vC_pk hOh (hit_absent hv.2.2.2 hw ⟨hkr.1, hkr.2.1⟩)
            have hroh := hrod.kp (by rw [e1d]; exact hm6) hp.1 (by decide)
            have hah : ∀ x ∈ (if Su 2 k < 6 then (insN a.1 c0 ((6 - Su 2 k) * w_), a.2) else a).1, vC Su x.1 := by split; intro x hx; rcases insN_mem hx with y | ⟨y, hy, z⟩; rw [y]; exact hv; rw [← z]; exact ha y hy; exact ha
            clear hp
            refine lv_aload_n hx hb (pc := 175) dX5_turn_175 rfl (lv_at hl 1 rfl) ?_
            refine lv_aload_n hx hb (pc := 176) dX5_turn_176 rfl (lv_at hl 1 rfl) ?_
            refine L_getr hC hX hL in_X5 (ci := 5) rfl (pc := 177) 200 (ho.o.k 200 rfl) 8 (by decide) q445 rfl (q := zA S 200 8) (b := zB S 0) ho.r.2.2.2 rfl dX5_turn_177 ?_
            refine L_getrN hC hX hL in_X0 (ci := 0) rfl (pc := 180) 0 ho.x.2.2.1 7 (by decide) q159 rfl (q := zA S 0 7) (b := zB S 9) ho.x.2.2.2.2 rfl dX5_turn_180 ?_
            refine lv_aload_n hx hb (pc := 183) dX5_turn_183 rfl (lv_at hl 1 rfl) ?_
            refine L_getr hC hX hL in_X5 (ci := 5) rfl (pc := 184) 200 (ho.o.k 200 rfl) 0 (by decide) q431 rfl (q := zA S 200 0) (b := zB S 201) ho.r.1 rfl dX5_turn_184 ?_
            refine L_getrN hC hX hL in_X6 (ci := 6) rfl (pc := 187) 201 (hf.sh.k 201 rfl) 6 (by decide) q305 rfl (q := zA S 201 6) (b := zB S 206) (hf.r 6 (by decide)) rfl dX5_turn_187 ?_
            refine lv_iload hx hb (pc := 190) dX5_turn_190 (lv_at hl 4 rfl) ?_
            refine L_iald hC hX hL (pc := 192) 206 (hf.sh.k 206 rfl) (L := 6) (hf.sh.n 206 rfl) (by decide) (by omega) (z := Zh 206 wh) rfl dX5_turn_192 ?_
            refine j_i2l hC (pc := 193) dX5_turn_193 (by omega) ?_
            refine lv_lload_n hx hb (pc := 194) dX5_turn_194 rfl (lv_at hl 3 rfl) ?_
            refine j_lmul hC (pc := 195) dX5_turn_195 ?_
            refine j_eql (b := Su 2 k * w_) (by rw [ehh]) ?_
            refine lv_iload hx hb (pc := 196) dX5_turn_196 (lv_at hl 5 rfl) ?_
            refine j_iconst hC (pc := 198) dX5_turn_198 ?_
            refine j_iadd hC (pc := 199) dX5_turn_199 ?_
            refine lv_iload hx hb (pc := 200) dX5_turn_200 (lv_at hl 6 rfl) ?_
            refine j_iconst hC (pc := 202) dX5_turn_202 ?_
            refine j_iadd hC (pc := 203) dX5_turn_203 ?_
            obtain ⟨N1, z1, hN1, hac1, hNb1, hw71, hcase1⟩ := hroh
            refine j_callv (rest := []) hX (va_runV hC.fix (o9_comes D T N l hL _ q h ((hitP (Su 0 k) (Su 3 k) (Su 6 0) (Su 1) (lfD c0) (ufD c0) k).1) ((hitP (Su 0 k) (Su 3 k) (Su 6 0) (Su 1) (lfD c0) (ufD c0) k).2) N1 z1 (Su 2 k * w_) (t_ + 1) (rd + 1) hoh (cs_fL hsth.m hOh hcsh) hsth.m hcsh hOh hsth.sd hN1 hac1 (by rw [e2h]; omega) (by omega) hw71 (fun _ => ⟨by omega, fun x hx => by have := hNb1 x hx; omega⟩)) (cwV 4 hC.ts (lw_V q367 q369 qs4 q48 q370) rfl rfl rfl (by decide +kernel) ⟨Nat.le_of_ble_eq_true rfl, Nat.le_of_ble_eq_true rfl⟩) (j_preV hC hX (hL.ob 200 (ho.o.k 200 rfl)) (ci := 5) (r := (RX5, TX5, 9)) rfl _) rfl rfl hl.1 rfl (Nat.le_of_ble_eq_true rfl) dX5_turn_204 ⟨(Nat.le_of_ble_eq_true rfl), (Nat.le_of_ble_eq_true rfl)⟩) (fun g m20 H locs hp hle hX => ?_)
            obtain ⟨hn_, Zc, hL, hp⟩ := hp
            rw [hn_] at hX
            have hx_ := roX_comes (rd := rd) (w := (Su 2 k * w_)) (sl := Z 200 1) (t := t_) hsth.m hsth.no hah hOh hvvh (by omega) (by omega) (by omega) (by first | (rw [e2h]; done) | (rw [e2h]; omega)) hN1 hac1 hNb1 hw71 hcase1 hp
            subst hQ
            exact j_vret hC (pc := 207) hX hr hlk (Nat.le_of_ble_eq_true rfl) (Nat.le_of_ble_eq_true rfl) dX5_turn_207 ⟨rfl, _, hL, ⟨⟨ch.tr hchh hx_.1.1 (by decide), fun j hj => by rw [hx_.1.2 j hj, e2h, hj1.2 j hj]⟩, by rw [st_turn hw hk0 hnf, if_pos (by omega)]; exact hx_.2.mono (by omega)⟩⟩
        refine lv_aload_n hx hb (pc := 95) dX5_turn_95 rfl (lv_at hl 1 rfl) ?_
        refine L_getr hC hX hL in_X5 (ci := 5) rfl (pc := 96) 200 (ho.o.k 200 rfl) 0 (by decide) q431 rfl (q := zA S 200 0) (b := zB S 201) ho.r.1 rfl dX5_turn_96 ?_
        refine L_getrN hC hX hL in_X6 (ci := 6) rfl (pc := 99) 201 (hf.sh.k 201 rfl) 6 (by decide) q305 rfl (q := zA S 201 6) (b := zB S 206) (hf.r 6 (by decide)) rfl dX5_turn_99 ?_
        refine lv_iload hx hb (pc := 102) dX5_turn_102 (lv_at hl 4 rfl) ?_
        refine L_iald hC hX hL (pc := 104) 206 (hf.sh.k 206 rfl) (L := 6) (hf.sh.n 206 rfl) (by decide) (by omega) (z := Zb 206 wh) rfl dX5_turn_104 ?_
        refine j_bipush hC (pc := 105) dX5_turn_105 (by decide) ?_
        refine j_icmp_ge hC (pc := 107) 145 dX5_turn_107 (by decide) (by omega) (fun c22 => ?_) (fun c22 => ?_)
        · skip
          exact J145  _ _ ⟨hchb, fun j _ => by rw [e2b]⟩ (by rw [if_neg (by omega)]; exact hrob.mono (by omega)) _ _ hX hL ls (lv_sub hl [0, 1, 2, 3, 4, 5, 6] rfl)
        · skip
          refine lv_aload_n hx hb (pc := 110) dX5_turn_110 rfl (lv_at hl 1 rfl) ?_
          refine lv_aload_n hx hb (pc := 111) dX5_turn_111 rfl (lv_at hl 1 rfl) ?_
          refine L_getr hC hX hL in_X5 (ci := 5) rfl (pc := 112) 200 (ho.o.k 200 rfl) 8 (by decide) q445 rfl (q := zA S 200 8) (b := zB S 0) ho.r.2.2.2 rfl dX5_turn_112 ?_
          refine L_getrN hC hX hL in_X0 (ci := 0) rfl (pc := 115) 0 ho.x.2.2.1 7 (by decide) q159 rfl (q := zA S 0 7) (b := zB S 9) ho.x.2.2.2.2 rfl dX5_turn_115 ?_
          refine j_bipush hC (pc := 118) dX5_turn_118 (by decide) ?_
          refine lv_aload_n hx hb (pc := 120) dX5_turn_120 rfl (lv_at hl 1 rfl) ?_
          refine L_getr hC hX hL in_X5 (ci := 5) rfl (pc := 121) 200 (ho.o.k 200 rfl) 0 (by decide) q431 rfl (q := zA S 200 0) (b := zB S 201) ho.r.1 rfl dX5_turn_121 ?_
          refine L_getrN hC hX hL in_X6 (ci := 6) rfl (pc := 124) 201 (hf.sh.k 201 rfl) 6 (by decide) q305 rfl (q := zA S 201 6) (b := zB S 206) (hf.r 6 (by decide)) rfl dX5_turn_124 ?_
          refine lv_iload hx hb (pc := 127) dX5_turn_127 (lv_at hl 4 rfl) ?_
          refine L_iald hC hX hL (pc := 129) 206 (hf.sh.k 206 rfl) (L := 6) (hf.sh.n 206 rfl) (by decide) (by omega) (z := Zb 206 wh) rfl dX5_turn_129 ?_
          refine j_isub hC (pc := 130) dX5_turn_130 ?_
          refine j_i2l hC (pc := 131) dX5_turn_131 (by omega) ?_
          refine lv_lload_n hx hb (pc := 132) dX5_turn_132 rfl (lv_at hl 3 rfl) ?_
          refine j_lmul hC (pc := 133) dX5_turn_133 ?_
          refine j_eql (b := (6 - Su 2 k) * w_) (by rw [ehb]) ?_
          refine lv_iload hx hb (pc := 134) dX5_turn_134 (lv_at hl 5 rfl) ?_
          refine j_iconst hC (pc := 136) dX5_turn_136 ?_
          refine j_iadd hC (pc := 137) dX5_turn_137 ?_
          refine lv_iload hx hb (pc := 138) dX5_turn_138 (lv_at hl 6 rfl) ?_
          refine j_iconst hC (pc := 140) dX5_turn_140 ?_
          refine j_iadd hC (pc := 141) dX5_turn_141 ?_
          obtain ⟨N1, z1, hN1, hac1, hNb1, hw71, hcase1⟩ := hrob
          refine j_callv (rest := []) hX (va_runV hC.fix (o9_comes D T N l hL _ q h (lfD c0) (ufD c0) N1 z1 ((6 - Su 2 k) * w_) (t_ + 1) (rd + 1) hob (cs_fL hstb.m hOb hcsb) hstb.m hcsb hOb hstb.sd hN1 hac1 (by rw [e2b]; omega) (by omega) hw71 (fun _ => ⟨by omega, fun x hx => by have := hNb1 x hx; omega⟩)) (cwV 4 hC.ts (lw_V q367 q369 qs4 q48 q370) rfl rfl rfl (by decide +kernel) ⟨Nat.le_of_ble_eq_true rfl, Nat.le_of_ble_eq_true rfl⟩) (j_preV hC hX (hL.ob 200 (ho.o.k 200 rfl)) (ci := 5) (r := (RX5, TX5, 9)) rfl _) rfl rfl hl.1 rfl (Nat.le_of_ble_eq_true rfl) dX5_turn_142 ⟨(Nat.le_of_ble_eq_true rfl), (Nat.le_of_ble_eq_true rfl)⟩) (fun g m24 H locs hp hle hX => ?_)
          obtain ⟨hn_, Zc, hL, hp⟩ := hp
          rw [hn_] at hX
          have hx_ := roX_comes (rd := rd) (w := ((6 - Su 2 k) * w_)) (sl := Z 200 1) (t := t_) hstb.m hstb.no hab hOb hvvb (by omega) (by omega) (by omega) (by first | (rw [e2b]; done) | (rw [e2b]; omega)) hN1 hac1 hNb1 hw71 hcase1 hp
          exact J145  _ _ ⟨ch.tr hchb hx_.1.1 (by decide), (fun j hj => by rw [hx_.1.2 j hj, e2b])⟩ (by rw [if_pos (by omega)]; have := hx_.2; rw [← hcc, absorb_c (Su := Su) hw] at this; exact this) _ _ hX hL ls (lv_sub hl [0, 1, 2, 3, 4, 5, 6] rfl)
      · skip
        have hcon : Zb 211 wh ≠ 0 ∧ Zb 210 wh ≤ Zb 208 wh := by rcases Classical.em (Zb 211 wh ≠ 0 ∧ Zb 210 wh ≤ Zb 208 wh) with y | y; exact y; have := (hp.2 y).1; omega
        have hzr := (hp.1 hcon).2
        have hchr : ch Z Zr [200, 9, 10, 11, 12, 210, 211, 213, 214, 216, 217, 218, 219, 220, 221] := by rw [hzr]; exact hchb.up 211 _ (by decide)
        have hor : oS q S Zr := ho.ch hchr (by decide)
        have hstr : stR h Su Zr := hst.ch hchr (by decide)
        have e1r : Zr 201 = Z 201 := hchr 201 (by decide)
        have e0r : Zr 0 = Z 0 := hchr 0 (by decide)
        have ehr : Zr 206 wh = Su 2 k := by have := (hstr.at (k := wh) (by rw [e1r]; exact hwh)).2.2.1; rw [hk] at this; exact this
        have e2r : Zr 200 = Z 200 := by rw [hzr]; exact e2b
        have hcsr : csR h (Zr 201 0) (lfD c0) (uI (ufD c0) k 0) (Zr 210) (Zr 211) := by rw [hzr, ← hk]; exact hcsb.upU hstb.m (by rw [e1b]; exact hwh) 0
        have hOr : okS (lfD c0) (uI (ufD c0) k 0) := fun j y1 y2 => ⟨(hv.2.1 j y1 y2).1, by unfold uI; split; exact Or.inl rfl; exact (hv.2.1 j y1 y2).2⟩
        have hror : roX B q h (Z 200 1) t_ Zr a := by rw [hzr]; exact hrob.kp (by rw [e1b]; exact hm6) ((ch.rf (f := Zb)).up 211 _ (show 211 ∈ [211] by decide)) (by decide)
        have hvvr : vC Su (pkF (lfD c0) (uI (ufD c0) k 0) 6) := vC_pk hOr (fun j y1 y2 y3 => ⟨(hv.2.2.2 j y1 y2 y3).1, by unfold uI; split; rfl; exact (hv.2.2.2 j y1 y2 y3).2⟩)
        have har := ha
        refine lv_aload_n hx hb (pc := 70) dX5_turn_70 rfl (lv_at hl 1 rfl) ?_
        refine lv_aload_n hx hb (pc := 71) dX5_turn_71 rfl (lv_at hl 1 rfl) ?_
        refine L_getr hC hX hL in_X5 (ci := 5) rfl (pc := 72) 200 (ho.o.k 200 rfl) 8 (by decide) q445 rfl (q := zA S 200 8) (b := zB S 0) ho.r.2.2.2 rfl dX5_turn_72 ?_
        refine L_getrN hC hX hL in_X0 (ci := 0) rfl (pc := 75) 0 ho.x.2.2.1 7 (by decide) q159 rfl (q := zA S 0 7) (b := zB S 9) ho.x.2.2.2.2 rfl dX5_turn_75 ?_
        refine j_ldc2 hC (pc := 78) (z := 6) q366 dX5_turn_78 rfl ?_
        refine lv_lload_n hx hb (pc := 81) dX5_turn_81 rfl (lv_at hl 3 rfl) ?_
        refine j_lmul hC (pc := 82) dX5_turn_82 ?_
        refine lv_iload hx hb (pc := 83) dX5_turn_83 (lv_at hl 5 rfl) ?_
        refine j_iconst hC (pc := 85) dX5_turn_85 ?_
        refine j_iadd hC (pc := 86) dX5_turn_86 ?_
        refine lv_iload hx hb (pc := 87) dX5_turn_87 (lv_at hl 6 rfl) ?_
        refine j_iconst hC (pc := 89) dX5_turn_89 ?_
        refine j_iadd hC (pc := 90) dX5_turn_90 ?_
        obtain ⟨N1, z1, hN1, hac1, hNb1, hw71, hcase1⟩ := hror
        refine j_callv (rest := []) hX (va_runV hC.fix (o9_comes D T N l hL _ q h (lfD c0) (uI (ufD c0) k 0) N1 z1 (6 * w_) (t_ + 1) (rd + 1) hor (cs_fL hstr.m hOr hcsr) hstr.m hcsr hOr hstr.sd hN1 hac1 (by rw [e2r]; omega) (by omega) hw71 (fun _ => ⟨by omega, fun x hx => by have := hNb1 x hx; omega⟩)) (cwV 4 hC.ts (lw_V q367 q369 qs4 q48 q370) rfl rfl rfl (by decide +kernel) ⟨Nat.le_of_ble_eq_true rfl, Nat.le_of_ble_eq_true rfl⟩) (j_preV hC hX (hL.ob 200 (ho.o.k 200 rfl)) (ci := 5) (r := (RX5, TX5, 9)) rfl _) rfl rfl hl.1 rfl (Nat.le_of_ble_eq_true rfl) dX5_turn_91 ⟨(Nat.le_of_ble_eq_true rfl), (Nat.le_of_ble_eq_true rfl)⟩) (fun g m27 H locs hp hle hX => ?_)
        obtain ⟨hn_, Zc, hL, hp⟩ := hp
        rw [hn_] at hX
        have hx_ := roX_comes (rd := rd) (w := (6 * w_)) (sl := Z 200 1) (t := t_) hstr.m hstr.no har hOr hvvr (by omega) (by omega) (by omega) (by first | (rw [e2r]; done) | (rw [e2r]; omega)) hN1 hac1 hNb1 hw71 hcase1 hp
        subst hQ
        exact j_vret hC (pc := 94) hX hr hlk (Nat.le_of_ble_eq_true rfl) (Nat.le_of_ble_eq_true rfl) dX5_turn_94 ⟨rfl, _, hL, ⟨⟨ch.tr hchr hx_.1.1 (by decide), (fun j hj => by rw [hx_.1.2 j hj, e2r])⟩, by rw [st_flee hk0 (show lfD c0 k ≤ Su 4 k by omega)]; exact hx_.2⟩⟩
  refine lv_aload_n hx hb (pc := 8) dX5_turn_8 rfl (lv_at hl 0 rfl) ?_
  refine L_getr hC hX hL in_X5 (ci := 5) rfl (pc := 9) 200 (ho.o.k 200 rfl) 0 (by decide) q431 rfl (q := zA S 200 0) (b := zB S 201) ho.r.1 rfl dX5_turn_9 ?_
  refine L_getrN hC hX hL in_X6 (ci := 6) rfl (pc := 12) 201 (hf.sh.k 201 rfl) 11 (by decide) q324 rfl (q := zA S 201 11) (b := zB S 211) (hf.r 11 (by decide)) rfl dX5_turn_12 ?_
  refine lv_iload hx hb (pc := 15) dX5_turn_15 (lv_at hl 3 rfl) ?_
  refine L_zald hC hX hL (pc := 17) 211 (hf.sh.k 211 rfl) (L := 6) (hf.sh.n 211 rfl) (by decide) (by omega) (z := Zb 211 wh) rfl dX5_turn_17 ?_
  refine j_if_eq hC (pc := 18) 50 dX5_turn_18 (by decide) (by omega) (fun c29 => ?_) (fun c29 => ?_)
  · skip
    refine j_iconst hC (pc := 50) dX5_turn_50 ?_
    exact J51 0 _ (by omega) _ _ hX hL ls (lv_sub hl [0, 1, 2, 3, 4, 5] rfl)
  · skip
    refine lv_iload hx hb (pc := 21) dX5_turn_21 (lv_at hl 5 rfl) ?_
    refine j_if_gt hC (pc := 23) 46 dX5_turn_23 (by decide) (by omega) (fun c30 => ?_) (fun c30 => ?_)
    · skip
      refine j_iconst hC (pc := 46) dX5_turn_46 ?_
      refine j_goto hC (pc := 47) 51 dX5_turn_47 (by decide) ?_
      exact J51 1 _ (by omega) _ _ hX hL ls (lv_sub hl [0, 1, 2, 3, 4, 5] rfl)
    · skip
      refine lv_aload_n hx hb (pc := 26) dX5_turn_26 rfl (lv_at hl 0 rfl) ?_
      refine L_getr hC hX hL in_X5 (ci := 5) rfl (pc := 27) 200 (ho.o.k 200 rfl) 0 (by decide) q431 rfl (q := zA S 200 0) (b := zB S 201) ho.r.1 rfl dX5_turn_27 ?_
      refine L_getrN hC hX hL in_X6 (ci := 6) rfl (pc := 30) 201 (hf.sh.k 201 rfl) 2 (by decide) q297 rfl (q := zA S 201 2) (b := zB S 202) (hf.r 2 (by decide)) rfl dX5_turn_30 ?_
      refine lv_iload hx hb (pc := 33) dX5_turn_33 (lv_at hl 3 rfl) ?_
      refine L_iald hC hX hL (pc := 35) 202 (hf.sh.k 202 rfl) (L := 6) (hf.sh.n 202 rfl) (by decide) (by omega) (z := Zb 202 wh) rfl dX5_turn_35 ?_
      refine lv_aload_n hx hb (pc := 36) dX5_turn_36 rfl (lv_at hl 0 rfl) ?_
      refine L_getr hC hX hL in_X5 (ci := 5) rfl (pc := 37) 200 (ho.o.k 200 rfl) 8 (by decide) q445 rfl (q := zA S 200 8) (b := zB S 0) ho.r.2.2.2 rfl dX5_turn_37 ?_
      refine L_getN hC hX hL in_X0 (ci := 0) rfl (pc := 40) 0 ho.x.2.2.1 5 (by decide) q156 rfl (v := .int (iI (Zb 0 5))) rfl dX5_turn_40 ?_
      refine j_icmp_eq hC (pc := 43) 50 dX5_turn_43 (by decide) (by omega) (fun c31 => ?_) (fun c31 => ?_)
      · skip
        refine j_iconst hC (pc := 50) dX5_turn_50 ?_
        exact J51 0 _ (by omega) _ _ hX hL ls (lv_sub hl [0, 1, 2, 3, 4, 5] rfl)
      · skip
        refine j_iconst hC (pc := 46) dX5_turn_46 ?_
        refine j_goto hC (pc := 47) 51 dX5_turn_47 (by decide) ?_
        exact J51 1 _ (by omega) _ _ hX hL ls (lv_sub hl [0, 1, 2, 3, 4, 5] rfl)
