/-! FairFight: all turns of the odds -/
theorem swZ_ch {Z : Nat → Int → Int} : ch Z (swZ Z) [5, 6, 7, 8, 9, 10, 11, 12] := fun k hk => by
  simp at hk
  show Z (swL k) = Z k
  rw [swL_id (by omega)]
theorem mpC_at {h m : Int} {R : List (Int × Int)} {i : Nat} {s : Int × Int} (hs : R[i]? = some s) : (mpC h m R)[i]? = some (ckC h m s.1, s.2) := by
  unfold mpC
  rw [List.getElem?_map, hs]
  rfl
theorem tZ5.kp {Z Z' : Nat → Int → Int} {N : List (Int × Int)} (h : tZ 5 Z N) {ks : List Nat} (hc : ch Z Z' ks) (hk : (!ks.contains 5 && !ks.contains 6 && !ks.contains 7 && !ks.contains 8) = true) : tZ 5 Z' N := by
  simp at hk
  unfold tZ at h ⊢
  rw [hc 5 (by simp [hk]), hc (5 + 1) (by simp [hk]), hc (5 + 2) (by simp [hk]), hc (5 + 3) (by simp [hk])]
  exact h
theorem wk_in {q h : Int} {Su : Int → Int → Int} {sl i k d : Int} {Z : Nat → Int → Int} (hi : 0 ≤ i ∧ i < sl) (hw : wkE q h Su sl Z ∨ wkW q h Su sl i Z ∨ wkX Su sl Z) (h7 : Z 200 7 = 0) :
    ∃ R0 : List (Int × Int), tZ 5 Z (mpC h (Z 201 0) R0) ∧ wkI q h Su sl i k d 0 R0 Z ∧ (winF (U0 Su) = 2 → ∀ u : Nat, u < i.toNat → (u : Int) + 1 < sl → ¬ 400 < (evo Su sl z3 (u + 1)).1.length) ∧ ((winF (U0 Su) < 2 ∧ Z 200 6 = 0 ∧ R0 = []) ∨ (winF (U0 Su) = 2 ∧ Z 200 6 = wdF Su sl i.toNat ∧ R0 = (evo Su sl z3 i.toNat).1)) := by
  rcases hw with ⟨w1, w2, w3, w4, w5, w6⟩ | ⟨w1, w2, w3, w4, w5, w6⟩ | ⟨w1, w2, -⟩
  · exact ⟨[], w4, Or.inl ⟨w1, rfl, w2, w5, w6⟩, fun z => by omega, Or.inl ⟨w1, w3, rfl⟩⟩
  · rcases w6 with ⟨f1, f2, f3⟩ | ⟨f1, -⟩
    · refine ⟨_, f2, Or.inr ⟨w1, rfl, [], _, w4, f3, fun x hx => absurd hx List.not_mem_nil, Or.inl w2, ?_⟩, fun _ => w5, Or.inr ⟨w1, w3, rfl⟩⟩
      rcases Int.lt_or_le (i + 1) sl with y | y
      · exact Or.inl ⟨y, w2, rfl, rfl⟩
      · exact Or.inr (Or.inr ⟨by omega, w2, rfl, rfl⟩)
    · exfalso
      omega
  · exfalso
    omega
theorem wk_ok {Su : Int → Int → Int} (hS : okSu Su) (hm : 0 < Su 6 2) (hw : winF (U0 Su) = 2) {sl k d rest : Int} (hk : 0 ≤ k ∧ k < 6) {t n : Nat} {z : Ac3} : ∀ x ∈ (((evo Su sl z3 t).1.take n).foldl (stepS Su k d rest) ([], z)).1, vC Su x.1 := fun x hx =>
  ((okN.slot hS hk _ _ (fun y hy => okN.evo hS hm hw t y (List.mem_of_mem_take hy)) (fun y hy => absurd hy List.not_mem_nil)) x hx).1

theorem wkI.up6 {q h : Int} {Su : Int → Int → Int} {sl i k d j : Int} {R0 : List (Int × Int)} {Z : Nat → Int → Int} {x : Int} (hw : wkI q h Su sl i k d j R0 Z) (hm : Z 201 0 ≤ 6) : wkI q h Su sl i k d j R0 (va_up Z 200 (uI (Z 200) 6 x)) := by
  have e7 : (va_up Z 200 (uI (Z 200) 6 x)) 200 7 = Z 200 7 := uI_n (Z 200) x (show (7 : Int) ≠ 6 by decide)
  rcases hw with ⟨w1, w2, w3, w4, w5⟩ | ⟨w1, w2, N, z, n1, n2, n3, n4, n5⟩
  · exact Or.inl ⟨w1, w2, e7.trans w3, w4, w5.kp ((ch.rf (f := Z)).up 200 _ (show 200 ∈ [200] by decide)) hm (by decide)⟩
  · refine Or.inr ⟨w1, w2, N, z, n1, n2.kp ((ch.rf (f := Z)).up 200 _ (show 200 ∈ [200] by decide)) hm (by decide), n3, by rw [e7]; exact n4, by rw [e7]; exact n5⟩

set_option maxHeartbeats 16000000 in
set_option maxRecDepth 100000 in
theorem o_work (D : va_G) (T N : Nat → Nat) (l : Launch) {g0 : GH} {S : LbS} {Z : Nat → Int → Int} (hL : lR T g0 S Z) (n : Nat) (q h : Int) (Su : Int → Int → Int) (N5 N9 : List (Int × Int)) (ho : oS q S Z) (hst : stR h Su Z) (hSu : okSu Su) (hN5 : tZ 5 Z N5) (hN9 : tZ 9 Z N9) (hcs : csR h (Z 201 0) (Su 1) (U0 Su) (Z 210) (Z 211)) (hac : acF q h (Z 201 0) Z z3) (hsl : 0 ≤ Z 200 1 ∧ Z 200 1 ≤ 22 ∧ Z 200 1 = Su 6 3 * Su 6 2) (hR : 1 ≤ Su 6 3 ∧ Su 6 3 ≤ 6) (h7 : Z 200 7 = 0) (h6 : Z 200 6 = 0) (hal : Z 200 2 = 1) (h51 : -1 ≤ Z 0 5 ∧ Z 0 5 ≤ 1) (hmp : winF (U0 Su) = 2 → 0 < Su 6 2 ∧ 1 ≤ Z 200 1) : Met l yX5_work (ws_ yX5_work cX5_work 6 none) ({ frames := 5, cells := 0, slots := 0, locals := 117 } : Room) (gPc D T N [.ref (zB S 200)] g0 n) (gQv D g0 n (fun g' n' => ∃ S' Z', lR T g' S' Z' ∧ swR S S' ∧ xT S' ∧ ch Z Z' [5, 6, 7, 8, 9, 10, 11, 12, 200, 210, 211, 213, 214, 216, 217, 218, 219, 220, 221] ∧ (∀ j : Int, j ≠ 2 → j ≠ 6 → j ≠ 7 → Z' 200 j = Z 200 j) ∧ Z' 200 2 = 6 ^ (Z 200 1).toNat ∧ wkEnd q h Su (Z 200 1) Z')) 0 0 (gA g0 n) := by
  refine j_start (by decide) (Nat.le_of_ble_eq_true rfl) ?_
  intro p e s mi args below meth c hC hr hlk hnm hX ls hl
  have hC : Ct D T N (gA g0 n) p s mi args c cX5_work RX5 6 := hC
  have hx := hC.x
  have hb := hC.b
  generalize hQ : MQ below _ args s 0 0 (gA g0 n) = Q
  have hl : lv_has ls 6 [(0, .ref (zB S 200))] := hl
  refine lv_aload_n hx hb (pc := 0) dX5_work_0 rfl (lv_at hl 0 rfl) ?_
  refine L_getr hC hX hL in_X5 (ci := 5) rfl (pc := 1) 200 (ho.o.k 200 rfl) 8 (by decide) q445 rfl (q := zA S 200 8) (b := zB S 0) ho.r.2.2.2 rfl dX5_work_1 ?_
  refine L_getrN hC hX hL in_X0 (ci := 0) rfl (pc := 4) 0 ho.x.2.2.1 6 (by decide) q157 rfl (q := zA S 0 6) (b := zB S 5) ho.x.2.2.2.1 rfl dX5_work_4 ?_
  refine j_callv (rest := []) hX (va_runV hC.fix (t5_clear D T N l hL _ N5 ho.x.1 hN5) (cwV 0 hC.ts (lw_V q362 q363 q364 q41 q365) rfl rfl rfl (by decide +kernel) ⟨Nat.le_of_ble_eq_true rfl, Nat.le_of_ble_eq_true rfl⟩) (j_preV hC hX (hL.ob 5 (ho.x.1.1.k 5 rfl)) (ci := 1) (r := (RX1, TX1, 4)) rfl _) rfl rfl hl.1 rfl (Nat.le_of_ble_eq_true rfl) dX5_work_7 ⟨(Nat.le_of_ble_eq_true rfl), (Nat.le_of_ble_eq_true rfl)⟩) (fun g m2 H locs hp hle hX => ?_)
  obtain ⟨hn_, Za, hL, hp⟩ := hp
  rw [hn_] at hX
  have hca := hp.1
  have h5a := hp.2
  have hN9a : tZ 9 Za N9 := tZ9.kp hN9 hca (by decide)
  clear hp
  refine lv_aload_n hx hb (pc := 10) dX5_work_10 rfl (lv_at hl 0 rfl) ?_
  refine L_getr hC hX hL in_X5 (ci := 5) rfl (pc := 11) 200 (ho.o.k 200 rfl) 8 (by decide) q445 rfl (q := zA S 200 8) (b := zB S 0) ho.r.2.2.2 rfl dX5_work_11 ?_
  refine L_getrN hC hX hL in_X0 (ci := 0) rfl (pc := 14) 0 ho.x.2.2.1 7 (by decide) q159 rfl (q := zA S 0 7) (b := zB S 9) ho.x.2.2.2.2 rfl dX5_work_14 ?_
  refine j_callv (rest := []) hX (va_runV hC.fix (t9_clear D T N l hL _ N9 ho.x.2.1 hN9a) (cwV 0 hC.ts (lw_V q362 q363 q364 q41 q365) rfl rfl rfl (by decide +kernel) ⟨Nat.le_of_ble_eq_true rfl, Nat.le_of_ble_eq_true rfl⟩) (j_preV hC hX (hL.ob 9 (ho.x.2.1.1.k 9 rfl)) (ci := 1) (r := (RX1, TX1, 4)) rfl _) rfl rfl hl.1 rfl (Nat.le_of_ble_eq_true rfl) dX5_work_17 ⟨(Nat.le_of_ble_eq_true rfl), (Nat.le_of_ble_eq_true rfl)⟩) (fun g m5 H locs hp hle hX => ?_)
  obtain ⟨hn_, Zb, hL, hp⟩ := hp
  rw [hn_] at hX
  have hcb : ch Z Zb [5, 7, 9, 11] := ch.tr hca hp.1 (by decide)
  have h9b := hp.2
  have h5b : tZ 5 Zb [] := tZ5.kp h5a hp.1 (by decide)
  clear hp
  refine j_iconst hC (pc := 20) dX5_work_20 ?_
  refine lv_istore_n (lv' := [(1, .int (iI (0))), (0, .ref (zB S 200))]) hx hb (pc := 21) dX5_work_21 rfl hl (by decide) rfl (fun ls hl => ?_)
  have L22 : ∀ (fu : Nat) (j : Int) (g : GH) (Zc : Nat → Int → Int), 22 - j < (fu : Int) → (0 ≤ j ∧ j ≤ Z 200 1) → (ch Zb Zc [200]) → (∀ x : Int, x ≠ 2 → Zc 200 x = Zb 200 x) → (Zc 200 2 = 6 ^ j.toNat) → ∀ (H : Heap) (locs : List Loc), Wd D (gA g0 n) s g n H locs → lR T g S Zc → ∀ (ls : Array Slot), lv_has ls 6 [(1, .int (iI (j))), (0, .ref (zB S 200))] → W p l e ({ frames := 5, cells := 0, slots := 0, locals := 117 } : Room) s mi args below meth c H locs 0 0 Q (F0 mi 22 ls []) := by
    intro fu
    induction fu with
    | zero =>
      intro j g Zc hfu hj hcc hoj h2 H locs hX hL ls hl
      exfalso
      omega
    | succ fu ih22 =>
      intro j g Zc hfu hj hcc hoj h2 H locs hX hL ls hl
      have hcz : ch Z Zc [5, 7, 9, 11, 200] := ch.tr hcb hcc (by decide)
      have hc1 : Zc 200 1 = Z 200 1 := by rw [hoj 1 (by decide), hcb 200 (by decide)]
      refine lv_iload_n hx hb (pc := 22) dX5_work_22 rfl (lv_at hl 0 rfl) ?_
      refine lv_aload_n hx hb (pc := 23) dX5_work_23 rfl (lv_at hl 1 rfl) ?_
      refine L_get hC hX hL in_X5 (ci := 5) rfl (pc := 24) 200 (ho.o.k 200 rfl) 1 (by decide) q432 rfl (v := .int (iI (Zc 200 1))) rfl dX5_work_24 ?_
      refine j_icmp_ge hC (pc := 27) 48 dX5_work_27 (by decide) (by omega) (fun c7 => ?_) (fun c7 => ?_)
      · skip
        have hoc : oS q S Zc := ho.ch hcz (by decide)
        have hstc : stR h Su Zc := hst.ch hcz (by decide)
        have e1c : Zc 201 = Z 201 := hcz 201 (by decide)
        have hcsc : csR h (Zc 201 0) (Su 1) (U0 Su) (Zc 210) (Zc 211) := by rw [e1c, hcz 210 (by decide), hcz 211 (by decide)]; exact hcs
        have h5c : tZ 5 Zc [] := tZ5.kp h5b hcc (by decide)
        have h9c : tZ 9 Zc [] := tZ9.kp h9b hcc (by decide)
        have hm60 : Z 201 0 ≤ 6 := by have := hst.m; unfold hmOk at this; omega
        have hacc : acF q h (Zc 201 0) Zc z3 := by rw [e1c]; exact hac.kp hcz hm60 (by decide)
        have h7c : Zc 200 7 = 0 := by rw [hoj 7 (by decide), hcb 200 (by decide)]; exact h7
        refine lv_aload_n hx hb (pc := 48) dX5_work_48 rfl (lv_at hl 1 rfl) ?_
        refine lv_aload_n hx hb (pc := 49) dX5_work_49 rfl (lv_at hl 1 rfl) ?_
        refine L_getr hC hX hL in_X5 (ci := 5) rfl (pc := 50) 200 (ho.o.k 200 rfl) 8 (by decide) q445 rfl (q := zA S 200 8) (b := zB S 0) ho.r.2.2.2 rfl dX5_work_50 ?_
        refine L_getrN hC hX hL in_X0 (ci := 0) rfl (pc := 53) 0 ho.x.2.2.1 6 (by decide) q157 rfl (q := zA S 0 6) (b := zB S 5) ho.x.2.2.2.1 rfl dX5_work_53 ?_
        refine j_lconst hC (pc := 56) (w := 1) dX5_work_56 rfl ?_
        refine j_iconst hC (pc := 57) dX5_work_57 ?_
        refine j_iconst hC (pc := 58) dX5_work_58 ?_
        refine j_callv (rest := []) hX (va_runV hC.fix (o5_comes D T N l hL _ q h (Su 1) (U0 Su) [] z3 1 0 0 hoc (cs_fL hstc.m (ag_ok hSu) hcsc) hstc.m hcsc (ag_ok hSu) hstc.sd h5c hacc (by omega) (by omega) (by omega) (fun _ => ⟨by omega, fun x hx => absurd hx List.not_mem_nil⟩)) (cwV 4 hC.ts (lw_V q367 q369 qs4 q48 q370) rfl rfl rfl (by decide +kernel) ⟨Nat.le_of_ble_eq_true rfl, Nat.le_of_ble_eq_true rfl⟩) (j_preV hC hX (hL.ob 200 (ho.o.k 200 rfl)) (ci := 5) (r := (RX5, TX5, 9)) rfl _) rfl rfl hl.1 rfl (Nat.le_of_ble_eq_true rfl) dX5_work_59 ⟨(Nat.le_of_ble_eq_true rfl), (Nat.le_of_ble_eq_true rfl)⟩) (fun g m9 H locs hp hle hX => ?_)
        obtain ⟨hn_, Zd, hL, hp⟩ := hp
        rw [hn_] at hX
        have hks := wk_start (sl := Z 200 1) (Z := Zc) hSu hstc.m (fun y => (hmp y).2) hsl.1 hc1 (by rw [hoj 7 (by decide), hcb 200 (by decide)]; exact h7) (by rw [hoj 6 (by decide), hcb 200 (by decide)]; exact h6) h5c h9c hacc hp
        clear hp
        refine j_iconst hC (pc := 62) dX5_work_62 ?_
        refine lv_istore_n (lv' := [(1, .int (iI (0))), (0, .ref (zB S 200))]) hx hb (pc := 63) dX5_work_63 rfl hl (by decide) rfl (fun ls hl => ?_)
        have L64 : ∀ (fu : Nat) (i : Int) (g : GH) (nj64 : Nat) (S1 : LbS) (Z1 : Nat → Int → Int), 22 - i < (fu : Int) → (0 ≤ i ∧ i ≤ Z 200 1) → (swR S S1) → (xT S1) → (ch Z Z1 [5, 6, 7, 8, 9, 10, 11, 12, 200, 210, 211, 213, 214, 216, 217, 218, 219, 220, 221]) → (∀ x : Int, x ≠ 2 → x ≠ 6 → x ≠ 7 → Z1 200 x = Z 200 x) → (Z1 200 2 = 6 ^ (Z 200 1).toNat) → (wkE q h Su (Z 200 1) Z1 ∨ wkW q h Su (Z 200 1) i Z1 ∨ wkX Su (Z 200 1) Z1) → ∀ (H : Heap) (locs : List Loc), Wd D (gA g0 n) s g nj64 H locs → lR T g S1 Z1 → ∀ (ls : Array Slot), lv_has ls 6 [(1, .int (iI (i))), (0, .ref (zB S1 200))] → W p l e ({ frames := 5, cells := 0, slots := 0, locals := 117 } : Room) s mi args below meth c H locs 0 0 Q (F0 mi 64 ls []) := by
          intro fu
          induction fu with
          | zero =>
            intro i g nj64 S1 Z1 hfu hi hsw hx1 hch1 h2001 hall hwk H locs hX hL ls hl
            exfalso
            omega
          | succ fu ih64 =>
            intro i g nj64 S1 Z1 hfu hi hsw hx1 hch1 h2001 hall hwk H locs hX hL ls hl
            have ho1 : oS q S1 Z1 := (ho.sw hsw hx1).ch hch1 (by decide)
            have hst1 : stR h Su Z1 := hst.ch hch1 (by decide)
            have e1 : Z1 201 = Z 201 := hch1 201 (by decide)
            have e0 : Z1 0 = Z 0 := hch1 0 (by decide)
            have hsl1 : Z1 200 1 = Z 200 1 := h2001 1 (by decide) (by decide) (by decide)
            have h71 : Z1 200 7 = 0 ∨ Z1 200 7 = 1 := by rcases hwk with y | y | y; exact Or.inl y.2.1; exact Or.inl y.2.1; exact Or.inr y.2.1
            refine lv_iload_n hx hb (pc := 64) dX5_work_64 rfl (lv_at hl 0 rfl) ?_
            refine lv_aload_n hx hb (pc := 65) dX5_work_65 rfl (lv_at hl 1 rfl) ?_
            refine L_get hC hX hL in_X5 (ci := 5) rfl (pc := 66) 200 (ho1.o.k 200 rfl) 1 (by decide) q432 rfl (v := .int (iI (Z1 200 1))) rfl dX5_work_66 ?_
            refine j_icmp_ge hC (pc := 69) 285 dX5_work_69 (by decide) (by omega) (fun c11 => ?_) (fun c11 => ?_)
            · skip
              subst hQ
              exact j_vret hC (pc := 285) hX hr hlk (Nat.le_of_ble_eq_true rfl) (Nat.le_of_ble_eq_true rfl) dX5_work_285 ⟨_, _, hL, ⟨hsw, hx1, hch1, h2001, hall, wk_end ⟨hi.1, hi.2, hsl.2.1⟩ hwk (Or.inl (by omega))⟩⟩
            · skip
              refine lv_aload_n hx hb (pc := 72) dX5_work_72 rfl (lv_at hl 1 rfl) ?_
              refine L_get hC hX hL in_X5 (ci := 5) rfl (pc := 73) 200 (ho1.o.k 200 rfl) 7 (by decide) q443 rfl (v := .int (iI (Z1 200 7))) rfl dX5_work_73 ?_
              refine j_if_ne hC (pc := 76) 285 dX5_work_76 (by decide) (by omega) (fun c12 => ?_) (fun c12 => ?_)
              · skip
                subst hQ
                exact j_vret hC (pc := 285) hX hr hlk (Nat.le_of_ble_eq_true rfl) (Nat.le_of_ble_eq_true rfl) dX5_work_285 ⟨_, _, hL, ⟨hsw, hx1, hch1, h2001, hall, wk_end ⟨hi.1, hi.2, hsl.2.1⟩ hwk (Or.inr (by omega))⟩⟩
              · skip
                have hs0_ := hSu.2.1
                have hi_ : i < Z 200 1 := by omega
                have hmp2 : 0 < Su 6 2 := by rcases Int.lt_or_le 0 (Su 6 2) with y | y; exact y; have y2 : Su 6 2 = 0 := (by omega); have y3 := hsl.2.2; rw [y2, Int.mul_zero] at y3; omega
                obtain ⟨d, hd_⟩ : ∃ d, d = i / Su 6 2 := ⟨_, rfl⟩
                obtain ⟨k, hk_⟩ : ∃ k, k = Su 5 (i % Su 6 2) := ⟨_, rfl⟩
                have hkr : 0 ≤ k ∧ k < 6 := by rw [hk_]; exact hSu.turn (by omega) hmp2
                have hd1 : d < Su 6 3 := by rw [hd_]; exact Int.ediv_lt_of_lt_mul hmp2 (by omega)
                have hd0 : 0 ≤ d := by rw [hd_]; exact Int.ediv_nonneg (by omega) (by omega)
                have hmd := Int.emod_nonneg i (show Su 6 2 ≠ 0 by omega)
                have hmd2 := Int.emod_lt_of_pos i hmp2
                obtain ⟨R0, hR5, hin0, hnw, hw6⟩ := wk_in (k := k) (d := d) ⟨hi.1, hi_⟩ hwk (by omega)
                have hlen := hR5.len
                rw [mpC_len] at hlen
                obtain ⟨wh, hwh_⟩ : ∃ wh, wh = Z1 209 (i % Su 6 2) := ⟨_, rfl⟩
                have hatw := ho1.f.at (k := i % Su 6 2) (by rw [e1, hst.n.1]; omega)
                have hats := hst1.at (k := i % Su 6 2) (by rw [e1, hst.n.1]; omega)
                have hwhr : 0 ≤ wh ∧ wh < Z1 201 0 := by rw [hwh_]; exact hatw.2.2.2.2.2.2.2
                have hslw : slF h wh = k := by rw [hwh_, hk_]; exact hats.2.2.2.2.2
                have hw6r : 0 ≤ Z1 200 6 ∧ Z1 200 6 ≤ 400 := by rcases hw6 with ⟨y1, y2, -⟩ | ⟨y1, y2, -⟩; omega; rw [y2]; exact wdF_rg (sl := Z 200 1) i.toNat (fun u hu => by have := hnw y1 u (by omega) (by omega); omega)
                have hm6 : Z1 201 0 ≤ 6 := by rw [e1, hst.n.1]; have := hSu.2.1; omega
                have hn1 := hst.n.1
                clear hatw hats hwk
                refine lv_iload_n hx hb (pc := 79) dX5_work_79 rfl (lv_at hl 0 rfl) ?_
                refine lv_aload_n hx hb (pc := 80) dX5_work_80 rfl (lv_at hl 1 rfl) ?_
                refine L_getr hC hX hL in_X5 (ci := 5) rfl (pc := 81) 200 (ho1.o.k 200 rfl) 0 (by decide) q431 rfl (q := zA S1 200 0) (b := zB S1 201) ho1.r.1 rfl dX5_work_81 ?_
                refine L_getN hC hX hL in_X6 (ci := 6) rfl (pc := 84) 201 (ho1.f.sh.k 201 rfl) 0 (by decide) q285 rfl (v := .int (iI (Z1 201 0))) rfl dX5_work_84 ?_
                refine j_idiv hC (pc := 87) dX5_work_87 (by rw [e1, hst.n.1]; omega) ?_
                refine j_eqi (b := d) (by rw [e1, hst.n.1, hd_]) ?_
                refine lv_istore_n (lv' := [(2, .int (iI (d))), (1, .int (iI (i))), (0, .ref (zB S1 200))]) hx hb (pc := 88) dX5_work_88 rfl hl (by decide) rfl (fun ls hl => ?_)
                refine lv_aload_n hx hb (pc := 89) dX5_work_89 rfl (lv_at hl 2 rfl) ?_
                refine L_getr hC hX hL in_X5 (ci := 5) rfl (pc := 90) 200 (ho1.o.k 200 rfl) 0 (by decide) q431 rfl (q := zA S1 200 0) (b := zB S1 201) ho1.r.1 rfl dX5_work_90 ?_
                refine L_getrN hC hX hL in_X6 (ci := 6) rfl (pc := 93) 201 (ho1.f.sh.k 201 rfl) 9 (by decide) q313 rfl (q := zA S1 201 9) (b := zB S1 209) (ho1.f.r 9 (by decide)) rfl dX5_work_93 ?_
                refine lv_iload_n hx hb (pc := 96) dX5_work_96 rfl (lv_at hl 1 rfl) ?_
                refine lv_aload_n hx hb (pc := 97) dX5_work_97 rfl (lv_at hl 2 rfl) ?_
                refine L_getr hC hX hL in_X5 (ci := 5) rfl (pc := 98) 200 (ho1.o.k 200 rfl) 0 (by decide) q431 rfl (q := zA S1 200 0) (b := zB S1 201) ho1.r.1 rfl dX5_work_98 ?_
                refine L_getN hC hX hL in_X6 (ci := 6) rfl (pc := 101) 201 (ho1.f.sh.k 201 rfl) 0 (by decide) q285 rfl (v := .int (iI (Z1 201 0))) rfl dX5_work_101 ?_
                refine j_irem hC (pc := 104) dX5_work_104 (by rw [e1, hst.n.1]; omega) ?_
                refine L_iald hC hX hL (pc := 105) 209 (ho1.f.sh.k 209 rfl) (L := 6) (ho1.f.sh.n 209 rfl) (by decide) (by rw [e1, hst.n.1]; omega) (z := Z1 209 (i % (Z1 201 0))) rfl dX5_work_105 ?_
                refine j_eqi (b := wh) (by rw [hwh_, e1, hst.n.1]) ?_
                refine lv_istore_n (lv' := [(3, .int (iI (wh))), (2, .int (iI (d))), (1, .int (iI (i))), (0, .ref (zB S1 200))]) hx hb (pc := 106) dX5_work_106 rfl hl (by decide) rfl (fun ls hl => ?_)
                refine lv_aload_n hx hb (pc := 107) dX5_work_107 rfl (lv_at hl 3 rfl) ?_
                refine lv_aload_n hx hb (pc := 108) dX5_work_108 rfl (lv_at hl 3 rfl) ?_
                refine L_get hC hX hL in_X5 (ci := 5) rfl (pc := 109) 200 (ho1.o.k 200 rfl) 6 (by decide) q441 rfl (v := .int (iI (Z1 200 6))) rfl dX5_work_109 ?_
                refine lv_aload_n hx hb (pc := 112) dX5_work_112 rfl (lv_at hl 3 rfl) ?_
                refine L_getr hC hX hL in_X5 (ci := 5) rfl (pc := 113) 200 (ho1.o.k 200 rfl) 8 (by decide) q445 rfl (q := zA S1 200 8) (b := zB S1 0) ho1.r.2.2.2 rfl dX5_work_113 ?_
                refine L_getrN hC hX hL in_X0 (ci := 0) rfl (pc := 116) 0 ho1.x.2.2.1 6 (by decide) q157 rfl (q := zA S1 0 6) (b := zB S1 5) ho1.x.2.2.2.1 rfl dX5_work_116 ?_
                refine L_getN hC hX hL in_X1 (ci := 1) rfl (pc := 119) 5 (ho1.x.1.1.k 5 rfl) 3 (by decide) q93 rfl (v := .int (iI (Z1 5 3))) rfl dX5_work_119 ?_
                refine j_mmax hC (pc := 122) q388 hl.1 (Nat.le_of_ble_eq_true rfl) (Nat.le_of_ble_eq_true rfl) (Nat.le_of_ble_eq_true rfl) (Nat.le_of_ble_eq_true rfl) (by omega) dX5_work_122 ?_
                refine L_put hC hX hL in_X5 tyX5 tyX5_ok nmX5 (ci := 5) rfl (pc := 125) 200 (ho1.o.k 200 rfl) 6 (by decide) q441 rfl rfl rfl rfl (f := uI (Z1 200) 6 (maxF (Z1 200 6) (Z1 5 3))) (show 6 < 9 by decide) rfl dX5_work_125 (fun g H locs hX hL => ?_)
                refine j_iconst hC (pc := 128) dX5_work_128 ?_
                refine lv_istore (lv' := [(4, .int (iI (0))), (3, .int (iI (wh))), (2, .int (iI (d))), (1, .int (iI (i))), (0, .ref (zB S1 200))]) hx hb (pc := 129) dX5_work_129 hl (by decide) rfl (fun ls hl => ?_)
                have L131 : ∀ (fu : Nat) (j : Int) (g : GH) (Z2 : Nat → Int → Int), 402 - j < (fu : Int) → (0 ≤ j ∧ j ≤ R0.length) → (ch Z1 Z2 [200, 9, 10, 11, 12, 210, 211, 213, 214, 216, 217, 218, 219, 220, 221]) → (∀ x : Int, x ≠ 6 → x ≠ 7 → Z2 200 x = Z1 200 x) → (Z2 200 6 = maxF (Z1 200 6) (Z1 5 3)) → (wkI q h Su (Z 200 1) i k d j R0 Z2) → (Z2 200 7 = 0 ∨ Z2 200 7 = 1) → ∀ (H : Heap) (locs : List Loc), Wd D (gA g0 n) s g nj64 H locs → lR T g S1 Z2 → ∀ (ls : Array Slot), lv_has ls 6 [(4, .int (iI (j))), (3, .int (iI (wh))), (2, .int (iI (d))), (1, .int (iI (i))), (0, .ref (zB S1 200))] → W p l e ({ frames := 5, cells := 0, slots := 0, locals := 117 } : Room) s mi args below meth c H locs 0 0 Q (F0 mi 131 ls []) := by
                  intro fu
                  induction fu with
                  | zero =>
                    intro j g Z2 hfu hj hch2 h2002 hw62 hin h72 H locs hX hL ls hl
                    exfalso
                    omega
                  | succ fu ih131 =>
                    intro j g Z2 hfu hj hch2 h2002 hw62 hin h72 H locs hX hL ls hl
                    have e53_ : Z2 5 3 = Z1 5 3 := by rw [hch2 5 (by decide)]
                    refine lv_iload hx hb (pc := 131) dX5_work_131 (lv_at hl 0 rfl) ?_
                    refine lv_aload_n hx hb (pc := 133) dX5_work_133 rfl (lv_at hl 4 rfl) ?_
                    refine L_getr hC hX hL in_X5 (ci := 5) rfl (pc := 134) 200 (ho1.o.k 200 rfl) 8 (by decide) q445 rfl (q := zA S1 200 8) (b := zB S1 0) ho1.r.2.2.2 rfl dX5_work_134 ?_
                    refine L_getrN hC hX hL in_X0 (ci := 0) rfl (pc := 137) 0 ho1.x.2.2.1 6 (by decide) q157 rfl (q := zA S1 0 6) (b := zB S1 5) ho1.x.2.2.2.1 rfl dX5_work_137 ?_
                    refine L_getN hC hX hL in_X1 (ci := 1) rfl (pc := 140) 5 (ho1.x.1.1.k 5 rfl) 3 (by decide) q93 rfl (v := .int (iI (Z2 5 3))) rfl dX5_work_140 ?_
                    refine j_eqi (b := (R0.length : Int)) (by rw [e53_]; exact hlen.2.2.symm) ?_
                    refine j_icmp_ge hC (pc := 143) 207 dX5_work_143 (by decide) (by omega) (fun c13 => ?_) (fun c13 => ?_)
                    · skip
                      refine lv_aload_n hx hb (pc := 207) dX5_work_207 rfl (lv_at hl 4 rfl) ?_
                      refine L_getr hC hX hL in_X5 (ci := 5) rfl (pc := 208) 200 (ho1.o.k 200 rfl) 8 (by decide) q445 rfl (q := zA S1 200 8) (b := zB S1 0) ho1.r.2.2.2 rfl dX5_work_208 ?_
                      refine L_getrN hC hX hL in_X0 (ci := 0) rfl (pc := 211) 0 ho1.x.2.2.1 6 (by decide) q157 rfl (q := zA S1 0 6) (b := zB S1 5) ho1.x.2.2.2.1 rfl dX5_work_211 ?_
                      refine lv_astore (lv' := [(4, .ref (zB S1 5)), (3, .int (iI (wh))), (2, .int (iI (d))), (1, .int (iI (i))), (0, .ref (zB S1 200))]) hx hb (pc := 214) dX5_work_214 hl (by decide) rfl (fun ls hl => ?_)
                      refine lv_aload_n hx hb (pc := 216) dX5_work_216 rfl (lv_at hl 4 rfl) ?_
                      refine L_getr hC hX hL in_X5 (ci := 5) rfl (pc := 217) 200 (ho1.o.k 200 rfl) 8 (by decide) q445 rfl (q := zA S1 200 8) (b := zB S1 0) ho1.r.2.2.2 rfl dX5_work_217 ?_
                      refine lv_aload_n hx hb (pc := 220) dX5_work_220 rfl (lv_at hl 4 rfl) ?_
                      refine L_getr hC hX hL in_X5 (ci := 5) rfl (pc := 221) 200 (ho1.o.k 200 rfl) 8 (by decide) q445 rfl (q := zA S1 200 8) (b := zB S1 0) ho1.r.2.2.2 rfl dX5_work_221 ?_
                      refine L_getrN hC hX hL in_X0 (ci := 0) rfl (pc := 224) 0 ho1.x.2.2.1 7 (by decide) q159 rfl (q := zA S1 0 7) (b := zB S1 9) ho1.x.2.2.2.2 rfl dX5_work_224 ?_
                      refine L_putAN hC hX hL in_X0 tyX0 tyX0_ok nmX0 (ci := 0) rfl (pc := 227) 0 ho1.x.2.2.1 6 (by decide) q157 rfl rfl rfl rfl (f := uI (zA S1 0) 6 (some (zB S1 9))) (show 6 < 18 by decide) rfl dX5_work_227 (fun g H locs hX hL => ?_)
                      refine lv_aload_n hx hb (pc := 230) dX5_work_230 rfl (lv_at hl 4 rfl) ?_
                      refine L_getr hC hX hL in_X5 (ci := 5) rfl (pc := 231) 200 (ho1.o.k 200 rfl) 8 (by decide) q445 rfl (q := zA S1 200 8) (b := zB S1 0) ho1.r.2.2.2 rfl dX5_work_231 ?_
                      refine lv_aload hx hb (pc := 234) dX5_work_234 (lv_at hl 0 rfl) ?_
                      refine L_putAN hC hX hL in_X0 tyX0 tyX0_ok nmX0 (ci := 0) rfl (pc := 236) 0 ho1.x.2.2.1 7 (by decide) q159 rfl rfl rfl rfl (f := uI (uI (zA S1 0) 6 (some (zB S1 9))) 7 (some (zB S1 5))) (show 7 < 18 by decide) rfl dX5_work_236 (fun g H locs hX hL => ?_)
                      have hL := hL.swp
                      have hchs : ch Z1 (swZ Z2) [5, 6, 7, 8, 9, 10, 11, 12, 200, 210, 211, 213, 214, 216, 217, 218, 219, 220, 221] := ch.tr hch2 swZ_ch (by decide)
                      have hchq : ch Z (swZ Z2) [5, 6, 7, 8, 9, 10, 11, 12, 200, 210, 211, 213, 214, 216, 217, 218, 219, 220, 221] := ch.tr hch1 hchs (by decide)
                      have ho3 : oS q (swS S1) (swZ Z2) := ((ho1.sw (S1 := swS S1) (swR.nx swR.rf) hx1.nx)).ch hchs (by decide)
                      have hR52 : tZ 9 (swZ Z2) (mpC h (Z1 201 0) R0) := tZ5.kp hR5 hch2 (by decide)
                      have h93 : 0 ≤ Z2 9 3 ∧ Z2 9 3 ≤ 401 := by rcases hin with ⟨-, -, -, y, -⟩ | ⟨-, -, N, z, y, -⟩; have := y.len; omega; have := y.len; omega
                      have hjend : (R0.length : Int) ≤ j ∨ ¬ Z2 200 7 = 0 := by omega
                      refine lv_aload_n hx hb (pc := 239) dX5_work_239 rfl (lv_at hl 4 rfl) ?_
                      refine L_getr hC hX hL in_X5 (ci := 5) rfl (pc := 240) 200 (ho3.o.k 200 rfl) 8 (by decide) q445 rfl (q := (zA (swS S1) 200) 8) (b := zB (swS S1) 0) ho3.r.2.2.2 rfl dX5_work_240 ?_
                      refine L_getrN hC hX hL in_X0 (ci := 0) rfl (pc := 243) 0 ho3.x.2.2.1 7 (by decide) q159 rfl (q := (zA (swS S1) 0) 7) (b := zB (swS S1) 9) ho3.x.2.2.2.2 rfl dX5_work_243 ?_
                      refine j_callv (rest := []) hX (va_runV hC.fix (t9_clear D T N l hL _ _ ho3.x.2.1 hR52) (cwV 0 hC.ts (lw_V q362 q363 q364 q41 q365) rfl rfl rfl (by decide +kernel) ⟨Nat.le_of_ble_eq_true rfl, Nat.le_of_ble_eq_true rfl⟩) (j_preV hC hX (hL.ob 9 (ho3.x.2.1.1.k 9 rfl)) (ci := 1) (r := (RX1, TX1, 4)) rfl _) rfl rfl hl.1 rfl (Nat.le_of_ble_eq_true rfl) dX5_work_246 ⟨(Nat.le_of_ble_eq_true rfl), (Nat.le_of_ble_eq_true rfl)⟩) (fun g m15 H locs hp hle hX => ?_)
                      obtain ⟨hn_, Z4, hL, hp⟩ := hp
                      rw [hn_] at hX
                      have e53 : Z4 5 3 = Z2 9 3 := congrFun (hp.1 5 (by decide)) 3
                      have h47 : Z4 200 7 = Z2 200 7 := congrFun (hp.1 200 (by decide)) 7
                      have hm62 : Z2 201 0 ≤ 6 := by rw [hch2 201 (by decide)]; exact hm6
                      refine lv_aload_n hx hb (pc := 249) dX5_work_249 rfl (lv_at hl 4 rfl) ?_
                      refine lv_dup hx hb (pc := 250) dX5_work_250 rfl ?_
                      refine L_get hC hX hL in_X5 (ci := 5) rfl (pc := 251) 200 (ho3.o.k 200 rfl) 7 (by decide) q443 rfl (v := .int (iI (Z4 200 7))) rfl dX5_work_251 ?_
                      refine lv_aload_n hx hb (pc := 254) dX5_work_254 rfl (lv_at hl 4 rfl) ?_
                      refine L_getr hC hX hL in_X5 (ci := 5) rfl (pc := 255) 200 (ho3.o.k 200 rfl) 8 (by decide) q445 rfl (q := (zA (swS S1) 200) 8) (b := zB (swS S1) 0) ho3.r.2.2.2 rfl dX5_work_255 ?_
                      refine L_getrN hC hX hL in_X0 (ci := 0) rfl (pc := 258) 0 ho3.x.2.2.1 6 (by decide) q157 rfl (q := (zA (swS S1) 0) 6) (b := zB (swS S1) 5) ho3.x.2.2.2.1 rfl dX5_work_258 ?_
                      refine L_getN hC hX hL in_X1 (ci := 1) rfl (pc := 261) 5 (ho3.x.1.1.k 5 rfl) 3 (by decide) q93 rfl (v := .int (iI (Z4 5 3))) rfl dX5_work_261 ?_
                      refine j_sipush hC (pc := 264) dX5_work_264 (by decide) ?_
                      refine j_icmp_le hC (pc := 267) 274 dX5_work_267 (by decide) (by omega) (fun c17 => ?_) (fun c17 => ?_)
                      · skip
                        refine j_iconst hC (pc := 274) dX5_work_274 ?_
                        refine j_ior01 hC (pc := 275) dX5_work_275 ⟨by omega, by omega⟩ ?_
                        refine L_put hC hX hL in_X5 tyX5 tyX5_ok nmX5 (ci := 5) rfl (pc := 276) 200 (ho3.o.k 200 rfl) 7 (by decide) q443 rfl rfl (nar_z (by first | exact orF_01 _ _ | omega)) (fit_z (by first | exact orF_01 _ _ | omega)) (f := uI (Z4 200) 7 (orF (Z4 200 7) 0)) (show 7 < 9 by decide) rfl dX5_work_276 (fun g H locs hX hL => ?_)
                        refine j_iinc hC (pc := 279) (lv' := [(1, .int (iI (i + 1))), (4, .ref (zB S1 5)), (3, .int (iI (wh))), (2, .int (iI (d))), (0, .ref (zB S1 200))]) dX5_work_279 hl (k := 3) rfl (by decide) rfl (fun ls hl => ?_)
                        refine j_goto hC (pc := 282) 64 dX5_work_282 (by decide) ?_
                        have hz5 : ∀ x : Int, x ≠ 7 → (va_up Z4 200 (uI (Z4 200) 7 (orF (Z4 200 7) 0))) 200 x = Z2 200 x := fun x y => (uI_n (Z4 200) (orF (Z4 200 7) 0) y).trans (congrFun (hp.1 200 (by decide)) x)
                        have hz57 : (va_up Z4 200 (uI (Z4 200) 7 (orF (Z4 200 7) 0))) 200 7 = orF (Z2 200 7) 0 := (uI_s (Z4 200) 7 (orF (Z4 200 7) 0)).trans (by rw [h47])
                        exact ih64 (i + 1) _ _ _ _ (by omega) (by omega) hsw.nx hx1.nx ((ch.tr hchq hp.1 (by decide)).up 200 _ (by decide)) (fun x y1 y2 y3 => (hz5 x y3).trans ((h2002 x y2 y3).trans (h2001 x y1 y2 y3))) ((hz5 2 (by decide)).trans ((h2002 2 (by decide) (by decide)).trans hall)) (by
                          refine wk_next (Z2 := Z2) (j := j) (k := k) (d := d) (b := 0) ⟨hi.1, hi_⟩ hk_ hd_ hin ⟨hj.1, hjend⟩ hnw ?_ (fun N y => ?_) ?_ ?_ ?_ ?_ (fun z y => ?_) ?_
                          · rcases hw6 with ⟨y1, y2, y3⟩ | ⟨y1, y2, y3⟩
                            · exact Or.inl ⟨y1, by rw [hw62]; rw [y3] at hlen; unfold maxF; simp at hlen; split <;> omega⟩
                            · exact Or.inr ⟨y1, by rw [hw62, ← hlen.2.2, y2, y3]; rfl⟩
                          · exact (show tZ 5 Z4 N from tZ5.kp (Z := swZ Z2) y hp.1 (by decide))
                          · exact hp.2
                          · exact hz57
                          · omega
                          · exact hz5 6 (by decide)
                          · have e4 : (va_up Z4 200 (uI (Z4 200) 7 (orF (Z4 200 7) 0))) 201 0 = Z2 201 0 := congrFun (hp.1 201 (by decide)) 0
                            rw [e4]
                            exact (((y.kp swZ_ch hm62 (by decide)).kp hp.1 hm62 (by decide)).kp ((ch.rf (f := Z4)).up 200 _ (show 200 ∈ [200] by decide)) hm62 (by decide))
                          · exact congrFun (hp.1 201 (by decide)) 0) _ _ hX hL ls (lv_sub hl [0, 4] rfl)
                      · skip
                        refine j_iconst hC (pc := 270) dX5_work_270 ?_
                        refine j_goto hC (pc := 271) 275 dX5_work_271 (by decide) ?_
                        refine j_ior01 hC (pc := 275) dX5_work_275 ⟨by omega, by omega⟩ ?_
                        refine L_put hC hX hL in_X5 tyX5 tyX5_ok nmX5 (ci := 5) rfl (pc := 276) 200 (ho3.o.k 200 rfl) 7 (by decide) q443 rfl rfl (nar_z (by first | exact orF_01 _ _ | omega)) (fit_z (by first | exact orF_01 _ _ | omega)) (f := uI (Z4 200) 7 (orF (Z4 200 7) 1)) (show 7 < 9 by decide) rfl dX5_work_276 (fun g H locs hX hL => ?_)
                        refine j_iinc hC (pc := 279) (lv' := [(1, .int (iI (i + 1))), (4, .ref (zB S1 5)), (3, .int (iI (wh))), (2, .int (iI (d))), (0, .ref (zB S1 200))]) dX5_work_279 hl (k := 3) rfl (by decide) rfl (fun ls hl => ?_)
                        refine j_goto hC (pc := 282) 64 dX5_work_282 (by decide) ?_
                        have hz5 : ∀ x : Int, x ≠ 7 → (va_up Z4 200 (uI (Z4 200) 7 (orF (Z4 200 7) 1))) 200 x = Z2 200 x := fun x y => (uI_n (Z4 200) (orF (Z4 200 7) 1) y).trans (congrFun (hp.1 200 (by decide)) x)
                        have hz57 : (va_up Z4 200 (uI (Z4 200) 7 (orF (Z4 200 7) 1))) 200 7 = orF (Z2 200 7) 1 := (uI_s (Z4 200) 7 (orF (Z4 200 7) 1)).trans (by rw [h47])
                        exact ih64 (i + 1) _ _ _ _ (by omega) (by omega) hsw.nx hx1.nx ((ch.tr hchq hp.1 (by decide)).up 200 _ (by decide)) (fun x y1 y2 y3 => (hz5 x y3).trans ((h2002 x y2 y3).trans (h2001 x y1 y2 y3))) ((hz5 2 (by decide)).trans ((h2002 2 (by decide) (by decide)).trans hall)) (by
                          refine wk_next (Z2 := Z2) (j := j) (k := k) (d := d) (b := 1) ⟨hi.1, hi_⟩ hk_ hd_ hin ⟨hj.1, hjend⟩ hnw ?_ (fun N y => ?_) ?_ ?_ ?_ ?_ (fun z y => ?_) ?_
                          · rcases hw6 with ⟨y1, y2, y3⟩ | ⟨y1, y2, y3⟩
                            · exact Or.inl ⟨y1, by rw [hw62]; rw [y3] at hlen; unfold maxF; simp at hlen; split <;> omega⟩
                            · exact Or.inr ⟨y1, by rw [hw62, ← hlen.2.2, y2, y3]; rfl⟩
                          · exact (show tZ 5 Z4 N from tZ5.kp (Z := swZ Z2) y hp.1 (by decide))
                          · exact hp.2
                          · exact hz57
                          · omega
                          · exact hz5 6 (by decide)
                          · have e4 : (va_up Z4 200 (uI (Z4 200) 7 (orF (Z4 200 7) 1))) 201 0 = Z2 201 0 := congrFun (hp.1 201 (by decide)) 0
                            rw [e4]
                            exact (((y.kp swZ_ch hm62 (by decide)).kp hp.1 hm62 (by decide)).kp ((ch.rf (f := Z4)).up 200 _ (show 200 ∈ [200] by decide)) hm62 (by decide))
                          · exact congrFun (hp.1 201 (by decide)) 0) _ _ hX hL ls (lv_sub hl [0, 4] rfl)
                    · skip
                      refine lv_aload_n hx hb (pc := 146) dX5_work_146 rfl (lv_at hl 4 rfl) ?_
                      refine L_get hC hX hL in_X5 (ci := 5) rfl (pc := 147) 200 (ho1.o.k 200 rfl) 7 (by decide) q443 rfl (v := .int (iI (Z2 200 7))) rfl dX5_work_147 ?_
                      refine j_if_ne hC (pc := 150) 207 dX5_work_150 (by decide) (by omega) (fun c18 => ?_) (fun c18 => ?_)
                      · skip
                        refine lv_aload_n hx hb (pc := 207) dX5_work_207 rfl (lv_at hl 4 rfl) ?_
                        refine L_getr hC hX hL in_X5 (ci := 5) rfl (pc := 208) 200 (ho1.o.k 200 rfl) 8 (by decide) q445 rfl (q := zA S1 200 8) (b := zB S1 0) ho1.r.2.2.2 rfl dX5_work_208 ?_
                        refine L_getrN hC hX hL in_X0 (ci := 0) rfl (pc := 211) 0 ho1.x.2.2.1 6 (by decide) q157 rfl (q := zA S1 0 6) (b := zB S1 5) ho1.x.2.2.2.1 rfl dX5_work_211 ?_
                        refine lv_astore (lv' := [(4, .ref (zB S1 5)), (3, .int (iI (wh))), (2, .int (iI (d))), (1, .int (iI (i))), (0, .ref (zB S1 200))]) hx hb (pc := 214) dX5_work_214 hl (by decide) rfl (fun ls hl => ?_)
                        refine lv_aload_n hx hb (pc := 216) dX5_work_216 rfl (lv_at hl 4 rfl) ?_
                        refine L_getr hC hX hL in_X5 (ci := 5) rfl (pc := 217) 200 (ho1.o.k 200 rfl) 8 (by decide) q445 rfl (q := zA S1 200 8) (b := zB S1 0) ho1.r.2.2.2 rfl dX5_work_217 ?_
                        refine lv_aload_n hx hb (pc := 220) dX5_work_220 rfl (lv_at hl 4 rfl) ?_
                        refine L_getr hC hX hL in_X5 (ci := 5) rfl (pc := 221) 200 (ho1.o.k 200 rfl) 8 (by decide) q445 rfl (q := zA S1 200 8) (b := zB S1 0) ho1.r.2.2.2 rfl dX5_work_221 ?_
                        refine L_getrN hC hX hL in_X0 (ci := 0) rfl (pc := 224) 0 ho1.x.2.2.1 7 (by decide) q159 rfl (q := zA S1 0 7) (b := zB S1 9) ho1.x.2.2.2.2 rfl dX5_work_224 ?_
                        refine L_putAN hC hX hL in_X0 tyX0 tyX0_ok nmX0 (ci := 0) rfl (pc := 227) 0 ho1.x.2.2.1 6 (by decide) q157 rfl rfl rfl rfl (f := uI (zA S1 0) 6 (some (zB S1 9))) (show 6 < 18 by decide) rfl dX5_work_227 (fun g H locs hX hL => ?_)
                        refine lv_aload_n hx hb (pc := 230) dX5_work_230 rfl (lv_at hl 4 rfl) ?_
                        refine L_getr hC hX hL in_X5 (ci := 5) rfl (pc := 231) 200 (ho1.o.k 200 rfl) 8 (by decide) q445 rfl (q := zA S1 200 8) (b := zB S1 0) ho1.r.2.2.2 rfl dX5_work_231 ?_
                        refine lv_aload hx hb (pc := 234) dX5_work_234 (lv_at hl 0 rfl) ?_
                        refine L_putAN hC hX hL in_X0 tyX0 tyX0_ok nmX0 (ci := 0) rfl (pc := 236) 0 ho1.x.2.2.1 7 (by decide) q159 rfl rfl rfl rfl (f := uI (uI (zA S1 0) 6 (some (zB S1 9))) 7 (some (zB S1 5))) (show 7 < 18 by decide) rfl dX5_work_236 (fun g H locs hX hL => ?_)
                        have hL := hL.swp
                        have hchs : ch Z1 (swZ Z2) [5, 6, 7, 8, 9, 10, 11, 12, 200, 210, 211, 213, 214, 216, 217, 218, 219, 220, 221] := ch.tr hch2 swZ_ch (by decide)
                        have hchq : ch Z (swZ Z2) [5, 6, 7, 8, 9, 10, 11, 12, 200, 210, 211, 213, 214, 216, 217, 218, 219, 220, 221] := ch.tr hch1 hchs (by decide)
                        have ho3 : oS q (swS S1) (swZ Z2) := ((ho1.sw (S1 := swS S1) (swR.nx swR.rf) hx1.nx)).ch hchs (by decide)
                        have hR52 : tZ 9 (swZ Z2) (mpC h (Z1 201 0) R0) := tZ5.kp hR5 hch2 (by decide)
                        have h93 : 0 ≤ Z2 9 3 ∧ Z2 9 3 ≤ 401 := by rcases hin with ⟨-, -, -, y, -⟩ | ⟨-, -, N, z, y, -⟩; have := y.len; omega; have := y.len; omega
                        have hjend : (R0.length : Int) ≤ j ∨ ¬ Z2 200 7 = 0 := by omega
                        refine lv_aload_n hx hb (pc := 239) dX5_work_239 rfl (lv_at hl 4 rfl) ?_
                        refine L_getr hC hX hL in_X5 (ci := 5) rfl (pc := 240) 200 (ho3.o.k 200 rfl) 8 (by decide) q445 rfl (q := (zA (swS S1) 200) 8) (b := zB (swS S1) 0) ho3.r.2.2.2 rfl dX5_work_240 ?_
                        refine L_getrN hC hX hL in_X0 (ci := 0) rfl (pc := 243) 0 ho3.x.2.2.1 7 (by decide) q159 rfl (q := (zA (swS S1) 0) 7) (b := zB (swS S1) 9) ho3.x.2.2.2.2 rfl dX5_work_243 ?_
                        refine j_callv (rest := []) hX (va_runV hC.fix (t9_clear D T N l hL _ _ ho3.x.2.1 hR52) (cwV 0 hC.ts (lw_V q362 q363 q364 q41 q365) rfl rfl rfl (by decide +kernel) ⟨Nat.le_of_ble_eq_true rfl, Nat.le_of_ble_eq_true rfl⟩) (j_preV hC hX (hL.ob 9 (ho3.x.2.1.1.k 9 rfl)) (ci := 1) (r := (RX1, TX1, 4)) rfl _) rfl rfl hl.1 rfl (Nat.le_of_ble_eq_true rfl) dX5_work_246 ⟨(Nat.le_of_ble_eq_true rfl), (Nat.le_of_ble_eq_true rfl)⟩) (fun g m20 H locs hp hle hX => ?_)
                        obtain ⟨hn_, Z4, hL, hp⟩ := hp
                        rw [hn_] at hX
                        have e53 : Z4 5 3 = Z2 9 3 := congrFun (hp.1 5 (by decide)) 3
                        have h47 : Z4 200 7 = Z2 200 7 := congrFun (hp.1 200 (by decide)) 7
                        have hm62 : Z2 201 0 ≤ 6 := by rw [hch2 201 (by decide)]; exact hm6
                        refine lv_aload_n hx hb (pc := 249) dX5_work_249 rfl (lv_at hl 4 rfl) ?_
                        refine lv_dup hx hb (pc := 250) dX5_work_250 rfl ?_
                        refine L_get hC hX hL in_X5 (ci := 5) rfl (pc := 251) 200 (ho3.o.k 200 rfl) 7 (by decide) q443 rfl (v := .int (iI (Z4 200 7))) rfl dX5_work_251 ?_
                        refine lv_aload_n hx hb (pc := 254) dX5_work_254 rfl (lv_at hl 4 rfl) ?_
                        refine L_getr hC hX hL in_X5 (ci := 5) rfl (pc := 255) 200 (ho3.o.k 200 rfl) 8 (by decide) q445 rfl (q := (zA (swS S1) 200) 8) (b := zB (swS S1) 0) ho3.r.2.2.2 rfl dX5_work_255 ?_
                        refine L_getrN hC hX hL in_X0 (ci := 0) rfl (pc := 258) 0 ho3.x.2.2.1 6 (by decide) q157 rfl (q := (zA (swS S1) 0) 6) (b := zB (swS S1) 5) ho3.x.2.2.2.1 rfl dX5_work_258 ?_
                        refine L_getN hC hX hL in_X1 (ci := 1) rfl (pc := 261) 5 (ho3.x.1.1.k 5 rfl) 3 (by decide) q93 rfl (v := .int (iI (Z4 5 3))) rfl dX5_work_261 ?_
                        refine j_sipush hC (pc := 264) dX5_work_264 (by decide) ?_
                        refine j_icmp_le hC (pc := 267) 274 dX5_work_267 (by decide) (by omega) (fun c22 => ?_) (fun c22 => ?_)
                        · skip
                          refine j_iconst hC (pc := 274) dX5_work_274 ?_
                          refine j_ior01 hC (pc := 275) dX5_work_275 ⟨by omega, by omega⟩ ?_
                          refine L_put hC hX hL in_X5 tyX5 tyX5_ok nmX5 (ci := 5) rfl (pc := 276) 200 (ho3.o.k 200 rfl) 7 (by decide) q443 rfl rfl (nar_z (by first | exact orF_01 _ _ | omega)) (fit_z (by first | exact orF_01 _ _ | omega)) (f := uI (Z4 200) 7 (orF (Z4 200 7) 0)) (show 7 < 9 by decide) rfl dX5_work_276 (fun g H locs hX hL => ?_)
                          refine j_iinc hC (pc := 279) (lv' := [(1, .int (iI (i + 1))), (4, .ref (zB S1 5)), (3, .int (iI (wh))), (2, .int (iI (d))), (0, .ref (zB S1 200))]) dX5_work_279 hl (k := 3) rfl (by decide) rfl (fun ls hl => ?_)
                          refine j_goto hC (pc := 282) 64 dX5_work_282 (by decide) ?_
                          have hz5 : ∀ x : Int, x ≠ 7 → (va_up Z4 200 (uI (Z4 200) 7 (orF (Z4 200 7) 0))) 200 x = Z2 200 x := fun x y => (uI_n (Z4 200) (orF (Z4 200 7) 0) y).trans (congrFun (hp.1 200 (by decide)) x)
                          have hz57 : (va_up Z4 200 (uI (Z4 200) 7 (orF (Z4 200 7) 0))) 200 7 = orF (Z2 200 7) 0 := (uI_s (Z4 200) 7 (orF (Z4 200 7) 0)).trans (by rw [h47])
                          exact ih64 (i + 1) _ _ _ _ (by omega) (by omega) hsw.nx hx1.nx ((ch.tr hchq hp.1 (by decide)).up 200 _ (by decide)) (fun x y1 y2 y3 => (hz5 x y3).trans ((h2002 x y2 y3).trans (h2001 x y1 y2 y3))) ((hz5 2 (by decide)).trans ((h2002 2 (by decide) (by decide)).trans hall)) (by
                            refine wk_next (Z2 := Z2) (j := j) (k := k) (d := d) (b := 0) ⟨hi.1, hi_⟩ hk_ hd_ hin ⟨hj.1, hjend⟩ hnw ?_ (fun N y => ?_) ?_ ?_ ?_ ?_ (fun z y => ?_) ?_
                            · rcases hw6 with ⟨y1, y2, y3⟩ | ⟨y1, y2, y3⟩
                              · exact Or.inl ⟨y1, by rw [hw62]; rw [y3] at hlen; unfold maxF; simp at hlen; split <;> omega⟩
                              · exact Or.inr ⟨y1, by rw [hw62, ← hlen.2.2, y2, y3]; rfl⟩
                            · exact (show tZ 5 Z4 N from tZ5.kp (Z := swZ Z2) y hp.1 (by decide))
                            · exact hp.2
                            · exact hz57
                            · omega
                            · exact hz5 6 (by decide)
                            · have e4 : (va_up Z4 200 (uI (Z4 200) 7 (orF (Z4 200 7) 0))) 201 0 = Z2 201 0 := congrFun (hp.1 201 (by decide)) 0
                              rw [e4]
                              exact (((y.kp swZ_ch hm62 (by decide)).kp hp.1 hm62 (by decide)).kp ((ch.rf (f := Z4)).up 200 _ (show 200 ∈ [200] by decide)) hm62 (by decide))
                            · exact congrFun (hp.1 201 (by decide)) 0) _ _ hX hL ls (lv_sub hl [0, 4] rfl)
                        · skip
                          refine j_iconst hC (pc := 270) dX5_work_270 ?_
                          refine j_goto hC (pc := 271) 275 dX5_work_271 (by decide) ?_
                          refine j_ior01 hC (pc := 275) dX5_work_275 ⟨by omega, by omega⟩ ?_
                          refine L_put hC hX hL in_X5 tyX5 tyX5_ok nmX5 (ci := 5) rfl (pc := 276) 200 (ho3.o.k 200 rfl) 7 (by decide) q443 rfl rfl (nar_z (by first | exact orF_01 _ _ | omega)) (fit_z (by first | exact orF_01 _ _ | omega)) (f := uI (Z4 200) 7 (orF (Z4 200 7) 1)) (show 7 < 9 by decide) rfl dX5_work_276 (fun g H locs hX hL => ?_)
                          refine j_iinc hC (pc := 279) (lv' := [(1, .int (iI (i + 1))), (4, .ref (zB S1 5)), (3, .int (iI (wh))), (2, .int (iI (d))), (0, .ref (zB S1 200))]) dX5_work_279 hl (k := 3) rfl (by decide) rfl (fun ls hl => ?_)
                          refine j_goto hC (pc := 282) 64 dX5_work_282 (by decide) ?_
                          have hz5 : ∀ x : Int, x ≠ 7 → (va_up Z4 200 (uI (Z4 200) 7 (orF (Z4 200 7) 1))) 200 x = Z2 200 x := fun x y => (uI_n (Z4 200) (orF (Z4 200 7) 1) y).trans (congrFun (hp.1 200 (by decide)) x)
                          have hz57 : (va_up Z4 200 (uI (Z4 200) 7 (orF (Z4 200 7) 1))) 200 7 = orF (Z2 200 7) 1 := (uI_s (Z4 200) 7 (orF (Z4 200 7) 1)).trans (by rw [h47])
                          exact ih64 (i + 1) _ _ _ _ (by omega) (by omega) hsw.nx hx1.nx ((ch.tr hchq hp.1 (by decide)).up 200 _ (by decide)) (fun x y1 y2 y3 => (hz5 x y3).trans ((h2002 x y2 y3).trans (h2001 x y1 y2 y3))) ((hz5 2 (by decide)).trans ((h2002 2 (by decide) (by decide)).trans hall)) (by
                            refine wk_next (Z2 := Z2) (j := j) (k := k) (d := d) (b := 1) ⟨hi.1, hi_⟩ hk_ hd_ hin ⟨hj.1, hjend⟩ hnw ?_ (fun N y => ?_) ?_ ?_ ?_ ?_ (fun z y => ?_) ?_
                            · rcases hw6 with ⟨y1, y2, y3⟩ | ⟨y1, y2, y3⟩
                              · exact Or.inl ⟨y1, by rw [hw62]; rw [y3] at hlen; unfold maxF; simp at hlen; split <;> omega⟩
                              · exact Or.inr ⟨y1, by rw [hw62, ← hlen.2.2, y2, y3]; rfl⟩
                            · exact (show tZ 5 Z4 N from tZ5.kp (Z := swZ Z2) y hp.1 (by decide))
                            · exact hp.2
                            · exact hz57
                            · omega
                            · exact hz5 6 (by decide)
                            · have e4 : (va_up Z4 200 (uI (Z4 200) 7 (orF (Z4 200 7) 1))) 201 0 = Z2 201 0 := congrFun (hp.1 201 (by decide)) 0
                              rw [e4]
                              exact (((y.kp swZ_ch hm62 (by decide)).kp hp.1 hm62 (by decide)).kp ((ch.rf (f := Z4)).up 200 _ (show 200 ∈ [200] by decide)) hm62 (by decide))
                            · exact congrFun (hp.1 201 (by decide)) 0) _ _ hX hL ls (lv_sub hl [0, 4] rfl)
                      · skip
                        have ho2 : oS q S1 Z2 := ho1.ch hch2 (by decide)
                        have hst2 : stR h Su Z2 := hst1.ch hch2 (by decide)
                        have e12 : Z2 201 = Z1 201 := hch2 201 (by decide)
                        have hsl2 : Z2 200 1 = Z 200 1 := (h2002 1 (by decide) (by decide)).trans hsl1
                        obtain ⟨s_, hs_⟩ : ∃ x, R0[j.toNat]? = some x := ⟨_, List.getElem?_eq_getElem (by omega)⟩
                        have hsm_ := List.mem_of_getElem? hs_
                        obtain ⟨x_, hx1_, -, hx3_, hx4_, hx5_⟩ := hR5.at (i := j) (by omega)
                        rw [mpC_at hs_] at hx1_
                        have hx1_ := Option.some.inj hx1_
                        rw [← hx1_] at hx4_ hx5_
                        dsimp only at hx4_ hx5_
                        obtain ⟨w1_, w2_, hro_⟩ : winF (U0 Su) = 2 ∧ R0 = (evo Su (Z 200 1) z3 i.toNat).1 ∧ roX (6 * wsm (R0.take j.toNat)) q h (Z 200 1) i Z2 ((R0.take j.toNat).foldl (stepS Su k d (6 ^ (Z 200 1 - 1 - i).toNat)) ([], (evo Su (Z 200 1) z3 i.toNat).2)) := by rcases hin with ⟨-, y, -⟩ | y; rw [y] at hs_; simp at hs_; exact y
                        have hvs := okN.evo (z := z3) (sl := Z 200 1) hSu hmp2 w1_ i.toNat s_ (by rw [← w2_]; exact hsm_)
                        have hev_ := evo_w hSu hmp2 (sl := Z 200 1) (t := i.toNat) (by omega) (by omega)
                        rw [← w2_] at hev_
                        have hps_ := hev_.1 s_ hsm_
                        have hwt_ := wsm_take hev_.1 j.toNat
                        have hwt2_ := wsm_take hev_.1 (j + 1).toNat
                        rw [wsm_s hj.1 hs_] at hwt2_
                        have e86 : Z2 8 = Z1 8 := hch2 8 (by decide)
                        have e66 : Z2 6 = Z1 6 := hch2 6 (by decide)
                        have e76 : Z2 7 = Z1 7 := hch2 7 (by decide)
                        refine lv_aload_n hx hb (pc := 153) dX5_work_153 rfl (lv_at hl 4 rfl) ?_
                        refine L_getr hC hX hL in_X5 (ci := 5) rfl (pc := 154) 200 (ho1.o.k 200 rfl) 8 (by decide) q445 rfl (q := zA S1 200 8) (b := zB S1 0) ho1.r.2.2.2 rfl dX5_work_154 ?_
                        refine L_getrN hC hX hL in_X0 (ci := 0) rfl (pc := 157) 0 ho1.x.2.2.1 6 (by decide) q157 rfl (q := zA S1 0 6) (b := zB S1 5) ho1.x.2.2.2.1 rfl dX5_work_157 ?_
                        refine L_getrN hC hX hL in_X1 (ci := 1) rfl (pc := 160) 5 (ho1.x.1.1.k 5 rfl) 2 (by decide) q91 rfl (q := zA S1 5 2) (b := zB S1 8) ho1.x.1.2.2.2 rfl dX5_work_160 ?_
                        refine lv_iload hx hb (pc := 163) dX5_work_163 (lv_at hl 0 rfl) ?_
                        refine L_iald hC hX hL (pc := 165) 8 (ho1.x.1.1.k 8 rfl) (L := 402) (ho1.x.1.1.n 8 rfl) (by decide) (by omega) (z := Z2 8 j) rfl dX5_work_165 ?_
                        refine lv_istore (lv' := [(5, .int (iI (Z2 8 j))), (4, .int (iI (j))), (3, .int (iI (wh))), (2, .int (iI (d))), (1, .int (iI (i))), (0, .ref (zB S1 200))]) hx hb (pc := 166) dX5_work_166 hl (by decide) rfl (fun ls hl => ?_)
                        refine lv_aload_n hx hb (pc := 168) dX5_work_168 rfl (lv_at hl 5 rfl) ?_
                        refine lv_aload_n hx hb (pc := 169) dX5_work_169 rfl (lv_at hl 5 rfl) ?_
                        refine L_getr hC hX hL in_X5 (ci := 5) rfl (pc := 170) 200 (ho1.o.k 200 rfl) 8 (by decide) q445 rfl (q := zA S1 200 8) (b := zB S1 0) ho1.r.2.2.2 rfl dX5_work_170 ?_
                        refine L_getrN hC hX hL in_X0 (ci := 0) rfl (pc := 173) 0 ho1.x.2.2.1 6 (by decide) q157 rfl (q := zA S1 0 6) (b := zB S1 5) ho1.x.2.2.2.1 rfl dX5_work_173 ?_
                        refine L_getrN hC hX hL in_X1 (ci := 1) rfl (pc := 176) 5 (ho1.x.1.1.k 5 rfl) 0 (by decide) q87 rfl (q := zA S1 5 0) (b := zB S1 6) ho1.x.1.2.1 rfl dX5_work_176 ?_
                        refine lv_iload hx hb (pc := 179) dX5_work_179 (lv_at hl 0 rfl) ?_
                        refine L_lald hC hX hL (pc := 181) 6 (ho1.x.1.1.k 6 rfl) (L := 2048) (ho1.x.1.1.n 6 rfl) (by decide) (by rw [e86]; exact hx3_) (z := Z2 6 (Z2 8 j)) rfl dX5_work_181 ?_
                        refine j_eql (b := ckC h (Z2 201 0) s_.1) (by rw [e66, e86, e12]; exact hx4_) ?_
                        refine lv_aload_n hx hb (pc := 182) dX5_work_182 rfl (lv_at hl 5 rfl) ?_
                        refine L_getr hC hX hL in_X5 (ci := 5) rfl (pc := 183) 200 (ho1.o.k 200 rfl) 8 (by decide) q445 rfl (q := zA S1 200 8) (b := zB S1 0) ho1.r.2.2.2 rfl dX5_work_183 ?_
                        refine L_getrN hC hX hL in_X0 (ci := 0) rfl (pc := 186) 0 ho1.x.2.2.1 6 (by decide) q157 rfl (q := zA S1 0 6) (b := zB S1 5) ho1.x.2.2.2.1 rfl dX5_work_186 ?_
                        refine L_getrN hC hX hL in_X1 (ci := 1) rfl (pc := 189) 5 (ho1.x.1.1.k 5 rfl) 1 (by decide) q89 rfl (q := zA S1 5 1) (b := zB S1 7) ho1.x.1.2.2.1 rfl dX5_work_189 ?_
                        refine lv_iload hx hb (pc := 192) dX5_work_192 (lv_at hl 0 rfl) ?_
                        refine L_lald hC hX hL (pc := 194) 7 (ho1.x.1.1.k 7 rfl) (L := 2048) (ho1.x.1.1.n 7 rfl) (by decide) (by rw [e86]; exact hx3_) (z := Z2 7 (Z2 8 j)) rfl dX5_work_194 ?_
                        refine j_eql (b := s_.2) (by rw [e76, e86]; exact hx5_) ?_
                        refine lv_iload_n hx hb (pc := 195) dX5_work_195 rfl (lv_at hl 2 rfl) ?_
                        refine lv_iload_n hx hb (pc := 196) dX5_work_196 rfl (lv_at hl 4 rfl) ?_
                        refine lv_iload_n hx hb (pc := 197) dX5_work_197 rfl (lv_at hl 3 rfl) ?_
                        refine j_callv (rest := []) hX (va_runV hC.fix (o_turn D T N l hL _ q h Su s_.1 k s_.2 wh i d (6 * wsm (R0.take j.toNat)) ((R0.take j.toNat).foldl (stepS Su k d (6 ^ (Z 200 1 - 1 - i).toNat)) ([], (evo Su (Z 200 1) z3 i.toNat).2)) ho2 hst2 hSu hvs.1 hvs.2 (by rw [e12]; exact hwhr) hslw (by omega) (by omega) (by rw [hch2 0 (by decide), e0]; exact h51) (by rw [w2_]; exact wk_ok hSu hmp2 w1_ hkr) (by rw [hsl2]; exact hro_) (by omega)) (cwV 5 hC.ts (lw_V q391 q393 qs6 q48 q394) rfl rfl rfl (by decide +kernel) ⟨Nat.le_of_ble_eq_true rfl, Nat.le_of_ble_eq_true rfl⟩) (j_preV hC hX (hL.ob 200 (ho1.o.k 200 rfl)) (ci := 5) (r := (RX5, TX5, 9)) rfl _) rfl rfl hl.1 rfl (Nat.le_of_ble_eq_true rfl) dX5_work_198 ⟨(Nat.le_of_ble_eq_true rfl), (Nat.le_of_ble_eq_true rfl)⟩) (fun g m24 H locs hp hle hX => ?_)
                        obtain ⟨hn_, Z3, hL, hp⟩ := hp
                        rw [hn_] at hX
                        rw [hsl2] at hp
                        refine j_iinc hC (pc := 201) (lv' := [(4, .int (iI (j + 1))), (5, .int (iI (Z2 8 j))), (3, .int (iI (wh))), (2, .int (iI (d))), (1, .int (iI (i))), (0, .ref (zB S1 200))]) dX5_work_201 hl (k := 1) rfl (by decide) rfl (fun ls hl => ?_)
                        refine j_goto hC (pc := 204) 131 dX5_work_204 (by decide) ?_
                        exact ih131 (j + 1) _ _ (by omega) (by omega) (ch.tr hch2 hp.1.1 (by decide)) (fun x y1 y2 => (hp.1.2 x y2).trans (h2002 x y1 y2)) ((hp.1.2 6 (by decide)).trans hw62) (Or.inr ⟨w1_, w2_, by rw [fold_s hj.1 hs_, wsm_s hj.1 hs_]; exact hp.2.mono (by omega)⟩) (by obtain ⟨N, z, -, -, -, y, -⟩ := hp.2; exact y) _ _ hX hL ls (lv_sub hl [0, 2, 3, 4, 5] rfl)
                exact L131 ((402 - 0 : Int).toNat + 1) 0 _ _ (by omega) (by omega) (ch.rf.up 200 _ (by decide)) (fun x y1 y2 => uI_n (Z1 200) (maxF (Z1 200 6) (Z1 5 3)) y1) (uI_s (Z1 200) 6 (maxF (Z1 200 6) (Z1 5 3))) (hin0.up6 hm6) h71 _ _ hX hL ls (lv_sub hl [0, 1, 2, 3, 4] rfl)
        exact L64 ((22 - 0 : Int).toNat + 1) 0 _ _ _ _ (by omega) (by omega) swR.rf ho.x (ch.tr hcz hks.1.1 (by decide)) (fun x y1 y2 y3 => by rw [hks.1.2 x y3, hoj x y1, hcb 200 (by decide)]) (by rw [hks.1.2 2 (by decide), h2, show j = Z 200 1 by omega]) hks.2 _ _ hX hL ls (lv_sub hl [0, 1] rfl)
      · skip
        refine lv_aload_n hx hb (pc := 30) dX5_work_30 rfl (lv_at hl 1 rfl) ?_
        refine lv_dup hx hb (pc := 31) dX5_work_31 rfl ?_
        refine L_get hC hX hL in_X5 (ci := 5) rfl (pc := 32) 200 (ho.o.k 200 rfl) 2 (by decide) q433 rfl (v := .long (lI (Zc 200 2))) rfl dX5_work_32 ?_
        refine j_ldc2 hC (pc := 35) (z := 6) q366 dX5_work_35 rfl ?_
        refine j_lmul hC (pc := 38) dX5_work_38 ?_
        refine L_put hC hX hL in_X5 tyX5 tyX5_ok nmX5 (ci := 5) rfl (pc := 39) 200 (ho.o.k 200 rfl) 2 (by decide) q433 rfl rfl rfl rfl (f := uI (Zc 200) 2 ((Zc 200 2) * 6)) (show 2 < 9 by decide) rfl dX5_work_39 (fun g H locs hX hL => ?_)
        refine j_iinc hC (pc := 42) (lv' := [(1, .int (iI (j + 1))), (0, .ref (zB S 200))]) dX5_work_42 hl (k := 0) rfl (by decide) rfl (fun ls hl => ?_)
        refine j_goto hC (pc := 45) 22 dX5_work_45 (by decide) ?_
        exact ih22 (j + 1) _ _ (by omega) (by omega) (hcc.up 200 _ (by decide)) (fun x hx => (uI_n (Zc 200) (Zc 200 2 * 6) hx).trans (hoj x hx)) ((uI_s (Zc 200) 2 (Zc 200 2 * 6)).trans (by rw [h2, show (j + 1).toNat = j.toNat + 1 by omega, Int.pow_succ])) _ _ hX hL ls (lv_sub hl [0, 1] rfl)
  exact L22 ((22 - 0 : Int).toNat + 1) 0 _ _ (by omega) (by omega) ch.rf (fun _ _ => rfl) (by rw [hcb 200 (by decide)]; exact hal) _ _ hX hL ls (lv_sub hl [0, 1] rfl)
