/-! FairFightModel: works -/
set_option maxHeartbeats 40000000 in
set_option maxRecDepth 100000 in
theorem m3_works (D : va_G) (T N : Nat → Nat) (l : Launch) {m : Nat} (F : Nat → Int) (V : Nat → Int → Int) (wh : Int → Int) (bo sl : Int) (Su : Int → Int → Int) (hSu : Su = suF (V 1) wh bo (F 4) (F 8) (F 3)) (hsl : sl = F 3 * Su 6 2) (hI : SI F V) (hW : ∀ j : Int, 0 ≤ j → j < 6 → -1 ≤ V 3 j ∧ V 3 j < F 0) (hwh : ∀ j : Int, 0 ≤ j → j < 6 → V 3 j = wh j) (hbo : 0 ≤ bo ∧ bo ≤ 9) (h4 : ∀ j : Int, 0 ≤ j → j < 6 → V 4 j = if j < 3 then bo else 0) (h8 : -1 ≤ F 8 ∧ F 8 ≤ 1) : MMi D T N l yX3_works (ws_ yX3_works cX3_works 9 (some .int)) ({ frames := 3, cells := 0, slots := 0, locals := 74 } : Room) m [] F V (fun r F' V' => ch F F' [9, 13, 16, 23] ∧ ch V V' [5, 6, 7, 8, 9, 10, 11, 12, 13, 14, 15, 16] ∧ F' 9 = Su 6 2 ∧ ((r = -5 ∧ wideP Su sl) ∨ (r = 0 ∧ ¬ wideP Su sl ∧ F' 23 = widestF Su sl ∧ acR V' (resZ Su sl z3) ∧ ∀ k : Int, 0 ≤ k → k ≤ sl → V' 16 k = 6 ^ k.toNat))) := by
  intro g0 n hM
  refine j_start (by decide) (Nat.le_of_ble_eq_true rfl) ?_
  intro p e s mi args below meth c hC hr hlk hnm hX ls hl
  have hC : Ct D T N (gA g0 n) p s mi args c cX3_works RX3 9 := hC
  have hx := hC.x
  have hb := hC.b
  have ho : off g0 g0 m 27 := off.rf
  generalize hQ : MQ below _ args s 0 0 (gA g0 n) = Q
  have hl : lv_has ls 9 [(0, .ref (m))] := hl
  have hn := hI.nums
  refine lv_aload_n hx hb (pc := 0) dX3_works_0 rfl (lv_at hl 0 rfl) ?_
  refine M_callv (As := []) (rest := []) hC hX hM ho (m3_begins D T N l _ _ hI hW) (cwV 0 hC.ts (lw_V q1068 q1070 qs19 q46 q1071) rfl rfl rfl (by decide +kernel) ⟨Nat.le_of_ble_eq_true rfl, Nat.le_of_ble_eq_true rfl⟩) rfl hl.1 (Nat.le_of_ble_eq_true rfl) dX3_works_1 ⟨Nat.zero_le _, Nat.zero_le _⟩ (fun F2 V2 g H locs hp hX hM ho => ?_)
  obtain ⟨hK0, hm0, h60, h70, hO0, hs36, hpos⟩ := wk.of (F' := F2) (V' := V2) hSu hsl hI hW hwh hbo h4 h8 hp
  have hcF0 : ch F F2 [9, 13, 16, 23] := ch.wd hp.1 (by decide)
  have hcV0 : ch V V2 [5, 6, 7, 8, 9, 10, 11, 12, 13, 14, 15, 16] := ch.wd hp.2.1 (by decide)
  refine lv_aload_n hx hb (pc := 4) dX3_works_4 rfl (lv_at hl 0 rfl) ?_
  refine j_iconst hC (pc := 5) dX3_works_5 ?_
  refine M_put hC hX hM ho (pc := 6) 23 (by decide) q911 rfl dX3_works_6 (fun g H locs hX hM ho => ?_)
  refine lv_aload_n hx hb (pc := 9) dX3_works_9 rfl (lv_at hl 0 rfl) ?_
  refine M_calli (As := []) (rest := []) hC hX hM ho (m3_slotsNow D T N l _ _) (cwV 0 hC.ts (lw_V q1072 q1074 qs20 q46 q1075) rfl rfl rfl (by decide +kernel) ⟨Nat.le_of_ble_eq_true rfl, Nat.le_of_ble_eq_true rfl⟩) rfl hl.1 (Nat.le_of_ble_eq_true rfl) dX3_works_10 ⟨Nat.zero_le _, Nat.zero_le _⟩ (fun r3 F4 V4 g H locs hp hX hM ho => ?_)
  obtain ⟨hp, hF_, hV_⟩ := hp
  rw [hF_, hV_] at hM
  have hsl2 : r3 = sl := by rw [hsl, hp]; show F2 3 * F2 9 = _; rw [hm0, hcF0 3 (by decide)]
  refine j_eqi (b := sl) hsl2 ?_
  refine lv_istore_n (lv' := [(1, .int (iI (sl))), (0, .ref (m))]) hx hb (pc := 13) dX3_works_13 rfl hl (by decide) rfl (fun ls hl => ?_)
  refine lv_iload_n hx hb (pc := 14) dX3_works_14 rfl (lv_at hl 0 rfl) ?_
  refine j_bipush hC (pc := 15) dX3_works_15 (by decide) ?_
  refine j_icmp_le hC (pc := 17) 23 dX3_works_17 (by decide) (by omega) (fun c5 => ?_) (fun c5 => ?_)
  · skip
    refine lv_aload_n hx hb (pc := 23) dX3_works_23 rfl (lv_at hl 1 rfl) ?_
    refine M_get hC hX hM (pc := 24) 24 (by decide) q912 rfl (v := .ref (m + 16)) rfl dX3_works_24 ?_
    refine j_iconst hC (pc := 27) dX3_works_27 ?_
    refine j_lconst hC (pc := 28) (w := 1) dX3_works_28 rfl ?_
    refine M_last hC hX hM ho (pc := 29) 16 (by decide) (L := 24) ⟨rfl, by decide⟩ (by omega) dX3_works_29 (fun g H locs hX hM ho => ?_)
    refine j_iconst hC (pc := 30) dX3_works_30 ?_
    refine lv_istore_n (lv' := [(2, .int (iI (1))), (1, .int (iI (sl))), (0, .ref (m))]) hx hb (pc := 31) dX3_works_31 rfl hl (by decide) rfl (fun ls hl => ?_)
    have L32 : ∀ (fu : Nat) (x : Int) (Vp : Nat → Int → Int), sl + 1 - x < (fu : Int) → (1 ≤ x ∧ x ≤ sl + 1) → (ch V2 Vp [16]) → (∀ k : Int, 0 ≤ k → k < x → Vp 16 k = 6 ^ k.toNat) → ∀ (g : GH) (H : Heap) (locs : List Loc), Wd D (gA g0 n) s g n H locs → mR T g m (va_up F2 23 0) Vp → off g0 g m 27 → ∀ (ls : Array Slot), lv_has ls 9 [(2, .int (iI (x))), (1, .int (iI (sl))), (0, .ref (m))] → W p l e ({ frames := 3, cells := 0, slots := 0, locals := 74 } : Room) s mi args below meth c H locs 0 0 Q (F0 mi 32 ls []) := by
      intro fu
      induction fu with
      | zero =>
        intro x Vp hfu hx_ hcp hpw g H locs hX hM ho ls hl
        exfalso
        omega
      | succ fu ih32 =>
        intro x Vp hfu hx_ hcp hpw g H locs hX hM ho ls hl
        refine lv_iload_n hx hb (pc := 32) dX3_works_32 rfl (lv_at hl 0 rfl) ?_
        refine lv_iload_n hx hb (pc := 33) dX3_works_33 rfl (lv_at hl 1 rfl) ?_
        refine j_icmp_gt hC (pc := 34) 61 dX3_works_34 (by decide) (by omega) (fun c6 => ?_) (fun c6 => ?_)
        · skip
          refine j_iconst hC (pc := 61) dX3_works_61 ?_
          refine lv_istore_n (lv' := [(2, .int (iI (0))), (1, .int (iI (sl))), (0, .ref (m))]) hx hb (pc := 62) dX3_works_62 rfl hl (by decide) rfl (fun ls hl => ?_)
          have L63 : ∀ (fu : Nat) (y1 : Int) (Vq : Nat → Int → Int), 3 - y1 < (fu : Int) → (0 ≤ y1 ∧ y1 ≤ 3) → (ch Vp Vq [13]) → (∀ k : Int, 0 ≤ k → k < y1 → Vq 13 k = 0) → ∀ (g : GH) (H : Heap) (locs : List Loc), Wd D (gA g0 n) s g n H locs → mR T g m (va_up F2 23 0) Vq → off g0 g m 27 → ∀ (ls : Array Slot), lv_has ls 9 [(2, .int (iI (y1))), (1, .int (iI (sl))), (0, .ref (m))] → W p l e ({ frames := 3, cells := 0, slots := 0, locals := 74 } : Room) s mi args below meth c H locs 0 0 Q (F0 mi 63 ls []) := by
            intro fu
            induction fu with
            | zero =>
              intro y1 Vq hfu hy1 hcq hz13 g H locs hX hM ho ls hl
              exfalso
              omega
            | succ fu ih63 =>
              intro y1 Vq hfu hy1 hcq hz13 g H locs hX hM ho ls hl
              refine lv_iload_n hx hb (pc := 63) dX3_works_63 rfl (lv_at hl 0 rfl) ?_
              refine j_iconst hC (pc := 64) dX3_works_64 ?_
              refine j_icmp_ge hC (pc := 65) 81 dX3_works_65 (by decide) (by omega) (fun c7 => ?_) (fun c7 => ?_)
              · skip
                refine j_iconst hC (pc := 81) dX3_works_81 ?_
                refine lv_istore_n (lv' := [(2, .int (iI (0))), (1, .int (iI (sl))), (0, .ref (m))]) hx hb (pc := 82) dX3_works_82 rfl hl (by decide) rfl (fun ls hl => ?_)
                have L83 : ∀ (fu : Nat) (y2 : Int) (Vr : Nat → Int → Int), 7 - y2 < (fu : Int) → (0 ≤ y2 ∧ y2 ≤ 7) → (ch Vq Vr [14]) → (∀ k : Int, 0 ≤ k → k < y2 → Vr 14 k = 0) → ∀ (g : GH) (H : Heap) (locs : List Loc), Wd D (gA g0 n) s g n H locs → mR T g m (va_up F2 23 0) Vr → off g0 g m 27 → ∀ (ls : Array Slot), lv_has ls 9 [(2, .int (iI (y2))), (1, .int (iI (sl))), (0, .ref (m))] → W p l e ({ frames := 3, cells := 0, slots := 0, locals := 74 } : Room) s mi args below meth c H locs 0 0 Q (F0 mi 83 ls []) := by
                  intro fu
                  induction fu with
                  | zero =>
                    intro y2 Vr hfu hy2 hcr hz14 g H locs hX hM ho ls hl
                    exfalso
                    omega
                  | succ fu ih83 =>
                    intro y2 Vr hfu hy2 hcr hz14 g H locs hX hM ho ls hl
                    refine lv_iload_n hx hb (pc := 83) dX3_works_83 rfl (lv_at hl 0 rfl) ?_
                    refine j_bipush hC (pc := 84) dX3_works_84 (by decide) ?_
                    refine j_icmp_ge hC (pc := 86) 102 dX3_works_86 (by decide) (by omega) (fun c8 => ?_) (fun c8 => ?_)
                    · skip
                      refine j_iconst hC (pc := 102) dX3_works_102 ?_
                      refine lv_istore_n (lv' := [(2, .int (iI (0))), (1, .int (iI (sl))), (0, .ref (m))]) hx hb (pc := 103) dX3_works_103 rfl hl (by decide) rfl (fun ls hl => ?_)
                      have L104 : ∀ (fu : Nat) (y3 : Int) (Vs : Nat → Int → Int), 252 - y3 < (fu : Int) → (0 ≤ y3 ∧ y3 ≤ 252) → (ch Vr Vs [15]) → (∀ k : Int, 0 ≤ k → k < y3 → Vs 15 k = 0) → ∀ (g : GH) (H : Heap) (locs : List Loc), Wd D (gA g0 n) s g n H locs → mR T g m (va_up F2 23 0) Vs → off g0 g m 27 → ∀ (ls : Array Slot), lv_has ls 9 [(2, .int (iI (y3))), (1, .int (iI (sl))), (0, .ref (m))] → W p l e ({ frames := 3, cells := 0, slots := 0, locals := 74 } : Room) s mi args below meth c H locs 0 0 Q (F0 mi 104 ls []) := by
                        intro fu
                        induction fu with
                        | zero =>
                          intro y3 Vs hfu hy3 hcs hz15 g H locs hX hM ho ls hl
                          exfalso
                          omega
                        | succ fu ih104 =>
                          intro y3 Vs hfu hy3 hcs hz15 g H locs hX hM ho ls hl
                          refine lv_iload_n hx hb (pc := 104) dX3_works_104 rfl (lv_at hl 0 rfl) ?_
                          refine j_sipush hC (pc := 105) dX3_works_105 (by decide) ?_
                          refine j_icmp_ge hC (pc := 108) 124 dX3_works_108 (by decide) (by omega) (fun c9 => ?_) (fun c9 => ?_)
                          · skip
                            have hcB : ch V2 Vs [13, 14, 15, 16] := ch.tr (ch.tr (ks := [13, 14, 16]) (ch.tr (ks := [13, 16]) hcp hcq (by decide)) hcr (by decide)) hcs (by decide)
                            have hZ0 : acR Vs z3 := ⟨fun k a b => by rw [hcs 13 (by decide), hcr 13 (by decide)]; exact hz13 k a (by omega), fun k a b => by rw [hcs 14 (by decide)]; exact hz14 k a (by omega), fun k a b => hz15 k a (by omega)⟩
                            have hp16 : ∀ k : Int, 0 ≤ k → k ≤ sl → Vs 16 k = 6 ^ k.toNat := fun k a b => by rw [hcs 16 (by decide), hcr 16 (by decide), hcq 16 (by decide)]; exact hpw k a (by omega)
                            have hO : okS (Vs 6) (Vs 7) := by rw [hcB 6 (by decide), hcB 7 (by decide)]; exact hO0
                            have hU0 : ag (Vs 7) (U0 Su) := by rw [hcB 7 (by decide)]; exact h70
                            have hL0 : ag (Vs 6) (Su 1) := by rw [hcB 6 (by decide)]; exact h60
                            have hw_ := winF_rg (U0 Su)
                            refine lv_aload_n hx hb (pc := 124) dX3_works_124 rfl (lv_at hl 2 rfl) ?_
                            refine M_calli (As := []) (rest := []) hC hX hM ho (m3_winner D T N l _ _ hO) (cwV 0 hC.ts (lw_V q1088 q1090 qs23 q46 q1091) rfl rfl rfl (by decide +kernel) ⟨Nat.le_of_ble_eq_true rfl, Nat.le_of_ble_eq_true rfl⟩) rfl hl.1 (Nat.le_of_ble_eq_true rfl) dX3_works_125 ⟨Nat.zero_le _, Nat.zero_le _⟩ (fun r10 F11 V11 g H locs hp hX hM ho => ?_)
                            obtain ⟨hp, hF_, hV_⟩ := hp
                            rw [hF_, hV_] at hM
                            have hwr : r10 = winF (U0 Su) := by rw [hp]; exact winF_cg hU0
                            refine j_iconst hC (pc := 128) dX3_works_128 ?_
                            refine j_icmp_ge hC (pc := 129) 149 dX3_works_129 (by decide) (by omega) (fun c12 => ?_) (fun c12 => ?_)
                            · skip
                              have hwn : winF (U0 Su) = 2 := by omega
                              have hps := hpos hwn
                              refine lv_aload_n hx hb (pc := 149) dX3_works_149 rfl (lv_at hl 2 rfl) ?_
                              refine j_iconst hC (pc := 150) dX3_works_150 ?_
                              refine M_put hC hX hM ho (pc := 151) 13 (by decide) q901 rfl dX3_works_151 (fun g H locs hX hM ho => ?_)
                              refine lv_aload_n hx hb (pc := 154) dX3_works_154 rfl (lv_at hl 2 rfl) ?_
                              refine M_get hC hX hM (pc := 155) 14 (by decide) q902 rfl (v := .ref (m + 8)) rfl dX3_works_155 ?_
                              refine j_iconst hC (pc := 158) dX3_works_158 ?_
                              refine lv_aload_n hx hb (pc := 159) dX3_works_159 rfl (lv_at hl 2 rfl) ?_
                              refine M_calll (As := []) (rest := [.int (iI (0)), .ref (m + 8)]) hC hX hM ho (m3_pack D T N l _ _ hO) (cwV 0 hC.ts (lw_V q1096 q1098 qs25 q46 q1099) rfl rfl rfl (by decide +kernel) ⟨Nat.le_of_ble_eq_true rfl, Nat.le_of_ble_eq_true rfl⟩) rfl hl.1 (Nat.le_of_ble_eq_true rfl) dX3_works_160 ⟨Nat.zero_le _, Nat.zero_le _⟩ (fun r13 F14 V14 g H locs hp hX hM ho => ?_)
                              obtain ⟨hp, hF_, hV_⟩ := hp
                              rw [hF_, hV_] at hM
                              have hpk0 : r13 = pkF (Su 1) (U0 Su) 6 := by rw [hp]; exact pkF_cg 6 (fun k a b => ⟨hL0 k a b, hU0 k a b⟩)
                              refine M_last hC hX hM ho (pc := 163) 8 (by decide) (L := 400) ⟨rfl, by decide⟩ (by omega) dX3_works_163 (fun g H locs hX hM ho => ?_)
                              refine lv_aload_n hx hb (pc := 164) dX3_works_164 rfl (lv_at hl 2 rfl) ?_
                              refine M_get hC hX hM (pc := 165) 15 (by decide) q903 rfl (v := .ref (m + 9)) rfl dX3_works_165 ?_
                              refine j_iconst hC (pc := 168) dX3_works_168 ?_
                              refine j_lconst hC (pc := 169) (w := 1) dX3_works_169 rfl ?_
                              refine M_last hC hX hM ho (pc := 170) 9 (by decide) (L := 400) ⟨rfl, by decide⟩ (by omega) dX3_works_170 (fun g H locs hX hM ho => ?_)
                              refine j_iconst hC (pc := 171) dX3_works_171 ?_
                              refine lv_istore_n (lv' := [(2, .int (iI (0))), (1, .int (iI (sl))), (0, .ref (m))]) hx hb (pc := 172) dX3_works_172 rfl hl (by decide) rfl (fun ls hl => ?_)
                              have L173 : ∀ (fu : Nat) (i : Int) (Fm : Nat → Int) (Vm : Nat → Int → Int), sl - i < (fu : Int) → (0 ≤ i ∧ i ≤ sl) → (ch F Fm [9, 13, 16, 23]) → (ch V Vm [5, 6, 7, 8, 9, 10, 11, 12, 13, 14, 15, 16]) → (wk Su sl Fm Vm) → (Fm 9 = Su 6 2) → (∀ k : Int, 0 ≤ k → k ≤ sl → Vm 16 k = 6 ^ k.toNat) → (i < sl → AH Fm Vm (evo Su sl z3 i.toNat).1) → (acR Vm (evo Su sl z3 i.toNat).2) → (0 < i → NLI (Fm 16) Vm (evo Su sl z3 i.toNat).1) → (Fm 23 = wdF Su sl i.toNat) → (∀ t : Nat, (t : Int) + 1 < sl → t < i.toNat → ¬ 400 < (evo Su sl z3 (t + 1)).1.length) → (0 < i → Fm 16 ≤ 800) → (i < sl → Fm 13 ≤ 400) → ∀ (g : GH) (H : Heap) (locs : List Loc), Wd D (gA g0 n) s g n H locs → mR T g m Fm Vm → off g0 g m 27 → ∀ (ls : Array Slot), lv_has ls 9 [(2, .int (iI (i))), (1, .int (iI (sl))), (0, .ref (m))] → W p l e ({ frames := 3, cells := 0, slots := 0, locals := 74 } : Room) s mi args below meth c H locs 0 0 Q (F0 mi 173 ls []) := by
                                intro fu
                                induction fu with
                                | zero =>
                                  intro i Fm Vm hfu hi hcF hcV hKm hm9 hpm hA hZ hN hwd hnw h800 h400 g H locs hX hM ho ls hl
                                  exfalso
                                  omega
                                | succ fu ih173 =>
                                  intro i Fm Vm hfu hi hcF hcV hKm hm9 hpm hA hZ hN hwd hnw h800 h400 g H locs hX hM ho ls hl
                                  have ei : ((i.toNat : Nat) : Int) = i := Int.toNat_of_nonneg (by omega)
                                  have hps := hpos hwn
                                  have h23 := wdF_rg (Su := Su) (sl := sl) i.toNat (fun u hu => by have := hnw u (by omega) (by omega); omega)
                                  have hok := okN.evo hKm.ok (by omega) hwn (sl := sl) (z := z3) i.toNat
                                  refine lv_iload_n hx hb (pc := 173) dX3_works_173 rfl (lv_at hl 0 rfl) ?_
                                  refine lv_iload_n hx hb (pc := 174) dX3_works_174 rfl (lv_at hl 1 rfl) ?_
                                  refine j_icmp_ge hC (pc := 175) 522 dX3_works_175 (by decide) (by omega) (fun c15 => ?_) (fun c15 => ?_)
                                  · skip
                                    have hisl : sl.toNat = i.toNat := by omega
                                    have hN := hN (by omega)
                                    refine j_iconst hC (pc := 522) dX3_works_522 ?_
                                    refine lv_istore_n (lv' := [(2, .int (iI (0))), (1, .int (iI (sl))), (0, .ref (m))]) hx hb (pc := 523) dX3_works_523 rfl hl (by decide) rfl (fun ls hl => ?_)
                                    have L524 : ∀ (fu : Nat) (u : Int) (Fu : Nat → Int) (Vu : Nat → Int → Int), Fm 16 - u < (fu : Int) → (0 ≤ u ∧ u ≤ Fm 16) → (Fu = Fm) → (ch Vm Vu [6, 7, 13, 14, 15]) → (acR Vu ((((evo Su sl z3 i.toNat).1).take u.toNat).foldl fin3 (evo Su sl z3 i.toNat).2)) → ∀ (g : GH) (H : Heap) (locs : List Loc), Wd D (gA g0 n) s g n H locs → mR T g m Fu Vu → off g0 g m 27 → ∀ (ls : Array Slot), lv_has ls 9 [(2, .int (iI (u))), (1, .int (iI (sl))), (0, .ref (m))] → W p l e ({ frames := 3, cells := 0, slots := 0, locals := 74 } : Room) s mi args below meth c H locs 0 0 Q (F0 mi 524 ls []) := by
                                      intro fu
                                      induction fu with
                                      | zero =>
                                        intro u Fu Vu hfu hu hFe hcu hZu g H locs hX hM ho ls hl
                                        exfalso
                                        omega
                                      | succ fu ih524 =>
                                        intro u Fu Vu hfu hu hFe hcu hZu g H locs hX hM ho ls hl
                                        have hu16 : Fu 16 = Fm 16 := by rw [hFe]
                                        have h800 := h800 (by omega)
                                        refine lv_iload_n hx hb (pc := 524) dX3_works_524 rfl (lv_at hl 0 rfl) ?_
                                        refine lv_aload_n hx hb (pc := 525) dX3_works_525 rfl (lv_at hl 2 rfl) ?_
                                        refine M_get hC hX hM (pc := 526) 16 (by decide) q904 rfl (v := .int (iI (Fu 16))) rfl dX3_works_526 ?_
                                        refine j_icmp_ge hC (pc := 529) 563 dX3_works_529 (by decide) (by omega) (fun c16 => ?_) (fun c16 => ?_)
                                        · skip
                                          refine j_iconst hC (pc := 563) dX3_works_563 ?_
                                          subst hQ
                                          exact j_iret hC (pc := 564) hX hr hlk (Nat.le_refl _) (Nat.le_refl _) dX3_works_564 ⟨rfl, _, _, hM, ho, ⟨by rw [hFe]; exact hcF, ch.tr hcV hcu (by decide), by rw [hFe]; exact hm9, Or.inr ⟨rfl, fun z => by rcases z with z | ⟨_, t, h1, h2⟩; omega; exact hnw t h1 (by omega) h2, by rw [hFe, hwd]; unfold widestF; rw [if_neg (by omega), hisl], by unfold resZ; rw [if_neg (by omega), hisl, ← fold_all (i := u) (by have := hN.1; omega)]; exact hZu, by rw [hcu 16 (by decide)]; exact hpm⟩⟩⟩
                                        · skip
                                          obtain ⟨s, hs, hmem, hs8, hs9⟩ := hN.at (i := u) (by omega)
                                          have hvs := hok s hmem
                                          refine lv_aload_n hx hb (pc := 532) dX3_works_532 rfl (lv_at hl 2 rfl) ?_
                                          refine lv_aload_n hx hb (pc := 533) dX3_works_533 rfl (lv_at hl 2 rfl) ?_
                                          refine M_get hC hX hM (pc := 534) 17 (by decide) q905 rfl (v := .ref (m + 10)) rfl dX3_works_534 ?_
                                          refine lv_iload_n hx hb (pc := 537) dX3_works_537 rfl (lv_at hl 0 rfl) ?_
                                          refine M_lald hC hX hM (pc := 538) 10 (by decide) (L := 800) ⟨rfl, by decide⟩ (by omega) (z := Vu 10 u) rfl dX3_works_538 ?_
                                          refine j_eql (b := s.1) ((congrFun (hcu 10 (by decide)) u).trans hs8) ?_
                                          refine M_callv (As := [.long (lI (s.1))]) (rest := []) hC hX hM ho (m3_unpack D T N l _ _ s.1 hvs.1.1) (cwV 1 hC.ts (lw_V q1100 q1102 qs26 q46 q1103) rfl rfl rfl (by decide +kernel) ⟨Nat.le_of_ble_eq_true rfl, Nat.le_of_ble_eq_true rfl⟩) rfl hl.1 (Nat.le_of_ble_eq_true rfl) dX3_works_539 ⟨Nat.zero_le _, Nat.zero_le _⟩ (fun F18 V18 g H locs hp hX hM ho => ?_)
                                          have hF5 : F18 = Fm := hp.1.trans hFe
                                          have hL : ag (V18 6) (lfD s.1) := fun k a b => (hp.2.2 k a b).1
                                          have hU : ag (V18 7) (ufD s.1) := fun k a b => (hp.2.2 k a b).2
                                          have hO := hvs.1.ok hL hU
                                          have hZ5 := hZu.kp hp.2.1 (by decide)
                                          have hcu5 : ch Vm V18 [6, 7, 13, 14, 15] := ch.tr hcu hp.2.1 (by decide)
                                          have hn5 : F18 3 = F 3 := by rw [hF5, hcF 3 (by decide)]
                                          refine lv_aload_n hx hb (pc := 542) dX3_works_542 rfl (lv_at hl 2 rfl) ?_
                                          refine j_iconst hC (pc := 543) dX3_works_543 ?_
                                          refine lv_aload_n hx hb (pc := 544) dX3_works_544 rfl (lv_at hl 2 rfl) ?_
                                          refine M_get hC hX hM (pc := 545) 3 (by decide) q891 rfl (v := .int (iI (F18 3))) rfl dX3_works_545 ?_
                                          refine lv_aload_n hx hb (pc := 548) dX3_works_548 rfl (lv_at hl 2 rfl) ?_
                                          refine M_get hC hX hM (pc := 549) 18 (by decide) q906 rfl (v := .ref (m + 11)) rfl dX3_works_549 ?_
                                          refine lv_iload_n hx hb (pc := 552) dX3_works_552 rfl (lv_at hl 0 rfl) ?_
                                          refine M_lald hC hX hM (pc := 553) 11 (by decide) (L := 800) ⟨rfl, by decide⟩ (by omega) (z := V18 11 u) rfl dX3_works_553 ?_
                                          refine j_eql (b := s.2) ((congrFun (hcu5 11 (by decide)) u).trans hs9) ?_
                                          refine M_callv (As := [.int (iI (2)), .int (iI (F18 3)), .long (lI (s.2))]) (rest := []) hC hX hM ho (m3_counts D T N l _ _ 2 (F18 3) (s.2) hO (by omega) (by omega)) (cwV 3 hC.ts (lw_V q1092 q1094 qs24 q46 q1095) rfl rfl rfl (by decide +kernel) ⟨Nat.le_of_ble_eq_true rfl, Nat.le_of_ble_eq_true rfl⟩) rfl hl.1 (Nat.le_of_ble_eq_true rfl) dX3_works_554 ⟨Nat.zero_le _, Nat.zero_le _⟩ (fun F20 V20 g H locs hp hX hM ho => ?_)
                                          have hFe : F20 = Fm := hp.1.trans hF5
                                          have hZu : acR V20 (fin3 ((((evo Su sl z3 i.toNat).1).take u.toNat).foldl fin3 (evo Su sl z3 i.toNat).2) s) := acR.cnt hZ5 hL hU hp.2.2.1 (by rw [hp.2.2.2.1]; rfl) hp.2.2.2.2
                                          have hcu : ch Vm V20 [6, 7, 13, 14, 15] := ch.tr hcu5 hp.2.1 (by decide)
                                          refine j_iinc hC (pc := 557) (lv' := [(2, .int (iI (u + 1))), (1, .int (iI (sl))), (0, .ref (m))]) dX3_works_557 hl (k := 0) rfl (by decide) rfl (fun ls hl => ?_)
                                          refine j_goto hC (pc := 560) 524 dX3_works_560 (by decide) ?_
                                          exact ih524 (u + 1) _ _ (by omega) (by omega) hFe hcu (by rw [fold_s (by omega) hs]; exact hZu) _ _ _ hX hM ho ls (lv_sub hl [0, 1, 2] rfl)
                                    exact L524 ((Fm 16 - 0 : Int).toNat + 1) 0 _ _ (by omega) (by have := hN.1; omega) rfl ch.rf hZ _ _ _ hX hM ho ls (lv_sub hl [0, 1, 2] rfl)
                                  · skip
                                    have hA := hA (by omega)
                                    have hA13 := hA.1
                                    have h400 := h400 (by omega)
                                    have hps := hpos hwn
                                    have hi1 : (i + 1).toNat = i.toNat + 1 := by omega
                                    have J201 : ∀ (w : Int), (w = wdF Su sl (i.toNat + 1)) → ∀ (g : GH) (H : Heap) (locs : List Loc), Wd D (gA g0 n) s g n H locs → mR T g m Fm Vm → off g0 g m 27 → ∀ (ls : Array Slot), lv_has ls 9 [(2, .int (iI (i))), (1, .int (iI (sl))), (0, .ref (m))] → W p l e ({ frames := 3, cells := 0, slots := 0, locals := 74 } : Room) s mi args below meth c H locs 0 0 Q (F0 mi 201 ls [.int (iI (w)), .ref (m)]) := by
                                      intro w hw g H locs hX hM ho ls hl
                                      refine M_put hC hX hM ho (pc := 201) 23 (by decide) q911 rfl dX3_works_201 (fun g H locs hX hM ho => ?_)
                                      obtain ⟨d, hd_⟩ : ∃ d, d = i / Su 6 2 := ⟨_, rfl⟩
                                      obtain ⟨k, hk_⟩ : ∃ k, k = Su 5 (i % Su 6 2) := ⟨_, rfl⟩
                                      obtain ⟨q, hq_⟩ : ∃ q : Int, q = 6 ^ (sl - 1 - i).toNat := ⟨_, rfl⟩
                                      have hkr : 0 ≤ k ∧ k < 6 := by rw [hk_]; exact hKm.ok.turn (by omega) (by omega)
                                      have hn3 := hI.nums
                                      have hd1 : i / Su 6 2 < F 3 := Int.ediv_lt_of_lt_mul (by omega) (by rw [← hsl]; omega)
                                      have hd0 := Int.ediv_nonneg (a := i) (b := Su 6 2) (by omega) (by omega)
                                      have hdr : 0 ≤ d ∧ d ≤ 5 := by omega
                                      have hmd := Int.emod_nonneg i (show Fm 9 ≠ 0 by omega)
                                      have hmd2 := Int.emod_lt_of_pos i (show 0 < Fm 9 by omega)
                                      have hm6 := hKm.ok.2.1
                                      have hev : evo Su sl z3 (i.toNat + 1) = ((evo Su sl z3 i.toNat).1).foldl (stepS Su k d q) ([], (evo Su sl z3 i.toNat).2) := by show slotA Su (Su 5 (((i.toNat : Nat) : Int) % Su 6 2)) (((i.toNat : Nat) : Int) / Su 6 2) (6 ^ (sl - 1 - ((i.toNat : Nat) : Int)).toNat) _ _ = _; rw [ei, ← hk_, ← hd_, ← hq_]; rfl
                                      refine lv_iload_n hx hb (pc := 204) dX3_works_204 rfl (lv_at hl 0 rfl) ?_
                                      refine lv_aload_n hx hb (pc := 205) dX3_works_205 rfl (lv_at hl 2 rfl) ?_
                                      refine M_get hC hX hM (pc := 206) 9 (by decide) q897 rfl (v := .int (iI (Fm 9))) rfl dX3_works_206 ?_
                                      refine j_idiv hC (pc := 209) dX3_works_209 (by omega) ?_
                                      refine j_eqi (b := d) (by rw [hm9, hd_]) ?_
                                      refine lv_istore_n (lv' := [(3, .int (iI (d))), (2, .int (iI (i))), (1, .int (iI (sl))), (0, .ref (m))]) hx hb (pc := 210) dX3_works_210 rfl hl (by decide) rfl (fun ls hl => ?_)
                                      refine lv_aload_n hx hb (pc := 211) dX3_works_211 rfl (lv_at hl 3 rfl) ?_
                                      refine M_get hC hX hM (pc := 212) 10 (by decide) q898 rfl (v := .ref (m + 5)) rfl dX3_works_212 ?_
                                      refine lv_iload_n hx hb (pc := 215) dX3_works_215 rfl (lv_at hl 1 rfl) ?_
                                      refine lv_aload_n hx hb (pc := 216) dX3_works_216 rfl (lv_at hl 3 rfl) ?_
                                      refine M_get hC hX hM (pc := 217) 9 (by decide) q897 rfl (v := .int (iI (Fm 9))) rfl dX3_works_217 ?_
                                      refine j_irem hC (pc := 220) dX3_works_220 (by omega) ?_
                                      refine M_iald hC hX hM (pc := 221) 5 (by decide) (L := 6) ⟨rfl, by decide⟩ (by omega) (z := Vm 5 (i % (Fm 9))) rfl dX3_works_221 ?_
                                      refine j_eqi (b := k) (by rw [hk_, ← hm9]; exact (hKm.ord _ (by omega) (by omega)).symm) ?_
                                      refine lv_istore (lv' := [(4, .int (iI (k))), (3, .int (iI (d))), (2, .int (iI (i))), (1, .int (iI (sl))), (0, .ref (m))]) hx hb (pc := 222) dX3_works_222 hl (by decide) rfl (fun ls hl => ?_)
                                      refine lv_aload_n hx hb (pc := 224) dX3_works_224 rfl (lv_at hl 4 rfl) ?_
                                      refine M_get hC hX hM (pc := 225) 24 (by decide) q912 rfl (v := .ref (m + 16)) rfl dX3_works_225 ?_
                                      refine lv_iload_n hx hb (pc := 228) dX3_works_228 rfl (lv_at hl 3 rfl) ?_
                                      refine j_iconst hC (pc := 229) dX3_works_229 ?_
                                      refine j_isub hC (pc := 230) dX3_works_230 ?_
                                      refine lv_iload_n hx hb (pc := 231) dX3_works_231 rfl (lv_at hl 2 rfl) ?_
                                      refine j_isub hC (pc := 232) dX3_works_232 ?_
                                      refine M_lald hC hX hM (pc := 233) 16 (by decide) (L := 24) ⟨rfl, by decide⟩ (by omega) (z := Vm 16 ((sl - 1) - i)) rfl dX3_works_233 ?_
                                      refine j_eql (b := q) (by rw [hq_]; exact hpm _ (by omega) (by omega)) ?_
                                      refine lv_lstore (lv' := [(5, .long (lI (q))), (4, .int (iI (k))), (3, .int (iI (d))), (2, .int (iI (i))), (1, .int (iI (sl))), (0, .ref (m))]) hx hb (pc := 234) dX3_works_234 hl (by decide) rfl (fun ls hl => ?_)
                                      refine lv_aload_n hx hb (pc := 236) dX3_works_236 rfl (lv_at hl 5 rfl) ?_
                                      refine j_iconst hC (pc := 237) dX3_works_237 ?_
                                      refine M_put hC hX hM ho (pc := 238) 16 (by decide) q904 rfl dX3_works_238 (fun g H locs hX hM ho => ?_)
                                      refine j_iconst hC (pc := 241) dX3_works_241 ?_
                                      refine lv_istore (lv' := [(7, .int (iI (0))), (5, .long (lI (q))), (4, .int (iI (k))), (3, .int (iI (d))), (2, .int (iI (i))), (1, .int (iI (sl))), (0, .ref (m))]) hx hb (pc := 242) dX3_works_242 hl (by decide) rfl (fun ls hl => ?_)
                                      have L244 : ∀ (fu : Nat) (y4 : Int) (Ft : Nat → Int) (Vt : Nat → Int → Int), 2048 - y4 < (fu : Int) → (0 ≤ y4 ∧ y4 ≤ 2048) → (ch Fm Ft [16, 23]) → (Ft 16 = 0) → (Ft 23 = wdF Su sl (i.toNat + 1)) → (ch Vm Vt [12]) → (∀ k : Int, 0 ≤ k → k < y4 → Vt 12 k = 0) → ∀ (g : GH) (H : Heap) (locs : List Loc), Wd D (gA g0 n) s g n H locs → mR T g m Ft Vt → off g0 g m 27 → ∀ (ls : Array Slot), lv_has ls 9 [(7, .int (iI (y4))), (5, .long (lI (q))), (4, .int (iI (k))), (3, .int (iI (d))), (2, .int (iI (i))), (1, .int (iI (sl))), (0, .ref (m))] → W p l e ({ frames := 3, cells := 0, slots := 0, locals := 74 } : Room) s mi args below meth c H locs 0 0 Q (F0 mi 244 ls []) := by
                                        intro fu
                                        induction fu with
                                        | zero =>
                                          intro y4 Ft Vt hfu hy4 cF e16 e23 ct hz12 g H locs hX hM ho ls hl
                                          exfalso
                                          omega
                                        | succ fu ih244 =>
                                          intro y4 Ft Vt hfu hy4 cF e16 e23 ct hz12 g H locs hX hM ho ls hl
                                          refine lv_iload hx hb (pc := 244) dX3_works_244 (lv_at hl 0 rfl) ?_
                                          refine j_sipush hC (pc := 246) dX3_works_246 (by decide) ?_
                                          refine j_icmp_ge hC (pc := 249) 266 dX3_works_249 (by decide) (by omega) (fun c21 => ?_) (fun c21 => ?_)
                                          · skip
                                            have hT0 : RB Ft Vt ([], (evo Su sl z3 i.toNat).2) := RB.nil e16 (fun k a b => hz12 k a (by omega)) (hZ.kp ct (by decide))
                                            refine j_iconst hC (pc := 266) dX3_works_266 ?_
                                            refine lv_istore (lv' := [(7, .int (iI (0))), (5, .long (lI (q))), (4, .int (iI (k))), (3, .int (iI (d))), (2, .int (iI (i))), (1, .int (iI (sl))), (0, .ref (m))]) hx hb (pc := 267) dX3_works_267 hl (by decide) rfl (fun ls hl => ?_)
                                            have L269 : ∀ (fu : Nat) (j : Int) (Fj : Nat → Int) (Vj : Nat → Int → Int), Fm 13 - j < (fu : Int) → (0 ≤ j ∧ j ≤ Fm 13) → (ch Fm Fj [16, 23]) → (Fj 23 = wdF Su sl (i.toNat + 1)) → (ch Vm Vj [6, 7, 10, 11, 12, 13, 14, 15]) → (RB Fj Vj ((((evo Su sl z3 i.toNat).1).take j.toNat).foldl (stepS Su k d q) ([], (evo Su sl z3 i.toNat).2))) → (Fj 16 ≤ 2 * j) → ∀ (g : GH) (H : Heap) (locs : List Loc), Wd D (gA g0 n) s g n H locs → mR T g m Fj Vj → off g0 g m 27 → ∀ (ls : Array Slot), lv_has ls 9 [(7, .int (iI (j))), (5, .long (lI (q))), (4, .int (iI (k))), (3, .int (iI (d))), (2, .int (iI (i))), (1, .int (iI (sl))), (0, .ref (m))] → W p l e ({ frames := 3, cells := 0, slots := 0, locals := 74 } : Room) s mi args below meth c H locs 0 0 Q (F0 mi 269 ls []) := by
                                              intro fu
                                              induction fu with
                                              | zero =>
                                                intro j Fj Vj hfu hj cF e23 cV hR hle g H locs hX hM ho ls hl
                                                exfalso
                                                omega
                                              | succ fu ih269 =>
                                                intro j Fj Vj hfu hj cF e23 cV hR hle g H locs hX hM ho ls hl
                                                obtain ⟨a, ha⟩ : ∃ a : Acc, a = (((evo Su sl z3 i.toNat).1).take j.toNat).foldl (stepS Su k d q) ([], (evo Su sl z3 i.toNat).2) := ⟨_, rfl⟩
                                                rw [← ha] at hR
                                                have hj13 : Fj 13 = Fm 13 := cF 13 (by decide)
                                                refine lv_iload hx hb (pc := 269) dX3_works_269 (lv_at hl 0 rfl) ?_
                                                refine lv_aload_n hx hb (pc := 271) dX3_works_271 rfl (lv_at hl 6 rfl) ?_
                                                refine M_get hC hX hM (pc := 272) 13 (by decide) q901 rfl (v := .int (iI (Fj 13))) rfl dX3_works_272 ?_
                                                refine j_icmp_ge hC (pc := 275) 435 dX3_works_275 (by decide) (by omega) (fun c22 => ?_) (fun c22 => ?_)
                                                · skip
                                                  have hE : RB Fj Vj (evo Su sl z3 (i.toNat + 1)) := by rw [hev, ← fold_all (i := j) (by have := hA.1; omega), ← ha]; exact hR
                                                  have hEl := hE.1.1
                                                  refine lv_iload_n hx hb (pc := 435) dX3_works_435 rfl (lv_at hl 4 rfl) ?_
                                                  refine j_iconst hC (pc := 436) dX3_works_436 ?_
                                                  refine j_iadd hC (pc := 437) dX3_works_437 ?_
                                                  refine lv_iload_n hx hb (pc := 438) dX3_works_438 rfl (lv_at hl 5 rfl) ?_
                                                  refine j_icmp_ge hC (pc := 439) 455 dX3_works_439 (by decide) (by omega) (fun c23 => ?_) (fun c23 => ?_)
                                                  · skip
                                                    refine lv_iload_n hx hb (pc := 455) dX3_works_455 rfl (lv_at hl 4 rfl) ?_
                                                    refine j_iconst hC (pc := 456) dX3_works_456 ?_
                                                    refine j_iadd hC (pc := 457) dX3_works_457 ?_
                                                    refine lv_iload_n hx hb (pc := 458) dX3_works_458 rfl (lv_at hl 5 rfl) ?_
                                                    refine j_icmp_ge hC (pc := 459) 516 dX3_works_459 (by decide) (by omega) (fun c24 => ?_) (fun c24 => ?_)
                                                    · skip
                                                      refine j_iinc hC (pc := 516) (lv' := [(2, .int (iI (i + 1))), (7, .int (iI (j))), (5, .long (lI (q))), (4, .int (iI (k))), (3, .int (iI (d))), (1, .int (iI (sl))), (0, .ref (m))]) dX3_works_516 hl (k := 4) rfl (by decide) rfl (fun ls hl => ?_)
                                                      refine j_goto hC (pc := 519) 173 dX3_works_519 (by decide) ?_
                                                      exact ih173 (i + 1) _ _ (by omega) (by omega) (ch.tr hcF cF (by decide)) (ch.tr hcV cV (by decide)) (hKm.kp (ch.wd cF (by decide)) (ch.wd cV (by decide))) ((cF 9 (by decide)).trans hm9) (by rw [cV 16 (by decide)]; exact hpm) (fun q_ => by omega) (by rw [hi1]; exact hE.2) (fun _ => by rw [hi1]; exact hE.1) (by rw [hi1]; exact e23) (fun t h1 h2 => hnw t h1 (by omega)) (by omega) (by omega) _ _ _ hX hM ho ls (lv_sub hl [0, 5, 6] rfl)
                                                    · skip
                                                      exfalso; omega
                                                  · skip
                                                    refine lv_aload_n hx hb (pc := 442) dX3_works_442 rfl (lv_at hl 6 rfl) ?_
                                                    refine M_get hC hX hM (pc := 443) 16 (by decide) q904 rfl (v := .int (iI (Fj 16))) rfl dX3_works_443 ?_
                                                    refine j_sipush hC (pc := 446) dX3_works_446 (by decide) ?_
                                                    refine j_icmp_le hC (pc := 449) 455 dX3_works_449 (by decide) (by omega) (fun c25 => ?_) (fun c25 => ?_)
                                                    · skip
                                                      refine lv_iload_n hx hb (pc := 455) dX3_works_455 rfl (lv_at hl 4 rfl) ?_
                                                      refine j_iconst hC (pc := 456) dX3_works_456 ?_
                                                      refine j_iadd hC (pc := 457) dX3_works_457 ?_
                                                      refine lv_iload_n hx hb (pc := 458) dX3_works_458 rfl (lv_at hl 5 rfl) ?_
                                                      refine j_icmp_ge hC (pc := 459) 516 dX3_works_459 (by decide) (by omega) (fun c26 => ?_) (fun c26 => ?_)
                                                      · skip
                                                        exfalso; omega
                                                      · skip
                                                        refine lv_aload_n hx hb (pc := 462) dX3_works_462 rfl (lv_at hl 6 rfl) ?_
                                                        refine lv_aload_n hx hb (pc := 463) dX3_works_463 rfl (lv_at hl 6 rfl) ?_
                                                        refine M_get hC hX hM (pc := 464) 16 (by decide) q904 rfl (v := .int (iI (Fj 16))) rfl dX3_works_464 ?_
                                                        refine M_put hC hX hM ho (pc := 467) 13 (by decide) q901 rfl dX3_works_467 (fun g H locs hX hM ho => ?_)
                                                        refine j_iconst hC (pc := 470) dX3_works_470 ?_
                                                        refine lv_istore (lv' := [(7, .int (iI (0))), (5, .long (lI (q))), (4, .int (iI (k))), (3, .int (iI (d))), (2, .int (iI (i))), (1, .int (iI (sl))), (0, .ref (m))]) hx hb (pc := 471) dX3_works_471 hl (by decide) rfl (fun ls hl => ?_)
                                                        have L473 : ∀ (fu : Nat) (y5 : Int) (Fk : Nat → Int) (Vk : Nat → Int → Int), Fj 16 - y5 < (fu : Int) → (0 ≤ y5 ∧ y5 ≤ Fj 16) → (ch Fj Fk [13]) → (Fk 13 = Fj 16) → (ch Vj Vk [8, 9]) → (∀ u : Int, 0 ≤ u → u < y5 → Vk 8 u = Vj 10 u ∧ Vk 9 u = Vj 11 u) → ∀ (g : GH) (H : Heap) (locs : List Loc), Wd D (gA g0 n) s g n H locs → mR T g m Fk Vk → off g0 g m 27 → ∀ (ls : Array Slot), lv_has ls 9 [(7, .int (iI (y5))), (5, .long (lI (q))), (4, .int (iI (k))), (3, .int (iI (d))), (2, .int (iI (i))), (1, .int (iI (sl))), (0, .ref (m))] → W p l e ({ frames := 3, cells := 0, slots := 0, locals := 74 } : Room) s mi args below meth c H locs 0 0 Q (F0 mi 473 ls []) := by
                                                          intro fu
                                                          induction fu with
                                                          | zero =>
                                                            intro y5 Fk Vk hfu hy5 ck ck13 cVk hcp5 g H locs hX hM ho ls hl
                                                            exfalso
                                                            omega
                                                          | succ fu ih473 =>
                                                            intro y5 Fk Vk hfu hy5 ck ck13 cVk hcp5 g H locs hX hM ho ls hl
                                                            have hk16 : Fk 16 = Fj 16 := ck 16 (by decide)
                                                            refine lv_iload hx hb (pc := 473) dX3_works_473 (lv_at hl 0 rfl) ?_
                                                            refine lv_aload_n hx hb (pc := 475) dX3_works_475 rfl (lv_at hl 6 rfl) ?_
                                                            refine M_get hC hX hM (pc := 476) 16 (by decide) q904 rfl (v := .int (iI (Fk 16))) rfl dX3_works_476 ?_
                                                            refine j_icmp_ge hC (pc := 479) 516 dX3_works_479 (by decide) (by omega) (fun c27 => ?_) (fun c27 => ?_)
                                                            · skip
                                                              refine j_iinc hC (pc := 516) (lv' := [(2, .int (iI (i + 1))), (7, .int (iI (y5))), (5, .long (lI (q))), (4, .int (iI (k))), (3, .int (iI (d))), (1, .int (iI (sl))), (0, .ref (m))]) dX3_works_516 hl (k := 4) rfl (by decide) rfl (fun ls hl => ?_)
                                                              refine j_goto hC (pc := 519) 173 dX3_works_519 (by decide) ?_
                                                              exact ih173 (i + 1) _ _ (by omega) (by omega) (ch.tr hcF (ch.tr (ks := [13, 16, 23]) cF ck (by decide)) (by decide)) (ch.tr hcV (ch.tr (ks := [6, 7, 8, 9, 10, 11, 12, 13, 14, 15]) cV cVk (by decide)) (by decide)) (hKm.kp (ch.tr cF ck (by decide)) (ch.tr cV cVk (by decide))) ((ck 9 (by decide)).trans ((cF 9 (by decide)).trans hm9)) (by rw [cVk 16 (by decide), cV 16 (by decide)]; exact hpm) (fun _ => by rw [hi1]; exact AH.of (b := Fj 16) ck13 hE.1 (fun u h1 h2 => hcp5 u h1 (by omega))) (by rw [hi1]; exact hE.2.kp cVk (by decide)) (fun _ => by rw [hi1, hk16]; exact hE.1.cg (cVk 10 (by decide)) (cVk 11 (by decide)) (cVk 12 (by decide))) (by rw [hi1, ck 23 (by decide)]; exact e23) (fun t h1 h2 => by rcases Decidable.em (t = i.toNat) with z | z; subst z; omega; exact hnw t h1 (by omega)) (by omega) (by omega) _ _ _ hX hM ho ls (lv_sub hl [0, 5, 6] rfl)
                                                            · skip
                                                              refine lv_aload_n hx hb (pc := 482) dX3_works_482 rfl (lv_at hl 6 rfl) ?_
                                                              refine M_get hC hX hM (pc := 483) 14 (by decide) q902 rfl (v := .ref (m + 8)) rfl dX3_works_483 ?_
                                                              refine lv_iload hx hb (pc := 486) dX3_works_486 (lv_at hl 0 rfl) ?_
                                                              refine lv_aload_n hx hb (pc := 488) dX3_works_488 rfl (lv_at hl 6 rfl) ?_
                                                              refine M_get hC hX hM (pc := 489) 17 (by decide) q905 rfl (v := .ref (m + 10)) rfl dX3_works_489 ?_
                                                              refine lv_iload hx hb (pc := 492) dX3_works_492 (lv_at hl 0 rfl) ?_
                                                              refine M_lald hC hX hM (pc := 494) 10 (by decide) (L := 800) ⟨rfl, by decide⟩ (by omega) (z := Vk 10 y5) rfl dX3_works_494 ?_
                                                              refine M_last hC hX hM ho (pc := 495) 8 (by decide) (L := 400) ⟨rfl, by decide⟩ (by omega) dX3_works_495 (fun g H locs hX hM ho => ?_)
                                                              refine lv_aload_n hx hb (pc := 496) dX3_works_496 rfl (lv_at hl 6 rfl) ?_
                                                              refine M_get hC hX hM (pc := 497) 15 (by decide) q903 rfl (v := .ref (m + 9)) rfl dX3_works_497 ?_
                                                              refine lv_iload hx hb (pc := 500) dX3_works_500 (lv_at hl 0 rfl) ?_
                                                              refine lv_aload_n hx hb (pc := 502) dX3_works_502 rfl (lv_at hl 6 rfl) ?_
                                                              refine M_get hC hX hM (pc := 503) 18 (by decide) q906 rfl (v := .ref (m + 11)) rfl dX3_works_503 ?_
                                                              refine lv_iload hx hb (pc := 506) dX3_works_506 (lv_at hl 0 rfl) ?_
                                                              refine M_lald hC hX hM (pc := 508) 11 (by decide) (L := 800) ⟨rfl, by decide⟩ (by omega) (z := Vk 11 y5) rfl dX3_works_508 ?_
                                                              refine M_last hC hX hM ho (pc := 509) 9 (by decide) (L := 400) ⟨rfl, by decide⟩ (by omega) dX3_works_509 (fun g H locs hX hM ho => ?_)
                                                              refine j_iinc hC (pc := 510) (lv' := [(7, .int (iI (y5 + 1))), (5, .long (lI (q))), (4, .int (iI (k))), (3, .int (iI (d))), (2, .int (iI (i))), (1, .int (iI (sl))), (0, .ref (m))]) dX3_works_510 hl (k := 0) rfl (by decide) rfl (fun ls hl => ?_)
                                                              refine j_goto hC (pc := 513) 473 dX3_works_513 (by decide) ?_
                                                              exact ih473 (y5 + 1) _ _ (by omega) (by omega) ck ck13 ((cVk.up 8 _ (by decide)).up 9 _ (by decide)) (fun u h1 h2 => ⟨by show uI (Vk 8) y5 (Vk 10 y5) u = _; unfold uI; split; rename_i q; rw [q, cVk 10 (by decide)]; exact (hcp5 u h1 (by omega)).1, by show uI (Vk 9) y5 (Vk 11 y5) u = _; unfold uI; split; rename_i q; rw [q, cVk 11 (by decide)]; exact (hcp5 u h1 (by omega)).2⟩) _ _ _ hX hM ho ls (lv_sub hl [0, 1, 2, 3, 4, 5, 6] rfl)
                                                        exact L473 ((Fj 16 - 0 : Int).toNat + 1) 0 _ _ (by omega) (by omega) (ch.rf.up 13 _ (by decide)) rfl ch.rf (fun u h1 h2 => by omega) _ _ _ hX hM ho ls (lv_sub hl [0, 1, 2, 3, 4, 5, 6] rfl)
                                                    · skip
                                                      refine j_bipush hC (pc := 452) dX3_works_452 (by decide) ?_
                                                      subst hQ
                                                      exact j_iret hC (pc := 454) hX hr hlk (Nat.le_refl _) (Nat.le_refl _) dX3_works_454 ⟨rfl, _, _, hM, ho, ⟨ch.tr hcF cF (by decide), ch.tr hcV cV (by decide), (cF 9 (by decide)).trans hm9, Or.inl ⟨rfl, Or.inr ⟨hwn, i.toNat, by omega, by omega⟩⟩⟩⟩
                                                · skip
                                                  obtain ⟨s, hs, hmem, hs8, hs9⟩ := hA.at (i := j) (by omega)
                                                  have hvs := hok s hmem
                                                  refine lv_aload_n hx hb (pc := 278) dX3_works_278 rfl (lv_at hl 6 rfl) ?_
                                                  refine lv_aload_n hx hb (pc := 279) dX3_works_279 rfl (lv_at hl 6 rfl) ?_
                                                  refine M_get hC hX hM (pc := 280) 14 (by decide) q902 rfl (v := .ref (m + 8)) rfl dX3_works_280 ?_
                                                  refine lv_iload hx hb (pc := 283) dX3_works_283 (lv_at hl 0 rfl) ?_
                                                  refine M_lald hC hX hM (pc := 285) 8 (by decide) (L := 400) ⟨rfl, by decide⟩ (by omega) (z := Vj 8 j) rfl dX3_works_285 ?_
                                                  refine j_eql (b := s.1) ((congrFun (cV 8 (by decide)) j).trans hs8) ?_
                                                  refine M_callv (As := [.long (lI (s.1))]) (rest := []) hC hX hM ho (m3_unpack D T N l _ _ s.1 hvs.1.1) (cwV 1 hC.ts (lw_V q1100 q1102 qs26 q46 q1103) rfl rfl rfl (by decide +kernel) ⟨Nat.le_of_ble_eq_true rfl, Nat.le_of_ble_eq_true rfl⟩) rfl hl.1 (Nat.le_of_ble_eq_true rfl) dX3_works_286 ⟨Nat.zero_le _, Nat.zero_le _⟩ (fun F29 V29 g H locs hp hX hM ho => ?_)
                                                  have cF : ch Fm F29 [16, 23] := by rw [hp.1]; exact cF
                                                  have e23 : F29 23 = wdF Su sl (i.toNat + 1) := by rw [hp.1]; exact e23
                                                  have hle : F29 16 ≤ 2 * j := by rw [hp.1]; exact hle
                                                  have cV : ch Vm V29 [6, 7, 10, 11, 12, 13, 14, 15] := ch.tr cV hp.2.1 (by decide)
                                                  have hL : ag (V29 6) (lfD s.1) := fun k a b => (hp.2.2 k a b).1
                                                  have hU : ag (V29 7) (ufD s.1) := fun k a b => (hp.2.2 k a b).2
                                                  have hO := hvs.1.ok hL hU
                                                  have hR := hR.kp (F' := F29) (by rw [hp.1]) hp.2.1 (by decide)
                                                  have hK := hKm.kp (ch.wd cF (by decide)) (ch.wd cV (by decide))
                                                  refine lv_aload_n hx hb (pc := 289) dX3_works_289 rfl (lv_at hl 6 rfl) ?_
                                                  refine lv_iload hx hb (pc := 290) dX3_works_290 (lv_at hl 2 rfl) ?_
                                                  refine lv_iload_n hx hb (pc := 292) dX3_works_292 rfl (lv_at hl 3 rfl) ?_
                                                  refine M_calli (As := [.int (iI (k)), .int (iI (d))]) (rest := []) hC hX hM ho (m3_hasTurn D T N l _ _ k d hO hkr (by omega) (hK.st.2)) (cwV 2 hC.ts (lw_V q1105 q1107 qs27 q46 q1108) rfl rfl rfl (by decide +kernel) ⟨Nat.le_of_ble_eq_true rfl, Nat.le_of_ble_eq_true rfl⟩) rfl hl.1 (Nat.le_of_ble_eq_true rfl) dX3_works_293 ⟨Nat.zero_le _, Nat.zero_le _⟩ (fun r30 F31 V31 g H locs hp hX hM ho => ?_)
                                                  obtain ⟨hp, hF_, hV_⟩ := hp
                                                  rw [hF_, hV_] at hM
                                                  have hq : (r30 = 0 ∧ (ufD s.1 k = 0 ∨ (d = 0 ∧ Su 6 1 = k / 3))) ∨ (r30 = 1 ∧ ¬ (ufD s.1 k = 0 ∨ (d = 0 ∧ Su 6 1 = k / 3))) := by rw [← hU k hkr.1 hkr.2, hK.st.1, hp]; split; exact Or.inl ⟨rfl, ‹_›⟩; exact Or.inr ⟨rfl, ‹_›⟩
                                                  refine j_if_ne hC (pc := 296) 317 dX3_works_296 (by decide) (by omega) (fun c32 => ?_) (fun c32 => ?_)
                                                  · skip
                                                    have hturn : ¬ (ufD s.1 k = 0 ∨ (d = 0 ∧ Su 6 1 = k / 3)) := by rcases hq with z | z; exact absurd z.1 (by omega); exact z.2
                                                    have hne3 := hK.up (L := V29 6) hvs.1 hU hkr.1 hkr.2 (by rw [hU k hkr.1 hkr.2]; exact fun z => hturn (Or.inl z))
                                                    have hW3 := hK.W k hkr.1 hkr.2
                                                    have hwk : 0 ≤ V29 3 k ∧ V29 3 k < F29 0 := by omega
                                                    have hhere := hK.here k hkr.1 hkr.2 hne3
                                                    have hSk := hK.ok.1 k hkr.1 hkr.2
                                                    have hnn := hK.I.nums
                                                    refine lv_aload_n hx hb (pc := 317) dX3_works_317 rfl (lv_at hl 6 rfl) ?_
                                                    refine lv_iload hx hb (pc := 318) dX3_works_318 (lv_at hl 2 rfl) ?_
                                                    refine M_calli (As := [.int (iI (k))]) (rest := []) hC hX hM ho (m3_flees D T N l _ _ k hK.I hO hkr hwk) (cwV 1 hC.ts (lw_V q1115 q1117 qs29 q46 q1118) rfl rfl rfl (by decide +kernel) ⟨Nat.le_of_ble_eq_true rfl, Nat.le_of_ble_eq_true rfl⟩) rfl hl.1 (Nat.le_of_ble_eq_true rfl) dX3_works_320 ⟨Nat.zero_le _, Nat.zero_le _⟩ (fun r33 F34 V34 g H locs hp hX hM ho => ?_)
                                                    obtain ⟨hp, hF_, hV_⟩ := hp
                                                    rw [hF_, hV_] at hM
                                                    have hfl : (r33 = 1 ∧ lfD s.1 k ≤ Su 4 k) ∨ (r33 = 0 ∧ ¬ lfD s.1 k ≤ Su 4 k) := by rw [← hL k hkr.1 hkr.2, hhere.2.2.2.2, hp]; split; exact Or.inl ⟨rfl, ‹_›⟩; exact Or.inr ⟨rfl, ‹_›⟩
                                                    refine j_if_eq hC (pc := 323) 355 dX3_works_323 (by decide) (by omega) (fun c35 => ?_) (fun c35 => ?_)
                                                    · skip
                                                      refine lv_aload_n hx hb (pc := 355) dX3_works_355 rfl (lv_at hl 6 rfl) ?_
                                                      refine M_get hC hX hM (pc := 356) 1 (by decide) q889 rfl (v := .ref (m + 1)) rfl dX3_works_356 ?_
                                                      refine j_bipush hC (pc := 359) dX3_works_359 (by decide) ?_
                                                      refine lv_aload_n hx hb (pc := 361) dX3_works_361 rfl (lv_at hl 6 rfl) ?_
                                                      refine M_get hC hX hM (pc := 362) 6 (by decide) q894 rfl (v := .ref (m + 3)) rfl dX3_works_362 ?_
                                                      refine lv_iload hx hb (pc := 365) dX3_works_365 (lv_at hl 2 rfl) ?_
                                                      refine M_iald hC hX hM (pc := 367) 3 (by decide) (L := 6) ⟨rfl, by decide⟩ (by omega) (z := V29 3 k) rfl dX3_works_367 ?_
                                                      refine j_imul hC (pc := 368) dX3_works_368 ?_
                                                      refine j_iconst hC (pc := 369) dX3_works_369 ?_
                                                      refine j_iadd hC (pc := 370) dX3_works_370 ?_
                                                      refine M_iald hC hX hM (pc := 371) 1 (by decide) (L := 96) ⟨rfl, by decide⟩ (by omega) (z := V29 1 ((6 * (V29 3 k)) + 2)) rfl dX3_works_371 ?_
                                                      refine j_eqi (b := Su 2 k) hhere.2.2.1.symm ?_
                                                      refine lv_istore (lv' := [(8, .int (iI (Su 2 k))), (7, .int (iI (j))), (5, .long (lI (q))), (4, .int (iI (k))), (3, .int (iI (d))), (2, .int (iI (i))), (1, .int (iI (sl))), (0, .ref (m))]) hx hb (pc := 372) dX3_works_372 hl (by decide) rfl (fun ls hl => ?_)
                                                      refine lv_iload hx hb (pc := 374) dX3_works_374 (lv_at hl 0 rfl) ?_
                                                      refine j_bipush hC (pc := 376) dX3_works_376 (by decide) ?_
                                                      refine j_icmp_ge hC (pc := 378) 400 dX3_works_378 (by decide) (by omega) (fun c36 => ?_) (fun c36 => ?_)
                                                      · skip
                                                        refine lv_iload hx hb (pc := 400) dX3_works_400 (lv_at hl 0 rfl) ?_
                                                        refine j_if_le hC (pc := 402) 429 dX3_works_402 (by decide) (by omega) (fun c37 => ?_) (fun c37 => ?_)
                                                        · skip
                                                          exfalso; omega
                                                        · skip
                                                          refine lv_aload_n hx hb (pc := 405) dX3_works_405 rfl (lv_at hl 7 rfl) ?_
                                                          refine lv_iload hx hb (pc := 406) dX3_works_406 (lv_at hl 3 rfl) ?_
                                                          refine M_callv (As := [.int (iI (k))]) (rest := []) hC hX hM ho (m3_hits D T N l _ _ k hK.I hK.W hK.B hO (fun j b c z => hK.up (L := V29 6) hvs.1 hU b c z) hkr (by rw [hU k hkr.1 hkr.2]; exact fun z => hturn (Or.inl z)) (by rw [winF_cg hU]; exact hvs.2)) (cwV 1 hC.ts (lw_V q1123 q1125 qs31 q46 q1126) rfl rfl rfl (by decide +kernel) ⟨Nat.le_of_ble_eq_true rfl, Nat.le_of_ble_eq_true rfl⟩) rfl hl.1 (Nat.le_of_ble_eq_true rfl) dX3_works_408 ⟨Nat.zero_le _, Nat.zero_le _⟩ (fun F39 V39 g H locs hp hX hM ho => ?_)
                                                          have hh := hK.hit hvs.1 hL hU hkr hvs.2 (fun z => hturn (Or.inl z)) hp.2.2.1 hp.2.2.2
                                                          have hO := hh.1
                                                          have hpk := hh.2
                                                          have hR := hR.kp (F' := F39) (by rw [hp.1]) hp.2.1 (by decide)
                                                          have cF : ch Fm F39 [16, 23] := by rw [hp.1]; exact cF
                                                          have e23 : F39 23 = wdF Su sl (i.toNat + 1) := by rw [hp.1]; exact e23
                                                          have hle : F39 16 ≤ 2 * j + 1 := by rw [hp.1]; omega
                                                          have cV : ch Vm V39 [6, 7, 10, 11, 12, 13, 14, 15] := ch.tr cV hp.2.1 (by decide)
                                                          refine lv_aload_n hx hb (pc := 411) dX3_works_411 rfl (lv_at hl 7 rfl) ?_
                                                          refine lv_iload_n hx hb (pc := 412) dX3_works_412 rfl (lv_at hl 4 rfl) ?_
                                                          refine lv_iload hx hb (pc := 413) dX3_works_413 (lv_at hl 0 rfl) ?_
                                                          refine j_i2l hC (pc := 415) dX3_works_415 (by omega) ?_
                                                          refine lv_aload_n hx hb (pc := 416) dX3_works_416 rfl (lv_at hl 7 rfl) ?_
                                                          refine M_get hC hX hM (pc := 417) 15 (by decide) q903 rfl (v := .ref (m + 9)) rfl dX3_works_417 ?_
                                                          refine lv_iload hx hb (pc := 420) dX3_works_420 (lv_at hl 1 rfl) ?_
                                                          refine M_lald hC hX hM (pc := 422) 9 (by decide) (L := 400) ⟨rfl, by decide⟩ (by omega) (z := V39 9 j) rfl dX3_works_422 ?_
                                                          refine j_eql (b := s.2) ((congrFun (cV 9 (by decide)) j).trans hs9) ?_
                                                          refine j_lmul hC (pc := 423) dX3_works_423 ?_
                                                          refine lv_lload hx hb (pc := 424) dX3_works_424 (lv_at hl 2 rfl) ?_
                                                          refine M_callv (As := [.int (iI (d)), .long (lI ((Su 2 k) * (s.2))), .long (lI (q))]) (rest := []) hC hX hM ho (m3_goesOn D T N l _ _ d ((Su 2 k) * (s.2)) q _ hO hR.1 (by omega) (by omega)) (cwV 3 hC.ts (lw_V q1119 q1121 qs30 q46 q1122) rfl rfl rfl (by decide +kernel) ⟨Nat.le_of_ble_eq_true rfl, Nat.le_of_ble_eq_true rfl⟩) rfl hl.1 (Nat.le_of_ble_eq_true rfl) dX3_works_426 ⟨Nat.zero_le _, Nat.zero_le _⟩ (fun F41 V41 g H locs hp hX hM ho => ?_)
                                                          have hg := hR.goes hO hpk hp
                                                          have cF : ch Fm F41 [16, 23] := ch.tr cF hg.2.1 (by decide)
                                                          have e23 : F41 23 = wdF Su sl (i.toNat + 1) := (hg.2.1 23 (by decide)).trans e23
                                                          have hle : F41 16 ≤ 2 * j + 2 := by have := hg.2.2.2; omega
                                                          have hR := hg.1
                                                          have cV : ch Vm V41 [6, 7, 10, 11, 12, 13, 14, 15] := ch.tr cV hg.2.2.1 (by decide)
                                                          refine j_iinc hC (pc := 429) (lv' := [(7, .int (iI (j + 1))), (8, .int (iI (Su 2 k))), (5, .long (lI (q))), (4, .int (iI (k))), (3, .int (iI (d))), (2, .int (iI (i))), (1, .int (iI (sl))), (0, .ref (m))]) dX3_works_429 hl (k := 1) rfl (by decide) rfl (fun ls hl => ?_)
                                                          refine j_goto hC (pc := 432) 269 dX3_works_432 (by decide) ?_
                                                          exact ih269 (j + 1) _ _ (by omega) (by omega) cF e23 cV (by rw [fold_s (by omega) hs, ← ha, st_turn hvs.2 hturn (by omega), if_pos (show 0 < Su 2 k by omega), if_neg (show ¬ Su 2 k < 6 by omega)]; exact hR) (by omega) _ _ _ hX hM ho ls (lv_sub hl [0, 2, 3, 4, 5, 6, 7] rfl)
                                                      · skip
                                                        refine lv_aload_n hx hb (pc := 381) dX3_works_381 rfl (lv_at hl 7 rfl) ?_
                                                        refine j_ldc2 hC (pc := 382) (z := 6) q1024 dX3_works_382 rfl ?_
                                                        refine lv_iload hx hb (pc := 385) dX3_works_385 (lv_at hl 0 rfl) ?_
                                                        refine j_i2l hC (pc := 387) dX3_works_387 (by omega) ?_
                                                        refine j_lsub hC (pc := 388) dX3_works_388 ?_
                                                        refine lv_aload_n hx hb (pc := 389) dX3_works_389 rfl (lv_at hl 7 rfl) ?_
                                                        refine M_get hC hX hM (pc := 390) 15 (by decide) q903 rfl (v := .ref (m + 9)) rfl dX3_works_390 ?_
                                                        refine lv_iload hx hb (pc := 393) dX3_works_393 (lv_at hl 1 rfl) ?_
                                                        refine M_lald hC hX hM (pc := 395) 9 (by decide) (L := 400) ⟨rfl, by decide⟩ (by omega) (z := V29 9 j) rfl dX3_works_395 ?_
                                                        refine j_eql (b := s.2) ((congrFun (cV 9 (by decide)) j).trans hs9) ?_
                                                        refine j_lmul hC (pc := 396) dX3_works_396 ?_
                                                        refine M_callv (As := [.long (lI ((6 - (Su 2 k)) * (s.2)))]) (rest := []) hC hX hM ho (m3_comes D T N l _ _ ((6 - (Su 2 k)) * (s.2)) a.1 hO hR.1 (by omega)) (cwV 1 hC.ts (lw_V q1109 q1111 qs28 q46 q1112) rfl rfl rfl (by decide +kernel) ⟨Nat.le_of_ble_eq_true rfl, Nat.le_of_ble_eq_true rfl⟩) rfl hl.1 (Nat.le_of_ble_eq_true rfl) dX3_works_397 ⟨Nat.zero_le _, Nat.zero_le _⟩ (fun F43 V43 g H locs hp hX hM ho => ?_)
                                                        have cF : ch Fm F43 [16, 23] := ch.tr cF hp.1 (by decide)
                                                        have e23 : F43 23 = wdF Su sl (i.toNat + 1) := (hp.1 23 (by decide)).trans e23
                                                        have hle : F43 16 ≤ 2 * j + 1 := by have := hp.2.2.2; omega
                                                        have hR := hR.comes (hvs.1.pk hL hU) hp
                                                        have cV : ch Vm V43 [6, 7, 10, 11, 12, 13, 14, 15] := ch.tr cV hp.2.1 (by decide)
                                                        have hL : ag (V43 6) (lfD s.1) := by rw [hp.2.1 6 (by decide)]; exact hL
                                                        have hU : ag (V43 7) (ufD s.1) := by rw [hp.2.1 7 (by decide)]; exact hU
                                                        have hO := hvs.1.ok hL hU
                                                        have hK := hKm.kp (ch.wd cF (by decide)) (ch.wd cV (by decide))
                                                        refine lv_iload hx hb (pc := 400) dX3_works_400 (lv_at hl 0 rfl) ?_
                                                        refine j_if_le hC (pc := 402) 429 dX3_works_402 (by decide) (by omega) (fun c44 => ?_) (fun c44 => ?_)
                                                        · skip
                                                          refine j_iinc hC (pc := 429) (lv' := [(7, .int (iI (j + 1))), (8, .int (iI (Su 2 k))), (5, .long (lI (q))), (4, .int (iI (k))), (3, .int (iI (d))), (2, .int (iI (i))), (1, .int (iI (sl))), (0, .ref (m))]) dX3_works_429 hl (k := 1) rfl (by decide) rfl (fun ls hl => ?_)
                                                          refine j_goto hC (pc := 432) 269 dX3_works_432 (by decide) ?_
                                                          exact ih269 (j + 1) _ _ (by omega) (by omega) cF e23 cV (by rw [fold_s (by omega) hs, ← ha, st_turn hvs.2 hturn (by omega), if_neg (show ¬ 0 < Su 2 k by omega), if_pos (show Su 2 k < 6 by omega)]; exact hR) (by omega) _ _ _ hX hM ho ls (lv_sub hl [0, 2, 3, 4, 5, 6, 7] rfl)
                                                        · skip
                                                          refine lv_aload_n hx hb (pc := 405) dX3_works_405 rfl (lv_at hl 7 rfl) ?_
                                                          refine lv_iload hx hb (pc := 406) dX3_works_406 (lv_at hl 3 rfl) ?_
                                                          refine M_callv (As := [.int (iI (k))]) (rest := []) hC hX hM ho (m3_hits D T N l _ _ k hK.I hK.W hK.B hO (fun j b c z => hK.up (L := V43 6) hvs.1 hU b c z) hkr (by rw [hU k hkr.1 hkr.2]; exact fun z => hturn (Or.inl z)) (by rw [winF_cg hU]; exact hvs.2)) (cwV 1 hC.ts (lw_V q1123 q1125 qs31 q46 q1126) rfl rfl rfl (by decide +kernel) ⟨Nat.le_of_ble_eq_true rfl, Nat.le_of_ble_eq_true rfl⟩) rfl hl.1 (Nat.le_of_ble_eq_true rfl) dX3_works_408 ⟨Nat.zero_le _, Nat.zero_le _⟩ (fun F46 V46 g H locs hp hX hM ho => ?_)
                                                          have hh := hK.hit hvs.1 hL hU hkr hvs.2 (fun z => hturn (Or.inl z)) hp.2.2.1 hp.2.2.2
                                                          have hO := hh.1
                                                          have hpk := hh.2
                                                          have hR := hR.kp (F' := F46) (by rw [hp.1]) hp.2.1 (by decide)
                                                          have cF : ch Fm F46 [16, 23] := by rw [hp.1]; exact cF
                                                          have e23 : F46 23 = wdF Su sl (i.toNat + 1) := by rw [hp.1]; exact e23
                                                          have hle : F46 16 ≤ 2 * j + 1 := by rw [hp.1]; omega
                                                          have cV : ch Vm V46 [6, 7, 10, 11, 12, 13, 14, 15] := ch.tr cV hp.2.1 (by decide)
                                                          refine lv_aload_n hx hb (pc := 411) dX3_works_411 rfl (lv_at hl 7 rfl) ?_
                                                          refine lv_iload_n hx hb (pc := 412) dX3_works_412 rfl (lv_at hl 4 rfl) ?_
                                                          refine lv_iload hx hb (pc := 413) dX3_works_413 (lv_at hl 0 rfl) ?_
                                                          refine j_i2l hC (pc := 415) dX3_works_415 (by omega) ?_
                                                          refine lv_aload_n hx hb (pc := 416) dX3_works_416 rfl (lv_at hl 7 rfl) ?_
                                                          refine M_get hC hX hM (pc := 417) 15 (by decide) q903 rfl (v := .ref (m + 9)) rfl dX3_works_417 ?_
                                                          refine lv_iload hx hb (pc := 420) dX3_works_420 (lv_at hl 1 rfl) ?_
                                                          refine M_lald hC hX hM (pc := 422) 9 (by decide) (L := 400) ⟨rfl, by decide⟩ (by omega) (z := V46 9 j) rfl dX3_works_422 ?_
                                                          refine j_eql (b := s.2) ((congrFun (cV 9 (by decide)) j).trans hs9) ?_
                                                          refine j_lmul hC (pc := 423) dX3_works_423 ?_
                                                          refine lv_lload hx hb (pc := 424) dX3_works_424 (lv_at hl 2 rfl) ?_
                                                          refine M_callv (As := [.int (iI (d)), .long (lI ((Su 2 k) * (s.2))), .long (lI (q))]) (rest := []) hC hX hM ho (m3_goesOn D T N l _ _ d ((Su 2 k) * (s.2)) q _ hO hR.1 (by omega) (by omega)) (cwV 3 hC.ts (lw_V q1119 q1121 qs30 q46 q1122) rfl rfl rfl (by decide +kernel) ⟨Nat.le_of_ble_eq_true rfl, Nat.le_of_ble_eq_true rfl⟩) rfl hl.1 (Nat.le_of_ble_eq_true rfl) dX3_works_426 ⟨Nat.zero_le _, Nat.zero_le _⟩ (fun F48 V48 g H locs hp hX hM ho => ?_)
                                                          have hg := hR.goes hO hpk hp
                                                          have cF : ch Fm F48 [16, 23] := ch.tr cF hg.2.1 (by decide)
                                                          have e23 : F48 23 = wdF Su sl (i.toNat + 1) := (hg.2.1 23 (by decide)).trans e23
                                                          have hle : F48 16 ≤ 2 * j + 2 := by have := hg.2.2.2; omega
                                                          have hR := hg.1
                                                          have cV : ch Vm V48 [6, 7, 10, 11, 12, 13, 14, 15] := ch.tr cV hg.2.2.1 (by decide)
                                                          refine j_iinc hC (pc := 429) (lv' := [(7, .int (iI (j + 1))), (8, .int (iI (Su 2 k))), (5, .long (lI (q))), (4, .int (iI (k))), (3, .int (iI (d))), (2, .int (iI (i))), (1, .int (iI (sl))), (0, .ref (m))]) dX3_works_429 hl (k := 1) rfl (by decide) rfl (fun ls hl => ?_)
                                                          refine j_goto hC (pc := 432) 269 dX3_works_432 (by decide) ?_
                                                          exact ih269 (j + 1) _ _ (by omega) (by omega) cF e23 cV (by rw [fold_s (by omega) hs, ← ha, st_turn hvs.2 hturn (by omega), if_pos (show 0 < Su 2 k by omega), if_pos (show Su 2 k < 6 by omega)]; exact hR) (by omega) _ _ _ hX hM ho ls (lv_sub hl [0, 2, 3, 4, 5, 6, 7] rfl)
                                                    · skip
                                                      refine lv_aload_n hx hb (pc := 326) dX3_works_326 rfl (lv_at hl 6 rfl) ?_
                                                      refine M_get hC hX hM (pc := 327) 12 (by decide) q900 rfl (v := .ref (m + 7)) rfl dX3_works_327 ?_
                                                      refine lv_iload hx hb (pc := 330) dX3_works_330 (lv_at hl 2 rfl) ?_
                                                      refine j_iconst hC (pc := 332) dX3_works_332 ?_
                                                      refine M_zast hC hX hM ho (pc := 333) (by omega) (by omega) dX3_works_333 (fun g H locs hX hM ho => ?_)
                                                      have hpk : pkF (V29 6) (uI (V29 7) k 0) 6 = pkF (lfD s.1) (uI (ufD s.1) k 0) 6 := pkF_cg 6 (fun a b c => ⟨hL a b c, hU.up k 0 a b c⟩)
                                                      have hO : okS (V29 6) (uI (V29 7) k 0) := fun a b c => ⟨(hO a b c).1, by unfold uI; split; exact Or.inl rfl; exact (hO a b c).2⟩
                                                      have hR := hR.kp (F' := F29) rfl ((ch.rf (ks := [7])).up 7 (uI (V29 7) k 0) (by decide)) (by decide)
                                                      have cV := cV.up 7 (uI (V29 7) k 0) (by decide)
                                                      refine lv_aload_n hx hb (pc := 334) dX3_works_334 rfl (lv_at hl 6 rfl) ?_
                                                      refine lv_iload_n hx hb (pc := 335) dX3_works_335 rfl (lv_at hl 3 rfl) ?_
                                                      refine j_ldc2 hC (pc := 336) (z := 6) q1024 dX3_works_336 rfl ?_
                                                      refine lv_aload_n hx hb (pc := 339) dX3_works_339 rfl (lv_at hl 6 rfl) ?_
                                                      refine M_get hC hX hM (pc := 340) 15 (by decide) q903 rfl (v := .ref (m + 9)) rfl dX3_works_340 ?_
                                                      refine lv_iload hx hb (pc := 343) dX3_works_343 (lv_at hl 0 rfl) ?_
                                                      refine M_lald hC hX hM (pc := 345) 9 (by decide) (L := 400) ⟨rfl, by decide⟩ (by omega) (z := V29 9 j) rfl dX3_works_345 ?_
                                                      refine j_eql (b := s.2) ((congrFun (cV 9 (by decide)) j).trans hs9) ?_
                                                      refine j_lmul hC (pc := 346) dX3_works_346 ?_
                                                      refine lv_lload hx hb (pc := 347) dX3_works_347 (lv_at hl 1 rfl) ?_
                                                      refine M_callv (As := [.int (iI (d)), .long (lI (6 * (s.2))), .long (lI (q))]) (rest := []) hC hX hM ho (m3_goesOn D T N l _ _ d (6 * (s.2)) q _ hO hR.1 (by omega) (by omega)) (cwV 3 hC.ts (lw_V q1119 q1121 qs30 q46 q1122) rfl rfl rfl (by decide +kernel) ⟨Nat.le_of_ble_eq_true rfl, Nat.le_of_ble_eq_true rfl⟩) rfl hl.1 (Nat.le_of_ble_eq_true rfl) dX3_works_349 ⟨Nat.zero_le _, Nat.zero_le _⟩ (fun F50 V50 g H locs hp hX hM ho => ?_)
                                                      have hg := hR.goes hO hpk hp
                                                      have cF : ch Fm F50 [16, 23] := ch.tr cF hg.2.1 (by decide)
                                                      have e23 : F50 23 = wdF Su sl (i.toNat + 1) := (hg.2.1 23 (by decide)).trans e23
                                                      have hle : F50 16 ≤ 2 * j + 2 := by have := hg.2.2.2; omega
                                                      have hR := hg.1
                                                      have cV : ch Vm V50 [6, 7, 10, 11, 12, 13, 14, 15] := ch.tr cV hg.2.2.1 (by decide)
                                                      refine j_goto hC (pc := 352) 429 dX3_works_352 (by decide) ?_
                                                      refine j_iinc hC (pc := 429) (lv' := [(7, .int (iI (j + 1))), (5, .long (lI (q))), (4, .int (iI (k))), (3, .int (iI (d))), (2, .int (iI (i))), (1, .int (iI (sl))), (0, .ref (m))]) dX3_works_429 hl (k := 0) rfl (by decide) rfl (fun ls hl => ?_)
                                                      refine j_goto hC (pc := 432) 269 dX3_works_432 (by decide) ?_
                                                      exact ih269 (j + 1) _ _ (by omega) (by omega) cF e23 cV (by rw [fold_s (by omega) hs, ← ha, st_flee hturn (by omega)]; exact hR) (by omega) _ _ _ hX hM ho ls (lv_sub hl [0, 1, 2, 3, 4, 5, 6] rfl)
                                                  · skip
                                                    refine lv_aload_n hx hb (pc := 299) dX3_works_299 rfl (lv_at hl 6 rfl) ?_
                                                    refine j_ldc2 hC (pc := 300) (z := 6) q1024 dX3_works_300 rfl ?_
                                                    refine lv_aload_n hx hb (pc := 303) dX3_works_303 rfl (lv_at hl 6 rfl) ?_
                                                    refine M_get hC hX hM (pc := 304) 15 (by decide) q903 rfl (v := .ref (m + 9)) rfl dX3_works_304 ?_
                                                    refine lv_iload hx hb (pc := 307) dX3_works_307 (lv_at hl 0 rfl) ?_
                                                    refine M_lald hC hX hM (pc := 309) 9 (by decide) (L := 400) ⟨rfl, by decide⟩ (by omega) (z := V29 9 j) rfl dX3_works_309 ?_
                                                    refine j_eql (b := s.2) ((congrFun (cV 9 (by decide)) j).trans hs9) ?_
                                                    refine j_lmul hC (pc := 310) dX3_works_310 ?_
                                                    refine M_callv (As := [.long (lI (6 * (s.2)))]) (rest := []) hC hX hM ho (m3_comes D T N l _ _ (6 * (s.2)) a.1 hO hR.1 (by omega)) (cwV 1 hC.ts (lw_V q1109 q1111 qs28 q46 q1112) rfl rfl rfl (by decide +kernel) ⟨Nat.le_of_ble_eq_true rfl, Nat.le_of_ble_eq_true rfl⟩) rfl hl.1 (Nat.le_of_ble_eq_true rfl) dX3_works_311 ⟨Nat.zero_le _, Nat.zero_le _⟩ (fun F52 V52 g H locs hp hX hM ho => ?_)
                                                    have cF : ch Fm F52 [16, 23] := ch.tr cF hp.1 (by decide)
                                                    have e23 : F52 23 = wdF Su sl (i.toNat + 1) := (hp.1 23 (by decide)).trans e23
                                                    have hle : F52 16 ≤ 2 * j + 1 := by have := hp.2.2.2; omega
                                                    have hR := hR.comes (hvs.1.pk hL hU) hp
                                                    have cV : ch Vm V52 [6, 7, 10, 11, 12, 13, 14, 15] := ch.tr cV hp.2.1 (by decide)
                                                    have hL : ag (V52 6) (lfD s.1) := by rw [hp.2.1 6 (by decide)]; exact hL
                                                    have hU : ag (V52 7) (ufD s.1) := by rw [hp.2.1 7 (by decide)]; exact hU
                                                    have hO := hvs.1.ok hL hU
                                                    have hK := hKm.kp (ch.wd cF (by decide)) (ch.wd cV (by decide))
                                                    refine j_goto hC (pc := 314) 429 dX3_works_314 (by decide) ?_
                                                    refine j_iinc hC (pc := 429) (lv' := [(7, .int (iI (j + 1))), (5, .long (lI (q))), (4, .int (iI (k))), (3, .int (iI (d))), (2, .int (iI (i))), (1, .int (iI (sl))), (0, .ref (m))]) dX3_works_429 hl (k := 0) rfl (by decide) rfl (fun ls hl => ?_)
                                                    refine j_goto hC (pc := 432) 269 dX3_works_432 (by decide) ?_
                                                    exact ih269 (j + 1) _ _ (by omega) (by omega) cF e23 cV (by rw [fold_s (by omega) hs, ← ha, st_none hvs.2 (by rcases hq with z | z; exact z.2; exact absurd z.1 (by omega))]; exact hR) (by omega) _ _ _ hX hM ho ls (lv_sub hl [0, 1, 2, 3, 4, 5, 6] rfl)
                                            exact L269 ((Fm 13 - 0 : Int).toNat + 1) 0 _ _ (by omega) (by have := hA.1; omega) cF e23 (ch.wd ct (by decide)) hT0 (by omega) _ _ _ hX hM ho ls (lv_sub hl [0, 1, 2, 3, 4, 5, 6] rfl)
                                          · skip
                                            refine lv_aload_n hx hb (pc := 252) dX3_works_252 rfl (lv_at hl 6 rfl) ?_
                                            refine M_get hC hX hM (pc := 253) 19 (by decide) q907 rfl (v := .ref (m + 12)) rfl dX3_works_253 ?_
                                            refine lv_iload hx hb (pc := 256) dX3_works_256 (lv_at hl 0 rfl) ?_
                                            refine j_iconst hC (pc := 258) dX3_works_258 ?_
                                            refine M_iast hC hX hM ho (pc := 259) 12 (by decide) (L := 2048) ⟨rfl, by decide⟩ (by omega) dX3_works_259 (fun g H locs hX hM ho => ?_)
                                            refine j_iinc hC (pc := 260) (lv' := [(7, .int (iI (y4 + 1))), (5, .long (lI (q))), (4, .int (iI (k))), (3, .int (iI (d))), (2, .int (iI (i))), (1, .int (iI (sl))), (0, .ref (m))]) dX3_works_260 hl (k := 0) rfl (by decide) rfl (fun ls hl => ?_)
                                            refine j_goto hC (pc := 263) 244 dX3_works_263 (by decide) ?_
                                            exact ih244 (y4 + 1) _ _ (by omega) (by omega) cF e16 e23 (ct.up 12 _ (by decide)) (fun k h1 h2 => by show uI (Vt 12) y4 0 k = _; unfold uI; split; rfl; exact hz12 k h1 (by omega)) _ _ _ hX hM ho ls (lv_sub hl [0, 1, 2, 3, 4, 5, 6] rfl)
                                      exact L244 ((2048 - 0 : Int).toNat + 1) 0 _ _ (by omega) (by omega) ((ch.rf.up 23 _ (by decide)).up 16 _ (by decide)) rfl hw ch.rf (fun k h1 h2 => by omega) _ _ _ hX hM ho ls (lv_sub hl [0, 1, 2, 3, 4, 5, 6] rfl)
                                    refine lv_aload_n hx hb (pc := 178) dX3_works_178 rfl (lv_at hl 2 rfl) ?_
                                    refine lv_aload_n hx hb (pc := 179) dX3_works_179 rfl (lv_at hl 2 rfl) ?_
                                    refine M_get hC hX hM (pc := 180) 13 (by decide) q901 rfl (v := .int (iI (Fm 13))) rfl dX3_works_180 ?_
                                    refine lv_aload_n hx hb (pc := 183) dX3_works_183 rfl (lv_at hl 2 rfl) ?_
                                    refine M_get hC hX hM (pc := 184) 23 (by decide) q911 rfl (v := .int (iI (Fm 23))) rfl dX3_works_184 ?_
                                    refine j_icmp_le hC (pc := 187) 197 dX3_works_187 (by decide) (by omega) (fun c53 => ?_) (fun c53 => ?_)
                                    · skip
                                      refine lv_aload_n hx hb (pc := 197) dX3_works_197 rfl (lv_at hl 2 rfl) ?_
                                      refine M_get hC hX hM (pc := 198) 23 (by decide) q911 rfl (v := .int (iI (Fm 23))) rfl dX3_works_198 ?_
                                      exact J201 (Fm 23) (by show _ = if wdF Su sl i.toNat < (((evo Su sl z3 i.toNat).1.length : Nat) : Int) then _ else _; rw [if_neg (by have := hA.1; omega)]; exact hwd) _ _ _ hX hM ho ls (lv_sub hl [0, 1, 2] rfl)
                                    · skip
                                      refine lv_aload_n hx hb (pc := 190) dX3_works_190 rfl (lv_at hl 2 rfl) ?_
                                      refine M_get hC hX hM (pc := 191) 13 (by decide) q901 rfl (v := .int (iI (Fm 13))) rfl dX3_works_191 ?_
                                      refine j_goto hC (pc := 194) 201 dX3_works_194 (by decide) ?_
                                      exact J201 (Fm 13) (by show _ = if wdF Su sl i.toNat < (((evo Su sl z3 i.toNat).1.length : Nat) : Int) then _ else _; rw [if_pos (by have := hA.1; omega)]; exact hA.1) _ _ _ hX hM ho ls (lv_sub hl [0, 1, 2] rfl)
                              exact L173 ((sl - 0 : Int).toNat + 1) 0 _ _ (by omega) (by omega) ((hcF0.up 23 _ (by decide)).up 13 _ (by decide)) (((ch.tr hcV0 hcB (by decide)).up 8 _ (by decide)).up 9 _ (by decide)) (hK0.kp ((ch.rf.up 23 _ (by decide)).up 13 _ (by decide)) (((ch.wd hcB (by decide)).up 8 _ (by decide)).up 9 _ (by decide))) hm0 hp16 (by intro _; exact AH.one rfl (show uI (Vs 8) 0 _ 0 = _ from (uI_s _ _ _).trans hpk0) (show uI (Vs 9) 0 1 0 = _ from uI_s _ _ _)) hZ0 (fun q_ => by omega) rfl (fun t h1 h2 => by omega) (by omega) (fun _ => by show (1 : Int) ≤ 400; decide) _ _ _ hX hM ho ls (lv_sub hl [0, 1, 2] rfl)
                            · skip
                              refine lv_aload_n hx hb (pc := 132) dX3_works_132 rfl (lv_at hl 2 rfl) ?_
                              refine lv_aload_n hx hb (pc := 133) dX3_works_133 rfl (lv_at hl 2 rfl) ?_
                              refine M_calli (As := []) (rest := [.ref (m)]) hC hX hM ho (m3_winner D T N l _ _ hO) (cwV 0 hC.ts (lw_V q1088 q1090 qs23 q46 q1091) rfl rfl rfl (by decide +kernel) ⟨Nat.le_of_ble_eq_true rfl, Nat.le_of_ble_eq_true rfl⟩) rfl hl.1 (Nat.le_of_ble_eq_true rfl) dX3_works_134 ⟨Nat.zero_le _, Nat.zero_le _⟩ (fun r54 F55 V55 g H locs hp hX hM ho => ?_)
                              obtain ⟨hp, hF_, hV_⟩ := hp
                              rw [hF_, hV_] at hM
                              have hwr : r54 = winF (U0 Su) := by rw [hp]; exact winF_cg hU0
                              refine j_iconst hC (pc := 137) dX3_works_137 ?_
                              refine lv_aload_n hx hb (pc := 138) dX3_works_138 rfl (lv_at hl 2 rfl) ?_
                              refine M_get hC hX hM (pc := 139) 24 (by decide) q912 rfl (v := .ref (m + 16)) rfl dX3_works_139 ?_
                              refine lv_iload_n hx hb (pc := 142) dX3_works_142 rfl (lv_at hl 1 rfl) ?_
                              refine M_lald hC hX hM (pc := 143) 16 (by decide) (L := 24) ⟨rfl, by decide⟩ (by omega) (z := Vs 16 sl) rfl dX3_works_143 ?_
                              refine j_eql (b := 6 ^ sl.toNat) (hp16 sl (by omega) (by omega)) ?_
                              refine M_callv (As := [.int (iI (r54)), .int (iI (0)), .long (lI (6 ^ sl.toNat))]) (rest := []) hC hX hM ho (m3_counts D T N l _ _ r54 0 (6 ^ sl.toNat) hO (by omega) (by omega)) (cwV 3 hC.ts (lw_V q1092 q1094 qs24 q46 q1095) rfl rfl rfl (by decide +kernel) ⟨Nat.le_of_ble_eq_true rfl, Nat.le_of_ble_eq_true rfl⟩) rfl hl.1 (Nat.le_of_ble_eq_true rfl) dX3_works_144 ⟨Nat.zero_le _, Nat.zero_le _⟩ (fun F57 V57 g H locs hp hX hM ho => ?_)
                              refine j_iconst hC (pc := 147) dX3_works_147 ?_
                              subst hQ
                              exact j_iret hC (pc := 148) hX hr hlk (Nat.le_refl _) (Nat.le_refl _) dX3_works_148 ⟨rfl, _, _, hM, ho, ⟨by rw [hp.1]; exact hcF0.up 23 _ (by decide), ch.tr (ch.tr (ks := [5, 6, 7, 8, 9, 10, 11, 12, 13, 14, 15, 16]) hcV0 hcB (by decide)) hp.2.1 (by decide), by rw [hp.1]; exact hm0, Or.inr ⟨rfl, fun z => by rcases z with z | z; omega; omega, by rw [hp.1]; exact (if_pos (by omega)).symm, by unfold resZ; rw [if_pos (by omega), ← hwr]; exact hZ0.cnt hL0 hU0 hp.2.2.1 hp.2.2.2.1 hp.2.2.2.2, by rw [hp.2.1 16 (by decide)]; exact hp16⟩⟩⟩
                          · skip
                            refine lv_aload_n hx hb (pc := 111) dX3_works_111 rfl (lv_at hl 2 rfl) ?_
                            refine M_get hC hX hM (pc := 112) 22 (by decide) q910 rfl (v := .ref (m + 15)) rfl dX3_works_112 ?_
                            refine lv_iload_n hx hb (pc := 115) dX3_works_115 rfl (lv_at hl 0 rfl) ?_
                            refine j_lconst hC (pc := 116) (w := 0) dX3_works_116 rfl ?_
                            refine M_last hC hX hM ho (pc := 117) 15 (by decide) (L := 252) ⟨rfl, by decide⟩ (by omega) dX3_works_117 (fun g H locs hX hM ho => ?_)
                            refine j_iinc hC (pc := 118) (lv' := [(2, .int (iI (y3 + 1))), (1, .int (iI (sl))), (0, .ref (m))]) dX3_works_118 hl (k := 0) rfl (by decide) rfl (fun ls hl => ?_)
                            refine j_goto hC (pc := 121) 104 dX3_works_121 (by decide) ?_
                            exact ih104 (y3 + 1) _ (by omega) (by omega) (hcs.up 15 _ (by decide)) (fun k h1 h2 => by show uI (Vs 15) y3 0 k = _; unfold uI; split; rfl; exact hz15 k h1 (by omega)) _ _ _ hX hM ho ls (lv_sub hl [0, 1, 2] rfl)
                      exact L104 ((252 - 0 : Int).toNat + 1) 0 _ (by omega) (by omega) ch.rf (fun k h1 h2 => by omega) _ _ _ hX hM ho ls (lv_sub hl [0, 1, 2] rfl)
                    · skip
                      refine lv_aload_n hx hb (pc := 89) dX3_works_89 rfl (lv_at hl 2 rfl) ?_
                      refine M_get hC hX hM (pc := 90) 21 (by decide) q909 rfl (v := .ref (m + 14)) rfl dX3_works_90 ?_
                      refine lv_iload_n hx hb (pc := 93) dX3_works_93 rfl (lv_at hl 0 rfl) ?_
                      refine j_lconst hC (pc := 94) (w := 0) dX3_works_94 rfl ?_
                      refine M_last hC hX hM ho (pc := 95) 14 (by decide) (L := 7) ⟨rfl, by decide⟩ (by omega) dX3_works_95 (fun g H locs hX hM ho => ?_)
                      refine j_iinc hC (pc := 96) (lv' := [(2, .int (iI (y2 + 1))), (1, .int (iI (sl))), (0, .ref (m))]) dX3_works_96 hl (k := 0) rfl (by decide) rfl (fun ls hl => ?_)
                      refine j_goto hC (pc := 99) 83 dX3_works_99 (by decide) ?_
                      exact ih83 (y2 + 1) _ (by omega) (by omega) (hcr.up 14 _ (by decide)) (fun k h1 h2 => by show uI (Vr 14) y2 0 k = _; unfold uI; split; rfl; exact hz14 k h1 (by omega)) _ _ _ hX hM ho ls (lv_sub hl [0, 1, 2] rfl)
                exact L83 ((7 - 0 : Int).toNat + 1) 0 _ (by omega) (by omega) ch.rf (fun k h1 h2 => by omega) _ _ _ hX hM ho ls (lv_sub hl [0, 1, 2] rfl)
              · skip
                refine lv_aload_n hx hb (pc := 68) dX3_works_68 rfl (lv_at hl 2 rfl) ?_
                refine M_get hC hX hM (pc := 69) 20 (by decide) q908 rfl (v := .ref (m + 13)) rfl dX3_works_69 ?_
                refine lv_iload_n hx hb (pc := 72) dX3_works_72 rfl (lv_at hl 0 rfl) ?_
                refine j_lconst hC (pc := 73) (w := 0) dX3_works_73 rfl ?_
                refine M_last hC hX hM ho (pc := 74) 13 (by decide) (L := 3) ⟨rfl, by decide⟩ (by omega) dX3_works_74 (fun g H locs hX hM ho => ?_)
                refine j_iinc hC (pc := 75) (lv' := [(2, .int (iI (y1 + 1))), (1, .int (iI (sl))), (0, .ref (m))]) dX3_works_75 hl (k := 0) rfl (by decide) rfl (fun ls hl => ?_)
                refine j_goto hC (pc := 78) 63 dX3_works_78 (by decide) ?_
                exact ih63 (y1 + 1) _ (by omega) (by omega) (hcq.up 13 _ (by decide)) (fun k h1 h2 => by show uI (Vq 13) y1 0 k = _; unfold uI; split; rfl; exact hz13 k h1 (by omega)) _ _ _ hX hM ho ls (lv_sub hl [0, 1, 2] rfl)
          exact L63 ((3 - 0 : Int).toNat + 1) 0 _ (by omega) (by omega) ch.rf (fun k h1 h2 => by omega) _ _ _ hX hM ho ls (lv_sub hl [0, 1, 2] rfl)
        · skip
          refine lv_aload_n hx hb (pc := 37) dX3_works_37 rfl (lv_at hl 2 rfl) ?_
          refine M_get hC hX hM (pc := 38) 24 (by decide) q912 rfl (v := .ref (m + 16)) rfl dX3_works_38 ?_
          refine lv_iload_n hx hb (pc := 41) dX3_works_41 rfl (lv_at hl 0 rfl) ?_
          refine j_ldc2 hC (pc := 42) (z := 6) q1024 dX3_works_42 rfl ?_
          refine lv_aload_n hx hb (pc := 45) dX3_works_45 rfl (lv_at hl 2 rfl) ?_
          refine M_get hC hX hM (pc := 46) 24 (by decide) q912 rfl (v := .ref (m + 16)) rfl dX3_works_46 ?_
          refine lv_iload_n hx hb (pc := 49) dX3_works_49 rfl (lv_at hl 0 rfl) ?_
          refine j_iconst hC (pc := 50) dX3_works_50 ?_
          refine j_isub hC (pc := 51) dX3_works_51 ?_
          refine M_lald hC hX hM (pc := 52) 16 (by decide) (L := 24) ⟨rfl, by decide⟩ (by omega) (z := Vp 16 (x - 1)) rfl dX3_works_52 ?_
          refine j_lmul hC (pc := 53) dX3_works_53 ?_
          refine M_last hC hX hM ho (pc := 54) 16 (by decide) (L := 24) ⟨rfl, by decide⟩ (by omega) dX3_works_54 (fun g H locs hX hM ho => ?_)
          refine j_iinc hC (pc := 55) (lv' := [(2, .int (iI (x + 1))), (1, .int (iI (sl))), (0, .ref (m))]) dX3_works_55 hl (k := 0) rfl (by decide) rfl (fun ls hl => ?_)
          refine j_goto hC (pc := 58) 32 dX3_works_58 (by decide) ?_
          exact ih32 (x + 1) _ (by omega) (by omega) (hcp.up 16 _ (by decide)) (fun k h1 h2 => by show uI (Vp 16) x _ k = _; unfold uI; split; rename_i q; rw [q, hpw (x - 1) (by omega) (by omega), show x.toNat = (x - 1).toNat + 1 by omega, Int.pow_succ, Int.mul_comm]; exact hpw k h1 (by omega)) _ _ _ hX hM ho ls (lv_sub hl [0, 1, 2] rfl)
    exact L32 ((sl + 1 - 1 : Int).toNat + 1) 1 _ (by omega) (by omega) (ch.rf.up 16 _ (by decide)) (fun k h1 h2 => by rw [show k = 0 by omega]; rfl) _ _ _ hX hM ho ls (lv_sub hl [0, 1, 2] rfl)
  · skip
    refine j_bipush hC (pc := 20) dX3_works_20 (by decide) ?_
    subst hQ
    exact j_iret hC (pc := 22) hX hr hlk (Nat.le_refl _) (Nat.le_refl _) dX3_works_22 ⟨rfl, _, _, hM, ho, ⟨hcF0.up 23 _ (by decide), hcV0, hm0, Or.inl ⟨rfl, Or.inl (by omega)⟩⟩⟩
