/-! FairFightModel: a day -/
set_option maxHeartbeats 8000000 in
set_option maxRecDepth 100000 in
theorem m3_findUse (D : va_G) (T N : Nat → Nat) (l : Launch) {m : Nat} (F : Nat → Int) (V : Nat → Int → Int)  (hI : SI F V) : MMi D T N l yX3_findUse (ws_ yX3_findUse cX3_findUse 8 (some .int)) ({ frames := 5, cells := 0, slots := 0, locals := 125 } : Room) m [] F V (fun r F' V' => (ch F F' [8, 9, 13, 16, 23, 30] ∧ ch V V' [3, 4, 5, 6, 7, 8, 9, 10, 11, 12, 13, 14, 15, 16, 18]) ∧ (-5 ≤ r ∧ r ≤ 6000000) ∧ r = dayR F V ∧ (0 ≤ r → F' 30 = (dayB F V).2.2)) := by
  intro g0 n hM
  refine j_start (by decide) (Nat.le_of_ble_eq_true rfl) ?_
  intro p e s mi args below meth c hC hr hlk hnm hX ls hl
  have hC : Ct D T N (gA g0 n) p s mi args c cX3_findUse RX3 8 := hC
  have hx := hC.x
  have hb := hC.b
  have ho : off g0 g0 m 27 := off.rf
  generalize hQ : MQ below _ args s 0 0 (gA g0 n) = Q
  have hl : lv_has ls 8 [(0, .ref (m))] := hl
  have hn := hI.nums
  have h2_ := hI.i2 (i := 0) (by omega)
  refine lv_aload_n hx hb (pc := 0) dX3_findUse_0 rfl (lv_at hl 0 rfl) ?_
  refine M_get hC hX hM (pc := 1) 25 (by decide) q913 rfl (v := .int (iI (F 25))) rfl dX3_findUse_1 ?_
  refine j_if_eq hC (pc := 4) 17 dX3_findUse_4 (by decide) (by omega) (fun c1 => ?_) (fun c1 => ?_)
  · skip
    refine j_bipush hC (pc := 17) dX3_findUse_17 (by decide) ?_
    subst hQ
    exact j_iret hC (pc := 19) hX hr hlk (Nat.le_refl _) (Nat.le_refl _) dX3_findUse_19 ⟨rfl, _, _, hM, ho, ⟨⟨ch.rf, ch.rf⟩, by decide, by unfold dayR; rw [if_pos (by omega)], fun z => by omega⟩⟩
  · skip
    refine lv_aload_n hx hb (pc := 7) dX3_findUse_7 rfl (lv_at hl 0 rfl) ?_
    refine M_get hC hX hM (pc := 8) 2 (by decide) q890 rfl (v := .ref (m + 2)) rfl dX3_findUse_8 ?_
    refine j_iconst hC (pc := 11) dX3_findUse_11 ?_
    refine M_iald hC hX hM (pc := 12) 2 (by decide) (L := 6) ⟨rfl, by decide⟩ (by omega) (z := V 2 0) rfl dX3_findUse_12 ?_
    refine j_iconst hC (pc := 13) dX3_findUse_13 ?_
    refine j_icmp_ne hC (pc := 14) 20 dX3_findUse_14 (by decide) (by omega) (fun c2 => ?_) (fun c2 => ?_)
    · skip
      refine j_iconst hC (pc := 20) dX3_findUse_20 ?_
      refine lv_istore_n (lv' := [(1, .int (iI (0))), (0, .ref (m))]) hx hb (pc := 21) dX3_findUse_21 rfl hl (by decide) rfl (fun ls hl => ?_)
      refine j_iconst hC (pc := 22) dX3_findUse_22 ?_
      refine lv_istore_n (lv' := [(2, .int (iI (0))), (1, .int (iI (0))), (0, .ref (m))]) hx hb (pc := 23) dX3_findUse_23 rfl hl (by decide) rfl (fun ls hl => ?_)
      have L24 : ∀ (fu : Nat) (k : Int) (w : Int) (Fc : Nat → Int) (Vc : Nat → Int → Int), F 25 - k < (fu : Int) → (0 ≤ k ∧ k ≤ F 25) → (ch F Fc [8, 9, 13, 16, 23, 30]) → (ch V Vc [3, 4, 5, 6, 7, 8, 9, 10, 11, 12, 13, 14, 15, 16, 18]) → (w = anyW (oddO F V) k.toNat) → (∀ j : Int, 0 ≤ j → j < k → Vc 18 (2 * j) = oddO F V j 0 ∧ Vc 18 (2 * j + 1) = oddO F V j 1) → ∀ (g : GH) (H : Heap) (locs : List Loc), Wd D (gA g0 n) s g n H locs → mR T g m Fc Vc → off g0 g m 27 → ∀ (ls : Array Slot), lv_has ls 8 [(2, .int (iI (k))), (1, .int (iI (w))), (0, .ref (m))] → W p l e ({ frames := 5, cells := 0, slots := 0, locals := 125 } : Room) s mi args below meth c H locs 0 0 Q (F0 mi 24 ls []) := by
        intro fu
        induction fu with
        | zero =>
          intro k w Fc Vc hfu hk cF cV hw_ hch g H locs hX hM ho ls hl
          exfalso
          omega
        | succ fu ih24 =>
          intro k w Fc Vc hfu hk cF cV hw_ hch g H locs hX hM ho ls hl
          have ek : ((k.toNat : Nat) : Int) = k := Int.toNat_of_nonneg (by omega)
          have hk1 : (k + 1).toNat = k.toNat + 1 := by omega
          have h01 := anyW_01 (oddO F V) k.toNat
          have e25 : Fc 25 = F 25 := cF 25 (by decide)
          have hIc := hI.ch (F' := Fc) (V' := Vc) (ch.wd cF (by decide)) (ch.wd cV (by decide))
          refine lv_iload_n hx hb (pc := 24) dX3_findUse_24 rfl (lv_at hl 0 rfl) ?_
          refine lv_aload_n hx hb (pc := 25) dX3_findUse_25 rfl (lv_at hl 2 rfl) ?_
          refine M_get hC hX hM (pc := 26) 25 (by decide) q913 rfl (v := .int (iI (Fc 25))) rfl dX3_findUse_26 ?_
          refine j_icmp_ge hC (pc := 29) 102 dX3_findUse_29 (by decide) (by omega) (fun c3 => ?_) (fun c3 => ?_)
          · skip
            refine lv_iload_n hx hb (pc := 102) dX3_findUse_102 rfl (lv_at hl 1 rfl) ?_
            refine j_if_eq hC (pc := 103) 109 dX3_findUse_103 (by decide) (by omega) (fun c4 => ?_) (fun c4 => ?_)
            · skip
              have haw : anyW (oddO F V) (F 25).toNat = 0 := by rw [show (F 25).toNat = k.toNat by omega]; omega
              have h64 := pow2_6 (n := F 25) (by omega)
              have hcr : ∀ j : Int, 0 ≤ j → j < (((F 25).toNat : Nat) : Int) → (0 ≤ oddO F V j 0 ∧ oddO F V j 0 ≤ 1000000) ∧ 0 ≤ oddO F V j 1 ∧ oddO F V j 1 ≤ 1000000 := fun j a b => by have z := anyW_0 haw j a b; have z0 := oddO_rg hI (i := j) (b := 0) (by omega); have z1 := oddO_rg hI (i := j) (b := 1) (by omega); omega
              refine j_iconst hC (pc := 109) dX3_findUse_109 ?_
              refine lv_istore_n (lv' := [(2, .int (iI (-1))), (1, .int (iI (w))), (0, .ref (m))]) hx hb (pc := 110) dX3_findUse_110 rfl hl (by decide) rfl (fun ls hl => ?_)
              refine j_iconst hC (pc := 111) dX3_findUse_111 ?_
              refine lv_istore_n (lv' := [(3, .int (iI (0))), (2, .int (iI (-1))), (1, .int (iI (w))), (0, .ref (m))]) hx hb (pc := 112) dX3_findUse_112 rfl hl (by decide) rfl (fun ls hl => ?_)
              refine j_iconst hC (pc := 113) dX3_findUse_113 ?_
              refine lv_istore (lv' := [(4, .int (iI (0))), (3, .int (iI (0))), (2, .int (iI (-1))), (1, .int (iI (w))), (0, .ref (m))]) hx hb (pc := 114) dX3_findUse_114 hl (by decide) rfl (fun ls hl => ?_)
              have L116 : ∀ (fu : Nat) (i : Int) (be : Int) (on : Int) (Fd : Nat → Int), 2 ^ (F 25).toNat - i < (fu : Int) → (0 ≤ i ∧ i ≤ 2 ^ (F 25).toNat) → (ch Fc Fd [30]) → (be = (dayS (oddO F V) (F 25).toNat (F 27) i.toNat).1) → (on = (dayS (oddO F V) (F 25).toNat (F 27) i.toNat).2.1) → (0 < i → Fd 30 = (dayS (oddO F V) (F 25).toNat (F 27) i.toNat).2.2) → ∀ (g : GH) (H : Heap) (locs : List Loc), Wd D (gA g0 n) s g n H locs → mR T g m Fd Vc → off g0 g m 27 → ∀ (ls : Array Slot), lv_has ls 8 [(4, .int (iI (i))), (3, .int (iI (on))), (2, .int (iI (be))), (1, .int (iI (w))), (0, .ref (m))] → W p l e ({ frames := 5, cells := 0, slots := 0, locals := 125 } : Room) s mi args below meth c H locs 0 0 Q (F0 mi 116 ls []) := by
                intro fu
                induction fu with
                | zero =>
                  intro i be on Fd hfu hi cFd hbe hon hu g H locs hX hM ho ls hl
                  exfalso
                  omega
                | succ fu ih116 =>
                  intro i be on Fd hfu hi cFd hbe hon hu g H locs hX hM ho ls hl
                  have ei : ((i.toNat : Nat) : Int) = i := Int.toNat_of_nonneg (by omega)
                  have hdr := dayS_rg hcr (pu := F 27) (by omega) i.toNat
                  rw [← hbe, ← hon] at hdr
                  have e25d : Fd 25 = F 25 := (cFd 25 (by decide)).trans (cF 25 (by decide))
                  have e27d : Fd 27 = F 27 := (cFd 27 (by decide)).trans (cF 27 (by decide))
                  have e25n : (((F 25).toNat : Nat) : Int) = F 25 := Int.toNat_of_nonneg (by omega)
                  refine lv_iload hx hb (pc := 116) dX3_findUse_116 (lv_at hl 0 rfl) ?_
                  refine j_iconst hC (pc := 118) dX3_findUse_118 ?_
                  refine lv_aload_n hx hb (pc := 119) dX3_findUse_119 rfl (lv_at hl 4 rfl) ?_
                  refine M_get hC hX hM (pc := 120) 25 (by decide) q913 rfl (v := .int (iI (Fd 25))) rfl dX3_findUse_120 ?_
                  refine j_ishlP hC (pc := 123) dX3_findUse_123 (by omega) ?_
                  refine j_eqi (b := 2 ^ (F 25).toNat) (by rw [e25d]) ?_
                  refine j_icmp_ge hC (pc := 124) 230 dX3_findUse_124 (by decide) (by omega) (fun c5 => ?_) (fun c5 => ?_)
                  · skip
                    refine lv_iload_n hx hb (pc := 230) dX3_findUse_230 rfl (lv_at hl 2 rfl) ?_
                    subst hQ
                    exact j_iret hC (pc := 231) hX hr hlk (Nat.le_refl _) (Nat.le_refl _) dX3_findUse_231 ⟨rfl, _, _, hM, ho, ⟨⟨ch.tr (ks := [8, 9, 13, 16, 23, 30]) cF cFd (by decide), cV⟩, by omega, by unfold dayR; rw [if_neg (by omega), if_neg (by omega)]; unfold dayB; rw [show (2 ^ (F 25).toNat : Int).toNat = i.toNat by omega]; exact hbe, fun _ => by unfold dayB; rw [show (2 ^ (F 25).toNat : Int).toNat = i.toNat by omega]; exact hu (by omega)⟩⟩
                  · skip
                    refine j_iconst hC (pc := 127) dX3_findUse_127 ?_
                    refine lv_istore (lv' := [(5, .int (iI (0))), (4, .int (iI (i))), (3, .int (iI (on))), (2, .int (iI (be))), (1, .int (iI (w))), (0, .ref (m))]) hx hb (pc := 128) dX3_findUse_128 hl (by decide) rfl (fun ls hl => ?_)
                    refine j_iconst hC (pc := 130) dX3_findUse_130 ?_
                    refine lv_istore (lv' := [(6, .int (iI (0))), (5, .int (iI (0))), (4, .int (iI (i))), (3, .int (iI (on))), (2, .int (iI (be))), (1, .int (iI (w))), (0, .ref (m))]) hx hb (pc := 131) dX3_findUse_131 hl (by decide) rfl (fun ls hl => ?_)
                    refine j_iconst hC (pc := 133) dX3_findUse_133 ?_
                    refine lv_istore (lv' := [(7, .int (iI (0))), (6, .int (iI (0))), (5, .int (iI (0))), (4, .int (iI (i))), (3, .int (iI (on))), (2, .int (iI (be))), (1, .int (iI (w))), (0, .ref (m))]) hx hb (pc := 134) dX3_findUse_134 hl (by decide) rfl (fun ls hl => ?_)
                    have L136 : ∀ (fu : Nat) (j : Int) (su : Int) (oo : Int), F 25 - j < (fu : Int) → (0 ≤ j ∧ j ≤ F 25) → (su = sumD (oddO F V) i j.toNat) → (oo = onesD i j.toNat) → ∀ (g : GH) (H : Heap) (locs : List Loc), Wd D (gA g0 n) s g n H locs → mR T g m Fd Vc → off g0 g m 27 → ∀ (ls : Array Slot), lv_has ls 8 [(7, .int (iI (j))), (6, .int (iI (oo))), (5, .int (iI (su))), (4, .int (iI (i))), (3, .int (iI (on))), (2, .int (iI (be))), (1, .int (iI (w))), (0, .ref (m))] → W p l e ({ frames := 5, cells := 0, slots := 0, locals := 125 } : Room) s mi args below meth c H locs 0 0 Q (F0 mi 136 ls []) := by
                      intro fu
                      induction fu with
                      | zero =>
                        intro j su oo hfu hj hsu hoo g H locs hX hM ho ls hl
                        exfalso
                        omega
                      | succ fu ih136 =>
                        intro j su oo hfu hj hsu hoo g H locs hX hM ho ls hl
                        have ej : ((j.toNat : Nat) : Int) = j := Int.toNat_of_nonneg (by omega)
                        have hj1 : (j + 1).toNat = j.toNat + 1 := by omega
                        have hsr := sumD_rg (set := i) j.toNat (fun x a b => hcr x a (by omega))
                        rw [← hsu] at hsr
                        have hor := onesD_rg i j.toNat
                        rw [← hoo] at hor
                        have hb01 := bitF_01 i j
                        refine lv_iload hx hb (pc := 136) dX3_findUse_136 (lv_at hl 0 rfl) ?_
                        refine lv_aload_n hx hb (pc := 138) dX3_findUse_138 rfl (lv_at hl 7 rfl) ?_
                        refine M_get hC hX hM (pc := 139) 25 (by decide) q913 rfl (v := .int (iI (Fd 25))) rfl dX3_findUse_139 ?_
                        refine j_icmp_ge hC (pc := 142) 185 dX3_findUse_142 (by decide) (by omega) (fun c6 => ?_) (fun c6 => ?_)
                        · skip
                          have hsn : su = sumD (oddO F V) i (F 25).toNat := by rw [hsu, show j.toNat = (F 25).toNat by omega]
                          have hoN : oo = onesD i (F 25).toNat := by rw [hoo, show j.toNat = (F 25).toNat by omega]
                          have h0 : i = 0 → be = -1 ∧ oo = 0 := fun z => by rw [hbe, hoN, z]; exact ⟨rfl, onesD_0 _⟩
                          have hds : dayS (oddO F V) (F 25).toNat (F 27) (i + 1).toNat = if oo ≤ F 27 ∧ (be < su ∨ (su = be ∧ oo < on)) then (su, oo, i) else dayS (oddO F V) (F 25).toNat (F 27) i.toNat := by rw [show (i + 1).toNat = i.toNat + 1 by omega]; show (if onesD ((i.toNat : Nat) : Int) _ ≤ _ ∧ _ then _ else _) = _; rw [ei, ← hsn, ← hoN, ← hbe, ← hon]
                          refine lv_iload hx hb (pc := 185) dX3_findUse_185 (lv_at hl 1 rfl) ?_
                          refine lv_aload_n hx hb (pc := 187) dX3_findUse_187 rfl (lv_at hl 7 rfl) ?_
                          refine M_get hC hX hM (pc := 188) 27 (by decide) q915 rfl (v := .int (iI (Fd 27))) rfl dX3_findUse_188 ?_
                          refine j_icmp_gt hC (pc := 191) 224 dX3_findUse_191 (by decide) (by omega) (fun c7 => ?_) (fun c7 => ?_)
                          · skip
                            refine j_iinc hC (pc := 224) (lv' := [(4, .int (iI (i + 1))), (7, .int (iI (j))), (6, .int (iI (oo))), (5, .int (iI (su))), (3, .int (iI (on))), (2, .int (iI (be))), (1, .int (iI (w))), (0, .ref (m))]) dX3_findUse_224 hl (k := 3) rfl (by decide) rfl (fun ls hl => ?_)
                            refine j_goto hC (pc := 227) 116 dX3_findUse_227 (by decide) ?_
                            exact ih116 (i + 1) be on _ (by omega) (by omega) cFd (by rw [hds, if_neg (by omega)]; exact hbe) (by rw [hds, if_neg (by omega)]; exact hon) (fun _ => by rw [hds, if_neg (by omega)]; exact hu (by omega)) _ _ _ hX hM ho ls (lv_sub hl [0, 4, 5, 6, 7] rfl)
                          · skip
                            refine lv_iload hx hb (pc := 194) dX3_findUse_194 (lv_at hl 2 rfl) ?_
                            refine lv_iload_n hx hb (pc := 196) dX3_findUse_196 rfl (lv_at hl 5 rfl) ?_
                            refine j_icmp_gt hC (pc := 197) 212 dX3_findUse_197 (by decide) (by omega) (fun c8 => ?_) (fun c8 => ?_)
                            · skip
                              refine lv_iload hx hb (pc := 212) dX3_findUse_212 (lv_at hl 2 rfl) ?_
                              refine lv_istore_n (lv' := [(2, .int (iI (su))), (7, .int (iI (j))), (6, .int (iI (oo))), (5, .int (iI (su))), (4, .int (iI (i))), (3, .int (iI (on))), (1, .int (iI (w))), (0, .ref (m))]) hx hb (pc := 214) dX3_findUse_214 rfl hl (by decide) rfl (fun ls hl => ?_)
                              refine lv_iload hx hb (pc := 215) dX3_findUse_215 (lv_at hl 2 rfl) ?_
                              refine lv_istore_n (lv' := [(3, .int (iI (oo))), (2, .int (iI (su))), (7, .int (iI (j))), (6, .int (iI (oo))), (5, .int (iI (su))), (4, .int (iI (i))), (1, .int (iI (w))), (0, .ref (m))]) hx hb (pc := 217) dX3_findUse_217 rfl hl (by decide) rfl (fun ls hl => ?_)
                              refine lv_aload_n hx hb (pc := 218) dX3_findUse_218 rfl (lv_at hl 7 rfl) ?_
                              refine lv_iload hx hb (pc := 219) dX3_findUse_219 (lv_at hl 5 rfl) ?_
                              refine M_put hC hX hM ho (pc := 221) 30 (by decide) q918 rfl dX3_findUse_221 (fun g H locs hX hM ho => ?_)
                              refine j_iinc hC (pc := 224) (lv' := [(4, .int (iI (i + 1))), (3, .int (iI (oo))), (2, .int (iI (su))), (7, .int (iI (j))), (6, .int (iI (oo))), (5, .int (iI (su))), (1, .int (iI (w))), (0, .ref (m))]) dX3_findUse_224 hl (k := 5) rfl (by decide) rfl (fun ls hl => ?_)
                              refine j_goto hC (pc := 227) 116 dX3_findUse_227 (by decide) ?_
                              exact ih116 (i + 1) su oo _ (by omega) (by omega) (cFd.up 30 _ (by decide)) (by rw [hds, if_pos (by omega)]) (by rw [hds, if_pos (by omega)]) (fun _ => by rw [hds, if_pos (by omega)]; exact rfl) _ _ _ hX hM ho ls (lv_sub hl [0, 1, 2, 6, 7] rfl)
                            · skip
                              refine lv_iload hx hb (pc := 200) dX3_findUse_200 (lv_at hl 2 rfl) ?_
                              refine lv_iload_n hx hb (pc := 202) dX3_findUse_202 rfl (lv_at hl 5 rfl) ?_
                              refine j_icmp_ne hC (pc := 203) 224 dX3_findUse_203 (by decide) (by omega) (fun c9 => ?_) (fun c9 => ?_)
                              · skip
                                refine j_iinc hC (pc := 224) (lv' := [(4, .int (iI (i + 1))), (7, .int (iI (j))), (6, .int (iI (oo))), (5, .int (iI (su))), (3, .int (iI (on))), (2, .int (iI (be))), (1, .int (iI (w))), (0, .ref (m))]) dX3_findUse_224 hl (k := 3) rfl (by decide) rfl (fun ls hl => ?_)
                                refine j_goto hC (pc := 227) 116 dX3_findUse_227 (by decide) ?_
                                exact ih116 (i + 1) be on _ (by omega) (by omega) cFd (by rw [hds, if_neg (by omega)]; exact hbe) (by rw [hds, if_neg (by omega)]; exact hon) (fun _ => by rw [hds, if_neg (by omega)]; exact hu (by omega)) _ _ _ hX hM ho ls (lv_sub hl [0, 4, 5, 6, 7] rfl)
                              · skip
                                refine lv_iload hx hb (pc := 206) dX3_findUse_206 (lv_at hl 1 rfl) ?_
                                refine lv_iload_n hx hb (pc := 208) dX3_findUse_208 rfl (lv_at hl 4 rfl) ?_
                                refine j_icmp_ge hC (pc := 209) 224 dX3_findUse_209 (by decide) (by omega) (fun c10 => ?_) (fun c10 => ?_)
                                · skip
                                  refine j_iinc hC (pc := 224) (lv' := [(4, .int (iI (i + 1))), (7, .int (iI (j))), (6, .int (iI (oo))), (5, .int (iI (su))), (3, .int (iI (on))), (2, .int (iI (be))), (1, .int (iI (w))), (0, .ref (m))]) dX3_findUse_224 hl (k := 3) rfl (by decide) rfl (fun ls hl => ?_)
                                  refine j_goto hC (pc := 227) 116 dX3_findUse_227 (by decide) ?_
                                  exact ih116 (i + 1) be on _ (by omega) (by omega) cFd (by rw [hds, if_neg (by omega)]; exact hbe) (by rw [hds, if_neg (by omega)]; exact hon) (fun _ => by rw [hds, if_neg (by omega)]; exact hu (by omega)) _ _ _ hX hM ho ls (lv_sub hl [0, 4, 5, 6, 7] rfl)
                                · skip
                                  refine lv_iload hx hb (pc := 212) dX3_findUse_212 (lv_at hl 2 rfl) ?_
                                  refine lv_istore_n (lv' := [(2, .int (iI (su))), (7, .int (iI (j))), (6, .int (iI (oo))), (5, .int (iI (su))), (4, .int (iI (i))), (3, .int (iI (on))), (1, .int (iI (w))), (0, .ref (m))]) hx hb (pc := 214) dX3_findUse_214 rfl hl (by decide) rfl (fun ls hl => ?_)
                                  refine lv_iload hx hb (pc := 215) dX3_findUse_215 (lv_at hl 2 rfl) ?_
                                  refine lv_istore_n (lv' := [(3, .int (iI (oo))), (2, .int (iI (su))), (7, .int (iI (j))), (6, .int (iI (oo))), (5, .int (iI (su))), (4, .int (iI (i))), (1, .int (iI (w))), (0, .ref (m))]) hx hb (pc := 217) dX3_findUse_217 rfl hl (by decide) rfl (fun ls hl => ?_)
                                  refine lv_aload_n hx hb (pc := 218) dX3_findUse_218 rfl (lv_at hl 7 rfl) ?_
                                  refine lv_iload hx hb (pc := 219) dX3_findUse_219 (lv_at hl 5 rfl) ?_
                                  refine M_put hC hX hM ho (pc := 221) 30 (by decide) q918 rfl dX3_findUse_221 (fun g H locs hX hM ho => ?_)
                                  refine j_iinc hC (pc := 224) (lv' := [(4, .int (iI (i + 1))), (3, .int (iI (oo))), (2, .int (iI (su))), (7, .int (iI (j))), (6, .int (iI (oo))), (5, .int (iI (su))), (1, .int (iI (w))), (0, .ref (m))]) dX3_findUse_224 hl (k := 5) rfl (by decide) rfl (fun ls hl => ?_)
                                  refine j_goto hC (pc := 227) 116 dX3_findUse_227 (by decide) ?_
                                  exact ih116 (i + 1) su oo _ (by omega) (by omega) (cFd.up 30 _ (by decide)) (by rw [hds, if_pos (by omega)]) (by rw [hds, if_pos (by omega)]) (fun _ => by rw [hds, if_pos (by omega)]; exact rfl) _ _ _ hX hM ho ls (lv_sub hl [0, 1, 2, 6, 7] rfl)
                        · skip
                          refine lv_iload hx hb (pc := 145) dX3_findUse_145 (lv_at hl 2 rfl) ?_
                          refine lv_aload_n hx hb (pc := 147) dX3_findUse_147 rfl (lv_at hl 7 rfl) ?_
                          refine M_get hC hX hM (pc := 148) 29 (by decide) q917 rfl (v := .ref (m + 18)) rfl dX3_findUse_148 ?_
                          refine j_iconst hC (pc := 151) dX3_findUse_151 ?_
                          refine lv_iload hx hb (pc := 152) dX3_findUse_152 (lv_at hl 0 rfl) ?_
                          refine j_imul hC (pc := 154) dX3_findUse_154 ?_
                          refine lv_iload hx hb (pc := 155) dX3_findUse_155 (lv_at hl 3 rfl) ?_
                          refine lv_iload hx hb (pc := 157) dX3_findUse_157 (lv_at hl 0 rfl) ?_
                          refine j_bit hC (pc := 159) dX3_findUse_159 dX3_findUse_160 dX3_findUse_161 (by omega) ?_
                          refine j_iadd hC (pc := 162) dX3_findUse_162 ?_
                          refine M_iald hC hX hM (pc := 163) 18 (by decide) (L := 12) ⟨rfl, by decide⟩ (by omega) (z := Vc 18 ((2 * j) + (bitF i j))) rfl dX3_findUse_163 ?_
                          refine j_eqi (b := oddO F V j (bitF i j)) (by rcases hb01 with z | z; rw [z, Int.add_zero]; exact (hch j (by omega) (by omega)).1; rw [z]; exact (hch j (by omega) (by omega)).2) ?_
                          refine j_iadd hC (pc := 164) dX3_findUse_164 ?_
                          refine lv_istore (lv' := [(5, .int (iI (su + (oddO F V j (bitF i j))))), (7, .int (iI (j))), (6, .int (iI (oo))), (4, .int (iI (i))), (3, .int (iI (on))), (2, .int (iI (be))), (1, .int (iI (w))), (0, .ref (m))]) hx hb (pc := 165) dX3_findUse_165 hl (by decide) rfl (fun ls hl => ?_)
                          refine lv_iload hx hb (pc := 167) dX3_findUse_167 (lv_at hl 2 rfl) ?_
                          refine lv_iload hx hb (pc := 169) dX3_findUse_169 (lv_at hl 3 rfl) ?_
                          refine lv_iload hx hb (pc := 171) dX3_findUse_171 (lv_at hl 1 rfl) ?_
                          refine j_bit hC (pc := 173) dX3_findUse_173 dX3_findUse_174 dX3_findUse_175 (by omega) ?_
                          refine j_iadd hC (pc := 176) dX3_findUse_176 ?_
                          refine lv_istore (lv' := [(6, .int (iI (oo + (bitF i j)))), (5, .int (iI (su + (oddO F V j (bitF i j))))), (7, .int (iI (j))), (4, .int (iI (i))), (3, .int (iI (on))), (2, .int (iI (be))), (1, .int (iI (w))), (0, .ref (m))]) hx hb (pc := 177) dX3_findUse_177 hl (by decide) rfl (fun ls hl => ?_)
                          refine j_iinc hC (pc := 179) (lv' := [(7, .int (iI (j + 1))), (6, .int (iI (oo + (bitF i j)))), (5, .int (iI (su + (oddO F V j (bitF i j))))), (4, .int (iI (i))), (3, .int (iI (on))), (2, .int (iI (be))), (1, .int (iI (w))), (0, .ref (m))]) dX3_findUse_179 hl (k := 2) rfl (by decide) rfl (fun ls hl => ?_)
                          refine j_goto hC (pc := 182) 136 dX3_findUse_182 (by decide) ?_
                          exact ih136 (j + 1) (su + (oddO F V j (bitF i j))) (oo + (bitF i j)) (by omega) (by omega) (by rw [hj1]; show _ = sumD (oddO F V) i j.toNat + oddO F V ((j.toNat : Nat) : Int) (bitF i ((j.toNat : Nat) : Int)); rw [ej, ← hsu]) (by rw [hj1]; show _ = onesD i j.toNat + bitF i ((j.toNat : Nat) : Int); rw [ej, ← hoo]) _ _ _ hX hM ho ls (lv_sub hl [0, 1, 2, 3, 4, 5, 6, 7] rfl)
                    exact L136 ((F 25 - 0 : Int).toNat + 1) 0 0 0 (by omega) (by omega) rfl rfl _ _ _ hX hM ho ls (lv_sub hl [0, 1, 2, 3, 4, 5, 6, 7] rfl)
              exact L116 ((2 ^ (F 25).toNat - 0 : Int).toNat + 1) 0 (-1) 0 _ (by omega) (by omega) ch.rf rfl rfl (fun q_ => by omega) _ _ _ hX hM ho ls (lv_sub hl [0, 1, 2, 3, 4] rfl)
            · skip
              refine j_bipush hC (pc := 106) dX3_findUse_106 (by decide) ?_
              subst hQ
              exact j_iret hC (pc := 108) hX hr hlk (Nat.le_refl _) (Nat.le_refl _) dX3_findUse_108 ⟨rfl, _, _, hM, ho, ⟨⟨cF, cV⟩, by decide, by unfold dayR; rw [if_neg (by omega), if_pos (by rw [show (F 25).toNat = k.toNat by omega]; omega)], fun z => by omega⟩⟩
          · skip
            have hkc : 0 ≤ k ∧ k < Fc 25 := by omega
            have hV18 : Vc 18 = Vc 18 := rfl
            refine lv_aload_n hx hb (pc := 32) dX3_findUse_32 rfl (lv_at hl 2 rfl) ?_
            refine M_get hC hX hM (pc := 33) 29 (by decide) q917 rfl (v := .ref (m + 18)) rfl dX3_findUse_33 ?_
            refine j_iconst hC (pc := 36) dX3_findUse_36 ?_
            refine lv_iload_n hx hb (pc := 37) dX3_findUse_37 rfl (lv_at hl 0 rfl) ?_
            refine j_imul hC (pc := 38) dX3_findUse_38 ?_
            refine lv_aload_n hx hb (pc := 39) dX3_findUse_39 rfl (lv_at hl 2 rfl) ?_
            refine lv_iload_n hx hb (pc := 40) dX3_findUse_40 rfl (lv_at hl 0 rfl) ?_
            refine j_iconst hC (pc := 41) dX3_findUse_41 ?_
            refine M_calli (As := [.int (iI (k)), .int (iI (0))]) (rest := [.int (iI (2 * k)), .ref (m + 18)]) hC hX hM ho (m3_oddsOf D T N l _ _ k 0 hIc hkc (by omega)) (cwV 2 hC.ts (lw_V q1199 q1201 qs36 q46 q1202) rfl rfl rfl (by decide +kernel) ⟨Nat.le_of_ble_eq_true rfl, Nat.le_of_ble_eq_true rfl⟩) rfl hl.1 (Nat.le_of_ble_eq_true rfl) dX3_findUse_42 ⟨Nat.zero_le _, Nat.zero_le _⟩ (fun r11 F12 V12 g H locs hp hX hM ho => ?_)
            have ho0 : r11 = oddO F V k 0 := hp.1.trans (oddO_cg cF cV (by decide) (by decide))
            have hrg0 := oddO_rg hI (i := k) (b := 0) (by omega)
            have cF : ch F F12 [8, 9, 13, 16, 23, 30] := ch.tr cF hp.2.1 (by decide)
            have hV18 : V12 18 = Vc 18 := hp.2.2 18 (by decide)
            have cV : ch V V12 [3, 4, 5, 6, 7, 8, 9, 10, 11, 12, 13, 14, 15, 16, 18] := ch.tr cV hp.2.2 (by decide)
            refine M_iast hC hX hM ho (pc := 45) 18 (by decide) (L := 12) ⟨rfl, by decide⟩ (by omega) dX3_findUse_45 (fun g H locs hX hM ho => ?_)
            have cV := cV.up 18 (uI (V12 18) (2 * k) r11) (by decide)
            have hV18_ := hV18
            have hIc := hI.ch (F' := F12) (V' := va_up V12 18 (uI (V12 18) (2 * k) r11)) (ch.wd cF (by decide)) (ch.wd cV (by decide))
            have hkc : 0 ≤ k ∧ k < F12 25 := by rw [cF 25 (by decide)]; omega
            refine lv_aload_n hx hb (pc := 46) dX3_findUse_46 rfl (lv_at hl 2 rfl) ?_
            refine M_get hC hX hM (pc := 47) 29 (by decide) q917 rfl (v := .ref (m + 18)) rfl dX3_findUse_47 ?_
            refine j_iconst hC (pc := 50) dX3_findUse_50 ?_
            refine lv_iload_n hx hb (pc := 51) dX3_findUse_51 rfl (lv_at hl 0 rfl) ?_
            refine j_imul hC (pc := 52) dX3_findUse_52 ?_
            refine j_iconst hC (pc := 53) dX3_findUse_53 ?_
            refine j_iadd hC (pc := 54) dX3_findUse_54 ?_
            refine lv_aload_n hx hb (pc := 55) dX3_findUse_55 rfl (lv_at hl 2 rfl) ?_
            refine lv_iload_n hx hb (pc := 56) dX3_findUse_56 rfl (lv_at hl 0 rfl) ?_
            refine j_iconst hC (pc := 57) dX3_findUse_57 ?_
            refine M_calli (As := [.int (iI (k)), .int (iI (1))]) (rest := [.int (iI ((2 * k) + 1)), .ref (m + 18)]) hC hX hM ho (m3_oddsOf D T N l _ _ k 1 hIc hkc (by omega)) (cwV 2 hC.ts (lw_V q1199 q1201 qs36 q46 q1202) rfl rfl rfl (by decide +kernel) ⟨Nat.le_of_ble_eq_true rfl, Nat.le_of_ble_eq_true rfl⟩) rfl hl.1 (Nat.le_of_ble_eq_true rfl) dX3_findUse_58 ⟨Nat.zero_le _, Nat.zero_le _⟩ (fun r13 F14 V14 g H locs hp hX hM ho => ?_)
            have ho1 : r13 = oddO F V k 1 := hp.1.trans (oddO_cg cF cV (by decide) (by decide))
            have hrg1 := oddO_rg hI (i := k) (b := 1) (by omega)
            have cF : ch F F14 [8, 9, 13, 16, 23, 30] := ch.tr cF hp.2.1 (by decide)
            have hV18 := (hp.2.2 18 (by decide))
            have hV18 : V14 18 = uI (Vc 18) (2 * k) r11 := hV18.trans (by show uI (V12 18) _ _ = _; rw [hV18_])
            have cV : ch V V14 [3, 4, 5, 6, 7, 8, 9, 10, 11, 12, 13, 14, 15, 16, 18] := ch.tr cV hp.2.2 (by decide)
            refine M_iast hC hX hM ho (pc := 61) 18 (by decide) (L := 12) ⟨rfl, by decide⟩ (by omega) dX3_findUse_61 (fun g H locs hX hM ho => ?_)
            refine lv_iload_n hx hb (pc := 62) dX3_findUse_62 rfl (lv_at hl 1 rfl) ?_
            refine j_if_ne hC (pc := 63) 90 dX3_findUse_63 (by decide) (by omega) (fun c15 => ?_) (fun c15 => ?_)
            · skip
              refine j_iconst hC (pc := 90) dX3_findUse_90 ?_
              refine j_goto hC (pc := 91) 95 dX3_findUse_91 (by decide) ?_
              refine lv_istore_n (lv' := [(1, .int (iI (1))), (2, .int (iI (k))), (0, .ref (m))]) hx hb (pc := 95) dX3_findUse_95 rfl hl (by decide) rfl (fun ls hl => ?_)
              refine j_iinc hC (pc := 96) (lv' := [(2, .int (iI (k + 1))), (1, .int (iI (1))), (0, .ref (m))]) dX3_findUse_96 hl (k := 1) rfl (by decide) rfl (fun ls hl => ?_)
              refine j_goto hC (pc := 99) 24 dX3_findUse_99 (by decide) ?_
              exact ih24 (k + 1) 1 _ _ (by omega) (by omega) cF (cV.up 18 _ (by decide)) (by rw [hk1]; exact (by rw [anyW_1 (by omega)])) (fun j a b => by rcases Decidable.em (j = k) with z | z; subst z; exact ⟨by show uI (V14 18) (2 * j + 1) _ (2 * j) = _; rw [uI_n _ _ (by omega), hV18, uI_s, ho0], by show uI (V14 18) (2 * j + 1) _ (2 * j + 1) = _; rw [uI_s, ho1]⟩; exact ⟨by show uI (V14 18) (2 * k + 1) _ (2 * j) = _; rw [uI_n _ _ (by omega), hV18, uI_n _ _ (by omega)]; exact (hch j a (by omega)).1, by show uI (V14 18) (2 * k + 1) _ (2 * j + 1) = _; rw [uI_n _ _ (by omega), hV18, uI_n _ _ (by omega)]; exact (hch j a (by omega)).2⟩) _ _ _ hX hM ho ls (lv_sub hl [0, 1, 2] rfl)
            · skip
              refine lv_aload_n hx hb (pc := 66) dX3_findUse_66 rfl (lv_at hl 2 rfl) ?_
              refine M_get hC hX hM (pc := 67) 29 (by decide) q917 rfl (v := .ref (m + 18)) rfl dX3_findUse_67 ?_
              refine j_iconst hC (pc := 70) dX3_findUse_70 ?_
              refine lv_iload_n hx hb (pc := 71) dX3_findUse_71 rfl (lv_at hl 0 rfl) ?_
              refine j_imul hC (pc := 72) dX3_findUse_72 ?_
              refine M_iald hC hX hM (pc := 73) 18 (by decide) (L := 12) ⟨rfl, by decide⟩ (by omega) (z := (uI (V14 18) ((2 * k) + 1) r13) (2 * k)) rfl dX3_findUse_73 ?_
              refine j_eqi (b := r11) (by rw [uI_n _ _ (by omega), hV18, uI_s]) ?_
              refine j_if_lt hC (pc := 74) 90 dX3_findUse_74 (by decide) (by omega) (fun c16 => ?_) (fun c16 => ?_)
              · skip
                refine j_iconst hC (pc := 90) dX3_findUse_90 ?_
                refine j_goto hC (pc := 91) 95 dX3_findUse_91 (by decide) ?_
                refine lv_istore_n (lv' := [(1, .int (iI (1))), (2, .int (iI (k))), (0, .ref (m))]) hx hb (pc := 95) dX3_findUse_95 rfl hl (by decide) rfl (fun ls hl => ?_)
                refine j_iinc hC (pc := 96) (lv' := [(2, .int (iI (k + 1))), (1, .int (iI (1))), (0, .ref (m))]) dX3_findUse_96 hl (k := 1) rfl (by decide) rfl (fun ls hl => ?_)
                refine j_goto hC (pc := 99) 24 dX3_findUse_99 (by decide) ?_
                exact ih24 (k + 1) 1 _ _ (by omega) (by omega) cF (cV.up 18 _ (by decide)) (by rw [hk1]; show _ = if oddO F V ((k.toNat : Nat) : Int) 0 = -5 ∨ oddO F V ((k.toNat : Nat) : Int) 1 = -5 then 1 else anyW (oddO F V) k.toNat; rw [ek, if_pos (by omega)]) (fun j a b => by rcases Decidable.em (j = k) with z | z; subst z; exact ⟨by show uI (V14 18) (2 * j + 1) _ (2 * j) = _; rw [uI_n _ _ (by omega), hV18, uI_s, ho0], by show uI (V14 18) (2 * j + 1) _ (2 * j + 1) = _; rw [uI_s, ho1]⟩; exact ⟨by show uI (V14 18) (2 * k + 1) _ (2 * j) = _; rw [uI_n _ _ (by omega), hV18, uI_n _ _ (by omega)]; exact (hch j a (by omega)).1, by show uI (V14 18) (2 * k + 1) _ (2 * j + 1) = _; rw [uI_n _ _ (by omega), hV18, uI_n _ _ (by omega)]; exact (hch j a (by omega)).2⟩) _ _ _ hX hM ho ls (lv_sub hl [0, 1, 2] rfl)
              · skip
                refine lv_aload_n hx hb (pc := 77) dX3_findUse_77 rfl (lv_at hl 2 rfl) ?_
                refine M_get hC hX hM (pc := 78) 29 (by decide) q917 rfl (v := .ref (m + 18)) rfl dX3_findUse_78 ?_
                refine j_iconst hC (pc := 81) dX3_findUse_81 ?_
                refine lv_iload_n hx hb (pc := 82) dX3_findUse_82 rfl (lv_at hl 0 rfl) ?_
                refine j_imul hC (pc := 83) dX3_findUse_83 ?_
                refine j_iconst hC (pc := 84) dX3_findUse_84 ?_
                refine j_iadd hC (pc := 85) dX3_findUse_85 ?_
                refine M_iald hC hX hM (pc := 86) 18 (by decide) (L := 12) ⟨rfl, by decide⟩ (by omega) (z := (uI (V14 18) ((2 * k) + 1) r13) ((2 * k) + 1)) rfl dX3_findUse_86 ?_
                refine j_eqi (b := r13) (uI_s _ _ _) ?_
                refine j_if_ge hC (pc := 87) 94 dX3_findUse_87 (by decide) (by omega) (fun c17 => ?_) (fun c17 => ?_)
                · skip
                  refine j_iconst hC (pc := 94) dX3_findUse_94 ?_
                  refine lv_istore_n (lv' := [(1, .int (iI (0))), (2, .int (iI (k))), (0, .ref (m))]) hx hb (pc := 95) dX3_findUse_95 rfl hl (by decide) rfl (fun ls hl => ?_)
                  refine j_iinc hC (pc := 96) (lv' := [(2, .int (iI (k + 1))), (1, .int (iI (0))), (0, .ref (m))]) dX3_findUse_96 hl (k := 1) rfl (by decide) rfl (fun ls hl => ?_)
                  refine j_goto hC (pc := 99) 24 dX3_findUse_99 (by decide) ?_
                  exact ih24 (k + 1) 0 _ _ (by omega) (by omega) cF (cV.up 18 _ (by decide)) (by rw [hk1]; show _ = if oddO F V ((k.toNat : Nat) : Int) 0 = -5 ∨ oddO F V ((k.toNat : Nat) : Int) 1 = -5 then 1 else anyW (oddO F V) k.toNat; rw [ek, if_neg (by omega)]; omega) (fun j a b => by rcases Decidable.em (j = k) with z | z; subst z; exact ⟨by show uI (V14 18) (2 * j + 1) _ (2 * j) = _; rw [uI_n _ _ (by omega), hV18, uI_s, ho0], by show uI (V14 18) (2 * j + 1) _ (2 * j + 1) = _; rw [uI_s, ho1]⟩; exact ⟨by show uI (V14 18) (2 * k + 1) _ (2 * j) = _; rw [uI_n _ _ (by omega), hV18, uI_n _ _ (by omega)]; exact (hch j a (by omega)).1, by show uI (V14 18) (2 * k + 1) _ (2 * j + 1) = _; rw [uI_n _ _ (by omega), hV18, uI_n _ _ (by omega)]; exact (hch j a (by omega)).2⟩) _ _ _ hX hM ho ls (lv_sub hl [0, 1, 2] rfl)
                · skip
                  refine j_iconst hC (pc := 90) dX3_findUse_90 ?_
                  refine j_goto hC (pc := 91) 95 dX3_findUse_91 (by decide) ?_
                  refine lv_istore_n (lv' := [(1, .int (iI (1))), (2, .int (iI (k))), (0, .ref (m))]) hx hb (pc := 95) dX3_findUse_95 rfl hl (by decide) rfl (fun ls hl => ?_)
                  refine j_iinc hC (pc := 96) (lv' := [(2, .int (iI (k + 1))), (1, .int (iI (1))), (0, .ref (m))]) dX3_findUse_96 hl (k := 1) rfl (by decide) rfl (fun ls hl => ?_)
                  refine j_goto hC (pc := 99) 24 dX3_findUse_99 (by decide) ?_
                  exact ih24 (k + 1) 1 _ _ (by omega) (by omega) cF (cV.up 18 _ (by decide)) (by rw [hk1]; show _ = if oddO F V ((k.toNat : Nat) : Int) 0 = -5 ∨ oddO F V ((k.toNat : Nat) : Int) 1 = -5 then 1 else anyW (oddO F V) k.toNat; rw [ek, if_pos (by omega)]) (fun j a b => by rcases Decidable.em (j = k) with z | z; subst z; exact ⟨by show uI (V14 18) (2 * j + 1) _ (2 * j) = _; rw [uI_n _ _ (by omega), hV18, uI_s, ho0], by show uI (V14 18) (2 * j + 1) _ (2 * j + 1) = _; rw [uI_s, ho1]⟩; exact ⟨by show uI (V14 18) (2 * k + 1) _ (2 * j) = _; rw [uI_n _ _ (by omega), hV18, uI_n _ _ (by omega)]; exact (hch j a (by omega)).1, by show uI (V14 18) (2 * k + 1) _ (2 * j + 1) = _; rw [uI_n _ _ (by omega), hV18, uI_n _ _ (by omega)]; exact (hch j a (by omega)).2⟩) _ _ _ hX hM ho ls (lv_sub hl [0, 1, 2] rfl)
      exact L24 ((F 25 - 0 : Int).toNat + 1) 0 0 _ _ (by omega) (by omega) ch.rf ch.rf rfl (fun j a b => by omega) _ _ _ hX hM ho ls (lv_sub hl [0, 1, 2] rfl)
    · skip
      refine j_bipush hC (pc := 17) dX3_findUse_17 (by decide) ?_
      subst hQ
      exact j_iret hC (pc := 19) hX hr hlk (Nat.le_refl _) (Nat.le_refl _) dX3_findUse_19 ⟨rfl, _, _, hM, ho, ⟨⟨ch.rf, ch.rf⟩, by decide, by unfold dayR; rw [if_pos (by omega)], fun z => by omega⟩⟩

set_option maxHeartbeats 4000000 in
set_option maxRecDepth 100000 in
theorem m3_day (D : va_G) (T N : Nat → Nat) (l : Launch) {m : Nat} (F : Nat → Int) (V : Nat → Int → Int)  (hI : SI F V) : MMi D T N l yX3_day (ws_ yX3_day cX3_day 1 (some .int)) ({ frames := 6, cells := 0, slots := 0, locals := 152 } : Room) m [] F V (mP (op_day F V)) := by
  intro g0 n hM
  refine j_start (by decide) (Nat.le_of_ble_eq_true rfl) ?_
  intro p e s mi args below meth c hC hr hlk hnm hX ls hl
  have hC : Ct D T N (gA g0 n) p s mi args c cX3_day RX3 1 := hC
  have hx := hC.x
  have hb := hC.b
  have ho : off g0 g0 m 27 := off.rf
  generalize hQ : MQ below _ args s 0 0 (gA g0 n) = Q
  have hl : lv_has ls 1 [(0, .ref (m))] := hl
  have hn := hI.nums
  refine lv_aload_n hx hb (pc := 0) dX3_day_0 rfl (lv_at hl 0 rfl) ?_
  refine M_calli (As := []) (rest := []) hC hX hM ho (m3_findUse D T N l _ _ hI) (cwV 0 hC.ts (lw_V q1195 q1197 qs35 q46 q1198) rfl rfl rfl (by decide +kernel) ⟨Nat.le_of_ble_eq_true rfl, Nat.le_of_ble_eq_true rfl⟩) rfl hl.1 (Nat.le_of_ble_eq_true rfl) dX3_day_1 ⟨Nat.zero_le _, Nat.zero_le _⟩ (fun r1 F2 V2 g H locs hp hX hM ho => ?_)
  subst hQ
  exact j_iret hC (pc := 4) hX hr hlk (Nat.le_refl _) (Nat.le_refl _) dX3_day_4 ⟨rfl, _, _, hM, ho, ⟨hp.2.2.1, ch.wd hp.1.1 (by decide), ch.wd hp.1.2 (by decide)⟩⟩

set_option maxHeartbeats 4000000 in
set_option maxRecDepth 100000 in
theorem m3_use (D : va_G) (T N : Nat → Nat) (l : Launch) {m : Nat} (F : Nat → Int) (V : Nat → Int → Int)  (hI : SI F V) : MMi D T N l yX3_use (ws_ yX3_use cX3_use 2 (some .int)) ({ frames := 6, cells := 0, slots := 0, locals := 152 } : Room) m [] F V (mP (op_use F V)) := by
  intro g0 n hM
  refine j_start (by decide) (Nat.le_of_ble_eq_true rfl) ?_
  intro p e s mi args below meth c hC hr hlk hnm hX ls hl
  have hC : Ct D T N (gA g0 n) p s mi args c cX3_use RX3 2 := hC
  have hx := hC.x
  have hb := hC.b
  have ho : off g0 g0 m 27 := off.rf
  generalize hQ : MQ below _ args s 0 0 (gA g0 n) = Q
  have hl : lv_has ls 2 [(0, .ref (m))] := hl
  have hn := hI.nums
  refine lv_aload_n hx hb (pc := 0) dX3_use_0 rfl (lv_at hl 0 rfl) ?_
  refine M_calli (As := []) (rest := []) hC hX hM ho (m3_findUse D T N l _ _ hI) (cwV 0 hC.ts (lw_V q1195 q1197 qs35 q46 q1198) rfl rfl rfl (by decide +kernel) ⟨Nat.le_of_ble_eq_true rfl, Nat.le_of_ble_eq_true rfl⟩) rfl hl.1 (Nat.le_of_ble_eq_true rfl) dX3_use_1 ⟨Nat.zero_le _, Nat.zero_le _⟩ (fun r1 F2 V2 g H locs hp hX hM ho => ?_)
  refine lv_istore_n (lv' := [(1, .int (iI (r1))), (0, .ref (m))]) hx hb (pc := 4) dX3_use_4 rfl hl (by decide) rfl (fun ls hl => ?_)
  refine lv_iload_n hx hb (pc := 5) dX3_use_5 rfl (lv_at hl 0 rfl) ?_
  refine j_if_ge hC (pc := 6) 13 dX3_use_6 (by decide) (by omega) (fun c3 => ?_) (fun c3 => ?_)
  · skip
    refine lv_aload_n hx hb (pc := 13) dX3_use_13 rfl (lv_at hl 1 rfl) ?_
    refine M_get hC hX hM (pc := 14) 30 (by decide) q918 rfl (v := .int (iI (F2 30))) rfl dX3_use_14 ?_
    subst hQ
    exact j_iret hC (pc := 17) hX hr hlk (Nat.le_refl _) (Nat.le_refl _) dX3_use_17 ⟨rfl, _, _, hM, ho, ⟨by unfold op_use; dsimp only; rw [← hp.2.2.1, if_neg (by omega)]; exact hp.2.2.2 (by omega), ch.wd hp.1.1 (by decide), ch.wd hp.1.2 (by decide)⟩⟩
  · skip
    refine lv_iload_n hx hb (pc := 9) dX3_use_9 rfl (lv_at hl 0 rfl) ?_
    refine j_goto hC (pc := 10) 17 dX3_use_10 (by decide) ?_
    subst hQ
    exact j_iret hC (pc := 17) hX hr hlk (Nat.le_refl _) (Nat.le_refl _) dX3_use_17 ⟨rfl, _, _, hM, ho, ⟨by unfold op_use; dsimp only; rw [← hp.2.2.1, if_pos (by omega)], ch.wd hp.1.1 (by decide), ch.wd hp.1.2 (by decide)⟩⟩
