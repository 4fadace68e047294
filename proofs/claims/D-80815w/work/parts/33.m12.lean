/-! FairFightModel: a fight played -/
theorem wk.here2 {Su : Int → Int → Int} {sl : Int} {F : Nat → Int} {V : Nat → Int → Int} (h : wk Su sl F V) {L L' U U' : Int → Int} (hc : ∀ k : Int, 0 ≤ k → k < 6 → Su 1 k = 0 → L k = 0 ∧ U k = 0) (hU : ag U' U) {k : Int} (h1 : 0 ≤ k) (h2 : k < 6) (hu : U' k ≠ 0) : V 3 k ≠ -1 := fun q => by
  rw [hU k h1 h2] at hu
  exact hu (hc k h1 h2 (h.gone k h1 h2 q)).2
theorem wk.hitP2 {Su : Int → Int → Int} {sl : Int} {F : Nat → Int} {V V' : Nat → Int → Int} (h : wk Su sl F V) {L U : Int → Int} (hO : okS L U) (hc : ∀ k : Int, 0 ≤ k → k < 6 → Su 1 k = 0 → L k = 0 ∧ U k = 0) {k : Int} (hL : ag (V 6) L) (hU : ag (V 7) U) (hk : 0 ≤ k ∧ k < 6) (hw : winF U = 2) (hu : U k ≠ 0)
    (q6 : V' 6 = (hitP (V 1 (6 * V 3 k)) (V 1 (6 * V 3 k + 3) + V 4 k) (F 4) (fun j => V 1 (6 * V 3 j + 1)) (V 6) (V 7) k).1) (q7 : V' 7 = (hitP (V 1 (6 * V 3 k)) (V 1 (6 * V 3 k + 3) + V 4 k) (F 4) (fun j => V 1 (6 * V 3 j + 1)) (V 6) (V 7) k).2) :
    ag (V' 6) (hitP (Su 0 k) (Su 3 k) (Su 6 0) (Su 1) L U k).1 ∧ ag (V' 7) (hitP (Su 0 k) (Su 3 k) (Su 6 0) (Su 1) L U k).2 := by
  have h3 := h.here2 (L' := L) hc hU hk.1 hk.2 (by rw [hU k hk.1 hk.2]; exact hu)
  obtain ⟨e0, e1, e2, e3, e4⟩ := h.here k hk.1 hk.2 h3
  have hcg := hit_cg hL hU (kd := Su 0 k) (fo := Su 3 k) (aim := Su 6 0) (full' := fun j => V 1 (6 * V 3 j + 1)) (full := Su 1) hk hw (fun j a b cu => ((h.here j a b (h.here2 (L' := L) hc hU a b (by rw [hU j a b]; exact cu))).2.1).symm)
  rw [← e0, ← e3, ← h.aim] at q6 q7
  rw [← q6, ← q7] at hcg
  exact hcg

set_option maxHeartbeats 4000000 in
set_option maxRecDepth 100000 in
theorem m3_play (D : va_G) (T N : Nat → Nat) (l : Launch) {m : Nat} (F : Nat → Int) (V : Nat → Int → Int) (sh : Int) (hI : SI F V) (hg : (-2147483648 ≤ sh ∧ sh ≤ 2147483647)) : MMi D T N l yX3_play (ws_ yX3_play cX3_play 9 (some .int)) ({ frames := 2, cells := 0, slots := 0, locals := 50 } : Room) m [.int (iI (sh))] F V (mP (op_play F V sh)) := by
  intro g0 n hM
  refine j_start (by decide) (Nat.le_of_ble_eq_true rfl) ?_
  intro p e s mi args below meth c hC hr hlk hnm hX ls hl
  have hC : Ct D T N (gA g0 n) p s mi args c cX3_play RX3 9 := hC
  have hx := hC.x
  have hb := hC.b
  have ho : off g0 g0 m 27 := off.rf
  generalize hQ : MQ below _ args s 0 0 (gA g0 n) = Q
  have hl : lv_has ls 9 [(0, .ref (m)), (1, .int (iI (sh)))] := hl
  have hn := hI.nums
  refine lv_iload_n hx hb (pc := 0) dX3_play_0 rfl (lv_at hl 1 rfl) ?_
  refine S_calli (As := [.int (iI (sh))]) (rest := []) hC hX (m3_isSheet D T N l sh (by omega)) (va_cwS 1 hC.ts (lw_S q1224 q1225 q46 q1226) rfl rfl rfl (by decide +kernel) ⟨Nat.le_of_ble_eq_true rfl, Nat.le_of_ble_eq_true rfl⟩) rfl hl.1 (Nat.le_of_ble_eq_true rfl) dX3_play_1 ⟨Nat.zero_le _, Nat.zero_le _⟩ (fun r1 H locs hp hX => ?_)
  have hq_r1 := inF_of hp
  refine j_if_ne hC (pc := 4) 10 dX3_play_4 (by decide) (by omega) (fun c2 => ?_) (fun c2 => ?_)
  · skip
    have hsh : 0 ≤ sh ∧ sh ≤ 3 := by omega
    clear hq_r1
    have h23 := hI.i23 (i := sh) ⟨hsh.1, by omega⟩
    refine lv_aload_n hx hb (pc := 10) dX3_play_10 rfl (lv_at hl 0 rfl) ?_
    refine M_get hC hX hM (pc := 11) 36 (by decide) q924 rfl (v := .ref (m + 23)) rfl dX3_play_11 ?_
    refine lv_iload_n hx hb (pc := 14) dX3_play_14 rfl (lv_at hl 1 rfl) ?_
    refine M_iald hC hX hM (pc := 15) 23 (by decide) (L := 4) ⟨rfl, by decide⟩ (by omega) (z := V 23 sh) rfl dX3_play_15 ?_
    refine j_if_ge hC (pc := 16) 25 dX3_play_16 (by decide) (by omega) (fun c3 => ?_) (fun c3 => ?_)
    · skip
      refine lv_aload_n hx hb (pc := 25) dX3_play_25 rfl (lv_at hl 0 rfl) ?_
      refine j_iconst hC (pc := 26) dX3_play_26 ?_
      refine M_callv (As := [.int (iI (0))]) (rest := []) hC hX hM ho (m3_sets D T N l _ _ 0 (by omega)) (cwV 1 hC.ts (lw_V q1064 q1066 qs18 q46 q1067) rfl rfl rfl (by decide +kernel) ⟨Nat.le_of_ble_eq_true rfl, Nat.le_of_ble_eq_true rfl⟩) rfl hl.1 (Nat.le_of_ble_eq_true rfl) dX3_play_27 ⟨Nat.zero_le _, Nat.zero_le _⟩ (fun F5 V5 g H locs hp hX hM ho => ?_)
      have hP : PW F V (V 2) 0 (F 5) F5 V5 := ⟨⟨hI, hI.w2, (by omega), hI.nums.2.2.2.1⟩, ⟨by rw [hp.1]; exact ch.rf.up 8 _ (by decide), hp.2.1, by rw [hp.1]; rfl⟩, fun j a b => (hp.2.2 j a b).1, fun j a b => (hp.2.2 j a b).2⟩
      refine lv_aload_n hx hb (pc := 30) dX3_play_30 rfl (lv_at hl 0 rfl) ?_
      refine M_callv (As := []) (rest := []) hC hX hM ho (m3_begins D T N l _ _ hP.I hP.W) (cwV 0 hC.ts (lw_V q1068 q1070 qs19 q46 q1071) rfl rfl rfl (by decide +kernel) ⟨Nat.le_of_ble_eq_true rfl, Nat.le_of_ble_eq_true rfl⟩) rfl hl.1 (Nat.le_of_ble_eq_true rfl) dX3_play_31 ⟨Nat.zero_le _, Nat.zero_le _⟩ (fun F7 V7 g H locs hp hX hM ho => ?_)
      obtain ⟨Su, hSu⟩ : ∃ Su, Su = suN F V := ⟨_, rfl⟩
      obtain ⟨sl, hsl⟩ : ∃ sl, sl = slS F Su := ⟨_, rfl⟩
      obtain ⟨hK0, hm0, h60, h70, hO0, hs36, hpos⟩ := wk.of (Su := Su) (sl := sl) (hSu.trans hP.su) (by rw [hsl]; subst hSu; exact hP.sl) hP.I hP.W hP.2.2.1 hP.1.2.2.1 hP.2.2.2 hP.st hp
      have hmP : manyP Su := fun z => by have := hpos z; omega
      clear hpos
      have hcF0 : ch F F7 [8, 9] := ch.tr hP.2.1.1 hp.1 (by decide)
      have hcV0 : ch V V7 [3, 4, 5, 6, 7] := ch.tr hP.2.1.2.1 hp.2.1 (by decide)
      have hO := hO0
      have hU := h70
      have h63 : Su 6 3 = F 3 := by rw [hSu]; rfl
      obtain ⟨Z, hZ⟩ : ∃ Z : Nat → PS, Z = plN Su (V 24 sh) (fun j => V 25 (60 * sh + j)) := ⟨_, rfl⟩
      have hEE : plE F V sh = (Z sl.toNat) := by rw [hZ, hsl, hSu]; rfl
      have hsl2 : sl = Su 6 3 * Su 6 2 := by rw [h63]; exact hsl
      have hw0 := winF_rg (U0 Su)
      have h3w : ∀ j : Int, 0 ≤ j → j < 6 → V7 3 j = V 2 j := fun j a b => by rw [hp.2.1 3 (by decide)]; exact hP.2.2.1 j a b
      refine j_iconst hC (pc := 34) dX3_play_34 ?_
      refine lv_istore_n (lv' := [(2, .int (iI (0))), (0, .ref (m)), (1, .int (iI (sh)))]) hx hb (pc := 35) dX3_play_35 rfl hl (by decide) rfl (fun ls hl => ?_)
      refine lv_aload_n hx hb (pc := 36) dX3_play_36 rfl (lv_at hl 1 rfl) ?_
      refine M_calli (As := []) (rest := []) hC hX hM ho (m3_winner D T N l _ _ hO) (cwV 0 hC.ts (lw_V q1088 q1090 qs23 q46 q1091) rfl rfl rfl (by decide +kernel) ⟨Nat.le_of_ble_eq_true rfl, Nat.le_of_ble_eq_true rfl⟩) rfl hl.1 (Nat.le_of_ble_eq_true rfl) dX3_play_37 ⟨Nat.zero_le _, Nat.zero_le _⟩ (fun r8 F9 V9 g H locs hp hX hM ho => ?_)
      obtain ⟨hp, hF_, hV_⟩ := hp
      rw [hF_, hV_] at hM
      have hwr := hp.trans (winF_cg hU)
      refine lv_istore_n (lv' := [(3, .int (iI (r8))), (2, .int (iI (0))), (0, .ref (m)), (1, .int (iI (sh)))]) hx hb (pc := 40) dX3_play_40 rfl hl (by decide) rfl (fun ls hl => ?_)
      have J54 : ∀ (rd : Int), (rd0P Su rd) → ∀ (g : GH) (H : Heap) (locs : List Loc), Wd D (gA g0 n) s g n H locs → mR T g m F7 V7 → off g0 g m 27 → ∀ (ls : Array Slot), lv_has ls 9 [(3, .int (iI (r8))), (2, .int (iI (0))), (0, .ref (m)), (1, .int (iI (sh)))] → W p l e ({ frames := 2, cells := 0, slots := 0, locals := 50 } : Room) s mi args below meth c H locs 0 0 Q (F0 mi 54 ls [.int (iI (rd))]) := by
        intro rd hrd0 g H locs hX hM ho ls hl
        refine lv_istore (lv' := [(4, .int (iI (rd))), (3, .int (iI (r8))), (2, .int (iI (0))), (0, .ref (m)), (1, .int (iI (sh)))]) hx hb (pc := 54) dX3_play_54 hl (by decide) rfl (fun ls hl => ?_)
        refine lv_aload_n hx hb (pc := 56) dX3_play_56 rfl (lv_at hl 3 rfl) ?_
        refine M_calli (As := []) (rest := []) hC hX hM ho (m3_slotsNow D T N l _ _) (cwV 0 hC.ts (lw_V q1072 q1074 qs20 q46 q1075) rfl rfl rfl (by decide +kernel) ⟨Nat.le_of_ble_eq_true rfl, Nat.le_of_ble_eq_true rfl⟩) rfl hl.1 (Nat.le_of_ble_eq_true rfl) dX3_play_57 ⟨Nat.zero_le _, Nat.zero_le _⟩ (fun r10 F11 V11 g H locs hp hX hM ho => ?_)
        obtain ⟨hp, hF_, hV_⟩ := hp
        rw [hF_, hV_] at hM
        refine j_eqi (b := sl) (hp.trans (by rw [hm0, hK0.sl_.1, hm0])) ?_
        refine lv_istore (lv' := [(5, .int (iI (sl))), (4, .int (iI (rd))), (3, .int (iI (r8))), (2, .int (iI (0))), (0, .ref (m)), (1, .int (iI (sh)))]) hx hb (pc := 60) dX3_play_60 hl (by decide) rfl (fun ls hl => ?_)
        refine j_iconst hC (pc := 62) dX3_play_62 ?_
        have J227 : ∀ (ro : Int) (en : Int) (rd : Int) (Fq : Nat → Int) (Vq : Nat → Int → Int), (Fq = F7) → (ch V7 Vq [6, 7]) → ((Z sl.toNat).1 = 0) → (ag (Vq 6) (Z sl.toNat).2.1.1) → (ro = (Z sl.toNat).2.2.1) → (en = winF (Z sl.toNat).2.1.2) → (rd = (Z sl.toNat).2.2.2) → ∀ (g : GH) (H : Heap) (locs : List Loc), Wd D (gA g0 n) s g n H locs → mR T g m Fq Vq → off g0 g m 27 → ∀ (ls : Array Slot), lv_has ls 9 [(5, .int (iI (sl))), (4, .int (iI (rd))), (3, .int (iI (en))), (2, .int (iI (ro))), (0, .ref (m)), (1, .int (iI (sh)))] → W p l e ({ frames := 2, cells := 0, slots := 0, locals := 50 } : Room) s mi args below meth c H locs 0 0 Q (F0 mi 227 ls []) := by
          intro ro en rd Fq Vq hFq cVq hxq hLq hroq henq hrdq g H locs hX hM ho ls hl
          refine lv_aload_n hx hb (pc := 227) dX3_play_227 rfl (lv_at hl 4 rfl) ?_
          refine M_get hC hX hM (pc := 228) 33 (by decide) q921 rfl (v := .ref (m + 20)) rfl dX3_play_228 ?_
          refine j_iconst hC (pc := 231) dX3_play_231 ?_
          refine lv_iload_n hx hb (pc := 232) dX3_play_232 rfl (lv_at hl 2 rfl) ?_
          refine M_iast hC hX hM ho (pc := 233) 20 (by decide) (L := 3) ⟨rfl, by decide⟩ (by omega) dX3_play_233 (fun g H locs hX hM ho => ?_)
          refine lv_aload_n hx hb (pc := 234) dX3_play_234 rfl (lv_at hl 4 rfl) ?_
          refine M_get hC hX hM (pc := 235) 33 (by decide) q921 rfl (v := .ref (m + 20)) rfl dX3_play_235 ?_
          refine j_iconst hC (pc := 238) dX3_play_238 ?_
          refine lv_iload_n hx hb (pc := 239) dX3_play_239 rfl (lv_at hl 3 rfl) ?_
          refine M_iast hC hX hM ho (pc := 240) 20 (by decide) (L := 3) ⟨rfl, by decide⟩ (by omega) dX3_play_240 (fun g H locs hX hM ho => ?_)
          refine lv_aload_n hx hb (pc := 241) dX3_play_241 rfl (lv_at hl 4 rfl) ?_
          refine M_get hC hX hM (pc := 242) 33 (by decide) q921 rfl (v := .ref (m + 20)) rfl dX3_play_242 ?_
          refine j_iconst hC (pc := 245) dX3_play_245 ?_
          refine lv_iload hx hb (pc := 246) dX3_play_246 (lv_at hl 1 rfl) ?_
          refine M_iast hC hX hM ho (pc := 248) 20 (by decide) (L := 3) ⟨rfl, by decide⟩ (by omega) dX3_play_248 (fun g H locs hX hM ho => ?_)
          refine j_iconst hC (pc := 249) dX3_play_249 ?_
          refine lv_istore (lv' := [(6, .int (iI (0))), (5, .int (iI (sl))), (4, .int (iI (rd))), (3, .int (iI (en))), (2, .int (iI (ro))), (0, .ref (m)), (1, .int (iI (sh)))]) hx hb (pc := 250) dX3_play_250 hl (by decide) rfl (fun ls hl => ?_)
          have L252 : ∀ (fu : Nat) (i : Int) (Vu : Nat → Int → Int), 6 - i < (fu : Int) → (0 ≤ i ∧ i ≤ 6) → (ch Vq Vu [20, 21, 22]) → (Vu 20 = uI (uI (uI (Vq 20) 0 en) 1 ro) 2 rd) → (Vu 21 = cpy (Vq 21) (Vq 3) i.toNat) → (Vu 22 = cpy (Vq 22) (Vq 6) i.toNat) → ∀ (g : GH) (H : Heap) (locs : List Loc), Wd D (gA g0 n) s g n H locs → mR T g m Fq Vu → off g0 g m 27 → ∀ (ls : Array Slot), lv_has ls 9 [(6, .int (iI (i))), (5, .int (iI (sl))), (4, .int (iI (rd))), (3, .int (iI (en))), (2, .int (iI (ro))), (0, .ref (m)), (1, .int (iI (sh)))] → W p l e ({ frames := 2, cells := 0, slots := 0, locals := 50 } : Room) s mi args below meth c H locs 0 0 Q (F0 mi 252 ls []) := by
            intro fu
            induction fu with
            | zero =>
              intro i Vu hfu hi cVu hu20 hu21 hu22 g H locs hX hM ho ls hl
              exfalso
              omega
            | succ fu ih252 =>
              intro i Vu hfu hi cVu hu20 hu21 hu22 g H locs hX hM ho ls hl
              have ei : ((i.toNat : Nat) : Int) = i := Int.toNat_of_nonneg (by omega)
              have hi1 : (i + 1).toNat = i.toNat + 1 := by omega
              refine lv_iload hx hb (pc := 252) dX3_play_252 (lv_at hl 0 rfl) ?_
              refine j_bipush hC (pc := 254) dX3_play_254 (by decide) ?_
              refine j_icmp_ge hC (pc := 256) 293 dX3_play_256 (by decide) (by omega) (fun c12 => ?_) (fun c12 => ?_)
              · skip
                refine lv_iload_n hx hb (pc := 293) dX3_play_293 rfl (lv_at hl 3 rfl) ?_
                subst hQ
                exact j_iret hC (pc := 294) hX hr hlk (Nat.le_refl _) (Nat.le_refl _) dX3_play_294 ⟨rfl, _, _, hM, ho, ⟨by unfold op_play; rw [if_pos (by omega), if_neg (by omega), if_neg (by rw [hEE]; omega)]; rw [hEE]; exact henq, by unfold op_play; rw [if_pos (by omega), if_neg (by omega), if_neg (by rw [hEE]; omega)]; rw [hFq]; exact ch.wd hcF0 (by decide), by unfold op_play; rw [if_pos (by omega), if_neg (by omega), if_neg (by rw [hEE]; omega)]; exact ch3 (ch.tr (ch.tr (ks := [3, 4, 5, 6, 7]) hcV0 cVq (by decide)) cVu (by decide)) (by rw [hu20, cVq 20 (by decide), hcV0 20 (by decide), hEE, henq, hroq, hrdq]) (by rw [hu21, cVq 21 (by decide), hcV0 21 (by decide), show i.toNat = 6 by omega]; exact cpy_cg 6 (fun j a b => by rw [cVq 3 (by decide)]; exact h3w j a b)) (by rw [hu22, cVq 22 (by decide), hcV0 22 (by decide), hEE, show i.toNat = 6 by omega]; exact cpy_cg 6 hLq)⟩⟩
              · skip
                refine lv_aload_n hx hb (pc := 259) dX3_play_259 rfl (lv_at hl 5 rfl) ?_
                refine M_get hC hX hM (pc := 260) 34 (by decide) q922 rfl (v := .ref (m + 21)) rfl dX3_play_260 ?_
                refine lv_iload hx hb (pc := 263) dX3_play_263 (lv_at hl 0 rfl) ?_
                refine lv_aload_n hx hb (pc := 265) dX3_play_265 rfl (lv_at hl 5 rfl) ?_
                refine M_get hC hX hM (pc := 266) 6 (by decide) q894 rfl (v := .ref (m + 3)) rfl dX3_play_266 ?_
                refine lv_iload hx hb (pc := 269) dX3_play_269 (lv_at hl 0 rfl) ?_
                refine M_iald hC hX hM (pc := 271) 3 (by decide) (L := 6) ⟨rfl, by decide⟩ (by omega) (z := Vu 3 i) rfl dX3_play_271 ?_
                refine M_iast hC hX hM ho (pc := 272) 21 (by decide) (L := 6) ⟨rfl, by decide⟩ (by omega) dX3_play_272 (fun g H locs hX hM ho => ?_)
                refine lv_aload_n hx hb (pc := 273) dX3_play_273 rfl (lv_at hl 5 rfl) ?_
                refine M_get hC hX hM (pc := 274) 35 (by decide) q923 rfl (v := .ref (m + 22)) rfl dX3_play_274 ?_
                refine lv_iload hx hb (pc := 277) dX3_play_277 (lv_at hl 0 rfl) ?_
                refine lv_aload_n hx hb (pc := 279) dX3_play_279 rfl (lv_at hl 5 rfl) ?_
                refine M_get hC hX hM (pc := 280) 11 (by decide) q899 rfl (v := .ref (m + 6)) rfl dX3_play_280 ?_
                refine lv_iload hx hb (pc := 283) dX3_play_283 (lv_at hl 0 rfl) ?_
                refine M_iald hC hX hM (pc := 285) 6 (by decide) (L := 6) ⟨rfl, by decide⟩ (by omega) (z := Vu 6 i) rfl dX3_play_285 ?_
                refine M_iast hC hX hM ho (pc := 286) 22 (by decide) (L := 6) ⟨rfl, by decide⟩ (by omega) dX3_play_286 (fun g H locs hX hM ho => ?_)
                refine j_iinc hC (pc := 287) (lv' := [(6, .int (iI (i + 1))), (5, .int (iI (sl))), (4, .int (iI (rd))), (3, .int (iI (en))), (2, .int (iI (ro))), (0, .ref (m)), (1, .int (iI (sh)))]) dX3_play_287 hl (k := 0) rfl (by decide) rfl (fun ls hl => ?_)
                refine j_goto hC (pc := 290) 252 dX3_play_290 (by decide) ?_
                exact ih252 (i + 1) _ (by omega) (by omega) ((cVu.up 21 _ (by decide)).up 22 _ (by decide)) hu20 (by show uI (Vu 21) i (Vu 3 i) = _; rw [hi1, hu21, cVu 3 (by decide)]; show _ = uI _ ((i.toNat : Nat) : Int) (Vq 3 ((i.toNat : Nat) : Int)); rw [ei]) (by show uI (Vu 22) i (Vu 6 i) = _; rw [hi1, hu22, cVu 6 (by decide)]; show _ = uI _ ((i.toNat : Nat) : Int) (Vq 6 ((i.toNat : Nat) : Int)); rw [ei]) _ _ _ hX hM ho ls (lv_sub hl [0, 1, 2, 3, 4, 5, 6] rfl)
          exact L252 ((6 - 0 : Int).toNat + 1) 0 _ (by omega) (by omega) (((ch.rf.up 20 _ (by decide)).up 20 _ (by decide)).up 20 _ (by decide)) rfl rfl rfl _ _ _ hX hM ho ls (lv_sub hl [0, 1, 2, 3, 4, 5, 6] rfl)
        refine lv_istore (lv' := [(6, .int (iI (0))), (5, .int (iI (sl))), (4, .int (iI (rd))), (3, .int (iI (r8))), (2, .int (iI (0))), (0, .ref (m)), (1, .int (iI (sh)))]) hx hb (pc := 63) dX3_play_63 hl (by decide) rfl (fun ls hl => ?_)
        have L65 : ∀ (fu : Nat) (t : Int) (ro : Int) (en : Int) (rd : Int) (Fp : Nat → Int) (Vp : Nat → Int → Int), sl - t < (fu : Int) → (0 ≤ t ∧ t ≤ sl) → (Fp = F7) → (ch V7 Vp [6, 7]) → ((Z t.toNat).1 = 0) → (ag (Vp 6) (Z t.toNat).2.1.1) → (ag (Vp 7) (Z t.toNat).2.1.2) → (ro = (Z t.toNat).2.2.1) → (en = winF (Z t.toNat).2.1.2) → (rd = (Z t.toNat).2.2.2) → ∀ (g : GH) (H : Heap) (locs : List Loc), Wd D (gA g0 n) s g n H locs → mR T g m Fp Vp → off g0 g m 27 → ∀ (ls : Array Slot), lv_has ls 9 [(6, .int (iI (t))), (5, .int (iI (sl))), (4, .int (iI (rd))), (3, .int (iI (en))), (2, .int (iI (ro))), (0, .ref (m)), (1, .int (iI (sh)))] → W p l e ({ frames := 2, cells := 0, slots := 0, locals := 50 } : Room) s mi args below meth c H locs 0 0 Q (F0 mi 65 ls []) := by
          intro fu
          induction fu with
          | zero =>
            intro t ro en rd Fp Vp hfu ht hFe cVp hx0 hL hU hro hen hrd g H locs hX hM ho ls hl
            exfalso
            omega
          | succ fu ih65 =>
            intro t ro en rd Fp Vp hfu ht hFe cVp hx0 hL hU hro hen hrd g H locs hX hM ho ls hl
            have hok : okPl Su (V 24 sh) ((t.toNat : Nat) : Int) (Z t.toNat) := by rw [hZ]; exact plN_ok hK0.ok (by omega) (it := fun j => V 25 (60 * sh + j)) (sz := V 24 sh) hmP (by omega) t.toNat (by omega)
            have hO : okS (Vp 6) (Vp 7) := fun j a b => by rw [hL j a b, hU j a b]; exact hok.1 j a b
            have hK : wk Su sl Fp Vp := hK0.kp (by rw [hFe]; exact ch.rf) (ch.wd cVp (by decide))
            have hwx := winF_rg (Z t.toNat).2.1.2
            refine lv_iload hx hb (pc := 65) dX3_play_65 (lv_at hl 0 rfl) ?_
            refine lv_iload hx hb (pc := 67) dX3_play_67 (lv_at hl 1 rfl) ?_
            refine j_icmp_ge hC (pc := 69) 227 dX3_play_69 (by decide) (by omega) (fun c13 => ?_) (fun c13 => ?_)
            · skip
              have hend : (t = sl ∨ en ≠ 2) → (Z sl.toNat) = (Z t.toNat) := fun z => by have hz : t = sl ∨ (Z t.toNat).1 ≠ 0 ∨ winF (Z t.toNat).2.1.2 ≠ 2 := (by rcases z with z | z; exact Or.inl z; exact Or.inr (Or.inr (by omega))); rw [hZ] at hz ⊢; exact plN_end ht hz
              exact J227 ro en rd _ _ hFe cVp (by rw [hend (by omega)]; exact hx0) (by rw [hend (by omega)]; exact hL) (by rw [hend (by omega)]; exact hro) (by rw [hend (by omega)]; exact hen) (by rw [hend (by omega)]; exact hrd) _ _ _ hX hM ho ls (lv_sub hl [1, 2, 3, 4, 5, 6] rfl)
            · skip
              refine lv_iload_n hx hb (pc := 72) dX3_play_72 rfl (lv_at hl 3 rfl) ?_
              refine j_iconst hC (pc := 73) dX3_play_73 ?_
              refine j_icmp_ne hC (pc := 74) 227 dX3_play_74 (by decide) (by omega) (fun c14 => ?_) (fun c14 => ?_)
              · skip
                have hend : (t = sl ∨ en ≠ 2) → (Z sl.toNat) = (Z t.toNat) := fun z => by have hz : t = sl ∨ (Z t.toNat).1 ≠ 0 ∨ winF (Z t.toNat).2.1.2 ≠ 2 := (by rcases z with z | z; exact Or.inl z; exact Or.inr (Or.inr (by omega))); rw [hZ] at hz ⊢; exact plN_end ht hz
                exact J227 ro en rd _ _ hFe cVp (by rw [hend (by omega)]; exact hx0) (by rw [hend (by omega)]; exact hL) (by rw [hend (by omega)]; exact hro) (by rw [hend (by omega)]; exact hen) (by rw [hend (by omega)]; exact hrd) _ _ _ hX hM ho ls (lv_sub hl [1, 2, 3, 4, 5, 6] rfl)
              · skip
                have hx2 : winF (Z t.toNat).2.1.2 = 2 := by omega
                have hmp : 0 < Su 6 2 ∧ 1 ≤ sl := by rcases Int.lt_or_le 0 (Su 6 2) with z | z; exact ⟨z, by omega⟩; exfalso; have := hK0.ok.2.1; rw [show Su 6 2 = 0 by omega] at hsl2; omega
                have hm9 : Fp 9 = Su 6 2 := by rw [hFe]; exact hm0
                have hm6 := hK0.ok.2.1
                obtain ⟨d, hd_⟩ : ∃ d, d = t / Su 6 2 := ⟨_, rfl⟩
                obtain ⟨k, hk_⟩ : ∃ k, k = Su 5 (t % Su 6 2) := ⟨_, rfl⟩
                have hkr : 0 ≤ k ∧ k < 6 := by rw [hk_]; exact hK.ok.turn (by omega) (by omega)
                have hd1 : t / Su 6 2 < Su 6 3 := Int.ediv_lt_of_lt_mul (by omega) (by rw [← hsl2]; omega)
                have hd0 := Int.ediv_nonneg (a := t) (b := Su 6 2) (by omega) (by omega)
                have hdr : 0 ≤ d ∧ d ≤ 5 := by omega
                have hmd := Int.emod_nonneg t (show Fp 9 ≠ 0 by omega)
                have hmd2 := Int.emod_lt_of_pos t (show 0 < Fp 9 by omega)
                have hst : (Z (t + 1).toNat) = plIn Su (V 24 sh) (fun j => V 25 (60 * sh + j)) k d (Z t.toNat) := by rw [hZ] at hx0 hx2 ⊢; exact plN_s ht.1 hx0 hx2 hk_ hd_
                refine lv_aload_n hx hb (pc := 77) dX3_play_77 rfl (lv_at hl 5 rfl) ?_
                refine M_get hC hX hM (pc := 78) 10 (by decide) q898 rfl (v := .ref (m + 5)) rfl dX3_play_78 ?_
                refine lv_iload hx hb (pc := 81) dX3_play_81 (lv_at hl 0 rfl) ?_
                refine lv_aload_n hx hb (pc := 83) dX3_play_83 rfl (lv_at hl 5 rfl) ?_
                refine M_get hC hX hM (pc := 84) 9 (by decide) q897 rfl (v := .int (iI (Fp 9))) rfl dX3_play_84 ?_
                refine j_irem hC (pc := 87) dX3_play_87 (by omega) ?_
                refine M_iald hC hX hM (pc := 88) 5 (by decide) (L := 6) ⟨rfl, by decide⟩ (by omega) (z := Vp 5 (t % (Fp 9))) rfl dX3_play_88 ?_
                refine j_eqi (b := k) (by rw [hk_, ← hm9]; exact (hK.ord _ (by omega) (by omega)).symm) ?_
                refine lv_istore (lv' := [(7, .int (iI (k))), (6, .int (iI (t))), (5, .int (iI (sl))), (4, .int (iI (rd))), (3, .int (iI (en))), (2, .int (iI (ro))), (0, .ref (m)), (1, .int (iI (sh)))]) hx hb (pc := 89) dX3_play_89 hl (by decide) rfl (fun ls hl => ?_)
                refine lv_aload_n hx hb (pc := 91) dX3_play_91 rfl (lv_at hl 6 rfl) ?_
                refine lv_iload hx hb (pc := 92) dX3_play_92 (lv_at hl 0 rfl) ?_
                refine lv_iload hx hb (pc := 94) dX3_play_94 (lv_at hl 1 rfl) ?_
                refine lv_aload_n hx hb (pc := 96) dX3_play_96 rfl (lv_at hl 6 rfl) ?_
                refine M_get hC hX hM (pc := 97) 9 (by decide) q897 rfl (v := .int (iI (Fp 9))) rfl dX3_play_97 ?_
                refine j_idiv hC (pc := 100) dX3_play_100 (by omega) ?_
                refine j_eqi (b := d) (by rw [hm9, hd_]) ?_
                refine M_calli (As := [.int (iI (k)), .int (iI (d))]) (rest := []) hC hX hM ho (m3_hasTurn D T N l _ _ k d hO hkr (by omega) (hK.st.2)) (cwV 2 hC.ts (lw_V q1105 q1107 qs27 q46 q1108) rfl rfl rfl (by decide +kernel) ⟨Nat.le_of_ble_eq_true rfl, Nat.le_of_ble_eq_true rfl⟩) rfl hl.1 (Nat.le_of_ble_eq_true rfl) dX3_play_101 ⟨Nat.zero_le _, Nat.zero_le _⟩ (fun r15 F16 V16 g H locs hp hX hM ho => ?_)
                obtain ⟨hp, hF_, hV_⟩ := hp
                rw [hF_, hV_] at hM
                have hq : (r15 = 0 ∧ ((Z t.toNat).2.1.2 k = 0 ∨ (d = 0 ∧ Su 6 1 = k / 3))) ∨ (r15 = 1 ∧ ¬ ((Z t.toNat).2.1.2 k = 0 ∨ (d = 0 ∧ Su 6 1 = k / 3))) := by rw [← hU k hkr.1 hkr.2, hK.st.1, hp]; split; exact Or.inl ⟨rfl, ‹_›⟩; exact Or.inr ⟨rfl, ‹_›⟩
                refine j_if_eq hC (pc := 104) 221 dX3_play_104 (by decide) (by omega) (fun c17 => ?_) (fun c17 => ?_)
                · skip
                  have hst0 : (Z (t + 1).toNat) = (Z t.toNat) := by rw [hst]; unfold plIn; rw [if_pos (by rcases hq with z | z; exact z.2; exact absurd z.1 (by omega))]
                  clear hq
                  refine j_iinc hC (pc := 221) (lv' := [(6, .int (iI (t + 1))), (7, .int (iI (k))), (5, .int (iI (sl))), (4, .int (iI (rd))), (3, .int (iI (en))), (2, .int (iI (ro))), (0, .ref (m)), (1, .int (iI (sh)))]) dX3_play_221 hl (k := 1) rfl (by decide) rfl (fun ls hl => ?_)
                  refine j_goto hC (pc := 224) 65 dX3_play_224 (by decide) ?_
                  exact ih65 (t + 1) ro en rd _ _ (by omega) (by omega) hFe cVp (by rw [hst0]; exact hx0) (by rw [hst0]; exact hL) (by rw [hst0]; exact hU) (by rw [hst0]; exact hro) (by rw [hst0]; exact hen) (by rw [hst0]; exact hrd) _ _ _ hX hM ho ls (lv_sub hl [0, 2, 3, 4, 5, 6, 7] rfl)
                · skip
                  have hturn : ¬ ((Z t.toNat).2.1.2 k = 0 ∨ (d = 0 ∧ Su 6 1 = k / 3)) := by rcases hq with z | z; exact absurd z.1 (by omega); exact z.2
                  clear hq
                  have hne3 := hK.here2 (L' := Vp 6) hok.2.1 hU hkr.1 hkr.2 (by rw [hU k hkr.1 hkr.2]; exact fun z => hturn (Or.inl z))
                  have hW3 := hK.W k hkr.1 hkr.2
                  have hwk : 0 ≤ Vp 3 k ∧ Vp 3 k < Fp 0 := ⟨by omega, hW3.2⟩
                  have hhere := hK.here k hkr.1 hkr.2 hne3
                  have hSk := hK.ok.1 k hkr.1 hkr.2
                  have hnn := hK.I.nums.1
                  have e23 : Vp 24 = V 24 := (cVp 24 (by decide)).trans (hcV0 24 (by decide))
                  have e25 : Vp 25 = V 25 := (cVp 25 (by decide)).trans (hcV0 25 (by decide))
                  unfold plIn at hst
                  rw [if_neg hturn] at hst
                  have hune : ¬ (Z t.toNat).2.1.2 k = 0 := fun z => hturn (Or.inl z)
                  clear hturn
                  have J193 : ∀ (ro2 : Int) (Fr : Nat → Int) (Vr : Nat → Int → Int), (Fr = F7) → (ch V7 Vr [6, 7]) → ((Z (t + 1).toNat).1 = 0) → (ag (Vr 6) (Z (t + 1).toNat).2.1.1) → (ag (Vr 7) (Z (t + 1).toNat).2.1.2) → (ro2 = (Z (t + 1).toNat).2.2.1) → ((Z (t + 1).toNat).2.2.2 = plR2 Su d (Z (t + 1).toNat).2.1.2) → ∀ (g : GH) (H : Heap) (locs : List Loc), Wd D (gA g0 n) s g n H locs → mR T g m Fr Vr → off g0 g m 27 → ∀ (ls : Array Slot), lv_has ls 9 [(7, .int (iI (k))), (6, .int (iI (t))), (5, .int (iI (sl))), (4, .int (iI (rd))), (3, .int (iI (en))), (2, .int (iI (ro2))), (0, .ref (m)), (1, .int (iI (sh)))] → W p l e ({ frames := 2, cells := 0, slots := 0, locals := 50 } : Room) s mi args below meth c H locs 0 0 Q (F0 mi 193 ls []) := by
                    intro ro2 Fr Vr hFr cVr hx1 hL1 hU hro1 hrd1 g H locs hX hM ho ls hl
                    have hok1 : okPl Su (V 24 sh) (((t + 1).toNat : Nat) : Int) (Z (t + 1).toNat) := by rw [hZ]; exact plN_ok hK0.ok (by omega) (it := fun j => V 25 (60 * sh + j)) (sz := V 24 sh) hmP (by omega) (t + 1).toNat (by omega)
                    have hO : okS (Vr 6) (Vr 7) := fun j a b => by rw [hL1 j a b, hU j a b]; exact hok1.1 j a b
                    have hw1 := winF_rg (Z (t + 1).toNat).2.1.2
                    have hm9 : Fr 9 = Su 6 2 := by rw [hFr]; exact hm0
                    refine lv_aload_n hx hb (pc := 193) dX3_play_193 rfl (lv_at hl 6 rfl) ?_
                    refine M_calli (As := []) (rest := []) hC hX hM ho (m3_winner D T N l _ _ hO) (cwV 0 hC.ts (lw_V q1088 q1090 qs23 q46 q1091) rfl rfl rfl (by decide +kernel) ⟨Nat.le_of_ble_eq_true rfl, Nat.le_of_ble_eq_true rfl⟩) rfl hl.1 (Nat.le_of_ble_eq_true rfl) dX3_play_194 ⟨Nat.zero_le _, Nat.zero_le _⟩ (fun r18 F19 V19 g H locs hp hX hM ho => ?_)
                    obtain ⟨hp, hF_, hV_⟩ := hp
                    rw [hF_, hV_] at hM
                    have hwr := hp.trans (winF_cg hU)
                    refine lv_istore_n (lv' := [(3, .int (iI (r18))), (7, .int (iI (k))), (6, .int (iI (t))), (5, .int (iI (sl))), (4, .int (iI (rd))), (2, .int (iI (ro2))), (0, .ref (m)), (1, .int (iI (sh)))]) hx hb (pc := 197) dX3_play_197 rfl hl (by decide) rfl (fun ls hl => ?_)
                    refine lv_iload_n hx hb (pc := 198) dX3_play_198 rfl (lv_at hl 0 rfl) ?_
                    refine j_iconst hC (pc := 199) dX3_play_199 ?_
                    refine j_icmp_ge hC (pc := 200) 215 dX3_play_200 (by decide) (by omega) (fun c20 => ?_) (fun c20 => ?_)
                    · skip
                      refine lv_aload_n hx hb (pc := 215) dX3_play_215 rfl (lv_at hl 6 rfl) ?_
                      refine M_get hC hX hM (pc := 216) 3 (by decide) q891 rfl (v := .int (iI (Fr 3))) rfl dX3_play_216 ?_
                      refine lv_istore (lv' := [(4, .int (iI (Fr 3))), (3, .int (iI (r18))), (7, .int (iI (k))), (6, .int (iI (t))), (5, .int (iI (sl))), (2, .int (iI (ro2))), (0, .ref (m)), (1, .int (iI (sh)))]) hx hb (pc := 219) dX3_play_219 hl (by decide) rfl (fun ls hl => ?_)
                      refine j_iinc hC (pc := 221) (lv' := [(6, .int (iI (t + 1))), (4, .int (iI (Fr 3))), (3, .int (iI (r18))), (7, .int (iI (k))), (5, .int (iI (sl))), (2, .int (iI (ro2))), (0, .ref (m)), (1, .int (iI (sh)))]) dX3_play_221 hl (k := 3) rfl (by decide) rfl (fun ls hl => ?_)
                      refine j_goto hC (pc := 224) 65 dX3_play_224 (by decide) ?_
                      exact ih65 (t + 1) ro2 r18 (Fr 3) _ _ (by omega) (by omega) hFr cVr hx1 hL1 hU hro1 hwr (by rw [hrd1]; unfold plR2; rw [if_neg (by omega), hFr, h63]; exact hcF0 3 (by decide)) _ _ _ hX hM ho ls (lv_sub hl [0, 4, 1, 2, 5, 6, 7] rfl)
                    · skip
                      refine lv_iload hx hb (pc := 203) dX3_play_203 (lv_at hl 2 rfl) ?_
                      refine lv_aload_n hx hb (pc := 205) dX3_play_205 rfl (lv_at hl 6 rfl) ?_
                      refine M_get hC hX hM (pc := 206) 9 (by decide) q897 rfl (v := .int (iI (Fr 9))) rfl dX3_play_206 ?_
                      refine j_idiv hC (pc := 209) dX3_play_209 (by omega) ?_
                      refine j_eqi (b := d) (by rw [hm9, hd_]) ?_
                      refine j_iconst hC (pc := 210) dX3_play_210 ?_
                      refine j_iadd hC (pc := 211) dX3_play_211 ?_
                      refine j_goto hC (pc := 212) 219 dX3_play_212 (by decide) ?_
                      refine lv_istore (lv' := [(4, .int (iI (d + 1))), (3, .int (iI (r18))), (7, .int (iI (k))), (6, .int (iI (t))), (5, .int (iI (sl))), (2, .int (iI (ro2))), (0, .ref (m)), (1, .int (iI (sh)))]) hx hb (pc := 219) dX3_play_219 hl (by decide) rfl (fun ls hl => ?_)
                      refine j_iinc hC (pc := 221) (lv' := [(6, .int (iI (t + 1))), (4, .int (iI (d + 1))), (3, .int (iI (r18))), (7, .int (iI (k))), (5, .int (iI (sl))), (2, .int (iI (ro2))), (0, .ref (m)), (1, .int (iI (sh)))]) dX3_play_221 hl (k := 3) rfl (by decide) rfl (fun ls hl => ?_)
                      refine j_goto hC (pc := 224) 65 dX3_play_224 (by decide) ?_
                      exact ih65 (t + 1) ro2 r18 (d + 1) _ _ (by omega) (by omega) hFr cVr hx1 hL1 hU hro1 hwr (by rw [hrd1]; unfold plR2; rw [if_pos (by omega)]) _ _ _ hX hM ho ls (lv_sub hl [0, 4, 1, 2, 5, 6, 7] rfl)
                  refine lv_aload_n hx hb (pc := 107) dX3_play_107 rfl (lv_at hl 6 rfl) ?_
                  refine lv_iload hx hb (pc := 108) dX3_play_108 (lv_at hl 0 rfl) ?_
                  refine M_calli (As := [.int (iI (k))]) (rest := []) hC hX hM ho (m3_flees D T N l _ _ k hK.I hO hkr hwk) (cwV 1 hC.ts (lw_V q1115 q1117 qs29 q46 q1118) rfl rfl rfl (by decide +kernel) ⟨Nat.le_of_ble_eq_true rfl, Nat.le_of_ble_eq_true rfl⟩) rfl hl.1 (Nat.le_of_ble_eq_true rfl) dX3_play_110 ⟨Nat.zero_le _, Nat.zero_le _⟩ (fun r21 F22 V22 g H locs hp hX hM ho => ?_)
                  obtain ⟨hp, hF_, hV_⟩ := hp
                  rw [hF_, hV_] at hM
                  have hfl : (r21 = 1 ∧ (Z t.toNat).2.1.1 k ≤ Su 4 k) ∨ (r21 = 0 ∧ ¬ (Z t.toNat).2.1.1 k ≤ Su 4 k) := by rw [← hL k hkr.1 hkr.2, hhere.2.2.2.2, hp]; split; exact Or.inl ⟨rfl, ‹_›⟩; exact Or.inr ⟨rfl, ‹_›⟩
                  refine j_if_eq hC (pc := 113) 127 dX3_play_113 (by decide) (by omega) (fun c23 => ?_) (fun c23 => ?_)
                  · skip
                    have hnf : ¬ (Z t.toNat).2.1.1 k ≤ Su 4 k := by rcases hfl with z | z; exact absurd z.1 (by omega); exact z.2
                    clear hfl
                    rw [if_neg hnf] at hst
                    have hrb := hok.2.2.1
                    rw [← hro] at hrb
                    refine lv_iload_n hx hb (pc := 127) dX3_play_127 rfl (lv_at hl 5 rfl) ?_
                    refine lv_aload_n hx hb (pc := 128) dX3_play_128 rfl (lv_at hl 6 rfl) ?_
                    refine M_get hC hX hM (pc := 129) 37 (by decide) q925 rfl (v := .ref (m + 24)) rfl dX3_play_129 ?_
                    refine lv_iload_n hx hb (pc := 132) dX3_play_132 rfl (lv_at hl 7 rfl) ?_
                    refine M_iald hC hX hM (pc := 133) 24 (by decide) (L := 4) ⟨rfl, by decide⟩ (by omega) (z := Vp 24 sh) rfl dX3_play_133 ?_
                    refine j_eqi (b := V 24 sh) (by rw [e23]) ?_
                    refine j_icmp_ne hC (pc := 134) 143 dX3_play_134 (by decide) (by omega) (fun c24 => ?_) (fun c24 => ?_)
                    · skip
                      have hne : ¬ ro = V 24 sh := by omega
                      rw [if_neg (show ¬ (Z t.toNat).2.2.1 = V 24 sh by rw [← hro]; exact hne)] at hst
                      have h25 := hI.i25 (i := 60 * sh + ro) (idx60 hsh ⟨hrb.1, hrb.2.2⟩ hne h23.2.2)
                      refine lv_aload_n hx hb (pc := 143) dX3_play_143 rfl (lv_at hl 6 rfl) ?_
                      refine M_get hC hX hM (pc := 144) 38 (by decide) q926 rfl (v := .ref (m + 25)) rfl dX3_play_144 ?_
                      refine j_bipush hC (pc := 147) dX3_play_147 (by decide) ?_
                      refine lv_iload_n hx hb (pc := 149) dX3_play_149 rfl (lv_at hl 7 rfl) ?_
                      refine j_imul hC (pc := 150) dX3_play_150 ?_
                      refine lv_iload_n hx hb (pc := 151) dX3_play_151 rfl (lv_at hl 5 rfl) ?_
                      refine j_iadd hC (pc := 152) dX3_play_152 ?_
                      refine M_iald hC hX hM (pc := 153) 25 (by decide) (L := 240) ⟨rfl, by decide⟩ (by omega) (z := Vp 25 ((60 * sh) + ro)) rfl dX3_play_153 ?_
                      refine j_eqi (b := V 25 (60 * sh + ro)) (by rw [e25]) ?_
                      refine lv_istore (lv' := [(8, .int (iI (V 25 (60 * sh + ro)))), (7, .int (iI (k))), (6, .int (iI (t))), (5, .int (iI (sl))), (4, .int (iI (rd))), (3, .int (iI (en))), (2, .int (iI (ro))), (0, .ref (m)), (1, .int (iI (sh)))]) hx hb (pc := 154) dX3_play_154 hl (by decide) rfl (fun ls hl => ?_)
                      refine j_iinc hC (pc := 156) (lv' := [(2, .int (iI (ro + 1))), (8, .int (iI (V 25 (60 * sh + ro)))), (7, .int (iI (k))), (6, .int (iI (t))), (5, .int (iI (sl))), (4, .int (iI (rd))), (3, .int (iI (en))), (0, .ref (m)), (1, .int (iI (sh)))]) dX3_play_156 hl (k := 6) rfl (by decide) rfl (fun ls hl => ?_)
                      refine lv_iload hx hb (pc := 159) dX3_play_159 (lv_at hl 1 rfl) ?_
                      refine j_i2l hC (pc := 161) dX3_play_161 (by omega) ?_
                      refine j_lconst hC (pc := 162) (w := 1) dX3_play_162 rfl ?_
                      refine lv_aload_n hx hb (pc := 163) dX3_play_163 rfl (lv_at hl 7 rfl) ?_
                      refine M_get hC hX hM (pc := 164) 1 (by decide) q889 rfl (v := .ref (m + 1)) rfl dX3_play_164 ?_
                      refine j_bipush hC (pc := 167) dX3_play_167 (by decide) ?_
                      refine lv_aload_n hx hb (pc := 169) dX3_play_169 rfl (lv_at hl 7 rfl) ?_
                      refine M_get hC hX hM (pc := 170) 6 (by decide) q894 rfl (v := .ref (m + 3)) rfl dX3_play_170 ?_
                      refine lv_iload hx hb (pc := 173) dX3_play_173 (lv_at hl 2 rfl) ?_
                      refine M_iald hC hX hM (pc := 175) 3 (by decide) (L := 6) ⟨rfl, by decide⟩ (by omega) (z := Vp 3 k) rfl dX3_play_175 ?_
                      refine j_imul hC (pc := 176) dX3_play_176 ?_
                      refine j_iconst hC (pc := 177) dX3_play_177 ?_
                      refine j_iadd hC (pc := 178) dX3_play_178 ?_
                      refine M_iald hC hX hM (pc := 179) 1 (by decide) (L := 96) ⟨rfl, by decide⟩ (by omega) (z := Vp 1 ((6 * (Vp 3 k)) + 2)) rfl dX3_play_179 ?_
                      refine j_eqi (b := Su 2 k) hhere.2.2.1.symm ?_
                      refine j_i2l hC (pc := 180) dX3_play_180 (by omega) ?_
                      refine S_calli (As := [.long (lI (V 25 (60 * sh + ro))), .long (lI (1)), .long (lI (Su 2 k))]) (rest := []) hC hX (m3_in D T N l (V 25 (60 * sh + ro)) 1 (Su 2 k) (by omega)) (va_cwS 3 hC.ts (lw_S q1020 q1021 q46 q1022) rfl rfl rfl (by decide +kernel) ⟨Nat.le_of_ble_eq_true rfl, Nat.le_of_ble_eq_true rfl⟩) rfl hl.1 (Nat.le_of_ble_eq_true rfl) dX3_play_181 ⟨Nat.zero_le _, Nat.zero_le _⟩ (fun r25 H locs hp hX => ?_)
                      have hq_r25 := inF_of hp
                      refine j_if_eq hC (pc := 184) 193 dX3_play_184 (by decide) (by omega) (fun c26 => ?_) (fun c26 => ?_)
                      · skip
                        rw [if_neg (show ¬ (1 ≤ V 25 (60 * sh + (Z t.toNat).2.2.1) ∧ V 25 (60 * sh + (Z t.toNat).2.2.1) ≤ Su 2 k) by rw [← hro]; omega)] at hst
                        exact J193 (ro + 1) _ _ hFe cVp (by rw [hst]) (by rw [hst]; exact hL) (by rw [hst]; exact hU) (by rw [hst]; show ro + 1 = _ + 1; rw [hro]) (by rw [hst]) _ _ _ hX hM ho ls (lv_sub hl [2, 3, 4, 5, 6, 0, 7, 8] rfl)
                      · skip
                        rw [if_pos (show 1 ≤ V 25 (60 * sh + (Z t.toNat).2.2.1) ∧ V 25 (60 * sh + (Z t.toNat).2.2.1) ≤ Su 2 k by rw [← hro]; omega)] at hst
                        refine lv_aload_n hx hb (pc := 187) dX3_play_187 rfl (lv_at hl 7 rfl) ?_
                        refine lv_iload hx hb (pc := 188) dX3_play_188 (lv_at hl 2 rfl) ?_
                        refine M_callv (As := [.int (iI (k))]) (rest := []) hC hX hM ho (m3_hits D T N l _ _ k hK.I hK.W hK.B hO (fun j b c z => hK.here2 (L' := Vp 6) hok.2.1 hU b c z) hkr (by rw [hU k hkr.1 hkr.2]; exact hune) (by rw [winF_cg hU]; exact hx2)) (cwV 1 hC.ts (lw_V q1123 q1125 qs31 q46 q1126) rfl rfl rfl (by decide +kernel) ⟨Nat.le_of_ble_eq_true rfl, Nat.le_of_ble_eq_true rfl⟩) rfl hl.1 (Nat.le_of_ble_eq_true rfl) dX3_play_190 ⟨Nat.zero_le _, Nat.zero_le _⟩ (fun F28 V28 g H locs hp hX hM ho => ?_)
                        have hhit := hK.hitP2 hok.1 hok.2.1 hL hU hkr hx2 hune hp.2.2.1 hp.2.2.2
                        exact J193 (ro + 1) _ _ (hp.1.trans hFe) (ch.tr cVp hp.2.1 (by decide)) (by rw [hst]) (by rw [hst]; exact hhit.1) (by rw [hst]; exact hhit.2) (by rw [hst]; show ro + 1 = _ + 1; rw [hro]) (by rw [hst]) _ _ _ hX hM ho ls (lv_sub hl [2, 3, 4, 5, 6, 0, 7, 8] rfl)
                    · skip
                      rw [if_pos (show (Z t.toNat).2.2.1 = V 24 sh by rw [← hro]; omega)] at hst
                      have hE1 : (plE F V sh).1 ≠ 0 := by have hz : (Z (t + 1).toNat).1 ≠ 0 := (by rw [hst]; exact (show (1 : Int) ≠ 0 by decide)); rw [hEE]; rw [hZ] at hz ⊢; rw [plN_end ⟨by omega, by omega⟩ (Or.inr (Or.inl hz))]; exact hz
                      refine lv_aload_n hx hb (pc := 137) dX3_play_137 rfl (lv_at hl 6 rfl) ?_
                      refine j_iconst hC (pc := 138) dX3_play_138 ?_
                      refine M_calli (As := [.int (iI (2))]) (rest := []) hC hX hM ho (m3_met D T N l _ _ 2 (by omega)) (cwV 1 hC.ts (lw_V q1228 q1230 qs37 q46 q1231) rfl rfl rfl (by decide +kernel) ⟨Nat.le_of_ble_eq_true rfl, Nat.le_of_ble_eq_true rfl⟩) rfl hl.1 (Nat.le_of_ble_eq_true rfl) dX3_play_139 ⟨Nat.zero_le _, Nat.zero_le _⟩ (fun r29 F30 V30 g H locs hp hX hM ho => ?_)
                      obtain ⟨hp, hF_, hV_⟩ := hp
                      rw [hF_, hV_] at hM
                      subst hQ
                      exact j_iret hC (pc := 142) hX hr hlk (Nat.le_refl _) (Nat.le_refl _) dX3_play_142 ⟨rfl, _, _, hM, ho, ⟨by unfold op_play; rw [if_pos (by omega), if_neg (by omega), if_pos hE1]; exact hp, by unfold op_play; rw [if_pos (by omega), if_neg (by omega), if_pos hE1]; exact ch_set (by rw [hFe]; exact (ch.wd hcF0 (by decide)).up 40 _ (by decide)) rfl, by unfold op_play; rw [if_pos (by omega), if_neg (by omega), if_pos hE1]; exact ch.tr hcV0 cVp (by decide)⟩⟩
                  · skip
                    have hnf : (Z t.toNat).2.1.1 k ≤ Su 4 k := by rcases hfl with z | z; exact z.2; exact absurd z.1 (by omega)
                    clear hfl
                    rw [if_pos hnf] at hst
                    refine lv_aload_n hx hb (pc := 116) dX3_play_116 rfl (lv_at hl 6 rfl) ?_
                    refine M_get hC hX hM (pc := 117) 12 (by decide) q900 rfl (v := .ref (m + 7)) rfl dX3_play_117 ?_
                    refine lv_iload hx hb (pc := 120) dX3_play_120 (lv_at hl 0 rfl) ?_
                    refine j_iconst hC (pc := 122) dX3_play_122 ?_
                    refine M_zast hC hX hM ho (pc := 123) (by omega) (by omega) dX3_play_123 (fun g H locs hX hM ho => ?_)
                    refine j_goto hC (pc := 124) 193 dX3_play_124 (by decide) ?_
                    exact J193 ro _ _ hFe (cVp.up 7 _ (by decide)) (by rw [hst]) (by rw [hst]; exact hL) (by rw [hst]; exact hU.up _ _) (by rw [hst]; exact hro) (by rw [hst]) _ _ _ hX hM ho ls (lv_sub hl [0, 1, 2, 3, 4, 5, 6, 7] rfl)
        exact L65 ((sl - 0 : Int).toNat + 1) 0 0 r8 rd _ _ (by omega) (by omega) rfl ch.rf (by rw [hZ]; rfl) (by rw [hZ]; exact h60) (by rw [hZ]; exact h70) (by rw [hZ]; rfl) (by rw [hZ]; exact hwr) (by rw [hZ]; exact hrd0) _ _ _ hX hM ho ls (lv_sub hl [0, 1, 2, 3, 4, 5, 6] rfl)
      refine lv_iload_n hx hb (pc := 41) dX3_play_41 rfl (lv_at hl 0 rfl) ?_
      refine j_iconst hC (pc := 42) dX3_play_42 ?_
      refine j_icmp_ge hC (pc := 43) 50 dX3_play_43 (by decide) (by omega) (fun c31 => ?_) (fun c31 => ?_)
      · skip
        refine lv_aload_n hx hb (pc := 50) dX3_play_50 rfl (lv_at hl 2 rfl) ?_
        refine M_get hC hX hM (pc := 51) 3 (by decide) q891 rfl (v := .int (iI (F7 3))) rfl dX3_play_51 ?_
        exact J54 (F7 3) (by unfold rd0P; rw [if_neg (by omega), h63]; exact hcF0 3 (by decide)) _ _ _ hX hM ho ls (lv_sub hl [0, 1, 2, 3] rfl)
      · skip
        refine j_iconst hC (pc := 46) dX3_play_46 ?_
        refine j_goto hC (pc := 47) 54 dX3_play_47 (by decide) ?_
        exact J54 0 (by unfold rd0P; rw [if_pos (by omega)]) _ _ _ hX hM ho ls (lv_sub hl [0, 1, 2, 3] rfl)
    · skip
      refine lv_aload_n hx hb (pc := 19) dX3_play_19 rfl (lv_at hl 0 rfl) ?_
      refine j_iconst hC (pc := 20) dX3_play_20 ?_
      refine M_calli (As := [.int (iI (1))]) (rest := []) hC hX hM ho (m3_met D T N l _ _ 1 (by omega)) (cwV 1 hC.ts (lw_V q1228 q1230 qs37 q46 q1231) rfl rfl rfl (by decide +kernel) ⟨Nat.le_of_ble_eq_true rfl, Nat.le_of_ble_eq_true rfl⟩) rfl hl.1 (Nat.le_of_ble_eq_true rfl) dX3_play_21 ⟨Nat.zero_le _, Nat.zero_le _⟩ (fun r32 F33 V33 g H locs hp hX hM ho => ?_)
      obtain ⟨hp, hF_, hV_⟩ := hp
      rw [hF_, hV_] at hM
      subst hQ
      exact j_iret hC (pc := 24) hX hr hlk (Nat.le_refl _) (Nat.le_refl _) dX3_play_24 ⟨rfl, _, _, hM, ho, ⟨by unfold op_play; rw [if_pos (by omega), if_pos (by omega)]; exact hp, by unfold op_play; rw [if_pos (by omega), if_pos (by omega)]; exact ch.rf, by unfold op_play; rw [if_pos (by omega), if_pos (by omega)]; exact ch.rf⟩⟩
  · skip
    refine j_bipush hC (pc := 7) dX3_play_7 (by decide) ?_
    subst hQ
    exact j_iret hC (pc := 9) hX hr hlk (Nat.le_refl _) (Nat.le_refl _) dX3_play_9 ⟨rfl, _, _, hM, ho, ⟨by unfold op_play; rw [if_neg (by omega)], by unfold op_play; rw [if_neg (by omega)]; exact ch.rf, by unfold op_play; rw [if_neg (by omega)]; exact ch.rf⟩⟩
