/-! FairFightModel: odds asked for -/
theorem oddW_cg {F F' : Nat → Int} {V V' : Nat → Int → Int} {wh : Int → Int} {bo st : Int} (h3 : F' 3 = F 3) (h4 : F' 4 = F 4) (h1 : V' 1 = V 1) : oddW F' V' wh bo st = oddW F V wh bo st := by
  unfold oddW suS slS
  rw [h3, h4, h1]

set_option maxHeartbeats 4000000 in
set_option maxRecDepth 100000 in
theorem m3_worksAsItIs (D : va_G) (T N : Nat → Nat) (l : Launch) {m : Nat} (F : Nat → Int) (V : Nat → Int → Int)  (hI : SI F V) : MMi D T N l yX3_worksAsItIs (ws_ yX3_worksAsItIs cX3_worksAsItIs 1 (some .int)) ({ frames := 4, cells := 0, slots := 0, locals := 102 } : Room) m [] F V (fun r F' V' => WKP F V (V 2) 0 (F 5) r F' V') := by
  intro g0 n hM
  refine j_start (by decide) (Nat.le_of_ble_eq_true rfl) ?_
  intro p e s mi args below meth c hC hr hlk hnm hX ls hl
  have hC : Ct D T N (gA g0 n) p s mi args c cX3_worksAsItIs RX3 1 := hC
  have hx := hC.x
  have hb := hC.b
  have ho : off g0 g0 m 27 := off.rf
  generalize hQ : MQ below _ args s 0 0 (gA g0 n) = Q
  have hl : lv_has ls 1 [(0, .ref (m))] := hl
  have hn := hI.nums
  refine lv_aload_n hx hb (pc := 0) dX3_worksAsItIs_0 rfl (lv_at hl 0 rfl) ?_
  refine j_iconst hC (pc := 1) dX3_worksAsItIs_1 ?_
  refine M_callv (As := [.int (iI (0))]) (rest := []) hC hX hM ho (m3_sets D T N l _ _ 0 (by omega)) (cwV 1 hC.ts (lw_V q1064 q1066 qs18 q46 q1067) rfl rfl rfl (by decide +kernel) ⟨Nat.le_of_ble_eq_true rfl, Nat.le_of_ble_eq_true rfl⟩) rfl hl.1 (Nat.le_of_ble_eq_true rfl) dX3_worksAsItIs_2 ⟨Nat.zero_le _, Nat.zero_le _⟩ (fun F2 V2 g H locs hp hX hM ho => ?_)
  have hP : PW F V (V 2) 0 (F 5) F2 V2 := ⟨⟨hI, hI.w2, (by omega), hI.nums.2.2.2.1⟩, ⟨by rw [hp.1]; exact ch.rf.up 8 _ (by decide), hp.2.1, by rw [hp.1]; rfl⟩, fun j a b => (hp.2.2 j a b).1, fun j a b => (hp.2.2 j a b).2⟩
  refine lv_aload_n hx hb (pc := 5) dX3_worksAsItIs_5 rfl (lv_at hl 0 rfl) ?_
  refine M_calli (As := []) (rest := []) hC hX hM ho (m3_works D T N l _ _ _ _ _ _ hP.su hP.sl hP.I hP.W hP.2.2.1 hP.1.2.2.1 hP.2.2.2 hP.st) (cwV 0 hC.ts (lw_V q1084 q1086 qs22 q46 q1087) rfl rfl rfl (by decide +kernel) ⟨Nat.le_of_ble_eq_true rfl, Nat.le_of_ble_eq_true rfl⟩) rfl hl.1 (Nat.le_of_ble_eq_true rfl) dX3_worksAsItIs_6 ⟨Nat.zero_le _, Nat.zero_le _⟩ (fun r3 F4 V4 g H locs hp hX hM ho => ?_)
  have hw := hP.post hp
  have hr5 := hw.two
  subst hQ
  exact j_iret hC (pc := 9) hX hr hlk (Nat.le_refl _) (Nat.le_refl _) dX3_worksAsItIs_9 ⟨rfl, _, _, hM, ho, hw⟩

set_option maxHeartbeats 4000000 in
set_option maxRecDepth 100000 in
theorem m3_chanceOf (D : va_G) (T N : Nat → Nat) (l : Launch) {m : Nat} (F : Nat → Int) (V : Nat → Int → Int) (sl ev q : Int) (hsl : F 3 * F 9 = sl) (hs22 : 0 ≤ sl ∧ sl ≤ 22) (hq : V 16 sl = q) (he : V 13 0 = ev) (her : 0 ≤ ev ∧ ev ≤ q) (hqr : 0 < q ∧ q ≤ 131621703842267136) : MMi D T N l yX3_chanceOf (ws_ yX3_chanceOf cX3_chanceOf 8 (some .int)) ({ frames := 1, cells := 0, slots := 0, locals := 20 } : Room) m [] F V (fun r F' V' => r = ev * 1000000 / q ∧ F' = F ∧ V' = V) := by
  intro g0 n hM
  refine j_start (by decide) (Nat.le_of_ble_eq_true rfl) ?_
  intro p e s mi args below meth c hC hr hlk hnm hX ls hl
  have hC : Ct D T N (gA g0 n) p s mi args c cX3_chanceOf RX3 8 := hC
  have hx := hC.x
  have hb := hC.b
  have ho : off g0 g0 m 27 := off.rf
  generalize hQ : MQ below _ args s 0 0 (gA g0 n) = Q
  have hl : lv_has ls 8 [(0, .ref (m))] := hl
  refine lv_aload_n hx hb (pc := 0) dX3_chanceOf_0 rfl (lv_at hl 0 rfl) ?_
  refine M_get hC hX hM (pc := 1) 24 (by decide) q912 rfl (v := .ref (m + 16)) rfl dX3_chanceOf_1 ?_
  refine lv_aload_n hx hb (pc := 4) dX3_chanceOf_4 rfl (lv_at hl 0 rfl) ?_
  refine M_calli (As := []) (rest := [.ref (m + 16)]) hC hX hM ho (m3_slotsNow D T N l _ _) (cwV 0 hC.ts (lw_V q1072 q1074 qs20 q46 q1075) rfl rfl rfl (by decide +kernel) ⟨Nat.le_of_ble_eq_true rfl, Nat.le_of_ble_eq_true rfl⟩) rfl hl.1 (Nat.le_of_ble_eq_true rfl) dX3_chanceOf_5 ⟨Nat.zero_le _, Nat.zero_le _⟩ (fun r1 F2 V2 g H locs hp hX hM ho => ?_)
  obtain ⟨hp, hF_, hV_⟩ := hp
  rw [hF_, hV_] at hM
  refine j_eqi (b := sl) (hp.trans hsl) ?_
  refine M_lald hC hX hM (pc := 8) 16 (by decide) (L := 24) ⟨rfl, by decide⟩ (by omega) (z := V 16 sl) rfl dX3_chanceOf_8 ?_
  refine j_eql (b := q) hq ?_
  refine lv_lstore_n (lv' := [(1, .long (lI (q))), (0, .ref (m))]) hx hb (pc := 9) dX3_chanceOf_9 rfl hl (by decide) rfl (fun ls hl => ?_)
  refine lv_aload_n hx hb (pc := 10) dX3_chanceOf_10 rfl (lv_at hl 1 rfl) ?_
  refine M_get hC hX hM (pc := 11) 20 (by decide) q908 rfl (v := .ref (m + 13)) rfl dX3_chanceOf_11 ?_
  refine j_iconst hC (pc := 14) dX3_chanceOf_14 ?_
  refine M_lald hC hX hM (pc := 15) 13 (by decide) (L := 3) ⟨rfl, by decide⟩ (by omega) (z := V 13 0) rfl dX3_chanceOf_15 ?_
  refine j_eql (b := ev) he ?_
  refine lv_lstore_n (lv' := [(3, .long (lI (ev))), (1, .long (lI (q))), (0, .ref (m))]) hx hb (pc := 16) dX3_chanceOf_16 rfl hl (by decide) rfl (fun ls hl => ?_)
  refine lv_lload_n hx hb (pc := 17) dX3_chanceOf_17 rfl (lv_at hl 0 rfl) ?_
  refine lv_lload_n hx hb (pc := 18) dX3_chanceOf_18 rfl (lv_at hl 1 rfl) ?_
  refine j_ldiv hC (pc := 19) dX3_chanceOf_19 (by omega) ?_
  refine j_eql (b := p10 ev 0 / q) (by rw [show p10 ev 0 = ev from Int.mul_one ev]) ?_
  refine lv_lstore (lv' := [(5, .long (lI (p10 ev 0 / q))), (3, .long (lI (ev))), (1, .long (lI (q))), (0, .ref (m))]) hx hb (pc := 20) dX3_chanceOf_20 hl (by decide) rfl (fun ls hl => ?_)
  refine lv_lload_n hx hb (pc := 22) dX3_chanceOf_22 rfl (lv_at hl 1 rfl) ?_
  refine lv_lload_n hx hb (pc := 23) dX3_chanceOf_23 rfl (lv_at hl 2 rfl) ?_
  refine j_lrem hC (pc := 24) dX3_chanceOf_24 (by omega) ?_
  refine j_eql (b := p10 ev 0 % q) (by rw [show p10 ev 0 = ev from Int.mul_one ev]) ?_
  refine lv_lstore_n (lv' := [(3, .long (lI (p10 ev 0 % q))), (5, .long (lI (p10 ev 0 / q))), (1, .long (lI (q))), (0, .ref (m))]) hx hb (pc := 25) dX3_chanceOf_25 rfl hl (by decide) rfl (fun ls hl => ?_)
  refine j_iconst hC (pc := 26) dX3_chanceOf_26 ?_
  refine lv_istore (lv' := [(7, .int (iI (0))), (3, .long (lI (p10 ev 0 % q))), (5, .long (lI (p10 ev 0 / q))), (1, .long (lI (q))), (0, .ref (m))]) hx hb (pc := 27) dX3_chanceOf_27 hl (by decide) rfl (fun ls hl => ?_)
  have L29 : ∀ (fu : Nat) (k : Int) (r : Int) (cq : Int), 6 - k < (fu : Int) → (0 ≤ k ∧ k ≤ 6) → (r = p10 ev k.toNat % q) → (cq = p10 ev k.toNat / q) → ∀ (g : GH) (H : Heap) (locs : List Loc), Wd D (gA g0 n) s g n H locs → mR T g m F V → off g0 g m 27 → ∀ (ls : Array Slot), lv_has ls 8 [(7, .int (iI (k))), (3, .long (lI (r))), (5, .long (lI (cq))), (1, .long (lI (q))), (0, .ref (m))] → W p l e ({ frames := 1, cells := 0, slots := 0, locals := 20 } : Room) s mi args below meth c H locs 0 0 Q (F0 mi 29 ls []) := by
    intro fu
    induction fu with
    | zero =>
      intro k r cq hfu hk hr_ hc_ g H locs hX hM ho ls hl
      exfalso
      omega
    | succ fu ih29 =>
      intro k r cq hfu hk hr_ hc_ g H locs hX hM ho ls hl
      have hr1 := Int.emod_nonneg (p10 ev k.toNat) (show q ≠ 0 by omega)
      have hr2 := Int.emod_lt_of_pos (p10 ev k.toNat) (show 0 < q by omega)
      refine lv_iload hx hb (pc := 29) dX3_chanceOf_29 (lv_at hl 0 rfl) ?_
      refine j_bipush hC (pc := 31) dX3_chanceOf_31 (by decide) ?_
      refine j_icmp_ge hC (pc := 33) 64 dX3_chanceOf_33 (by decide) (by omega) (fun c3 => ?_) (fun c3 => ?_)
      · skip
        refine lv_lload hx hb (pc := 64) dX3_chanceOf_64 (lv_at hl 2 rfl) ?_
        refine j_l2i hC (pc := 66) dX3_chanceOf_66 ?_
        subst hQ
        exact j_iret hC (pc := 67) hX hr hlk (Nat.le_refl _) (Nat.le_refl _) dX3_chanceOf_67 ⟨rfl, _, _, hM, ho, ⟨by rw [hc_, show k.toNat = 6 by omega]; rfl, rfl, rfl⟩⟩
      · skip
        refine j_ldc2 hC (pc := 36) (z := 10) q1151 dX3_chanceOf_36 rfl ?_
        refine lv_lload_n hx hb (pc := 39) dX3_chanceOf_39 rfl (lv_at hl 1 rfl) ?_
        refine j_lmul hC (pc := 40) dX3_chanceOf_40 ?_
        refine lv_lstore_n (lv' := [(3, .long (lI (10 * r))), (7, .int (iI (k))), (5, .long (lI (cq))), (1, .long (lI (q))), (0, .ref (m))]) hx hb (pc := 41) dX3_chanceOf_41 rfl hl (by decide) rfl (fun ls hl => ?_)
        refine j_ldc2 hC (pc := 42) (z := 10) q1151 dX3_chanceOf_42 rfl ?_
        refine lv_lload hx hb (pc := 45) dX3_chanceOf_45 (lv_at hl 2 rfl) ?_
        refine j_lmul hC (pc := 47) dX3_chanceOf_47 ?_
        refine lv_lload_n hx hb (pc := 48) dX3_chanceOf_48 rfl (lv_at hl 0 rfl) ?_
        refine lv_lload_n hx hb (pc := 49) dX3_chanceOf_49 rfl (lv_at hl 3 rfl) ?_
        refine j_ldiv hC (pc := 50) dX3_chanceOf_50 (by omega) ?_
        refine j_ladd hC (pc := 51) dX3_chanceOf_51 ?_
        refine lv_lstore (lv' := [(5, .long (lI ((10 * cq) + ((10 * r) / q)))), (3, .long (lI (10 * r))), (7, .int (iI (k))), (1, .long (lI (q))), (0, .ref (m))]) hx hb (pc := 52) dX3_chanceOf_52 hl (by decide) rfl (fun ls hl => ?_)
        refine lv_lload_n hx hb (pc := 54) dX3_chanceOf_54 rfl (lv_at hl 1 rfl) ?_
        refine lv_lload_n hx hb (pc := 55) dX3_chanceOf_55 rfl (lv_at hl 3 rfl) ?_
        refine j_lrem hC (pc := 56) dX3_chanceOf_56 (by omega) ?_
        refine lv_lstore_n (lv' := [(3, .long (lI ((10 * r) % q))), (5, .long (lI ((10 * cq) + ((10 * r) / q)))), (7, .int (iI (k))), (1, .long (lI (q))), (0, .ref (m))]) hx hb (pc := 57) dX3_chanceOf_57 rfl hl (by decide) rfl (fun ls hl => ?_)
        refine j_iinc hC (pc := 58) (lv' := [(7, .int (iI (k + 1))), (3, .long (lI ((10 * r) % q))), (5, .long (lI ((10 * cq) + ((10 * r) / q)))), (1, .long (lI (q))), (0, .ref (m))]) dX3_chanceOf_58 hl (k := 2) rfl (by decide) rfl (fun ls hl => ?_)
        refine j_goto hC (pc := 61) 29 dX3_chanceOf_61 (by decide) ?_
        exact ih29 (k + 1) ((10 * r) % q) ((10 * cq) + ((10 * r) / q)) (by omega) (by omega) (by rw [hr_, show (k + 1).toNat = k.toNat + 1 by omega, p10_s]; exact (dig_s hqr.1).2) (by rw [hc_, hr_, show (k + 1).toNat = k.toNat + 1 by omega, p10_s]; exact (dig_s hqr.1).1) _ _ _ hX hM ho ls (lv_sub hl [0, 1, 2, 3, 4] rfl)
  exact L29 ((6 - 0 : Int).toNat + 1) 0 (p10 ev 0 % q) (p10 ev 0 / q) (by omega) (by omega) rfl rfl _ _ _ hX hM ho ls (lv_sub hl [0, 1, 2, 3, 4] rfl)

set_option maxHeartbeats 4000000 in
set_option maxRecDepth 100000 in
theorem m3_slots (D : va_G) (T N : Nat → Nat) (l : Launch) {m : Nat} (F : Nat → Int) (V : Nat → Int → Int)  (hI : SI F V) : MMi D T N l yX3_slots (ws_ yX3_slots cX3_slots 1 (some .int)) ({ frames := 1, cells := 0, slots := 0, locals := 22 } : Room) m [] F V (mP (op_slots F V)) := by
  intro g0 n hM
  refine j_start (by decide) (Nat.le_of_ble_eq_true rfl) ?_
  intro p e s mi args below meth c hC hr hlk hnm hX ls hl
  have hC : Ct D T N (gA g0 n) p s mi args c cX3_slots RX3 1 := hC
  have hx := hC.x
  have hb := hC.b
  have ho : off g0 g0 m 27 := off.rf
  generalize hQ : MQ below _ args s 0 0 (gA g0 n) = Q
  have hl : lv_has ls 1 [(0, .ref (m))] := hl
  have hn := hI.nums
  refine lv_aload_n hx hb (pc := 0) dX3_slots_0 rfl (lv_at hl 0 rfl) ?_
  refine j_iconst hC (pc := 1) dX3_slots_1 ?_
  refine M_callv (As := [.int (iI (0))]) (rest := []) hC hX hM ho (m3_sets D T N l _ _ 0 (by omega)) (cwV 1 hC.ts (lw_V q1064 q1066 qs18 q46 q1067) rfl rfl rfl (by decide +kernel) ⟨Nat.le_of_ble_eq_true rfl, Nat.le_of_ble_eq_true rfl⟩) rfl hl.1 (Nat.le_of_ble_eq_true rfl) dX3_slots_2 ⟨Nat.zero_le _, Nat.zero_le _⟩ (fun F2 V2 g H locs hp hX hM ho => ?_)
  have hP : PW F V (V 2) 0 (F 5) F2 V2 := ⟨⟨hI, hI.w2, (by omega), hI.nums.2.2.2.1⟩, ⟨by rw [hp.1]; exact ch.rf.up 8 _ (by decide), hp.2.1, by rw [hp.1]; rfl⟩, fun j a b => (hp.2.2 j a b).1, fun j a b => (hp.2.2 j a b).2⟩
  refine lv_aload_n hx hb (pc := 5) dX3_slots_5 rfl (lv_at hl 0 rfl) ?_
  refine M_callv (As := []) (rest := []) hC hX hM ho (m3_begins D T N l _ _ hP.I hP.W) (cwV 0 hC.ts (lw_V q1068 q1070 qs19 q46 q1071) rfl rfl rfl (by decide +kernel) ⟨Nat.le_of_ble_eq_true rfl, Nat.le_of_ble_eq_true rfl⟩) rfl hl.1 (Nat.le_of_ble_eq_true rfl) dX3_slots_6 ⟨Nat.zero_le _, Nat.zero_le _⟩ (fun F4 V4 g H locs hp hX hM ho => ?_)
  have hbw := wk.of hP.su hP.sl hP.I hP.W hP.2.2.1 hP.1.2.2.1 hP.2.2.2 hP.st hp
  have hb_1 := hp.1
  have hb_2 := hp.2.1
  refine lv_aload_n hx hb (pc := 9) dX3_slots_9 rfl (lv_at hl 0 rfl) ?_
  refine M_calli (As := []) (rest := []) hC hX hM ho (m3_slotsNow D T N l _ _) (cwV 0 hC.ts (lw_V q1072 q1074 qs20 q46 q1075) rfl rfl rfl (by decide +kernel) ⟨Nat.le_of_ble_eq_true rfl, Nat.le_of_ble_eq_true rfl⟩) rfl hl.1 (Nat.le_of_ble_eq_true rfl) dX3_slots_10 ⟨Nat.zero_le _, Nat.zero_le _⟩ (fun r5 F6 V6 g H locs hp hX hM ho => ?_)
  obtain ⟨hp, hF_, hV_⟩ := hp
  rw [hF_, hV_] at hM
  subst hQ
  exact j_iret hC (pc := 13) hX hr hlk (Nat.le_refl _) (Nat.le_refl _) dX3_slots_13 ⟨rfl, _, _, hM, ho, ⟨by rw [hp, hbw.2.1, hb_1 3 (by decide), hP.2.1.1 3 (by decide)]; rfl, ch.tr hP.2.1.1 hb_1 (by decide), ch.tr hP.2.1.2.1 hb_2 (by decide)⟩⟩

set_option maxHeartbeats 4000000 in
set_option maxRecDepth 100000 in
theorem m3_all (D : va_G) (T N : Nat → Nat) (l : Launch) {m : Nat} (F : Nat → Int) (V : Nat → Int → Int)  (hI : SI F V) : MMl D T N l yX3_all (ws_ yX3_all cX3_all 1 (some .long)) ({ frames := 5, cells := 0, slots := 0, locals := 122 } : Room) m [] F V (mP (op_all F V)) := by
  intro g0 n hM
  refine j_start (by decide) (Nat.le_of_ble_eq_true rfl) ?_
  intro p e s mi args below meth c hC hr hlk hnm hX ls hl
  have hC : Ct D T N (gA g0 n) p s mi args c cX3_all RX3 1 := hC
  have hx := hC.x
  have hb := hC.b
  have ho : off g0 g0 m 27 := off.rf
  generalize hQ : MQ below _ args s 0 0 (gA g0 n) = Q
  have hl : lv_has ls 1 [(0, .ref (m))] := hl
  have hn := hI.nums
  refine lv_aload_n hx hb (pc := 0) dX3_all_0 rfl (lv_at hl 0 rfl) ?_
  refine M_calli (As := []) (rest := []) hC hX hM ho (m3_worksAsItIs D T N l _ _ hI) (cwV 0 hC.ts (lw_V q1080 q1082 qs21 q46 q1083) rfl rfl rfl (by decide +kernel) ⟨Nat.le_of_ble_eq_true rfl, Nat.le_of_ble_eq_true rfl⟩) rfl hl.1 (Nat.le_of_ble_eq_true rfl) dX3_all_1 ⟨Nat.zero_le _, Nat.zero_le _⟩ (fun r1 F2 V2 g H locs hp hX hM ho => ?_)
  have hw := hp
  have hr5 := hw.two
  refine j_if_eq hC (pc := 4) 15 dX3_all_4 (by decide) (by omega) (fun c3 => ?_) (fun c3 => ?_)
  · skip
    refine lv_aload_n hx hb (pc := 15) dX3_all_15 rfl (lv_at hl 0 rfl) ?_
    refine M_get hC hX hM (pc := 16) 24 (by decide) q912 rfl (v := .ref (m + 16)) rfl dX3_all_16 ?_
    refine lv_aload_n hx hb (pc := 19) dX3_all_19 rfl (lv_at hl 0 rfl) ?_
    refine M_calli (As := []) (rest := [.ref (m + 16)]) hC hX hM ho (m3_slotsNow D T N l _ _) (cwV 0 hC.ts (lw_V q1072 q1074 qs20 q46 q1075) rfl rfl rfl (by decide +kernel) ⟨Nat.le_of_ble_eq_true rfl, Nat.le_of_ble_eq_true rfl⟩) rfl hl.1 (Nat.le_of_ble_eq_true rfl) dX3_all_20 ⟨Nat.zero_le _, Nat.zero_le _⟩ (fun r4 F5 V5 g H locs hp hX hM ho => ?_)
    obtain ⟨hp, hF_, hV_⟩ := hp
    rw [hF_, hV_] at hM
    refine j_eqi (b := slS F (suN F V)) (hp.trans hw.2.1) ?_
    have hsl_ := (hw.fine (by omega)).2.1
    refine M_lald hC hX hM (pc := 23) 16 (by decide) (L := 24) ⟨rfl, by decide⟩ ((fun z => ⟨z.1, Int.lt_of_le_of_lt z.2 (by decide)⟩) (hw.fine (by omega)).2.1) (z := V2 16 (slS F (suN F V))) rfl dX3_all_23 ?_
    subst hQ
    exact j_lret hC (pc := 24) hX hr hlk (Nat.le_refl _) (Nat.le_refl _) dX3_all_24 ⟨rfl, _, _, hM, ho, ⟨by show _ = (op_all F V).1; unfold op_all; rw [if_neg (by rw [show suN F V = suS F V (V 2) 0 (F 5) from rfl, (hw.fine (by omega)).1]; decide)]; exact (hw.fine (by omega)).2.2.2.2.1, ch.wd hw.1.1 (by decide), ch.wd hw.1.2 (by decide)⟩⟩
  · skip
    refine j_bipush hC (pc := 7) dX3_all_7 (by decide) ?_
    refine S_calll (As := [.int (iI (-5))]) (rest := []) hC hX (m3_no D T N l (-5) (by decide)) (va_cwS 1 hC.ts (lw_S q1135 q1136 q46 q1137) rfl rfl rfl (by decide +kernel) ⟨Nat.le_of_ble_eq_true rfl, Nat.le_of_ble_eq_true rfl⟩) rfl hl.1 (Nat.le_of_ble_eq_true rfl) dX3_all_9 ⟨Nat.zero_le _, Nat.zero_le _⟩ (fun r6 H locs hp hX => ?_)
    refine j_goto hC (pc := 12) 24 dX3_all_12 (by decide) ?_
    subst hQ
    exact j_lret hC (pc := 24) hX hr hlk (Nat.le_refl _) (Nat.le_refl _) dX3_all_24 ⟨rfl, _, _, hM, ho, ⟨by show _ = (op_all F V).1; unfold op_all; rw [if_pos (show wideI (suN F V) (slS F (suN F V)) = 1 from (hw.wide (by omega)).2)]; exact hp, ch.wd hw.1.1 (by decide), ch.wd hw.1.2 (by decide)⟩⟩

set_option maxHeartbeats 4000000 in
set_option maxRecDepth 100000 in
theorem m3_ways (D : va_G) (T N : Nat → Nat) (l : Launch) {m : Nat} (F : Nat → Int) (V : Nat → Int → Int) (ev : Int) (hI : SI F V) (hg : (-2147483648 ≤ ev ∧ ev ≤ 2147483647)) : MMl D T N l yX3_ways (ws_ yX3_ways cX3_ways 2 (some .long)) ({ frames := 5, cells := 0, slots := 0, locals := 122 } : Room) m [.int (iI (ev))] F V (mP (op_ways F V ev)) := by
  intro g0 n hM
  refine j_start (by decide) (Nat.le_of_ble_eq_true rfl) ?_
  intro p e s mi args below meth c hC hr hlk hnm hX ls hl
  have hC : Ct D T N (gA g0 n) p s mi args c cX3_ways RX3 2 := hC
  have hx := hC.x
  have hb := hC.b
  have ho : off g0 g0 m 27 := off.rf
  generalize hQ : MQ below _ args s 0 0 (gA g0 n) = Q
  have hl : lv_has ls 2 [(0, .ref (m)), (1, .int (iI (ev)))] := hl
  have hn := hI.nums
  refine lv_iload_n hx hb (pc := 0) dX3_ways_0 rfl (lv_at hl 1 rfl) ?_
  refine j_i2l hC (pc := 1) dX3_ways_1 (by omega) ?_
  refine j_lconst hC (pc := 2) (w := 0) dX3_ways_2 rfl ?_
  refine j_ldc2 hC (pc := 3) (z := 2) q1019 dX3_ways_3 rfl ?_
  refine S_calli (As := [.long (lI (ev)), .long (lI (0)), .long (lI (2))]) (rest := []) hC hX (m3_in D T N l ev 0 2 (by omega)) (va_cwS 3 hC.ts (lw_S q1020 q1021 q46 q1022) rfl rfl rfl (by decide +kernel) ⟨Nat.le_of_ble_eq_true rfl, Nat.le_of_ble_eq_true rfl⟩) rfl hl.1 (Nat.le_of_ble_eq_true rfl) dX3_ways_6 ⟨Nat.zero_le _, Nat.zero_le _⟩ (fun r1 H locs hp hX => ?_)
  have hq_r1 := inF_of hp
  refine j_if_ne hC (pc := 9) 18 dX3_ways_9 (by decide) (by omega) (fun c2 => ?_) (fun c2 => ?_)
  · skip
    refine lv_aload_n hx hb (pc := 18) dX3_ways_18 rfl (lv_at hl 0 rfl) ?_
    refine M_calli (As := []) (rest := []) hC hX hM ho (m3_worksAsItIs D T N l _ _ hI) (cwV 0 hC.ts (lw_V q1080 q1082 qs21 q46 q1083) rfl rfl rfl (by decide +kernel) ⟨Nat.le_of_ble_eq_true rfl, Nat.le_of_ble_eq_true rfl⟩) rfl hl.1 (Nat.le_of_ble_eq_true rfl) dX3_ways_19 ⟨Nat.zero_le _, Nat.zero_le _⟩ (fun r3 F4 V4 g H locs hp hX hM ho => ?_)
    have hw := hp
    have hr5 := hw.two
    refine j_if_eq hC (pc := 22) 33 dX3_ways_22 (by decide) (by omega) (fun c5 => ?_) (fun c5 => ?_)
    · skip
      refine lv_aload_n hx hb (pc := 33) dX3_ways_33 rfl (lv_at hl 0 rfl) ?_
      refine M_get hC hX hM (pc := 34) 20 (by decide) q908 rfl (v := .ref (m + 13)) rfl dX3_ways_34 ?_
      refine lv_iload_n hx hb (pc := 37) dX3_ways_37 rfl (lv_at hl 1 rfl) ?_
      refine M_lald hC hX hM (pc := 38) 13 (by decide) (L := 3) ⟨rfl, by decide⟩ (by omega) (z := V4 13 ev) rfl dX3_ways_38 ?_
      subst hQ
      exact j_lret hC (pc := 39) hX hr hlk (Nat.le_refl _) (Nat.le_refl _) dX3_ways_39 ⟨rfl, _, _, hM, ho, ⟨by show _ = (op_ways F V ev).1; unfold op_ways; rw [if_pos (by omega)]; rw [if_neg (by rw [show suN F V = suS F V (V 2) 0 (F 5) from rfl, (hw.fine (by omega)).1]; decide)]; exact (hw.fine (by omega)).2.2.2.1.1 ev (by omega) (by omega), ch.wd hw.1.1 (by decide), ch.wd hw.1.2 (by decide)⟩⟩
    · skip
      refine j_bipush hC (pc := 25) dX3_ways_25 (by decide) ?_
      refine S_calll (As := [.int (iI (-5))]) (rest := []) hC hX (m3_no D T N l (-5) (by decide)) (va_cwS 1 hC.ts (lw_S q1135 q1136 q46 q1137) rfl rfl rfl (by decide +kernel) ⟨Nat.le_of_ble_eq_true rfl, Nat.le_of_ble_eq_true rfl⟩) rfl hl.1 (Nat.le_of_ble_eq_true rfl) dX3_ways_27 ⟨Nat.zero_le _, Nat.zero_le _⟩ (fun r6 H locs hp hX => ?_)
      refine j_goto hC (pc := 30) 39 dX3_ways_30 (by decide) ?_
      subst hQ
      exact j_lret hC (pc := 39) hX hr hlk (Nat.le_refl _) (Nat.le_refl _) dX3_ways_39 ⟨rfl, _, _, hM, ho, ⟨by show _ = (op_ways F V ev).1; unfold op_ways; rw [if_pos (by omega)]; rw [if_pos (show wideI (suN F V) (slS F (suN F V)) = 1 from (hw.wide (by omega)).2)]; exact hp, ch.wd hw.1.1 (by decide), ch.wd hw.1.2 (by decide)⟩⟩
  · skip
    refine j_bipush hC (pc := 12) dX3_ways_12 (by decide) ?_
    refine S_calll (As := [.int (iI (-2))]) (rest := []) hC hX (m3_no D T N l (-2) (by decide)) (va_cwS 1 hC.ts (lw_S q1135 q1136 q46 q1137) rfl rfl rfl (by decide +kernel) ⟨Nat.le_of_ble_eq_true rfl, Nat.le_of_ble_eq_true rfl⟩) rfl hl.1 (Nat.le_of_ble_eq_true rfl) dX3_ways_14 ⟨Nat.zero_le _, Nat.zero_le _⟩ (fun r7 H locs hp hX => ?_)
    subst hQ
    exact j_lret hC (pc := 17) hX hr hlk (Nat.le_refl _) (Nat.le_refl _) dX3_ways_17 ⟨rfl, _, _, hM, ho, ⟨by show _ = (op_ways F V ev).1; unfold op_ways; rw [if_neg (by omega)]; exact hp, ch.rf, ch.rf⟩⟩

set_option maxHeartbeats 4000000 in
set_option maxRecDepth 100000 in
theorem m3_chance (D : va_G) (T N : Nat → Nat) (l : Launch) {m : Nat} (F : Nat → Int) (V : Nat → Int → Int)  (hI : SI F V) : MMi D T N l yX3_chance (ws_ yX3_chance cX3_chance 1 (some .int)) ({ frames := 5, cells := 0, slots := 0, locals := 122 } : Room) m [] F V (mP (op_chance F V)) := by
  intro g0 n hM
  refine j_start (by decide) (Nat.le_of_ble_eq_true rfl) ?_
  intro p e s mi args below meth c hC hr hlk hnm hX ls hl
  have hC : Ct D T N (gA g0 n) p s mi args c cX3_chance RX3 1 := hC
  have hx := hC.x
  have hb := hC.b
  have ho : off g0 g0 m 27 := off.rf
  generalize hQ : MQ below _ args s 0 0 (gA g0 n) = Q
  have hl : lv_has ls 1 [(0, .ref (m))] := hl
  have hn := hI.nums
  refine lv_aload_n hx hb (pc := 0) dX3_chance_0 rfl (lv_at hl 0 rfl) ?_
  refine M_calli (As := []) (rest := []) hC hX hM ho (m3_worksAsItIs D T N l _ _ hI) (cwV 0 hC.ts (lw_V q1080 q1082 qs21 q46 q1083) rfl rfl rfl (by decide +kernel) ⟨Nat.le_of_ble_eq_true rfl, Nat.le_of_ble_eq_true rfl⟩) rfl hl.1 (Nat.le_of_ble_eq_true rfl) dX3_chance_1 ⟨Nat.zero_le _, Nat.zero_le _⟩ (fun r1 F2 V2 g H locs hp hX hM ho => ?_)
  have hw := hp
  have hr5 := hw.two
  refine j_if_eq hC (pc := 4) 12 dX3_chance_4 (by decide) (by omega) (fun c3 => ?_) (fun c3 => ?_)
  · skip
    refine lv_aload_n hx hb (pc := 12) dX3_chance_12 rfl (lv_at hl 0 rfl) ?_
    refine M_calli (As := []) (rest := []) hC hX hM ho (m3_chanceOf D T N l _ _ _ _ _ hw.2.1 (hw.fine (by omega)).2.1 (hw.fine (by omega)).2.2.2.2.1 rfl (hw.fine (by omega)).2.2.2.2.2.1 (hw.fine (by omega)).2.2.2.2.2.2) (cwV 0 hC.ts (lw_V q1147 q1149 qs34 q46 q1150) rfl rfl rfl (by decide +kernel) ⟨Nat.le_of_ble_eq_true rfl, Nat.le_of_ble_eq_true rfl⟩) rfl hl.1 (Nat.le_of_ble_eq_true rfl) dX3_chance_13 ⟨Nat.zero_le _, Nat.zero_le _⟩ (fun r4 F5 V5 g H locs hp hX hM ho => ?_)
    obtain ⟨hp, hF_, hV_⟩ := hp
    rw [hF_, hV_] at hM
    subst hQ
    exact j_iret hC (pc := 16) hX hr hlk (Nat.le_refl _) (Nat.le_refl _) dX3_chance_16 ⟨rfl, _, _, hM, ho, ⟨by rw [hp]; exact (hw.odd (by omega)).symm, ch.wd hw.1.1 (by decide), ch.wd hw.1.2 (by decide)⟩⟩
  · skip
    refine j_bipush hC (pc := 7) dX3_chance_7 (by decide) ?_
    refine j_goto hC (pc := 9) 16 dX3_chance_9 (by decide) ?_
    subst hQ
    exact j_iret hC (pc := 16) hX hr hlk (Nat.le_refl _) (Nat.le_refl _) dX3_chance_16 ⟨rfl, _, _, hM, ho, ⟨(hw.wide (by omega)).1.symm, ch.wd hw.1.1 (by decide), ch.wd hw.1.2 (by decide)⟩⟩

set_option maxHeartbeats 4000000 in
set_option maxRecDepth 100000 in
theorem m3_left (D : va_G) (T N : Nat → Nat) (l : Launch) {m : Nat} (F : Nat → Int) (V : Nat → Int → Int) (sd pl li u : Int) (hI : SI F V) (hg : (-2147483648 ≤ sd ∧ sd ≤ 2147483647) ∧ (-2147483648 ≤ pl ∧ pl ≤ 2147483647) ∧ (-2147483648 ≤ li ∧ li ≤ 2147483647) ∧ (-2147483648 ≤ u ∧ u ≤ 2147483647)) : MMl D T N l yX3_left (ws_ yX3_left cX3_left 5 (some .long)) ({ frames := 5, cells := 0, slots := 0, locals := 122 } : Room) m [.int (iI (sd)), .int (iI (pl)), .int (iI (li)), .int (iI (u))] F V (mP (op_left F V sd pl li u)) := by
  intro g0 n hM
  refine j_start (by decide) (Nat.le_of_ble_eq_true rfl) ?_
  intro p e s mi args below meth c hC hr hlk hnm hX ls hl
  have hC : Ct D T N (gA g0 n) p s mi args c cX3_left RX3 5 := hC
  have hx := hC.x
  have hb := hC.b
  have ho : off g0 g0 m 27 := off.rf
  generalize hQ : MQ below _ args s 0 0 (gA g0 n) = Q
  have hl : lv_has ls 5 [(0, .ref (m)), (1, .int (iI (sd))), (2, .int (iI (pl))), (3, .int (iI (li))), (4, .int (iI (u)))] := hl
  have hn := hI.nums
  refine lv_iload_n hx hb (pc := 0) dX3_left_0 rfl (lv_at hl 1 rfl) ?_
  refine j_i2l hC (pc := 1) dX3_left_1 (by omega) ?_
  refine j_lconst hC (pc := 2) (w := 0) dX3_left_2 rfl ?_
  refine j_lconst hC (pc := 3) (w := 1) dX3_left_3 rfl ?_
  refine S_calli (As := [.long (lI (sd)), .long (lI (0)), .long (lI (1))]) (rest := []) hC hX (m3_in D T N l sd 0 1 (by omega)) (va_cwS 3 hC.ts (lw_S q1020 q1021 q46 q1022) rfl rfl rfl (by decide +kernel) ⟨Nat.le_of_ble_eq_true rfl, Nat.le_of_ble_eq_true rfl⟩) rfl hl.1 (Nat.le_of_ble_eq_true rfl) dX3_left_4 ⟨Nat.zero_le _, Nat.zero_le _⟩ (fun r1 H locs hp hX => ?_)
  have hq_r1 := inF_of hp
  refine j_if_eq hC (pc := 7) 59 dX3_left_7 (by decide) (by omega) (fun c2 => ?_) (fun c2 => ?_)
  · skip
    refine j_bipush hC (pc := 59) dX3_left_59 (by decide) ?_
    refine S_calll (As := [.int (iI (-2))]) (rest := []) hC hX (m3_no D T N l (-2) (by decide)) (va_cwS 1 hC.ts (lw_S q1135 q1136 q46 q1137) rfl rfl rfl (by decide +kernel) ⟨Nat.le_of_ble_eq_true rfl, Nat.le_of_ble_eq_true rfl⟩) rfl hl.1 (Nat.le_of_ble_eq_true rfl) dX3_left_61 ⟨Nat.zero_le _, Nat.zero_le _⟩ (fun r3 H locs hp hX => ?_)
    subst hQ
    exact j_lret hC (pc := 64) hX hr hlk (Nat.le_refl _) (Nat.le_refl _) dX3_left_64 ⟨rfl, _, _, hM, ho, ⟨by show _ = (op_left F V sd pl li u).1; unfold op_left; rw [if_neg (by omega)]; exact hp, ch.rf, ch.rf⟩⟩
  · skip
    refine lv_iload_n hx hb (pc := 10) dX3_left_10 rfl (lv_at hl 2 rfl) ?_
    refine j_i2l hC (pc := 11) dX3_left_11 (by omega) ?_
    refine j_lconst hC (pc := 12) (w := 0) dX3_left_12 rfl ?_
    refine j_ldc2 hC (pc := 13) (z := 2) q1019 dX3_left_13 rfl ?_
    refine S_calli (As := [.long (lI (pl)), .long (lI (0)), .long (lI (2))]) (rest := []) hC hX (m3_in D T N l pl 0 2 (by omega)) (va_cwS 3 hC.ts (lw_S q1020 q1021 q46 q1022) rfl rfl rfl (by decide +kernel) ⟨Nat.le_of_ble_eq_true rfl, Nat.le_of_ble_eq_true rfl⟩) rfl hl.1 (Nat.le_of_ble_eq_true rfl) dX3_left_16 ⟨Nat.zero_le _, Nat.zero_le _⟩ (fun r4 H locs hp hX => ?_)
    have hq_r4 := inF_of hp
    refine j_if_eq hC (pc := 19) 59 dX3_left_19 (by decide) (by omega) (fun c5 => ?_) (fun c5 => ?_)
    · skip
      refine j_bipush hC (pc := 59) dX3_left_59 (by decide) ?_
      refine S_calll (As := [.int (iI (-2))]) (rest := []) hC hX (m3_no D T N l (-2) (by decide)) (va_cwS 1 hC.ts (lw_S q1135 q1136 q46 q1137) rfl rfl rfl (by decide +kernel) ⟨Nat.le_of_ble_eq_true rfl, Nat.le_of_ble_eq_true rfl⟩) rfl hl.1 (Nat.le_of_ble_eq_true rfl) dX3_left_61 ⟨Nat.zero_le _, Nat.zero_le _⟩ (fun r6 H locs hp hX => ?_)
      subst hQ
      exact j_lret hC (pc := 64) hX hr hlk (Nat.le_refl _) (Nat.le_refl _) dX3_left_64 ⟨rfl, _, _, hM, ho, ⟨by show _ = (op_left F V sd pl li u).1; unfold op_left; rw [if_neg (by omega)]; exact hp, ch.rf, ch.rf⟩⟩
    · skip
      refine lv_iload_n hx hb (pc := 22) dX3_left_22 rfl (lv_at hl 3 rfl) ?_
      refine j_i2l hC (pc := 23) dX3_left_23 (by omega) ?_
      refine j_lconst hC (pc := 24) (w := 0) dX3_left_24 rfl ?_
      refine j_ldc2 hC (pc := 25) (z := 20) q1023 dX3_left_25 rfl ?_
      refine S_calli (As := [.long (lI (li)), .long (lI (0)), .long (lI (20))]) (rest := []) hC hX (m3_in D T N l li 0 20 (by omega)) (va_cwS 3 hC.ts (lw_S q1020 q1021 q46 q1022) rfl rfl rfl (by decide +kernel) ⟨Nat.le_of_ble_eq_true rfl, Nat.le_of_ble_eq_true rfl⟩) rfl hl.1 (Nat.le_of_ble_eq_true rfl) dX3_left_28 ⟨Nat.zero_le _, Nat.zero_le _⟩ (fun r7 H locs hp hX => ?_)
      have hq_r7 := inF_of hp
      refine j_if_eq hC (pc := 31) 59 dX3_left_31 (by decide) (by omega) (fun c8 => ?_) (fun c8 => ?_)
      · skip
        refine j_bipush hC (pc := 59) dX3_left_59 (by decide) ?_
        refine S_calll (As := [.int (iI (-2))]) (rest := []) hC hX (m3_no D T N l (-2) (by decide)) (va_cwS 1 hC.ts (lw_S q1135 q1136 q46 q1137) rfl rfl rfl (by decide +kernel) ⟨Nat.le_of_ble_eq_true rfl, Nat.le_of_ble_eq_true rfl⟩) rfl hl.1 (Nat.le_of_ble_eq_true rfl) dX3_left_61 ⟨Nat.zero_le _, Nat.zero_le _⟩ (fun r9 H locs hp hX => ?_)
        subst hQ
        exact j_lret hC (pc := 64) hX hr hlk (Nat.le_refl _) (Nat.le_refl _) dX3_left_64 ⟨rfl, _, _, hM, ho, ⟨by show _ = (op_left F V sd pl li u).1; unfold op_left; rw [if_neg (by omega)]; exact hp, ch.rf, ch.rf⟩⟩
      · skip
        refine lv_iload hx hb (pc := 34) dX3_left_34 (lv_at hl 4 rfl) ?_
        refine j_i2l hC (pc := 36) dX3_left_36 (by omega) ?_
        refine j_lconst hC (pc := 37) (w := 0) dX3_left_37 rfl ?_
        refine j_lconst hC (pc := 38) (w := 1) dX3_left_38 rfl ?_
        refine S_calli (As := [.long (lI (u)), .long (lI (0)), .long (lI (1))]) (rest := []) hC hX (m3_in D T N l u 0 1 (by omega)) (va_cwS 3 hC.ts (lw_S q1020 q1021 q46 q1022) rfl rfl rfl (by decide +kernel) ⟨Nat.le_of_ble_eq_true rfl, Nat.le_of_ble_eq_true rfl⟩) rfl hl.1 (Nat.le_of_ble_eq_true rfl) dX3_left_39 ⟨Nat.zero_le _, Nat.zero_le _⟩ (fun r10 H locs hp hX => ?_)
        have hq_r10 := inF_of hp
        refine j_if_eq hC (pc := 42) 59 dX3_left_42 (by decide) (by omega) (fun c11 => ?_) (fun c11 => ?_)
        · skip
          refine j_bipush hC (pc := 59) dX3_left_59 (by decide) ?_
          refine S_calll (As := [.int (iI (-2))]) (rest := []) hC hX (m3_no D T N l (-2) (by decide)) (va_cwS 1 hC.ts (lw_S q1135 q1136 q46 q1137) rfl rfl rfl (by decide +kernel) ⟨Nat.le_of_ble_eq_true rfl, Nat.le_of_ble_eq_true rfl⟩) rfl hl.1 (Nat.le_of_ble_eq_true rfl) dX3_left_61 ⟨Nat.zero_le _, Nat.zero_le _⟩ (fun r12 H locs hp hX => ?_)
          subst hQ
          exact j_lret hC (pc := 64) hX hr hlk (Nat.le_refl _) (Nat.le_refl _) dX3_left_64 ⟨rfl, _, _, hM, ho, ⟨by show _ = (op_left F V sd pl li u).1; unfold op_left; rw [if_neg (by omega)]; exact hp, ch.rf, ch.rf⟩⟩
        · skip
          refine lv_aload_n hx hb (pc := 45) dX3_left_45 rfl (lv_at hl 0 rfl) ?_
          refine M_get hC hX hM (pc := 46) 2 (by decide) q890 rfl (v := .ref (m + 2)) rfl dX3_left_46 ?_
          refine j_iconst hC (pc := 49) dX3_left_49 ?_
          refine lv_iload_n hx hb (pc := 50) dX3_left_50 rfl (lv_at hl 1 rfl) ?_
          refine j_imul hC (pc := 51) dX3_left_51 ?_
          refine lv_iload_n hx hb (pc := 52) dX3_left_52 rfl (lv_at hl 2 rfl) ?_
          refine j_iadd hC (pc := 53) dX3_left_53 ?_
          refine M_iald hC hX hM (pc := 54) 2 (by decide) (L := 6) ⟨rfl, by decide⟩ (by omega) (z := V 2 ((3 * sd) + pl)) rfl dX3_left_54 ?_
          have h2_ := hI.i2 (i := 3 * sd + pl) (by omega)
          refine j_iconst hC (pc := 55) dX3_left_55 ?_
          refine j_icmp_ne hC (pc := 56) 65 dX3_left_56 (by decide) (by omega) (fun c13 => ?_) (fun c13 => ?_)
          · skip
            refine lv_aload_n hx hb (pc := 65) dX3_left_65 rfl (lv_at hl 0 rfl) ?_
            refine M_calli (As := []) (rest := []) hC hX hM ho (m3_worksAsItIs D T N l _ _ hI) (cwV 0 hC.ts (lw_V q1080 q1082 qs21 q46 q1083) rfl rfl rfl (by decide +kernel) ⟨Nat.le_of_ble_eq_true rfl, Nat.le_of_ble_eq_true rfl⟩) rfl hl.1 (Nat.le_of_ble_eq_true rfl) dX3_left_66 ⟨Nat.zero_le _, Nat.zero_le _⟩ (fun r14 F15 V15 g H locs hp hX hM ho => ?_)
            have hw := hp
            have hr5 := hw.two
            refine j_if_eq hC (pc := 69) 80 dX3_left_69 (by decide) (by omega) (fun c16 => ?_) (fun c16 => ?_)
            · skip
              refine lv_aload_n hx hb (pc := 80) dX3_left_80 rfl (lv_at hl 0 rfl) ?_
              refine M_get hC hX hM (pc := 81) 22 (by decide) q910 rfl (v := .ref (m + 15)) rfl dX3_left_81 ?_
              refine j_bipush hC (pc := 84) dX3_left_84 (by decide) ?_
              refine j_iconst hC (pc := 86) dX3_left_86 ?_
              refine lv_iload_n hx hb (pc := 87) dX3_left_87 rfl (lv_at hl 1 rfl) ?_
              refine j_imul hC (pc := 88) dX3_left_88 ?_
              refine lv_iload_n hx hb (pc := 89) dX3_left_89 rfl (lv_at hl 2 rfl) ?_
              refine j_iadd hC (pc := 90) dX3_left_90 ?_
              refine j_imul hC (pc := 91) dX3_left_91 ?_
              refine j_iconst hC (pc := 92) dX3_left_92 ?_
              refine lv_iload_n hx hb (pc := 93) dX3_left_93 rfl (lv_at hl 3 rfl) ?_
              refine j_imul hC (pc := 94) dX3_left_94 ?_
              refine j_iadd hC (pc := 95) dX3_left_95 ?_
              refine lv_iload hx hb (pc := 96) dX3_left_96 (lv_at hl 4 rfl) ?_
              refine j_iadd hC (pc := 98) dX3_left_98 ?_
              refine M_lald hC hX hM (pc := 99) 15 (by decide) (L := 252) ⟨rfl, by decide⟩ (by omega) (z := V15 15 (((42 * ((3 * sd) + pl)) + (2 * li)) + u)) rfl dX3_left_99 ?_
              subst hQ
              exact j_lret hC (pc := 100) hX hr hlk (Nat.le_refl _) (Nat.le_refl _) dX3_left_100 ⟨rfl, _, _, hM, ho, ⟨by show _ = (op_left F V sd pl li u).1; unfold op_left; rw [if_pos (by omega)]; rw [if_neg (by rw [show suN F V = suS F V (V 2) 0 (F 5) from rfl, (hw.fine (by omega)).1]; decide)]; exact (hw.fine (by omega)).2.2.2.1.2.2 _ (by omega) (by omega), ch.wd hw.1.1 (by decide), ch.wd hw.1.2 (by decide)⟩⟩
            · skip
              refine j_bipush hC (pc := 72) dX3_left_72 (by decide) ?_
              refine S_calll (As := [.int (iI (-5))]) (rest := []) hC hX (m3_no D T N l (-5) (by decide)) (va_cwS 1 hC.ts (lw_S q1135 q1136 q46 q1137) rfl rfl rfl (by decide +kernel) ⟨Nat.le_of_ble_eq_true rfl, Nat.le_of_ble_eq_true rfl⟩) rfl hl.1 (Nat.le_of_ble_eq_true rfl) dX3_left_74 ⟨Nat.zero_le _, Nat.zero_le _⟩ (fun r17 H locs hp hX => ?_)
              refine j_goto hC (pc := 77) 100 dX3_left_77 (by decide) ?_
              subst hQ
              exact j_lret hC (pc := 100) hX hr hlk (Nat.le_refl _) (Nat.le_refl _) dX3_left_100 ⟨rfl, _, _, hM, ho, ⟨by show _ = (op_left F V sd pl li u).1; unfold op_left; rw [if_pos (by omega)]; rw [if_pos (show wideI (suN F V) (slS F (suN F V)) = 1 from (hw.wide (by omega)).2)]; exact hp, ch.wd hw.1.1 (by decide), ch.wd hw.1.2 (by decide)⟩⟩
          · skip
            refine j_bipush hC (pc := 59) dX3_left_59 (by decide) ?_
            refine S_calll (As := [.int (iI (-2))]) (rest := []) hC hX (m3_no D T N l (-2) (by decide)) (va_cwS 1 hC.ts (lw_S q1135 q1136 q46 q1137) rfl rfl rfl (by decide +kernel) ⟨Nat.le_of_ble_eq_true rfl, Nat.le_of_ble_eq_true rfl⟩) rfl hl.1 (Nat.le_of_ble_eq_true rfl) dX3_left_61 ⟨Nat.zero_le _, Nat.zero_le _⟩ (fun r18 H locs hp hX => ?_)
            subst hQ
            exact j_lret hC (pc := 64) hX hr hlk (Nat.le_refl _) (Nat.le_refl _) dX3_left_64 ⟨rfl, _, _, hM, ho, ⟨by show _ = (op_left F V sd pl li u).1; unfold op_left; rw [if_neg (by omega)]; exact hp, ch.rf, ch.rf⟩⟩

set_option maxHeartbeats 4000000 in
set_option maxRecDepth 100000 in
theorem m3_states (D : va_G) (T N : Nat → Nat) (l : Launch) {m : Nat} (F : Nat → Int) (V : Nat → Int → Int)  (hI : SI F V) : MMi D T N l yX3_states (ws_ yX3_states cX3_states 1 (some .int)) ({ frames := 5, cells := 0, slots := 0, locals := 122 } : Room) m [] F V (mP (op_states F V)) := by
  intro g0 n hM
  refine j_start (by decide) (Nat.le_of_ble_eq_true rfl) ?_
  intro p e s mi args below meth c hC hr hlk hnm hX ls hl
  have hC : Ct D T N (gA g0 n) p s mi args c cX3_states RX3 1 := hC
  have hx := hC.x
  have hb := hC.b
  have ho : off g0 g0 m 27 := off.rf
  generalize hQ : MQ below _ args s 0 0 (gA g0 n) = Q
  have hl : lv_has ls 1 [(0, .ref (m))] := hl
  have hn := hI.nums
  refine lv_aload_n hx hb (pc := 0) dX3_states_0 rfl (lv_at hl 0 rfl) ?_
  refine M_calli (As := []) (rest := []) hC hX hM ho (m3_worksAsItIs D T N l _ _ hI) (cwV 0 hC.ts (lw_V q1080 q1082 qs21 q46 q1083) rfl rfl rfl (by decide +kernel) ⟨Nat.le_of_ble_eq_true rfl, Nat.le_of_ble_eq_true rfl⟩) rfl hl.1 (Nat.le_of_ble_eq_true rfl) dX3_states_1 ⟨Nat.zero_le _, Nat.zero_le _⟩ (fun r1 F2 V2 g H locs hp hX hM ho => ?_)
  have hw := hp
  have hr5 := hw.two
  refine j_if_eq hC (pc := 4) 12 dX3_states_4 (by decide) (by omega) (fun c3 => ?_) (fun c3 => ?_)
  · skip
    refine lv_aload_n hx hb (pc := 12) dX3_states_12 rfl (lv_at hl 0 rfl) ?_
    refine M_get hC hX hM (pc := 13) 23 (by decide) q911 rfl (v := .int (iI (F2 23))) rfl dX3_states_13 ?_
    subst hQ
    exact j_iret hC (pc := 16) hX hr hlk (Nat.le_refl _) (Nat.le_refl _) dX3_states_16 ⟨rfl, _, _, hM, ho, ⟨by show _ = (op_states F V).1; unfold op_states; rw [if_neg (by rw [show suN F V = suS F V (V 2) 0 (F 5) from rfl, (hw.fine (by omega)).1]; decide)]; exact (hw.fine (by omega)).2.2.1, ch.wd hw.1.1 (by decide), ch.wd hw.1.2 (by decide)⟩⟩
  · skip
    refine j_bipush hC (pc := 7) dX3_states_7 (by decide) ?_
    refine j_goto hC (pc := 9) 16 dX3_states_9 (by decide) ?_
    subst hQ
    exact j_iret hC (pc := 16) hX hr hlk (Nat.le_refl _) (Nat.le_refl _) dX3_states_16 ⟨rfl, _, _, hM, ho, ⟨by show _ = (op_states F V).1; unfold op_states; rw [if_pos (show wideI (suN F V) (slS F (suN F V)) = 1 from (hw.wide (by omega)).2)], ch.wd hw.1.1 (by decide), ch.wd hw.1.2 (by decide)⟩⟩

set_option maxHeartbeats 4000000 in
set_option maxRecDepth 100000 in
theorem m3_ends (D : va_G) (T N : Nat → Nat) (l : Launch) {m : Nat} (F : Nat → Int) (V : Nat → Int → Int) (k : Int) (hI : SI F V) (hg : (-2147483648 ≤ k ∧ k ≤ 2147483647)) : MMl D T N l yX3_ends (ws_ yX3_ends cX3_ends 2 (some .long)) ({ frames := 5, cells := 0, slots := 0, locals := 122 } : Room) m [.int (iI (k))] F V (mP (op_ends F V k)) := by
  intro g0 n hM
  refine j_start (by decide) (Nat.le_of_ble_eq_true rfl) ?_
  intro p e s mi args below meth c hC hr hlk hnm hX ls hl
  have hC : Ct D T N (gA g0 n) p s mi args c cX3_ends RX3 2 := hC
  have hx := hC.x
  have hb := hC.b
  have ho : off g0 g0 m 27 := off.rf
  generalize hQ : MQ below _ args s 0 0 (gA g0 n) = Q
  have hl : lv_has ls 2 [(0, .ref (m)), (1, .int (iI (k)))] := hl
  have hn := hI.nums
  refine lv_iload_n hx hb (pc := 0) dX3_ends_0 rfl (lv_at hl 1 rfl) ?_
  refine j_i2l hC (pc := 1) dX3_ends_1 (by omega) ?_
  refine j_lconst hC (pc := 2) (w := 0) dX3_ends_2 rfl ?_
  refine lv_aload_n hx hb (pc := 3) dX3_ends_3 rfl (lv_at hl 0 rfl) ?_
  refine M_get hC hX hM (pc := 4) 3 (by decide) q891 rfl (v := .int (iI (F 3))) rfl dX3_ends_4 ?_
  refine j_i2l hC (pc := 7) dX3_ends_7 (by omega) ?_
  refine S_calli (As := [.long (lI (k)), .long (lI (0)), .long (lI (F 3))]) (rest := []) hC hX (m3_in D T N l k 0 (F 3) (by omega)) (va_cwS 3 hC.ts (lw_S q1020 q1021 q46 q1022) rfl rfl rfl (by decide +kernel) ⟨Nat.le_of_ble_eq_true rfl, Nat.le_of_ble_eq_true rfl⟩) rfl hl.1 (Nat.le_of_ble_eq_true rfl) dX3_ends_8 ⟨Nat.zero_le _, Nat.zero_le _⟩ (fun r1 H locs hp hX => ?_)
  have hq_r1 := inF_of hp
  refine j_if_ne hC (pc := 11) 20 dX3_ends_11 (by decide) (by omega) (fun c2 => ?_) (fun c2 => ?_)
  · skip
    refine lv_aload_n hx hb (pc := 20) dX3_ends_20 rfl (lv_at hl 0 rfl) ?_
    refine M_calli (As := []) (rest := []) hC hX hM ho (m3_worksAsItIs D T N l _ _ hI) (cwV 0 hC.ts (lw_V q1080 q1082 qs21 q46 q1083) rfl rfl rfl (by decide +kernel) ⟨Nat.le_of_ble_eq_true rfl, Nat.le_of_ble_eq_true rfl⟩) rfl hl.1 (Nat.le_of_ble_eq_true rfl) dX3_ends_21 ⟨Nat.zero_le _, Nat.zero_le _⟩ (fun r3 F4 V4 g H locs hp hX hM ho => ?_)
    have hw := hp
    have hr5 := hw.two
    refine j_if_eq hC (pc := 24) 35 dX3_ends_24 (by decide) (by omega) (fun c5 => ?_) (fun c5 => ?_)
    · skip
      refine lv_aload_n hx hb (pc := 35) dX3_ends_35 rfl (lv_at hl 0 rfl) ?_
      refine M_get hC hX hM (pc := 36) 21 (by decide) q909 rfl (v := .ref (m + 14)) rfl dX3_ends_36 ?_
      refine lv_iload_n hx hb (pc := 39) dX3_ends_39 rfl (lv_at hl 1 rfl) ?_
      refine M_lald hC hX hM (pc := 40) 14 (by decide) (L := 7) ⟨rfl, by decide⟩ (by omega) (z := V4 14 k) rfl dX3_ends_40 ?_
      subst hQ
      exact j_lret hC (pc := 41) hX hr hlk (Nat.le_refl _) (Nat.le_refl _) dX3_ends_41 ⟨rfl, _, _, hM, ho, ⟨by show _ = (op_ends F V k).1; unfold op_ends; rw [if_pos (by omega)]; rw [if_neg (by rw [show suN F V = suS F V (V 2) 0 (F 5) from rfl, (hw.fine (by omega)).1]; decide)]; exact (hw.fine (by omega)).2.2.2.1.2.1 k (by omega) (by omega), ch.wd hw.1.1 (by decide), ch.wd hw.1.2 (by decide)⟩⟩
    · skip
      refine j_bipush hC (pc := 27) dX3_ends_27 (by decide) ?_
      refine S_calll (As := [.int (iI (-5))]) (rest := []) hC hX (m3_no D T N l (-5) (by decide)) (va_cwS 1 hC.ts (lw_S q1135 q1136 q46 q1137) rfl rfl rfl (by decide +kernel) ⟨Nat.le_of_ble_eq_true rfl, Nat.le_of_ble_eq_true rfl⟩) rfl hl.1 (Nat.le_of_ble_eq_true rfl) dX3_ends_29 ⟨Nat.zero_le _, Nat.zero_le _⟩ (fun r6 H locs hp hX => ?_)
      refine j_goto hC (pc := 32) 41 dX3_ends_32 (by decide) ?_
      subst hQ
      exact j_lret hC (pc := 41) hX hr hlk (Nat.le_refl _) (Nat.le_refl _) dX3_ends_41 ⟨rfl, _, _, hM, ho, ⟨by show _ = (op_ends F V k).1; unfold op_ends; rw [if_pos (by omega)]; rw [if_pos (show wideI (suN F V) (slS F (suN F V)) = 1 from (hw.wide (by omega)).2)]; exact hp, ch.wd hw.1.1 (by decide), ch.wd hw.1.2 (by decide)⟩⟩
  · skip
    refine j_bipush hC (pc := 14) dX3_ends_14 (by decide) ?_
    refine S_calll (As := [.int (iI (-2))]) (rest := []) hC hX (m3_no D T N l (-2) (by decide)) (va_cwS 1 hC.ts (lw_S q1135 q1136 q46 q1137) rfl rfl rfl (by decide +kernel) ⟨Nat.le_of_ble_eq_true rfl, Nat.le_of_ble_eq_true rfl⟩) rfl hl.1 (Nat.le_of_ble_eq_true rfl) dX3_ends_16 ⟨Nat.zero_le _, Nat.zero_le _⟩ (fun r7 H locs hp hX => ?_)
    subst hQ
    exact j_lret hC (pc := 19) hX hr hlk (Nat.le_refl _) (Nat.le_refl _) dX3_ends_19 ⟨rfl, _, _, hM, ho, ⟨by show _ = (op_ends F V k).1; unfold op_ends; rw [if_neg (by omega)]; exact hp, ch.rf, ch.rf⟩⟩
