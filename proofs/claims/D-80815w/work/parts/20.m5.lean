/-! FairFightModel: a hit; both sides set up -/
set_option maxHeartbeats 8000000 in
set_option maxRecDepth 100000 in
theorem m3_hits (D : va_G) (T N : Nat → Nat) (l : Launch) {m : Nat} (F : Nat → Int) (V : Nat → Int → Int) (k : Int) (hI : SI F V) (hW : ∀ j : Int, 0 ≤ j → j < 6 → -1 ≤ V 3 j ∧ V 3 j < F 0) (hB : ∀ j : Int, 0 ≤ j → j < 6 → 0 ≤ V 4 j ∧ V 4 j ≤ 9) (hO : okS (V 6) (V 7)) (hP : ∀ j : Int, 0 ≤ j → j < 6 → V 7 j ≠ 0 → V 3 j ≠ -1) (hk : 0 ≤ k ∧ k < 6) (hu : V 7 k ≠ 0) (hwin : winF (V 7) = 2) : MMv D T N l yX3_hits (ws_ yX3_hits cX3_hits 7 none) ({ frames := 1, cells := 0, slots := 0, locals := 24 } : Room) m [.int (iI (k))] F V (fun F' V' => F' = F ∧ ch V V' [6, 7] ∧ V' 6 = (hitP (V 1 (6 * V 3 k)) (V 1 (6 * V 3 k + 3) + V 4 k) (F 4) (fun j => V 1 (6 * V 3 j + 1)) (V 6) (V 7) k).1 ∧ V' 7 = (hitP (V 1 (6 * V 3 k)) (V 1 (6 * V 3 k + 3) + V 4 k) (F 4) (fun j => V 1 (6 * V 3 j + 1)) (V 6) (V 7) k).2) := by
  intro g0 n hM
  refine j_start (by decide) (Nat.le_of_ble_eq_true rfl) ?_
  intro p e s mi args below meth c hC hr hlk hnm hX ls hl
  have hC : Ct D T N (gA g0 n) p s mi args c cX3_hits RX3 7 := hC
  have hx := hC.x
  have hb := hC.b
  have ho : off g0 g0 m 27 := off.rf
  generalize hQ : MQ below _ args s 0 0 (gA g0 n) = Q
  have hl : lv_has ls 7 [(0, .ref (m)), (1, .int (iI (k)))] := hl
  have hn := hI.nums
  have hw_ := hW k (by omega) (by omega)
  have hP_ := hP k (by omega) (by omega) hu
  have hB_ := hB k (by omega) (by omega)
  have hn_0 := numF_rg (hI.num (f := V 3 k) (w := 0) (by omega))
  rw [Int.add_zero] at hn_0
  have hn_3 := numF_rg (hI.num (f := V 3 k) (w := 3) (by omega))
  have ho6 := otherF_rg k
  refine lv_aload_n hx hb (pc := 0) dX3_hits_0 rfl (lv_at hl 0 rfl) ?_
  refine M_get hC hX hM (pc := 1) 1 (by decide) q889 rfl (v := .ref (m + 1)) rfl dX3_hits_1 ?_
  refine j_bipush hC (pc := 4) dX3_hits_4 (by decide) ?_
  refine lv_aload_n hx hb (pc := 6) dX3_hits_6 rfl (lv_at hl 0 rfl) ?_
  refine M_get hC hX hM (pc := 7) 6 (by decide) q894 rfl (v := .ref (m + 3)) rfl dX3_hits_7 ?_
  refine lv_iload_n hx hb (pc := 10) dX3_hits_10 rfl (lv_at hl 1 rfl) ?_
  refine M_iald hC hX hM (pc := 11) 3 (by decide) (L := 6) ⟨rfl, by decide⟩ (by omega) (z := V 3 k) rfl dX3_hits_11 ?_
  refine j_imul hC (pc := 12) dX3_hits_12 ?_
  refine M_iald hC hX hM (pc := 13) 1 (by decide) (L := 96) ⟨rfl, by decide⟩ (by omega) (z := V 1 (6 * (V 3 k))) rfl dX3_hits_13 ?_
  refine lv_istore_n (lv' := [(2, .int (iI (V 1 (6 * (V 3 k))))), (0, .ref (m)), (1, .int (iI (k)))]) hx hb (pc := 14) dX3_hits_14 rfl hl (by decide) rfl (fun ls hl => ?_)
  refine lv_aload_n hx hb (pc := 15) dX3_hits_15 rfl (lv_at hl 1 rfl) ?_
  refine M_get hC hX hM (pc := 16) 1 (by decide) q889 rfl (v := .ref (m + 1)) rfl dX3_hits_16 ?_
  refine j_bipush hC (pc := 19) dX3_hits_19 (by decide) ?_
  refine lv_aload_n hx hb (pc := 21) dX3_hits_21 rfl (lv_at hl 1 rfl) ?_
  refine M_get hC hX hM (pc := 22) 6 (by decide) q894 rfl (v := .ref (m + 3)) rfl dX3_hits_22 ?_
  refine lv_iload_n hx hb (pc := 25) dX3_hits_25 rfl (lv_at hl 2 rfl) ?_
  refine M_iald hC hX hM (pc := 26) 3 (by decide) (L := 6) ⟨rfl, by decide⟩ (by omega) (z := V 3 k) rfl dX3_hits_26 ?_
  refine j_imul hC (pc := 27) dX3_hits_27 ?_
  refine j_iconst hC (pc := 28) dX3_hits_28 ?_
  refine j_iadd hC (pc := 29) dX3_hits_29 ?_
  refine M_iald hC hX hM (pc := 30) 1 (by decide) (L := 96) ⟨rfl, by decide⟩ (by omega) (z := V 1 ((6 * (V 3 k)) + 3)) rfl dX3_hits_30 ?_
  refine lv_aload_n hx hb (pc := 31) dX3_hits_31 rfl (lv_at hl 1 rfl) ?_
  refine M_get hC hX hM (pc := 32) 7 (by decide) q895 rfl (v := .ref (m + 4)) rfl dX3_hits_32 ?_
  refine lv_iload_n hx hb (pc := 35) dX3_hits_35 rfl (lv_at hl 2 rfl) ?_
  refine M_iald hC hX hM (pc := 36) 4 (by decide) (L := 6) ⟨rfl, by decide⟩ (by omega) (z := V 4 k) rfl dX3_hits_36 ?_
  refine j_iadd hC (pc := 37) dX3_hits_37 ?_
  refine lv_istore_n (lv' := [(3, .int (iI ((V 1 ((6 * (V 3 k)) + 3)) + (V 4 k)))), (2, .int (iI (V 1 (6 * (V 3 k))))), (0, .ref (m)), (1, .int (iI (k)))]) hx hb (pc := 38) dX3_hits_38 rfl hl (by decide) rfl (fun ls hl => ?_)
  have J49 : ∀ (o : Int), (o = otherF k) → ∀ (g : GH) (H : Heap) (locs : List Loc), Wd D (gA g0 n) s g n H locs → mR T g m F V → off g0 g m 27 → ∀ (ls : Array Slot), lv_has ls 7 [(3, .int (iI ((V 1 ((6 * (V 3 k)) + 3)) + (V 4 k)))), (2, .int (iI (V 1 (6 * (V 3 k))))), (0, .ref (m)), (1, .int (iI (k)))] → W p l e ({ frames := 1, cells := 0, slots := 0, locals := 24 } : Room) s mi args below meth c H locs 0 0 Q (F0 mi 49 ls [.int (iI (o))]) := by
    intro o ho_ g H locs hX hM ho ls hl
    refine lv_istore (lv' := [(4, .int (iI (o))), (3, .int (iI ((V 1 ((6 * (V 3 k)) + 3)) + (V 4 k)))), (2, .int (iI (V 1 (6 * (V 3 k))))), (0, .ref (m)), (1, .int (iI (k)))]) hx hb (pc := 49) dX3_hits_49 hl (by decide) rfl (fun ls hl => ?_)
    refine lv_iload_n hx hb (pc := 51) dX3_hits_51 rfl (lv_at hl 2 rfl) ?_
    refine j_if_ne hC (pc := 52) 82 dX3_hits_52 (by decide) (by omega) (fun c1 => ?_) (fun c1 => ?_)
    · skip
      refine lv_iload_n hx hb (pc := 82) dX3_hits_82 rfl (lv_at hl 2 rfl) ?_
      refine j_iconst hC (pc := 83) dX3_hits_83 ?_
      refine j_icmp_ne hC (pc := 84) 126 dX3_hits_84 (by decide) (by omega) (fun c2 => ?_) (fun c2 => ?_)
      · skip
        refine lv_aload_n hx hb (pc := 126) dX3_hits_126 rfl (lv_at hl 3 rfl) ?_
        refine j_iconst hC (pc := 127) dX3_hits_127 ?_
        refine lv_iload hx hb (pc := 128) dX3_hits_128 (lv_at hl 0 rfl) ?_
        refine j_isub hC (pc := 130) dX3_hits_130 ?_
        refine j_iconst hC (pc := 131) dX3_hits_131 ?_
        refine M_calli (As := [.int (iI (3 - o)), .int (iI (1))]) (rest := []) hC hX hM ho (m3_target D T N l _ _ (3 - o) 1 (by assumption) (by omega) (by omega)) (cwV 2 hC.ts (lw_V q1127 q1129 qs32 q46 q1130) rfl rfl rfl (by decide +kernel) ⟨Nat.le_of_ble_eq_true rfl, Nat.le_of_ble_eq_true rfl⟩) rfl hl.1 (Nat.le_of_ble_eq_true rfl) dX3_hits_132 ⟨Nat.zero_le _, Nat.zero_le _⟩ (fun r3 F4 V4 g H locs hp hX hM ho => ?_)
        obtain ⟨hp, hF_, hV_⟩ := hp
        rw [hF_, hV_] at hM
        have htr := hp
        have ht_ := tgt2 (L := V 6) hwin ho6.2 1
        rw [← ho_, ← hp] at ht_
        have hwr := hW r3 (by omega) (by omega)
        have hPr := hP r3 (by omega) (by omega) ht_.2.2
        have hnr := numF_rg (hI.num (f := V 3 r3) (w := 1) (by omega))
        have hur := hO r3 (by omega) (by omega)
        refine lv_istore (lv' := [(5, .int (iI (r3))), (4, .int (iI (o))), (3, .int (iI ((V 1 ((6 * (V 3 k)) + 3)) + (V 4 k)))), (2, .int (iI (V 1 (6 * (V 3 k))))), (0, .ref (m)), (1, .int (iI (k)))]) hx hb (pc := 135) dX3_hits_135 hl (by decide) rfl (fun ls hl => ?_)
        refine lv_aload_n hx hb (pc := 137) dX3_hits_137 rfl (lv_at hl 4 rfl) ?_
        refine M_get hC hX hM (pc := 138) 1 (by decide) q889 rfl (v := .ref (m + 1)) rfl dX3_hits_138 ?_
        refine j_bipush hC (pc := 141) dX3_hits_141 (by decide) ?_
        refine lv_aload_n hx hb (pc := 143) dX3_hits_143 rfl (lv_at hl 4 rfl) ?_
        refine M_get hC hX hM (pc := 144) 6 (by decide) q894 rfl (v := .ref (m + 3)) rfl dX3_hits_144 ?_
        refine lv_iload hx hb (pc := 147) dX3_hits_147 (lv_at hl 0 rfl) ?_
        refine M_iald hC hX hM (pc := 149) 3 (by decide) (L := 6) ⟨rfl, by decide⟩ (by omega) (z := V 3 r3) rfl dX3_hits_149 ?_
        refine j_imul hC (pc := 150) dX3_hits_150 ?_
        refine j_iconst hC (pc := 151) dX3_hits_151 ?_
        refine j_iadd hC (pc := 152) dX3_hits_152 ?_
        refine M_iald hC hX hM (pc := 153) 1 (by decide) (L := 96) ⟨rfl, by decide⟩ (by omega) (z := V 1 ((6 * (V 3 r3)) + 1)) rfl dX3_hits_153 ?_
        refine lv_istore (lv' := [(6, .int (iI (V 1 ((6 * (V 3 r3)) + 1)))), (5, .int (iI (r3))), (4, .int (iI (o))), (3, .int (iI ((V 1 ((6 * (V 3 k)) + 3)) + (V 4 k)))), (2, .int (iI (V 1 (6 * (V 3 k))))), (0, .ref (m)), (1, .int (iI (k)))]) hx hb (pc := 154) dX3_hits_154 hl (by decide) rfl (fun ls hl => ?_)
        refine lv_aload_n hx hb (pc := 156) dX3_hits_156 rfl (lv_at hl 5 rfl) ?_
        refine M_get hC hX hM (pc := 157) 11 (by decide) q899 rfl (v := .ref (m + 6)) rfl dX3_hits_157 ?_
        refine lv_iload hx hb (pc := 160) dX3_hits_160 (lv_at hl 1 rfl) ?_
        refine lv_aload_n hx hb (pc := 162) dX3_hits_162 rfl (lv_at hl 5 rfl) ?_
        refine M_get hC hX hM (pc := 163) 11 (by decide) q899 rfl (v := .ref (m + 6)) rfl dX3_hits_163 ?_
        refine lv_iload hx hb (pc := 166) dX3_hits_166 (lv_at hl 1 rfl) ?_
        refine M_iald hC hX hM (pc := 168) 6 (by decide) (L := 6) ⟨rfl, by decide⟩ (by omega) (z := V 6 r3) rfl dX3_hits_168 ?_
        refine lv_iload_n hx hb (pc := 169) dX3_hits_169 rfl (lv_at hl 3 rfl) ?_
        refine j_iadd hC (pc := 170) dX3_hits_170 ?_
        refine lv_iload hx hb (pc := 171) dX3_hits_171 (lv_at hl 0 rfl) ?_
        refine j_icmp_le hC (pc := 173) 181 dX3_hits_173 (by decide) (by omega) (fun c5 => ?_) (fun c5 => ?_)
        · skip
          refine lv_aload_n hx hb (pc := 181) dX3_hits_181 rfl (lv_at hl 5 rfl) ?_
          refine M_get hC hX hM (pc := 182) 11 (by decide) q899 rfl (v := .ref (m + 6)) rfl dX3_hits_182 ?_
          refine lv_iload hx hb (pc := 185) dX3_hits_185 (lv_at hl 1 rfl) ?_
          refine M_iald hC hX hM (pc := 187) 6 (by decide) (L := 6) ⟨rfl, by decide⟩ (by omega) (z := V 6 r3) rfl dX3_hits_187 ?_
          refine lv_iload_n hx hb (pc := 188) dX3_hits_188 rfl (lv_at hl 3 rfl) ?_
          refine j_iadd hC (pc := 189) dX3_hits_189 ?_
          refine M_iast hC hX hM ho (pc := 190) 6 (by decide) (L := 6) ⟨rfl, by decide⟩ (by omega) dX3_hits_190 (fun g H locs hX hM ho => ?_)
          subst hQ
          exact j_vret hC (pc := 191) hX hr hlk (Nat.le_refl _) (Nat.le_refl _) dX3_hits_191 ⟨rfl, _, _, hM, ho, ⟨rfl, ch.rf.up 6 _ (by decide), by unfold hitP; rw [if_neg (by omega), if_neg (by omega)]; dsimp only; rw [← ho_, ← htr, if_neg (by omega)]; rfl, by unfold hitP; rw [if_neg (by omega), if_neg (by omega)]; rfl⟩⟩
        · skip
          refine lv_iload hx hb (pc := 176) dX3_hits_176 (lv_at hl 0 rfl) ?_
          refine j_goto hC (pc := 178) 190 dX3_hits_178 (by decide) ?_
          refine M_iast hC hX hM ho (pc := 190) 6 (by decide) (L := 6) ⟨rfl, by decide⟩ (by omega) dX3_hits_190 (fun g H locs hX hM ho => ?_)
          subst hQ
          exact j_vret hC (pc := 191) hX hr hlk (Nat.le_refl _) (Nat.le_refl _) dX3_hits_191 ⟨rfl, _, _, hM, ho, ⟨rfl, ch.rf.up 6 _ (by decide), by unfold hitP; rw [if_neg (by omega), if_neg (by omega)]; dsimp only; rw [← ho_, ← htr, if_pos (by omega)]; rfl, by unfold hitP; rw [if_neg (by omega), if_neg (by omega)]; rfl⟩⟩
      · skip
        refine lv_iload hx hb (pc := 87) dX3_hits_87 (lv_at hl 0 rfl) ?_
        refine lv_istore (lv' := [(5, .int (iI (o))), (4, .int (iI (o))), (3, .int (iI ((V 1 ((6 * (V 3 k)) + 3)) + (V 4 k)))), (2, .int (iI (V 1 (6 * (V 3 k))))), (0, .ref (m)), (1, .int (iI (k)))]) hx hb (pc := 89) dX3_hits_89 hl (by decide) rfl (fun ls hl => ?_)
        have L91 : ∀ (fu : Nat) (j : Int) (V1 : Nat → Int → Int), o + 3 - j < (fu : Int) → (o ≤ j ∧ j ≤ o + 3) → (ch V V1 [6, 7]) → (V1 6 = (aSt (V 1 (6 * V 3 k + 3) + V 4 k) o (V 6, V 7) (j - o).toNat).1) → (V1 7 = (aSt (V 1 (6 * V 3 k + 3) + V 4 k) o (V 6, V 7) (j - o).toNat).2) → ∀ (g : GH) (H : Heap) (locs : List Loc), Wd D (gA g0 n) s g n H locs → mR T g m F V1 → off g0 g m 27 → ∀ (ls : Array Slot), lv_has ls 7 [(5, .int (iI (j))), (4, .int (iI (o))), (3, .int (iI ((V 1 ((6 * (V 3 k)) + 3)) + (V 4 k)))), (2, .int (iI (V 1 (6 * (V 3 k))))), (0, .ref (m)), (1, .int (iI (k)))] → W p l e ({ frames := 1, cells := 0, slots := 0, locals := 24 } : Room) s mi args below meth c H locs 0 0 Q (F0 mi 91 ls []) := by
          intro fu
          induction fu with
          | zero =>
            intro j V1 hfu hj hc h6 h7 g H locs hX hM ho ls hl
            exfalso
            omega
          | succ fu ih =>
            intro j V1 hfu hj hc h6 h7 g H locs hX hM ho ls hl
            have hO1 : okS (V1 6) (V1 7) := by rw [h6, h7]; exact okS.aS (P := (V 6, V 7)) hO (by omega) _
            refine lv_iload hx hb (pc := 91) dX3_hits_91 (lv_at hl 0 rfl) ?_
            refine lv_iload hx hb (pc := 93) dX3_hits_93 (lv_at hl 1 rfl) ?_
            refine j_iconst hC (pc := 95) dX3_hits_95 ?_
            refine j_iadd hC (pc := 96) dX3_hits_96 ?_
            refine j_icmp_ge hC (pc := 97) 123 dX3_hits_97 (by decide) (by omega) (fun c6 => ?_) (fun c6 => ?_)
            · skip
              refine j_goto hC (pc := 123) 191 dX3_hits_123 (by decide) ?_
              subst hQ
              exact j_vret hC (pc := 191) hX hr hlk (Nat.le_refl _) (Nat.le_refl _) dX3_hits_191 ⟨rfl, _, _, hM, ho, ⟨rfl, hc, by unfold hitP; rw [if_neg (by omega), if_pos (by omega), ← ho_, h6, show (j - o).toNat = 3 by omega], by unfold hitP; rw [if_neg (by omega), if_pos (by omega), ← ho_, h7, show (j - o).toNat = 3 by omega]⟩⟩
            · skip
              refine lv_aload_n hx hb (pc := 100) dX3_hits_100 rfl (lv_at hl 4 rfl) ?_
              refine M_get hC hX hM (pc := 101) 12 (by decide) q900 rfl (v := .ref (m + 7)) rfl dX3_hits_101 ?_
              refine lv_iload hx hb (pc := 104) dX3_hits_104 (lv_at hl 0 rfl) ?_
              refine M_zald hC hX hM (pc := 106) (by omega) (z := V1 7 j) rfl dX3_hits_106 ?_
              have hu_j := hO1 j (by omega) (by omega)
              refine j_if_eq hC (pc := 107) 117 dX3_hits_107 (by decide) (by omega) (fun c7 => ?_) (fun c7 => ?_)
              · skip
                refine j_iinc hC (pc := 117) (lv' := [(5, .int (iI (j + 1))), (4, .int (iI (o))), (3, .int (iI ((V 1 ((6 * (V 3 k)) + 3)) + (V 4 k)))), (2, .int (iI (V 1 (6 * (V 3 k))))), (0, .ref (m)), (1, .int (iI (k)))]) dX3_hits_117 hl (k := 0) rfl (by decide) rfl (fun ls hl => ?_)
                refine j_goto hC (pc := 120) 91 dX3_hits_120 (by decide) ?_
                exact ih (j + 1) _ (by omega) (by omega) hc (by rw [show (j + 1 - o).toNat = (j - o).toNat + 1 by omega]; show _ = (aStep (V 1 (6 * V 3 k + 3) + V 4 k) (o + ((j - o).toNat : Int)) (aSt (V 1 (6 * V 3 k + 3) + V 4 k) o (V 6, V 7) (j - o).toNat)).1; rw [Int.toNat_of_nonneg (by omega), show o + (j - o) = j by omega]; unfold aStep; rw [if_neg (by rw [← h7]; omega)]; exact h6) (by rw [show (j + 1 - o).toNat = (j - o).toNat + 1 by omega]; show _ = (aStep (V 1 (6 * V 3 k + 3) + V 4 k) (o + ((j - o).toNat : Int)) (aSt (V 1 (6 * V 3 k + 3) + V 4 k) o (V 6, V 7) (j - o).toNat)).2; rw [Int.toNat_of_nonneg (by omega), show o + (j - o) = j by omega]; unfold aStep; rw [if_neg (by rw [← h7]; omega)]; exact h7) _ _ _ hX hM ho ls (lv_sub hl [0, 1, 2, 3, 4, 5] rfl)
              · skip
                refine lv_aload_n hx hb (pc := 110) dX3_hits_110 rfl (lv_at hl 4 rfl) ?_
                refine lv_iload hx hb (pc := 111) dX3_hits_111 (lv_at hl 0 rfl) ?_
                refine lv_iload_n hx hb (pc := 113) dX3_hits_113 rfl (lv_at hl 2 rfl) ?_
                refine M_callv (As := [.int (iI (j)), .int (iI ((V 1 ((6 * (V 3 k)) + 3)) + (V 4 k)))]) (rest := []) hC hX hM ho (m3_hurts D T N l _ _ j ((V 1 ((6 * (V 3 k)) + 3)) + (V 4 k)) (by assumption) (by omega) (by omega)) (cwV 2 hC.ts (lw_V q1131 q1133 qs33 q46 q1134) rfl rfl rfl (by decide +kernel) ⟨Nat.le_of_ble_eq_true rfl, Nat.le_of_ble_eq_true rfl⟩) rfl hl.1 (Nat.le_of_ble_eq_true rfl) dX3_hits_114 ⟨Nat.zero_le _, Nat.zero_le _⟩ (fun F9 V9 g H locs hp hX hM ho => ?_)
                obtain ⟨hF_, hV_⟩ := hp
                rw [hF_, hV_] at hM
                refine j_iinc hC (pc := 117) (lv' := [(5, .int (iI (j + 1))), (4, .int (iI (o))), (3, .int (iI ((V 1 ((6 * (V 3 k)) + 3)) + (V 4 k)))), (2, .int (iI (V 1 (6 * (V 3 k))))), (0, .ref (m)), (1, .int (iI (k)))]) dX3_hits_117 hl (k := 0) rfl (by decide) rfl (fun ls hl => ?_)
                refine j_goto hC (pc := 120) 91 dX3_hits_120 (by decide) ?_
                exact ih (j + 1) _ (by omega) (by omega) ((hc.up 6 _ (by decide)).up 7 _ (by decide)) (by rw [show (j + 1 - o).toNat = (j - o).toNat + 1 by omega]; show _ = (aStep (V 1 (6 * V 3 k + 3) + V 4 k) (o + ((j - o).toNat : Int)) (aSt (V 1 (6 * V 3 k + 3) + V 4 k) o (V 6, V 7) (j - o).toNat)).1; rw [Int.toNat_of_nonneg (by omega), show o + (j - o) = j by omega]; unfold aStep; rw [if_pos (by rw [← h7]; omega), ← h6]; rfl) (by rw [show (j + 1 - o).toNat = (j - o).toNat + 1 by omega]; show _ = (aStep (V 1 (6 * V 3 k + 3) + V 4 k) (o + ((j - o).toNat : Int)) (aSt (V 1 (6 * V 3 k + 3) + V 4 k) o (V 6, V 7) (j - o).toNat)).2; rw [Int.toNat_of_nonneg (by omega), show o + (j - o) = j by omega]; unfold aStep; rw [if_pos (by rw [← h7]; omega), ← h6, ← h7]; rfl) _ _ _ hX hM ho ls (lv_sub hl [0, 1, 2, 3, 4, 5] rfl)
        exact L91 ((o + 3 - o : Int).toNat + 1) o _ (by omega) (by omega) ch.rf (by rw [show (o - o).toNat = 0 by omega]; rfl) (by rw [show (o - o).toNat = 0 by omega]; rfl) _ _ _ hX hM ho ls (lv_sub hl [0, 1, 2, 3, 4, 5] rfl)
    · skip
      refine lv_aload_n hx hb (pc := 55) dX3_hits_55 rfl (lv_at hl 3 rfl) ?_
      refine lv_aload_n hx hb (pc := 56) dX3_hits_56 rfl (lv_at hl 3 rfl) ?_
      refine lv_iload hx hb (pc := 57) dX3_hits_57 (lv_at hl 0 rfl) ?_
      refine lv_aload_n hx hb (pc := 59) dX3_hits_59 rfl (lv_at hl 3 rfl) ?_
      refine M_get hC hX hM (pc := 60) 4 (by decide) q892 rfl (v := .int (iI (F 4))) rfl dX3_hits_60 ?_
      refine j_iconst hC (pc := 63) dX3_hits_63 ?_
      refine j_icmp_ne hC (pc := 64) 71 dX3_hits_64 (by decide) (by omega) (fun c10 => ?_) (fun c10 => ?_)
      · skip
        refine j_iconst hC (pc := 71) dX3_hits_71 ?_
        refine M_calli (As := [.int (iI (o)), .int (iI (0))]) (rest := [.ref (m)]) hC hX hM ho (m3_target D T N l _ _ o 0 (by assumption) (by omega) (by omega)) (cwV 2 hC.ts (lw_V q1127 q1129 qs32 q46 q1130) rfl rfl rfl (by decide +kernel) ⟨Nat.le_of_ble_eq_true rfl, Nat.le_of_ble_eq_true rfl⟩) rfl hl.1 (Nat.le_of_ble_eq_true rfl) dX3_hits_72 ⟨Nat.zero_le _, Nat.zero_le _⟩ (fun r11 F12 V12 g H locs hp hX hM ho => ?_)
        obtain ⟨hp, hF_, hV_⟩ := hp
        rw [hF_, hV_] at hM
        have htr := hp
        have ht_ := tgt2 (L := V 6) hwin ho6.1 0
        rw [← ho_, ← hp] at ht_
        refine lv_iload_n hx hb (pc := 75) dX3_hits_75 rfl (lv_at hl 1 rfl) ?_
        refine M_callv (As := [.int (iI (r11)), .int (iI ((V 1 ((6 * (V 3 k)) + 3)) + (V 4 k)))]) (rest := []) hC hX hM ho (m3_hurts D T N l _ _ r11 ((V 1 ((6 * (V 3 k)) + 3)) + (V 4 k)) (by assumption) (by omega) (by omega)) (cwV 2 hC.ts (lw_V q1131 q1133 qs33 q46 q1134) rfl rfl rfl (by decide +kernel) ⟨Nat.le_of_ble_eq_true rfl, Nat.le_of_ble_eq_true rfl⟩) rfl hl.1 (Nat.le_of_ble_eq_true rfl) dX3_hits_76 ⟨Nat.zero_le _, Nat.zero_le _⟩ (fun F14 V14 g H locs hp hX hM ho => ?_)
        obtain ⟨hF_, hV_⟩ := hp
        rw [hF_, hV_] at hM
        refine j_goto hC (pc := 79) 191 dX3_hits_79 (by decide) ?_
        subst hQ
        exact j_vret hC (pc := 191) hX hr hlk (Nat.le_refl _) (Nat.le_refl _) dX3_hits_191 ⟨rfl, _, _, hM, ho, ⟨rfl, (ch.rf.up 6 _ (by decide)).up 7 _ (by decide), by unfold hitP; rw [if_pos (by omega)]; dsimp only; rw [if_neg (show ¬ F 4 = 1 by omega), ← ho_, ← htr]; rfl, by unfold hitP; rw [if_pos (by omega)]; dsimp only; rw [if_neg (show ¬ F 4 = 1 by omega), ← ho_, ← htr]; rfl⟩⟩
      · skip
        refine j_iconst hC (pc := 67) dX3_hits_67 ?_
        refine j_goto hC (pc := 68) 72 dX3_hits_68 (by decide) ?_
        refine M_calli (As := [.int (iI (o)), .int (iI (1))]) (rest := [.ref (m)]) hC hX hM ho (m3_target D T N l _ _ o 1 (by assumption) (by omega) (by omega)) (cwV 2 hC.ts (lw_V q1127 q1129 qs32 q46 q1130) rfl rfl rfl (by decide +kernel) ⟨Nat.le_of_ble_eq_true rfl, Nat.le_of_ble_eq_true rfl⟩) rfl hl.1 (Nat.le_of_ble_eq_true rfl) dX3_hits_72 ⟨Nat.zero_le _, Nat.zero_le _⟩ (fun r15 F16 V16 g H locs hp hX hM ho => ?_)
        obtain ⟨hp, hF_, hV_⟩ := hp
        rw [hF_, hV_] at hM
        have htr := hp
        have ht_ := tgt2 (L := V 6) hwin ho6.1 1
        rw [← ho_, ← hp] at ht_
        refine lv_iload_n hx hb (pc := 75) dX3_hits_75 rfl (lv_at hl 1 rfl) ?_
        refine M_callv (As := [.int (iI (r15)), .int (iI ((V 1 ((6 * (V 3 k)) + 3)) + (V 4 k)))]) (rest := []) hC hX hM ho (m3_hurts D T N l _ _ r15 ((V 1 ((6 * (V 3 k)) + 3)) + (V 4 k)) (by assumption) (by omega) (by omega)) (cwV 2 hC.ts (lw_V q1131 q1133 qs33 q46 q1134) rfl rfl rfl (by decide +kernel) ⟨Nat.le_of_ble_eq_true rfl, Nat.le_of_ble_eq_true rfl⟩) rfl hl.1 (Nat.le_of_ble_eq_true rfl) dX3_hits_76 ⟨Nat.zero_le _, Nat.zero_le _⟩ (fun F18 V18 g H locs hp hX hM ho => ?_)
        obtain ⟨hF_, hV_⟩ := hp
        rw [hF_, hV_] at hM
        refine j_goto hC (pc := 79) 191 dX3_hits_79 (by decide) ?_
        subst hQ
        exact j_vret hC (pc := 191) hX hr hlk (Nat.le_refl _) (Nat.le_refl _) dX3_hits_191 ⟨rfl, _, _, hM, ho, ⟨rfl, (ch.rf.up 6 _ (by decide)).up 7 _ (by decide), by unfold hitP; rw [if_pos (by omega)]; dsimp only; rw [if_pos (show F 4 = 1 by omega), ← ho_, ← htr]; rfl, by unfold hitP; rw [if_pos (by omega)]; dsimp only; rw [if_pos (show F 4 = 1 by omega), ← ho_, ← htr]; rfl⟩⟩
  refine lv_iload_n hx hb (pc := 39) dX3_hits_39 rfl (lv_at hl 3 rfl) ?_
  refine j_iconst hC (pc := 40) dX3_hits_40 ?_
  refine j_icmp_ge hC (pc := 41) 48 dX3_hits_41 (by decide) (by omega) (fun c19 => ?_) (fun c19 => ?_)
  · skip
    refine j_iconst hC (pc := 48) dX3_hits_48 ?_
    exact J49 0 (by unfold otherF; rw [if_neg (by omega)]) _ _ _ hX hM ho ls (lv_sub hl [0, 1, 2, 3] rfl)
  · skip
    refine j_iconst hC (pc := 44) dX3_hits_44 ?_
    refine j_goto hC (pc := 45) 49 dX3_hits_45 (by decide) ?_
    exact J49 3 (by unfold otherF; rw [if_pos (by omega)]) _ _ _ hX hM ho ls (lv_sub hl [0, 1, 2, 3] rfl)

set_option maxHeartbeats 4000000 in
set_option maxRecDepth 100000 in
theorem m3_sets (D : va_G) (T N : Nat → Nat) (l : Launch) {m : Nat} (F : Nat → Int) (V : Nat → Int → Int) (b : Int) (hb_ : 0 ≤ b ∧ b ≤ 9) : MMv D T N l yX3_sets (ws_ yX3_sets cX3_sets 3 none) ({ frames := 0, cells := 0, slots := 0, locals := 0 } : Room) m [.int (iI (b))] F V (fun F' V' => F' = va_up F 8 (F 5) ∧ ch V V' [3, 4] ∧ (∀ k : Int, 0 ≤ k → k < 6 → V' 3 k = V 2 k ∧ V' 4 k = (if k < 3 then b else 0))) := by
  intro g0 n hM
  refine j_start (by decide) (Nat.le_of_ble_eq_true rfl) ?_
  intro p e s mi args below meth c hC hr hlk hnm hX ls hl
  have hC : Ct D T N (gA g0 n) p s mi args c cX3_sets RX3 3 := hC
  have hx := hC.x
  have hb := hC.b
  have ho : off g0 g0 m 27 := off.rf
  generalize hQ : MQ below _ args s 0 0 (gA g0 n) = Q
  have hl : lv_has ls 3 [(0, .ref (m)), (1, .int (iI (b)))] := hl
  refine j_iconst hC (pc := 0) dX3_sets_0 ?_
  refine lv_istore_n (lv' := [(2, .int (iI (0))), (0, .ref (m)), (1, .int (iI (b)))]) hx hb (pc := 1) dX3_sets_1 rfl hl (by decide) rfl (fun ls hl => ?_)
  have L2 : ∀ (fu : Nat) (i : Int) (V1 : Nat → Int → Int), 6 - i < (fu : Int) → (0 ≤ i ∧ i ≤ 6) → (ch V V1 [3, 4]) → (∀ k : Int, 0 ≤ k → k < i → V1 3 k = V 2 k ∧ V1 4 k = (if k < 3 then b else 0)) → ∀ (g : GH) (H : Heap) (locs : List Loc), Wd D (gA g0 n) s g n H locs → mR T g m F V1 → off g0 g m 27 → ∀ (ls : Array Slot), lv_has ls 3 [(2, .int (iI (i))), (0, .ref (m)), (1, .int (iI (b)))] → W p l e ({ frames := 0, cells := 0, slots := 0, locals := 0 } : Room) s mi args below meth c H locs 0 0 Q (F0 mi 2 ls []) := by
    intro fu
    induction fu with
    | zero =>
      intro i V1 hfu hi hc hd g H locs hX hM ho ls hl
      exfalso
      omega
    | succ fu ih =>
      intro i V1 hfu hi hc hd g H locs hX hM ho ls hl
      have e2 : V1 2 = V 2 := hc 2 (by decide)
      refine lv_iload_n hx hb (pc := 2) dX3_sets_2 rfl (lv_at hl 0 rfl) ?_
      refine j_bipush hC (pc := 3) dX3_sets_3 (by decide) ?_
      refine j_icmp_ge hC (pc := 5) 42 dX3_sets_5 (by decide) (by omega) (fun c1 => ?_) (fun c1 => ?_)
      · skip
        refine lv_aload_n hx hb (pc := 42) dX3_sets_42 rfl (lv_at hl 1 rfl) ?_
        refine lv_aload_n hx hb (pc := 43) dX3_sets_43 rfl (lv_at hl 1 rfl) ?_
        refine M_get hC hX hM (pc := 44) 5 (by decide) q893 rfl (v := .int (iI (F 5))) rfl dX3_sets_44 ?_
        refine M_put hC hX hM ho (pc := 47) 8 (by decide) q896 rfl dX3_sets_47 (fun g H locs hX hM ho => ?_)
        subst hQ
        exact j_vret hC (pc := 50) hX hr hlk (Nat.le_refl _) (Nat.le_refl _) dX3_sets_50 ⟨rfl, _, _, hM, ho, ⟨rfl, hc, fun k h1 h2 => hd k h1 (by omega)⟩⟩
      · skip
        refine lv_aload_n hx hb (pc := 8) dX3_sets_8 rfl (lv_at hl 1 rfl) ?_
        refine M_get hC hX hM (pc := 9) 6 (by decide) q894 rfl (v := .ref (m + 3)) rfl dX3_sets_9 ?_
        refine lv_iload_n hx hb (pc := 12) dX3_sets_12 rfl (lv_at hl 0 rfl) ?_
        refine lv_aload_n hx hb (pc := 13) dX3_sets_13 rfl (lv_at hl 1 rfl) ?_
        refine M_get hC hX hM (pc := 14) 2 (by decide) q890 rfl (v := .ref (m + 2)) rfl dX3_sets_14 ?_
        refine lv_iload_n hx hb (pc := 17) dX3_sets_17 rfl (lv_at hl 0 rfl) ?_
        refine M_iald hC hX hM (pc := 18) 2 (by decide) (L := 6) ⟨rfl, by decide⟩ (by omega) (z := V1 2 i) rfl dX3_sets_18 ?_
        refine M_iast hC hX hM ho (pc := 19) 3 (by decide) (L := 6) ⟨rfl, by decide⟩ (by omega) dX3_sets_19 (fun g H locs hX hM ho => ?_)
        refine lv_aload_n hx hb (pc := 20) dX3_sets_20 rfl (lv_at hl 1 rfl) ?_
        refine M_get hC hX hM (pc := 21) 7 (by decide) q895 rfl (v := .ref (m + 4)) rfl dX3_sets_21 ?_
        refine lv_iload_n hx hb (pc := 24) dX3_sets_24 rfl (lv_at hl 0 rfl) ?_
        refine lv_iload_n hx hb (pc := 25) dX3_sets_25 rfl (lv_at hl 0 rfl) ?_
        refine j_iconst hC (pc := 26) dX3_sets_26 ?_
        refine j_icmp_ge hC (pc := 27) 34 dX3_sets_27 (by decide) (by omega) (fun c2 => ?_) (fun c2 => ?_)
        · skip
          refine j_iconst hC (pc := 34) dX3_sets_34 ?_
          refine M_iast hC hX hM ho (pc := 35) 4 (by decide) (L := 6) ⟨rfl, by decide⟩ (by omega) dX3_sets_35 (fun g H locs hX hM ho => ?_)
          refine j_iinc hC (pc := 36) (lv' := [(2, .int (iI (i + 1))), (0, .ref (m)), (1, .int (iI (b)))]) dX3_sets_36 hl (k := 0) rfl (by decide) rfl (fun ls hl => ?_)
          refine j_goto hC (pc := 39) 2 dX3_sets_39 (by decide) ?_
          exact ih (i + 1) _ (by omega) (by omega) ((hc.up 3 _ (by decide)).up 4 _ (by decide)) (fun k h1 h2 => ⟨by show uI (V1 3) i (V1 2 i) k = _; unfold uI; split; rename_i q; rw [q, e2]; exact (hd k h1 (by omega)).1, by show uI (V1 4) i _ k = _; unfold uI; split; rename_i q; rw [q, if_neg (by omega)]; exact (hd k h1 (by omega)).2⟩) _ _ _ hX hM ho ls (lv_sub hl [0, 1, 2] rfl)
        · skip
          refine lv_iload_n hx hb (pc := 30) dX3_sets_30 rfl (lv_at hl 2 rfl) ?_
          refine j_goto hC (pc := 31) 35 dX3_sets_31 (by decide) ?_
          refine M_iast hC hX hM ho (pc := 35) 4 (by decide) (L := 6) ⟨rfl, by decide⟩ (by omega) dX3_sets_35 (fun g H locs hX hM ho => ?_)
          refine j_iinc hC (pc := 36) (lv' := [(2, .int (iI (i + 1))), (0, .ref (m)), (1, .int (iI (b)))]) dX3_sets_36 hl (k := 0) rfl (by decide) rfl (fun ls hl => ?_)
          refine j_goto hC (pc := 39) 2 dX3_sets_39 (by decide) ?_
          exact ih (i + 1) _ (by omega) (by omega) ((hc.up 3 _ (by decide)).up 4 _ (by decide)) (fun k h1 h2 => ⟨by show uI (V1 3) i (V1 2 i) k = _; unfold uI; split; rename_i q; rw [q, e2]; exact (hd k h1 (by omega)).1, by show uI (V1 4) i _ k = _; unfold uI; split; rename_i q; rw [q, if_pos (by omega)]; exact (hd k h1 (by omega)).2⟩) _ _ _ hX hM ho ls (lv_sub hl [0, 1, 2] rfl)
  exact L2 ((6 - 0 : Int).toNat + 1) 0 _ (by omega) (by omega) ch.rf (fun k h1 h2 => by omega) _ _ _ hX hM ho ls (lv_sub hl [0, 1, 2] rfl)
