/-! FairFightModel: a fight begins -/
theorem ordA_skip {who sp o : Int → Int} {n : Nat} (h : who n = -1) : ordA who sp o (n + 1) = ordA who sp o n := if_pos h
theorem ordA_put {who sp o : Int → Int} {n : Nat} (h : who n ≠ -1) : ordA who sp o (n + 1) = (insA sp n (ordA who sp o n).1 (ordA who sp o n).2, (ordA who sp o n).2 + 1) := if_neg h
theorem insA_z {sp o : Int → Int} {k a : Int} (h : a = 0) : insA sp k o a.toNat = uI o a k := by subst h; rfl
theorem insA_ge {sp o : Int → Int} {k a : Int} (h : 0 < a) (hs : ¬ sp (o (a - 1)) < sp k) : insA sp k o a.toNat = uI o a k := by
  rw [show a.toNat = (a - 1).toNat + 1 by omega]
  unfold insA
  rw [Int.toNat_of_nonneg (by omega), if_neg hs, show a - 1 + 1 = a by omega]
theorem insA_lt {sp o : Int → Int} {k a : Int} (h : 0 < a) (hs : sp (o (a - 1)) < sp k) : insA sp k o a.toNat = insA sp k (uI o a (o (a - 1))) (a + -1).toNat := by
  rw [show a.toNat = (a - 1).toNat + 1 by omega, show (a + -1).toNat = (a - 1).toNat by omega]
  rw [show insA sp k o ((a - 1).toNat + 1) = if sp (o ((a - 1).toNat : Int)) < sp k then insA sp k (uI o (((a - 1).toNat : Int) + 1) (o ((a - 1).toNat : Int))) (a - 1).toNat else uI o (((a - 1).toNat : Int) + 1) k from rfl]
  rw [Int.toNat_of_nonneg (by omega), if_pos hs, show a - 1 + 1 = a by omega]

set_option maxHeartbeats 8000000 in
set_option maxRecDepth 100000 in
theorem m3_begins (D : va_G) (T N : Nat → Nat) (l : Launch) {m : Nat} (F : Nat → Int) (V : Nat → Int → Int)  (hI : SI F V) (hW : ∀ j : Int, 0 ≤ j → j < 6 → -1 ≤ V 3 j ∧ V 3 j < F 0) : MMv D T N l yX3_begins (ws_ yX3_begins cX3_begins 3 none) ({ frames := 0, cells := 0, slots := 0, locals := 0 } : Room) m [] F V (fun F' V' => ch F F' [9] ∧ ch V V' [5, 6, 7] ∧ F' 9 = ((ordA (V 3) (fun j => V 1 (6 * V 3 j + 5)) (V 5) 6).2 : Int) ∧ V' 5 = (ordA (V 3) (fun j => V 1 (6 * V 3 j + 5)) (V 5) 6).1 ∧ ∀ k : Int, 0 ≤ k → k < 6 → V' 6 k = (if V 3 k = -1 then 0 else V 1 (6 * V 3 k + 1)) ∧ V' 7 k = (if V 3 k = -1 then 0 else 1)) := by
  intro g0 n hM
  refine j_start (by decide) (Nat.le_of_ble_eq_true rfl) ?_
  intro p e s mi args below meth c hC hr hlk hnm hX ls hl
  have hC : Ct D T N (gA g0 n) p s mi args c cX3_begins RX3 3 := hC
  have hx := hC.x
  have hb := hC.b
  have ho : off g0 g0 m 27 := off.rf
  generalize hQ : MQ below _ args s 0 0 (gA g0 n) = Q
  have hl : lv_has ls 3 [(0, .ref (m))] := hl
  have hn := hI.nums
  refine lv_aload_n hx hb (pc := 0) dX3_begins_0 rfl (lv_at hl 0 rfl) ?_
  refine j_iconst hC (pc := 1) dX3_begins_1 ?_
  refine M_put hC hX hM ho (pc := 2) 9 (by decide) q897 rfl dX3_begins_2 (fun g H locs hX hM ho => ?_)
  refine j_iconst hC (pc := 5) dX3_begins_5 ?_
  refine lv_istore_n (lv' := [(1, .int (iI (0))), (0, .ref (m))]) hx hb (pc := 6) dX3_begins_6 rfl hl (by decide) rfl (fun ls hl => ?_)
  have L7 : ∀ (fu : Nat) (i : Int) (F1 : Nat → Int) (V1 : Nat → Int → Int), 6 - i < (fu : Int) → (0 ≤ i ∧ i ≤ 6) → (ch F F1 [9]) → (ch V V1 [5]) → (F1 9 = ((ordA (V 3) (fun j => V 1 (6 * V 3 j + 5)) (V 5) i.toNat).2 : Int)) → (V1 5 = (ordA (V 3) (fun j => V 1 (6 * V 3 j + 5)) (V 5) i.toNat).1) → ∀ (g : GH) (H : Heap) (locs : List Loc), Wd D (gA g0 n) s g n H locs → mR T g m F1 V1 → off g0 g m 27 → ∀ (ls : Array Slot), lv_has ls 3 [(1, .int (iI (i))), (0, .ref (m))] → W p l e ({ frames := 0, cells := 0, slots := 0, locals := 0 } : Room) s mi args below meth c H locs 0 0 Q (F0 mi 7 ls []) := by
    intro fu
    induction fu with
    | zero =>
      intro i F1 V1 hfu hi hcF hcV h9 h5 g H locs hX hM ho ls hl
      exfalso
      omega
    | succ fu ih7 =>
      intro i F1 V1 hfu hi hcF hcV h9 h5 g H locs hX hM ho ls hl
      have e1 : V1 1 = V 1 := hcV 1 (by decide)
      have e3 : V1 3 = V 3 := hcV 3 (by decide)
      have hok := ordA_ok (who := V 3) (sp := (fun j => V 1 (6 * V 3 j + 5))) (o := V 5) i.toNat
      rw [← h5] at hok
      have ei : ((i.toNat : Nat) : Int) = i := Int.toNat_of_nonneg (by omega)
      refine lv_iload_n hx hb (pc := 7) dX3_begins_7 rfl (lv_at hl 0 rfl) ?_
      refine j_bipush hC (pc := 8) dX3_begins_8 (by decide) ?_
      refine j_icmp_ge hC (pc := 10) 117 dX3_begins_10 (by decide) (by omega) (fun c1 => ?_) (fun c1 => ?_)
      · skip
        have e6_ : i.toNat = 6 := by omega
        refine j_iconst hC (pc := 117) dX3_begins_117 ?_
        refine lv_istore_n (lv' := [(1, .int (iI (0))), (0, .ref (m))]) hx hb (pc := 118) dX3_begins_118 rfl hl (by decide) rfl (fun ls hl => ?_)
        have L119 : ∀ (fu : Nat) (i : Int) (V3 : Nat → Int → Int), 6 - i < (fu : Int) → (0 ≤ i ∧ i ≤ 6) → (ch V1 V3 [6, 7]) → (∀ k : Int, 0 ≤ k → k < i → V3 6 k = (if V 3 k = -1 then 0 else V 1 (6 * V 3 k + 1)) ∧ V3 7 k = (if V 3 k = -1 then 0 else 1)) → ∀ (g : GH) (H : Heap) (locs : List Loc), Wd D (gA g0 n) s g n H locs → mR T g m F1 V3 → off g0 g m 27 → ∀ (ls : Array Slot), lv_has ls 3 [(1, .int (iI (i))), (0, .ref (m))] → W p l e ({ frames := 0, cells := 0, slots := 0, locals := 0 } : Room) s mi args below meth c H locs 0 0 Q (F0 mi 119 ls []) := by
          intro fu
          induction fu with
          | zero =>
            intro i V3 hfu hi hc3 hd g H locs hX hM ho ls hl
            exfalso
            omega
          | succ fu ih119 =>
            intro i V3 hfu hi hc3 hd g H locs hX hM ho ls hl
            have k1 : V3 1 = V 1 := (hc3 1 (by decide)).trans e1
            have k3 : V3 3 = V 3 := (hc3 3 (by decide)).trans e3
            refine lv_iload_n hx hb (pc := 119) dX3_begins_119 rfl (lv_at hl 0 rfl) ?_
            refine j_bipush hC (pc := 120) dX3_begins_120 (by decide) ?_
            refine j_icmp_ge hC (pc := 122) 188 dX3_begins_122 (by decide) (by omega) (fun c2 => ?_) (fun c2 => ?_)
            · skip
              subst hQ
              exact j_vret hC (pc := 188) hX hr hlk (Nat.le_refl _) (Nat.le_refl _) dX3_begins_188 ⟨rfl, _, _, hM, ho, ⟨hcF, ch.tr hcV hc3 (by decide), by rw [h9, e6_], by rw [hc3 5 (by decide), h5, e6_], fun k h1 h2 => hd k h1 (by omega)⟩⟩
            · skip
              refine lv_aload_n hx hb (pc := 125) dX3_begins_125 rfl (lv_at hl 1 rfl) ?_
              refine M_get hC hX hM (pc := 126) 11 (by decide) q899 rfl (v := .ref (m + 6)) rfl dX3_begins_126 ?_
              refine lv_iload_n hx hb (pc := 129) dX3_begins_129 rfl (lv_at hl 0 rfl) ?_
              refine lv_aload_n hx hb (pc := 130) dX3_begins_130 rfl (lv_at hl 1 rfl) ?_
              refine M_get hC hX hM (pc := 131) 6 (by decide) q894 rfl (v := .ref (m + 3)) rfl dX3_begins_131 ?_
              refine lv_iload_n hx hb (pc := 134) dX3_begins_134 rfl (lv_at hl 0 rfl) ?_
              refine M_iald hC hX hM (pc := 135) 3 (by decide) (L := 6) ⟨rfl, by decide⟩ (by omega) (z := V3 3 i) rfl dX3_begins_135 ?_
              refine j_eqi (b := V 3 i) (by rw [k3]) ?_
              refine j_iconst hC (pc := 136) dX3_begins_136 ?_
              have hw_ := hW i (by omega) (by omega)
              refine j_icmp_ne hC (pc := 137) 144 dX3_begins_137 (by decide) (by omega) (fun c3 => ?_) (fun c3 => ?_)
              · skip
                refine lv_aload_n hx hb (pc := 144) dX3_begins_144 rfl (lv_at hl 1 rfl) ?_
                refine M_get hC hX hM (pc := 145) 1 (by decide) q889 rfl (v := .ref (m + 1)) rfl dX3_begins_145 ?_
                refine j_bipush hC (pc := 148) dX3_begins_148 (by decide) ?_
                refine lv_aload_n hx hb (pc := 150) dX3_begins_150 rfl (lv_at hl 1 rfl) ?_
                refine M_get hC hX hM (pc := 151) 6 (by decide) q894 rfl (v := .ref (m + 3)) rfl dX3_begins_151 ?_
                refine lv_iload_n hx hb (pc := 154) dX3_begins_154 rfl (lv_at hl 0 rfl) ?_
                refine M_iald hC hX hM (pc := 155) 3 (by decide) (L := 6) ⟨rfl, by decide⟩ (by omega) (z := V3 3 i) rfl dX3_begins_155 ?_
                refine j_eqi (b := V 3 i) (by rw [k3]) ?_
                refine j_imul hC (pc := 156) dX3_begins_156 ?_
                refine j_iconst hC (pc := 157) dX3_begins_157 ?_
                have hni := numF_rg (hI.num (f := V 3 i) (w := 1) (by omega))
                refine j_iadd hC (pc := 158) dX3_begins_158 ?_
                refine M_iald hC hX hM (pc := 159) 1 (by decide) (L := 96) ⟨rfl, by decide⟩ (by omega) (z := V3 1 ((6 * (V 3 i)) + 1)) rfl dX3_begins_159 ?_
                refine j_eqi (b := V 1 (6 * V 3 i + 1)) (by rw [k1]) ?_
                refine M_iast hC hX hM ho (pc := 160) 6 (by decide) (L := 6) ⟨rfl, by decide⟩ (by omega) dX3_begins_160 (fun g H locs hX hM ho => ?_)
                refine lv_aload_n hx hb (pc := 161) dX3_begins_161 rfl (lv_at hl 1 rfl) ?_
                refine M_get hC hX hM (pc := 162) 12 (by decide) q900 rfl (v := .ref (m + 7)) rfl dX3_begins_162 ?_
                refine lv_iload_n hx hb (pc := 165) dX3_begins_165 rfl (lv_at hl 0 rfl) ?_
                refine lv_aload_n hx hb (pc := 166) dX3_begins_166 rfl (lv_at hl 1 rfl) ?_
                refine M_get hC hX hM (pc := 167) 6 (by decide) q894 rfl (v := .ref (m + 3)) rfl dX3_begins_167 ?_
                refine lv_iload_n hx hb (pc := 170) dX3_begins_170 rfl (lv_at hl 0 rfl) ?_
                refine M_iald hC hX hM (pc := 171) 3 (by decide) (L := 6) ⟨rfl, by decide⟩ (by omega) (z := V3 3 i) rfl dX3_begins_171 ?_
                refine j_eqi (b := V 3 i) (by show V3 3 i = _; rw [k3]) ?_
                refine j_iconst hC (pc := 172) dX3_begins_172 ?_
                refine j_icmp_eq hC (pc := 173) 180 dX3_begins_173 (by decide) (by omega) (fun c4 => ?_) (fun c4 => ?_)
                · skip
                  refine j_iconst hC (pc := 180) dX3_begins_180 ?_
                  refine M_zast hC hX hM ho (pc := 181) (by omega) (by omega) dX3_begins_181 (fun g H locs hX hM ho => ?_)
                  refine j_iinc hC (pc := 182) (lv' := [(1, .int (iI (i + 1))), (0, .ref (m))]) dX3_begins_182 hl (k := 0) rfl (by decide) rfl (fun ls hl => ?_)
                  refine j_goto hC (pc := 185) 119 dX3_begins_185 (by decide) ?_
                  exact ih119 (i + 1) _ (by omega) (by omega) ((hc3.up 6 _ (by decide)).up 7 _ (by decide)) (fun k h1 h2 => ⟨by show uI (V3 6) i _ k = _; unfold uI; split; rename_i q; rw [q, if_neg (by omega)]; exact (hd k h1 (by omega)).1, by show uI (V3 7) i _ k = _; unfold uI; split; rename_i q; rw [q, if_pos (by omega)]; exact (hd k h1 (by omega)).2⟩) _ _ _ hX hM ho ls (lv_sub hl [0, 1] rfl)
                · skip
                  refine j_iconst hC (pc := 176) dX3_begins_176 ?_
                  refine j_goto hC (pc := 177) 181 dX3_begins_177 (by decide) ?_
                  refine M_zast hC hX hM ho (pc := 181) (by omega) (by omega) dX3_begins_181 (fun g H locs hX hM ho => ?_)
                  refine j_iinc hC (pc := 182) (lv' := [(1, .int (iI (i + 1))), (0, .ref (m))]) dX3_begins_182 hl (k := 0) rfl (by decide) rfl (fun ls hl => ?_)
                  refine j_goto hC (pc := 185) 119 dX3_begins_185 (by decide) ?_
                  exact ih119 (i + 1) _ (by omega) (by omega) ((hc3.up 6 _ (by decide)).up 7 _ (by decide)) (fun k h1 h2 => ⟨by show uI (V3 6) i _ k = _; unfold uI; split; rename_i q; rw [q, if_neg (by omega)]; exact (hd k h1 (by omega)).1, by show uI (V3 7) i _ k = _; unfold uI; split; rename_i q; rw [q, if_neg (by omega)]; exact (hd k h1 (by omega)).2⟩) _ _ _ hX hM ho ls (lv_sub hl [0, 1] rfl)
              · skip
                refine j_iconst hC (pc := 140) dX3_begins_140 ?_
                refine j_goto hC (pc := 141) 160 dX3_begins_141 (by decide) ?_
                refine M_iast hC hX hM ho (pc := 160) 6 (by decide) (L := 6) ⟨rfl, by decide⟩ (by omega) dX3_begins_160 (fun g H locs hX hM ho => ?_)
                refine lv_aload_n hx hb (pc := 161) dX3_begins_161 rfl (lv_at hl 1 rfl) ?_
                refine M_get hC hX hM (pc := 162) 12 (by decide) q900 rfl (v := .ref (m + 7)) rfl dX3_begins_162 ?_
                refine lv_iload_n hx hb (pc := 165) dX3_begins_165 rfl (lv_at hl 0 rfl) ?_
                refine lv_aload_n hx hb (pc := 166) dX3_begins_166 rfl (lv_at hl 1 rfl) ?_
                refine M_get hC hX hM (pc := 167) 6 (by decide) q894 rfl (v := .ref (m + 3)) rfl dX3_begins_167 ?_
                refine lv_iload_n hx hb (pc := 170) dX3_begins_170 rfl (lv_at hl 0 rfl) ?_
                refine M_iald hC hX hM (pc := 171) 3 (by decide) (L := 6) ⟨rfl, by decide⟩ (by omega) (z := V3 3 i) rfl dX3_begins_171 ?_
                refine j_eqi (b := V 3 i) (by show V3 3 i = _; rw [k3]) ?_
                refine j_iconst hC (pc := 172) dX3_begins_172 ?_
                refine j_icmp_eq hC (pc := 173) 180 dX3_begins_173 (by decide) (by omega) (fun c5 => ?_) (fun c5 => ?_)
                · skip
                  refine j_iconst hC (pc := 180) dX3_begins_180 ?_
                  refine M_zast hC hX hM ho (pc := 181) (by omega) (by omega) dX3_begins_181 (fun g H locs hX hM ho => ?_)
                  refine j_iinc hC (pc := 182) (lv' := [(1, .int (iI (i + 1))), (0, .ref (m))]) dX3_begins_182 hl (k := 0) rfl (by decide) rfl (fun ls hl => ?_)
                  refine j_goto hC (pc := 185) 119 dX3_begins_185 (by decide) ?_
                  exact ih119 (i + 1) _ (by omega) (by omega) ((hc3.up 6 _ (by decide)).up 7 _ (by decide)) (fun k h1 h2 => ⟨by show uI (V3 6) i _ k = _; unfold uI; split; rename_i q; rw [q, if_pos (by omega)]; exact (hd k h1 (by omega)).1, by show uI (V3 7) i _ k = _; unfold uI; split; rename_i q; rw [q, if_pos (by omega)]; exact (hd k h1 (by omega)).2⟩) _ _ _ hX hM ho ls (lv_sub hl [0, 1] rfl)
                · skip
                  refine j_iconst hC (pc := 176) dX3_begins_176 ?_
                  refine j_goto hC (pc := 177) 181 dX3_begins_177 (by decide) ?_
                  refine M_zast hC hX hM ho (pc := 181) (by omega) (by omega) dX3_begins_181 (fun g H locs hX hM ho => ?_)
                  refine j_iinc hC (pc := 182) (lv' := [(1, .int (iI (i + 1))), (0, .ref (m))]) dX3_begins_182 hl (k := 0) rfl (by decide) rfl (fun ls hl => ?_)
                  refine j_goto hC (pc := 185) 119 dX3_begins_185 (by decide) ?_
                  exact ih119 (i + 1) _ (by omega) (by omega) ((hc3.up 6 _ (by decide)).up 7 _ (by decide)) (fun k h1 h2 => ⟨by show uI (V3 6) i _ k = _; unfold uI; split; rename_i q; rw [q, if_pos (by omega)]; exact (hd k h1 (by omega)).1, by show uI (V3 7) i _ k = _; unfold uI; split; rename_i q; rw [q, if_neg (by omega)]; exact (hd k h1 (by omega)).2⟩) _ _ _ hX hM ho ls (lv_sub hl [0, 1] rfl)
        exact L119 ((6 - 0 : Int).toNat + 1) 0 _ (by omega) (by omega) ch.rf (fun k h1 h2 => by omega) _ _ _ hX hM ho ls (lv_sub hl [0, 1] rfl)
      · skip
        refine lv_aload_n hx hb (pc := 13) dX3_begins_13 rfl (lv_at hl 1 rfl) ?_
        refine M_get hC hX hM (pc := 14) 6 (by decide) q894 rfl (v := .ref (m + 3)) rfl dX3_begins_14 ?_
        refine lv_iload_n hx hb (pc := 17) dX3_begins_17 rfl (lv_at hl 0 rfl) ?_
        refine M_iald hC hX hM (pc := 18) 3 (by decide) (L := 6) ⟨rfl, by decide⟩ (by omega) (z := V1 3 i) rfl dX3_begins_18 ?_
        refine j_eqi (b := V 3 i) (by rw [e3]) ?_
        refine j_iconst hC (pc := 19) dX3_begins_19 ?_
        have hw_ := hW i (by omega) (by omega)
        refine j_icmp_eq hC (pc := 20) 111 dX3_begins_20 (by decide) (by omega) (fun c6 => ?_) (fun c6 => ?_)
        · skip
          refine j_iinc hC (pc := 111) (lv' := [(1, .int (iI (i + 1))), (0, .ref (m))]) dX3_begins_111 hl (k := 0) rfl (by decide) rfl (fun ls hl => ?_)
          refine j_goto hC (pc := 114) 7 dX3_begins_114 (by decide) ?_
          exact ih7 (i + 1) _ _ (by omega) (by omega) hcF hcV (by rw [h9, show (i + 1).toNat = i.toNat + 1 by omega, ordA_skip (by rw [ei]; omega)]) (by rw [h5, show (i + 1).toNat = i.toNat + 1 by omega, ordA_skip (by rw [ei]; omega)]) _ _ _ hX hM ho ls (lv_sub hl [0, 1] rfl)
        · skip
          refine lv_aload_n hx hb (pc := 23) dX3_begins_23 rfl (lv_at hl 1 rfl) ?_
          refine M_get hC hX hM (pc := 24) 9 (by decide) q897 rfl (v := .int (iI (F1 9))) rfl dX3_begins_24 ?_
          refine lv_istore_n (lv' := [(2, .int (iI (F1 9))), (1, .int (iI (i))), (0, .ref (m))]) hx hb (pc := 27) dX3_begins_27 rfl hl (by decide) rfl (fun ls hl => ?_)
          have L28 : ∀ (fu : Nat) (a : Int) (V2 : Nat → Int → Int), a < (fu : Int) → (0 ≤ a ∧ a ≤ F1 9) → (ch V1 V2 [5]) → (∀ j : Int, 0 ≤ j → j < a → V2 5 j = V1 5 j) → (insA (fun j => V 1 (6 * V 3 j + 5)) i (V1 5) (F1 9).toNat = insA (fun j => V 1 (6 * V 3 j + 5)) i (V2 5) a.toNat) → ∀ (g : GH) (H : Heap) (locs : List Loc), Wd D (gA g0 n) s g n H locs → mR T g m F1 V2 → off g0 g m 27 → ∀ (ls : Array Slot), lv_has ls 3 [(2, .int (iI (a))), (1, .int (iI (i))), (0, .ref (m))] → W p l e ({ frames := 0, cells := 0, slots := 0, locals := 0 } : Room) s mi args below meth c H locs 0 0 Q (F0 mi 28 ls []) := by
            intro fu
            induction fu with
            | zero =>
              intro a V2 hfu ha hc2 hlow hin g H locs hX hM ho ls hl
              exfalso
              omega
            | succ fu ih28 =>
              intro a V2 hfu ha hc2 hlow hin g H locs hX hM ho ls hl
              have g1 : V2 1 = V 1 := (hc2 1 (by decide)).trans e1
              have g3 : V2 3 = V 3 := (hc2 3 (by decide)).trans e3
              refine lv_iload_n hx hb (pc := 28) dX3_begins_28 rfl (lv_at hl 0 rfl) ?_
              refine j_if_le hC (pc := 29) 94 dX3_begins_29 (by decide) (by omega) (fun c7 => ?_) (fun c7 => ?_)
              · skip
                refine lv_aload_n hx hb (pc := 94) dX3_begins_94 rfl (lv_at hl 2 rfl) ?_
                refine M_get hC hX hM (pc := 95) 10 (by decide) q898 rfl (v := .ref (m + 5)) rfl dX3_begins_95 ?_
                refine lv_iload_n hx hb (pc := 98) dX3_begins_98 rfl (lv_at hl 0 rfl) ?_
                refine lv_iload_n hx hb (pc := 99) dX3_begins_99 rfl (lv_at hl 1 rfl) ?_
                refine M_iast hC hX hM ho (pc := 100) 5 (by decide) (L := 6) ⟨rfl, by decide⟩ (by omega) dX3_begins_100 (fun g H locs hX hM ho => ?_)
                refine lv_aload_n hx hb (pc := 101) dX3_begins_101 rfl (lv_at hl 2 rfl) ?_
                refine lv_dup hx hb (pc := 102) dX3_begins_102 rfl ?_
                refine M_get hC hX hM (pc := 103) 9 (by decide) q897 rfl (v := .int (iI (F1 9))) rfl dX3_begins_103 ?_
                refine j_iconst hC (pc := 106) dX3_begins_106 ?_
                refine j_iadd hC (pc := 107) dX3_begins_107 ?_
                refine M_put hC hX hM ho (pc := 108) 9 (by decide) q897 rfl dX3_begins_108 (fun g H locs hX hM ho => ?_)
                refine j_iinc hC (pc := 111) (lv' := [(1, .int (iI (i + 1))), (2, .int (iI (a))), (0, .ref (m))]) dX3_begins_111 hl (k := 1) rfl (by decide) rfl (fun ls hl => ?_)
                refine j_goto hC (pc := 114) 7 dX3_begins_114 (by decide) ?_
                exact ih7 (i + 1) _ _ (by omega) (by omega) (hcF.up 9 _ (by decide)) ((ch.tr hcV hc2 (by decide)).up 5 _ (by decide)) (by show F1 9 + 1 = _; rw [show (i + 1).toNat = i.toNat + 1 by omega, ordA_put (by rw [ei]; omega), h9]; rfl) (by show uI (V2 5) a i = _; rw [show (i + 1).toNat = i.toNat + 1 by omega, ordA_put (by rw [ei]; omega), ← h5, ei]; dsimp only; rw [show (ordA (V 3) (fun j => V 1 (6 * V 3 j + 5)) (V 5) i.toNat).2 = (F1 9).toNat by omega, hin]; exact (insA_z (by omega)).symm) _ _ _ hX hM ho ls (lv_sub hl [0, 2] rfl)
              · skip
                refine lv_aload_n hx hb (pc := 32) dX3_begins_32 rfl (lv_at hl 2 rfl) ?_
                refine M_get hC hX hM (pc := 33) 1 (by decide) q889 rfl (v := .ref (m + 1)) rfl dX3_begins_33 ?_
                refine j_bipush hC (pc := 36) dX3_begins_36 (by decide) ?_
                refine lv_aload_n hx hb (pc := 38) dX3_begins_38 rfl (lv_at hl 2 rfl) ?_
                refine M_get hC hX hM (pc := 39) 6 (by decide) q894 rfl (v := .ref (m + 3)) rfl dX3_begins_39 ?_
                refine lv_aload_n hx hb (pc := 42) dX3_begins_42 rfl (lv_at hl 2 rfl) ?_
                refine M_get hC hX hM (pc := 43) 10 (by decide) q898 rfl (v := .ref (m + 5)) rfl dX3_begins_43 ?_
                refine lv_iload_n hx hb (pc := 46) dX3_begins_46 rfl (lv_at hl 0 rfl) ?_
                refine j_iconst hC (pc := 47) dX3_begins_47 ?_
                refine j_isub hC (pc := 48) dX3_begins_48 ?_
                have hj_ := hok.2 (a - 1) (by omega) (by omega)
                rw [← hlow (a - 1) (by omega) (by omega)] at hj_
                have hwj := hW (V2 5 (a - 1)) (by omega) (by omega)
                have hnj := numF_rg (hI.num (f := V 3 (V2 5 (a - 1))) (w := 5) (by omega))
                have hni := numF_rg (hI.num (f := V 3 i) (w := 5) (by omega))
                refine M_iald hC hX hM (pc := 49) 5 (by decide) (L := 6) ⟨rfl, by decide⟩ (by omega) (z := V2 5 (a - 1)) rfl dX3_begins_49 ?_
                refine M_iald hC hX hM (pc := 50) 3 (by decide) (L := 6) ⟨rfl, by decide⟩ (by omega) (z := V2 3 (V2 5 (a - 1))) rfl dX3_begins_50 ?_
                refine j_eqi (b := V 3 (V2 5 (a - 1))) (by rw [g3]) ?_
                refine j_imul hC (pc := 51) dX3_begins_51 ?_
                refine j_iconst hC (pc := 52) dX3_begins_52 ?_
                refine j_iadd hC (pc := 53) dX3_begins_53 ?_
                refine M_iald hC hX hM (pc := 54) 1 (by decide) (L := 96) ⟨rfl, by decide⟩ (by omega) (z := V2 1 ((6 * (V 3 (V2 5 (a - 1)))) + 5)) rfl dX3_begins_54 ?_
                refine j_eqi (b := V 1 (6 * V 3 (V2 5 (a - 1)) + 5)) (by rw [g1]) ?_
                refine lv_aload_n hx hb (pc := 55) dX3_begins_55 rfl (lv_at hl 2 rfl) ?_
                refine M_get hC hX hM (pc := 56) 1 (by decide) q889 rfl (v := .ref (m + 1)) rfl dX3_begins_56 ?_
                refine j_bipush hC (pc := 59) dX3_begins_59 (by decide) ?_
                refine lv_aload_n hx hb (pc := 61) dX3_begins_61 rfl (lv_at hl 2 rfl) ?_
                refine M_get hC hX hM (pc := 62) 6 (by decide) q894 rfl (v := .ref (m + 3)) rfl dX3_begins_62 ?_
                refine lv_iload_n hx hb (pc := 65) dX3_begins_65 rfl (lv_at hl 1 rfl) ?_
                refine M_iald hC hX hM (pc := 66) 3 (by decide) (L := 6) ⟨rfl, by decide⟩ (by omega) (z := V2 3 i) rfl dX3_begins_66 ?_
                refine j_eqi (b := V 3 i) (by rw [g3]) ?_
                refine j_imul hC (pc := 67) dX3_begins_67 ?_
                refine j_iconst hC (pc := 68) dX3_begins_68 ?_
                refine j_iadd hC (pc := 69) dX3_begins_69 ?_
                refine M_iald hC hX hM (pc := 70) 1 (by decide) (L := 96) ⟨rfl, by decide⟩ (by omega) (z := V2 1 ((6 * (V 3 i)) + 5)) rfl dX3_begins_70 ?_
                refine j_eqi (b := V 1 (6 * V 3 i + 5)) (by rw [g1]) ?_
                refine j_icmp_ge hC (pc := 71) 94 dX3_begins_71 (by decide) (by omega) (fun c8 => ?_) (fun c8 => ?_)
                · skip
                  refine lv_aload_n hx hb (pc := 94) dX3_begins_94 rfl (lv_at hl 2 rfl) ?_
                  refine M_get hC hX hM (pc := 95) 10 (by decide) q898 rfl (v := .ref (m + 5)) rfl dX3_begins_95 ?_
                  refine lv_iload_n hx hb (pc := 98) dX3_begins_98 rfl (lv_at hl 0 rfl) ?_
                  refine lv_iload_n hx hb (pc := 99) dX3_begins_99 rfl (lv_at hl 1 rfl) ?_
                  refine M_iast hC hX hM ho (pc := 100) 5 (by decide) (L := 6) ⟨rfl, by decide⟩ (by omega) dX3_begins_100 (fun g H locs hX hM ho => ?_)
                  refine lv_aload_n hx hb (pc := 101) dX3_begins_101 rfl (lv_at hl 2 rfl) ?_
                  refine lv_dup hx hb (pc := 102) dX3_begins_102 rfl ?_
                  refine M_get hC hX hM (pc := 103) 9 (by decide) q897 rfl (v := .int (iI (F1 9))) rfl dX3_begins_103 ?_
                  refine j_iconst hC (pc := 106) dX3_begins_106 ?_
                  refine j_iadd hC (pc := 107) dX3_begins_107 ?_
                  refine M_put hC hX hM ho (pc := 108) 9 (by decide) q897 rfl dX3_begins_108 (fun g H locs hX hM ho => ?_)
                  refine j_iinc hC (pc := 111) (lv' := [(1, .int (iI (i + 1))), (2, .int (iI (a))), (0, .ref (m))]) dX3_begins_111 hl (k := 1) rfl (by decide) rfl (fun ls hl => ?_)
                  refine j_goto hC (pc := 114) 7 dX3_begins_114 (by decide) ?_
                  exact ih7 (i + 1) _ _ (by omega) (by omega) (hcF.up 9 _ (by decide)) ((ch.tr hcV hc2 (by decide)).up 5 _ (by decide)) (by show F1 9 + 1 = _; rw [show (i + 1).toNat = i.toNat + 1 by omega, ordA_put (by rw [ei]; omega), h9]; rfl) (by show uI (V2 5) a i = _; rw [show (i + 1).toNat = i.toNat + 1 by omega, ordA_put (by rw [ei]; omega), ← h5, ei]; dsimp only; rw [show (ordA (V 3) (fun j => V 1 (6 * V 3 j + 5)) (V 5) i.toNat).2 = (F1 9).toNat by omega, hin]; exact (insA_ge (by omega) (by omega)).symm) _ _ _ hX hM ho ls (lv_sub hl [0, 2] rfl)
                · skip
                  refine lv_aload_n hx hb (pc := 74) dX3_begins_74 rfl (lv_at hl 2 rfl) ?_
                  refine M_get hC hX hM (pc := 75) 10 (by decide) q898 rfl (v := .ref (m + 5)) rfl dX3_begins_75 ?_
                  refine lv_iload_n hx hb (pc := 78) dX3_begins_78 rfl (lv_at hl 0 rfl) ?_
                  refine lv_aload_n hx hb (pc := 79) dX3_begins_79 rfl (lv_at hl 2 rfl) ?_
                  refine M_get hC hX hM (pc := 80) 10 (by decide) q898 rfl (v := .ref (m + 5)) rfl dX3_begins_80 ?_
                  refine lv_iload_n hx hb (pc := 83) dX3_begins_83 rfl (lv_at hl 0 rfl) ?_
                  refine j_iconst hC (pc := 84) dX3_begins_84 ?_
                  refine j_isub hC (pc := 85) dX3_begins_85 ?_
                  refine M_iald hC hX hM (pc := 86) 5 (by decide) (L := 6) ⟨rfl, by decide⟩ (by omega) (z := V2 5 (a - 1)) rfl dX3_begins_86 ?_
                  refine M_iast hC hX hM ho (pc := 87) 5 (by decide) (L := 6) ⟨rfl, by decide⟩ (by omega) dX3_begins_87 (fun g H locs hX hM ho => ?_)
                  refine j_iinc hC (pc := 88) (lv' := [(2, .int (iI (a + (-1)))), (1, .int (iI (i))), (0, .ref (m))]) dX3_begins_88 hl (k := 0) rfl (by decide) rfl (fun ls hl => ?_)
                  refine j_goto hC (pc := 91) 28 dX3_begins_91 (by decide) ?_
                  exact ih28 (a + (-1)) _ (by omega) (by omega) (hc2.up 5 _ (by decide)) (fun j h1 h2 => by show uI (V2 5) a _ j = _; rw [uI_n _ _ (by omega)]; exact hlow j h1 (by omega)) (by rw [hin]; exact insA_lt (by omega) (by omega)) _ _ _ hX hM ho ls (lv_sub hl [0, 1, 2] rfl)
          exact L28 (((F1 9) : Int).toNat + 1) (F1 9) _ (by omega) (by omega) ch.rf (fun _ _ _ => rfl) rfl _ _ _ hX hM ho ls (lv_sub hl [0, 1, 2] rfl)
  exact L7 ((6 - 0 : Int).toNat + 1) 0 _ _ (by omega) (by omega) (ch.rf.up 9 _ (by decide)) ch.rf rfl rfl _ _ _ hX hM ho ls (lv_sub hl [0, 1] rfl)
