/-! FairFight: the digest -/
set_option maxHeartbeats 8000000 in
set_option maxRecDepth 100000 in
theorem f0_digest (D : va_G) (T N : Nat → Nat) (l : Launch) {g0 : GH} {S : LbS} {Z : Nat → Int → Int} (hL : lR T g0 S Z) (n : Nat) (x : Nat) (F : Nat → Int) (V : Nat → Int → Int) (hx0 : xRel N x S Z F V) (hI : SI F V) : Met l yX0_digest (ws_ yX0_digest cX0_digest 5 (some .long)) ({ frames := 2, cells := 0, slots := 0, locals := 42 } : Room) (gPc D T N [.ref (zB S 0)] g0 n) (gQl D g0 n (fun r g' n' => n' = n ∧ ∃ Z', lR T g' S Z' ∧ Z' = Z ∧ r = digestF F V)) 0 0 (gA g0 n) := by
  refine j_start (by decide) (Nat.le_of_ble_eq_true rfl) ?_
  intro p e s mi args below meth c hC hr hlk hnm hX ls hl
  have hC : Ct D T N (gA g0 n) p s mi args c cX0_digest RX0 5 := hC
  have hx := hC.x
  have hb := hC.b
  generalize hQ : MQ below _ args s 0 0 (gA g0 n) = Q
  have hl : lv_has ls 5 [(0, .ref (zB S 0))] := hl
  have hnn := hI.nums
  have hxn := hx0.n
  refine j_ldc2 hC (pc := 0) (z := 17) q879 dX0_digest_0 rfl ?_
  refine lv_lstore_n (lv' := [(1, .long (lI (17))), (0, .ref (zB S 0))]) hx hb (pc := 3) dX0_digest_3 rfl hl (by decide) rfl (fun ls hl => ?_)
  refine j_iconst hC (pc := 4) dX0_digest_4 ?_
  refine lv_istore_n (lv' := [(3, .int (iI (0))), (1, .long (lI (17))), (0, .ref (zB S 0))]) hx hb (pc := 5) dX0_digest_5 rfl hl (by decide) rfl (fun ls hl => ?_)
  have L6 : ∀ (fu : Nat) (i : Int) (z : Int) (g : GH), 10 - i < (fu : Int) → (0 ≤ i ∧ i ≤ 10) → (z = digC (countF F V) 17 i.toNat) → ∀ (H : Heap) (locs : List Loc), Wd D (gA g0 n) s g n H locs → lR T g S Z → ∀ (ls : Array Slot), lv_has ls 5 [(3, .int (iI (i))), (1, .long (lI (z))), (0, .ref (zB S 0))] → W p l e ({ frames := 2, cells := 0, slots := 0, locals := 42 } : Room) s mi args below meth c H locs 0 0 Q (F0 mi 6 ls []) := by
    intro fu
    induction fu with
    | zero =>
      intro i z g hfu hi hz H locs hX hL ls hl
      exfalso
      omega
    | succ fu ih6 =>
      intro i z g hfu hi hz H locs hX hL ls hl
      refine lv_iload_n hx hb (pc := 6) dX0_digest_6 rfl (lv_at hl 0 rfl) ?_
      refine j_bipush hC (pc := 7) dX0_digest_7 (by decide) ?_
      refine j_icmp_ge hC (pc := 9) 41 dX0_digest_9 (by decide) (by omega) (fun c1 => ?_) (fun c1 => ?_)
      · skip
        refine j_iconst hC (pc := 41) dX0_digest_41 ?_
        refine lv_istore_n (lv' := [(3, .int (iI (0))), (1, .long (lI (z))), (0, .ref (zB S 0))]) hx hb (pc := 42) dX0_digest_42 rfl hl (by decide) rfl (fun ls hl => ?_)
        have L43 : ∀ (fu : Nat) (i : Int) (z : Int) (g : GH), 16 - i < (fu : Int) → (0 ≤ i ∧ i ≤ F 0) → (z = digF (V 1) (digC (countF F V) 17 10) (6 * i).toNat) → ∀ (H : Heap) (locs : List Loc), Wd D (gA g0 n) s g n H locs → lR T g S Z → ∀ (ls : Array Slot), lv_has ls 5 [(3, .int (iI (i))), (1, .long (lI (z))), (0, .ref (zB S 0))] → W p l e ({ frames := 2, cells := 0, slots := 0, locals := 42 } : Room) s mi args below meth c H locs 0 0 Q (F0 mi 43 ls []) := by
          intro fu
          induction fu with
          | zero =>
            intro i z g hfu hi hz H locs hX hL ls hl
            exfalso
            omega
          | succ fu ih43 =>
            intro i z g hfu hi hz H locs hX hL ls hl
            refine lv_iload_n hx hb (pc := 43) dX0_digest_43 rfl (lv_at hl 0 rfl) ?_
            refine lv_aload_n hx hb (pc := 44) dX0_digest_44 rfl (lv_at hl 2 rfl) ?_
            refine L_get hC hX hL in_X0 (ci := 0) rfl (pc := 45) 0 hx0.T.2.2.1 1 (by decide) q149 rfl (v := .int (iI (Z 0 1))) rfl dX0_digest_45 ?_
            refine j_icmp_ge hC (pc := 48) 93 dX0_digest_48 (by decide) (by omega) (fun c2 => ?_) (fun c2 => ?_)
            · skip
              refine j_iconst hC (pc := 93) dX0_digest_93 ?_
              refine lv_istore_n (lv' := [(3, .int (iI (0))), (1, .long (lI (z))), (0, .ref (zB S 0))]) hx hb (pc := 94) dX0_digest_94 rfl hl (by decide) rfl (fun ls hl => ?_)
              have L95 : ∀ (fu : Nat) (i : Int) (z : Int) (g : GH), 2 - i < (fu : Int) → (0 ≤ i ∧ i ≤ 2) → (z = digF (V 2) (digF (V 1) (digC (countF F V) 17 10) (6 * F 0).toNat) (3 * i).toNat) → ∀ (H : Heap) (locs : List Loc), Wd D (gA g0 n) s g n H locs → lR T g S Z → ∀ (ls : Array Slot), lv_has ls 5 [(3, .int (iI (i))), (1, .long (lI (z))), (0, .ref (zB S 0))] → W p l e ({ frames := 2, cells := 0, slots := 0, locals := 42 } : Room) s mi args below meth c H locs 0 0 Q (F0 mi 95 ls []) := by
                intro fu
                induction fu with
                | zero =>
                  intro i z g hfu hi hz H locs hX hL ls hl
                  exfalso
                  omega
                | succ fu ih95 =>
                  intro i z g hfu hi hz H locs hX hL ls hl
                  refine lv_iload_n hx hb (pc := 95) dX0_digest_95 rfl (lv_at hl 0 rfl) ?_
                  refine j_iconst hC (pc := 96) dX0_digest_96 ?_
                  refine j_icmp_ge hC (pc := 97) 138 dX0_digest_97 (by decide) (by omega) (fun c3 => ?_) (fun c3 => ?_)
                  · skip
                    refine j_iconst hC (pc := 138) dX0_digest_138 ?_
                    refine lv_istore_n (lv' := [(3, .int (iI (0))), (1, .long (lI (z))), (0, .ref (zB S 0))]) hx hb (pc := 139) dX0_digest_139 rfl hl (by decide) rfl (fun ls hl => ?_)
                    have L140 : ∀ (fu : Nat) (i : Int) (z : Int) (g : GH), 3 - i < (fu : Int) → (0 ≤ i ∧ i ≤ 3) → (z = digF (V 20) (digF (V 2) (digF (V 1) (digC (countF F V) 17 10) (6 * F 0).toNat) 6) (i).toNat) → ∀ (H : Heap) (locs : List Loc), Wd D (gA g0 n) s g n H locs → lR T g S Z → ∀ (ls : Array Slot), lv_has ls 5 [(3, .int (iI (i))), (1, .long (lI (z))), (0, .ref (zB S 0))] → W p l e ({ frames := 2, cells := 0, slots := 0, locals := 42 } : Room) s mi args below meth c H locs 0 0 Q (F0 mi 140 ls []) := by
                      intro fu
                      induction fu with
                      | zero =>
                        intro i z g hfu hi hz H locs hX hL ls hl
                        exfalso
                        omega
                      | succ fu ih140 =>
                        intro i z g hfu hi hz H locs hX hL ls hl
                        refine lv_iload_n hx hb (pc := 140) dX0_digest_140 rfl (lv_at hl 0 rfl) ?_
                        refine j_iconst hC (pc := 141) dX0_digest_141 ?_
                        refine j_icmp_ge hC (pc := 142) 165 dX0_digest_142 (by decide) (by omega) (fun c4 => ?_) (fun c4 => ?_)
                        · skip
                          refine lv_lload_n hx hb (pc := 165) dX0_digest_165 rfl (lv_at hl 1 rfl) ?_
                          subst hQ
                          exact j_lret hC (pc := 166) hX hr hlk (Nat.le_of_ble_eq_true rfl) (Nat.le_of_ble_eq_true rfl) dX0_digest_166 ⟨rfl, _, hL, ⟨rfl, by unfold digestF; rw [hz, show i.toNat = 3 by omega]⟩⟩
                        · skip
                          have hv1_ := hI.i20 (i := i) (by omega)
                          have hv2_ := hx0.pl.1 i (by omega) (by omega)
                          refine j_ldc2 hC (pc := 145) (z := 31) q880 dX0_digest_145 rfl ?_
                          refine lv_lload_n hx hb (pc := 148) dX0_digest_148 rfl (lv_at hl 1 rfl) ?_
                          refine j_lmul hC (pc := 149) dX0_digest_149 ?_
                          refine lv_aload_n hx hb (pc := 150) dX0_digest_150 rfl (lv_at hl 2 rfl) ?_
                          refine L_getr hC hX hL in_X0 (ci := 0) rfl (pc := 151) 0 hx0.T.2.2.1 14 (by decide) q167 rfl (q := zA S 0 14) (b := zB S 15) hx0.r14 rfl dX0_digest_151 ?_
                          refine lv_iload_n hx hb (pc := 154) dX0_digest_154 rfl (lv_at hl 0 rfl) ?_
                          refine L_iald hC hX hL (pc := 155) 15 (hx0.sp.k 15 rfl) (L := 3) (hx0.sp.n 15 rfl) (by decide) (by omega) (z := Z 15 i) rfl dX0_digest_155 ?_
                          refine j_i2l hC (pc := 156) dX0_digest_156 (by omega) ?_
                          refine j_ladd hC (pc := 157) dX0_digest_157 ?_
                          refine lv_lstore_n (lv' := [(1, .long (lI ((31 * z) + (Z 15 i)))), (3, .int (iI (i))), (0, .ref (zB S 0))]) hx hb (pc := 158) dX0_digest_158 rfl hl (by decide) rfl (fun ls hl => ?_)
                          refine j_iinc hC (pc := 159) (lv' := [(3, .int (iI (i + 1))), (1, .long (lI ((31 * z) + (Z 15 i)))), (0, .ref (zB S 0))]) dX0_digest_159 hl (k := 1) rfl (by decide) rfl (fun ls hl => ?_)
                          refine j_goto hC (pc := 162) 140 dX0_digest_162 (by decide) ?_
                          exact ih140 (i + 1) ((31 * z) + (Z 15 i)) _ (by omega) (by omega) (by rw [show (i + 1).toNat = (i).toNat + 1 by omega, hz]; show _ = 31 * digF (V 20) (digF (V 2) (digF (V 1) (digC (countF F V) 17 10) (6 * F 0).toNat) 6) (i).toNat + (V 20) (((i).toNat : Nat) : Int); rw [Int.toNat_of_nonneg (by omega), hx0.pl.1 i (by omega) (by omega)]) _ _ hX hL ls (lv_sub hl [0, 1, 2] rfl)
                    exact L140 ((3 - 0 : Int).toNat + 1) 0 z _ (by omega) (by omega) (by have hz := hz; rw [show (3 * i).toNat = 6 by omega] at hz; exact hz) _ _ hX hL ls (lv_sub hl [0, 1, 2] rfl)
                  · skip
                    refine j_iconst hC (pc := 100) dX0_digest_100 ?_
                    refine lv_istore (lv' := [(4, .int (iI (0))), (3, .int (iI (i))), (1, .long (lI (z))), (0, .ref (zB S 0))]) hx hb (pc := 101) dX0_digest_101 hl (by decide) rfl (fun ls hl => ?_)
                    have L103 : ∀ (fu : Nat) (w : Int) (z : Int) (g : GH), 3 - w < (fu : Int) → (0 ≤ w ∧ w ≤ 3) → (z = digF (V 2) (digF (V 1) (digC (countF F V) 17 10) (6 * F 0).toNat) (3 * i + w).toNat) → ∀ (H : Heap) (locs : List Loc), Wd D (gA g0 n) s g n H locs → lR T g S Z → ∀ (ls : Array Slot), lv_has ls 5 [(4, .int (iI (w))), (3, .int (iI (i))), (1, .long (lI (z))), (0, .ref (zB S 0))] → W p l e ({ frames := 2, cells := 0, slots := 0, locals := 42 } : Room) s mi args below meth c H locs 0 0 Q (F0 mi 103 ls []) := by
                      intro fu
                      induction fu with
                      | zero =>
                        intro w z g hfu hw hz H locs hX hL ls hl
                        exfalso
                        omega
                      | succ fu ih103 =>
                        intro w z g hfu hw hz H locs hX hL ls hl
                        refine lv_iload hx hb (pc := 103) dX0_digest_103 (lv_at hl 0 rfl) ?_
                        refine j_iconst hC (pc := 105) dX0_digest_105 ?_
                        refine j_icmp_ge hC (pc := 106) 132 dX0_digest_106 (by decide) (by omega) (fun c5 => ?_) (fun c5 => ?_)
                        · skip
                          refine j_iinc hC (pc := 132) (lv' := [(3, .int (iI (i + 1))), (4, .int (iI (w))), (1, .long (lI (z))), (0, .ref (zB S 0))]) dX0_digest_132 hl (k := 1) rfl (by decide) rfl (fun ls hl => ?_)
                          refine j_goto hC (pc := 135) 95 dX0_digest_135 (by decide) ?_
                          exact ih95 (i + 1) z _ (by omega) (by omega) (by have hz := hz; rw [show 3 * i + w = 3 * (i + 1) by omega] at hz; exact hz) _ _ hX hL ls (lv_sub hl [0, 2, 3] rfl)
                        · skip
                          have hrn := hx0.rown (i := i) (by omega)
                          have hv1_ := hI.i2 (i := 3 * i + w) (by omega)
                          have hv2_ := hx0.sval (i := i) (q := w) (by omega) (by omega)
                          refine j_ldc2 hC (pc := 109) (z := 31) q880 dX0_digest_109 rfl ?_
                          refine lv_lload_n hx hb (pc := 112) dX0_digest_112 rfl (lv_at hl 2 rfl) ?_
                          refine j_lmul hC (pc := 113) dX0_digest_113 ?_
                          refine lv_aload_n hx hb (pc := 114) dX0_digest_114 rfl (lv_at hl 3 rfl) ?_
                          refine L_getr hC hX hL in_X0 (ci := 0) rfl (pc := 115) 0 hx0.T.2.2.1 2 (by decide) q150 rfl (q := zA S 0 2) (b := zB S 2) hx0.r2 rfl dX0_digest_115 ?_
                          refine lv_iload_n hx hb (pc := 118) dX0_digest_118 rfl (lv_at hl 1 rfl) ?_
                          refine L_aald hC hX hL (pc := 119) 2 5 (hx0.sp.k 2 rfl) (by decide) rfl rfl (L := 2) (hx0.sp.n 2 rfl) (by decide) (by omega) (b := zB S (3 + i.toNat)) (hx0.side (by omega)) dX0_digest_119 ?_
                          refine lv_iload hx hb (pc := 120) dX0_digest_120 (lv_at hl 0 rfl) ?_
                          refine L_iald hC hX hL (pc := 122) (3 + i.toNat) hrn.1.1 (L := 3) hrn.1.2 (by decide) (by omega) (z := Z (3 + i.toNat) w) (by first | rfl | (repeat rw [va_up_ne _ _ (by omega)])) dX0_digest_122 ?_
                          refine j_i2l hC (pc := 123) dX0_digest_123 (by omega) ?_
                          refine j_ladd hC (pc := 124) dX0_digest_124 ?_
                          refine lv_lstore_n (lv' := [(1, .long (lI ((31 * z) + (Z (3 + i.toNat) w)))), (4, .int (iI (w))), (3, .int (iI (i))), (0, .ref (zB S 0))]) hx hb (pc := 125) dX0_digest_125 rfl hl (by decide) rfl (fun ls hl => ?_)
                          refine j_iinc hC (pc := 126) (lv' := [(4, .int (iI (w + 1))), (1, .long (lI ((31 * z) + (Z (3 + i.toNat) w)))), (3, .int (iI (i))), (0, .ref (zB S 0))]) dX0_digest_126 hl (k := 1) rfl (by decide) rfl (fun ls hl => ?_)
                          refine j_goto hC (pc := 129) 103 dX0_digest_129 (by decide) ?_
                          exact ih103 (w + 1) ((31 * z) + (Z (3 + i.toNat) w)) _ (by omega) (by omega) (by rw [show (3 * i + (w + 1)).toNat = (3 * i + w).toNat + 1 by omega, hz]; show _ = 31 * digF (V 2) (digF (V 1) (digC (countF F V) 17 10) (6 * F 0).toNat) (3 * i + w).toNat + (V 2) (((3 * i + w).toNat : Nat) : Int); rw [Int.toNat_of_nonneg (by omega), hx0.sval (i := i) (q := w) (by omega) (by omega)]) _ _ hX hL ls (lv_sub hl [0, 2, 1, 3] rfl)
                    exact L103 ((3 - 0 : Int).toNat + 1) 0 z _ (by omega) (by omega) (by have hz := hz; rw [show 3 * i = 3 * i + 0 by omega] at hz; exact hz) _ _ hX hL ls (lv_sub hl [0, 1, 2, 3] rfl)
              exact L95 ((2 - 0 : Int).toNat + 1) 0 z _ (by omega) (by omega) (by have hz := hz; rw [show 6 * i = 6 * F 0 by omega] at hz; exact hz) _ _ hX hL ls (lv_sub hl [0, 1, 2] rfl)
            · skip
              refine j_iconst hC (pc := 51) dX0_digest_51 ?_
              refine lv_istore (lv' := [(4, .int (iI (0))), (3, .int (iI (i))), (1, .long (lI (z))), (0, .ref (zB S 0))]) hx hb (pc := 52) dX0_digest_52 hl (by decide) rfl (fun ls hl => ?_)
              have L54 : ∀ (fu : Nat) (w : Int) (z : Int) (g : GH), 6 - w < (fu : Int) → (0 ≤ w ∧ w ≤ 6) → (z = digF (V 1) (digC (countF F V) 17 10) (6 * i + w).toNat) → ∀ (H : Heap) (locs : List Loc), Wd D (gA g0 n) s g n H locs → lR T g S Z → ∀ (ls : Array Slot), lv_has ls 5 [(4, .int (iI (w))), (3, .int (iI (i))), (1, .long (lI (z))), (0, .ref (zB S 0))] → W p l e ({ frames := 2, cells := 0, slots := 0, locals := 42 } : Room) s mi args below meth c H locs 0 0 Q (F0 mi 54 ls []) := by
                intro fu
                induction fu with
                | zero =>
                  intro w z g hfu hw hz H locs hX hL ls hl
                  exfalso
                  omega
                | succ fu ih54 =>
                  intro w z g hfu hw hz H locs hX hL ls hl
                  refine lv_iload hx hb (pc := 54) dX0_digest_54 (lv_at hl 0 rfl) ?_
                  refine j_bipush hC (pc := 56) dX0_digest_56 (by decide) ?_
                  refine j_icmp_ge hC (pc := 58) 87 dX0_digest_58 (by decide) (by omega) (fun c6 => ?_) (fun c6 => ?_)
                  · skip
                    refine j_iinc hC (pc := 87) (lv' := [(3, .int (iI (i + 1))), (4, .int (iI (w))), (1, .long (lI (z))), (0, .ref (zB S 0))]) dX0_digest_87 hl (k := 1) rfl (by decide) rfl (fun ls hl => ?_)
                    refine j_goto hC (pc := 90) 43 dX0_digest_90 (by decide) ?_
                    exact ih43 (i + 1) z _ (by omega) (by omega) (by have hz := hz; rw [show 6 * i + w = 6 * (i + 1) by omega] at hz; exact hz) _ _ hX hL ls (lv_sub hl [0, 2, 3] rfl)
                  · skip
                    have hfi := hx0.fi i (by omega) (by omega)
                    have hv1_ := hI.i1 (i := 6 * i + w) (by omega)
                    have hv2_ := hfi.2.2.2 w (by omega) (by omega)
                    refine j_ldc2 hC (pc := 61) (z := 31) q880 dX0_digest_61 rfl ?_
                    refine lv_lload_n hx hb (pc := 64) dX0_digest_64 rfl (lv_at hl 2 rfl) ?_
                    refine j_lmul hC (pc := 65) dX0_digest_65 ?_
                    refine lv_aload_n hx hb (pc := 66) dX0_digest_66 rfl (lv_at hl 3 rfl) ?_
                    refine L_getr hC hX hL in_X0 (ci := 0) rfl (pc := 67) 0 hx0.T.2.2.1 0 (by decide) q148 rfl (q := zA S 0 0) (b := zB S 1) hx0.r0 rfl dX0_digest_67 ?_
                    refine lv_iload_n hx hb (pc := 70) dX0_digest_70 rfl (lv_at hl 1 rfl) ?_
                    refine L_aald hC hX hL (pc := 71) 1 7 (hx0.sp.k 1 rfl) (by decide) rfl rfl (L := 16) (hx0.sp.n 1 rfl) (by decide) (by omega) (b := zB S (32 + i.toNat)) hfi.1 dX0_digest_71 ?_
                    refine L_getrN hC hX hL in_X4 (ci := 4) rfl (pc := 72) (32 + i.toNat) hfi.2.1.1 0 (by decide) q225 rfl (q := zA S (32 + i.toNat) 0) (b := zB S (48 + i.toNat)) hfi.2.1.2 rfl dX0_digest_72 ?_
                    refine lv_iload hx hb (pc := 75) dX0_digest_75 (lv_at hl 0 rfl) ?_
                    refine L_iald hC hX hL (pc := 77) (48 + i.toNat) hfi.2.2.1.1 (L := 6) hfi.2.2.1.2 (by decide) (by omega) (z := Z (48 + i.toNat) w) (by first | rfl | (repeat rw [va_up_ne _ _ (by omega)])) dX0_digest_77 ?_
                    refine j_i2l hC (pc := 78) dX0_digest_78 (by omega) ?_
                    refine j_ladd hC (pc := 79) dX0_digest_79 ?_
                    refine lv_lstore_n (lv' := [(1, .long (lI ((31 * z) + (Z (48 + i.toNat) w)))), (4, .int (iI (w))), (3, .int (iI (i))), (0, .ref (zB S 0))]) hx hb (pc := 80) dX0_digest_80 rfl hl (by decide) rfl (fun ls hl => ?_)
                    refine j_iinc hC (pc := 81) (lv' := [(4, .int (iI (w + 1))), (1, .long (lI ((31 * z) + (Z (48 + i.toNat) w)))), (3, .int (iI (i))), (0, .ref (zB S 0))]) dX0_digest_81 hl (k := 1) rfl (by decide) rfl (fun ls hl => ?_)
                    refine j_goto hC (pc := 84) 54 dX0_digest_84 (by decide) ?_
                    exact ih54 (w + 1) ((31 * z) + (Z (48 + i.toNat) w)) _ (by omega) (by omega) (by rw [show (6 * i + (w + 1)).toNat = (6 * i + w).toNat + 1 by omega, hz]; show _ = 31 * digF (V 1) (digC (countF F V) 17 10) (6 * i + w).toNat + (V 1) (((6 * i + w).toNat : Nat) : Int); rw [Int.toNat_of_nonneg (by omega), hfi.2.2.2 w (by omega) (by omega)]) _ _ hX hL ls (lv_sub hl [0, 2, 1, 3] rfl)
              exact L54 ((6 - 0 : Int).toNat + 1) 0 z _ (by omega) (by omega) (by have hz := hz; rw [show 6 * i = 6 * i + 0 by omega] at hz; exact hz) _ _ hX hL ls (lv_sub hl [0, 1, 2, 3] rfl)
        exact L43 ((16 - 0 : Int).toNat + 1) 0 z _ (by omega) (by omega) (by have hz := hz; rw [show i.toNat = 10 by omega] at hz; exact hz) _ _ hX hL ls (lv_sub hl [0, 1, 2] rfl)
      · skip
        refine lv_iload_n hx hb (pc := 12) dX0_digest_12 rfl (lv_at hl 0 rfl) ?_
        refine j_bipush hC (pc := 13) dX0_digest_13 (by decide) ?_
        refine j_icmp_ne hC (pc := 15) 22 dX0_digest_15 (by decide) (by omega) (fun c7 => ?_) (fun c7 => ?_)
        · skip
          refine j_ldc2 hC (pc := 22) (z := 31) q880 dX0_digest_22 rfl ?_
          refine lv_lload_n hx hb (pc := 25) dX0_digest_25 rfl (lv_at hl 1 rfl) ?_
          refine j_lmul hC (pc := 26) dX0_digest_26 ?_
          refine lv_aload_n hx hb (pc := 27) dX0_digest_27 rfl (lv_at hl 2 rfl) ?_
          refine lv_iload_n hx hb (pc := 28) dX0_digest_28 rfl (lv_at hl 0 rfl) ?_
          refine j_calli (rest := [.long (lI (31 * z))]) hX (va_runV hC.fix (f0_count D T N l hL _ _ _ _ i hx0 hI (by omega)) (cwV 1 hC.ts (lw_V q881 q872 q873 q40 q874) rfl rfl rfl (by decide +kernel) ⟨Nat.le_of_ble_eq_true rfl, Nat.le_of_ble_eq_true rfl⟩) (j_preV hC hX (hL.ob 0 hx0.T.2.2.1) (ci := 0) (r := (RX0, TX0, 18)) rfl _) rfl rfl hl.1 rfl (Nat.le_of_ble_eq_true rfl) dX0_digest_29 ⟨(Nat.le_of_ble_eq_true rfl), (Nat.le_of_ble_eq_true rfl)⟩) (fun r8 g m9 H locs hp hle hX => ?_)
          obtain ⟨hn_, Z_, hL, hS_, hp⟩ := hp
          rw [hn_] at hX
          rw [hS_] at hL
          have hq_r8 := countF_rg hI i
          have hi_c := hp
          refine j_i2l hC (pc := 32) dX0_digest_32 (by omega) ?_
          refine j_ladd hC (pc := 33) dX0_digest_33 ?_
          refine lv_lstore_n (lv' := [(1, .long (lI ((31 * z) + r8))), (3, .int (iI (i))), (0, .ref (zB S 0))]) hx hb (pc := 34) dX0_digest_34 rfl hl (by decide) rfl (fun ls hl => ?_)
          refine j_iinc hC (pc := 35) (lv' := [(3, .int (iI (i + 1))), (1, .long (lI ((31 * z) + r8))), (0, .ref (zB S 0))]) dX0_digest_35 hl (k := 1) rfl (by decide) rfl (fun ls hl => ?_)
          refine j_goto hC (pc := 38) 6 dX0_digest_38 (by decide) ?_
          exact ih6 (i + 1) ((31 * z) + r8) _ (by omega) (by omega) (by rw [show (i + 1).toNat = i.toNat + 1 by omega, hz]; show _ = (if i.toNat = 6 then digC (countF F V) 17 i.toNat else 31 * digC (countF F V) 17 i.toNat + countF F V (i.toNat : Int)); rw [Int.toNat_of_nonneg (by omega)]; rw [if_neg (by omega), hi_c]) _ _ hX hL ls (lv_sub hl [0, 1, 2] rfl)
        · skip
          refine lv_lload_n hx hb (pc := 18) dX0_digest_18 rfl (lv_at hl 1 rfl) ?_
          refine j_goto hC (pc := 19) 34 dX0_digest_19 (by decide) ?_
          refine lv_lstore_n (lv' := [(1, .long (lI (z))), (3, .int (iI (i))), (0, .ref (zB S 0))]) hx hb (pc := 34) dX0_digest_34 rfl hl (by decide) rfl (fun ls hl => ?_)
          refine j_iinc hC (pc := 35) (lv' := [(3, .int (iI (i + 1))), (1, .long (lI (z))), (0, .ref (zB S 0))]) dX0_digest_35 hl (k := 1) rfl (by decide) rfl (fun ls hl => ?_)
          refine j_goto hC (pc := 38) 6 dX0_digest_38 (by decide) ?_
          exact ih6 (i + 1) z _ (by omega) (by omega) (by rw [show (i + 1).toNat = i.toNat + 1 by omega, hz]; show _ = (if i.toNat = 6 then digC (countF F V) 17 i.toNat else 31 * digC (countF F V) 17 i.toNat + countF F V (i.toNat : Int)); rw [Int.toNat_of_nonneg (by omega)]; rw [if_pos (by omega)]) _ _ hX hL ls (lv_sub hl [0, 1, 2] rfl)
  exact L6 ((10 - 0 : Int).toNat + 1) 0 17 _ (by omega) (by omega) rfl _ _ hX hL ls (lv_sub hl [0, 1, 2] rfl)
