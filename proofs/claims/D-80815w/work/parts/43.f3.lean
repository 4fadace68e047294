/-! FairFight: an end is counted, or a state is kept -/
set_option maxHeartbeats 8000000 in
set_option maxRecDepth 100000 in
theorem o5_comes (D : va_G) (T N : Nat → Nat) (l : Launch) {g0 : GH} {S : LbS} {Z : Nat → Int → Int} (hL : lR T g0 S Z) (n : Nat) (q h : Int) (L U : Int → Int) (N0 : List (Int × Int)) (z : Ac3) (w_ t_ rd : Int) (ho : oS q S Z) (hs : fL Z) (hm : hmOk h (Z 201 0)) (hcs : csR h (Z 201 0) L U (Z 210) (Z 211)) (hO : okS L U) (hsd : sdOk h (Z 201 0) (Z 202)) (hN : tZ 5 Z N0) (hac : acF q h (Z 201 0) Z z) (hsl : 0 ≤ t_ ∧ t_ ≤ Z 200 1 ∧ Z 200 1 ≤ 22) (hrd : 0 ≤ rd ∧ rd ≤ 6) (hw7 : Z 200 7 = 0 ∨ Z 200 7 = 1) (hwB : winF U = 2 ∧ t_ < Z 200 1 → (0 < w_ ∧ w_ ≤ 9223372036854775807) ∧ ∀ x ∈ N0, x.2 + w_ ≤ 9223372036854775807) : Met l yX5_comes (ws_ yX5_comes cX5_comes 10 none) ({ frames := 2, cells := 0, slots := 0, locals := 42 } : Room) (gPc D T N [.ref (zB S 200), .ref (zB S 5), .long (lI (w_)), .int (iI (t_)), .int (iI (rd))] g0 n) (gQv D g0 n (fun g' n' => n' = n ∧ ∃ Z', lR T g' S Z' ∧ (winF U = 2 ∧ t_ < Z 200 1 → ch Z Z' [200, 5, 6, 7, 8] ∧ (∀ j : Int, j ≠ 7 → Z' 200 j = Z 200 j) ∧ ((Z' 200 7 = Z 200 7 ∧ tZ 5 Z' (insN N0 (ckF h (Z 201 0) L U) w_)) ∨ (Z' 200 7 = 1 ∧ tZ 5 Z' N0 ∧ 400 < (insN N0 (ckF h (Z 201 0) L U) w_).length))) ∧ (¬ (winF U = 2 ∧ t_ < Z 200 1) → ch Z Z' [213, 214, 216, 217, 218, 219, 220, 221] ∧ acF q h (Z 201 0) Z' (cnt3 z (winF U) rd (w_ * 6 ^ (Z 200 1 - t_).toNat) L U)))) 0 0 (gA g0 n) := by
  refine j_start (by decide) (Nat.le_of_ble_eq_true rfl) ?_
  intro p e s mi args below meth c hC hr hlk hnm hX ls hl
  have hC : Ct D T N (gA g0 n) p s mi args c cX5_comes RX5 10 := hC
  have hx := hC.x
  have hb := hC.b
  generalize hQ : MQ below _ args s 0 0 (gA g0 n) = Q
  have hl : lv_has ls 10 [(0, .ref (zB S 200)), (1, .ref (zB S 5)), (2, .long (lI (w_))), (4, .int (iI (t_))), (5, .int (iI (rd)))] := hl
  have hf := ho.f
  have hfn := hf.n
  refine lv_aload_n hx hb (pc := 0) dX5_comes_0 rfl (lv_at hl 0 rfl) ?_
  refine L_getr hC hX hL in_X5 (ci := 5) rfl (pc := 1) 200 (ho.o.k 200 rfl) 0 (by decide) q431 rfl (q := zA S 200 0) (b := zB S 201) ho.r.1 rfl dX5_comes_1 ?_
  refine j_calli (rest := []) hX (va_runV hC.fix (f6_end D T N l hL _ hf hs) (cwV 0 hC.ts (lw_V q371 q372 q373 q49 q374) rfl rfl rfl (by decide +kernel) ⟨Nat.le_of_ble_eq_true rfl, Nat.le_of_ble_eq_true rfl⟩) (j_preV hC hX (hL.ob 201 (hf.sh.k 201 rfl)) (ci := 6) (r := (RX6, TX6, 12)) rfl _) rfl rfl hl.1 rfl (Nat.le_of_ble_eq_true rfl) dX5_comes_4 ⟨(Nat.le_of_ble_eq_true rfl), (Nat.le_of_ble_eq_true rfl)⟩) (fun r1 g m2 H locs hp hle hX => ?_)
  obtain ⟨hn_, Z_, hL, hS_, hp⟩ := hp
  rw [hn_] at hX
  rw [hS_] at hL
  have hend : r1 = if winF U = 2 then -1 else winF U := by rw [hp]; exact enF_win hm hcs hsd
  have hwr := winF_rg U
  have hend2 : (winF U = 2 ∧ r1 = -1) ∨ (winF U < 2 ∧ r1 = winF U) := by rw [hend]; split <;> omega
  clear hend hp
  refine lv_istore (lv' := [(6, .int (iI (r1))), (0, .ref (zB S 200)), (1, .ref (zB S 5)), (2, .long (lI (w_))), (4, .int (iI (t_))), (5, .int (iI (rd)))]) hx hb (pc := 7) dX5_comes_7 hl (by decide) rfl (fun ls hl => ?_)
  have J54 : ∀ (g : GH), (¬ (winF U = 2 ∧ t_ < Z 200 1)) → ∀ (H : Heap) (locs : List Loc), Wd D (gA g0 n) s g n H locs → lR T g S Z → ∀ (ls : Array Slot), lv_has ls 10 [(6, .int (iI (r1))), (0, .ref (zB S 200)), (1, .ref (zB S 5)), (2, .long (lI (w_))), (4, .int (iI (t_))), (5, .int (iI (rd)))] → W p l e ({ frames := 2, cells := 0, slots := 0, locals := 42 } : Room) s mi args below meth c H locs 0 0 Q (F0 mi 54 ls []) := by
    intro g hj H locs hX hL ls hl
    refine lv_lload_n hx hb (pc := 54) dX5_comes_54 rfl (lv_at hl 3 rfl) ?_
    refine lv_lstore (lv' := [(7, .long (lI (w_))), (6, .int (iI (r1))), (0, .ref (zB S 200)), (1, .ref (zB S 5)), (2, .long (lI (w_))), (4, .int (iI (t_))), (5, .int (iI (rd)))]) hx hb (pc := 55) dX5_comes_55 hl (by decide) rfl (fun ls hl => ?_)
    refine lv_iload hx hb (pc := 57) dX5_comes_57 (lv_at hl 5 rfl) ?_
    refine lv_istore (lv' := [(9, .int (iI (t_))), (7, .long (lI (w_))), (6, .int (iI (r1))), (0, .ref (zB S 200)), (1, .ref (zB S 5)), (2, .long (lI (w_))), (4, .int (iI (t_))), (5, .int (iI (rd)))]) hx hb (pc := 59) dX5_comes_59 hl (by decide) rfl (fun ls hl => ?_)
    have L61 : ∀ (fu : Nat) (i : Int) (t : Int) (g : GH), 22 - i < (fu : Int) → (t_ ≤ i ∧ i ≤ Z 200 1) → (t = w_ * 6 ^ (i - t_).toNat) → ∀ (H : Heap) (locs : List Loc), Wd D (gA g0 n) s g n H locs → lR T g S Z → ∀ (ls : Array Slot), lv_has ls 10 [(9, .int (iI (i))), (7, .long (lI (t))), (6, .int (iI (r1))), (0, .ref (zB S 200)), (1, .ref (zB S 5)), (2, .long (lI (w_))), (4, .int (iI (t_))), (5, .int (iI (rd)))] → W p l e ({ frames := 2, cells := 0, slots := 0, locals := 42 } : Room) s mi args below meth c H locs 0 0 Q (F0 mi 61 ls []) := by
      intro fu
      induction fu with
      | zero =>
        intro i t g hfu hi ht_ H locs hX hL ls hl
        exfalso
        omega
      | succ fu ih61 =>
        intro i t g hfu hi ht_ H locs hX hL ls hl
        refine lv_iload hx hb (pc := 61) dX5_comes_61 (lv_at hl 0 rfl) ?_
        refine lv_aload_n hx hb (pc := 63) dX5_comes_63 rfl (lv_at hl 3 rfl) ?_
        refine L_get hC hX hL in_X5 (ci := 5) rfl (pc := 64) 200 (ho.o.k 200 rfl) 1 (by decide) q432 rfl (v := .int (iI (Z 200 1))) rfl dX5_comes_64 ?_
        refine j_icmp_ge hC (pc := 67) 84 dX5_comes_67 (by decide) (by omega) (fun c4 => ?_) (fun c4 => ?_)
        · skip
          have hi_ : i = Z 200 1 := by omega
          have htt : t = w_ * 6 ^ (Z 200 1 - t_).toNat := by rw [ht_, hi_]
          clear ht_
          refine lv_aload_n hx hb (pc := 84) dX5_comes_84 rfl (lv_at hl 3 rfl) ?_
          refine L_getr hC hX hL in_X5 (ci := 5) rfl (pc := 85) 200 (ho.o.k 200 rfl) 3 (by decide) q435 rfl (q := zA S 200 3) (b := zB S 213) ho.r.2.1 rfl dX5_comes_85 ?_
          have J100 : ∀ (e2 : Int) (g : GH), (e2 = winF U) → ∀ (H : Heap) (locs : List Loc), Wd D (gA g0 n) s g n H locs → lR T g S Z → ∀ (ls : Array Slot), lv_has ls 10 [(9, .int (iI (i))), (7, .long (lI (t))), (6, .int (iI (r1))), (0, .ref (zB S 200)), (1, .ref (zB S 5)), (2, .long (lI (w_))), (4, .int (iI (t_))), (5, .int (iI (rd)))] → W p l e ({ frames := 2, cells := 0, slots := 0, locals := 42 } : Room) s mi args below meth c H locs 0 0 Q (F0 mi 100 ls [.int (iI (e2)), .ref (zB S 213)]) := by
            intro e2 g he2 H locs hX hL ls hl
            refine lv_dup2_11 hx hb (pc := 100) dX5_comes_100 rfl rfl ?_
            refine L_lald hC hX hL (pc := 101) 213 (ho.o.k 213 rfl) (L := 3) (ho.o.n 213 rfl) (by decide) (by omega) (z := Z 213 e2) rfl dX5_comes_101 ?_
            refine lv_lload hx hb (pc := 102) dX5_comes_102 (lv_at hl 1 rfl) ?_
            refine j_ladd hC (pc := 104) dX5_comes_104 ?_
            refine L_last hC hX hL (pc := 105) 213 (ho.o.k 213 rfl) (L := 3) (ho.o.n 213 rfl) (by decide) (by omega) (f := uI (Z 213) e2 ((Z 213 e2) + t)) rfl dX5_comes_105 (fun g H locs hX hL => ?_)
            refine lv_aload_n hx hb (pc := 106) dX5_comes_106 rfl (lv_at hl 3 rfl) ?_
            refine L_getr hC hX hL in_X5 (ci := 5) rfl (pc := 107) 200 (ho.o.k 200 rfl) 4 (by decide) q437 rfl (q := zA S 200 4) (b := zB S 214) ho.r.2.2.1 rfl dX5_comes_107 ?_
            have J122 : ∀ (r2 : Int) (g : GH) (Z1 : Nat → Int → Int), ((winF U < 2 ∧ r2 = rd) ∨ (winF U = 2 ∧ r2 = 0)) → (Z1 = va_up Z 213 (uI (Z 213) e2 (Z 213 e2 + t))) → ∀ (H : Heap) (locs : List Loc), Wd D (gA g0 n) s g n H locs → lR T g S Z1 → ∀ (ls : Array Slot), lv_has ls 10 [(9, .int (iI (i))), (7, .long (lI (t))), (6, .int (iI (r1))), (0, .ref (zB S 200)), (1, .ref (zB S 5)), (2, .long (lI (w_))), (4, .int (iI (t_))), (5, .int (iI (rd)))] → W p l e ({ frames := 2, cells := 0, slots := 0, locals := 42 } : Room) s mi args below meth c H locs 0 0 Q (F0 mi 122 ls [.int (iI (r2)), .ref (zB S 214)]) := by
              intro r2 g Z1 hr2 hz H locs hX hL ls hl
              have hc1 : ch Z Z1 [213] := by rw [hz]; exact ch.rf.up 213 _ (by decide)
              refine lv_dup2_11 hx hb (pc := 122) dX5_comes_122 rfl rfl ?_
              refine L_lald hC hX hL (pc := 123) 214 (ho.o.k 214 rfl) (L := 7) (ho.o.n 214 rfl) (by decide) (by omega) (z := Z1 214 r2) rfl dX5_comes_123 ?_
              have J136 : ∀ (x2 : Int) (g : GH), ((winF U < 2 ∧ x2 = t) ∨ (winF U = 2 ∧ x2 = 0)) → ∀ (H : Heap) (locs : List Loc), Wd D (gA g0 n) s g n H locs → lR T g S Z1 → ∀ (ls : Array Slot), lv_has ls 10 [(9, .int (iI (i))), (7, .long (lI (t))), (6, .int (iI (r1))), (0, .ref (zB S 200)), (1, .ref (zB S 5)), (2, .long (lI (w_))), (4, .int (iI (t_))), (5, .int (iI (rd)))] → W p l e ({ frames := 2, cells := 0, slots := 0, locals := 42 } : Room) s mi args below meth c H locs 0 0 Q (F0 mi 136 ls [.long (lI (x2)), .long (lI (Z1 214 r2)), .int (iI (r2)), .ref (zB S 214)]) := by
                intro x2 g hx2 H locs hX hL ls hl
                refine j_ladd hC (pc := 136) dX5_comes_136 ?_
                refine L_last hC hX hL (pc := 137) 214 (ho.o.k 214 rfl) (L := 7) (ho.o.n 214 rfl) (by decide) (by omega) (f := uI (Z1 214) r2 ((Z1 214 r2) + x2)) rfl dX5_comes_137 (fun g H locs hX hL => ?_)
                refine j_iconst hC (pc := 138) dX5_comes_138 ?_
                refine lv_istore (lv' := [(9, .int (iI (0))), (7, .long (lI (t))), (6, .int (iI (r1))), (0, .ref (zB S 200)), (1, .ref (zB S 5)), (2, .long (lI (w_))), (4, .int (iI (t_))), (5, .int (iI (rd)))]) hx hb (pc := 139) dX5_comes_139 hl (by decide) rfl (fun ls hl => ?_)
                have L141 : ∀ (fu : Nat) (k : Int) (g : GH) (Z2 : Nat → Int → Int), 6 - k < (fu : Int) → (0 ≤ k ∧ k ≤ Z 201 0) → (ch Z Z2 [213, 214, 216, 217, 218, 219, 220, 221]) → (Z2 213 = uI (Z 213) e2 (Z 213 e2 + t)) → (Z2 214 = uI (Z 214) r2 (Z 214 r2 + x2)) → (∀ j : Int, 0 ≤ j → j < Z 201 0 → Z2 (216 + j.toNat) = if j < k ∧ q = 1 then uI (Z (216 + j.toNat)) (2 * Z 210 j + Z 211 j) (Z (216 + j.toNat) (2 * Z 210 j + Z 211 j) + t) else Z (216 + j.toNat)) → ∀ (H : Heap) (locs : List Loc), Wd D (gA g0 n) s g n H locs → lR T g S Z2 → ∀ (ls : Array Slot), lv_has ls 10 [(9, .int (iI (k))), (7, .long (lI (t))), (6, .int (iI (r1))), (0, .ref (zB S 200)), (1, .ref (zB S 5)), (2, .long (lI (w_))), (4, .int (iI (t_))), (5, .int (iI (rd)))] → W p l e ({ frames := 2, cells := 0, slots := 0, locals := 42 } : Room) s mi args below meth c H locs 0 0 Q (F0 mi 141 ls []) := by
                  intro fu
                  induction fu with
                  | zero =>
                    intro k g Z2 hfu hk hc2 h213 h214 hlf H locs hX hL ls hl
                    exfalso
                    omega
                  | succ fu ih141 =>
                    intro k g Z2 hfu hk hc2 h213 h214 hlf H locs hX hL ls hl
                    have e0 : Z2 201 0 = Z 201 0 := by rw [hc2 201 (by decide)]
                    have e10 : Z2 210 = Z 210 := hc2 210 (by decide)
                    have e11 : Z2 211 = Z 211 := hc2 211 (by decide)
                    refine lv_iload hx hb (pc := 141) dX5_comes_141 (lv_at hl 0 rfl) ?_
                    refine lv_aload_n hx hb (pc := 143) dX5_comes_143 rfl (lv_at hl 3 rfl) ?_
                    refine L_getr hC hX hL in_X5 (ci := 5) rfl (pc := 144) 200 (ho.o.k 200 rfl) 0 (by decide) q431 rfl (q := zA S 200 0) (b := zB S 201) ho.r.1 rfl dX5_comes_144 ?_
                    refine L_getN hC hX hL in_X6 (ci := 6) rfl (pc := 147) 201 (hf.sh.k 201 rfl) 0 (by decide) q285 rfl (v := .int (iI (Z2 201 0))) rfl dX5_comes_147 ?_
                    refine j_icmp_ge hC (pc := 150) 210 dX5_comes_150 (by decide) (by omega) (fun c5 => ?_) (fun c5 => ?_)
                    · skip
                      subst hQ
                      exact j_vret hC (pc := 210) hX hr hlk (Nat.le_of_ble_eq_true rfl) (Nat.le_of_ble_eq_true rfl) dX5_comes_210 ⟨rfl, _, hL, ⟨fun y => absurd y hj, fun _ => ⟨hc2, by rw [← htt]; exact hac.cnt hm hcs hO (by omega) (by rw [h213, he2]) h214 (fun hq k a b => by rw [hlf k a b, if_pos ⟨by omega, hq⟩])⟩⟩⟩
                    · skip
                      refine lv_aload_n hx hb (pc := 153) dX5_comes_153 rfl (lv_at hl 3 rfl) ?_
                      rcases ho.l with ⟨hq0, hl0⟩ | ⟨hq1, hl1, hsh2, hrw⟩
                      · skip
                        refine L_get hC hX hL in_X5 (ci := 5) rfl (pc := 154) 200 (ho.o.k 200 rfl) 5 (by decide) q439 rfl (v := .null) (congrArg (fun q => some (va_rf q)) hl0) dX5_comes_154 ?_
                        refine lv_ifnullN (tgt := 210) hx hb (pc := 157) dX5_comes_157 (by decide) ?_
                        subst hQ
                        exact j_vret hC (pc := 210) hX hr hlk (Nat.le_of_ble_eq_true rfl) (Nat.le_of_ble_eq_true rfl) dX5_comes_210 ⟨rfl, _, hL, ⟨fun y => absurd y hj, fun _ => ⟨hc2, by rw [← htt]; exact hac.cnt hm hcs hO (by omega) (by rw [h213, he2]) h214 (fun hq => absurd hq (by omega))⟩⟩⟩
                      · skip
                        refine L_getr hC hX hL in_X5 (ci := 5) rfl (pc := 154) 200 (ho.o.k 200 rfl) 5 (by decide) q439 rfl (q := zA S 200 5) (b := zB S 215) hl1 rfl dX5_comes_154 ?_
                        refine lv_ifnull hx hb (pc := 157) dX5_comes_157 ?_
                        have e1_ := hcs.1 k (by omega) (by omega)
                        have rg_ := slF_rg hm (k := k) (by omega)
                        have ok_ := hO _ rg_.1 rg_.2.1
                        rw [← e1_.1, ← e1_.2] at ok_
                        have hkk : k = 0 ∨ k = 1 ∨ k = 2 ∨ k = 3 ∨ k = 4 ∨ k = 5 := by omega
                        have hkr : zK S (216 + k.toNat) = 2 ∧ zN S (216 + k.toNat) = 42 := by rcases hkk with rfl | rfl | rfl | rfl | rfl | rfl; exact ⟨hsh2.k 216 rfl, hsh2.n 216 rfl⟩; exact ⟨hsh2.k 217 rfl, hsh2.n 217 rfl⟩; exact ⟨hsh2.k 218 rfl, hsh2.n 218 rfl⟩; exact ⟨hsh2.k 219 rfl, hsh2.n 219 rfl⟩; exact ⟨hsh2.k 220 rfl, hsh2.n 220 rfl⟩; exact ⟨hsh2.k 221 rfl, hsh2.n 221 rfl⟩
                        have hmem : 216 + k.toNat ∈ ([213, 214, 216, 217, 218, 219, 220, 221] : List Nat) := by rcases hkk with rfl | rfl | rfl | rfl | rfl | rfl <;> decide
                        clear hkk
                        refine lv_aload_n hx hb (pc := 160) dX5_comes_160 rfl (lv_at hl 3 rfl) ?_
                        refine L_getr hC hX hL in_X5 (ci := 5) rfl (pc := 161) 200 (ho.o.k 200 rfl) 5 (by decide) q439 rfl (q := zA S 200 5) (b := zB S 215) hl1 rfl dX5_comes_161 ?_
                        refine lv_iload hx hb (pc := 164) dX5_comes_164 (lv_at hl 0 rfl) ?_
                        refine L_aald hC hX hL (pc := 166) 215 6 (hsh2.k 215 rfl) (by decide) rfl rfl (L := 6) (hsh2.n 215 rfl) (by decide) (by omega) (b := zB S (216 + k.toNat)) (by have := hrw k.toNat (by omega); rw [Int.toNat_of_nonneg (by omega)] at this; exact this) dX5_comes_166 ?_
                        refine j_iconst hC (pc := 167) dX5_comes_167 ?_
                        refine lv_aload_n hx hb (pc := 168) dX5_comes_168 rfl (lv_at hl 3 rfl) ?_
                        refine L_getr hC hX hL in_X5 (ci := 5) rfl (pc := 169) 200 (ho.o.k 200 rfl) 0 (by decide) q431 rfl (q := zA S 200 0) (b := zB S 201) ho.r.1 rfl dX5_comes_169 ?_
                        refine L_getrN hC hX hL in_X6 (ci := 6) rfl (pc := 172) 201 (hf.sh.k 201 rfl) 10 (by decide) q318 rfl (q := zA S 201 10) (b := zB S 210) (hf.r 10 (by decide)) rfl dX5_comes_172 ?_
                        refine lv_iload hx hb (pc := 175) dX5_comes_175 (lv_at hl 0 rfl) ?_
                        refine L_iald hC hX hL (pc := 177) 210 (hf.sh.k 210 rfl) (L := 6) (hf.sh.n 210 rfl) (by decide) (by omega) (z := Z2 210 k) rfl dX5_comes_177 ?_
                        refine j_eqi (b := Z 210 k) (by rw [e10]) ?_
                        refine j_imul hC (pc := 178) dX5_comes_178 ?_
                        refine lv_aload_n hx hb (pc := 179) dX5_comes_179 rfl (lv_at hl 3 rfl) ?_
                        refine L_getr hC hX hL in_X5 (ci := 5) rfl (pc := 180) 200 (ho.o.k 200 rfl) 0 (by decide) q431 rfl (q := zA S 200 0) (b := zB S 201) ho.r.1 rfl dX5_comes_180 ?_
                        refine L_getrN hC hX hL in_X6 (ci := 6) rfl (pc := 183) 201 (hf.sh.k 201 rfl) 11 (by decide) q324 rfl (q := zA S 201 11) (b := zB S 211) (hf.r 11 (by decide)) rfl dX5_comes_183 ?_
                        refine lv_iload hx hb (pc := 186) dX5_comes_186 (lv_at hl 0 rfl) ?_
                        refine L_zald hC hX hL (pc := 188) 211 (hf.sh.k 211 rfl) (L := 6) (hf.sh.n 211 rfl) (by decide) (by omega) (z := Z2 211 k) rfl dX5_comes_188 ?_
                        refine j_eqi (b := Z 211 k) (by rw [e11]) ?_
                        refine j_if_eq hC (pc := 189) 196 dX5_comes_189 (by decide) (by omega) (fun c6 => ?_) (fun c6 => ?_)
                        · skip
                          refine j_iconst hC (pc := 196) dX5_comes_196 ?_
                          refine j_iadd hC (pc := 197) dX5_comes_197 ?_
                          refine j_eqi (b := 2 * Z 210 k + Z 211 k) (by omega) ?_
                          refine lv_dup2_11 hx hb (pc := 198) dX5_comes_198 rfl rfl ?_
                          refine L_lald hC hX hL (pc := 199) (216 + k.toNat) hkr.1 (L := 42) hkr.2 (by decide) (by omega) (z := Z2 (216 + k.toNat) (2 * Z 210 k + Z 211 k)) (by first | rfl | (repeat rw [va_up_ne _ _ (by omega)])) dX5_comes_199 ?_
                          refine lv_lload hx hb (pc := 200) dX5_comes_200 (lv_at hl 1 rfl) ?_
                          refine j_ladd hC (pc := 202) dX5_comes_202 ?_
                          refine L_last hC hX hL (pc := 203) (216 + k.toNat) hkr.1 (L := 42) hkr.2 (by decide) (by omega) (f := uI (Z2 (216 + k.toNat)) (2 * Z 210 k + Z 211 k) ((Z2 (216 + k.toNat) (2 * Z 210 k + Z 211 k)) + t)) (by first | rfl | (repeat rw [va_up_ne _ _ (by omega)])) dX5_comes_203 (fun g H locs hX hL => ?_)
                          refine j_iinc hC (pc := 204) (lv' := [(9, .int (iI (k + 1))), (7, .long (lI (t))), (6, .int (iI (r1))), (0, .ref (zB S 200)), (1, .ref (zB S 5)), (2, .long (lI (w_))), (4, .int (iI (t_))), (5, .int (iI (rd)))]) dX5_comes_204 hl (k := 0) rfl (by decide) rfl (fun ls hl => ?_)
                          refine j_goto hC (pc := 207) 141 dX5_comes_207 (by decide) ?_
                          exact ih141 (k + 1) _ _ (by omega) (by omega) (hc2.up (216 + k.toNat) _ hmem) (by rw [va_up_ne _ _ (by omega)]; exact h213) (by rw [va_up_ne _ _ (by omega)]; exact h214) (fun j a b => by rcases Decidable.em (j = k) with y | y; subst y; rw [va_up_self, if_pos ⟨by omega, hq1⟩, hlf j a b, if_neg (by omega)]; rw [va_up_ne _ _ (by omega), hlf j a b]; by_cases y2 : j < k; rw [if_pos ⟨y2, hq1⟩, if_pos ⟨by omega, hq1⟩]; rw [if_neg (fun y3 => y2 y3.1), if_neg (by omega)]) _ _ hX hL ls (lv_sub hl [0, 1, 2, 3, 4, 5, 6, 7] rfl)
                        · skip
                          refine j_iconst hC (pc := 192) dX5_comes_192 ?_
                          refine j_goto hC (pc := 193) 197 dX5_comes_193 (by decide) ?_
                          refine j_iadd hC (pc := 197) dX5_comes_197 ?_
                          refine j_eqi (b := 2 * Z 210 k + Z 211 k) (by omega) ?_
                          refine lv_dup2_11 hx hb (pc := 198) dX5_comes_198 rfl rfl ?_
                          refine L_lald hC hX hL (pc := 199) (216 + k.toNat) hkr.1 (L := 42) hkr.2 (by decide) (by omega) (z := Z2 (216 + k.toNat) (2 * Z 210 k + Z 211 k)) (by first | rfl | (repeat rw [va_up_ne _ _ (by omega)])) dX5_comes_199 ?_
                          refine lv_lload hx hb (pc := 200) dX5_comes_200 (lv_at hl 1 rfl) ?_
                          refine j_ladd hC (pc := 202) dX5_comes_202 ?_
                          refine L_last hC hX hL (pc := 203) (216 + k.toNat) hkr.1 (L := 42) hkr.2 (by decide) (by omega) (f := uI (Z2 (216 + k.toNat)) (2 * Z 210 k + Z 211 k) ((Z2 (216 + k.toNat) (2 * Z 210 k + Z 211 k)) + t)) (by first | rfl | (repeat rw [va_up_ne _ _ (by omega)])) dX5_comes_203 (fun g H locs hX hL => ?_)
                          refine j_iinc hC (pc := 204) (lv' := [(9, .int (iI (k + 1))), (7, .long (lI (t))), (6, .int (iI (r1))), (0, .ref (zB S 200)), (1, .ref (zB S 5)), (2, .long (lI (w_))), (4, .int (iI (t_))), (5, .int (iI (rd)))]) dX5_comes_204 hl (k := 0) rfl (by decide) rfl (fun ls hl => ?_)
                          refine j_goto hC (pc := 207) 141 dX5_comes_207 (by decide) ?_
                          exact ih141 (k + 1) _ _ (by omega) (by omega) (hc2.up (216 + k.toNat) _ hmem) (by rw [va_up_ne _ _ (by omega)]; exact h213) (by rw [va_up_ne _ _ (by omega)]; exact h214) (fun j a b => by rcases Decidable.em (j = k) with y | y; subst y; rw [va_up_self, if_pos ⟨by omega, hq1⟩, hlf j a b, if_neg (by omega)]; rw [va_up_ne _ _ (by omega), hlf j a b]; by_cases y2 : j < k; rw [if_pos ⟨y2, hq1⟩, if_pos ⟨by omega, hq1⟩]; rw [if_neg (fun y3 => y2 y3.1), if_neg (by omega)]) _ _ hX hL ls (lv_sub hl [0, 1, 2, 3, 4, 5, 6, 7] rfl)
                exact L141 ((6 - 0 : Int).toNat + 1) 0 _ _ (by omega) (by omega) ((ch.wd hc1 (by decide)).up 214 _ (by decide)) (by show Z1 213 = _; rw [hz]; rfl) (by show uI (Z1 214) r2 _ = _; rw [hc1 214 (by decide)]) (fun j a b => by rw [if_neg (by omega), va_up_ne _ _ (by omega)]; exact hc1 _ (by simp; omega)) _ _ hX hL ls (lv_sub hl [0, 1, 2, 3, 4, 5, 6, 7] rfl)
              refine lv_iload hx hb (pc := 124) dX5_comes_124 (lv_at hl 2 rfl) ?_
              refine j_iconst hC (pc := 126) dX5_comes_126 ?_
              refine j_icmp_ne hC (pc := 127) 134 dX5_comes_127 (by decide) (by omega) (fun c7 => ?_) (fun c7 => ?_)
              · skip
                refine lv_lload hx hb (pc := 134) dX5_comes_134 (lv_at hl 1 rfl) ?_
                exact J136 t _ (by omega) _ _ hX hL ls (lv_sub hl [0, 1, 2, 3, 4, 5, 6, 7] rfl)
              · skip
                refine j_lconst hC (pc := 130) (w := 0) dX5_comes_130 rfl ?_
                refine j_goto hC (pc := 131) 136 dX5_comes_131 (by decide) ?_
                exact J136 0 _ (by omega) _ _ hX hL ls (lv_sub hl [0, 1, 2, 3, 4, 5, 6, 7] rfl)
            refine lv_iload hx hb (pc := 110) dX5_comes_110 (lv_at hl 2 rfl) ?_
            refine j_iconst hC (pc := 112) dX5_comes_112 ?_
            refine j_icmp_ne hC (pc := 113) 120 dX5_comes_113 (by decide) (by omega) (fun c8 => ?_) (fun c8 => ?_)
            · skip
              refine lv_iload hx hb (pc := 120) dX5_comes_120 (lv_at hl 7 rfl) ?_
              exact J122 rd _ _ (by omega) rfl _ _ hX hL ls (lv_sub hl [0, 1, 2, 3, 4, 5, 6, 7] rfl)
            · skip
              refine j_iconst hC (pc := 116) dX5_comes_116 ?_
              refine j_goto hC (pc := 117) 122 dX5_comes_117 (by decide) ?_
              exact J122 0 _ _ (by omega) rfl _ _ hX hL ls (lv_sub hl [0, 1, 2, 3, 4, 5, 6, 7] rfl)
          refine lv_iload hx hb (pc := 88) dX5_comes_88 (lv_at hl 2 rfl) ?_
          refine j_iconst hC (pc := 90) dX5_comes_90 ?_
          refine j_icmp_ne hC (pc := 91) 98 dX5_comes_91 (by decide) (by omega) (fun c9 => ?_) (fun c9 => ?_)
          · skip
            refine lv_iload hx hb (pc := 98) dX5_comes_98 (lv_at hl 2 rfl) ?_
            exact J100 r1 _ (by omega) _ _ hX hL ls (lv_sub hl [0, 1, 2, 3, 4, 5, 6, 7] rfl)
          · skip
            refine j_iconst hC (pc := 94) dX5_comes_94 ?_
            refine j_goto hC (pc := 95) 100 dX5_comes_95 (by decide) ?_
            exact J100 2 _ (by omega) _ _ hX hL ls (lv_sub hl [0, 1, 2, 3, 4, 5, 6, 7] rfl)
        · skip
          refine lv_lload hx hb (pc := 70) dX5_comes_70 (lv_at hl 1 rfl) ?_
          refine j_ldc2 hC (pc := 72) (z := 6) q366 dX5_comes_72 rfl ?_
          refine j_lmul hC (pc := 75) dX5_comes_75 ?_
          refine lv_lstore (lv' := [(7, .long (lI (t * 6))), (9, .int (iI (i))), (6, .int (iI (r1))), (0, .ref (zB S 200)), (1, .ref (zB S 5)), (2, .long (lI (w_))), (4, .int (iI (t_))), (5, .int (iI (rd)))]) hx hb (pc := 76) dX5_comes_76 hl (by decide) rfl (fun ls hl => ?_)
          refine j_iinc hC (pc := 78) (lv' := [(9, .int (iI (i + 1))), (7, .long (lI (t * 6))), (6, .int (iI (r1))), (0, .ref (zB S 200)), (1, .ref (zB S 5)), (2, .long (lI (w_))), (4, .int (iI (t_))), (5, .int (iI (rd)))]) dX5_comes_78 hl (k := 1) rfl (by decide) rfl (fun ls hl => ?_)
          refine j_goto hC (pc := 81) 61 dX5_comes_81 (by decide) ?_
          exact ih61 (i + 1) (t * 6) _ (by omega) (by omega) (by rw [ht_, show (i + 1 - t_).toNat = (i - t_).toNat + 1 by omega, Int.pow_succ, Int.mul_assoc]) _ _ hX hL ls (lv_sub hl [0, 1, 2, 3, 4, 5, 6, 7] rfl)
    exact L61 ((22 - t_ : Int).toNat + 1) t_ w_ _ (by omega) (by omega) (by rw [show (t_ - t_).toNat = 0 by omega, Int.pow_zero, Int.mul_one]) _ _ hX hL ls (lv_sub hl [0, 1, 2, 3, 4, 5, 6, 7] rfl)
  refine lv_iload hx hb (pc := 9) dX5_comes_9 (lv_at hl 0 rfl) ?_
  refine j_iconst hC (pc := 11) dX5_comes_11 ?_
  refine j_icmp_ne hC (pc := 12) 54 dX5_comes_12 (by decide) (by omega) (fun c10 => ?_) (fun c10 => ?_)
  · skip
    exact J54  _ (by omega) _ _ hX hL ls (lv_sub hl [0, 1, 2, 3, 4, 5] rfl)
  · skip
    refine lv_iload hx hb (pc := 15) dX5_comes_15 (lv_at hl 4 rfl) ?_
    refine lv_aload_n hx hb (pc := 17) dX5_comes_17 rfl (lv_at hl 1 rfl) ?_
    refine L_get hC hX hL in_X5 (ci := 5) rfl (pc := 18) 200 (ho.o.k 200 rfl) 1 (by decide) q432 rfl (v := .int (iI (Z 200 1))) rfl dX5_comes_18 ?_
    refine j_icmp_ge hC (pc := 21) 54 dX5_comes_21 (by decide) (by omega) (fun c11 => ?_) (fun c11 => ?_)
    · skip
      exact J54  _ (by omega) _ _ hX hL ls (lv_sub hl [0, 1, 2, 3, 4, 5] rfl)
    · skip
      refine lv_aload_n hx hb (pc := 24) dX5_comes_24 rfl (lv_at hl 1 rfl) ?_
      refine lv_dup hx hb (pc := 25) dX5_comes_25 rfl ?_
      refine L_get hC hX hL in_X5 (ci := 5) rfl (pc := 26) 200 (ho.o.k 200 rfl) 7 (by decide) q443 rfl (v := .int (iI (Z 200 7))) rfl dX5_comes_26 ?_
      refine lv_aload_n hx hb (pc := 29) dX5_comes_29 rfl (lv_at hl 2 rfl) ?_
      refine lv_aload_n hx hb (pc := 30) dX5_comes_30 rfl (lv_at hl 1 rfl) ?_
      refine L_getr hC hX hL in_X5 (ci := 5) rfl (pc := 31) 200 (ho.o.k 200 rfl) 0 (by decide) q431 rfl (q := zA S 200 0) (b := zB S 201) ho.r.1 rfl dX5_comes_31 ?_
      refine j_calll (rest := [.ref (zB S 5), .int (iI (Z 200 7)), .ref (zB S 200)]) hX (va_runV hC.fix (f6_key D T N l hL _ hf hs) (cwV 0 hC.ts (lw_V q379 q380 q381 q49 q382) rfl rfl rfl (by decide +kernel) ⟨Nat.le_of_ble_eq_true rfl, Nat.le_of_ble_eq_true rfl⟩) (j_preV hC hX (hL.ob 201 (hf.sh.k 201 rfl)) (ci := 6) (r := (RX6, TX6, 12)) rfl _) rfl rfl hl.1 rfl (Nat.le_of_ble_eq_true rfl) dX5_comes_34 ⟨(Nat.le_of_ble_eq_true rfl), (Nat.le_of_ble_eq_true rfl)⟩) (fun r12 g m13 H locs hp hle hX => ?_)
      obtain ⟨hn_, Z_, hL, hS_, hp⟩ := hp
      rw [hn_] at hX
      rw [hS_] at hL
      have hkey : r12 = ckF h (Z 201 0) L U := by rw [hp]; exact hcs.key hm
      refine lv_lload_n hx hb (pc := 37) dX5_comes_37 rfl (lv_at hl 3 rfl) ?_
      refine j_calli (rest := [.int (iI (Z 200 7)), .ref (zB S 200)]) hX (va_runV hC.fix (t5_add D T N l hL _ N0 r12 w_ ho.x.1 hN (by rw [hkey]; exact ckF_rg hm hO) (hwB ⟨by omega, by omega⟩).1 (hwB ⟨by omega, by omega⟩).2) (cwV 2 hC.ts (lw_V q383 q384 q385 q41 q386) rfl rfl rfl (by decide +kernel) ⟨Nat.le_of_ble_eq_true rfl, Nat.le_of_ble_eq_true rfl⟩) (j_preV hC hX (hL.ob 5 (ho.x.1.1.k 5 rfl)) (ci := 1) (r := (RX1, TX1, 4)) rfl _) rfl rfl hl.1 rfl (Nat.le_of_ble_eq_true rfl) dX5_comes_38 ⟨(Nat.le_of_ble_eq_true rfl), (Nat.le_of_ble_eq_true rfl)⟩) (fun r15 g m16 H locs hp hle hX => ?_)
      obtain ⟨hn_, Z17, hL, hp⟩ := hp
      rw [hn_] at hX
      refine j_if_ne hC (pc := 41) 48 dX5_comes_41 (by decide) (by rcases hp.2 with ⟨y, _⟩ | ⟨y, _⟩ <;> omega) (fun c18 => ?_) (fun c18 => ?_)
      · skip
        refine j_iconst hC (pc := 48) dX5_comes_48 ?_
        refine j_ior01 hC (pc := 49) dX5_comes_49 ⟨by omega, by omega⟩ ?_
        refine L_put hC hX hL in_X5 tyX5 tyX5_ok nmX5 (ci := 5) rfl (pc := 50) 200 (ho.o.k 200 rfl) 7 (by decide) q443 rfl rfl (nar_z (by first | exact orF_01 _ _ | omega)) (fit_z (by first | exact orF_01 _ _ | omega)) (f := uI (Z17 200) 7 (orF (Z 200 7) 0)) (show 7 < 9 by decide) rfl dX5_comes_50 (fun g H locs hX hL => ?_)
        subst hQ
        exact j_vret hC (pc := 53) hX hr hlk (Nat.le_of_ble_eq_true rfl) (Nat.le_of_ble_eq_true rfl) dX5_comes_53 ⟨rfl, _, hL, ⟨fun _ => ⟨(ch.tr hp.1 ((ch.rf (f := Z17)).up 200 _ (show 200 ∈ [200] by decide)) (by decide)), (fun j hj => by show uI (Z17 200) 7 _ j = _; rw [uI_n _ _ hj, hp.1 200 (by decide)]), Or.inl ⟨(uI_s (Z17 200) 7 _).trans (orF_0 hw7), by rcases hp.2 with ⟨_, y⟩ | ⟨y, _⟩; rw [← hkey]; exact y; omega⟩⟩, fun y => absurd ⟨by omega, by omega⟩ y⟩⟩
      · skip
        refine j_iconst hC (pc := 44) dX5_comes_44 ?_
        refine j_goto hC (pc := 45) 49 dX5_comes_45 (by decide) ?_
        refine j_ior01 hC (pc := 49) dX5_comes_49 ⟨by omega, by omega⟩ ?_
        refine L_put hC hX hL in_X5 tyX5 tyX5_ok nmX5 (ci := 5) rfl (pc := 50) 200 (ho.o.k 200 rfl) 7 (by decide) q443 rfl rfl (nar_z (by first | exact orF_01 _ _ | omega)) (fit_z (by first | exact orF_01 _ _ | omega)) (f := uI (Z17 200) 7 (orF (Z 200 7) 1)) (show 7 < 9 by decide) rfl dX5_comes_50 (fun g H locs hX hL => ?_)
        subst hQ
        exact j_vret hC (pc := 53) hX hr hlk (Nat.le_of_ble_eq_true rfl) (Nat.le_of_ble_eq_true rfl) dX5_comes_53 ⟨rfl, _, hL, ⟨fun _ => ⟨(ch.tr hp.1 ((ch.rf (f := Z17)).up 200 _ (show 200 ∈ [200] by decide)) (by decide)), (fun j hj => by show uI (Z17 200) 7 _ j = _; rw [uI_n _ _ hj, hp.1 200 (by decide)]), Or.inr ⟨(uI_s (Z17 200) 7 _).trans (orF_1 _), by rcases hp.2 with ⟨y, _⟩ | ⟨_, y, _⟩; omega; show tZ 5 Z17 N0; rw [y]; exact hN, by rcases hp.2 with ⟨y, _⟩ | ⟨_, _, y⟩; omega; rw [← hkey]; exact y⟩⟩, fun y => absurd ⟨by omega, by omega⟩ y⟩⟩

set_option maxHeartbeats 8000000 in
set_option maxRecDepth 100000 in
theorem o9_comes (D : va_G) (T N : Nat → Nat) (l : Launch) {g0 : GH} {S : LbS} {Z : Nat → Int → Int} (hL : lR T g0 S Z) (n : Nat) (q h : Int) (L U : Int → Int) (N0 : List (Int × Int)) (z : Ac3) (w_ t_ rd : Int) (ho : oS q S Z) (hs : fL Z) (hm : hmOk h (Z 201 0)) (hcs : csR h (Z 201 0) L U (Z 210) (Z 211)) (hO : okS L U) (hsd : sdOk h (Z 201 0) (Z 202)) (hN : tZ 9 Z N0) (hac : acF q h (Z 201 0) Z z) (hsl : 0 ≤ t_ ∧ t_ ≤ Z 200 1 ∧ Z 200 1 ≤ 22) (hrd : 0 ≤ rd ∧ rd ≤ 6) (hw7 : Z 200 7 = 0 ∨ Z 200 7 = 1) (hwB : winF U = 2 ∧ t_ < Z 200 1 → (0 < w_ ∧ w_ ≤ 9223372036854775807) ∧ ∀ x ∈ N0, x.2 + w_ ≤ 9223372036854775807) : Met l yX5_comes (ws_ yX5_comes cX5_comes 10 none) ({ frames := 2, cells := 0, slots := 0, locals := 42 } : Room) (gPc D T N [.ref (zB S 200), .ref (zB S 9), .long (lI (w_)), .int (iI (t_)), .int (iI (rd))] g0 n) (gQv D g0 n (fun g' n' => n' = n ∧ ∃ Z', lR T g' S Z' ∧ (winF U = 2 ∧ t_ < Z 200 1 → ch Z Z' [200, 9, 10, 11, 12] ∧ (∀ j : Int, j ≠ 7 → Z' 200 j = Z 200 j) ∧ ((Z' 200 7 = Z 200 7 ∧ tZ 9 Z' (insN N0 (ckF h (Z 201 0) L U) w_)) ∨ (Z' 200 7 = 1 ∧ tZ 9 Z' N0 ∧ 400 < (insN N0 (ckF h (Z 201 0) L U) w_).length))) ∧ (¬ (winF U = 2 ∧ t_ < Z 200 1) → ch Z Z' [213, 214, 216, 217, 218, 219, 220, 221] ∧ acF q h (Z 201 0) Z' (cnt3 z (winF U) rd (w_ * 6 ^ (Z 200 1 - t_).toNat) L U)))) 0 0 (gA g0 n) := by
  refine j_start (by decide) (Nat.le_of_ble_eq_true rfl) ?_
  intro p e s mi args below meth c hC hr hlk hnm hX ls hl
  have hC : Ct D T N (gA g0 n) p s mi args c cX5_comes RX5 10 := hC
  have hx := hC.x
  have hb := hC.b
  generalize hQ : MQ below _ args s 0 0 (gA g0 n) = Q
  have hl : lv_has ls 10 [(0, .ref (zB S 200)), (1, .ref (zB S 9)), (2, .long (lI (w_))), (4, .int (iI (t_))), (5, .int (iI (rd)))] := hl
  have hf := ho.f
  have hfn := hf.n
  refine lv_aload_n hx hb (pc := 0) dX5_comes_0 rfl (lv_at hl 0 rfl) ?_
  refine L_getr hC hX hL in_X5 (ci := 5) rfl (pc := 1) 200 (ho.o.k 200 rfl) 0 (by decide) q431 rfl (q := zA S 200 0) (b := zB S 201) ho.r.1 rfl dX5_comes_1 ?_
  refine j_calli (rest := []) hX (va_runV hC.fix (f6_end D T N l hL _ hf hs) (cwV 0 hC.ts (lw_V q371 q372 q373 q49 q374) rfl rfl rfl (by decide +kernel) ⟨Nat.le_of_ble_eq_true rfl, Nat.le_of_ble_eq_true rfl⟩) (j_preV hC hX (hL.ob 201 (hf.sh.k 201 rfl)) (ci := 6) (r := (RX6, TX6, 12)) rfl _) rfl rfl hl.1 rfl (Nat.le_of_ble_eq_true rfl) dX5_comes_4 ⟨(Nat.le_of_ble_eq_true rfl), (Nat.le_of_ble_eq_true rfl)⟩) (fun r1 g m2 H locs hp hle hX => ?_)
  obtain ⟨hn_, Z_, hL, hS_, hp⟩ := hp
  rw [hn_] at hX
  rw [hS_] at hL
  have hend : r1 = if winF U = 2 then -1 else winF U := by rw [hp]; exact enF_win hm hcs hsd
  have hwr := winF_rg U
  have hend2 : (winF U = 2 ∧ r1 = -1) ∨ (winF U < 2 ∧ r1 = winF U) := by rw [hend]; split <;> omega
  clear hend hp
  refine lv_istore (lv' := [(6, .int (iI (r1))), (0, .ref (zB S 200)), (1, .ref (zB S 9)), (2, .long (lI (w_))), (4, .int (iI (t_))), (5, .int (iI (rd)))]) hx hb (pc := 7) dX5_comes_7 hl (by decide) rfl (fun ls hl => ?_)
  have J54 : ∀ (g : GH), (¬ (winF U = 2 ∧ t_ < Z 200 1)) → ∀ (H : Heap) (locs : List Loc), Wd D (gA g0 n) s g n H locs → lR T g S Z → ∀ (ls : Array Slot), lv_has ls 10 [(6, .int (iI (r1))), (0, .ref (zB S 200)), (1, .ref (zB S 9)), (2, .long (lI (w_))), (4, .int (iI (t_))), (5, .int (iI (rd)))] → W p l e ({ frames := 2, cells := 0, slots := 0, locals := 42 } : Room) s mi args below meth c H locs 0 0 Q (F0 mi 54 ls []) := by
    intro g hj H locs hX hL ls hl
    refine lv_lload_n hx hb (pc := 54) dX5_comes_54 rfl (lv_at hl 3 rfl) ?_
    refine lv_lstore (lv' := [(7, .long (lI (w_))), (6, .int (iI (r1))), (0, .ref (zB S 200)), (1, .ref (zB S 9)), (2, .long (lI (w_))), (4, .int (iI (t_))), (5, .int (iI (rd)))]) hx hb (pc := 55) dX5_comes_55 hl (by decide) rfl (fun ls hl => ?_)
    refine lv_iload hx hb (pc := 57) dX5_comes_57 (lv_at hl 5 rfl) ?_
    refine lv_istore (lv' := [(9, .int (iI (t_))), (7, .long (lI (w_))), (6, .int (iI (r1))), (0, .ref (zB S 200)), (1, .ref (zB S 9)), (2, .long (lI (w_))), (4, .int (iI (t_))), (5, .int (iI (rd)))]) hx hb (pc := 59) dX5_comes_59 hl (by decide) rfl (fun ls hl => ?_)
    have L61 : ∀ (fu : Nat) (i : Int) (t : Int) (g : GH), 22 - i < (fu : Int) → (t_ ≤ i ∧ i ≤ Z 200 1) → (t = w_ * 6 ^ (i - t_).toNat) → ∀ (H : Heap) (locs : List Loc), Wd D (gA g0 n) s g n H locs → lR T g S Z → ∀ (ls : Array Slot), lv_has ls 10 [(9, .int (iI (i))), (7, .long (lI (t))), (6, .int (iI (r1))), (0, .ref (zB S 200)), (1, .ref (zB S 9)), (2, .long (lI (w_))), (4, .int (iI (t_))), (5, .int (iI (rd)))] → W p l e ({ frames := 2, cells := 0, slots := 0, locals := 42 } : Room) s mi args below meth c H locs 0 0 Q (F0 mi 61 ls []) := by
      intro fu
      induction fu with
      | zero =>
        intro i t g hfu hi ht_ H locs hX hL ls hl
        exfalso
        omega
      | succ fu ih61 =>
        intro i t g hfu hi ht_ H locs hX hL ls hl
        refine lv_iload hx hb (pc := 61) dX5_comes_61 (lv_at hl 0 rfl) ?_
        refine lv_aload_n hx hb (pc := 63) dX5_comes_63 rfl (lv_at hl 3 rfl) ?_
        refine L_get hC hX hL in_X5 (ci := 5) rfl (pc := 64) 200 (ho.o.k 200 rfl) 1 (by decide) q432 rfl (v := .int (iI (Z 200 1))) rfl dX5_comes_64 ?_
        refine j_icmp_ge hC (pc := 67) 84 dX5_comes_67 (by decide) (by omega) (fun c4 => ?_) (fun c4 => ?_)
        · skip
          have hi_ : i = Z 200 1 := by omega
          have htt : t = w_ * 6 ^ (Z 200 1 - t_).toNat := by rw [ht_, hi_]
          clear ht_
          refine lv_aload_n hx hb (pc := 84) dX5_comes_84 rfl (lv_at hl 3 rfl) ?_
          refine L_getr hC hX hL in_X5 (ci := 5) rfl (pc := 85) 200 (ho.o.k 200 rfl) 3 (by decide) q435 rfl (q := zA S 200 3) (b := zB S 213) ho.r.2.1 rfl dX5_comes_85 ?_
          have J100 : ∀ (e2 : Int) (g : GH), (e2 = winF U) → ∀ (H : Heap) (locs : List Loc), Wd D (gA g0 n) s g n H locs → lR T g S Z → ∀ (ls : Array Slot), lv_has ls 10 [(9, .int (iI (i))), (7, .long (lI (t))), (6, .int (iI (r1))), (0, .ref (zB S 200)), (1, .ref (zB S 9)), (2, .long (lI (w_))), (4, .int (iI (t_))), (5, .int (iI (rd)))] → W p l e ({ frames := 2, cells := 0, slots := 0, locals := 42 } : Room) s mi args below meth c H locs 0 0 Q (F0 mi 100 ls [.int (iI (e2)), .ref (zB S 213)]) := by
            intro e2 g he2 H locs hX hL ls hl
            refine lv_dup2_11 hx hb (pc := 100) dX5_comes_100 rfl rfl ?_
            refine L_lald hC hX hL (pc := 101) 213 (ho.o.k 213 rfl) (L := 3) (ho.o.n 213 rfl) (by decide) (by omega) (z := Z 213 e2) rfl dX5_comes_101 ?_
            refine lv_lload hx hb (pc := 102) dX5_comes_102 (lv_at hl 1 rfl) ?_
            refine j_ladd hC (pc := 104) dX5_comes_104 ?_
            refine L_last hC hX hL (pc := 105) 213 (ho.o.k 213 rfl) (L := 3) (ho.o.n 213 rfl) (by decide) (by omega) (f := uI (Z 213) e2 ((Z 213 e2) + t)) rfl dX5_comes_105 (fun g H locs hX hL => ?_)
            refine lv_aload_n hx hb (pc := 106) dX5_comes_106 rfl (lv_at hl 3 rfl) ?_
            refine L_getr hC hX hL in_X5 (ci := 5) rfl (pc := 107) 200 (ho.o.k 200 rfl) 4 (by decide) q437 rfl (q := zA S 200 4) (b := zB S 214) ho.r.2.2.1 rfl dX5_comes_107 ?_
            have J122 : ∀ (r2 : Int) (g : GH) (Z1 : Nat → Int → Int), ((winF U < 2 ∧ r2 = rd) ∨ (winF U = 2 ∧ r2 = 0)) → (Z1 = va_up Z 213 (uI (Z 213) e2 (Z 213 e2 + t))) → ∀ (H : Heap) (locs : List Loc), Wd D (gA g0 n) s g n H locs → lR T g S Z1 → ∀ (ls : Array Slot), lv_has ls 10 [(9, .int (iI (i))), (7, .long (lI (t))), (6, .int (iI (r1))), (0, .ref (zB S 200)), (1, .ref (zB S 9)), (2, .long (lI (w_))), (4, .int (iI (t_))), (5, .int (iI (rd)))] → W p l e ({ frames := 2, cells := 0, slots := 0, locals := 42 } : Room) s mi args below meth c H locs 0 0 Q (F0 mi 122 ls [.int (iI (r2)), .ref (zB S 214)]) := by
              intro r2 g Z1 hr2 hz H locs hX hL ls hl
              have hc1 : ch Z Z1 [213] := by rw [hz]; exact ch.rf.up 213 _ (by decide)
              refine lv_dup2_11 hx hb (pc := 122) dX5_comes_122 rfl rfl ?_
              refine L_lald hC hX hL (pc := 123) 214 (ho.o.k 214 rfl) (L := 7) (ho.o.n 214 rfl) (by decide) (by omega) (z := Z1 214 r2) rfl dX5_comes_123 ?_
              have J136 : ∀ (x2 : Int) (g : GH), ((winF U < 2 ∧ x2 = t) ∨ (winF U = 2 ∧ x2 = 0)) → ∀ (H : Heap) (locs : List Loc), Wd D (gA g0 n) s g n H locs → lR T g S Z1 → ∀ (ls : Array Slot), lv_has ls 10 [(9, .int (iI (i))), (7, .long (lI (t))), (6, .int (iI (r1))), (0, .ref (zB S 200)), (1, .ref (zB S 9)), (2, .long (lI (w_))), (4, .int (iI (t_))), (5, .int (iI (rd)))] → W p l e ({ frames := 2, cells := 0, slots := 0, locals := 42 } : Room) s mi args below meth c H locs 0 0 Q (F0 mi 136 ls [.long (lI (x2)), .long (lI (Z1 214 r2)), .int (iI (r2)), .ref (zB S 214)]) := by
                intro x2 g hx2 H locs hX hL ls hl
                refine j_ladd hC (pc := 136) dX5_comes_136 ?_
                refine L_last hC hX hL (pc := 137) 214 (ho.o.k 214 rfl) (L := 7) (ho.o.n 214 rfl) (by decide) (by omega) (f := uI (Z1 214) r2 ((Z1 214 r2) + x2)) rfl dX5_comes_137 (fun g H locs hX hL => ?_)
                refine j_iconst hC (pc := 138) dX5_comes_138 ?_
                refine lv_istore (lv' := [(9, .int (iI (0))), (7, .long (lI (t))), (6, .int (iI (r1))), (0, .ref (zB S 200)), (1, .ref (zB S 9)), (2, .long (lI (w_))), (4, .int (iI (t_))), (5, .int (iI (rd)))]) hx hb (pc := 139) dX5_comes_139 hl (by decide) rfl (fun ls hl => ?_)
                have L141 : ∀ (fu : Nat) (k : Int) (g : GH) (Z2 : Nat → Int → Int), 6 - k < (fu : Int) → (0 ≤ k ∧ k ≤ Z 201 0) → (ch Z Z2 [213, 214, 216, 217, 218, 219, 220, 221]) → (Z2 213 = uI (Z 213) e2 (Z 213 e2 + t)) → (Z2 214 = uI (Z 214) r2 (Z 214 r2 + x2)) → (∀ j : Int, 0 ≤ j → j < Z 201 0 → Z2 (216 + j.toNat) = if j < k ∧ q = 1 then uI (Z (216 + j.toNat)) (2 * Z 210 j + Z 211 j) (Z (216 + j.toNat) (2 * Z 210 j + Z 211 j) + t) else Z (216 + j.toNat)) → ∀ (H : Heap) (locs : List Loc), Wd D (gA g0 n) s g n H locs → lR T g S Z2 → ∀ (ls : Array Slot), lv_has ls 10 [(9, .int (iI (k))), (7, .long (lI (t))), (6, .int (iI (r1))), (0, .ref (zB S 200)), (1, .ref (zB S 9)), (2, .long (lI (w_))), (4, .int (iI (t_))), (5, .int (iI (rd)))] → W p l e ({ frames := 2, cells := 0, slots := 0, locals := 42 } : Room) s mi args below meth c H locs 0 0 Q (F0 mi 141 ls []) := by
                  intro fu
                  induction fu with
                  | zero =>
                    intro k g Z2 hfu hk hc2 h213 h214 hlf H locs hX hL ls hl
                    exfalso
                    omega
                  | succ fu ih141 =>
                    intro k g Z2 hfu hk hc2 h213 h214 hlf H locs hX hL ls hl
                    have e0 : Z2 201 0 = Z 201 0 := by rw [hc2 201 (by decide)]
                    have e10 : Z2 210 = Z 210 := hc2 210 (by decide)
                    have e11 : Z2 211 = Z 211 := hc2 211 (by decide)
                    refine lv_iload hx hb (pc := 141) dX5_comes_141 (lv_at hl 0 rfl) ?_
                    refine lv_aload_n hx hb (pc := 143) dX5_comes_143 rfl (lv_at hl 3 rfl) ?_
                    refine L_getr hC hX hL in_X5 (ci := 5) rfl (pc := 144) 200 (ho.o.k 200 rfl) 0 (by decide) q431 rfl (q := zA S 200 0) (b := zB S 201) ho.r.1 rfl dX5_comes_144 ?_
                    refine L_getN hC hX hL in_X6 (ci := 6) rfl (pc := 147) 201 (hf.sh.k 201 rfl) 0 (by decide) q285 rfl (v := .int (iI (Z2 201 0))) rfl dX5_comes_147 ?_
                    refine j_icmp_ge hC (pc := 150) 210 dX5_comes_150 (by decide) (by omega) (fun c5 => ?_) (fun c5 => ?_)
                    · skip
                      subst hQ
                      exact j_vret hC (pc := 210) hX hr hlk (Nat.le_of_ble_eq_true rfl) (Nat.le_of_ble_eq_true rfl) dX5_comes_210 ⟨rfl, _, hL, ⟨fun y => absurd y hj, fun _ => ⟨hc2, by rw [← htt]; exact hac.cnt hm hcs hO (by omega) (by rw [h213, he2]) h214 (fun hq k a b => by rw [hlf k a b, if_pos ⟨by omega, hq⟩])⟩⟩⟩
                    · skip
                      refine lv_aload_n hx hb (pc := 153) dX5_comes_153 rfl (lv_at hl 3 rfl) ?_
                      rcases ho.l with ⟨hq0, hl0⟩ | ⟨hq1, hl1, hsh2, hrw⟩
                      · skip
                        refine L_get hC hX hL in_X5 (ci := 5) rfl (pc := 154) 200 (ho.o.k 200 rfl) 5 (by decide) q439 rfl (v := .null) (congrArg (fun q => some (va_rf q)) hl0) dX5_comes_154 ?_
                        refine lv_ifnullN (tgt := 210) hx hb (pc := 157) dX5_comes_157 (by decide) ?_
                        subst hQ
                        exact j_vret hC (pc := 210) hX hr hlk (Nat.le_of_ble_eq_true rfl) (Nat.le_of_ble_eq_true rfl) dX5_comes_210 ⟨rfl, _, hL, ⟨fun y => absurd y hj, fun _ => ⟨hc2, by rw [← htt]; exact hac.cnt hm hcs hO (by omega) (by rw [h213, he2]) h214 (fun hq => absurd hq (by omega))⟩⟩⟩
                      · skip
                        refine L_getr hC hX hL in_X5 (ci := 5) rfl (pc := 154) 200 (ho.o.k 200 rfl) 5 (by decide) q439 rfl (q := zA S 200 5) (b := zB S 215) hl1 rfl dX5_comes_154 ?_
                        refine lv_ifnull hx hb (pc := 157) dX5_comes_157 ?_
                        have e1_ := hcs.1 k (by omega) (by omega)
                        have rg_ := slF_rg hm (k := k) (by omega)
                        have ok_ := hO _ rg_.1 rg_.2.1
                        rw [← e1_.1, ← e1_.2] at ok_
                        have hkk : k = 0 ∨ k = 1 ∨ k = 2 ∨ k = 3 ∨ k = 4 ∨ k = 5 := by omega
                        have hkr : zK S (216 + k.toNat) = 2 ∧ zN S (216 + k.toNat) = 42 := by rcases hkk with rfl | rfl | rfl | rfl | rfl | rfl; exact ⟨hsh2.k 216 rfl, hsh2.n 216 rfl⟩; exact ⟨hsh2.k 217 rfl, hsh2.n 217 rfl⟩; exact ⟨hsh2.k 218 rfl, hsh2.n 218 rfl⟩; exact ⟨hsh2.k 219 rfl, hsh2.n 219 rfl⟩; exact ⟨hsh2.k 220 rfl, hsh2.n 220 rfl⟩; exact ⟨hsh2.k 221 rfl, hsh2.n 221 rfl⟩
                        have hmem : 216 + k.toNat ∈ ([213, 214, 216, 217, 218, 219, 220, 221] : List Nat) := by rcases hkk with rfl | rfl | rfl | rfl | rfl | rfl <;> decide
                        clear hkk
                        refine lv_aload_n hx hb (pc := 160) dX5_comes_160 rfl (lv_at hl 3 rfl) ?_
                        refine L_getr hC hX hL in_X5 (ci := 5) rfl (pc := 161) 200 (ho.o.k 200 rfl) 5 (by decide) q439 rfl (q := zA S 200 5) (b := zB S 215) hl1 rfl dX5_comes_161 ?_
                        refine lv_iload hx hb (pc := 164) dX5_comes_164 (lv_at hl 0 rfl) ?_
                        refine L_aald hC hX hL (pc := 166) 215 6 (hsh2.k 215 rfl) (by decide) rfl rfl (L := 6) (hsh2.n 215 rfl) (by decide) (by omega) (b := zB S (216 + k.toNat)) (by have := hrw k.toNat (by omega); rw [Int.toNat_of_nonneg (by omega)] at this; exact this) dX5_comes_166 ?_
                        refine j_iconst hC (pc := 167) dX5_comes_167 ?_
                        refine lv_aload_n hx hb (pc := 168) dX5_comes_168 rfl (lv_at hl 3 rfl) ?_
                        refine L_getr hC hX hL in_X5 (ci := 5) rfl (pc := 169) 200 (ho.o.k 200 rfl) 0 (by decide) q431 rfl (q := zA S 200 0) (b := zB S 201) ho.r.1 rfl dX5_comes_169 ?_
                        refine L_getrN hC hX hL in_X6 (ci := 6) rfl (pc := 172) 201 (hf.sh.k 201 rfl) 10 (by decide) q318 rfl (q := zA S 201 10) (b := zB S 210) (hf.r 10 (by decide)) rfl dX5_comes_172 ?_
                        refine lv_iload hx hb (pc := 175) dX5_comes_175 (lv_at hl 0 rfl) ?_
                        refine L_iald hC hX hL (pc := 177) 210 (hf.sh.k 210 rfl) (L := 6) (hf.sh.n 210 rfl) (by decide) (by omega) (z := Z2 210 k) rfl dX5_comes_177 ?_
                        refine j_eqi (b := Z 210 k) (by rw [e10]) ?_
                        refine j_imul hC (pc := 178) dX5_comes_178 ?_
                        refine lv_aload_n hx hb (pc := 179) dX5_comes_179 rfl (lv_at hl 3 rfl) ?_
                        refine L_getr hC hX hL in_X5 (ci := 5) rfl (pc := 180) 200 (ho.o.k 200 rfl) 0 (by decide) q431 rfl (q := zA S 200 0) (b := zB S 201) ho.r.1 rfl dX5_comes_180 ?_
                        refine L_getrN hC hX hL in_X6 (ci := 6) rfl (pc := 183) 201 (hf.sh.k 201 rfl) 11 (by decide) q324 rfl (q := zA S 201 11) (b := zB S 211) (hf.r 11 (by decide)) rfl dX5_comes_183 ?_
                        refine lv_iload hx hb (pc := 186) dX5_comes_186 (lv_at hl 0 rfl) ?_
                        refine L_zald hC hX hL (pc := 188) 211 (hf.sh.k 211 rfl) (L := 6) (hf.sh.n 211 rfl) (by decide) (by omega) (z := Z2 211 k) rfl dX5_comes_188 ?_
                        refine j_eqi (b := Z 211 k) (by rw [e11]) ?_
                        refine j_if_eq hC (pc := 189) 196 dX5_comes_189 (by decide) (by omega) (fun c6 => ?_) (fun c6 => ?_)
                        · skip
                          refine j_iconst hC (pc := 196) dX5_comes_196 ?_
                          refine j_iadd hC (pc := 197) dX5_comes_197 ?_
                          refine j_eqi (b := 2 * Z 210 k + Z 211 k) (by omega) ?_
                          refine lv_dup2_11 hx hb (pc := 198) dX5_comes_198 rfl rfl ?_
                          refine L_lald hC hX hL (pc := 199) (216 + k.toNat) hkr.1 (L := 42) hkr.2 (by decide) (by omega) (z := Z2 (216 + k.toNat) (2 * Z 210 k + Z 211 k)) (by first | rfl | (repeat rw [va_up_ne _ _ (by omega)])) dX5_comes_199 ?_
                          refine lv_lload hx hb (pc := 200) dX5_comes_200 (lv_at hl 1 rfl) ?_
                          refine j_ladd hC (pc := 202) dX5_comes_202 ?_
                          refine L_last hC hX hL (pc := 203) (216 + k.toNat) hkr.1 (L := 42) hkr.2 (by decide) (by omega) (f := uI (Z2 (216 + k.toNat)) (2 * Z 210 k + Z 211 k) ((Z2 (216 + k.toNat) (2 * Z 210 k + Z 211 k)) + t)) (by first | rfl | (repeat rw [va_up_ne _ _ (by omega)])) dX5_comes_203 (fun g H locs hX hL => ?_)
                          refine j_iinc hC (pc := 204) (lv' := [(9, .int (iI (k + 1))), (7, .long (lI (t))), (6, .int (iI (r1))), (0, .ref (zB S 200)), (1, .ref (zB S 9)), (2, .long (lI (w_))), (4, .int (iI (t_))), (5, .int (iI (rd)))]) dX5_comes_204 hl (k := 0) rfl (by decide) rfl (fun ls hl => ?_)
                          refine j_goto hC (pc := 207) 141 dX5_comes_207 (by decide) ?_
                          exact ih141 (k + 1) _ _ (by omega) (by omega) (hc2.up (216 + k.toNat) _ hmem) (by rw [va_up_ne _ _ (by omega)]; exact h213) (by rw [va_up_ne _ _ (by omega)]; exact h214) (fun j a b => by rcases Decidable.em (j = k) with y | y; subst y; rw [va_up_self, if_pos ⟨by omega, hq1⟩, hlf j a b, if_neg (by omega)]; rw [va_up_ne _ _ (by omega), hlf j a b]; by_cases y2 : j < k; rw [if_pos ⟨y2, hq1⟩, if_pos ⟨by omega, hq1⟩]; rw [if_neg (fun y3 => y2 y3.1), if_neg (by omega)]) _ _ hX hL ls (lv_sub hl [0, 1, 2, 3, 4, 5, 6, 7] rfl)
                        · skip
                          refine j_iconst hC (pc := 192) dX5_comes_192 ?_
                          refine j_goto hC (pc := 193) 197 dX5_comes_193 (by decide) ?_
                          refine j_iadd hC (pc := 197) dX5_comes_197 ?_
                          refine j_eqi (b := 2 * Z 210 k + Z 211 k) (by omega) ?_
                          refine lv_dup2_11 hx hb (pc := 198) dX5_comes_198 rfl rfl ?_
                          refine L_lald hC hX hL (pc := 199) (216 + k.toNat) hkr.1 (L := 42) hkr.2 (by decide) (by omega) (z := Z2 (216 + k.toNat) (2 * Z 210 k + Z 211 k)) (by first | rfl | (repeat rw [va_up_ne _ _ (by omega)])) dX5_comes_199 ?_
                          refine lv_lload hx hb (pc := 200) dX5_comes_200 (lv_at hl 1 rfl) ?_
                          refine j_ladd hC (pc := 202) dX5_comes_202 ?_
                          refine L_last hC hX hL (pc := 203) (216 + k.toNat) hkr.1 (L := 42) hkr.2 (by decide) (by omega) (f := uI (Z2 (216 + k.toNat)) (2 * Z 210 k + Z 211 k) ((Z2 (216 + k.toNat) (2 * Z 210 k + Z 211 k)) + t)) (by first | rfl | (repeat rw [va_up_ne _ _ (by omega)])) dX5_comes_203 (fun g H locs hX hL => ?_)
                          refine j_iinc hC (pc := 204) (lv' := [(9, .int (iI (k + 1))), (7, .long (lI (t))), (6, .int (iI (r1))), (0, .ref (zB S 200)), (1, .ref (zB S 9)), (2, .long (lI (w_))), (4, .int (iI (t_))), (5, .int (iI (rd)))]) dX5_comes_204 hl (k := 0) rfl (by decide) rfl (fun ls hl => ?_)
                          refine j_goto hC (pc := 207) 141 dX5_comes_207 (by decide) ?_
                          exact ih141 (k + 1) _ _ (by omega) (by omega) (hc2.up (216 + k.toNat) _ hmem) (by rw [va_up_ne _ _ (by omega)]; exact h213) (by rw [va_up_ne _ _ (by omega)]; exact h214) (fun j a b => by rcases Decidable.em (j = k) with y | y; subst y; rw [va_up_self, if_pos ⟨by omega, hq1⟩, hlf j a b, if_neg (by omega)]; rw [va_up_ne _ _ (by omega), hlf j a b]; by_cases y2 : j < k; rw [if_pos ⟨y2, hq1⟩, if_pos ⟨by omega, hq1⟩]; rw [if_neg (fun y3 => y2 y3.1), if_neg (by omega)]) _ _ hX hL ls (lv_sub hl [0, 1, 2, 3, 4, 5, 6, 7] rfl)
                exact L141 ((6 - 0 : Int).toNat + 1) 0 _ _ (by omega) (by omega) ((ch.wd hc1 (by decide)).up 214 _ (by decide)) (by show Z1 213 = _; rw [hz]; rfl) (by show uI (Z1 214) r2 _ = _; rw [hc1 214 (by decide)]) (fun j a b => by rw [if_neg (by omega), va_up_ne _ _ (by omega)]; exact hc1 _ (by simp; omega)) _ _ hX hL ls (lv_sub hl [0, 1, 2, 3, 4, 5, 6, 7] rfl)
              refine lv_iload hx hb (pc := 124) dX5_comes_124 (lv_at hl 2 rfl) ?_
              refine j_iconst hC (pc := 126) dX5_comes_126 ?_
              refine j_icmp_ne hC (pc := 127) 134 dX5_comes_127 (by decide) (by omega) (fun c7 => ?_) (fun c7 => ?_)
              · skip
                refine lv_lload hx hb (pc := 134) dX5_comes_134 (lv_at hl 1 rfl) ?_
                exact J136 t _ (by omega) _ _ hX hL ls (lv_sub hl [0, 1, 2, 3, 4, 5, 6, 7] rfl)
              · skip
                refine j_lconst hC (pc := 130) (w := 0) dX5_comes_130 rfl ?_
                refine j_goto hC (pc := 131) 136 dX5_comes_131 (by decide) ?_
                exact J136 0 _ (by omega) _ _ hX hL ls (lv_sub hl [0, 1, 2, 3, 4, 5, 6, 7] rfl)
            refine lv_iload hx hb (pc := 110) dX5_comes_110 (lv_at hl 2 rfl) ?_
            refine j_iconst hC (pc := 112) dX5_comes_112 ?_
            refine j_icmp_ne hC (pc := 113) 120 dX5_comes_113 (by decide) (by omega) (fun c8 => ?_) (fun c8 => ?_)
            · skip
              refine lv_iload hx hb (pc := 120) dX5_comes_120 (lv_at hl 7 rfl) ?_
              exact J122 rd _ _ (by omega) rfl _ _ hX hL ls (lv_sub hl [0, 1, 2, 3, 4, 5, 6, 7] rfl)
            · skip
              refine j_iconst hC (pc := 116) dX5_comes_116 ?_
              refine j_goto hC (pc := 117) 122 dX5_comes_117 (by decide) ?_
              exact J122 0 _ _ (by omega) rfl _ _ hX hL ls (lv_sub hl [0, 1, 2, 3, 4, 5, 6, 7] rfl)
          refine lv_iload hx hb (pc := 88) dX5_comes_88 (lv_at hl 2 rfl) ?_
          refine j_iconst hC (pc := 90) dX5_comes_90 ?_
          refine j_icmp_ne hC (pc := 91) 98 dX5_comes_91 (by decide) (by omega) (fun c9 => ?_) (fun c9 => ?_)
          · skip
            refine lv_iload hx hb (pc := 98) dX5_comes_98 (lv_at hl 2 rfl) ?_
            exact J100 r1 _ (by omega) _ _ hX hL ls (lv_sub hl [0, 1, 2, 3, 4, 5, 6, 7] rfl)
          · skip
            refine j_iconst hC (pc := 94) dX5_comes_94 ?_
            refine j_goto hC (pc := 95) 100 dX5_comes_95 (by decide) ?_
            exact J100 2 _ (by omega) _ _ hX hL ls (lv_sub hl [0, 1, 2, 3, 4, 5, 6, 7] rfl)
        · skip
          refine lv_lload hx hb (pc := 70) dX5_comes_70 (lv_at hl 1 rfl) ?_
          refine j_ldc2 hC (pc := 72) (z := 6) q366 dX5_comes_72 rfl ?_
          refine j_lmul hC (pc := 75) dX5_comes_75 ?_
          refine lv_lstore (lv' := [(7, .long (lI (t * 6))), (9, .int (iI (i))), (6, .int (iI (r1))), (0, .ref (zB S 200)), (1, .ref (zB S 9)), (2, .long (lI (w_))), (4, .int (iI (t_))), (5, .int (iI (rd)))]) hx hb (pc := 76) dX5_comes_76 hl (by decide) rfl (fun ls hl => ?_)
          refine j_iinc hC (pc := 78) (lv' := [(9, .int (iI (i + 1))), (7, .long (lI (t * 6))), (6, .int (iI (r1))), (0, .ref (zB S 200)), (1, .ref (zB S 9)), (2, .long (lI (w_))), (4, .int (iI (t_))), (5, .int (iI (rd)))]) dX5_comes_78 hl (k := 1) rfl (by decide) rfl (fun ls hl => ?_)
          refine j_goto hC (pc := 81) 61 dX5_comes_81 (by decide) ?_
          exact ih61 (i + 1) (t * 6) _ (by omega) (by omega) (by rw [ht_, show (i + 1 - t_).toNat = (i - t_).toNat + 1 by omega, Int.pow_succ, Int.mul_assoc]) _ _ hX hL ls (lv_sub hl [0, 1, 2, 3, 4, 5, 6, 7] rfl)
    exact L61 ((22 - t_ : Int).toNat + 1) t_ w_ _ (by omega) (by omega) (by rw [show (t_ - t_).toNat = 0 by omega, Int.pow_zero, Int.mul_one]) _ _ hX hL ls (lv_sub hl [0, 1, 2, 3, 4, 5, 6, 7] rfl)
  refine lv_iload hx hb (pc := 9) dX5_comes_9 (lv_at hl 0 rfl) ?_
  refine j_iconst hC (pc := 11) dX5_comes_11 ?_
  refine j_icmp_ne hC (pc := 12) 54 dX5_comes_12 (by decide) (by omega) (fun c10 => ?_) (fun c10 => ?_)
  · skip
    exact J54  _ (by omega) _ _ hX hL ls (lv_sub hl [0, 1, 2, 3, 4, 5] rfl)
  · skip
    refine lv_iload hx hb (pc := 15) dX5_comes_15 (lv_at hl 4 rfl) ?_
    refine lv_aload_n hx hb (pc := 17) dX5_comes_17 rfl (lv_at hl 1 rfl) ?_
    refine L_get hC hX hL in_X5 (ci := 5) rfl (pc := 18) 200 (ho.o.k 200 rfl) 1 (by decide) q432 rfl (v := .int (iI (Z 200 1))) rfl dX5_comes_18 ?_
    refine j_icmp_ge hC (pc := 21) 54 dX5_comes_21 (by decide) (by omega) (fun c11 => ?_) (fun c11 => ?_)
    · skip
      exact J54  _ (by omega) _ _ hX hL ls (lv_sub hl [0, 1, 2, 3, 4, 5] rfl)
    · skip
      refine lv_aload_n hx hb (pc := 24) dX5_comes_24 rfl (lv_at hl 1 rfl) ?_
      refine lv_dup hx hb (pc := 25) dX5_comes_25 rfl ?_
      refine L_get hC hX hL in_X5 (ci := 5) rfl (pc := 26) 200 (ho.o.k 200 rfl) 7 (by decide) q443 rfl (v := .int (iI (Z 200 7))) rfl dX5_comes_26 ?_
      refine lv_aload_n hx hb (pc := 29) dX5_comes_29 rfl (lv_at hl 2 rfl) ?_
      refine lv_aload_n hx hb (pc := 30) dX5_comes_30 rfl (lv_at hl 1 rfl) ?_
      refine L_getr hC hX hL in_X5 (ci := 5) rfl (pc := 31) 200 (ho.o.k 200 rfl) 0 (by decide) q431 rfl (q := zA S 200 0) (b := zB S 201) ho.r.1 rfl dX5_comes_31 ?_
      refine j_calll (rest := [.ref (zB S 9), .int (iI (Z 200 7)), .ref (zB S 200)]) hX (va_runV hC.fix (f6_key D T N l hL _ hf hs) (cwV 0 hC.ts (lw_V q379 q380 q381 q49 q382) rfl rfl rfl (by decide +kernel) ⟨Nat.le_of_ble_eq_true rfl, Nat.le_of_ble_eq_true rfl⟩) (j_preV hC hX (hL.ob 201 (hf.sh.k 201 rfl)) (ci := 6) (r := (RX6, TX6, 12)) rfl _) rfl rfl hl.1 rfl (Nat.le_of_ble_eq_true rfl) dX5_comes_34 ⟨(Nat.le_of_ble_eq_true rfl), (Nat.le_of_ble_eq_true rfl)⟩) (fun r12 g m13 H locs hp hle hX => ?_)
      obtain ⟨hn_, Z_, hL, hS_, hp⟩ := hp
      rw [hn_] at hX
      rw [hS_] at hL
      have hkey : r12 = ckF h (Z 201 0) L U := by rw [hp]; exact hcs.key hm
      refine lv_lload_n hx hb (pc := 37) dX5_comes_37 rfl (lv_at hl 3 rfl) ?_
      refine j_calli (rest := [.int (iI (Z 200 7)), .ref (zB S 200)]) hX (va_runV hC.fix (t9_add D T N l hL _ N0 r12 w_ ho.x.2.1 hN (by rw [hkey]; exact ckF_rg hm hO) (hwB ⟨by omega, by omega⟩).1 (hwB ⟨by omega, by omega⟩).2) (cwV 2 hC.ts (lw_V q383 q384 q385 q41 q386) rfl rfl rfl (by decide +kernel) ⟨Nat.le_of_ble_eq_true rfl, Nat.le_of_ble_eq_true rfl⟩) (j_preV hC hX (hL.ob 9 (ho.x.2.1.1.k 9 rfl)) (ci := 1) (r := (RX1, TX1, 4)) rfl _) rfl rfl hl.1 rfl (Nat.le_of_ble_eq_true rfl) dX5_comes_38 ⟨(Nat.le_of_ble_eq_true rfl), (Nat.le_of_ble_eq_true rfl)⟩) (fun r15 g m16 H locs hp hle hX => ?_)
      obtain ⟨hn_, Z17, hL, hp⟩ := hp
      rw [hn_] at hX
      refine j_if_ne hC (pc := 41) 48 dX5_comes_41 (by decide) (by rcases hp.2 with ⟨y, _⟩ | ⟨y, _⟩ <;> omega) (fun c18 => ?_) (fun c18 => ?_)
      · skip
        refine j_iconst hC (pc := 48) dX5_comes_48 ?_
        refine j_ior01 hC (pc := 49) dX5_comes_49 ⟨by omega, by omega⟩ ?_
        refine L_put hC hX hL in_X5 tyX5 tyX5_ok nmX5 (ci := 5) rfl (pc := 50) 200 (ho.o.k 200 rfl) 7 (by decide) q443 rfl rfl (nar_z (by first | exact orF_01 _ _ | omega)) (fit_z (by first | exact orF_01 _ _ | omega)) (f := uI (Z17 200) 7 (orF (Z 200 7) 0)) (show 7 < 9 by decide) rfl dX5_comes_50 (fun g H locs hX hL => ?_)
        subst hQ
        exact j_vret hC (pc := 53) hX hr hlk (Nat.le_of_ble_eq_true rfl) (Nat.le_of_ble_eq_true rfl) dX5_comes_53 ⟨rfl, _, hL, ⟨fun _ => ⟨(ch.tr hp.1 ((ch.rf (f := Z17)).up 200 _ (show 200 ∈ [200] by decide)) (by decide)), (fun j hj => by show uI (Z17 200) 7 _ j = _; rw [uI_n _ _ hj, hp.1 200 (by decide)]), Or.inl ⟨(uI_s (Z17 200) 7 _).trans (orF_0 hw7), by rcases hp.2 with ⟨_, y⟩ | ⟨y, _⟩; rw [← hkey]; exact y; omega⟩⟩, fun y => absurd ⟨by omega, by omega⟩ y⟩⟩
      · skip
        refine j_iconst hC (pc := 44) dX5_comes_44 ?_
        refine j_goto hC (pc := 45) 49 dX5_comes_45 (by decide) ?_
        refine j_ior01 hC (pc := 49) dX5_comes_49 ⟨by omega, by omega⟩ ?_
        refine L_put hC hX hL in_X5 tyX5 tyX5_ok nmX5 (ci := 5) rfl (pc := 50) 200 (ho.o.k 200 rfl) 7 (by decide) q443 rfl rfl (nar_z (by first | exact orF_01 _ _ | omega)) (fit_z (by first | exact orF_01 _ _ | omega)) (f := uI (Z17 200) 7 (orF (Z 200 7) 1)) (show 7 < 9 by decide) rfl dX5_comes_50 (fun g H locs hX hL => ?_)
        subst hQ
        exact j_vret hC (pc := 53) hX hr hlk (Nat.le_of_ble_eq_true rfl) (Nat.le_of_ble_eq_true rfl) dX5_comes_53 ⟨rfl, _, hL, ⟨fun _ => ⟨(ch.tr hp.1 ((ch.rf (f := Z17)).up 200 _ (show 200 ∈ [200] by decide)) (by decide)), (fun j hj => by show uI (Z17 200) 7 _ j = _; rw [uI_n _ _ hj, hp.1 200 (by decide)]), Or.inr ⟨(uI_s (Z17 200) 7 _).trans (orF_1 _), by rcases hp.2 with ⟨y, _⟩ | ⟨_, y, _⟩; omega; show tZ 9 Z17 N0; rw [y]; exact hN, by rcases hp.2 with ⟨y, _⟩ | ⟨_, _, y⟩; omega; rw [← hkey]; exact y⟩⟩, fun y => absurd ⟨by omega, by omega⟩ y⟩⟩
