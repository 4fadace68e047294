/-! FairFight: looks -/
theorem any_n {c : Int → Int → Int} {i : Int} (hi : 0 ≤ i) (h : anyW c i.toNat = 0) (h0 : c i 0 ≠ -5) (h1 : c i 1 ≠ -5) : anyW c (i + 1).toNat = 0 := by
  rw [show (i + 1).toNat = i.toNat + 1 by omega]
  unfold anyW
  rw [show ((i.toNat : Nat) : Int) = i by omega, if_neg (by rintro (q | q); exact h0 q; exact h1 q)]
  exact h
theorem any_y {c : Int → Int → Int} {i : Int} {k : Nat} (hi : 0 ≤ i ∧ i < k) (h : c i 0 = -5 ∨ c i 1 = -5) : anyW c k = 1 := by
  have : ∀ d : Nat, anyW c (i.toNat + 1 + d) = 1 := fun d => by
    induction d with
    | zero =>
      show anyW c (i.toNat + 1) = 1
      unfold anyW
      rw [show ((i.toNat : Nat) : Int) = i by omega, if_pos h]
    | succ d ih => exact anyW_1 ih
  have := this (k - (i.toNat + 1))
  rw [show i.toNat + 1 + (k - (i.toNat + 1)) = k by omega] at this
  exact this

def lkP (N : Nat → Nat) (x : Nat) (S : LbS) (Z : Nat → Int → Int) (F : Nat → Int) (V : Nat → Int → Int) (r : Int) (S' : LbS) (Z' : Nat → Int → Int) : Prop := (∀ k, 222 ≤ k → sk S Z S' Z' k) ∧ xRel N x S' Z' F V ∧ ((r = 0 ∧ F 25 ≠ 0 ∧ V 2 0 ≠ -1 ∧ anyW (oddO F V) (F 25).toNat ≠ 1 ∧ Z' 0 11 = (dayB F V).1 ∧ Z' 0 12 = (dayB F V).2.2) ∨ (r < 0 ∧ r = dayR F V))

theorem dayS_t {c : Int → Int → Int} {n : Nat} {pu : Int} {t : Int} (ht : 0 ≤ t) (h : onesD t n ≤ pu ∧ ((dayS c n pu t.toNat).1 < sumD c t n ∨ (sumD c t n = (dayS c n pu t.toNat).1 ∧ onesD t n < (dayS c n pu t.toNat).2.1))) : dayS c n pu (t + 1).toNat = (sumD c t n, onesD t n, t) := by
  rw [show (t + 1).toNat = t.toNat + 1 by omega]
  show (if _ then _ else _) = _
  rw [show ((t.toNat : Nat) : Int) = t by omega, if_pos h]
theorem dayS_f {c : Int → Int → Int} {n : Nat} {pu : Int} {t : Int} (ht : 0 ≤ t) (h : ¬ (onesD t n ≤ pu ∧ ((dayS c n pu t.toNat).1 < sumD c t n ∨ (sumD c t n = (dayS c n pu t.toNat).1 ∧ onesD t n < (dayS c n pu t.toNat).2.1)))) : dayS c n pu (t + 1).toNat = dayS c n pu t.toNat := by
  rw [show (t + 1).toNat = t.toNat + 1 by omega]
  show (if _ then _ else _) = _
  rw [show ((t.toNat : Nat) : Int) = t by omega, if_neg h]
def dI (F : Nat → Int) (V : Nat → Int → Int) (t a b : Int) : Prop := a = (dayS (oddO F V) (F 25).toNat (F 27) t.toNat).1 ∧ (0 < t → b = (dayS (oddO F V) (F 25).toNat (F 27) t.toNat).2.2 ∧ onesD b 6 = (dayS (oddO F V) (F 25).toNat (F 27) t.toNat).2.1 ∧ 0 ≤ b ∧ b ≤ 63)
theorem dI.t {F : Nat → Int} {V : Nat → Int → Int} {t : Int} (ht : 0 ≤ t ∧ t < 64) {a b : Int} (h : dI F V t a b) (o6 : onesD t 6 = onesD t (F 25).toNat) (h1 : onesD t (F 25).toNat ≤ F 27) (h2 : a < sumD (oddO F V) t (F 25).toNat ∨ (sumD (oddO F V) t (F 25).toNat = a ∧ 0 < t ∧ onesD t 6 < onesD b 6)) : dI F V (t + 1) (sumD (oddO F V) t (F 25).toNat) t := by
  have e := dayS_t (c := oddO F V) (n := (F 25).toNat) (pu := F 27) ht.1 ⟨h1, by
    rcases h2 with q | ⟨q1, q2, q3⟩
    · exact Or.inl (by rw [← h.1]; exact q)
    · exact Or.inr ⟨by rw [← h.1]; exact q1, by rw [← (h.2 q2).2.1, ← o6]; exact q3⟩⟩
  unfold dI
  rw [e]
  exact ⟨rfl, fun _ => ⟨rfl, o6, by omega, by omega⟩⟩
theorem dI.f {F : Nat → Int} {V : Nat → Int → Int} {t : Int} (ht : 0 ≤ t ∧ t < 64) {a b : Int} (h : dI F V t a b) (o6 : onesD t 6 = onesD t (F 25).toNat) (h0 : 0 < t) (h1 : ¬ (onesD t (F 25).toNat ≤ F 27 ∧ (a < sumD (oddO F V) t (F 25).toNat ∨ (sumD (oddO F V) t (F 25).toNat = a ∧ onesD t 6 < onesD b 6)))) : dI F V (t + 1) a b := by
  have e := dayS_f (c := oddO F V) (n := (F 25).toNat) (pu := F 27) (t := t) ht.1 (fun q => h1 ⟨q.1, by
    rcases q.2 with q | ⟨q1, q3⟩
    · exact Or.inl (by rw [h.1]; exact q)
    · exact Or.inr ⟨by rw [h.1]; exact q1, by rw [(h.2 h0).2.1, o6]; exact q3⟩⟩)
  unfold dI at h ⊢
  rw [e]
  exact ⟨h.1, fun _ => h.2 h0⟩

set_option maxHeartbeats 16000000 in
set_option maxRecDepth 100000 in
theorem f0_looks (D : va_G) (T N : Nat → Nat) (l : Launch) {g0 : GH} {S : LbS} {Z : Nat → Int → Int} (hL : lR T g0 S Z) (n : Nat) (x : Nat) (F : Nat → Int) (V : Nat → Int → Int) (hx0 : xRel N x S Z F V) (hI : SI F V) : Met l yX0_looks (ws_ yX0_looks cX0_looks 7 (some .int)) ({ frames := 8, cells := 182, slots := 1176, locals := 189 } : Room) (gPc D T N [.ref (zB S 0)] g0 n) (gQi D g0 n (fun r g' n' => ∃ S' Z', lR T g' S' Z' ∧ lkP N x S Z F V r S' Z')) 182 1176 (gA g0 n) := by
  refine j_start (by decide) (Nat.le_of_ble_eq_true rfl) ?_
  intro p e s mi args below meth c hC hr hlk hnm hX ls hl
  have hC : Ct D T N (gA g0 n) p s mi args c cX0_looks RX0 7 := hC
  have hx := hC.x
  have hb := hC.b
  generalize hQ : MQ below _ args s 182 1176 (gA g0 n) = Q
  have hl : lv_has ls 7 [(0, .ref (zB S 0))] := hl
  have hnn := hI.nums
  have hxn := hx0.n
  have hs0_ := hx0.si 0 (by decide) (by decide)
  have h2_ := hI.w2 0 (by decide) (by decide)
  refine lv_aload_n hx hb (pc := 0) dX0_looks_0 rfl (lv_at hl 0 rfl) ?_
  refine L_getr hC hX hL in_X0 (ci := 0) rfl (pc := 1) 0 hx0.T.2.2.1 8 (by decide) q161 rfl (q := zA S 0 8) (b := zB S 13) hx0.r8 rfl dX0_looks_1 ?_
  refine j_calli (rest := []) hX (va_runV hC.fix (l_size13 D T N l hL _ (hx0.sp.k 13 rfl)) (cwV 0 hC.ts (lw_V q520 q521 q522 q44 q523) rfl rfl rfl (by decide +kernel) ⟨Nat.le_of_ble_eq_true rfl, Nat.le_of_ble_eq_true rfl⟩) (j_preV hC hX (hL.ob 13 (hx0.sp.k 13 rfl)) (ci := 7) (r := (RJ2, TJ2, 3)) rfl _) rfl rfl hl.1 rfl (Nat.le_of_ble_eq_true rfl) dX0_looks_4 ⟨(by first | (show _ ≤ (182 : Nat); omega) | (show _ ≤ (1176 : Nat); omega)), (by first | (show _ ≤ (182 : Nat); omega) | (show _ ≤ (1176 : Nat); omega))⟩) (fun r1 g m2 H locs hp hle hX => ?_)
  obtain ⟨hn_, Z_, hL, hS_, hp⟩ := hp
  rw [hn_] at hX
  rw [hS_] at hL
  have hz_r1 : r1 = F 25 := hp.trans hx0.fg.1
  refine j_eqi (b := F 25) (hp.trans hx0.fg.1) ?_
  refine lv_istore_n (lv' := [(1, .int (iI (F 25))), (0, .ref (zB S 0))]) hx hb (pc := 7) dX0_looks_7 rfl hl (by decide) rfl (fun ls hl => ?_)
  refine lv_iload_n hx hb (pc := 8) dX0_looks_8 rfl (lv_at hl 0 rfl) ?_
  refine j_if_eq hC (pc := 9) 24 dX0_looks_9 (by decide) (by omega) (fun c4 => ?_) (fun c4 => ?_)
  · skip
    refine j_bipush hC (pc := 24) dX0_looks_24 (by decide) ?_
    subst hQ
    exact j_iret hC (pc := 26) hX hr hlk (by first | (show _ ≤ (182 : Nat); omega) | (show _ ≤ (1176 : Nat); omega)) (by first | (show _ ≤ (182 : Nat); omega) | (show _ ≤ (1176 : Nat); omega)) dX0_looks_26 ⟨_, _, hL, ⟨(fun k hk => sk.rf), hx0, Or.inr ⟨by decide, by unfold dayR; rw [if_pos (by omega)]⟩⟩⟩
  · skip
    refine lv_aload_n hx hb (pc := 12) dX0_looks_12 rfl (lv_at hl 1 rfl) ?_
    refine L_getr hC hX hL in_X0 (ci := 0) rfl (pc := 13) 0 hx0.T.2.2.1 2 (by decide) q150 rfl (q := zA S 0 2) (b := zB S 2) hx0.r2 rfl dX0_looks_13 ?_
    refine j_iconst hC (pc := 16) dX0_looks_16 ?_
    refine L_aald hC hX hL (pc := 17) 2 5 (hx0.sp.k 2 rfl) (by decide) rfl rfl (L := 2) (hx0.sp.n 2 rfl) (by decide) (by omega) (b := zB S 3) hx0.e.1.1 dX0_looks_17 ?_
    refine j_iconst hC (pc := 18) dX0_looks_18 ?_
    refine L_iald hC hX hL (pc := 19) 3 (hx0.sp.k 3 rfl) (L := 3) (hx0.sp.n 3 rfl) (by decide) (by omega) (z := Z 3 0) rfl dX0_looks_19 ?_
    refine j_iconst hC (pc := 20) dX0_looks_20 ?_
    refine j_icmp_ne hC (pc := 21) 27 dX0_looks_21 (by decide) (by omega) (fun c5 => ?_) (fun c5 => ?_)
    · skip
      refine j_bipush hC (pc := 27) dX0_looks_27 (by decide) ?_
      refine L_newI hC hX hL (pc := 29) 100 0 (by decide) (atype := .int) (ty := .int) rfl rfl (fun cA h => h) rfl q103 (k := 6) rfl (by decide) (by decide) (by first | (show _ ≤ (182 : Nat); omega) | (show _ ≤ (1176 : Nat); omega)) (by first | (show _ ≤ (182 : Nat); omega) | (show _ ≤ (1176 : Nat); omega)) dX0_looks_29 (fun g H hX hL => ?_)
      refine lv_astore_n (lv' := [(2, .ref (n)), (1, .int (iI (F 25))), (0, .ref (zB S 0))]) hx hb (pc := 31) dX0_looks_31 rfl hl (by decide) rfl (fun ls hl => ?_)
      refine j_bipush hC (pc := 32) dX0_looks_32 (by decide) ?_
      refine L_newI hC hX hL (pc := 34) 103 0 (by decide) (atype := .int) (ty := .int) rfl rfl (fun cA h => h) rfl q103 (k := 6) rfl (by decide) (by decide) (by first | (show _ ≤ (182 : Nat); omega) | (show _ ≤ (1176 : Nat); omega)) (by first | (show _ ≤ (182 : Nat); omega) | (show _ ≤ (1176 : Nat); omega)) dX0_looks_34 (fun g H hX hL => ?_)
      refine lv_astore_n (lv' := [(3, .ref (n + 1)), (2, .ref (n)), (1, .int (iI (F 25))), (0, .ref (zB S 0))]) hx hb (pc := 36) dX0_looks_36 rfl hl (by decide) rfl (fun ls hl => ?_)
      refine j_iconst hC (pc := 37) dX0_looks_37 ?_
      refine lv_istore (lv' := [(4, .int (iI (0))), (3, .ref (n + 1)), (2, .ref (n)), (1, .int (iI (F 25))), (0, .ref (zB S 0))]) hx hb (pc := 38) dX0_looks_38 hl (by decide) rfl (fun ls hl => ?_)
      have L40 : ∀ (fu : Nat) (i : Int) (g : GH) (nj40 : Nat) (S1 : LbS) (Z1 : Nat → Int → Int), F 25 - i < (fu : Int) → (0 ≤ i ∧ i ≤ F 25) → (xRel N x S1 Z1 F V) → (zK S1 100 = 1 ∧ zN S1 100 = 6) → (zK S1 103 = 1 ∧ zN S1 103 = 6) → (∀ k, 222 ≤ k → sk S Z S1 Z1 k) → (∀ j : Int, 0 ≤ j → j < i → Z1 100 j = oddO F V j 0 ∧ Z1 103 j = oddO F V j 1) → (anyW (oddO F V) i.toNat = 0) → ∀ (H : Heap) (locs : List Loc), Wd D (gA g0 n) s g nj40 H locs → lR T g S1 Z1 → ∀ (ls : Array Slot), lv_has ls 7 [(4, .int (iI (i))), (3, .ref (zB S1 103)), (2, .ref (zB S1 100)), (1, .int (iI (F 25))), (0, .ref (zB S1 0))] → W p l e ({ frames := 8, cells := 182, slots := 1176, locals := 189 } : Room) s mi args below meth c H locs (2 + 30 * i.toNat) (12 + 194 * i.toNat) Q (F0 mi 40 ls []) := by
        intro fu
        induction fu with
        | zero =>
          intro i g nj40 S1 Z1 hfu hi hx1 hk100 hk103 hsk hv hany H locs hX hL ls hl
          exfalso
          omega
        | succ fu ih40 =>
          intro i g nj40 S1 Z1 hfu hi hx1 hk100 hk103 hsk hv hany H locs hX hL ls hl
          refine lv_iload hx hb (pc := 40) dX0_looks_40 (lv_at hl 0 rfl) ?_
          refine lv_iload_n hx hb (pc := 42) dX0_looks_42 rfl (lv_at hl 3 rfl) ?_
          refine j_icmp_ge hC (pc := 43) 130 dX0_looks_43 (by decide) (by omega) (fun c6 => ?_) (fun c6 => ?_)
          · skip
            have hiF : i = F 25 := by omega
            have hany2 : anyW (oddO F V) (F 25).toNat = 0 := by rw [← hiF]; exact hany
            have hv2 : ∀ j : Int, 0 ≤ j → j < F 25 → Z1 100 j = oddO F V j 0 ∧ Z1 103 j = oddO F V j 1 := fun j a b => hv j a (by omega)
            have hcr : ∀ j : Int, 0 ≤ j → j < ((F 25).toNat : Int) → (0 ≤ oddO F V j 0 ∧ oddO F V j 0 ≤ 1000000) ∧ 0 ≤ oddO F V j 1 ∧ oddO F V j 1 ≤ 1000000 := fun j a b => by have q_ := anyW_0 hany2 j a b; have q0 := oddO_rg hI (i := j) (b := 0) (by omega); have q1 := oddO_rg hI (i := j) (b := 1) (by omega); omega
            have hxn1 := hx1.n
            have hp60 := pow2_6 (n := F 25) (by omega)
            refine lv_aload_n hx hb (pc := 130) dX0_looks_130 rfl (lv_at hl 4 rfl) ?_
            refine j_iconst hC (pc := 131) dX0_looks_131 ?_
            refine L_put hC hX hL in_X0 tyX0 tyX0_ok nmX0 (ci := 0) rfl (pc := 132) 0 hx1.T.2.2.1 11 (by decide) q164 rfl rfl rfl rfl (f := uI (Z1 0) 11 (-1)) (show 11 < 18 by decide) rfl dX0_looks_132 (fun g H locs hX hL => ?_)
            refine j_iconst hC (pc := 135) dX0_looks_135 ?_
            refine lv_istore (lv' := [(4, .int (iI (0))), (3, .ref (zB S1 103)), (2, .ref (zB S1 100)), (1, .int (iI (F 25))), (0, .ref (zB S1 0))]) hx hb (pc := 136) dX0_looks_136 hl (by decide) rfl (fun ls hl => ?_)
            have L138 : ∀ (fu : Nat) (t : Int) (g : GH) (Z2 : Nat → Int → Int), 64 - t < (fu : Int) → (0 ≤ t ∧ t ≤ 2 ^ (F 25).toNat) → (ch Z1 Z2 [0]) → (∀ j : Int, j ≠ 11 → j ≠ 12 → Z2 0 j = Z1 0 j) → (dI F V t (Z2 0 11) (Z2 0 12)) → ∀ (H : Heap) (locs : List Loc), Wd D (gA g0 n) s g nj40 H locs → lR T g S1 Z2 → ∀ (ls : Array Slot), lv_has ls 7 [(4, .int (iI (t))), (3, .ref (zB S1 103)), (2, .ref (zB S1 100)), (1, .int (iI (F 25))), (0, .ref (zB S1 0))] → W p l e ({ frames := 8, cells := 182, slots := 1176, locals := 189 } : Room) s mi args below meth c H locs (2 + 30 * i.toNat) (12 + 194 * i.toNat) Q (F0 mi 138 ls []) := by
              intro fu
              induction fu with
              | zero =>
                intro t g Z2 hfu ht hz0 hzj hd H locs hX hL ls hl
                exfalso
                omega
              | succ fu ih138 =>
                intro t g Z2 hfu ht hz0 hzj hd H locs hX hL ls hl
                have hx2 : xRel N x S1 Z2 F V := hx1.num hz0 (by have q_ := hx1.n; rw [hzj 1 (by decide) (by decide), hzj 3 (by decide) (by decide), hzj 4 (by decide) (by decide), hzj 5 (by decide) (by decide), hzj 9 (by decide) (by decide), hzj 10 (by decide) (by decide), hzj 17 (by decide) (by decide)]; exact q_) ⟨rfl, rfl, rfl⟩
                have hxn2 := hx2.n
                have hp6 := pow2_6 (n := F 25) (by omega)
                have hdr := (dayS_rg (c := oddO F V) (n := (F 25).toNat) (pu := F 27) hcr (by omega) t.toNat).1
                rw [← hd.1] at hdr
                have hda : t = 0 → Z2 0 11 = -1 := fun q => by rw [hd.1, q]; rfl
                have hz100 : Z2 100 = Z1 100 := hz0 100 (by decide)
                have hz103 : Z2 103 = Z1 103 := hz0 103 (by decide)
                refine lv_iload hx hb (pc := 138) dX0_looks_138 (lv_at hl 0 rfl) ?_
                refine j_iconst hC (pc := 140) dX0_looks_140 ?_
                refine lv_iload_n hx hb (pc := 141) dX0_looks_141 rfl (lv_at hl 3 rfl) ?_
                refine j_ishlP hC (pc := 142) dX0_looks_142 (by omega) ?_
                refine j_icmp_ge hC (pc := 143) 254 dX0_looks_143 (by decide) (by omega) (fun c7 => ?_) (fun c7 => ?_)
                · skip
                  refine j_iconst hC (pc := 254) dX0_looks_254 ?_
                  subst hQ
                  exact j_iret hC (pc := 255) hX hr hlk (by first | (show _ ≤ (182 : Nat); omega) | (show _ ≤ (1176 : Nat); omega)) (by first | (show _ ≤ (182 : Nat); omega) | (show _ ≤ (1176 : Nat); omega)) dX0_looks_255 ⟨_, _, hL, ⟨(fun k hk => (hsk k hk).tr (sk.c hz0 (by simp; omega))), hx2, Or.inl ⟨rfl, by omega, by omega, by omega, by rw [hd.1, show t = 2 ^ (F 25).toNat by omega]; rfl, by rw [(hd.2 (by omega)).1, show t = 2 ^ (F 25).toNat by omega]; rfl⟩⟩⟩
                · skip
                  refine j_iconst hC (pc := 146) dX0_looks_146 ?_
                  refine lv_istore (lv' := [(5, .int (iI (0))), (4, .int (iI (t))), (3, .ref (zB S1 103)), (2, .ref (zB S1 100)), (1, .int (iI (F 25))), (0, .ref (zB S1 0))]) hx hb (pc := 147) dX0_looks_147 hl (by decide) rfl (fun ls hl => ?_)
                  refine j_iconst hC (pc := 149) dX0_looks_149 ?_
                  refine lv_istore (lv' := [(6, .int (iI (0))), (5, .int (iI (0))), (4, .int (iI (t))), (3, .ref (zB S1 103)), (2, .ref (zB S1 100)), (1, .int (iI (F 25))), (0, .ref (zB S1 0))]) hx hb (pc := 150) dX0_looks_150 hl (by decide) rfl (fun ls hl => ?_)
                  have L152 : ∀ (fu : Nat) (w : Int) (u : Int) (g : GH), F 25 - w < (fu : Int) → (0 ≤ w ∧ w ≤ F 25) → (u = sumD (oddO F V) t w.toNat) → ∀ (H : Heap) (locs : List Loc), Wd D (gA g0 n) s g nj40 H locs → lR T g S1 Z2 → ∀ (ls : Array Slot), lv_has ls 7 [(6, .int (iI (w))), (5, .int (iI (u))), (4, .int (iI (t))), (3, .ref (zB S1 103)), (2, .ref (zB S1 100)), (1, .int (iI (F 25))), (0, .ref (zB S1 0))] → W p l e ({ frames := 8, cells := 182, slots := 1176, locals := 189 } : Room) s mi args below meth c H locs (2 + 30 * i.toNat) (12 + 194 * i.toNat) Q (F0 mi 152 ls []) := by
                    intro fu
                    induction fu with
                    | zero =>
                      intro w u g hfu hw hu H locs hX hL ls hl
                      exfalso
                      omega
                    | succ fu ih152 =>
                      intro w u g hfu hw hu H locs hX hL ls hl
                      have hb01 := bitF_01 t w
                      have hsr := sumD_rg (set := t) (F 25).toNat hcr
                      refine lv_iload hx hb (pc := 152) dX0_looks_152 (lv_at hl 0 rfl) ?_
                      refine lv_iload_n hx hb (pc := 154) dX0_looks_154 rfl (lv_at hl 5 rfl) ?_
                      refine j_icmp_ge hC (pc := 155) 191 dX0_looks_155 (by decide) (by omega) (fun c8 => ?_) (fun c8 => ?_)
                      · skip
                        have hu2 : u = sumD (oddO F V) t (F 25).toNat := by rw [hu, show w = F 25 by omega]
                        have ho6 : onesD t 6 = onesD t (F 25).toNat := onesD_6 (k := F 25) (by omega) ⟨ht.1, by omega⟩
                        have hog := onesD_rg t 6
                        have ho0 : t = 0 → onesD t 6 = 0 := fun q => by rw [q]; exact onesD_0 6
                        rw [← hu2] at hsr
                        refine lv_iload hx hb (pc := 191) dX0_looks_191 (lv_at hl 2 rfl) ?_
                        refine j_calli (rest := []) hX (va_runS hC.fix (f0_ones D T N l t (by omega) _ _) (va_cwS 1 hC.ts (lw_S q615 q616 q40 q617) rfl rfl rfl (by decide +kernel) ⟨Nat.le_of_ble_eq_true rfl, Nat.le_of_ble_eq_true rfl⟩) (j_preS hC hX _) rfl rfl hl.1 rfl (Nat.le_of_ble_eq_true rfl) dX0_looks_193 ⟨(by first | (show _ ≤ (182 : Nat); omega) | (show _ ≤ (1176 : Nat); omega)), (by first | (show _ ≤ (182 : Nat); omega) | (show _ ≤ (1176 : Nat); omega))⟩) (fun r9 g m10 H locs hp hle hX => ?_)
                        obtain ⟨hn_, hg_, hp⟩ := hp
                        rw [hn_, hg_] at hX
                        have hoA : r9 = onesD t 6 := hp
                        refine lv_aload_n hx hb (pc := 196) dX0_looks_196 rfl (lv_at hl 6 rfl) ?_
                        refine L_get hC hX hL in_X0 (ci := 0) rfl (pc := 197) 0 hx1.T.2.2.1 9 (by decide) q162 rfl (v := .int (iI (Z2 0 9))) rfl dX0_looks_197 ?_
                        refine j_eqi (b := F 27) hxn2.2.2.2.2.1 ?_
                        refine j_icmp_gt hC (pc := 200) 248 dX0_looks_200 (by decide) (by omega) (fun c11 => ?_) (fun c11 => ?_)
                        · skip
                          refine j_iinc hC (pc := 248) (lv' := [(4, .int (iI (t + 1))), (6, .int (iI (w))), (5, .int (iI (u))), (3, .ref (zB S1 103)), (2, .ref (zB S1 100)), (1, .int (iI (F 25))), (0, .ref (zB S1 0))]) dX0_looks_248 hl (k := 2) rfl (by decide) rfl (fun ls hl => ?_)
                          refine j_goto hC (pc := 251) 138 dX0_looks_251 (by decide) ?_
                          exact ih138 (t + 1) _ _ (by omega) (by omega) hz0 (by exact hzj) (by exact hd.f ⟨ht.1, by omega⟩ ho6 (by omega) (fun q_ => by omega)) _ _ hX hL ls (lv_sub hl [0, 3, 4, 5, 6] rfl)
                        · skip
                          refine lv_iload hx hb (pc := 203) dX0_looks_203 (lv_at hl 1 rfl) ?_
                          refine lv_aload_n hx hb (pc := 205) dX0_looks_205 rfl (lv_at hl 6 rfl) ?_
                          refine L_get hC hX hL in_X0 (ci := 0) rfl (pc := 206) 0 hx1.T.2.2.1 11 (by decide) q164 rfl (v := .int (iI (Z2 0 11))) rfl dX0_looks_206 ?_
                          refine j_icmp_gt hC (pc := 209) 236 dX0_looks_209 (by decide) (by omega) (fun c12 => ?_) (fun c12 => ?_)
                          · skip
                            refine lv_aload_n hx hb (pc := 236) dX0_looks_236 rfl (lv_at hl 6 rfl) ?_
                            refine lv_iload hx hb (pc := 237) dX0_looks_237 (lv_at hl 1 rfl) ?_
                            refine L_put hC hX hL in_X0 tyX0 tyX0_ok nmX0 (ci := 0) rfl (pc := 239) 0 hx1.T.2.2.1 11 (by decide) q164 rfl rfl rfl rfl (f := uI (Z2 0) 11 u) (show 11 < 18 by decide) rfl dX0_looks_239 (fun g H locs hX hL => ?_)
                            refine lv_aload_n hx hb (pc := 242) dX0_looks_242 rfl (lv_at hl 6 rfl) ?_
                            refine lv_iload hx hb (pc := 243) dX0_looks_243 (lv_at hl 2 rfl) ?_
                            refine L_put hC hX hL in_X0 tyX0 tyX0_ok nmX0 (ci := 0) rfl (pc := 245) 0 hx1.T.2.2.1 12 (by decide) q165 rfl rfl rfl rfl (f := uI (uI (Z2 0) 11 u) 12 t) (show 12 < 18 by decide) rfl dX0_looks_245 (fun g H locs hX hL => ?_)
                            refine j_iinc hC (pc := 248) (lv' := [(4, .int (iI (t + 1))), (6, .int (iI (w))), (5, .int (iI (u))), (3, .ref (zB S1 103)), (2, .ref (zB S1 100)), (1, .int (iI (F 25))), (0, .ref (zB S1 0))]) dX0_looks_248 hl (k := 2) rfl (by decide) rfl (fun ls hl => ?_)
                            refine j_goto hC (pc := 251) 138 dX0_looks_251 (by decide) ?_
                            exact ih138 (t + 1) _ _ (by omega) (by omega) ((hz0.up 0 _ (by decide)).up 0 _ (by decide)) (by exact fun j y1 y2 => (uI_n (uI (Z2 0) 11 u) t y2).trans ((uI_n (Z2 0) u y1).trans (hzj j y1 y2))) (by rw [hu2]; exact hd.t ⟨ht.1, by omega⟩ ho6 (by omega) (Or.inl (by omega))) _ _ hX hL ls (lv_sub hl [0, 3, 4, 5, 6] rfl)
                          · skip
                            refine lv_iload hx hb (pc := 212) dX0_looks_212 (lv_at hl 1 rfl) ?_
                            refine lv_aload_n hx hb (pc := 214) dX0_looks_214 rfl (lv_at hl 6 rfl) ?_
                            refine L_get hC hX hL in_X0 (ci := 0) rfl (pc := 215) 0 hx1.T.2.2.1 11 (by decide) q164 rfl (v := .int (iI (Z2 0 11))) rfl dX0_looks_215 ?_
                            refine j_icmp_ne hC (pc := 218) 248 dX0_looks_218 (by decide) (by omega) (fun c13 => ?_) (fun c13 => ?_)
                            · skip
                              refine j_iinc hC (pc := 248) (lv' := [(4, .int (iI (t + 1))), (6, .int (iI (w))), (5, .int (iI (u))), (3, .ref (zB S1 103)), (2, .ref (zB S1 100)), (1, .int (iI (F 25))), (0, .ref (zB S1 0))]) dX0_looks_248 hl (k := 2) rfl (by decide) rfl (fun ls hl => ?_)
                              refine j_goto hC (pc := 251) 138 dX0_looks_251 (by decide) ?_
                              exact ih138 (t + 1) _ _ (by omega) (by omega) hz0 (by exact hzj) (by exact hd.f ⟨ht.1, by omega⟩ ho6 (by omega) (fun q_ => by omega)) _ _ hX hL ls (lv_sub hl [0, 3, 4, 5, 6] rfl)
                            · skip
                              refine lv_iload hx hb (pc := 221) dX0_looks_221 (lv_at hl 2 rfl) ?_
                              refine j_calli (rest := []) hX (va_runS hC.fix (f0_ones D T N l t (by omega) _ _) (va_cwS 1 hC.ts (lw_S q615 q616 q40 q617) rfl rfl rfl (by decide +kernel) ⟨Nat.le_of_ble_eq_true rfl, Nat.le_of_ble_eq_true rfl⟩) (j_preS hC hX _) rfl rfl hl.1 rfl (Nat.le_of_ble_eq_true rfl) dX0_looks_223 ⟨(by first | (show _ ≤ (182 : Nat); omega) | (show _ ≤ (1176 : Nat); omega)), (by first | (show _ ≤ (182 : Nat); omega) | (show _ ≤ (1176 : Nat); omega))⟩) (fun r14 g m15 H locs hp hle hX => ?_)
                              obtain ⟨hn_, hg_, hp⟩ := hp
                              rw [hn_, hg_] at hX
                              have hoB : r14 = onesD t 6 := hp
                              refine lv_aload_n hx hb (pc := 226) dX0_looks_226 rfl (lv_at hl 6 rfl) ?_
                              refine L_get hC hX hL in_X0 (ci := 0) rfl (pc := 227) 0 hx1.T.2.2.1 12 (by decide) q165 rfl (v := .int (iI (Z2 0 12))) rfl dX0_looks_227 ?_
                              refine j_calli (rest := [.int (iI (r14))]) hX (va_runS hC.fix (f0_ones D T N l (Z2 0 12) (hd.2 (by omega)).2.2 _ _) (va_cwS 1 hC.ts (lw_S q615 q616 q40 q617) rfl rfl rfl (by decide +kernel) ⟨Nat.le_of_ble_eq_true rfl, Nat.le_of_ble_eq_true rfl⟩) (j_preS hC hX _) rfl rfl hl.1 rfl (Nat.le_of_ble_eq_true rfl) dX0_looks_230 ⟨(by first | (show _ ≤ (182 : Nat); omega) | (show _ ≤ (1176 : Nat); omega)), (by first | (show _ ≤ (182 : Nat); omega) | (show _ ≤ (1176 : Nat); omega))⟩) (fun r16 g m17 H locs hp hle hX => ?_)
                              obtain ⟨hn_, hg_, hp⟩ := hp
                              rw [hn_, hg_] at hX
                              have hoC : r16 = onesD (Z2 0 12) 6 := hp
                              have hogC := onesD_rg (Z2 0 12) 6
                              refine j_icmp_ge hC (pc := 233) 248 dX0_looks_233 (by decide) (by omega) (fun c18 => ?_) (fun c18 => ?_)
                              · skip
                                refine j_iinc hC (pc := 248) (lv' := [(4, .int (iI (t + 1))), (6, .int (iI (w))), (5, .int (iI (u))), (3, .ref (zB S1 103)), (2, .ref (zB S1 100)), (1, .int (iI (F 25))), (0, .ref (zB S1 0))]) dX0_looks_248 hl (k := 2) rfl (by decide) rfl (fun ls hl => ?_)
                                refine j_goto hC (pc := 251) 138 dX0_looks_251 (by decide) ?_
                                exact ih138 (t + 1) _ _ (by omega) (by omega) hz0 (by exact hzj) (by exact hd.f ⟨ht.1, by omega⟩ ho6 (by omega) (fun q_ => by omega)) _ _ hX hL ls (lv_sub hl [0, 3, 4, 5, 6] rfl)
                              · skip
                                refine lv_aload_n hx hb (pc := 236) dX0_looks_236 rfl (lv_at hl 6 rfl) ?_
                                refine lv_iload hx hb (pc := 237) dX0_looks_237 (lv_at hl 1 rfl) ?_
                                refine L_put hC hX hL in_X0 tyX0 tyX0_ok nmX0 (ci := 0) rfl (pc := 239) 0 hx1.T.2.2.1 11 (by decide) q164 rfl rfl rfl rfl (f := uI (Z2 0) 11 u) (show 11 < 18 by decide) rfl dX0_looks_239 (fun g H locs hX hL => ?_)
                                refine lv_aload_n hx hb (pc := 242) dX0_looks_242 rfl (lv_at hl 6 rfl) ?_
                                refine lv_iload hx hb (pc := 243) dX0_looks_243 (lv_at hl 2 rfl) ?_
                                refine L_put hC hX hL in_X0 tyX0 tyX0_ok nmX0 (ci := 0) rfl (pc := 245) 0 hx1.T.2.2.1 12 (by decide) q165 rfl rfl rfl rfl (f := uI (uI (Z2 0) 11 u) 12 t) (show 12 < 18 by decide) rfl dX0_looks_245 (fun g H locs hX hL => ?_)
                                refine j_iinc hC (pc := 248) (lv' := [(4, .int (iI (t + 1))), (6, .int (iI (w))), (5, .int (iI (u))), (3, .ref (zB S1 103)), (2, .ref (zB S1 100)), (1, .int (iI (F 25))), (0, .ref (zB S1 0))]) dX0_looks_248 hl (k := 2) rfl (by decide) rfl (fun ls hl => ?_)
                                refine j_goto hC (pc := 251) 138 dX0_looks_251 (by decide) ?_
                                exact ih138 (t + 1) _ _ (by omega) (by omega) ((hz0.up 0 _ (by decide)).up 0 _ (by decide)) (by exact fun j y1 y2 => (uI_n (uI (Z2 0) 11 u) t y2).trans ((uI_n (Z2 0) u y1).trans (hzj j y1 y2))) (by rw [hu2]; exact hd.t ⟨ht.1, by omega⟩ ho6 (by omega) (Or.inr ⟨by omega, by omega, by omega⟩)) _ _ hX hL ls (lv_sub hl [0, 3, 4, 5, 6] rfl)
                      · skip
                        refine lv_iload hx hb (pc := 158) dX0_looks_158 (lv_at hl 1 rfl) ?_
                        refine lv_iload hx hb (pc := 160) dX0_looks_160 (lv_at hl 2 rfl) ?_
                        refine lv_iload hx hb (pc := 162) dX0_looks_162 (lv_at hl 0 rfl) ?_
                        refine j_bit hC (pc := 164) dX0_looks_164 dX0_looks_165 dX0_looks_166 (by omega) ?_
                        refine j_iconst hC (pc := 167) dX0_looks_167 ?_
                        refine j_icmp_ne hC (pc := 168) 178 dX0_looks_168 (by decide) (by omega) (fun c19 => ?_) (fun c19 => ?_)
                        · skip
                          refine lv_aload_n hx hb (pc := 178) dX0_looks_178 rfl (lv_at hl 4 rfl) ?_
                          refine lv_iload hx hb (pc := 179) dX0_looks_179 (lv_at hl 0 rfl) ?_
                          refine L_iald hC hX hL (pc := 181) 100 hk100.1 (L := 6) hk100.2 (by decide) (by omega) (z := Z2 100 w) rfl dX0_looks_181 ?_
                          refine j_iadd hC (pc := 182) dX0_looks_182 ?_
                          refine lv_istore (lv' := [(5, .int (iI (u + (Z2 100 w)))), (6, .int (iI (w))), (4, .int (iI (t))), (3, .ref (zB S1 103)), (2, .ref (zB S1 100)), (1, .int (iI (F 25))), (0, .ref (zB S1 0))]) hx hb (pc := 183) dX0_looks_183 hl (by decide) rfl (fun ls hl => ?_)
                          refine j_iinc hC (pc := 185) (lv' := [(6, .int (iI (w + 1))), (5, .int (iI (u + (Z2 100 w)))), (4, .int (iI (t))), (3, .ref (zB S1 103)), (2, .ref (zB S1 100)), (1, .int (iI (F 25))), (0, .ref (zB S1 0))]) dX0_looks_185 hl (k := 1) rfl (by decide) rfl (fun ls hl => ?_)
                          refine j_goto hC (pc := 188) 152 dX0_looks_188 (by decide) ?_
                          exact ih152 (w + 1) (u + (Z2 100 w)) _ (by omega) (by omega) (by rw [show (w + 1).toNat = w.toNat + 1 by omega, hu]; show _ = sumD (oddO F V) t w.toNat + oddO F V ((w.toNat : Nat) : Int) (bitF t ((w.toNat : Nat) : Int)); rw [Int.toNat_of_nonneg hw.1, hz100, (hv2 w hw.1 (by omega)).1, show bitF t w = 0 by omega]) _ _ hX hL ls (lv_sub hl [0, 1, 2, 3, 4, 5, 6] rfl)
                        · skip
                          refine lv_aload_n hx hb (pc := 171) dX0_looks_171 rfl (lv_at hl 3 rfl) ?_
                          refine lv_iload hx hb (pc := 172) dX0_looks_172 (lv_at hl 0 rfl) ?_
                          refine L_iald hC hX hL (pc := 174) 103 hk103.1 (L := 6) hk103.2 (by decide) (by omega) (z := Z2 103 w) rfl dX0_looks_174 ?_
                          refine j_goto hC (pc := 175) 182 dX0_looks_175 (by decide) ?_
                          refine j_iadd hC (pc := 182) dX0_looks_182 ?_
                          refine lv_istore (lv' := [(5, .int (iI (u + (Z2 103 w)))), (6, .int (iI (w))), (4, .int (iI (t))), (3, .ref (zB S1 103)), (2, .ref (zB S1 100)), (1, .int (iI (F 25))), (0, .ref (zB S1 0))]) hx hb (pc := 183) dX0_looks_183 hl (by decide) rfl (fun ls hl => ?_)
                          refine j_iinc hC (pc := 185) (lv' := [(6, .int (iI (w + 1))), (5, .int (iI (u + (Z2 103 w)))), (4, .int (iI (t))), (3, .ref (zB S1 103)), (2, .ref (zB S1 100)), (1, .int (iI (F 25))), (0, .ref (zB S1 0))]) dX0_looks_185 hl (k := 1) rfl (by decide) rfl (fun ls hl => ?_)
                          refine j_goto hC (pc := 188) 152 dX0_looks_188 (by decide) ?_
                          exact ih152 (w + 1) (u + (Z2 103 w)) _ (by omega) (by omega) (by rw [show (w + 1).toNat = w.toNat + 1 by omega, hu]; show _ = sumD (oddO F V) t w.toNat + oddO F V ((w.toNat : Nat) : Int) (bitF t ((w.toNat : Nat) : Int)); rw [Int.toNat_of_nonneg hw.1, hz103, (hv2 w hw.1 (by omega)).2, show bitF t w = 1 by omega]) _ _ hX hL ls (lv_sub hl [0, 1, 2, 3, 4, 5, 6] rfl)
                  exact L152 ((F 25 - 0 : Int).toNat + 1) 0 0 _ (by omega) (by omega) rfl _ _ hX hL ls (lv_sub hl [0, 1, 2, 3, 4, 5, 6] rfl)
            exact L138 ((64 - 0 : Int).toNat + 1) 0 _ _ (by omega) (by omega) (ch.rf.up 0 _ (by decide)) (by exact fun j y1 y2 => uI_n (Z1 0) (-1) y1) (by exact ⟨rfl, fun q => by omega⟩) _ _ hX hL ls (lv_sub hl [0, 1, 2, 3, 4] rfl)
          · skip
            have hi2_ : 0 ≤ i ∧ i < F 25 := by omega
            have hel := hx1.el hi2_
            refine lv_aload_n hx hb (pc := 46) dX0_looks_46 rfl (lv_at hl 2 rfl) ?_
            refine lv_iload hx hb (pc := 47) dX0_looks_47 (lv_at hl 0 rfl) ?_
            refine lv_aload_n hx hb (pc := 49) dX0_looks_49 rfl (lv_at hl 4 rfl) ?_
            refine lv_aload_n hx hb (pc := 50) dX0_looks_50 rfl (lv_at hl 4 rfl) ?_
            refine L_getr hC hX hL in_X0 (ci := 0) rfl (pc := 51) 0 hx1.T.2.2.1 2 (by decide) q150 rfl (q := zA S1 0 2) (b := zB S1 2) hx1.r2 rfl dX0_looks_51 ?_
            refine j_iconst hC (pc := 54) dX0_looks_54 ?_
            refine L_aald hC hX hL (pc := 55) 2 5 (hx1.sp.k 2 rfl) (by decide) rfl rfl (L := 2) (hx1.sp.n 2 rfl) (by decide) (by omega) (b := zB S1 3) hx1.e.1.1 dX0_looks_55 ?_
            refine lv_aload_n hx hb (pc := 56) dX0_looks_56 rfl (lv_at hl 4 rfl) ?_
            refine L_getr hC hX hL in_X0 (ci := 0) rfl (pc := 57) 0 hx1.T.2.2.1 8 (by decide) q161 rfl (q := zA S1 0 8) (b := zB S1 13) hx1.r8 rfl dX0_looks_57 ?_
            refine lv_iload hx hb (pc := 60) dX0_looks_60 (lv_at hl 0 rfl) ?_
            refine j_callq (rest := [.ref (zB S1 3), .ref (zB S1 0), .int (iI (i)), .ref (zB S1 100)]) hX (va_runV hC.fix (l_get13 D T N l hL _ 10 i _ (hx1.sp.k 13 rfl) hel.1.1 hel.1.2 (by decide) (by have q_ := hx1.fg.1; omega) hel.2.1) (cwV 1 hC.ts (lw_V q601 q602 q603 q44 q604) rfl rfl rfl (by decide +kernel) ⟨Nat.le_of_ble_eq_true rfl, Nat.le_of_ble_eq_true rfl⟩) (j_preV hC hX (hL.ob 13 (hx1.sp.k 13 rfl)) (ci := 7) (r := (RJ2, TJ2, 3)) rfl _) rfl rfl hl.1 rfl (Nat.le_of_ble_eq_true rfl) dX0_looks_62 ⟨(by first | (show _ ≤ (182 : Nat); omega) | (show _ ≤ (1176 : Nat); omega)), (by first | (show _ ≤ (182 : Nat); omega) | (show _ ≤ (1176 : Nat); omega))⟩) (fun r20 g m21 H locs hp hle hX => ?_)
            obtain ⟨hn_, Z22, hL, hp⟩ := hp
            rw [hn_] at hX
            obtain ⟨hz_, hr_⟩ := hp
            rw [hz_] at hL
            rw [hr_]
            refine j_cast hC (pc := 65) q78 (hasC_ai hC hX (hL.ai (64 + i.toNat) (t := 0) hel.2.2 (by decide) rfl) (nm_I hC)) dX0_looks_65 ?_
            refine j_iconst hC (pc := 68) dX0_looks_68 ?_
            refine j_calli (rest := [.int (iI (i)), .ref (zB S1 100)]) hX (va_runV hC.fix (f0_chanceOf D T N l hL _ _ _ _ 3 (64 + i.toNat) (whO V i) 0 hx1 hI (hI.rO hi2_) (by decide) (hx1.rwO hI hi2_).1 (hx1.rwO hI hi2_).2) (cwV 3 hC.ts (lw_V q477 q479 qs7 q40 q480) rfl rfl rfl (by decide +kernel) ⟨Nat.le_of_ble_eq_true rfl, Nat.le_of_ble_eq_true rfl⟩) (j_preV hC hX (hL.ob 0 hx1.T.2.2.1) (ci := 0) (r := (RX0, TX0, 18)) rfl _) rfl rfl hl.1 rfl (Nat.le_of_ble_eq_true rfl) dX0_looks_69 ⟨(by first | (show _ ≤ (182 : Nat); omega) | (show _ ≤ (1176 : Nat); omega)), (by first | (show _ ≤ (182 : Nat); omega) | (show _ ≤ (1176 : Nat); omega))⟩) (fun r23 g m24 H locs hp hle hX => ?_)
            obtain ⟨S3, Z3, hL, hp⟩ := hp
            obtain ⟨hr3, hkk3⟩ := hp
            have hx3 := hx1.xk hI hkk3
            have hrg3 : r23 = -5 ∨ (0 ≤ r23 ∧ r23 ≤ 1000000) := by rw [hr3]; exact oddW_rg hI (hI.wO hi2_) (by omega) hnn.2.2.2.1
            have g0_ : zB S3 0 = zB S1 0 := hkk3.2.1.1
            have g100_ : zB S3 100 = zB S1 100 := (hkk3.1 100 (Or.inl (by decide)) (by decide)).1
            have g103_ : zB S3 103 = zB S1 103 := (hkk3.1 103 (Or.inl (by decide)) (by decide)).1
            rw [← g100_]
            rw [← g0_, ← g100_, ← g103_] at hl
            refine L_iast hC hX hL (pc := 72) 100 ((hkk3.1 100 (Or.inl (by decide)) (by decide)).2.1.trans hk100.1) (L := 6) ((hkk3.1 100 (Or.inl (by decide)) (by decide)).2.2.1.trans hk100.2) (by decide) (by omega) (f := uI (Z3 100) i r23) rfl dX0_looks_72 (fun g H locs hX hL => ?_)
            have hx4 := xRel.kpL hL hx3 hI (ks := [100]) sm.rf (ch.rf.up 100 _ (by decide)) (by decide)
            have hel := hx4.el hi2_
            have ho0_ : r23 = oddO F V i 0 := hr3.trans (by unfold oddO; rw [if_pos rfl])
            refine lv_aload_n hx hb (pc := 73) dX0_looks_73 rfl (lv_at hl 1 rfl) ?_
            refine lv_iload hx hb (pc := 74) dX0_looks_74 (lv_at hl 0 rfl) ?_
            refine lv_aload_n hx hb (pc := 76) dX0_looks_76 rfl (lv_at hl 4 rfl) ?_
            refine lv_aload_n hx hb (pc := 77) dX0_looks_77 rfl (lv_at hl 4 rfl) ?_
            refine L_getr hC hX hL in_X0 (ci := 0) rfl (pc := 78) 0 hx3.T.2.2.1 2 (by decide) q150 rfl (q := zA S3 0 2) (b := zB S3 2) hx3.r2 rfl dX0_looks_78 ?_
            refine j_iconst hC (pc := 81) dX0_looks_81 ?_
            refine L_aald hC hX hL (pc := 82) 2 5 (hx3.sp.k 2 rfl) (by decide) rfl rfl (L := 2) (hx3.sp.n 2 rfl) (by decide) (by omega) (b := zB S3 3) hx3.e.1.1 dX0_looks_82 ?_
            refine lv_aload_n hx hb (pc := 83) dX0_looks_83 rfl (lv_at hl 4 rfl) ?_
            refine L_getr hC hX hL in_X0 (ci := 0) rfl (pc := 84) 0 hx3.T.2.2.1 8 (by decide) q161 rfl (q := zA S3 0 8) (b := zB S3 13) hx3.r8 rfl dX0_looks_84 ?_
            refine lv_iload hx hb (pc := 87) dX0_looks_87 (lv_at hl 0 rfl) ?_
            refine j_callq (rest := [.ref (zB S3 3), .ref (zB S3 0), .int (iI (i)), .ref (zB S3 103)]) hX (va_runV hC.fix (l_get13 D T N l hL _ 10 i _ (hx4.sp.k 13 rfl) hel.1.1 hel.1.2 (by decide) (by have q_ := hx4.fg.1; omega) hel.2.1) (cwV 1 hC.ts (lw_V q601 q602 q603 q44 q604) rfl rfl rfl (by decide +kernel) ⟨Nat.le_of_ble_eq_true rfl, Nat.le_of_ble_eq_true rfl⟩) (j_preV hC hX (hL.ob 13 (hx3.sp.k 13 rfl)) (ci := 7) (r := (RJ2, TJ2, 3)) rfl _) rfl rfl hl.1 rfl (Nat.le_of_ble_eq_true rfl) dX0_looks_89 ⟨(by first | (show _ ≤ (182 : Nat); omega) | (show _ ≤ (1176 : Nat); omega)), (by first | (show _ ≤ (182 : Nat); omega) | (show _ ≤ (1176 : Nat); omega))⟩) (fun r26 g m27 H locs hp hle hX => ?_)
            obtain ⟨hn_, Z28, hL, hp⟩ := hp
            rw [hn_] at hX
            obtain ⟨hz_, hr_⟩ := hp
            rw [hz_] at hL
            rw [hr_]
            refine j_cast hC (pc := 92) q78 (hasC_ai hC hX (hL.ai (64 + i.toNat) (t := 0) hel.2.2 (by decide) rfl) (nm_I hC)) dX0_looks_92 ?_
            refine lv_aload_n hx hb (pc := 95) dX0_looks_95 rfl (lv_at hl 4 rfl) ?_
            refine L_get hC hX hL in_X0 (ci := 0) rfl (pc := 96) 0 hx3.T.2.2.1 10 (by decide) q163 rfl (v := .int (iI (Z3 0 10))) rfl dX0_looks_96 ?_
            refine j_eqi (b := F 28) hx4.n.2.2.2.2.2.1 ?_
            refine j_calli (rest := [.int (iI (i)), .ref (zB S3 103)]) hX (va_runV hC.fix (f0_chanceOf D T N l hL _ _ _ _ 3 (64 + i.toNat) (whO V i) (F 28) hx4 hI (hI.rO hi2_) (by omega) (hx4.rwO hI hi2_).1 (hx4.rwO hI hi2_).2) (cwV 3 hC.ts (lw_V q477 q479 qs7 q40 q480) rfl rfl rfl (by decide +kernel) ⟨Nat.le_of_ble_eq_true rfl, Nat.le_of_ble_eq_true rfl⟩) (j_preV hC hX (hL.ob 0 hx3.T.2.2.1) (ci := 0) (r := (RX0, TX0, 18)) rfl _) rfl rfl hl.1 rfl (Nat.le_of_ble_eq_true rfl) dX0_looks_99 ⟨(by first | (show _ ≤ (182 : Nat); omega) | (show _ ≤ (1176 : Nat); omega)), (by first | (show _ ≤ (182 : Nat); omega) | (show _ ≤ (1176 : Nat); omega))⟩) (fun r29 g m30 H locs hp hle hX => ?_)
            obtain ⟨S5, Z5, hL, hp⟩ := hp
            obtain ⟨hr5, hkk5⟩ := hp
            have hx5 := hx4.xk hI hkk5
            have hrg5 : r29 = -5 ∨ (0 ≤ r29 ∧ r29 ≤ 1000000) := by rw [hr5]; exact oddW_rg hI (hI.wO hi2_) (by omega) hnn.2.2.2.1
            have g0_ : zB S5 0 = zB S3 0 := hkk5.2.1.1
            have g100_ : zB S5 100 = zB S3 100 := (hkk5.1 100 (Or.inl (by decide)) (by decide)).1
            have g103_ : zB S5 103 = zB S3 103 := (hkk5.1 103 (Or.inl (by decide)) (by decide)).1
            rw [← g103_]
            rw [← g0_, ← g100_, ← g103_] at hl
            refine L_iast hC hX hL (pc := 102) 103 ((hkk5.1 103 (Or.inl (by decide)) (by decide)).2.1.trans ((hkk3.1 103 (Or.inl (by decide)) (by decide)).2.1.trans hk103.1)) (L := 6) ((hkk5.1 103 (Or.inl (by decide)) (by decide)).2.2.1.trans ((hkk3.1 103 (Or.inl (by decide)) (by decide)).2.2.1.trans hk103.2)) (by decide) (by omega) (f := uI (Z5 103) i r29) rfl dX0_looks_102 (fun g H locs hX hL => ?_)
            have ho1_ : r29 = oddO F V i 1 := hr5.trans (by unfold oddO; rw [if_neg (by decide)])
            have e3_ : Z3 100 = Z1 100 := (hkk3.1 100 (Or.inl (by decide)) (by decide)).2.2.2.2
            have e5_ : Z5 100 = uI (Z3 100) i r23 := (hkk5.1 100 (Or.inl (by decide)) (by decide)).2.2.2.2
            have e3b_ : Z3 103 = Z1 103 := (hkk3.1 103 (Or.inl (by decide)) (by decide)).2.2.2.2
            have e5b_ : Z5 103 = Z1 103 := ((hkk5.1 103 (Or.inl (by decide)) (by decide)).2.2.2.2).trans e3b_
            have hx6 := xRel.kpL hL hx5 hI (ks := [103]) sm.rf (ch.rf.up 103 _ (by decide)) (by decide)
            have hk100b : zK S5 100 = 1 ∧ zN S5 100 = 6 := ⟨((hkk5.1 100 (Or.inl (by decide)) (by decide)).2.1.trans ((hkk3.1 100 (Or.inl (by decide)) (by decide)).2.1.trans hk100.1)), ((hkk5.1 100 (Or.inl (by decide)) (by decide)).2.2.1.trans ((hkk3.1 100 (Or.inl (by decide)) (by decide)).2.2.1.trans hk100.2))⟩
            have hk103b : zK S5 103 = 1 ∧ zN S5 103 = 6 := ⟨((hkk5.1 103 (Or.inl (by decide)) (by decide)).2.1.trans ((hkk3.1 103 (Or.inl (by decide)) (by decide)).2.1.trans hk103.1)), ((hkk5.1 103 (Or.inl (by decide)) (by decide)).2.2.1.trans ((hkk3.1 103 (Or.inl (by decide)) (by decide)).2.2.1.trans hk103.2))⟩
            have hsk6 : ∀ k, 222 ≤ k → sk S Z S5 (va_up Z5 103 (uI (Z5 103) i r29)) k := fun k hk => ((((hsk k hk).tr (hkk3.1 k (Or.inr hk) (by simp; omega))).tr (sk.up (by omega))).tr (hkk5.1 k (Or.inr hk) (by simp; omega))).tr (sk.up (by omega))
            refine lv_aload_n hx hb (pc := 103) dX0_looks_103 rfl (lv_at hl 2 rfl) ?_
            refine lv_iload hx hb (pc := 104) dX0_looks_104 (lv_at hl 0 rfl) ?_
            refine L_iald hC hX hL (pc := 106) 100 ((hkk5.1 100 (Or.inl (by decide)) (by decide)).2.1.trans ((hkk3.1 100 (Or.inl (by decide)) (by decide)).2.1.trans hk100.1)) (L := 6) ((hkk5.1 100 (Or.inl (by decide)) (by decide)).2.2.1.trans ((hkk3.1 100 (Or.inl (by decide)) (by decide)).2.2.1.trans hk100.2)) (by decide) (by omega) (z := Z5 100 i) rfl dX0_looks_106 ?_
            refine j_eqi (b := r23) ((congrFun e5_ i).trans (uI_s (Z3 100) i r23)) ?_
            refine j_bipush hC (pc := 107) dX0_looks_107 (by decide) ?_
            refine j_icmp_eq hC (pc := 109) 121 dX0_looks_109 (by decide) (by omega) (fun c32 => ?_) (fun c32 => ?_)
            · skip
              refine j_bipush hC (pc := 121) dX0_looks_121 (by decide) ?_
              subst hQ
              exact j_iret hC (pc := 123) hX hr hlk (by first | (show _ ≤ (182 : Nat); omega) | (show _ ≤ (1176 : Nat); omega)) (by first | (show _ ≤ (182 : Nat); omega) | (show _ ≤ (1176 : Nat); omega)) dX0_looks_123 ⟨_, _, hL, ⟨hsk6, hx6, Or.inr ⟨by decide, by unfold dayR; rw [if_neg (by omega), if_pos (any_y (i := i) (by omega) (by rw [← ho0_, ← ho1_]; omega))]⟩⟩⟩
            · skip
              refine lv_aload_n hx hb (pc := 112) dX0_looks_112 rfl (lv_at hl 1 rfl) ?_
              refine lv_iload hx hb (pc := 113) dX0_looks_113 (lv_at hl 0 rfl) ?_
              refine L_iald hC hX hL (pc := 115) 103 ((hkk5.1 103 (Or.inl (by decide)) (by decide)).2.1.trans ((hkk3.1 103 (Or.inl (by decide)) (by decide)).2.1.trans hk103.1)) (L := 6) ((hkk5.1 103 (Or.inl (by decide)) (by decide)).2.2.1.trans ((hkk3.1 103 (Or.inl (by decide)) (by decide)).2.2.1.trans hk103.2)) (by decide) (by omega) (z := (uI (Z5 103) i r29) i) rfl dX0_looks_115 ?_
              refine j_eqi (b := r29) (uI_s _ _ _) ?_
              refine j_bipush hC (pc := 116) dX0_looks_116 (by decide) ?_
              refine j_icmp_ne hC (pc := 118) 124 dX0_looks_118 (by decide) (by omega) (fun c33 => ?_) (fun c33 => ?_)
              · skip
                refine j_iinc hC (pc := 124) (lv' := [(4, .int (iI (i + 1))), (3, .ref (zB S5 103)), (2, .ref (zB S5 100)), (1, .int (iI (F 25))), (0, .ref (zB S5 0))]) dX0_looks_124 hl (k := 0) rfl (by decide) rfl (fun ls hl => ?_)
                refine j_goto hC (pc := 127) 40 dX0_looks_127 (by decide) ?_
                refine W.widen (show 2 + 30 * i.toNat + 30 ≤ 2 + 30 * (i + 1 : Int).toNat from (by omega)) (show 12 + 194 * i.toNat + 194 ≤ 12 + 194 * (i + 1 : Int).toNat from (by omega)) ?_
                exact ih40 (i + 1) _ _ _ _ (by omega) (by omega) (by exact hx6) (by exact hk100b) (by exact hk103b) (by exact hsk6) (by exact (fun j y1 y2 => by rcases (show j < i ∨ j = i by omega) with z | z; (have hj := hv j y1 z; refine ⟨?_, ?_⟩; (show Z5 100 j = _; rw [e5_]; exact (uI_n (Z3 100) _ (show j ≠ i by omega)).trans ((congrFun e3_ j).trans hj.1)); (show uI (Z5 103) i _ j = _; exact (uI_n (Z5 103) _ (show j ≠ i by omega)).trans ((congrFun e5b_ j).trans hj.2))); (rw [z]; refine ⟨?_, ?_⟩; (show Z5 100 i = _; rw [e5_]; exact (uI_s (Z3 100) i _).trans ho0_); exact (uI_s (Z5 103) i _).trans ho1_))) (by exact any_n hi.1 hany (by rw [← ho0_]; omega) (by rw [← ho1_]; omega)) _ _ hX hL ls (lv_sub hl [0, 1, 2, 3, 4] rfl)
              · skip
                refine j_bipush hC (pc := 121) dX0_looks_121 (by decide) ?_
                subst hQ
                exact j_iret hC (pc := 123) hX hr hlk (by first | (show _ ≤ (182 : Nat); omega) | (show _ ≤ (1176 : Nat); omega)) (by first | (show _ ≤ (182 : Nat); omega) | (show _ ≤ (1176 : Nat); omega)) dX0_looks_123 ⟨_, _, hL, ⟨hsk6, hx6, Or.inr ⟨by decide, by unfold dayR; rw [if_neg (by omega), if_pos (any_y (i := i) (by omega) (by rw [← ho0_, ← ho1_]; omega))]⟩⟩⟩
      refine W.widen (show 2 ≤ 2 + 30 * (0 : Int).toNat from (by omega)) (show 12 ≤ 12 + 194 * (0 : Int).toNat from (by omega)) ?_
      exact L40 ((F 25 - 0 : Int).toNat + 1) 0 _ _ _ _ (by omega) (by omega) (xRel.kpL hL hx0 hI (ks := [100, 103]) ((sm.rf.uN 100 _ _ _ (by decide)).uN 103 _ _ _ (by decide)) ((ch.rf.up 100 _ (by decide)).up 103 _ (by decide)) (by decide)) ⟨rfl, rfl⟩ ⟨rfl, rfl⟩ (by exact fun k hk => sk.of (ks := [100, 103]) (kz := [100, 103]) ((sm.rf.uN 100 _ _ _ (by decide)).uN 103 _ _ _ (by decide)) ((ch.rf.up 100 _ (by decide)).up 103 _ (by decide)) (by simp; omega) (by simp; omega)) (fun j y1 y2 => by omega) rfl _ _ hX hL ls (lv_sub hl [0, 1, 2, 3, 4] rfl)
    · skip
      refine j_bipush hC (pc := 24) dX0_looks_24 (by decide) ?_
      subst hQ
      exact j_iret hC (pc := 26) hX hr hlk (by first | (show _ ≤ (182 : Nat); omega) | (show _ ≤ (1176 : Nat); omega)) (by first | (show _ ≤ (182 : Nat); omega) | (show _ ≤ (1176 : Nat); omega)) dX0_looks_26 ⟨_, _, hL, ⟨(fun k hk => sk.rf), hx0, Or.inr ⟨by decide, by unfold dayR; rw [if_pos (by omega)]⟩⟩⟩
