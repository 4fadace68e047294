/-! THE ODDS, pure: what comes of a fight, added up in any order; the cells of an Odds object (200; its fight 201 ..; ways 213, byRound 214, left 215, its rows 216 ..) -/
def orF (x y : Int) : Int := if x = 1 ∨ y = 1 then 1 else 0
theorem i_or01 : ∀ x y : Int, (x = 0 ∨ x = 1) → (y = 0 ∨ y = 1) → iI x ||| iI y = iI (orF x y) := by
  intro x y hx hy
  rcases hx with rfl | rfl <;> rcases hy with rfl | rfl <;> rfl
section OFR
variable {p : Program} {l : Launch} {e : Env} {R : Room} {s : State} {m : MethodId} {args : Array Value} {below : List Frame} {meth : Method} {c : Code} {H : Heap} {locs : List Loc} {cells slots : Nat} {Q : State → Prop}
variable {cc : ByteArray} {pc : Nat} {ls : Array Slot} {rest : List Value} {D : va_G} {T N : Nat → Nat} {A : Nat → Prop} {nL : Nat} {own : String}
theorem j_ior01 (hC : Ct D T N A p s m args c cc own nL) {a b : Int} (hdg : decode cc pc = .ok (.ior, 1)) (h : (a = 0 ∨ a = 1) ∧ (b = 0 ∨ b = 1)) (k : W p l e R s m args below meth c H locs cells slots Q (F0 m (pc + 1) ls (.int (iI (orF a b)) :: rest))) : W p l e R s m args below meth c H locs cells slots Q (F0 m pc ls (.int (iI b) :: .int (iI a) :: rest)) :=
  lv_ior hC.x hC.b hdg (by rw [i_or01 a b h.1 h.2]; exact k)
end OFR
theorem fit_z {z : Int} (h : z = 0 ∨ z = 1) : fits .boolean (.int (iI z)) = true := by
  rcases h with rfl | rfl <;> rfl
theorem orF_01 (x y : Int) : orF x y = 0 ∨ orF x y = 1 := by unfold orF; split <;> omega
theorem orF_0 {x : Int} (h : x = 0 ∨ x = 1) : orF x 0 = x := by unfold orF; split <;> omega
theorem orF_1 (x : Int) : orF x 1 = 1 := by unfold orF; rw [if_pos (Or.inr rfl)]
def cnC (L U : Int → Int) : Nat → Int → Int
  | 0, _ => 0
  | k + 1, i => cnC L U k i + (if i = 42 * k + 2 * L k + U k then 1 else 0)
theorem cLf_sum {f L U : Int → Int} {n : Int} : ∀ (k : Nat) (i : Int), cLf f L U n k i = f i + n * cnC L U k i
  | 0, i => by
    show f i = f i + n * 0
    omega
  | k + 1, i => by
    have ih := cLf_sum (f := f) (L := L) (U := U) (n := n) k
    show uI (cLf f L U n k) _ _ i = f i + n * (cnC L U k i + (if i = 42 * k + 2 * L k + U k then 1 else 0))
    unfold uI
    rw [Int.mul_add]
    split
    · rename_i q
      rw [← q, ih i]
      omega
    · rw [ih i]
      omega
theorem cnC_at {L U : Int → Int} (hO : okS L U) {j i : Int} (hj : 0 ≤ j ∧ j < 6) (hi : 0 ≤ i ∧ i < 42) : ∀ n : Nat, n ≤ 6 → cnC L U n (42 * j + i) = if j < n ∧ i = 2 * L j + U j then 1 else 0
  | 0, _ => by
    rw [if_neg (by omega)]
    rfl
  | n + 1, hn => by
    have ih := cnC_at hO hj hi n (by omega)
    have ho := hO n (by omega) (by omega)
    show cnC L U n (42 * j + i) + (if 42 * j + i = 42 * n + 2 * L n + U n then 1 else 0) = _
    rw [ih]
    rcases Decidable.em (j = n) with q | q
    · rw [q, if_neg (by omega)]
      (repeat' split) <;> omega
    · have : ¬ (42 * j + i = 42 * n + 2 * L n + U n) := by omega
      rw [if_neg this]
      (repeat' split) <;> omega
theorem cnt3_1 (z : Ac3) (e rd n : Int) (L U : Int → Int) (i : Int) : (cnt3 z e rd n L U).1 i = z.1 i + (if i = e then n else 0) := by
  show uI z.1 e _ i = _
  unfold uI
  split
  · rename_i q
    rw [q]
  · omega
theorem cnt3_2 (z : Ac3) (e rd n : Int) (L U : Int → Int) (i : Int) : (cnt3 z e rd n L U).2.1 i = z.2.1 i + (if e < 2 ∧ i = rd then n else 0) := by
  show (if e < 2 then uI z.2.1 rd _ else z.2.1) i = _
  split
  · rename_i q
    unfold uI
    split
    · rename_i q1
      rw [if_pos ⟨q, q1⟩, q1]
    · rename_i q1
      rw [if_neg (fun w => q1 w.2)]
      omega
  · rename_i q
    rw [if_neg (fun w => q w.1)]
    omega
theorem cnt3_3 (z : Ac3) (e rd n : Int) (L U : Int → Int) (i : Int) : (cnt3 z e rd n L U).2.2 i = z.2.2 i + n * cnC L U 6 i := cLf_sum 6 i
theorem Ac3_ext {a b : Ac3} (h1 : ∀ i, a.1 i = b.1 i) (h2 : ∀ i, a.2.1 i = b.2.1 i) (h3 : ∀ i, a.2.2 i = b.2.2 i) : a = b := by
  obtain ⟨a1, a2, a3⟩ := a
  obtain ⟨b1, b2, b3⟩ := b
  have e1 : a1 = b1 := funext h1
  have e2 : a2 = b2 := funext h2
  have e3 : a3 = b3 := funext h3
  rw [e1, e2, e3]
theorem cnt3_comm {z : Ac3} {e r n : Int} {L U : Int → Int} {e' r' n' : Int} {L' U' : Int → Int} : cnt3 (cnt3 z e r n L U) e' r' n' L' U' = cnt3 (cnt3 z e' r' n' L' U') e r n L U := by
  apply Ac3_ext <;> intro i
  · rw [cnt3_1, cnt3_1, cnt3_1, cnt3_1]; omega
  · rw [cnt3_2, cnt3_2, cnt3_2, cnt3_2]; omega
  · rw [cnt3_3, cnt3_3, cnt3_3, cnt3_3]; omega
theorem fin3_add {z : Ac3} {c w n : Int} : fin3 z (c, w + n) = fin3 (fin3 z (c, w)) (c, n) := by
  unfold fin3
  apply Ac3_ext <;> intro i
  · rw [cnt3_1, cnt3_1, cnt3_1]; dsimp only; split <;> omega
  · rw [cnt3_2, cnt3_2, cnt3_2]; dsimp only; split <;> omega
  · rw [cnt3_3, cnt3_3, cnt3_3]; dsimp only; rw [Int.add_mul]; omega
theorem fin_cnt {e r n : Int} {L U : Int → Int} : ∀ (X : List (Int × Int)) (z : Ac3), X.foldl fin3 (cnt3 z e r n L U) = cnt3 (X.foldl fin3 z) e r n L U
  | [], _ => rfl
  | x :: X, z => by
    show X.foldl fin3 (fin3 (cnt3 z e r n L U) x) = cnt3 (X.foldl fin3 (fin3 z x)) e r n L U
    rw [← fin_cnt X]
    unfold fin3
    rw [cnt3_comm]
theorem fin_ins {c n : Int} : ∀ (X : List (Int × Int)) (z : Ac3), (insN X c n).foldl fin3 z = fin3 (X.foldl fin3 z) (c, n)
  | [], _ => rfl
  | x :: X, z => by
    have ih := fin_ins (c := c) (n := n) X
    show (if x.1 = c then (x.1, x.2 + n) :: X else x :: insN X c n).foldl fin3 z = fin3 (X.foldl fin3 (fin3 z x)) (c, n)
    split
    · rename_i q
      show X.foldl fin3 (fin3 z (x.1, x.2 + n)) = _
      rw [fin3_add, show fin3 z (x.1, x.2) = fin3 z x from rfl, q]
      exact fin_cnt X _
    · exact ih _
/-- a table's cells now and next, of the FairFight x -/
def xT (S : LbS) : Prop := tS 5 S ∧ tS 9 S ∧ zK S 0 = 20 ∧ zA S 0 6 = some (zB S 5) ∧ zA S 0 7 = some (zB S 9)
/-- the cells of an Odds; q: whether it is asked what is left -/
def oS (q : Int) (S : LbS) (Z : Nat → Int → Int) : Prop :=
  fS S Z ∧ xT S ∧ shp S [200, 213, 214] ∧ (zA S 200 0 = some (zB S 201) ∧ zA S 200 3 = some (zB S 213) ∧ zA S 200 4 = some (zB S 214) ∧ zA S 200 8 = some (zB S 0)) ∧
  ((q = 0 ∧ zA S 200 5 = none) ∨ (q = 1 ∧ zA S 200 5 = some (zB S 215) ∧ shp S [215, 216, 217, 218, 219, 220, 221] ∧ ∀ k : Nat, k < 6 → zA S 215 (k : Int) = some (zB S (216 + k))))
theorem oS.f {q : Int} {S : LbS} {Z : Nat → Int → Int} (h : oS q S Z) : fS S Z := h.1
theorem oS.x {q : Int} {S : LbS} {Z : Nat → Int → Int} (h : oS q S Z) : xT S := h.2.1
theorem oS.o {q : Int} {S : LbS} {Z : Nat → Int → Int} (h : oS q S Z) : shp S [200, 213, 214] := h.2.2.1
theorem oS.r {q : Int} {S : LbS} {Z : Nat → Int → Int} (h : oS q S Z) : zA S 200 0 = some (zB S 201) ∧ zA S 200 3 = some (zB S 213) ∧ zA S 200 4 = some (zB S 214) ∧ zA S 200 8 = some (zB S 0) := h.2.2.2.1
theorem oS.l {q : Int} {S : LbS} {Z : Nat → Int → Int} (h : oS q S Z) : (q = 0 ∧ zA S 200 5 = none) ∨ (q = 1 ∧ zA S 200 5 = some (zB S 215) ∧ shp S [215, 216, 217, 218, 219, 220, 221] ∧ ∀ k : Nat, k < 6 → zA S 215 (k : Int) = some (zB S (216 + k))) := h.2.2.2.2
theorem oS.ch {q : Int} {S : LbS} {Z Z' : Nat → Int → Int} (h : oS q S Z) {ks : List Nat} (hc : ch Z Z' ks) (hk : (!ks.contains 201 && !ks.contains 202 && !ks.contains 203 && !ks.contains 204 && !ks.contains 205 && !ks.contains 206 && !ks.contains 207 && !ks.contains 208 && !ks.contains 209) = true) : oS q S Z' := ⟨h.1.ch hc hk, h.2⟩
/-- what is added up so far -/
def acF (q h m : Int) (Z : Nat → Int → Int) (z : Ac3) : Prop :=
  (∀ e : Int, 0 ≤ e → e < 3 → Z 213 e = z.1 e) ∧ (∀ r : Int, 0 ≤ r → r < 7 → Z 214 r = z.2.1 r) ∧ (q = 1 → ∀ k : Int, 0 ≤ k → k < m → ∀ i : Int, 0 ≤ i → i < 42 → Z (216 + k.toNat) i = z.2.2 (42 * slF h k + i))
theorem acF.kp {q h m : Int} {Z Z' : Nat → Int → Int} {z : Ac3} (ha : acF q h m Z z) {ks : List Nat} (hc : ch Z Z' ks) (hm : m ≤ 6) (hk : (!ks.contains 213 && !ks.contains 214 && !ks.contains 216 && !ks.contains 217 && !ks.contains 218 && !ks.contains 219 && !ks.contains 220 && !ks.contains 221) = true) : acF q h m Z' z := by
  simp at hk
  refine ⟨fun e a b => by rw [hc 213 (by simp [hk])]; exact ha.1 e a b, fun r a b => by rw [hc 214 (by simp [hk])]; exact ha.2.1 r a b, fun hq k a b i c d => ?_⟩
  have : Z' (216 + k.toNat) = Z (216 + k.toNat) := by
    have : k = 0 ∨ k = 1 ∨ k = 2 ∨ k = 3 ∨ k = 4 ∨ k = 5 := by omega
    rcases this with rfl | rfl | rfl | rfl | rfl | rfl
    · exact hc 216 (by simp [hk])
    · exact hc 217 (by simp [hk])
    · exact hc 218 (by simp [hk])
    · exact hc 219 (by simp [hk])
    · exact hc 220 (by simp [hk])
    · exact hc 221 (by simp [hk])
  rw [this]
  exact ha.2.2 hq k a b i c d
theorem acF.cnt {q h m : Int} {Z Z' : Nat → Int → Int} {z : Ac3} (ha : acF q h m Z z) {L U : Int → Int} {e rd n r2 x2 : Int} (hm : hmOk h m) (hr : csR h m L U (Z 210) (Z 211)) (hO : okS L U) (he : (e < 2 ∧ r2 = rd ∧ x2 = n) ∨ (e = 2 ∧ r2 = 0 ∧ x2 = 0))
    (h1 : Z' 213 = uI (Z 213) e (Z 213 e + n)) (h2 : Z' 214 = uI (Z 214) r2 (Z 214 r2 + x2)) (h3 : q = 1 → ∀ k : Int, 0 ≤ k → k < m → Z' (216 + k.toNat) = uI (Z (216 + k.toNat)) (2 * Z 210 k + Z 211 k) (Z (216 + k.toNat) (2 * Z 210 k + Z 211 k) + n)) : acF q h m Z' (cnt3 z e rd n L U) := by
  refine ⟨fun i a b => ?_, fun i a b => ?_, fun hq k a b i c d => ?_⟩
  · rw [cnt3_1, h1, ← ha.1 i a b]
    unfold uI
    split
    · rename_i w
      rw [w]
    · omega
  · rw [cnt3_2, h2, ← ha.2.1 i a b]
    unfold uI
    rcases he with ⟨e1, e2, e3⟩ | ⟨e1, e2, e3⟩
    · rw [e2, e3]
      split
      · rename_i w
        rw [if_pos ⟨e1, w⟩, w]
      · rename_i w
        rw [if_neg (fun y => w y.2)]
        omega
    · rw [e2, e3, if_neg (show ¬ (e < 2 ∧ i = rd) from fun y => by omega)]
      split
      · rename_i w
        rw [w]
      · omega
  · have rg := slF_rg hm ⟨a, b⟩
    have e1 := hr.1 k a b
    rw [cnt3_3, cnC_at hO ⟨rg.1, rg.2.1⟩ ⟨c, d⟩ 6 (Nat.le_refl 6), h3 hq k a b, ← ha.2.2 hq k a b i c d, ← e1.1, ← e1.2]
    unfold uI
    split
    · rename_i w
      rw [if_pos ⟨rg.2.1, w⟩, w]
      omega
    · rename_i w
      rw [if_neg (fun y => w y.2)]
      omega
