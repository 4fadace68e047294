/-! LABELLED CELLS: a world named by labels: of each label its address, its kind (0 not there; 1 + t an array, t its class's place in TY; 20 + ci an object), its length, its numbers, its references -/
abbrev LbS : Type := (Nat → Nat) × (Nat → Nat) × (Nat → Nat) × (Nat → Int → Option Nat)
abbrev zB (S : LbS) : Nat → Nat := S.1
abbrev zK (S : LbS) : Nat → Nat := S.2.1
abbrev zN (S : LbS) : Nat → Nat := S.2.2.1
abbrev zA (S : LbS) : Nat → Int → Option Nat := S.2.2.2
def oFs (ci : Nat) (w : Int → Int) (a : Int → Option Nat) : List Value := match ci with
  | 0 => [va_rf (a 0), .int (iI (w 1)), va_rf (a 2), .int (iI (w 3)), .int (iI (w 4)), .int (iI (w 5)), va_rf (a 6), va_rf (a 7), va_rf (a 8), .int (iI (w 9)), .int (iI (w 10)), .int (iI (w 11)), .int (iI (w 12)), va_rf (a 13), va_rf (a 14), va_rf (a 15), va_rf (a 16), .int (iI (w 17))]
  | 1 => [va_rf (a 0), va_rf (a 1), va_rf (a 2), .int (iI (w 3))]
  | 2 => [.int (iI (w 0)), va_rf (a 1)]
  | 4 => [va_rf (a 0)]
  | 5 => [va_rf (a 0), .int (iI (w 1)), .long (lI (w 2)), va_rf (a 3), va_rf (a 4), va_rf (a 5), .int (iI (w 6)), .int (iI (w 7)), va_rf (a 8)]
  | 6 => [.int (iI (w 0)), .int (iI (w 1)), va_rf (a 2), va_rf (a 3), va_rf (a 4), va_rf (a 5), va_rf (a 6), va_rf (a 7), va_rf (a 8), va_rf (a 9), va_rf (a 10), va_rf (a 11)]
  | 7 => [.int (iI (w 0)), va_rf (a 1), .int (iI (w 2))]
  | 8 => [.int (iI (w 0))]
  | _ => []
def zC (T : Nat → Nat) (S : LbS) (W : Nat → Int → Int) (k : Nat) : va_E := if 20 ≤ zK S k then oB (zK S k - 20) (oFs (zK S k - 20) (W k) (zA S k)) else if 6 ≤ zK S k then aR T (zK S k - 1) (zN S k) (zA S k) else if zK S k = 2 then aL T (zN S k) (W k) else aI T (zK S k - 1) (zN S k) (W k)
def lR (T : Nat → Nat) (g : GH) (S : LbS) (W : Nat → Int → Int) : Prop := (∀ k, zK S k ≠ 0 → g (zB S k) = some (zC T S W k)) ∧ ∀ j k, zK S j ≠ 0 → zK S k ≠ 0 → zB S j = zB S k → j = k
def uA (S : LbS) (k : Nat) (f : Int → Option Nat) : LbS := (S.1, S.2.1, S.2.2.1, va_up S.2.2.2 k f)
def uN (S : LbS) (k a K N : Nat) : LbS := (va_up S.1 k a, va_up S.2.1 k K, va_up S.2.2.1 k N, va_up S.2.2.2 k (fun _ => none))
def uP (S : LbS) (π : Nat → Nat) : LbS := (fun k => S.1 (π k), fun k => S.2.1 (π k), fun k => S.2.2.1 (π k), fun k => S.2.2.2 (π k))
section LB
variable {T : Nat → Nat} {g : GH} {S : LbS} {W : Nat → Int → Int}
theorem lR.ob (h : lR T g S W) (k : Nat) {ci : Nat} (hk : zK S k = 20 + ci) : g (zB S k) = some (oB ci (oFs ci (W k) (zA S k))) := by
  rw [h.1 k (by omega)]
  unfold zC
  rw [if_pos (by omega), hk, Nat.add_sub_cancel_left]
theorem lR.ai (h : lR T g S W) (k : Nat) {t L : Nat} (hk : zK S k = t + 1) (ht : t < 5 ∧ t ≠ 1) (hn : zN S k = L) : g (zB S k) = some (aI T t L (W k)) := by
  rw [h.1 k (by omega)]
  unfold zC
  rw [if_neg (by omega), if_neg (by omega), if_neg (by omega), hk, hn, Nat.add_sub_cancel]
theorem lR.al (h : lR T g S W) (k : Nat) {L : Nat} (hk : zK S k = 2) (hn : zN S k = L) : g (zB S k) = some (aL T L (W k)) := by
  rw [h.1 k (by omega)]
  unfold zC
  rw [if_neg (by omega), if_neg (by omega), if_pos hk, hn]
theorem lR.ar (h : lR T g S W) (k : Nat) {t L : Nat} (hk : zK S k = t + 1) (ht : 5 ≤ t ∧ t < 19) (hn : zN S k = L) : g (zB S k) = some (aR T t L (zA S k)) := by
  rw [h.1 k (by omega)]
  unfold zC
  rw [if_neg (by omega), if_pos (by omega), hk, hn, Nat.add_sub_cancel]
/-- one cell written: its numbers -/
theorem lR.sw (h : lR T g S W) (k : Nat) (hk : zK S k ≠ 0) (f : Int → Int) {e : va_E} (he : zC T S (va_up W k f) k = e) : lR T (va_up g (zB S k) (some e)) S (va_up W k f) := by
  refine ⟨fun j hj => ?_, h.2⟩
  by_cases q : j = k
  · subst q
    rw [va_up_self, he]
  · rw [va_up_ne _ _ (fun z => q (h.2 j k hj hk z)), h.1 j hj]
    unfold zC
    rw [va_up_ne _ _ q]
/-- .. its references -/
theorem lR.sa (h : lR T g S W) (k : Nat) (hk : zK S k ≠ 0) (f : Int → Option Nat) {e : va_E} (he : zC T (uA S k f) W k = e) : lR T (va_up g (zB S k) (some e)) (uA S k f) W := by
  refine ⟨fun j hj => ?_, h.2⟩
  have hj : zK S j ≠ 0 := hj
  show va_up g (zB S k) (some e) (zB S j) = _
  by_cases q : j = k
  · subst q
    rw [va_up_self, he]
  · rw [va_up_ne _ _ (fun z => q (h.2 j k hj hk z)), h.1 j hj]
    have e5 : zA (uA S k f) j = zA S j := va_up_ne _ _ q
    unfold zC
    rw [e5]
    rfl
theorem lR.uO (h : lR T g S W) (k : Nat) {ci : Nat} (hk : zK S k = 20 + ci) (f : Int → Int) : lR T (va_up g (zB S k) (some (oB ci (oFs ci f (zA S k))))) S (va_up W k f) :=
  h.sw k (by omega) f (by
    unfold zC
    rw [if_pos (by omega), va_up_self, hk, Nat.add_sub_cancel_left])
theorem lR.uR (h : lR T g S W) (k : Nat) {ci : Nat} (hk : zK S k = 20 + ci) (f : Int → Option Nat) : lR T (va_up g (zB S k) (some (oB ci (oFs ci (W k) f)))) (uA S k f) W :=
  h.sa k (by omega) f (by
    show (if 20 ≤ zK S k then oB (zK S k - 20) (oFs (zK S k - 20) (W k) (va_up (zA S) k f k)) else _) = _
    rw [if_pos (by omega)]
    show oB (zK S k - 20) (oFs (zK S k - 20) (W k) (va_up (zA S) k f k)) = _
    rw [va_up_self, hk, Nat.add_sub_cancel_left])
theorem lR.ui (h : lR T g S W) (k : Nat) {t L : Nat} (hk : zK S k = t + 1) (ht : t < 5 ∧ t ≠ 1) (hn : zN S k = L) (f : Int → Int) : lR T (va_up g (zB S k) (some (aI T t L f))) S (va_up W k f) :=
  h.sw k (by omega) f (by
    unfold zC
    rw [if_neg (by omega), if_neg (by omega), if_neg (by omega), va_up_self, hk, hn, Nat.add_sub_cancel])
theorem lR.ul (h : lR T g S W) (k : Nat) {L : Nat} (hk : zK S k = 2) (hn : zN S k = L) (f : Int → Int) : lR T (va_up g (zB S k) (some (aL T L f))) S (va_up W k f) :=
  h.sw k (by omega) f (by
    unfold zC
    rw [if_neg (by omega), if_neg (by omega), if_pos hk, va_up_self, hn])
theorem lR.ur (h : lR T g S W) (k : Nat) {t L : Nat} (hk : zK S k = t + 1) (ht : 5 ≤ t ∧ t < 19) (hn : zN S k = L) (f : Int → Option Nat) : lR T (va_up g (zB S k) (some (aR T t L f))) (uA S k f) W :=
  h.sa k (by omega) f (by
    show (if 20 ≤ zK S k then _ else if 6 ≤ zK S k then aR T (zK S k - 1) (zN S k) (va_up (zA S) k f k) else _) = _
    rw [if_neg (by omega), if_pos (by omega)]
    show aR T (zK S k - 1) (zN S k) (va_up (zA S) k f k) = _
    rw [va_up_self, hk, hn, Nat.add_sub_cancel])
/-- a new cell, under a label -/
theorem lR.nw (h : lR T g S W) {n : Nat} (hn : ∀ a e, g a = some e → a < n) (k : Nat) {K L : Nat} {e : va_E} (he : zC T (uN S k n K L) (va_up W k (fun _ => 0)) k = e) : lR T (va_up g n (some e)) (uN S k n K L) (va_up W k (fun _ => 0)) := by
  have lt : ∀ j, zK S j ≠ 0 → zB S j < n := fun j hj => hn _ _ (h.1 j hj)
  have off : ∀ j, j ≠ k → zB (uN S k n K L) j = zB S j ∧ zK (uN S k n K L) j = zK S j ∧ zC T (uN S k n K L) (va_up W k (fun _ => 0)) j = zC T S W j := fun j q => by
    have e1 : zB (uN S k n K L) j = zB S j := va_up_ne _ _ q
    have e2 : zK (uN S k n K L) j = zK S j := va_up_ne _ _ q
    have e3 : zN (uN S k n K L) j = zN S j := va_up_ne _ _ q
    have e5 : zA (uN S k n K L) j = zA S j := va_up_ne _ _ q
    refine ⟨e1, e2, ?_⟩
    unfold zC
    rw [e2, e3, e5, va_up_ne _ _ q]
  have self : zB (uN S k n K L) k = n := va_up_self _ _ _
  refine ⟨fun j hj => ?_, fun i j hi hj hij => ?_⟩
  · by_cases q : j = k
    · subst q
      rw [self, va_up_self, he]
    · obtain ⟨e1, e2, e3⟩ := off j q
      rw [e2] at hj
      rw [e1, e3, va_up_ne _ _ (Nat.ne_of_lt (lt j hj))]
      exact h.1 j hj
  · by_cases q1 : i = k
    · by_cases q2 : j = k
      · rw [q1, q2]
      · subst q1
        obtain ⟨e1, e2, -⟩ := off j q2
        rw [self, e1] at hij
        rw [e2] at hj
        have := lt j hj
        omega
    · obtain ⟨e1, e2, -⟩ := off i q1
      rw [e2] at hi
      by_cases q2 : j = k
      · subst q2
        rw [self, e1] at hij
        have := lt i hi
        omega
      · obtain ⟨e3, e4, -⟩ := off j q2
        rw [e4] at hj
        rw [e1, e3] at hij
        exact h.2 i j hi hj hij
theorem lR.ni (h : lR T g S W) {n : Nat} (hn : ∀ a e, g a = some e → a < n) (k : Nat) {t L : Nat} (ht : t < 5 ∧ t ≠ 1) : lR T (va_up g n (some (aI T t L (fun _ => 0)))) (uN S k n (t + 1) L) (va_up W k (fun _ => 0)) :=
  h.nw hn k (by
    unfold zC
    have e2 : zK (uN S k n (t + 1) L) k = t + 1 := va_up_self _ _ _
    have e3 : zN (uN S k n (t + 1) L) k = L := va_up_self _ _ _
    rw [e2, e3, va_up_self, if_neg (by omega), if_neg (by omega), if_neg (by omega), Nat.add_sub_cancel])
theorem lR.nl (h : lR T g S W) {n : Nat} (hn : ∀ a e, g a = some e → a < n) (k : Nat) {L : Nat} : lR T (va_up g n (some (aL T L (fun _ => 0)))) (uN S k n 2 L) (va_up W k (fun _ => 0)) :=
  h.nw hn k (by
    unfold zC
    have e2 : zK (uN S k n 2 L) k = 2 := va_up_self _ _ _
    have e3 : zN (uN S k n 2 L) k = L := va_up_self _ _ _
    rw [e2, e3, va_up_self, if_neg (by omega), if_neg (by omega), if_pos rfl])
theorem lR.nr (h : lR T g S W) {n : Nat} (hn : ∀ a e, g a = some e → a < n) (k : Nat) {t L : Nat} (ht : 5 ≤ t ∧ t < 19) : lR T (va_up g n (some (aR T t L (fun _ => none)))) (uN S k n (t + 1) L) (va_up W k (fun _ => 0)) :=
  h.nw hn k (by
    unfold zC
    have e2 : zK (uN S k n (t + 1) L) k = t + 1 := va_up_self _ _ _
    have e3 : zN (uN S k n (t + 1) L) k = L := va_up_self _ _ _
    have e4 : zA (uN S k n (t + 1) L) k = fun _ => none := va_up_self _ _ _
    rw [e2, e3, e4, if_neg (by omega), if_pos (by omega), Nat.add_sub_cancel])
theorem lR.no (h : lR T g S W) {n : Nat} (hn : ∀ a e, g a = some e → a < n) (k : Nat) {ci : Nat} : lR T (va_up g n (some (oB ci (oFs ci (fun _ => 0) (fun _ => none))))) (uN S k n (20 + ci) 0) (va_up W k (fun _ => 0)) :=
  h.nw hn k (by
    unfold zC
    have e2 : zK (uN S k n (20 + ci) 0) k = 20 + ci := va_up_self _ _ _
    have e5 : zA (uN S k n (20 + ci) 0) k = fun _ => none := va_up_self _ _ _
    rw [e2, e5, va_up_self, if_pos (by omega), Nat.add_sub_cancel_left])
/-- labels renamed -/
theorem lR.pm (h : lR T g S W) {π : Nat → Nat} (hp : ∀ k, π (π k) = k) : lR T g (uP S π) (fun k => W (π k)) :=
  ⟨fun k hk => h.1 (π k) hk, fun j k hj hk e => by
    have := h.2 (π j) (π k) hj hk e
    rw [← hp j, ← hp k, this]⟩
/-- fewer labels -/
theorem lR.dr (h : lR T g S W) {S' : LbS} {W' : Nat → Int → Int} (hs : ∀ k, zK S' k ≠ 0 → zK S k ≠ 0 ∧ zB S' k = zB S k ∧ zC T S' W' k = zC T S W k) : lR T g S' W' :=
  ⟨fun k hk => by rw [(hs k hk).2.1, (hs k hk).2.2]; exact h.1 k (hs k hk).1, fun j k hj hk e => by rw [(hs j hj).2.1, (hs k hk).2.1] at e; exact h.2 j k (hs j hj).1 (hs k hk).1 e⟩
end LB
/-- the same but at some labels -/
def sm (S S' : LbS) (ks : List Nat) : Prop := ∀ k, k ∉ ks → zB S' k = zB S k ∧ zK S' k = zK S k ∧ zN S' k = zN S k ∧ zA S' k = zA S k
theorem sm.rf {S : LbS} {ks : List Nat} : sm S S ks := fun _ _ => ⟨rfl, rfl, rfl, rfl⟩
theorem sm.uA {S S' : LbS} {ks : List Nat} (h : sm S S' ks) (k : Nat) (f : Int → Option Nat) (hk : k ∈ ks) : sm S (uA S' k f) ks := fun j hj => by
  obtain ⟨a, b, c, e⟩ := h j hj
  exact ⟨a, b, c, (va_up_ne _ _ (show j ≠ k from fun q => hj (q ▸ hk))).trans e⟩
theorem sm.uN {S S' : LbS} {ks : List Nat} (h : sm S S' ks) (k a K N : Nat) (hk : k ∈ ks) : sm S (uN S' k a K N) ks := fun j hj => by
  obtain ⟨a, b, c, e⟩ := h j hj
  have q : j ≠ k := fun q => hj (q ▸ hk)
  exact ⟨(va_up_ne _ _ q).trans a, (va_up_ne _ _ q).trans b, (va_up_ne _ _ q).trans c, (va_up_ne _ _ q).trans e⟩
theorem sm.tr {S S1 S2 : LbS} {ks k1 k2 : List Nat} (h1 : sm S S1 k1) (h2 : sm S1 S2 k2) (hk : (k1.all (fun k => ks.contains k) && k2.all (fun k => ks.contains k)) = true) : sm S S2 ks := fun j hj => by
  simp only [Bool.and_eq_true, List.all_eq_true, List.contains_iff_mem] at hk
  obtain ⟨a, b, c, e⟩ := h1 j (fun q => hj (hk.1 j q))
  obtain ⟨a', b', c', e'⟩ := h2 j (fun q => hj (hk.2 j q))
  exact ⟨a'.trans a, b'.trans b, c'.trans c, e'.trans e⟩
theorem sm.wd {S S1 : LbS} {ks k1 : List Nat} (h1 : sm S S1 k1) (hk : (k1.all (fun k => ks.contains k)) = true) : sm S S1 ks := fun j hj => by
  simp only [List.all_eq_true, List.contains_iff_mem] at hk
  exact h1 j (fun q => hj (hk j q))
/-! kinds and lengths of the labels: 0 the FairFight; 1 fighters, 2 sides, 3 4 their rows; 5 .. 8 the table now, 9 .. 12 the next; 13 fights, 14 bands, 15 played, 16 playedLife, 17 18 its rows; 19 sheets, 20 .. 23 the Sheets; 24 25 the lists' arrays; 28 .. 31 the sheets' rows; 32 .. fighters, 48 .. told; 64 .. rows of fights; 70 .. Integers; 100 .. arrays of a call; 200 Odds, 201 Fight, 202 .. 211 its arrays, 212 speed, 213 ways, 214 byRound, 215 left, 216 .. its rows -/
def shK (k : Nat) : Nat := match k with
  | 0 => 20 | 1 => 8 | 2 => 6 | 3 => 1 | 4 => 1 | 5 => 21 | 6 => 2 | 7 => 2 | 8 => 1 | 9 => 21 | 10 => 2 | 11 => 2 | 12 => 1 | 13 => 27 | 14 => 27 | 15 => 1 | 16 => 6 | 17 => 1 | 18 => 1 | 19 => 9 | 20 => 22 | 21 => 22 | 22 => 22 | 23 => 22 | 24 => 10 | 25 => 10
  | 100 => 1 | 101 => 1 | 102 => 1 | 200 => 25 | 201 => 26 | 202 => 1 | 203 => 1 | 204 => 1 | 205 => 1 | 206 => 1 | 207 => 1 | 208 => 1 | 209 => 1 | 210 => 1 | 211 => 3 | 212 => 1 | 213 => 2 | 214 => 2 | 215 => 7 | 216 => 2 | 217 => 2 | 218 => 2 | 219 => 2 | 220 => 2 | 221 => 2
  | _ => 0
def shN (k : Nat) : Nat := match k with
  | 1 => 16 | 2 => 2 | 3 => 3 | 4 => 3 | 6 => 2048 | 7 => 2048 | 8 => 402 | 10 => 2048 | 11 => 2048 | 12 => 402 | 15 => 3 | 16 => 2 | 17 => 3 | 18 => 3 | 19 => 4
  | 100 => 6 | 101 => 6 | 102 => 3 | 202 => 6 | 203 => 6 | 204 => 6 | 205 => 6 | 206 => 6 | 207 => 6 | 208 => 6 | 209 => 6 | 210 => 6 | 211 => 6 | 212 => 6 | 213 => 3 | 214 => 7 | 215 => 6 | 216 => 42 | 217 => 42 | 218 => 42 | 219 => 42 | 220 => 42 | 221 => 42
  | _ => 0
def shp (S : LbS) (ks : List Nat) : Prop := ∀ k, k ∈ ks → zK S k = shK k ∧ (shK k < 20 → zN S k = shN k)
theorem shp.k {S : LbS} {ks : List Nat} (h : shp S ks) (k : Nat) (hk : ks.contains k = true) : zK S k = shK k := (h k (List.contains_iff_mem.mp hk)).1
theorem shp.n {S : LbS} {ks : List Nat} (h : shp S ks) (k : Nat) (hk : (ks.contains k && decide (shK k < 20)) = true) : zN S k = shN k := by
  simp only [Bool.and_eq_true, List.contains_iff_mem, decide_eq_true_eq] at hk
  exact (h k hk.1).2 hk.2
theorem shp.sm {S S' : LbS} {ks k1 : List Nat} (h : shp S ks) (hs : sm S S' k1) (hk : (ks.all (fun k => !k1.contains k)) = true) : shp S' ks := fun k hk' => by
  have q : k ∉ k1 := by
    have := (List.all_eq_true.mp hk) k hk'
    simpa using this
  obtain ⟨-, b, c, -⟩ := hs k q
  rw [b, c]
  exact h k hk'
theorem shp.sub {S : LbS} {ks k1 : List Nat} (h : shp S ks) (hk : (k1.all (fun k => ks.contains k)) = true) : shp S k1 := fun k hk' => h k (by
  simp only [List.all_eq_true, List.contains_iff_mem] at hk
  exact hk k hk')
theorem nar_z {z : Int} (h : z = 0 ∨ z = 1) : narrow .boolean (.int (iI z)) = .int (iI z) := by
  rcases h with rfl | rfl <;> rfl
section LRW
variable {p : Program} {l : Launch} {e : Env} {R : Room} {s : State} {m : MethodId} {args : Array Value} {below : List Frame} {meth : Method} {c : Code} {H : Heap} {locs : List Loc} {cells slots : Nat} {Q : State → Prop}
variable {cc : ByteArray} {pc : Nat} {ls : Array Slot} {rest : List Value} {D : va_G} {T N : Nat → Nat} {A : Nat → Prop} {g : GH} {n nL : Nat} {own : String} {S : LbS} {W1 : Nat → Int → Int}
theorem L_get (hC : Ct D T N A p s m args c cc own nL) (hX : Wd D A s g n H locs) (hL : lR T g S W1) {ref C : String} {T0 : u_T} {M ci index : Nat} (hin : ∀ w ∈ u_ws C T0 M, w ∈ lw_all) (hc : CL[ci]? = some (C, T0, M)) (lb : Nat) (hk : zK S lb = 20 + ci) (k : Nat) (hkM : k < M) (hlink : (Cond.fieldLink own index ref (T0 k).2.1 (T0 k).2.2.1) ∈ lw_all) (hsame : (T0 k).1 = ref) {v : Value} (hv : (oFs ci (W1 lb) (zA S lb))[k]? = some v) (hdg : decode cc pc = .ok (.getfield index, 3))
    (kk : W p l e R s m args below meth c H locs cells slots Q (F0 m (pc + 3) ls (v :: rest))) : W p l e R s m args below meth c H locs cells slots Q (F0 m pc ls (.ref (zB S lb) :: rest)) :=
  j_get hC hX hin hc (hL.ob lb hk) k hkM hlink hsame hv hdg kk
theorem L_getr (hC : Ct D T N A p s m args c cc own nL) (hX : Wd D A s g n H locs) (hL : lR T g S W1) {ref C : String} {T0 : u_T} {M ci index : Nat} (hin : ∀ w ∈ u_ws C T0 M, w ∈ lw_all) (hc : CL[ci]? = some (C, T0, M)) (lb : Nat) (hk : zK S lb = 20 + ci) (k : Nat) (hkM : k < M) (hlink : (Cond.fieldLink own index ref (T0 k).2.1 (T0 k).2.2.1) ∈ lw_all) (hsame : (T0 k).1 = ref) {q : Option Nat} {b : Nat} (hr : q = some b) (hv : (oFs ci (W1 lb) (zA S lb))[k]? = some (va_rf q)) (hdg : decode cc pc = .ok (.getfield index, 3))
    (kk : W p l e R s m args below meth c H locs cells slots Q (F0 m (pc + 3) ls (.ref b :: rest))) : W p l e R s m args below meth c H locs cells slots Q (F0 m pc ls (.ref (zB S lb) :: rest)) :=
  j_get hC hX hin hc (hL.ob lb hk) k hkM hlink hsame hv hdg (by rw [hr]; exact kk)
theorem L_getN (hC : Ct D T N A p s m args c cc own nL) (hX : Wd D A s g n H locs) (hL : lR T g S W1) {ref C host : String} {T0 : u_T} {M ci index : Nat} (hin : ∀ w ∈ u_ws C T0 M, w ∈ lw_all) (hc : CL[ci]? = some (C, T0, M)) (lb : Nat) (hk : zK S lb = 20 + ci) (k : Nat) (hkM : k < M) (hlink : (Cond.fieldLinkNest own index ref (T0 k).2.1 (T0 k).2.2.1 host) ∈ lw_tbl) (hsame : (T0 k).1 = ref) {v : Value} (hv : (oFs ci (W1 lb) (zA S lb))[k]? = some v) (hdg : decode cc pc = .ok (.getfield index, 3))
    (kk : W p l e R s m args below meth c H locs cells slots Q (F0 m (pc + 3) ls (v :: rest))) : W p l e R s m args below meth c H locs cells slots Q (F0 m pc ls (.ref (zB S lb) :: rest)) :=
  j_getN hC hX hin hc (hL.ob lb hk) k hkM hlink hsame hv hdg kk
theorem L_getrN (hC : Ct D T N A p s m args c cc own nL) (hX : Wd D A s g n H locs) (hL : lR T g S W1) {ref C host : String} {T0 : u_T} {M ci index : Nat} (hin : ∀ w ∈ u_ws C T0 M, w ∈ lw_all) (hc : CL[ci]? = some (C, T0, M)) (lb : Nat) (hk : zK S lb = 20 + ci) (k : Nat) (hkM : k < M) (hlink : (Cond.fieldLinkNest own index ref (T0 k).2.1 (T0 k).2.2.1 host) ∈ lw_tbl) (hsame : (T0 k).1 = ref) {q : Option Nat} {b : Nat} (hr : q = some b) (hv : (oFs ci (W1 lb) (zA S lb))[k]? = some (va_rf q)) (hdg : decode cc pc = .ok (.getfield index, 3))
    (kk : W p l e R s m args below meth c H locs cells slots Q (F0 m (pc + 3) ls (.ref b :: rest))) : W p l e R s m args below meth c H locs cells slots Q (F0 m pc ls (.ref (zB S lb) :: rest)) :=
  j_getN hC hX hin hc (hL.ob lb hk) k hkM hlink hsame hv hdg (by rw [hr]; exact kk)
theorem L_put (hC : Ct D T N A p s m args c cc own nL) (hX : Wd D A s g n H locs) (hL : lR T g S W1) {ref C : String} {T0 : u_T} {M ci index : Nat} (hin : ∀ w ∈ u_ws C T0 M, w ∈ lw_all) (ty0 : Nat → FieldType) (hty : ∀ k, k < M → parseFieldDescriptor (T0 k).2.2.1 = some (ty0 k)) (hnm : ∀ a, a < M → ∀ b, b < M → a ≠ b → (T0 a).2.1 ≠ (T0 b).2.1) (hc : CL[ci]? = some (C, T0, M)) (lb : Nat) (hk : zK S lb = 20 + ci) (k : Nat) (hkM : k < M) (hlink : (Cond.fieldLink own index ref (T0 k).2.1 (T0 k).2.2.1) ∈ lw_all) (hsame : (T0 k).1 = ref) (hfin : (T0 k).2.2.2 = false) {v : Value} (hn : narrow (ty0 k) v = v) (hfit : fits (ty0 k) v = true) {f : Int → Int} (hl : k < (oFs ci (W1 lb) (zA S lb)).length) (hfs : (oFs ci (W1 lb) (zA S lb)).set k v = oFs ci f (zA S lb))
    (hdg : decode cc pc = .ok (.putfield index, 3)) (kk : ∀ (g' : GH) (H1 : Heap) (locs1 : List Loc), Wd D A s g' n H1 locs1 → lR T g' S (va_up W1 lb f) → W p l e R s m args below meth c H1 locs1 cells slots Q (F0 m (pc + 3) ls rest)) : W p l e R s m args below meth c H locs cells slots Q (F0 m pc ls (v :: .ref (zB S lb) :: rest)) :=
  j_put hC hX hin ty0 hty hnm hc (hL.ob lb hk) k hkM hlink hsame hfin hn hfit hl hfs hdg (fun H1 locs1 hX1 => kk _ H1 locs1 hX1 (hL.uO lb hk f))
theorem L_putA (hC : Ct D T N A p s m args c cc own nL) (hX : Wd D A s g n H locs) (hL : lR T g S W1) {ref C : String} {T0 : u_T} {M ci index : Nat} (hin : ∀ w ∈ u_ws C T0 M, w ∈ lw_all) (ty0 : Nat → FieldType) (hty : ∀ k, k < M → parseFieldDescriptor (T0 k).2.2.1 = some (ty0 k)) (hnm : ∀ a, a < M → ∀ b, b < M → a ≠ b → (T0 a).2.1 ≠ (T0 b).2.1) (hc : CL[ci]? = some (C, T0, M)) (lb : Nat) (hk : zK S lb = 20 + ci) (k : Nat) (hkM : k < M) (hlink : (Cond.fieldLink own index ref (T0 k).2.1 (T0 k).2.2.1) ∈ lw_all) (hsame : (T0 k).1 = ref) (hfin : (T0 k).2.2.2 = false) {v : Value} (hn : narrow (ty0 k) v = v) (hfit : fits (ty0 k) v = true) {f : Int → Option Nat} (hl : k < (oFs ci (W1 lb) (zA S lb)).length) (hfs : (oFs ci (W1 lb) (zA S lb)).set k v = oFs ci (W1 lb) f)
    (hdg : decode cc pc = .ok (.putfield index, 3)) (kk : ∀ (g' : GH) (H1 : Heap) (locs1 : List Loc), Wd D A s g' n H1 locs1 → lR T g' (uA S lb f) W1 → W p l e R s m args below meth c H1 locs1 cells slots Q (F0 m (pc + 3) ls rest)) : W p l e R s m args below meth c H locs cells slots Q (F0 m pc ls (v :: .ref (zB S lb) :: rest)) :=
  j_put hC hX hin ty0 hty hnm hc (hL.ob lb hk) k hkM hlink hsame hfin hn hfit hl hfs hdg (fun H1 locs1 hX1 => kk _ H1 locs1 hX1 (hL.uR lb hk f))
theorem L_putN (hC : Ct D T N A p s m args c cc own nL) (hX : Wd D A s g n H locs) (hL : lR T g S W1) {ref C host : String} {T0 : u_T} {M ci index : Nat} (hin : ∀ w ∈ u_ws C T0 M, w ∈ lw_all) (ty0 : Nat → FieldType) (hty : ∀ k, k < M → parseFieldDescriptor (T0 k).2.2.1 = some (ty0 k)) (hnm : ∀ a, a < M → ∀ b, b < M → a ≠ b → (T0 a).2.1 ≠ (T0 b).2.1) (hc : CL[ci]? = some (C, T0, M)) (lb : Nat) (hk : zK S lb = 20 + ci) (k : Nat) (hkM : k < M) (hlink : (Cond.fieldLinkNest own index ref (T0 k).2.1 (T0 k).2.2.1 host) ∈ lw_tbl) (hsame : (T0 k).1 = ref) (hfin : (T0 k).2.2.2 = false) {v : Value} (hn : narrow (ty0 k) v = v) (hfit : fits (ty0 k) v = true) {f : Int → Int} (hl : k < (oFs ci (W1 lb) (zA S lb)).length) (hfs : (oFs ci (W1 lb) (zA S lb)).set k v = oFs ci f (zA S lb))
    (hdg : decode cc pc = .ok (.putfield index, 3)) (kk : ∀ (g' : GH) (H1 : Heap) (locs1 : List Loc), Wd D A s g' n H1 locs1 → lR T g' S (va_up W1 lb f) → W p l e R s m args below meth c H1 locs1 cells slots Q (F0 m (pc + 3) ls rest)) : W p l e R s m args below meth c H locs cells slots Q (F0 m pc ls (v :: .ref (zB S lb) :: rest)) :=
  j_putN hC hX hin ty0 hty hnm hc (hL.ob lb hk) k hkM hlink hsame hfin hn hfit hl hfs hdg (fun H1 locs1 hX1 => kk _ H1 locs1 hX1 (hL.uO lb hk f))
theorem L_putAN (hC : Ct D T N A p s m args c cc own nL) (hX : Wd D A s g n H locs) (hL : lR T g S W1) {ref C host : String} {T0 : u_T} {M ci index : Nat} (hin : ∀ w ∈ u_ws C T0 M, w ∈ lw_all) (ty0 : Nat → FieldType) (hty : ∀ k, k < M → parseFieldDescriptor (T0 k).2.2.1 = some (ty0 k)) (hnm : ∀ a, a < M → ∀ b, b < M → a ≠ b → (T0 a).2.1 ≠ (T0 b).2.1) (hc : CL[ci]? = some (C, T0, M)) (lb : Nat) (hk : zK S lb = 20 + ci) (k : Nat) (hkM : k < M) (hlink : (Cond.fieldLinkNest own index ref (T0 k).2.1 (T0 k).2.2.1 host) ∈ lw_tbl) (hsame : (T0 k).1 = ref) (hfin : (T0 k).2.2.2 = false) {v : Value} (hn : narrow (ty0 k) v = v) (hfit : fits (ty0 k) v = true) {f : Int → Option Nat} (hl : k < (oFs ci (W1 lb) (zA S lb)).length) (hfs : (oFs ci (W1 lb) (zA S lb)).set k v = oFs ci (W1 lb) f)
    (hdg : decode cc pc = .ok (.putfield index, 3)) (kk : ∀ (g' : GH) (H1 : Heap) (locs1 : List Loc), Wd D A s g' n H1 locs1 → lR T g' (uA S lb f) W1 → W p l e R s m args below meth c H1 locs1 cells slots Q (F0 m (pc + 3) ls rest)) : W p l e R s m args below meth c H locs cells slots Q (F0 m pc ls (v :: .ref (zB S lb) :: rest)) :=
  j_putN hC hX hin ty0 hty hnm hc (hL.ob lb hk) k hkM hlink hsame hfin hn hfit hl hfs hdg (fun H1 locs1 hX1 => kk _ H1 locs1 hX1 (hL.uR lb hk f))
theorem L_putF (hC : Ct D T N A p s m args c cc own nL) (hX : Wd D A s g n H locs) (hL : lR T g S W1) {ref C : String} {T0 : u_T} {M ci index : Nat} (hin : ∀ w ∈ u_ws C T0 M, w ∈ lw_all) (ty0 : Nat → FieldType) (hty : ∀ k, k < M → parseFieldDescriptor (T0 k).2.2.1 = some (ty0 k)) (hnm : ∀ a, a < M → ∀ b, b < M → a ≠ b → (T0 a).2.1 ≠ (T0 b).2.1) (hc : CL[ci]? = some (C, T0, M)) (lb : Nat) (hk : zK S lb = 20 + ci) (k : Nat) (hkM : k < M) (hlink : (Cond.fieldLink own index ref (T0 k).2.1 (T0 k).2.2.1) ∈ lw_all) (hsame : (T0 k).1 = ref) (hfin : (T0 k).2.2.2 = true) (hinit : meth.name = "<init>") (hdecl : (T0 k).1 = own) {v : Value} (hn : narrow (ty0 k) v = v) (hfit : fits (ty0 k) v = true) {f : Int → Int} (hl : k < (oFs ci (W1 lb) (zA S lb)).length) (hfs : (oFs ci (W1 lb) (zA S lb)).set k v = oFs ci f (zA S lb))
    (hdg : decode cc pc = .ok (.putfield index, 3)) (kk : ∀ (g' : GH) (H1 : Heap) (locs1 : List Loc), Wd D A s g' n H1 locs1 → lR T g' S (va_up W1 lb f) → W p l e R s m args below meth c H1 locs1 cells slots Q (F0 m (pc + 3) ls rest)) : W p l e R s m args below meth c H locs cells slots Q (F0 m pc ls (v :: .ref (zB S lb) :: rest)) :=
  j_putF hC hX hin ty0 hty hnm hc (hL.ob lb hk) k hkM hlink hsame hfin hinit hdecl hn hfit hl hfs hdg (fun H1 locs1 hX1 => kk _ H1 locs1 hX1 (hL.uO lb hk f))
theorem L_putAF (hC : Ct D T N A p s m args c cc own nL) (hX : Wd D A s g n H locs) (hL : lR T g S W1) {ref C : String} {T0 : u_T} {M ci index : Nat} (hin : ∀ w ∈ u_ws C T0 M, w ∈ lw_all) (ty0 : Nat → FieldType) (hty : ∀ k, k < M → parseFieldDescriptor (T0 k).2.2.1 = some (ty0 k)) (hnm : ∀ a, a < M → ∀ b, b < M → a ≠ b → (T0 a).2.1 ≠ (T0 b).2.1) (hc : CL[ci]? = some (C, T0, M)) (lb : Nat) (hk : zK S lb = 20 + ci) (k : Nat) (hkM : k < M) (hlink : (Cond.fieldLink own index ref (T0 k).2.1 (T0 k).2.2.1) ∈ lw_all) (hsame : (T0 k).1 = ref) (hfin : (T0 k).2.2.2 = true) (hinit : meth.name = "<init>") (hdecl : (T0 k).1 = own) {v : Value} (hn : narrow (ty0 k) v = v) (hfit : fits (ty0 k) v = true) {f : Int → Option Nat} (hl : k < (oFs ci (W1 lb) (zA S lb)).length) (hfs : (oFs ci (W1 lb) (zA S lb)).set k v = oFs ci (W1 lb) f)
    (hdg : decode cc pc = .ok (.putfield index, 3)) (kk : ∀ (g' : GH) (H1 : Heap) (locs1 : List Loc), Wd D A s g' n H1 locs1 → lR T g' (uA S lb f) W1 → W p l e R s m args below meth c H1 locs1 cells slots Q (F0 m (pc + 3) ls rest)) : W p l e R s m args below meth c H locs cells slots Q (F0 m pc ls (v :: .ref (zB S lb) :: rest)) :=
  j_putF hC hX hin ty0 hty hnm hc (hL.ob lb hk) k hkM hlink hsame hfin hinit hdecl hn hfit hl hfs hdg (fun H1 locs1 hX1 => kk _ H1 locs1 hX1 (hL.uR lb hk f))
theorem L_iald (hC : Ct D T N A p s m args c cc own nL) (hX : Wd D A s g n H locs) (hL : lR T g S W1) (lb : Nat) (hk : zK S lb = 1) {L : Nat} (hn : zN S lb = L) (hLr : L ≤ 2147483647) {i : Int} (h : 0 ≤ i ∧ i < L) {z : Int} (hz : W1 lb i = z) (hdg : decode cc pc = .ok (.iaload, 1)) (kk : W p l e R s m args below meth c H locs cells slots Q (F0 m (pc + 1) ls (.int (iI z) :: rest))) : W p l e R s m args below meth c H locs cells slots Q (F0 m pc ls (.int (iI i) :: .ref (zB S lb) :: rest)) :=
  j_iald hC hX (hL.ai lb (t := 0) hk (by decide) hn) (by omega) hdg (hz ▸ kk)
theorem L_zald (hC : Ct D T N A p s m args c cc own nL) (hX : Wd D A s g n H locs) (hL : lR T g S W1) (lb : Nat) (hk : zK S lb = 3) {L : Nat} (hn : zN S lb = L) (hLr : L ≤ 2147483647) {i : Int} (h : 0 ≤ i ∧ i < L) {z : Int} (hz : W1 lb i = z) (hdg : decode cc pc = .ok (.baload, 1)) (kk : W p l e R s m args below meth c H locs cells slots Q (F0 m (pc + 1) ls (.int (iI z) :: rest))) : W p l e R s m args below meth c H locs cells slots Q (F0 m pc ls (.int (iI i) :: .ref (zB S lb) :: rest)) :=
  j_zald hC hX (hL.ai lb (t := 2) hk (by decide) hn) (by omega) hdg (hz ▸ kk)
theorem L_lald (hC : Ct D T N A p s m args c cc own nL) (hX : Wd D A s g n H locs) (hL : lR T g S W1) (lb : Nat) (hk : zK S lb = 2) {L : Nat} (hn : zN S lb = L) (hLr : L ≤ 2147483647) {i : Int} (h : 0 ≤ i ∧ i < L) {z : Int} (hz : W1 lb i = z) (hdg : decode cc pc = .ok (.laload, 1)) (kk : W p l e R s m args below meth c H locs cells slots Q (F0 m (pc + 1) ls (.long (lI z) :: rest))) : W p l e R s m args below meth c H locs cells slots Q (F0 m pc ls (.int (iI i) :: .ref (zB S lb) :: rest)) :=
  j_lald hC hX (hL.al lb hk hn) (by omega) hdg (hz ▸ kk)
theorem L_aald (hC : Ct D T N A p s m args c cc own nL) (hX : Wd D A s g n H locs) (hL : lR T g S W1) (lb t : Nat) (hk : zK S lb = t + 1) (ht : 5 ≤ t ∧ t < 19) {ty : FieldType} (hT : (TY T)[t]? = some (T t, ty)) (hty : ty.isReference = true) {L : Nat} (hn : zN S lb = L) (hLr : L ≤ 2147483647) {i : Int} (h : 0 ≤ i ∧ i < L) {b : Nat} (hq : zA S lb i = some b) (hdg : decode cc pc = .ok (.aaload, 1)) (kk : W p l e R s m args below meth c H locs cells slots Q (F0 m (pc + 1) ls (.ref b :: rest))) : W p l e R s m args below meth c H locs cells slots Q (F0 m pc ls (.int (iI i) :: .ref (zB S lb) :: rest)) :=
  j_aald hC hX t (hL.ar lb hk ht hn) hT hty (by omega) hdg (by rw [hq]; exact kk)
theorem L_iast (hC : Ct D T N A p s m args c cc own nL) (hX : Wd D A s g n H locs) (hL : lR T g S W1) (lb : Nat) (hk : zK S lb = 1) {L : Nat} (hn : zN S lb = L) (hLr : L ≤ 2147483647) {i x : Int} (h : 0 ≤ i ∧ i < L) {f : Int → Int} (hf : uI (W1 lb) i x = f) (hdg : decode cc pc = .ok (.iastore, 1)) (kk : ∀ (g' : GH) (H1 : Heap) (locs1 : List Loc), Wd D A s g' n H1 locs1 → lR T g' S (va_up W1 lb f) → W p l e R s m args below meth c H1 locs1 cells slots Q (F0 m (pc + 1) ls rest)) : W p l e R s m args below meth c H locs cells slots Q (F0 m pc ls (.int (iI x) :: .int (iI i) :: .ref (zB S lb) :: rest)) :=
  j_iast hC hX (hL.ai lb (t := 0) hk (by decide) hn) (by omega) hdg (fun H1 locs1 hX1 => kk _ H1 locs1 hX1 (hf ▸ hL.ui lb (t := 0) hk (by decide) hn _))
theorem L_zast (hC : Ct D T N A p s m args c cc own nL) (hX : Wd D A s g n H locs) (hL : lR T g S W1) (lb : Nat) (hk : zK S lb = 3) {L : Nat} (hn : zN S lb = L) (hLr : L ≤ 2147483647) {i x : Int} (h : 0 ≤ i ∧ i < L) (hx : x = 0 ∨ x = 1) {f : Int → Int} (hf : uI (W1 lb) i x = f) (hdg : decode cc pc = .ok (.bastore, 1)) (kk : ∀ (g' : GH) (H1 : Heap) (locs1 : List Loc), Wd D A s g' n H1 locs1 → lR T g' S (va_up W1 lb f) → W p l e R s m args below meth c H1 locs1 cells slots Q (F0 m (pc + 1) ls rest)) : W p l e R s m args below meth c H locs cells slots Q (F0 m pc ls (.int (iI x) :: .int (iI i) :: .ref (zB S lb) :: rest)) :=
  j_zast hC hX (hL.ai lb (t := 2) hk (by decide) hn) (by omega) hx hdg (fun H1 locs1 hX1 => kk _ H1 locs1 hX1 (hf ▸ hL.ui lb (t := 2) hk (by decide) hn _))
theorem L_last (hC : Ct D T N A p s m args c cc own nL) (hX : Wd D A s g n H locs) (hL : lR T g S W1) (lb : Nat) (hk : zK S lb = 2) {L : Nat} (hn : zN S lb = L) (hLr : L ≤ 2147483647) {i x : Int} (h : 0 ≤ i ∧ i < L) {f : Int → Int} (hf : uI (W1 lb) i x = f) (hdg : decode cc pc = .ok (.lastore, 1)) (kk : ∀ (g' : GH) (H1 : Heap) (locs1 : List Loc), Wd D A s g' n H1 locs1 → lR T g' S (va_up W1 lb f) → W p l e R s m args below meth c H1 locs1 cells slots Q (F0 m (pc + 1) ls rest)) : W p l e R s m args below meth c H locs cells slots Q (F0 m pc ls (.long (lI x) :: .int (iI i) :: .ref (zB S lb) :: rest)) :=
  j_last hC hX (hL.al lb hk hn) (by omega) hdg (fun H1 locs1 hX1 => kk _ H1 locs1 hX1 (hf ▸ hL.ul lb hk hn _))
theorem L_aast (hC : Ct D T N A p s m args c cc own nL) (hX : Wd D A s g n H locs) (hL : lR T g S W1) (lb t ci lv : Nat) {r : vw_C} (hk : zK S lb = t + 1) (ht : 5 ≤ t ∧ t < 19) (hT : (TY T)[t]? = some (T t, .object r.1)) (hkv : zK S lv = 20 + ci) (hc : CL[ci]? = some r) {L : Nat} (hn : zN S lb = L) (hLr : L ≤ 2147483647) {i : Int} (h : 0 ≤ i ∧ i < L) (hdg : decode cc pc = .ok (.aastore, 1)) (kk : ∀ (g' : GH) (H1 : Heap) (locs1 : List Loc), Wd D A s g' n H1 locs1 → lR T g' (uA S lb (uI (zA S lb) i (some (zB S lv)))) W1 → W p l e R s m args below meth c H1 locs1 cells slots Q (F0 m (pc + 1) ls rest)) : W p l e R s m args below meth c H locs cells slots Q (F0 m pc ls (.ref (zB S lv) :: .int (iI i) :: .ref (zB S lb) :: rest)) :=
  j_aast hC hX t ci (hL.ar lb hk ht hn) hT (hL.ob lv hkv) hc (by omega) hdg (fun H1 locs1 hX1 => kk _ H1 locs1 hX1 (hL.ur lb hk ht hn _))
theorem L_alen (hC : Ct D T N A p s m args c cc own nL) (hX : Wd D A s g n H locs) (hL : lR T g S W1) (lb t : Nat) (hk : zK S lb = t + 1) (ht : t < 10) {L : Nat} (hn : zN S lb = L) {z : Int} (hz : (L : Int) = z) (hdg : decode cc pc = .ok (.arraylength, 1)) (kk : W p l e R s m args below meth c H locs cells slots Q (F0 m (pc + 1) ls (.int (iI z) :: rest))) : W p l e R s m args below meth c H locs cells slots Q (F0 m pc ls (.ref (zB S lb) :: rest)) := by
  by_cases q : 5 ≤ t
  · have hT : (TY T)[t]? = some (T t, ((TY T)[t]'ht).2) := by
      have : t = 5 ∨ t = 6 ∨ t = 7 ∨ t = 8 ∨ t = 9 := by omega
      rcases this with rfl | rfl | rfl | rfl | rfl <;> rfl
    exact j_alen hC hX t (hL.ar lb hk (by omega) hn) hT hz hdg kk
  · by_cases q1 : t = 1
    · subst q1
      exact j_alen hC hX 1 (hL.al lb hk hn) rfl hz hdg kk
    · have hT : (TY T)[t]? = some (T t, ((TY T)[t]'ht).2) := by
        have : t = 0 ∨ t = 2 ∨ t = 3 ∨ t = 4 := by omega
        rcases this with rfl | rfl | rfl | rfl <;> rfl
      exact j_alen hC hX t (hL.ai lb hk (by omega) hn) hT hz hdg kk
theorem L_newI (hC : Ct D T N A p s m args c cc own nL) (hX : Wd D A s g n H locs) (hL : lR T g S W1) (lb t0 : Nat) (ht : t0 < 5 ∧ t0 ≠ 1) {atype : ArrayType} {ty : FieldType} (hty : newarray.typeOf atype = ty) (hdf : defaultValue ty = .int 0) (hra : ∀ cA, va_RA s cA ty → s.vm.findClass ("[" ++ ty.toString) = some cA) (hT0 : (TY T)[t0]? = some (T t0, ty)) (harr : (Cond.arrayClass ty) ∈ lw_all) {z : Int} {k : Nat} (hz : z = (k : Int)) (hk : k ≤ 100000) (hcb : componentBytes ty ≤ 8) (hcells : cells + 1 ≤ R.cells) (hslots : slots + k ≤ R.slots) (hdg : decode cc pc = .ok (.newarray atype, 2))
    (kk : ∀ (g' : GH) (H1 : Heap), Wd D A s g' (n + 1) H1 locs → lR T g' (uN S lb n (t0 + 1) k) (va_up W1 lb (fun _ => 0)) → W p l e R s m args below meth c H1 locs (cells + 1) (slots + k) Q (F0 m (pc + 2) ls (.ref n :: rest))) : W p l e R s m args below meth c H locs cells slots Q (F0 m pc ls (.int (iI z) :: rest)) :=
  j_newI hC hX t0 hty hdf hra hT0 harr hz hk hcb hcells hslots hdg (fun H1 hX1 => kk _ H1 hX1 (hL.ni (fun _ _ => hX.lt) lb ht))
theorem L_newL (hC : Ct D T N A p s m args c cc own nL) (hX : Wd D A s g n H locs) (hL : lR T g S W1) (lb : Nat) {z : Int} {k : Nat} (hz : z = (k : Int)) (hk : k ≤ 100000) (hcells : cells + 1 ≤ R.cells) (hslots : slots + k ≤ R.slots) (hdg : decode cc pc = .ok (.newarray .long, 2))
    (kk : ∀ (g' : GH) (H1 : Heap), Wd D A s g' (n + 1) H1 locs → lR T g' (uN S lb n 2 k) (va_up W1 lb (fun _ => 0)) → W p l e R s m args below meth c H1 locs (cells + 1) (slots + k) Q (F0 m (pc + 2) ls (.ref n :: rest))) : W p l e R s m args below meth c H locs cells slots Q (F0 m pc ls (.int (iI z) :: rest)) :=
  j_newL hC hX hz hk hcells hslots hdg (fun H1 hX1 => kk _ H1 hX1 (hL.nl (fun _ _ => hX.lt) lb))
theorem L_newR (hC : Ct D T N A p s m args c cc own nL) (hX : Wd D A s g n H locs) (hL : lR T g S W1) (lb t0 : Nat) (ht : 5 ≤ t0 ∧ t0 < 19) {C : String} {index : Nat} (hlink : (Cond.classLink own index C) ∈ lw_all) (hover : (Cond.arrayOver (.object C)) ∈ lw_tbl) (hT0 : (TY T)[t0]? = some (T t0, .object C)) {z : Int} {k : Nat} (hz : z = (k : Int)) (hk : k ≤ 100000) (hcells : cells + 1 ≤ R.cells) (hslots : slots + k ≤ R.slots) (hdg : decode cc pc = .ok (.anewarray index, 3))
    (kk : ∀ (g' : GH) (H1 : Heap), Wd D A s g' (n + 1) H1 locs → lR T g' (uN S lb n (t0 + 1) k) (va_up W1 lb (fun _ => 0)) → W p l e R s m args below meth c H1 locs (cells + 1) (slots + k) Q (F0 m (pc + 3) ls (.ref n :: rest))) : W p l e R s m args below meth c H locs cells slots Q (F0 m pc ls (.int (iI z) :: rest)) :=
  j_newR hC hX t0 hlink hover hT0 hz hk hcells hslots hdg (fun H1 hX1 => kk _ H1 hX1 (hL.nr (fun _ _ => hX.lt) lb ht))
theorem L_newRA (hC : Ct D T N A p s m args c cc own nL) (hX : Wd D A s g n H locs) (hL : lR T g S W1) (lb t0 : Nat) (ht : 5 ≤ t0 ∧ t0 < 19) {t : FieldType} {index : Nat} (hlink : (Cond.classLink own index (FieldType.array t).toString) ∈ lw_all) (hover : (Cond.arrayOver (.array t)) ∈ lw_tbl) (hT0 : (TY T)[t0]? = some (T t0, .array t)) {z : Int} {k : Nat} (hz : z = (k : Int)) (hk : k ≤ 100000) (hcells : cells + 1 ≤ R.cells) (hslots : slots + k ≤ R.slots) (hdg : decode cc pc = .ok (.anewarray index, 3))
    (kk : ∀ (g' : GH) (H1 : Heap), Wd D A s g' (n + 1) H1 locs → lR T g' (uN S lb n (t0 + 1) k) (va_up W1 lb (fun _ => 0)) → W p l e R s m args below meth c H1 locs (cells + 1) (slots + k) Q (F0 m (pc + 3) ls (.ref n :: rest))) : W p l e R s m args below meth c H locs cells slots Q (F0 m pc ls (.int (iI z) :: rest)) :=
  j_newRA hC hX t0 hlink hover hT0 hz hk hcells hslots hdg (fun H1 hX1 => kk _ H1 hX1 (hL.nr (fun _ _ => hX.lt) lb ht))
theorem L_new (hC : Ct D T N A p s m args c cc own nL) (hX : Wd D A s g n H locs) (hL : lR T g S W1) (lb ci : Nat) {C : String} {T0 : u_T} {M index : Nat} (hin : ∀ w ∈ u_ws C T0 M, w ∈ lw_all) (ty : Nat → FieldType) (hty : ∀ k, k < M → parseFieldDescriptor (T0 k).2.2.1 = some (ty k)) (hcl : (Cond.classLink own index C) ∈ lw_all) (hinst : (Cond.instantiable C M) ∈ lw_all) (hini : (Cond.initialized C) ∈ lw_all) (hc : CL[ci]? = some (C, T0, M)) (hfs : ∀ j, j < M → defaultValue (ty j) = vp_V (oFs ci (fun _ => 0) (fun _ => none)) j) (hcells : cells + 1 ≤ R.cells) (hslots : slots + M ≤ R.slots) (hdg : decode cc pc = .ok (.new index, 3))
    (kk : ∀ (g' : GH) (H1 : Heap), Wd D A s g' (n + 1) H1 locs → lR T g' (uN S lb n (20 + ci) 0) (va_up W1 lb (fun _ => 0)) → W p l e R s m args below meth c H1 locs (cells + 1) (slots + M) Q (F0 m (pc + 3) ls (.ref n :: rest))) : W p l e R s m args below meth c H locs cells slots Q (F0 m pc ls rest) :=
  j_new hC hX ci hin ty hty hcl hinst hini hc hfs hcells hslots hdg (fun H1 hX1 => kk _ H1 hX1 (hL.no (fun _ _ => hX.lt) lb))
end LRW
