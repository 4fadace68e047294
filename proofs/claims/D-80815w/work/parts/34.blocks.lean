/-! BLOCKS: an object and its arrays in cells that follow one another -/
def bC (T : Nat → Nat) (ci : Nat) (ln kd : Nat → Nat) (fl : Nat → (Nat → Int) → List Value) (m : Nat) (F : Nat → Int) (V : Nat → Int → Int) (k : Nat) : va_E := if k = 0 then oB ci (fl m F) else if kd k = 1 then aL T (ln k) (V k) else aI T (kd k) (ln k) (V k)
def bR (ci K : Nat) (ln kd : Nat → Nat) (fl : Nat → (Nat → Int) → List Value) (T : Nat → Nat) (g : GH) (m : Nat) (F : Nat → Int) (V : Nat → Int → Int) : Prop := 0 < K ∧ ∀ k, k < K → g (m + k) = some (bC T ci ln kd fl m F V k)
section BK
variable {T : Nat → Nat} {g : GH} {m ci K : Nat} {ln kd : Nat → Nat} {fl : Nat → (Nat → Int) → List Value} {F : Nat → Int} {V : Nat → Int → Int}
theorem bR.ob (h : bR ci K ln kd fl T g m F V) : g m = some (oB ci (fl m F)) := h.2 0 h.1
theorem bR.ai (h : bR ci K ln kd fl T g m F V) (k : Nat) {j n : Nat} (hk : 0 < k ∧ k < K) (hj : kd k = j ∧ j ≠ 1) (hn : ln k = n) : g (m + k) = some (aI T j n (V k)) := by
  rw [h.2 k hk.2]
  unfold bC
  rw [if_neg (by omega), if_neg (by omega), hj.1, hn]
theorem bR.al (h : bR ci K ln kd fl T g m F V) (k : Nat) {n : Nat} (hk : 0 < k ∧ k < K) (hj : kd k = 1) (hn : ln k = n) : g (m + k) = some (aL T n (V k)) := by
  rw [h.2 k hk.2]
  unfold bC
  rw [if_neg (by omega), if_pos hj, hn]
theorem bR.up (h : bR ci K ln kd fl T g m F V) (k : Nat) (f : Int → Int) (hk : 0 < k ∧ k < K) {e : va_E} (he : bC T ci ln kd fl m F (va_up V k f) k = e) : bR ci K ln kd fl T (va_up g (m + k) (some e)) m F (va_up V k f) := ⟨h.1, by
  intro j hj
  by_cases q : j = k
  · subst q
    rw [va_up_self, he]
  · rw [va_up_ne _ _ (by omega), h.2 j hj]
    unfold bC
    rw [va_up_ne _ _ q]⟩
theorem bR.upi (h : bR ci K ln kd fl T g m F V) (k : Nat) (f : Int → Int) {j n : Nat} (hk : 0 < k ∧ k < K) (hj : kd k = j ∧ j ≠ 1) (hn : ln k = n) : bR ci K ln kd fl T (va_up g (m + k) (some (aI T j n f))) m F (va_up V k f) :=
  h.up k f hk (by unfold bC; rw [if_neg (by omega), if_neg (by omega), hj.1, hn, va_up_self])
theorem bR.upl (h : bR ci K ln kd fl T g m F V) (k : Nat) (f : Int → Int) {n : Nat} (hk : 0 < k ∧ k < K) (hj : kd k = 1) (hn : ln k = n) : bR ci K ln kd fl T (va_up g (m + k) (some (aL T n f))) m F (va_up V k f) :=
  h.up k f hk (by unfold bC; rw [if_neg (by omega), if_pos hj, hn, va_up_self])
theorem bR.put (h : bR ci K ln kd fl T g m F V) (F' : Nat → Int) : bR ci K ln kd fl T (va_up g m (some (oB ci (fl m F')))) m F' V := ⟨h.1, by
  intro j hj
  by_cases q : j = 0
  · subst q
    show va_up g m _ m = _
    rw [va_up_self]
    rfl
  · rw [va_up_ne _ _ (by omega), h.2 j hj]
    unfold bC
    rw [if_neg q, if_neg q]⟩
theorem bR.ag {g' : GH} (h : bR ci K ln kd fl T g m F V) (hg : ∀ a, m ≤ a → a < m + K → g' a = g a) : bR ci K ln kd fl T g' m F V := ⟨h.1, fun k hk => by rw [hg (m + k) (by omega) (by omega)]; exact h.2 k hk⟩
/-- .. where another stretch of cells was written -/
theorem bR.of {g' : GH} {m' k' : Nat} (h : bR ci K ln kd fl T g m F V) (hg : off g g' m' k') (hd : m + K ≤ m' ∨ m' + k' ≤ m) : bR ci K ln kd fl T g' m F V := h.ag fun a h1 h2 => hg a (by omega)
/-- of numbers that are the same where they count -/
theorem bR.lt (h : bR ci K ln kd fl T g m F V) {n : Nat} (hn : ∀ a e, g a = some e → a < n) : m + K ≤ n := by
  have := hn _ _ (h.2 (K - 1) (by have := h.1; omega))
  have := h.1
  omega
end BK
section BR
variable {p : Program} {l : Launch} {e : Env} {R : Room} {s : State} {mi : MethodId} {args : Array Value} {below : List Frame} {meth : Method} {c : Code} {H : Heap} {locs : List Loc} {cells slots : Nat} {Q : State → Prop}
variable {cc : ByteArray} {pc : Nat} {ls : Array Slot} {rest : List Value} {D : va_G} {T N : Nat → Nat} {A : Nat → Prop} {g g0 : GH} {n nL m ci K : Nat} {own : String} {ln kd : Nat → Nat} {fl : Nat → (Nat → Int) → List Value} {F : Nat → Int} {V : Nat → Int → Int}
theorem B_iald (hC : Ct D T N A p s mi args c cc own nL) (hX : Wd D A s g n H locs) (hM : bR ci K ln kd fl T g m F V) (k : Nat) (hk : (0 < k ∧ k < K) ∧ kd k = 0) {L : Nat} (hL : ln k = L ∧ L ≤ 2048) {i : Int} (h : 0 ≤ i ∧ i < L) {z : Int} (hz : V k i = z) (hdg : decode cc pc = .ok (.iaload, 1)) (kk : W p l e R s mi args below meth c H locs cells slots Q (F0 mi (pc + 1) ls (.int (iI z) :: rest))) : W p l e R s mi args below meth c H locs cells slots Q (F0 mi pc ls (.int (iI i) :: .ref (m + k) :: rest)) :=
  j_iald hC hX (hM.ai k hk.1 ⟨hk.2, by decide⟩ hL.1) (by omega) hdg (hz ▸ kk)
theorem B_zald (hC : Ct D T N A p s mi args c cc own nL) (hX : Wd D A s g n H locs) (hM : bR ci K ln kd fl T g m F V) (k : Nat) (hk : (0 < k ∧ k < K) ∧ kd k = 2) {L : Nat} (hL : ln k = L ∧ L ≤ 2048) {i : Int} (h : 0 ≤ i ∧ i < L) {z : Int} (hz : V k i = z) (hdg : decode cc pc = .ok (.baload, 1)) (kk : W p l e R s mi args below meth c H locs cells slots Q (F0 mi (pc + 1) ls (.int (iI z) :: rest))) : W p l e R s mi args below meth c H locs cells slots Q (F0 mi pc ls (.int (iI i) :: .ref (m + k) :: rest)) :=
  j_zald hC hX (hM.ai k hk.1 ⟨hk.2, by decide⟩ hL.1) (by omega) hdg (hz ▸ kk)
theorem B_lald (hC : Ct D T N A p s mi args c cc own nL) (hX : Wd D A s g n H locs) (hM : bR ci K ln kd fl T g m F V) (k : Nat) (hk : (0 < k ∧ k < K) ∧ kd k = 1) {L : Nat} (hL : ln k = L ∧ L ≤ 2048) {i : Int} (h : 0 ≤ i ∧ i < L) {z : Int} (hz : V k i = z) (hdg : decode cc pc = .ok (.laload, 1)) (kk : W p l e R s mi args below meth c H locs cells slots Q (F0 mi (pc + 1) ls (.long (lI z) :: rest))) : W p l e R s mi args below meth c H locs cells slots Q (F0 mi pc ls (.int (iI i) :: .ref (m + k) :: rest)) :=
  j_lald hC hX (hM.al k hk.1 hk.2 hL.1) (by omega) hdg (hz ▸ kk)
theorem B_iast (hC : Ct D T N A p s mi args c cc own nL) (hX : Wd D A s g n H locs) (hM : bR ci K ln kd fl T g m F V) (k : Nat) (hk : (0 < k ∧ k < K) ∧ kd k = 0) {L : Nat} (hL : ln k = L ∧ L ≤ 2048) {i x : Int} (h : 0 ≤ i ∧ i < L) (hdg : decode cc pc = .ok (.iastore, 1)) (kk : ∀ (g' : GH) (H1 : Heap) (locs1 : List Loc), Wd D A s g' n H1 locs1 → bR ci K ln kd fl T g' m F (va_up V k (uI (V k) i x)) → off g g' m K → W p l e R s mi args below meth c H1 locs1 cells slots Q (F0 mi (pc + 1) ls rest)) : W p l e R s mi args below meth c H locs cells slots Q (F0 mi pc ls (.int (iI x) :: .int (iI i) :: .ref (m + k) :: rest)) :=
  j_iast hC hX (hM.ai k hk.1 ⟨hk.2, by decide⟩ hL.1) (by omega) hdg (fun H1 locs1 hX1 => kk _ H1 locs1 hX1 (hM.upi k _ hk.1 ⟨hk.2, by decide⟩ hL.1) (off.rf.up _ hk.1.2))
theorem B_zast (hC : Ct D T N A p s mi args c cc own nL) (hX : Wd D A s g n H locs) (hM : bR ci K ln kd fl T g m F V) (k : Nat) (hk : (0 < k ∧ k < K) ∧ kd k = 2) {L : Nat} (hL : ln k = L ∧ L ≤ 2048) {i x : Int} (h : 0 ≤ i ∧ i < L) (hx : x = 0 ∨ x = 1) (hdg : decode cc pc = .ok (.bastore, 1)) (kk : ∀ (g' : GH) (H1 : Heap) (locs1 : List Loc), Wd D A s g' n H1 locs1 → bR ci K ln kd fl T g' m F (va_up V k (uI (V k) i x)) → off g g' m K → W p l e R s mi args below meth c H1 locs1 cells slots Q (F0 mi (pc + 1) ls rest)) : W p l e R s mi args below meth c H locs cells slots Q (F0 mi pc ls (.int (iI x) :: .int (iI i) :: .ref (m + k) :: rest)) :=
  j_zast hC hX (hM.ai k hk.1 ⟨hk.2, by decide⟩ hL.1) (by omega) hx hdg (fun H1 locs1 hX1 => kk _ H1 locs1 hX1 (hM.upi k _ hk.1 ⟨hk.2, by decide⟩ hL.1) (off.rf.up _ hk.1.2))
theorem B_last (hC : Ct D T N A p s mi args c cc own nL) (hX : Wd D A s g n H locs) (hM : bR ci K ln kd fl T g m F V) (k : Nat) (hk : (0 < k ∧ k < K) ∧ kd k = 1) {L : Nat} (hL : ln k = L ∧ L ≤ 2048) {i x : Int} (h : 0 ≤ i ∧ i < L) (hdg : decode cc pc = .ok (.lastore, 1)) (kk : ∀ (g' : GH) (H1 : Heap) (locs1 : List Loc), Wd D A s g' n H1 locs1 → bR ci K ln kd fl T g' m F (va_up V k (uI (V k) i x)) → off g g' m K → W p l e R s mi args below meth c H1 locs1 cells slots Q (F0 mi (pc + 1) ls rest)) : W p l e R s mi args below meth c H locs cells slots Q (F0 mi pc ls (.long (lI x) :: .int (iI i) :: .ref (m + k) :: rest)) :=
  j_last hC hX (hM.al k hk.1 hk.2 hL.1) (by omega) hdg (fun H1 locs1 hX1 => kk _ H1 locs1 hX1 (hM.upl k _ hk.1 hk.2 hL.1) (off.rf.up _ hk.1.2))
end BR
/-! a fight: 0 many, 1 aims; arrays 1 side, 2 place, 3 kind, 4 full, 5 hit, 6 force, 7 flee, 8 turns, 9 life, 10 isUp -/
def fFl (m : Nat) (F : Nat → Int) : List Value := [.int (iI (F 0)), .int (iI (F 1)), .ref (m + 1), .ref (m + 2), .ref (m + 3), .ref (m + 4), .ref (m + 5), .ref (m + 6), .ref (m + 7), .ref (m + 8), .ref (m + 9), .ref (m + 10)]
abbrev fLn : Nat → Nat := fun _ => 6
abbrev fKd : Nat → Nat := fun k => if k = 10 then 2 else 0
abbrev fR (T : Nat → Nat) (g : GH) (m : Nat) (F : Nat → Int) (V : Nat → Int → Int) : Prop := bR 6 11 fLn fKd fFl T g m F V
/-! a table: 0 many; arrays 1 keys, 2 ways, 3 used -/
def tFl (m : Nat) (F : Nat → Int) : List Value := [.ref (m + 1), .ref (m + 2), .ref (m + 3), .int (iI (F 3))]
abbrev tLn : Nat → Nat := fun k => if k = 3 then 402 else 2048
abbrev tKd : Nat → Nat := fun k => if k = 3 then 0 else 1
abbrev tR (T : Nat → Nat) (g : GH) (m : Nat) (F : Nat → Int) (V : Nat → Int → Int) : Prop := bR 1 4 tLn tKd tFl T g m F V
/-! contracts over one block: nothing new, no other cell written -/
def BBi (ci K : Nat) (ln kd : Nat → Nat) (fl : Nat → (Nat → Int) → List Value) (D : va_G) (T N : Nat → Nat) (l : Launch) (y : MethodName) (ws : List Cond) (rm : Room) (m : Nat) (As : List Value) (F : Nat → Int) (V : Nat → Int → Int) (post : Int → (Nat → Int) → (Nat → Int → Int) → Prop) : Prop :=
  ∀ (g : GH) (n : Nat), bR ci K ln kd fl T g m F V → Met l y ws rm (gPc D T N As g n) (gQi D g n (fun r g' n' => n' = n ∧ ∃ F' V', bR ci K ln kd fl T g' m F' V' ∧ off g g' m K ∧ post r F' V')) 0 0 (gA g n)
def BBl (ci K : Nat) (ln kd : Nat → Nat) (fl : Nat → (Nat → Int) → List Value) (D : va_G) (T N : Nat → Nat) (l : Launch) (y : MethodName) (ws : List Cond) (rm : Room) (m : Nat) (As : List Value) (F : Nat → Int) (V : Nat → Int → Int) (post : Int → (Nat → Int) → (Nat → Int → Int) → Prop) : Prop :=
  ∀ (g : GH) (n : Nat), bR ci K ln kd fl T g m F V → Met l y ws rm (gPc D T N As g n) (gQl D g n (fun r g' n' => n' = n ∧ ∃ F' V', bR ci K ln kd fl T g' m F' V' ∧ off g g' m K ∧ post r F' V')) 0 0 (gA g n)
def BBv (ci K : Nat) (ln kd : Nat → Nat) (fl : Nat → (Nat → Int) → List Value) (D : va_G) (T N : Nat → Nat) (l : Launch) (y : MethodName) (ws : List Cond) (rm : Room) (m : Nat) (As : List Value) (F : Nat → Int) (V : Nat → Int → Int) (post : (Nat → Int) → (Nat → Int → Int) → Prop) : Prop :=
  ∀ (g : GH) (n : Nat), bR ci K ln kd fl T g m F V → Met l y ws rm (gPc D T N As g n) (gQv D g n (fun g' n' => n' = n ∧ ∃ F' V', bR ci K ln kd fl T g' m F' V' ∧ off g g' m K ∧ post F' V')) 0 0 (gA g n)
