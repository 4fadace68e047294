/-! A FIGHT's ODDS, as numbers: the order of turns, what a turn makes of a state, slot by slot -/
/-- k put into the order o of n, behind those as fast or faster -/
def insA (sp : Int → Int) (k : Int) (o : Int → Int) : Nat → Int → Int
  | 0 => uI o 0 k
  | n + 1 => if sp (o n) < sp k then insA sp k (uI o (n + 1) (o n)) n else uI o (n + 1) k
/-- the order of the first n slots' fighters, and how many -/
def ordA (who sp o : Int → Int) : Nat → (Int → Int) × Nat
  | 0 => (o, 0)
  | n + 1 => if who n = -1 then ordA who sp o n else (insA sp n (ordA who sp o n).1 (ordA who sp o n).2, (ordA who sp o n).2 + 1)
theorem insA_mem {sp : Int → Int} {k : Int} {P : Int → Prop} (hk : P k) : ∀ (n : Nat) (o : Int → Int), (∀ j : Int, 0 ≤ j → j < n → P (o j)) → ∀ j : Int, 0 ≤ j → j < n + 1 → P (insA sp k o n j)
  | 0, o, _, j, h1, h2 => by
    show P (uI o 0 k j)
    rw [show j = 0 by omega, uI_s]
    exact hk
  | n + 1, o, h, j, h1, h2 => by
    unfold insA
    split
    · rcases Decidable.em (j < n + 1) with q | q
      · refine insA_mem hk n _ (fun i a b => ?_) j h1 q
        rw [uI_n _ _ (by omega)]
        exact h i a (by omega)
      · have e : ∀ (m : Nat) (u : Int → Int), (m : Int) < j → insA sp k u m j = u j := by
          intro m
          induction m with
          | zero => intro u hm; show uI u 0 k j = u j; exact uI_n _ _ (by omega)
          | succ m ih =>
            intro u hm
            unfold insA
            split
            · rw [ih _ (by omega), uI_n _ _ (by omega)]
            · exact uI_n _ _ (by omega)
        rw [e n _ (by omega), show j = n + 1 by omega, uI_s]
        exact h n (by omega) (by omega)
    · unfold uI
      split
      · exact hk
      · exact h j h1 (by omega)
theorem ordA_ok {who sp o : Int → Int} : ∀ n : Nat, (ordA who sp o n).2 ≤ n ∧ ∀ j : Int, 0 ≤ j → j < (ordA who sp o n).2 → (0 ≤ (ordA who sp o n).1 j ∧ (ordA who sp o n).1 j < n) ∧ who ((ordA who sp o n).1 j) ≠ -1
  | 0 => ⟨Nat.le_refl 0, fun j h1 h2 => by exfalso; have : j < ((0 : Nat) : Int) := h2; omega⟩
  | n + 1 => by
    obtain ⟨h1, h2⟩ := ordA_ok (who := who) (sp := sp) (o := o) n
    unfold ordA
    split
    · exact ⟨by omega, fun j a b => ⟨⟨(h2 j a b).1.1, by have := (h2 j a b).1.2; omega⟩, (h2 j a b).2⟩⟩
    · rename_i q
      refine ⟨by show (ordA who sp o n).2 + 1 ≤ n + 1; omega, fun j a b => ?_⟩
      exact insA_mem (P := fun x => (0 ≤ x ∧ x < ((n + 1 : Nat) : Int)) ∧ who x ≠ -1) (sp := sp) (k := n) ⟨⟨by omega, by omega⟩, q⟩ _ _ (fun i c d => ⟨⟨(h2 i c d).1.1, by have := (h2 i c d).1.2; omega⟩, (h2 i c d).2⟩) j a (by have : j < (((ordA who sp o n).2 + 1 : Nat) : Int) := b; omega)
/-- of speeds and orders that agree where they count -/
theorem insA_cg {sp sp' : Int → Int} {k : Int} (hk : sp' k = sp k) : ∀ (n : Nat) (o o' : Int → Int), (∀ j : Int, 0 ≤ j → j < n → o' j = o j ∧ sp' (o j) = sp (o j)) → ∀ j : Int, 0 ≤ j → j < n + 1 → insA sp' k o' n j = insA sp k o n j
  | 0, o, o', _, j, h1, h2 => by
    show uI o' 0 k j = uI o 0 k j
    rw [show j = 0 by omega, uI_s, uI_s]
  | n + 1, o, o', h, j, h1, h2 => by
    have hn := h n (by omega) (by omega)
    unfold insA
    rw [hn.1, hn.2, hk]
    split
    · rcases Decidable.em (j < n + 1) with q | q
      · refine insA_cg hk n _ _ (fun i a b => ?_) j h1 q
        rw [uI_n _ _ (by omega), uI_n _ _ (by omega)]
        exact h i a (by omega)
      · have e : ∀ (s : Int → Int) (m : Nat) (u : Int → Int), (m : Int) < j → insA s k u m j = u j := by
          intro s m
          induction m with
          | zero => intro u hm; show uI u 0 k j = u j; exact uI_n _ _ (by omega)
          | succ m ih =>
            intro u hm
            unfold insA
            split
            · rw [ih _ (by omega), uI_n _ _ (by omega)]
            · exact uI_n _ _ (by omega)
        rw [e _ n _ (by omega), e _ n _ (by omega), show j = n + 1 by omega, uI_s, uI_s]
    · unfold uI
      split
      · rfl
      · exact (h j h1 (by omega)).1
theorem ordA_cg {who who' sp sp' o o' : Int → Int} : ∀ n : Nat, (∀ k : Int, 0 ≤ k → k < n → who' k = who k ∧ sp' k = sp k) → (ordA who' sp' o' n).2 = (ordA who sp o n).2 ∧ ∀ j : Int, 0 ≤ j → j < (ordA who sp o n).2 → (ordA who' sp' o' n).1 j = (ordA who sp o n).1 j
  | 0, _ => ⟨rfl, fun j h1 h2 => by exfalso; have : j < ((0 : Nat) : Int) := h2; omega⟩
  | n + 1, h => by
    obtain ⟨h1, h2⟩ := ordA_cg (who := who) (who' := who') (sp := sp) (sp' := sp') (o := o) (o' := o') n (fun k a b => h k a (by omega))
    have hn := h n (by omega) (by omega)
    have ok := ordA_ok (who := who) (sp := sp) (o := o) n
    unfold ordA
    rw [hn.1]
    split
    · exact ⟨h1, h2⟩
    · refine ⟨by show (ordA who' sp' o' n).2 + 1 = (ordA who sp o n).2 + 1; rw [h1], fun j a b => ?_⟩
      show insA sp' n (ordA who' sp' o' n).1 (ordA who' sp' o' n).2 j = _
      rw [h1]
      exact insA_cg hn.2 _ _ _ (fun i c d => ⟨h2 i c d, (h _ (ok.2 i c d).1.1 (by have := (ok.2 i c d).1.2; omega)).2⟩) j a (by have : j < (((ordA who sp o n).2 + 1 : Nat) : Int) := b; omega)
/-- six numbers as a function of the slot -/
def wh6 (a b c d e f k : Int) : Int := if k = 0 then a else if k = 1 then b else if k = 2 then c else if k = 3 then d else if k = 4 then e else if k = 5 then f else -1
/-- what a fight is made of. Rows: 0 kind, 1 full life, 2 hit, 3 force, 4 flee, by slots (0 where nobody stands); 5 the order of turns; 6: aim, who is startled, how many, rounds -/
def suF (num who : Int → Int) (bo aim st rounds r k : Int) : Int :=
  if r < 5 then (if who k = -1 then 0 else num (6 * who k + r) + (if r = 3 ∧ k < 3 then bo else 0))
  else if r = 5 then (ordA who (fun j => num (6 * who j + 5)) (fun _ => 0) 6).1 k
  else if k = 0 then aim else if k = 1 then st else if k = 2 then ((ordA who (fun j => num (6 * who j + 5)) (fun _ => 0) 6).2 : Int) else rounds
/-- at the start -/
def U0 (Su : Int → Int → Int) (k : Int) : Int := if Su 1 k = 0 then 0 else 1
def ag (f g : Int → Int) : Prop := ∀ k : Int, 0 ≤ k → k < 6 → f k = g k
theorem ag.rf {f : Int → Int} : ag f f := fun _ _ _ => rfl
theorem ag.sy {f g : Int → Int} (h : ag f g) : ag g f := fun k a b => (h k a b).symm
theorem ag.tr {f g h : Int → Int} (h1 : ag f g) (h2 : ag g h) : ag f h := fun k a b => (h1 k a b).trans (h2 k a b)
theorem ag.up {f g : Int → Int} (h : ag f g) (k x : Int) : ag (uI f k x) (uI g k x) := fun j a b => by
  unfold uI
  split
  · rfl
  · exact h j a b
theorem winF_cg {U U' : Int → Int} (h : ag U' U) : winF U' = winF U := by
  unfold winF
  rw [h 0 (by decide) (by decide), h 1 (by decide) (by decide), h 2 (by decide) (by decide), h 3 (by decide) (by decide), h 4 (by decide) (by decide), h 5 (by decide) (by decide)]
theorem tst_cg {L U L' U' : Int → Int} (hL : ag L' L) (hU : ag U' U) {ls o : Int} (ho : 0 ≤ o) : ∀ n : Nat, o + n ≤ 6 → tst L' U' ls o n = tst L U ls o n
  | 0, _ => rfl
  | n + 1, h => by
    have ih := tst_cg hL hU (ls := ls) ho n (by omega)
    have rg := tst_rg (L := L) (U := U) (ls := ls) (o := o) n
    show tstep L' U' ls (tst L' U' ls o n) (o + n) = tstep L U ls (tst L U ls o n) (o + n)
    rw [ih]
    generalize tst L U ls o n = b at rg ⊢
    unfold tstep
    rw [hU (o + n) (by omega) (by omega), hL (o + n) (by omega) (by omega)]
    rcases rg with q | q
    · subst q
      simp
    · rw [hL b (by omega) (by omega)]
theorem tgt_cg {L U L' U' : Int → Int} (hL : ag L' L) (hU : ag U' U) {ls o : Int} (ho : 0 ≤ o ∧ o ≤ 3) : tgt L' U' ls o = tgt L U ls o := tst_cg hL hU ho.1 3 (by omega)
theorem hu_cg {L U L' U' : Int → Int} (hL : ag L' L) (hU : ag U' U) {k b : Int} (hk : 0 ≤ k ∧ k < 6) : ag (huL L' k b) (huL L k b) ∧ ag (huU L' U' k b) (huU L U k b) := by
  unfold huL huU
  rw [hL k hk.1 hk.2]
  exact ⟨hL.up _ _, hU.up _ _⟩
theorem aS_cg {L U L' U' : Int → Int} (hL : ag L' L) (hU : ag U' U) {b o : Int} (ho : 0 ≤ o) : ∀ n : Nat, o + n ≤ 6 → ag (aSt b o (L', U') n).1 (aSt b o (L, U) n).1 ∧ ag (aSt b o (L', U') n).2 (aSt b o (L, U) n).2
  | 0, _ => ⟨hL, hU⟩
  | n + 1, h => by
    obtain ⟨h1, h2⟩ := aS_cg hL hU (b := b) ho n (by omega)
    show ag (aStep b (o + n) (aSt b o (L', U') n)).1 (aStep b (o + n) (aSt b o (L, U) n)).1 ∧ ag (aStep b (o + n) (aSt b o (L', U') n)).2 (aStep b (o + n) (aSt b o (L, U) n)).2
    unfold aStep
    rw [h2 (o + n) (by omega) (by omega)]
    split
    · exact hu_cg h1 h2 ⟨by omega, by omega⟩
    · exact ⟨h1, h2⟩
theorem hit_cg {L U L' U' full full' : Int → Int} (hL : ag L' L) (hU : ag U' U) {kd fo aim k : Int} (hk : 0 ≤ k ∧ k < 6) (hw : winF U = 2) (hf : ∀ j : Int, 0 ≤ j → j < 6 → U j ≠ 0 → full' j = full j) : ag (hitP kd fo aim full' L' U' k).1 (hitP kd fo aim full L U k).1 ∧ ag (hitP kd fo aim full' L' U' k).2 (hitP kd fo aim full L U k).2 := by
  have ho := otherF_rg k
  unfold hitP
  rw [tgt_cg hL hU (by omega), tgt_cg hL hU (o := 3 - otherF k) (by omega)]
  split
  · have := tgt2 (L := L) hw ho.1 (if aim = 1 then 1 else 0)
    exact hu_cg hL hU ⟨by omega, by omega⟩
  · split
    · exact aS_cg hL hU (by omega) 3 (by omega)
    · have := tgt2 (L := L) hw ho.2 1
      rw [hL _ (by omega) (by omega), hf _ (by omega) (by omega) this.2.2]
      exact ⟨hL.up _ _, hU⟩
theorem cLf_cg {f L U L' U' : Int → Int} (hL : ag L' L) (hU : ag U' U) {n : Int} : ∀ k : Nat, k ≤ 6 → cLf f L' U' n k = cLf f L U n k
  | 0, _ => rfl
  | k + 1, h => by
    show uI (cLf f L' U' n k) _ _ = uI (cLf f L U n k) _ _
    rw [cLf_cg hL hU k (by omega), hL k (by omega) (by omega), hU k (by omega) (by omega)]
/-- pointwise -/
theorem cLf_pt {f g L U : Int → Int} {n i : Int} (h : f i = g i) : ∀ k : Nat, cLf f L U n k i = cLf g L U n k i
  | 0 => h
  | k + 1 => by
    have ih := cLf_pt (L := L) (U := U) (n := n) h k
    show uI (cLf f L U n k) _ _ i = uI (cLf g L U n k) _ _ i
    unfold uI
    split
    · rename_i q
      rw [← q, ih]
    · exact ih
abbrev Ac3 : Type := (Int → Int) × (Int → Int) × (Int → Int)
abbrev Acc : Type := List (Int × Int) × Ac3
/-- what a turn makes of a state with w ways: states with their ways -/
def turnC (Su : Int → Int → Int) (k rd c w : Int) : List (Int × Int) :=
  if ufD c k = 0 ∨ (rd = 0 ∧ Su 6 1 = k / 3) then [(c, 6 * w)]
  else if lfD c k ≤ Su 4 k then [(pkF (lfD c) (uI (ufD c) k 0) 6, 6 * w)]
  else (if Su 2 k < 6 then [(c, (6 - Su 2 k) * w)] else []) ++ (if 0 < Su 2 k then [(pkF (hitP (Su 0 k) (Su 3 k) (Su 6 0) (Su 1) (lfD c) (ufD c) k).1 (hitP (Su 0 k) (Su 3 k) (Su 6 0) (Su 1) (lfD c) (ufD c) k).2 6, Su 2 k * w)] else [])
def cnt3 (z : Ac3) (e rd n : Int) (L U : Int → Int) : Ac3 := (uI z.1 e (z.1 e + n), (if e < 2 then uI z.2.1 rd (z.2.1 rd + n) else z.2.1), cLf z.2.2 L U n 6)
def absorb (rd rest : Int) (a : Acc) (x : Int × Int) : Acc :=
  if winF (ufD x.1) < 2 then (a.1, cnt3 a.2 (winF (ufD x.1)) (rd + 1) (x.2 * rest) (lfD x.1) (ufD x.1)) else (insN a.1 x.1 x.2, a.2)
def stepS (Su : Int → Int → Int) (k rd rest : Int) (a : Acc) (s : Int × Int) : Acc := (turnC Su k rd s.1 s.2).foldl (absorb rd rest) a
def slotA (Su : Int → Int → Int) (k rd rest : Int) (z : Ac3) (S : List (Int × Int)) : Acc := S.foldl (stepS Su k rd rest) ([], z)
def evo (Su : Int → Int → Int) (sl : Int) (z : Ac3) : Nat → Acc
  | 0 => ([(pkF (Su 1) (U0 Su) 6, 1)], z)
  | t + 1 => slotA Su (Su 5 (t % Su 6 2)) (t / Su 6 2) (6 ^ (sl - 1 - t).toNat) (evo Su sl z t).2 (evo Su sl z t).1
def z3 : Ac3 := (fun _ => 0, fun _ => 0, fun _ => 0)
def fin3 (z : Ac3) (x : Int × Int) : Ac3 := cnt3 z 2 0 x.2 (lfD x.1) (ufD x.1)
/-- all that comes of a fight of sl slots -/
def resZ (Su : Int → Int → Int) (sl : Int) (z : Ac3) : Ac3 :=
  if winF (U0 Su) < 2 then cnt3 z (winF (U0 Su)) 0 (6 ^ sl.toNat) (Su 1) (U0 Su) else (evo Su sl z sl.toNat).1.foldl fin3 (evo Su sl z sl.toNat).2
def wdF (Su : Int → Int → Int) (sl : Int) : Nat → Int
  | 0 => 0
  | t + 1 => if wdF Su sl t < ((evo Su sl z3 t).1.length : Int) then ((evo Su sl z3 t).1.length : Int) else wdF Su sl t
def widestF (Su : Int → Int → Int) (sl : Int) : Int := if winF (U0 Su) < 2 then 0 else wdF Su sl sl.toNat
def wideP (Su : Int → Int → Int) (sl : Int) : Prop := 22 < sl ∨ (winF (U0 Su) = 2 ∧ ∃ t : Nat, (t : Int) + 1 < sl ∧ 400 < (evo Su sl z3 (t + 1)).1.length)
/-- a fight in order -/
def okSu (Su : Int → Int → Int) : Prop :=
  (∀ k : Int, 0 ≤ k → k < 6 → (0 ≤ Su 0 k ∧ Su 0 k ≤ 2) ∧ (0 ≤ Su 1 k ∧ Su 1 k ≤ 20) ∧ (0 ≤ Su 2 k ∧ Su 2 k ≤ 6) ∧ (0 ≤ Su 3 k ∧ Su 3 k ≤ 29) ∧ (0 ≤ Su 4 k ∧ Su 4 k ≤ 19)) ∧
  (0 ≤ Su 6 2 ∧ Su 6 2 ≤ 6) ∧ (∀ j : Int, 0 ≤ j → j < Su 6 2 → (0 ≤ Su 5 j ∧ Su 5 j < 6) ∧ Su 1 (Su 5 j) ≠ 0)
/-- a state in order -/
def vC (Su : Int → Int → Int) (x : Int) : Prop :=
  (0 ≤ x ∧ x < 68719476736) ∧ okS (lfD x) (ufD x) ∧ pkF (lfD x) (ufD x) 6 = x ∧ ∀ k : Int, 0 ≤ k → k < 6 → Su 1 k = 0 → lfD x k = 0 ∧ ufD x k = 0
theorem vC_pk {Su : Int → Int → Int} {L U : Int → Int} (h : okS L U) (hp : ∀ k : Int, 0 ≤ k → k < 6 → Su 1 k = 0 → L k = 0 ∧ U k = 0) : vC Su (pkF L U 6) := by
  have hu := fun k (a : 0 ≤ k) (b : k < 6) => pk_unpk h (k := k) ⟨a, b⟩
  have rg := pk_rg h (i := 6) (by omega)
  refine ⟨⟨rg.1, rg.2.1⟩, fun k a b => ?_, pkF_cg 6 (fun k a b => hu k a b), fun k a b c => ?_⟩
  · rw [(hu k a b).1, (hu k a b).2]
    exact h k a b
  · rw [(hu k a b).1, (hu k a b).2]
    exact hp k a b c
theorem pk_ag {L U : Int → Int} (h : okS L U) : ag (lfD (pkF L U 6)) L ∧ ag (ufD (pkF L U 6)) U := ⟨fun k a b => (pk_unpk h ⟨a, b⟩).1, fun k a b => (pk_unpk h ⟨a, b⟩).2⟩
theorem absorb_pk {rd rest n : Int} {a : Acc} {L U : Int → Int} (h : okS L U) : absorb rd rest a (pkF L U 6, n) = if winF U < 2 then (a.1, cnt3 a.2 (winF U) (rd + 1) (n * rest) L U) else (insN a.1 (pkF L U 6) n, a.2) := by
  obtain ⟨h1, h2⟩ := pk_ag h
  unfold absorb cnt3
  dsimp only
  rw [winF_cg h2, cLf_cg h1 h2 6 (Nat.le_refl 6)]
theorem absorb_c {Su : Int → Int → Int} {rd rest n c : Int} {a : Acc} (h : winF (ufD c) = 2) : absorb rd rest a (c, n) = (insN a.1 c n, a.2) := by
  unfold absorb
  rw [if_neg (by dsimp only; omega)]
/-- a hit keeps absent ones as they are -/
theorem hit_absent {Su : Int → Int → Int} {L U : Int → Int} {kd fo aim k : Int} (h : ∀ j : Int, 0 ≤ j → j < 6 → Su 1 j = 0 → L j = 0 ∧ U j = 0) (hw : winF U = 2) (hk : 0 ≤ k ∧ k < 6) (j : Int) (h1 : 0 ≤ j) (h2 : j < 6) (h3 : Su 1 j = 0) : (hitP kd fo aim (Su 1) L U k).1 j = 0 ∧ (hitP kd fo aim (Su 1) L U k).2 j = 0 := by
  have ho := otherF_rg k
  have hj := h j h1 h2 h3
  unfold hitP
  split
  · have ht := tgt2 (L := L) hw ho.1 (if aim = 1 then 1 else 0)
    have : j ≠ tgt L U (if aim = 1 then 1 else 0) (otherF k) := fun q => ht.2.2 (by rw [← q]; exact hj.2)
    unfold huL huU
    dsimp only
    rw [uI_n _ _ this, uI_n _ _ this]
    exact hj
  · split
    · have : ∀ n : Nat, (aSt fo (otherF k) (L, U) n).1 j = 0 ∧ (aSt fo (otherF k) (L, U) n).2 j = 0 := by
        intro n
        induction n with
        | zero => exact hj
        | succ n ih =>
          show (aStep fo (otherF k + n) (aSt fo (otherF k) (L, U) n)).1 j = 0 ∧ (aStep fo (otherF k + n) (aSt fo (otherF k) (L, U) n)).2 j = 0
          unfold aStep
          split
          · rename_i q
            have : j ≠ otherF k + n := fun z => q (by rw [← z]; exact ih.2)
            unfold huL huU
            dsimp only
            rw [uI_n _ _ this, uI_n _ _ this]
            exact ih
          · exact ih
      exact this 3
    · have ht := tgt2 (L := L) hw ho.2 1
      have : j ≠ tgt L U 1 (3 - otherF k) := fun q => ht.2.2 (by rw [← q]; exact hj.2)
      dsimp only
      rw [uI_n _ _ this]
      exact hj
theorem turnC_ok {Su : Int → Int → Int} (hS : okSu Su) {k rd c w : Int} (hk : 0 ≤ k ∧ k < 6) (hc : vC Su c) (hw : winF (ufD c) = 2) : ∀ x ∈ turnC Su k rd c w, vC Su x.1 := by
  intro x hx
  unfold turnC at hx
  have hk5 := hS.1 k hk.1 hk.2
  rcases Classical.em (ufD c k = 0 ∨ (rd = 0 ∧ Su 6 1 = k / 3)) with q | q
  · rw [if_pos q] at hx
    simp at hx
    rw [hx]
    exact hc
  · rw [if_neg q] at hx
    rcases Classical.em (lfD c k ≤ Su 4 k) with q2 | q2
    · rw [if_pos q2] at hx
      simp at hx
      rw [hx]
      refine vC_pk (fun j a b => ?_) (fun j a b d => ?_)
      · have := hc.2.1 j a b
        unfold uI
        split
        · exact ⟨this.1, Or.inl rfl⟩
        · exact this
      · have := hc.2.2.2 j a b d
        unfold uI
        split
        · exact ⟨this.1, rfl⟩
        · exact this
    · rw [if_neg q2] at hx
      rcases List.mem_append.mp hx with hx | hx
      · split at hx
        · simp at hx
          rw [hx]
          exact hc
        · simp at hx
      · split at hx
        · simp at hx
          rw [hx]
          refine vC_pk (okS.hit hc.2.1 (by omega) (fun j a b d => ?_) hk (fun z => q (Or.inl z))) (hit_absent hc.2.2.2 hw hk)
          exact (hS.1 j a b).2.1
        · simp at hx
/-- rows of states in order, all of them going on -/
def okN (Su : Int → Int → Int) (N : List (Int × Int)) : Prop := ∀ x ∈ N, vC Su x.1 ∧ winF (ufD x.1) = 2
theorem okN.ins {Su : Int → Int → Int} {N : List (Int × Int)} (h : okN Su N) {c n : Int} (hc : vC Su c) (hw : winF (ufD c) = 2) : okN Su (insN N c n) := by
  intro x hx
  rcases insN_mem hx with q | ⟨y, hy, q⟩
  · rw [q]
    exact ⟨hc, hw⟩
  · rw [← q]
    exact h y hy
theorem okN.abs {Su : Int → Int → Int} {a : Acc} (h : okN Su a.1) {rd rest : Int} {x : Int × Int} (hc : vC Su x.1) : okN Su (absorb rd rest a x).1 := by
  unfold absorb
  split
  · exact h
  · have := winF_rg (ufD x.1)
    exact h.ins hc (by omega)
theorem okN.fold {Su : Int → Int → Int} {rd rest : Int} : ∀ (X : List (Int × Int)) (a : Acc), okN Su a.1 → (∀ x ∈ X, vC Su x.1) → okN Su (X.foldl (absorb rd rest) a).1
  | [], a, h, _ => h
  | x :: X, a, h, hx => okN.fold X _ (h.abs (hx x List.mem_cons_self)) (fun y hy => hx y (List.mem_cons_of_mem _ hy))
theorem okN.step {Su : Int → Int → Int} (hS : okSu Su) {k rd rest : Int} (hk : 0 ≤ k ∧ k < 6) {a : Acc} (h : okN Su a.1) {s : Int × Int} (hs : vC Su s.1 ∧ winF (ufD s.1) = 2) : okN Su (stepS Su k rd rest a s).1 :=
  okN.fold _ _ h (turnC_ok hS hk hs.1 hs.2)
theorem okN.slot {Su : Int → Int → Int} (hS : okSu Su) {k rd rest : Int} (hk : 0 ≤ k ∧ k < 6) : ∀ (S : List (Int × Int)) (a : Acc), okN Su S → okN Su a.1 → okN Su (S.foldl (stepS Su k rd rest) a).1
  | [], a, _, h => h
  | s :: S, a, hs, h => okN.slot hS hk S _ (fun x hx => hs x (List.mem_cons_of_mem _ hx)) (okN.step hS hk h (hs s List.mem_cons_self))
theorem okSu.turn {Su : Int → Int → Int} (hS : okSu Su) {t : Int} (ht : 0 ≤ t) (hm : 0 < Su 6 2) : 0 ≤ Su 5 (t % Su 6 2) ∧ Su 5 (t % Su 6 2) < 6 :=
  (hS.2.2 (t % Su 6 2) (Int.emod_nonneg _ (by omega)) (Int.emod_lt_of_pos _ hm)).1
theorem okN.evo {Su : Int → Int → Int} (hS : okSu Su) (hm : 0 < Su 6 2) (hw : winF (U0 Su) = 2) {sl : Int} {z : Ac3} : ∀ t : Nat, okN Su (evo Su sl z t).1
  | 0 => by
    have h0 : okS (Su 1) (U0 Su) := fun k a b => ⟨(hS.1 k a b).2.1, by unfold U0; split <;> omega⟩
    intro x hx
    have : x = (pkF (Su 1) (U0 Su) 6, 1) := by
      have : x ∈ [(pkF (Su 1) (U0 Su) 6, (1 : Int))] := hx
      simpa using this
    rw [this]
    exact ⟨vC_pk h0 (fun k a b c => ⟨c, by unfold U0; rw [if_pos c]⟩), by rw [winF_cg (pk_ag h0).2]; exact hw⟩
  | t + 1 => okN.slot hS (hS.turn (by omega) hm) _ _ (okN.evo hS hm hw t) (fun x hx => by cases hx)
