/-! ROWS: Math, Object's constructor, the kinds of fighters; A FIGHT in cells 201 .. 211, its own numbers (compact: fighters in a row, heroes first) -/
def maxF (a b : Int) : Int := if a < b then b else a
def minF (a b : Int) : Int := if b < a then b else a
section FR
variable {p : Program} {l : Launch} {e : Env} {R : Room} {s : State} {m : MethodId} {args : Array Value} {below : List Frame} {meth : Method} {c : Code} {H : Heap} {locs : List Loc} {cells slots : Nat} {Q : State → Prop}
variable {cc : ByteArray} {pc : Nat} {ls : Array Slot} {rest : List Value} {D : va_G} {T N : Nat → Nat} {A : Nat → Prop} {g : GH} {n nL : Nat} {own : String}
theorem j_mmax (hC : Ct D T N A p s m args c cc own nL) {index : Nat} (hlink : (Cond.methodLink own index ⟨"java/lang/Math", "max", "(II)I"⟩) ∈ lw_all) (hsz : ls.size = nL) (hframes : 1 ≤ R.frames) (hlocals : (rest.map fun v => v.category).sum + 13 ≤ R.locals) (hc : cells ≤ R.cells) (hs : slots ≤ R.slots) {a b : Int} (h : -2147483648 ≤ a ∧ a ≤ 2147483647 ∧ -2147483648 ≤ b ∧ b ≤ 2147483647) (hdg : decode cc pc = .ok (.invokestatic index, 3))
    (kk : W p l e R s m args below meth c H locs cells slots Q (F0 m (pc + 3) ls (.int (iI (maxF a b)) :: rest))) : W p l e R s m args below meth c H locs cells slots Q (F0 m pc ls (.int (iI b) :: .int (iI a) :: rest)) :=
  va_mmax hC.x hC.b (hC.ml.trans hsz.symm) hC.ow (hC.ts _ hlink) (hC.ts _ q389) (hC.ts _ q50) (hC.ts _ q390) hframes hlocals hc hs hdg (by
    have : (if iI a < iI b then iI b else iI a) = iI (maxF a b) := by
      unfold maxF
      by_cases q : a < b
      · rw [if_pos q, if_pos ((iI_lt h).mpr q)]
      · rw [if_neg q, if_neg (fun z => q ((iI_lt h).mp z))]
    rw [this]
    exact kk)
theorem j_mmin (hC : Ct D T N A p s m args c cc own nL) {index : Nat} (hlink : (Cond.methodLink own index ⟨"java/lang/Math", "min", "(II)I"⟩) ∈ lw_all) (hsz : ls.size = nL) (hframes : 1 ≤ R.frames) (hlocals : (rest.map fun v => v.category).sum + 13 ≤ R.locals) (hc : cells ≤ R.cells) (hs : slots ≤ R.slots) {a b : Int} (h : -2147483648 ≤ a ∧ a ≤ 2147483647 ∧ -2147483648 ≤ b ∧ b ≤ 2147483647) (hdg : decode cc pc = .ok (.invokestatic index, 3))
    (kk : W p l e R s m args below meth c H locs cells slots Q (F0 m (pc + 3) ls (.int (iI (minF a b)) :: rest))) : W p l e R s m args below meth c H locs cells slots Q (F0 m pc ls (.int (iI b) :: .int (iI a) :: rest)) :=
  va_mmin hC.x hC.b (hC.ml.trans hsz.symm) hC.ow (hC.ts _ hlink) (hC.ts _ q425) (hC.ts _ q50) (hC.ts _ q426) hframes hlocals hc hs hdg (by
    have : (if iI b < iI a then iI b else iI a) = iI (minF a b) := by
      unfold minF
      by_cases q : b < a
      · rw [if_pos q, if_pos ((iI_lt (by omega)).mpr q)]
      · rw [if_neg q, if_neg (fun z => q ((iI_lt (by omega)).mp z))]
    rw [this]
    exact kk)
theorem j_objInit (hC : Ct D T N A p s m args c cc own nL) {index : Nat} (hlink : (Cond.methodLink own index ⟨"java/lang/Object", "<init>", "()V"⟩) ∈ lw_all) (hsz : ls.size = nL) (hframes : 1 ≤ R.frames) (hlocals : 2 * 0 + (rest.map fun v => v.category).sum + 12 ≤ R.locals) {a : Nat} (hdg : decode cc pc = .ok (.invokespecial index, 3))
    (kk : W p l e R s m args below meth c H locs cells slots Q (F0 m (pc + 3) ls rest)) : W p l e R s m args below meth c H locs cells slots Q (F0 m pc ls (.ref a :: rest)) :=
  W.objInit hC.x hC.b hC.ow (hC.ts _ hlink) (hC.ts _ q74) (hC.ts _ q75) rfl (hsz.trans hC.ml.symm) rfl hdg hframes hlocals kk
theorem j_kinds (hC : Ct D T N A p s m args c cc own nL) (hX : Wd D A s g n H locs) {index : Nat} {host : String} (hlink : (Cond.fieldLinkNest own index "FairFight" "KINDS" "[LFairFight$Kind;" host) ∈ lw_tbl) (hdg : decode cc pc = .ok (.getstatic index, 3))
    (kk : W p l e R s m args below meth c H locs cells slots Q (F0 m (pc + 3) ls (.ref (N 0) :: rest))) : W p l e R s m args below meth c H locs cells slots Q (F0 m pc ls rest) :=
  va_getsN hC.x hC.b hC.Z.1 hX.2.2.2.1 hC.ow (hC.W.u hlink rfl rfl) (fun _ z => z) hdg kk
theorem j_kind (hC : Ct D T N A p s m args c cc own nL) (hX : Wd D A s g n H locs) {i : Int} (h : 0 ≤ i ∧ i < 3) (hdg : decode cc pc = .ok (.aaload, 1))
    (kk : W p l e R s m args below meth c H locs cells slots Q (F0 m (pc + 1) ls (.ref (N (1 + i.toNat)) :: rest))) : W p l e R s m args below meth c H locs cells slots Q (F0 m pc ls (.int (iI i) :: .ref (N 0) :: rest)) :=
  vb_tq hC.x hC.b hC.Z.2.1 hX.2.2.2.1 (iI_in (by omega)) (by show Value.ref (N (1 + (iI i).toNatClampNeg)) = _; rw [iI_nat (by omega) (by omega)]) hdg kk
theorem j_preO (hC : Ct D T N A p s m args c cc own nL) (hX : Wd D A s g n H locs) {E : String} {t : Nat} (hO : va_O E t A s s.heap) (av : List Value) : PreV s H E t (gPc D T N (.ref t :: av) g n) av :=
  ⟨gPc_blind, by obtain ⟨cell, h1, h2, h3, h4⟩ := hO.kept hX.2.2.2.1.2.1; exact ⟨cell, h1, h2, h3⟩, j_pre hC hX (.ref t :: av)⟩
end FR
theorem lw_U {own : String} {idx : Nat} {C owner : String} {x y : MethodName} {b : ByteArray} {L : Nat} {r : Option FieldType} (h1 : Cond.methodLink own idx x ∈ lw_all) (h2 : Cond.sameMethod x.cls owner x.name x.desc ∈ lw_all) (h3 : Cond.selects C x y ∈ lw_all) (h4 : Cond.instanceMethod y ∈ lw_all) (h5 : Cond.initialized y.cls ∈ lw_all) (h6 : Cond.code y b L r ∈ lw_all) : GoodIn lw_all (va_wsU own idx C owner x y (ws_ y b L r)) := by
  refine lw_app ?_ (lw_meth h6)
  intro w hw
  simp only [List.mem_cons, List.not_mem_nil, or_false] at hw
  rcases hw with e | e | e | e | e <;> rw [e] <;> assumption
/-- a fight as it was set up -/
def fS (S : LbS) (Z : Nat → Int → Int) : Prop :=
  shp S [201, 202, 203, 204, 205, 206, 207, 208, 209, 210, 211] ∧ (∀ i : Nat, 2 ≤ i → i < 12 → zA S 201 (i : Int) = some (zB S (200 + i))) ∧ (0 ≤ Z 201 0 ∧ Z 201 0 ≤ 6) ∧ (0 ≤ Z 201 1 ∧ Z 201 1 ≤ 1) ∧
  ∀ k : Int, 0 ≤ k → k < Z 201 0 → (0 ≤ Z 202 k ∧ Z 202 k ≤ 1) ∧ (0 ≤ Z 203 k ∧ Z 203 k ≤ 2) ∧ (0 ≤ Z 204 k ∧ Z 204 k ≤ 2) ∧ (0 ≤ Z 205 k ∧ Z 205 k ≤ 20) ∧ (0 ≤ Z 206 k ∧ Z 206 k ≤ 6) ∧ (0 ≤ Z 207 k ∧ Z 207 k ≤ 29) ∧ (0 ≤ Z 208 k ∧ Z 208 k ≤ 19) ∧ (0 ≤ Z 209 k ∧ Z 209 k < Z 201 0)
/-- .. its state -/
def fL (Z : Nat → Int → Int) : Prop := ∀ k : Int, 0 ≤ k → k < Z 201 0 → (0 ≤ Z 210 k ∧ Z 210 k ≤ 31) ∧ (Z 211 k = 0 ∨ Z 211 k = 1)
theorem fS.sh {S : LbS} {Z : Nat → Int → Int} (h : fS S Z) : shp S [201, 202, 203, 204, 205, 206, 207, 208, 209, 210, 211] := h.1
theorem fS.r {S : LbS} {Z : Nat → Int → Int} (h : fS S Z) (i : Nat) (hi : 2 ≤ i ∧ i < 12) : zA S 201 (i : Int) = some (zB S (200 + i)) := h.2.1 i hi.1 hi.2
theorem fS.n {S : LbS} {Z : Nat → Int → Int} (h : fS S Z) : 0 ≤ Z 201 0 ∧ Z 201 0 ≤ 6 := h.2.2.1
theorem fS.aim {S : LbS} {Z : Nat → Int → Int} (h : fS S Z) : 0 ≤ Z 201 1 ∧ Z 201 1 ≤ 1 := h.2.2.2.1
theorem fS.at {S : LbS} {Z : Nat → Int → Int} (h : fS S Z) {k : Int} (hk : 0 ≤ k ∧ k < Z 201 0) : (0 ≤ Z 202 k ∧ Z 202 k ≤ 1) ∧ (0 ≤ Z 203 k ∧ Z 203 k ≤ 2) ∧ (0 ≤ Z 204 k ∧ Z 204 k ≤ 2) ∧ (0 ≤ Z 205 k ∧ Z 205 k ≤ 20) ∧ (0 ≤ Z 206 k ∧ Z 206 k ≤ 6) ∧ (0 ≤ Z 207 k ∧ Z 207 k ≤ 29) ∧ (0 ≤ Z 208 k ∧ Z 208 k ≤ 19) ∧ (0 ≤ Z 209 k ∧ Z 209 k < Z 201 0) := h.2.2.2.2 k hk.1 hk.2
theorem fS.ch {S : LbS} {Z Z' : Nat → Int → Int} (h : fS S Z) {ks : List Nat} (hc : ch Z Z' ks) (hk : (!ks.contains 201 && !ks.contains 202 && !ks.contains 203 && !ks.contains 204 && !ks.contains 205 && !ks.contains 206 && !ks.contains 207 && !ks.contains 208 && !ks.contains 209) = true) : fS S Z' := by
  simp at hk
  unfold fS at h ⊢
  rw [hc 201 (by simp [hk]), hc 202 (by simp [hk]), hc 203 (by simp [hk]), hc 204 (by simp [hk]), hc 205 (by simp [hk]), hc 206 (by simp [hk]), hc 207 (by simp [hk]), hc 208 (by simp [hk]), hc 209 (by simp [hk])]
  exact h
/-- .. another world with the same names for it -/
theorem fS.sm {S S' : LbS} {Z : Nat → Int → Int} (h : fS S Z) {ks : List Nat} (hs : sm S S' ks) (hk : (([201, 202, 203, 204, 205, 206, 207, 208, 209, 210, 211] : List Nat).all (fun k => !ks.contains k)) = true) : fS S' Z := by
  refine ⟨h.1.sm hs hk, fun i h1 h2 => ?_, h.2.2⟩
  have hk' := List.all_eq_true.mp hk
  have m1 : (201 : Nat) ∉ ks := by have := hk' 201 (by decide); simpa using this
  have m2 : 200 + i ∉ ks := by
    have hm : 200 + i ∈ ([201, 202, 203, 204, 205, 206, 207, 208, 209, 210, 211] : List Nat) := by
      have : i = 2 ∨ i = 3 ∨ i = 4 ∨ i = 5 ∨ i = 6 ∨ i = 7 ∨ i = 8 ∨ i = 9 ∨ i = 10 ∨ i = 11 := by omega
      rcases this with rfl | rfl | rfl | rfl | rfl | rfl | rfl | rfl | rfl | rfl <;> decide
    have := hk' _ hm
    simpa using this
  rw [(hs 201 m1).2.2.2, (hs _ m2).1]
  exact h.2.1 i h1 h2
/-! the fight's own numbers -/
def thF (U sd : Int → Int) (s : Int) : Nat → Int
  | 0 => 0
  | n + 1 => if thF U sd s n = 1 then 1 else if U n ≠ 0 ∧ sd n = s then 1 else 0
theorem thF_01 {U sd : Int → Int} {s : Int} : ∀ n : Nat, (thF U sd s n = 1 ∧ ∃ k : Int, 0 ≤ k ∧ k < n ∧ U k ≠ 0 ∧ sd k = s) ∨ (thF U sd s n = 0 ∧ ∀ k : Int, 0 ≤ k → k < n → ¬ (U k ≠ 0 ∧ sd k = s))
  | 0 => Or.inr ⟨rfl, fun k a b => by omega⟩
  | n + 1 => by
    unfold thF
    rcases thF_01 (U := U) (sd := sd) (s := s) n with ⟨h1, k, a, b, c⟩ | ⟨h1, h2⟩
    · rw [if_pos h1]
      exact Or.inl ⟨rfl, k, a, by omega, c⟩
    · rw [if_neg (by omega)]
      split
      · rename_i q
        exact Or.inl ⟨rfl, n, by omega, by omega, q⟩
      · rename_i q
        refine Or.inr ⟨rfl, fun k a b => ?_⟩
        rcases Decidable.em (k = n) with z | z
        · rw [z]; exact q
        · exact h2 k a (by omega)
def enF (U sd : Int → Int) (n : Nat) : Int := if thF U sd 0 n = 0 then 1 else if thF U sd 1 n = 0 then 0 else -1
/-- the best of a side: the first that is up, or of the least life -/
def cbF (L U sd : Int → Int) (t ls : Int) : Nat → Int
  | 0 => -1
  | n + 1 => if sd n = t then tstep L U ls (cbF L U sd t ls n) n else cbF L U sd t ls n
theorem cbF_rg {L U sd : Int → Int} {t ls : Int} : ∀ n : Nat, -1 ≤ cbF L U sd t ls n ∧ cbF L U sd t ls n < n
  | 0 => by show -1 ≤ (-1 : Int) ∧ (-1 : Int) < ((0 : Nat) : Int); omega
  | n + 1 => by
    have ih := cbF_rg (L := L) (U := U) (sd := sd) (t := t) (ls := ls) n
    unfold cbF tstep
    split
    · split <;> omega
    · omega
theorem cbF_some {L U sd : Int → Int} {t ls : Int} : ∀ n : Nat, thF U sd t n = 1 → 0 ≤ cbF L U sd t ls n
  | 0, h => by exact absurd h (by show ¬ (0 : Int) = 1; decide)
  | n + 1, h => by
    have ih := cbF_some (L := L) (U := U) (sd := sd) (t := t) (ls := ls) n
    have rg := cbF_rg (L := L) (U := U) (sd := sd) (t := t) (ls := ls) n
    unfold thF at h
    unfold cbF tstep
    split at h
    · rename_i q
      have := ih q
      split
      · split <;> omega
      · exact this
    · split at h
      · rename_i q
        rw [if_pos q.2]
        split
        · omega
        · rename_i z
          rcases Decidable.em (cbF L U sd t ls n = -1) with y | y
          · exact absurd ⟨q.1, Or.inl y⟩ z
          · omega
      · omega
def caF (sd : Int → Int) (t b : Int) (P : (Int → Int) × (Int → Int)) : Nat → (Int → Int) × (Int → Int)
  | 0 => P
  | n + 1 => if sd n = t then aStep b n (caF sd t b P n) else caF sd t b P n
/-- a hit -/
def chF (kd fo aim : Int) (full sd L U : Int → Int) (w : Int) (n : Nat) : (Int → Int) × (Int → Int) :=
  if kd = 0 then (huL L (cbF L U sd (1 - sd w) (if aim = 1 then 1 else 0) n) fo, huU L U (cbF L U sd (1 - sd w) (if aim = 1 then 1 else 0) n) fo)
  else if kd = 1 then caF sd (1 - sd w) fo (L, U) n
  else (uI L (cbF L U sd (sd w) 1 n) (minF (full (cbF L U sd (sd w) 1 n)) (L (cbF L U sd (sd w) 1 n) + fo)), U)
