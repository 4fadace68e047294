/-! BASE: whole numbers as Int; the world as a map from addresses to cells; rows over it -/
def iI (z : Int) : Int32 := Int32.ofInt z
def lI (z : Int) : Int64 := Int64.ofInt z
theorem iI_add (a b : Int) : iI a + iI b = iI (a + b) := (Int32.ofInt_add a b).symm
theorem iI_sub (a b : Int) : iI a - iI b = iI (a - b) := (Int32.ofInt_sub a b).symm
theorem iI_mul (a b : Int) : iI a * iI b = iI (a * b) := (Int32.ofInt_mul a b).symm
theorem iI_neg (a : Int) : - iI a = iI (-a) := (Int32.ofInt_neg a).symm
theorem iI_toInt {z : Int} (h1 : -2147483648 ≤ z) (h2 : z ≤ 2147483647) : (iI z).toInt = z := Int32.toInt_ofInt_of_le (by omega) (by omega)
theorem iI_self (x : Int32) : iI x.toInt = x := Int32.ofInt_toInt x
theorem iI_rg (x : Int32) : -2147483648 ≤ x.toInt ∧ x.toInt ≤ 2147483647 := by
  have h1 := Int32.le_toInt x
  have h2 := Int32.toInt_lt x
  omega
theorem iI_eq {a b : Int} (h : -2147483648 ≤ a ∧ a ≤ 2147483647 ∧ -2147483648 ≤ b ∧ b ≤ 2147483647) : iI a = iI b ↔ a = b :=
  ⟨fun q => by rw [← iI_toInt h.1 h.2.1, q, iI_toInt h.2.2.1 h.2.2.2], fun q => by rw [q]⟩
theorem iI_lt {a b : Int} (h : -2147483648 ≤ a ∧ a ≤ 2147483647 ∧ -2147483648 ≤ b ∧ b ≤ 2147483647) : iI a < iI b ↔ a < b := by
  rw [Int32.lt_iff_toInt_lt, iI_toInt h.1 h.2.1, iI_toInt h.2.2.1 h.2.2.2]
theorem iI_le {a b : Int} (h : -2147483648 ≤ a ∧ a ≤ 2147483647 ∧ -2147483648 ≤ b ∧ b ≤ 2147483647) : iI a ≤ iI b ↔ a ≤ b := by
  rw [Int32.le_iff_toInt_le, iI_toInt h.1 h.2.1, iI_toInt h.2.2.1 h.2.2.2]
theorem iI_nat {z : Int} (h1 : 0 ≤ z) (h2 : z ≤ 2147483647) : (iI z).toNatClampNeg = z.toNat := Int32.toNatClampNeg_ofInt_of_le (by omega) (by omega)
theorem iI_ofNat (n : Nat) : iI (n : Int) = Int32.ofNat n := Int32.ofInt_eq_ofNat
theorem iI_in {z : Int} {n : Nat} (h : 0 ≤ z ∧ z < n ∧ (n : Int) ≤ 2147483648) : vp_in (iI z) n := by
  rintro (q | q)
  · have := (iI_lt (a := z) (b := 0) (by omega)).mp q
    omega
  · rw [iI_nat h.1 (by omega)] at q
    omega
theorem lI_add (a b : Int) : lI a + lI b = lI (a + b) := (Int64.ofInt_add a b).symm
theorem lI_sub (a b : Int) : lI a - lI b = lI (a - b) := (Int64.ofInt_sub a b).symm
theorem lI_mul (a b : Int) : lI a * lI b = lI (a * b) := (Int64.ofInt_mul a b).symm
theorem lI_toInt {z : Int} (h1 : -9223372036854775808 ≤ z) (h2 : z ≤ 9223372036854775807) : (lI z).toInt = z := Int64.toInt_ofInt_of_le (by omega) (by omega)
theorem lI_self (x : Int64) : lI x.toInt = x := Int64.ofInt_toInt x
theorem lI_eq {a b : Int} (h : -9223372036854775808 ≤ a ∧ a ≤ 9223372036854775807 ∧ -9223372036854775808 ≤ b ∧ b ≤ 9223372036854775807) : lI a = lI b ↔ a = b :=
  ⟨fun q => by rw [← lI_toInt h.1 h.2.1, q, lI_toInt h.2.2.1 h.2.2.2], fun q => by rw [q]⟩
theorem lI_lt {a b : Int} (h : -9223372036854775808 ≤ a ∧ a ≤ 9223372036854775807 ∧ -9223372036854775808 ≤ b ∧ b ≤ 9223372036854775807) : lI a < lI b ↔ a < b := by
  rw [Int64.lt_iff_toInt_lt, lI_toInt h.1 h.2.1, lI_toInt h.2.2.1 h.2.2.2]
theorem iI_l {z : Int} (h1 : -2147483648 ≤ z) (h2 : z ≤ 2147483647) : (iI z).toInt64 = lI z := by
  apply Int64.toInt_inj.mp
  rw [Int32.toInt_toInt64, iI_toInt h1 h2, lI_toInt (by omega) (by omega)]
theorem lI_i (z : Int) : (lI z).toInt32 = iI z := Int64.toInt32_ofInt
/-- arrays of ints and of longs, by Int-valued functions -/
def vI (f : Int → Int) : Nat → Int32 := fun j => iI (f (j : Int))
def vL (f : Int → Int) : Nat → Int64 := fun j => lI (f (j : Int))
def vR (f : Int → Option Nat) : Nat → Option Nat := fun j => f (j : Int)
def uI {α : Type} (f : Int → α) (i : Int) (x : α) : Int → α := fun j => if j = i then x else f j
theorem uI_s {α : Type} (f : Int → α) (i : Int) (x : α) : uI f i x i = x := if_pos rfl
theorem uI_n {α : Type} (f : Int → α) {i j : Int} (x : α) (h : j ≠ i) : uI f i x j = f j := if_neg h
theorem vI_at (f : Int → Int) {i : Int} (h : 0 ≤ i ∧ i ≤ 2147483647) : vI f (iI i).toNatClampNeg = iI (f i) := by
  unfold vI
  rw [iI_nat h.1 h.2, Int.toNat_of_nonneg h.1]
theorem vL_at (f : Int → Int) {i : Int} (h : 0 ≤ i ∧ i ≤ 2147483647) : vL f (iI i).toNatClampNeg = lI (f i) := by
  unfold vL
  rw [iI_nat h.1 h.2, Int.toNat_of_nonneg h.1]
theorem vR_at (f : Int → Option Nat) {i : Int} (h : 0 ≤ i ∧ i ≤ 2147483647) : vR f (iI i).toNatClampNeg = f i := by
  unfold vR
  rw [iI_nat h.1 h.2, Int.toNat_of_nonneg h.1]
theorem vI_up (f : Int → Int) {i x : Int} (h : 0 ≤ i ∧ i ≤ 2147483647) : upd (vI f) (iI i).toNatClampNeg (iI x) = vI (uI f i x) := by
  funext j
  rw [iI_nat h.1 h.2]
  unfold upd vI uI
  by_cases q : j = i.toNat
  · rw [if_pos q, if_pos (by omega)]
  · rw [if_neg q, if_neg (by omega)]
theorem vL_up (f : Int → Int) {i x : Int} (h : 0 ≤ i ∧ i ≤ 2147483647) : vp_updL (vL f) (iI i).toNatClampNeg (lI x) = vL (uI f i x) := by
  funext j
  rw [iI_nat h.1 h.2]
  unfold vp_updL vL uI
  by_cases q : j = i.toNat
  · rw [if_pos q, if_pos (by omega)]
  · rw [if_neg q, if_neg (by omega)]
theorem vR_up (f : Int → Option Nat) {i : Int} {x : Option Nat} (h : 0 ≤ i ∧ i ≤ 2147483647) : va_up (vR f) (iI i).toNatClampNeg x = vR (uI f i x) := by
  funext j
  rw [iI_nat h.1 h.2]
  unfold va_up vR uI
  by_cases q : j = i.toNat
  · rw [if_pos q, if_pos (by omega)]
  · rw [if_neg q, if_neg (by omega)]
/-- cells: arrays of ints, bytes .. (by the class's place in T), of longs, of references; objects by their class's place in CL -/
abbrev aI (T : Nat → ClassId) (k n : Nat) (f : Int → Int) : va_E := .inl (T k, n, .inl (vI f))
abbrev aL (T : Nat → ClassId) (n : Nat) (f : Int → Int) : va_E := .inl (T 1, n, .inr (.inl (vL f)))
abbrev aR (T : Nat → ClassId) (k n : Nat) (f : Int → Option Nat) : va_E := .inl (T k, n, .inr (.inr (.inr (.inr (vR f)))))
abbrev oB (ci : Nat) (fs : List Value) : va_E := .inr (ci, fs)
abbrev CL : List vw_C := [(RX0, TX0, 18), (RX1, TX1, 4), (RX2, TX2, 2), (RX3, TX3, 41), (RX4, TX4, 1), (RX5, TX5, 9), (RX6, TX6, 12), (RJ2, TJ2, 3), (RJ9, TJ9, 1)]
abbrev TY (T : Nat → ClassId) : List (ClassId × FieldType) := [(T 0, .int), (T 1, .long), (T 2, .boolean), (T 3, .byte), (T 4, .short), (T 5, .array .int), (T 6, .array .long), (T 7, .object RX4), (T 8, .object RX2), (T 9, .object "java/lang/Object")]
/-- words of the tables that don't ride in the lists -/
def nestW (w : Cond) : Bool := match w with
  | .fieldLinkNest _ _ _ _ _ _ => true
  | .methodLinkNest _ _ _ _ => true
  | .castable _ _ => true
  | .declares _ => true
  | .arrayOver (.object _) => true
  | .arrayOver (.array _) => true
  | _ => false
def NCL : List (String × String) := [("java/lang/NegativeArraySizeException", "java/lang/ArrayIndexOutOfBoundsException"), ("java/lang/NullPointerException", "java/lang/ArrayIndexOutOfBoundsException"), ("java/lang/ClassCastException", "java/lang/ArrayIndexOutOfBoundsException"), ("java/lang/ArrayIndexOutOfBoundsException", "java/lang/NullPointerException"), ("java/lang/ArrayIndexOutOfBoundsException", "java/lang/ClassCastException"), ("java/lang/ClassCastException", "java/lang/NullPointerException"), ("java/lang/NullPointerException", "java/lang/ClassCastException"), ("java/lang/NullPointerException", "java/lang/IndexOutOfBoundsException"), ("[B", "[I"), ("[B", "[S"), ("[S", "[B"), ("[S", "[I"), ("[I", "[B"), ("[I", "[S")]
theorem aOA_moved {t : FieldType} {u U : State} (hvm : u.vm.Alike U.vm) {A B : Array Value} (h : (Cond.arrayOver (.array t)).before A u = true) : (Cond.arrayOver (.array t)).before B U = true := by
  obtain ⟨comp, c, k, h1, h2, h3, h4, h5⟩ := arrayOverA_spec h
  obtain ⟨k', hk', he⟩ := hvm.2.2 _ _ h3
  have hi : (U.vm.classes.findIdx? fun (x : Class) => match x.kind with | .array component _ => component == comp | _ => false) = some c := by
    rw [hvm.findIdx?_eq _ (fun _ => rfl)]
    exact h2
  have hkind : k'.kind = .array comp (.array t) := by rw [he]; exact h4
  have f1 : U.vm.findClass (FieldType.array t).toString = some comp := by rw [hvm.findClass]; exact h1
  have f2 : U.vm.findClass ("[" ++ (FieldType.array t).toString) = some c := by rw [hvm.findClass]; exact h5
  unfold Cond.before Cond.holds
  simp only [Cond.value]
  rw [f1, Option.bind_some]
  refine (congrArg (fun o : Option Nat => (o.bind (fun c => (U.vm.classes[c]?).map fun (k : Class) => match k.kind with | .array _ ty => decide (ty = FieldType.array t) && decide (U.vm.findClass ("[" ++ (FieldType.array t).toString) = some c) | _ => false) == some true)) hi).trans ?_
  simp [hk', hkind, f2]
def TWx (U : State) : Prop := (∀ w ∈ lw_tbl, nestW w = true → w.before #[] U = true) ∧ (∀ q ∈ NCL, va_Nc q.1 q.2 U)
theorem TWx.warm {s U : State} (hW : s.WarmedH U.vm) (h : TWx s) : TWx U := by
  refine ⟨fun w hw hn => ?_, fun q hq => va_Nc.moved hW.alike (h.2 q hq)⟩
  have h1 := h.1 w hw hn
  cases w with
  | fieldLinkNest a i b n d h => exact va_Nw.warmF hW h1
  | methodLinkNest a i x h => exact va_Nw.warmM hW h1
  | castable C T => exact va_Nw.warmC hW h1
  | declares x => exact va_Nw.warmD hW h1
  | arrayOver ty =>
    cases ty with
    | object C => exact va_AO.moved hW.alike h1
    | array t => exact aOA_moved hW.alike h1
    | _ => exact absurd hn (by simp [nestW])
  | _ => exact absurd hn (by simp [nestW])
theorem TWx.w {U : State} (h : TWx U) {w : Cond} (hw : w ∈ lw_tbl) (hn : nestW w = true) : va_Nw w U := h.1 w hw hn
theorem TWx.u {U : State} (h : TWx U) {w : Cond} (hw : w ∈ lw_tbl) (hn : nestW w = true) (ht : w.onTables = true) {A : Array Value} : w.before A U = true := va_Nw.use ht (h.1 w hw hn)
/-- the statics: N names addresses: 0 KINDS, 1 2 3 its objects, 4 the empty element array, 5 the cache of Integers, 6 + k its objects, 262 the Class object of Object[] -/
def SZ (N : Nat → Nat) (A : Nat → Prop) (U : State) (H : Heap) : Prop :=
  va_Z "FairFight" "KINDS" "[LFairFight$Kind;" (.ref (N 0)) A U H ∧ va_T (.object "FairFight$Kind") (N 0) 3 (fun j => .ref (N (1 + j))) A U H ∧
  va_O "FairFight$Striker" (N 1) A U H ∧ va_O "FairFight$Area" (N 2) A U H ∧ va_O "FairFight$Healer" (N 3) A U H ∧
  va_Z "java/util/ArrayList" "DEFAULTCAPACITY_EMPTY_ELEMENTDATA" "[Ljava/lang/Object;" (.ref (N 4)) A U H ∧ va_T (.object "java/lang/Object") (N 4) 0 (fun _ => .null) A U H ∧
  va_Z "java/lang/Integer$IntegerCache" "high" "I" (.int 127) A U H ∧ va_Z "java/lang/Integer$IntegerCache" "cache" "[Ljava/lang/Integer;" (.ref (N 5)) A U H ∧
  va_T (.object "java/lang/Integer") (N 5) 256 (fun j => .ref (N (6 + j))) A U H ∧ vb_C (fun k => N (6 + k)) A U H ∧
  vx_Zq "java/lang/Throwable" "UNASSIGNED_STACK" "[Ljava/lang/StackTraceElement;" A U H ∧ vx_Zq "java/lang/Throwable" "SUPPRESSED_SENTINEL" "Ljava/util/List;" A U H ∧ va_Mi "[Ljava/lang/Object;" (N 262) U
theorem SZ.moved {N : Nat → Nat} {A : Nat → Prop} {u U : State} {H : Heap} (hvm : u.vm.Alike U.vm) (h : SZ N A u H) : SZ N A U H := by
  obtain ⟨a1, a2, a3, a4, a5, a6, a7, a8, a9, a10, a11, a12, a13, a14⟩ := h
  exact ⟨a1.moved hvm, a2.moved hvm, a3.moved hvm, a4.moved hvm, a5.moved hvm, a6.moved hvm, a7.moved hvm, a8.moved hvm, a9.moved hvm, a10.moved hvm, a11.moved hvm, a12.moved hvm, a13.moved hvm, va_Mi.moved hvm a14⟩
theorem SZ.kept {N : Nat → Nat} {A : Nat → Prop} {U : State} {H H1 : Heap} (h : SZ N A U H) (hq : ∀ a : Nat, a < H.size → ¬ A a → H1[a]? = H[a]?) : SZ N A U H1 := by
  obtain ⟨a1, a2, a3, a4, a5, a6, a7, a8, a9, a10, a11, a12, a13, a14⟩ := h
  exact ⟨a1.kept hq, a2.kept hq, a3.kept hq, a4.kept hq, a5.kept hq, a6.kept hq, a7.kept hq, a8.kept hq, a9.kept hq, a10.kept hq, a11.kept hq, a12.kept hq, a13.kept hq, a14⟩
theorem SZ.narrow {N : Nat → Nat} {A B : Nat → Prop} {U : State} {H : Heap} (h : SZ N A U H) (hAB : ∀ q, B q → A q) : SZ N B U H := by
  obtain ⟨a1, a2, a3, a4, a5, a6, a7, a8, a9, a10, a11, a12, a13, a14⟩ := h
  exact ⟨a1.narrow hAB, a2.narrow hAB, a3.narrow hAB, a4.narrow hAB, a5.narrow hAB, a6.narrow hAB, a7.narrow hAB, a8.narrow hAB, a9.narrow hAB, a10.narrow hAB, a11.narrow hAB, a12.narrow hAB, a13.narrow hAB, a14⟩
/-- narrowing where only addresses below the heap's size count -/
theorem SZ.narrowH {N : Nat → Nat} {A B : Nat → Prop} {U : State} {H : Heap} (h : SZ N A U H) (hAB : ∀ q, q < H.size → B q → A q) : SZ N B U H := by
  have h1 : SZ N (fun q => A q ∨ H.size ≤ q) U H := by
    obtain ⟨a1, a2, a3, a4, a5, a6, a7, a8, a9, a10, a11, a12, a13, a14⟩ := h
    have lt : ∀ {a : Nat} {c : Cell}, H[a]? = some c → ¬ A a → ¬ (A a ∨ H.size ≤ a) := fun e n q => by
      rcases q with q | q
      · exact n q
      · exact absurd (Array.getElem?_eq_some_iff.mp e).1 (Nat.not_lt.mpr q)
    have fZ : ∀ {C n d : String} {v : Value}, va_Z C n d v A U H → va_Z C n d v (fun q => A q ∨ H.size ≤ q) U H := by
      rintro C n d v ⟨cf, kf, fi, f, a, cell, h1, h2, h3, h4, h5, h6, h7, h8⟩
      exact ⟨cf, kf, fi, f, a, cell, h1, h2, h3, h4, h5, h6, h7, lt h5 h8⟩
    have fT : ∀ {ty : FieldType} {t N : Nat} {f : Nat → Value}, va_T ty t N f A U H → va_T ty t N f (fun q => A q ∨ H.size ≤ q) U H := by
      rintro ty t N f ⟨cell, h1, h2, h3, h4, h5, h6, h7⟩
      exact ⟨cell, h1, h2, h3, h4, h5, h6, lt h1 h7⟩
    have fO : ∀ {E : String} {t : Nat}, va_O E t A U H → va_O E t (fun q => A q ∨ H.size ≤ q) U H := by
      rintro E t ⟨cell, h1, h2, h3, h4⟩
      exact ⟨cell, h1, h2, h3, lt h1 h4⟩
    have fOF : ∀ {o n d : String} {v : Value} {t : Nat}, va_OF o n d v t A U H → va_OF o n d v t (fun q => A q ∨ H.size ≤ q) U H := by
      rintro o n d v t ⟨cf, k, i, f, cell, h1, h2, h3, h4, h5, h6⟩
      exact ⟨cf, k, i, f, cell, h1, h2, h3, h4, h5, lt h3 h6⟩
    have fZq : ∀ {C n d : String}, vx_Zq C n d A U H → vx_Zq C n d (fun q => A q ∨ H.size ≤ q) U H := by
      rintro C n d ⟨hz, c, k, i, f, a, cell, h1, h2, h3, h4, h5, h6⟩
      refine ⟨?_, c, k, i, f, a, cell, h1, h2, h3, h4, h5, ?_⟩
      · rcases hz with hz | ⟨t, hz⟩
        · exact Or.inl (fZ hz)
        · exact Or.inr ⟨t, fZ hz⟩
      · obtain ⟨g1, g2, g3, g4, g5⟩ := h6
        exact ⟨g1, g2, g3, g4, lt h5 g5⟩
    exact ⟨fZ a1, fT a2, fO a3, fO a4, fO a5, fZ a6, fT a7, fZ a8, fZ a9, fT a10, ⟨fun k hk => fO (a11.1 k hk), fun k hk => fOF (a11.2 k hk)⟩, fZq a12, fZq a13, a14⟩
  exact h1.narrow fun q hq => by
    rcases Nat.lt_or_ge q H.size with z | z
    · exact Or.inl (hAB q z hq)
    · exact Or.inr z
abbrev GH : Type := Nat → Option va_E
def gP (D : va_G) (g : GH) (H : Heap) : Prop := ∀ (a : Nat) (e : va_E), g a = some e → va_at D CL (a, e) H
/-- the cells of the world, and what is new -/
def gA (g : GH) (n : Nat) : Nat → Prop := fun a => g a ≠ none ∨ n ≤ a
/-- where a walk stands: the heap H of size n holds the world g; since the start only cells in A have changed -/
def Wd (D : va_G) (A : Nat → Prop) (s : State) (g : GH) (n : Nat) (H : Heap) (locs : List Loc) : Prop :=
  H.size = n ∧ gP D g H ∧ (∀ a, g a ≠ none → A a) ∧ va_S A s.heap H locs ∧ (∀ q, s.heap.size ≤ q → A q)
theorem Wd.lt {D : va_G} {A : Nat → Prop} {s : State} {g : GH} {n : Nat} {H : Heap} {locs : List Loc} (h : Wd D A s g n H locs) {a : Nat} {e : va_E} (ha : g a = some e) : a < n := by
  have := (h.2.1 a e ha).lt
  rw [h.1] at this
  exact this
theorem Wd.fresh {D : va_G} {A : Nat → Prop} {s : State} {g : GH} {n : Nat} {H : Heap} {locs : List Loc} (h : Wd D A s g n H locs) {a : Nat} (ha : n ≤ a) : g a = none := by
  cases e : g a with
  | none => rfl
  | some x => exact absurd (h.lt e) (Nat.not_lt.mpr ha)
/-- fewer cells -/
theorem Wd.sub {D : va_G} {A : Nat → Prop} {s : State} {g g' : GH} {n : Nat} {H : Heap} {locs : List Loc} (h : Wd D A s g n H locs) (hg : ∀ a e, g' a = some e → g a = some e) : Wd D A s g' n H locs :=
  ⟨h.1, fun a e he => h.2.1 a e (hg a e he), fun a ha => by
    cases e : g' a with
    | none => exact absurd e ha
    | some x => exact h.2.2.1 a (by rw [hg a x e]; exact fun z => by cases z), h.2.2.2⟩
theorem Wd.put {D : va_G} {A : Nat → Prop} {s : State} {g : GH} {n : Nat} {H H1 : Heap} {locs : List Loc} (h : Wd D A s g n H locs) {a k : Nat} {e0 e : va_E} (ha : g a = some e0) (he : va_at D CL (a, e) H1) (hz : H1.size = H.size) (oq : ∀ q : Nat, q ≠ a → H1[q]? = H[q]?) : Wd D A s (va_up g a (some e)) n H1 (locs ++ [⟨a, k⟩]) := by
  obtain ⟨h1, h2, h3, h4, h5⟩ := h
  have hA : A a := h3 a (by rw [ha]; exact fun z => by cases z)
  refine ⟨hz.trans h1, fun b x hb => ?_, fun b hb => ?_, h4.put hz oq hA, h5⟩
  · by_cases q : b = a
    · subst q
      rw [va_up_self] at hb
      cases hb
      exact he
    · rw [va_up_ne _ _ q] at hb
      exact (h2 b x hb).kept (oq b q)
  · by_cases q : b = a
    · rw [q]; exact hA
    · rw [va_up_ne _ _ q] at hb
      exact h3 b hb
theorem Wd.new {D : va_G} {A : Nat → Prop} {s : State} {g : GH} {n : Nat} {H H1 : Heap} {locs : List Loc} (h : Wd D A s g n H locs) {e : va_E} (he : va_at D CL (n, e) H1) (hz : H1.size = n + 1) (oq : ∀ q : Nat, q < n → H1[q]? = H[q]?) : Wd D A s (va_up g n (some e)) (n + 1) H1 locs := by
  have hlt := fun (b : Nat) (x : va_E) (q : g b = some x) => h.lt q
  obtain ⟨h1, h2, h3, h4, h5⟩ := h
  have hAn : A n := h5 n (by rw [← h1]; exact h4.1)
  refine ⟨hz, fun b x hb => ?_, fun b hb => ?_, ⟨by rw [hz]; exact Nat.le_trans h4.1 (by omega), fun q z1 z2 => (oq q (by rw [← h1]; exact Nat.lt_of_lt_of_le z1 h4.1)).trans (h4.2.1 q z1 z2), h4.2.2⟩, h5⟩
  · by_cases q : b = n
    · subst q
      rw [va_up_self] at hb
      cases hb
      exact he
    · rw [va_up_ne _ _ q] at hb
      exact (h2 b x hb).kept (oq b (hlt b x hb))
  · by_cases q : b = n
    · rw [q]; exact hAn
    · rw [va_up_ne _ _ q] at hb
      exact h3 b hb
/-- one cell as the kit's world -/
theorem gP.one {D : va_G} {g : GH} {H : Heap} (h : gP D g H) {a : Nat} {e : va_E} (ha : g a = some e) : va_P D CL [(a, e)] H := by
  intro k q hk
  have : k = 0 := by
    have := (List.getElem?_eq_some_iff.mp hk).1
    simp at this
    exact this
  subst this
  cases hk
  exact h a e ha
/-- a walk's constant facts -/
def Ct (D : va_G) (T N : Nat → Nat) (A : Nat → Prop) (p : Program) (s : State) (m : MethodId) (args : Array Value) (c : Code) (cc : ByteArray) (own : String) (nL : Nat) : Prop :=
  p.tables.exec = Jvm.exec ∧ c.code = cc ∧ (∀ w ∈ lw_all, w.before args s = true) ∧ s.vm.findClass own = some m.cls ∧ va_K D CL (TY T) s ∧ TWx s ∧ SZ N A s s.heap ∧ c.maxLocals = nL
