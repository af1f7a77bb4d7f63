/-! E-LOGIC: a layer over W. Objects are numbers, a reference is an object's number; 'e_E' says: from this frame, with this abstract heap, the method ends with an outcome that satisfies Q. -/
set_option maxRecDepth 100000
/-- the classes whose objects are abstracted -/
abbrev e_cl : List vw_C := [(RX0, TX0, 10), (RX1, TX1, 1), (RX2, TX2, 10), (RX3, TX3, 19), (RX4, TX4, 4), (RX5, TX5, 5), (RX6, TX6, 46), (RX7, TX7, 7), (RX8, TX8, 8), (RX9, TX9, 6), (RX10, TX10, 2), (RJ2, TJ2, 3), (RJ15, TJ15, 4), (RJ12, TJ12, 1), (RJ4, TJ4, 2)]
/-- an object: its kind (below 50: a class of e_cl; 50..59: an array), its length, what it holds -/
abbrev e_O : Type := Nat × Nat × (Nat → Value)
/-- an abstract heap: the objects, and how many -/
abbrev e_A : Type := (Nat → e_O) × Nat
/-- how a method ends: with an answer, or with an object thrown -/
abbrev e_R : Type := Option Value ⊕ Nat
/-- a method: its name, code, locals, answer, handlers -/
abbrev e_M : Type := MethodName × ByteArray × Nat × Option FieldType × List (Nat × Nat × Nat × Nat)
/-- the launch, the law's own start, the classes' numbers and slots -/
abbrev e_G : Type := Launch × State × (Nat → ClassId) × (Nat → Nat → Nat)
def e_ty (k : Nat) : FieldType := match k with
  | 50 => .int
  | 51 => .boolean
  | 52 => .byte
  | 53 => .short
  | 54 => .long
  | 55 => .object "java/lang/Object"
  | 56 => .object "WidowRoads$Slot"
  | 57 => .object "WidowRoads$Colony"
  | 60 => .int
  | 61 => .byte
  | 62 => .object "java/lang/Integer"
  | _ => .object "java/lang/Object"
def e_nm (k : Nat) : String := match k with
  | 70 => "java/lang/NegativeArraySizeException"
  | 71 => "java/lang/NullPointerException"
  | 72 => "java/lang/ArrayIndexOutOfBoundsException"
  | _ => "java/lang/ClassCastException"
/-- an abstract value, and the machine's -/
def e_v (R : List Value) (v w : Value) : Prop := match v with
  | .ref i => R[i]? = some w
  | v => w = v
def e_vs (R : List Value) : List Value → List Value → Prop
  | [], [] => True
  | a :: as, b :: bs => e_v R a b ∧ e_vs R as bs
  | _, _ => False
theorem e_vs_n {R : List Value} {sr : List Value} (h : e_vs R [] sr) : sr = [] := by
  cases sr with
  | nil => rfl
  | cons b bs => exact h.elim
theorem e_vs_c {R : List Value} {a : Value} {as sr : List Value} (h : e_vs R (a :: as) sr) : ∃ b bs, sr = b :: bs ∧ e_v R a b ∧ e_vs R as bs := by
  cases sr with
  | nil => exact h.elim
  | cons b bs => exact ⟨b, bs, rfl, h.1, h.2⟩
theorem e_v_app {R S : List Value} {v w : Value} (h : e_v R v w) (hp : R <+: S) : e_v S v w := by
  cases v with
  | ref i =>
    obtain ⟨t, rfl⟩ := hp
    have h1 : R[i]? = some w := h
    show (R ++ t)[i]? = some w
    rw [List.getElem?_append_left (List.getElem?_eq_some_iff.mp h1).1]
    exact h1
  | _ => exact h
theorem e_vs_app {R S : List Value} (hp : R <+: S) : ∀ {as bs : List Value}, e_vs R as bs → e_vs S as bs
  | [], [], _ => trivial
  | _ :: _, _ :: _, h => ⟨e_v_app h.1 hp, e_vs_app hp h.2⟩
  | [], _ :: _, h => h.elim
  | _ :: _, [], h => h.elim
theorem e_vs_split {R : List Value} : ∀ (a : List Value) {b sr : List Value}, e_vs R (a ++ b) sr → ∃ s1 s2, sr = s1 ++ s2 ∧ e_vs R a s1 ∧ e_vs R b s2
  | [], _, sr, h => ⟨[], sr, rfl, trivial, h⟩
  | x :: a, b, sr, h => by
    obtain ⟨y, ys, rfl, h1, h2⟩ := e_vs_c (as := a ++ b) h
    obtain ⟨s1, s2, rfl, h3, h4⟩ := e_vs_split a h2
    exact ⟨y :: s1, s2, rfl, ⟨h1, h3⟩, h4⟩
theorem e_vs_join {R : List Value} : ∀ {a b s1 s2 : List Value}, e_vs R a s1 → e_vs R b s2 → e_vs R (a ++ b) (s1 ++ s2)
  | [], _, [], _, _, h => h
  | _ :: _, _, _ :: _, _, h, h2 => ⟨h.1, e_vs_join h.2 h2⟩
  | [], _, _ :: _, _, h, _ => h.elim
  | _ :: _, _, [], _, h, _ => h.elim
theorem e_vs_len {R : List Value} : ∀ {a b : List Value}, e_vs R a b → a.length = b.length
  | [], [], _ => rfl
  | _ :: _, _ :: _, h => congrArg (· + 1) (e_vs_len h.2)
  | [], _ :: _, h => h.elim
  | _ :: _, [], h => h.elim
theorem e_vs_rev {R : List Value} : ∀ {a b : List Value}, e_vs R a b → e_vs R a.reverse b.reverse
  | [], [], _ => trivial
  | x :: a, y :: b, h => by
    rw [List.reverse_cons, List.reverse_cons]
    exact e_vs_join (e_vs_rev h.2) ⟨h.1, trivial⟩
  | [], _ :: _, h => h.elim
  | _ :: _, [], h => h.elim
theorem e_v_cat {R : List Value} {v w : Value} (hR : ∀ (i : Nat) (z : Value), R[i]? = some z → z.category = 1) (h : e_v R v w) : w.category = v.category := by
  cases v with
  | ref i => exact (hR i w h).trans rfl
  | _ => cases h; rfl
/-- how an object lies in the machine's heap -/
def e_o (g : e_G) (R : List Value) (o : e_O) (w : Value) (H : Heap) : Prop :=
  (o.1 < 50 ∧ ∃ (a : Nat) (r : vw_C) (cell : Cell), w = .ref a ∧ e_cl[o.1]? = some r ∧ H[a]? = some cell ∧ cell.cls = g.2.2.1 o.1 ∧ (cell.vm = .none ∨ ((o.1 = 13 ∨ o.1 = 14) ∧ cell.vm.isStatics = false ∧ cell.vm ≠ .unknown)) ∧ ∀ k, k < r.2.2 → ∃ z, cell.slots[g.2.2.2 o.1 k]? = some z ∧ e_v R (o.2.2 k) z) ∨
  (50 ≤ o.1 ∧ o.1 < 60 ∧ ∃ (a : Nat) (cA : ClassId) (z : Nat → Value), w = .ref a ∧ H[a]? = some (arrV cA o.2.1 z) ∧ ArrOfT g.2.1 cA (e_ty o.1) ∧ va_RA g.2.1 cA (e_ty o.1) ∧ ∀ j, j < o.2.1 → e_v R (o.2.2 j) (z j)) ∨
  (60 ≤ o.1 ∧ o.1 < 70 ∧ ∃ (a : Nat) (cell : Cell), w = .ref a ∧ H[a]? = some cell ∧ g.2.1.isArrayOf cell (e_ty o.1) ∧ cell.vm ≠ .unknown ∧ cell.vm.isStatics = false ∧ o.2.1 ≤ cell.slots.size ∧ cell.slots.size.toInt32 = Int32.ofNat o.2.1 ∧ ∀ j, j < o.2.1 → ∃ z, cell.slots[j]? = some z ∧ e_v R (o.2.2 j) z) ∨
  (70 ≤ o.1 ∧ o.1 < 80 ∧ ∃ (a : Nat) (cell : Cell), w = .ref a ∧ H[a]? = some cell ∧ cell.vm = .none ∧ g.2.1.vm.findClass (e_nm o.1) = some cell.cls) ∨
  (90 ≤ o.1 ∧ ∃ r : Option Nat, w = va_rf r)
theorem e_o_kept {g : e_G} {R : List Value} {o : e_O} {w : Value} {H H1 : Heap} (h : e_o g R o w H) (hk : ∀ a : Nat, w = .ref a → H1[a]? = H[a]?) : e_o g R o w H1 := by
  rcases h with ⟨h0, a, r, cell, rfl, h1, h2, h3⟩ | ⟨h0, h9, a, cA, z, rfl, h1, h2⟩ | ⟨h0, h9, a, cell, rfl, h1, h2⟩ | ⟨h0, h9, a, cell, rfl, h1, h2⟩ | h
  · exact Or.inl ⟨h0, a, r, cell, rfl, h1, (hk a rfl).trans h2, h3⟩
  · exact Or.inr (Or.inl ⟨h0, h9, a, cA, z, rfl, (hk a rfl).trans h1, h2⟩)
  · exact Or.inr (Or.inr (Or.inl ⟨h0, h9, a, cell, rfl, (hk a rfl).trans h1, h2⟩))
  · exact Or.inr (Or.inr (Or.inr (Or.inl ⟨h0, h9, a, cell, rfl, (hk a rfl).trans h1, h2⟩)))
  · exact Or.inr (Or.inr (Or.inr (Or.inr h)))
theorem e_o_app {g : e_G} {R S : List Value} {o : e_O} {w : Value} {H : Heap} (hp : R <+: S) (h : e_o g R o w H) : e_o g S o w H := by
  rcases h with ⟨h0, a, r, cell, rfl, h1, h2, h3, h4, h5⟩ | ⟨h0, h9, a, cA, z, rfl, h1, h2, h3, h4⟩ | ⟨h0, h9, a, cell, rfl, h1, h2, h6, h7, h8, h11, h10⟩ | h | h
  · refine Or.inl ⟨h0, a, r, cell, rfl, h1, h2, h3, h4, fun k hk => ?_⟩
    obtain ⟨z, e1, e2⟩ := h5 k hk
    exact ⟨z, e1, e_v_app e2 hp⟩
  · exact Or.inr (Or.inl ⟨h0, h9, a, cA, z, rfl, h1, h2, h3, fun j hj => e_v_app (h4 j hj) hp⟩)
  · refine Or.inr (Or.inr (Or.inl ⟨h0, h9, a, cell, rfl, h1, h2, h6, h7, h8, h11, fun j hj => ?_⟩))
    obtain ⟨z, e1, e2⟩ := h10 j hj
    exact ⟨z, e1, e_v_app e2 hp⟩
  · exact Or.inr (Or.inr (Or.inr (Or.inl h)))
  · exact Or.inr (Or.inr (Or.inr (Or.inr h)))
theorem e_o_ref {g : e_G} {R : List Value} {o : e_O} {w : Value} {H : Heap} (h : e_o g R o w H) : w.category = 1 ∧ ∀ a : Nat, w = .ref a → o.1 < 80 → a < H.size := by
  rcases h with ⟨h0, a, r, cell, rfl, h1, h2, h3⟩ | ⟨h0, h9, a, cA, z, rfl, h1, h2⟩ | ⟨h0, h9, a, cell, rfl, h1, h2⟩ | ⟨h0, h9, a, cell, rfl, h1, h2⟩ | ⟨h0, r, rfl⟩
  · exact ⟨rfl, fun b hb _ => by cases hb; exact (Array.getElem?_eq_some_iff.mp h2).1⟩
  · exact ⟨rfl, fun b hb _ => by cases hb; exact (Array.getElem?_eq_some_iff.mp h1).1⟩
  · exact ⟨rfl, fun b hb _ => by cases hb; exact (Array.getElem?_eq_some_iff.mp h1).1⟩
  · exact ⟨rfl, fun b hb _ => by cases hb; exact (Array.getElem?_eq_some_iff.mp h1).1⟩
  · refine ⟨?_, fun b _ hb => absurd hb (by omega)⟩
    cases r <;> rfl
theorem e_o_cases {g : e_G} {R : List Value} {o : e_O} {w : Value} {H : Heap} (h : e_o g R o w H) : w = .null ∨ ∃ a : Nat, w = .ref a := by
  rcases h with ⟨h0, a, r, cell, rfl, h1, h2, h3⟩ | ⟨h0, h9, a, cA, z, rfl, h1, h2⟩ | ⟨h0, h9, a, cell, rfl, h1, h2⟩ | ⟨h0, h9, a, cell, rfl, h1, h2⟩ | ⟨h0, r, rfl⟩
  · exact Or.inr ⟨a, rfl⟩
  · exact Or.inr ⟨a, rfl⟩
  · exact Or.inr ⟨a, rfl⟩
  · exact Or.inr ⟨a, rfl⟩
  · cases r with
    | none => exact Or.inl rfl
    | some a => exact Or.inr ⟨a, rfl⟩
/-- static fields that are read, what they hold -/
def e_sts : List (String × String × String × Value) := [("java/lang/Integer$IntegerCache", "cache", "[Ljava/lang/Integer;", .ref 257), ("java/lang/Integer$IntegerCache", "high", "I", .int 127), ("java/lang/String", "COMPACT_STRINGS", "Z", .int 1), ("java/util/ArrayList", "EMPTY_ELEMENTDATA", "[Ljava/lang/Object;", .ref 258), ("java/util/ArrayList", "DEFAULTCAPACITY_EMPTY_ELEMENTDATA", "[Ljava/lang/Object;", .ref 259), ("jdk/internal/util/Preconditions", "SIOOBE_FORMATTER", "Ljava/util/function/BiFunction;", .ref 261), ("java/lang/Throwable", "UNASSIGNED_STACK", "[Ljava/lang/StackTraceElement;", .ref 262), ("java/lang/Throwable", "SUPPRESSED_SENTINEL", "Ljava/util/List;", .ref 263)]
/-- the texts: where the code names them -/
def e_strs : List (String × Nat × String) := [("WidowRoads$Reader", 162, "colony"), ("WidowRoads$Reader", 164, "years"), ("WidowRoads$Reader", 168, "law"), ("WidowRoads$Reader", 172, "odds"), ("WidowRoads$Reader", 176, "wide"), ("WidowRoads$Reader", 177, "high"), ("WidowRoads$Reader", 143, "creek"), ("WidowRoads$Reader", 152, "house"), ("WidowRoads$Reader", 157, "widow"), ("WidowRoads$Reader", 119, "faces"), ("WidowRoads$Reader", 124, "steps"), ("WidowRoads$Reader", 126, "at"), ("WidowRoads$Reader", 127, "grief"), ("WidowRoads$Reader", 107, "on"), ("WidowRoads$Reader", 109, "right"), ("WidowRoads$Reader", 111, "back"), ("WidowRoads$Reader", 113, "left"), ("WidowRoadsModel", 196, "colony"), ("WidowRoadsModel", 198, "years"), ("WidowRoadsModel", 203, "law"), ("WidowRoadsModel", 205, "odds"), ("WidowRoadsModel", 207, "wide"), ("WidowRoadsModel", 209, "high"), ("WidowRoadsModel", 240, "creek"), ("WidowRoadsModel", 242, "house"), ("WidowRoadsModel", 244, "widow"), ("WidowRoadsModel", 230, "faces"), ("WidowRoadsModel", 232, "steps"), ("WidowRoadsModel", 234, "at"), ("WidowRoadsModel", 235, "grief"), ("WidowRoadsModel", 215, "on"), ("WidowRoadsModel", 217, "right"), ("WidowRoadsModel", 219, "back"), ("WidowRoadsModel", 221, "left")]
/-- what the old part of the references is -/
def e_Rs (g : e_G) (R : List Value) : Prop :=
  (∀ q ∈ e_sts, ∃ w, e_v R q.2.2.2 w ∧ va_Z q.1 q.2.1 q.2.2.1 w (fun a => g.2.1.heap.size ≤ a) g.2.1 g.2.1.heap) ∧
  (∀ (i : Nat) (q : String × Nat × String), e_strs[i]? = some q → ∃ a : Nat, R[270 + i]? = some (.ref a) ∧ vk_R q.1 q.2.1 q.2.2 a g.2.1) ∧
  (∃ mi : Nat, R[260]? = some (.ref mi) ∧ va_Mi "[Ljava/lang/Object;" mi g.2.1) ∧
  vx_Zq Bundle.tN "UNASSIGNED_STACK" Bundle.steD (fun a => g.2.1.heap.size ≤ a) g.2.1 g.2.1.heap ∧ vx_Zq Bundle.tN "SUPPRESSED_SENTINEL" Bundle.listD (fun a => g.2.1.heap.size ≤ a) g.2.1 g.2.1.heap ∧
  R[258]? ≠ R[259]?
theorem e_Rs_app {g : e_G} {R S : List Value} (hp : R <+: S) (hl : 350 ≤ R.length) (h : e_Rs g R) : e_Rs g S := by
  obtain ⟨h1, h2, ⟨mi, h3, h4⟩, h5, h6, h7⟩ := h
  have hk : ∀ i : Nat, i < 350 → S[i]? = R[i]? := by
    obtain ⟨t, rfl⟩ := hp
    intro i hi
    exact List.getElem?_append_left (by omega)
  refine ⟨fun q hq => ?_, fun i q hq => ?_, ⟨mi, by rw [hk 260 (by omega)]; exact h3, h4⟩, h5, h6, by rw [hk 258 (by omega), hk 259 (by omega)]; exact h7⟩
  · obtain ⟨w, e1, e2⟩ := h1 q hq
    exact ⟨w, e_v_app e1 hp, e2⟩
  · obtain ⟨a, e1, e2⟩ := h2 i q hq
    have hi : i < 34 := (List.getElem?_eq_some_iff.mp hq).1
    exact ⟨a, by rw [hk _ (by omega)]; exact e1, e2⟩
/-- the abstract heap h lies in the machine's heap H, object i at R's place i; the places below 350 are old -/
def e_H (g : e_G) (R : List Value) (h : e_A) (H : Heap) : Prop :=
  e_Rs g R ∧ h.2 = R.length ∧ 350 ≤ R.length ∧ g.2.1.heap.size ≤ H.size ∧ (∀ q : Nat, q < g.2.1.heap.size → H[q]? = g.2.1.heap[q]?) ∧
  (∀ (i : Nat) (w : Value), R[i]? = some w → e_o g R (h.1 i) w H) ∧ (∀ (i a : Nat), 350 ≤ i → R[i]? = some (.ref a) → g.2.1.heap.size ≤ a) ∧
  (∀ (i j a : Nat), 350 ≤ i → R[i]? = some (.ref a) → R[j]? = some (.ref a) → i = j) ∧ ∀ (i a : Nat), R[i]? = some (.ref a) → a < H.size
def e_set (h : e_A) (i : Nat) (o : e_O) : e_A := (fun j => if j = i then o else h.1 j, h.2)
def e_push (h : e_A) (o : e_O) : e_A := (fun j => if j = h.2 then o else h.1 j, h.2 + 1)
theorem e_H_cat {g : e_G} {R : List Value} {h : e_A} {H : Heap} (hH : e_H g R h H) : ∀ (i : Nat) (z : Value), R[i]? = some z → z.category = 1 := fun i z hz => (e_o_ref (hH.2.2.2.2.2.1 i z hz)).1
/-- one cell changed -/
theorem e_H_set {g : e_G} {R : List Value} {h : e_A} {H H1 : Heap} {i a : Nat} {o : e_O} (hH : e_H g R h H) (hi : 350 ≤ i) (hR : R[i]? = some (.ref a)) (hz : H1.size = H.size) (ho : ∀ q : Nat, q ≠ a → H1[q]? = H[q]?) (he : e_o g R o (.ref a) H1) : e_H g R (e_set h i o) H1 := by
  obtain ⟨h1, h2, h3, h4, h5, h6, h7, h8, h9⟩ := hH
  have ha := h7 i a hi hR
  refine ⟨h1, h2, h3, by omega, fun q hq => (ho q (by omega)).trans (h5 q hq), fun j w hj => ?_, h7, h8, fun j b hj => by rw [hz]; exact h9 j b hj⟩
  by_cases hji : j = i
  · subst hji
    cases hR.symm.trans hj
    show e_o g R (if j = j then o else h.1 j) _ H1
    rw [if_pos rfl]
    exact he
  · show e_o g R (if j = i then o else h.1 j) w H1
    rw [if_neg hji]
    refine e_o_kept (h6 j w hj) (fun b hb => ho b (fun hba => hji ?_))
    subst hb; subst hba
    exact (h8 i j b hi hR hj).symm
/-- one cell more, and perhaps others that nobody names -/
theorem e_H_push {g : e_G} {R : List Value} {h : e_A} {H H1 : Heap} {a : Nat} {o : e_O} (hH : e_H g R h H) (ha : H.size ≤ a) (ha1 : a < H1.size) (ho : ∀ q : Nat, q < H.size → H1[q]? = H[q]?) (he : e_o g (R ++ [.ref a]) o (.ref a) H1) : e_H g (R ++ [.ref a]) (e_push h o) H1 := by
  obtain ⟨h1, h2, h3, h4, h5, h6, h7, h8, h9⟩ := hH
  have hp : R <+: R ++ [.ref a] := List.prefix_append _ _
  have hat : ∀ (j : Nat) (w : Value), (R ++ [.ref a])[j]? = some w → (R[j]? = some w ∧ j < R.length) ∨ (j = R.length ∧ w = .ref a) := by
    intro j w hj
    by_cases hl : j < R.length
    · rw [List.getElem?_append_left hl] at hj
      exact Or.inl ⟨hj, hl⟩
    · rw [List.getElem?_append_right (by omega)] at hj
      have h9 : j - R.length < 1 := (List.getElem?_eq_some_iff.mp hj).1
      have h10 : j = R.length := by omega
      subst h10
      rw [Nat.sub_self] at hj
      cases hj
      exact Or.inr ⟨rfl, rfl⟩
  refine ⟨e_Rs_app hp h3 h1, by simp [e_push, h2], by simp; omega, by omega, fun q hq => (ho q (by omega)).trans (h5 q hq), fun j w hj => ?_, fun j b hj hb => ?_, fun i j b hi hb hc => ?_, fun j b hb => ?_⟩
  · rcases hat j w hj with ⟨e1, e2⟩ | ⟨rfl, rfl⟩
    · show e_o g _ (if j = h.2 then o else h.1 j) w H1
      rw [if_neg (by omega)]
      exact e_o_app hp (e_o_kept (h6 j w e1) (fun b hb => ho b (by subst hb; exact h9 j b e1)))
    · show e_o g _ (if R.length = h.2 then o else h.1 R.length) _ H1
      rw [if_pos h2.symm]
      exact he
  · rcases hat j _ hb with ⟨e1, e2⟩ | ⟨e1, e2⟩
    · exact h7 j b hj e1
    · cases e2; omega
  · rcases hat i _ hb with ⟨e1, e2⟩ | ⟨e1, e2⟩ <;> rcases hat j _ hc with ⟨f1, f2⟩ | ⟨f1, f2⟩
    · exact h8 i j b hi e1 f1
    · cases f2
      exact absurd (h9 i _ e1) (by omega)
    · cases e2
      exact absurd (h9 j _ f1) (by omega)
    · omega
  · rcases hat j _ hb with ⟨e1, e2⟩ | ⟨e1, e2⟩
    · have := h9 j b e1
      have h12 : H.size ≤ H1.size := by omega
      omega
    · cases e2; exact ha1
/-- .. or none that is named -/
theorem e_H_more {g : e_G} {R : List Value} {h : e_A} {H H1 : Heap} (hH : e_H g R h H) (hz : H.size ≤ H1.size) (ho : ∀ q : Nat, q < H.size → H1[q]? = H[q]?) : e_H g R h H1 := by
  obtain ⟨h1, h2, h3, h4, h5, h6, h7, h8, h9⟩ := hH
  exact ⟨h1, h2, h3, by omega, fun q hq => (ho q (by omega)).trans (h5 q hq), fun j w hj => e_o_kept (h6 j w hj) (fun b hb => ho b (by subst hb; exact h9 j b hj)), h7, h8, fun j b hj => by have := h9 j b hj; omega⟩
/-- what holds of the law's start -/
def e_F (g : e_G) : Prop := g.1.flags = flags0 ∧ (∃ b : Addr, (∀ w ∈ lw_tbl, w.before #[.ref b] g.2.1 = true) ∧ (Jvm.Cond.and given_1 narrow_1).before #[.ref b] g.2.1 = true) ∧ modulesRight_1 g.2.1 = true ∧ ∀ (c : Nat) (q : vw_C), e_cl[c]? = some q → u_Kn g.2.1 q.1 q.2.1 q.2.2 (g.2.2.1 c) (g.2.2.2 c)
/-- the word of a method's code -/
def e_wd (M : e_M) : Cond := match M.2.2.2.2 with
  | [] => .code M.1 M.2.1 M.2.2.1 M.2.2.2.1
  | x :: l => .codeWith M.1 M.2.1 M.2.2.1 M.2.2.2.1 (x :: l)
/-- what stays all through a method's run -/
def e_At (g : e_G) (M : e_M) (d : Nat) (p : Program) (R : Room) (s : State) (m : MethodId) (meth : Method) (c : Code) : Prop :=
  e_F g ∧ p.tables.exec = Jvm.exec ∧ c.code = M.2.1 ∧ c.maxLocals = M.2.2.1 ∧ meth.sig.returnType = M.2.2.2.1 ∧ meth.locks = false ∧ s.vm.findClass M.1.cls = some m.cls ∧ meth.name = M.1.name ∧ g.2.1.WarmedH s.vm ∧ c.exceptionTable.toList = tableOf M.2.2.2.2 ∧ d + 20 ≤ R.frames ∧ 64 * d + 11000 ≤ R.locals ∧ ∀ q : Nat, q < g.2.1.heap.size → s.heap[q]? = g.2.1.heap[q]?
/-- where a run stands -/
def e_S (g : e_G) (R0 Rf : List Value) (h : e_A) (H : Heap) (locs : List Loc) (s : State) (R : Room) (cells slots kc ks : Nat) : Prop :=
  R0 <+: Rf ∧ e_H g Rf h H ∧ (∀ z ∈ locs, g.2.1.heap.size ≤ z.base) ∧ cells + kc ≤ R.cells ∧ slots + ks ≤ R.slots ∧ s.heap.size ≤ H.size
/-- the locals: .retAddr 0 where nothing is known -/
def e_ls (R : List Value) (n : Nat) (al : List Value) (ls : Array Slot) : Prop :=
  al.length = n ∧ ls.size = n ∧ lv_wf ls ∧ ∀ (i : Nat) (v : Value), al[i]? = some v → v ≠ .retAddr 0 → ∃ w, ls[i]? = some (.val w) ∧ e_v R v w
/-- an answer -/
def e_ov (R : List Value) (a : Option Value) (w : Option Value) : Prop := match a with
  | none => w = none
  | some v => ∃ z, w = some z ∧ e_v R v z
def e_Qc (g : e_G) (R0 : List Value) (Q : e_R → e_A → Prop) : Array Value → State → Outcome → State → Prop := fun _ _ o t =>
  ∃ (w a : Option Value) (R1 : List Value) (h1 : e_A), o = .returned w ∧ e_ov R1 a w ∧ R0 <+: R1 ∧ e_H g R1 h1 t.heap ∧ Q (.inl a) h1
/-- the class of an object that is thrown -/
def e_cn (k : Nat) : String := if k = 8 then RX8 else e_nm k
def e_Xc (g : e_G) (R0 : List Value) (Q : e_R → e_A → Prop) : Addr → String → State → State → Prop := fun q E _ t =>
  ∃ (i : Nat) (R1 : List Value) (h1 : e_A), R1[i]? = some (.ref q) ∧ E = e_cn (h1.1 i).1 ∧ R0 <+: R1 ∧ e_H g R1 h1 t.heap ∧ Q (.inr i) h1
def e_E (M : e_M) (pc : Nat) (al st : List Value) (h : e_A) (kc ks d : Nat) (Q : e_R → e_A → Prop) : Prop :=
  ∀ (g : e_G) (p : Program) (e : Env) (R : Room) (s : State) (m : MethodId) (args : Array Value) (below : List Frame) (meth : Method) (c : Code) (R0 : List Value), e_At g M d p R s m meth c →
    ∀ (Rf : List Value) (H : Heap) (locs : List Loc) (cells slots : Nat) (ls : Array Slot) (sr : List Value), e_S g R0 Rf h H locs s R cells slots kc ks → e_ls Rf M.2.2.1 al ls → e_vs Rf st sr →
      W p g.1 e R s m args below meth c H locs cells slots (vx_MQ below (e_Qc g R0 Q) (e_Xc g R0 Q) args s R.cells R.slots (fun q => g.2.1.heap.size ≤ q)) (F0 m pc ls sr)
def e_C (M : e_M) (av : List Value) (h : e_A) (kc ks d : Nat) (Q : e_R → e_A → Prop) : Prop :=
  ∀ (g : e_G) (Rf ar : List Value), e_F g → e_vs Rf av ar →
    vx_Met g.1 M.1 [e_wd M] { frames := d + 20, cells := kc, slots := ks, locals := 64 * d + 11000 } (fun a U => a = ar.toArray ∧ g.2.1.WarmedH U.vm ∧ e_H g Rf h U.heap) (e_Qc g Rf Q) (e_Xc g Rf Q) kc ks (fun q => g.2.1.heap.size ≤ q)
/-- numbers alone -/
def e_nums : List Value → Bool
  | [] => true
  | .int _ :: l => e_nums l
  | .long _ :: l => e_nums l
  | .null :: l => e_nums l
  | _ :: _ => false
theorem e_nums_same {R : List Value} : ∀ {a b : List Value}, e_nums a = true → e_vs R a b → b = a
  | [], [], _, _ => rfl
  | .int _ :: a, y :: b, h, h2 => by
    have h3 : y = .int _ := h2.1
    rw [h3, e_nums_same (a := a) h h2.2]
  | .long _ :: a, y :: b, h, h2 => by
    have h3 : y = .long _ := h2.1
    rw [h3, e_nums_same (a := a) h h2.2]
  | .null :: a, y :: b, h, h2 => by
    have h3 : y = .null := h2.1
    rw [h3, e_nums_same (a := a) h h2.2]
  | [], _ :: _, _, h2 => h2.elim
  | .int _ :: _, [], _, h2 => h2.elim
  | .long _ :: _, [], _, h2 => h2.elim
  | .null :: _, [], _, h2 => h2.elim
theorem e_nums_vs {R : List Value} : ∀ {a : List Value}, e_nums a = true → e_vs R a a
  | [], _ => trivial
  | .int _ :: a, h => ⟨rfl, e_nums_vs (a := a) h⟩
  | .long _ :: a, h => ⟨rfl, e_nums_vs (a := a) h⟩
  | .null :: a, h => ⟨rfl, e_nums_vs (a := a) h⟩
/-- a row of the kit that turns numbers into numbers -/
theorem e_num {M : e_M} {pc pc1 : Nat} {al st : List Value} {h : e_A} {kc ks d : Nat} {Q : e_R → e_A → Prop} (a b : List Value) (ha : e_nums a = true) (hb : e_nums b = true)
    (row : ∀ {p : Program} {l : Launch} {e : Env} {R : Room} {s : State} {m : MethodId} {args : Array Value} {below : List Frame} {meth : Method} {c : Code} {H : Heap} {locs : List Loc} {cells slots : Nat} {Z : State → Prop} {ls : Array Slot} {rest : List Value}, p.tables.exec = Jvm.exec → c.code = M.2.1 → W p l e R s m args below meth c H locs cells slots Z (F0 m pc1 ls (b ++ rest)) → W p l e R s m args below meth c H locs cells slots Z (F0 m pc ls (a ++ rest)))
    (k : e_E M pc1 al (b ++ st) h kc ks d Q) : e_E M pc al (a ++ st) h kc ks d Q := by
  intro g p e R s m args below meth c R0 hA Rf H locs cells slots ls sr hS hl hv
  obtain ⟨s1, s2, rfl, h1, h2⟩ := e_vs_split a hv
  cases e_nums_same ha h1
  exact row hA.2.1 hA.2.2.1 (k g p e R s m args below meth c R0 hA Rf H locs cells slots ls _ hS hl (e_vs_join (e_nums_vs hb) h2))
/-- .. with two ways to go -/
theorem e_num2 {M : e_M} {pc pc1 pc2 : Nat} {al st : List Value} {h : e_A} {kc ks d : Nat} {Q : e_R → e_A → Prop} {P1 P2 : Prop} (a : List Value) (ha : e_nums a = true)
    (row : ∀ {p : Program} {l : Launch} {e : Env} {R : Room} {s : State} {m : MethodId} {args : Array Value} {below : List Frame} {meth : Method} {c : Code} {H : Heap} {locs : List Loc} {cells slots : Nat} {Z : State → Prop} {ls : Array Slot} {rest : List Value}, p.tables.exec = Jvm.exec → c.code = M.2.1 → (P1 → W p l e R s m args below meth c H locs cells slots Z (F0 m pc1 ls rest)) → (P2 → W p l e R s m args below meth c H locs cells slots Z (F0 m pc2 ls rest)) → W p l e R s m args below meth c H locs cells slots Z (F0 m pc ls (a ++ rest)))
    (k1 : P1 → e_E M pc1 al st h kc ks d Q) (k2 : P2 → e_E M pc2 al st h kc ks d Q) : e_E M pc al (a ++ st) h kc ks d Q := by
  intro g p e R s m args below meth c R0 hA Rf H locs cells slots ls sr hS hl hv
  obtain ⟨s1, s2, rfl, h1, h2⟩ := e_vs_split a hv
  cases e_nums_same ha h1
  exact row hA.2.1 hA.2.2.1 (fun q => k1 q g p e R s m args below meth c R0 hA Rf H locs cells slots ls _ hS hl h2) (fun q => k2 q g p e R s m args below meth c R0 hA Rf H locs cells slots ls _ hS hl h2)
