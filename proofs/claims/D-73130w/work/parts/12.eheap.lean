/-! HEAP ROWS OF E -/
set_option maxRecDepth 100000
section EHEAP
variable {M : e_M} {pc : Nat} {al st : List Value} {h : e_A} {kc ks d : Nat} {Q : e_R → e_A → Prop}
/-- words at a method's start, from the law's -/
theorem e_w {g : e_G} {p : Program} {R : Room} {s : State} {m : MethodId} {meth : Method} {c : Code} {args : Array Value} (hA : e_At g M d p R s m meth c) {w : Cond} (hw : w ∈ lw_all) : w.before args s = true := by
  obtain ⟨⟨-, ⟨b, hb, -⟩, -⟩, -, -, -, -, -, -, -, hW, -⟩ := hA
  exact word_at hW (good_of_word (List.mem_filter.mp hw).2) (hb w (lw_all_tbl hw))
theorem e_ws {g : e_G} {p : Program} {R : Room} {s : State} {m : MethodId} {meth : Method} {c : Code} {args : Array Value} (hA : e_At g M d p R s m meth c) : ∀ w ∈ lw_all, w.before args s = true := fun _ hw => e_w hA hw
theorem e_wt {g : e_G} (hF : e_F g) {w : Cond} (ho : w.onTables = true) (hw : w ∈ lw_tbl) : va_Nw w g.2.1 := by
  obtain ⟨-, ⟨b, hb, -⟩, -⟩ := hF
  exact va_Nw.of ho (hb w hw)
theorem e_wF {g : e_G} {p : Program} {R : Room} {s : State} {m : MethodId} {meth : Method} {c : Code} {args : Array Value} (hA : e_At g M d p R s m meth c) {a b n t ho : String} {i : Nat} (hw : Cond.fieldLinkNest a i b n t ho ∈ lw_tbl) : (Cond.fieldLinkNest a i b n t ho).before args s = true :=
  va_Nw.use rfl (va_Nw.warmF hA.2.2.2.2.2.2.2.2.1 (e_wt hA.1 rfl hw))
theorem e_wC {g : e_G} {p : Program} {R : Room} {s : State} {m : MethodId} {meth : Method} {c : Code} (hA : e_At g M d p R s m meth c) {C T : String} (hw : Cond.castable C T ∈ lw_tbl) : va_Nw (.castable C T) s :=
  va_Nw.warmC hA.2.2.2.2.2.2.2.2.1 (e_wt hA.1 rfl hw)
/-- what the names' parts say of a class -/
theorem e_cls {ci : Nat} {C : String} {T : u_T} {N : Nat} (hc : e_cl[ci]? = some (C, T, N)) : (∀ w ∈ u_ws C T N, w ∈ lw_all) ∧ (∃ ty : Nat → FieldType, ∀ k, k < N → parseFieldDescriptor (T k).2.2.1 = some (ty k)) ∧ (∀ a, a < N → ∀ b, b < N → a ≠ b → (T a).2.1 ≠ (T b).2.1) := by
  match ci, hc with
  | 0, hc => cases hc; exact ⟨in_X0, ⟨_, tyX0_ok⟩, nmX0⟩
  | 1, hc => cases hc; exact ⟨in_X1, ⟨_, tyX1_ok⟩, nmX1⟩
  | 2, hc => cases hc; exact ⟨in_X2, ⟨_, tyX2_ok⟩, nmX2⟩
  | 3, hc => cases hc; exact ⟨in_X3, ⟨_, tyX3_ok⟩, nmX3⟩
  | 4, hc => cases hc; exact ⟨in_X4, ⟨_, tyX4_ok⟩, nmX4⟩
  | 5, hc => cases hc; exact ⟨in_X5, ⟨_, tyX5_ok⟩, nmX5⟩
  | 6, hc => cases hc; exact ⟨in_X6, ⟨_, tyX6_ok⟩, nmX6⟩
  | 7, hc => cases hc; exact ⟨in_X7, ⟨_, tyX7_ok⟩, nmX7⟩
  | 8, hc => cases hc; exact ⟨in_X8, ⟨_, tyX8_ok⟩, nmX8⟩
  | 9, hc => cases hc; exact ⟨in_X9, ⟨_, tyX9_ok⟩, nmX9⟩
  | 10, hc => cases hc; exact ⟨in_X10, ⟨_, tyX10_ok⟩, nmX10⟩
  | 11, hc => cases hc; exact ⟨in_J2, ⟨_, tyJ2_ok⟩, nmJ2⟩
  | 12, hc => cases hc; exact ⟨in_J15, ⟨_, tyJ15_ok⟩, nmJ15⟩
  | 13, hc => cases hc; exact ⟨in_J12, ⟨_, tyJ12_ok⟩, nmJ12⟩
  | 14, hc => cases hc; exact ⟨in_J4, ⟨_, tyJ4_ok⟩, nmJ4⟩
  | n + 15, hc => simp [e_cl] at hc
theorem e_cl_lt {ci : Nat} {q : vw_C} (hc : e_cl[ci]? = some q) : ci < 15 := (List.getElem?_eq_some_iff.mp hc).1
theorem e_Kn {g : e_G} {p : Program} {R : Room} {s : State} {m : MethodId} {meth : Method} {c : Code} (hA : e_At g M d p R s m meth c) {ci : Nat} {C : String} {T : u_T} {N : Nat} (hc : e_cl[ci]? = some (C, T, N)) : u_Kn s C T N (g.2.2.1 ci) (g.2.2.2 ci) :=
  u_Kn_moved hA.2.2.2.2.2.2.2.2.1.alike (hA.1.2.2.2 ci _ hc)
/-- a field that the code names: class own's entry idx is field k of class ci, of type ty; final or not -/
def e_fl (own : String) (idx ci k : Nat) (ty : FieldType) (fin : Bool) : Prop := ∃ (ref C : String) (T : u_T) (N : Nat), e_cl[ci]? = some (C, T, N) ∧ k < N ∧ (ref = (T k).1 ∨ Cond.sameField ref (T k).1 (T k).2.1 (T k).2.2.1 ∈ lw_all) ∧ (Cond.fieldLink own idx ref (T k).2.1 (T k).2.2.1 ∈ lw_all ∨ ∃ host, Cond.fieldLinkNest own idx ref (T k).2.1 (T k).2.2.1 host ∈ lw_tbl) ∧ parseFieldDescriptor (T k).2.2.1 = some ty ∧ (T k).2.2.2 = fin
/-- an object of a class -/
theorem e_o_inst {g : e_G} {R : List Value} {ci n : Nat} {f : Nat → Value} {w : Value} {H : Heap} {C : String} {T : u_T} {N : Nat} (hc : e_cl[ci]? = some (C, T, N)) (ho : e_o g R (ci, n, f) w H) : ∃ (a : Nat) (cell : Cell), w = .ref a ∧ H[a]? = some cell ∧ cell.cls = g.2.2.1 ci ∧ (cell.vm = .none ∨ ((ci = 13 ∨ ci = 14) ∧ cell.vm.isStatics = false ∧ cell.vm ≠ .unknown)) ∧ ∀ k, k < N → ∃ z, cell.slots[g.2.2.2 ci k]? = some z ∧ e_v R (f k) z := by
  have hlt := e_cl_lt hc
  rcases ho with ⟨h0, a, r, cell, h1, h2, h3, h4, h5, h6⟩ | ⟨h0, -⟩ | ⟨h0, -⟩ | ⟨h0, -⟩ | ⟨h0, -⟩
  · cases h2.symm.trans hc
    exact ⟨a, cell, h1, h3, h4, h5, h6⟩
  · exact absurd h0 (by dsimp only; omega)
  · exact absurd h0 (by dsimp only; omega)
  · exact absurd h0 (by dsimp only; omega)
  · exact absurd h0 (by dsimp only; omega)
theorem e_obj {g : e_G} {R : List Value} {H : Heap} {i : Nat} {w : Value} (hH : e_H g R h H) (hi : e_v R (.ref i) w) : e_o g R (h.1 i) w H := hH.2.2.2.2.2.1 i w hi
theorem e_getfield {idx ci k i n : Nat} {ty : FieldType} {fin : Bool} {f : Nat → Value} (hd : decode M.2.1 pc = .ok (.getfield idx, 3)) (hf : e_fl M.1.cls idx ci k ty fin) (ho : h.1 i = (ci, n, f)) (kk : e_E M (pc + 3) al (f k :: st) h kc ks d Q) : e_E M pc al (.ref i :: st) h kc ks d Q := by
  intro g p e R s m args below meth c R0 hA Rf H locs cells slots ls sr hS hl hv
  obtain ⟨b, bs, rfl, h1, h2⟩ := e_vs_c hv
  have ho2 := e_obj hS.2.1 h1
  rw [ho] at ho2
  obtain ⟨ref, C, T, N, hc, hk, hsame, hlink, -, -⟩ := hf
  obtain ⟨a, cell, rfl, hcell, hcls, hvm, hsl⟩ := e_o_inst hc ho2
  obtain ⟨z, hz, hvz⟩ := hsl k hk
  obtain ⟨hSl, hfc, kC, hkC, hkind⟩ := e_Kn hA hc
  obtain ⟨cf, kf, fi, fd, hi, hs0⟩ := hSl k hk
  have hi2 : s.fieldFound? ref (T k).2.1 (T k).2.2.1 = some (cf, kf, fi, fd) := by
    rcases hsame with rfl | hsw
    · exact hi
    · exact u_same (e_w (args := args) hA hsw) _ hi
  have hst := (u_facts hfc hkC (u_lays (e_ws (args := args) hA) (e_cls hc).1 hk) hi).1
  have hun : cell.vm ≠ .unknown := by
    rcases hvm with q | ⟨-, -, q⟩
    · rw [q]; exact fun z => by cases z
    · exact q
  rcases hlink with hl1 | ⟨host, hl1⟩
  · exact W.getf hA.2.1 hA.2.2.1 hA.2.2.2.2.2.2.1 (e_w hA hl1) hi2 hst hcell hun (by rw [hs0]; exact hz) rfl rfl hd (kk g p e R s m args below meth c R0 hA Rf H locs cells slots ls _ hS hl ⟨hvz, h2⟩)
  · exact va_Wgetf hA.2.1 hA.2.2.1 hA.2.2.2.2.2.2.1 (e_wF hA hl1) hi2 hst hcell hun (by rw [hs0]; exact hz) rfl rfl hd (kk g p e R s m args below meth c R0 hA Rf H locs cells slots ls _ hS hl ⟨hvz, h2⟩)
/-- a value that a field of a type can take -/
def e_fit (ty : FieldType) (v : Value) : Prop := narrow ty v = v ∧ fits ty v = true ∧ (∀ i, v = .ref i → ∀ a : Nat, narrow ty (.ref a) = .ref a ∧ fits ty (.ref a) = true ∧ narrow ty .null = .null ∧ fits ty .null = true)
theorem e_fit_of {g : e_G} {R : List Value} {H : Heap} {ty : FieldType} {v w : Value} (hH : e_H g R h H) (hf : e_fit ty v) (hv : e_v R v w) : narrow ty w = w ∧ fits ty w = true := by
  cases v with
  | ref i =>
    rcases e_o_cases (e_obj hH hv) with rfl | ⟨a, rfl⟩
    · exact ⟨(hf.2.2 i rfl 0).2.2.1, (hf.2.2 i rfl 0).2.2.2⟩
    · exact ⟨(hf.2.2 i rfl a).1, (hf.2.2 i rfl a).2.1⟩
  | _ => cases hv; exact ⟨hf.1, hf.2.1⟩
theorem e_fit_int (x : Int32) : e_fit .int (.int x) := ⟨rfl, rfl, fun _ q => by cases q⟩
theorem e_fit_long (x : Int64) : e_fit .long (.long x) := ⟨rfl, rfl, fun _ q => by cases q⟩
theorem e_fit_ref {C : String} (i : Nat) : e_fit (.object C) (.ref i) := ⟨rfl, rfl, fun _ _ _ => ⟨rfl, rfl, rfl, rfl⟩⟩
theorem e_fit_null {C : String} : e_fit (.object C) .null := ⟨rfl, rfl, fun _ q => by cases q⟩
theorem e_fit_refA {t : FieldType} (i : Nat) : e_fit (.array t) (.ref i) := ⟨rfl, rfl, fun _ _ _ => ⟨rfl, rfl, rfl, rfl⟩⟩
theorem e_fit_nullA {t : FieldType} : e_fit (.array t) .null := ⟨rfl, rfl, fun _ q => by cases q⟩
theorem e_fit_0 : e_fit .boolean (e_i 0) := ⟨rfl, rfl, fun _ q => by cases q⟩
theorem e_fit_1 : e_fit .boolean (e_i 1) := ⟨rfl, rfl, fun _ q => by cases q⟩
theorem e_slot_set {cell : Cell} {i j : Nat} {w z : Value} (hj : cell.slots[j]? = some z) (hij : i ≠ j) : (cell.setSlot i w).slots[j]? = some z := by
  simp [Cell.setSlot, Array.getElem?_setIfInBounds, hij, hj]
theorem e_slot_self {cell : Cell} {i : Nat} {w z : Value} (hj : cell.slots[i]? = some z) : (cell.setSlot i w).slots[i]? = some w := by
  have := (Array.getElem?_eq_some_iff.mp hj).1
  simp [Cell.setSlot, this]
theorem e_putfield {idx ci k i n : Nat} {ty : FieldType} {fin : Bool} {f : Nat → Value} {v : Value} (hd : decode M.2.1 pc = .ok (.putfield idx, 3)) (hf : e_fl M.1.cls idx ci k ty fin) (ho : h.1 i = (ci, n, f)) (hfin : fin = false ∨ (M.1.name = "<init>" ∧ (∃ (C : String) (T : u_T) (N : Nat), e_cl[ci]? = some (C, T, N) ∧ (T k).1 = M.1.cls))) (hi0 : 350 ≤ i) (hci : ci < 13) (hfit : e_fit ty v) (kk : e_E M (pc + 3) al st (e_set h i (ci, n, updV f k v)) kc ks d Q) : e_E M pc al (v :: .ref i :: st) h kc ks d Q := by
  intro g p e R s m args below meth c R0 hA Rf H locs cells slots ls sr hS hl hv
  obtain ⟨w, bs, rfl, h1, h2⟩ := e_vs_c hv
  obtain ⟨b, bs, rfl, h3, h4⟩ := e_vs_c h2
  have ho2 := e_obj hS.2.1 h3
  rw [ho] at ho2
  obtain ⟨ref, C, T, N, hc, hk, hsame, hlink, hpd, hfn⟩ := hf
  obtain ⟨hin, ⟨ty9, hty9⟩, hnm⟩ := e_cls hc
  obtain ⟨a, cell, rfl, hcell, hcls, hvm, hsl⟩ := e_o_inst hc ho2
  have hvm : cell.vm = .none := by
    rcases hvm with q | ⟨q, -⟩
    · exact q
    · omega
  obtain ⟨z, hz, hvz⟩ := hsl k hk
  have hKn := e_Kn hA hc
  obtain ⟨hSl, hfc, kC, hkC, hkind⟩ := hKn
  obtain ⟨cf, kf, fi, fd, hi, hs0⟩ := hSl k hk
  have hi2 : s.fieldFound? ref (T k).2.1 (T k).2.2.1 = some (cf, kf, fi, fd) := by
    rcases hsame with rfl | hsw
    · exact hi
    · exact u_same (e_w (args := args) hA hsw) _ hi
  have hts := e_ws (args := args) hA
  have hst := (u_facts hfc hkC (u_lays hts hin hk) hi).1
  obtain ⟨hn1, hn2⟩ := e_fit_of hS.2.1 hfit h1
  have hap : ∀ x y, x < N → y < N → x ≠ y → g.2.2.2 ci x ≠ g.2.2.2 ci y := by
    intro x y hx hy hne
    obtain ⟨_, _, _, fa, hia, ea⟩ := hSl x hx
    obtain ⟨_, _, _, fb, hib, eb⟩ := hSl y hy
    rw [← ea, ← eb]
    refine u_apart (u_lays hts hin hx) (u_lays hts hin hy) hia hib ?_
    rw [(State.fieldFound?_type hia (hty9 x hx)).1, (State.fieldFound?_type hib (hty9 y hy)).1]
    exact hnm x hx y hy hne
  have ha0 : g.2.1.heap.size ≤ a := hS.2.1.2.2.2.2.2.2.1 i a hi0 h3
  have go : ∀ H1 : Heap, H1[a]? = some (cell.setSlot fd.slot w) → H1.size = H.size → (∀ q, q ≠ a → H1[q]? = H[q]?) → W p g.1 e R s m args below meth c H1 (locs ++ [⟨a, fd.slot⟩]) cells slots (vx_MQ below (e_Qc g R0 Q) (e_Xc g R0 Q) args s R.cells R.slots (fun q => g.2.1.heap.size ≤ q)) (F0 m (pc + 3) ls bs) := by
    intro H1 e1 e2 e3
    refine kk g p e R s m args below meth c R0 hA Rf H1 _ cells slots ls bs ⟨hS.1, e_H_set hS.2.1 hi0 h3 e2 e3 ?_, ?_, hS.2.2.2.1, hS.2.2.2.2.1, by rw [e2]; exact hS.2.2.2.2.2⟩ hl h4
    · refine Or.inl ⟨by show ci < 50; omega, a, _, _, rfl, hc, e1, hcls, Or.inl hvm, fun j hj => ?_⟩
      by_cases hjk : j = k
      · subst hjk
        refine ⟨w, ?_, ?_⟩
        · show (cell.setSlot fd.slot w).slots[g.2.2.2 ci j]? = some w
          rw [← hs0]
          exact e_slot_self (by rw [hs0]; exact hz)
        · show e_v Rf (updV f j v j) w
          simp only [updV, if_pos]
          exact h1
      · obtain ⟨y, g1, g2⟩ := hsl j hj
        refine ⟨y, ?_, ?_⟩
        · show (cell.setSlot fd.slot w).slots[g.2.2.2 ci j]? = some y
          exact e_slot_set g1 (by rw [hs0]; exact hap k j hk hj (fun q => hjk q.symm))
        · show e_v Rf (updV f k v j) y
          simp only [updV, if_neg hjk]
          exact g2
    · intro q hq
      rcases List.mem_append.mp hq with q1 | q1
      · exact hS.2.2.1 q q1
      · rw [List.mem_singleton.mp q1]
        exact ha0
  have hlt : fd.slot < cell.slots.size := by rw [hs0]; exact k2_hasslot hz
  have hlay := hts _ (hin _ (u_in_lay hk))
  unfold u_lay at hlay
  rcases hfin with hf0 | ⟨hini, C2, T2, N2, hc2, hdecl⟩
  · rw [if_neg (by rw [hfn, hf0]; decide)] at hlay
    have h6 := u_store hfc hkC hkind hlay hi hpd hn1 hn2
    rcases hlink with hl1 | ⟨host, hl1⟩
    · exact W.putK hA.2.1 hA.2.2.1 ⟨hA.2.2.2.2.2.2.1, e_w hA hl1, ⟨_, _, _, hi2⟩, hst⟩ (by rw [hcls]; exact h6) hcell hvm hlt rfl rfl hd go
    · exact va_WputK hA.2.1 hA.2.2.1 hA.2.2.2.2.2.2.1 (e_wF hA hl1) hi2 hst (by rw [hcls]; exact h6) hcell hvm hlt rfl rfl hd go
  · cases hc2.symm.trans hc
    cases fin with
    | false =>
      rw [if_neg (by rw [hfn]; decide)] at hlay
      have h6 := u_store hfc hkC hkind hlay hi hpd hn1 hn2
      rcases hlink with hl1 | ⟨host, hl1⟩
      · exact W.putK hA.2.1 hA.2.2.1 ⟨hA.2.2.2.2.2.2.1, e_w hA hl1, ⟨_, _, _, hi2⟩, hst⟩ (by rw [hcls]; exact h6) hcell hvm hlt rfl rfl hd go
      · exact va_WputK hA.2.1 hA.2.2.1 hA.2.2.2.2.2.2.1 (e_wF hA hl1) hi2 hst (by rw [hcls]; exact h6) hcell hvm hlt rfl rfl hd go
    | true =>
      rw [if_pos hfn] at hlay
      have hcf : m.cls = cf := by
        obtain ⟨_, _, c', _, _, _, -, -, hf', -, -, -, hown2, -⟩ := Cond.laysFinal_spec hlay
        have e1 : c' = cf := by have := hi.symm.trans hf'; simp at this; exact this.1.symm
        rw [hdecl] at hown2
        rw [← e1]; exact Option.some.inj (hA.2.2.2.2.2.2.1.symm.trans hown2)
      have h6 := u_fits hfc hkC hkind (Or.inr hlay) hi hpd hn1 hn2
      rcases hlink with hl1 | ⟨host, hl1⟩
      · exact W.putFinK hA.2.1 hA.2.2.1 hA.2.2.2.2.2.2.1 (e_w hA hl1) hi2 hst hcf (hA.2.2.2.2.2.2.2.1.trans hini) (by rw [hcls]; exact h6) hcell hvm hlt rfl rfl hd go
      · have ha : a < H.size := (Array.getElem?_eq_some_iff.mp hcell).1
        refine va_Wputf hA.2.1 hA.2.2.1 hA.2.2.2.2.2.2.1 (e_wF hA hl1) hi2 hst (Or.inr ⟨hcf, hA.2.2.2.2.2.2.2.1.trans hini⟩) hcell (by rw [hvm]; exact fun h => by cases h) hlt h6.1 (by rw [hvm, hcls]; exact h6.2) rfl rfl hd (go _ ?_ ?_ ?_)
        · simp [Array.getElem?_setIfInBounds, ha]
        · simp
        · intro q hq
          simp [Array.getElem?_setIfInBounds, Ne.symm hq]
end EHEAP
