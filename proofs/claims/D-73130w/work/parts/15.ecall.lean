/-! ANSWERS, ENTRY, CALLS, THROWS -/
set_option maxRecDepth 100000
section ECALL
variable {M : e_M} {pc : Nat} {al st : List Value} {h : e_A} {kc ks d : Nat} {Q : e_R → e_A → Prop}
theorem e_ireturn {x : Int32} {ty : FieldType} (hd : decode M.2.1 pc = .ok (.ireturn, 1)) (hr : M.2.2.2.1 = some ty) (hn : narrow ty (.int x) = .int x) (k : Q (.inl (some (.int x))) h) : e_E M pc al [.int x] h kc ks d Q := by
  intro g p e R s m args below meth c R0 hA Rf H locs cells slots ls sr hS hl hv
  obtain ⟨w, bs, rfl, g1, g2⟩ := e_vs_c hv
  cases g1
  cases e_vs_n g2
  refine W.widen (k := R.cells) (n := R.slots) (by have := hS.2.2.2.1; omega) (by have := hS.2.2.2.2.1; omega) (vx_ret (W.zret hA.2.1 hA.2.2.1 (hA.2.2.2.2.1.trans hr) hn (fun t ht hW => ?_) hS.2.2.1 hd hA.2.2.2.2.2.1))
  exact ⟨_, some (.int x), Rf, h, rfl, ⟨_, rfl, rfl⟩, hS.1, by rw [ht]; exact hS.2.1, k⟩
theorem e_lreturn {x : Int64} (hd : decode M.2.1 pc = .ok (.lreturn, 1)) (hr : M.2.2.2.1 = some .long) (k : Q (.inl (some (.long x))) h) : e_E M pc al [.long x] h kc ks d Q := by
  intro g p e R s m args below meth c R0 hA Rf H locs cells slots ls sr hS hl hv
  obtain ⟨w, bs, rfl, g1, g2⟩ := e_vs_c hv
  cases g1
  cases e_vs_n g2
  refine W.widen (k := R.cells) (n := R.slots) (by have := hS.2.2.2.1; omega) (by have := hS.2.2.2.2.1; omega) (vx_ret (W.lret hA.2.1 hA.2.2.1 (hA.2.2.2.2.1.trans hr) (fun t ht hW => ?_) hS.2.2.1 hd hA.2.2.2.2.2.1))
  exact ⟨_, some (.long x), Rf, h, rfl, ⟨_, rfl, rfl⟩, hS.1, by rw [ht]; exact hS.2.1, k⟩
theorem e_return (hd : decode M.2.1 pc = .ok (.return_, 1)) (hr : M.2.2.2.1 = none) (k : Q (.inl none) h) : e_E M pc al [] h kc ks d Q := by
  intro g p e R s m args below meth c R0 hA Rf H locs cells slots ls sr hS hl hv
  cases e_vs_n hv
  refine W.widen (k := R.cells) (n := R.slots) (by have := hS.2.2.2.1; omega) (by have := hS.2.2.2.2.1; omega) (vx_ret (W.vret hA.2.1 hA.2.2.1 (hA.2.2.2.2.1.trans hr) (fun t ht hW => ?_) hS.2.2.1 hd hA.2.2.2.2.2.1))
  exact ⟨_, none, Rf, h, rfl, rfl, hS.1, by rw [ht]; exact hS.2.1, k⟩
theorem e_areturn {i : Nat} {rt : FieldType} (hd : decode M.2.1 pc = .ok (.areturn, 1)) (hr : M.2.2.2.1 = some rt) (hrt : (∃ n, rt = .object n) ∨ ∃ t, rt = .array t) (k : Q (.inl (some (.ref i))) h) : e_E M pc al [.ref i] h kc ks d Q := by
  intro g p e R s m args below meth c R0 hA Rf H locs cells slots ls sr hS hl hv
  obtain ⟨w, bs, rfl, g1, g2⟩ := e_vs_c hv
  cases e_vs_n g2
  refine W.widen (k := R.cells) (n := R.slots) (by have := hS.2.2.2.1; omega) (by have := hS.2.2.2.2.1; omega) (vx_ret (W.aret hA.2.1 hA.2.2.1 (hA.2.2.2.2.1.trans hr) hrt (e_o_cases (e_obj hS.2.1 g1)) (fun t ht hW => ?_) hS.2.2.1 hd hA.2.2.2.2.2.1))
  exact ⟨_, some (.ref i), Rf, h, rfl, ⟨_, rfl, g1⟩, hS.1, by rw [ht]; exact hS.2.1, k⟩
/-- a method's locals at its entry -/
def e_al : List Value → List Value
  | [] => []
  | .long x :: vs => .long x :: .retAddr 0 :: e_al vs
  | .double x :: vs => .double x :: .retAddr 0 :: e_al vs
  | v :: vs => v :: e_al vs
theorem e_al_1 {v : Value} {vs : List Value} (hv : v.category = 1) : e_al (v :: vs) = v :: e_al vs := by
  cases v <;> first | rfl | cases hv
theorem e_al_2 {v : Value} {vs : List Value} (hv : v.category = 2) : e_al (v :: vs) = v :: .retAddr 0 :: e_al vs := by
  cases v <;> first | rfl | cases hv
theorem e_al_at {R : List Value} (hR : ∀ (i : Nat) (z : Value), R[i]? = some z → z.category = 1) : ∀ {av ar : List Value}, e_vs R av ar → (e_al av).length = (lg_sl ar).length ∧ ∀ (i : Nat) (v : Value), (e_al av)[i]? = some v → v ≠ .retAddr 0 → ∃ w, (lg_sl ar)[i]? = some (.val w) ∧ e_v R v w
  | [], [], _ => ⟨rfl, fun i v hi _ => by cases hi⟩
  | [], _ :: _, hh => hh.elim
  | _ :: _, [], hh => hh.elim
  | a :: av, b :: ar, hh => by
    obtain ⟨i1, i2⟩ := e_al_at hR hh.2
    have hc := e_v_cat hR hh.1
    rcases lv_cat a with h1 | h2
    · have e1 : lg_sl (b :: ar) = .val b :: lg_sl ar := by
        simp [lg_sl, hc.trans h1]
      rw [e_al_1 h1, e1]
      refine ⟨by simp [i1], fun i v hi hv => ?_⟩
      cases i with
      | zero => cases hi; exact ⟨b, rfl, hh.1⟩
      | succ i => exact i2 i v hi hv
    · have e1 : lg_sl (b :: ar) = .val b :: .second :: lg_sl ar := by
        simp [lg_sl, hc.trans h2]
      rw [e_al_2 h2, e1]
      refine ⟨by simp [i1], fun i v hi hv => ?_⟩
      match i, hi with
      | 0, hi => cases hi; exact ⟨b, rfl, hh.1⟩
      | 1, hi => cases hi; exact absurd rfl hv
      | i + 2, hi => exact i2 i v hi hv
/-- a contract out of a walk -/
theorem e_enter {av al0 : List Value} (hpl : plainName M.1.cls = true) (hal : e_al av ++ List.replicate (M.2.2.1 - (e_al av).length) (.retAddr 0) = al0) (hlen : (e_al av).length ≤ M.2.2.1) (k : e_E M 0 al0 [] h kc ks d Q) : e_C M av h kc ks d Q := by
  intro g Rf ar hF hva
  have main : ∀ p e s m args below meth c s₁, BodyLoose p g.1 M.1 (headSpec [e_wd M] { frames := d + 20, cells := kc, slots := ks, locals := 64 * d + 11000 }) M.2.1 M.2.2.1 M.2.2.2.1 e s m args below meth c s₁ → c.maxLocals = M.2.2.1 → c.exceptionTable.toList = tableOf M.2.2.2.2 → (args = ar.toArray ∧ g.2.1.WarmedH s.vm ∧ e_H g Rf h s.heap) →
      W p g.1 e (headSpec [e_wd M] { frames := d + 20, cells := kc, slots := ks, locals := 64 * d + 11000 }).room s m args below meth c s.heap [] 0 0 (vx_MQ below (e_Qc g Rf Q) (e_Xc g Rf Q) args s kc ks (fun q => g.2.1.heap.size ≤ q)) (entryFrame m args M.2.2.1) := by
    intro p e s m args below meth c s₁ B hml ht hP
    obtain ⟨rfl, hW, hH⟩ := hP
    rw [lg_entry_eq]
    obtain ⟨a1, a2⟩ := e_al_at (e_H_cat hH) hva
    have hent := lv_entry ar (n := M.2.2.1) (by rw [← a1]; exact hlen)
    refine k g p e _ s m ar.toArray below meth c Rf ⟨hF, B.exec, B.bytes, hml, B.returns, B.notSynchronized, findClass_of_methodNamed B.named, (name_of_methodNamed B.named B.method).1, hW, ht, Nat.le_refl _, Nat.le_refl _, hH.2.2.2.2.1⟩ Rf s.heap [] 0 0 _ [] ⟨List.prefix_refl _, hH, (fun z hz => nomatch hz), (by show 0 + kc ≤ kc; omega), (by show 0 + ks ≤ ks; omega), Nat.le_refl _⟩ ⟨?_, hent.1, hent.2.1, fun i v hi hv => ?_⟩ trivial
    · rw [← hal]
      simp
      omega
    · rw [← hal] at hi
      by_cases hlt : i < (e_al av).length
      · rw [List.getElem?_append_left hlt] at hi
        obtain ⟨w, g1, g2⟩ := a2 i v hi hv
        refine ⟨w, ?_, g2⟩
        have h9 : i < (lg_sl ar).length := by rw [← a1]; exact hlt
        rw [List.getElem?_toArray, List.getElem?_append_left h9]
        exact g1
      · rw [List.getElem?_append_right (by omega)] at hi
        exact absurd (List.eq_of_mem_replicate (List.mem_of_getElem? hi)) hv
  cases hh : M.2.2.2.2 with
  | nil =>
    have hwd : e_wd M = Cond.code M.1 M.2.1 M.2.2.1 M.2.2.2.1 := by unfold e_wd; rw [hh]
    refine vx_ofW (cc := M.2.1) (maxL := M.2.2.1) (ret := M.2.2.2.1) hpl (by rw [hwd]) (fun p e s m args below meth c s₁ B hml ht hP => main p e s m args below meth c s₁ B hml ?_ hP)
    rw [hh]
    cases h9 : c.exceptionTable.toList with
    | nil => rfl
    | cons x l => exact (ht x (by rw [h9]; exact List.mem_cons_self)).elim
  | cons x l =>
    have hwd : e_wd M = Cond.codeWith M.1 M.2.1 M.2.2.1 M.2.2.2.1 M.2.2.2.2 := by unfold e_wd; rw [hh]
    refine vx_ofWH (cc := M.2.1) (maxL := M.2.2.1) (ret := M.2.2.2.1) (hh := M.2.2.2.2) hpl (by rw [hwd]) (fun p e s m args below meth c s₁ B hml hP => main p e s m args below meth c s₁ B hml ?_ hP)
    exact vx_table (x := M.1) B (atoms_spec (ws := [e_wd M]) B.pre _ (by rw [hwd]; exact List.mem_cons_self))
/-- an object thrown over a frame -/
def e_T (M : e_M) (pc : Nat) (al : List Value) (h : e_A) (i kc ks d : Nat) (Q : e_R → e_A → Prop) : Prop :=
  ∀ (g : e_G) (p : Program) (e : Env) (R : Room) (s : State) (m : MethodId) (args : Array Value) (below : List Frame) (meth : Method) (c : Code) (R0 : List Value), e_At g M d p R s m meth c →
    ∀ (Rf : List Value) (H : Heap) (locs : List Loc) (cells slots : Nat) (ls : Array Slot) (sr : List Value) (q : Addr) (ce : Cell), e_S g R0 Rf h H locs s R cells slots kc ks → e_ls Rf M.2.2.1 al ls → Rf[i]? = some (.ref q) → H[q]? = some ce → ce.vm = .none → s.vm.findClass (e_cn (h.1 i).1) = some ce.cls →
      vx_W p g.1 e R s m args below meth c H locs cells slots (vx_MQ below (e_Qc g R0 Q) (e_Xc g R0 Q) args s R.cells R.slots (fun q => g.2.1.heap.size ≤ q)) (F0 m pc ls sr) q
/-- no handler: it leaves the method -/
theorem e_out {i : Nat} (hh : M.2.2.2.2 = []) (k : Q (.inr i) h) : e_T M pc al h i kc ks d Q := by
  intro g p e R s m args below meth c R0 hA Rf H locs cells slots ls sr q ce hS hl hi hq hce hcl
  refine vx_out (E := e_cn (h.1 i).1) (fun x hx => ?_) hA.2.2.2.2.2.1 hq hce hcl (fun t ht hal => ⟨i, Rf, h, hi, rfl, hS.1, by rw [ht]; exact hS.2.1, k⟩) hS.2.2.1 (by have := hS.2.2.2.1; omega) (by have := hS.2.2.2.2.1; omega)
  rw [hA.2.2.2.2.2.2.2.2.2.1, hh] at hx
  cases hx
/-- the words of a callee, whatever the caller -/
theorem e_good {g : e_G} {p : Program} {R : Room} {s : State} {m : MethodId} {meth : Method} {c : Code} (hA : e_At g M d p R s m meth c) {w : Cond} (hw : w ∈ lw_all) : ∀ (a' : Array Value) (U : State), s.WarmedH U.vm → w.before a' U = true := fun a' U hW =>
  word_at hW (good_of_word (List.mem_filter.mp hw).2) (e_w (args := #[]) hA hw)
theorem e_cat8 {g : e_G} {Rf : List Value} {H : Heap} (hH : e_H g Rf h H) : ∀ {a b : List Value}, e_vs Rf a b → (b.map fun v => v.category).sum = (a.map fun v => v.category).sum
  | [], [], _ => rfl
  | [], _ :: _, hh => hh.elim
  | _ :: _, [], hh => hh.elim
  | x :: a, y :: b, hh => by
    simp only [List.map_cons, List.sum_cons]
    rw [e_v_cat (e_H_cat hH) hh.1, e_cat8 hH hh.2]
/-- behind a call -/
theorem e_after {g : e_G} {p : Program} {e : Env} {R : Room} {s : State} {m : MethodId} {args : Array Value} {below : List Frame} {meth : Method} {c : Code} {R0 Rf : List Value} {H : Heap} {locs : List Loc} {cells slots mc ms : Nat} {ls : Array Slot} {st0 sr : List Value} {Q1 : e_R → e_A → Prop} {aa : Array Value}
    (hA : e_At g M d p R s m meth c) (hS : e_S g R0 Rf h H locs s R cells slots (kc + mc) (ks + ms)) (hl : e_ls Rf M.2.2.1 al ls) (hv : e_vs Rf st sr)
    (hr : vx_Run p g.1 e R s m args below meth c H locs cells slots mc ms (F0 m pc ls st0) sr (e_Qc g Rf Q1 aa) (e_Xc g Rf Q1) (fun q => g.2.1.heap.size ≤ q))
    (kk : ∀ (a : Option Value) (h1 : e_A), Q1 (.inl a) h1 → e_E M (pc + 3) al (a.toList ++ st) h1 kc ks d Q) (kx : ∀ (i : Nat) (h1 : e_A), Q1 (.inr i) h1 → e_T M pc al h1 i kc ks d Q) :
    W p g.1 e R s m args below meth c H locs cells slots (vx_MQ below (e_Qc g R0 Q) (e_Xc g R0 Q) args s R.cells R.slots (fun q => g.2.1.heap.size ≤ q)) (F0 m pc ls st0) := by
  intro T hT X
  have hS4 := hS.2.2.2.1
  have hS5 := hS.2.2.2.2.1
  rcases hr T hT X with ⟨v, st₀, t, T', L, h0, X', hL, e1, e2, ⟨w, a, R1, h1, ho, hov, hpre, hH1, hq⟩, go⟩ | ⟨q, st₀, t, T', L, E, ce, h0, X', hL, e1, e2, ⟨i, R1, h1, hi, hE, hpre, hH1, hq⟩, hce, hcv, hcl, go⟩
  · cases ho
    have hsz : s.heap.size ≤ T'.heap.size := X'.same.2.1
    obtain ⟨t2, a1, b1⟩ := kk a h1 hq g p e R s m args below meth c R0 hA R1 T'.heap (locs ++ L) (cells + mc) (slots + ms) ls (v.toList ++ sr) ⟨hS.1.trans hpre, by rw [e1]; exact hH1, fun z hz => (List.mem_append.mp hz).elim (hS.2.2.1 z) (hL z), by omega, by omega, hsz⟩ (e_ls_app hl hpre) (by
      cases a with
      | none => cases hov; exact e_vs_app hpre hv
      | some av => obtain ⟨z, rfl, hz⟩ := hov; exact ⟨hz, e_vs_app hpre hv⟩) T' rfl X'
    exact ⟨t2, go t2 a1, b1⟩
  · have hsz : s.heap.size ≤ T'.heap.size := X'.same.2.1
    obtain ⟨t2, a1, b1⟩ := kx i h1 hq g p e R s m args below meth c R0 hA R1 T'.heap (locs ++ L) (cells + mc) (slots + ms) ls sr q ce ⟨hS.1.trans hpre, by rw [e1]; exact hH1, fun z hz => (List.mem_append.mp hz).elim (hS.2.2.1 z) (hL z), by omega, by omega, hsz⟩ (e_ls_app hl hpre) hi (by rw [e1]; exact hce) hcv (by rw [← hE]; exact hcl) T' rfl X'
    exact ⟨t2, go.trans a1, b1⟩
end ECALL
