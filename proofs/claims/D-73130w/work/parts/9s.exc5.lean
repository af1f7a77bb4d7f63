/-! OUT OF A METHOD WHOSE TABLE COVERS THE PLACE, BUT NAMES OTHER CLASSES -/
set_option maxRecDepth 100000
theorem z_goNone {e : Env} {s₀ : State} {f : JFrame} {a : Addr} {cell : Cell} (hobj : ∀ k, cell.vm ≠ .statics k) (hk0 : ∃ k, s₀.vm.classes[cell.cls]? = some k) :
    ∀ (pre : List ExceptionTableEntry) (S : State), s₀.WarmedH S.vm → S.heap[a]? = some cell → (∀ y ∈ pre, RowPassed e.platform s₀ f.method.cls f.pc cell.cls y) →
      ∃ vm', s₀.WarmedH vm' ∧ ∀ (Q : Handler → Pre) (E : CtlPost) (d : Bool) (acts : List Action), wp (findHandler.go f a pre) Q E e d acts S ↔ Q .none d acts (S.setVm vm') := by
  obtain ⟨k0, hk0⟩ := hk0
  intro pre
  induction pre with
  | nil =>
    intro S hW hcell _
    exact ⟨S.vm, hW, fun Q E d acts => by rw [W.findHandler_go_nil, State.setVm_self]⟩
  | cons y ys ih =>
    intro S hW hcell hpass
    obtain ⟨k0', hk0', -⟩ := hW.alike.2.2 _ _ hk0
    have hrest : ∀ z ∈ ys, RowPassed e.platform s₀ f.method.cls f.pc cell.cls z := fun z hz => hpass z (List.mem_cons_of_mem _ hz)
    by_cases hcov : covers y f.pc = true
    · rcases hpass y List.mem_cons_self with h | ⟨h0, c, hl, hno⟩
      · rw [h] at hcov; cases hcov
      · obtain ⟨dk, _, _, kt, hd, _, _, _, _, hkt, _, hopen⟩ := hl.here
        obtain ⟨kt', hkt', -⟩ := hW.alike.2.2 _ _ hkt
        obtain ⟨vm', hW', hq⟩ := ih (S.setVm (S.vm.noted f.method.cls y.catchType (.cls c))) (hW.noted hd hopen (State.rightAt_cls hl)) hcell hrest
        exact ⟨vm', hW', fun Q E d acts => by
          rw [W.findHandler_go_linkNo hcov h0 (hW.classLinks hl) hcell hobj ⟨k0', hk0'⟩ ⟨kt', hkt'⟩ (by rw [hW.alike.assignable]; exact hno)]
          exact hq Q E d acts⟩
    · obtain ⟨vm', hW', hq⟩ := ih S hW hcell hrest
      exact ⟨vm', hW', fun Q E d acts => by
        rw [W.findHandler_go_skip (by simpa using hcov)]
        exact hq Q E d acts⟩
theorem z_leaveTo {e : Env} {s : State} {a : Addr} {f : JFrame} {r : List Frame} {meth : Method} {vm' : Vm}
    (hm : vm'.method? f.method = some meth) (hl : meth.locks = false) (hlocked : f.locked = none) (hentered : f.entered = []) (hfind : FindsTo e s f a .none vm') :
    (stepThrowing e s a (.java f :: r)).Is ((s.setVm vm').setFrames (.throwing a :: r)) [] := by
  simp only [stepThrowing, searchFrame, vmDo]
  generalize hr : Sem.go _ e false [] s = res
  obtain ⟨as, rfl, ha⟩ := Sem.eq_ok_of hr (a := Handler.none) (s' := s.setVm vm') (acts' := [])
    (by cases hp : e.platform.frameOwnsMonitors <;> simp [hfind _ _ _ _, hm, hl, hlocked, hentered, hp, leaveIfLocked])
  exact ⟨rfl, ha⟩
theorem z_thrownOut {tb : Tables} {e : Env} {s target : State} {g : JFrame} {c : Code} {below : List Frame} {a : Addr} (h : At s g.method c below) {meth : Method} {vm' : Vm} (hm : vm'.method? g.method = some meth) (hl : meth.locks = false)
    (hlocked : g.locked = none) (hentered : g.entered = []) (hfind : FindsTo e ((s.setTop g).pushFrame (.throwing a)) g a .none vm')
    (hrest : Steps tb e below ((s.setVm vm').setFrames (.throwing a :: s.frames.tail)) target) :
    Steps tb e below ((s.setTop g).pushFrame (.throwing a)) target := by
  obtain ⟨hgo, hw⟩ := h.throwing a
  refine Steps.head hgo hw ?_
  rw [stepThread_throwing (frames_entered h.top _), (z_leaveTo (s := (s.setTop g).pushFrame (.throwing a)) (meth := meth) hm hl hlocked hentered hfind).1]
  obtain ⟨g₀, hg⟩ := Option.isSome_iff_exists.mp h.top
  obtain ⟨r, hr⟩ := State.topJava?_eq_some.mp hg
  rw [hr, List.tail_cons] at hrest ⊢
  rw [State.pushFrame, State.setTop_of_frames _ hr, State.setFrames_setVm_setFrames]
  rw [State.setFrames_setVm_setFrames]
  exact hrest
section
variable {p : Program} {l : Launch} {e : Env} {R : Room} {s : State} {m : MethodId} {args : Array Value} {below : List Frame} {meth : Method} {c : Code} {H : Heap} {locs : List Loc} {cells slots : Nat} {rest : List Value}
variable {Qc : Array Value → State → Outcome → State → Prop} {XC : Addr → String → State → State → Prop} {free : Addr → Prop} {ls : Array Slot}
theorem z_vxout {own : String} {pc : Nat} {E : String} {ce : Cell} {q : Addr} {mc ms : Nat} (hown : s.vm.findClass own = some m.cls)
    (hpass : ∀ z ∈ c.exceptionTable.toList, covers z pc = false ∨ (z.catchType ≠ 0 ∧ ∃ nm : String, (Cond.classLink own z.catchType nm).before args s = true ∧ va_Nc E nm s)) (hlocks : meth.locks = false) (hcell : H[q]? = some ce) (hv : ce.vm = .none) (hcl : s.vm.findClass E = some ce.cls)
    (hx : ∀ t : State, t.heap = H → s.vm.Alike t.vm → XC q E s t) (hf : ∀ z ∈ locs, free z.base) (hc : cells ≤ mc) (hs : slots ≤ ms) :
    vx_W p l e R s m args below meth c H locs cells slots (vx_MQ below Qc XC args s mc ms free) (F0 m pc ls rest) q := by
  intro T hT X
  have hpl : e.platform.magicAccessors = ({} : Platform).magicAccessors := by rw [X.admits.platform]
  obtain ⟨k9, h9, -⟩ := Vm.findClass_spec hcl
  obtain ⟨vm', hW', hq⟩ := z_goNone (e := e) (s₀ := s) (f := F0 m pc ls rest) (a := q) (cell := ce) (fun k h => by rw [hv] at h; cases h) ⟨k9, h9⟩ c.exceptionTable.toList ((T.setTop (F0 m pc ls rest)).pushFrame (.throwing q)) X.warmed (by show T.heap[q]? = _; rw [hT]; exact hcell) (fun y hy => by
    rcases hpass y hy with h | ⟨hz0, nm, hl1, hn1⟩
    · exact Or.inl h
    · obtain ⟨c6, hc6, hcl6⟩ := Cond.classLink_spec hown hl1 e.platform hpl
      obtain ⟨a8, b8, h1, h2, h3⟩ := hn1
      cases Option.some.inj (h1.symm.trans hcl)
      cases Option.some.inj (h2.symm.trans hc6)
      exact Or.inr ⟨hz0, _, hcl6, h3⟩)
  have hfind : FindsTo e ((T.setTop (F0 m pc ls rest)).pushFrame (.throwing q)) (F0 m pc ls rest) q .none vm' := fun Q E d acts => by
    rw [W.findHandler_eq X.method' X.code]
    exact hq Q E d acts
  have X' := X.noted hW'
  obtain ⟨g₀, hfr⟩ := X.frames_eq
  have st1 : Steps p.tables e below ((T.setTop (F0 m pc ls rest)).pushFrame (.throwing q)) ((T.setVm vm').setFrames (.throwing q :: below)) := by
    refine z_thrownOut X.here (meth := meth) X'.method' hlocks rfl rfl hfind ?_
    rw [X.tail]
    exact Steps.refl _
  have hcell9 : ((T.setVm vm').setFrames (.throwing q :: below)).heap[q]? = some ce := by
    show T.heap[q]? = some ce
    rw [hT]; exact hcell
  exact ⟨_, st1, .threw q, X'.here.running, State.frames_setFrames _ (State.cur_lt_of_frames hfr), Or.inr ⟨q, rfl, E, ce, locs, hx _ hT (X'.ends _).1.alike, hcell9, hv, hcl, (X'.ends _).1, (X'.ends _).2.mono hc hs, hf⟩⟩
end
section EEX5
variable {M : e_M} {pc : Nat} {al st : List Value} {h : e_A} {kc ks d : Nat} {Q : e_R → e_A → Prop}
theorem e_outX {i : Nat} (hpass : ∀ z ∈ M.2.2.2.2, ¬ (z.1 ≤ pc ∧ pc < z.2.1) ∨ (z.2.2.2 ≠ 0 ∧ ∃ nm : String, Cond.classLink M.1.cls z.2.2.2 nm ∈ lw_all ∧ Cond.not (.castable (e_cn (h.1 i).1) nm) ∈ flatC (Jvm.Cond.and given_1 narrow_1))) (k : Q (.inr i) h) : e_T M pc al h i kc ks d Q := by
  intro g p e R s m args below meth c R0 hA Rf H locs cells slots ls sr q ce hS hl hi hq hce hcl
  have hcov : ∀ z : Nat × Nat × Nat × Nat, covers (⟨z.1, z.2.1, z.2.2.1, z.2.2.2⟩ : ExceptionTableEntry) pc = (decide (z.1 ≤ pc) && decide (pc < z.2.1)) := fun z => rfl
  refine z_vxout (own := M.1.cls) (E := e_cn (h.1 i).1) hA.2.2.2.2.2.2.1 (fun x hx => ?_) hA.2.2.2.2.2.1 hq hce hcl (fun t ht hal => ⟨i, Rf, h, hi, rfl, hS.1, by rw [ht]; exact hS.2.1, k⟩) hS.2.2.1 (by have := hS.2.2.2.1; omega) (by have := hS.2.2.2.2.1; omega)
  rw [hA.2.2.2.2.2.2.2.2.2.1] at hx
  obtain ⟨y, hy, rfl⟩ := List.mem_map.mp hx
  rcases hpass y hy with q | ⟨q, nm, q1, q2⟩
  · refine Or.inl ?_
    rw [hcov]
    by_cases z1 : y.1 ≤ pc
    · rw [decide_eq_false (p := pc < y.2.1) (fun z2 => q ⟨z1, z2⟩), Bool.and_false]
    · rw [decide_eq_false z1, Bool.false_and]
  · exact Or.inr ⟨q, nm, e_w hA q1, e_nc hA q2⟩
end EEX5
