/-! ARRAYS OUT OF BOUNDS, NULL, A CAST THAT FAILS (printed by gen_exc4.py) -/
set_option maxRecDepth 100000
section EEX4
variable {M : e_M} {pc : Nat} {al st : List Value} {h : e_A} {kc ks d : Nat} {Q : e_R → e_A → Prop}
theorem e_bastZ {n i : Nat} {f : Nat → Value} {j : Int} {x : Int32} (hd : decode M.2.1 pc = .ok (.bastore, 1)) (ho : h.1 i = (52, n, f)) (hj : e_rg j) (hout : j < 0 ∨ (n : Int) ≤ j) (hn : n < 2147483648) (h8 : Nat.ble ((st.map fun v => v.category).sum) 8 = true) (k : e_T M pc al (e_push h (72, 0, fun _ => .null)) h.2 kc ks d Q) : e_E M pc al (.int x :: e_i j :: .ref i :: st) h (kc + 3) (ks + 222) d Q := by
  intro g p e R s m args below meth c R0 hA Rf H locs cells slots ls sr hS hl hv
  obtain ⟨w, bs1, rfl, g1, g2⟩ := e_vs_c hv
  cases g1
  obtain ⟨b0, bs2, rfl, g3, g4⟩ := e_vs_c g2
  cases g3
  obtain ⟨b, bs, rfl, h3, h4⟩ := e_vs_c g4
  have ho2 := e_obj hS.2.1 h3
  rw [ho] at ho2
  obtain ⟨a, cA, z, rfl, hcell, t3, t4, t5⟩ := e_o_own (by omega) ho2
  have h9 := z_cat hS.2.1 h4 h8
  intro T hT X
  obtain ⟨t, st1, q⟩ := e_vmT (kd := 72) (nb := 212) (names := z_iN) (e := e) (below := below) (args := args) (sr := bs) hA ⟨by omega, by omega⟩ hS hl (by omega) z_m72 (by decide +kernel) (by decide +kernel) (by decide) (by decide +kernel) (by decide +kernel) (index_text_modelled (Int32.ofInt j) n) (index_text_bytes (Int32.ofInt j) hn) (by omega) k T hT X
  refine ⟨t, ?_, q⟩
  have h1 := X.bastoreOut hA.2.1 (by rw [hT]; exact hcell) (State.isArrayOf_alike (e_alk hA) (t3 n z)) (j := Int32.ofInt j) (x := x) (by
    rw [arrV_size]
    have e1 := e_ti hj
    rcases hout with q | q
    · refine Or.inl ?_
      rw [Int32.lt_iff_toInt_lt, e1]
      exact q
    · refine Or.inr ?_
      show n ≤ (Int32.ofInt j).toInt.toNat
      rw [e1]
      omega) (g := F0 m pc ls (.int x :: .int (Int32.ofInt j) :: .ref a :: bs)) rfl (rest := bs) rfl (by rw [hA.2.2.1]; exact hd) t
  simp only [arrV_size] at h1
  exact h1 st1
theorem e_sastZ {n i : Nat} {f : Nat → Value} {j : Int} {x : Int32} (hd : decode M.2.1 pc = .ok (.sastore, 1)) (ho : h.1 i = (53, n, f)) (hj : e_rg j) (hout : j < 0 ∨ (n : Int) ≤ j) (hn : n < 2147483648) (h8 : Nat.ble ((st.map fun v => v.category).sum) 8 = true) (k : e_T M pc al (e_push h (72, 0, fun _ => .null)) h.2 kc ks d Q) : e_E M pc al (.int x :: e_i j :: .ref i :: st) h (kc + 3) (ks + 222) d Q := by
  intro g p e R s m args below meth c R0 hA Rf H locs cells slots ls sr hS hl hv
  obtain ⟨w, bs1, rfl, g1, g2⟩ := e_vs_c hv
  cases g1
  obtain ⟨b0, bs2, rfl, g3, g4⟩ := e_vs_c g2
  cases g3
  obtain ⟨b, bs, rfl, h3, h4⟩ := e_vs_c g4
  have ho2 := e_obj hS.2.1 h3
  rw [ho] at ho2
  obtain ⟨a, cA, z, rfl, hcell, t3, t4, t5⟩ := e_o_own (by omega) ho2
  have h9 := z_cat hS.2.1 h4 h8
  intro T hT X
  obtain ⟨t, st1, q⟩ := e_vmT (kd := 72) (nb := 212) (names := z_iN) (e := e) (below := below) (args := args) (sr := bs) hA ⟨by omega, by omega⟩ hS hl (by omega) z_m72 (by decide +kernel) (by decide +kernel) (by decide) (by decide +kernel) (by decide +kernel) (index_text_modelled (Int32.ofInt j) n) (index_text_bytes (Int32.ofInt j) hn) (by omega) k T hT X
  refine ⟨t, ?_, q⟩
  have h1 := X.sastoreOut hA.2.1 (by rw [hT]; exact hcell) (State.isArrayOf_alike (e_alk hA) (t3 n z)) (j := Int32.ofInt j) (x := x) (by
    rw [arrV_size]
    have e1 := e_ti hj
    rcases hout with q | q
    · refine Or.inl ?_
      rw [Int32.lt_iff_toInt_lt, e1]
      exact q
    · refine Or.inr ?_
      show n ≤ (Int32.ofInt j).toInt.toNat
      rw [e1]
      omega) (g := F0 m pc ls (.int x :: .int (Int32.ofInt j) :: .ref a :: bs)) rfl (rest := bs) rfl (by rw [hA.2.2.1]; exact hd) t
  simp only [arrV_size] at h1
  exact h1 st1
theorem e_iastZ {n i : Nat} {f : Nat → Value} {j : Int} {x : Int32} (hd : decode M.2.1 pc = .ok (.iastore, 1)) (ho : h.1 i = (50, n, f)) (hj : e_rg j) (hout : j < 0 ∨ (n : Int) ≤ j) (hn : n < 2147483648) (h8 : Nat.ble ((st.map fun v => v.category).sum) 8 = true) (k : e_T M pc al (e_push h (72, 0, fun _ => .null)) h.2 kc ks d Q) : e_E M pc al (.int x :: e_i j :: .ref i :: st) h (kc + 3) (ks + 222) d Q := by
  intro g p e R s m args below meth c R0 hA Rf H locs cells slots ls sr hS hl hv
  obtain ⟨w, bs1, rfl, g1, g2⟩ := e_vs_c hv
  cases g1
  obtain ⟨b0, bs2, rfl, g3, g4⟩ := e_vs_c g2
  cases g3
  obtain ⟨b, bs, rfl, h3, h4⟩ := e_vs_c g4
  have ho2 := e_obj hS.2.1 h3
  rw [ho] at ho2
  obtain ⟨a, cA, z, rfl, hcell, t3, t4, t5⟩ := e_o_own (by omega) ho2
  have h9 := z_cat hS.2.1 h4 h8
  intro T hT X
  obtain ⟨t, st1, q⟩ := e_vmT (kd := 72) (nb := 212) (names := z_iN) (e := e) (below := below) (args := args) (sr := bs) hA ⟨by omega, by omega⟩ hS hl (by omega) z_m72 (by decide +kernel) (by decide +kernel) (by decide) (by decide +kernel) (by decide +kernel) (index_text_modelled (Int32.ofInt j) n) (index_text_bytes (Int32.ofInt j) hn) (by omega) k T hT X
  refine ⟨t, ?_, q⟩
  have h1 := X.iastoreOut hA.2.1 (by rw [hT]; exact hcell) (State.isArrayOf_alike (e_alk hA) (t3 n z)) (j := Int32.ofInt j) (x := x) (by
    rw [arrV_size]
    have e1 := e_ti hj
    rcases hout with q | q
    · refine Or.inl ?_
      rw [Int32.lt_iff_toInt_lt, e1]
      exact q
    · refine Or.inr ?_
      show n ≤ (Int32.ofInt j).toInt.toNat
      rw [e1]
      omega) (g := F0 m pc ls (.int x :: .int (Int32.ofInt j) :: .ref a :: bs)) rfl (rest := bs) rfl (by rw [hA.2.2.1]; exact hd) t
  simp only [arrV_size] at h1
  exact h1 st1
theorem e_lastZ {n i : Nat} {f : Nat → Value} {j : Int} {x : Int64} (hd : decode M.2.1 pc = .ok (.lastore, 1)) (ho : h.1 i = (54, n, f)) (hj : e_rg j) (hout : j < 0 ∨ (n : Int) ≤ j) (hn : n < 2147483648) (h8 : Nat.ble ((st.map fun v => v.category).sum) 8 = true) (k : e_T M pc al (e_push h (72, 0, fun _ => .null)) h.2 kc ks d Q) : e_E M pc al (.long x :: e_i j :: .ref i :: st) h (kc + 3) (ks + 222) d Q := by
  intro g p e R s m args below meth c R0 hA Rf H locs cells slots ls sr hS hl hv
  obtain ⟨w, bs1, rfl, g1, g2⟩ := e_vs_c hv
  cases g1
  obtain ⟨b0, bs2, rfl, g3, g4⟩ := e_vs_c g2
  cases g3
  obtain ⟨b, bs, rfl, h3, h4⟩ := e_vs_c g4
  have ho2 := e_obj hS.2.1 h3
  rw [ho] at ho2
  obtain ⟨a, cA, z, rfl, hcell, t3, t4, t5⟩ := e_o_own (by omega) ho2
  have h9 := z_cat hS.2.1 h4 h8
  intro T hT X
  obtain ⟨t, st1, q⟩ := e_vmT (kd := 72) (nb := 212) (names := z_iN) (e := e) (below := below) (args := args) (sr := bs) hA ⟨by omega, by omega⟩ hS hl (by omega) z_m72 (by decide +kernel) (by decide +kernel) (by decide) (by decide +kernel) (by decide +kernel) (index_text_modelled (Int32.ofInt j) n) (index_text_bytes (Int32.ofInt j) hn) (by omega) k T hT X
  refine ⟨t, ?_, q⟩
  have h1 := X.lastoreOut hA.2.1 (by rw [hT]; exact hcell) (State.isArrayOf_alike (e_alk hA) (t3 n z)) (j := Int32.ofInt j) (x := x) (by
    rw [arrV_size]
    have e1 := e_ti hj
    rcases hout with q | q
    · refine Or.inl ?_
      rw [Int32.lt_iff_toInt_lt, e1]
      exact q
    · refine Or.inr ?_
      show n ≤ (Int32.ofInt j).toInt.toNat
      rw [e1]
      omega) (g := F0 m pc ls (.long x :: .int (Int32.ofInt j) :: .ref a :: bs)) rfl (rest := bs) rfl (by rw [hA.2.2.1]; exact hd) t
  simp only [arrV_size] at h1
  exact h1 st1
theorem e_iastN {j : Int} {x : Int32} (hd : decode M.2.1 pc = .ok (.iastore, 1)) (h8 : Nat.ble ((st.map fun v => v.category).sum) 8 = true) (k : e_T M pc al (e_push h (71, 0, fun _ => .null)) h.2 kc ks d Q) : e_E M pc al (.int x :: e_i j :: .null :: st) h (kc + 1) (ks + 8) d Q := by
  intro g p e R s m args below meth c R0 hA Rf H locs cells slots ls sr hS hl hv
  obtain ⟨w, bs1, rfl, g1, g2⟩ := e_vs_c hv
  cases g1
  obtain ⟨b0, bs2, rfl, g3, g4⟩ := e_vs_c g2
  cases g3
  obtain ⟨b, bs, rfl, h3, h4⟩ := e_vs_c g4
  cases h3
  have h9 := z_cat hS.2.1 h4 h8
  exact vx_iastoreN hA.2.1 hA.2.2.1 hd (e_npT hA hS hl (by omega) k)
/-- two classes of which one isn't the other -/
theorem e_nc {g : e_G} {p : Program} {R : Room} {s : State} {m : MethodId} {meth : Method} {c : Code} (hA : e_At g M d p R s m meth c) {C T : String} (hn : Cond.not (.castable C T) ∈ flatC (Jvm.Cond.and given_1 narrow_1)) : va_Nc C T s := by
  obtain ⟨b, -, hb⟩ := hA.1.2.1
  exact va_Nc.moved (e_alk hA) (va_Nc.of (flat_of_before _ hb _ hn))
theorem e_arn {g : e_G} {p : Program} {R : Room} {s : State} {m : MethodId} {meth : Method} {c : Code} {kd : Nat} {cA : ClassId} (hA : e_At g M d p R s m meth c) (hk : 50 ≤ kd ∧ kd < 55) (q3 : va_RA g.2.1 cA (e_ty kd)) : s.vm.findClass (e_an kd) = some cA := by
  have q3 := q3.moved (e_alk hA)
  have : kd = 50 ∨ kd = 51 ∨ kd = 52 ∨ kd = 53 ∨ kd = 54 := by omega
  rcases this with rfl | rfl | rfl | rfl | rfl <;> exact q3
theorem e_instNA {idx kd i n : Nat} {f : Nat → Value} {T : String} (hd : decode M.2.1 pc = .ok (.instanceof idx, 3)) (ho : h.1 i = (kd, n, f)) (hk : 50 ≤ kd ∧ kd < 55) (hcl : Cond.classLink M.1.cls idx T ∈ lw_all) (hn : Cond.not (.castable (e_an kd) T) ∈ flatC (Jvm.Cond.and given_1 narrow_1)) (kk : e_E M (pc + 3) al (e_i 0 :: st) h kc ks d Q) : e_E M pc al (.ref i :: st) h kc ks d Q := by
  intro g p e R s m args below meth c R0 hA Rf H locs cells slots ls sr hS hl hv
  obtain ⟨w, bs, rfl, g1, g2⟩ := e_vs_c hv
  have ho2 := e_obj hS.2.1 g1
  rw [ho] at ho2
  obtain ⟨a, cA, z, rfl, q1, q2, q3, q4⟩ := e_o_own (by omega) ho2
  exact va_instNo hA.2.1 hA.2.2.1 hA.2.2.2.2.2.2.1 (e_w hA hcl) (e_nc hA hn) ⟨_, q1, rfl, e_arn hA hk q3⟩ hd (kk g p e R s m args below meth c R0 hA Rf H locs cells slots ls _ hS hl ⟨rfl, g2⟩)
/-! a cast that fails -/
def z_Ar (k : Class) (nm : String) : Prop := k.name = nm ∧ k.hidden = none ∧ k.loader = none ∧ ∃ c t, k.kind = .array c t
theorem z_Ar_of {vm : Vm} {nm : String} {c : ClassId} {k : Class} (h : vm.findClass nm = some c) (hk : vm.classes[c]? = some k) (hk1 : ∃ c t, k.kind = .array c t) : z_Ar k nm := by
  obtain ⟨hlt, hp, _⟩ := Array.findIdx?_eq_some_iff_getElem.mp h
  have e : vm.classes[c] = k := by
    have := Array.getElem?_eq_getElem hlt
    rw [hk] at this
    exact (Option.some.inj this).symm
  rw [e] at hp
  simp only [Bool.and_eq_true, beq_iff_eq, Option.isNone_iff_eq_none] at hp
  exact ⟨hp.1.1.1, hp.1.1.2, hp.2, hk1⟩
theorem z_msg (vm : Vm) {ka kb : Class} (ha : z_Ar ka "[J") (hb : z_Ar kb "[I") : Op.checkcast.message vm ka kb = "class [J cannot be cast to class [I ([J and [I are in unnamed module of loader 'bootstrap')" ∨ Op.checkcast.message vm ka kb = "class [J cannot be cast to class [I ([J and [I are in module java.base of loader 'bootstrap')" := by
  obtain ⟨a1, a2, a3, ac, at1, a4⟩ := ha
  obtain ⟨b1, b2, b3, bc, bt, b4⟩ := hb
  have sa : ka.shown = "[J" := by unfold Class.shown; rw [a2, a1]; show dotted "[J" = "[J"; decide +kernel
  have sb : kb.shown = "[I" := by unfold Class.shown; rw [b2, b1]; show dotted "[I" = "[I"; decide +kernel
  have pa : ka.ofPrimitives = true := by unfold Class.ofPrimitives; rw [a4, a1]; show ((withoutBrackets "[J").length == 1) = true; decide +kernel
  have pb : kb.ofPrimitives = true := by unfold Class.ofPrimitives; rw [b4, b1]; show ((withoutBrackets "[I").length == 1) = true; decide +kernel
  have ma : vm.moduleOf ka = vm.modules.find? (·.name == "java.base") := by unfold Vm.moduleOf; rw [if_pos pa]
  have mb : vm.moduleOf kb = vm.modules.find? (·.name == "java.base") := by unfold Vm.moduleOf; rw [if_pos pb]
  unfold Op.checkcast.message Vm.homes Vm.sameModule Vm.home
  have hl : vm.loaderName none = "'bootstrap'" := rfl
  rw [sa, sb, ma, mb, a3, b3, hl]
  cases hf : vm.modules.find? (·.name == "java.base") with
  | none =>
    refine Or.inl ?_
    simp only [beq_self_eq_true, if_true]
    decide +kernel
  | some mo =>
    refine Or.inr ?_
    have hn : mo.name = "java.base" := by
      have := List.find?_some hf
      exact beq_iff_eq.mp this
    simp only [beq_self_eq_true, if_true]
    rw [hn]
    decide +kernel
theorem z_msg_ok {t : String} (h : t = "class [J cannot be cast to class [I ([J and [I are in unnamed module of loader 'bootstrap')" ∨ t = "class [J cannot be cast to class [I ([J and [I are in module java.base of loader 'bootstrap')") : (t == notModelled) = false ∧ (stringBytes (stringToUtf16 t)).size ≤ 300 := by
  rcases h with rfl | rfl
  · exact ⟨by decide +kernel, by decide +kernel⟩
  · exact ⟨by decide +kernel, by decide +kernel⟩
theorem z_castNo {p : Program} {l : Launch} {e : Env} {R : Room} {s : State} {m : MethodId} {args : Array Value} {below : List Frame} {meth : Method} {c : Code} {locs : List Loc} {cells slots : Nat} {T : State} (X : Stand p l e R s m args below meth c T locs cells slots) (hexec : p.tables.exec = Jvm.exec)
    {own name : String} {index : Nat} (hown : s.vm.findClass own = some m.cls) (hlink : (Cond.classLink own index name).before args s = true)
    {a : Addr} {cell : Cell} {cT : ClassId} {ks : Class} (hcell : T.heap[a]? = some cell) (hobj : ∀ k, cell.vm ≠ .statics k) (hks : s.vm.classes[cell.cls]? = some ks)
    (hcT : s.vm.findClass name = some cT) (hasg : s.vm.assignable cell.cls cT = false)
    {g : JFrame} (hg : g.method = m) {rest : List Value} (hstack : g.stack = .ref a :: rest) (hdg : decode c.code g.pc = .ok (.checkcast index, 3)) :
    ∃ (vm' : Vm) (ks' kt' : Class), Stand p l e R s m args below meth c (T.setVm vm') locs cells slots ∧ s.vm.Alike vm' ∧ vm'.classes[cell.cls]? = some ks' ∧ vm'.classes[cT]? = some kt' ∧
      ∀ target, Steps p.tables e below (((T.setVm vm').setTop g).pushFrame (.throwNew "java/lang/ClassCastException" (some (Op.checkcast.message vm' ks' kt')) none)) target → Steps p.tables e below (T.setTop g) target := by
  have hpl : e.platform.magicAccessors = ({} : Platform).magicAccessors := by rw [X.admits.platform]
  obtain ⟨c', hc', hcl⟩ := Cond.classLink_spec hown hlink e.platform hpl
  cases hcT.symm.trans hc'
  obtain ⟨dk, _, _, kt, hd, _, _, _, _, hkt, _, hopen⟩ := hcl.here
  have hcl₀ := X.warmed.classLinks hcl
  have hW' : s.WarmedH (T.vm.noted m.cls index (.cls cT)) := X.warmed.noted hd hopen (State.rightAt_cls hcl)
  obtain ⟨ks', hks', -⟩ := hW'.alike.2.2 _ _ hks
  obtain ⟨kt', hkt', -⟩ := hW'.alike.2.2 _ _ hkt
  refine ⟨_, ks', kt', X.noted hW', hW'.alike, hks', hkt', fun target hrest => ?_⟩
  subst hg
  jvm_step X.here [hexec, hdg, checkcast.wp_cold (e := e) (s := T) (f := g) X.here.top hstack (resolveClass_links e.toSetting hcl₀) hcl₀.ready,
    checkcast.wp_ready (e := e) (s := T.setVm (T.vm.noted g.method.cls index (.cls cT))) (f := g) X.here.top hcl₀.ready hstack]
  refine ⟨cell, hcell, hobj, ks', hks', kt', hkt', ?_⟩
  rw [if_neg (by rw [hW'.alike.assignable, hasg]; decide)]
  exact hrest
theorem z_kd {g : e_G} {p : Program} {R : Room} {s : State} {m : MethodId} {meth : Method} {c : Code} (hA : e_At g M d p R s m meth c) : (∃ cA kA, s.vm.findClass "[I" = some cA ∧ s.vm.classes[cA]? = some kA ∧ ∃ c t, kA.kind = .array c t) ∧ ∃ cA kA, s.vm.findClass "[J" = some cA ∧ s.vm.classes[cA]? = some kA ∧ ∃ c t, kA.kind = .array c t := by
  obtain ⟨c1, k1, p1, h1, h2, h3⟩ := Cond.arrayClass_spec (args := #[]) (e_w (args := #[]) hA q281)
  obtain ⟨c2, k2, p2, g1, g2, g3⟩ := Cond.arrayClass_spec (args := #[]) (e_w (args := #[]) hA q282)
  exact ⟨⟨c1, k1, h1, h2, _, _, h3⟩, ⟨c2, k2, g1, g2, _, _, g3⟩⟩
/-- an array of longs isn't one of ints -/
theorem e_castZ {idx i n : Nat} {f : Nat → Value} (hd : decode M.2.1 pc = .ok (.checkcast idx, 3)) (ho : h.1 i = (54, n, f)) (hcl : Cond.classLink M.1.cls idx "[I" ∈ lw_all) (hn : Cond.not (.castable "[J" "[I") ∈ flatC (Jvm.Cond.and given_1 narrow_1)) (h8 : Nat.ble ((st.map fun v => v.category).sum) 8 = true) (k : e_T M pc al (e_push h (73, 0, fun _ => .null)) h.2 kc ks d Q) : e_E M pc al (.ref i :: st) h (kc + 3) (ks + 310) d Q := by
  intro g p e R s m args below meth c R0 hA Rf H locs cells slots ls sr hS hl hv
  obtain ⟨w, bs, rfl, g1, g2⟩ := e_vs_c hv
  have ho2 := e_obj hS.2.1 g1
  rw [ho] at ho2
  obtain ⟨a, cA, z, rfl, q1, q2, q3, q4⟩ := e_o_own (by omega) ho2
  have h9 := z_cat hS.2.1 g2 h8
  have hfa : s.vm.findClass "[J" = some cA := e_arn (kd := 54) hA (by omega) q3
  obtain ⟨⟨cI, kI, i1, i2, i3⟩, ⟨cJ, kJ, j1, j2, j3⟩⟩ := z_kd hA
  cases hfa.symm.trans j1
  obtain ⟨c0, t0, f1, f2, f3⟩ := e_nc hA hn
  cases f1.symm.trans j1
  cases f2.symm.trans i1
  intro T hT X
  obtain ⟨vm', ks', kt', X', hal, hk1, hk2, st1⟩ := z_castNo X hA.2.1 hA.2.2.2.2.2.2.1 (e_w hA hcl) (by rw [hT]; exact q1) (fun k q => by cases q) j2 i1 f3 (g := F0 m pc ls (.ref a :: bs)) rfl rfl (by rw [hA.2.2.1]; exact hd)
  have kk1 : ∃ c t, ks'.kind = .array c t := by
    obtain ⟨k9, e1, e2⟩ := hal.2.2 _ _ j2
    cases hk1.symm.trans e1
    rw [e2]
    exact j3
  have kk2 : ∃ c t, kt'.kind = .array c t := by
    obtain ⟨k9, e1, e2⟩ := hal.2.2 _ _ i2
    cases hk2.symm.trans e1
    rw [e2]
    exact i3
  have hm := z_msg_ok (z_msg vm' (z_Ar_of (by rw [hal.findClass]; exact j1) hk1 kk1) (z_Ar_of (by rw [hal.findClass]; exact i1) hk2 kk2))
  obtain ⟨t, st2, q⟩ := e_vmT (kd := 73) (nb := 300) (names := z_rN) (e := e) (below := below) (args := args) (sr := .ref a :: bs) hA ⟨by omega, by omega⟩ hS hl (by show 1 + (bs.map fun v => v.category).sum ≤ 700; omega) z_m73 (by decide +kernel) (by decide +kernel) (by decide) (by decide +kernel) (by decide +kernel) hm.1 hm.2 (by omega) k (T.setVm vm') hT X'
  exact ⟨t, st1 t st2, q⟩
end EEX4
