/-! CALLS BY AN INTERFACE (printed by gen_if.py) -/
set_option maxRecDepth 100000
section ECALLF
variable {M : e_M} {pc : Nat} {al st : List Value} {h : e_A} {kc ks d : Nat} {Q : e_R → e_A → Prop}
theorem e_after5 {g : e_G} {p : Program} {e : Env} {R : Room} {s : State} {m : MethodId} {args : Array Value} {below : List Frame} {meth : Method} {c : Code} {R0 Rf : List Value} {H : Heap} {locs : List Loc} {cells slots mc ms : Nat} {ls : Array Slot} {st0 sr : List Value} {Q1 : e_R → e_A → Prop} {aa : Array Value}
    (hA : e_At g M d p R s m meth c) (hS : e_S g R0 Rf h H locs s R cells slots (kc + mc) (ks + ms)) (hl : e_ls Rf M.2.2.1 al ls) (hv : e_vs Rf st sr)
    (hr : vx_Run5 p g.1 e R s m args below meth c H locs cells slots mc ms (F0 m pc ls st0) sr (e_Qc g Rf Q1 aa) (e_Xc g Rf Q1) (fun q => g.2.1.heap.size ≤ q))
    (kk : ∀ (a : Option Value) (h1 : e_A), Q1 (.inl a) h1 → e_E M (pc + 5) al (a.toList ++ st) h1 kc ks d Q) (kx : ∀ (i : Nat) (h1 : e_A), Q1 (.inr i) h1 → e_T M pc al h1 i kc ks d Q) :
    W p g.1 e R s m args below meth c H locs cells slots (vx_MQ below (e_Qc g R0 Q) (e_Xc g R0 Q) args s R.cells R.slots (fun q => g.2.1.heap.size ≤ q)) (F0 m pc ls st0) := by
  intro T hT X
  have hS4 := hS.2.2.2.1
  have hS5 := hS.2.2.2.2.1
  rcases hr T hT X with ⟨v, st₀, t, T', L, h0, X', hL, e1, e2, ⟨w, a, R1, h1, ho, hov, hpre, hH1, hq⟩, go⟩ | ⟨q, st₀, t, T', L, E, ce, h0, X', hL, e1, e2, ⟨i, R1, h1, hi, hE, hpre, hH1, hq⟩, hce, hcv, hcl, go⟩
  · cases ho
    have hsz : s.heap.size ≤ T'.heap.size := X'.same.2.1
    obtain ⟨t2, a1, b1⟩ := kk a h1 hq g p e R s m args below meth c R0 hA R1 T'.heap (locs ++ L) (cells + mc) (slots + ms) ls (v.toList ++ sr) ⟨hS.1.trans hpre, by rw [e1]; exact hH1, fun z hz => (List.mem_append.mp hz).elim (hS.2.2.1 z) (hL z), by omega, by omega, hsz⟩ (e_ls_app hl hpre) (by
      cases a with
      | none => cases hov; exact e_vs_app hpre hv
      | some av => obtain ⟨z, rfl, hz⟩ := hov; exact ⟨hz, e_vs_app hpre hv⟩) T' rfl X'
    exact ⟨t2, go t2 a1, b1⟩
  · have hsz : s.heap.size ≤ T'.heap.size := X'.same.2.1
    obtain ⟨t2, a1, b1⟩ := kx i h1 hq g p e R s m args below meth c R0 hA R1 T'.heap (locs ++ L) (cells + mc) (slots + ms) ls sr q ce ⟨hS.1.trans hpre, by rw [e1]; exact hH1, fun z hz => (List.mem_append.mp hz).elim (hS.2.2.1 z) (hL z), by omega, by omega, hsz⟩ (e_ls_app hl hpre) hi (by rw [e1]; exact hce) hcv (by rw [← hE]; exact hcl) T' rfl X'
    exact ⟨t2, go.trans a1, b1⟩
/-- what the tables say of such a call -/
def e_if (own : String) (idx ci : Nat) (x : MethodName) (y : MethodName) (n : Nat) : Prop := Cond.methodLink own idx x ∈ lw_all ∧ Cond.selects (e_nmk ci) x y ∈ lw_all ∧ Cond.instanceMethod y ∈ lw_all ∧ Cond.declares x ∈ lw_tbl ∧ Cond.interfaceMethod x.cls x.cls x.name x.desc ∈ lw_tbl ∧ Cond.publicMethod y ∈ lw_tbl ∧ Cond.unhidden (e_nmk ci) x.name x.desc ∈ lw_tbl ∧ Cond.castable (e_nmk ci) x.cls ∈ lw_tbl ∧ x.cls ≠ "java/lang/invoke/MethodHandle" ∧ x.cls ≠ "java/lang/invoke/VarHandle" ∧ (parseMethodDescriptor x.desc).map (fun d => d.parameters.length) = some n
theorem e_Fw {g : e_G} {p : Program} {R : Room} {s : State} {m : MethodId} {meth : Method} {c : Code} (hA : e_At g M d p R s m meth c) {own : String} {idx ci n : Nat} {x y : MethodName} (hi : e_if own idx ci x y n) : va_Fw (e_nmk ci) x y s := by
  obtain ⟨-, -, -, w1, w2, w3, w4, w5, hx1, hx2, -⟩ := hi
  obtain ⟨b, hb, -⟩ := hA.1.2.1
  exact va_Fw.moved ⟨hx1, hx2⟩ (e_alk hA) (va_Fw.of (hb _ w1) (hb _ w2) (hb _ w3) (hb _ w4) (hb _ w5))
theorem e_callFG {M1 : e_M} {av : List Value} {idx cnt n mc ms d1 i ci n2 : Nat} {x : MethodName} {f : Nat → Value} {Q1 : e_R → e_A → Prop} (hd : decode M.2.1 pc = .ok (.invokeinterface idx cnt, 5)) (hi : e_if M.1.cls idx ci x M1.1 n) (hm : e_md M1 n) (hh : M1.2.2.2.2 = []) (hn : av.length = n) (ho : h.1 i = (ci, n2, f)) (hci : ci < 13) (h8 : Nat.ble ((st.map fun v => v.category).sum) 8 = true) (hd1 : d1 + 1 ≤ d) (hC : e_C M1 (.ref i :: av) h mc ms d1 Q1)
    (kk : ∀ (a : Option Value) (h1 : e_A), Q1 (.inl a) h1 → e_E M (pc + 5) al (a.toList ++ st) h1 kc ks d Q) (kx : ∀ (i : Nat) (h1 : e_A), Q1 (.inr i) h1 → e_T M pc al h1 i kc ks d Q) : e_E M pc al (av.reverse ++ .ref i :: st) h (kc + mc) (ks + ms) d Q := by
  intro g p e R s m args below meth c R0 hA Rf H locs cells slots ls sr hS hl hv
  obtain ⟨ar, b, s2, rfl, hva, hvb, hv2⟩ := e_argsO hv
  have ho2 := e_obj hS.2.1 hvb
  rw [ho] at ho2
  obtain ⟨a, cell, rfl, q1, q2, q3⟩ := e_recv hA (by omega) ho2
  have hM := hC g Rf (.ref a :: ar) hA.1 ⟨hvb, hva⟩
  have h9 := e_back6 (mc := mc) (ms := ms) hA hm hd1
  rw [e_wd0 hh] at hM h9
  have hnr : ar.length = n := (e_vs_len hva).symm.trans hn
  have hp : PreV s H (e_nmk ci) a (e_Pc g Rf (.ref a :: ar) h) ar := ⟨e_blind _ _ _ _, ⟨cell, q1, q2, q3⟩, fun U hU hW => ⟨rfl, State.WarmedH.trans hA.2.2.2.2.2.2.2.2.1 hW, by rw [hU]; exact hS.2.1⟩⟩
  have hf : cells + mc ≤ R.cells ∧ slots + ms ≤ R.slots := ⟨by have := hS.2.2.2.1; omega, by have := hS.2.2.2.2.1; omega⟩
  have hcode : (Cond.code M1.1 M1.2.1 M1.2.2.1 M1.2.2.2.1).before args s = true := by rw [← e_wd0 hh]; exact e_w hA hm.2.1
  have hF := e_Fw hA hi
  have hat : ∃ cC, ClassAt s (e_nmk ci) cC := by
    have hc : ∃ q, e_cl[ci]? = some q := ⟨_, List.getElem?_eq_getElem (show ci < 15 by omega)⟩
    obtain ⟨⟨C, T, N⟩, hc⟩ := hc
    have hk := (e_Kn hA hc).2
    refine ⟨g.2.2.1 ci, ?_⟩
    unfold e_nmk
    rw [hc]
    exact hk
  obtain ⟨cC, hat⟩ := hat
  obtain ⟨w1, w2, w3, -, -, -, -, -, hx1, hx2, hlen⟩ := hi
  refine e_after5 hA hS hl hv2 (vx_runF (x := x) hat (e_fix hA) hM ⟨⟨h9.1, h9.2.1, h9.2.2.1, h9.2.2.2.1, h9.2.2.2.2.1, h9.2.2.2.2.2⟩, e_w hA w1, va_any rfl hF.1, va_any rfl hF.2.1, e_w hA w2, e_w hA w3, va_any rfl hF.2.2.1, va_any rfl hF.2.2.2.1, va_any rfl hF.2.2.2.2, e_w hA hm.1, hcode, ⟨hx1, hx2⟩, fun sig h => ?_⟩ hp rfl hnr hl.2.1 rfl (e_sum8 hS.2.1 hv2 h8) hd hf) kk kx
  rw [h] at hlen
  exact (Option.some.inj hlen).symm
theorem e_callF0 {M1 : e_M} {idx cnt mc ms d1 i ci n2 : Nat} {x : MethodName} {f : Nat → Value} {Q1 : e_R → e_A → Prop} (hd : decode M.2.1 pc = .ok (.invokeinterface idx cnt, 5)) (hm : e_md M1 0) (hi : e_if M.1.cls idx ci x M1.1 0) (hh : M1.2.2.2.2 = []) (ho : h.1 i = (ci, n2, f)) (hci : ci < 13) (h8 : Nat.ble ((st.map fun v => v.category).sum) 8 = true) (hd1 : d1 + 1 ≤ d) (hC : e_C M1 [.ref i] h mc ms d1 Q1) (kk : ∀ (a : Option Value) (h1 : e_A), Q1 (.inl a) h1 → e_E M (pc + 5) al (a.toList ++ st) h1 kc ks d Q) (kx : ∀ (i : Nat) (h1 : e_A), Q1 (.inr i) h1 → e_T M pc al h1 i kc ks d Q) : e_E M pc al (.ref i :: st) h (kc + mc) (ks + ms) d Q :=
  e_callFG hd hi hm hh rfl ho hci h8 hd1 hC kk kx
theorem e_callF0r {M1 : e_M} {idx cnt mc ms d1 i ci n2 : Nat} {x : MethodName} {f : Nat → Value} {v : Value} {h9 : e_A} (hd : decode M.2.1 pc = .ok (.invokeinterface idx cnt, 5)) (hm : e_md M1 0) (hi : e_if M.1.cls idx ci x M1.1 0) (hh : M1.2.2.2.2 = []) (ho : h.1 i = (ci, n2, f)) (hci : ci < 13) (h8 : Nat.ble ((st.map fun v => v.category).sum) 8 = true) (hd1 : d1 + 1 ≤ d) (hC : e_C M1 [.ref i] h mc ms d1 (e_ret v h9)) (kk : e_E M (pc + 5) al (v :: st) h9 kc ks d Q) : e_E M pc al (.ref i :: st) h (kc + mc) (ks + ms) d Q :=
  e_callFG hd hi hm hh rfl ho hci h8 hd1 hC (fun a h1 q => by obtain ⟨q1, rfl⟩ := q; cases q1; exact kk) (fun i h1 q => by cases q.1)
theorem e_callF0v {M1 : e_M} {idx cnt mc ms d1 i ci n2 : Nat} {x : MethodName} {f : Nat → Value} {h9 : e_A} (hd : decode M.2.1 pc = .ok (.invokeinterface idx cnt, 5)) (hm : e_md M1 0) (hi : e_if M.1.cls idx ci x M1.1 0) (hh : M1.2.2.2.2 = []) (ho : h.1 i = (ci, n2, f)) (hci : ci < 13) (h8 : Nat.ble ((st.map fun v => v.category).sum) 8 = true) (hd1 : d1 + 1 ≤ d) (hC : e_C M1 [.ref i] h mc ms d1 (e_rev h9)) (kk : e_E M (pc + 5) al st h9 kc ks d Q) : e_E M pc al (.ref i :: st) h (kc + mc) (ks + ms) d Q :=
  e_callFG hd hi hm hh rfl ho hci h8 hd1 hC (fun a h1 q => by obtain ⟨q1, rfl⟩ := q; cases q1; exact kk) (fun i h1 q => by cases q.1)
theorem e_callF0rz {M1 : e_M} {idx cnt d1 i ci n2 : Nat} {x : MethodName} {f : Nat → Value} {v : Value} {h9 : e_A} (hd : decode M.2.1 pc = .ok (.invokeinterface idx cnt, 5)) (hm : e_md M1 0) (hi : e_if M.1.cls idx ci x M1.1 0) (hh : M1.2.2.2.2 = []) (ho : h.1 i = (ci, n2, f)) (hci : ci < 13) (h8 : Nat.ble ((st.map fun v => v.category).sum) 8 = true) (hd1 : d1 + 1 ≤ d) (hC : e_C M1 [.ref i] h 0 0 d1 (e_ret v h9)) (kk : e_E M (pc + 5) al (v :: st) h9 kc ks d Q) : e_E M pc al (.ref i :: st) h kc ks d Q :=
  e_callF0r (kc := kc) (ks := ks) (mc := 0) (ms := 0) hd hm hi hh ho hci h8 hd1 hC kk
theorem e_callF0vz {M1 : e_M} {idx cnt d1 i ci n2 : Nat} {x : MethodName} {f : Nat → Value} {h9 : e_A} (hd : decode M.2.1 pc = .ok (.invokeinterface idx cnt, 5)) (hm : e_md M1 0) (hi : e_if M.1.cls idx ci x M1.1 0) (hh : M1.2.2.2.2 = []) (ho : h.1 i = (ci, n2, f)) (hci : ci < 13) (h8 : Nat.ble ((st.map fun v => v.category).sum) 8 = true) (hd1 : d1 + 1 ≤ d) (hC : e_C M1 [.ref i] h 0 0 d1 (e_rev h9)) (kk : e_E M (pc + 5) al st h9 kc ks d Q) : e_E M pc al (.ref i :: st) h kc ks d Q :=
  e_callF0v (kc := kc) (ks := ks) (mc := 0) (ms := 0) hd hm hi hh ho hci h8 hd1 hC kk
theorem e_callF1 {M1 : e_M} {x0 : Value} {idx cnt mc ms d1 i ci n2 : Nat} {x : MethodName} {f : Nat → Value} {Q1 : e_R → e_A → Prop} (hd : decode M.2.1 pc = .ok (.invokeinterface idx cnt, 5)) (hm : e_md M1 1) (hi : e_if M.1.cls idx ci x M1.1 1) (hh : M1.2.2.2.2 = []) (ho : h.1 i = (ci, n2, f)) (hci : ci < 13) (h8 : Nat.ble ((st.map fun v => v.category).sum) 8 = true) (hd1 : d1 + 1 ≤ d) (hC : e_C M1 [.ref i, x0] h mc ms d1 Q1) (kk : ∀ (a : Option Value) (h1 : e_A), Q1 (.inl a) h1 → e_E M (pc + 5) al (a.toList ++ st) h1 kc ks d Q) (kx : ∀ (i : Nat) (h1 : e_A), Q1 (.inr i) h1 → e_T M pc al h1 i kc ks d Q) : e_E M pc al (x0 :: .ref i :: st) h (kc + mc) (ks + ms) d Q :=
  e_callFG hd hi hm hh rfl ho hci h8 hd1 hC kk kx
theorem e_callF1r {M1 : e_M} {x0 : Value} {idx cnt mc ms d1 i ci n2 : Nat} {x : MethodName} {f : Nat → Value} {v : Value} {h9 : e_A} (hd : decode M.2.1 pc = .ok (.invokeinterface idx cnt, 5)) (hm : e_md M1 1) (hi : e_if M.1.cls idx ci x M1.1 1) (hh : M1.2.2.2.2 = []) (ho : h.1 i = (ci, n2, f)) (hci : ci < 13) (h8 : Nat.ble ((st.map fun v => v.category).sum) 8 = true) (hd1 : d1 + 1 ≤ d) (hC : e_C M1 [.ref i, x0] h mc ms d1 (e_ret v h9)) (kk : e_E M (pc + 5) al (v :: st) h9 kc ks d Q) : e_E M pc al (x0 :: .ref i :: st) h (kc + mc) (ks + ms) d Q :=
  e_callFG hd hi hm hh rfl ho hci h8 hd1 hC (fun a h1 q => by obtain ⟨q1, rfl⟩ := q; cases q1; exact kk) (fun i h1 q => by cases q.1)
theorem e_callF1v {M1 : e_M} {x0 : Value} {idx cnt mc ms d1 i ci n2 : Nat} {x : MethodName} {f : Nat → Value} {h9 : e_A} (hd : decode M.2.1 pc = .ok (.invokeinterface idx cnt, 5)) (hm : e_md M1 1) (hi : e_if M.1.cls idx ci x M1.1 1) (hh : M1.2.2.2.2 = []) (ho : h.1 i = (ci, n2, f)) (hci : ci < 13) (h8 : Nat.ble ((st.map fun v => v.category).sum) 8 = true) (hd1 : d1 + 1 ≤ d) (hC : e_C M1 [.ref i, x0] h mc ms d1 (e_rev h9)) (kk : e_E M (pc + 5) al st h9 kc ks d Q) : e_E M pc al (x0 :: .ref i :: st) h (kc + mc) (ks + ms) d Q :=
  e_callFG hd hi hm hh rfl ho hci h8 hd1 hC (fun a h1 q => by obtain ⟨q1, rfl⟩ := q; cases q1; exact kk) (fun i h1 q => by cases q.1)
theorem e_callF1rz {M1 : e_M} {x0 : Value} {idx cnt d1 i ci n2 : Nat} {x : MethodName} {f : Nat → Value} {v : Value} {h9 : e_A} (hd : decode M.2.1 pc = .ok (.invokeinterface idx cnt, 5)) (hm : e_md M1 1) (hi : e_if M.1.cls idx ci x M1.1 1) (hh : M1.2.2.2.2 = []) (ho : h.1 i = (ci, n2, f)) (hci : ci < 13) (h8 : Nat.ble ((st.map fun v => v.category).sum) 8 = true) (hd1 : d1 + 1 ≤ d) (hC : e_C M1 [.ref i, x0] h 0 0 d1 (e_ret v h9)) (kk : e_E M (pc + 5) al (v :: st) h9 kc ks d Q) : e_E M pc al (x0 :: .ref i :: st) h kc ks d Q :=
  e_callF1r (kc := kc) (ks := ks) (mc := 0) (ms := 0) hd hm hi hh ho hci h8 hd1 hC kk
theorem e_callF1vz {M1 : e_M} {x0 : Value} {idx cnt d1 i ci n2 : Nat} {x : MethodName} {f : Nat → Value} {h9 : e_A} (hd : decode M.2.1 pc = .ok (.invokeinterface idx cnt, 5)) (hm : e_md M1 1) (hi : e_if M.1.cls idx ci x M1.1 1) (hh : M1.2.2.2.2 = []) (ho : h.1 i = (ci, n2, f)) (hci : ci < 13) (h8 : Nat.ble ((st.map fun v => v.category).sum) 8 = true) (hd1 : d1 + 1 ≤ d) (hC : e_C M1 [.ref i, x0] h 0 0 d1 (e_rev h9)) (kk : e_E M (pc + 5) al st h9 kc ks d Q) : e_E M pc al (x0 :: .ref i :: st) h kc ks d Q :=
  e_callF1v (kc := kc) (ks := ks) (mc := 0) (ms := 0) hd hm hi hh ho hci h8 hd1 hC kk
end ECALLF
theorem if_X7_145 : e_if "WidowRoads$Reader" 145 11 ⟨"java/util/List", "size", "()I"⟩ yJ2_size 0 := ⟨q826, q830, q832, q828, q827, q833, q831, q829, by decide +kernel, by decide +kernel, by decide +kernel⟩
theorem if_X7_101 : e_if "WidowRoads$Reader" 101 11 ⟨"java/util/List", "contains", "(Ljava/lang/Object;)Z"⟩ yJ2_contains 1 := ⟨q864, q867, q869, q866, q865, q870, q868, q829, by decide +kernel, by decide +kernel, by decide +kernel⟩
theorem if_X7_140 : e_if "WidowRoads$Reader" 140 11 ⟨"java/util/List", "add", "(Ljava/lang/Object;)Z"⟩ yJ2_add 1 := ⟨q915, q918, q920, q917, q916, q921, q919, q829, by decide +kernel, by decide +kernel, by decide +kernel⟩
theorem if_X0_158 : e_if "WidowRoads" 158 11 ⟨"java/util/List", "iterator", "()Ljava/util/Iterator;"⟩ yJ2_iterator 0 := ⟨q1058, q1061, q1063, q1060, q1059, q1064, q1062, q829, by decide +kernel, by decide +kernel, by decide +kernel⟩
theorem if_X0_162 : e_if "WidowRoads" 162 12 ⟨"java/util/Iterator", "hasNext", "()Z"⟩ yJ15_hasNext 0 := ⟨q1086, q1090, q1092, q1088, q1087, q1093, q1091, q1089, by decide +kernel, by decide +kernel, by decide +kernel⟩
theorem if_X0_167 : e_if "WidowRoads" 167 12 ⟨"java/util/Iterator", "next", "()Ljava/lang/Object;"⟩ yJ15_next 0 := ⟨q1096, q1099, q1101, q1098, q1097, q1102, q1100, q1089, by decide +kernel, by decide +kernel, by decide +kernel⟩
theorem if_X3_79 : e_if "WidowRoads$Walks" 79 11 ⟨"java/util/List", "iterator", "()Ljava/util/Iterator;"⟩ yJ2_iterator 0 := ⟨q1113, q1061, q1063, q1060, q1059, q1064, q1062, q829, by decide +kernel, by decide +kernel, by decide +kernel⟩
theorem if_X3_85 : e_if "WidowRoads$Walks" 85 12 ⟨"java/util/Iterator", "hasNext", "()Z"⟩ yJ15_hasNext 0 := ⟨q1115, q1090, q1092, q1088, q1087, q1093, q1091, q1089, by decide +kernel, by decide +kernel, by decide +kernel⟩
theorem if_X3_91 : e_if "WidowRoads$Walks" 91 12 ⟨"java/util/Iterator", "next", "()Ljava/lang/Object;"⟩ yJ15_next 0 := ⟨q1117, q1099, q1101, q1098, q1097, q1102, q1100, q1089, by decide +kernel, by decide +kernel, by decide +kernel⟩
theorem if_X0_120 : e_if "WidowRoads" 120 11 ⟨"java/util/List", "size", "()I"⟩ yJ2_size 0 := ⟨q1124, q830, q832, q828, q827, q833, q831, q829, by decide +kernel, by decide +kernel, by decide +kernel⟩
theorem if_X0_129 : e_if "WidowRoads" 129 11 ⟨"java/util/List", "get", "(I)Ljava/lang/Object;"⟩ yJ2_get 1 := ⟨q1130, q1133, q1135, q1132, q1131, q1136, q1134, q829, by decide +kernel, by decide +kernel, by decide +kernel⟩
theorem if_X3_136 : e_if "WidowRoads$Walks" 136 11 ⟨"java/util/List", "size", "()I"⟩ yJ2_size 0 := ⟨q1158, q830, q832, q828, q827, q833, q831, q829, by decide +kernel, by decide +kernel, by decide +kernel⟩
theorem if_X3_139 : e_if "WidowRoads$Walks" 139 11 ⟨"java/util/List", "get", "(I)Ljava/lang/Object;"⟩ yJ2_get 1 := ⟨q1160, q1133, q1135, q1132, q1131, q1136, q1134, q829, by decide +kernel, by decide +kernel, by decide +kernel⟩
theorem if_X0_463 : e_if "WidowRoads" 463 11 ⟨"java/util/List", "add", "(Ljava/lang/Object;)Z"⟩ yJ2_add 1 := ⟨q1677, q918, q920, q917, q916, q921, q919, q829, by decide +kernel, by decide +kernel, by decide +kernel⟩
theorem if_X0_474 : e_if "WidowRoads" 474 11 ⟨"java/util/List", "isEmpty", "()Z"⟩ yJ2_isEmpty 0 := ⟨q1687, q1690, q1692, q1689, q1688, q1693, q1691, q829, by decide +kernel, by decide +kernel, by decide +kernel⟩
theorem if_X0_477 : e_if "WidowRoads" 477 11 ⟨"java/util/List", "remove", "(I)Ljava/lang/Object;"⟩ yJ2_remove 1 := ⟨q1696, q1699, q1701, q1698, q1697, q1702, q1700, q829, by decide +kernel, by decide +kernel, by decide +kernel⟩
theorem if_X0_480 : e_if "WidowRoads" 480 11 ⟨"java/util/List", "clear", "()V"⟩ yJ2_clear 0 := ⟨q1714, q1717, q1719, q1716, q1715, q1720, q1718, q829, by decide +kernel, by decide +kernel, by decide +kernel⟩
theorem if_X2_35 : e_if "WidowRoads$Colony" 35 11 ⟨"java/util/List", "addAll", "(Ljava/util/Collection;)Z"⟩ yJ2_addAll 1 := ⟨q1742, q1745, q1747, q1744, q1743, q1748, q1746, q829, by decide +kernel, by decide +kernel, by decide +kernel⟩
theorem if_J2_42 : e_if "java/util/ArrayList" 42 11 ⟨"java/util/Collection", "toArray", "()[Ljava/lang/Object;"⟩ yJ2_toArray 0 := ⟨q1751, q1755, q1757, q1753, q1752, q1758, q1756, q1754, by decide +kernel, by decide +kernel, by decide +kernel⟩
theorem if_X2_41 : e_if "WidowRoads$Colony" 41 11 ⟨"java/util/List", "iterator", "()Ljava/util/Iterator;"⟩ yJ2_iterator 0 := ⟨q1761, q1061, q1063, q1060, q1059, q1064, q1062, q829, by decide +kernel, by decide +kernel, by decide +kernel⟩
theorem if_X2_45 : e_if "WidowRoads$Colony" 45 12 ⟨"java/util/Iterator", "hasNext", "()Z"⟩ yJ15_hasNext 0 := ⟨q1763, q1090, q1092, q1088, q1087, q1093, q1091, q1089, by decide +kernel, by decide +kernel, by decide +kernel⟩
theorem if_X2_51 : e_if "WidowRoads$Colony" 51 12 ⟨"java/util/Iterator", "next", "()Ljava/lang/Object;"⟩ yJ15_next 0 := ⟨q1765, q1099, q1101, q1098, q1097, q1102, q1100, q1089, by decide +kernel, by decide +kernel, by decide +kernel⟩
theorem if_X2_61 : e_if "WidowRoads$Colony" 61 11 ⟨"java/util/List", "add", "(Ljava/lang/Object;)Z"⟩ yJ2_add 1 := ⟨q1774, q918, q920, q917, q916, q921, q919, q829, by decide +kernel, by decide +kernel, by decide +kernel⟩
