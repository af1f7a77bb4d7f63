/-! ENTERING A METHOD OF A CLASS THAT THE MACHINE HAS ENTRIES FOR -/
set_option maxRecDepth 100000
theorem vx_ofWF {l : Launch} {y : MethodName} {ws ws' : List Cond} {rm : Room} {Pc : Array Value → State → Prop} {Qc : Array Value → State → Outcome → State → Prop} {XC : Addr → String → State → State → Prop} {mc ms : Nat} {free : Addr → Prop} {cc : ByteArray} {maxL : Nat} {ret : Option FieldType}
    (hy : plainFor y = true) (hw : ws = Cond.code y cc maxL ret :: ws')
    (body : ∀ p e s m args below meth c s₁, BodyLoose p l y (headSpec ws rm) cc maxL ret e s m args below meth c s₁ → c.maxLocals = maxL → (∀ x ∈ c.exceptionTable.toList, False) → Pc args s →
      W p l e (headSpec ws rm).room s m args below meth c s.heap [] 0 0 (vx_MQ below Qc XC args s mc ms free) (entryFrame m args maxL)) : vx_Met l y ws rm Pc Qc XC mc ms free := by
  refine MetFree.of_bodySF (code := cc) (maxLocals := maxL) (ret := ret) hy (fun args s m h hn => ?_) (fun p e s m args below meth c s₁ B hml hP _ => ?_)
  · obtain ⟨meth, c, h1, h2, h3, h4, h5, h6, -, -⟩ := Cond.code_spec hn (atoms_spec (ws := ws) h _ (by rw [hw]; exact List.mem_cons_self))
    exact ⟨meth, c, h1, h2, h3, h4, h5, h6⟩
  · have ht : ∀ x ∈ c.exceptionTable.toList, False := fun x hx => by
      obtain ⟨meth9, c9, h1, h2, -, -, -, -, h7, -⟩ := Cond.code_spec B.named (atoms_spec (ws := ws) B.pre _ (by rw [hw]; exact List.mem_cons_self))
      cases Option.some.inj (h1.symm.trans B.method)
      cases Option.some.inj (h2.symm.trans (Stand.of_body B).code)
      rw [Array.isEmpty_iff.mp h7] at hx
      cases hx
    obtain ⟨t, a1, o, b1, b2, b3⟩ := body p e s m args below meth c s₁ B hml ht hP s₁ (by rw [B.state]; rfl) (Stand.of_body B)
    exact ⟨t, o, a1, b1, b2, b3⟩
section EENTF
variable {M : e_M} {pc : Nat} {al st : List Value} {h : e_A} {kc ks d : Nat} {Q : e_R → e_A → Prop}
theorem e_enterF {av al0 : List Value} (hpl : plainFor M.1 = true) (hh : M.2.2.2.2 = []) (hal : e_al av ++ List.replicate (M.2.2.1 - (e_al av).length) (.retAddr 0) = al0) (hlen : (e_al av).length ≤ M.2.2.1) (k : e_E M 0 al0 [] h kc ks d Q) : e_C M av h kc ks d Q := by
  intro g Rf ar hF hva
  have main : ∀ p e s m args below meth c s₁, BodyLoose p g.1 M.1 (headSpec [e_wd M] { frames := d + 20, cells := kc, slots := ks, locals := 64 * d + 11000 }) M.2.1 M.2.2.1 M.2.2.2.1 e s m args below meth c s₁ → c.maxLocals = M.2.2.1 → c.exceptionTable.toList = tableOf M.2.2.2.2 → (args = ar.toArray ∧ g.2.1.WarmedH s.vm ∧ e_H g Rf h s.heap) →
      W p g.1 e (headSpec [e_wd M] { frames := d + 20, cells := kc, slots := ks, locals := 64 * d + 11000 }).room s m args below meth c s.heap [] 0 0 (vx_MQ below (e_Qc g Rf Q) (e_Xc g Rf Q) args s kc ks (fun q => g.2.1.heap.size ≤ q)) (entryFrame m args M.2.2.1) := by
    intro p e s m args below meth c s₁ B hml ht hP
    obtain ⟨rfl, hW, hH⟩ := hP
    rw [lg_entry_eq]
    obtain ⟨a1, a2⟩ := e_al_at (e_H_cat hH) hva
    have hent := lv_entry ar (n := M.2.2.1) (by rw [← a1]; exact hlen)
    refine k g p e _ s m ar.toArray below meth c Rf ⟨hF, B.exec, B.bytes, hml, B.returns, B.notSynchronized, findClass_of_methodNamed B.named, (name_of_methodNamed B.named B.method).1, hW, ht, Nat.le_refl _, Nat.le_refl _, hH.2.2.2.2.1⟩ Rf s.heap [] 0 0 _ [] ⟨List.prefix_refl _, hH, (fun z hz => nomatch hz), (by show 0 + kc ≤ kc; omega), (by show 0 + ks ≤ ks; omega), Nat.le_refl _⟩ ⟨?_, hent.1, hent.2.1, fun i v hi hv => ?_⟩ trivial
    · rw [← hal]
      simp
      omega
    · rw [← hal] at hi
      by_cases hlt : i < (e_al av).length
      · rw [List.getElem?_append_left hlt] at hi
        obtain ⟨w, g1, g2⟩ := a2 i v hi hv
        refine ⟨w, ?_, g2⟩
        have h9 : i < (lg_sl ar).length := by rw [← a1]; exact hlt
        rw [List.getElem?_toArray, List.getElem?_append_left h9]
        exact g1
      · rw [List.getElem?_append_right (by omega)] at hi
        exact absurd (List.eq_of_mem_replicate (List.mem_of_getElem? hi)) hv
  have hwd : e_wd M = Cond.code M.1 M.2.1 M.2.2.1 M.2.2.2.1 := by unfold e_wd; rw [hh]
  refine vx_ofWF (cc := M.2.1) (maxL := M.2.2.1) (ret := M.2.2.2.1) hpl (by rw [hwd]) (fun p e s m args below meth c s₁ B hml ht hP => main p e s m args below meth c s₁ B hml ?_ hP)
  rw [hh]
  cases h9 : c.exceptionTable.toList with
  | nil => rfl
  | cons x l => exact (ht x (by rw [h9]; exact List.mem_cons_self)).elim
end EENTF
