/-! System.arraycopy between arrays of ours -/
set_option maxRecDepth 100000
section ECOPY
variable {M : e_M} {pc : Nat} {al st : List Value} {h : e_A} {kc ks d : Nat} {Q : e_R → e_A → Prop}
def e_cpy (f g : Nat → Value) (sp dp n : Nat) : Nat → Value := fun k => if dp ≤ k ∧ k < dp + n then f (sp + (k - dp)) else g k
theorem e_cnn {z : Int} {n : Nat} (hz : z = (n : Int)) (hn : n < 2147483648) : (Int32.ofInt z).toNatClampNeg = n ∧ (Int32.ofInt z).toInt = (n : Int) ∧ ¬ Int32.ofInt z < 0 := by
  obtain ⟨a, b⟩ := e_cl_n hz hn
  subst hz
  exact ⟨a, e_ti ⟨by omega, by omega⟩, b⟩
theorem e_copy {idx i0 i1 n0 n1 kd : Nat} {f g9 : Nat → Value} {sp dp n : Int} (spn dpn nn : Nat) (hd : decode M.2.1 pc = .ok (.invokestatic idx, 3)) (hlk : Cond.methodLink M.1.cls idx arraycopyName ∈ lw_all) (ho0 : h.1 i0 = (kd, n0, f)) (ho1 : h.1 i1 = (kd, n1, g9)) (hk : 50 ≤ kd ∧ kd < 55) (hi1 : 350 ≤ i1) (hsp : sp = spn) (hdp : dp = dpn) (hn : n = nn) (h4 : spn + nn ≤ n0) (h5 : dpn + nn ≤ n1) (hb : n0 < 2147483648 ∧ n1 < 2147483648)
    (hfit : ∀ i, i < nn → fits (e_ty kd) (f (spn + i)) = true ∧ ∀ r, f (spn + i) ≠ .ref r) (h8 : Nat.ble ((st.map fun v => v.category).sum) 8 = true)
    (kk : e_E M (pc + 3) al st (e_set h i1 (kd, n1, e_cpy f g9 spn dpn nn)) kc ks d Q) : e_E M pc al (e_i n :: e_i dp :: .ref i1 :: e_i sp :: .ref i0 :: st) h kc ks d Q := by
  intro g p e R s m args below meth c R0 hA Rf H locs cells slots ls sr hS hl hv
  obtain ⟨w, bs1, rfl, g1, hv1⟩ := e_vs_c hv
  cases g1
  obtain ⟨w, bs2, rfl, g1, hv2⟩ := e_vs_c hv1
  cases g1
  obtain ⟨b1, bs3, rfl, r1, hv3⟩ := e_vs_c hv2
  obtain ⟨w, bs4, rfl, g1, hv4⟩ := e_vs_c hv3
  cases g1
  obtain ⟨b0, bs, rfl, r0, hv5⟩ := e_vs_c hv4
  have q0 := e_obj hS.2.1 r0
  have q1 := e_obj hS.2.1 r1
  rw [ho0] at q0
  rw [ho1] at q1
  obtain ⟨a0, c0, z0, rfl, hc0, t3, t4, t5⟩ := e_o_own (by omega) q0
  obtain ⟨a1, c1, z1, rfl, hc1, u3, u4, u5⟩ := e_o_own (by omega) q1
  obtain ⟨s1, s2, s3⟩ := e_cnn hsp (by omega)
  obtain ⟨d1, d2, d3⟩ := e_cnn hdp (by omega)
  obtain ⟨m1, m2, m3⟩ := e_cnn hn (by omega)
  obtain ⟨-, k0, hk0, cm0, hkk0⟩ := State.isArrayOf_alike (e_alk hA) (t3 n0 z0)
  obtain ⟨-, k1, hk1, cm1, hkk1⟩ := State.isArrayOf_alike (e_alk hA) (u3 n1 z1)
  have hprim : refKind (e_ty kd) = false := by
    obtain ⟨a, b⟩ := hk
    have : kd = 50 ∨ kd = 51 ∨ kd = 52 ∨ kd = 53 ∨ kd = 54 := by omega
    rcases this with q | q | q | q | q <;> (rw [q]; rfl)
  have hz : ∀ i, i < nn → z0 (spn + i) = f (spn + i) := by
    intro i hi
    have h1 := t5 (spn + i) (by omega)
    have h2 := (hfit i hi).2
    revert h1 h2
    generalize f (spn + i) = v
    intro h1 h2
    cases v with
    | ref r => exact absurd rfl (h2 r)
    | _ => exact h1
  intro T hT X
  have h8' : (bs.map fun v => v.category).sum ≤ 8 := by rw [e_cat8 hS.2.1 hv5]; exact Nat.le_of_ble_eq_true h8
  obtain ⟨vm', X', step⟩ := X.arraycopy hA.2.1 hA.2.2.2.2.2.2.1 (e_w hA hlk) (e_w hA q377) (e_w hA q376) (e_w hA q166) (src := a0) (dst := a1) (cs := arrV c0 n0 z0) (cd := arrV c1 n1 z1) (srcPos := Int32.ofInt sp) (destPos := Int32.ofInt dp) (n := Int32.ofInt n) (by rw [hT]; exact hc0) (by rw [hT]; exact hc1)
    (fun _ h => by cases h) (fun _ h => by cases h) (fun h => by cases h) (fun h => by cases h) hk0 hk1 hkk0 hkk1 (by simp [hprim]) s3 d3 m3
    (by rw [s2, m2, arrV_size]; omega)
    (by rw [d2, m2, arrV_size]; omega)
    (fun vm₁ _ i hi => by
      rw [m1] at hi
      have e : (arrV c0 n0 z0).slots.getD ((Int32.ofInt sp).toNatClampNeg + i) .null = f (spn + i) := by
        rw [s1, Array.getD_eq_getD_getElem?, arrV_read _ _ (by omega), ← hz i hi]
        rfl
      rw [e]
      refine ⟨(hfit i hi).1, ?_⟩
      have h2 := (hfit i hi).2
      revert h2
      generalize f (spn + i) = v
      intro h2
      cases v with
      | ref r => exact absurd rfl (h2 r)
      | _ => exact trivial)
    (g := F0 m pc ls (e_i n :: e_i dp :: .ref a1 :: e_i sp :: .ref a0 :: bs)) rfl (by rw [hA.2.2.2.1]; exact hl.2.1) (rest := bs) rfl (by rw [hA.2.2.1]; exact hd) (by have := hA.2.2.2.2.2.2.2.2.2.2.1; omega)
    (by have := hA.2.2.2.2.2.2.2.2.2.2.2.1; have hw : nativeFrameWords "java/lang/System" "arraycopy" 5 ≤ 1000 := by decide
        show 2 * 0 + _ + _ ≤ _; omega)
  have e1 : copied (arrV c0 n0 z0) (arrV c1 n1 z1) (Int32.ofInt sp) (Int32.ofInt dp) (Int32.ofInt n) = arrV c1 n1 (fun j => va_cpy z0 z1 spn dpn nn j) := by
    show (arrV c1 n1 z1).storeRun (Int32.ofInt dp).toNatClampNeg ((arrV c0 n0 z0).stretch (Int32.ofInt sp).toNatClampNeg (Int32.ofInt n).toNatClampNeg) = _
    rw [s1, d1, m1]
    exact va_copied (fun z => z) c0 c1 z0 z1 h4
  rw [e1] at X' step
  have hl1 : a1 < H.size := (Array.getElem?_eq_some_iff.mp hc1).1
  have hheap : ((T.setVm vm').setCell a1 (arrV c1 n1 (fun j => va_cpy z0 z1 spn dpn nn j))).heap = H.setIfInBounds a1 (arrV c1 n1 (fun j => va_cpy z0 z1 spn dpn nn j)) := by rw [← hT]; rfl
  have oq : ∀ q : Nat, q ≠ a1 → (H.setIfInBounds a1 (arrV c1 n1 (fun j => va_cpy z0 z1 spn dpn nn j)))[q]? = H[q]? := fun q hq => by simp [Array.getElem?_setIfInBounds, Ne.symm hq]
  have hS1 : e_S g R0 Rf (e_set h i1 (kd, n1, e_cpy f g9 spn dpn nn)) (H.setIfInBounds a1 (arrV c1 n1 (fun j => va_cpy z0 z1 spn dpn nn j))) (locs ++ ((arrV c0 n0 z0).stretch (Int32.ofInt sp).toNatClampNeg (Int32.ofInt n).toNatClampNeg).zipIdx.map fun q => ⟨a1, (Int32.ofInt dp).toNatClampNeg + q.2⟩) s R cells slots kc ks := by
    refine ⟨hS.1, e_H_set hS.2.1 hi1 r1 (by simp) oq ?_, ?_, hS.2.2.2.1, hS.2.2.2.2.1, by simpa using hS.2.2.2.2.2⟩
    · refine Or.inr (Or.inl ⟨hk.1, (show kd < 60 by omega), a1, c1, (fun j => va_cpy z0 z1 spn dpn nn j), rfl, (show (H.setIfInBounds a1 _)[a1]? = some _ by simp [Array.getElem?_setIfInBounds, hl1]), u3, u4, fun j hj => ?_⟩)
      show e_v Rf (e_cpy f g9 spn dpn nn j) (va_cpy z0 z1 spn dpn nn j)
      unfold e_cpy va_cpy
      by_cases q : dpn ≤ j ∧ j < dpn + nn
      · rw [if_pos q, if_pos q]
        exact t5 _ (by omega)
      · rw [if_neg q, if_neg q]
        exact u5 j hj
    · intro q hq
      rcases List.mem_append.mp hq with w1 | w1
      · exact hS.2.2.1 q w1
      · obtain ⟨z, -, hz⟩ := List.mem_map.mp w1
        rw [← hz]
        exact hS.2.1.2.2.2.2.2.2.1 i1 a1 hi1 r1
  obtain ⟨t, a1, b1⟩ := kk g p e R s m args below meth c R0 hA Rf _ _ cells slots ls bs hS1 hl hv5 _ hheap X'
  exact ⟨t, step _ a1, b1⟩
end ECOPY
