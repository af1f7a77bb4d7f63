/-! A SWITCH; THE SLOTS: what they hold -/
set_option maxRecDepth 100000
section ESW
variable {M : e_M} {pc : Nat} {al st : List Value} {h : e_A} {kc ks d : Nat} {Q : e_R → e_A → Prop}
theorem e_tsw {k df lo hi off : Int} {offs : Array Int} {len tgt : Nat} (hd : decode M.2.1 pc = .ok (.tableswitch df lo hi offs, len)) (hk : e_rg k) (hin : lo ≤ k ∧ k ≤ hi) (ho : offs[(k - lo).toNat]? = some off) (ht : (pc : Int) + off = tgt) (kk : e_E M tgt al st h kc ks d Q) : e_E M pc al (e_i k :: st) h kc ks d Q := by
  intro g p e R s m args below meth c R0 hA Rf H locs cells slots ls sr hS hl hv
  obtain ⟨w, bs, rfl, g1, g2⟩ := e_vs_c hv
  cases g1
  intro T hT X
  obtain ⟨t, a1, b1⟩ := kk g p e R s m args below meth c R0 hA Rf H locs cells slots ls bs hS hl g2 T hT X
  refine ⟨t, X.tableswitchIn hA.2.1 (g := F0 m pc ls (.int (Int32.ofInt k) :: bs)) rfl (k := Int32.ofInt k) (rest := bs) rfl (by rw [hA.2.2.1]; exact hd) (by rw [e_ti hk]; omega) (by rw [e_ti hk]; exact ho) (by show 0 ≤ (pc : Int) + off; omega) t ?_, b1⟩
  have e1 : ((pc : Int) + off).toNat = tgt := by omega
  show Steps p.tables e below (T.setTop (F0 m ((pc : Int) + off).toNat ls bs)) t
  rw [e1]
  exact a1
theorem e_tswD {k df lo hi : Int} {offs : Array Int} {len tgt : Nat} (hd : decode M.2.1 pc = .ok (.tableswitch df lo hi offs, len)) (hk : e_rg k) (hout : k < lo ∨ k > hi) (ht : (pc : Int) + df = tgt) (kk : e_E M tgt al st h kc ks d Q) : e_E M pc al (e_i k :: st) h kc ks d Q := by
  intro g p e R s m args below meth c R0 hA Rf H locs cells slots ls sr hS hl hv
  obtain ⟨w, bs, rfl, g1, g2⟩ := e_vs_c hv
  cases g1
  intro T hT X
  obtain ⟨t, a1, b1⟩ := kk g p e R s m args below meth c R0 hA Rf H locs cells slots ls bs hS hl g2 T hT X
  refine ⟨t, X.tableswitchOut hA.2.1 (g := F0 m pc ls (.int (Int32.ofInt k) :: bs)) rfl (k := Int32.ofInt k) (rest := bs) rfl (by rw [hA.2.2.1]; exact hd) (by rw [e_ti hk]; exact hout) (by show 0 ≤ (pc : Int) + df; omega) t ?_, b1⟩
  have e1 : ((pc : Int) + df).toNat = tgt := by omega
  show Steps p.tables e below (T.setTop (F0 m ((pc : Int) + df).toNat ls bs)) t
  rw [e1]
  exact a1
/-- heaps alike as far as fields and lengths go -/
def e_oq (o o1 : e_O) : Prop := o.1 = o1.1 ∧ o.2.1 = o1.2.1 ∧ (∀ (r : vw_C) (k : Nat), e_cl[o.1]? = some r → k < r.2.2 → o.2.2 k = o1.2.2 k) ∧ (50 ≤ o.1 → ∀ k, k < o.2.1 → o.2.2 k = o1.2.2 k)
theorem e_oq_rf (o : e_O) : e_oq o o := ⟨rfl, rfl, fun _ _ _ _ => rfl, fun _ _ _ => rfl⟩
theorem e_o_sim {g : e_G} {R : List Value} {o o1 : e_O} {w : Value} {H : Heap} (q : e_oq o o1) (h : e_o g R o w H) : e_o g R o1 w H := by
  obtain ⟨q1, q2, q3, q4⟩ := q
  rcases h with ⟨h0, a, r, cell, h1, h2, h3, h4, h5, h6⟩ | ⟨h0, h9, a, cA, z, h1, h2, h3, h4, h5⟩ | ⟨h0, h9, a, cell, h1, h2, h3, h4, h5, h6, h7, h8⟩ | ⟨h0, h9, a, cell, h1, h2, h3, h4⟩ | ⟨h0, h1⟩
  · refine Or.inl ⟨by omega, a, r, cell, h1, by rw [← q1]; exact h2, h3, by rw [← q1]; exact h4, by rw [← q1]; exact h5, fun k hk => ?_⟩
    obtain ⟨z, e1, e2⟩ := h6 k hk
    exact ⟨z, by rw [← q1]; exact e1, by rw [← q3 r k h2 hk]; exact e2⟩
  · refine Or.inr (Or.inl ⟨by omega, by omega, a, cA, z, h1, by rw [← q2]; exact h2, by rw [← q1]; exact h3, by rw [← q1]; exact h4, fun j hj => ?_⟩)
    rw [← q4 h0 j (by omega)]
    exact h5 j (by omega)
  · refine Or.inr (Or.inr (Or.inl ⟨by omega, by omega, a, cell, h1, h2, by rw [← q1]; exact h3, h4, h5, by omega, by rw [← q2]; exact h7, fun j hj => ?_⟩))
    obtain ⟨z, e1, e2⟩ := h8 j (by omega)
    exact ⟨z, e1, by rw [← q4 (by omega) j (by omega)]; exact e2⟩
  · exact Or.inr (Or.inr (Or.inr (Or.inl ⟨by omega, by omega, a, cell, h1, h2, h3, by rw [← q1]; exact h4⟩)))
  · exact Or.inr (Or.inr (Or.inr (Or.inr ⟨by omega, h1⟩)))
theorem e_H_sim {g : e_G} {R : List Value} {h1 h2 : e_A} {H : Heap} (hz : h1.2 = h2.2) (hq : ∀ i, i < h1.2 → e_oq (h1.1 i) (h2.1 i)) (hH : e_H g R h1 H) : e_H g R h2 H := by
  obtain ⟨a1, a2, a3, a4, a5, a6, a7, a8, a9⟩ := hH
  refine ⟨a1, hz.symm.trans a2, a3, a4, a5, fun i w hi => e_o_sim (hq i ?_) (a6 i w hi), a7, a8, a9⟩
  rw [a2]
  exact (List.getElem?_eq_some_iff.mp hi).1
theorem e_sim {h1 h2 : e_A} (hz : h1.2 = h2.2) (hq : ∀ i, i < h1.2 → e_oq (h1.1 i) (h2.1 i)) (kk : e_E M pc al st h2 kc ks d Q) : e_E M pc al st h1 kc ks d Q := by
  intro g p e R s m args below meth c R0 hA Rf H locs cells slots ls sr hS hl hv
  exact kk g p e R s m args below meth c R0 hA Rf H locs cells slots ls sr ⟨hS.1, e_H_sim hz hq hS.2.1, hS.2.2⟩ hl hv
/-- a slot's field -/
theorem x_ob_35 (χ : t_S) {s z : Int} (hs : 0 ≤ s ∧ s < 4) {j : Nat} (hj : j ≠ 352 + s.toNat) : x_ob (s_up χ 35 s z) j = x_ob χ j := by
  refine x_ob_up (fun q => ⟨by decide, by decide, by decide, by decide⟩) (fun q => by omega) (fun q => by decide) (fun q => by omega) (fun q1 q2 => Or.inr (by omega)) ?_
  by_cases q : x_fd j = 35
  · exfalso
    have h1 := x_fd_rg j (by rw [q]; decide)
    have h2 : (List.range 384).all (fun j => decide (x_fd j ≠ 35)) = true := by decide +kernel
    have h3 := List.all_eq_true.mp h2 j (List.mem_range.mpr (by omega))
    simp only [decide_eq_true_eq] at h3
    exact h3 q
  · exact Or.inl q
theorem x_getH {χ : t_S} {h0 : e_A} {s : Int} {idx : Nat} (v : Value) (hd : decode M.2.1 pc = .ok (.getfield idx, 3)) (hf : e_fl M.1.cls idx 1 0 (.object "java/lang/Object") false) (hs : 0 ≤ s ∧ s < 4) (hv : x_v 35 (χ 35 s) = v) (kk : e_E M (pc + 3) al (v :: st) (x_H χ h0) kc ks d Q) : e_E M pc al (.ref (352 + s.toNat) :: st) (x_H χ h0) kc ks d Q :=
  e_getV v hd hf (x_o1 χ h0 hs) hv kk
theorem x_putH {χ : t_S} {h0 : e_A} {s : Int} {a idx : Nat} (hd : decode M.2.1 pc = .ok (.putfield idx, 3)) (hf : e_fl M.1.cls idx 1 0 (.object "java/lang/Object") false) (hs : 0 ≤ s ∧ s < 4) (kk : e_E M (pc + 3) al st (x_H (s_up χ 35 s (a : Int)) h0) kc ks d Q) : e_E M pc al (.ref a :: .ref (352 + s.toNat) :: st) (x_H χ h0) kc ks d Q := by
  have ho := x_o1 χ h0 hs
  refine e_putfield hd hf ho (Or.inl rfl) (by omega) (by omega) (e_fit_ref a) ?_
  refine e_sim (h2 := x_H (s_up χ 35 s (a : Int)) h0) rfl (fun i hi => ?_) kk
  by_cases q : i = 352 + s.toNat
  · subst q
    rw [e_set_at, x_o1 _ _ hs, s_up_eq]
    have ea : x_v 35 (a : Int) = .ref a := by
      show (if (a : Int) = -1 then Value.null else .ref (a : Int).toNat) = _
      rw [if_neg (by omega), Int.toNat_natCast]
    refine ⟨rfl, rfl, fun r k hr hk => ?_, fun (hk : 50 ≤ 1) => absurd hk (by omega)⟩
    have hr2 : r.2.2 = 1 := by cases hr; rfl
    have hk0 : k = 0 := by omega
    subst hk0
    show updV (fun _ => x_v 35 (χ 35 s)) 0 (.ref a) 0 = x_v 35 (a : Int)
    rw [ea]
    rfl
  · have e1 : (e_set (x_H χ h0) (352 + s.toNat) (1, 1, updV (fun _ => x_v 35 (χ 35 s)) 0 (.ref a))).1 i = (x_H χ h0).1 i := if_neg q
    have e2 : (x_H (s_up χ 35 s (a : Int)) h0).1 i = (x_H χ h0).1 i := by
      show (x_ob (s_up χ 35 s (a : Int)) i).getD _ = (x_ob χ i).getD _
      rw [x_ob_35 χ hs q]
    rw [e1, e2]
    exact e_oq_rf _
end ESW
/-! the relation -/
def x_hk (w : Int) : Nat := if w = 0 then 52 else if w = 1 then 53 else if w = 2 then 50 else 54
def x_hv (w v : Int) : Value := if w = 3 then e_j v else e_i v
def x_wr (w v : Int) : Prop := (w = 0 → -128 ≤ v ∧ v < 128) ∧ (w = 1 → -32768 ≤ v ∧ v < 32768) ∧ (w = 2 → e_rg v)
theorem x_wr_rg {w v : Int} (hw : 0 ≤ w ∧ w ≤ 3) (h3 : w ≠ 3) (h : x_wr w v) : e_rg v := by
  have h9 : w = 0 ∨ w = 1 ∨ w = 2 := by omega
  rcases h9 with q | q | q
  · have := h.1 q; exact ⟨by omega, by omega⟩
  · have := h.2.1 q; exact ⟨by omega, by omega⟩
  · exact h.2.2 q
theorem x_wr_0 (w : Int) : x_wr w 0 := ⟨fun _ => by decide, fun _ => by decide, fun _ => by decide⟩
theorem x_hk_rg (w : Int) : 50 ≤ x_hk w ∧ x_hk w < 55 := by
  unfold x_hk
  (repeat' split) <;> decide
/-- a slot's array at a -/
def x_ar (h : e_A) (w n : Int) (num : Int → Int) (a : Nat) : Prop := (0 ≤ w ∧ w ≤ 3) ∧ (0 ≤ n ∧ n ≤ 60) ∧ (413 ≤ a ∧ a < h.2) ∧ ∃ f : Nat → Value, h.1 a = (x_hk w, n.toNat, f) ∧ ∀ j : Int, 0 ≤ j → j < n → f j.toNat = x_hv w (num j) ∧ x_wr w (num j)
def x_s1 (χ : t_S) (h : e_A) (σ : t_S) (s : Int) : Prop := (σ 42 s = -1 ∧ χ 35 s = -1) ∨ (∃ a : Nat, χ 35 s = (a : Int) ∧ x_ar h (σ 43 s) (σ 42 s) (fun j => σ 44 (60 * s + j)) a)
def x_sl (χ : t_S) (h : e_A) (σ : t_S) : Prop := (∀ s : Int, 0 ≤ s → s < 4 → x_s1 χ h σ s) ∧ ∀ s t : Int, 0 ≤ s → s < 4 → 0 ≤ t → t < 4 → s ≠ t → χ 35 s ≠ -1 → χ 35 s ≠ χ 35 t
theorem x_ar_of {h h1 : e_A} {w n : Int} {num num1 : Int → Int} {a : Nat} (H : x_ar h w n num a) (hz : h.2 ≤ h1.2) (e : h1.1 a = h.1 a) (en : ∀ j : Int, 0 ≤ j → j < n → num1 j = num j) : x_ar h1 w n num1 a := by
  obtain ⟨a1, a2, a3, f, a4, a5⟩ := H
  refine ⟨a1, a2, ⟨a3.1, by omega⟩, f, e.trans a4, fun j j0 j1 => ?_⟩
  rw [en j j0 j1]
  exact a5 j j0 j1
theorem x_sl_ext {χ χ1 : t_S} {h h1 : e_A} {σ : t_S} (H : x_sl χ h σ) (he : e_ext h h1) (hk : χ1 35 = χ 35) : x_sl χ1 h1 σ := by
  refine ⟨fun s s0 s1 => ?_, fun s t a b c d e f => by rw [hk] at *; exact H.2 s t a b c d e f⟩
  rcases H.1 s s0 s1 with ⟨q1, q2⟩ | ⟨a, q1, q2⟩
  · exact Or.inl ⟨q1, by rw [hk]; exact q2⟩
  · exact Or.inr ⟨a, by rw [hk]; exact q1, x_ar_of q2 he.1 (he.2 a q2.2.2.1.2) (fun _ _ _ => rfl)⟩
