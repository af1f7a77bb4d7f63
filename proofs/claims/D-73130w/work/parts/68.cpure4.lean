/-! THE COMPONENT'S WALKS: houses move -/
set_option maxRecDepth 100000
theorem x_emp_cn {ρ : t_S} (hz : t_sz ρ) : x_cn (t_emp ρ) := by
  have h3 := hz.2.1
  have h4 := hz.2.2.1
  by_cases q : t_emp ρ = -1
  · exact Or.inl q
  · right
    have key : ∀ (m : Nat) (i : Int), 0 ≤ i → t_fnd (t_emg ρ) m i ≠ -1 → t_emg ρ (t_fnd (t_emg ρ) m i) = 1 ∧ 0 ≤ t_fnd (t_emg ρ) m i := by
      intro m
      induction m with
      | zero => intro i _ h; exact absurd rfl h
      | succ m ih =>
        intro i hi h
        unfold t_fnd at h ⊢
        by_cases p : t_emg ρ i = 1
        · rw [if_pos p]; exact ⟨p, hi⟩
        · rw [if_neg p] at h ⊢
          exact ih (i + 1) (by omega) h
    obtain ⟨k1, k2⟩ := key 80 0 (by omega) q
    change t_emg ρ (t_emp ρ) = 1 at k1
    change 0 ≤ t_emp ρ at k2
    unfold t_emg at k1
    by_cases p : t_isCell ρ (t_emp ρ) ∧ ρ 15 (t_emp ρ) = 0 ∧ ρ 21 (t_emp ρ) = 0 ∧ t_hs ρ (t_emp ρ) = 0
    · have := p.1.2.2.1
      have := p.1.2.2.2
      unfold x_c8
      omega
    · rw [if_neg p] at k1; omega
theorem t_sz_of {ρ τ : t_S} (h : τ 1 = ρ 1) (hz : t_sz ρ) : t_sz τ := by
  unfold t_sz
  rw [h]
  exact hz
def x_Sh (w y : Int) (χ0 ρ χ : t_S) : Prop := (∀ j, j ≠ 13 → j ≠ 14 → j ≠ 15 → χ j = χ0 j) ∧ (∀ v : Int, v ≠ w → χ 13 v = χ0 13 v) ∧ (∀ j : Int, ¬ (6 * y ≤ j ∧ j < 6 * y + 6) → χ 14 j = χ0 14 j) ∧ χ 13 w = ρ 28 w ∧ (∀ k : Int, 0 ≤ k → k < ρ 1 6 → (χ 14 (6 * y + k) = x_sp (ρ 25 k) ∧ x_cn (ρ 25 k)) ∧ χ 15 k = ρ 29 k)
theorem x_Sh0 {w y : Int} {χ ρ : t_S} (hh : ∀ k : Int, 0 ≤ k → k < ρ 1 6 → (χ 14 (6 * y + k) = x_sp (ρ 25 k) ∧ x_cn (ρ 25 k)) ∧ χ 15 k = ρ 29 k) : x_Sh w y χ (s_up ρ 28 w 0) (s_up χ 13 w 0) := by
  refine ⟨fun j a _ _ => s_up_f a, fun v hv => s_up_j hv, fun j _ => by rw [s_up_f (by decide)], by rw [s_up_eq, s_up_eq], fun k k0 k1 => ?_⟩
  rw [s_up_f (by decide), s_up_f (by decide), s_up_f (by decide), s_up_f (by decide)]
  rw [s_up_f (by decide)] at k1
  exact hh k k0 k1
theorem x_Sh_n {w y k : Int} {χ0 τ χ : t_S} (h : x_Sh w y χ0 τ χ) (hc : τ 25 k = -1 ∨ τ 23 (τ 25 k) = 0) : x_Sh w y χ0 (t_mhf w k τ) χ := by
  unfold t_mhf
  rw [if_pos hc]
  exact h
theorem x_Sh_s {w y k z1 z2 : Int} {χ0 τ χ : t_S} (hz : t_sz τ) (h : x_Sh w y χ0 τ χ) (hk : 0 ≤ k ∧ k < τ 1 6) (hc : ¬ (τ 25 k = -1 ∨ τ 23 (τ 25 k) = 0)) (e1 : z1 = χ 15 k + 1) (e2 : z2 = χ 13 w + 1) : x_Sh w y χ0 (t_mhf w k τ) (s_up (s_up (s_up χ 14 (6 * y + k) (x_sp (t_emp τ))) 15 k z1) 13 w z2) := by
  have s6 := hz.2.2.2.2.1
  unfold t_mhf
  rw [if_neg hc]
  refine ⟨fun j a b c => ?_, fun v hv => ?_, fun j hj => ?_, ?_, fun i i0 i1 => ?_⟩
  · rw [s_up_f a, s_up_f c, s_up_f b]; exact h.1 j a b c
  · rw [s_up_j hv, s_up_f (by decide), s_up_f (by decide)]; exact h.2.1 v hv
  · rw [s_up_f (by decide), s_up_f (by decide), s_up_j (by omega)]; exact h.2.2.1 j hj
  · rw [s_up_eq, e2, s_up_f (by decide), s_up_eq, s_up_f (by decide), h.2.2.2.1]
  · rw [s_up_f (by decide), s_up_f (by decide), s_up_f (by decide)] at i1
    have hi := h.2.2.2.2 i i0 i1
    have a14 : s_up (s_up (s_up χ 14 (6 * y + k) (x_sp (t_emp τ))) 15 k z1) 13 w z2 14 (6 * y + i) = s_up χ 14 (6 * y + k) (x_sp (t_emp τ)) 14 (6 * y + i) := congrFun ((s_up_f (by decide)).trans (s_up_f (by decide))) _
    have a15 : s_up (s_up (s_up χ 14 (6 * y + k) (x_sp (t_emp τ))) 15 k z1) 13 w z2 15 i = s_up (s_up χ 14 (6 * y + k) (x_sp (t_emp τ))) 15 k z1 15 i := congrFun (s_up_f (by decide)) i
    have a29 : ∀ u : t_S, ∀ u1 u2 : Int, u 29 = τ 29 → s_up (s_up u 28 w u1) 29 k u2 29 i = s_up τ 29 k u2 29 i := fun u u1 u2 hu => by
      by_cases q : i = k
      · rw [q, s_up_eq, s_up_eq]
      · rw [s_up_j q, s_up_j q, s_up_f (by decide), hu]
    have a25 : ∀ u1 u2 : Int, s_up (s_up (s_up τ 25 k (t_emp τ)) 28 w u1) 29 k u2 25 i = s_up τ 25 k (t_emp τ) 25 i := fun u1 u2 => congrFun ((s_up_f (by decide)).trans (s_up_f (by decide))) i
    rw [a14, a15, a29 _ _ _ (s_up_f (by decide)), a25, show s_up (s_up τ 25 k (t_emp τ)) 28 w (s_up τ 25 k (t_emp τ) 28 w + 1) 29 k = τ 29 k from congrFun ((s_up_f (by decide)).trans (s_up_f (by decide))) k]
    by_cases q : i = k
    · rw [q, s_up_eq, s_up_eq, s_up_eq, s_up_eq, e1]
      rw [q] at hi
      rw [hi.2]
      exact ⟨⟨rfl, x_emp_cn hz⟩, rfl⟩
    · rw [s_up_j (by omega), s_up_j q, s_up_j q, s_up_j q, s_up_f (by decide)]
      exact hi
def x_PS (w y : Int) (χ ρ : t_S) (h0 : e_A) : e_R → e_A → Prop := fun r h => r = .inl none ∧ ∃ χ1, x_Sh w y χ (t_mh w ρ) χ1 ∧ h = x_H χ1 h0
theorem x_mh_k (w : Int) (ρ : t_S) (n : Nat) : (∀ j, j ≠ 25 → j ≠ 28 → j ≠ 29 → t_it (t_mhf w) n (s_up ρ 28 w 0) j = ρ j) := fun j a b c => (t_it_k (t_mhf_k a b c) _ _).trans (s_up_f b)
theorem x_bw {g : Int → Int} {a c : Int} (ha : a = x_bs g) (hg : x_g01 g) (hc : x_cn c) (h1 : x_sp c ≠ -1) : e_bt a (x_sp c) = g c ∧ (g c = 0 ∨ g c = 1) := by
  rw [ha]
  exact x_cn_bt hg hc (fun q => h1 ((x_cn_sp hc).2.mpr q))
