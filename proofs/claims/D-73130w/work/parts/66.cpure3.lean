/-! THE COMPONENT'S WALKS: the empty cell -/
set_option maxRecDepth 100000
theorem x_fnd_at {g : Int → Int} {c : Int} (h1 : g c = 1) : ∀ (m : Nat) (i : Int), i ≤ c → c < i + m → (∀ k, i ≤ k → k < c → g k ≠ 1) → t_fnd g m i = c
  | 0, i, a, b, _ => by exfalso; omega
  | m + 1, i, a, b, h => by
    unfold t_fnd
    by_cases q : i = c
    · rw [q, if_pos h1]
    · rw [if_neg (h i (by omega) (by omega))]
      exact x_fnd_at h1 m (i + 1) (by omega) (by omega) (fun k k0 k1 => h k (by omega) k1)
def x_tk (ρ : t_S) (k : Int) : Int → Int := fun c => if ρ 15 c = 1 ∨ ρ 21 c = 1 ∨ t_anyg (t_hsg ρ c) k.toNat = 1 then 1 else 0
theorem x_tk01 (ρ : t_S) (k : Int) : x_g01 (x_tk ρ k) := fun c _ => by unfold x_tk; split <;> simp
theorem x_tk0 {ρ : t_S} (h15 : x_g01 (ρ 15)) (h21 : x_g01 (ρ 21)) : t_or (x_bs (ρ 15)) (x_bs (ρ 21)) = x_bs (x_tk ρ 0) :=
  x_bs_or h15 h21 (x_tk01 ρ 0) (fun c hc => by
    unfold x_tk
    have e : t_anyg (t_hsg ρ c) (0 : Int).toNat = 0 := rfl
    rw [e]
    by_cases q : ρ 15 c = 1 ∨ ρ 21 c = 1
    · rw [if_pos q, if_pos (q.elim Or.inl (fun z => Or.inr (Or.inl z)))]
    · rw [if_neg q, if_neg (fun w => w.elim (fun z => q (Or.inl z)) (fun w => w.elim (fun z => q (Or.inr z)) (fun z => by omega)))])
theorem x_hs01 (ρ : t_S) (c : Int) (n : Nat) : t_anyg (t_hsg ρ c) n = 0 ∨ t_anyg (t_hsg ρ c) n = 1 := t_anyg01 (fun i => by show (if _ then (1 : Int) else 0) = 0 ∨ (if _ then (1 : Int) else 0) = 1; split <;> simp) n
theorem x_hs_s {ρ : t_S} {c k : Int} (hk : 0 ≤ k) (h : ρ 25 k ≠ c) : t_anyg (t_hsg ρ c) (k + 1).toNat = t_anyg (t_hsg ρ c) k.toNat := by
  rw [t_anyg_s _ hk, show t_hsg ρ c k = 0 from if_neg h]
  rcases x_hs01 ρ c k.toNat with q | q <;> rw [q] <;> rfl
theorem x_tk_n {ρ : t_S} {k : Int} (hk : 0 ≤ k) (h : ρ 25 k = -1) : x_bs (x_tk ρ k) = x_bs (x_tk ρ (k + 1)) :=
  x_bs_cg (fun c hc => by
    unfold x_tk
    rw [x_hs_s hk (by have := hc.1; omega)])
theorem x_tk_s {ρ : t_S} {k : Int} (hk : 0 ≤ k) (h : x_c8 (ρ 25 k)) : t_or (x_bs (x_tk ρ k)) (2 ^ (x_sp (ρ 25 k)).toNat) = x_bs (x_tk ρ (k + 1)) := by
  refine x_bs_in (x_tk01 ρ k) h ?_ (fun e he hne => ?_)
  · unfold x_tk
    rw [t_anyg_s _ hk, show t_hsg ρ (ρ 25 k) k = 1 from if_pos rfl]
    rw [if_pos (Or.inr (Or.inr (by split <;> rfl)))]
  · unfold x_tk
    rw [x_hs_s hk (fun q => hne q.symm)]
theorem x_sp2 {a d : Int} (ha : 0 ≤ a ∧ a < 8) (hd : 0 ≤ d ∧ d < 8) : x_c8 (10 * a + d) ∧ x_sp (10 * a + d) = 8 * a + d := by
  have e1 : (10 * a + d) / 10 = a := by omega
  have e2 : (10 * a + d) % 10 = d := by omega
  refine ⟨⟨by omega, by omega, by omega⟩, ?_⟩
  unfold x_sp
  rw [if_neg (by omega), e1, e2]
/-- a cell that is taken, and one that is not -/
theorem x_em_0 {ρ : t_S} {a d : Int} (ha : 0 ≤ a ∧ a < 8) (hd : 0 ≤ d ∧ d < 8) (h : e_bt (x_bs (x_tk ρ (ρ 1 6))) (8 * a + d) = 1) : t_emg ρ (10 * a + d) = 0 := by
  obtain ⟨hc, hs⟩ := x_sp2 ha hd
  rw [← hs, (x_cn_bt (x_tk01 ρ (ρ 1 6)) (Or.inr hc) (by have := hc.1; omega)).1] at h
  unfold x_tk at h
  unfold t_emg
  by_cases q : ρ 15 (10 * a + d) = 1 ∨ ρ 21 (10 * a + d) = 1 ∨ t_anyg (t_hsg ρ (10 * a + d)) (ρ 1 6).toNat = 1
  · rw [if_neg (fun w => by
      have w4 : t_anyg (t_hsg ρ (10 * a + d)) (ρ 1 6).toNat = 0 := w.2.2.2
      rcases q with q | q | q <;> omega)]
  · rw [if_neg q] at h; omega
theorem x_em_1 {ρ : t_S} (hC : t_isC ρ) (h15 : x_g01 (ρ 15)) (h21 : x_g01 (ρ 21)) {a d : Int} (ha : 0 ≤ a ∧ a < 8) (hd : 0 ≤ d ∧ d < 8) (ha2 : a < ρ 1 3) (hd2 : d < ρ 1 4) (h : ¬ e_bt (x_bs (x_tk ρ (ρ 1 6))) (8 * a + d) = 1) : t_emg ρ (10 * a + d) = 1 := by
  obtain ⟨hc, hs⟩ := x_sp2 ha hd
  rw [← hs, (x_cn_bt (x_tk01 ρ (ρ 1 6)) (Or.inr hc) (by have := hc.1; omega)).1] at h
  unfold x_tk at h
  unfold t_emg
  by_cases q : ρ 15 (10 * a + d) = 1 ∨ ρ 21 (10 * a + d) = 1 ∨ t_anyg (t_hsg ρ (10 * a + d)) (ρ 1 6).toNat = 1
  · rw [if_pos q] at h; omega
  · have q1 := h15 _ hc
    have q2 := h21 _ hc
    have q3 := x_hs01 ρ (10 * a + d) (ρ 1 6).toNat
    have e1 : (10 * a + d) / 10 = a := by omega
    have e2 : (10 * a + d) % 10 = d := by omega
    rw [if_pos ⟨⟨hC, hc.1, by omega, by omega⟩, by omega, by omega, (show t_anyg (t_hsg ρ (10 * a + d)) (ρ 1 6).toNat = 0 by omega)⟩]
def x_bare (ρ : t_S) (n : Int) : Prop := ∀ c, 0 ≤ c → c < n → t_emg ρ c ≠ 1
theorem x_bare_s {ρ : t_S} {a d : Int} (h : x_bare ρ (10 * a + d)) (h1 : t_emg ρ (10 * a + d) = 0) : x_bare ρ (10 * a + (d + 1)) := fun c c0 c1 => by
  by_cases q : c = 10 * a + d
  · rw [q, h1]; decide
  · exact h c c0 (by omega)
theorem x_bare_a {ρ : t_S} {a : Int} (ha : 0 ≤ a) (h4 : 0 ≤ ρ 1 4) (h : x_bare ρ (10 * a + ρ 1 4)) : x_bare ρ (10 * (a + 1) + 0) := fun c c0 c1 => by
  by_cases q : c < 10 * a + ρ 1 4
  · exact h c c0 q
  · unfold t_emg
    rw [if_neg (fun w => by have := w.1.2.2.2; omega)]
    decide
theorem x_bare_n {ρ : t_S} (h : x_bare ρ (10 * ρ 1 3 + 0)) : t_emp ρ = -1 :=
  t_fnd_nn 80 0 (by omega) (fun c c0 c1 => by
    by_cases q : c < 10 * ρ 1 3
    · exact h c c0 (by omega)
    · unfold t_emg
      rw [if_neg (fun w => by have := w.1.2.2.1; omega)]
      decide)
theorem x_bare_e {ρ : t_S} {a d : Int} (ha : 0 ≤ a ∧ a < 8) (hd : 0 ≤ d ∧ d < 8) (h : x_bare ρ (10 * a + d)) (h1 : t_emg ρ (10 * a + d) = 1) : 8 * a + d = x_sp (t_emp ρ) := by
  have e : t_emp ρ = 10 * a + d := x_fnd_at h1 80 0 (by omega) (by omega) (fun k k0 k1 => h k k0 k1)
  rw [e, (x_sp2 ha hd).2]
