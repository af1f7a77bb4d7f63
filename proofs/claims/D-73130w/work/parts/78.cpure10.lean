/-! THE COMPONENT'S WALKS: years, pure -/
set_option maxRecDepth 100000
theorem x_stp_k {w : Int} {j : Nat} (a : j ≠ 23) (b : j ≠ 24) (c : j ≠ 26) (d : j ≠ 27) (k : Int) (x : t_X) : (t_stp w k x).1 j = x.1 j := by
  unfold t_stp
  split
  · unfold t_stpA
    split
    · show t_go2 w _ (t_go1 w _ _ _ x.1) j = x.1 j
      unfold t_go2 t_go1
      rw [s_up_f c, s_up_f d, s_up_f a, s_up_f b, s_up_f b]
    · show t_go2 w _ x.1 j = x.1 j
      unfold t_go2
      rw [s_up_f c, s_up_f d]
  · rfl
theorem x_wkx_1 (w : Int) (ρ : t_S) : (t_wkx w ρ).1 = t_wk1 w (t_wk0 ρ) := rfl
theorem x_its_k {w : Int} {j : Nat} (a : j ≠ 23) (b : j ≠ 24) (c : j ≠ 26) (d : j ≠ 27) (n : Nat) (x0 : t_X) : (t_it (t_stp w) n x0).1 j = x0.1 j := t_it_P (fun _ (x : t_X) => x.1 j = x0.1 j) rfl n (fun i x _ _ hx => (x_stp_k a b c d i x).trans hx)
theorem x_wk_k {w : Int} {ρ : t_S} {j : Nat} (h : j < 21 ∨ 29 < j) : t_wk w ρ j = ρ j := by
  unfold t_wk
  rw [t_mh_k (by omega) (by omega) (by omega), x_wk3_k _ j (by omega)]
  unfold t_wkX
  rw [x_its_k (by omega) (by omega) (by omega) (by omega), x_wkx_1]
  unfold t_wk1
  rw [s_up_f (by omega), s_up_f (by omega), s_up_f (by omega), x_wk0_k ρ j (by omega) (by omega)]
theorem x_stp_27 {w v : Int} (hv : v ≠ w) (k : Int) (x : t_X) : (t_stp w k x).1 27 v = x.1 27 v := by
  unfold t_stp
  split
  · unfold t_stpA
    split
    · unfold t_go2 t_go1
      dsimp only
      rw [s_up_f (by decide), s_up_j hv, s_up_f (by decide), s_up_f (by decide), s_up_f (by decide)]
    · unfold t_go2
      dsimp only
      rw [s_up_f (by decide), s_up_j hv]
  · rfl
theorem x_its_27 {w v : Int} (hv : v ≠ w) (n : Nat) (x0 : t_X) : (t_it (t_stp w) n x0).1 27 v = x0.1 27 v := t_it_P (fun _ (x : t_X) => x.1 27 v = x0.1 27 v) rfl n (fun i x _ _ hx => (x_stp_27 hv i x).trans hx)
theorem x_wk_27 {w v : Int} {ρ : t_S} (hv : v ≠ w) : t_wk w ρ 27 v = ρ 27 v := by
  unfold t_wk
  rw [t_mh_k (by decide) (by decide) (by decide), x_wk3_k _ 27 (by decide)]
  unfold t_wkX
  rw [x_its_27 hv, x_wkx_1]
  unfold t_wk1
  rw [s_up_j hv, s_up_f (by decide), s_up_f (by decide), x_wk0_k ρ 27 (by decide) (by decide)]
/-- a year kept -/
theorem x_kp_30 (y : Int) (ρ : t_S) : (∀ c : Int, 0 ≤ c → c < 80 → t_kp y ρ 30 (80 * y + c) = ρ 21 c ∧ t_kp y ρ 31 (80 * y + c) = ρ 24 c) ∧ (∀ j : Int, ¬ (80 * y ≤ j ∧ j < 80 * y + 80) → t_kp y ρ 30 j = ρ 30 j ∧ t_kp y ρ 31 j = ρ 31 j) := by
  have key : ∀ n : Nat, (∀ c : Int, 0 ≤ c → c < n → t_it (t_kp1f y) n ρ 30 (80 * y + c) = ρ 21 c ∧ t_it (t_kp1f y) n ρ 31 (80 * y + c) = ρ 24 c) ∧ (∀ j : Int, ¬ (80 * y ≤ j ∧ j < 80 * y + n) → t_it (t_kp1f y) n ρ 30 j = ρ 30 j ∧ t_it (t_kp1f y) n ρ 31 j = ρ 31 j) := by
    intro n
    induction n with
    | zero => exact ⟨fun c a b => by omega, fun j _ => ⟨rfl, rfl⟩⟩
    | succ n ih =>
      obtain ⟨i1, i2⟩ := ih
      have k21 : t_it (t_kp1f y) n ρ 21 = ρ 21 := t_it_k (t_kp1f_k (by decide) (by decide)) n ρ
      have k24 : t_it (t_kp1f y) n ρ 24 = ρ 24 := t_it_k (t_kp1f_k (by decide) (by decide)) n ρ
      have e : t_it (t_kp1f y) (n + 1) ρ = t_kp1f y (n : Int) (t_it (t_kp1f y) n ρ) := rfl
      rw [e]
      generalize t_it (t_kp1f y) n ρ = τ at i1 i2 k21 k24 ⊢
      unfold t_kp1f
      refine ⟨fun c a b => ?_, fun j hj => ?_⟩
      · rw [s_up_f (show (30 : Nat) ≠ 31 by decide), s_up_f (show (24 : Nat) ≠ 30 by decide)]
        by_cases q : c = n
        · rw [q, s_up_eq, s_up_eq, k21, k24]; exact ⟨rfl, rfl⟩
        · rw [s_up_j (by omega), s_up_j (by omega), s_up_f (by decide)]
          exact i1 c a (by omega)
      · rw [s_up_f (show (30 : Nat) ≠ 31 by decide), s_up_j (by omega), s_up_j (by omega), s_up_f (by decide)]
        exact i2 j (by omega)
  have e : ∀ k, k ≠ 32 → t_kp y ρ k = t_it (t_kp1f y) 80 ρ k := fun k h => t_it_k (f := t_kp2f y) (fun _ _ => s_up_f h) _ _
  rw [e 30 (by decide), e 31 (by decide)]
  exact ⟨(key 80).1, fun j hj => (key 80).2 j hj⟩
theorem x_kp2 (y : Int) (τ : t_S) : ∀ n : Nat, t_it (t_kp2f y) n τ 25 = τ 25 ∧ (∀ c : Int, 0 ≤ c → c < n → t_it (t_kp2f y) n τ 32 (6 * y + c) = τ 25 c) ∧ (∀ j : Int, ¬ (6 * y ≤ j ∧ j < 6 * y + n) → t_it (t_kp2f y) n τ 32 j = τ 32 j) := by
  intro n
  induction n with
  | zero => exact ⟨rfl, fun c a b => by omega, fun j _ => rfl⟩
  | succ n ih =>
    obtain ⟨i0, i1, i2⟩ := ih
    have e : t_it (t_kp2f y) (n + 1) τ = t_kp2f y (n : Int) (t_it (t_kp2f y) n τ) := rfl
    rw [e]
    generalize t_it (t_kp2f y) n τ = μ at i0 i1 i2 ⊢
    unfold t_kp2f
    refine ⟨(s_up_f (by decide)).trans i0, fun c a b => ?_, fun j hj => ?_⟩
    · by_cases q : c = n
      · rw [q, s_up_eq, i0]
      · rw [s_up_j (by omega)]; exact i1 c a (by omega)
    · rw [s_up_j (by omega)]; exact i2 j (by omega)
theorem x_kp_32 (y : Int) (ρ : t_S) : (∀ c : Int, 0 ≤ c → c < 6 → t_kp y ρ 32 (6 * y + c) = ρ 25 c) ∧ (∀ j : Int, ¬ (6 * y ≤ j ∧ j < 6 * y + 6) → t_kp y ρ 32 j = ρ 32 j) := by
  have k25 : t_it (t_kp1f y) 80 ρ 25 = ρ 25 := t_it_k (t_kp1f_k (by decide) (by decide)) 80 ρ
  have k32 : t_it (t_kp1f y) 80 ρ 32 = ρ 32 := t_it_k (t_kp1f_k (by decide) (by decide)) 80 ρ
  have h := x_kp2 y (t_it (t_kp1f y) 80 ρ) 6
  rw [k25, k32] at h
  exact ⟨h.2.1, h.2.2⟩
/-- the beginning of all walks -/
theorem x_ga0 (σ : t_S) : (∀ j, j ≠ 21 → j ≠ 24 → j ≠ 25 → j ≠ 27 → j ≠ 29 → t_ga0 σ j = σ j) ∧ (∀ c : Int, 0 ≤ c → c < 80 → t_ga0 σ 21 c = 0 ∧ t_ga0 σ 24 c = 0) ∧ (∀ h : Int, 0 ≤ h → h < 6 → t_ga0 σ 25 h = σ 1 (22 + h) ∧ t_ga0 σ 29 h = 0) ∧ ∀ v : Int, 0 ≤ v → v < 7 → t_ga0 σ 27 v = -1 := by
  have a1 : ∀ n : Nat, (∀ j, j ≠ 21 → j ≠ 24 → t_it t_ga1f n σ j = σ j) ∧ ∀ c : Int, 0 ≤ c → c < n → t_it t_ga1f n σ 21 c = 0 ∧ t_it t_ga1f n σ 24 c = 0 := by
    intro n
    induction n with
    | zero => exact ⟨fun _ _ _ => rfl, fun c a b => by omega⟩
    | succ n ih =>
      refine ⟨fun j a b => t_it_k (f := t_ga1f) (fun _ _ => (s_up_f b).trans (s_up_f a)) _ σ, fun c a b => ?_⟩
      have e : t_it t_ga1f (n + 1) σ = t_ga1f (n : Int) (t_it t_ga1f n σ) := rfl
      rw [e]
      generalize t_it t_ga1f n σ = μ at ih ⊢
      unfold t_ga1f
      rw [s_up_f (show (21 : Nat) ≠ 24 by decide)]
      by_cases q : c = n
      · rw [q, s_up_eq, s_up_eq]; exact ⟨rfl, rfl⟩
      · rw [s_up_j q, s_up_j q, s_up_f (by decide)]; exact ih.2 c a (by omega)
  obtain ⟨b1, b2⟩ := a1 80
  unfold t_ga0
  generalize t_it t_ga1f 80 σ = τ at b1 b2 ⊢
  have a2 : ∀ n : Nat, (∀ j, j ≠ 25 → j ≠ 29 → t_it t_ga2f n τ j = τ j) ∧ ∀ c : Int, 0 ≤ c → c < n → t_it t_ga2f n τ 25 c = τ 1 (22 + c) ∧ t_it t_ga2f n τ 29 c = 0 := by
    intro n
    induction n with
    | zero => exact ⟨fun _ _ _ => rfl, fun c a b => by omega⟩
    | succ n ih =>
      refine ⟨fun j a b => t_it_k (f := t_ga2f) (fun _ _ => (s_up_f b).trans (s_up_f a)) _ τ, fun c a b => ?_⟩
      have e : t_it t_ga2f (n + 1) τ = t_ga2f (n : Int) (t_it t_ga2f n τ) := rfl
      rw [e]
      generalize t_it t_ga2f n τ = μ at ih ⊢
      unfold t_ga2f
      rw [s_up_f (show (25 : Nat) ≠ 29 by decide)]
      by_cases q : c = n
      · rw [q, s_up_eq, s_up_eq, ih.1 1 (by decide) (by decide)]; exact ⟨rfl, rfl⟩
      · rw [s_up_j q, s_up_j q, s_up_f (by decide)]; exact ih.2 c a (by omega)
  obtain ⟨c1, c2⟩ := a2 6
  generalize t_it t_ga2f 6 τ = μ at c1 c2 ⊢
  have a3 : ∀ n : Nat, (∀ j, j ≠ 27 → t_it t_ga3f n μ j = μ j) ∧ ∀ c : Int, 0 ≤ c → c < n → t_it t_ga3f n μ 27 c = -1 := by
    intro n
    induction n with
    | zero => exact ⟨fun _ _ => rfl, fun c a b => by omega⟩
    | succ n ih =>
      refine ⟨fun j a => t_it_k (f := t_ga3f) (fun _ _ => s_up_f a) _ μ, fun c a b => ?_⟩
      have e : t_it t_ga3f (n + 1) μ = t_ga3f (n : Int) (t_it t_ga3f n μ) := rfl
      rw [e]
      generalize t_it t_ga3f n μ = ν at ih ⊢
      unfold t_ga3f
      by_cases q : c = n
      · rw [q, s_up_eq]
      · rw [s_up_j q]; exact ih.2 c a (by omega)
  obtain ⟨d1, d2⟩ := a3 7
  refine ⟨fun j a b c d e => ?_, fun c c0 c1' => ?_, fun h h0 h1 => ?_, d2⟩
  · rw [d1 j d, c1 j c e, b1 j a b]
  · rw [d1 21 (by decide), d1 24 (by decide), c1 21 (by decide) (by decide), c1 24 (by decide) (by decide)]
    exact b2 c c0 c1'
  · rw [d1 25 (by decide), d1 29 (by decide), (c2 h h0 h1).1, (c2 h h0 h1).2, b1 1 (by decide) (by decide)]
    exact ⟨rfl, rfl⟩
