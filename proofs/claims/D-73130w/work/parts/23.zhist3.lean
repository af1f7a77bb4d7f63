/-! THE TWIN'S PURE FORM: what holds behind all walks, three: the years -/
set_option maxRecDepth 100000
theorem z_kp_30 (y : Int) (ρ : t_S) : (∀ c : Int, 0 ≤ c → c < 80 → t_kp y ρ 30 (80 * y + c) = ρ 21 c ∧ t_kp y ρ 31 (80 * y + c) = ρ 24 c) ∧ (∀ j : Int, ¬ (80 * y ≤ j ∧ j < 80 * y + 80) → t_kp y ρ 30 j = ρ 30 j ∧ t_kp y ρ 31 j = ρ 31 j) := by
  have key : ∀ n : Nat, (∀ c : Int, 0 ≤ c → c < n → t_it (t_kp1f y) n ρ 30 (80 * y + c) = ρ 21 c ∧ t_it (t_kp1f y) n ρ 31 (80 * y + c) = ρ 24 c) ∧ (∀ j : Int, ¬ (80 * y ≤ j ∧ j < 80 * y + n) → t_it (t_kp1f y) n ρ 30 j = ρ 30 j ∧ t_it (t_kp1f y) n ρ 31 j = ρ 31 j) := by
    intro n
    induction n with
    | zero => exact ⟨fun c a b => by omega, fun j _ => ⟨rfl, rfl⟩⟩
    | succ n ih =>
      obtain ⟨i1, i2⟩ := ih
      have k21 : t_it (t_kp1f y) n ρ 21 = ρ 21 := t_it_k (t_kp1f_k (by decide) (by decide)) n ρ
      have k24 : t_it (t_kp1f y) n ρ 24 = ρ 24 := t_it_k (t_kp1f_k (by decide) (by decide)) n ρ
      have e : t_it (t_kp1f y) (n + 1) ρ = t_kp1f y (n : Int) (t_it (t_kp1f y) n ρ) := rfl
      rw [e]
      generalize t_it (t_kp1f y) n ρ = τ at i1 i2 k21 k24 ⊢
      unfold t_kp1f
      refine ⟨fun c a b => ?_, fun j hj => ?_⟩
      · rw [s_up_f (show (30 : Nat) ≠ 31 by decide), s_up_f (show (24 : Nat) ≠ 30 by decide)]
        by_cases q : c = n
        · rw [q, s_up_eq, s_up_eq, k21, k24]; exact ⟨rfl, rfl⟩
        · rw [s_up_j (by omega), s_up_j (by omega), s_up_f (by decide)]
          exact i1 c a (by omega)
      · rw [s_up_f (show (30 : Nat) ≠ 31 by decide), s_up_j (by omega), s_up_j (by omega), s_up_f (by decide)]
        exact i2 j (by omega)
  have e : ∀ k, k ≠ 32 → t_kp y ρ k = t_it (t_kp1f y) 80 ρ k := fun k h => t_it_k (f := t_kp2f y) (fun _ _ => s_up_f h) _ _
  rw [e 30 (by decide), e 31 (by decide)]
  exact ⟨(key 80).1, fun j hj => (key 80).2 j hj⟩
theorem z_kp2 (y : Int) (τ : t_S) : ∀ n : Nat, t_it (t_kp2f y) n τ 25 = τ 25 ∧ (∀ c : Int, 0 ≤ c → c < n → t_it (t_kp2f y) n τ 32 (6 * y + c) = τ 25 c) ∧ (∀ j : Int, ¬ (6 * y ≤ j ∧ j < 6 * y + n) → t_it (t_kp2f y) n τ 32 j = τ 32 j) := by
  intro n
  induction n with
  | zero => exact ⟨rfl, fun c a b => by omega, fun j _ => rfl⟩
  | succ n ih =>
    obtain ⟨i0, i1, i2⟩ := ih
    have e : t_it (t_kp2f y) (n + 1) τ = t_kp2f y (n : Int) (t_it (t_kp2f y) n τ) := rfl
    rw [e]
    generalize t_it (t_kp2f y) n τ = μ at i0 i1 i2 ⊢
    unfold t_kp2f
    refine ⟨(s_up_f (by decide)).trans i0, fun c a b => ?_, fun j hj => ?_⟩
    · by_cases q : c = n
      · rw [q, s_up_eq, i0]
      · rw [s_up_j (by omega)]; exact i1 c a (by omega)
    · rw [s_up_j (by omega)]; exact i2 j (by omega)
theorem z_kp_32 (y : Int) (ρ : t_S) : (∀ c : Int, 0 ≤ c → c < 6 → t_kp y ρ 32 (6 * y + c) = ρ 25 c) ∧ (∀ j : Int, ¬ (6 * y ≤ j ∧ j < 6 * y + 6) → t_kp y ρ 32 j = ρ 32 j) := by
  have k25 : t_it (t_kp1f y) 80 ρ 25 = ρ 25 := t_it_k (t_kp1f_k (by decide) (by decide)) 80 ρ
  have k32 : t_it (t_kp1f y) 80 ρ 32 = ρ 32 := t_it_k (t_kp1f_k (by decide) (by decide)) 80 ρ
  have h := z_kp2 y (t_it (t_kp1f y) 80 ρ) 6
  rw [k25, k32] at h
  exact ⟨h.2.1, h.2.2⟩
/-- the years kept -/
def z_H (n : Int) (τ : t_S) : Prop := (∀ y c : Int, 0 ≤ y → y < n → 0 ≤ c → c < 80 → (τ 30 (80 * y + c) = 0 ∨ τ 30 (80 * y + c) = 1) ∧ (0 ≤ τ 31 (80 * y + c) ∧ τ 31 (80 * y + c) < 2 ^ 4) ∧ (∀ d : Int, 0 ≤ d → d < 4 → e_bt (τ 31 (80 * y + c)) d = 1 → t_bes τ c d ≠ -1 ∧ e_bt (τ 31 (80 * y + t_bes τ c d)) ((d + 2) % 4) = 1 ∧ τ 30 (80 * y + c) = 1) ∧ (¬ t_okC (τ 1) c → τ 30 (80 * y + c) = 0 ∧ τ 31 (80 * y + c) = 0)) ∧ ∀ y h : Int, 0 ≤ y → y < n → 0 ≤ h → h < 6 → -1 ≤ τ 32 (6 * y + h) ∧ τ 32 (6 * y + h) < 80
theorem z_H_cg {n : Int} {τ μ : t_S} (e1 : μ 1 = τ 1) (e30 : μ 30 = τ 30) (e31 : μ 31 = τ 31) (e32 : μ 32 = τ 32) (h : z_H n τ) : z_H n μ := by
  unfold z_H at h ⊢
  rw [e1, e30, e31, e32]
  refine ⟨fun y c y0 y1 c0 c1 => ?_, h.2⟩
  obtain ⟨a, b, p, q⟩ := h.1 y c y0 y1 c0 c1
  refine ⟨a, b, fun d d0 d1 hd => ?_, q⟩
  rw [z_bes_cg e1 c d]
  exact p d d0 d1 hd
theorem z_G_cg {b : Int} {τ μ : t_S} (e1 : μ 1 = τ 1) (e : ∀ j, 20 < j → j < 30 → μ j = τ j) (h : z_G b τ) : z_G b μ := by
  unfold z_G z_sym at h ⊢
  rw [e1, e 21 (by decide) (by decide), e 24 (by decide) (by decide), e 26 (by decide) (by decide), e 27 (by decide) (by decide), e 28 (by decide) (by decide), e 29 (by decide) (by decide)]
  refine ⟨⟨h.1.1, fun c d c0 c1 d0 d1 hc => ?_⟩, h.2⟩
  rw [z_bes_cg e1 c d]
  exact h.1.2 c d c0 c1 d0 d1 hc
theorem z_G_le {b b1 : Int} {τ : t_S} (hb : b ≤ b1) (h : z_G b τ) : z_G b1 τ := ⟨h.1, h.2.1, fun e e0 e1 => ⟨(h.2.2 e e0 e1).1, by have := (h.2.2 e e0 e1).2; omega⟩⟩
/-- who has not walked yet -/
def z_N (y w : Int) (τ : t_S) : Prop := ∀ v : Int, 0 ≤ v → v < τ 1 7 → (y < t_wd τ v 3 ∨ (t_wd τ v 3 = y ∧ w ≤ v)) → τ 27 v = -1
def z_Y (y w : Int) (σ τ : t_S) : Prop := t_inG σ τ ∧ z_G (7 * y + w) τ ∧ z_U τ ∧ z_N y w τ ∧ z_H (y + 1) τ ∧ (∀ c : Int, 0 ≤ c → c < 80 → w = 0 → τ 30 (80 * y + c) = τ 21 c)
def z_A (y : Int) (σ τ : t_S) : Prop := t_inG σ τ ∧ z_G (7 * y) τ ∧ z_U τ ∧ z_N y 0 τ ∧ z_H y τ
theorem z_kp {y : Int} {σ τ : t_S} (ha : t_ask τ) (hy : 0 ≤ y) (h : z_A y σ τ) : z_Y y 0 σ (t_kp y τ) := by
  obtain ⟨hi, hg, hu, hn, hh⟩ := h
  have hi2 := t_kp_in (y := y) hi
  obtain ⟨p1, p2⟩ := z_kp_30 y τ
  obtain ⟨p3, p4⟩ := z_kp_32 y τ
  have k : ∀ j, j ≠ 30 → j ≠ 31 → j ≠ 32 → t_kp y τ j = τ j := fun j a b c => t_kp_k a b c τ
  revert hi2 p1 p2 p3 p4 k
  generalize t_kp y τ = μ
  intro hi2 p1 p2 p3 p4 k
  have e1 := k 1 (by decide) (by decide) (by decide)
  refine ⟨hi2, by rw [Int.add_zero]; exact z_G_cg e1 (fun j a b => k j (by omega) (by omega) (by omega)) hg, ?_, ?_, ⟨fun z c z0 z1 c0 c1 => ?_, fun z e z0 z1 e0 e1' => ?_⟩, fun c c0 c1 _ => ?_⟩
  · unfold z_U at hu ⊢
    rw [e1, k 21 (by decide) (by decide) (by decide), k 26 (by decide) (by decide) (by decide), k 27 (by decide) (by decide) (by decide)]
    exact hu
  · unfold z_N t_wd at hn ⊢
    rw [e1, k 27 (by decide) (by decide) (by decide)]
    exact hn
  · rw [e1]
    by_cases q : z = y
    · subst q
      obtain ⟨a, b⟩ := p1 c c0 c1
      rw [a, b]
      refine ⟨hi.2.1 c c0 c1, hi.2.2.1 c c0 c1, fun d d0 d1 hd => ?_, fun hc => ?_⟩
      · obtain ⟨u1, u2, u3⟩ := hg.1.2 c d c0 c1 d0 d1 hd
        rw [z_bes_cg e1 c d]
        have ub := t_bes_rg ha.1 c d
        rw [(p1 (t_bes τ c d) (by omega) ub.2).2]
        exact ⟨u1, u2, u3⟩
      · obtain ⟨u1, u2⟩ := hg.1.1 c c0 c1 hc
        have u3 := hi.2.1 c c0 c1
        exact ⟨u3.elim id (fun w => absurd w u2), u1⟩
    · obtain ⟨a, b⟩ := p2 (80 * z + c) (by omega)
      rw [a, b]
      obtain ⟨u1, u2, u3, u4⟩ := hh.1 z c z0 (by omega) c0 c1
      refine ⟨u1, u2, fun d d0 d1 hd => ?_, u4⟩
      rw [z_bes_cg e1 c d]
      have ub := t_bes_rg ha.1 c d
      obtain ⟨w1, w2, w3⟩ := u3 d d0 d1 hd
      rw [(p2 (80 * z + t_bes τ c d) (by omega)).2]
      exact ⟨w1, w2, w3⟩
  · by_cases q : z = y
    · subst q
      rw [p3 e e0 e1']
      exact hi.2.2.2 e e0 e1'
    · rw [p4 (6 * z + e) (by omega)]
      exact hh.2 z e z0 (by omega) e0 e1'
  · rw [(p1 c c0 c1).1, k 21 (by decide) (by decide) (by decide)]
theorem z_yrf {y w : Int} {σ τ : t_S} (ha : t_ask σ) (hw0 : 0 ≤ w) (hw1 : w < σ 1 7) (h : z_Y y w σ τ) : z_Y y (w + 1) σ (t_yrf y w τ) := by
  have hi2 := t_yrf_in (y := y) ha hw0 hw1 h.1
  obtain ⟨hi, hg, hu, hn, hh, -⟩ := h
  have e := hi.1 1 (by omega)
  have h7 := ha.1.2.2.2.2.2.1
  revert hi2
  unfold t_yrf
  by_cases q : t_wd τ w 3 = y ∧ e_bt (τ 18 0) w = 1
  · rw [if_pos q]
    intro hi2
    obtain ⟨z1, z2, z3, z4⟩ := z_wk (b := 7 * y + w) (t_inG_ask ha hi) hi ⟨hw0, by omega⟩ (by rw [e]; exact ha.2.1.2.2.1 w hw0 hw1) hg
    have hw27 : τ 27 w = -1 := hn w hw0 (by rw [e]; exact hw1) (Or.inr ⟨q.1, Int.le_refl w⟩)
    have z5 := z4 hw27 (by rw [e]; exact hw1) hu
    revert z1 z2 z3 z5 hi2
    generalize t_wk w τ = μ
    intro hi2 z1 z2 z3 z5
    refine ⟨hi2, by rw [show 7 * y + (w + 1) = 7 * y + w + 1 by omega]; exact z1, z5, fun v v0 v1 hv => ?_, z_H_cg (z3 1 (by omega)) (z3 30 (by omega)) (z3 31 (by omega)) (z3 32 (by omega)) hh, fun _ _ _ z => by omega⟩
    rw [z3 1 (by omega)] at v1
    have hv2 : y < t_wd τ v 3 ∨ (t_wd τ v 3 = y ∧ w + 1 ≤ v) := by
      have e3 : t_wd μ v 3 = t_wd τ v 3 := by show μ 1 _ = τ 1 _; rw [z3 1 (by omega)]
      rw [e3] at hv
      exact hv
    have hne : v ≠ w := fun z => by
      rw [z] at hv2
      have := q.1
      omega
    rw [z2 v hne]
    exact hn v v0 v1 (hv2.elim Or.inl (fun p => Or.inr ⟨p.1, by omega⟩))
  · rw [if_neg q]
    intro _
    exact ⟨hi, z_G_le (by omega) hg, hu, fun v v0 v1 hv => hn v v0 v1 (hv.elim Or.inl (fun p => Or.inr ⟨p.1, by omega⟩)), hh, fun _ _ _ z => by omega⟩
theorem z_yr {y : Int} {σ τ : t_S} (ha : t_ask σ) (hy : 0 ≤ y) (h : z_A y σ τ) : z_A (y + 1) σ (t_yr y τ) ∧ (y = σ 1 0 → ∀ c : Int, 0 ≤ c → c < 80 → t_yr y τ 30 (80 * y + c) = t_yr y τ 21 c) := by
  have hat := t_inG_ask ha h.1
  have e := h.1.1 1 (by omega)
  have h7 := ha.1.2.2.2.2.2.1
  have h0 := z_kp hat hy h
  unfold t_yr
  rw [e]
  have go : ∀ n : Nat, (n : Int) ≤ σ 1 7 → z_Y y n σ (t_it (t_yrf y) n (t_kp y τ)) := fun n hn => t_it_P (f := t_yrf y) (x := t_kp y τ) (fun i x => z_Y y i σ x) h0 n (fun i x i0 i1 hx => z_yrf ha (by omega) (by omega) hx)
  by_cases q : y < σ 1 0
  · rw [if_pos q]
    have g := go (σ 1 7).toNat (by omega)
    rw [Int.toNat_of_nonneg h7.1] at g
    revert g
    generalize t_it (t_yrf y) (σ 1 7).toNat (t_kp y τ) = μ
    intro g
    obtain ⟨hi, hg, hu, hn, hh, -⟩ := g
    exact ⟨⟨hi, z_G_le (by omega) hg, hu, fun v v0 v1 hv => hn v v0 v1 (Or.inl (by omega)), hh⟩, fun z => by omega⟩
  · rw [if_neg q]
    have g := go 0 (by omega)
    revert g
    show z_Y y 0 σ (t_kp y τ) → z_A (y + 1) σ (t_kp y τ) ∧ (y = σ 1 0 → ∀ c : Int, 0 ≤ c → c < 80 → t_kp y τ 30 (80 * y + c) = t_kp y τ 21 c)
    generalize t_kp y τ = μ
    intro g
    obtain ⟨hi, hg, hu, hn, hh, hl⟩ := g
    exact ⟨⟨hi, z_G_le (by omega) hg, hu, fun v v0 v1 hv => hn v v0 v1 (Or.inl (by omega)), hh⟩, fun _ c c0 c1 => hl c c0 c1 rfl⟩
theorem z_ga0 (σ : t_S) : (∀ j, j ≠ 21 → j ≠ 24 → j ≠ 25 → j ≠ 27 → j ≠ 29 → t_ga0 σ j = σ j) ∧ (∀ c : Int, 0 ≤ c → c < 80 → t_ga0 σ 21 c = 0 ∧ t_ga0 σ 24 c = 0) ∧ (∀ h : Int, 0 ≤ h → h < 6 → t_ga0 σ 29 h = 0) ∧ ∀ v : Int, 0 ≤ v → v < 7 → t_ga0 σ 27 v = -1 := by
  have a1 : ∀ n : Nat, (∀ j, j ≠ 21 → j ≠ 24 → t_it t_ga1f n σ j = σ j) ∧ ∀ c : Int, 0 ≤ c → c < n → t_it t_ga1f n σ 21 c = 0 ∧ t_it t_ga1f n σ 24 c = 0 := by
    intro n
    induction n with
    | zero => exact ⟨fun _ _ _ => rfl, fun c a b => by omega⟩
    | succ n ih =>
      refine ⟨fun j a b => t_it_k (f := t_ga1f) (fun _ _ => (s_up_f b).trans (s_up_f a)) _ σ, fun c a b => ?_⟩
      have e : t_it t_ga1f (n + 1) σ = t_ga1f (n : Int) (t_it t_ga1f n σ) := rfl
      rw [e]
      generalize t_it t_ga1f n σ = μ at ih ⊢
      unfold t_ga1f
      rw [s_up_f (show (21 : Nat) ≠ 24 by decide)]
      by_cases q : c = n
      · rw [q, s_up_eq, s_up_eq]; exact ⟨rfl, rfl⟩
      · rw [s_up_j q, s_up_j q, s_up_f (by decide)]; exact ih.2 c a (by omega)
  obtain ⟨b1, b2⟩ := a1 80
  unfold t_ga0
  generalize t_it t_ga1f 80 σ = τ at b1 b2 ⊢
  have a2 : ∀ n : Nat, (∀ j, j ≠ 25 → j ≠ 29 → t_it t_ga2f n τ j = τ j) ∧ ∀ c : Int, 0 ≤ c → c < n → t_it t_ga2f n τ 29 c = 0 := by
    intro n
    induction n with
    | zero => exact ⟨fun _ _ _ => rfl, fun c a b => by omega⟩
    | succ n ih =>
      refine ⟨fun j a b => t_it_k (f := t_ga2f) (fun _ _ => (s_up_f b).trans (s_up_f a)) _ τ, fun c a b => ?_⟩
      have e : t_it t_ga2f (n + 1) τ = t_ga2f (n : Int) (t_it t_ga2f n τ) := rfl
      rw [e]
      generalize t_it t_ga2f n τ = μ at ih ⊢
      unfold t_ga2f
      by_cases q : c = n
      · rw [q, s_up_eq]
      · rw [s_up_j q, s_up_f (by decide)]; exact ih.2 c a (by omega)
  obtain ⟨c1, c2⟩ := a2 6
  generalize t_it t_ga2f 6 τ = μ at c1 c2 ⊢
  have a3 : ∀ n : Nat, (∀ j, j ≠ 27 → t_it t_ga3f n μ j = μ j) ∧ ∀ c : Int, 0 ≤ c → c < n → t_it t_ga3f n μ 27 c = -1 := by
    intro n
    induction n with
    | zero => exact ⟨fun _ _ => rfl, fun c a b => by omega⟩
    | succ n ih =>
      refine ⟨fun j a => t_it_k (f := t_ga3f) (fun _ _ => s_up_f a) _ μ, fun c a b => ?_⟩
      have e : t_it t_ga3f (n + 1) μ = t_ga3f (n : Int) (t_it t_ga3f n μ) := rfl
      rw [e]
      generalize t_it t_ga3f n μ = ν at ih ⊢
      unfold t_ga3f
      by_cases q : c = n
      · rw [q, s_up_eq]
      · rw [s_up_j q]; exact ih.2 c a (by omega)
  obtain ⟨d1, d2⟩ := a3 7
  refine ⟨fun j a b c d e => ?_, fun c c0 c1' => ?_, fun h h0 h1 => ?_, d2⟩
  · rw [d1 j d, c1 j c e, b1 j a b]
  · rw [d1 21 (by decide), d1 24 (by decide), c1 21 (by decide) (by decide), c1 24 (by decide) (by decide)]
    exact b2 c c0 c1'
  · rw [d1 29 (by decide)]
    exact c2 h h0 h1
theorem z_A0 {σ : t_S} (ha : t_ask σ) : z_A 0 σ (t_ga0 σ) := by
  have hi := t_ga0_in ha
  have h7 := ha.1.2.2.2.2.2.1
  obtain ⟨g1, g2, g3, g4⟩ := z_ga0 σ
  revert hi g1 g2 g3 g4
  generalize t_ga0 σ = μ
  intro hi g1 g2 g3 g4
  have e1 := g1 1 (by decide) (by decide) (by decide) (by decide) (by decide)
  refine ⟨hi, ⟨⟨fun c c0 c1 _ => ⟨(g2 c c0 c1).2, by show ¬ (μ 21 c = 1); rw [(g2 c c0 c1).1]; decide⟩, fun c d c0 c1 d0 d1 hc => ?_⟩, fun w w0 w1 => ?_, fun e e0 e1' => by rw [g3 e e0 e1']; omega⟩, fun c c0 c1 => ?_, fun v v0 v1 _ => g4 v v0 (by rw [e1] at v1; omega), ⟨fun y c y0 y1 => by omega, fun y e y0 y1 => by omega⟩⟩
  · rw [(g2 c c0 c1).2, b_0] at hc
    exact absurd hc (by decide)
  · rw [g4 w w0 w1]
    exact ⟨by decide, fun k a b => by omega, fun z => absurd rfl z⟩
  · rw [(g2 c c0 c1).1]
    constructor
    · intro q; exact absurd q (by decide)
    · rintro ⟨v, j, v0, v1, j0, j1, -⟩
      rw [e1] at v1
      rw [g4 v v0 (by omega)] at j1
      omega
/-- all that holds behind all walks -/
theorem z_ga {σ : t_S} (ha : t_ask σ) : z_A (σ 1 0 + 1) σ (t_ga σ) ∧ ∀ c : Int, 0 ≤ c → c < 80 → t_ga σ 30 (80 * σ 1 0 + c) = t_ga σ 21 c := by
  have h0 := ha.1.1
  have go : ∀ n : Nat, z_A n σ (t_it t_yr n (t_ga0 σ)) := fun n => t_it_P (f := t_yr) (x := t_ga0 σ) (fun i x => z_A i σ x) (z_A0 ha) n (fun i x i0 i1 hx => (z_yr ha (by omega) hx).1)
  unfold t_ga
  rw [t_it_s _ _ h0.1]
  have g := go (σ 1 0).toNat
  rw [Int.toNat_of_nonneg h0.1] at g
  revert g
  generalize t_it t_yr (σ 1 0).toNat (t_ga0 σ) = μ
  intro g
  have z := z_yr ha h0.1 g
  exact ⟨z.1, z.2 rfl⟩
theorem z_h {σ : t_S} (ha : t_ask σ) : t_ask (t_ga σ) ∧ t_ga σ 1 = σ 1 := by
  have z := (z_ga ha).1
  exact ⟨t_inG_ask ha z.1, z.1.1 1 (by omega)⟩
