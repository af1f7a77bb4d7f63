/-! THE COMPONENT'S WALKS: pegs, begin and end of a walk -/
set_option maxRecDepth 100000
theorem x_bt_or {a j b : Int} (ha : 0 ≤ a) (hj : 0 ≤ j) (hb : 0 ≤ b) : e_bt (t_or a (2 ^ j.toNat)) b = 1 ↔ e_bt a b = 1 ∨ b = j := by
  rw [b_or ha (Int.le_of_lt (Int.pow_pos (by decide))) hb, b_pow hj hb]
  by_cases q : b = j
  · rw [if_pos q, if_pos (Or.inr rfl)]
    exact ⟨fun _ => Or.inr q, fun _ => rfl⟩
  · rw [if_neg q]
    by_cases p : e_bt a b = 1
    · rw [if_pos (Or.inl p)]
      exact ⟨fun _ => Or.inl p, fun _ => rfl⟩
    · rw [if_neg (fun w => w.elim p (by decide))]
      exact ⟨fun w => absurd w (by decide), fun w => (w.elim p q).elim⟩
/-- the cell on the near side of a peg -/
def x_q0 (τ : t_S) (c f : Int) : Int := if f = 1 ∨ f = 2 then c else t_bes τ c f
theorem x_q0_sp {τ : t_S} (hz : t_sz τ) {c f : Int} (hc : x_c8 c) (hf : 0 ≤ f ∧ f < 4) (h : t_bes τ c f ≠ -1) : x_c8 (x_q0 τ c f) ∧ t_mn (x_sp c) (x_sp (t_bes τ c f)) = x_sp (x_q0 τ c f) := by
  have hb := (x_bes_sp hz hc hf h).1
  have hcc : f = 0 ∨ f = 1 ∨ f = 2 ∨ f = 3 := by omega
  have h2 := hz.2.1
  have h3 := hz.2.2.1
  obtain ⟨c0, c1, c2⟩ := hc
  unfold x_q0 t_mn
  refine ⟨by split <;> first | exact ⟨c0, c1, c2⟩ | exact hb, ?_⟩
  revert h hb
  unfold t_bes
  rcases hcc with r | r | r | r
  · rw [r, show t_acr 0 = 0 from rfl, show t_dwn 0 = -1 from rfl]
    intro h hb
    by_cases q : (0 ≤ c / 10 + 0 ∧ c / 10 + 0 ≤ τ 1 3 - 1) ∧ 0 ≤ c % 10 + -1 ∧ c % 10 + -1 ≤ τ 1 4 - 1
    · rw [if_pos q, if_neg (show ¬ ((0 : Int) = 1 ∨ (0 : Int) = 2) by decide), if_neg]
      unfold x_sp; rw [if_neg (by omega), if_neg (by omega)]; omega
    · exact absurd (if_neg q) h
  · rw [r, show t_acr 1 = 1 from rfl, show t_dwn 1 = 0 from rfl]
    intro h hb
    by_cases q : (0 ≤ c / 10 + 1 ∧ c / 10 + 1 ≤ τ 1 3 - 1) ∧ 0 ≤ c % 10 + 0 ∧ c % 10 + 0 ≤ τ 1 4 - 1
    · rw [if_pos q, if_pos (show ((1 : Int) = 1 ∨ (1 : Int) = 2) by decide), if_pos]
      unfold x_sp; rw [if_neg (by omega), if_neg (by omega)]; omega
    · exact absurd (if_neg q) h
  · rw [r, show t_acr 2 = 0 from rfl, show t_dwn 2 = 1 from rfl]
    intro h hb
    by_cases q : (0 ≤ c / 10 + 0 ∧ c / 10 + 0 ≤ τ 1 3 - 1) ∧ 0 ≤ c % 10 + 1 ∧ c % 10 + 1 ≤ τ 1 4 - 1
    · rw [if_pos q, if_pos (show ((2 : Int) = 1 ∨ (2 : Int) = 2) by decide), if_pos]
      unfold x_sp; rw [if_neg (by omega), if_neg (by omega)]; omega
    · exact absurd (if_neg q) h
  · rw [r, show t_acr 3 = -1 from rfl, show t_dwn 3 = 0 from rfl]
    intro h hb
    by_cases q : (0 ≤ c / 10 + -1 ∧ c / 10 + -1 ≤ τ 1 3 - 1) ∧ 0 ≤ c % 10 + 0 ∧ c % 10 + 0 ≤ τ 1 4 - 1
    · rw [if_pos q, if_neg (show ¬ ((3 : Int) = 1 ∨ (3 : Int) = 2) by decide), if_neg]
      unfold x_sp; rw [if_neg (by omega), if_neg (by omega)]; omega
    · exact absurd (if_neg q) h
theorem x_go1_24 {w c to f : Int} {τ : t_S} (h0 : ∀ e, x_c8 e → 0 ≤ τ 24 e) (hc : x_c8 c) (ht : x_c8 to) (hne : to ≠ c) (hf : 0 ≤ f ∧ f < 4) : (∀ e, x_c8 e → 0 ≤ t_go1 w c to f τ 24 e) ∧ ∀ e, x_c8 e → ∀ b : Int, 0 ≤ b → (e_bt (t_go1 w c to f τ 24 e) b = 1 ↔ e_bt (τ 24 e) b = 1 ∨ (e = c ∧ b = f) ∨ (e = to ∧ b = (f + 2) % 4)) := by
  have e24 : t_go1 w c to f τ 24 = s_up (s_up τ 24 c (t_or (τ 24 c) (2 ^ f.toNat))) 24 to (t_or (τ 24 to) (2 ^ ((f + 2) % 4).toNat)) 24 := by
    unfold t_go1
    rw [s_up_f (by decide), s_up_j hne]
  have hor : ∀ a j : Int, 0 ≤ t_or a j := fun a j => by unfold t_or; omega
  refine ⟨fun e he => ?_, fun e he b hb => ?_⟩
  · rw [e24]
    by_cases q : e = to
    · rw [q, s_up_eq]; exact hor _ _
    · rw [s_up_j q]
      by_cases p : e = c
      · rw [p, s_up_eq]; exact hor _ _
      · rw [s_up_j p]; exact h0 e he
  · rw [e24]
    by_cases q : e = to
    · rw [q, s_up_eq, x_bt_or (h0 to ht) (by omega) hb]
      constructor
      · intro w1; exact w1.elim Or.inl (fun z => Or.inr (Or.inr ⟨rfl, z⟩))
      · intro w1; exact w1.elim Or.inl (fun z => z.elim (fun y => absurd y.1 hne) (fun y => Or.inr y.2))
    · rw [s_up_j q]
      by_cases p : e = c
      · rw [p, s_up_eq, x_bt_or (h0 c hc) hf.1 hb]
        constructor
        · intro w1; exact w1.elim Or.inl (fun z => Or.inr (Or.inl ⟨rfl, z⟩))
        · intro w1; exact w1.elim Or.inl (fun z => z.elim (fun y => Or.inr y.2) (fun y => absurd (p ▸ y.1) q))
      · rw [s_up_j p]
        constructor
        · intro w1; exact Or.inl w1
        · intro w1; exact w1.elim id (fun z => z.elim (fun y => absurd y.1 p) (fun y => absurd y.1 q))
def x_ad (g : Int → Int) (q : Int) : Int → Int := fun e => if e = q then 1 else g e
theorem x_ad01 {g : Int → Int} (h : x_g01 g) (q : Int) : x_g01 (x_ad g q) := fun e he => by
  unfold x_ad
  split
  · exact Or.inr rfl
  · exact h e he
theorem x_ad_bs {g : Int → Int} (h : x_g01 g) {q : Int} (hq : x_c8 q) : t_or (x_bs g) (2 ^ (x_sp q).toNat) = x_bs (x_ad g q) :=
  x_bs_in h hq (if_pos rfl) (fun e _ he => if_neg he)
theorem x_ad_1 {g : Int → Int} {q e : Int} : x_ad g q e = 1 ↔ e = q ∨ g e = 1 := by
  unfold x_ad
  by_cases p : e = q
  · rw [if_pos p]; exact ⟨fun _ => Or.inl p, fun _ => rfl⟩
  · rw [if_neg p]; exact ⟨Or.inr, fun w => w.elim (fun z => absurd z p) id⟩
theorem x_WP_R {w c f : Int} {ρ τ : t_S} {r d : Int → Int} (h : x_WP ρ τ r d) (h0 : ∀ e, x_c8 e → 0 ≤ τ 24 e) (hc : x_c8 c) (ht : x_c8 (t_bes τ c f)) (hne : t_bes τ c f ≠ c) (hf : 0 ≤ f ∧ f < 4) (h1 : f % 2 = 1) : x_WP ρ (t_go2 w (t_bes τ c f) (t_go1 w c (t_bes τ c f) f τ)) (x_ad r (x_q0 τ c f)) d := by
  have hg := (x_go1_24 (w := w) h0 hc ht hne hf).2
  have e24 : t_go2 w (t_bes τ c f) (t_go1 w c (t_bes τ c f) f τ) 24 = t_go1 w c (t_bes τ c f) f τ 24 := by unfold t_go2; rw [s_up_f (by decide), s_up_f (by decide)]
  refine ⟨x_ad01 h.1 _, h.2.1, fun e he => ⟨?_, ?_⟩⟩
  · rw [e24, hg e he 1 (by decide), (h.2.2 e he).1, x_ad_1]
    unfold x_q0
    by_cases q : f = 1
    · rw [if_pos (Or.inl q)]
      constructor
      · rintro ((a | a) | a | a)
        · exact Or.inl a
        · exact Or.inr (Or.inr a)
        · exact Or.inr (Or.inl a.1)
        · have := a.2; omega
      · rintro (a | a | a)
        · exact Or.inl (Or.inl a)
        · exact Or.inr (Or.inl ⟨a, q.symm⟩)
        · exact Or.inl (Or.inr a)
    · rw [if_neg (by omega)]
      constructor
      · rintro ((a | a) | a | a)
        · exact Or.inl a
        · exact Or.inr (Or.inr a)
        · have := a.2; omega
        · exact Or.inr (Or.inl a.1)
      · rintro (a | a | a)
        · exact Or.inl (Or.inl a)
        · exact Or.inr (Or.inr ⟨a, by omega⟩)
        · exact Or.inl (Or.inr a)
  · rw [e24, hg e he 2 (by decide), (h.2.2 e he).2]
    constructor
    · rintro (a | a | a)
      · exact a
      · have := a.2; omega
      · have := a.2; omega
    · exact Or.inl
theorem x_WP_D {w c f : Int} {ρ τ : t_S} {r d : Int → Int} (h : x_WP ρ τ r d) (h0 : ∀ e, x_c8 e → 0 ≤ τ 24 e) (hc : x_c8 c) (ht : x_c8 (t_bes τ c f)) (hne : t_bes τ c f ≠ c) (hf : 0 ≤ f ∧ f < 4) (h1 : ¬ f % 2 = 1) : x_WP ρ (t_go2 w (t_bes τ c f) (t_go1 w c (t_bes τ c f) f τ)) r (x_ad d (x_q0 τ c f)) := by
  have hg := (x_go1_24 (w := w) h0 hc ht hne hf).2
  have e24 : t_go2 w (t_bes τ c f) (t_go1 w c (t_bes τ c f) f τ) 24 = t_go1 w c (t_bes τ c f) f τ 24 := by unfold t_go2; rw [s_up_f (by decide), s_up_f (by decide)]
  refine ⟨h.1, x_ad01 h.2.1 _, fun e he => ⟨?_, ?_⟩⟩
  · rw [e24, hg e he 1 (by decide), (h.2.2 e he).1]
    constructor
    · rintro (a | a | a)
      · exact a
      · have := a.2; omega
      · have := a.2; omega
    · exact Or.inl
  · rw [e24, hg e he 2 (by decide), (h.2.2 e he).2, x_ad_1]
    unfold x_q0
    by_cases q : f = 2
    · rw [if_pos (Or.inr q)]
      constructor
      · rintro ((a | a) | a | a)
        · exact Or.inl a
        · exact Or.inr (Or.inr a)
        · exact Or.inr (Or.inl a.1)
        · have := a.2; omega
      · rintro (a | a | a)
        · exact Or.inl (Or.inl a)
        · exact Or.inr (Or.inl ⟨a, q.symm⟩)
        · exact Or.inl (Or.inr a)
    · rw [if_neg (by omega)]
      constructor
      · rintro ((a | a) | a | a)
        · exact Or.inl a
        · exact Or.inr (Or.inr a)
        · have := a.2; omega
        · exact Or.inr (Or.inl a.1)
      · rintro (a | a | a)
        · exact Or.inl (Or.inl a)
        · exact Or.inr (Or.inr ⟨a, by omega⟩)
        · exact Or.inl (Or.inr a)
