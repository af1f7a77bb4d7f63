/-! THE TWIN'S PURE FORM, ELEVEN: drawn, luck, what was seen -/
set_option maxRecDepth 100000
theorem t_fog_rg {σ : t_S} (hz : t_sz σ) (s : Int) : 0 ≤ t_fog σ s ∧ t_fog σ s < 2 ^ 7 := by
  have h1 := t_msk_rg (t_fgg σ s) (σ 1 7).toNat
  have h7 := hz.2.2.2.2.2.1
  have h2 : (2 : Int) ^ (σ 1 7).toNat ≤ 2 ^ 7 := by
    have := Nat.pow_le_pow_right (n := 2) (by decide) (show (σ 1 7).toNat ≤ 7 by omega)
    have e2 : ((2 ^ (σ 1 7).toNat : Nat) : Int) = 2 ^ (σ 1 7).toNat := by simp
    omega
  unfold t_fog
  omega
theorem t_gd_in {σ : t_S} (hz : t_sz σ) (hr : t_okR (σ 1)) (s : Int) : t_hist (t_gd s σ) ∧ ∀ j, (j < 15 ∨ 32 < j) → j ≠ 38 → t_gd s σ j = σ j := by
  have hB := t_bg_in hz hr
  have hw := t_wo_in (set := t_andn (2 ^ (t_bg σ 1 7).toNat - 1) (t_fog (t_bg σ) s)) hB.1 hB.2.1
  exact ⟨hw.2.1, fun j j1 j2 => (hw.1 j (by omega) (by omega)).trans ((s_up_f j2).trans (t_is_k (by omega) (by omega) (by omega) (by omega) (by omega) σ))⟩
def v_drawn (σ : t_S) (s w : Int) : Int := if t_isC σ ∧ (0 ≤ s ∧ s ≤ 2000000000) ∧ 0 ≤ w ∧ w ≤ 1 then (if w = 0 then t_fog (t_bg σ) s else t_pgl (t_gd s σ)) else -2
def t_lkf (s c : Int) : Int → t_S × Int → t_S × Int := fun i x => (t_gd (s + i) x.1, x.2 + (if t_rdo (t_gd (s + i) x.1) c (t_gd (s + i) x.1 1 0) = 0 then 0 else 1))
def t_lk (s c n : Int) (σ : t_S) : t_S × Int := t_it (t_lkf s c) n.toNat (σ, 0)
def v_luck (σ : t_S) (s n c : Int) : Int := if (0 ≤ s ∧ s ≤ 2000000000) ∧ (1 ≤ n ∧ n ≤ 20) ∧ t_isCell σ c then (t_lk s c n σ).2 else -2
def t_inK (σ : t_S) (i : Int) (x : t_S × Int) : Prop := (∀ j, (j < 15 ∨ 32 < j) → j ≠ 38 → x.1 j = σ j) ∧ 0 ≤ x.2 ∧ x.2 ≤ i
theorem t_lkf_in {σ : t_S} {s c i : Int} {x : t_S × Int} (hz : t_sz σ) (hr : t_okR (σ 1)) (h : t_inK σ i x) : t_inK σ (i + 1) (t_lkf s c i x) := by
  have e1 := h.1 1 (by omega) (by decide)
  have hg := t_gd_in (σ := x.1) (by unfold t_sz; rw [e1]; exact hz) (by rw [e1]; exact hr) (s + i)
  have h2 := h.2
  refine ⟨fun j j1 j2 => (hg.2 j j1 j2).trans (h.1 j j1 j2), ?_, ?_⟩
  · show 0 ≤ x.2 + (if _ then (0 : Int) else 1)
    split <;> omega
  · show x.2 + (if _ then (0 : Int) else 1) ≤ i + 1
    split <;> omega
theorem t_lkl_in {σ : t_S} {s c : Int} (hz : t_sz σ) (hr : t_okR (σ 1)) (n : Nat) : t_inK σ n (t_it (t_lkf s c) n (σ, 0)) :=
  t_it_P (fun i z => t_inK σ i z) ⟨fun _ _ _ => rfl, Int.le_refl 0, Int.le_refl 0⟩ n (fun _ _ _ _ hz2 => t_lkf_in hz hr hz2)
/-! slots; what was seen -/
def t_slt (σ : t_S) : Prop := (∀ s, 0 ≤ s → s < 4 → -1 ≤ σ 42 s ∧ σ 42 s ≤ 60) ∧ (∀ s, 0 ≤ s → s < 4 → 0 ≤ σ 43 s ∧ σ 43 s < 4) ∧ ∀ j, e_rl (σ 44 j)
abbrev t_nu (σ : t_S) (s i : Int) : Int := σ 44 (60 * s + i)
abbrev t_sok (σ : t_S) (s i : Int) : Prop := t_isW σ (t_nu σ s i) ∧ (0 ≤ t_nu σ s (i + 1) ∧ t_nu σ s (i + 1) ≤ 40) ∧ t_isCell σ (t_nu σ s (i + 2))
def t_bad (σ : t_S) (s : Int) : Int → Int := fun k => if t_sok σ s (3 * k) then 0 else 1
/-- why not: -2, -6; or 0 -/
def t_wny (σ : t_S) (s : Int) : Int := if (0 ≤ s ∧ s ≤ 3) ∧ t_isC σ then (if σ 42 s = -1 then -6 else if σ 42 s % 3 ≠ 0 then -2 else if t_fnd (t_bad σ s) (σ 42 s / 3).toNat 0 = -1 then 0 else -2) else -2
def t_wnw (σ : t_S) (s w : Int) : Int := if t_isW σ w then t_wny σ s else -2
theorem t_fnd_nn {g : Int → Int} : ∀ (m : Nat) (i : Int), 0 ≤ i → (∀ k, i ≤ k → k < i + m → g k ≠ 1) → t_fnd g m i = -1
  | 0, _, _, _ => rfl
  | m + 1, i, hi, h => by
    unfold t_fnd
    rw [if_neg (h i (Int.le_refl _) (by omega))]
    exact t_fnd_nn m (i + 1) (by omega) (fun k a b => h k (by omega) (by omega))
/-- what makes a slot good to be asked -/
def t_sgd (σ : t_S) (s : Int) : Prop := (0 ≤ s ∧ s < 4) ∧ (0 ≤ σ 42 s ∧ σ 42 s ≤ 60 ∧ σ 42 s % 3 = 0) ∧ ∀ k, 0 ≤ k → k < σ 42 s / 3 → t_sok σ s (3 * k)
theorem t_wny_gd {σ : t_S} {s : Int} (hs : t_slt σ) (h : ¬ t_wny σ s < 0) : t_sgd σ s := by
  unfold t_wny at h
  by_cases q : (0 ≤ s ∧ s ≤ 3) ∧ t_isC σ
  · rw [if_pos q] at h
    have h1 := hs.1 s q.1.1 (by omega)
    by_cases q1 : σ 42 s = -1
    · rw [if_pos q1] at h; exact absurd (by decide) h
    · rw [if_neg q1] at h
      by_cases q2 : σ 42 s % 3 ≠ 0
      · rw [if_pos q2] at h; exact absurd (by decide) h
      · rw [if_neg q2] at h
        by_cases q3 : t_fnd (t_bad σ s) (σ 42 s / 3).toNat 0 = -1
        · refine ⟨⟨q.1.1, by omega⟩, ⟨by omega, h1.2, by omega⟩, fun k k0 k1 => ?_⟩
          have h9 := t_fnd_none _ 0 (Int.le_refl 0) q3 k k0 (by omega)
          unfold t_bad at h9
          by_cases q4 : t_sok σ s (3 * k)
          · exact q4
          · rw [if_neg q4] at h9; exact absurd rfl h9
        · rw [if_neg q3] at h; exact absurd (by decide) h
  · rw [if_neg q] at h; exact absurd (by decide) h
theorem t_sgd_of {σ τ : t_S} {s : Int} (h : t_sgd σ s) (e1 : τ 1 = σ 1) (e2 : τ 42 = σ 42) (e4 : τ 44 = σ 44) : t_sgd τ s := by
  unfold t_sgd t_sok t_isW t_isCell t_isC t_nu at *
  rw [e1, e2, e4]
  exact h
theorem t_slt_of {σ τ : t_S} (h : t_slt σ) (e2 : τ 42 = σ 42) (e3 : τ 43 = σ 43) (e4 : τ 44 = σ 44) : t_slt τ := by
  unfold t_slt at *
  rw [e2, e3, e4]
  exact h
def t_seg (ρ : t_S) (s : Int) : Int → Int := fun k => if t_pth ρ (t_nu ρ s (3 * k)) (t_nu ρ s (3 * k + 1)) = t_nu ρ s (3 * k + 2) then 0 else 1
abbrev t_see (ρ : t_S) (s : Int) : Prop := t_fnd (t_seg ρ s) (ρ 42 s / 3).toNat 0 = -1
/-- faced -/
def t_fc1 (w d : Int) (τ : t_S) : t_S := t_ga (s_up τ 16 w d)
def t_fc2f (w d : Int) : Int → t_S → t_S := fun k τ => s_up τ 35 (41 * d + k) (t_pth τ w k)
def t_fc2 (w d : Int) (τ : t_S) : t_S := t_it (t_fc2f w d) 41 (t_fc1 w d τ)
def t_fcf (s w : Int) : Int → t_S × Int → t_S × Int := fun d x => (t_fc2 w d x.1, x.2 + (if t_see (t_fc1 w d x.1) s then 2 ^ d.toNat else 0))
def t_fc (s w : Int) (σ : t_S) : t_S × Int := t_it (t_fcf s w) 4 (σ, 0)
def v_faced (σ : t_S) (s w : Int) : Int := if t_wnw σ s w < 0 then t_wnw σ s w else (t_fc s w (t_is σ)).2
theorem t_ask16 {ρ : t_S} {w z : Int} (h : t_ask ρ) (hz : 0 ≤ z ∧ z < 4) : t_ask (s_up ρ 16 w z) := by
  unfold t_ask t_sz t_b01 t_oneR at *
  rw [s_up_f (k := 16) (k1 := 1) (by decide), s_up_f (k := 16) (k1 := 15) (by decide), s_up_f (k := 16) (k1 := 17) (by decide), s_up_f (k := 16) (k1 := 18) (by decide), s_up_f (k := 16) (k1 := 19) (by decide), s_up_f (k := 16) (k1 := 20) (by decide)]
  obtain ⟨a, b, c, d, g⟩ := h
  refine ⟨a, b, c, fun j j0 j1 => ?_, g⟩
  unfold s_up
  split
  · exact hz
  · exact d j j0 j1
/-- between two directions -/
def t_inD (σ : t_S) (i : Int) (x : t_S × Int) : Prop := (∀ j, (j < 21 ∨ 32 < j) → j ≠ 16 → j ≠ 35 → x.1 j = σ j) ∧ t_ask x.1 ∧ (0 ≤ x.2 ∧ x.2 < 2 ^ i.toNat) ∧ ∀ j, 0 ≤ j → j < 41 * i → -1 ≤ x.1 35 j ∧ x.1 35 j < 80
theorem t_fc1_in {w d : Int} {τ : t_S} (h : t_ask τ) (hd : 0 ≤ d ∧ d < 4) : (∀ j, (j < 21 ∨ 32 < j) → j ≠ 16 → t_fc1 w d τ j = τ j) ∧ t_hist (t_fc1 w d τ) ∧ t_ask (s_up τ 16 w d) := by
  have ha := t_ask16 (w := w) h hd
  exact ⟨fun j j1 j2 => (t_ga_k ha j1).trans (s_up_f j2), t_ga_hist ha, ha⟩
theorem t_fc2_in {w d : Int} {τ : t_S} (H : t_hist τ) (hw : 0 ≤ w ∧ w < 7) (n : Nat) (hn : n ≤ 41) : (∀ j, j ≠ 35 → t_it (t_fc2f w d) n τ j = τ j) ∧ (∀ k : Int, 0 ≤ k → k < n → -1 ≤ t_it (t_fc2f w d) n τ 35 (41 * d + k) ∧ t_it (t_fc2f w d) n τ 35 (41 * d + k) < 80) ∧ ∀ j, (j < 41 * d ∨ 41 * d + n ≤ j) → t_it (t_fc2f w d) n τ 35 j = τ 35 j := by
  refine t_it_P (fun n (x : t_S) => (∀ j, j ≠ 35 → x j = τ j) ∧ (∀ k, 0 ≤ k → k < n → -1 ≤ x 35 (41 * d + k) ∧ x 35 (41 * d + k) < 80) ∧ ∀ j, (j < 41 * d ∨ 41 * d + n ≤ j) → x 35 j = τ 35 j) ⟨fun _ _ => rfl, fun k a b => by omega, fun _ _ => rfl⟩ n (fun i x i0 i1 h => ?_)
  obtain ⟨h1, h2, h3⟩ := h
  refine ⟨fun j hj => (s_up_f hj).trans (h1 j hj), fun k k0 k1 => ?_, fun j hj => ?_⟩
  · unfold t_fc2f
    by_cases q : k = i
    · subst q
      rw [s_up_eq]
      have h9 : t_h3 x := by
        have := H.2.2.2.1
        unfold t_h3 at *
        rw [h1 26 (by decide), h1 27 (by decide)]
        exact this
      exact t_pth_rg h9 hw k0
    · rw [s_up_j (by omega)]
      exact h2 k k0 (by omega)
  · unfold t_fc2f
    rw [s_up_j (by omega)]
    exact h3 j (by omega)
theorem t_fcf_in {σ : t_S} {s w d : Int} {x : t_S × Int} (hw : 0 ≤ w ∧ w < 7) (hd : 0 ≤ d ∧ d < 4) (h : t_inD σ d x) : t_inD σ (d + 1) (t_fcf s w d x) := by
  have h1 := t_fc1_in (w := w) h.2.1 hd
  have h2 := t_fc2_in (w := w) (d := d) h1.2.1 hw 41 (Nat.le_refl _)
  have hp := e_pow_s hd.1
  have h3 := h.2.2.1
  refine ⟨fun j j1 j2 j3 => (h2.1 j j3).trans ((h1.1 j j1 j2).trans (h.1 j j1 j2 j3)), t_ask_of h1.2.1.1 (fun j hj => h2.1 j (by omega)), ⟨?_, ?_⟩, fun j j0 j1 => ?_⟩
  · show 0 ≤ x.2 + (if _ then (2 : Int) ^ d.toNat else 0)
    split <;> omega
  · show x.2 + (if _ then (2 : Int) ^ d.toNat else 0) < _
    split <;> omega
  · show -1 ≤ t_it (t_fc2f w d) 41 (t_fc1 w d x.1) 35 j ∧ t_it (t_fc2f w d) 41 (t_fc1 w d x.1) 35 j < 80
    by_cases q : j < 41 * d
    · rw [h2.2.2 j (Or.inl q), h1.1 35 (by omega) (by decide)]
      exact h.2.2.2 j j0 q
    · have := h2.2.1 (j - 41 * d) (by omega) (by omega)
      rw [show 41 * d + (j - 41 * d) = j by omega] at this
      exact this
theorem t_fcl_in {σ : t_S} {s w : Int} (hw : 0 ≤ w ∧ w < 7) (h : t_ask σ) (n : Nat) (hn : n ≤ 4) : t_inD σ n (t_it (t_fcf s w) n (σ, 0)) :=
  t_it_P (fun i z => t_inD σ i z) ⟨fun _ _ _ _ => rfl, h, ⟨Int.le_refl 0, (by decide : (0 : Int) < 2 ^ (0 : Int).toNat)⟩, fun j a b => by omega⟩ n (fun i _ _ _ hz => t_fcf_in hw ⟨by omega, by omega⟩ hz)
/-- griefs, laws -/
def t_grf (s : Int) : Int → t_S × Int → t_S × Int := fun t x => (s_up (t_ga x.1) 20 0 (t_ga x.1 20 0 + 1), x.2 + (if t_see (t_ga x.1) s then 2 ^ t.toNat else 0))
def t_gr0 (w : Int) (σ : t_S) : t_S := s_up (s_up σ 19 0 w) 20 0 0
def t_gr (s w : Int) (σ : t_S) : t_S × Int := t_it (t_grf s) 4 (t_gr0 w σ, 0)
def v_griefs (σ : t_S) (s w : Int) : Int := if t_wnw σ s w < 0 then t_wnw σ s w else (t_gr s w (t_is σ)).2
/-- all of an ask but the field k's range -/
def t_inG4 (σ : t_S) (k : Nat) (i : Int) (x : t_S × Int) : Prop := (∀ j, (j < 21 ∨ 32 < j) → j ≠ k → x.1 j = σ j) ∧ x.1 k 0 = i ∧ 0 ≤ x.2 ∧ x.2 < 2 ^ i.toNat
theorem t_gr_ask {σ : t_S} {w i : Int} {x : t_S × Int} (h : t_ask σ) (hw : 0 ≤ w ∧ w < 7) (hi : 0 ≤ i ∧ i < 4) (hx : t_inG4 (t_gr0 w σ) 20 i x) : t_ask x.1 := by
  have e : ∀ j, j ≠ 19 → j ≠ 20 → j < 21 → x.1 j = σ j := fun j j1 j2 j3 => (hx.1 j (Or.inl j3) j2).trans ((s_up_f j2).trans (s_up_f j1))
  have e19 : x.1 19 0 = w := by
    rw [hx.1 19 (by omega) (by decide)]
    unfold t_gr0
    rw [s_up_k (by decide), s_up_eq]
  obtain ⟨a, b, c, d, f, g, -⟩ := h
  refine ⟨?_, ?_, ?_, ?_, ?_, ?_, ?_⟩
  · unfold t_sz; rw [e 1 (by decide) (by decide) (by decide)]; exact a
  · rw [e 1 (by decide) (by decide) (by decide)]; exact b
  · unfold t_b01; rw [e 15 (by decide) (by decide) (by decide)]; exact c
  · rw [e 16 (by decide) (by decide) (by decide)]; exact d
  · rw [e 17 (by decide) (by decide) (by decide)]; exact f
  · rw [e 18 (by decide) (by decide) (by decide)]; exact g
  · exact ⟨⟨by omega, by omega⟩, Or.inr (by rw [hx.2.1]; exact hi)⟩
theorem t_grf_in {σ : t_S} {s w i : Int} {x : t_S × Int} (h : t_ask σ) (hw : 0 ≤ w ∧ w < 7) (hi : 0 ≤ i ∧ i < 4) (hx : t_inG4 (t_gr0 w σ) 20 i x) : t_inG4 (t_gr0 w σ) 20 (i + 1) (t_grf s i x) := by
  have ha := t_gr_ask h hw hi hx
  have hp := e_pow_s hi.1
  have h3 := hx.2.2
  refine ⟨fun j j1 j2 => (s_up_f j2).trans ((t_ga_k ha j1).trans (hx.1 j j1 j2)), ?_, ?_, ?_⟩
  · show s_up (t_ga x.1) 20 0 (t_ga x.1 20 0 + 1) 20 0 = _
    rw [s_up_eq, t_ga_k ha (by omega), hx.2.1]
  · show 0 ≤ x.2 + (if _ then (2 : Int) ^ i.toNat else 0)
    split <;> omega
  · show x.2 + (if _ then (2 : Int) ^ i.toNat else 0) < _
    split <;> omega
theorem t_grl_in {σ : t_S} {s w : Int} (h : t_ask σ) (hw : 0 ≤ w ∧ w < 7) (n : Nat) (hn : n ≤ 4) : t_inG4 (t_gr0 w σ) 20 n (t_it (t_grf s) n (t_gr0 w σ, 0)) :=
  t_it_P (fun i z => t_inG4 (t_gr0 w σ) 20 i z) ⟨fun _ _ _ => rfl, by show t_gr0 w σ 20 0 = 0; unfold t_gr0; rw [s_up_eq], Int.le_refl 0, (by decide : (0 : Int) < 2 ^ (0 : Int).toNat)⟩ n (fun i _ _ _ hz => t_grf_in h hw ⟨by omega, by omega⟩ hz)
def t_lsf (s : Int) : Int → t_S × Int → t_S × Int := fun l x => (s_up (t_ga x.1) 17 0 (t_ga x.1 17 0 + 1), x.2 + (if t_see (t_ga x.1) s then 2 ^ l.toNat else 0))
def t_ls0 (σ : t_S) : t_S := s_up σ 17 0 0
def t_ls (s : Int) (σ : t_S) : t_S × Int := t_it (t_lsf s) 4 (t_ls0 σ, 0)
def v_laws (σ : t_S) (s : Int) : Int := if t_wny σ s < 0 then t_wny σ s else (t_ls s (t_is σ)).2
theorem t_ls_ask {σ : t_S} {i : Int} {x : t_S × Int} (h : t_ask σ) (hi : 0 ≤ i ∧ i < 4) (hx : t_inG4 (t_ls0 σ) 17 i x) : t_ask x.1 := by
  have e : ∀ j, j ≠ 17 → j < 21 → x.1 j = σ j := fun j j1 j3 => (hx.1 j (Or.inl j3) j1).trans (s_up_f j1)
  obtain ⟨a, b, c, d, f, g, k⟩ := h
  refine ⟨?_, ?_, ?_, ?_, ?_, ?_, ?_⟩
  · unfold t_sz; rw [e 1 (by decide) (by decide)]; exact a
  · rw [e 1 (by decide) (by decide)]; exact b
  · unfold t_b01; rw [e 15 (by decide) (by decide)]; exact c
  · rw [e 16 (by decide) (by decide)]; exact d
  · rw [hx.2.1]; exact hi
  · rw [e 18 (by decide) (by decide)]; exact g
  · unfold t_oneR; rw [e 19 (by decide) (by decide), e 20 (by decide) (by decide)]; exact k
theorem t_lsf_in {σ : t_S} {s i : Int} {x : t_S × Int} (h : t_ask σ) (hi : 0 ≤ i ∧ i < 4) (hx : t_inG4 (t_ls0 σ) 17 i x) : t_inG4 (t_ls0 σ) 17 (i + 1) (t_lsf s i x) := by
  have ha := t_ls_ask h hi hx
  have hp := e_pow_s hi.1
  have h3 := hx.2.2
  refine ⟨fun j j1 j2 => (s_up_f j2).trans ((t_ga_k ha j1).trans (hx.1 j j1 j2)), ?_, ?_, ?_⟩
  · show s_up (t_ga x.1) 17 0 (t_ga x.1 17 0 + 1) 17 0 = _
    rw [s_up_eq, t_ga_k ha (by omega), hx.2.1]
  · show 0 ≤ x.2 + (if _ then (2 : Int) ^ i.toNat else 0)
    split <;> omega
  · show x.2 + (if _ then (2 : Int) ^ i.toNat else 0) < _
    split <;> omega
theorem t_lsl_in {σ : t_S} {s : Int} (h : t_ask σ) (n : Nat) (hn : n ≤ 4) : t_inG4 (t_ls0 σ) 17 n (t_it (t_lsf s) n (t_ls0 σ, 0)) :=
  t_it_P (fun i z => t_inG4 (t_ls0 σ) 17 i z) ⟨fun _ _ _ => rfl, by show t_ls0 σ 17 0 = 0; unfold t_ls0; rw [s_up_eq], Int.le_refl 0, (by decide : (0 : Int) < 2 ^ (0 : Int).toNat)⟩ n (fun i _ _ _ hz => t_lsf_in h ⟨by omega, by omega⟩ hz)
/-- the step to be asked -/
def t_wog (σ : t_S) (set k a : Int) : Int → Int := fun b => if e_bt set a = 1 ∧ e_bt set b = 1 ∧ σ 35 (41 * a + k) = σ 35 (41 * b + k) then 1 else 0
def t_wsf (σ : t_S) (set k : Int) : Int → Int → Int := fun a w => t_mx w (t_sum (t_wog σ set k a) 4)
def t_wst (σ : t_S) (set k : Int) : Int := t_it (t_wsf σ set k) 4 0
theorem t_wog_rg (σ : t_S) (set k a : Int) (n : Nat) : 0 ≤ t_sum (t_wog σ set k a) n ∧ t_sum (t_wog σ set k a) n ≤ n := by
  have h := t_sum_rg (g := t_wog σ set k a) (b := 1) n (fun i _ _ => by unfold t_wog; split <;> omega)
  rw [Int.mul_one] at h
  exact h
theorem t_wst_rg (σ : t_S) (set k : Int) (n : Nat) : 0 ≤ t_it (t_wsf σ set k) n 0 ∧ t_it (t_wsf σ set k) n 0 ≤ 4 :=
  t_it_P (fun _ m => 0 ≤ m ∧ m ≤ 4) (by decide) n (fun i m _ _ h => t_mx_rg h (t_wog_rg σ set k i 4))
def t_akf (σ : t_S) (set : Int) : Int → Int × Int → Int × Int := fun k x => if x.1 ≤ t_wst σ set k then x else (t_wst σ set k, k)
def t_ak (σ : t_S) (set : Int) : Int × Int := t_it (t_akf σ set) 41 (e_bsum set 16, -1)
theorem t_ak_rg (σ : t_S) (set : Int) (n : Nat) : (0 ≤ (t_it (t_akf σ set) n (e_bsum set 16, -1)).1 ∧ (t_it (t_akf σ set) n (e_bsum set 16, -1)).1 ≤ 16) ∧ -1 ≤ (t_it (t_akf σ set) n (e_bsum set 16, -1)).2 ∧ (t_it (t_akf σ set) n (e_bsum set 16, -1)).2 < n := by
  refine t_it_P (fun (i : Int) (x : Int × Int) => (0 ≤ x.1 ∧ x.1 ≤ 16) ∧ -1 ≤ x.2 ∧ x.2 < i) ⟨e_bsum_rg set 16, (by decide : (-1 : Int) ≤ -1 ∧ (-1 : Int) < 0)⟩ n (fun i x _ _ h => ?_)
  have h1 : 0 ≤ t_wst σ set i ∧ t_wst σ set i ≤ 4 := t_wst_rg σ set i 4
  unfold t_akf
  split
  · exact ⟨h.1, by omega, by omega⟩
  · exact ⟨⟨h1.1, by show t_wst σ set i ≤ 16; omega⟩, by show (-1 : Int) ≤ (i : Int); omega, by show (i : Int) < (i : Int) + 1; omega⟩
theorem s_up_up (σ : t_S) (k : Nat) (j a b : Int) : s_up (s_up σ k j a) k j b = s_up σ k j b := by
  funext k1 j1
  unfold s_up
  split <;> rfl
theorem t_wst_of {σ : t_S} (set k v : Int) : t_wst (s_up σ 36 0 v) set k = t_wst σ set k := by
  unfold t_wst
  have e : t_wsf (s_up σ 36 0 v) set k = t_wsf σ set k := by
    funext a w
    unfold t_wsf t_wog
    rw [s_up_f (k := 36) (k1 := 35) (by decide)]
  rw [e]
def v_ask (σ : t_S) (s w : Int) : Int := if t_wnw σ s w < 0 then t_wnw σ s w else (t_ak (t_fc s w (t_is σ)).1 (t_fc s w (t_is σ)).2).2
def v_leaves (σ : t_S) (s w : Int) : Int := if t_wnw σ s w < 0 then t_wnw σ s w else (t_ak (t_fc s w (t_is σ)).1 (t_fc s w (t_is σ)).2).1
theorem t_wny_rg (σ : t_S) (s : Int) : -6 ≤ t_wny σ s ∧ t_wny σ s ≤ 0 := by
  unfold t_wny
  (repeat' split) <;> decide
theorem t_wnw_rg (σ : t_S) (s w : Int) : -6 ≤ t_wnw σ s w ∧ t_wnw σ s w ≤ 0 := by
  unfold t_wnw
  split
  · exact t_wny_rg σ s
  · decide
theorem t_wnw_gd {σ : t_S} {s w : Int} (hs : t_slt σ) (h : ¬ t_wnw σ s w < 0) : t_isW σ w ∧ t_sgd σ s := by
  unfold t_wnw at h
  by_cases q : t_isW σ w
  · rw [if_pos q] at h
    exact ⟨q, t_wny_gd hs h⟩
  · rw [if_neg q] at h
    exact absurd (by decide) h
theorem t_is_sgd {σ : t_S} {s : Int} (h : t_sgd σ s) : t_sgd (t_is σ) s := t_sgd_of h (t_is_k (k := 1) (by decide) (by decide) (by decide) (by decide) (by decide) σ) (t_is_k (k := 42) (by decide) (by decide) (by decide) (by decide) (by decide) σ) (t_is_k (k := 44) (by decide) (by decide) (by decide) (by decide) (by decide) σ)
theorem t_is_slt {σ : t_S} (h : t_slt σ) : t_slt (t_is σ) := t_slt_of h (t_is_k (k := 42) (by decide) (by decide) (by decide) (by decide) (by decide) σ) (t_is_k (k := 43) (by decide) (by decide) (by decide) (by decide) (by decide) σ) (t_is_k (k := 44) (by decide) (by decide) (by decide) (by decide) (by decide) σ)
