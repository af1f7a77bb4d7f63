/-! THE TWIN'S PURE FORM, FOURTEEN: what is read is sound -/
set_option maxRecDepth 100000
def t_frS (r : Int → Int) : Prop := ((0 ≤ r 0 ∧ r 0 ≤ 12) ∧ (0 ≤ r 1 ∧ r 1 < 4) ∧ (0 ≤ r 2 ∧ r 2 ≤ 10) ∧ (0 ≤ r 3 ∧ r 3 ≤ 8) ∧ (0 ≤ r 4 ∧ r 4 ≤ 8) ∧ (0 ≤ r 5 ∧ r 5 ≤ 12) ∧ (0 ≤ r 6 ∧ r 6 ≤ 6) ∧ (0 ≤ r 7 ∧ r 7 ≤ 7) ∧ r 8 = 0 ∧ 0 ≤ r 9) ∧
  (r 9 = 0 → ∀ j, 0 ≤ j → j < 149 → r j = 0) ∧ (∀ k, 0 ≤ k → k < r 5 → t_okC r (r (10 + k))) ∧ (∀ k, 0 ≤ k → k < r 6 → t_okC r (r (22 + k))) ∧ (∀ k, r 6 ≤ k → k < 6 → r (22 + k) = 0) ∧ (∀ w, 0 ≤ w → w < r 7 → t_okW r w) ∧ (∀ j, 28 + 13 * r 7 ≤ j → j < 119 → r j = 0) ∧ ∀ j, 0 ≤ j → j < 149 → 0 ≤ r j ∧ r j ≤ 2000000
theorem t_frS_0 : t_frS (fun _ => 0) := by
  refine ⟨by decide, fun _ _ _ _ => rfl, fun k a b => ?_, fun k a b => ?_, fun _ _ _ => rfl, fun k a b => ?_, fun _ _ _ => rfl, fun _ _ _ => (by decide : (0 : Int) ≤ 0 ∧ (0 : Int) ≤ 2000000)⟩
  · exact absurd b (by show ¬ k < 0; omega)
  · exact absurd b (by show ¬ k < 0; omega)
  · exact absurd b (by show ¬ k < 0; omega)
theorem t_frS_cg {r q : Int → Int} (h : t_frS r) (e : ∀ j, 0 ≤ j → j < 149 → q j = r j) : t_frS q := by
  obtain ⟨h0, h1, h2, h3, h4, h5, h6, h7⟩ := h
  have eC : ∀ c, t_okC q c ↔ t_okC r c := fun c => by unfold t_okC; rw [e 3 (by omega) (by omega), e 4 (by omega) (by omega)]
  refine ⟨?_, fun w j a b => ?_, fun k a b => ?_, fun k a b => ?_, fun k a b => ?_, fun w a b => ?_, fun j a b => ?_, fun j a b => ?_⟩
  · rw [e 0 (by omega) (by omega), e 1 (by omega) (by omega), e 2 (by omega) (by omega), e 3 (by omega) (by omega), e 4 (by omega) (by omega), e 5 (by omega) (by omega), e 6 (by omega) (by omega), e 7 (by omega) (by omega), e 8 (by omega) (by omega), e 9 (by omega) (by omega)]
    exact h0
  · rw [e 9 (by omega) (by omega)] at w
    rw [e j a b]; exact h1 w j a b
  · rw [e 5 (by omega) (by omega)] at b
    rw [eC, e _ (by omega) (by omega)]; exact h2 k a b
  · rw [e 6 (by omega) (by omega)] at b
    rw [eC, e _ (by omega) (by omega)]; exact h3 k a b
  · rw [e 6 (by omega) (by omega)] at a
    rw [e _ (by omega) (by omega)]; exact h4 k a b
  · rw [e 7 (by omega) (by omega)] at b
    have h9 := h5 w a b
    obtain ⟨a1, a2, a3, a4, a5, a6⟩ := h9
    unfold t_okW
    rw [eC, e (28 + 13 * w) (by omega) (by omega), e (28 + 13 * w + 1) (by omega) (by omega), e (28 + 13 * w + 2) (by omega) (by omega), e (28 + 13 * w + 3) (by omega) (by omega), e (28 + 13 * w + 4) (by omega) (by omega)]
    refine ⟨a1, a2, a3, a4, a5, fun k k0 k1 => ?_⟩
    rw [e (28 + 13 * w + (5 + k)) (by omega) (by omega)]
    exact a6 k k0 k1
  · rw [e 7 (by omega) (by omega)] at a
    rw [e j (by omega) (by omega)]; exact h6 j a b
  · rw [e j a b]; exact h7 j a b
/-- what is sound is sound for a question -/
theorem t_frS_ok {σ : t_S} (h : t_frS (σ 1)) (h9 : σ 1 9 ≤ 900) : t_sz σ ∧ t_okR (σ 1) := by
  obtain ⟨⟨a0, a1, a2, a3, a4, a5, a6, a7, a8, a9⟩, h1, h2, h3, h4, h5, h6, h7⟩ := h
  refine ⟨⟨a0, a3, a4, a5, a6, a7, ⟨by omega, by omega⟩, a9, h9⟩, h2, h3, h5, fun i i0 i1 => by omega, fun k k0 k1 => ?_, fun w w0 w1 => ?_, a1, a2⟩
  · by_cases q : k < σ 1 6
    · have := h3 k k0 q
      obtain ⟨q1, q2, q3⟩ := this
      omega
    · rw [h4 k (by omega) k1]
      decide
  · by_cases q : w < σ 1 7
    · exact (h5 w w0 q).2.1
    · rw [h6 (28 + 13 * w + 1) (by omega) (by omega)]
      decide
/-! what a good end says of the steps -/
theorem t_adv_12 (σ : t_S) : t_adv σ 12 = σ 12 := t_adv_k (by decide) (by decide) (by decide) (by decide)
theorem t_er_g {k : Int} {σ : t_S} (hk : k ≠ 0) (h : t_er k σ 12 0 = 0) : False := by
  by_cases q : σ 12 0 = 0
  · rw [t_er_0 q] at h; exact hk h
  · rw [t_er_n q] at h; exact q h
theorem t_ex_g {p : Nat} {σ : t_S} (h : t_ex p σ 12 0 = 0) : σ 12 0 = 0 ∧ t_isv σ p = 1 ∧ t_ex p σ = t_adv σ := by
  by_cases q : t_isv σ p = 1
  · exact ⟨(t_isv_t q).1, q, if_pos q⟩
  · rw [show t_ex p σ = t_er 1 σ from if_neg q] at h
    exact (t_er_g (by decide) h).elim
theorem t_nb_g {lo hi : Int} {σ : t_S} (h : t_nbS lo hi σ 12 0 = 0) : σ 12 0 = 0 ∧ σ 10 0 = 2 ∧ (lo ≤ σ 11 0 ∧ σ 11 0 ≤ hi) ∧ t_nbV lo hi σ = σ 11 0 ∧ t_nbS lo hi σ = t_adv σ := by
  by_cases hg : σ 12 0 = 0
  · by_cases ht : σ 10 0 = 2
    · by_cases hr : lo ≤ σ 11 0 ∧ σ 11 0 ≤ hi
      · exact ⟨hg, ht, hr, if_pos ⟨hg, ht, hr⟩, (if_neg (fun w => w hg)).trans ((if_neg (fun w => w ht)).trans (if_neg (fun w => w hr)))⟩
      · rw [show t_nbS lo hi σ = t_er 2 σ from (if_neg (fun w => w hg)).trans ((if_neg (fun w => w ht)).trans (if_pos hr))] at h
        exact (t_er_g (by decide) h).elim
    · rw [show t_nbS lo hi σ = t_er 1 σ from (if_neg (fun w => w hg)).trans (if_pos ht)] at h
      exact (t_er_g (by decide) h).elim
  · rw [show t_nbS lo hi σ = σ from if_pos hg] at h
    exact absurd h hg
theorem t_rf1_g {p : Nat} {lo hi k : Int} {σ : t_S} (h : t_rf1 p lo hi k σ 12 0 = 0) : σ 12 0 = 0 ∧ lo ≤ t_rf1 p lo hi k σ 14 k ∧ t_rf1 p lo hi k σ 14 k ≤ hi := by
  rw [t_rf1_14k]
  unfold t_rf1 at h
  rw [s_up_k (by decide)] at h
  have h1 := t_nb_g h
  have h2 := t_ex_g h1.1
  rw [h1.2.2.2.1]
  exact ⟨h2.1, h1.2.2.1⟩
theorem t_rc1_g {b x : Int} {σ : t_S} (h : t_rc1 b x σ 12 0 = 0) : t_rc1 b x σ = σ ∧ ¬ t_rcT b σ x := by
  by_cases q : t_rcT b σ x
  · rw [show t_rc1 b x σ = t_er 2 σ from if_pos q] at h
    exact (t_er_g (by decide) h).elim
  · exact ⟨if_neg q, q⟩
theorem t_rc_g {b : Int} {σ : t_S} (h : t_rcS b σ 12 0 = 0) : σ 12 0 = 0 ∧ ∃ x y, t_rcV b σ = 10 * x + y ∧ (0 ≤ x ∧ x ≤ σ 14 3 - 1) ∧ 0 ≤ y ∧ y ≤ σ 14 4 - 1 := by
  have h1 := t_nb_g (show t_nbS 0 (t_rc2 b σ 14 4 - 1) (t_rc2 b σ) 12 0 = 0 from h)
  have h2 := t_rc1_g (show t_rc1 b (t_rcX σ) (t_nbS 0 (σ 14 3 - 1) σ) 12 0 = 0 from h1.1)
  have h3 : t_nbS 0 (σ 14 3 - 1) σ 12 0 = 0 := by
    have := h1.1
    rw [show t_rc2 b σ = t_nbS 0 (σ 14 3 - 1) σ from h2.1] at this
    exact this
  have h4 := t_nb_g h3
  have e := congrFun (t_rc2_14 b σ) 4
  refine ⟨h4.1, σ 11 0, t_rc2 b σ 11 0, ?_, h4.2.2.1, ?_⟩
  · unfold t_rcV
    rw [h1.2.2.2.1, show t_rcX σ = σ 11 0 from h4.2.2.2.1]
  · have := h1.2.2.1
    omega
/-- the first line -/
theorem t_rf_S {σ : t_S} (h : t_frS (σ 14)) (h9 : σ 14 9 = 0) (hg : t_rf σ 12 0 = 0) : t_frS (s_up (t_rf σ) 14 9 1 14) ∧ t_rf σ 14 9 = 0 := by
  have hz := h.2.1 h9
  have g4 := t_rf1_g hg
  have g3 := t_rf1_g g4.1
  have g2 := t_rf1_g g3.1
  have g1 := t_rf1_g g2.1
  have g0 := t_rf1_g g1.1
  have e4 : ∀ j, j ≠ 4 → t_rf σ 14 j = _ := fun j hj => t_rf1_14 _ _ _ _ _ j hj
  have e : ∀ j, j ≠ 0 → j ≠ 1 → j ≠ 2 → j ≠ 3 → j ≠ 4 → t_rf σ 14 j = σ 14 j := fun j a0 a1 a2 a3 a4 => by
    unfold t_rf
    rw [t_rf1_14 _ _ _ _ _ j a4, t_rf1_14 _ _ _ _ _ j a3, t_rf1_14 _ _ _ _ _ j a2, t_rf1_14 _ _ _ _ _ j a1, t_rf1_14 _ _ _ _ _ j a0, t_ex_14]
  have v4 : 2 ≤ t_rf σ 14 4 ∧ t_rf σ 14 4 ≤ 8 := g4.2
  have v3 : 2 ≤ t_rf σ 14 3 ∧ t_rf σ 14 3 ≤ 8 := by
    rw [show t_rf σ 14 3 = _ from t_rf1_14 _ _ _ _ _ 3 (by decide)]; exact g3.2
  have v2 : 0 ≤ t_rf σ 14 2 ∧ t_rf σ 14 2 ≤ 10 := by
    rw [show t_rf σ 14 2 = _ from (t_rf1_14 _ _ _ _ _ 2 (by decide)).trans (t_rf1_14 _ _ _ _ _ 2 (by decide))]; exact g2.2
  have v1 : 0 ≤ t_rf σ 14 1 ∧ t_rf σ 14 1 ≤ 3 := by
    rw [show t_rf σ 14 1 = _ from (t_rf1_14 _ _ _ _ _ 1 (by decide)).trans ((t_rf1_14 _ _ _ _ _ 1 (by decide)).trans (t_rf1_14 _ _ _ _ _ 1 (by decide)))]; exact g1.2
  have v0 : 1 ≤ t_rf σ 14 0 ∧ t_rf σ 14 0 ≤ 12 := by
    rw [show t_rf σ 14 0 = _ from (t_rf1_14 _ _ _ _ _ 0 (by decide)).trans ((t_rf1_14 _ _ _ _ _ 0 (by decide)).trans ((t_rf1_14 _ _ _ _ _ 0 (by decide)).trans (t_rf1_14 _ _ _ _ _ 0 (by decide))))]; exact g0.2
  have e9 : t_rf σ 14 9 = 0 := by rw [e 9 (by decide) (by decide) (by decide) (by decide) (by decide)]; exact h9
  refine ⟨?_, e9⟩
  have z : ∀ j, 4 < j → j < 149 → j ≠ 9 → s_up (t_rf σ) 14 9 1 14 j = 0 := fun j a b c => by
    rw [s_up_j c, e j (by omega) (by omega) (by omega) (by omega) (by omega)]; exact hz j (by omega) b
  have u : ∀ j, j ≠ 9 → s_up (t_rf σ) 14 9 1 14 j = t_rf σ 14 j := fun j c => s_up_j c
  have u9 : s_up (t_rf σ) 14 9 1 14 9 = 1 := s_up_eq _ _ _ _
  generalize s_up (t_rf σ) 14 9 1 14 = r at z u u9
  refine ⟨?_, fun w => by omega, fun k a b => ?_, fun k a b => ?_, fun k a b => ?_, fun w a b => ?_, fun j a b => ?_, fun j a b => ?_⟩
  · rw [u 0 (by decide), u 1 (by decide), u 2 (by decide), u 3 (by decide), u 4 (by decide), z 5 (by omega) (by omega) (by omega), z 6 (by omega) (by omega) (by omega), z 7 (by omega) (by omega) (by omega), z 8 (by omega) (by omega) (by omega), u9]
    omega
  · rw [z 5 (by omega) (by omega) (by omega)] at b; omega
  · rw [z 6 (by omega) (by omega) (by omega)] at b; omega
  · rw [z 6 (by omega) (by omega) (by omega)] at a; exact z (22 + k) (by omega) (by omega) (by omega)
  · rw [z 7 (by omega) (by omega) (by omega)] at b; omega
  · rw [z 7 (by omega) (by omega) (by omega)] at a; exact z j (by omega) (by omega) (by omega)
  · by_cases q : j = 9
    · rw [q, u9]; decide
    · by_cases q2 : 4 < j
      · rw [z j q2 b q]; decide
      · rw [u j q]
        have hj : j = 0 ∨ j = 1 ∨ j = 2 ∨ j = 3 ∨ j = 4 := by omega
        rcases hj with rfl | rfl | rfl | rfl | rfl <;> omega
theorem t_rn2_g {σ : t_S} (h : t_rn2 σ 12 0 = 0) : t_rn2 σ = σ ∧ ¬ t_ful σ ∧ (t_isv σ 23 = 1 ∨ t_isv σ 24 = 1 ∨ t_isv σ 25 = 1) := by
  by_cases q : t_ful (t_rn1 σ)
  · rw [show t_rn2 σ = t_er 3 (t_rn1 σ) from if_pos q] at h
    exact (t_er_g (by decide) h).elim
  · have e2 : t_rn2 σ = t_rn1 σ := if_neg q
    by_cases q1 : t_isv σ 23 = 1 ∨ t_isv σ 24 = 1 ∨ t_isv σ 25 = 1
    · have e1 : t_rn1 σ = σ := if_pos q1
      rw [e1] at q e2
      exact ⟨e2, q, q1⟩
    · rw [e2, show t_rn1 σ = t_er 1 σ from if_neg q1] at h
      exact (t_er_g (by decide) h).elim
/-- one cell more in a list -/
theorem t_rnC_S {b : Int} {f n : Int} {σ : t_S} (hfn : (f = 10 ∧ n = 5 ∧ σ 14 5 < 12) ∨ (f = 22 ∧ n = 6 ∧ σ 14 6 < 6)) (h : t_frS (σ 14)) (h9 : σ 14 9 ≠ 0) (hl : σ 14 9 ≤ 1000) (hg : t_rnC b f n σ 12 0 = 0) : t_frS (s_up (t_rnC b f n σ) 14 9 (t_rnC b f n σ 14 9 + 1) 14) ∧ t_rnC b f n σ 14 9 = σ 14 9 := by
  have hg2 : t_rcS b σ 12 0 = 0 := by
    unfold t_rnC t_up1 at hg
    rw [s_up_k (by decide), s_up_k (by decide)] at hg
    exact hg
  obtain ⟨-, x, y, hv, hx, hy⟩ := t_rc_g hg2
  have e14 := t_rc_14 b σ
  have en : ∀ j, j ≠ n → j ≠ f + σ 14 n → t_rnC b f n σ 14 j = σ 14 j := fun j j1 j2 => by
    unfold t_rnC t_up1
    rw [s_up_j j1, e14, s_up_j j2, e14]
  have hn : f + σ 14 n ≠ n := by
    have := h.1
    rcases hfn with ⟨rfl, rfl, q⟩ | ⟨rfl, rfl, q⟩ <;> omega
  have enn : t_rnC b f n σ 14 n = σ 14 n + 1 := by
    unfold t_rnC t_up1
    rw [s_up_eq, e14, s_up_j (Ne.symm hn), e14]
  have ev : t_rnC b f n σ 14 (f + σ 14 n) = 10 * x + y := by
    unfold t_rnC t_up1
    rw [s_up_j hn, e14, s_up_eq, hv]
  obtain ⟨h0, h1, h2, h3, h4, h5, h6, h7⟩ := h
  have e9 : t_rnC b f n σ 14 9 = σ 14 9 := en 9 (by rcases hfn with ⟨rfl, rfl, q⟩ | ⟨rfl, rfl, q⟩ <;> decide) (by rcases hfn with ⟨rfl, rfl, q⟩ | ⟨rfl, rfl, q⟩ <;> omega)
  refine ⟨?_, e9⟩
  have u : ∀ j, j ≠ 9 → s_up (t_rnC b f n σ) 14 9 (t_rnC b f n σ 14 9 + 1) 14 j = t_rnC b f n σ 14 j := fun j c => s_up_j c
  have u9 : s_up (t_rnC b f n σ) 14 9 (t_rnC b f n σ 14 9 + 1) 14 9 = σ 14 9 + 1 := by rw [s_up_eq, e9]
  generalize s_up (t_rnC b f n σ) 14 9 (t_rnC b f n σ 14 9 + 1) 14 = r at u u9
  generalize t_rnC b f n σ = τ at en enn ev e9 u
  generalize σ 14 = q at *
  have hok : t_okC r (10 * x + y) := by
    unfold t_okC
    rw [u 3 (by decide), u 4 (by decide), en 3 (by rcases hfn with ⟨rfl, rfl, w⟩ | ⟨rfl, rfl, w⟩ <;> decide) (by rcases hfn with ⟨rfl, rfl, w⟩ | ⟨rfl, rfl, w⟩ <;> omega), en 4 (by rcases hfn with ⟨rfl, rfl, w⟩ | ⟨rfl, rfl, w⟩ <;> decide) (by rcases hfn with ⟨rfl, rfl, w⟩ | ⟨rfl, rfl, w⟩ <;> omega)]
    omega
  rcases hfn with ⟨rfl, rfl, hlt⟩ | ⟨rfl, rfl, hlt⟩
  · have eo : ∀ j, j ≠ 5 → j ≠ 9 → j ≠ 10 + q 5 → r j = q j := fun j a b c => (u j b).trans (en j a c)
    have e5 : r 5 = q 5 + 1 := (u 5 (by decide)).trans enn
    have evv : r (10 + q 5) = 10 * x + y := (u _ (by omega)).trans ev
    have eC : ∀ c, t_okC r c ↔ t_okC q c := fun c => by unfold t_okC; rw [eo 3 (by omega) (by omega) (by omega), eo 4 (by omega) (by omega) (by omega)]
    refine ⟨?_, fun w => by omega, fun k a b => ?_, fun k a b => ?_, fun k a b => ?_, fun w a b => ?_, fun j a b => ?_, fun j a b => ?_⟩
    · rw [eo 0 (by omega) (by omega) (by omega), eo 1 (by omega) (by omega) (by omega), eo 2 (by omega) (by omega) (by omega), eo 3 (by omega) (by omega) (by omega), eo 4 (by omega) (by omega) (by omega), e5, eo 6 (by omega) (by omega) (by omega), eo 7 (by omega) (by omega) (by omega), eo 8 (by omega) (by omega) (by omega), u9]
      omega
    · by_cases w : k = q 5
      · rw [w, evv]; exact hok
      · rw [eC, eo (10 + k) (by omega) (by omega) (by omega)]; exact h2 k a (by omega)
    · rw [eo 6 (by omega) (by omega) (by omega)] at b
      rw [eC, eo (22 + k) (by omega) (by omega) (by omega)]; exact h3 k a b
    · rw [eo 6 (by omega) (by omega) (by omega)] at a
      rw [eo (22 + k) (by omega) (by omega) (by omega)]; exact h4 k a b
    · rw [eo 7 (by omega) (by omega) (by omega)] at b
      obtain ⟨a1, a2, a3, a4, a5, a6⟩ := h5 w a b
      unfold t_okW
      rw [eC, eo (28 + 13 * w) (by omega) (by omega) (by omega), eo (28 + 13 * w + 1) (by omega) (by omega) (by omega), eo (28 + 13 * w + 2) (by omega) (by omega) (by omega), eo (28 + 13 * w + 3) (by omega) (by omega) (by omega), eo (28 + 13 * w + 4) (by omega) (by omega) (by omega)]
      refine ⟨a1, a2, a3, a4, a5, fun k k0 k1 => ?_⟩
      rw [eo (28 + 13 * w + (5 + k)) (by omega) (by omega) (by omega)]
      exact a6 k k0 k1
    · rw [eo 7 (by omega) (by omega) (by omega)] at a
      rw [eo j (by omega) (by omega) (by omega)]; exact h6 j a b
    · by_cases w5 : j = 5
      · rw [w5, e5]; omega
      · by_cases w9 : j = 9
        · rw [w9, u9]; omega
        · by_cases wv : j = 10 + q 5
          · rw [wv, evv]; omega
          · rw [eo j w5 w9 wv]; exact h7 j a b
  · have eo : ∀ j, j ≠ 6 → j ≠ 9 → j ≠ 22 + q 6 → r j = q j := fun j a b c => (u j b).trans (en j a c)
    have e6 : r 6 = q 6 + 1 := (u 6 (by decide)).trans enn
    have evv : r (22 + q 6) = 10 * x + y := (u _ (by omega)).trans ev
    have eC : ∀ c, t_okC r c ↔ t_okC q c := fun c => by unfold t_okC; rw [eo 3 (by omega) (by omega) (by omega), eo 4 (by omega) (by omega) (by omega)]
    refine ⟨?_, fun w => by omega, fun k a b => ?_, fun k a b => ?_, fun k a b => ?_, fun w a b => ?_, fun j a b => ?_, fun j a b => ?_⟩
    · rw [eo 0 (by omega) (by omega) (by omega), eo 1 (by omega) (by omega) (by omega), eo 2 (by omega) (by omega) (by omega), eo 3 (by omega) (by omega) (by omega), eo 4 (by omega) (by omega) (by omega), eo 5 (by omega) (by omega) (by omega), e6, eo 7 (by omega) (by omega) (by omega), eo 8 (by omega) (by omega) (by omega), u9]
      omega
    · rw [eo 5 (by omega) (by omega) (by omega)] at b
      rw [eC, eo (10 + k) (by omega) (by omega) (by omega)]; exact h2 k a b
    · by_cases w : k = q 6
      · rw [w, evv]; exact hok
      · rw [eC, eo (22 + k) (by omega) (by omega) (by omega)]; exact h3 k a (by omega)
    · rw [e6] at a
      rw [eo (22 + k) (by omega) (by omega) (by omega)]; exact h4 k (by omega) b
    · rw [eo 7 (by omega) (by omega) (by omega)] at b
      obtain ⟨a1, a2, a3, a4, a5, a6⟩ := h5 w a b
      unfold t_okW
      rw [eC, eo (28 + 13 * w) (by omega) (by omega) (by omega), eo (28 + 13 * w + 1) (by omega) (by omega) (by omega), eo (28 + 13 * w + 2) (by omega) (by omega) (by omega), eo (28 + 13 * w + 3) (by omega) (by omega) (by omega), eo (28 + 13 * w + 4) (by omega) (by omega) (by omega)]
      refine ⟨a1, a2, a3, a4, a5, fun k k0 k1 => ?_⟩
      rw [eo (28 + 13 * w + (5 + k)) (by omega) (by omega) (by omega)]
      exact a6 k k0 k1
    · rw [eo 7 (by omega) (by omega) (by omega)] at a
      rw [eo j (by omega) (by omega) (by omega)]; exact h6 j a b
    · by_cases w5 : j = 6
      · rw [w5, e6]; omega
      · by_cases w9 : j = 9
        · rw [w9, u9]; omega
        · by_cases wv : j = 22 + q 6
          · rw [wv, evv]; omega
          · rw [eo j w5 w9 wv]; exact h7 j a b
theorem t_frS_w {q r : Int → Int} (h : t_frS q) (hw7 : q 7 < 7) (h9 : q 9 ≠ 0) (hl : q 9 ≤ 1000) (eo : ∀ j, j ≠ 7 → j ≠ 9 → (j < 28 + 13 * q 7 ∨ 28 + 13 * q 7 + 13 ≤ j) → r j = q j) (e7 : r 7 = q 7 + 1) (e9 : r 9 = q 9 + 1) (hw : t_okW r (q 7)) (hb : ∀ j, 28 + 13 * q 7 ≤ j → j < 28 + 13 * q 7 + 13 → 0 ≤ r j ∧ r j ≤ 2000000) : t_frS r := by
  obtain ⟨h0, h1, h2, h3, h4, h5, h6, h7⟩ := h
  have eC : ∀ c, t_okC r c ↔ t_okC q c := fun c => by unfold t_okC; rw [eo 3 (by omega) (by omega) (by omega), eo 4 (by omega) (by omega) (by omega)]
  refine ⟨?_, fun w => by omega, fun k a b => ?_, fun k a b => ?_, fun k a b => ?_, fun w a b => ?_, fun j a b => ?_, fun j a b => ?_⟩
  · rw [eo 0 (by omega) (by omega) (by omega), eo 1 (by omega) (by omega) (by omega), eo 2 (by omega) (by omega) (by omega), eo 3 (by omega) (by omega) (by omega), eo 4 (by omega) (by omega) (by omega), eo 5 (by omega) (by omega) (by omega), eo 6 (by omega) (by omega) (by omega), e7, eo 8 (by omega) (by omega) (by omega), e9]
    omega
  · rw [eo 5 (by omega) (by omega) (by omega)] at b
    rw [eC, eo (10 + k) (by omega) (by omega) (by omega)]; exact h2 k a b
  · rw [eo 6 (by omega) (by omega) (by omega)] at b
    rw [eC, eo (22 + k) (by omega) (by omega) (by omega)]; exact h3 k a b
  · rw [eo 6 (by omega) (by omega) (by omega)] at a
    rw [eo (22 + k) (by omega) (by omega) (by omega)]; exact h4 k a b
  · by_cases w7 : w = q 7
    · rw [w7]; exact hw
    · obtain ⟨a1, a2, a3, a4, a5, a6⟩ := h5 w a (by omega)
      unfold t_okW
      rw [eC, eo (28 + 13 * w) (by omega) (by omega) (by omega), eo (28 + 13 * w + 1) (by omega) (by omega) (by omega), eo (28 + 13 * w + 2) (by omega) (by omega) (by omega), eo (28 + 13 * w + 3) (by omega) (by omega) (by omega), eo (28 + 13 * w + 4) (by omega) (by omega) (by omega)]
      refine ⟨a1, a2, a3, a4, a5, fun k k0 k1 => ?_⟩
      rw [eo (28 + 13 * w + (5 + k)) (by omega) (by omega) (by omega)]
      exact a6 k k0 k1
  · rw [e7] at a
    rw [eo j (by omega) (by omega) (by omega)]; exact h6 j (by omega) b
  · by_cases w7 : j = 7
    · rw [w7, e7]; omega
    · by_cases w9 : j = 9
      · rw [w9, e9]; omega
      · by_cases wv : 28 + 13 * q 7 ≤ j ∧ j < 28 + 13 * q 7 + 13
        · exact hb j wv.1 wv.2
        · rw [eo j w7 w9 (by omega)]; exact h7 j a b
theorem t_rt_g {k : Int} {σ : t_S} (h : t_rt k σ 12 0 = 0) : σ 12 0 = 0 := by
  by_cases q : t_rt2 k σ 12 0 ≠ 0
  · rw [show t_rt k σ = t_rt2 k σ from if_pos q] at h
    exact absurd h q
  · have q2 : t_rt2 k σ 12 0 = 0 := by omega
    by_cases w : t_rt1 σ 14 (k + 4) = 8
    · rw [show t_rt2 k σ = t_er 3 (t_rt1 σ) from if_pos w] at q2
      exact (t_er_g (by decide) q2).elim
    · rw [show t_rt2 k σ = t_rt1 σ from if_neg w] at q2
      by_cases w2 : t_tw σ = -1
      · rw [show t_rt1 σ = t_er 1 σ from if_pos w2] at q2
        exact (t_er_g (by decide) q2).elim
      · rw [show t_rt1 σ = σ from if_neg w2] at q2
        exact q2
theorem t_rtl_g {k : Int} : ∀ (f : Nat) {σ : t_S}, t_rtl k f σ 12 0 = 0 → σ 12 0 = 0
  | 0, _, h => h
  | f + 1, σ, h => by
    rw [t_rtl_s] at h
    by_cases q : σ 12 0 = 0 ∧ σ 10 0 ≠ 3
    · exact q.1
    · rw [if_neg q] at h; exact h
def t_rtI (k : Int) (τ : t_S) : Prop := (0 ≤ τ 14 (k + 4) ∧ τ 14 (k + 4) ≤ 8) ∧ ∀ i, 0 ≤ i → i < τ 14 (k + 4) → 0 ≤ τ 14 (k + (5 + i)) ∧ τ 14 (k + (5 + i)) < 4
theorem t_rt_in {k : Int} {τ : t_S} (h : t_rtI k τ) (hg : t_rt k τ 12 0 = 0) : t_rtI k (t_rt k τ) ∧ τ 14 (k + 4) + 1 = t_rt k τ 14 (k + 4) ∧ ∀ j, (j < k + 4 ∨ k + 13 ≤ j) → t_rt k τ 14 j = τ 14 j := by
  have h1 := t_rt_14 (σ := τ) h.1
  obtain ⟨c1, c2, c3, c4⟩ := h1.1 hg
  have hr := t_tw_rg τ
  have h0 := h.1
  refine ⟨⟨by rw [c1]; omega, fun i i0 i1 => ?_⟩, c1.symm, fun j hj => h1.2.2 j (by omega) (by omega)⟩
  rw [c1] at i1
  by_cases q : i = τ 14 (k + 4)
  · rw [q, show k + (5 + τ 14 (k + 4)) = k + 5 + τ 14 (k + 4) by omega, c3]
    omega
  · rw [h1.2.2 (k + (5 + i)) (by omega) (by omega)]
    exact h.2 i i0 (by omega)
theorem t_rtl_in {k : Int} : ∀ (f : Nat) {τ : t_S}, t_rtI k τ → t_rtl k f τ 12 0 = 0 → t_rtI k (t_rtl k f τ) ∧ τ 14 (k + 4) ≤ t_rtl k f τ 14 (k + 4) ∧ ∀ j, (j < k + 4 ∨ k + 13 ≤ j) → t_rtl k f τ 14 j = τ 14 j
  | 0, τ, h, _ => ⟨h, Int.le_refl _, fun _ _ => rfl⟩
  | f + 1, τ, h, hg => by
    rw [t_rtl_s] at hg ⊢
    by_cases q : τ 12 0 = 0 ∧ τ 10 0 ≠ 3
    · rw [if_pos q] at hg ⊢
      have h1 := t_rt_in h (t_rtl_g f hg)
      have h2 := t_rtl_in f h1.1 hg
      exact ⟨h2.1, by omega, fun j hj => (h2.2.2 j hj).trans (h1.2.2 j hj)⟩
    · rw [if_neg q]
      exact ⟨h, Int.le_refl _, fun _ _ => rfl⟩
/-- a widow's line -/
theorem t_rw_S {σ : t_S} (h : t_frS (σ 14)) (hw7 : σ 14 7 < 7) (h9 : σ 14 9 ≠ 0) (hl : σ 14 9 ≤ 1000) (hg : t_rw σ 12 0 = 0) : t_frS (s_up (t_rw σ) 14 9 (t_rw σ 14 9 + 1) 14) ∧ t_rw σ 14 9 = σ 14 9 := by
  have h7 := h.1.2.2.2.2.2.2.2.1
  have hh := h.1
  obtain ⟨k, hk⟩ : ∃ k, t_rwk σ = k := ⟨_, rfl⟩
  have hk2 : k = 28 + 13 * σ 14 7 := hk.symm
  have g3 : t_rw3 k σ 12 0 = 0 := by
    unfold t_rw t_up1 at hg
    rw [s_up_k (by decide), hk] at hg
    exact hg
  have g2t : t_rt k (t_rw2 k σ) 12 0 = 0 := t_rtl_g 10 g3
  have g2 : t_rw2 k σ 12 0 = 0 := t_rt_g g2t
  have gx := t_ex_g g2
  have r3 := t_rf1_g gx.1
  have r2 := t_rf1_g r3.1
  have r1 := t_rf1_g r2.1
  have gc : t_rcS 0 σ 12 0 = 0 := by
    have := r1.1
    unfold t_rw1 at this
    rw [s_up_k (by decide)] at this
    exact this
  obtain ⟨-, x, y, hv, hx, hy⟩ := t_rc_g gc
  have e2 : ∀ j, j ≠ k → j ≠ k + 1 → j ≠ k + 2 → j ≠ k + 3 → t_rw2 k σ 14 j = σ 14 j := fun j a b c d => by
    unfold t_rw2
    rw [t_ex_14, t_rf1_14 _ _ _ _ _ j d, t_rf1_14 _ _ _ _ _ j c, t_rf1_14 _ _ _ _ _ j b]
    unfold t_rw1
    rw [s_up_j a, t_rc_14]
  have v3 : 0 ≤ t_rw2 k σ 14 (k + 3) ∧ t_rw2 k σ 14 (k + 3) ≤ 11 := by
    unfold t_rw2; rw [t_ex_14]; exact r3.2
  have v2 : 1 ≤ t_rw2 k σ 14 (k + 2) ∧ t_rw2 k σ 14 (k + 2) ≤ 40 := by
    unfold t_rw2; rw [t_ex_14, t_rf1_14 _ _ _ _ _ (k + 2) (by omega)]; exact r2.2
  have v1 : 0 ≤ t_rw2 k σ 14 (k + 1) ∧ t_rw2 k σ 14 (k + 1) ≤ 3 := by
    unfold t_rw2; rw [t_ex_14, t_rf1_14 _ _ _ _ _ (k + 1) (by omega), t_rf1_14 _ _ _ _ _ (k + 1) (by omega)]; exact r1.2
  have v0 : t_rw2 k σ 14 k = 10 * x + y := by
    unfold t_rw2
    rw [t_ex_14, t_rf1_14 _ _ _ _ _ k (by omega), t_rf1_14 _ _ _ _ _ k (by omega), t_rf1_14 _ _ _ _ _ k (by omega)]
    unfold t_rw1
    rw [s_up_eq, hv]
  have v4 : t_rw2 k σ 14 (k + 4) = 0 := by
    rw [e2 (k + 4) (by omega) (by omega) (by omega) (by omega)]
    exact h.2.2.2.2.2.2.1 (k + 4) (by omega) (by omega)
  have I0 : t_rtI k (t_rw2 k σ) := ⟨by omega, fun i i0 i1 => by omega⟩
  have I1 := t_rt_in I0 g2t
  have I2 := t_rtl_in 10 I1.1 g3
  have I3 : t_rtI k (t_rw3 k σ) := I2.1
  have c3 : t_rw2 k σ 14 (k + 4) + 1 ≤ t_rw3 k σ 14 (k + 4) := by rw [I1.2.1]; exact I2.2.1
  have e3 : ∀ j, (j < k + 4 ∨ k + 13 ≤ j) → t_rw3 k σ 14 j = t_rw2 k σ 14 j := fun j hj => (I2.2.2 j hj).trans (I1.2.2 j hj)
  have hz : ∀ j, k ≤ j → j < k + 13 → 0 ≤ t_rw3 k σ 14 j ∧ t_rw3 k σ 14 j ≤ 2000000 := by
    intro j a b
    by_cases q : j < k + 4
    · rw [e3 j (Or.inl q)]
      have hj : j = k ∨ j = k + 1 ∨ j = k + 2 ∨ j = k + 3 := by omega
      have := h.1
      rcases hj with rfl | rfl | rfl | rfl <;> omega
    · by_cases q4 : j = k + 4
      · rw [q4]; have := I3.1; omega
      · by_cases q5 : j - k - 5 < t_rw3 k σ 14 (k + 4)
        · have := I3.2 (j - k - 5) (by omega) q5
          rw [show k + (5 + (j - k - 5)) = j by omega] at this
          omega
        · -- beyond the turns: as it was, nothing
          have z : ∀ (f : Nat) (τ : t_S), (∀ i, τ 14 (k + 4) ≤ i → i < 8 → τ 14 (k + (5 + i)) = 0) → t_rtI k τ → t_rtl k f τ 12 0 = 0 → ∀ i, t_rtl k f τ 14 (k + 4) ≤ i → i < 8 → t_rtl k f τ 14 (k + (5 + i)) = 0 := by
            intro f
            induction f with
            | zero => intro τ a b c i d e; exact a i d e
            | succ f ih =>
              intro τ a b c i d e
              rw [t_rtl_s] at c d ⊢
              by_cases w : τ 12 0 = 0 ∧ τ 10 0 ≠ 3
              · rw [if_pos w] at c d ⊢
                have J := t_rt_in b (t_rtl_g f c)
                refine ih _ (fun i d e => ?_) J.1 c i d e
                have := t_rt_14 (σ := τ) b.1
                have b0 := b.1
                rw [← J.2.1] at d
                rw [this.2.2 (k + (5 + i)) (by omega) (by omega)]
                exact a i (by omega) e
              · rw [if_neg w] at c d ⊢
                exact a i d e
          have z1 : ∀ i, t_rt k (t_rw2 k σ) 14 (k + 4) ≤ i → i < 8 → t_rt k (t_rw2 k σ) 14 (k + (5 + i)) = 0 := fun i d e => by
            have := t_rt_14 (σ := t_rw2 k σ) I0.1
            rw [← I1.2.1] at d
            rw [this.2.2 (k + (5 + i)) (by omega) (by omega), e2 _ (by omega) (by omega) (by omega) (by omega)]
            exact h.2.2.2.2.2.2.1 _ (by omega) (by omega)
          have := z 10 _ z1 I1.1 g3 (j - k - 5) (show t_rw3 k σ 14 (k + 4) ≤ j - k - 5 by omega) (by omega)
          rw [show k + (5 + (j - k - 5)) = j by omega] at this
          rw [show t_rw3 k σ 14 j = 0 from this]
          decide
  have eo : ∀ j, j ≠ 7 → (j < k ∨ k + 13 ≤ j) → t_rw σ 14 j = σ 14 j := fun j a b => by
    unfold t_rw t_up1
    rw [s_up_j a, hk, e3 j (by omega), e2 j (by omega) (by omega) (by omega) (by omega)]
  have e7 : t_rw σ 14 7 = σ 14 7 + 1 := by
    unfold t_rw t_up1
    rw [s_up_eq, hk, e3 7 (by omega), e2 7 (by omega) (by omega) (by omega) (by omega)]
  have ei : ∀ j, k ≤ j → t_rw σ 14 j = t_rw3 k σ 14 j := fun j a => by
    unfold t_rw t_up1
    rw [s_up_j (by omega), hk]
  have e9 : t_rw σ 14 9 = σ 14 9 := eo 9 (by decide) (by omega)
  refine ⟨?_, e9⟩
  have u : ∀ j, j ≠ 9 → s_up (t_rw σ) 14 9 (t_rw σ 14 9 + 1) 14 j = t_rw σ 14 j := fun j c => s_up_j c
  refine t_frS_w h hw7 h9 hl (fun j a b c => by rw [u j b]; exact eo j a (by omega)) (by rw [u 7 (by decide)]; exact e7) (by rw [s_up_eq, e9]) ?_ (fun j a b => by rw [u j (by omega), ei j (by omega)]; exact hz j (by omega) (by omega))
  unfold t_okW t_okC
  rw [u 3 (by omega), u 4 (by omega), eo 3 (by omega) (by omega), eo 4 (by omega) (by omega), ← hk2, u k (by omega), u (k + 1) (by omega), u (k + 2) (by omega), u (k + 3) (by omega), u (k + 4) (by omega), ei k (by omega), ei (k + 1) (by omega), ei (k + 2) (by omega), ei (k + 3) (by omega), ei (k + 4) (by omega), e3 k (by omega), e3 (k + 1) (by omega), e3 (k + 2) (by omega), e3 (k + 3) (by omega), v0]
  refine ⟨by omega, by omega, v2, by omega, ⟨by omega, I3.1.2⟩, fun i i0 i1 => ?_⟩
  rw [u (k + (5 + i)) (by omega), ei (k + (5 + i)) (by omega)]
  exact I3.2 i i0 i1
/-- a line -/
def t_RS (σ : t_S) : Prop := t_rdI σ ∧ (σ 12 0 = 0 → t_frS (σ 14) ∧ σ 14 9 ≤ σ 9 0)
theorem t_rl_S {σ : t_S} (h : t_RS σ) (h12 : σ 12 0 = 0) : t_RS (t_rl σ) := by
  obtain ⟨hI, hS⟩ := h
  obtain ⟨hS, hl⟩ := hS h12
  have hl9 : σ 14 9 ≤ 1000 := by have := hI.1; omega
  refine ⟨(t_mo_rl hI).1, fun hg => ?_⟩
  have hon := t_rl_on hI hg
  have e3 : t_rl σ 12 0 = t_rl3 σ 12 0 := by unfold t_rl t_up1; rw [s_up_k (by decide)]
  rw [e3] at hg
  have g2 : t_rl2 σ 12 0 = 0 ∧ t_rl3 σ 14 = t_rl2 σ 14 := by
    unfold t_rl3 at hg ⊢
    by_cases q : t_rl2 σ 12 0 = 0
    · rw [if_pos q]; exact ⟨q, t_adv_14 _⟩
    · rw [if_neg q] at hg; exact absurd hg q
  have g1 : t_rl1 σ 12 0 = 0 ∧ t_rl2 σ 14 = t_rl1 σ 14 := by
    have g := g2.1
    unfold t_rl2 at g ⊢
    by_cases q : t_rl1 σ 12 0 = 0 ∧ t_rl1 σ 10 0 ≠ 3
    · rw [if_pos q] at g
      exact (t_er_g (by decide) g).elim
    · rw [if_neg q] at g ⊢
      exact ⟨g, rfl⟩
  have e14 : t_rl3 σ 14 = t_rl1 σ 14 := g2.2.trans g1.2
  have key : t_frS (s_up (t_rl1 σ) 14 9 (t_rl1 σ 14 9 + 1) 14) ∧ t_rl1 σ 14 9 = σ 14 9 := by
    have g := g1.1
    unfold t_rl1 at g ⊢
    by_cases q : σ 14 9 = 0
    · rw [if_pos q] at g ⊢
      have h := t_rf_S hS q g
      rw [h.2, q]
      exact ⟨h.1, rfl⟩
    · rw [if_neg q] at g ⊢
      have q2 : t_rn2 σ 12 0 = 0 := by
        by_cases w : t_rn2 σ 12 0 = 0
        · exact w
        · rw [show t_rn σ = t_rn2 σ from if_pos w] at g; exact g
      have r := t_rn2_g q2
      have ea := t_adv_14 σ
      have hSa : t_frS (t_adv σ 14) := by rw [ea]; exact hS
      have h0 := hS.1
      unfold t_rn at g ⊢
      rw [if_neg (fun w => w q2), r.1] at g ⊢
      by_cases w : t_isv σ 23 = 1
      · rw [if_pos w] at g ⊢
        have hc : σ 14 5 < 12 := by
          have : σ 14 5 ≠ 12 := fun z => r.2.1 (Or.inl ⟨w, z⟩)
          omega
        have h := t_rnC_S (b := 0) (f := 10) (n := 5) (Or.inl ⟨rfl, rfl, by rw [ea]; exact hc⟩) hSa (by rw [ea]; exact q) (by rw [ea]; exact hl9) g
        exact ⟨h.1, by rw [h.2, ea]⟩
      · rw [if_neg w] at g ⊢
        by_cases w2 : t_isv σ 24 = 1
        · rw [if_pos w2] at g ⊢
          have hc : σ 14 6 < 6 := by
            have : σ 14 6 ≠ 6 := fun z => r.2.1 (Or.inr (Or.inl ⟨w2, z⟩))
            omega
          have h := t_rnC_S (b := 1) (f := 22) (n := 6) (Or.inr ⟨rfl, rfl, by rw [ea]; exact hc⟩) hSa (by rw [ea]; exact q) (by rw [ea]; exact hl9) g
          exact ⟨h.1, by rw [h.2, ea]⟩
        · rw [if_neg w2] at g ⊢
          have w3 : t_isv σ 25 = 1 := by
            rcases r.2.2 with z | z | z
            · exact absurd z w
            · exact absurd z w2
            · exact z
          have hc : σ 14 7 < 7 := by
            have : σ 14 7 ≠ 7 := fun z => r.2.1 (Or.inr (Or.inr ⟨w3, z⟩))
            omega
          have h := t_rw_S (σ := t_adv σ) hSa (by rw [ea]; exact hc) (by rw [ea]; exact q) (by rw [ea]; exact hl9) g
          exact ⟨h.1, by rw [h.2, ea]⟩
  have eR : t_rl σ 14 = s_up (t_rl1 σ) 14 9 (t_rl1 σ 14 9 + 1) 14 := by
    funext j
    show s_up (t_rl3 σ) 14 9 (t_rl3 σ 14 9 + 1) 14 j = _
    rw [e14]
    by_cases q : j = 9
    · rw [q, s_up_eq, s_up_eq]
    · rw [s_up_j q, s_up_j q, e14]
  rw [eR]
  exact ⟨key.1, by rw [s_up_eq, key.2]; omega⟩
theorem t_rds_s (f : Nat) (σ : t_S) : t_rds (f + 1) σ = if σ 12 0 = 0 ∧ σ 10 0 ≠ 0 then t_rds f (t_rl σ) else σ := rfl
theorem t_rds_S : ∀ (f : Nat) {σ : t_S}, t_RS σ → t_RS (t_rds f σ) ∧ t_mo σ (t_rds f σ)
  | 0, σ, h => ⟨h, t_mo_rf h.1⟩
  | f + 1, σ, h => by
    rw [t_rds_s]
    split
    · rename_i q
      have h1 := t_rl_S h q.1
      have h2 := t_rds_S f h1
      exact ⟨h2.1, t_mo_tr (t_mo_rl h.1) h2.2⟩
    · exact ⟨h, t_mo_rf h.1⟩
/-- behind the first token -/
theorem t_co1_S {σ : t_S} (h5 : 0 ≤ σ 5 0 ∧ σ 5 0 ≤ 900) (h4 : ∀ k, 0 ≤ k → k < 900 → -128 ≤ σ 4 k ∧ σ 4 k < 128) : t_RS (t_co1 σ) ∧ ∀ k, (k < 5 ∨ k = 6 ∨ 14 < k) → t_co1 σ k = σ k := by
  have k14 : ∀ (n : Nat) (k : Nat), k ≠ 14 → t_it t_co1f n (t_co0 σ) k = t_co0 σ k := fun n k hk => t_it_k (f := t_co1f) (fun _ _ => s_up_f hk) _ _
  have z14 : ∀ n : Nat, ∀ c : Int, 0 ≤ c → c < n → t_it t_co1f n (t_co0 σ) 14 c = 0 := by
    intro n
    refine t_it_P (fun n (τ : t_S) => ∀ c : Int, 0 ≤ c → c < n → τ 14 c = 0) (fun c a b => by omega) n (fun i y i0 _ hy => ?_)
    intro c c0 c1
    unfold t_co1f
    by_cases q : c = i
    · subst q; rw [s_up_eq]
    · rw [s_up_j q]; exact hy c c0 (by omega)
  obtain ⟨ρ, hρ⟩ : ∃ ρ, t_it t_co1f 149 (t_co0 σ) = ρ := ⟨_, rfl⟩
  have e : ∀ k, k ≠ 14 → ρ k = t_co0 σ k := fun k hk => by rw [← hρ]; exact k14 149 k hk
  have e7 : ρ 7 0 = σ 5 0 := by
    rw [e 7 (by decide)]; unfold t_co0
    rw [s_up_k (by decide), s_up_k (by decide), s_up_k (by decide), s_up_k (by decide), s_up_eq]
  have e8 : ρ 8 0 = 0 := by
    rw [e 8 (by decide)]; unfold t_co0
    rw [s_up_k (by decide), s_up_k (by decide), s_up_eq]
  have e12 : ρ 12 0 = 0 := by
    rw [e 12 (by decide)]; unfold t_co0
    rw [s_up_k (by decide), s_up_eq]
  have e0 : ∀ k, k ≠ 5 → k ≠ 7 → k ≠ 8 → k ≠ 12 → k ≠ 13 → k ≠ 14 → ρ k = σ k := fun k a b c d f g => by
    rw [e k g]
    unfold t_co0
    rw [s_up_f f, s_up_f d, s_up_f c, s_up_f a, s_up_f b]
  have h1 := t_adv_v (σ := ρ) ⟨by omega, by omega⟩
  have h0 := t_ad0_rg (σ := ρ) (by omega)
  have a7 : t_adv ρ 7 = ρ 7 := t_adv_k (by decide) (by decide) (by decide) (by decide)
  have a4 : t_adv ρ 4 = ρ 4 := t_adv_k (by decide) (by decide) (by decide) (by decide)
  have ec : t_co1 σ = t_adv ρ := by unfold t_co1; rw [hρ]
  rw [ec]
  refine ⟨⟨?_, fun _ => ⟨?_, ?_⟩⟩, fun k hk => (t_adv_k (by omega) (by omega) (by omega) (by omega)).trans (e0 k (by omega) (by omega) (by omega) (by omega) (by omega) (by omega))⟩
  · unfold t_rdI
    rw [a7, a4, h1.1, t_adv_12, e12, e0 4 (by decide) (by decide) (by decide) (by decide) (by decide) (by decide)]
    exact ⟨⟨by omega, h1.2.1.1, h1.2.1.2, by omega⟩, h1.2.2.1, h1.2.2.2.1, h1.2.2.2.2, h4, by decide, by decide⟩
  · rw [t_adv_14]
    refine t_frS_cg t_frS_0 (fun j j0 j1 => ?_)
    rw [← hρ]
    exact z14 149 j j0 j1
  · rw [t_adv_14, ← hρ, z14 149 9 (by decide) (by decide), hρ, h1.1]
    omega
