/-! THE COMPONENT'S WALKS: the records -/
set_option maxRecDepth 100000
def x_rec (ρ χ : t_S) (v : Int) : Prop := (-1 ≤ ρ 27 v ∧ ρ 27 v ≤ 40) ∧ χ 11 v = ρ 27 v ∧ (χ 12 v = if ρ 27 v = -1 then -1 else t_sum (t_stg ρ v) (ρ 27 v).toNat) ∧ (χ 13 v = if ρ 27 v = -1 then -1 else ρ 28 v) ∧ χ 21 v = x_bs (t_in ρ v) ∧ (∀ j : Int, 0 ≤ j → j ≤ 40 → χ 10 (7 * j + v) = x_sp (t_pth ρ v j)) ∧ ∀ j : Int, 0 ≤ j → j ≤ ρ 27 v → x_c8 (ρ 26 (41 * v + j))
abbrev x_rt (ρ : t_S) (b : Int) : Int → Int := fun e => e_bt (ρ 24 e) b
def x_Rr (ρ χ : t_S) : Prop := χ 23 0 = x_bs (ρ 21) ∧ χ 24 0 = x_bs (x_rt ρ 1) ∧ χ 25 0 = x_bs (x_rt ρ 2)
def x_Rh (y : Int) (ρ χ : t_S) : Prop := ∀ k : Int, 0 ≤ k → k < ρ 1 6 → (χ 14 (6 * y + k) = x_sp (ρ 25 k) ∧ x_cn (ρ 25 k)) ∧ χ 15 k = ρ 29 k
def x_Rm (y : Int) (χ ρ : t_S) : Prop := x_Rq χ ρ ∧ x_Rr ρ χ ∧ x_Rh y ρ χ ∧ ∀ v : Int, 0 ≤ v → v < ρ 1 7 → x_rec ρ χ v
abbrev x_k9 (j : Nat) : Prop := (j < 10 ∨ 15 < j) ∧ j ≠ 21 ∧ j ≠ 23 ∧ j ≠ 24 ∧ j ≠ 25
def x_f9 (y : Int) (χ χ1 : t_S) : Prop := (∀ j, x_k9 j → χ1 j = χ j) ∧ ∀ j : Int, ¬ (6 * y ≤ j ∧ j < 6 * y + 6) → χ1 14 j = χ 14 j
/-- the beginning -/
theorem x_wk0_k (ρ : t_S) : ∀ j, j ≠ 22 → j ≠ 23 → t_wk0 ρ j = ρ j := fun j a b => t_it_k (f := t_wk1f) (fun _ _ => (s_up_f b).trans (s_up_f a)) 80 ρ
theorem x_wk0_c (ρ : t_S) : ∀ e : Int, 0 ≤ e → e < 80 → t_wk0 ρ 22 e = ρ 21 e ∧ t_wk0 ρ 23 e = 0 := by
  have key : ∀ n : Nat, (∀ j, j ≠ 22 → j ≠ 23 → t_it t_wk1f n ρ j = ρ j) ∧ ∀ e : Int, 0 ≤ e → e < n → t_it t_wk1f n ρ 22 e = ρ 21 e ∧ t_it t_wk1f n ρ 23 e = 0 := by
    intro n
    induction n with
    | zero => exact ⟨fun _ _ _ => rfl, fun e a b => by omega⟩
    | succ n ih =>
      refine ⟨fun j a b => t_it_k (f := t_wk1f) (fun _ _ => (s_up_f b).trans (s_up_f a)) _ ρ, fun e a b => ?_⟩
      show s_up (s_up (t_it t_wk1f n ρ) 22 n (t_it t_wk1f n ρ 21 n)) 23 n 0 22 e = _ ∧ s_up (s_up (t_it t_wk1f n ρ) 22 n (t_it t_wk1f n ρ 21 n)) 23 n 0 23 e = 0
      rw [s_up_f (show (22 : Nat) ≠ 23 by decide)]
      by_cases q : e = n
      · rw [q, s_up_eq, s_up_eq, ih.1 21 (by decide) (by decide)]
        exact ⟨rfl, rfl⟩
      · rw [s_up_j q, s_up_j q, s_up_f (by decide)]
        exact ih.2 e a (by omega)
  exact (key 80).2
theorem x_WT0 {w : Int} {ρ : t_S} (hs : x_c8 (ρ 1 (28 + 13 * w))) (hp : ∀ e, x_c8 e → 0 ≤ ρ 24 e) : x_WT w 0 ρ (t_wk1 w (t_wk0 ρ)) (ρ 1 (28 + 13 * w)) := by
  have hk := x_wk0_k ρ
  have hc := x_wk0_c ρ
  have e0 : t_wd (t_wk0 ρ) w 0 = ρ 1 (28 + 13 * w) := by
    show t_wk0 ρ 1 (28 + 13 * w + 0) = _
    rw [hk 1 (by decide) (by decide), Int.add_zero]
  have e26 : t_wk1 w (t_wk0 ρ) 26 = s_up (t_wk0 ρ) 26 (41 * w) (t_wd (t_wk0 ρ) w 0) 26 := by unfold t_wk1; rw [s_up_f (by decide), s_up_f (by decide)]
  have e23 : t_wk1 w (t_wk0 ρ) 23 = s_up (t_wk0 ρ) 23 (t_wd (t_wk0 ρ) w 0) 1 23 := by
    unfold t_wk1
    rw [s_up_f (by decide)]
    funext j
    by_cases q : j = t_wd (t_wk0 ρ) w 0
    · rw [q, s_up_eq, s_up_eq]
    · rw [s_up_j q, s_up_j q, s_up_f (by decide)]
  refine ⟨fun j a b c d f => ?_, fun e he => ?_, fun v hv => ?_, ?_, fun v j hv j0 j1 => ?_, fun j j0 j1 => ?_, ?_, fun e he => ?_, fun e he => ?_⟩
  · unfold t_wk1
    rw [s_up_f f, s_up_f b, s_up_f d]
    exact hk j a b
  · unfold t_wk1
    rw [s_up_f (by decide), s_up_f (by decide), s_up_f (by decide)]
    exact (hc e he.1 he.2.1).1
  · unfold t_wk1
    rw [s_up_j hv, s_up_f (by decide), s_up_f (by decide), hk 27 (by decide) (by decide)]
  · unfold t_wk1
    rw [s_up_eq]
  · rw [e26, s_up_j (by omega), hk 26 (by decide) (by decide)]
  · rw [show j = 0 by omega, e26, Int.add_zero, s_up_eq, e0]
    exact hs
  · rw [e26, Int.add_zero, s_up_eq, e0]
  · rw [e23, e0]
    have e1 : x_hit (t_wk1 w (t_wk0 ρ)) w e 0 = if ρ 1 (28 + 13 * w) = e then 1 else 0 := by
      show (if t_wk1 w (t_wk0 ρ) 26 (41 * w + 0) = e then (1 : Int) else 0) = _
      rw [e26, Int.add_zero, s_up_eq, e0]
    rw [t_anyg_s _ (Int.le_refl 0), e1, show t_anyg (x_hit (t_wk1 w (t_wk0 ρ)) w e) (0 : Int).toNat = 0 from rfl, if_neg (show ¬ ((0 : Int) = 1) by decide)]
    by_cases q : e = ρ 1 (28 + 13 * w)
    · rw [q, s_up_eq, if_pos rfl]
    · rw [s_up_j q, if_neg (fun z => q z.symm)]
      exact (hc e he.1 he.2.1).2
  · unfold t_wk1
    rw [s_up_f (by decide), s_up_f (by decide), s_up_f (by decide), hk 24 (by decide) (by decide)]
    exact hp e he
theorem x_WX0 {w sp : Int} {ρ χ : t_S} (hw : 0 ≤ w ∧ w < 7) (hs : x_c8 (ρ 1 (28 + 13 * w))) (hsp : sp = x_sp (ρ 1 (28 + 13 * w))) (hp : ∀ e, x_c8 e → 0 ≤ ρ 24 e) (h10 : ∀ j : Int, 0 ≤ j → j ≤ 40 → χ 10 (7 * j + w) = -1) : x_WX w 0 χ (t_wk1 w (t_wk0 ρ)) (s_up (s_up (s_up (s_up χ 10 w sp) 21 w (2 ^ sp.toNat)) 11 w 0) 12 w 0) := by
  have hT := x_WT0 hs hp
  subst hsp
  refine ⟨fun j a b c d => ?_, fun v hv => ⟨?_, ?_, ?_⟩, fun v j v0 v1 hv => ?_, ?_, ?_, ?_, fun j j0 j1 => ?_⟩
  · rw [s_up_f c, s_up_f b, s_up_f d, s_up_f a]
  · rw [s_up_f (by decide), s_up_j hv, s_up_f (by decide), s_up_f (by decide)]
  · rw [s_up_j hv, s_up_f (by decide), s_up_f (by decide), s_up_f (by decide)]
  · rw [s_up_f (by decide), s_up_f (by decide), s_up_j hv, s_up_f (by decide)]
  · rw [s_up_f (by decide), s_up_f (by decide), s_up_f (by decide), s_up_j (by omega)]
  · rw [s_up_f (by decide), s_up_eq]
  · rw [s_up_eq]; rfl
  · rw [s_up_f (by decide), s_up_f (by decide), s_up_eq]
    have h23 := hT.2.2.2.2.2.2.2.1
    have h26 := hT.2.2.2.2.2.2.1
    have hh : ∀ e, x_c8 e → t_wk1 w (t_wk0 ρ) 23 e = if ρ 1 (28 + 13 * w) = e then 1 else 0 := fun e he => by
      rw [h23 e he, t_anyg_s _ (Int.le_refl 0), show t_anyg (x_hit (t_wk1 w (t_wk0 ρ)) w e) (0 : Int).toNat = 0 from rfl, if_neg (show ¬ ((0 : Int) = 1) by decide)]
      show (if t_wk1 w (t_wk0 ρ) 26 (41 * w + 0) = e then (1 : Int) else 0) = _
      rw [h26]
    exact x_bs_1 hs (by rw [hh _ hs, if_pos rfl]) (fun e he hne => by rw [hh e he, if_neg (fun z => hne z.symm)])
  · rw [s_up_f (by decide), s_up_f (by decide), s_up_f (by decide)]
    by_cases q : j = 0
    · rw [q, if_pos (Int.le_refl 0), hT.2.2.2.2.2.2.1, show 7 * (0 : Int) + w = w by omega, s_up_eq]
    · rw [if_neg (by omega), s_up_j (by omega)]
      exact h10 j j0 j1
theorem x_WP0 {w : Int} (ρ : t_S) : x_WP ρ (t_wk1 w (t_wk0 ρ)) (fun _ => 0) (fun _ => 0) := by
  have e24 : t_wk1 w (t_wk0 ρ) 24 = ρ 24 := by
    unfold t_wk1
    rw [s_up_f (by decide), s_up_f (by decide), s_up_f (by decide), x_wk0_k ρ 24 (by decide) (by decide)]
  refine ⟨fun _ _ => Or.inl rfl, fun _ _ => Or.inl rfl, fun e he => ?_⟩
  rw [e24]
  exact ⟨⟨Or.inl, fun w => w.elim id (fun z => absurd (show (0 : Int) = 1 from z) (by decide))⟩, ⟨Or.inl, fun w => w.elim id (fun z => absurd (show (0 : Int) = 1 from z) (by decide))⟩⟩
theorem x_bs_00 : (0 : Int) = x_bs (fun _ => 0) := x_bs_0 (fun _ _ => rfl)
