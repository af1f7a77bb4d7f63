/-! THE COMPONENT'S WALKS: a walk, pure -/
set_option maxRecDepth 100000
abbrev x_sg (τ : t_S) (w : Int) : Int → Int := fun j => if τ 26 (41 * w + (j + 1)) = τ 26 (41 * w + j) then 1 else 0
abbrev x_hit (τ : t_S) (w e : Int) : Int → Int := fun j => if τ 26 (41 * w + j) = e then 1 else 0
def x_WT (w k : Int) (ρ τ : t_S) (c : Int) : Prop :=
  (∀ j, j ≠ 22 → j ≠ 23 → j ≠ 24 → j ≠ 26 → j ≠ 27 → τ j = ρ j) ∧ (∀ e, x_c8 e → τ 22 e = ρ 21 e) ∧ (∀ v : Int, v ≠ w → τ 27 v = ρ 27 v) ∧ τ 27 w = k ∧
  (∀ v j : Int, v ≠ w → 0 ≤ j → j ≤ 40 → τ 26 (41 * v + j) = ρ 26 (41 * v + j)) ∧ (∀ j : Int, 0 ≤ j → j ≤ k → x_c8 (τ 26 (41 * w + j))) ∧ τ 26 (41 * w + k) = c ∧
  (∀ e, x_c8 e → τ 23 e = t_anyg (x_hit τ w e) (k + 1).toNat) ∧ (∀ e, x_c8 e → 0 ≤ τ 24 e)
def x_WX (w k : Int) (χ τ χ1 : t_S) : Prop :=
  (∀ j, j ≠ 10 → j ≠ 11 → j ≠ 12 → j ≠ 21 → χ1 j = χ j) ∧ (∀ v : Int, v ≠ w → χ1 11 v = χ 11 v ∧ χ1 12 v = χ 12 v ∧ χ1 21 v = χ 21 v) ∧ (∀ v j : Int, 0 ≤ v → v < 7 → v ≠ w → χ1 10 (7 * j + v) = χ 10 (7 * j + v)) ∧
  χ1 11 w = k ∧ χ1 12 w = t_sum (x_sg τ w) k.toNat ∧ χ1 21 w = x_bs (τ 23) ∧ ∀ j : Int, 0 ≤ j → j ≤ 40 → χ1 10 (7 * j + w) = if j ≤ k then x_sp (τ 26 (41 * w + j)) else -1
def x_WP (ρ τ : t_S) (r d : Int → Int) : Prop := x_g01 r ∧ x_g01 d ∧ ∀ e, x_c8 e → (e_bt (τ 24 e) 1 = 1 ↔ e_bt (ρ 24 e) 1 = 1 ∨ r e = 1) ∧ (e_bt (τ 24 e) 2 = 1 ↔ e_bt (ρ 24 e) 2 = 1 ∨ d e = 1)
theorem x_anyg_cg {g u : Int → Int} : ∀ n : Nat, (∀ i : Int, 0 ≤ i → i < n → g i = u i) → t_anyg g n = t_anyg u n
  | 0, _ => rfl
  | n + 1, h => by
    show (if t_anyg g n = 1 then 1 else g (n : Int)) = if t_anyg u n = 1 then 1 else u (n : Int)
    rw [x_anyg_cg n (fun i a b => h i a (by omega)), h n (by omega) (by omega)]
theorem x_sum_cg {g u : Int → Int} : ∀ n : Nat, (∀ i : Int, 0 ≤ i → i < n → g i = u i) → t_sum g n = t_sum u n
  | 0, _ => rfl
  | n + 1, h => by
    show t_sum g n + g (n : Int) = t_sum u n + u (n : Int)
    rw [x_sum_cg n (fun i a b => h i a (by omega)), h n (by omega) (by omega)]
theorem x_hit01 (τ : t_S) (w e : Int) (n : Nat) : t_anyg (x_hit τ w e) n = 0 ∨ t_anyg (x_hit τ w e) n = 1 := t_anyg01 (fun i => by show (if _ then (1 : Int) else 0) = 0 ∨ (if _ then (1 : Int) else 0) = 1; split <;> simp) n
theorem x_WT_23 {w k : Int} {ρ τ : t_S} {c : Int} (h : x_WT w k ρ τ c) : x_g01 (τ 23) := fun e he => by
  rw [h.2.2.2.2.2.2.2.1 e he]
  exact x_hit01 τ w e _
/-- a step -/
theorem x_WT_s {w k : Int} {ρ τ τ1 : t_S} {c e : Int} (h : x_WT w k ρ τ c) (hk : 0 ≤ k ∧ k < 40) (he : x_c8 e) (h1 : ∀ j, j ≠ 23 → j ≠ 24 → τ1 j = τ j) (h23 : ∀ q, x_c8 q → τ1 23 q = if q = e then 1 else τ 23 q) (h24 : ∀ q, x_c8 q → 0 ≤ τ1 24 q) : x_WT w (k + 1) ρ (t_go2 w e τ1) e := by
  obtain ⟨a1, a2, a3, a4, a5, a6, a7, a8, a9⟩ := h
  have b27 := h1 27 (by decide) (by decide)
  have b26 := h1 26 (by decide) (by decide)
  have e26 : t_go2 w e τ1 26 = s_up τ1 26 (41 * w + (k + 1)) e 26 := by
    unfold t_go2
    rw [s_up_eq, b27, a4]
    funext j
    by_cases q : j = 41 * w + (k + 1)
    · rw [q, s_up_eq, s_up_eq]
    · rw [s_up_j q, s_up_j q, s_up_f (by decide)]
  have o26 : ∀ j : Int, j ≠ 41 * w + (k + 1) → t_go2 w e τ1 26 j = τ 26 j := fun j hj => by rw [e26, s_up_j hj, b26]
  have n26 : t_go2 w e τ1 26 (41 * w + (k + 1)) = e := by rw [e26, s_up_eq]
  have e23 : t_go2 w e τ1 23 = τ1 23 := by unfold t_go2; rw [s_up_f (by decide), s_up_f (by decide)]
  have e24 : t_go2 w e τ1 24 = τ1 24 := by unfold t_go2; rw [s_up_f (by decide), s_up_f (by decide)]
  refine ⟨fun j b c d f g => ?_, fun q hq => ?_, fun v hv => ?_, ?_, fun v j hv j0 j1 => ?_, fun j j0 j1 => ?_, n26, fun q hq => ?_, fun q hq => ?_⟩
  · unfold t_go2
    rw [s_up_f f, s_up_f g, h1 j c d, a1 j b c d f g]
  · unfold t_go2
    rw [s_up_f (by decide), s_up_f (by decide), h1 22 (by decide) (by decide)]
    exact a2 q hq
  · unfold t_go2
    rw [s_up_f (by decide), s_up_j hv, b27]
    exact a3 v hv
  · unfold t_go2
    rw [s_up_f (by decide), s_up_eq, b27, a4]
  · rw [o26 _ (by omega)]
    exact a5 v j hv j0 j1
  · by_cases q : j = k + 1
    · rw [q, n26]; exact he
    · rw [o26 _ (by omega)]
      exact a6 j j0 (by omega)
  · rw [e23, h23 q hq, t_anyg_s _ (show 0 ≤ k + 1 by omega), show x_hit (t_go2 w e τ1) w q (k + 1) = if e = q then 1 else 0 from by show (if t_go2 w e τ1 26 (41 * w + (k + 1)) = q then (1 : Int) else 0) = _; rw [n26], a8 q hq]
    rw [show t_anyg (x_hit (t_go2 w e τ1) w q) (k + 1).toNat = t_anyg (x_hit τ w q) (k + 1).toNat from x_anyg_cg _ (fun i i0 i1 => by show (if t_go2 w e τ1 26 (41 * w + i) = q then (1 : Int) else 0) = _; rw [o26 _ (by omega)])]
    rcases x_hit01 τ w q (k + 1).toNat with p | p
    · rw [p, if_neg (show ¬ ((0 : Int) = 1) by decide)]
      by_cases z : q = e
      · rw [if_pos z, if_pos z.symm]
      · rw [if_neg z, if_neg (fun u => z u.symm)]
    · rw [p, if_pos rfl]
      split <;> rfl
  · rw [e24]; exact h24 q hq
theorem x_sg_s {w k : Int} {ρ τ τ1 : t_S} {c e : Int} (h : x_WT w k ρ τ c) (hk : 0 ≤ k ∧ k < 40) (h1 : ∀ j, j ≠ 23 → j ≠ 24 → τ1 j = τ j) : t_sum (x_sg (t_go2 w e τ1) w) (k + 1).toNat = t_sum (x_sg τ w) k.toNat + if e = c then 1 else 0 := by
  have b27 := h1 27 (by decide) (by decide)
  have b26 := h1 26 (by decide) (by decide)
  have e26 : t_go2 w e τ1 26 = s_up τ1 26 (41 * w + (k + 1)) e 26 := by
    unfold t_go2
    rw [s_up_eq, b27, h.2.2.2.1]
    funext j
    by_cases q : j = 41 * w + (k + 1)
    · rw [q, s_up_eq, s_up_eq]
    · rw [s_up_j q, s_up_j q, s_up_f (by decide)]
  have o26 : ∀ j : Int, j ≠ 41 * w + (k + 1) → t_go2 w e τ1 26 j = τ 26 j := fun j hj => by rw [e26, s_up_j hj, b26]
  have n26 : t_go2 w e τ1 26 (41 * w + (k + 1)) = e := by rw [e26, s_up_eq]
  rw [show (k + 1).toNat = k.toNat + 1 by omega]
  show t_sum (x_sg (t_go2 w e τ1) w) k.toNat + x_sg (t_go2 w e τ1) w ((k.toNat : Nat) : Int) = _
  rw [Int.toNat_of_nonneg hk.1]
  have e1 : x_sg (t_go2 w e τ1) w k = if e = c then 1 else 0 := by
    show (if t_go2 w e τ1 26 (41 * w + (k + 1)) = t_go2 w e τ1 26 (41 * w + k) then (1 : Int) else 0) = _
    rw [n26, o26 _ (by omega), h.2.2.2.2.2.2.1]
  rw [e1, x_sum_cg (u := x_sg τ w) k.toNat (fun i i0 i1 => by
    show (if t_go2 w e τ1 26 (41 * w + (i + 1)) = t_go2 w e τ1 26 (41 * w + i) then (1 : Int) else 0) = _
    rw [o26 _ (by omega), o26 _ (by omega)])]
theorem x_WX_s {w k s1 : Int} {ρ χ τ τ1 χ1 χ2 : t_S} {c e : Int} (hw : 0 ≤ w ∧ w < 7) (h : x_WT w k ρ τ c) (hx : x_WX w k χ τ χ1) (hk : 0 ≤ k ∧ k < 40) (he : x_c8 e) (hs : s1 = x_sp e) (h1 : ∀ j, j ≠ 23 → j ≠ 24 → τ1 j = τ j) (h23 : ∀ q, x_c8 q → τ1 23 q = if q = e then 1 else τ 23 q)
    (c1 : ∀ j, j ≠ 12 → χ2 j = χ1 j) (c2 : ∀ v : Int, v ≠ w → χ2 12 v = χ1 12 v) (c3 : χ2 12 w = χ1 12 w + if e = c then 1 else 0) :
    x_WX w (k + 1) χ (t_go2 w e τ1) (s_up (s_up (s_up χ2 21 w (t_or (χ2 21 w) (2 ^ s1.toNat))) 11 w (χ2 11 w + 1)) 10 (7 * (χ2 11 w + 1) + w) s1) := by
  have hW := x_WT_23 h
  obtain ⟨a1, a2, a3, a4, a5, a6, a7⟩ := hx
  subst hs
  have b27 := h1 27 (by decide) (by decide)
  have b26 := h1 26 (by decide) (by decide)
  have e26 : t_go2 w e τ1 26 = s_up τ1 26 (41 * w + (k + 1)) e 26 := by
    unfold t_go2
    rw [s_up_eq, b27, h.2.2.2.1]
    funext j
    by_cases q : j = 41 * w + (k + 1)
    · rw [q, s_up_eq, s_up_eq]
    · rw [s_up_j q, s_up_j q, s_up_f (by decide)]
  have e23 : t_go2 w e τ1 23 = τ1 23 := by unfold t_go2; rw [s_up_f (by decide), s_up_f (by decide)]
  have z11 : χ2 11 w = k := by rw [c1 11 (by decide)]; exact a4
  rw [z11]
  refine ⟨fun j b c d f => ?_, fun v hv => ⟨?_, ?_, ?_⟩, fun v j v0 v1 hv => ?_, ?_, ?_, ?_, fun j j0 j1 => ?_⟩
  · rw [s_up_f b, s_up_f c, s_up_f f, c1 j d]; exact a1 j b c d f
  · rw [s_up_f (by decide), s_up_j hv, s_up_f (by decide), c1 11 (by decide)]; exact (a2 v hv).1
  · rw [s_up_f (by decide), s_up_f (by decide), s_up_f (by decide), c2 v hv]; exact (a2 v hv).2.1
  · rw [s_up_f (by decide), s_up_f (by decide), s_up_j hv, c1 21 (by decide)]; exact (a2 v hv).2.2
  · rw [s_up_j (by omega), s_up_f (by decide), s_up_f (by decide), c1 10 (by decide)]; exact a3 v j v0 v1 hv
  · rw [s_up_f (by decide), s_up_eq]
  · rw [s_up_f (by decide), s_up_f (by decide), s_up_f (by decide), c3, a5, x_sg_s h hk h1]
  · rw [s_up_f (by decide), s_up_f (by decide), s_up_eq, c1 21 (by decide), a6, e23]
    exact x_bs_in hW he (by rw [h23 e he, if_pos rfl]) (fun q hq hqe => by rw [h23 q hq, if_neg hqe])
  · by_cases q : j = k + 1
    · rw [q, s_up_eq, if_pos (by omega), e26, s_up_eq]
    · rw [s_up_j (by omega), s_up_f (by decide), s_up_f (by decide), c1 10 (by decide), a7 j j0 j1]
      by_cases p : j ≤ k
      · rw [if_pos p, if_pos (by omega), e26, s_up_j (by omega), b26]
      · rw [if_neg p, if_neg (by omega)]
