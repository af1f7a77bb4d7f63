/-! THE COMPONENT'S WALKS: the end of a walk -/
set_option maxRecDepth 100000
theorem x_wk3_k (τ : t_S) (j : Nat) (h : j ≠ 21) : t_it t_wk3f 80 τ j = τ j := t_it_k (f := t_wk3f) (fun _ _ => s_up_f h) 80 τ
theorem x_wk3_c (τ : t_S) : ∀ e : Int, 0 ≤ e → e < 80 → t_it t_wk3f 80 τ 21 e = if τ 21 e = 1 ∨ τ 23 e = 1 then 1 else 0 := by
  have key : ∀ n : Nat, t_it t_wk3f n τ 23 = τ 23 ∧ (∀ e : Int, 0 ≤ e → e < n → t_it t_wk3f n τ 21 e = if τ 21 e = 1 ∨ τ 23 e = 1 then 1 else 0) ∧ ∀ e : Int, n ≤ e → t_it t_wk3f n τ 21 e = τ 21 e := by
    intro n
    induction n with
    | zero => exact ⟨rfl, fun e a b => by omega, fun e _ => rfl⟩
    | succ n ih =>
      obtain ⟨i1, i2, i3⟩ := ih
      refine ⟨t_it_k (f := t_wk3f) (fun _ _ => s_up_f (by decide)) _ τ, fun e a b => ?_, fun e a => ?_⟩
      · show s_up (t_it t_wk3f n τ) 21 n (if t_it t_wk3f n τ 21 n = 1 ∨ t_it t_wk3f n τ 23 n = 1 then 1 else 0) 21 e = _
        by_cases q : e = n
        · rw [q, s_up_eq, i1, i3 n (Int.le_refl _)]
        · rw [s_up_j q]; exact i2 e a (by omega)
      · show s_up (t_it t_wk3f n τ) 21 n _ 21 e = _
        rw [s_up_j (by omega)]
        exact i3 e (by omega)
  exact (key 80).2.1
theorem x_wk3_g (τ : t_S) : x_g01 (t_it t_wk3f 80 τ 21) := fun e he => by
  rw [x_wk3_c τ e he.1 he.2.1]
  split
  · exact Or.inr rfl
  · exact Or.inl rfl
theorem x_mh28 (w : Int) (ρ : t_S) (v : Int) (hv : v ≠ w) : t_mh w ρ 28 v = ρ 28 v := by
  unfold t_mh
  refine t_it_P (fun _ (τ : t_S) => τ 28 v = ρ 28 v) (s_up_j hv) _ (fun i τ _ _ h => ?_)
  unfold t_mhf
  split
  · exact h
  · rw [s_up_f (by decide), s_up_j hv, s_up_f (by decide)]
    exact h
theorem x_Rq_cg {χ χ1 σ τ : t_S} (h : x_Rq χ σ) (c : ∀ j, j = 16 ∨ j = 17 ∨ j = 22 ∨ j = 26 ∨ j = 27 → χ1 j = χ j) (s : ∀ j, j = 1 ∨ (15 ≤ j ∧ j ≤ 20) → τ j = σ j) : x_Rq χ1 τ := by
  unfold x_Rq at h ⊢
  rw [c 16 (by decide), c 17 (by decide), c 22 (by decide), c 26 (by decide), c 27 (by decide), s 1 (by decide), s 15 (by decide), s 16 (by decide), s 17 (by decide), s 18 (by decide), s 19 (by decide), s 20 (by decide)]
  exact h
theorem x_rt01 (ρ : t_S) (b : Int) : x_g01 (x_rt ρ b) := fun e _ => by
  have := e_bt01 (ρ 24 e) b
  show e_bt (ρ 24 e) b = 0 ∨ e_bt (ρ 24 e) b = 1
  omega
section WEND
variable {w y k : Int} {ρ χ τ χ1 : t_S} {c : Int} {r d : Int → Int}
theorem x_we_a (hT : x_WT w k ρ τ c) (hX : x_WX w k χ τ χ1) (hR : x_Rm y χ ρ) (h21 : x_g01 (ρ 21)) : t_or (χ1 23 0) (χ1 21 w) = x_bs (t_it t_wk3f 80 τ 21) := by
  rw [hX.1 23 (by decide) (by decide) (by decide) (by decide), hX.2.2.2.2.2.1, hR.2.1.1]
  refine x_bs_or h21 (x_WT_23 hT) (x_wk3_g τ) (fun e he => ?_)
  rw [x_wk3_c τ e he.1 he.2.1, hT.1 21 (by decide) (by decide) (by decide) (by decide) (by decide)]
theorem x_we_b (hX : x_WX w k χ τ χ1) (hP : x_WP ρ τ r d) (hR : x_Rm y χ ρ) : t_or (χ1 24 0) (x_bs r) = x_bs (x_rt (t_it t_wk3f 80 τ) 1) := by
  rw [hX.1 24 (by decide) (by decide) (by decide) (by decide), hR.2.1.2.1]
  refine x_bs_or (x_rt01 ρ 1) hP.1 (x_rt01 _ 1) (fun e he => ?_)
  show e_bt (t_it t_wk3f 80 τ 24 e) 1 = _
  rw [x_wk3_k τ 24 (by decide)]
  have h1 := (hP.2.2 e he).1
  have h2 := e_bt01 (τ 24 e) 1
  by_cases q : e_bt (τ 24 e) 1 = 1
  · rw [q, if_pos (h1.mp q)]
  · rw [if_neg (fun z => q (h1.mpr z))]; omega
theorem x_we_c (hX : x_WX w k χ τ χ1) (hP : x_WP ρ τ r d) (hR : x_Rm y χ ρ) : t_or (χ1 25 0) (x_bs d) = x_bs (x_rt (t_it t_wk3f 80 τ) 2) := by
  rw [hX.1 25 (by decide) (by decide) (by decide) (by decide), hR.2.1.2.2]
  refine x_bs_or (x_rt01 ρ 2) hP.2.1 (x_rt01 _ 2) (fun e he => ?_)
  show e_bt (t_it t_wk3f 80 τ 24 e) 2 = _
  rw [x_wk3_k τ 24 (by decide)]
  have h1 := (hP.2.2 e he).2
  have h2 := e_bt01 (τ 24 e) 2
  by_cases q : e_bt (τ 24 e) 2 = 1
  · rw [q, if_pos (h1.mp q)]
  · rw [if_neg (fun z => q (h1.mpr z))]; omega
abbrev x_c3 (χ1 ρ1 : t_S) : t_S := s_up (s_up (s_up χ1 23 0 (x_bs (ρ1 21))) 24 0 (x_bs (x_rt ρ1 1))) 25 0 (x_bs (x_rt ρ1 2))
theorem x_c3_k (χ1 ρ1 : t_S) (j : Nat) (a : j ≠ 23) (b : j ≠ 24) (c : j ≠ 25) : x_c3 χ1 ρ1 j = χ1 j := (s_up_f c).trans ((s_up_f b).trans (s_up_f a))
theorem x_c3_23 (χ1 ρ1 : t_S) : x_c3 χ1 ρ1 23 0 = x_bs (ρ1 21) := by
  show s_up (s_up (s_up χ1 23 0 (x_bs (ρ1 21))) 24 0 (x_bs (x_rt ρ1 1))) 25 0 (x_bs (x_rt ρ1 2)) 23 0 = _
  rw [s_up_f (by decide), s_up_f (by decide), s_up_eq]
theorem x_c3_24 (χ1 ρ1 : t_S) : x_c3 χ1 ρ1 24 0 = x_bs (x_rt ρ1 1) := by
  show s_up (s_up (s_up χ1 23 0 (x_bs (ρ1 21))) 24 0 (x_bs (x_rt ρ1 1))) 25 0 (x_bs (x_rt ρ1 2)) 24 0 = _
  rw [s_up_f (by decide), s_up_eq]
theorem x_c3_25 (χ1 ρ1 : t_S) : x_c3 χ1 ρ1 25 0 = x_bs (x_rt ρ1 2) := s_up_eq _ _ _ _
theorem x_we_d (hT : x_WT w k ρ τ c) (hX : x_WX w k χ τ χ1) (hR : x_Rm y χ ρ) : x_Rh y (t_it t_wk3f 80 τ) (x_c3 χ1 (t_it t_wk3f 80 τ)) := by
  have h := hR.2.2.1
  have e : ∀ j, j ≠ 21 → j ≠ 22 → j ≠ 23 → j ≠ 24 → j ≠ 26 → j ≠ 27 → t_it t_wk3f 80 τ j = ρ j := fun j a b c d f g => (x_wk3_k τ j a).trans (hT.1 j b c d f g)
  unfold x_Rh at h ⊢
  rw [x_c3_k _ _ 14 (by decide) (by decide) (by decide), x_c3_k _ _ 15 (by decide) (by decide) (by decide), hX.1 14 (by decide) (by decide) (by decide) (by decide), hX.1 15 (by decide) (by decide) (by decide) (by decide), e 1 (by decide) (by decide) (by decide) (by decide) (by decide) (by decide), e 25 (by decide) (by decide) (by decide) (by decide) (by decide) (by decide), e 29 (by decide) (by decide) (by decide) (by decide) (by decide) (by decide)]
  exact h
theorem x_we_e {χ4 : t_S} (hw : 0 ≤ w ∧ w < 7) (hk : 0 ≤ k ∧ k ≤ 40) (h7 : ρ 1 7 ≤ 7) (hT : x_WT w k ρ τ c) (hX : x_WX w k χ τ χ1) (hR : x_Rm y χ ρ) (hS : x_Sh w y (x_c3 χ1 (t_it t_wk3f 80 τ)) (t_mh w (t_it t_wk3f 80 τ)) χ4) : x_Rm y χ4 (t_mh w (t_it t_wk3f 80 τ)) ∧ x_f9 y χ χ4 := by
  have m : ∀ j, j ≠ 25 → j ≠ 28 → j ≠ 29 → t_mh w (t_it t_wk3f 80 τ) j = t_it t_wk3f 80 τ j := fun j a b c => x_mh_k w _ _ j a b c
  have m3 : ∀ j, j ≠ 21 → j ≠ 25 → j ≠ 28 → j ≠ 29 → t_mh w (t_it t_wk3f 80 τ) j = τ j := fun j z a b c => (m j a b c).trans (x_wk3_k τ j z)
  have m0 : ∀ j, j ≠ 21 → j ≠ 22 → j ≠ 23 → j ≠ 24 → j ≠ 25 → j ≠ 26 → j ≠ 27 → j ≠ 28 → j ≠ 29 → t_mh w (t_it t_wk3f 80 τ) j = ρ j := fun j a b c d e f g h i => (m3 j a e h i).trans (hT.1 j b c d f g)
  have x4 : ∀ j, j ≠ 13 → j ≠ 14 → j ≠ 15 → χ4 j = x_c3 χ1 (t_it t_wk3f 80 τ) j := hS.1
  have x1 : ∀ j, j ≠ 13 → j ≠ 14 → j ≠ 15 → j ≠ 23 → j ≠ 24 → j ≠ 25 → χ4 j = χ1 j := fun j a b c d e f => (x4 j a b c).trans (x_c3_k _ _ j d e f)
  have x0 : ∀ j, j ≠ 10 → j ≠ 11 → j ≠ 12 → j ≠ 13 → j ≠ 14 → j ≠ 15 → j ≠ 21 → j ≠ 23 → j ≠ 24 → j ≠ 25 → χ4 j = χ j := fun j p q r a b c s d e f => (x1 j a b c d e f).trans (hX.1 j p q r s)
  have t28 := x_mh28 w (t_it t_wk3f 80 τ)
  have e27 := m3 27 (by decide) (by decide) (by decide) (by decide)
  have e26 := m3 26 (by decide) (by decide) (by decide) (by decide)
  have e21 := m 21 (by decide) (by decide) (by decide)
  have e24 := m 24 (by decide) (by decide) (by decide)
  have e1 := m0 1 (by decide) (by decide) (by decide) (by decide) (by decide) (by decide) (by decide) (by decide) (by decide)
  have c28 : ∀ v, v ≠ w → t_mh w (t_it t_wk3f 80 τ) 28 v = ρ 28 v := fun v hv => by
    rw [t28 v hv, x_wk3_k τ 28 (by decide), hT.1 28 (by decide) (by decide) (by decide) (by decide) (by decide)]
  have y10 := x1 10 (by decide) (by decide) (by decide) (by decide) (by decide) (by decide)
  have y11 := x1 11 (by decide) (by decide) (by decide) (by decide) (by decide) (by decide)
  have y12 := x1 12 (by decide) (by decide) (by decide) (by decide) (by decide) (by decide)
  have y21 := x1 21 (by decide) (by decide) (by decide) (by decide) (by decide) (by decide)
  have y23 := x4 23 (by decide) (by decide) (by decide)
  have y24 := x4 24 (by decide) (by decide) (by decide)
  have y25 := x4 25 (by decide) (by decide) (by decide)
  have h13 := hS.2.2.2.1
  have h13v := hS.2.1
  have h14 := hS.2.2.1
  have hh := hS.2.2.2.2
  have q0 : ∀ j, j = 1 ∨ (15 ≤ j ∧ j ≤ 20) → t_mh w (t_it t_wk3f 80 τ) j = ρ j := fun j hj => m0 j (by omega) (by omega) (by omega) (by omega) (by omega) (by omega) (by omega) (by omega) (by omega)
  generalize t_mh w (t_it t_wk3f 80 τ) = μ at *
  refine ⟨⟨?_, ⟨?_, ?_, ?_⟩, hh, fun v v0 v1 => ?_⟩, fun j hj => ?_, fun j hj => ?_⟩
  · exact x_Rq_cg hR.1 (fun j hj => x0 j (by omega) (by omega) (by omega) (by omega) (by omega) (by omega) (by omega) (by omega) (by omega) (by omega)) q0
  · rw [y23, e21, x_c3_23]
  · rw [y24, x_c3_24]
    show _ = x_bs (fun e => e_bt (μ 24 e) 1)
    rw [e24]
  · rw [y25, x_c3_25]
    show _ = x_bs (fun e => e_bt (μ 24 e) 2)
    rw [e24]
  · rw [e1] at v1
    by_cases q : v = w
    · have hk1 : τ 27 w = k := hT.2.2.2.1
      have hpt : ∀ j : Int, j ≤ k → t_pth μ v j = τ 26 (41 * w + j) := fun j hj => by
        show (if j ≤ μ 27 v then μ 26 (41 * v + j) else -1) = _
        rw [q, e27, hk1, if_pos hj, e26]
      refine ⟨?_, ?_, ?_, ?_, ?_, fun j j0 j1 => ?_, fun j j0 j1 => ?_⟩
      · rw [q, e27, hk1]; omega
      · rw [q, y11, e27, hk1]; exact hX.2.2.2.1
      · rw [e27, q, hk1, if_neg (by omega), y12, hX.2.2.2.2.1]
        rw [← q]
        exact x_sum_cg _ (fun i i0 i1 => by
          show (if τ 26 (41 * v + (i + 1)) = τ 26 (41 * v + i) then (1 : Int) else 0) = if t_pth μ v (i + 1) = t_pth μ v i then 1 else 0
          rw [hpt _ (by omega), hpt _ (by omega), q])
      · rw [e27, q, hk1, if_neg (by omega)]; exact h13
      · rw [y21, q, hX.2.2.2.2.2.1]
        refine x_bs_cg (fun e he => ?_)
        rw [hT.2.2.2.2.2.2.2.1 e he]
        unfold t_in
        rw [e27, hk1]
        exact x_anyg_cg _ (fun i i0 i1 => by
          show (if τ 26 (41 * w + i) = e then (1 : Int) else 0) = if t_pth μ w i = e then 1 else 0
          rw [← q, hpt _ (by omega), q])
      · rw [y10, q, hX.2.2.2.2.2.2 j j0 j1]
        show _ = x_sp (if j ≤ μ 27 w then μ 26 (41 * w + j) else -1)
        rw [e27, e26, hk1]
        by_cases p : j ≤ k
        · rw [if_pos p, if_pos p]
        · rw [if_neg p, if_neg p]; rfl
      · rw [e26, q]
        rw [q, e27, hk1] at j1
        exact hT.2.2.2.2.2.1 j j0 j1
    · obtain ⟨r1, r2, r3, r4, r5, r6, r7⟩ := hR.2.2.2 v v0 v1
      have f27 : μ 27 v = ρ 27 v := by rw [e27]; exact hT.2.2.1 v q
      have f26 : ∀ j : Int, 0 ≤ j → j ≤ 40 → μ 26 (41 * v + j) = ρ 26 (41 * v + j) := fun j j0 j1 => by rw [e26]; exact hT.2.2.2.2.1 v j q j0 j1
      have hpt : ∀ j : Int, 0 ≤ j → j ≤ 40 → t_pth μ v j = t_pth ρ v j := fun j j0 j1 => by
        show (if j ≤ μ 27 v then μ 26 (41 * v + j) else -1) = if j ≤ ρ 27 v then ρ 26 (41 * v + j) else -1
        rw [f27, f26 j j0 j1]
      refine ⟨?_, ?_, ?_, ?_, ?_, fun j j0 j1 => ?_, fun j j0 j1 => ?_⟩
      · rw [f27]; exact r1
      · rw [y11, f27, (hX.2.1 v q).1]; exact r2
      · rw [y12, f27, (hX.2.1 v q).2.1, r3]
        by_cases p : ρ 27 v = -1
        · rw [if_pos p, if_pos p]
        · rw [if_neg p, if_neg p]
          exact x_sum_cg _ (fun i i0 i1 => by
            show (if t_pth ρ v (i + 1) = t_pth ρ v i then (1 : Int) else 0) = if t_pth μ v (i + 1) = t_pth μ v i then 1 else 0
            rw [hpt _ (by omega) (by omega), hpt _ (by omega) (by omega)])
      · rw [f27, c28 v q, h13v v q, x_c3_k _ _ 13 (by decide) (by decide) (by decide), hX.1 13 (by decide) (by decide) (by decide) (by decide)]
        exact r4
      · rw [y21, (hX.2.1 v q).2.2, r5]
        refine x_bs_cg (fun e he => ?_)
        unfold t_in
        rw [f27]
        exact x_anyg_cg _ (fun i i0 i1 => by
          show (if t_pth ρ v i = e then (1 : Int) else 0) = if t_pth μ v i = e then 1 else 0
          rw [hpt _ (by omega) (by omega)])
      · rw [y10, hX.2.2.1 v j v0 (by omega) q, hpt j j0 j1]
        exact r6 j j0 j1
      · rw [f27] at j1
        rw [f26 j j0 (by omega)]
        exact r7 j j0 j1
  · obtain ⟨a, b, c9, d9, e9⟩ := hj
    exact x0 j (by omega) (by omega) (by omega) (by omega) (by omega) (by omega) b c9 d9 e9
  · rw [h14 j hj, x_c3_k _ _ 14 (by decide) (by decide) (by decide), hX.1 14 (by decide) (by decide) (by decide) (by decide)]
end WEND
