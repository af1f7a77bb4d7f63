/-! THE COMPONENT'S WALKS: year by year, pure -/
set_option maxRecDepth 100000
def x_hist (n : Int) (ρ χ : t_S) : Prop := ∀ y : Int, 0 ≤ y → y < n → χ 18 y = x_bs (fun c => ρ 30 (80 * y + c)) ∧ χ 19 y = x_bs (fun c => e_bt (ρ 31 (80 * y + c)) 1) ∧ χ 20 y = x_bs (fun c => e_bt (ρ 31 (80 * y + c)) 2) ∧ ∀ h : Int, 0 ≤ h → h < ρ 1 6 → χ 14 (6 * y + h) = x_sp (ρ 32 (6 * y + h)) ∧ x_cn (ρ 32 (6 * y + h))
def x_unw (y w : Int) (ρ : t_S) : Prop := ∀ v : Int, 0 ≤ v → v < ρ 1 7 → (y < t_wd ρ v 3 ∨ (t_wd ρ v 3 = y ∧ w ≤ v)) → ρ 27 v = -1
abbrev x_kG (j : Nat) : Prop := j < 10 ∨ 27 < j ∨ j = 16 ∨ j = 17 ∨ j = 22 ∨ j = 26 ∨ j = 27
def x_fG (χ χ1 : t_S) : Prop := ∀ j, x_kG j → χ1 j = χ j
def x_Gy (y : Int) (χ0 ρ χ : t_S) : Prop := x_Rm y χ ρ ∧ x_hist y ρ χ ∧ x_unw y 0 ρ ∧ x_fG χ0 χ
def x_Gs (y : Int) (χ0 ρ χ : t_S) : Prop := x_Rm y χ ρ ∧ x_hist (y + 1) ρ χ ∧ x_unw y 0 ρ ∧ x_fG χ0 χ
def x_Gw (y w : Int) (χ0 ρ χ : t_S) : Prop := x_Rm (y + 1) χ ρ ∧ x_hist (y + 1) ρ χ ∧ x_unw y w ρ ∧ x_fG χ0 χ
theorem x_rec_cg {ρ τ χ χ1 : t_S} {v : Int} (h : x_rec ρ χ v) (s : ∀ j, j = 26 ∨ j = 27 ∨ j = 28 → τ j = ρ j) (c : ∀ j, j = 10 ∨ j = 11 ∨ j = 12 ∨ j = 13 ∨ j = 21 → χ1 j = χ j) : x_rec τ χ1 v := by
  have p : t_pth τ v = t_pth ρ v := by
    funext j
    show (if j ≤ τ 27 v then τ 26 (41 * v + j) else -1) = if j ≤ ρ 27 v then ρ 26 (41 * v + j) else -1
    rw [s 26 (by decide), s 27 (by decide)]
  have g : t_stg τ v = t_stg ρ v := by
    funext j
    show (if t_pth τ v (j + 1) = t_pth τ v j then (1 : Int) else 0) = if t_pth ρ v (j + 1) = t_pth ρ v j then 1 else 0
    rw [p]
  have i : t_in τ v = t_in ρ v := by
    funext e
    unfold t_in
    rw [s 27 (by decide)]
    exact x_anyg_cg _ (fun k _ _ => by
      show (if t_pth τ v k = e then (1 : Int) else 0) = if t_pth ρ v k = e then 1 else 0
      rw [p])
  unfold x_rec at h ⊢
  rw [s 26 (by decide), s 27 (by decide), s 28 (by decide), c 10 (by decide), c 11 (by decide), c 12 (by decide), c 13 (by decide), c 21 (by decide), g, i]
  refine ⟨h.1, h.2.1, h.2.2.1, h.2.2.2.1, h.2.2.2.2.1, fun j a b => ?_, h.2.2.2.2.2.2⟩
  rw [show t_pth τ v j = t_pth ρ v j from congrFun p j]
  exact h.2.2.2.2.2.1 j a b
abbrev x_st (y : Int) (χ : t_S) : t_S := s_up (s_up (s_up χ 18 y (χ 23 0)) 19 y (χ 24 0)) 20 y (χ 25 0)
theorem x_st_k (y : Int) (χ : t_S) (j : Nat) (a : j ≠ 18) (b : j ≠ 19) (c : j ≠ 20) : x_st y χ j = χ j := (s_up_f c).trans ((s_up_f b).trans (s_up_f a))
theorem x_store {y : Int} {χ0 ρ χ : t_S} (hz : t_sz ρ) (h : x_Gy y χ0 ρ χ) : x_Gs y χ0 (t_kp y ρ) (x_st y χ) := by
  obtain ⟨⟨g1, g2, g3, g4⟩, h2, h3, h4⟩ := h
  have s6 := hz.2.2.2.2.1
  have k : ∀ j, j ≠ 30 → j ≠ 31 → j ≠ 32 → t_kp y ρ j = ρ j := fun j a b c => t_kp_k a b c ρ
  have k1 := k 1 (by decide) (by decide) (by decide)
  have c : ∀ j, j ≠ 18 → j ≠ 19 → j ≠ 20 → x_st y χ j = χ j := x_st_k y χ
  obtain ⟨p1, p2⟩ := x_kp_30 y ρ
  obtain ⟨p3, p4⟩ := x_kp_32 y ρ
  have e18 : x_st y χ 18 = s_up χ 18 y (χ 23 0) 18 := (s_up_f (by decide)).trans (s_up_f (by decide))
  have e19 : ∀ v, x_st y χ 19 v = s_up χ 19 y (χ 24 0) 19 v := fun v => by
    rw [show x_st y χ 19 v = s_up (s_up χ 18 y (χ 23 0)) 19 y (χ 24 0) 19 v from congrFun (s_up_f (by decide)) v]
    by_cases q : v = y
    · rw [q, s_up_eq, s_up_eq]
    · rw [s_up_j q, s_up_j q, s_up_f (by decide)]
  have e20 : ∀ v, x_st y χ 20 v = s_up χ 20 y (χ 25 0) 20 v := fun v => by
    by_cases q : v = y
    · rw [q]; show s_up _ 20 y (χ 25 0) 20 y = _; rw [s_up_eq, s_up_eq]
    · show s_up _ 20 y (χ 25 0) 20 v = _
      rw [s_up_j q, s_up_j q, s_up_f (by decide), s_up_f (by decide)]
  refine ⟨⟨x_Rq_cg g1 (fun j hj => c j (by omega) (by omega) (by omega)) (fun j hj => k j (by omega) (by omega) (by omega)), ?_, ?_, fun v v0 v1 => ?_⟩, fun z z0 z1 => ?_, fun v v0 v1 hv => ?_, fun j hj => (c j (by unfold x_kG at hj; omega) (by unfold x_kG at hj; omega) (by unfold x_kG at hj; omega)).trans (h4 j hj)⟩
  · unfold x_Rr at g2 ⊢
    rw [c 23 (by decide) (by decide) (by decide), c 24 (by decide) (by decide) (by decide), c 25 (by decide) (by decide) (by decide), k 21 (by decide) (by decide) (by decide)]
    refine ⟨g2.1, ?_, ?_⟩
    · show _ = x_bs (fun e => e_bt (t_kp y ρ 24 e) 1)
      rw [k 24 (by decide) (by decide) (by decide)]; exact g2.2.1
    · show _ = x_bs (fun e => e_bt (t_kp y ρ 24 e) 2)
      rw [k 24 (by decide) (by decide) (by decide)]; exact g2.2.2
  · unfold x_Rh at g3 ⊢
    rw [c 14 (by decide) (by decide) (by decide), c 15 (by decide) (by decide) (by decide), k1, k 25 (by decide) (by decide) (by decide), k 29 (by decide) (by decide) (by decide)]
    exact g3
  · rw [k1] at v1
    exact x_rec_cg (g4 v v0 v1) (fun j hj => k j (by omega) (by omega) (by omega)) (fun j hj => c j (by omega) (by omega) (by omega))
  · rw [e18, e19 z, e20 z, c 14 (by decide) (by decide) (by decide), k1]
    by_cases q : z = y
    · subst q
      rw [s_up_eq, s_up_eq, s_up_eq, g2.1, g2.2.1, g2.2.2]
      refine ⟨x_bs_cg (fun e he => (p1 e he.1 he.2.1).1.symm), x_bs_cg (fun e he => ?_), x_bs_cg (fun e he => ?_), fun h h0 h1 => ?_⟩
      · show e_bt (ρ 24 e) 1 = e_bt (t_kp z ρ 31 (80 * z + e)) 1
        rw [(p1 e he.1 he.2.1).2]
      · show e_bt (ρ 24 e) 2 = e_bt (t_kp z ρ 31 (80 * z + e)) 2
        rw [(p1 e he.1 he.2.1).2]
      · rw [p3 h h0 (by omega)]
        exact (g3 h h0 h1).1
    · obtain ⟨a1, a2, a3, a4⟩ := h2 z z0 (by omega)
      rw [s_up_j q, s_up_j q, s_up_j q]
      refine ⟨?_, ?_, ?_, fun h h0 h1 => ?_⟩
      · rw [a1]
        exact x_bs_cg (fun e he => (p2 (80 * z + e) (by have := he.1; have := he.2.1; omega)).1.symm)
      · rw [a2]
        refine x_bs_cg (fun e he => ?_)
        show e_bt (ρ 31 (80 * z + e)) 1 = e_bt (t_kp y ρ 31 (80 * z + e)) 1
        rw [(p2 (80 * z + e) (by have := he.1; have := he.2.1; omega)).2]
      · rw [a3]
        refine x_bs_cg (fun e he => ?_)
        show e_bt (ρ 31 (80 * z + e)) 2 = e_bt (t_kp y ρ 31 (80 * z + e)) 2
        rw [(p2 (80 * z + e) (by have := he.1; have := he.2.1; omega)).2]
      · rw [p4 (6 * z + h) (by omega)]
        exact a4 h h0 h1
  · rw [k1] at v1
    have hw : t_wd (t_kp y ρ) v 3 = t_wd ρ v 3 := by show t_kp y ρ 1 _ = ρ 1 _; rw [k1]
    rw [hw] at hv
    rw [k 27 (by decide) (by decide) (by decide)]
    exact h3 v v0 v1 hv
abbrev x_cp (y : Int) (χ : t_S) : t_S := t_it (x_cpf χ (6 * y).toNat (6 * (y + 1)).toNat) 6 χ
theorem x_copied {y : Int} {χ0 ρ χ : t_S} (hz : t_sz ρ) (hy : 0 ≤ y) (h : x_Gs y χ0 ρ χ) : x_Gw y 0 χ0 ρ (x_cp y χ) := by
  obtain ⟨⟨g1, g2, g3, g4⟩, h2, h3, h4⟩ := h
  have s6 := hz.2.2.2.2.1
  obtain ⟨a, b, c⟩ := x_cp_k χ (6 * y).toNat (6 * (y + 1)).toNat 6
  have n1 : (((6 * y).toNat : Nat) : Int) = 6 * y := Int.toNat_of_nonneg (by omega)
  have n2 : (((6 * (y + 1)).toNat : Nat) : Int) = 6 * (y + 1) := Int.toNat_of_nonneg (by omega)
  rw [n1, n2] at b
  rw [n2] at c
  show x_Gw y 0 χ0 ρ (t_it (x_cpf χ (6 * y).toNat (6 * (y + 1)).toNat) 6 χ)
  generalize t_it (x_cpf χ (6 * y).toNat (6 * (y + 1)).toNat) 6 χ = μ at a b c ⊢
  refine ⟨⟨x_Rq_cg g1 (fun j hj => a j (by omega)) (fun j _ => rfl), ?_, fun k k0 k1 => ?_, fun v v0 v1 => x_rec_cg (g4 v v0 v1) (fun _ _ => rfl) (fun j hj => a j (by omega))⟩, fun z z0 z1 => ?_, h3, fun j hj => (a j (by unfold x_kG at hj; omega)).trans (h4 j hj)⟩
  · unfold x_Rr at g2 ⊢
    rw [a 23 (by decide), a 24 (by decide), a 25 (by decide)]
    exact g2
  · rw [b k k0 (by omega), a 15 (by decide)]
    exact g3 k k0 k1
  · obtain ⟨a1, a2, a3, a4⟩ := h2 z z0 z1
    rw [a 18 (by decide), a 19 (by decide), a 20 (by decide)]
    refine ⟨a1, a2, a3, fun h h0 h1 => ?_⟩
    rw [c (6 * z + h) (by omega)]
    exact a4 h h0 h1
theorem x_Gw_n {y w : Int} {χ0 ρ χ : t_S} (h : x_Gw y w χ0 ρ χ) : x_Gw y (w + 1) χ0 ρ χ := ⟨h.1, h.2.1, fun v v0 v1 hv => h.2.2.1 v v0 v1 (hv.elim Or.inl (fun q => Or.inr ⟨q.1, by omega⟩)), h.2.2.2⟩
theorem x_Gw_w {y w : Int} {χ0 ρ χ χ1 : t_S} (hz : t_sz ρ) (hw : 0 ≤ w ∧ w < ρ 1 7) (hy : t_wd ρ w 3 = y) (h : x_Gw y w χ0 ρ χ) (h1 : x_Rm (y + 1) χ1 (t_wk w ρ)) (hf : x_f9 (y + 1) χ χ1) : x_Gw y (w + 1) χ0 (t_wk w ρ) χ1 := by
  have s6 := hz.2.2.2.2.1
  have k : ∀ j, j < 21 ∨ 29 < j → t_wk w ρ j = ρ j := fun j hj => x_wk_k hj
  refine ⟨h1, fun z z0 z1 => ?_, fun v v0 v1 hv => ?_, fun j hj => (hf.1 j (by unfold x_kG at hj; unfold x_k9; omega)).trans (h.2.2.2 j hj)⟩
  · obtain ⟨a1, a2, a3, a4⟩ := h.2.1 z z0 z1
    rw [hf.1 18 (by decide), hf.1 19 (by decide), hf.1 20 (by decide), k 30 (by decide), k 31 (by decide), k 32 (by decide), k 1 (by decide)]
    refine ⟨a1, a2, a3, fun i i0 i1 => ?_⟩
    rw [hf.2 (6 * z + i) (by omega)]
    exact a4 i i0 i1
  · rw [k 1 (by decide)] at v1
    have e3 : t_wd (t_wk w ρ) v 3 = t_wd ρ v 3 := by show t_wk w ρ 1 _ = ρ 1 _; rw [k 1 (by decide)]
    rw [e3] at hv
    have hne : v ≠ w := fun q => by
      rw [q, hy] at hv
      omega
    rw [x_wk_27 hne]
    exact h.2.2.1 v v0 v1 (hv.elim Or.inl (fun q => Or.inr ⟨q.1, by omega⟩))
theorem x_Gw_y {y : Int} {χ0 ρ χ : t_S} (h : x_Gw y (ρ 1 7) χ0 ρ χ) : x_Gy (y + 1) χ0 ρ χ := ⟨h.1, h.2.1, fun v v0 v1 hv => h.2.2.1 v v0 v1 (Or.inl (by omega)), h.2.2.2⟩
/-- the beginning -/
def x_In (n : Int) (χ0 σ χ : t_S) : Prop := (χ 23 0 = 0 ∧ χ 24 0 = 0 ∧ χ 25 0 = 0) ∧ (∀ v : Int, 0 ≤ v → v < 7 → χ 11 v = -1 ∧ χ 12 v = -1 ∧ χ 13 v = -1 ∧ χ 21 v = 0) ∧ (∀ j : Int, 0 ≤ j → j < 287 → χ 10 j = -1) ∧ (∀ j : Int, 0 ≤ j → j < 6 → χ 15 j = 0) ∧ (∀ k : Int, 0 ≤ k → k < n → χ 14 k = x_sp (σ 1 (22 + k))) ∧ x_fG χ0 χ
theorem x_In_s {n : Int} {χ0 σ χ : t_S} (h : x_In n χ0 σ χ) : x_In (n + 1) χ0 σ (s_up χ 14 n (x_sp (σ 1 (22 + n)))) := by
  obtain ⟨⟨a1, a2, a3⟩, b, c, d, e, f⟩ := h
  refine ⟨⟨?_, ?_, ?_⟩, fun v v0 v1 => ?_, fun j j0 j1 => ?_, fun j j0 j1 => ?_, fun k k0 k1 => ?_, fun j hj => (s_up_f (by unfold x_kG at hj; omega)).trans (f j hj)⟩
  · rw [s_up_f (by decide)]; exact a1
  · rw [s_up_f (by decide)]; exact a2
  · rw [s_up_f (by decide)]; exact a3
  · rw [s_up_f (by decide), s_up_f (by decide), s_up_f (by decide), s_up_f (by decide)]; exact b v v0 v1
  · rw [s_up_f (by decide)]; exact c j j0 j1
  · rw [s_up_f (by decide)]; exact d j j0 j1
  · by_cases q : k = n
    · rw [q, s_up_eq]
    · rw [s_up_j q]; exact e k k0 (by omega)
theorem x_Gy0 {σ χ0 χ : t_S} (hz : t_sz σ) (hr : t_okR (σ 1)) (hq : x_Rq χ0 σ) (h : x_In (σ 1 6) χ0 σ χ) : x_Gy 0 χ0 (t_ga0 σ) χ := by
  obtain ⟨⟨a1, a2, a3⟩, b, c, d, e, f⟩ := h
  obtain ⟨g1, g2, g3, g4⟩ := x_ga0 σ
  have s6 := hz.2.2.2.2.1
  have s7 := hz.2.2.2.2.2.1
  have k1 := g1 1 (by decide) (by decide) (by decide) (by decide) (by decide)
  have n24 : ∀ b : Int, ∀ e, x_c8 e → x_rt (t_ga0 σ) b e = 0 := fun b e he => by
    show e_bt (t_ga0 σ 24 e) b = 0
    rw [(g2 e he.1 he.2.1).2, b_0]
  refine ⟨⟨x_Rq_cg hq (fun j hj => f j (by unfold x_kG; omega)) (fun j hj => g1 j (by omega) (by omega) (by omega) (by omega) (by omega)), ⟨?_, ?_, ?_⟩, fun k k0 k1' => ?_, fun v v0 v1 => ?_⟩, fun y y0 y1 => by omega, fun v v0 v1 _ => g4 v v0 (by rw [k1] at v1; omega), f⟩
  · rw [a1]; exact x_bs_0 (fun e he => (g2 e he.1 he.2.1).1)
  · rw [a2]; exact x_bs_0 (n24 1)
  · rw [a3]; exact x_bs_0 (n24 2)
  · rw [k1] at k1'
    rw [show 6 * (0 : Int) + k = k by omega, (g3 k k0 (by omega)).1, (g3 k k0 (by omega)).2]
    exact ⟨⟨e k k0 k1', Or.inr (x_okc hz (hr.2.1 k k0 k1'))⟩, d k k0 (by omega)⟩
  · rw [k1] at v1
    have h27 := g4 v v0 (by omega)
    obtain ⟨b1, b2, b3, b4⟩ := b v v0 (by omega)
    have p : ∀ j : Int, 0 ≤ j → t_pth (t_ga0 σ) v j = -1 := fun j j0 => by
      show (if j ≤ t_ga0 σ 27 v then _ else (-1 : Int)) = -1
      rw [h27, if_neg (by omega)]
    refine ⟨by rw [h27]; decide, by rw [b1, h27], by rw [b2, h27]; rfl, by rw [b3, h27]; rfl, ?_, fun j j0 j1 => ?_, fun j j0 j1 => by rw [h27] at j1; omega⟩
    · rw [b4]
      refine x_bs_0 (fun e he => ?_)
      unfold t_in
      rw [h27]
      rfl
    · rw [c (7 * j + v) (by omega) (by omega), p j j0]
      rfl
