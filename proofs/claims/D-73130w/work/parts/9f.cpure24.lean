/-! WALKS TOLD OTHERWISE, pure -/
set_option maxRecDepth 100000
/-- as it is, but for one thing -/
def x_ls (σ : t_S) (k : Nat) (τ : t_S) : Prop := ∀ j, (j = 1 ∨ (15 ≤ j ∧ j ≤ 20)) → j ≠ k → τ j = t_is σ j
theorem x_ls_1 {σ τ : t_S} {k : Nat} (hk : k ≠ 1) (h : x_ls σ k τ) : τ 1 = σ 1 := (h 1 (Or.inl rfl) (fun q => hk q.symm)).trans (x_is_1 σ)
theorem x_ls_ask {σ τ : t_S} {k : Nat} (hk : k ≠ 1) (h : x_ls σ k τ) (ha : t_ask τ) (hC : t_isC σ ∨ σ 1 7 = 0) : t_isC τ ∨ τ 1 7 = 0 := by
  unfold t_isC at hC ⊢
  rw [x_ls_1 hk h]
  exact hC
theorem x_Rq_27 {σ χ1 τ : t_S} {s : Int} (h : x_Rq χ1 (t_is σ)) (e : x_ls σ 18 τ) (hs : x_sty (σ 1 7) s (τ 18 0)) : x_Rq (s_up χ1 27 0 s) τ := by
  unfold x_Rq at h ⊢
  rw [s_up_f (k := 27) (k1 := 22) (by decide), s_up_f (k := 27) (k1 := 26) (by decide), s_up_f (k := 27) (k1 := 16) (by decide), s_up_f (k := 27) (k1 := 17) (by decide), s_up_eq, e 1 (by omega) (by decide), e 15 (by omega) (by decide), e 16 (by omega) (by decide), e 17 (by omega) (by decide), e 19 (by omega) (by decide), e 20 (by omega) (by decide)]
  refine ⟨h.1, h.2.1, ?_, h.2.2.2⟩
  rw [x_is_1]
  exact hs
theorem x_Rq_26 {σ χ1 τ : t_S} {l : Int} (h : x_Rq χ1 (t_is σ)) (e : x_ls σ 17 τ) (hl : l = τ 17 0) : x_Rq (s_up χ1 26 0 l) τ := by
  unfold x_Rq at h ⊢
  rw [s_up_f (k := 26) (k1 := 22) (by decide), s_up_f (k := 26) (k1 := 27) (by decide), s_up_f (k := 26) (k1 := 16) (by decide), s_up_f (k := 26) (k1 := 17) (by decide), s_up_eq, e 1 (by omega) (by decide), e 15 (by omega) (by decide), e 16 (by omega) (by decide), e 18 (by omega) (by decide), e 19 (by omega) (by decide), e 20 (by omega) (by decide)]
  exact ⟨h.1, hl, h.2.2⟩
theorem x_Rq_22 {σ χ1 τ : t_S} {b : Int} (h : x_Rq χ1 (t_is σ)) (e : x_ls σ 15 τ) (hb : b = x_bs (τ 15)) : x_Rq (s_up χ1 22 0 b) τ := by
  unfold x_Rq at h ⊢
  rw [s_up_f (k := 22) (k1 := 26) (by decide), s_up_f (k := 22) (k1 := 27) (by decide), s_up_f (k := 22) (k1 := 16) (by decide), s_up_f (k := 22) (k1 := 17) (by decide), s_up_eq, e 1 (by omega) (by decide), e 16 (by omega) (by decide), e 17 (by omega) (by decide), e 18 (by omega) (by decide), e 19 (by omega) (by decide), e 20 (by omega) (by decide)]
  exact ⟨hb, h.2⟩
theorem x_Rq_16 {σ χ1 τ : t_S} {w d : Int} (h : x_Rq χ1 (t_is σ)) (e : x_ls σ 16 τ) (hd : ∀ v : Int, 0 ≤ v → v < σ 1 7 → τ 16 v = if v = w then d else t_is σ 16 v) : x_Rq (s_up χ1 16 w d) τ := by
  unfold x_Rq at h ⊢
  rw [s_up_f (k := 16) (k1 := 22) (by decide), s_up_f (k := 16) (k1 := 26) (by decide), s_up_f (k := 16) (k1 := 27) (by decide), s_up_f (k := 16) (k1 := 17) (by decide), e 1 (by omega) (by decide), e 15 (by omega) (by decide), e 17 (by omega) (by decide), e 18 (by omega) (by decide), e 19 (by omega) (by decide), e 20 (by omega) (by decide)]
  refine ⟨h.1, h.2.1, h.2.2.1, fun v v0 v1 => ?_, h.2.2.2.2⟩
  have v2 : v < σ 1 7 := by rw [x_is_1] at v1; exact v1
  rw [hd v v0 v2]
  by_cases q : v = w
  · rw [if_pos q, q, s_up_eq]
  · rw [if_neg q, s_up_j q]
    exact h.2.2.2.1 v v0 v1
theorem x_Rq_17 {σ χ1 τ : t_S} {w t : Int} (h : x_Rq χ1 (t_is σ)) (e : ∀ j, (j = 1 ∨ (15 ≤ j ∧ j ≤ 18)) → τ j = t_is σ j) (h19 : τ 19 0 = w) (h20 : τ 20 0 = t) : x_Rq (s_up χ1 17 w t) τ := by
  have e19 := (x_is_17 σ).2
  unfold x_Rq at h ⊢
  rw [s_up_f (k := 17) (k1 := 22) (by decide), s_up_f (k := 17) (k1 := 26) (by decide), s_up_f (k := 17) (k1 := 27) (by decide), s_up_f (k := 17) (k1 := 16) (by decide), e 1 (by omega), e 15 (by omega), e 16 (by omega), e 17 (by omega), e 18 (by omega), h19, h20]
  refine ⟨h.1, h.2.1, h.2.2.1, h.2.2.2.1, fun v v0 v1 => ?_⟩
  by_cases q : v = w
  · rw [if_pos q, q, s_up_eq]
  · rw [if_neg q, s_up_j q, h.2.2.2.2 v v0 v1, e19, if_neg (by omega)]
/-- who stays in, besides -/
theorem x_sty_wk {σ : t_S} (hz : t_sz σ) (hr : t_okR (σ 1)) {χ1 : t_S} (h : x_Rq χ1 (t_is σ)) : x_sty (σ 1 7) (χ1 27 0) (t_is σ 18 0) ∧ (0 ≤ t_is σ 18 0 ∧ t_is σ 18 0 < 2 ^ 7) := by
  have h2 := h.2.2.1
  rw [x_is_1] at h2
  exact ⟨h2, (t_is_ask hz hr).2.2.2.2.2.1⟩
theorem x_sty_andn {n s w m : Int} (h : x_sty n s w) (hw : 0 ≤ w ∧ w < 2 ^ 7) (hm : 0 ≤ m ∧ m < 2 ^ 7) : x_sty n (t_or s m) (t_andn w m) := by
  refine ⟨t_or_rg 7 h.1 hm, fun k k0 k1 => ?_⟩
  rw [b_or h.1.1 hm.1 k0, b_andn hw.1 hm.1 k0, h.2 k k0 k1]
  have b1 := e_bt01 w k
  have b2 := e_bt01 m k
  (repeat' split) <;> omega
theorem x_sty_and {n s w m : Int} (hn : 0 ≤ n ∧ n ≤ 7) (h : x_sty n s w) (hw : 0 ≤ w ∧ w < 2 ^ 7) (hm : 0 ≤ m ∧ m < 2 ^ 7) : x_sty n (t_or s (t_andn (2 ^ n.toNat - 1) m)) (t_and w m) := by
  have hev := b_ev_rg hn
  have hr := t_andn_rg 7 (a := 2 ^ n.toNat - 1) (b := m) hev
  refine ⟨t_or_rg 7 h.1 hr, fun k k0 k1 => ?_⟩
  rw [b_or h.1.1 hr.1 k0, b_and hw.1 hm.1 k0, b_andn hev.1 hm.1 k0, b_ev hn ⟨k0, k1⟩, h.2 k k0 k1]
  have b1 := e_bt01 w k
  have b2 := e_bt01 m k
  (repeat' split) <;> omega
theorem x_sty_set {n s w m : Int} (hn : 0 ≤ n ∧ n ≤ 7) (h : x_sty n s w) (hw : 0 ≤ w ∧ w < 2 ^ 7) (hm : 0 ≤ m ∧ m < 2 ^ 7) : x_sty n (t_or s m) (t_and w (t_andn (2 ^ n.toNat - 1) m)) := by
  have hev := b_ev_rg hn
  have hr := t_andn_rg 7 (a := 2 ^ n.toNat - 1) (b := m) hev
  refine ⟨t_or_rg 7 h.1 hm, fun k k0 k1 => ?_⟩
  rw [b_or h.1.1 hm.1 k0, b_and hw.1 hr.1 k0, b_andn hev.1 hm.1 k0, b_ev hn ⟨k0, k1⟩, h.2 k k0 k1]
  have b1 := e_bt01 w k
  have b2 := e_bt01 m k
  (repeat' split) <;> omega
/-- gone -/
theorem x_gone {τ χ2 χ3 : t_S} (ha : t_ask τ) (G : x_Gs (τ 1 0) χ2 (t_ga τ) χ3) : x_An (t_ga τ) χ3 ∧ z_F (t_ga τ) ∧ t_sz (t_ga τ) ∧ t_ga τ 1 = τ 1 := by
  have e := z_h ha
  have F := z_ga_F ha
  refine ⟨?_, F, F.1.1, e.2⟩
  unfold x_An
  rw [e.2]
  exact ⟨G.1, G.2.1⟩
theorem x_gone_k {χ χ1 χ2 χ3 ρ : t_S} {y : Int} (hk : ∀ k, x_kq k → χ1 k = χ k) (h2 : ∀ j, (j < 10 ∨ 27 < j) → χ2 j = χ1 j) (G : x_Gs y χ2 ρ χ3) : ∀ j, (j < 10 ∨ 27 < j) → χ3 j = χ j := fun j hj => (G.2.2.2 j (by unfold x_kG; omega)).trans ((h2 j hj).trans (hk j (by unfold x_kq; omega)))
def x_PK (τ χ : t_S) (h0 : e_A) : e_R → e_A → Prop := fun r h => r = .inl (some (.ref 366)) ∧ ∃ χ1 h1, x_An (t_ga τ) χ1 ∧ (∀ j, (j < 10 ∨ 27 < j) → χ1 j = χ j) ∧ e_ext h0 h1 ∧ h = x_H χ1 h1
theorem x_af_ls {σ : t_S} (hz : t_sz σ) (hr : t_okR (σ 1)) {k : Nat} {j0 z : Int} (hk : k ≠ 1) : x_ls σ k (s_up (t_af σ) k j0 z) := fun j hj hne => by
  rw [s_up_f hne]
  exact t_ga_k (t_is_ask hz hr) (by omega)
theorem x_at_2 {σ χ χ1 τ : t_S} {h0 h1 : e_A} {α : Nat → Nat} {k : Nat} (A : x_at χ h0 (σ 1) α) (hk : k ≠ 1) (e : x_ls σ k τ) (h : χ1 1 = χ 1) (he : e_ext h0 h1) : x_at χ1 h1 (τ 1) α := by
  rw [x_ls_1 hk e]
  exact x_at_up (congrFun h 0) (x_at_ext he A)
/-- factorials, divisors, powers -/
theorem t_fac_s {n : Int} (h : 2 ≤ n) : n * t_fac (n - 1) = t_fac n := by
  unfold t_fac
  have e : (n - 1).toNat = (n - 1 - 1).toNat + 1 := by omega
  rw [e]
  show n * t_it t_facf (n - 1 - 1).toNat 1 = t_facf (((n - 1 - 1).toNat : Nat) : Int) (t_it t_facf (n - 1 - 1).toNat 1)
  unfold t_facf
  rw [Int.mul_comm, show (((n - 1 - 1).toNat : Nat) : Int) + 2 = n by omega]
theorem t_fac_1 {n : Int} (h : n < 2) : t_fac n = 1 := by
  unfold t_fac
  rw [show (n - 1).toNat = 0 by omega]
  rfl
