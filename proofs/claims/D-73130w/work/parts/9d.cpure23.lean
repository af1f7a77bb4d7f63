/-! COVERS, pure -/
set_option maxRecDepth 100000
theorem x_anyg_e {g : Int → Int} : ∀ n : Nat, t_anyg g n = 1 → ∃ i : Int, 0 ≤ i ∧ i < n ∧ g i = 1
  | 0, h => by exact absurd (show (0 : Int) = 1 from h) (by decide)
  | n + 1, h => by
    have h' : (if t_anyg g n = 1 then 1 else g (n : Int)) = 1 := h
    by_cases q : t_anyg g n = 1
    · obtain ⟨i, i0, i1, hi⟩ := x_anyg_e n q
      exact ⟨i, i0, by omega, hi⟩
    · rw [if_neg q] at h'
      exact ⟨n, by omega, by omega, h'⟩
theorem x_in_e {ρ : t_S} {w c : Int} : t_in ρ w c = 1 ↔ ∃ k : Int, 0 ≤ k ∧ k ≤ ρ 27 w ∧ ρ 26 (41 * w + k) = c := by
  unfold t_in
  constructor
  · intro h
    obtain ⟨k, k0, k1, hk⟩ := x_anyg_e _ h
    refine ⟨k, k0, by omega, ?_⟩
    have hk' : (if t_pth ρ w k = c then (1 : Int) else 0) = 1 := hk
    have e : t_pth ρ w k = ρ 26 (41 * w + k) := if_pos (by omega)
    by_cases q : t_pth ρ w k = c
    · rw [← e]; exact q
    · rw [if_neg q] at hk'; exact absurd hk' (by decide)
  · rintro ⟨k, k0, k1, hk⟩
    have e : t_pth ρ w k = ρ 26 (41 * w + k) := if_pos k1
    exact x_anyg_1 (g := t_ing ρ w c) k0 (show (if t_pth ρ w k = c then (1 : Int) else 0) = 1 by rw [e, if_pos hk]) _ (by omega)
/-- road at last is what was walked -/
theorem x_last {ρ : t_S} (F : z_F ρ) {c : Int} (hc : 0 ≤ c ∧ c < 80) : t_rdo ρ c (ρ 1 0) = 1 ↔ ∃ w : Int, 0 ≤ w ∧ w < ρ 1 7 ∧ t_in ρ w c = 1 := by
  show ρ 30 (80 * ρ 1 0 + c) = 1 ↔ _
  rw [F.2.2.2.2 c hc.1 hc.2, F.2.2.1 c hc.1 hc.2]
  constructor
  · rintro ⟨v, j, v0, v1, j0, j1, hj⟩
    exact ⟨v, v0, v1, x_in_e.mpr ⟨j, j0, j1, hj⟩⟩
  · rintro ⟨v, v0, v1, h⟩
    obtain ⟨j, j0, j1, hj⟩ := x_in_e.mp h
    exact ⟨v, j, v0, v1, j0, j1, hj⟩
def x_ung (ρ : t_S) (set c : Int) : Int → Int := fun w => if e_bt set w = 1 ∧ t_in ρ w c = 1 then 1 else 0
def x_un (ρ : t_S) (set k : Int) : Int → Int := fun c => t_anyg (x_ung ρ set c) k.toNat
theorem x_un01 (ρ : t_S) (set k c : Int) : x_un ρ set k c = 0 ∨ x_un ρ set k c = 1 := t_anyg01 (fun i => by unfold x_ung; split <;> simp) _
theorem x_ung01 (ρ : t_S) (set k : Int) : x_g01 (x_un ρ set k) := fun c _ => x_un01 ρ set k c
theorem x_un_0 (ρ : t_S) (set : Int) : (0 : Int) = x_bs (x_un ρ set 0) := x_bs_0 (fun _ _ => rfl)
theorem x_un_s1 {ρ : t_S} {set w : Int} (hw : 0 ≤ w) (h : e_bt set w = 1) : t_or (x_bs (x_un ρ set w)) (x_bs (t_in ρ w)) = x_bs (x_un ρ set (w + 1)) :=
  x_bs_or (x_ung01 ρ set w) (x_ing ρ w) (x_ung01 ρ set (w + 1)) (fun c _ => by
    show t_anyg (x_ung ρ set c) (w + 1).toNat = _
    rw [t_anyg_s _ hw]
    have e : x_ung ρ set c w = if t_in ρ w c = 1 then 1 else 0 := by
      unfold x_ung
      by_cases q : t_in ρ w c = 1
      · rw [if_pos ⟨h, q⟩, if_pos q]
      · rw [if_neg (fun z => q z.2), if_neg q]
    rw [e]
    show (if x_un ρ set w c = 1 then 1 else if t_in ρ w c = 1 then 1 else 0) = _
    by_cases p : x_un ρ set w c = 1
    · rw [if_pos p, if_pos (Or.inl p)]
    · by_cases q : t_in ρ w c = 1
      · rw [if_neg p, if_pos q, if_pos (Or.inr q)]
      · rw [if_neg p, if_neg q, if_neg (fun z => z.elim p q)])
theorem x_un_s0 {ρ : t_S} {set w : Int} (hw : 0 ≤ w) (h : ¬ e_bt set w = 1) : t_or (x_bs (x_un ρ set w)) 0 = x_bs (x_un ρ set (w + 1)) := by
  have e1 : t_or (x_bs (x_un ρ set w)) 0 = x_bs (x_un ρ set w) := by
    have := (x_bs_rg (x_un ρ set w)).1
    unfold t_or
    rw [show (0 : Int).toNat = 0 from rfl, Nat.or_zero]
    omega
  rw [e1]
  refine x_bs_cg (fun c _ => ?_)
  show t_anyg (x_ung ρ set c) w.toNat = t_anyg (x_ung ρ set c) (w + 1).toNat
  rw [x_an0 hw (x_un01 ρ set w c) (by unfold x_ung; rw [if_neg (fun z => h z.1)])]
theorem x_un_e {ρ : t_S} {set n c : Int} (hn : 0 ≤ n) : x_un ρ set n c = 1 ↔ ∃ w : Int, 0 ≤ w ∧ w < n ∧ e_bt set w = 1 ∧ t_in ρ w c = 1 := by
  constructor
  · intro h
    obtain ⟨w, w0, w1, hw⟩ := x_anyg_e _ h
    unfold x_ung at hw
    by_cases q : e_bt set w = 1 ∧ t_in ρ w c = 1
    · exact ⟨w, w0, by omega, q⟩
    · rw [if_neg q] at hw; exact absurd hw (by decide)
  · rintro ⟨w, w0, w1, hw⟩
    exact x_anyg_1 (g := x_ung ρ set c) w0 (by unfold x_ung; rw [if_pos hw]) _ (by omega)
theorem b_ev {n : Int} (hn : 0 ≤ n ∧ n ≤ 7) {w : Int} (hw : 0 ≤ w ∧ w < n) : e_bt (2 ^ n.toNat - 1) w = 1 := by
  have hm : (2 : Int) ^ n.toNat - 1 = t_msk (fun _ => 1) n.toNat := by
    have key : ∀ k : Nat, t_msk (fun _ => 1) k = 2 ^ k - 1 := by
      intro k
      induction k with
      | zero => rfl
      | succ k ih =>
        show t_msk (fun _ => 1) k + (if (1 : Int) = 1 then 2 ^ k else 0) = _
        rw [ih, if_pos rfl, Int.pow_succ]
        omega
    exact (key _).symm
  rw [hm, b_msk (fun _ _ => Or.inr rfl) _ hw.1, if_pos (by omega)]
theorem b_ev_rg {n : Int} (hn : 0 ≤ n ∧ n ≤ 7) : 0 ≤ (2 : Int) ^ n.toNat - 1 ∧ (2 : Int) ^ n.toNat - 1 < 2 ^ 7 := by
  have := Nat.pow_le_pow_right (n := 2) (by decide) (show n.toNat ≤ 7 by omega)
  have h1 := Nat.two_pow_pos n.toNat
  have e2 : ((2 ^ n.toNat : Nat) : Int) = 2 ^ n.toNat := by simp
  omega
theorem b_ev_sz {n set : Int} (hn : 0 ≤ n ∧ n ≤ 7) (hs : 0 ≤ set ∧ set < 2 ^ n.toNat - 1) : e_bsum set 16 < e_bsum (2 ^ n.toNat - 1) 16 := by
  have hb := b_ev_rg hn
  have h := of_decide_eq_true (List.all_eq_true.mp (show (List.range 8).all (fun m => decide ((List.range 128).all (fun s => decide ((s : Int) < 2 ^ m - 1 → e_bsum (s : Int) 16 < e_bsum (2 ^ m - 1) 16)) = true)) = true from by decide +kernel) n.toNat (List.mem_range.mpr (by omega)))
  have h2 := of_decide_eq_true (List.all_eq_true.mp h set.toNat (List.mem_range.mpr (by omega)))
  rw [Int.toNat_of_nonneg hs.1] at h2
  exact h2 hs.2
theorem b_and_nz {a b : Int} (ha : 0 ≤ a ∧ a < 2 ^ 7) (hb : 0 ≤ b ∧ b < 2 ^ 7) : t_and a b ≠ 0 ↔ ∃ k : Int, 0 ≤ k ∧ k < 7 ∧ e_bt a k = 1 ∧ e_bt b k = 1 := by
  constructor
  · intro h
    by_cases q : ∃ k : Int, 0 ≤ k ∧ k < 7 ∧ e_bt a k = 1 ∧ e_bt b k = 1
    · exact q
    · exfalso
      apply h
      have hr := t_and_rg (a := a) (b := b) ha.1
      refine b_ext hr.1 (Int.le_refl 0) 7 (by omega) (by decide) (fun k k0 k1 => ?_)
      rw [b_and ha.1 hb.1 k0, b_0, if_neg (fun z => q ⟨k, k0, by omega, z⟩)]
  · rintro ⟨k, k0, k1, h1, h2⟩ h
    have := b_and ha.1 hb.1 k0
    rw [h, b_0, if_pos ⟨h1, h2⟩] at this
    exact absurd this (by decide)
theorem x_cov_iff {ρ : t_S} (F : z_F ρ) {set : Int} (hs : 0 ≤ set ∧ set < 2 ^ 7) : (∀ c : Int, 0 ≤ c → c < 80 → t_cvg ρ set c = 1) ↔ x_bs (x_un ρ set (ρ 1 7)) = x_bs (x_un ρ (2 ^ (ρ 1 7).toNat - 1) (ρ 1 7)) := by
  have hz := F.1.1
  have s7 := hz.2.2.2.2.2.1
  have hwd : ∀ c k : Int, 0 ≤ k → k < 7 → (e_bt (t_wdo ρ c) k = 1 ↔ k < ρ 1 7 ∧ t_in ρ k c = 1) := fun c k k0 k1 => by
    unfold t_wdo
    rw [b_msk (g := t_wdg ρ c) (fun i _ => t_in01 ρ i c _) _ k0]
    by_cases q : k < ((ρ 1 7).toNat : Int)
    · rw [if_pos q]
      exact ⟨fun h => ⟨by omega, h⟩, fun h => h.2⟩
    · rw [if_neg q]
      exact ⟨fun h => absurd h (by decide), fun h => by omega⟩
  constructor
  · intro h
    refine x_bs_cg (fun c c8 => ?_)
    have a1 := x_un01 ρ set (ρ 1 7) c
    have a2 := x_un01 ρ (2 ^ (ρ 1 7).toNat - 1) (ρ 1 7) c
    have i1 : x_un ρ set (ρ 1 7) c = 1 → x_un ρ (2 ^ (ρ 1 7).toNat - 1) (ρ 1 7) c = 1 := fun q => by
      obtain ⟨w, w0, w1, -, hw⟩ := (x_un_e s7.1).mp q
      exact (x_un_e s7.1).mpr ⟨w, w0, w1, b_ev s7 ⟨w0, w1⟩, hw⟩
    have i2 : x_un ρ (2 ^ (ρ 1 7).toNat - 1) (ρ 1 7) c = 1 → x_un ρ set (ρ 1 7) c = 1 := fun q => by
      obtain ⟨w, w0, w1, -, hw⟩ := (x_un_e s7.1).mp q
      have hr := (x_last F ⟨c8.1, c8.2.1⟩).mpr ⟨w, w0, w1, hw⟩
      have hc := h c c8.1 c8.2.1
      unfold t_cvg at hc
      by_cases z : t_rdo ρ c (ρ 1 0) = 0 ∨ t_and (t_wdo ρ c) set ≠ 0
      · have z2 : t_and (t_wdo ρ c) set ≠ 0 := z.elim (fun u => by omega) id
        obtain ⟨k, k0, k1, h1, h2⟩ := (b_and_nz (t_wdo_rg hz c) hs).mp z2
        obtain ⟨k2, k3⟩ := (hwd c k k0 k1).mp h1
        exact (x_un_e s7.1).mpr ⟨k, k0, k2, h2, k3⟩
      · rw [if_neg z] at hc; exact absurd hc (by decide)
    rcases a1 with u | u <;> rcases a2 with v | v
    · rw [u, v]
    · exact absurd (i2 v) (by omega)
    · exact absurd (i1 u) (by omega)
    · rw [u, v]
  · intro h c c0 c1
    unfold t_cvg
    by_cases q : t_rdo ρ c (ρ 1 0) = 0
    · rw [if_pos (Or.inl q)]
    · have r01 : t_rdo ρ c (ρ 1 0) = 0 ∨ t_rdo ρ c (ρ 1 0) = 1 := (F.2.2.2.1.1 (ρ 1 0) c hz.1.1 (by omega) c0 c1).1
      have c8 : x_c8 c := by
        by_cases z : x_c8 c
        · exact z
        · exact absurd (x_rd0 F ⟨hz.1.1, Int.le_refl _⟩ c c0 c1 z) q
      obtain ⟨w, w0, w1, hw⟩ := (x_last F ⟨c0, c1⟩).mp (r01.elim (fun z => absurd z q) id)
      have hev : x_un ρ (2 ^ (ρ 1 7).toNat - 1) (ρ 1 7) c = 1 := (x_un_e s7.1).mpr ⟨w, w0, w1, b_ev s7 ⟨w0, w1⟩, hw⟩
      have b1 := (x_cn_bt (x_ung01 ρ set (ρ 1 7)) (Or.inr c8) (by omega)).1
      have b2 := (x_cn_bt (x_ung01 ρ (2 ^ (ρ 1 7).toNat - 1) (ρ 1 7)) (Or.inr c8) (by omega)).1
      rw [h, b2, hev] at b1
      obtain ⟨k, k0, k1, h1, h2⟩ := (x_un_e s7.1).mp b1.symm
      rw [if_pos (Or.inr ((b_and_nz (t_wdo_rg hz c) hs).mpr ⟨k, k0, by omega, (hwd c k k0 (by omega)).mpr ⟨k1, h2⟩, h1⟩))]
theorem x_alg {b : Int} {g : Int → Int} (hg : ∀ i, g i = 0 ∨ g i = 1) : ∀ n : Nat, t_alg b g n ≠ 0 ↔ b ≠ 0 ∧ ∀ i : Int, 0 ≤ i → i < n → g i = 1
  | 0 => ⟨fun h => ⟨h, fun i a b => by omega⟩, fun h => h.1⟩
  | n + 1 => by
    have ih := x_alg (b := b) hg n
    show (if t_alg b g n = 0 then 0 else g (n : Int)) ≠ 0 ↔ _
    by_cases q : t_alg b g n = 0
    · rw [if_pos q]
      refine ⟨fun h => absurd rfl h, fun h => ?_⟩
      exact absurd q (ih.mpr ⟨h.1, fun i a d => h.2 i a (by omega)⟩)
    · rw [if_neg q]
      obtain ⟨i1, i2⟩ := ih.mp q
      constructor
      · intro h
        refine ⟨i1, fun i a d => ?_⟩
        by_cases z : i = n
        · rw [z]; exact (hg n).elim (fun w => absurd w h) id
        · exact i2 i a (by omega)
      · intro h
        rw [h.2 n (by omega) (by omega)]
        decide
/-- a set tried -/
theorem x_cv {ρ : t_S} (F : z_F ρ) {set t : Int} (hs : 0 ≤ set ∧ set < 2 ^ 7) : t_cvf ρ set t = if (t = -1 ∨ e_bsum set 16 < e_bsum t 16) ∧ x_bs (x_un ρ set (ρ 1 7)) = x_bs (x_un ρ (2 ^ (ρ 1 7).toNat - 1) (ρ 1 7)) then set else t := by
  have h := x_alg (b := t_cvb t set) (t_cvg01 ρ set) 80
  have hc := x_cov_iff F hs
  unfold t_cvf
  by_cases q : (t = -1 ∨ e_bsum set 16 < e_bsum t 16) ∧ x_bs (x_un ρ set (ρ 1 7)) = x_bs (x_un ρ (2 ^ (ρ 1 7).toNat - 1) (ρ 1 7))
  · rw [if_pos q, if_neg (h.mpr ⟨by unfold t_cvb; rw [if_pos q.1]; decide, fun i i0 i1 => hc.mpr q.2 i i0 (by omega)⟩)]
  · rw [if_neg q, if_pos]
    by_cases z : t_alg (t_cvb t set) (t_cvg ρ set) 80 = 0
    · exact z
    · exfalso
      obtain ⟨u, v⟩ := h.mp z
      apply q
      refine ⟨?_, hc.mp (fun c c0 c1 => v c c0 (by omega))⟩
      unfold t_cvb at u
      by_cases w : t = -1 ∨ e_bsum set 16 < e_bsum t 16
      · exact w
      · rw [if_neg w] at u; exact absurd rfl u
def x_cb (n t : Int) : Int := if t = -1 then 2 ^ n.toNat - 1 else t
theorem x_cov_end {ρ : t_S} (F : z_F ρ) : x_cb (ρ 1 7) (t_it (t_cvf ρ) (2 ^ (ρ 1 7).toNat - 1 : Int).toNat (-1)) = t_cov ρ := by
  have s7 := F.1.1.2.2.2.2.2.1
  have hb := b_ev_rg s7
  have hr := t_cvl_rg ρ (2 ^ (ρ 1 7).toNat - 1 : Int).toNat
  unfold t_cov
  rw [t_it_s _ _ hb.1]
  revert hr
  generalize t_it (t_cvf ρ) (2 ^ (ρ 1 7).toNat - 1 : Int).toNat (-1) = t
  intro hr
  rw [x_cv F hb]
  unfold x_cb
  by_cases q : t = -1
  · rw [if_pos q, if_pos ⟨Or.inl q, rfl⟩]
  · rw [if_neg q, if_neg (fun z => ?_)]
    have h1 := b_ev_sz s7 (set := t) ⟨by omega, by omega⟩
    exact z.1.elim q (fun w => by omega)
