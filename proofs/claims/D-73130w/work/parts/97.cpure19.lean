/-! PARTS OF ROAD, pure -/
set_option maxRecDepth 100000
theorem z_lead3 {σ μ : t_S} (e1 : μ 1 = σ 1) (e15 : μ 15 = σ 15) (e31 : μ 31 = σ 31) (c d y : Int) : t_lead μ c d y ↔ t_lead σ c d y := by
  have hb := z_bes_cg e1 c d
  show (t_bes μ c d ≠ -1 ∧ (y = -1 ∧ μ 15 (t_bes μ c d) = 0 ∨ y ≠ -1 ∧ e_bt (μ 31 (80 * y + c)) d = 1)) ↔ (t_bes σ c d ≠ -1 ∧ (y = -1 ∧ σ 15 (t_bes σ c d) = 0 ∨ y ≠ -1 ∧ e_bt (σ 31 (80 * y + c)) d = 1))
  rw [hb, e15, e31]
theorem z_lyf_cg {σ μ : t_S} (hz : t_sz σ) (e1 : μ 1 = σ 1) (e15 : μ 15 = σ 15) (e31 : μ 31 = σ 31) {a y : Int} (ha : x_c8 a) : ∀ e : Int, 0 ≤ e → e < 80 → t_lyf a y μ 33 e = t_lyf a y σ 33 e := fun e e0 e1' => by
  have hzm : t_sz μ := by unfold t_sz; rw [e1]; exact hz
  obtain ⟨d1, o1, -, -⟩ := z_lyf (y := y) hzm ha
  obtain ⟨d2, o2, -, -⟩ := z_lyf (y := y) hz ha
  by_cases q : x_c8 e
  · exact x_D_uq (x_D_cg (fun c d _ _ _ => z_lead3 e1 e15 e31 c d y) (fun c d => z_bes_cg e1 c d) d1) d2 q
  · rw [o1 e e0 e1' q, o2 e e0 e1' q]
theorem z_nm1 (τ : t_S) : ∀ e : Int, 0 ≤ e → e < 80 → t_it t_nm1f 80 τ 34 e = if τ 34 e = 1 ∨ τ 33 e ≠ -1 then 1 else 0 := by
  have key : ∀ n : Nat, t_it t_nm1f n τ 33 = τ 33 ∧ (∀ e : Int, 0 ≤ e → e < n → t_it t_nm1f n τ 34 e = if τ 34 e = 1 ∨ τ 33 e ≠ -1 then 1 else 0) ∧ ∀ e : Int, n ≤ e → t_it t_nm1f n τ 34 e = τ 34 e := by
    intro n
    induction n with
    | zero => exact ⟨rfl, fun e a b => by omega, fun e _ => rfl⟩
    | succ n ih =>
      obtain ⟨i1, i2, i3⟩ := ih
      refine ⟨t_it_k (f := t_nm1f) (fun _ _ => s_up_f (by decide)) _ τ, fun e a b => ?_, fun e a => ?_⟩
      · show s_up (t_it t_nm1f n τ) 34 n (if t_it t_nm1f n τ 34 n = 1 ∨ t_it t_nm1f n τ 33 n ≠ -1 then 1 else 0) 34 e = _
        by_cases q : e = n
        · rw [q, s_up_eq, i1, i3 n (Int.le_refl _)]
        · rw [s_up_j q]; exact i2 e a (by omega)
      · show s_up (t_it t_nm1f n τ) 34 n _ 34 e = _
        rw [s_up_j (by omega)]
        exact i3 e (by omega)
  exact (key 80).2.1
def x_T (ρ : t_S) (y c : Int) : t_S × Int := t_it (t_nmf y) c.toNat (t_nm0 ρ, 0)
/-- road left -/
def x_lf (ρ : t_S) (y : Int) (τ : t_S) : Int → Int := fun e => if ρ 30 (80 * y + e) = 1 ∧ τ 34 e = 0 then 1 else 0
theorem x_lf01 (ρ : t_S) (y : Int) (τ : t_S) : x_g01 (x_lf ρ y τ) := fun e _ => by
  unfold x_lf
  split
  · exact Or.inr rfl
  · exact Or.inl rfl
theorem x_T_in {ρ : t_S} (hz : t_sz ρ) (y : Int) {c : Int} (hc : 0 ≤ c ∧ c ≤ 80) : t_inN ρ c (x_T ρ y c) := by
  have h := t_nm_in (y := y) hz c.toNat (by omega)
  rw [Int.toNat_of_nonneg hc.1] at h
  exact h
theorem x_T_s {ρ : t_S} (y : Int) {c : Int} (hc : 0 ≤ c) : x_T ρ y (c + 1) = t_nmf y c (x_T ρ y c) := t_it_s _ _ hc
theorem x_T_no {ρ : t_S} (hz : t_sz ρ) {y c : Int} (hc : 0 ≤ c ∧ c < 80) (h : ρ 30 (80 * y + c) = 0 ∨ (x_T ρ y c).1 34 c = 1) : x_T ρ y (c + 1) = x_T ρ y c := by
  have hi := x_T_in hz y (c := c) ⟨hc.1, by omega⟩
  rw [x_T_s y hc.1]
  revert hi h
  generalize x_T ρ y c = x
  intro h hi
  unfold t_nmf
  have e : t_rdo x.1 c y = ρ 30 (80 * y + c) := by show x.1 30 (80 * y + c) = _; rw [hi.1 30 (by decide) (by decide)]
  rw [if_pos (by rw [e]; exact h)]
theorem x_T_go {ρ : t_S} (hz : t_sz ρ) {y c : Int} (hc : 0 ≤ c ∧ c < 80) (h8 : x_c8 c) (h1 : ρ 30 (80 * y + c) ≠ 0) (h2 : (x_T ρ y c).1 34 c ≠ 1) : (x_T ρ y (c + 1)).2 = (x_T ρ y c).2 + 1 ∧ ∀ e : Int, 0 ≤ e → e < 80 → (x_T ρ y (c + 1)).1 34 e = if (x_T ρ y c).1 34 e = 1 ∨ t_lyf c y ρ 33 e ≠ -1 then 1 else 0 := by
  have hi := x_T_in hz y (c := c) ⟨hc.1, by omega⟩
  rw [x_T_s y hc.1]
  revert hi h2
  generalize x_T ρ y c = x
  intro h2 hi
  have e : t_rdo x.1 c y = ρ 30 (80 * y + c) := by show x.1 30 (80 * y + c) = _; rw [hi.1 30 (by decide) (by decide)]
  have hl := z_lyf_cg (σ := ρ) (μ := x.1) hz (hi.1 1 (by decide) (by decide)) (hi.1 15 (by decide) (by decide)) (hi.1 31 (by decide) (by decide)) (a := c) (y := y) h8
  have hk : ∀ j, j ≠ 33 → t_lyf c y x.1 j = x.1 j := (z_lyf (y := y) (σ := x.1) (by unfold t_sz; rw [hi.1 1 (by decide) (by decide)]; exact hz) h8).2.2.2
  unfold t_nmf
  rw [if_neg (by rw [e]; exact fun z => z.elim h1 h2)]
  revert hl hk
  generalize t_lyf c y x.1 = τ
  intro hl hk
  refine ⟨rfl, fun e e0 e1 => ?_⟩
  show t_it t_nm1f 80 τ 34 e = _
  rw [z_nm1 τ e e0 e1, hl e e0 e1, hk 34 (by decide)]
/-- what was begun ahead is seen -/
theorem x_T_cov {ρ : t_S} (F : z_F ρ) {y : Int} (hy : 0 ≤ y ∧ y ≤ ρ 1 0) : ∀ n : Nat, n ≤ 80 → ∀ e : Int, 0 ≤ e → e < n → ρ 30 (80 * y + e) = 1 → (x_T ρ y n).1 34 e = 1 := by
  intro n
  induction n with
  | zero => intro _ e a b; omega
  | succ n ih =>
    intro hn e a b hr
    have hz := F.1.1
    have en : ((n + 1 : Nat) : Int) = (n : Int) + 1 := by omega
    rw [en]
    by_cases q : ρ 30 (80 * y + n) = 0 ∨ (x_T ρ y n).1 34 n = 1
    · rw [x_T_no hz ⟨by omega, by omega⟩ q]
      by_cases z : e = n
      · rw [z] at hr ⊢
        exact q.elim (fun w => by omega) id
      · exact ih (by omega) e a (by omega) hr
    · have q1 : ρ 30 (80 * y + n) ≠ 0 := fun w => q (Or.inl w)
      have q2 : (x_T ρ y n).1 34 n ≠ 1 := fun w => q (Or.inr w)
      have h8 : x_c8 (n : Int) := by
        by_cases w : x_c8 (n : Int)
        · exact w
        · exact absurd (x_rd0 F hy n (by omega) (by omega) w) q1
      obtain ⟨-, g⟩ := x_T_go hz (y := y) ⟨by omega, by omega⟩ h8 q1 q2
      rw [g e a (by omega)]
      by_cases z : e = n
      · have hd := (z_lyf (y := y) hz h8).1.1
        rw [z, if_pos (Or.inr (by rw [hd]; decide))]
      · rw [if_pos (Or.inl (ih (by omega) e a (by omega) hr))]
theorem x_lf_lo {ρ : t_S} (F : z_F ρ) {y : Int} (hy : 0 ≤ y ∧ y ≤ ρ 1 0) {c : Int} (hc : 0 ≤ c ∧ c ≤ 80) : ∀ e : Int, 0 ≤ e → e < c → x_lf ρ y (x_T ρ y c).1 e = 0 := fun e e0 e1 => by
  unfold x_lf
  rw [if_neg (fun q => ?_)]
  have h := x_T_cov F hy c.toNat (by omega) e e0 (by omega) q.1
  rw [Int.toNat_of_nonneg hc.1] at h
  have := q.2
  omega
theorem x_lf_80 {ρ : t_S} (F : z_F ρ) {y : Int} (hy : 0 ≤ y ∧ y ≤ ρ 1 0) : x_bs (x_lf ρ y (x_T ρ y 80).1) = 0 := (x_bs_0 (fun e he => x_lf_lo F hy ⟨by decide, by decide⟩ e he.1 he.2.1)).symm
/-- at the beginning -/
theorem x_lf_00 {ρ : t_S} (F : z_F ρ) {y : Int} (hy : 0 ≤ y ∧ y ≤ ρ 1 0) : x_bs (fun c => ρ 30 (80 * y + c)) = x_bs (x_lf ρ y (x_T ρ y 0).1) := x_bs_cg (fun e he => by
  have h0 : (x_T ρ y 0).1 34 e = 0 := t_nm0_0 e he.1 he.2.1
  have h1 : ρ 30 (80 * y + e) = 0 ∨ ρ 30 (80 * y + e) = 1 := x_rd01 F hy e he
  unfold x_lf
  rw [h0]
  rcases h1 with q | q
  · rw [q]; rfl
  · rw [q]; rfl)
theorem x_lf_no {ρ : t_S} (hz : t_sz ρ) {y c : Int} (hc : 0 ≤ c ∧ c < 80) (h : x_lf ρ y (x_T ρ y c).1 c = 0) (hr : ρ 30 (80 * y + c) = 0 ∨ ρ 30 (80 * y + c) = 1) : x_T ρ y (c + 1) = x_T ρ y c := by
  have hi := (x_T_in hz y (c := c) ⟨hc.1, by omega⟩).2.1 c hc.1 hc.2
  refine x_T_no hz hc ?_
  unfold x_lf at h
  rcases hr with q | q
  · exact Or.inl q
  · rcases hi with z | z
    · rw [if_pos ⟨q, z⟩] at h; exact absurd h (by decide)
    · exact Or.inr z
/-- what the queue takes away -/
def x_hq (χ : t_S) (c k : Int) : Int := t_anyg (fun i => if χ 29 i = x_sp c then 1 else 0) k.toNat
theorem x_hq01 (χ : t_S) (c k : Int) : x_hq χ c k = 0 ∨ x_hq χ c k = 1 := t_anyg01 (fun i => by show (if _ then (1 : Int) else 0) = 0 ∨ (if _ then (1 : Int) else 0) = 1; split <;> simp) _
def x_lq (g : Int → Int) (χ : t_S) (k : Int) : Int → Int := fun e => if g e = 1 ∧ x_hq χ e k = 0 then 1 else 0
theorem x_lq01 (g : Int → Int) (χ : t_S) (k : Int) : x_g01 (x_lq g χ k) := fun e _ => by
  unfold x_lq
  split
  · exact Or.inr rfl
  · exact Or.inl rfl
theorem x_lq_0 {g : Int → Int} (hg : x_g01 g) (χ : t_S) : x_bs g = x_bs (x_lq g χ 0) := x_bs_cg (fun e he => by
  unfold x_lq
  have h : x_hq χ e 0 = 0 := rfl
  rw [h]
  rcases hg e he with q | q
  · rw [q]; rfl
  · rw [q]; rfl)
theorem x_lq_s {g : Int → Int} {χ : t_S} {k : Int} (hk : 0 ≤ k) (hq : 0 ≤ χ 29 k ∧ χ 29 k < 64) : t_andn (x_bs (x_lq g χ k)) (2 ^ (χ 29 k).toNat) = x_bs (x_lq g χ (k + 1)) := by
  have r := x_ce_rg hq
  have hs : ∀ e, x_hq χ e (k + 1) = if x_hq χ e k = 1 then 1 else if χ 29 k = x_sp e then 1 else 0 := fun e => t_anyg_s _ hk
  have h := x_bs_out (g := x_lq g χ k) (u := x_lq g χ (k + 1)) (c := x_ce (χ 29 k)) (x_lq01 g χ k) r.1 (by
    unfold x_lq
    rw [hs, r.2, if_pos rfl]
    rw [if_neg (fun q => by have q2 := q.2; revert q2; split <;> decide)]) (fun e he hne => by
    unfold x_lq
    rw [hs, if_neg (show ¬ χ 29 k = x_sp e from fun z => hne (by rw [z]; exact (x_sp_rg he).2.2.symm))]
    rcases x_hq01 χ e k with q | q <;> rw [q] <;> rfl)
  rw [r.2] at h
  exact h
theorem x_lq_e {g D : Int → Int} {χ : t_S} (hD : x_Dn D χ) : ∀ e, x_c8 e → x_lq g χ (χ 30 0) e = if g e = 1 ∧ D e = -1 then 1 else 0 := fun e he => by
  unfold x_lq
  have hh : x_hq χ e (χ 30 0) = if D e = -1 then 0 else 1 := by
    by_cases q : D e = -1
    · rw [if_pos q]
      refine x_anyg_n _ (fun i i0 i1 => if_neg (fun z => ?_))
      have := (hD.2.2.2.1 i i0 (by have := hD.2.1.1; omega)).2
      rw [z, (x_sp_rg he).2.2] at this
      exact this q
    · rw [if_neg q]
      obtain ⟨i, i0, i1, hi⟩ := hD.2.2.2.2 e he q
      exact x_anyg_1 (g := fun i => if χ 29 i = x_sp e then 1 else 0) i0 (if_pos hi) (χ 30 0).toNat (by omega)
  rw [hh]
  by_cases q : D e = -1
  · rw [if_pos q]
    by_cases p : g e = 1
    · rw [if_pos ⟨p, rfl⟩, if_pos ⟨p, q⟩]
    · rw [if_neg (fun z => p z.1), if_neg (fun z => p z.1)]
  · rw [if_neg q, if_neg (fun z => absurd z.2 (by decide)), if_neg (fun z => q z.2)]
theorem x_lf_go {ρ χ : t_S} (F : z_F ρ) {y c : Int} (hy : 0 ≤ y ∧ y ≤ ρ 1 0) (hc : 0 ≤ c ∧ c < 80) (h8 : x_c8 c) (h : x_lf ρ y (x_T ρ y c).1 c = 1) (hD : x_Dn (t_lyf c y ρ 33) χ) : x_bs (x_lq (x_lf ρ y (x_T ρ y c).1) χ (χ 30 0)) = x_bs (x_lf ρ y (x_T ρ y (c + 1)).1) ∧ (x_T ρ y (c + 1)).2 = (x_T ρ y c).2 + 1 := by
  have hz := F.1.1
  have hi := (x_T_in hz y (c := c) ⟨hc.1, by omega⟩).2.1
  have hh : ρ 30 (80 * y + c) = 1 ∧ (x_T ρ y c).1 34 c = 0 := by
    unfold x_lf at h
    by_cases q : ρ 30 (80 * y + c) = 1 ∧ (x_T ρ y c).1 34 c = 0
    · exact q
    · rw [if_neg q] at h; exact absurd h (by decide)
  obtain ⟨g1, g2⟩ := x_T_go hz (y := y) hc h8 (by omega) (by omega)
  refine ⟨x_bs_cg (fun e he => ?_), g1⟩
  rw [x_lq_e hD e he]
  unfold x_lf
  rw [g2 e he.1 he.2.1]
  have h01 := hi e he.1 he.2.1
  by_cases p : ρ 30 (80 * y + e) = 1
  · rcases h01 with s | s
    · rw [s]
      by_cases q : t_lyf c y ρ 33 e = -1
      · rw [q, if_neg (show ¬ ((0 : Int) = 1 ∨ (-1 : Int) ≠ -1) by decide), if_pos (show ρ 30 (80 * y + e) = 1 ∧ (0 : Int) = 0 from ⟨p, rfl⟩)]; rfl
      · rw [if_pos (show (0 : Int) = 1 ∨ t_lyf c y ρ 33 e ≠ -1 from Or.inr q), if_neg (fun z => q z.2), if_neg (fun z => absurd z.2 (by decide))]
    · rw [s]; simp
  · rw [if_neg (show ¬ (ρ 30 (80 * y + e) = 1 ∧ (x_T ρ y c).1 34 e = 0) from fun z => p z.1), if_neg (fun z => absurd z.1 (by decide)), if_neg (fun z => p z.1)]
