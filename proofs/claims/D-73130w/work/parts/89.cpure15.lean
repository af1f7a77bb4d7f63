/-! THE COMPONENT: questions, pure, two -/
set_option maxRecDepth 100000
theorem t_best_ch (v : Int → Int) : ∀ n : Nat, (t_best v n = -1 ∧ ∀ i : Int, 0 ≤ i → i < n → v i ≤ 0) ∨ (0 ≤ t_best v n ∧ t_best v n < n ∧ 0 < v (t_best v n) ∧ (∀ i : Int, 0 ≤ i → i < n → v i ≤ v (t_best v n)) ∧ ∀ i : Int, 0 ≤ i → i < t_best v n → v i < v (t_best v n))
  | 0 => Or.inl ⟨rfl, fun i a b => by omega⟩
  | n + 1 => by
    have ih := t_best_ch v n
    have e : t_best v (n + 1) = if (if t_best v n = -1 then 0 else v (t_best v n)) < v n then (n : Int) else t_best v n := rfl
    rw [e]
    revert ih
    generalize t_best v n = b
    intro ih
    rcases ih with ⟨i1, i2⟩ | ⟨i1, i2, i3, i4, i5⟩
    · rw [if_pos i1]
      by_cases q : 0 < v n
      · rw [if_pos q]
        refine Or.inr ⟨by omega, by omega, q, fun i a c => ?_, fun i a c => ?_⟩
        · by_cases z : i = n
          · rw [z]; exact Int.le_refl _
          · have := i2 i a (by omega); omega
        · have := i2 i a c; omega
      · rw [if_neg q]
        refine Or.inl ⟨i1, fun i a c => ?_⟩
        by_cases z : i = n
        · rw [z]; omega
        · exact i2 i a (by omega)
    · rw [if_neg (show ¬ b = -1 by omega)]
      by_cases q : v b < v n
      · rw [if_pos q]
        refine Or.inr ⟨by omega, by omega, by omega, fun i a c => ?_, fun i a c => ?_⟩
        · by_cases z : i = n
          · rw [z]; exact Int.le_refl _
          · have := i4 i a (by omega); omega
        · have := i4 i a c; omega
      · rw [if_neg q]
        refine Or.inr ⟨i1, by omega, i3, fun i a c => ?_, i5⟩
        by_cases z : i = n
        · rw [z]; omega
        · exact i4 i a (by omega)
/-- the first with the most, from the first on -/
def x_hb (v : Int → Int) : Nat → Int
  | 0 => 0
  | n + 1 => if v (x_hb v n) < v n then n else x_hb v n
theorem x_hb_s (v : Int → Int) {i : Int} (hi : 0 ≤ i) : x_hb v (i + 1).toNat = if v (x_hb v i.toNat) < v i then i else x_hb v i.toNat := by
  rw [show (i + 1).toNat = i.toNat + 1 by omega]
  show (if v (x_hb v i.toNat) < v ((i.toNat : Nat) : Int) then ((i.toNat : Nat) : Int) else x_hb v i.toNat) = _
  rw [Int.toNat_of_nonneg hi]
theorem x_hb_1 (v : Int → Int) : x_hb v (1 : Int).toNat = 0 := by
  show (if v 0 < v ((0 : Nat) : Int) then ((0 : Nat) : Int) else 0) = 0
  split <;> rfl
theorem x_hb_rg (v : Int → Int) : ∀ n : Nat, 0 ≤ x_hb v n ∧ x_hb v n ≤ n
  | 0 => ⟨Int.le_refl _, Int.le_refl _⟩
  | n + 1 => by
    have ih := x_hb_rg v n
    show 0 ≤ (if v (x_hb v n) < v n then (n : Int) else x_hb v n) ∧ (if v (x_hb v n) < v n then (n : Int) else x_hb v n) ≤ ((n + 1 : Nat) : Int)
    split <;> omega
theorem x_hb_ch (v : Int → Int) : ∀ n : Nat, 0 < n → 0 ≤ x_hb v n ∧ x_hb v n < n ∧ (∀ i : Int, 0 ≤ i → i < n → v i ≤ v (x_hb v n)) ∧ ∀ i : Int, 0 ≤ i → i < x_hb v n → v i < v (x_hb v n)
  | 0, h => absurd h (by decide)
  | 1, _ => by
    have e : x_hb v 1 = 0 := x_hb_1 v
    rw [e]
    exact ⟨Int.le_refl _, by decide, fun i a b => by rw [show i = 0 by omega]; exact Int.le_refl _, fun i a b => by omega⟩
  | n + 2, _ => by
    obtain ⟨i1, i2, i3, i4⟩ := x_hb_ch v (n + 1) (by omega)
    have e : x_hb v (n + 2) = if v (x_hb v (n + 1)) < v ((n + 1 : Nat) : Int) then ((n + 1 : Nat) : Int) else x_hb v (n + 1) := rfl
    rw [e]
    revert i1 i2 i3 i4
    generalize x_hb v (n + 1) = b
    intro i1 i2 i3 i4
    split
    · rename_i q
      refine ⟨by omega, by omega, fun i a c => ?_, fun i a c => ?_⟩
      · by_cases z : i = ((n + 1 : Nat) : Int)
        · rw [z]; exact Int.le_refl _
        · have := i3 i a (by omega); omega
      · have := i3 i a c; omega
    · rename_i q
      refine ⟨i1, by omega, fun i a c => ?_, i4⟩
      by_cases z : i = ((n + 1 : Nat) : Int)
      · rw [z]; omega
      · exact i3 i a (by omega)
theorem x_spce {s : Int} (h : 0 ≤ s ∧ s < 64) : s = x_sp (x_ce s) := (x_ce_rg h).2.symm
theorem x_sp8 {c : Int} (h : x_c8 c) : x_sp c = 8 * (c / 10) + c % 10 := by
  have := h.1
  unfold x_sp
  rw [if_neg (by omega)]
theorem x_sp_lt {c e : Int} (hc : x_c8 c) (he : x_c8 e) : x_sp c < x_sp e ↔ c < e := by
  rw [x_sp8 hc, x_sp8 he]
  obtain ⟨a, b, c'⟩ := hc
  obtain ⟨a', b', c''⟩ := he
  omega
theorem x_hb_ce {g : Int → Int} (h0 : ∀ c : Int, 0 ≤ c → c < 80 → ¬ x_c8 c → g c = 0) (he : ∃ c, x_c8 c ∧ 0 < g c) : x_ce (x_hb (fun s => g (x_ce s)) 64) = t_best g 80 := by
  obtain ⟨i1, i2, i3, i4⟩ := x_hb_ch (fun s => g (x_ce s)) 64 (by decide)
  have hB := t_best_ch g 80
  revert i1 i2 i3 i4 hB
  generalize x_hb (fun s => g (x_ce s)) 64 = b
  generalize t_best g 80 = B
  intro i1 i2 i3 i4 hB
  have hb8 := (x_ce_rg ⟨i1, i2⟩).1
  rcases hB with ⟨-, h2⟩ | ⟨h1, h2, h3, h4, h5⟩
  · obtain ⟨c, hc, hg⟩ := he
    have := h2 c hc.1 hc.2.1
    omega
  · have hB8 : x_c8 B := by
      by_cases q : x_c8 B
      · exact q
      · have := h0 B h1 h2 q
        omega
    have rB := x_sp_rg hB8
    have k1 : g (x_ce (x_sp B)) ≤ g (x_ce b) := i3 (x_sp B) rB.1 rB.2.1
    rw [rB.2.2] at k1
    have k2 := h4 (x_ce b) hb8.1 hb8.2.1
    rcases Int.lt_trichotomy (x_ce b) B with q | q | q
    · have := h5 (x_ce b) hb8.1 q
      omega
    · exact q
    · have k3 : x_sp B < b := by
        rw [x_spce ⟨i1, i2⟩]
        exact (x_sp_lt hB8 hb8).mpr q
      have k4 : g (x_ce (x_sp B)) < g (x_ce b) := i4 (x_sp B) rB.1 k3
      rw [rB.2.2] at k4
      omega
theorem x_best_ce {g : Int → Int} (h0 : ∀ c : Int, 0 ≤ c → c < 80 → ¬ x_c8 c → g c = 0) : x_ce (t_best (fun s => g (x_ce s)) 64) = t_best g 80 := by
  have hb := t_best_ch (fun s => g (x_ce s)) 64
  have hB := t_best_ch g 80
  revert hb hB
  generalize t_best (fun s => g (x_ce s)) 64 = b
  generalize t_best g 80 = B
  intro hb hB
  rcases hb with ⟨e, i2⟩ | ⟨i1, i2, i3, i4, i5⟩
  · rcases hB with ⟨e2, -⟩ | ⟨h1, h2, h3, -⟩
    · rw [e, e2]; rfl
    · exfalso
      have hB8 : x_c8 B := by
        by_cases q : x_c8 B
        · exact q
        · have := h0 B h1 h2 q
          omega
      have rB := x_sp_rg hB8
      have k : g (x_ce (x_sp B)) ≤ 0 := i2 (x_sp B) rB.1 rB.2.1
      rw [rB.2.2] at k
      omega
  · have hb8 := (x_ce_rg ⟨i1, i2⟩).1
    rcases hB with ⟨-, h2⟩ | ⟨h1, h2, h3, h4, h5⟩
    · have := h2 (x_ce b) hb8.1 hb8.2.1
      have i3' : 0 < g (x_ce b) := i3
      omega
    · have hB8 : x_c8 B := by
        by_cases q : x_c8 B
        · exact q
        · have := h0 B h1 h2 q
          omega
      have rB := x_sp_rg hB8
      have k1 : g (x_ce (x_sp B)) ≤ g (x_ce b) := i4 (x_sp B) rB.1 rB.2.1
      rw [rB.2.2] at k1
      have k2 := h4 (x_ce b) hb8.1 hb8.2.1
      rcases Int.lt_trichotomy (x_ce b) B with q | q | q
      · have := h5 (x_ce b) hb8.1 q
        omega
      · exact q
      · have k3 : x_sp B < b := by
          rw [x_spce ⟨i1, i2⟩]
          exact (x_sp_lt hB8 hb8).mpr q
        have k4 : g (x_ce (x_sp B)) < g (x_ce b) := i5 (x_sp B) rB.1 k3
        rw [rB.2.2] at k4
        omega
theorem x_cn_inj {a b : Int} (ha : x_cn a) (hb : x_cn b) : x_sp a = x_sp b ↔ a = b := by
  constructor
  · intro h
    rw [← x_cn_ce ha, h, x_cn_ce hb]
  · intro h
    rw [h]
theorem x_pth_cn {ρ : t_S} (F : z_F ρ) {w k : Int} (hw : 0 ≤ w ∧ w < 7) (hk : 0 ≤ k) : x_cn (t_pth ρ w k) := by
  show x_cn (if k ≤ ρ 27 w then ρ 26 (41 * w + k) else -1)
  by_cases q : k ≤ ρ 27 w
  · rw [if_pos q]; exact Or.inr ((z_path F hw).2 k hk q)
  · rw [if_neg q]; exact Or.inl rfl
theorem x_vis0 {ρ : t_S} (F : z_F ρ) {w : Int} (hw : 0 ≤ w ∧ w < 7) : ∀ c : Int, 0 ≤ c → c < 80 → ¬ x_c8 c → t_vis ρ w c = 0 := fun c c0 _ hc => by
  unfold t_vis
  refine x_sum_0 _ (fun k k0 k1 => ?_)
  show (if t_pth ρ w k = c then (1 : Int) else 0) = 0
  have hp := (z_path F hw).2 k k0 (by omega)
  have e : t_pth ρ w k = ρ 26 (41 * w + k) := if_pos (by omega)
  rw [e, if_neg (fun z => hc (by rw [← z]; exact hp))]
theorem x_sum_1 {g : Int → Int} {j : Int} (hj : 0 ≤ j) (h1 : 1 ≤ g j) : ∀ n : Nat, (∀ i : Int, 0 ≤ i → i < n → 0 ≤ g i) → j < n → 1 ≤ t_sum g n
  | 0, _, h => by omega
  | n + 1, h, hn => by
    show 1 ≤ t_sum g n + g (n : Int)
    by_cases q : j = n
    · have h2 : ∀ m : Nat, m ≤ n → 0 ≤ t_sum g m := fun m => by
        induction m with
        | zero => intro _; exact Int.le_refl 0
        | succ m ih =>
          intro hm
          have a := ih (by omega)
          have b := h m (by omega) (by omega)
          show 0 ≤ t_sum g m + g (m : Int)
          omega
      have := h2 n (Nat.le_refl n)
      rw [← q]
      rw [q] at h1
      rw [q]
      omega
    · have a := x_sum_1 hj h1 n (fun i a b => h i a (by omega)) (by omega)
      have b := h n (by omega) (by omega)
      omega
theorem x_vis1 {ρ : t_S} (F : z_F ρ) {w : Int} (hw : 0 ≤ w ∧ w < 7) (h : ρ 27 w ≠ -1) : ∃ c, x_c8 c ∧ 0 < t_vis ρ w c := by
  have hp := z_path F hw
  refine ⟨ρ 26 (41 * w + 0), hp.2 0 (Int.le_refl 0) (by omega), ?_⟩
  have e : t_ing ρ w (ρ 26 (41 * w + 0)) 0 = 1 := by
    show (if (if (0 : Int) ≤ ρ 27 w then ρ 26 (41 * w + 0) else -1) = ρ 26 (41 * w + 0) then (1 : Int) else 0) = 1
    rw [if_pos (show (0 : Int) ≤ ρ 27 w by omega), if_pos rfl]
  have := x_sum_1 (g := t_ing ρ w (ρ 26 (41 * w + 0))) (j := 0) (Int.le_refl 0) (by omega) (ρ 27 w + 1).toNat (fun i _ _ => (t_ing_rg ρ w _ i).1) (by omega)
  unfold t_vis
  omega
theorem x_msk_0 {g : Int → Int} : ∀ n : Nat, (∀ i : Int, 0 ≤ i → i < n → g i = 0) → t_msk g n = 0
  | 0, _ => rfl
  | n + 1, h => by
    show t_msk g n + (if g n = 1 then 2 ^ n else 0) = 0
    rw [x_msk_0 n (fun i a b => h i a (by omega)), h n (by omega) (by omega), if_neg (by decide)]
    rfl
theorem x_wdo0 {ρ : t_S} (F : z_F ρ) : ∀ c : Int, 0 ≤ c → c < 80 → ¬ x_c8 c → t_wdo ρ c = 0 := fun c c0 c1 hc => by
  have s7 := F.1.1.2.2.2.2.2.1
  unfold t_wdo
  exact x_msk_0 _ (fun w w0 w1 => x_in0 F ⟨w0, by omega⟩ c c0 c1 hc)
theorem x_crg0 {ρ : t_S} (F : z_F ρ) : ∀ c : Int, 0 ≤ c → c < 80 → ¬ x_c8 c → t_crg ρ c = 0 := fun c c0 c1 hc => by
  unfold t_crg
  rw [x_wdo0 F c c0 c1 hc]
  decide
theorem x_msk4 {v : Int} (hv : 0 ≤ v ∧ v < 2 ^ 4) : t_msk (fun d => e_bt v d) 4 = v := by
  have h := of_decide_eq_true (List.all_eq_true.mp (show (List.range 16).all (fun n => decide (t_msk (fun d => e_bt (n : Int) d) 4 = (n : Int))) = true from by decide +kernel) v.toNat (List.mem_range.mpr (by omega)))
  rw [Int.toNat_of_nonneg hv.1] at h
  exact h
theorem x_ok8 {ρ : t_S} (hz : t_sz ρ) {c : Int} (h : t_isCell ρ c) : x_c8 c := by
  have s3 := hz.2.1
  have s4 := hz.2.2.1
  obtain ⟨-, a, b, d⟩ := h
  exact ⟨a, by omega, by omega⟩
/-- what a question about walks finds -/
theorem x_rdb {ρ χ : t_S} (N : x_An ρ χ) (F : z_F ρ) {y s c : Int} (hy : 0 ≤ y ∧ y ≤ ρ 1 0) (hs : s = x_sp c) (hc : x_c8 c) : (0 ≤ χ 18 y ∧ χ 18 y < 2 ^ 64) ∧ (0 ≤ s ∧ s < 64) ∧ e_bt (χ 18 y) s = t_rdo ρ c y ∧ (t_rdo ρ c y = 0 ∨ t_rdo ρ c y = 1) := by
  have h := (N.2 y hy.1 (by omega)).1
  rw [h, hs]
  have r := x_sp_rg hc
  have b := x_cn_bt (x_rd01 F hy) (Or.inr hc) (by have := hc.1; omega)
  exact ⟨x_bs_rg _, ⟨r.1, r.2.1⟩, b.1, b.2⟩
theorem x_beb {ρ χ : t_S} (N : x_An ρ χ) {w s c : Int} (hw : 0 ≤ w ∧ w < ρ 1 7) (hs : s = x_sp c) (hc : x_c8 c) : (0 ≤ χ 21 w ∧ χ 21 w < 2 ^ 64) ∧ (0 ≤ s ∧ s < 64) ∧ e_bt (χ 21 w) s = t_in ρ w c ∧ (t_in ρ w c = 0 ∨ t_in ρ w c = 1) := by
  have h := (N.1.2.2.2 w hw.1 hw.2).2.2.2.2.1
  rw [h, hs]
  have r := x_sp_rg hc
  have b := x_cn_bt (x_ing ρ w) (Or.inr hc) (by have := hc.1; omega)
  exact ⟨x_bs_rg _, ⟨r.1, r.2.1⟩, b.1, b.2⟩
/-- creeks as they are, again -/
theorem t_it_R {f : Int → t_S → t_S} {R : t_S → t_S → Prop} (hs : ∀ i x y, R x y → R (f i x) (f i y)) {x y : t_S} (h : R x y) : ∀ n : Nat, R (t_it f n x) (t_it f n y)
  | 0 => h
  | n + 1 => hs _ _ _ (t_it_R hs h n)
theorem x_is_15_cg {σ τ : t_S} (h : τ 1 = σ 1) : ∀ c : Int, 0 ≤ c → c < 80 → t_is τ 15 c = t_is σ 15 c := by
  have key : ∀ (μ : t_S) (n : Nat), ∀ c : Int, 0 ≤ c → c < n → t_it t_is1f n (t_is0 μ) 15 c = 0 := by
    intro μ n
    refine t_it_P (fun n (τ : t_S) => ∀ c : Int, 0 ≤ c → c < n → τ 15 c = 0) (fun c a b => by omega) n (fun i y i0 _ hy => ?_)
    intro c c0 c1
    unfold t_is1f
    by_cases q : c = i
    · subst q; rw [s_up_eq]
    · rw [s_up_j q]; exact hy c c0 (by omega)
  have e1 : ∀ μ, t_is1 μ 1 = μ 1 := fun μ => t_is1_k (by decide) (by decide) (by decide) (by decide) μ
  let R : t_S → t_S → Prop := fun x y => x 1 = y 1 ∧ ∀ c : Int, 0 ≤ c → c < 80 → x 15 c = y 15 c
  have up : ∀ (x y : t_S) (j z : Int), R x y → R (s_up x 15 j z) (s_up y 15 j z) := fun x y j z hR => ⟨by rw [s_up_f (by decide), s_up_f (by decide)]; exact hR.1, fun c c0 c1 => by
    by_cases q : c = j
    · rw [q, s_up_eq, s_up_eq]
    · rw [s_up_j q, s_up_j q]; exact hR.2 c c0 c1⟩
  have r1 : R (t_is1 τ) (t_is1 σ) := ⟨by rw [e1, e1]; exact h, fun c c0 c1 => (key τ 80 c c0 c1).trans (key σ 80 c c0 c1).symm⟩
  have r2 : R (t_is2 τ) (t_is2 σ) := by
    unfold t_is2
    rw [h]
    refine t_it_R (R := R) (fun i x y hR => ?_) r1 _
    unfold t_is2f
    rw [hR.1]
    exact up x y _ _ hR
  have r3 : R (t_is3 τ) (t_is3 σ) := by
    unfold t_is3
    rw [h]
    refine t_it_R (R := R) (fun i x y hR => ?_) r2 _
    unfold t_is3f
    rw [hR.1]
    split
    · exact up x y _ _ hR
    · exact ⟨by rw [s_up_f (by decide), s_up_f (by decide)]; exact hR.1, fun c c0 c1 => by rw [s_up_f (by decide), s_up_f (by decide)]; exact hR.2 c c0 c1⟩
  intro c c0 c1
  rw [x_is_15, x_is_15]
  exact r3.2 c c0 c1
/-- a question stands -/
def x_PB (ρ χ : t_S) (h0 : e_A) : e_R → e_A → Prop := fun r h => r = .inl (some (.ref 366)) ∧ ∃ χ1 h1, x_An ρ χ1 ∧ (∀ j, (j < 10 ∨ 27 < j) → χ1 j = χ j) ∧ e_ext h0 h1 ∧ h = x_H χ1 h1
def x_Q (ρ χ : t_S) (h0 : e_A) (α : Nat → Nat) : Prop := x_at χ h0 (ρ 1) α ∧ t_sz ρ ∧ t_okR (ρ 1) ∧ z_F ρ ∧ e_C mX0_is [.ref 350] (x_H χ h0) 3 12 6 (x_PB ρ χ h0) ∧ ∀ c, x_c8 c → t_is ρ 15 c = ρ 15 c
theorem x_Q_of {σ χ : t_S} {h0 : e_A} {α : Nat → Nat} (A : x_at χ h0 (σ 1) α) (hz : t_sz σ) (hr : t_okR (σ 1)) (hC : t_isC σ ∨ σ 1 7 = 0) : x_Q (t_af σ) χ h0 α := by
  have e1 := x_af_1 hz hr
  have hF : z_F (t_af σ) := z_ga_F (t_is_ask hz hr)
  refine ⟨by rw [e1]; exact A, hF.1.1, by rw [e1]; exact hr, hF, C_X0_is A hz hr hC, fun c hc => ?_⟩
  have e15 : t_af σ 15 = t_is σ 15 := t_ga_k (t_is_ask hz hr) (by decide)
  rw [e15]
  exact x_is_15_cg e1 c hc.1 hc.2.1
theorem x_at_1 {ρ χ χ1 : t_S} {h0 h1 : e_A} {α : Nat → Nat} (A : x_at χ h0 (ρ 1) α) (hf : ∀ j, (j < 10 ∨ 27 < j) → χ1 j = χ j) (he : e_ext h0 h1) : x_at χ1 h1 (ρ 1) α := x_at_up (congrFun (hf 1 (by omega)) 0) (x_at_ext he A)
theorem x_pubi {a b : Int} {χ χ1 : t_S} {h0 h1 : e_A} (h : a = b) (hf : ∀ j, (j < 10 ∨ 34 < j) → χ1 j = χ j) (he : e_ext h0 h1) : x_Pub (e_i b) χ h0 (.inl (some (e_i a))) (x_H χ1 h1) := x_pub (congrArg e_i h) hf he
theorem x_pubi0 {a b : Int} {χ : t_S} {h0 : e_A} (h : a = b) : x_Pub (e_i b) χ h0 (.inl (some (e_i a))) (x_H χ h0) := x_pub0 (congrArg e_i h)
theorem C_X0_spotOf8 {h : e_A} {c : Int} (hc : x_c8 c) : e_C mX0_spotOf [e_j c] (h) 0 0 0 (e_ret (e_i (x_sp c)) (h)) := by
  rw [x_sp8 hc]
  exact C_X0_spotOf ⟨hc.1, by have := hc.2.1; omega⟩
theorem z_h3 {ρ : t_S} (F : z_F ρ) : t_h3 ρ := fun w w0 w1 => by
  obtain ⟨a, b⟩ := z_path F ⟨w0, w1⟩
  exact ⟨a, fun k k0 k1 => ⟨(b k k0 k1).1, (b k k0 k1).2.1⟩⟩
theorem x_haunt0 {ρ : t_S} {w : Int} (h : ρ 27 w = -1) : (-1 : Int) = t_best (t_vis ρ w) 80 := by
  have e : ∀ c, t_vis ρ w c = 0 := fun c => by unfold t_vis; rw [h]; rfl
  rcases t_best_ch (t_vis ρ w) 80 with ⟨a, -⟩ | ⟨-, -, b, -⟩
  · exact a.symm
  · rw [e] at b; exact absurd b (by decide)
theorem x_cog0 {ρ : t_S} (F : z_F ρ) {n y : Int} (hy : 0 ≤ y ∧ y ≤ ρ 1 0) : ∀ c : Int, 0 ≤ c → c < 80 → ¬ x_c8 c → t_cog ρ n y c = 0 := fun c c0 c1 hc => by
  have h := x_rd0 F hy c c0 c1 hc
  unfold t_cog
  rw [if_neg (fun q => by have := q.1; have h2 : t_rdo ρ c y = 0 := h; omega)]
theorem x_and_rg {a b : Int} {g : Int → Int} (ha : a = x_bs g) : 0 ≤ t_and a b ∧ t_and a b < 2 ^ 64 := by
  rw [ha]
  have h1 := x_bs_rg g
  have h2 := t_and_rg (a := x_bs g) (b := b) h1.1
  omega
theorem x_shr {ρ : t_S} (F : z_F ρ) {a b : Int} (ha : 0 ≤ a ∧ a < 7) (hb : 0 ≤ b ∧ b < 7) : e_bsum (t_and (x_bs (t_in ρ a)) (x_bs (t_in ρ b))) 64 = t_sum (t_shg ρ a b) 80 := by
  have g01 : x_g01 (t_shg ρ a b) := fun c _ => by
    unfold t_shg
    split
    · exact Or.inr rfl
    · exact Or.inl rfl
  rw [x_bs_and (x_ing ρ a) (x_ing ρ b) g01 (fun c _ => rfl)]
  refine x_bsum_bs g01 (fun c c0 c1 hc => ?_)
  unfold t_shg
  rw [x_in0 F ha c c0 c1 hc, if_neg (fun q => absurd q.1 (by decide))]
