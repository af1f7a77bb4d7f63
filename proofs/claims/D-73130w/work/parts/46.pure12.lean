/-! THE TWIN'S PURE FORM, TWELVE: shares, fog -/
set_option maxRecDepth 100000
theorem e_p2n (n : Nat) : ((2 : Int) ^ n).toNat = 2 ^ n := by
  have h : ((2 : Int) ^ n) = ((2 ^ n : Nat) : Int) := by rw [Int.natCast_pow]; rfl
  rw [h, Int.toNat_natCast]
/-- how likely a set is, by the first n -/
def t_pvf (a b s : Int) : Int → Int → Int := fun w v => v * (if e_bt s w = 1 then a else b)
def t_pv (a b s : Int) (n : Nat) : Int := t_it (t_pvf a b s) n 1
theorem t_pv_s (a b s : Int) (n : Nat) : t_pv a b s (n + 1) = t_pv a b s n * (if e_bt s n = 1 then a else b) := rfl
theorem t_pv_rg {a b : Int} (s : Int) (ha : 0 ≤ a ∧ a ≤ 10) (hb : 0 ≤ b ∧ b ≤ 10) : ∀ n : Nat, 0 ≤ t_pv a b s n ∧ t_pv a b s n ≤ 10 ^ n
  | 0 => (by decide : (0 : Int) ≤ 1 ∧ (1 : Int) ≤ 10 ^ 0)
  | n + 1 => by
    have h := t_pv_rg s ha hb n
    rw [t_pv_s]
    have hp : (0 : Int) < 10 ^ n := Int.pow_pos (by decide)
    generalize hc : (if e_bt s n = 1 then a else b) = c
    have h1 : 0 ≤ c ∧ c ≤ 10 := by
      subst hc
      split
      · exact ha
      · exact hb
    refine ⟨Int.mul_nonneg h.1 h1.1, ?_⟩
    rw [Int.pow_succ]
    exact Int.mul_le_mul h.2 h1.2 h1.1 (by omega)
theorem e_bt_low (s : Int) {n : Nat} {w : Int} (h0 : 0 ≤ w) (h1 : w < n) : e_bt (2 ^ n + s) w = e_bt s w := by
  unfold e_bt
  have e : (2 : Int) ^ n = 2 ^ w.toNat * (2 * 2 ^ (n - 1 - w.toNat)) := by
    rw [← Int.pow_succ', ← Int.pow_add]
    congr 1
    omega
  rw [e, Int.add_comm, Int.add_mul_ediv_left _ _ (show (2 : Int) ^ w.toNat ≠ 0 from Int.ne_of_gt (Int.pow_pos (by decide))), Int.add_mul_emod_self_left]
theorem e_bt_hi {s : Int} {n : Nat} (h0 : 0 ≤ s) (h1 : s < 2 ^ n) : e_bt s n = 0 ∧ e_bt (2 ^ n + s) n = 1 := by
  have hp : (0 : Int) < 2 ^ n := Int.pow_pos (by decide)
  unfold e_bt
  rw [Int.toNat_natCast]
  constructor
  · rw [Int.ediv_eq_zero_of_lt h0 h1]; rfl
  · rw [show (2 : Int) ^ n + s = s + 2 ^ n * 1 by omega, Int.add_mul_ediv_left _ _ (by omega), Int.ediv_eq_zero_of_lt h0 h1]; rfl
theorem t_pv_low (a b s : Int) {n : Nat} : ∀ m : Nat, m ≤ n → t_pv a b (2 ^ n + s) m = t_pv a b s m
  | 0, _ => rfl
  | m + 1, h => by
    rw [t_pv_s, t_pv_s, t_pv_low a b s m (by omega), e_bt_low s (by omega) (by omega)]
theorem t_sum_add (g : Int → Int) (m : Nat) : ∀ n : Nat, t_sum g (m + n) = t_sum g m + t_sum (fun i => g (m + i)) n
  | 0 => by simp [t_sum]
  | n + 1 => by
    show t_sum g (m + n) + g ((m + n : Nat) : Int) = t_sum g m + (t_sum (fun i => g (m + i)) n + g (m + n))
    rw [t_sum_add g m n, Int.natCast_add]
    omega
theorem t_sum_mul (g : Int → Int) (c : Int) : ∀ n : Nat, t_sum (fun i => g i * c) n = t_sum g n * c
  | 0 => by simp [t_sum]
  | n + 1 => by
    show t_sum (fun i => g i * c) n + g n * c = (t_sum g n + g n) * c
    rw [t_sum_mul g c n, Int.add_mul]
theorem t_sum_cg {g k : Int → Int} : ∀ n : Nat, (∀ i : Int, 0 ≤ i → i < n → g i = k i) → t_sum g n = t_sum k n
  | 0, _ => rfl
  | n + 1, h => by
    show t_sum g n + g n = t_sum k n + k n
    rw [t_sum_cg n (fun i a b => h i a (by omega)), h n (by omega) (by omega)]
/-- all sets together -/
theorem t_pv_all (a b : Int) : ∀ n : Nat, t_sum (fun s => t_pv a b s n) (2 ^ n) = (a + b) ^ n
  | 0 => by rw [Int.pow_zero]; rfl
  | n + 1 => by
    have e2 : ((2 ^ n : Nat) : Int) = 2 ^ n := by simp
    rw [show (2 : Nat) ^ (n + 1) = 2 ^ n + 2 ^ n by rw [Nat.pow_succ]; omega, t_sum_add]
    have h1 : t_sum (fun s => t_pv a b s (n + 1)) (2 ^ n) = t_sum (fun s => t_pv a b s n) (2 ^ n) * b := by
      rw [← t_sum_mul]
      refine t_sum_cg _ (fun i i0 i1 => ?_)
      show t_pv a b i (n + 1) = t_pv a b i n * b
      rw [t_pv_s, (e_bt_hi i0 (by omega)).1, if_neg (by decide)]
    have h2 : t_sum (fun i => t_pv a b (((2 ^ n : Nat) : Int) + i) (n + 1)) (2 ^ n) = t_sum (fun s => t_pv a b s n) (2 ^ n) * a := by
      rw [← t_sum_mul]
      refine t_sum_cg _ (fun i i0 i1 => ?_)
      show t_pv a b (((2 ^ n : Nat) : Int) + i) (n + 1) = t_pv a b i n * a
      rw [t_pv_s, e2, (e_bt_hi i0 (by omega)).2, if_pos rfl, t_pv_low a b i n (Nat.le_refl _)]
    rw [h1, h2, t_pv_all a b n, Int.pow_succ, ← Int.mul_add, Int.add_comm b a]
/-! fog -/
def t_fg0 (σ : t_S) : t_S := t_bg (s_up (s_up (s_up σ 39 0 0) 40 0 0) 41 0 0)
abbrev t_fgv (σ : t_S) (set : Int) : Int := t_pv (σ 1 2) (10 - σ 1 2) set (σ 1 7).toNat
def t_fgw (set : Int) (x : t_S) : t_S := t_wo (t_andn (2 ^ (x 1 7).toNat - 1) set) x
def t_fg1 (v : Int) (τ : t_S) : t_S := s_up τ 39 0 (τ 39 0 + v)
def t_fg2 (c v : Int) (τ : t_S) : t_S := s_up (t_fg1 v τ) 40 0 (t_fg1 v τ 40 0 + (if t_rdo τ c (τ 1 0) = 0 then 0 else v))
def t_fg3 (c v p : Int) (τ : t_S) : t_S := s_up (t_fg2 c v τ) 41 0 (t_fg2 c v τ 41 0 + v * p)
def t_fgf (c : Int) : Int → t_S → t_S := fun set x => if t_fgv x set = 0 then x else t_fg3 c (t_fgv x set) (t_pgl (t_fgw set x)) (t_fgw set x)
def t_fg (c : Int) (σ : t_S) : t_S := t_it (t_fgf c) ((2 : Int) ^ (σ 1 7).toNat).toNat (t_fg0 σ)
/-- what holds of the sets so far -/
def t_inFg (ρ : t_S) (i : Int) (x : t_S) : Prop := (∀ j, (j < 21 ∨ 32 < j) → j ≠ 18 → j ≠ 39 → j ≠ 40 → j ≠ 41 → x j = ρ j) ∧ t_ask x ∧ (0 ≤ x 39 0 ∧ x 39 0 ≤ i * 10000000) ∧ (0 ≤ x 40 0 ∧ x 40 0 ≤ i * 10000000) ∧ (0 ≤ x 41 0 ∧ x 41 0 ≤ i * 6400000000) ∧ x 39 0 = t_sum (t_fgv ρ) i.toNat
theorem t_fgv_rg {σ : t_S} (hz : t_sz σ) (hr : t_okR (σ 1)) (set : Int) {n : Nat} (hn : (n : Int) ≤ σ 1 7) : 0 ≤ t_pv (σ 1 2) (10 - σ 1 2) set n ∧ t_pv (σ 1 2) (10 - σ 1 2) set n ≤ 10000000 := by
  have h2 := hr.2.2.2.2.2.2.2
  have h7 := hz.2.2.2.2.2.1
  have h := t_pv_rg set ⟨h2.1, h2.2⟩ (b := 10 - σ 1 2) ⟨by omega, by omega⟩ n
  refine ⟨h.1, Int.le_trans h.2 ?_⟩
  have hle : n ≤ 7 := by omega
  have h3 := Nat.pow_le_pow_right (n := 10) (by decide) hle
  have e : ((10 ^ n : Nat) : Int) = 10 ^ n := by simp
  omega
theorem t_fgw_in {ρ x : t_S} {set : Int} (h38 : 0 ≤ ρ 38 0 ∧ ρ 38 0 < 2 ^ 7) (hx : t_ask x) (e38 : x 38 = ρ 38) : (∀ j, (j < 21 ∨ 32 < j) → j ≠ 18 → t_fgw set x j = x j) ∧ t_hist (t_fgw set x) := by
  have h := t_wo_in (ρ := x) (set := t_andn (2 ^ (x 1 7).toNat - 1) set) hx (by rw [e38]; exact h38)
  exact ⟨h.1, h.2.1⟩
theorem t_fg3_k {c v p : Int} {τ : t_S} {j : Nat} (h1 : j ≠ 39) (h2 : j ≠ 40) (h3 : j ≠ 41) : t_fg3 c v p τ j = τ j := (s_up_f h3).trans ((s_up_f h2).trans (s_up_f h1))
theorem t_fg3_v (c v p : Int) (τ : t_S) : t_fg3 c v p τ 39 0 = τ 39 0 + v ∧ t_fg3 c v p τ 40 0 = τ 40 0 + (if t_rdo τ c (τ 1 0) = 0 then 0 else v) ∧ t_fg3 c v p τ 41 0 = τ 41 0 + v * p := by
  unfold t_fg3 t_fg2 t_fg1
  refine ⟨?_, ?_, ?_⟩
  · rw [s_up_k (by decide), s_up_k (by decide), s_up_eq]
  · rw [s_up_k (by decide), s_up_eq, s_up_k (by decide)]
  · rw [s_up_eq, s_up_k (by decide), s_up_k (by decide)]
theorem t_fgf_in {ρ x : t_S} {c i : Int} (hz : t_sz ρ) (hr : t_okR (ρ 1)) (h38 : 0 ≤ ρ 38 0 ∧ ρ 38 0 < 2 ^ 7) (hi : 0 ≤ i) (h : t_inFg ρ i x) : t_inFg ρ (i + 1) (t_fgf c i x) := by
  obtain ⟨h1, h2, h3, h4, h5, h6⟩ := h
  have e1 := h1 1 (by omega) (by decide) (by decide) (by decide) (by decide)
  have ev : t_fgv x i = t_fgv ρ i := by unfold t_fgv; rw [e1]
  have hv : 0 ≤ t_fgv ρ i ∧ t_fgv ρ i ≤ 10000000 := t_fgv_rg hz hr i (by have := hz.2.2.2.2.2.1; omega)
  have hs : t_sum (t_fgv ρ) (i + 1).toNat = t_sum (t_fgv ρ) i.toNat + t_fgv ρ i := t_sum_s _ hi
  unfold t_fgf
  rw [ev]
  split
  · rename_i q
    exact ⟨h1, h2, ⟨h3.1, by omega⟩, ⟨h4.1, by omega⟩, ⟨h5.1, by omega⟩, by rw [hs, q, Int.add_zero]; exact h6⟩
  · have hw := t_fgw_in (set := i) h38 h2 (h1 38 (by omega) (by decide) (by decide) (by decide) (by decide))
    have hp := t_pgm_rg (t_fgw i x) (t_fgw i x 1 0)
    have g := t_fg3_v c (t_fgv ρ i) (t_pgl (t_fgw i x)) (t_fgw i x)
    rw [hw.1 39 (by omega) (by decide), hw.1 40 (by omega) (by decide), hw.1 41 (by omega) (by decide)] at g
    generalize t_fgv ρ i = v at *
    have hp2 : 0 ≤ v * t_pgl (t_fgw i x) ∧ v * t_pgl (t_fgw i x) ≤ 6400000000 := by
      refine ⟨Int.mul_nonneg hv.1 hp.1, ?_⟩
      exact Int.le_trans (Int.mul_le_mul hv.2 hp.2 hp.1 (by decide)) (by decide)
    refine ⟨fun j j1 j2 j3 j4 j5 => (t_fg3_k j3 j4 j5).trans ((hw.1 j j1 j2).trans (h1 j j1 j2 j3 j4 j5)), t_ask_of hw.2.1 (fun j hj => t_fg3_k (by omega) (by omega) (by omega)), ?_, ?_, ?_, ?_⟩
    · rw [g.1]; omega
    · rw [g.2.1]
      split <;> omega
    · rw [g.2.2]; omega
    · rw [g.1, hs]; omega
theorem t_fgl_in {ρ : t_S} {c : Int} (ha : t_ask ρ) (h38 : 0 ≤ ρ 38 0 ∧ ρ 38 0 < 2 ^ 7) (h0 : ρ 39 0 = 0 ∧ ρ 40 0 = 0 ∧ ρ 41 0 = 0) (n : Nat) : t_inFg ρ n (t_it (t_fgf c) n ρ) :=
  t_it_P (fun i z => t_inFg ρ i z) ⟨fun _ _ _ _ _ _ => rfl, ha, by omega, by omega, by omega, h0.1⟩ n (fun i _ _ _ hx => t_fgf_in ha.1 ha.2.1 h38 (Int.natCast_nonneg i) hx)
theorem t_fg0_in {σ : t_S} (hz : t_sz σ) (hr : t_okR (σ 1)) : t_ask (t_fg0 σ) ∧ (0 ≤ t_fg0 σ 38 0 ∧ t_fg0 σ 38 0 < 2 ^ 7) ∧ (t_fg0 σ 39 0 = 0 ∧ t_fg0 σ 40 0 = 0 ∧ t_fg0 σ 41 0 = 0) ∧ (∀ j, (j < 15 ∨ 20 < j) → j ≠ 38 → j ≠ 39 → j ≠ 40 → j ≠ 41 → t_fg0 σ j = σ j) := by
  have hz0 : t_sz (s_up (s_up (s_up σ 39 0 0) 40 0 0) 41 0 0) := hz
  have h := t_bg_in hz0 hr
  have e : ∀ j, (j < 15 ∨ 20 < j) → j ≠ 38 → t_fg0 σ j = s_up (s_up (s_up σ 39 0 0) 40 0 0) 41 0 0 j := fun j j1 j2 => (s_up_f j2).trans (t_is_k (by omega) (by omega) (by omega) (by omega) (by omega) _)
  refine ⟨h.1, h.2.1, ⟨?_, ?_, ?_⟩, fun j j1 j2 j3 j4 j5 => (e j j1 j2).trans ((s_up_f j5).trans ((s_up_f j4).trans (s_up_f j3)))⟩
  · rw [e 39 (by omega) (by decide), s_up_k (by decide), s_up_k (by decide), s_up_eq]
  · rw [e 40 (by omega) (by decide), s_up_k (by decide), s_up_eq]
  · rw [e 41 (by omega) (by decide), s_up_eq]
theorem t_fg_in {σ : t_S} (hz : t_sz σ) (hr : t_okR (σ 1)) (c : Int) : t_inFg (t_fg0 σ) ((2 : Int) ^ (σ 1 7).toNat).toNat (t_fg c σ) ∧ t_pk (t_fg c σ) σ ∧ t_fg c σ 39 0 = 10 ^ (σ 1 7).toNat := by
  obtain ⟨h1, h2, h3, h4⟩ := t_fg0_in hz hr
  have h := t_fgl_in (c := c) h1 h2 h3 ((2 : Int) ^ (σ 1 7).toNat).toNat
  have e1 : t_fg0 σ 1 = σ 1 := h4 1 (by omega) (by decide) (by decide) (by decide) (by decide)
  refine ⟨h, fun k hk => ?_, ?_⟩
  · unfold t_per at hk
    exact (h.1 k (by omega) (by omega) (by omega) (by omega) (by omega)).trans (h4 k (by omega) (by omega) (by omega) (by omega) (by omega))
  · have h6 := h.2.2.2.2.2
    have e2 := e_p2n (σ 1 7).toNat
    rw [Int.toNat_natCast, e2] at h6
    show t_it (t_fgf c) _ (t_fg0 σ) 39 0 = _
    rw [e2, h6, show t_fgv (t_fg0 σ) = fun s => t_pv (σ 1 2) (10 - σ 1 2) s (σ 1 7).toNat by funext s; unfold t_fgv; rw [e1], t_pv_all]
    congr 1
    omega
def v_chance (σ : t_S) (c w : Int) : Int := if t_isCell σ c ∧ 0 ≤ w ∧ w ≤ 1 then t_part (t_fg c σ 40 0) (t_fg c σ 39 0) w else -2
def v_mean (σ : t_S) (w : Int) : Int := if t_isC σ ∧ 0 ≤ w ∧ w ≤ 1 then t_part (t_fg 0 σ 41 0) (t_fg 0 σ 39 0) w else -2
/-! shares -/
def t_shf : Int → t_S → t_S := fun set x => s_up (t_wo set x) 37 set (t_pgl (t_wo set x))
def t_sh (σ : t_S) : t_S := t_it t_shf ((2 : Int) ^ (σ 1 7).toNat).toNat σ
def t_inS (ρ : t_S) (i : Int) (x : t_S) : Prop := (∀ j, (j < 21 ∨ 32 < j) → j ≠ 18 → j ≠ 37 → x j = ρ j) ∧ t_ask x ∧ ∀ j, 0 ≤ j → j < i → 0 ≤ x 37 j ∧ x 37 j ≤ 640
theorem t_shf_in {ρ x : t_S} {i : Int} (h38 : 0 ≤ ρ 38 0 ∧ ρ 38 0 < 2 ^ 7) (h : t_inS ρ i x) : t_inS ρ (i + 1) (t_shf i x) := by
  have hw := t_wo_in (ρ := x) (set := i) h.2.1 (by rw [h.1 38 (by omega) (by decide) (by decide)]; exact h38)
  have hp := t_pgm_rg (t_wo i x) (t_wo i x 1 0)
  refine ⟨fun j j1 j2 j3 => (s_up_f j3).trans ((hw.1 j j1 j2).trans (h.1 j j1 j2 j3)), t_ask_of hw.2.1.1 (fun j hj => s_up_f (by omega)), fun j j0 j1 => ?_⟩
  unfold t_shf
  by_cases q : j = i
  · subst q; rw [s_up_eq]; exact hp
  · rw [s_up_j q, hw.1 37 (by omega) (by decide)]
    exact h.2.2 j j0 (by omega)
theorem t_shl_in {ρ : t_S} (ha : t_ask ρ) (h38 : 0 ≤ ρ 38 0 ∧ ρ 38 0 < 2 ^ 7) (n : Nat) : t_inS ρ n (t_it t_shf n ρ) :=
  t_it_P (fun i z => t_inS ρ i z) ⟨fun _ _ _ _ => rfl, ha, fun j a b => by omega⟩ n (fun _ _ _ _ hx => t_shf_in h38 hx)
def t_smg (x : t_S) (n w : Int) : Int → Int := fun s => if e_bt s w = 0 then t_fac (e_bsum s 16) * t_fac (n - 1 - e_bsum s 16) * (x 37 (t_or s (2 ^ w.toNat)) - x 37 s) else 0
def v_share (σ : t_S) (w k : Int) : Int := if t_isW σ w ∧ 0 ≤ k ∧ k ≤ 1 then t_part (t_sum (t_smg (t_sh (t_bg σ)) (σ 1 7) w) ((2 : Int) ^ (σ 1 7).toNat).toNat) (t_fac (σ 1 7)) k else -1000000
theorem e_bsum_hi {s : Int} {n : Nat} (h0 : 0 ≤ s) (h1 : s < 2 ^ n) : ∀ m : Nat, e_bsum s (n + m) = e_bsum s n
  | 0 => rfl
  | m + 1 => by
    show e_bsum s (n + m) + e_bt s ((n + m : Nat) : Int) = _
    have hle : s < 2 ^ (n + m) := by
      have h2 := Nat.pow_le_pow_right (n := 2) (by decide) (show n ≤ n + m by omega)
      have e1 : ((2 ^ n : Nat) : Int) = 2 ^ n := by simp
      have e2 : ((2 ^ (n + m) : Nat) : Int) = 2 ^ (n + m) := by simp
      omega
    rw [e_bsum_hi h0 h1 m, (e_bt_hi h0 hle).1, Int.add_zero]
theorem e_bsum_lt {s w : Int} (hw : 0 ≤ w) (h : e_bt s w = 0) : ∀ n : Nat, w < n → e_bsum s n ≤ n - 1
  | 0, q => by omega
  | n + 1, q => by
    have h1 := e_bt01 s n
    show e_bsum s n + e_bt s n ≤ ((n + 1 : Nat) : Int) - 1
    by_cases e : w = n
    · rw [← e, h]
      have := (e_bsum_rg s n).2
      omega
    · have := e_bsum_lt hw h n (by omega)
      omega
theorem e_bsum_le {s w : Int} {n : Nat} (h0 : 0 ≤ s) (h1 : s < 2 ^ n) (hn : n ≤ 16) (hw : 0 ≤ w ∧ w < n) (h : e_bt s w = 0) : 0 ≤ e_bsum s 16 ∧ e_bsum s 16 ≤ n - 1 := by
  have e := e_bsum_hi h0 h1 (16 - n)
  rw [show n + (16 - n) = 16 by omega] at e
  rw [e]
  exact ⟨(e_bsum_rg s n).1, e_bsum_lt hw.1 h n hw.2⟩
theorem t_smg_rg {x : t_S} {n w i : Int} (hn : 1 ≤ n ∧ n ≤ 7) (hw : 0 ≤ w ∧ w < n) (hi : 0 ≤ i ∧ i < 2 ^ n.toNat) (h : ∀ j, 0 ≤ j → j < 2 ^ n.toNat → 0 ≤ x 37 j ∧ x 37 j ≤ 640) : -16257024000 ≤ t_smg x n w i ∧ t_smg x n w i ≤ 16257024000 := by
  unfold t_smg
  split
  · rename_i q
    have hb := e_bsum_le (n := n.toNat) hi.1 hi.2 (by omega) ⟨hw.1, by omega⟩ q
    have f1 := t_fac_rg (e_bsum i 16) hb.1 (by omega)
    have f2 := t_fac_rg (n - 1 - e_bsum i 16) (by omega) (by omega)
    have hp := e_pow_lt n.toNat (k := w) ⟨hw.1, by omega⟩
    have ho := t_or_rg n.toNat (a := i) (b := 2 ^ w.toNat) ⟨hi.1, hi.2⟩ ⟨by omega, hp.2⟩
    have g1 := h _ ho.1 ho.2
    have g2 := h i hi.1 hi.2
    generalize t_fac (e_bsum i 16) = a at *
    generalize t_fac (n - 1 - e_bsum i 16) = b at *
    have hd : -640 ≤ x 37 (t_or i (2 ^ w.toNat)) - x 37 i ∧ x 37 (t_or i (2 ^ w.toNat)) - x 37 i ≤ 640 := ⟨by omega, by omega⟩
    generalize x 37 (t_or i (2 ^ w.toNat)) - x 37 i = d at hd
    have h1 : 0 ≤ a * b ∧ a * b ≤ 25401600 := ⟨Int.mul_nonneg (by omega) (by omega), Int.le_trans (Int.mul_le_mul f1.2 f2.2 (by omega) (by decide)) (by decide)⟩
    generalize a * b = e at h1
    refine ⟨?_, ?_⟩
    · have := Int.mul_le_mul_of_nonneg_left hd.1 h1.1
      omega
    · have := Int.mul_le_mul_of_nonneg_left hd.2 h1.1
      omega
  · decide
theorem t_sum_rg2 {g : Int → Int} {b : Int} : ∀ n : Nat, (∀ i : Int, 0 ≤ i → i < n → -b ≤ g i ∧ g i ≤ b) → -(n * b) ≤ t_sum g n ∧ t_sum g n ≤ n * b
  | 0, _ => by simp [t_sum]
  | n + 1, h => by
    have h1 := t_sum_rg2 n (fun i a c => h i a (by omega))
    have h2 := h n (by omega) (by omega)
    have h3 : t_sum g (n + 1) = t_sum g n + g n := rfl
    have h4 : ((n + 1 : Nat) : Int) * b = n * b + b := by rw [Int.natCast_add, Int.add_mul]; simp
    omega
theorem t_hist_lt {σ τ : t_S} (h : t_hist σ) (e : ∀ j, j < 33 → τ j = σ j) : t_hist τ := by
  unfold t_hist t_h1 t_h2 t_h3 t_h4 t_ask t_sz t_b01 t_oneR t_bes at *
  rw [e 1 (by decide), e 15 (by decide), e 16 (by decide), e 17 (by decide), e 18 (by decide), e 19 (by decide), e 20 (by decide), e 26 (by decide), e 27 (by decide), e 29 (by decide), e 30 (by decide), e 31 (by decide), e 32 (by decide)]
  exact h
theorem e_top {M : e_M} {pc : Nat} {al st : List Value} {h : e_A} {kc ks d : Nat} {Q : e_R → e_A → Prop} {w : Value} (v : Value) (hv : w = v) (k : e_E M pc al (v :: st) h kc ks d Q) : e_E M pc al (w :: st) h kc ks d Q := by
  rw [hv]
  exact k
theorem t_fg_b {σ : t_S} (hz : t_sz σ) (hr : t_okR (σ 1)) (c : Int) : (0 ≤ t_fg c σ 40 0 ∧ t_fg c σ 40 0 < 1000000000000000) ∧ (0 < t_fg c σ 39 0 ∧ t_fg c σ 39 0 < 1000000000000000) ∧ (0 ≤ t_fg c σ 41 0 ∧ t_fg c σ 41 0 < 1000000000000000) := by
  obtain ⟨h, -, h3⟩ := t_fg_in hz hr c
  have h7 := hz.2.2.2.2.2.1
  have e2 := e_p2n (σ 1 7).toNat
  have hle := Nat.pow_le_pow_right (n := 2) (by decide) (show (σ 1 7).toNat ≤ 7 by omega)
  rw [e2] at h
  have hp : (0 : Int) < 10 ^ (σ 1 7).toNat := Int.pow_pos (by decide)
  obtain ⟨-, -, g1, g2, g3, -⟩ := h
  rw [← h3] at hp
  refine ⟨⟨g2.1, by omega⟩, ⟨hp, by omega⟩, ⟨g3.1, by omega⟩⟩
theorem t_p7 {σ : t_S} (hz : t_sz σ) : 0 < (2 : Int) ^ (σ 1 7).toNat ∧ (2 : Int) ^ (σ 1 7).toNat ≤ 128 := by
  have h7 := hz.2.2.2.2.2.1
  have hp : (0 : Int) < 2 ^ (σ 1 7).toNat := Int.pow_pos (by decide)
  have hle := Nat.pow_le_pow_right (n := 2) (by decide) (show (σ 1 7).toNat ≤ 7 by omega)
  have e2 : ((2 ^ (σ 1 7).toNat : Nat) : Int) = 2 ^ (σ 1 7).toNat := by simp
  omega
