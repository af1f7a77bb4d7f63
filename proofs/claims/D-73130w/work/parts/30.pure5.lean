/-! THE TWIN'S PURE FORM, FIVE: bridges, lines, covers, blame -/
set_option maxRecDepth 100000
theorem t_xor_rg (n : Nat) {a b : Int} (ha : 0 ≤ a ∧ a < 2 ^ n) (hb : 0 ≤ b ∧ b < 2 ^ n) : 0 ≤ t_xor a b ∧ t_xor a b < 2 ^ n := by
  unfold t_xor
  have e : ((2 ^ n : Nat) : Int) = 2 ^ n := by simp
  have h1 : a.toNat < 2 ^ n := by have := ha.2; omega
  have h2 : b.toNat < 2 ^ n := by have := hb.2; omega
  have h3 := Nat.xor_lt_two_pow h1 h2
  omega
theorem t_xor_xor {a b : Int} (ha : 0 ≤ a) : t_xor (t_xor a b) b = a := by
  unfold t_xor
  rw [Int.toNat_natCast, Nat.xor_assoc, Nat.xor_self, Nat.xor_zero]
  omega
theorem t_bes_st {σ : t_S} {c d : Int} (hd : d = 1 ∨ d = 2) (h : t_bes σ c d ≠ -1) : (d = 1 ∧ t_bes σ c d = 10 * (c / 10 + 1) + c % 10 ∧ c / 10 + 1 ≤ σ 1 3 - 1) ∨ (d = 2 ∧ t_bes σ c d = 10 * (c / 10) + (c % 10 + 1) ∧ c % 10 + 1 ≤ σ 1 4 - 1) := by
  unfold t_bes at h ⊢
  by_cases q : (0 ≤ c / 10 + t_acr d ∧ c / 10 + t_acr d ≤ σ 1 3 - 1) ∧ 0 ≤ c % 10 + t_dwn d ∧ c % 10 + t_dwn d ≤ σ 1 4 - 1
  · rw [if_pos q]
    rcases hd with rfl | rfl
    · have e1 : t_acr 1 = 1 := by decide
      have e2 : t_dwn 1 = 0 := by decide
      left
      exact ⟨rfl, by omega, by omega⟩
    · have e1 : t_acr 2 = 0 := by decide
      have e2 : t_dwn 2 = 1 := by decide
      right
      exact ⟨rfl, by omega, by omega⟩
  · rw [if_neg q] at h
    exact absurd rfl h
/-- two pegs turned, two cells -/
def t_tg (p q b1 b2 : Int) (τ : t_S) : t_S := s_up (s_up τ 31 p (t_xor (τ 31 p) b1)) 31 q (t_xor (s_up τ 31 p (t_xor (τ 31 p) b1) 31 q) b2)
def t_brq (y c d : Int) (τ : t_S) : t_S := t_lyf c y (t_tg (80 * y + c) (80 * y + t_bes τ c d) (2 ^ d.toNat) (2 ^ ((d + 2) % 4).toNat) τ)
def t_brf (y c : Int) : Int → t_S × Int → t_S × Int := fun d x => if e_bt (t_pgs x.1 c y) d = 0 then x else (t_tg (80 * y + c) (80 * y + t_bes x.1 c d) (2 ^ d.toNat) (2 ^ ((d + 2) % 4).toNat) (t_brq y c d x.1), x.2 + (if t_brq y c d x.1 33 (t_bes x.1 c d) = -1 then 1 else 0))
theorem t_tg_k {p q b1 b2 : Int} {τ : t_S} {j : Nat} (h : j ≠ 31) : t_tg p q b1 b2 τ j = τ j := (s_up_f h).trans (s_up_f h)
theorem t_tg_tg {p q b1 b2 : Int} {τ ρ : t_S} (hpq : p ≠ q) (h : τ 31 = t_tg p q b1 b2 ρ 31) (hp : 0 ≤ ρ 31 p) (hq : 0 ≤ ρ 31 q) : t_tg p q b1 b2 τ 31 = ρ 31 := by
  funext j
  unfold t_tg
  have e1 : τ 31 p = t_xor (ρ 31 p) b1 := by rw [h]; unfold t_tg; rw [s_up_j hpq, s_up_eq]
  have e2 : τ 31 q = t_xor (ρ 31 q) b2 := by rw [h]; unfold t_tg; rw [s_up_eq, s_up_j (Ne.symm hpq)]
  by_cases jq : j = q
  · subst jq
    rw [s_up_eq, s_up_j (Ne.symm hpq), e2, t_xor_xor hq]
  · rw [s_up_j jq]
    by_cases jp : j = p
    · subst jp
      rw [s_up_eq, e1, t_xor_xor hp]
    · rw [s_up_j jp, h]
      unfold t_tg
      rw [s_up_j jq, s_up_j jp]
theorem t_tg_rg {p q b1 b2 : Int} {τ : t_S} (hb1 : 0 ≤ b1 ∧ b1 < 2 ^ 4) (hb2 : 0 ≤ b2 ∧ b2 < 2 ^ 4) (P : Int → Prop) (hp : P p) (hq : P q) (h : ∀ j, P j → 0 ≤ τ 31 j ∧ τ 31 j < 2 ^ 4) : ∀ j, P j → 0 ≤ t_tg p q b1 b2 τ 31 j ∧ t_tg p q b1 b2 τ 31 j < 2 ^ 4 := by
  have h1 : ∀ j, P j → 0 ≤ s_up τ 31 p (t_xor (τ 31 p) b1) 31 j ∧ s_up τ 31 p (t_xor (τ 31 p) b1) 31 j < 2 ^ 4 := by
    intro j hj
    by_cases e : j = p
    · subst e; rw [s_up_eq]; exact t_xor_rg 4 (h j hj) hb1
    · rw [s_up_j e]; exact h j hj
  intro j hj
  unfold t_tg
  by_cases e : j = q
  · subst e; rw [s_up_eq]; exact t_xor_rg 4 (h1 j hj) hb2
  · rw [s_up_j e]; exact h1 j hj
def t_inB (σ : t_S) (i : Int) (x : t_S × Int) : Prop := (∀ j, j ≠ 33 → x.1 j = σ j) ∧ 0 ≤ x.2 ∧ x.2 ≤ i
/-- a bridge asked -/
theorem t_brq_in {σ : t_S} {y c d : Int} (H : t_hist σ) (hy : 0 ≤ y ∧ y ≤ σ 1 0) (hc : 0 ≤ c ∧ c < 80) (hd : d = 1 ∨ d = 2) (hb : e_bt (t_pgs σ c y) d = 1) : (0 ≤ t_bes σ c d ∧ t_bes σ c d < 80 ∧ t_bes σ c d ≠ c) ∧ t_lh (t_tg (80 * y + c) (80 * y + t_bes σ c d) (2 ^ d.toNat) (2 ^ ((d + 2) % 4).toNat) σ) y := by
  have h1 := (H.2.1 y c hy.1 hy.2 hc.1 hc.2).2.2 d (by omega) (by omega) hb
  have hr := t_bes_rg H.1.1 c d
  have hs := t_bes_st hd h1.1
  refine ⟨⟨by omega, hr.2, by omega⟩, ?_⟩
  refine ⟨by unfold t_sz; rw [t_tg_k (by decide)]; exact H.1.1, by unfold t_b01; rw [t_tg_k (by decide)]; exact H.1.2.2.1, Or.inr ⟨by rw [t_tg_k (by decide)]; exact hy, fun a a0 a1 => ?_⟩⟩
  refine t_tg_rg (t_p16 ⟨by omega, by omega⟩) (t_p16 ⟨by omega, by omega⟩) (fun j => 80 * y ≤ j ∧ j < 80 * y + 80) ⟨by omega, by omega⟩ ⟨by omega, by omega⟩ (fun j hj => ?_) (80 * y + a) ⟨by omega, by omega⟩
  have h2 := (H.2.1 y (j - 80 * y) hy.1 hy.2 (by omega) (by omega)).2.1
  rw [show 80 * y + (j - 80 * y) = j by omega] at h2
  exact h2
theorem t_brf_in {σ : t_S} {y c d i : Int} {x : t_S × Int} (H : t_hist σ) (hy : 0 ≤ y ∧ y ≤ σ 1 0) (hc : 0 ≤ c ∧ c < 80) (hd : d = 1 ∨ d = 2) (h : t_inB σ i x) : t_inB σ (i + 1) (t_brf y c d x) := by
  have Hx : t_hist x.1 := t_hist_of H (fun j j1 _ _ _ => h.1 j j1)
  have hyx : 0 ≤ y ∧ y ≤ x.1 1 0 := by rw [h.1 1 (by decide)]; exact hy
  have h01 := e_bt01 (t_pgs x.1 c y) d
  unfold t_brf
  split
  · exact ⟨h.1, h.2.1, by have := h.2.2; omega⟩
  · have hq := t_brq_in Hx hyx hc hd (by omega)
    obtain ⟨⟨q1, q2, q3⟩, hl⟩ := hq
    have hly := t_lyf_in (y := y) hl.1 hc
    refine ⟨fun j hj => ?_, ?_, ?_⟩
    · by_cases e : j = 31
      · subst e
        have h2 := (Hx.2.1 y c hyx.1 hyx.2 hc.1 hc.2).2.1
        have h3 := (Hx.2.1 y (t_bes x.1 c d) hyx.1 hyx.2 q1 q2).2.1
        refine (t_tg_tg (ρ := x.1) (by omega) ?_ h2.1 h3.1).trans (h.1 31 (by decide))
        exact hly.1 31 (by decide)
      · refine (t_tg_k e).trans ?_
        exact (hly.1 j hj).trans ((t_tg_k e).trans (h.1 j hj))
    · have := h.2.1
      show 0 ≤ x.2 + (if _ then (1 : Int) else 0)
      split <;> omega
    · have := h.2.2
      show x.2 + (if _ then (1 : Int) else 0) ≤ i + 1
      split <;> omega
def t_brc (y : Int) : Int → t_S × Int → t_S × Int := fun c x => t_brf y c 2 (t_brf y c 1 x)
def t_br (y : Int) (σ : t_S) : t_S × Int := t_it (t_brc y) 80 (σ, 0)
theorem t_brc_in {σ : t_S} {y : Int} (H : t_hist σ) (hy : 0 ≤ y ∧ y ≤ σ 1 0) (n : Nat) (hn : n ≤ 80) : t_inB σ (2 * n) (t_it (t_brc y) n (σ, 0)) :=
  t_it_P (fun i z => t_inB σ (2 * i) z) ⟨fun _ _ => rfl, Int.le_refl 0, Int.le_refl 0⟩ n (fun i z _ _ hz => by
    have h1 := t_brf_in (c := (i : Int)) H hy ⟨by omega, by omega⟩ (Or.inl rfl) hz
    have h2 := t_brf_in (c := (i : Int)) H hy ⟨by omega, by omega⟩ (Or.inr rfl) h1
    rw [show 2 * ((i : Int) + 1) = 2 * i + 1 + 1 by omega]
    exact h2)
def v_bridges (ρ : t_S) (y : Int) : Int := if t_isY ρ y then (t_br y ρ).2 else -2
/-- a line -/
def t_lne (σ : t_S) (y d : Int) : Nat → Int → Int → Int
  | 0, _, n => n
  | f + 1, k, n => if e_bt (t_pgs σ k y) d = 1 then t_lne σ y d f (t_bes σ k d) (n + 1) else n
theorem t_lne_rg (σ : t_S) (y d : Int) : ∀ (f : Nat) (k n : Int), n ≤ t_lne σ y d f k n ∧ t_lne σ y d f k n ≤ n + f
  | 0, _, n => ⟨Int.le_refl _, by show n ≤ n + ((0 : Nat) : Int); omega⟩
  | f + 1, k, n => by
    unfold t_lne
    split
    · have := t_lne_rg σ y d f (t_bes σ k d) (n + 1)
      omega
    · omega
def t_mx (a b : Int) : Int := if b ≤ a then a else b
def t_lnf (σ : t_S) (y : Int) : Int → Int → Int := fun c m => t_mx (t_mx m (t_lne σ y 1 11 c 0)) (t_lne σ y 2 11 c 0)
def v_line (ρ : t_S) (y : Int) : Int := if t_isY ρ y then t_it (t_lnf ρ y) 80 0 else -2
theorem t_mx_rg {a b m : Int} (ha : 0 ≤ a ∧ a ≤ m) (hb : 0 ≤ b ∧ b ≤ m) : 0 ≤ t_mx a b ∧ t_mx a b ≤ m := by
  unfold t_mx
  split <;> omega
theorem t_lnf_rg (σ : t_S) (y : Int) (n : Nat) : 0 ≤ t_it (t_lnf σ y) n 0 ∧ t_it (t_lnf σ y) n 0 ≤ 11 :=
  t_it_P (fun _ m => 0 ≤ m ∧ m ≤ 11) (by decide) n (fun i m _ _ h => by
    have h1 := t_lne_rg σ y 1 11 i 0
    have h2 := t_lne_rg σ y 2 11 i 0
    exact t_mx_rg (t_mx_rg h ⟨by omega, by omega⟩) ⟨by omega, by omega⟩)
/-- all of the first n -/
def t_alg (b : Int) (g : Int → Int) : Nat → Int
  | 0 => b
  | n + 1 => if t_alg b g n = 0 then 0 else g n
theorem t_alg_s (b : Int) (g : Int → Int) {i : Int} (hi : 0 ≤ i) : t_alg b g (i + 1).toNat = if t_alg b g i.toNat = 0 then 0 else g i := by
  rw [show (i + 1).toNat = i.toNat + 1 by omega]
  show (if t_alg b g i.toNat = 0 then 0 else g ((i.toNat : Nat) : Int)) = _
  rw [Int.toNat_of_nonneg hi]
theorem t_alg_stop {b : Int} {g : Int → Int} {i : Nat} (h : t_alg b g i = 0) : ∀ n : Nat, i ≤ n → t_alg b g n = 0
  | 0, q => by rw [show i = 0 by omega] at h; exact h
  | n + 1, q => by
    by_cases e : i = n + 1
    · rw [← e]; exact h
    · unfold t_alg
      rw [if_pos (t_alg_stop h n (by omega))]
theorem t_alg01 {b : Int} {g : Int → Int} (hb : b = 0 ∨ b = 1) (hg : ∀ i, g i = 0 ∨ g i = 1) : ∀ n, t_alg b g n = 0 ∨ t_alg b g n = 1
  | 0 => hb
  | n + 1 => by
    unfold t_alg
    split
    · exact Or.inl rfl
    · exact hg n
def t_cvg (σ : t_S) (set : Int) : Int → Int := fun c => if t_rdo σ c (σ 1 0) = 0 ∨ t_and (t_wdo σ c) set ≠ 0 then 1 else 0
theorem t_cvg01 (σ : t_S) (set i : Int) : t_cvg σ set i = 0 ∨ t_cvg σ set i = 1 := by
  unfold t_cvg
  split <;> simp
def t_cvb (best set : Int) : Int := if best = -1 ∨ e_bsum set 16 < e_bsum best 16 then 1 else 0
def t_cvf (σ : t_S) : Int → Int → Int := fun set best => if t_alg (t_cvb best set) (t_cvg σ set) 80 = 0 then best else set
def t_cov (σ : t_S) : Int := t_it (t_cvf σ) (2 ^ (σ 1 7).toNat - 1 + 1 : Int).toNat (-1)
theorem t_cvl_rg (σ : t_S) : ∀ n : Nat, -1 ≤ t_it (t_cvf σ) n (-1) ∧ t_it (t_cvf σ) n (-1) < n := fun n =>
  t_it_P (fun i m => -1 ≤ m ∧ m < i) (by decide) n (fun i m _ _ h => by
    unfold t_cvf
    split <;> omega)
def v_cover (ρ : t_S) : Int := if t_isC ρ then e_bsum (t_cov ρ) 16 else -2
def v_covers (ρ : t_S) : Int := if t_isC ρ then t_cov ρ else -2
/-- houses served -/
def t_svg (σ : t_S) (c y : Int) : Int → Int := fun d => if t_bes σ c d ≠ -1 ∧ t_rdo σ (t_bes σ c d) y = 1 then 1 else 0
theorem t_svg01 (σ : t_S) (c y : Int) (n : Nat) : t_anyg (t_svg σ c y) n = 0 ∨ t_anyg (t_svg σ c y) n = 1 := t_anyg01 (fun i => by unfold t_svg; split <;> simp) n
def t_srv (σ : t_S) (c y : Int) : Int := if c = -1 then 0 else t_anyg (t_svg σ c y) 4
def t_sdg (σ : t_S) (y : Int) : Int → Int := fun h => t_srv σ (σ 32 (6 * y + h)) y
def v_served (ρ : t_S) (y : Int) : Int := if t_isY ρ y then t_sum (t_sdg ρ y) (ρ 1 6).toNat else -2
/-- whom to blame -/
abbrev t_Y : Type := t_S × Int × Int
def t_bl1 (wk w : Int) (τ : t_S) : t_S := t_ga (s_up τ 18 0 (t_andn wk (2 ^ w.toNat)))
def t_blf (wk : Int) : Int → t_Y → t_Y := fun w x => if x.2.1 ≤ t_mva (t_bl1 wk w x.1) then (t_bl1 wk w x.1, x.2.1, x.2.2) else (t_bl1 wk w x.1, t_mva (t_bl1 wk w x.1), w)
def t_bl (ρ : t_S) : t_Y := t_it (t_blf (ρ 18 0)) (ρ 1 7).toNat (ρ, t_mva ρ, -1)
def v_blame (ρ : t_S) : Int := if t_isC ρ then (t_bl ρ).2.2 else -2
def t_fd1 (k : Int) (τ : t_S) : t_S := s_up (t_ga (s_up τ 15 (τ 1 (10 + k)) 0)) 15 (t_ga (s_up τ 15 (τ 1 (10 + k)) 0) 1 (10 + k)) (τ 15 (τ 1 (10 + k)))
abbrev t_pgl (τ : t_S) : Int := t_pgm τ (τ 1 0)
def t_fof : Int → t_Y → t_Y := fun k x => if x.2.1 < t_pgl (t_fd1 k x.1) then (t_fd1 k x.1, t_pgl (t_fd1 k x.1), k) else (t_fd1 k x.1, x.2.1, x.2.2)
def t_fo (ρ : t_S) : t_Y := t_it t_fof (ρ 1 5).toNat (ρ, t_pgl ρ, -1)
def v_ford (ρ : t_S) : Int := if t_isC ρ then (t_fo ρ).2.2 else -2
theorem t_rdm_rg {σ : t_S} {y : Int} (H : t_hist σ) (hy : 0 ≤ y ∧ y ≤ σ 1 0) : 0 ≤ t_rdm σ y ∧ t_rdm σ y ≤ 80 := by
  have h := t_sum_rg (g := t_rdg σ y) (b := 1) 80 (fun i i0 i1 => by
    have := (H.2.1 y i hy.1 hy.2 i0 (by omega)).1
    show 0 ≤ t_rdo σ i y ∧ t_rdo σ i y ≤ 1
    show 0 ≤ σ 30 (80 * y + i) ∧ σ 30 (80 * y + i) ≤ 1
    omega)
  unfold t_rdm
  omega
theorem t_pgm_rg (σ : t_S) (y : Int) : 0 ≤ t_pgm σ y ∧ t_pgm σ y ≤ 640 := by
  have hs := t_sum_rg (g := t_pgg σ y) (b := 16) 80 (fun i _ _ => e_bsum_rg _ 16)
  unfold t_pgm
  omega
theorem t_mva_rg {σ : t_S} (H : t_hist σ) : 0 ≤ t_mva σ ∧ t_mva σ ≤ 546 := by
  have h6 := H.1.1.2.2.2.2.1
  have h := t_sum_rg (g := σ 29) (b := 91) (σ 1 6).toNat (fun i i0 i1 => H.2.2.2.2 i i0 (by omega))
  unfold t_mva
  have h2 : ((σ 1 6).toNat : Int) * 91 ≤ 6 * 91 := Int.mul_le_mul_of_nonneg_right (by omega) (by decide)
  omega
def t_inY (ρ : t_S) (x : t_Y) : Prop := (∀ j, (j < 21 ∨ 32 < j) → j ≠ 18 → x.1 j = ρ j) ∧ t_hist x.1 ∧ (0 ≤ x.2.1 ∧ x.2.1 ≤ 640) ∧ -1 ≤ x.2.2 ∧ x.2.2 < 12
theorem t_ask18 {ρ τ : t_S} {z : Int} (h : t_ask ρ) (e : ∀ j, (j < 21 ∨ 32 < j) → j ≠ 18 → τ j = ρ j) (hz : 0 ≤ z ∧ z < 2 ^ 7) : t_ask (s_up τ 18 0 z) := by
  unfold t_ask t_sz t_b01 t_oneR at *
  rw [s_up_eq, s_up_f (k := 18) (k1 := 1) (by decide), s_up_f (k := 18) (k1 := 15) (by decide), s_up_f (k := 18) (k1 := 16) (by decide), s_up_f (k := 18) (k1 := 17) (by decide), s_up_f (k := 18) (k1 := 19) (by decide), s_up_f (k := 18) (k1 := 20) (by decide), e 1 (by omega) (by decide), e 15 (by omega) (by decide), e 16 (by omega) (by decide), e 17 (by omega) (by decide), e 19 (by omega) (by decide), e 20 (by omega) (by decide)]
  obtain ⟨a, b, c, d, f, -, g⟩ := h
  exact ⟨a, b, c, d, f, hz, g⟩
theorem t_bl1_in {ρ τ : t_S} {wk w : Int} (H : t_ask ρ) (hk : 0 ≤ wk ∧ wk < 2 ^ 7) (e : ∀ j, (j < 21 ∨ 32 < j) → j ≠ 18 → τ j = ρ j) : (∀ j, (j < 21 ∨ 32 < j) → j ≠ 18 → t_bl1 wk w τ j = ρ j) ∧ t_hist (t_bl1 wk w τ) ∧ t_ask (s_up τ 18 0 (t_andn wk (2 ^ w.toNat))) := by
  have ha := t_ask18 (τ := τ) (z := t_andn wk (2 ^ w.toNat)) H e (t_andn_rg 7 hk)
  exact ⟨fun j j1 j2 => (t_ga_k ha j1).trans ((s_up_f j2).trans (e j j1 j2)), t_ga_hist ha, ha⟩
theorem t_blf_in {ρ : t_S} {wk w : Int} {x : t_Y} (H : t_ask ρ) (hk : 0 ≤ wk ∧ wk < 2 ^ 7) (hw : 0 ≤ w ∧ w < 7) (h : t_inY ρ x) : t_inY ρ (t_blf wk w x) := by
  have h1 := t_bl1_in (w := w) H hk h.1
  have h2 := t_mva_rg h1.2.1
  unfold t_blf
  split
  · exact ⟨h1.1, h1.2.1, h.2.2⟩
  · exact ⟨h1.1, h1.2.1, ⟨by show 0 ≤ t_mva _; omega, by show t_mva _ ≤ 640; omega⟩, by show -1 ≤ w; omega, by show w < 12; omega⟩
theorem t_bll_in {ρ : t_S} {wk : Int} (H : t_hist ρ) (hk : 0 ≤ wk ∧ wk < 2 ^ 7) (n : Nat) (hn : n ≤ 7) : t_inY ρ (t_it (t_blf wk) n (ρ, t_mva ρ, -1)) :=
  t_it_P (fun _ z => t_inY ρ z) ⟨fun _ _ _ => rfl, H, by have := t_mva_rg H; exact ⟨by show 0 ≤ t_mva ρ; omega, by show t_mva ρ ≤ 640; omega⟩, by show (-1 : Int) ≤ -1; decide, by show (-1 : Int) < 12; decide⟩ n (fun i z _ _ hz => t_blf_in H.1 hk ⟨by omega, by omega⟩ hz)
theorem t_ask15 {ρ : t_S} {c z : Int} (h : t_ask ρ) (hz : z = 0 ∨ z = 1) : t_ask (s_up ρ 15 c z) := by
  unfold t_ask t_sz t_oneR at *
  rw [s_up_f (k := 15) (k1 := 1) (by decide), s_up_f (k := 15) (k1 := 16) (by decide), s_up_f (k := 15) (k1 := 17) (by decide), s_up_f (k := 15) (k1 := 18) (by decide), s_up_f (k := 15) (k1 := 19) (by decide), s_up_f (k := 15) (k1 := 20) (by decide)]
  obtain ⟨a, b, d, f⟩ := h
  refine ⟨a, b, fun j j0 j1 => ?_, f⟩
  unfold s_up
  split
  · exact hz
  · exact d j j0 j1
theorem t_hist15 {ρ : t_S} {c z : Int} (h : t_hist ρ) (hz : z = 0 ∨ z = 1) : t_hist (s_up ρ 15 c z) := by
  have ha := t_ask15 (c := c) h.1 hz
  unfold t_hist t_h1 t_h2 t_h3 t_h4 t_bes at *
  rw [s_up_f (k := 15) (k1 := 1) (by decide), s_up_f (k := 15) (k1 := 26) (by decide), s_up_f (k := 15) (k1 := 27) (by decide), s_up_f (k := 15) (k1 := 29) (by decide), s_up_f (k := 15) (k1 := 30) (by decide), s_up_f (k := 15) (k1 := 31) (by decide), s_up_f (k := 15) (k1 := 32) (by decide)]
  exact ⟨ha, h.2⟩
theorem t_fd1_in {ρ τ : t_S} {k : Int} (H : t_ask ρ) (hk : 0 ≤ k ∧ k < ρ 1 5) (e : ∀ j, (j < 21 ∨ 32 < j) → τ j = ρ j) : (∀ j, (j < 21 ∨ 32 < j) → t_fd1 k τ j = ρ j) ∧ t_hist (t_fd1 k τ) ∧ t_ask (s_up τ 15 (τ 1 (10 + k)) 0) ∧ (0 ≤ τ 1 (10 + k) ∧ τ 1 (10 + k) < 80) ∧ t_ga (s_up τ 15 (τ 1 (10 + k)) 0) 1 = τ 1 ∧ (τ 15 (τ 1 (10 + k)) = 0 ∨ τ 15 (τ 1 (10 + k)) = 1) := by
  have ht : t_ask τ := t_ask_of H (fun j hj => e j (by omega))
  have ha := t_ask15 (c := τ 1 (10 + k)) (z := 0) ht (Or.inl rfl)
  have e1 : τ 1 = ρ 1 := e 1 (by omega)
  have hc := H.2.1.1 k hk.1 hk.2
  obtain ⟨c1, c2, c3⟩ := hc
  have z3 := H.1.2.1
  have z4 := H.1.2.2.1
  have hc2 : 0 ≤ τ 1 (10 + k) ∧ τ 1 (10 + k) < 80 := by rw [e1]; omega
  have hw := ht.2.2.1 _ hc2.1 hc2.2
  have g1 : t_ga (s_up τ 15 (τ 1 (10 + k)) 0) 1 = τ 1 := (t_ga_k ha (by omega)).trans (s_up_f (by decide))
  refine ⟨fun j hj => ?_, t_hist15 (t_ga_hist ha) hw, ha, hc2, g1, hw⟩
  unfold t_fd1
  rw [congrFun g1]
  by_cases q : j = 15
  · subst q
    rw [← e 15 (by omega)]
    funext i
    by_cases qi : i = τ 1 (10 + k)
    · subst qi; rw [s_up_eq]
    · rw [s_up_j qi, t_ga_k ha (by omega), s_up_j qi]
  · rw [s_up_f q, t_ga_k ha hj, s_up_f q]
    exact e j hj
def t_inF (ρ : t_S) (x : t_Y) : Prop := (∀ j, (j < 21 ∨ 32 < j) → x.1 j = ρ j) ∧ t_hist x.1 ∧ (0 ≤ x.2.1 ∧ x.2.1 ≤ 640) ∧ -1 ≤ x.2.2 ∧ x.2.2 < 12
theorem t_fof_in {ρ : t_S} {k : Int} {x : t_Y} (H : t_ask ρ) (hk : 0 ≤ k ∧ k < ρ 1 5) (h : t_inF ρ x) : t_inF ρ (t_fof k x) := by
  have h1 := t_fd1_in H hk h.1
  have h2 := t_pgm_rg (t_fd1 k x.1) (t_fd1 k x.1 1 0)
  have h5 := H.1.2.2.2.1
  unfold t_fof
  split
  · exact ⟨h1.1, h1.2.1, h2, by show -1 ≤ k; omega, by show k < 12; omega⟩
  · exact ⟨h1.1, h1.2.1, h.2.2⟩
theorem t_fol_in {ρ : t_S} (H : t_hist ρ) (n : Nat) (hn : (n : Int) ≤ ρ 1 5) : t_inF ρ (t_it t_fof n (ρ, t_pgl ρ, -1)) :=
  t_it_P (fun _ z => t_inF ρ z) ⟨fun _ _ => rfl, H, t_pgm_rg _ _, by show (-1 : Int) ≤ -1; decide, by show (-1 : Int) < 12; decide⟩ n (fun i z _ _ hz => t_fof_in H.1 ⟨by omega, by omega⟩ hz)
theorem t_pkG {σ ρ τ : t_S} (h : t_pk ρ σ) (e : ∀ j, (j < 21 ∨ 32 < j) → j ≠ 18 → τ j = ρ j) : t_pk τ σ := fun k hk => (e k (by unfold t_per at hk; omega) (by unfold t_per at hk; omega)).trans (h k hk)
