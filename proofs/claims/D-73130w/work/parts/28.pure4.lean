/-! THE TWIN'S PURE FORM, FOUR: how far, nets -/
set_option maxRecDepth 100000
def t_lh (σ : t_S) (y : Int) : Prop := t_sz σ ∧ t_b01 σ 15 ∧ (y = -1 ∨ ((0 ≤ y ∧ y ≤ σ 1 0) ∧ ∀ c, 0 ≤ c → c < 80 → 0 ≤ σ 31 (80 * y + c) ∧ σ 31 (80 * y + c) < 2 ^ 4))
theorem t_lh_of {σ τ : t_S} {y : Int} (h : t_lh σ y) (e : ∀ j, j ≠ 33 → τ j = σ j) : t_lh τ y := by
  unfold t_lh t_sz t_b01 at *
  rw [e 1 (by decide), e 15 (by decide), e 31 (by decide)]
  exact h
theorem t_hist_lh {σ : t_S} (h : t_hist σ) {y : Int} (hy : y = -1 ∨ (0 ≤ y ∧ y ≤ σ 1 0)) : t_lh σ y :=
  ⟨h.1.1, h.1.2.2.1, hy.imp id (fun q => ⟨q, fun c c0 c1 => (h.2.1 y c q.1 q.2 c0 c1).2.1⟩)⟩
abbrev t_lead (σ : t_S) (c d y : Int) : Prop := t_bes σ c d ≠ -1 ∧ (y = -1 ∧ σ 15 (t_bes σ c d) = 0 ∨ y ≠ -1 ∧ e_bt (t_pgs σ c y) d = 1)
def t_lfd (n c y : Int) : Int → t_S × Int → t_S × Int := fun d x => if t_lead x.1 c d y ∧ x.1 33 (t_bes x.1 c d) = -1 then (s_up x.1 33 (t_bes x.1 c d) (n + 1), 1) else x
def t_lfc (n y : Int) : Int → t_S × Int → t_S × Int := fun c x => if x.1 33 c = n then t_it (t_lfd n c y) 4 x else x
def t_lfr (y n : Int) (τ : t_S) : t_S × Int := t_it (t_lfc n y) 80 (τ, 0)
def t_lfl (y : Int) : Nat → Int → t_S → t_S
  | 0, _, τ => τ
  | f + 1, n, τ => if (t_lfr y n τ).2 = 0 then (t_lfr y n τ).1 else t_lfl y f (n + 1) (t_lfr y n τ).1
def t_lf0f : Int → t_S → t_S := fun c τ => s_up τ 33 c (-1)
def t_lf0 (a : Int) (σ : t_S) : t_S := s_up (t_it t_lf0f 80 σ) 33 a 0
def t_lyf (a y : Int) (σ : t_S) : t_S := t_lfl y 81 0 (t_lf0 a σ)
def t_unk (τ : t_S) : Int := t_sum (fun c => if τ 33 c = -1 then 1 else 0) 80
theorem t_sum_up {g g1 : Int → Int} {j : Int} (hj : 0 ≤ j) (h : ∀ i, i ≠ j → g1 i = g i) : ∀ n : Nat, t_sum g1 n = t_sum g n + (if j < n then g1 j - g j else 0)
  | 0 => by
    rw [if_neg (by omega)]
    rfl
  | n + 1 => by
    show t_sum g1 n + g1 n = t_sum g n + g n + _
    rw [t_sum_up hj h n]
    by_cases q : j = (n : Int)
    · subst q
      rw [if_neg (by omega), if_pos (by omega)]
      omega
    · rw [h n (fun w => q w.symm)]
      by_cases q2 : j < (n : Int)
      · rw [if_pos q2, if_pos (by omega)]; omega
      · rw [if_neg q2, if_neg (by omega)]; omega
theorem t_unk_up {τ : t_S} {j v : Int} (h0 : 0 ≤ j ∧ j < 80) (h1 : τ 33 j = -1) (h2 : v ≠ -1) : t_unk (s_up τ 33 j v) = t_unk τ - 1 := by
  unfold t_unk
  rw [t_sum_up (g := fun c => if τ 33 c = -1 then 1 else 0) (j := j) h0.1 (fun i hi => by show (if s_up τ 33 j v 33 i = -1 then (1 : Int) else 0) = _; rw [s_up_j hi]) 80, if_pos (by omega)]
  show _ + ((if s_up τ 33 j v 33 j = -1 then (1 : Int) else 0) - (if τ 33 j = -1 then 1 else 0)) = _
  rw [s_up_eq, if_neg h2, if_pos h1]
  omega
theorem t_unk_rg (τ : t_S) : 0 ≤ t_unk τ ∧ t_unk τ ≤ 80 := by
  have h := t_sum_rg (g := fun c => if τ 33 c = -1 then 1 else 0) (b := 1) 80 (fun i _ _ => by show 0 ≤ (if _ then (1 : Int) else 0) ∧ (if _ then (1 : Int) else 0) ≤ 1; split <;> omega)
  unfold t_unk
  omega
/-- what a round keeps -/
def t_inL (τ : t_S) (n : Int) (x : t_S × Int) : Prop := (∀ j, j ≠ 33 → x.1 j = τ j) ∧ (∀ c, 0 ≤ c → c < 80 → -1 ≤ x.1 33 c ∧ x.1 33 c ≤ n + 1) ∧ (x.2 = 0 ∨ x.2 = 1) ∧ t_unk x.1 ≤ t_unk τ - x.2
theorem t_lfd_in {τ : t_S} {n c y d : Int} {x : t_S × Int} (hz : t_sz τ) (hn : 0 ≤ n) (h : t_inL τ n x) : t_inL τ n (t_lfd n c y d x) := by
  unfold t_lfd
  split
  · rename_i q
    obtain ⟨⟨q1, -⟩, q2⟩ := q
    have hr := t_bes_rg (σ := x.1) (by unfold t_sz; rw [h.1 1 (by decide)]; exact hz) c d
    generalize t_bes x.1 c d = to at q1 q2 hr
    refine ⟨fun j hj => (s_up_f hj).trans (h.1 j hj), fun a a0 a1 => ?_, Or.inr rfl, ?_⟩
    · show -1 ≤ s_up x.1 33 to (n + 1) 33 a ∧ s_up x.1 33 to (n + 1) 33 a ≤ n + 1
      unfold s_up
      split
      · omega
      · exact h.2.1 a a0 a1
    · show t_unk (s_up x.1 33 to (n + 1)) ≤ t_unk τ - 1
      rw [t_unk_up ⟨by omega, hr.2⟩ q2 (by omega)]
      have := h.2.2.2
      rcases h.2.2.1 with e | e <;> omega
  · exact h
theorem t_lfdl_in {τ : t_S} {n c y : Int} {x : t_S × Int} (hz : t_sz τ) (hn : 0 ≤ n) (h : t_inL τ n x) (m : Nat) : t_inL τ n (t_it (t_lfd n c y) m x) := t_it_P (fun _ (x : t_S × Int) => t_inL τ n x) h m (fun _ _ _ _ hx => t_lfd_in hz hn hx)
theorem t_lfc_in {τ : t_S} {n c y : Int} {x : t_S × Int} (hz : t_sz τ) (hn : 0 ≤ n) (h : t_inL τ n x) : t_inL τ n (t_lfc n y c x) := by
  unfold t_lfc
  split
  · exact t_lfdl_in hz hn h 4
  · exact h
def t_frg (τ : t_S) (n : Int) : Prop := ∀ c, 0 ≤ c → c < 80 → -1 ≤ τ 33 c ∧ τ 33 c ≤ n
theorem t_lfcl_in {τ : t_S} {n y : Int} (hz : t_sz τ) (hn : 0 ≤ n) (hf : t_frg τ n) (m : Nat) : t_inL τ n (t_it (t_lfc n y) m (τ, 0)) :=
  t_it_P (fun _ (x : t_S × Int) => t_inL τ n x) ⟨fun _ _ => rfl, fun c a b => ⟨(hf c a b).1, by have := (hf c a b).2; show τ 33 c ≤ n + 1; omega⟩, Or.inl rfl, by show t_unk τ ≤ t_unk τ - 0; omega⟩ m (fun _ _ _ _ hx => t_lfc_in hz hn hx)
theorem t_lf0_k {a : Int} {σ : t_S} {k : Nat} (h : k ≠ 33) : t_lf0 a σ k = σ k := (s_up_f h).trans (t_it_k (f := t_lf0f) (fun _ _ => s_up_f h) _ _)
theorem t_lf0_fr {a : Int} {σ : t_S} (ha : 0 ≤ a ∧ a < 80) : t_frg (t_lf0 a σ) 0 := by
  have key : ∀ n : Nat, ∀ c : Int, 0 ≤ c → c < n → t_it t_lf0f n σ 33 c = -1 := by
    intro n
    refine t_it_P (fun n (τ : t_S) => ∀ c : Int, 0 ≤ c → c < n → τ 33 c = -1) (fun c a b => by omega) n (fun i y i0 _ hy => ?_)
    intro c c0 c1
    unfold t_lf0f
    by_cases q : c = i
    · subst q; rw [s_up_eq]
    · rw [s_up_j q]; exact hy c c0 (by omega)
  intro c c0 c1
  unfold t_lf0
  by_cases q : c = a
  · subst q; rw [s_up_eq]; exact ⟨by decide, by decide⟩
  · rw [s_up_j q, key 80 c c0 c1]; exact ⟨by decide, by decide⟩
theorem t_lf0_un {a : Int} {σ : t_S} (ha : 0 ≤ a ∧ a < 80) : t_unk (t_lf0 a σ) < 80 := by
  by_cases q : t_it t_lf0f 80 σ 33 a = -1
  · unfold t_lf0
    rw [t_unk_up ha q (by decide)]
    have := t_unk_rg (t_it t_lf0f 80 σ)
    omega
  · exfalso
    apply q
    have key : ∀ n : Nat, ∀ c : Int, 0 ≤ c → c < n → t_it t_lf0f n σ 33 c = -1 := by
      intro n
      refine t_it_P (fun n (τ : t_S) => ∀ c : Int, 0 ≤ c → c < n → τ 33 c = -1) (fun c a b => by omega) n (fun i y i0 _ hy => ?_)
      intro c c0 c1
      unfold t_lf0f
      by_cases q : c = i
      · subst q; rw [s_up_eq]
      · rw [s_up_j q]; exact hy c c0 (by omega)
    exact key 80 a ha.1 ha.2
theorem t_lfl_k {y : Int} : ∀ (f : Nat) (n : Int) (τ : t_S), t_sz τ → 0 ≤ n → t_frg τ n → (∀ j, j ≠ 33 → t_lfl y f n τ j = τ j) ∧ t_frg (t_lfl y f n τ) (n + f)
  | 0, n, τ, _, _, hf => ⟨fun _ _ => rfl, by rw [show n + ((0 : Nat) : Int) = n by omega]; exact hf⟩
  | f + 1, n, τ, hz, hn, hf => by
    have h := t_lfcl_in (y := y) hz hn hf 80
    have h2 : t_inL τ n (t_lfr y n τ) := h
    unfold t_lfl
    split
    · exact ⟨h2.1, fun c c0 c1 => ⟨(h2.2.1 c c0 c1).1, by have := (h2.2.1 c c0 c1).2; omega⟩⟩
    · have h3 := t_lfl_k (y := y) f (n + 1) (t_lfr y n τ).1 (by unfold t_sz; rw [h2.1 1 (by decide)]; exact hz) (by omega) h2.2.1
      exact ⟨fun j hj => (h3.1 j hj).trans (h2.1 j hj), by rw [show n + ((f + 1 : Nat) : Int) = n + 1 + f by omega]; exact h3.2⟩
theorem t_lyf_in {a y : Int} {σ : t_S} (hz : t_sz σ) (ha : 0 ≤ a ∧ a < 80) : (∀ j, j ≠ 33 → t_lyf a y σ j = σ j) ∧ t_frg (t_lyf a y σ) 81 := by
  have h := t_lfl_k (y := y) 81 0 (t_lf0 a σ) (by unfold t_sz; rw [t_lf0_k (by decide)]; exact hz) (Int.le_refl 0) (t_lf0_fr ha)
  exact ⟨fun j hj => (h.1 j hj).trans (t_lf0_k hj), h.2⟩
theorem t_hist_of {σ τ : t_S} (h : t_hist σ) (e : ∀ j, j ≠ 33 → j ≠ 34 → j ≠ 35 → j ≠ 36 → τ j = σ j) : t_hist τ := by
  unfold t_hist t_h1 t_h2 t_h3 t_h4 t_ask t_sz t_b01 t_oneR t_bes at *
  rw [e 1 (by decide) (by decide) (by decide) (by decide), e 15 (by decide) (by decide) (by decide) (by decide), e 16 (by decide) (by decide) (by decide) (by decide), e 17 (by decide) (by decide) (by decide) (by decide), e 18 (by decide) (by decide) (by decide) (by decide), e 19 (by decide) (by decide) (by decide) (by decide), e 20 (by decide) (by decide) (by decide) (by decide), e 26 (by decide) (by decide) (by decide) (by decide), e 27 (by decide) (by decide) (by decide) (by decide), e 29 (by decide) (by decide) (by decide) (by decide), e 30 (by decide) (by decide) (by decide) (by decide), e 31 (by decide) (by decide) (by decide) (by decide), e 32 (by decide) (by decide) (by decide) (by decide)]
  exact h
theorem t_pk36 {σ ρ τ : t_S} (h : t_pk ρ σ) (e : ∀ j, j ≠ 33 → j ≠ 34 → j ≠ 35 → j ≠ 36 → τ j = ρ j) : t_pk τ σ := fun k hk => (e k (by unfold t_per at hk; omega) (by unfold t_per at hk; omega) (by unfold t_per at hk; omega) (by unfold t_per at hk; omega)).trans (h k hk)
def v_sb (σ : t_S) (a b : Int) : Int := if σ 15 a = 0 ∧ σ 15 b = 0 then t_lyf a (-1) σ 33 b else -1
def s_sb (σ : t_S) (a b : Int) : t_S := if σ 15 a = 0 ∧ σ 15 b = 0 then t_lyf a (-1) σ else σ
theorem s_sb_k {σ : t_S} {a b : Int} (hz : t_sz σ) (ha : 0 ≤ a ∧ a < 80) (j : Nat) (hj : j ≠ 33) : s_sb σ a b j = σ j := by
  unfold s_sb
  split
  · exact (t_lyf_in hz ha).1 j hj
  · rfl
theorem v_sb_rg {σ : t_S} {a b : Int} (hz : t_sz σ) (ha : 0 ≤ a ∧ a < 80) (hb : 0 ≤ b ∧ b < 80) : -1 ≤ v_sb σ a b ∧ v_sb σ a b ≤ 81 := by
  unfold v_sb
  split
  · exact (t_lyf_in hz ha).2 b hb.1 hb.2
  · omega
abbrev t_sbw (ρ : t_S) (w : Int) : Int := v_sb ρ (t_pth ρ w 0) (t_pth ρ w (ρ 27 w))
def v_straight (ρ : t_S) (w : Int) : Int := if t_isW ρ w then (if ρ 27 w = -1 then -1 else if t_sbw ρ w = -1 then -3 else t_sbw ρ w) else -2
def v_beeline (ρ : t_S) (a b : Int) : Int := if t_isCell ρ a ∧ t_isCell ρ b then v_sb ρ a b else -2
def v_way (ρ : t_S) (a b y : Int) : Int := if t_isY ρ y ∧ t_isCell ρ a ∧ t_isCell ρ b then (if t_rdo ρ a y = 0 then -1 else t_lyf a y ρ 33 b) else -2
def t_nog (τ : t_S) : Int → Int := fun k => if τ 33 k = -1 then 0 else 1
def v_no (σ : t_S) (c y : Int) : Int := if t_rdo σ c y = 0 then 0 else t_sum (t_nog (t_lyf c y σ)) 80
def s_no (σ : t_S) (c y : Int) : t_S := if t_rdo σ c y = 0 then σ else t_lyf c y σ
theorem s_no_k {σ : t_S} {c y : Int} (hz : t_sz σ) (ha : 0 ≤ c ∧ c < 80) (j : Nat) (hj : j ≠ 33) : s_no σ c y j = σ j := by
  unfold s_no
  split
  · rfl
  · exact (t_lyf_in hz ha).1 j hj
def v_net (ρ : t_S) (c y : Int) : Int := if t_isY ρ y ∧ t_isCell ρ c then v_no ρ c y else -2
def t_frb (τ : t_S) (c : Int) : Nat → Int
  | 0 => c
  | n + 1 => if τ 33 (t_frb τ c n) < τ 33 n ∨ (τ 33 n = τ 33 (t_frb τ c n) ∧ n < t_frb τ c n) then n else t_frb τ c n
theorem t_frb_s (τ : t_S) (c : Int) {i : Int} (hi : 0 ≤ i) : t_frb τ c (i + 1).toNat = if τ 33 (t_frb τ c i.toNat) < τ 33 i ∨ (τ 33 i = τ 33 (t_frb τ c i.toNat) ∧ i < t_frb τ c i.toNat) then i else t_frb τ c i.toNat := by
  rw [show (i + 1).toNat = i.toNat + 1 by omega]
  show (if τ 33 (t_frb τ c i.toNat) < τ 33 ((i.toNat : Nat) : Int) ∨ (τ 33 ((i.toNat : Nat) : Int) = τ 33 (t_frb τ c i.toNat) ∧ ((i.toNat : Nat) : Int) < t_frb τ c i.toNat) then ((i.toNat : Nat) : Int) else t_frb τ c i.toNat) = _
  rw [Int.toNat_of_nonneg hi]
theorem t_frb_rg (τ : t_S) {c : Int} (hc : 0 ≤ c ∧ c < 80) : ∀ n : Nat, n ≤ 80 → 0 ≤ t_frb τ c n ∧ t_frb τ c n < 80
  | 0, _ => hc
  | n + 1, h => by
    have h1 := t_frb_rg τ hc n (by omega)
    unfold t_frb
    split <;> omega
def v_farthest (ρ : t_S) (c y : Int) : Int := if t_isY ρ y ∧ t_isCell ρ c then (if t_rdo ρ c y = 0 then -1 else t_frb (t_lyf c y ρ) c 80) else -2
/-! nets -/
def t_nm0f : Int → t_S → t_S := fun c τ => s_up τ 34 c 0
def t_nm0 (σ : t_S) : t_S := t_it t_nm0f 80 σ
def t_nm1f : Int → t_S → t_S := fun k τ => s_up τ 34 k (if τ 34 k = 1 ∨ τ 33 k ≠ -1 then 1 else 0)
def t_nmf (y : Int) : Int → t_S × Int → t_S × Int := fun c x => if t_rdo x.1 c y = 0 ∨ x.1 34 c = 1 then x else (t_it t_nm1f 80 (t_lyf c y x.1), x.2 + 1)
def t_nm (y : Int) (σ : t_S) : t_S × Int := t_it (t_nmf y) 80 (t_nm0 σ, 0)
def t_inN (σ : t_S) (i : Int) (x : t_S × Int) : Prop := (∀ j, j ≠ 33 → j ≠ 34 → x.1 j = σ j) ∧ t_b01 x.1 34 ∧ 0 ≤ x.2 ∧ x.2 ≤ i
theorem t_nm0_k {σ : t_S} {k : Nat} (h : k ≠ 34) : t_nm0 σ k = σ k := t_it_k (f := t_nm0f) (fun _ _ => s_up_f h) _ _
theorem t_nm0_0 {σ : t_S} (c : Int) (c0 : 0 ≤ c) (c1 : c < 80) : t_nm0 σ 34 c = 0 := by
  have key : ∀ n : Nat, ∀ c : Int, 0 ≤ c → c < n → t_it t_nm0f n σ 34 c = 0 := by
    intro n
    refine t_it_P (fun n (τ : t_S) => ∀ c : Int, 0 ≤ c → c < n → τ 34 c = 0) (fun c a b => by omega) n (fun i y i0 _ hy => ?_)
    intro c c0 c1
    unfold t_nm0f
    by_cases q : c = i
    · subst q; rw [s_up_eq]
    · rw [s_up_j q]; exact hy c c0 (by omega)
  exact key 80 c c0 c1
theorem t_nm1_in {τ : t_S} (h : t_b01 τ 34) (n : Nat) : (∀ j, j ≠ 34 → t_it t_nm1f n τ j = τ j) ∧ t_b01 (t_it t_nm1f n τ) 34 := by
  refine ⟨fun j hj => t_it_k (f := t_nm1f) (fun _ _ => s_up_f hj) _ _, ?_⟩
  refine t_it_P (fun _ (x : t_S) => t_b01 x 34) h n (fun i y _ _ hy => ?_)
  intro c c0 c1
  unfold t_nm1f s_up
  split
  · split <;> simp
  · exact hy c c0 c1
theorem t_nmf_in {σ : t_S} {y c : Int} {x : t_S × Int} (hz : t_sz σ) (hc : 0 ≤ c ∧ c < 80) (h : t_inN σ c x) : t_inN σ (c + 1) (t_nmf y c x) := by
  unfold t_nmf
  split
  · exact ⟨h.1, h.2.1, h.2.2.1, by have := h.2.2.2; omega⟩
  · have hl := t_lyf_in (a := c) (y := y) (σ := x.1) (by unfold t_sz; rw [h.1 1 (by decide) (by decide)]; exact hz) hc
    have h1 := t_nm1_in (τ := t_lyf c y x.1) (by unfold t_b01; rw [hl.1 34 (by decide)]; exact h.2.1) 80
    exact ⟨fun j j1 j2 => (h1.1 j j2).trans ((hl.1 j j1).trans (h.1 j j1 j2)), h1.2, by have := h.2.2.1; show 0 ≤ x.2 + 1; omega, by have := h.2.2.2; show x.2 + 1 ≤ c + 1; omega⟩
theorem t_nm_in {σ : t_S} {y : Int} (hz : t_sz σ) (n : Nat) (hn : n ≤ 80) : t_inN σ n (t_it (t_nmf y) n (t_nm0 σ, 0)) :=
  t_it_P (t_inN σ) ⟨fun j _ j2 => t_nm0_k j2, fun c c0 c1 => Or.inl (t_nm0_0 c c0 c1), Int.le_refl 0, Int.le_refl 0⟩ n (fun _ _ _ _ hx => t_nmf_in hz ⟨by omega, by omega⟩ hx)
def v_nets (ρ : t_S) (y : Int) : Int := if t_isY ρ y then (t_nm y ρ).2 else -2
/-! side by side -/
def t_osd (y c : Int) : Int → t_S × Int → t_S × Int := fun d x => if t_bes x.1 c d ≠ -1 ∧ t_rdo x.1 (t_bes x.1 c d) y = 1 ∧ x.1 34 (t_bes x.1 c d) = 0 then (s_up x.1 34 (t_bes x.1 c d) 1, x.2 + 1) else x
def t_osc (y : Int) : Int → t_S × Int → t_S × Int := fun c x => if x.1 34 c = 0 then x else t_it (t_osd y c) 4 x
def t_osr (y : Int) : Int → t_S × Int → t_S × Int := fun _ x => t_it (t_osc y) 80 x
def t_os1 (y : Int) (σ : t_S) : Int := t_fnd (t_rdg σ y) 80 0
def t_os0 (y : Int) (σ : t_S) : t_S × Int := (s_up (t_nm0 σ) 34 (t_os1 y σ) 1, 1)
def t_os (y : Int) (σ : t_S) : t_S × Int := t_it (t_osr y) 80 (t_os0 y σ)
def t_inO (σ : t_S) (b : Int) (x : t_S × Int) : Prop := (∀ j, j ≠ 34 → x.1 j = σ j) ∧ t_b01 x.1 34 ∧ 0 ≤ x.2 ∧ x.2 ≤ b
theorem t_inO_le {σ : t_S} {a b : Int} {x : t_S × Int} (h : t_inO σ a x) (hb : a ≤ b) : t_inO σ b x := ⟨h.1, h.2.1, h.2.2.1, Int.le_trans h.2.2.2 hb⟩
theorem t_osd_in {σ : t_S} {y c d b : Int} {x : t_S × Int} (h : t_inO σ b x) : t_inO σ (b + 1) (t_osd y c d x) := by
  unfold t_osd
  split
  · refine ⟨fun j hj => (s_up_f hj).trans (h.1 j hj), fun a a0 a1 => ?_, by have := h.2.2.1; show 0 ≤ x.2 + 1; omega, by have := h.2.2.2; show x.2 + 1 ≤ b + 1; omega⟩
    show s_up x.1 34 _ 1 34 a = 0 ∨ s_up x.1 34 _ 1 34 a = 1
    unfold s_up
    split
    · exact Or.inr rfl
    · exact h.2.1 a a0 a1
  · exact t_inO_le h (by omega)
theorem t_osdl_in {σ : t_S} {y c b : Int} {x : t_S × Int} (h : t_inO σ b x) (n : Nat) : t_inO σ (b + n) (t_it (t_osd y c) n x) :=
  t_it_P (fun i z => t_inO σ (b + i) z) (by rw [Int.add_zero]; exact h) n (fun i z _ _ hz => by rw [← Int.add_assoc]; exact t_osd_in hz)
theorem t_osc_in {σ : t_S} {y c b : Int} {x : t_S × Int} (h : t_inO σ b x) : t_inO σ (b + 4) (t_osc y c x) := by
  unfold t_osc
  split
  · exact t_inO_le h (by omega)
  · exact t_osdl_in h 4
theorem t_oscl_in {σ : t_S} {y b : Int} {x : t_S × Int} (h : t_inO σ b x) (n : Nat) : t_inO σ (b + 4 * n) (t_it (t_osc y) n x) :=
  t_it_P (fun i z => t_inO σ (b + 4 * i) z) (by simpa using h) n (fun i z _ _ hz => by
    have := t_osc_in (y := y) (c := (i : Int)) hz
    rw [show b + 4 * ((i : Int) + 1) = b + 4 * i + 4 by omega]; exact this)
theorem t_osrl_in {σ : t_S} {y b : Int} {x : t_S × Int} (h : t_inO σ b x) (n : Nat) : t_inO σ (b + 320 * n) (t_it (t_osr y) n x) :=
  t_it_P (fun i z => t_inO σ (b + 320 * i) z) (by simpa using h) n (fun i z _ _ hz => by
    have := t_oscl_in (y := y) hz 80
    rw [show b + 320 * ((i : Int) + 1) = b + 320 * i + 4 * ((80 : Nat) : Int) by omega]; exact this)
theorem t_os0_in {σ : t_S} {y : Int} : t_inO σ 1 (t_os0 y σ) := by
  refine ⟨fun j hj => (s_up_f hj).trans (t_nm0_k hj), fun a a0 a1 => ?_, by show (0 : Int) ≤ 1; decide, Int.le_refl 1⟩
  show s_up (t_nm0 σ) 34 _ 1 34 a = 0 ∨ s_up (t_nm0 σ) 34 _ 1 34 a = 1
  unfold s_up
  split
  · exact Or.inr rfl
  · exact Or.inl (t_nm0_0 a a0 a1)
theorem t_fnd_none {g : Int → Int} : ∀ (m : Nat) (i : Int), 0 ≤ i → t_fnd g m i = -1 → ∀ k, i ≤ k → k < i + m → g k ≠ 1
  | 0, i, _, _, k, h1, h2 => by exfalso; omega
  | m + 1, i, hi, h, k, h1, h2 => by
    unfold t_fnd at h
    by_cases q : g i = 1
    · rw [if_pos q] at h; omega
    · rw [if_neg q] at h
      by_cases e : k = i
      · rw [e]; exact q
      · exact t_fnd_none m (i + 1) (by omega) h k (by omega) (by omega)
theorem t_sum_0 {g : Int → Int} : ∀ n : Nat, (∀ k : Int, 0 ≤ k → k < n → g k = 0) → t_sum g n = 0
  | 0, _ => rfl
  | n + 1, h => by
    show t_sum g n + g n = 0
    rw [t_sum_0 n (fun k a b => h k a (by omega)), h n (by omega) (by omega)]
    rfl
theorem t_os1_rg {σ : t_S} {y : Int} (H : t_hist σ) (hy : 0 ≤ y ∧ y ≤ σ 1 0) (h : t_rdm σ y ≠ 0) : 0 ≤ t_os1 y σ ∧ t_os1 y σ < 80 := by
  have h1 := t_fnd_rg (t_rdg σ y) 80 0 (Int.le_refl 0)
  have h2 : t_os1 y σ ≠ -1 := fun q => h (t_sum_0 80 (fun k a b => by
    have h3 := t_fnd_none 80 0 (Int.le_refl 0) q k a (by omega)
    rcases (H.2.1 y k hy.1 hy.2 a (by omega)).1 with e | e
    · exact e
    · exact absurd e h3))
  unfold t_os1 at h2 ⊢
  omega
abbrev t_oss (y : Int) (σ : t_S) : Prop := (t_os y σ).2 = t_rdm (t_os y σ).1 y
def v_missing (ρ : t_S) (y : Int) : Int := if t_isY ρ y then (if t_rdm ρ y = 0 then 0 else if t_oss y ρ then (t_nm y (t_os y ρ).1).2 - 1 else -1) else -2
def v_rings (ρ : t_S) (y : Int) : Int := if t_isY ρ y then t_pgm ρ y - t_rdm ρ y + (t_nm y ρ).2 else -2
