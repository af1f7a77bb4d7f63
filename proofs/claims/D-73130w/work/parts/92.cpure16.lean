/-! HOW FAR: what a search finds is the only thing that it can find -/
set_option maxRecDepth 100000
/-- D tells how far cells are from a, by steps L -/
def x_D (L : Int → Int → Prop) (nb : Int → Int → Int) (a : Int) (D : Int → Int) : Prop :=
  D a = 0 ∧ (∀ c, x_c8 c → -1 ≤ D c) ∧ (∀ c d, x_c8 c → 0 ≤ d → d < 4 → L c d → D c ≠ -1 → D (nb c d) ≠ -1 ∧ D (nb c d) ≤ D c + 1) ∧ ∀ c, x_c8 c → D c ≠ -1 → c ≠ a → ∃ u d, x_c8 u ∧ 0 ≤ d ∧ d < 4 ∧ L u d ∧ nb u d = c ∧ D u ≠ -1 ∧ D c = D u + 1
theorem x_D_le {L : Int → Int → Prop} {nb : Int → Int → Int} {a : Int} {D E : Int → Int} (hD : x_D L nb a D) (hE : x_D L nb a E) : ∀ n : Nat, ∀ c, x_c8 c → D c = n → E c ≠ -1 ∧ E c ≤ n := by
  intro n
  induction n with
  | zero =>
    intro c hc h
    by_cases q : c = a
    · rw [q, hE.1]; exact ⟨by decide, Int.le_refl _⟩
    · obtain ⟨u, d, hu, -, -, -, -, h1, h2⟩ := hD.2.2.2 c hc (by omega) q
      have := hD.2.1 u hu
      omega
  | succ n ih =>
    intro c hc h
    by_cases q : c = a
    · rw [q, hE.1]; exact ⟨by decide, by omega⟩
    · obtain ⟨u, d, hu, d0, d1, hl, he, h1, h2⟩ := hD.2.2.2 c hc (by omega) q
      obtain ⟨i1, i2⟩ := ih u hu (by omega)
      obtain ⟨j1, j2⟩ := hE.2.2.1 u d hu d0 d1 hl i1
      rw [he] at j1 j2
      exact ⟨j1, by omega⟩
theorem x_D_uq {L : Int → Int → Prop} {nb : Int → Int → Int} {a : Int} {D E : Int → Int} (hD : x_D L nb a D) (hE : x_D L nb a E) {c : Int} (hc : x_c8 c) : D c = E c := by
  have h1 := hD.2.1 c hc
  have h2 := hE.2.1 c hc
  by_cases p : D c = -1
  · by_cases q : E c = -1
    · omega
    · have := x_D_le hE hD (E c).toNat c hc (by omega)
      omega
  · have a1 := x_D_le hD hE (D c).toNat c hc (by omega)
    have a2 := x_D_le hE hD (E c).toNat c hc (by omega)
    omega
/-- steps may be told otherwise -/
theorem x_D_cg {L M : Int → Int → Prop} {nb nc : Int → Int → Int} {a : Int} {D : Int → Int} (hL : ∀ c d, x_c8 c → 0 ≤ d → d < 4 → (L c d ↔ M c d)) (hn : ∀ c d, nb c d = nc c d) (h : x_D L nb a D) : x_D M nc a D := by
  obtain ⟨h1, h2, h3, h4⟩ := h
  refine ⟨h1, h2, fun c d hc d0 d1 hm => ?_, fun c hc h ha => ?_⟩
  · rw [← hn]
    exact h3 c d hc d0 d1 ((hL c d hc d0 d1).mpr hm)
  · obtain ⟨u, d, hu, d0, d1, hl, he, r⟩ := h4 c hc h ha
    exact ⟨u, d, hu, d0, d1, (hL u d hu d0 d1).mp hl, by rw [← hn]; exact he, r⟩
/-! the twin's search -/
theorem z_lead {σ μ : t_S} (e : ∀ j, j ≠ 33 → μ j = σ j) (c d y : Int) : t_lead μ c d y ↔ t_lead σ c d y := by
  have hb := z_bes_cg (e 1 (by decide)) c d
  have h15 := e 15 (by decide)
  have h31 := e 31 (by decide)
  show (t_bes μ c d ≠ -1 ∧ (y = -1 ∧ μ 15 (t_bes μ c d) = 0 ∨ y ≠ -1 ∧ e_bt (μ 31 (80 * y + c)) d = 1)) ↔ (t_bes σ c d ≠ -1 ∧ (y = -1 ∧ σ 15 (t_bes σ c d) = 0 ∨ y ≠ -1 ∧ e_bt (σ 31 (80 * y + c)) d = 1))
  rw [hb, h15, h31]
def z_Z (σ : t_S) (a y n : Int) (τ : t_S) : Prop := (∀ j, j ≠ 33 → τ j = σ j) ∧ τ 33 a = 0 ∧ (∀ c d : Int, 0 ≤ c → c < 80 → 0 ≤ d → d < 4 → t_lead σ c d y → τ 33 c ≠ -1 → τ 33 c < n → τ 33 (t_bes σ c d) ≠ -1 ∧ τ 33 (t_bes σ c d) ≤ τ 33 c + 1) ∧ ∀ c : Int, 0 ≤ c → c < 80 → τ 33 c ≠ -1 → c ≠ a → ∃ u d : Int, 0 ≤ u ∧ u < 80 ∧ 0 ≤ d ∧ d < 4 ∧ t_lead σ u d y ∧ t_bes σ u d = c ∧ τ 33 u ≠ -1 ∧ τ 33 c = τ 33 u + 1
def z_Rq (σ : t_S) (a y n i d : Int) (x : t_S × Int) : Prop := z_Z σ a y n x.1 ∧ (∀ c : Int, 0 ≤ c → c < 80 → -1 ≤ x.1 33 c ∧ x.1 33 c ≤ n + 1) ∧ (∀ c e : Int, 0 ≤ c → c < 80 → (c < i ∨ (c = i ∧ e < d)) → 0 ≤ e → e < 4 → x.1 33 c = n → t_lead σ c e y → x.1 33 (t_bes σ c e) ≠ -1) ∧ (x.2 = 0 → ∀ c : Int, 0 ≤ c → c < 80 → x.1 33 c ≤ n)
theorem z_Rd {σ : t_S} {a y n i d : Int} {x : t_S × Int} (hz : t_sz σ) (hn : 0 ≤ n) (ha : 0 ≤ a ∧ a < 80) (hi : 0 ≤ i ∧ i < 80) (hd : 0 ≤ d ∧ d < 4) (hin : x.1 33 i = n) (h : z_Rq σ a y n i d x) : z_Rq σ a y n i (d + 1) (t_lfd n i y d x) ∧ (t_lfd n i y d x).1 33 i = n := by
  obtain ⟨⟨h1, h2, h3, h4⟩, h5, h6, h7⟩ := h
  have hb := z_bes_cg (h1 1 (by decide)) i d
  have hbr := t_bes_rg hz i d
  unfold t_lfd
  by_cases q : t_lead x.1 i d y ∧ x.1 33 (t_bes x.1 i d) = -1
  · rw [if_pos q]
    obtain ⟨q1, q2⟩ := q
    rw [z_lead h1] at q1
    rw [hb] at q2 ⊢
    have qn := q1.1
    obtain ⟨to, ht⟩ : ∃ to, t_bes σ i d = to := ⟨_, rfl⟩
    rw [ht] at q2 qn hbr ⊢
    have k : ∀ c, s_up x.1 33 to (n + 1) 33 c = if c = to then n + 1 else x.1 33 c := fun c => by
      by_cases z : c = to
      · rw [if_pos z, z, s_up_eq]
      · rw [if_neg z, s_up_j z]
    have kn : ∀ c, x.1 33 c ≠ -1 → s_up x.1 33 to (n + 1) 33 c = x.1 33 c := fun c hc => by
      rw [k, if_neg (fun z => hc (by rw [z]; exact q2))]
    refine ⟨⟨⟨fun j hj => (s_up_f hj).trans (h1 j hj), ?_, fun c e c0 c1 e0 e1 hl hc hcn => ?_, fun c c0 c1 hc hca => ?_⟩, fun c c0 c1 => ?_, fun c e c0 c1 hce e0 e1 hc hl => ?_, fun z => absurd (show (1 : Int) = 0 from z) (by decide)⟩, ?_⟩
    · dsimp only
      rw [kn a (by omega)]; exact h2
    · dsimp only at hc hcn ⊢
      have hct : c ≠ to := fun z => by rw [k, if_pos z] at hcn; omega
      have hc' : s_up x.1 33 to (n + 1) 33 c = x.1 33 c := by rw [k, if_neg hct]
      rw [hc'] at hc hcn ⊢
      obtain ⟨u, v⟩ := h3 c e c0 c1 e0 e1 hl hc hcn
      rw [kn _ u]
      exact ⟨u, v⟩
    · dsimp only at hc ⊢
      by_cases z : c = to
      · refine ⟨i, d, hi.1, hi.2, hd.1, hd.2, q1, by rw [ht, z], ?_, ?_⟩
        · rw [kn i (by omega)]; omega
        · rw [kn i (by omega), k, if_pos z]; omega
      · have hc' : s_up x.1 33 to (n + 1) 33 c = x.1 33 c := by rw [k, if_neg z]
        rw [hc'] at hc ⊢
        obtain ⟨u, e, u0, u1, e0, e1, hl, he, hu, hv⟩ := h4 c c0 c1 hc hca
        exact ⟨u, e, u0, u1, e0, e1, hl, he, by rw [kn u hu]; exact hu, by rw [kn u hu]; exact hv⟩
    · dsimp only
      rw [k]
      have := h5 c c0 c1
      split <;> omega
    · dsimp only at hc ⊢
      have hct : c ≠ to := fun z => by rw [k, if_pos z] at hc; omega
      rw [k, if_neg hct] at hc
      by_cases z : c = i ∧ e = d
      · rw [z.1, z.2, ht, k, if_pos rfl]; omega
      · have := h6 c e c0 c1 (by omega) e0 e1 hc hl
        rw [kn _ this]; exact this
    · dsimp only
      rw [kn i (by omega)]; exact hin
  · rw [if_neg q]
    refine ⟨⟨⟨h1, h2, h3, h4⟩, h5, fun c e c0 c1 hce e0 e1 hc hl => ?_, h7⟩, hin⟩
    by_cases z : c = i ∧ e = d
    · rw [z.1, z.2] at hl ⊢
      intro w
      exact q ⟨(z_lead h1 i d y).mpr hl, by rw [hb]; exact w⟩
    · exact h6 c e c0 c1 (by omega) e0 e1 hc hl
theorem z_Rc {σ : t_S} {a y n i : Int} {x : t_S × Int} (hz : t_sz σ) (hn : 0 ≤ n) (ha : 0 ≤ a ∧ a < 80) (hi : 0 ≤ i ∧ i < 80) (h : z_Rq σ a y n i 0 x) : z_Rq σ a y n (i + 1) 0 (t_lfc n y i x) := by
  unfold t_lfc
  by_cases q : x.1 33 i = n
  · rw [if_pos q]
    have g := t_it_P (f := t_lfd n i y) (x := x) (fun d z => z_Rq σ a y n i d z ∧ z.1 33 i = n) ⟨h, q⟩ 4 (fun d z d0 d1 hx => z_Rd hz hn ha hi ⟨by omega, by omega⟩ hx.2 hx.1)
    obtain ⟨⟨h1, h2, h3, h4⟩, -⟩ := g
    exact ⟨h1, h2, fun c e c0 c1 hce e0 e1 hc hl => h3 c e c0 c1 (by omega) e0 e1 hc hl, h4⟩
  · rw [if_neg q]
    obtain ⟨h1, h2, h3, h4⟩ := h
    refine ⟨h1, h2, fun c e c0 c1 hce e0 e1 hc hl => ?_, h4⟩
    by_cases z : c = i
    · rw [z] at hc; exact absurd hc q
    · exact h3 c e c0 c1 (by omega) e0 e1 hc hl
theorem z_lfl {σ : t_S} {a y : Int} (hz : t_sz σ) (ha : 0 ≤ a ∧ a < 80) : ∀ (f : Nat) (n : Int) (τ : t_S), 0 ≤ n → z_Z σ a y n τ → t_frg τ n → t_unk τ < f → ∃ m, z_Z σ a y (m + 1) (t_lfl y f n τ) ∧ t_frg (t_lfl y f n τ) m ∧ m ≤ n + t_unk τ
  | 0, n, τ, hn, h, hf, hu => by have := (t_unk_rg τ).1; omega
  | f + 1, n, τ, hn, h, hf, hu => by
    have hzt : t_sz τ := by unfold t_sz; rw [h.1 1 (by decide)]; exact hz
    have hL : t_inL τ n (t_lfr y n τ) := t_lfcl_in (y := y) hzt hn hf 80
    have g : z_Rq σ a y n 80 0 (t_lfr y n τ) := t_it_P (f := t_lfc n y) (x := (τ, 0)) (fun i z => z_Rq σ a y n i 0 z) ⟨h, fun c c0 c1 => ⟨(hf c c0 c1).1, by have := (hf c c0 c1).2; show τ 33 c ≤ n + 1; omega⟩, fun c e c0 c1 hce => by omega, fun _ c c0 c1 => (hf c c0 c1).2⟩ 80 (fun i z i0 i1 hx => z_Rc hz hn ha ⟨by omega, by omega⟩ hx)
    unfold t_lfl
    revert hL g
    generalize t_lfr y n τ = x
    intro hL g
    obtain ⟨⟨h1, h2, h3, h4⟩, h5, h6, h7⟩ := g
    have h3' : ∀ c d : Int, 0 ≤ c → c < 80 → 0 ≤ d → d < 4 → t_lead σ c d y → x.1 33 c ≠ -1 → x.1 33 c < n + 1 → x.1 33 (t_bes σ c d) ≠ -1 ∧ x.1 33 (t_bes σ c d) ≤ x.1 33 c + 1 := fun c d c0 c1 d0 d1 hl hc hcn => by
      by_cases q : x.1 33 c < n
      · exact h3 c d c0 c1 d0 d1 hl hc q
      · have hbr := t_bes_rg hz c d
        have hne := hl.1
        have := h5 (t_bes σ c d) (by omega) hbr.2
        exact ⟨h6 c d c0 c1 (Or.inl c1) d0 d1 (by omega) hl, by omega⟩
    by_cases q : x.2 = 0
    · rw [if_pos q]
      exact ⟨n, ⟨h1, h2, h3', h4⟩, fun c c0 c1 => ⟨(h5 c c0 c1).1, h7 q c c0 c1⟩, by have := (t_unk_rg τ).1; omega⟩
    · rw [if_neg q]
      have hu2 := hL.2.2.2
      have hx2 := hL.2.2.1
      obtain ⟨m, m1, m2, m3⟩ := z_lfl hz ha f (n + 1) x.1 (by omega) ⟨h1, h2, h3', h4⟩ h5 (by omega)
      exact ⟨m, m1, m2, by omega⟩
theorem z_lf0 {σ : t_S} {a y : Int} (ha : 0 ≤ a ∧ a < 80) : z_Z σ a y 0 (t_lf0 a σ) := by
  have key : ∀ n : Nat, ∀ c : Int, 0 ≤ c → c < n → t_it t_lf0f n σ 33 c = -1 := by
    intro n
    refine t_it_P (fun n (τ : t_S) => ∀ c : Int, 0 ≤ c → c < n → τ 33 c = -1) (fun c a b => by omega) n (fun i y i0 _ hy => ?_)
    intro c c0 c1
    unfold t_lf0f
    by_cases q : c = i
    · subst q; rw [s_up_eq]
    · rw [s_up_j q]; exact hy c c0 (by omega)
  have k : ∀ c : Int, 0 ≤ c → c < 80 → t_lf0 a σ 33 c = if c = a then 0 else -1 := fun c c0 c1 => by
    unfold t_lf0
    by_cases q : c = a
    · rw [if_pos q, q, s_up_eq]
    · rw [if_neg q, s_up_j q]; exact key 80 c c0 c1
  refine ⟨fun j hj => t_lf0_k hj, by rw [k a ha.1 ha.2, if_pos rfl], fun c d c0 c1 d0 d1 hl hc hcn => ?_, fun c c0 c1 hc hca => ?_⟩
  · rw [k c c0 c1] at hc hcn
    by_cases q : c = a
    · rw [if_pos q] at hcn; omega
    · rw [if_neg q] at hc; exact absurd rfl hc
  · rw [k c c0 c1, if_neg hca] at hc; exact absurd rfl hc
/-- what the twin's search finds -/
theorem z_lyf {σ : t_S} {a y : Int} (hz : t_sz σ) (ha : x_c8 a) : x_D (fun c d => t_lead σ c d y) (t_bes σ) a (t_lyf a y σ 33) ∧ (∀ c : Int, 0 ≤ c → c < 80 → ¬ x_c8 c → t_lyf a y σ 33 c = -1) ∧ (∀ c : Int, 0 ≤ c → c < 80 → -1 ≤ t_lyf a y σ 33 c ∧ t_lyf a y σ 33 c < 80) ∧ ∀ j, j ≠ 33 → t_lyf a y σ j = σ j := by
  have ha' : 0 ≤ a ∧ a < 80 := ⟨ha.1, ha.2.1⟩
  obtain ⟨m, h, hf, hm⟩ := z_lfl (y := y) hz ha' 81 0 (t_lf0 a σ) (Int.le_refl 0) (z_lf0 ha') (t_lf0_fr ha') (by have := t_lf0_un (σ := σ) ha'; omega)
  have hu := t_lf0_un (σ := σ) ha'
  unfold t_lyf
  revert h hf
  generalize t_lfl y 81 0 (t_lf0 a σ) = τ
  intro h hf
  obtain ⟨h1, h2, h3, h4⟩ := h
  have k8 : ∀ c : Int, 0 ≤ c → c < 80 → τ 33 c ≠ -1 → x_c8 c := fun c c0 c1 hc => by
    by_cases q : c = a
    · rw [q]; exact ha
    · obtain ⟨u, d, -, -, -, -, hl, he, -⟩ := h4 c c0 c1 hc q
      rw [← he]
      exact x_okc hz (z_bes_ok hz hl.1)
  refine ⟨⟨h2, fun c hc => (hf c hc.1 hc.2.1).1, fun c d hc d0 d1 hl hcn => h3 c d hc.1 hc.2.1 d0 d1 hl hcn (by have := (hf c hc.1 hc.2.1).2; omega), fun c hc hcn hca => ?_⟩, fun c c0 c1 hc => ?_, fun c c0 c1 => ⟨(hf c c0 c1).1, by have := (hf c c0 c1).2; omega⟩, h1⟩
  · obtain ⟨u, d, u0, u1, d0, d1, hl, he, hu, hv⟩ := h4 c hc.1 hc.2.1 hcn hca
    exact ⟨u, d, k8 u u0 u1 hu, d0, d1, hl, he, hu, hv⟩
  · by_cases q : τ 33 c = -1
    · exact q
    · exact absurd (k8 c c0 c1 q) hc
