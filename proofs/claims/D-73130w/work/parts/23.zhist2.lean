/-! THE TWIN'S PURE FORM: what holds behind all walks, two -/
set_option maxRecDepth 100000
theorem z_go2_26 (w e : Int) (τ : t_S) (j : Int) : t_go2 w e τ 26 j = if j = 41 * w + (τ 27 w + 1) then e else τ 26 j := by
  unfold t_go2
  rw [s_up_eq]
  by_cases q : j = 41 * w + (τ 27 w + 1)
  · rw [if_pos q, q, s_up_eq]
  · rw [if_neg q, s_up_j q, s_up_f (by decide)]
theorem z_go2_27 (w e : Int) (τ : t_S) (v : Int) : t_go2 w e τ 27 v = if v = w then τ 27 w + 1 else τ 27 v := by
  unfold t_go2
  rw [s_up_f (by decide)]
  by_cases q : v = w
  · rw [if_pos q, q, s_up_eq]
  · rw [if_neg q, s_up_j q]
/-- the cells of a walk under way -/
def z_V (w : Int) (x : t_X) : Prop := (∀ e : Int, 0 ≤ e → e < 80 → (x.1 23 e = 1 ↔ ∃ j : Int, 0 ≤ j ∧ j ≤ x.1 27 w ∧ x.1 26 (41 * w + j) = e)) ∧ 0 ≤ x.1 27 w
theorem z_Va {w to : Int} {τ τ1 : t_S} (v1 : ∀ e : Int, 0 ≤ e → e < 80 → (τ 23 e = 1 ↔ ∃ j : Int, 0 ≤ j ∧ j ≤ τ 27 w ∧ τ 26 (41 * w + j) = e)) (v2 : 0 ≤ τ 27 w) (g26 : τ1 26 = τ 26) (g27 : τ1 27 = τ 27) (g23 : ∀ e : Int, 0 ≤ e → e < 80 → (τ1 23 e = 1 ↔ τ 23 e = 1 ∨ e = to)) :
    (∀ e : Int, 0 ≤ e → e < 80 → (t_go2 w to τ1 23 e = 1 ↔ ∃ j : Int, 0 ≤ j ∧ j ≤ t_go2 w to τ1 27 w ∧ t_go2 w to τ1 26 (41 * w + j) = e)) ∧ 0 ≤ t_go2 w to τ1 27 w := by
  have e27 : t_go2 w to τ1 27 w = τ 27 w + 1 := by rw [z_go2_27, if_pos rfl, g27]
  have e26 : ∀ j, t_go2 w to τ1 26 j = if j = 41 * w + (τ 27 w + 1) then to else τ 26 j := fun j => by rw [z_go2_26, g27, g26]
  have e23 : t_go2 w to τ1 23 = τ1 23 := t_go2_k (by decide) (by decide)
  refine ⟨fun e e0 e1 => ?_, by omega⟩
  rw [e23, e27]
  constructor
  · intro q
    rcases (g23 e e0 e1).mp q with p | p
    · obtain ⟨j, j0, j1, hj⟩ := (v1 e e0 e1).mp p
      exact ⟨j, j0, by omega, by rw [e26, if_neg (by omega)]; exact hj⟩
    · exact ⟨τ 27 w + 1, by omega, by omega, by rw [e26, if_pos rfl]; exact p.symm⟩
  · rintro ⟨j, j0, j1, hj⟩
    rw [e26] at hj
    refine (g23 e e0 e1).mpr ?_
    by_cases q : j = τ 27 w + 1
    · rw [if_pos (by omega)] at hj
      exact Or.inr hj.symm
    · rw [if_neg (by omega)] at hj
      exact Or.inl ((v1 e e0 e1).mpr ⟨j, j0, by omega, hj⟩)
theorem z_Vs {w k : Int} {τ0 τ : t_S} {x : t_X} (hi : t_inX w τ k x) (h : z_W τ0 w x) (hv : z_V w x) : z_V w (t_stp w k x) := by
  obtain ⟨v1, v2⟩ := hv
  have h23 := h.2.2.1
  unfold t_stp
  split
  · generalize (x.2.1 + t_turn x.1 w k) % 4 = f1
    generalize t_trn x.1 x.2.2.1 f1 (t_law x.1 x.2.2.1) 4 0 = n
    unfold t_stpA
    split
    · generalize t_bes x.1 x.2.2.1 ((f1 + n) % 4) = to
      generalize (f1 + n) % 4 = f2
      have g26 : t_go1 w x.2.2.1 to f2 x.1 26 = x.1 26 := t_go1_k (by decide) (by decide)
      have g27 : t_go1 w x.2.2.1 to f2 x.1 27 = x.1 27 := t_go1_k (by decide) (by decide)
      exact z_Va v1 v2 g26 g27 (fun e _ _ => by
        unfold t_go1
        by_cases p : e = to
        · rw [p, s_up_eq]
          exact ⟨fun _ => Or.inr rfl, fun _ => rfl⟩
        · rw [s_up_j p, s_up_f (by decide), s_up_f (by decide)]
          exact ⟨Or.inl, fun q => q.elim id (fun z => absurd z p)⟩)
    · exact z_Va v1 v2 rfl rfl (fun e _ _ => ⟨Or.inl, fun q => q.elim id (fun z => by rw [z]; exact h23)⟩)
  · exact ⟨v1, v2⟩
theorem z_i0 {w f s g : Int} {τ μ : t_S} (e1 : μ 1 = τ 1) (e21 : μ 21 = τ 21) (e24 : μ 24 = τ 24) (e23 : ∀ e : Int, 0 ≤ e → e < 80 → μ 23 e = if e = s then 1 else 0) (e26 : ∀ j : Int, μ 26 j = if j = 41 * w then s else τ 26 j) (e27 : ∀ v : Int, μ 27 v = if v = w then 0 else τ 27 v) (hs : t_okC (τ 1) s) (hz : t_sz τ) (h : z_sym τ (fun c => τ 21 c = 1)) : z_W τ w (μ, f, s, g) ∧ z_V w (μ, f, s, g) := by
  have rs := z_okC_rg hz hs
  have hb : ∀ c d, t_bes μ c d = t_bes τ c d := fun c d => z_bes_cg e1 c d
  refine ⟨⟨⟨fun c c0 c1 hc => ?_, fun c d c0 c1 d0 d1 hc => ?_⟩, ?_, ?_, fun j j0 j1 => ?_, fun v hv => ?_, fun v j hv j0 j1 => ?_⟩, fun e e0 e1' => ?_, ?_⟩
  · have hc' : ¬ t_okC (μ 1) c := hc
    rw [e1] at hc'
    obtain ⟨a, b⟩ := h.1 c c0 c1 hc'
    show μ 24 c = 0 ∧ ¬ (μ 21 c = 1 ∨ μ 23 c = 1)
    rw [e24, e21, e23 c c0 c1, if_neg (fun z => hc' (by rw [z]; exact hs))]
    exact ⟨a, fun q => q.elim b (by decide)⟩
  · have hc' : e_bt (μ 24 c) d = 1 := hc
    rw [e24] at hc'
    obtain ⟨a, b, r⟩ := h.2 c d c0 c1 d0 d1 hc'
    show t_bes μ c d ≠ -1 ∧ e_bt (μ 24 (t_bes μ c d)) ((d + 2) % 4) = 1 ∧ (μ 21 c = 1 ∨ μ 23 c = 1)
    rw [hb, e24, e21]
    exact ⟨a, b, Or.inl r⟩
  · show t_okC (μ 1) s
    rw [e1]; exact hs
  · show μ 23 s = 1
    rw [e23 s rs.1 rs.2.1, if_pos rfl]
  · have j1' : j ≤ μ 27 w := j1
    rw [e27, if_pos rfl] at j1'
    show t_okC (μ 1) (μ 26 (41 * w + j))
    rw [e1, e26, if_pos (by omega)]; exact hs
  · show μ 27 v = τ 27 v
    rw [e27, if_neg hv]
  · show μ 26 (41 * v + j) = τ 26 (41 * v + j)
    rw [e26, if_neg (by omega)]
  · show μ 23 e = 1 ↔ ∃ j : Int, 0 ≤ j ∧ j ≤ μ 27 w ∧ μ 26 (41 * w + j) = e
    rw [e23 e e0 e1', e27, if_pos rfl]
    constructor
    · intro q
      by_cases z : e = s
      · exact ⟨0, Int.le_refl 0, Int.le_refl 0, by rw [e26, if_pos (by omega)]; exact z.symm⟩
      · rw [if_neg z] at q; exact absurd q (by decide)
    · rintro ⟨j, j0, j1, hj⟩
      rw [e26, if_pos (by omega)] at hj
      rw [if_pos hj.symm]
  · show 0 ≤ μ 27 w
    rw [e27, if_pos rfl]
    exact Int.le_refl 0
theorem z_wk0_23 (ρ : t_S) : ∀ e : Int, 0 ≤ e → e < 80 → t_wk0 ρ 23 e = 0 := by
  have key : ∀ n : Nat, ∀ e : Int, 0 ≤ e → e < n → t_it t_wk1f n ρ 23 e = 0 := by
    intro n
    induction n with
    | zero => intro e a b; omega
    | succ n ih =>
      intro e a b
      show s_up (s_up (t_it t_wk1f n ρ) 22 n (t_it t_wk1f n ρ 21 n)) 23 n 0 23 e = 0
      by_cases q : e = n
      · rw [q, s_up_eq]
      · rw [s_up_j q, s_up_f (by decide)]
        exact ih e a (by omega)
  exact key 80
theorem z_wkx0 {w : Int} {τ : t_S} (hz : t_sz τ) (hw : t_okW (τ 1) w) (h : z_sym τ (fun c => τ 21 c = 1)) : z_W τ w (t_wkx w τ) ∧ z_V w (t_wkx w τ) := by
  have k0 : ∀ j, j ≠ 22 → j ≠ 23 → t_wk0 τ j = τ j := fun j a b => t_wk0_k a b 80
  have es : t_wd (t_wk0 τ) w 0 = τ 1 (28 + 13 * w) := by
    show t_wk0 τ 1 (28 + 13 * w + 0) = _
    rw [k0 1 (by decide) (by decide), Int.add_zero]
  have e1 : t_wk1 w (t_wk0 τ) 1 = τ 1 := (t_wk1_k (by decide) (by decide) (by decide)).trans (k0 1 (by decide) (by decide))
  have e21 : t_wk1 w (t_wk0 τ) 21 = τ 21 := (t_wk1_k (by decide) (by decide) (by decide)).trans (k0 21 (by decide) (by decide))
  have e24 : t_wk1 w (t_wk0 τ) 24 = τ 24 := (t_wk1_k (by decide) (by decide) (by decide)).trans (k0 24 (by decide) (by decide))
  have e23 : ∀ e : Int, 0 ≤ e → e < 80 → t_wk1 w (t_wk0 τ) 23 e = if e = t_wd (t_wk0 τ) w 0 then 1 else 0 := fun e a b => by
    unfold t_wk1
    rw [s_up_f (by decide)]
    by_cases q : e = t_wd (t_wk0 τ) w 0
    · rw [if_pos q, q, s_up_eq]
    · rw [if_neg q, s_up_j q, s_up_f (by decide)]
      exact z_wk0_23 τ e a b
  have e26 : ∀ j : Int, t_wk1 w (t_wk0 τ) 26 j = if j = 41 * w then t_wd (t_wk0 τ) w 0 else τ 26 j := fun j => by
    unfold t_wk1
    rw [s_up_f (by decide), s_up_f (by decide)]
    by_cases q : j = 41 * w
    · rw [if_pos q, q, s_up_eq]
    · rw [if_neg q, s_up_j q, k0 26 (by decide) (by decide)]
  have e27 : ∀ v : Int, t_wk1 w (t_wk0 τ) 27 v = if v = w then 0 else τ 27 v := fun v => by
    unfold t_wk1
    by_cases q : v = w
    · rw [if_pos q, q, s_up_eq]
    · rw [if_neg q, s_up_j q, s_up_f (by decide), s_up_f (by decide), k0 27 (by decide) (by decide)]
  exact z_i0 e1 e21 e24 e23 e26 e27 (by rw [es]; exact hw.1) hz h
theorem z_wkX {w : Int} {τ : t_S} (ha : t_ask τ) (hw0 : 0 ≤ w ∧ w < 7) (hw : t_okW (τ 1) w) (hb : t_b01 τ 21) (hp : t_prg τ) (h : z_sym τ (fun c => τ 21 c = 1)) : t_inX w (t_wk0 τ) ((t_wd τ w 2).toNat : Nat) (t_wkX w τ) ∧ z_W τ w (t_wkX w τ) ∧ z_V w (t_wkX w τ) := by
  have hz := ha.1
  have hI := t_wkX_in hz hw hb hp (ha.2.2.2.1 w hw0.1 hw0.2)
  have e1 : t_wk0 τ 1 = τ 1 := t_wk0_k (by decide) (by decide) 80
  have hz0 : t_sz (t_wk0 τ) := by unfold t_sz; rw [e1]; exact hz
  have h2 : 1 ≤ t_wd τ w 2 ∧ t_wd τ w 2 ≤ 40 := hw.2.2.1
  have h0 := z_wkx0 hz hw h
  unfold t_wkX
  exact t_it_P (f := t_stp w) (x := t_wkx w τ) (fun (i : Int) x => t_inX w (t_wk0 τ) i x ∧ z_W τ w x ∧ z_V w x) ⟨hI 0, h0⟩ _ (fun i x i0 i1 hx => ⟨t_stp_in hz0 hx.1, z_stp hz0 ⟨by omega, by omega⟩ hx.1 hx.2.1, z_Vs hx.1 hx.2.1 hx.2.2⟩)
theorem z_wk3_k (τ : t_S) (j : Nat) (h : j ≠ 21) : t_it t_wk3f 80 τ j = τ j := t_it_k (f := t_wk3f) (fun _ _ => s_up_f h) 80 τ
theorem z_wk3_c (τ : t_S) : ∀ e : Int, 0 ≤ e → e < 80 → t_it t_wk3f 80 τ 21 e = if τ 21 e = 1 ∨ τ 23 e = 1 then 1 else 0 := by
  have key : ∀ n : Nat, t_it t_wk3f n τ 23 = τ 23 ∧ (∀ e : Int, 0 ≤ e → e < n → t_it t_wk3f n τ 21 e = if τ 21 e = 1 ∨ τ 23 e = 1 then 1 else 0) ∧ ∀ e : Int, n ≤ e → t_it t_wk3f n τ 21 e = τ 21 e := by
    intro n
    induction n with
    | zero => exact ⟨rfl, fun e a b => by omega, fun e _ => rfl⟩
    | succ n ih =>
      obtain ⟨i1, i2, i3⟩ := ih
      refine ⟨t_it_k (f := t_wk3f) (fun _ _ => s_up_f (by decide)) _ τ, fun e a b => ?_, fun e a => ?_⟩
      · show s_up (t_it t_wk3f n τ) 21 n (if t_it t_wk3f n τ 21 n = 1 ∨ t_it t_wk3f n τ 23 n = 1 then 1 else 0) 21 e = _
        by_cases q : e = n
        · rw [q, s_up_eq, i1, i3 n (Int.le_refl _)]
        · rw [s_up_j q]; exact i2 e a (by omega)
      · show s_up (t_it t_wk3f n τ) 21 n _ 21 e = _
        rw [s_up_j (by omega)]
        exact i3 e (by omega)
  exact (key 80).2.1
/-- houses moved -/
theorem z_mh {w : Int} {σ : t_S} (h6 : 0 ≤ σ 1 6 ∧ σ 1 6 ≤ 6) : (0 ≤ t_mh w σ 28 w ∧ t_mh w σ 28 w ≤ 6) ∧ (∀ v : Int, v ≠ w → t_mh w σ 28 v = σ 28 v) ∧ ∀ h : Int, σ 29 h ≤ t_mh w σ 29 h ∧ t_mh w σ 29 h ≤ σ 29 h + 1 := by
  have key := t_it_P (f := t_mhf w) (x := s_up σ 28 w 0) (fun i τ => (0 ≤ τ 28 w ∧ τ 28 w ≤ i) ∧ (∀ v : Int, v ≠ w → τ 28 v = σ 28 v) ∧ ∀ h : Int, (σ 29 h ≤ τ 29 h ∧ τ 29 h ≤ σ 29 h + 1) ∧ (i ≤ h → τ 29 h = σ 29 h)) ⟨by rw [s_up_eq]; omega, fun v hv => s_up_j hv, fun h => by rw [s_up_f (by decide)]; omega⟩ (σ 1 6).toNat (fun i y i0 i1 hy => by
    obtain ⟨y1, y2, y3⟩ := hy
    unfold t_mhf
    split
    · exact ⟨by omega, y2, fun h => ⟨(y3 h).1, fun q => (y3 h).2 (by omega)⟩⟩
    · generalize t_emp y = E
      have a28 : ∀ v : Int, s_up (s_up (s_up y 25 i E) 28 w (s_up y 25 i E 28 w + 1)) 29 i (s_up (s_up y 25 i E) 28 w (s_up y 25 i E 28 w + 1) 29 i + 1) 28 v = if v = w then y 28 w + 1 else y 28 v := fun v => by
        rw [s_up_f (show (28 : Nat) ≠ 29 by decide)]
        by_cases q : v = w
        · rw [if_pos q, q, s_up_eq, s_up_f (by decide)]
        · rw [if_neg q, s_up_j q, s_up_f (by decide)]
      have a29 : ∀ h : Int, s_up (s_up (s_up y 25 i E) 28 w (s_up y 25 i E 28 w + 1)) 29 i (s_up (s_up y 25 i E) 28 w (s_up y 25 i E 28 w + 1) 29 i + 1) 29 h = if h = i then y 29 i + 1 else y 29 h := fun h => by
        by_cases q : h = i
        · rw [if_pos q, q, s_up_eq, s_up_f (by decide), s_up_f (by decide)]
        · rw [if_neg q, s_up_j q, s_up_f (by decide), s_up_f (by decide)]
      refine ⟨?_, fun v hv => ?_, fun h => ?_⟩
      · rw [a28, if_pos rfl]; omega
      · rw [a28, if_neg hv]; exact y2 v hv
      · rw [a29]
        have y3i := (y3 i).2 (Int.le_refl i)
        have y3h := y3 h
        by_cases q : h = i
        · rw [if_pos q, q, y3i]; omega
        · rw [if_neg q]
          exact ⟨y3h.1, fun p => y3h.2 (by omega)⟩)
  have e : t_mh w σ = t_it (t_mhf w) (σ 1 6).toNat (s_up σ 28 w 0) := rfl
  rw [← e] at key
  obtain ⟨k1, k2, k3⟩ := key
  exact ⟨by omega, k2, fun h => (k3 h).1⟩
/-- what holds between walks -/
def z_G (b : Int) (τ : t_S) : Prop := z_sym τ (fun c => τ 21 c = 1) ∧ (∀ w : Int, 0 ≤ w → w < 7 → (-1 ≤ τ 27 w ∧ τ 27 w ≤ 40) ∧ (∀ k : Int, 0 ≤ k → k ≤ τ 27 w → t_okC (τ 1) (τ 26 (41 * w + k))) ∧ (τ 27 w ≠ -1 → 0 ≤ τ 28 w ∧ τ 28 w ≤ 6)) ∧ ∀ h : Int, 0 ≤ h → h < 6 → 0 ≤ τ 29 h ∧ τ 29 h ≤ b
/-- roads are what was walked -/
def z_U (τ : t_S) : Prop := ∀ c : Int, 0 ≤ c → c < 80 → (τ 21 c = 1 ↔ ∃ v j : Int, 0 ≤ v ∧ v < τ 1 7 ∧ 0 ≤ j ∧ j ≤ τ 27 v ∧ τ 26 (41 * v + j) = c)
theorem z_wk {b w : Int} {σ τ : t_S} (ha : t_ask τ) (hi : t_inG σ τ) (hw0 : 0 ≤ w ∧ w < 7) (hw : t_okW (τ 1) w) (h : z_G b τ) : z_G (b + 1) (t_wk w τ) ∧ (∀ v : Int, v ≠ w → t_wk w τ 27 v = τ 27 v) ∧ (∀ j, j < 21 ∨ 29 < j → t_wk w τ j = τ j) ∧ (τ 27 w = -1 → w < τ 1 7 → z_U τ → z_U (t_wk w τ)) := by
  obtain ⟨hX, hW, hV⟩ := z_wkX ha hw0 hw hi.2.1 hi.2.2.1 h.1
  have h2 : 1 ≤ t_wd τ w 2 ∧ t_wd τ w 2 ≤ 40 := hw.2.2.1
  have k0 : ∀ j, j ≠ 22 → j ≠ 23 → t_wk0 τ j = τ j := fun j a b => t_wk0_k a b 80
  unfold t_wk
  revert hX hW hV
  generalize t_wkX w τ = x
  intro hX hW hV
  obtain ⟨sy, -, -, w4, w5, w6⟩ := hW
  obtain ⟨v1, v2⟩ := hV
  have kx : ∀ j, j ≠ 22 → j ≠ 23 → j ≠ 24 → j ≠ 26 → j ≠ 27 → x.1 j = τ j := fun j a b c d e => (hX.1 j b c d e).trans (k0 j a b)
  have x27 := hX.2.2.2.2.2.2
  have k3 := z_wk3_k x.1
  have c3 := z_wk3_c x.1
  revert k3 c3
  generalize t_it t_wk3f 80 x.1 = ν
  intro k3 c3
  have n1 : ν 1 = τ 1 := (k3 1 (by decide)).trans (kx 1 (by decide) (by decide) (by decide) (by decide) (by decide))
  have hm := z_mh (w := w) (σ := ν) (by rw [n1]; exact ha.1.2.2.2.2.1)
  have km : ∀ j, j ≠ 25 → j ≠ 28 → j ≠ 29 → t_mh w ν j = ν j := fun j a b c => t_mh_k a b c ν
  revert hm km
  generalize t_mh w ν = μ
  intro hm km
  have m1 : μ 1 = τ 1 := (km 1 (by decide) (by decide) (by decide)).trans n1
  have m21 : ∀ e : Int, 0 ≤ e → e < 80 → μ 21 e = if x.1 21 e = 1 ∨ x.1 23 e = 1 then 1 else 0 := fun e a b => by rw [km 21 (by decide) (by decide) (by decide)]; exact c3 e a b
  have m24 : μ 24 = x.1 24 := (km 24 (by decide) (by decide) (by decide)).trans (k3 24 (by decide))
  have m26 : μ 26 = x.1 26 := (km 26 (by decide) (by decide) (by decide)).trans (k3 26 (by decide))
  have m27 : μ 27 = x.1 27 := (km 27 (by decide) (by decide) (by decide)).trans (k3 27 (by decide))
  have n28 : ν 28 = τ 28 := (k3 28 (by decide)).trans (kx 28 (by decide) (by decide) (by decide) (by decide) (by decide))
  have n29 : ν 29 = τ 29 := (k3 29 (by decide)).trans (kx 29 (by decide) (by decide) (by decide) (by decide) (by decide))
  have x1 : x.1 1 = τ 1 := kx 1 (by decide) (by decide) (by decide) (by decide) (by decide)
  have x21 : x.1 21 = τ 21 := kx 21 (by decide) (by decide) (by decide) (by decide) (by decide)
  have hb : ∀ c d, t_bes μ c d = t_bes x.1 c d := fun c d => z_bes_cg (m1.trans x1.symm) c d
  refine ⟨⟨⟨fun c c0 c1 hc => ?_, fun c d c0 c1 d0 d1 hc => ?_⟩, fun v v0 v1' => ?_, fun e e0 e1 => ?_⟩, fun v hv => ?_, fun j hj => ?_, fun h27 h7 hU => ?_⟩
  · rw [m1, ← x1] at hc
    obtain ⟨p, q⟩ := sy.1 c c0 c1 hc
    show μ 24 c = 0 ∧ ¬ (μ 21 c = 1)
    rw [m24, m21 c c0 c1, if_neg q]
    exact ⟨p, by decide⟩
  · rw [m24] at hc
    obtain ⟨p, q, r⟩ := sy.2 c d c0 c1 d0 d1 hc
    show t_bes μ c d ≠ -1 ∧ e_bt (μ 24 (t_bes μ c d)) ((d + 2) % 4) = 1 ∧ μ 21 c = 1
    rw [hb, m24, m21 c c0 c1, if_pos r]
    exact ⟨p, q, rfl⟩
  · rw [m1, m26, m27]
    by_cases q : v = w
    · rw [q]
      refine ⟨by omega, fun k a c => by rw [← x1]; exact w4 k a c, fun _ => hm.1⟩
    · obtain ⟨g1, g2, g3⟩ := h.2.1 v v0 v1'
      rw [w5 v q, hm.2.1 v q, n28]
      exact ⟨g1, fun k a c => by rw [w6 v k q a (by omega)]; exact g2 k a c, g3⟩
  · have g := h.2.2 e e0 e1
    have g2 := hm.2.2 e
    rw [n29] at g2
    omega
  · rw [m27]; exact w5 v hv
  · rw [km j (by omega) (by omega) (by omega), k3 j (by omega), kx j (by omega) (by omega) (by omega) (by omega) (by omega)]
  · intro c c0 c1
    rw [m21 c c0 c1, m1, m26, m27, x21]
    constructor
    · intro q
      by_cases p : τ 21 c = 1
      · obtain ⟨v, j, v0, v1', j0, j1, hj⟩ := (hU c c0 c1).mp p
        have hv : v ≠ w := fun z => by rw [z] at j1; omega
        refine ⟨v, j, v0, v1', j0, by rw [w5 v hv]; exact j1, ?_⟩
        have := (h.2.1 v v0 (by have := ha.1.2.2.2.2.2.1; omega)).1
        rw [w6 v j hv j0 (by omega)]; exact hj
      · by_cases p2 : x.1 23 c = 1
        · obtain ⟨j, j0, j1, hj⟩ := (v1 c c0 c1).mp p2
          exact ⟨w, j, hw0.1, h7, j0, j1, hj⟩
        · rw [if_neg (fun z => z.elim p p2)] at q
          exact absurd q (by decide)
    · rintro ⟨v, j, v0, v1', j0, j1, hj⟩
      by_cases hv : v = w
      · rw [hv] at j1 hj
        rw [if_pos (Or.inr ((v1 c c0 c1).mpr ⟨j, j0, j1, hj⟩))]
      · rw [w5 v hv] at j1
        have := (h.2.1 v v0 (by have := ha.1.2.2.2.2.2.1; omega)).1
        rw [w6 v j hv j0 (by omega)] at hj
        rw [if_pos (Or.inl ((hU c c0 c1).mpr ⟨v, j, v0, v1', j0, j1, hj⟩))]
