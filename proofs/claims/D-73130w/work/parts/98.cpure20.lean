/-! PARTS OF ROAD, side by side, pure -/
set_option maxRecDepth 100000
/-- land is road -/
def x_ral (ρ : t_S) (y : Int) : t_S := fun k j => if k = 15 then 1 - ρ 30 (80 * y + j) else ρ k j
def x_Dal (ρ : t_S) (y a : Int) : Int → Int := t_lyf a (-1) (x_ral ρ y) 33
theorem x_ral_k (ρ : t_S) (y : Int) {k : Nat} (h : k ≠ 15) : x_ral ρ y k = ρ k := funext fun _ => if_neg h
abbrev x_al (ρ : t_S) (y : Int) : Int → Int → Prop := fun c d => t_bes ρ c d ≠ -1 ∧ ρ 30 (80 * y + t_bes ρ c d) = 1
theorem x_Dal_D {ρ : t_S} (hz : t_sz ρ) {y a : Int} (ha : x_c8 a) : x_D (x_al ρ y) (t_bes ρ) a (x_Dal ρ y a) ∧ (∀ c : Int, 0 ≤ c → c < 80 → ¬ x_c8 c → x_Dal ρ y a c = -1) ∧ ∀ c : Int, 0 ≤ c → c < 80 → -1 ≤ x_Dal ρ y a c ∧ x_Dal ρ y a c < 80 := by
  have e1 : x_ral ρ y 1 = ρ 1 := x_ral_k ρ y (by decide)
  have hz1 : t_sz (x_ral ρ y) := by unfold t_sz; rw [e1]; exact hz
  obtain ⟨d1, o1, b1, -⟩ := z_lyf (y := -1) hz1 ha
  refine ⟨x_D_cg (fun c d _ _ _ => ?_) (fun c d => z_bes_cg e1 c d) d1, o1, b1⟩
  have hb := z_bes_cg e1 c d
  show (t_bes (x_ral ρ y) c d ≠ -1 ∧ ((-1 : Int) = -1 ∧ (1 - ρ 30 (80 * y + t_bes (x_ral ρ y) c d)) = 0 ∨ (-1 : Int) ≠ -1 ∧ e_bt (t_pgs (x_ral ρ y) c (-1)) d = 1)) ↔ (t_bes ρ c d ≠ -1 ∧ ρ 30 (80 * y + t_bes ρ c d) = 1)
  rw [hb]
  constructor
  · rintro ⟨p, q | q⟩
    · exact ⟨p, by omega⟩
    · exact absurd rfl q.1
  · rintro ⟨p, q⟩
    exact ⟨p, Or.inl ⟨rfl, by omega⟩⟩
/-- the twin's closure -/
def z_O (ρ : t_S) (y : Int) (D : Int → Int) (r : Int) (x : t_S × Int) : Prop := (∀ j, j ≠ 34 → x.1 j = ρ j) ∧ t_b01 x.1 34 ∧ (∀ e : Int, 0 ≤ e → e < 80 → x.1 34 e = 1 → D e ≠ -1 ∧ ρ 30 (80 * y + e) = 1) ∧ x.2 = t_sum (x.1 34) 80 ∧ ∀ e : Int, 0 ≤ e → e < 80 → D e ≠ -1 → D e ≤ r → x.1 34 e = 1
def z_Oi (ρ : t_S) (y : Int) (D : Int → Int) (r i d : Int) (x : t_S × Int) : Prop := z_O ρ y D r x ∧ ∀ u e : Int, 0 ≤ u → u < 80 → (u < i ∨ (u = i ∧ e < d)) → 0 ≤ e → e < 4 → D u ≠ -1 → D u ≤ r → x_al ρ y u e → x.1 34 (t_bes ρ u e) = 1
theorem z_Od {ρ : t_S} {y a r i d : Int} {D : Int → Int} {x : t_S × Int} (hz : t_sz ρ) (hD : x_D (x_al ρ y) (t_bes ρ) a D) (h8 : ∀ c : Int, 0 ≤ c → c < 80 → D c ≠ -1 → x_c8 c) (hi : 0 ≤ i ∧ i < 80) (hd : 0 ≤ d ∧ d < 4) (hin : x.1 34 i = 1) (h : z_Oi ρ y D r i d x) : z_Oi ρ y D r i (d + 1) (t_osd y i d x) ∧ (t_osd y i d x).1 34 i = 1 := by
  obtain ⟨⟨h1, h2, h3, h4, h5⟩, h6⟩ := h
  have hb := z_bes_cg (h1 1 (by decide)) i d
  have hbr := t_bes_rg hz i d
  have hr : ∀ e, t_rdo x.1 e y = ρ 30 (80 * y + e) := fun e => by show x.1 30 _ = _; rw [h1 30 (by decide)]
  unfold t_osd
  rw [hb, hr]
  by_cases q : t_bes ρ i d ≠ -1 ∧ ρ 30 (80 * y + t_bes ρ i d) = 1 ∧ x.1 34 (t_bes ρ i d) = 0
  · rw [if_pos q]
    obtain ⟨q1, q2, q3⟩ := q
    obtain ⟨to, ht⟩ : ∃ to, t_bes ρ i d = to := ⟨_, rfl⟩
    have hDi := h3 i hi.1 hi.2 hin
    have hDt := (hD.2.2.1 i d (h8 i hi.1 hi.2 hDi.1) hd.1 hd.2 ⟨q1, q2⟩ hDi.1).1
    rw [ht] at q1 q2 q3 hbr hDt ⊢
    have k : ∀ c, s_up x.1 34 to 1 34 c = if c = to then 1 else x.1 34 c := fun c => by
      by_cases z : c = to
      · rw [if_pos z, z, s_up_eq]
      · rw [if_neg z, s_up_j z]
    have k1 : ∀ c, x.1 34 c = 1 → s_up x.1 34 to 1 34 c = 1 := fun c hc => by
      rw [k]
      split
      · rfl
      · exact hc
    refine ⟨⟨⟨fun j hj => (s_up_f hj).trans (h1 j hj), fun c c0 c1 => ?_, fun e e0 e1 he => ?_, ?_, fun e e0 e1 he her => k1 e (h5 e e0 e1 he her)⟩, fun u e u0 u1 hue e0 e1 hu hur hL => ?_⟩, k1 i hin⟩
    · dsimp only
      rw [k]
      split
      · exact Or.inr rfl
      · exact h2 c c0 c1
    · dsimp only at he
      rw [k] at he
      by_cases z : e = to
      · rw [z]; exact ⟨hDt, q2⟩
      · rw [if_neg z] at he; exact h3 e e0 e1 he
    · dsimp only
      rw [h4, t_sum_up (g := x.1 34) (g1 := s_up x.1 34 to 1 34) (j := to) (by omega) (fun i hi => by rw [k, if_neg hi]) 80, if_pos (show to < ((80 : Nat) : Int) by omega), k, if_pos rfl, q3]
      omega
    · dsimp only
      by_cases z : u = i ∧ e = d
      · rw [z.1, z.2, ht, k, if_pos rfl]
      · exact k1 _ (h6 u e u0 u1 (by omega) e0 e1 hu hur hL)
  · rw [if_neg q]
    refine ⟨⟨⟨h1, h2, h3, h4, h5⟩, fun u e u0 u1 hue e0 e1 hu hur hL => ?_⟩, hin⟩
    by_cases z : u = i ∧ e = d
    · rw [z.1, z.2] at hL ⊢
      have hne := hL.1
      rcases h2 (t_bes ρ i d) (by omega) hbr.2 with w | w
      · exact absurd ⟨hL.1, hL.2, w⟩ q
      · exact w
    · exact h6 u e u0 u1 (by omega) e0 e1 hu hur hL
theorem z_Oc {ρ : t_S} {y a r i : Int} {D : Int → Int} {x : t_S × Int} (hz : t_sz ρ) (hD : x_D (x_al ρ y) (t_bes ρ) a D) (h8 : ∀ c : Int, 0 ≤ c → c < 80 → D c ≠ -1 → x_c8 c) (hi : 0 ≤ i ∧ i < 80) (h : z_Oi ρ y D r i 0 x) : z_Oi ρ y D r (i + 1) 0 (t_osc y i x) := by
  unfold t_osc
  by_cases q : x.1 34 i = 0
  · rw [if_pos q]
    refine ⟨h.1, fun u e u0 u1 hue e0 e1 hu hur hL => ?_⟩
    by_cases z : u = i
    · have := h.1.2.2.2.2 u u0 u1 hu hur
      rw [z] at this
      omega
    · exact h.2 u e u0 u1 (by omega) e0 e1 hu hur hL
  · rw [if_neg q]
    have q1 : x.1 34 i = 1 := (h.1.2.1 i hi.1 hi.2).elim (fun w => absurd w q) id
    have g := t_it_P (f := t_osd y i) (x := x) (fun d z => z_Oi ρ y D r i d z ∧ z.1 34 i = 1) ⟨h, q1⟩ 4 (fun d z d0 d1 hx => z_Od hz hD h8 hi ⟨by omega, by omega⟩ hx.2 hx.1)
    obtain ⟨⟨g1, g2⟩, -⟩ := g
    exact ⟨g1, fun u e u0 u1 hue e0 e1 hu hur hL => g2 u e u0 u1 (by omega) e0 e1 hu hur hL⟩
theorem z_Or {ρ : t_S} {y a r : Int} {D : Int → Int} {x : t_S × Int} (hz : t_sz ρ) (hD : x_D (x_al ρ y) (t_bes ρ) a D) (h8 : ∀ c : Int, 0 ≤ c → c < 80 → D c ≠ -1 → x_c8 c) (hr : 0 ≤ r) (h : z_O ρ y D r x) : z_O ρ y D (r + 1) (t_osr y r x) := by
  have g := t_it_P (f := t_osc y) (x := x) (fun i z => z_Oi ρ y D r i 0 z) ⟨h, fun u e u0 u1 hue => by omega⟩ 80 (fun i z i0 i1 hx => z_Oc hz hD h8 ⟨by omega, by omega⟩ hx)
  have e : t_osr y r x = t_it (t_osc y) 80 x := rfl
  rw [e]
  revert g
  generalize t_it (t_osc y) 80 x = z
  intro g
  obtain ⟨⟨h1, h2, h3, h4, h5⟩, h6⟩ := g
  refine ⟨h1, h2, h3, h4, fun c c0 c1 hc hcr => ?_⟩
  by_cases q : D c ≤ r
  · exact h5 c c0 c1 hc q
  · have hca : c ≠ a := fun w => by rw [w, hD.1] at q; omega
    obtain ⟨u, d, u8, d0, d1, hL, he, hu, hv⟩ := hD.2.2.2 c (h8 c c0 c1 hc) hc hca
    rw [← he]
    exact h6 u d u8.1 u8.2.1 (Or.inl u8.2.1) d0 d1 hu (by omega) hL
/-- the first road cell -/
theorem z_os1 {ρ : t_S} (F : z_F ρ) {y : Int} (hy : 0 ≤ y ∧ y ≤ ρ 1 0) {c : Int} (hc : x_c8 c) (h1 : ρ 30 (80 * y + c) = 1) : x_c8 (t_os1 y ρ) ∧ ρ 30 (80 * y + t_os1 y ρ) = 1 ∧ ∀ e : Int, 0 ≤ e → e < t_os1 y ρ → ρ 30 (80 * y + e) = 0 := by
  have key : ∀ (m : Nat) (i : Int), 0 ≤ i → i ≤ c → c < i + m → i + m ≤ 80 → (∀ e : Int, 0 ≤ e → e < i → ρ 30 (80 * y + e) = 0) → 0 ≤ t_fnd (t_rdg ρ y) m i ∧ t_fnd (t_rdg ρ y) m i < 80 ∧ ρ 30 (80 * y + t_fnd (t_rdg ρ y) m i) = 1 ∧ ∀ e : Int, 0 ≤ e → e < t_fnd (t_rdg ρ y) m i → ρ 30 (80 * y + e) = 0 := by
    intro m
    induction m with
    | zero => intro i a b d; omega
    | succ m ih =>
      intro i a b d e9 f
      unfold t_fnd
      by_cases q : t_rdg ρ y i = 1
      · rw [if_pos q]
        exact ⟨a, by omega, q, f⟩
      · rw [if_neg q]
        have hne : i ≠ c := fun z => q (by rw [z]; exact h1)
        refine ih (i + 1) (by omega) (by omega) (by omega) (by omega) (fun e e0 e1 => ?_)
        by_cases z : e = i
        · have h01 : ρ 30 (80 * y + i) = 0 ∨ ρ 30 (80 * y + i) = 1 := (F.2.2.2.1.1 y i hy.1 (by omega) a (by omega)).1
          rw [z]
          exact h01.elim id (fun w => absurd w q)
        · exact f e e0 (by omega)
  obtain ⟨a, b, d, e⟩ := key 80 0 (Int.le_refl 0) hc.1 (by have := hc.2.1; omega) (by omega) (fun e e0 e1 => by omega)
  refine ⟨?_, d, e⟩
  by_cases q : x_c8 (t_os1 y ρ)
  · exact q
  · have := x_rd0 F hy (t_os1 y ρ) a b q
    have d' : ρ 30 (80 * y + t_os1 y ρ) = 1 := d
    omega
theorem t_sum_le {g h : Int → Int} : ∀ n : Nat, (∀ i : Int, 0 ≤ i → i < n → g i ≤ h i) → t_sum g n ≤ t_sum h n ∧ (t_sum g n = t_sum h n → ∀ i : Int, 0 ≤ i → i < n → g i = h i)
  | 0, _ => ⟨Int.le_refl _, fun _ i a b => by omega⟩
  | n + 1, hh => by
    obtain ⟨i1, i2⟩ := t_sum_le n (fun i a b => hh i a (by omega))
    have h2 := hh n (by omega) (by omega)
    refine ⟨?_, fun e i a b => ?_⟩
    · show t_sum g n + g n ≤ t_sum h n + h n
      omega
    · have e' : t_sum g n + g n = t_sum h n + h n := e
      by_cases q : i = n
      · rw [q]; omega
      · exact i2 (by omega) i a (by omega)
theorem x_oss {ρ : t_S} (F : z_F ρ) {y : Int} (hy : 0 ≤ y ∧ y ≤ ρ 1 0) {c : Int} (hc : x_c8 c) (h1 : ρ 30 (80 * y + c) = 1) : t_oss y ρ ↔ ∀ e, x_c8 e → ρ 30 (80 * y + e) = 1 → x_Dal ρ y (t_os1 y ρ) e ≠ -1 := by
  have hz := F.1.1
  obtain ⟨f8, f1, f0⟩ := z_os1 F hy hc h1
  obtain ⟨hD, hD0, hDb⟩ := x_Dal_D hz (y := y) f8
  have h8 : ∀ c : Int, 0 ≤ c → c < 80 → x_Dal ρ y (t_os1 y ρ) c ≠ -1 → x_c8 c := fun c c0 c1 h => by
    by_cases q : x_c8 c
    · exact q
    · exact absurd (hD0 c c0 c1 q) h
  have e0 : ∀ e : Int, 0 ≤ e → e < 80 → s_up (t_nm0 ρ) 34 (t_os1 y ρ) 1 34 e = if e = t_os1 y ρ then 1 else 0 := fun e a b => by
    by_cases z : e = t_os1 y ρ
    · rw [if_pos z, z, s_up_eq]
    · rw [if_neg z, s_up_j z]; exact t_nm0_0 e a b
  have g0 : z_O ρ y (x_Dal ρ y (t_os1 y ρ)) 0 (t_os0 y ρ) := by
    unfold t_os0
    refine ⟨fun j hj => (s_up_f hj).trans (t_nm0_k hj), fun e a b => ?_, fun e a b he => ?_, ?_, fun e a b he her => ?_⟩
    · dsimp only
      rw [e0 e a b]
      split
      · exact Or.inr rfl
      · exact Or.inl rfl
    · dsimp only at he
      rw [e0 e a b] at he
      by_cases z : e = t_os1 y ρ
      · rw [z, hD.1]; exact ⟨by decide, f1⟩
      · rw [if_neg z] at he; exact absurd he (by decide)
    · dsimp only
      have g := t_sum_up (g := fun _ => 0) (g1 := fun e => if e = t_os1 y ρ then 1 else 0) (j := t_os1 y ρ) f8.1 (fun i hi => if_neg hi) 80
      rw [x_sum_cg (u := fun e => if e = t_os1 y ρ then 1 else 0) 80 (fun i a b => e0 i a (by omega)), g, x_sum_0 80 (fun _ _ _ => rfl), if_pos (show t_os1 y ρ < ((80 : Nat) : Int) from f8.2.1), if_pos rfl]
      rfl
    · dsimp only
      rw [e0 e a b]
      by_cases z : e = t_os1 y ρ
      · rw [if_pos z]
      · exfalso
        obtain ⟨u, d, u8, -, -, -, -, hu, hv⟩ := hD.2.2.2 e (h8 e a b he) he z
        have := hD.2.1 u u8
        omega
  have g : z_O ρ y (x_Dal ρ y (t_os1 y ρ)) 80 (t_os y ρ) := t_it_P (f := t_osr y) (x := t_os0 y ρ) (fun r x => z_O ρ y (x_Dal ρ y (t_os1 y ρ)) r x) g0 80 (fun r x r0 r1 hx => z_Or hz hD h8 (by omega) hx)
  show (t_os y ρ).2 = t_rdm (t_os y ρ).1 y ↔ _
  revert g
  generalize t_os y ρ = x
  intro g
  obtain ⟨g1, g2, g3, g4, g5⟩ := g
  have er : t_rdm x.1 y = t_sum (fun e => ρ 30 (80 * y + e)) 80 := x_sum_cg 80 (fun e _ _ => by show x.1 30 _ = _; rw [g1 30 (by decide)])
  rw [er, g4]
  have hle := t_sum_le (g := x.1 34) (h := fun e => ρ 30 (80 * y + e)) 80 (fun e a b => by
    rcases g2 e a (by omega) with q | q
    · rw [q]
      rcases (F.2.2.2.1.1 y e hy.1 (by omega) a (by omega)).1 with w | w <;> omega
    · rw [q, (g3 e a (by omega) q).2]; exact Int.le_refl 1)
  constructor
  · intro h e e8 he
    have h2 := hle.2 h e e8.1 (by have := e8.2.1; omega)
    exact (g3 e e8.1 e8.2.1 (by rw [h2]; exact he)).1
  · intro h
    refine x_sum_cg 80 (fun e a b => ?_)
    rcases (F.2.2.2.1.1 y e hy.1 (by omega) a (by omega)).1 with w | w
    · rw [w]
      rcases g2 e a (by omega) with q | q
      · exact q
      · have := (g3 e a (by omega) q).2; omega
    · have e8 : x_c8 e := by
        by_cases q : x_c8 e
        · exact q
        · have := x_rd0 F hy e a (by omega) q; omega
      rw [w]
      have hDe := h e e8 w
      exact g5 e a (by omega) hDe (by have := (hDb e a (by omega)).2; omega)
