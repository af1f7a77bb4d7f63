/-! HOW FAR: the component's search -/
set_option maxRecDepth 100000
def x_kn (χ : t_S) : Int := t_sum (fun s => if χ 28 s = -1 then 0 else 1) 64
/-- a search under way: places below k are done, at k the ways below e -/
def x_V (L : Int → Int → Prop) (nb : Int → Int → Int) (a k e : Int) (χ : t_S) : Prop :=
  ((1 ≤ χ 30 0 ∧ χ 30 0 ≤ 64) ∧ 0 ≤ k ∧ k ≤ χ 30 0) ∧ (∀ i : Int, 0 ≤ i → i < χ 30 0 → (0 ≤ χ 29 i ∧ χ 29 i < 64) ∧ χ 28 (χ 29 i) ≠ -1) ∧
  (∀ i j : Int, 0 ≤ i → i ≤ j → j < χ 30 0 → χ 28 (χ 29 i) ≤ χ 28 (χ 29 j)) ∧ (∀ i j : Int, 0 ≤ i → k ≤ i → i < χ 30 0 → 0 ≤ j → j < χ 30 0 → χ 28 (χ 29 j) ≤ χ 28 (χ 29 i) + 1) ∧
  (∀ s : Int, 0 ≤ s → s < 64 → χ 28 s ≠ -1 → ∃ i : Int, 0 ≤ i ∧ i < χ 30 0 ∧ χ 29 i = s) ∧
  (∀ i d : Int, 0 ≤ i → (i < k ∨ (i = k ∧ d < e)) → i < χ 30 0 → 0 ≤ d → d < 4 → L (x_ce (χ 29 i)) d → χ 28 (x_sp (nb (x_ce (χ 29 i)) d)) ≠ -1 ∧ χ 28 (x_sp (nb (x_ce (χ 29 i)) d)) ≤ χ 28 (χ 29 i) + 1) ∧
  χ 28 (x_sp a) = 0 ∧ (∀ s : Int, 0 ≤ s → s < 64 → -1 ≤ χ 28 s ∧ χ 28 s < χ 30 0) ∧
  (∀ c, x_c8 c → χ 28 (x_sp c) ≠ -1 → c ≠ a → ∃ u d : Int, x_c8 u ∧ 0 ≤ d ∧ d < 4 ∧ L u d ∧ nb u d = c ∧ χ 28 (x_sp u) ≠ -1 ∧ χ 28 (x_sp c) = χ 28 (x_sp u) + 1) ∧
  χ 30 0 = x_kn χ
def x_bg (χ : t_S) (s : Int) : t_S := s_up (s_up (s_up (s_fl χ 28 64 (fun _ => -1)) 28 s 0) 29 0 s) 30 0 1
def x_cm (χ : t_S) (f t : Int) : t_S := if t = -1 ∨ χ 28 t ≠ -1 then χ else s_up (s_up (s_up χ 28 t (χ 28 f + 1)) 29 (χ 30 0) t) 30 0 (χ 30 0 + 1)
abbrev x_fW (χ χ1 : t_S) : Prop := ∀ j, j ≠ 28 → j ≠ 29 → j ≠ 30 → χ1 j = χ j
theorem x_cm_k (χ : t_S) (f t : Int) : x_fW χ (x_cm χ f t) := fun j a b c => by
  unfold x_cm
  split
  · rfl
  · rw [s_up_f c, s_up_f b, s_up_f a]
theorem x_bg_k (χ : t_S) (s : Int) : x_fW χ (x_bg χ s) := fun j a b c => by
  unfold x_bg
  rw [s_up_f c, s_up_f b, s_up_f a, s_fl_f a]
theorem x_V0 {L : Int → Int → Prop} {nb : Int → Int → Int} {a : Int} (ha : x_c8 a) (χ : t_S) : x_V L nb a 0 0 (x_bg χ (x_sp a)) := by
  have ra := x_sp_rg ha
  have e30 : x_bg χ (x_sp a) 30 0 = 1 := s_up_eq _ _ _ _
  have e29 : ∀ i : Int, x_bg χ (x_sp a) 29 i = if i = 0 then x_sp a else χ 29 i := fun i => by
    unfold x_bg
    rw [s_up_f (by decide)]
    by_cases q : i = 0
    · rw [if_pos q, q, s_up_eq]
    · rw [if_neg q, s_up_j q, s_up_f (by decide), s_fl_f (by decide)]
  have e28 : ∀ s : Int, 0 ≤ s → s < 64 → x_bg χ (x_sp a) 28 s = if s = x_sp a then 0 else -1 := fun s s0 s1 => by
    unfold x_bg
    rw [s_up_f (by decide), s_up_f (by decide)]
    by_cases q : s = x_sp a
    · rw [if_pos q, q, s_up_eq]
    · rw [if_neg q, s_up_j q, s_fl_in ⟨s0, s1⟩]
  have ea : x_bg χ (x_sp a) 28 (x_sp a) = 0 := by rw [e28 _ ra.1 ra.2.1, if_pos rfl]
  have hk : x_kn (x_bg χ (x_sp a)) = 1 := by
    unfold x_kn
    rw [t_sum_up (g := fun _ => 0) (g1 := fun s => if s = x_sp a then 1 else 0) (j := x_sp a) ra.1 (fun i hi => if_neg hi) 64 |> (fun h => (x_sum_cg 64 (fun i i0 i1 => by
      show (if x_bg χ (x_sp a) 28 i = -1 then (0 : Int) else 1) = if i = x_sp a then 1 else 0
      rw [e28 i i0 i1]
      by_cases q : i = x_sp a
      · rw [if_pos q, if_pos q]; rfl
      · rw [if_neg q, if_neg q]; rfl)).trans h), x_sum_0 64 (fun _ _ _ => rfl), if_pos (show x_sp a < ((64 : Nat) : Int) by omega), if_pos rfl]
    rfl
  revert e30 e29 e28 ea hk
  generalize x_bg χ (x_sp a) = μ
  intro e30 e29 e28 ea hk
  refine ⟨⟨by omega, by omega, by omega⟩, fun i i0 i1 => ?_, fun i j i0 i1 i2 => ?_, fun i j i0 i1 i2 j0 j1 => ?_, fun s s0 s1 hs => ?_, fun i d i0 i1 => by omega, ea, fun s s0 s1 => ?_, fun c hc h hca => ?_, by rw [hk, e30]⟩
  · rw [show i = 0 by omega, e29, if_pos rfl, ea]
    exact ⟨⟨ra.1, ra.2.1⟩, by decide⟩
  · rw [show i = 0 by omega, show j = 0 by omega]
    exact Int.le_refl _
  · rw [show i = 0 by omega, show j = 0 by omega]
    omega
  · rw [e28 s s0 s1] at hs
    by_cases q : s = x_sp a
    · exact ⟨0, Int.le_refl _, by omega, by rw [e29, if_pos rfl, q]⟩
    · rw [if_neg q] at hs; exact absurd rfl hs
  · rw [e28 s s0 s1]
    split <;> omega
  · have rc := x_sp_rg hc
    rw [e28 _ rc.1 rc.2.1, if_neg (fun z => hca (x_sp_inj hc ha z))] at h
    exact absurd rfl h
theorem x_kn_lt {χ : t_S} {t : Int} (ht : 0 ≤ t ∧ t < 64) (h : χ 28 t = -1) : x_kn χ < 64 ∧ ∀ v : Int, v ≠ -1 → ∀ μ : t_S, (∀ s : Int, μ 28 s = if s = t then v else χ 28 s) → x_kn μ = x_kn χ + 1 := by
  have key : ∀ v : Int, v ≠ -1 → ∀ μ : t_S, (∀ s : Int, μ 28 s = if s = t then v else χ 28 s) → x_kn μ = x_kn χ + 1 := fun v hv μ hm => by
    unfold x_kn
    rw [t_sum_up (g := fun s => if χ 28 s = -1 then 0 else 1) (j := t) ht.1 (fun i hi => by show (if μ 28 i = -1 then (0 : Int) else 1) = _; rw [hm, if_neg hi]) 64, if_pos (show t < ((64 : Nat) : Int) by omega)]
    show _ + ((if μ 28 t = -1 then (0 : Int) else 1) - (if χ 28 t = -1 then 0 else 1)) = _
    rw [hm, if_pos rfl, if_neg hv, if_pos h]
    omega
  refine ⟨?_, key⟩
  have h1 := key 0 (by decide) (s_up χ 28 t 0) (fun s => by
    by_cases q : s = t
    · rw [if_pos q, q, s_up_eq]
    · rw [if_neg q, s_up_j q])
  have h2 := t_sum_rg (g := fun s => if s_up χ 28 t 0 28 s = -1 then 0 else 1) (b := 1) 64 (fun i _ _ => by show 0 ≤ (if _ then (0 : Int) else 1) ∧ (if _ then (0 : Int) else 1) ≤ 1; split <;> omega)
  have h3 : x_kn (s_up χ 28 t 0) ≤ 64 := by unfold x_kn; omega
  omega
section SEARCH
variable {L : Int → Int → Prop} {nb : Int → Int → Int} {a k e : Int} {χ : t_S}
/-- one way that leads nowhere -/
theorem x_V_no (h : x_V L nb a k e χ) (hl : ¬ L (x_ce (χ 29 k)) e) : x_V L nb a k (e + 1) χ := by
  obtain ⟨h1, h2, h3, h4, h5, h6, h7⟩ := h
  refine ⟨h1, h2, h3, h4, h5, fun i d i0 i1 i2 d0 d1 hL => ?_, h7⟩
  by_cases q : i = k ∧ d = e
  · rw [q.1, q.2] at hL
    exact absurd hL hl
  · exact h6 i d i0 (by omega) i2 d0 d1 hL
theorem x_V_rm (h : x_V L nb a k e χ) {t : Int} (ht : 0 ≤ t ∧ t < 64) (hn : χ 28 t = -1) : 0 ≤ χ 30 0 ∧ χ 30 0 < 64 := by
  have := (x_kn_lt ht hn).1
  have := h.2.2.2.2.2.2.2.2.2
  have := h.1.1.1
  omega
/-- one that leads to a cell -/
theorem x_V_go (hk : k < χ 30 0) (h : x_V L nb a k e χ) (he : 0 ≤ e ∧ e < 4) (hl : L (x_ce (χ 29 k)) e) (h8 : x_c8 (nb (x_ce (χ 29 k)) e)) : x_V L nb a k (e + 1) (x_cm χ (χ 29 k) (x_sp (nb (x_ce (χ 29 k)) e))) := by
  have h0 := h
  obtain ⟨⟨h1, k0, k1⟩, h2, h3, h4, h5, h6, h7, h9, hp, hc⟩ := h
  have rt := x_sp_rg h8
  obtain ⟨⟨f0, f1⟩, f2⟩ := h2 k k0 hk
  have f8 := (x_ce_rg ⟨f0, f1⟩).1
  have fs := (x_ce_rg ⟨f0, f1⟩).2
  unfold x_cm
  by_cases q : χ 28 (x_sp (nb (x_ce (χ 29 k)) e)) = -1
  · rw [if_neg (fun z => z.elim (fun z => by omega) (fun z => z q))]
    have hm := x_V_rm h0 ⟨rt.1, rt.2.1⟩ q
    obtain ⟨hkn, hkn2⟩ := x_kn_lt ⟨rt.1, rt.2.1⟩ q
    obtain ⟨to, hto⟩ : ∃ to, x_sp (nb (x_ce (χ 29 k)) e) = to := ⟨_, rfl⟩
    obtain ⟨fr, hfr⟩ : ∃ fr, χ 29 k = fr := ⟨_, rfl⟩
    rw [hto] at rt q hkn2 ⊢
    rw [hfr] at f0 f1 f2 f8 fs hl h8 hto ⊢
    have e30 : s_up (s_up (s_up χ 28 to (χ 28 fr + 1)) 29 (χ 30 0) to) 30 0 (χ 30 0 + 1) 30 0 = χ 30 0 + 1 := s_up_eq _ _ _ _
    have e29 : ∀ i : Int, s_up (s_up (s_up χ 28 to (χ 28 fr + 1)) 29 (χ 30 0) to) 30 0 (χ 30 0 + 1) 29 i = if i = χ 30 0 then to else χ 29 i := fun i => by
      rw [s_up_f (by decide)]
      by_cases z : i = χ 30 0
      · rw [if_pos z, z, s_up_eq]
      · rw [if_neg z, s_up_j z, s_up_f (by decide)]
    have e28 : ∀ s : Int, s_up (s_up (s_up χ 28 to (χ 28 fr + 1)) 29 (χ 30 0) to) 30 0 (χ 30 0 + 1) 28 s = if s = to then χ 28 fr + 1 else χ 28 s := fun s => by
      rw [s_up_f (by decide), s_up_f (by decide)]
      by_cases z : s = to
      · rw [if_pos z, z, s_up_eq]
      · rw [if_neg z, s_up_j z]
    revert e30 e29 e28
    generalize s_up (s_up (s_up χ 28 to (χ 28 fr + 1)) 29 (χ 30 0) to) 30 0 (χ 30 0 + 1) = μ
    intro e30 e29 e28
    have b9 := h9 fr f0 f1
    have kn : ∀ s, χ 28 s ≠ -1 → μ 28 s = χ 28 s := fun s hs => by rw [e28, if_neg (fun z => hs (by rw [z]; exact q))]
    have qo : ∀ i : Int, 0 ≤ i → i < χ 30 0 → μ 29 i = χ 29 i ∧ μ 28 (μ 29 i) = χ 28 (χ 29 i) := fun i i0 i1 => by
      have g : μ 29 i = χ 29 i := by rw [e29, if_neg (by omega)]
      rw [g]
      exact ⟨rfl, kn _ (h2 i i0 i1).2⟩
    have qn : μ 29 (χ 30 0) = to ∧ μ 28 (μ 29 (χ 30 0)) = χ 28 fr + 1 := by
      have g : μ 29 (χ 30 0) = to := by rw [e29, if_pos rfl]
      rw [g, e28, if_pos rfl]
      exact ⟨rfl, rfl⟩
    have up : ∀ j : Int, 0 ≤ j → j < χ 30 0 → χ 28 (χ 29 j) ≤ χ 28 fr + 1 := fun j j0 j1 => by
      have := h4 k j k0 (Int.le_refl k) hk j0 j1
      rw [hfr] at this
      exact this
    refine ⟨⟨by omega, by omega, by omega⟩, fun i i0 i1 => ?_, fun i j i0 i1 i2 => ?_, fun i j i0 i1 i2 j0 j1 => ?_, fun s s0 s1 hs => ?_, fun i d i0 i1 i2 d0 d1 hL => ?_, ?_, fun s s0 s1 => ?_, fun c hc8 hcn hca => ?_, ?_⟩
    · by_cases z : i = χ 30 0
      · rw [z, qn.2, qn.1]
        exact ⟨⟨rt.1, rt.2.1⟩, by omega⟩
      · have g := qo i i0 (by omega)
        rw [g.2, g.1]
        exact h2 i i0 (by omega)
    · by_cases z : j = χ 30 0
      · by_cases z2 : i = χ 30 0
        · rw [z, z2]; exact Int.le_refl _
        · rw [z, qn.2, (qo i i0 (by omega)).2]
          exact up i i0 (by omega)
      · rw [(qo i i0 (by omega)).2, (qo j (by omega) (by omega)).2]
        exact h3 i j i0 i1 (by omega)
    · by_cases z : j = χ 30 0
      · rw [z, qn.2]
        by_cases z2 : i = χ 30 0
        · rw [z2, qn.2]; omega
        · rw [(qo i i0 (by omega)).2]
          have := h3 k i k0 i1 (by omega)
          rw [hfr] at this
          omega
      · rw [(qo j j0 (by omega)).2]
        by_cases z2 : i = χ 30 0
        · rw [z2, qn.2]
          have := up j j0 (by omega)
          omega
        · rw [(qo i i0 (by omega)).2]
          exact h4 i j i0 i1 (by omega) j0 (by omega)
    · by_cases z : s = to
      · exact ⟨χ 30 0, by omega, by omega, by rw [qn.1, z]⟩
      · rw [e28, if_neg z] at hs
        obtain ⟨i, i0, i1, hi⟩ := h5 s s0 s1 hs
        exact ⟨i, i0, by omega, by rw [(qo i i0 i1).1]; exact hi⟩
    · have il : i < χ 30 0 := by omega
      have g := qo i i0 il
      rw [g.2, g.1]
      rw [g.1] at hL
      by_cases z : i = k ∧ d = e
      · rw [z.1, z.2, hfr, hto, e28, if_pos rfl]
        exact ⟨by omega, Int.le_refl _⟩
      · obtain ⟨u, v⟩ := h6 i d i0 (by omega) il d0 d1 hL
        rw [kn _ u]
        exact ⟨u, v⟩
    · rw [kn _ (by omega)]; exact h7
    · rw [e28, e30]
      have := h9 s s0 s1
      split <;> omega
    · by_cases z : x_sp c = to
      · have hct : nb (x_ce fr) e = c := x_sp_inj h8 hc8 (by rw [z]; exact hto)
        refine ⟨x_ce fr, e, f8, he.1, he.2, hl, hct, ?_, ?_⟩
        · rw [fs, kn _ f2]; exact f2
        · rw [fs, kn _ f2, z, e28, if_pos rfl]
      · rw [e28, if_neg z] at hcn ⊢
        obtain ⟨u, d, u8, d0, d1, hL, hnb, hu, hv⟩ := hp c hc8 hcn hca
        exact ⟨u, d, u8, d0, d1, hL, hnb, by rw [kn _ hu]; exact hu, by rw [kn _ hu]; exact hv⟩
    · rw [e30, hkn2 (χ 28 fr + 1) (by omega) μ e28, hc]
  · rw [if_pos (Or.inr q)]
    refine ⟨⟨h1, k0, k1⟩, h2, h3, h4, h5, fun i d i0 i1 i2 d0 d1 hL => ?_, h7, h9, hp, hc⟩
    by_cases z : i = k ∧ d = e
    · rw [z.1, z.2]
      refine ⟨q, ?_⟩
      obtain ⟨j, j0, j1, hj⟩ := h5 _ rt.1 rt.2.1 q
      rw [← hj]
      exact h4 k j k0 (Int.le_refl k) hk j0 j1
    · exact h6 i d i0 (by omega) i2 d0 d1 hL
theorem x_V_nx (h : x_V L nb a k 4 χ) (hk : k < χ 30 0) : x_V L nb a (k + 1) 0 χ := by
  obtain ⟨⟨h1, k0, k1⟩, h2, h3, h4, h5, h6, h7⟩ := h
  exact ⟨⟨h1, by omega, by omega⟩, h2, h3, fun i j i0 i1 i2 j0 j1 => h4 i j i0 (by omega) i2 j0 j1, h5, fun i d i0 i1 i2 d0 d1 hL => h6 i d i0 (by omega) i2 d0 d1 hL, h7⟩
/-- the end of a search -/
theorem x_V_end (h : x_V L nb a k 0 χ) (hk : ¬ k < χ 30 0) : x_D L nb a (fun c => χ 28 (x_sp c)) := by
  obtain ⟨⟨h1, k0, k1⟩, h2, h3, h4, h5, h6, h7, h9, hp, hc⟩ := h
  refine ⟨h7, fun c hc8 => (h9 _ (x_sp_rg hc8).1 (x_sp_rg hc8).2.1).1, fun c d hc8 d0 d1 hL hcn => ?_, hp⟩
  have rc := x_sp_rg hc8
  obtain ⟨i, i0, i1, hi⟩ := h5 _ rc.1 rc.2.1 hcn
  have g := h6 i d i0 (by omega) i1 d0 d1 (by rw [hi, rc.2.2]; exact hL)
  rw [hi, rc.2.2] at g
  exact g
end SEARCH
/-- a search done: D is what it found -/
def x_Dn (D : Int → Int) (χ : t_S) : Prop := (∀ c, x_c8 c → χ 28 (x_sp c) = D c) ∧ (1 ≤ χ 30 0 ∧ χ 30 0 ≤ 64) ∧ χ 30 0 = t_sum (fun c => if D c = -1 then 0 else 1) 80 ∧ (∀ i : Int, 0 ≤ i → i < χ 30 0 → (0 ≤ χ 29 i ∧ χ 29 i < 64) ∧ D (x_ce (χ 29 i)) ≠ -1) ∧ ∀ c, x_c8 c → D c ≠ -1 → ∃ i : Int, 0 ≤ i ∧ i < χ 30 0 ∧ χ 29 i = x_sp c
theorem x_V_Dn {L : Int → Int → Prop} {nb : Int → Int → Int} {a k : Int} {χ : t_S} {D : Int → Int} (h : x_V L nb a k 0 χ) (hk : ¬ k < χ 30 0) (hD : x_D L nb a D) (h0 : ∀ c : Int, 0 ≤ c → c < 80 → ¬ x_c8 c → D c = -1) : x_Dn D χ := by
  have he := x_V_end h hk
  have hq : ∀ c, x_c8 c → χ 28 (x_sp c) = D c := fun c hc => x_D_uq he hD hc
  obtain ⟨⟨h1, -⟩, h2, -, -, h5, -, -, h9, -, hc⟩ := h
  refine ⟨hq, h1, ?_, fun i i0 i1 => ?_, fun c hc8 hcn => ?_⟩
  · rw [hc]
    unfold x_kn
    rw [x_sum_ce (g := fun c => if D c = -1 then 0 else 1) (fun c c0 c1 h8 => by show (if D c = -1 then (0 : Int) else 1) = 0; rw [if_pos (h0 c c0 c1 h8)]) 8 (Nat.le_refl _) |> (fun z => show t_sum (fun c => if D c = -1 then (0 : Int) else 1) 80 = _ from z)]
    exact x_sum_cg 64 (fun s s0 s1 => by
      show (if χ 28 s = -1 then (0 : Int) else 1) = if D (x_ce s) = -1 then 0 else 1
      have r := x_ce_rg (s := s) ⟨s0, by omega⟩
      rw [← hq _ r.1, r.2])
  · obtain ⟨a1, a2⟩ := h2 i i0 i1
    have r := x_ce_rg a1
    rw [← hq _ r.1, r.2]
    exact ⟨a1, a2⟩
  · have r := x_sp_rg hc8
    exact h5 _ r.1 r.2.1 (by rw [hq c hc8]; exact hcn)
section SEARCH2
variable {L : Int → Int → Prop} {nb : Int → Int → Int} {a k e c : Int} {χ : t_S}
theorem x_V_go1 (hc : χ 29 k = x_sp c) (c8 : x_c8 c) (hk : k < χ 30 0) (h : x_V L nb a k e χ) (he : 0 ≤ e ∧ e < 4) (hl : L c e) (h8 : x_c8 (nb c e)) : x_V L nb a k (e + 1) (x_cm χ (x_sp c) (x_sp (nb c e))) := by
  have e1 : x_ce (χ 29 k) = c := by rw [hc]; exact (x_sp_rg c8).2.2
  have g := x_V_go hk h he (by rw [e1]; exact hl) (by rw [e1]; exact h8)
  rw [e1, hc] at g
  exact g
theorem x_V_no1 (hc : χ 29 k = x_sp c) (c8 : x_c8 c) (h : x_V L nb a k e χ) (hl : ¬ L c e) : x_V L nb a k (e + 1) χ := by
  have e1 : x_ce (χ 29 k) = c := by rw [hc]; exact (x_sp_rg c8).2.2
  exact x_V_no h (by rw [e1]; exact hl)
end SEARCH2
theorem x_cm_30 (χ : t_S) (f t : Int) : χ 30 0 ≤ x_cm χ f t 30 0 := by
  unfold x_cm
  split
  · exact Int.le_refl _
  · rw [s_up_eq]; omega
theorem x_fW_cm {χ χ1 : t_S} (h : x_fW χ χ1) (f t : Int) : x_fW χ (x_cm χ1 f t) := fun j a b c => (x_cm_k χ1 f t j a b c).trans (h j a b c)
theorem x_An_cg {ρ χ χ1 : t_S} (h : ∀ j, 10 ≤ j → j ≤ 27 → χ1 j = χ j) (N : x_An ρ χ) : x_An ρ χ1 := by
  obtain ⟨⟨g1, g2, g3, g4⟩, g5⟩ := N
  refine ⟨⟨x_Rq_cg g1 (fun j hj => h j (by omega) (by omega)) (fun _ _ => rfl), ?_, ?_, fun v v0 v1 => x_rec_cg (g4 v v0 v1) (fun _ _ => rfl) (fun j hj => h j (by omega) (by omega))⟩, ?_⟩
  · unfold x_Rr at g2 ⊢
    rw [h 23 (by decide) (by decide), h 24 (by decide) (by decide), h 25 (by decide) (by decide)]
    exact g2
  · unfold x_Rh at g3 ⊢
    rw [h 14 (by decide) (by decide), h 15 (by decide) (by decide)]
    exact g3
  · unfold x_hist at g5 ⊢
    rw [h 18 (by decide) (by decide), h 19 (by decide) (by decide), h 20 (by decide) (by decide), h 14 (by decide) (by decide)]
    exact g5
theorem x_An_fW {ρ χ χ1 : t_S} (h : x_fW χ χ1) (N : x_An ρ χ) : x_An ρ χ1 := x_An_cg (fun j a b => h j (by omega) (by omega) (by omega)) N
theorem x_at_fW {ρ χ χ1 : t_S} {h0 : e_A} {α : Nat → Nat} (h : x_fW χ χ1) (A : x_at χ h0 (ρ 1) α) : x_at χ1 h0 (ρ 1) α := x_at_up (congrFun (h 1 (by decide) (by decide) (by decide)) 0) A
def x_PY (D : Int → Int) (χ : t_S) (h0 : e_A) : e_R → e_A → Prop := fun r h => r = .inl (some (.ref 379)) ∧ ∃ χ1, x_fW χ χ1 ∧ x_Dn D χ1 ∧ h = x_H χ1 h0
