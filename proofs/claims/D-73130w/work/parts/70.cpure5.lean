/-! THE COMPONENT'S WALKS: a step, pure -/
set_option maxRecDepth 100000
theorem x_bes_ne {σ : t_S} {c d : Int} (hc : x_c8 c) (hd : 0 ≤ d ∧ d < 4) : t_bes σ c d ≠ c := by
  have h1 := hc.1
  unfold t_bes
  by_cases q : (0 ≤ c / 10 + t_acr d ∧ c / 10 + t_acr d ≤ σ 1 3 - 1) ∧ 0 ≤ c % 10 + t_dwn d ∧ c % 10 + t_dwn d ≤ σ 1 4 - 1
  · rw [if_pos q]
    have hcc : d = 0 ∨ d = 1 ∨ d = 2 ∨ d = 3 := by omega
    rcases hcc with r | r | r | r
    · rw [r, show t_acr 0 = 0 from rfl, show t_dwn 0 = -1 from rfl]; omega
    · rw [r, show t_acr 1 = 1 from rfl, show t_dwn 1 = 0 from rfl]; omega
    · rw [r, show t_acr 2 = 0 from rfl, show t_dwn 2 = 1 from rfl]; omega
    · rw [r, show t_acr 3 = -1 from rfl, show t_dwn 3 = 0 from rfl]; omega
  · rw [if_neg q]; omega
theorem x_bes_sp {σ : t_S} (hz : t_sz σ) {c d : Int} (hc : x_c8 c) (hd : 0 ≤ d ∧ d < 4) (h : t_bes σ c d ≠ -1) : x_c8 (t_bes σ c d) ∧ x_sp (t_bes σ c d) ≠ x_sp c := by
  rcases x_bes_cn hz c d with q | q
  · exact absurd q h
  · exact ⟨q, fun e => x_bes_ne hc hd (x_sp_inj q hc e)⟩
theorem t_mn_rg {a b n : Int} (ha : 0 ≤ a ∧ a < n) (hb : 0 ≤ b ∧ b < n) : 0 ≤ t_mn a b ∧ t_mn a b < n := by
  unfold t_mn
  split <;> omega
/-- what is in the way: roads, her own steps, nothing -/
def x_of (τ : t_S) (L : Int) : Int → Int := fun e => if L = 1 then τ 22 e else if L = 2 then τ 23 e else 0
theorem x_of_1 {τ : t_S} {L : Int} (h : L = 1) : x_of τ L = τ 22 := by subst h; rfl
theorem x_of_2 {τ : t_S} {L : Int} (h : L = 2) : x_of τ L = τ 23 := by subst h; rfl
theorem x_of_0 {τ : t_S} {L : Int} (h1 : L ≠ 1) (h2 : L ≠ 2) : (0 : Int) = x_bs (x_of τ L) := x_bs_0 (fun e _ => by unfold x_of; rw [if_neg h1, if_neg h2])
theorem x_of01 {τ : t_S} (h22 : x_g01 (τ 22)) (h23 : x_g01 (τ 23)) (L : Int) : x_g01 (x_of τ L) := fun e he => by
  unfold x_of
  split
  · exact h22 e he
  · split
    · exact h23 e he
    · exact Or.inl rfl
theorem x_free_iff {τ : t_S} (h22 : x_g01 (τ 22)) (h23 : x_g01 (τ 23)) {L e : Int} (he : x_cn e) : x_free τ (x_of τ L) e ↔ t_free τ e L := by
  unfold x_of
  rcases he with q | q
  · constructor <;> (intro h; exact absurd q h.1)
  · have a := h22 e q
    have b := h23 e q
    constructor
    · intro h
      obtain ⟨h1, h2, h3⟩ := h
      change (if L = 1 then τ 22 e else if L = 2 then τ 23 e else 0) = 0 at h3
      refine ⟨h1, h2, fun w => ?_, fun w => ?_⟩
      · rw [if_pos w.1] at h3; omega
      · rw [if_neg (by omega), if_pos w.1] at h3; omega
    · intro h
      obtain ⟨h1, h2, h3, h4⟩ := h
      refine ⟨h1, h2, ?_⟩
      show (if L = 1 then τ 22 e else if L = 2 then τ 23 e else 0) = 0
      by_cases p : L = 1
      · rw [if_pos p]; exact a.elim id (fun z => absurd ⟨p, z⟩ h3)
      · by_cases p2 : L = 2
        · rw [if_neg p, if_pos p2]; exact b.elim id (fun z => absurd ⟨p2, z⟩ h4)
        · rw [if_neg p, if_neg p2]
theorem x_any_iff {τ : t_S} (h22 : x_g01 (τ 22)) (h23 : x_g01 (τ 23)) (hz : t_sz τ) (L c : Int) : ∀ n : Nat, (t_anyg (x_fg τ (x_of τ L) c) n = 1 ↔ t_any τ c L n)
  | 0 => ⟨fun h => absurd (show (0 : Int) = 1 from h) (by decide), fun h => h.elim⟩
  | n + 1 => by
    have ih := x_any_iff h22 h23 hz L c n
    have hf := x_free_iff h22 h23 (L := L) (x_bes_cn hz c n)
    show (if t_anyg (x_fg τ (x_of τ L) c) n = 1 then 1 else x_fg τ (x_of τ L) c (n : Int)) = 1 ↔ t_any τ c L n ∨ t_free τ (t_bes τ c n) L
    by_cases q : t_anyg (x_fg τ (x_of τ L) c) n = 1
    · rw [if_pos q]
      exact ⟨fun _ => Or.inl (ih.mp q), fun _ => rfl⟩
    · rw [if_neg q]
      constructor
      · intro h
        right
        exact hf.mp (Classical.byContradiction fun p => by rw [x_fg_0 p] at h; omega)
      · intro h
        rcases h with h | h
        · exact absurd (ih.mpr h) q
        · exact x_fg_1 (hf.mpr h)
theorem x_anyI_iff {τ : t_S} (h22 : x_g01 (τ 22)) (h23 : x_g01 (τ 23)) (hz : t_sz τ) (L c : Int) : t_anyg (x_fg τ (x_of τ L) c) 4 = 1 ↔ t_anyI τ c L 4 = 1 := by
  rw [x_any_iff h22 h23 hz L c 4]
  constructor
  · exact t_anyI_t
  · intro h
    exact Classical.byContradiction fun p => by rw [t_anyI_f p] at h; omega
/-- the first free turn -/
theorem x_trn {τ : t_S} (h22 : x_g01 (τ 22)) (h23 : x_g01 (τ 23)) (hz : t_sz τ) {c f L t : Int} (ht : 0 ≤ t ∧ t ≤ 4) (hb : ∀ j, 0 ≤ j → j < t → ¬ x_free τ (x_of τ L) (t_bes τ c ((f + j) % 4))) (h : t = 4 ∨ x_free τ (x_of τ L) (t_bes τ c ((f + t) % 4))) : t_trn τ c f L 4 0 = t := by
  have key : ∀ (m : Nat) (i : Int), 0 ≤ i → i ≤ t → i + m = 4 → t_trn τ c f L m i = t := by
    intro m
    induction m with
    | zero => intro i i0 i1 i2; show i = t; omega
    | succ m ih =>
      intro i i0 i1 i2
      show (if t_free τ (t_bes τ c ((f + i) % 4)) L then i else t_trn τ c f L m (i + 1)) = t
      by_cases q : i = t
      · rw [q, if_pos ((x_free_iff h22 h23 (x_bes_cn hz c _)).mp (h.elim (fun z => by exfalso; omega) id))]
      · rw [if_neg (fun w => hb i i0 (by omega) ((x_free_iff h22 h23 (x_bes_cn hz c _)).mpr w))]
        exact ih (i + 1) (by omega) (by omega) (by omega)
  exact key 4 0 (by omega) ht.1 (by omega)
