/-! THE TWIN'S PURE FORM: what holds behind all walks -/
set_option maxRecDepth 100000
theorem z_bes_ok {σ : t_S} (hz : t_sz σ) {c d : Int} (h : t_bes σ c d ≠ -1) : t_okC (σ 1) (t_bes σ c d) := by
  obtain ⟨-, h3, h4, -⟩ := hz
  revert h
  have h1 := t_acr_rg d
  have h2 := t_dwn_rg d
  unfold t_bes t_okC
  generalize t_acr d = a at *
  generalize t_dwn d = b at *
  by_cases q : (0 ≤ c / 10 + a ∧ c / 10 + a ≤ σ 1 3 - 1) ∧ 0 ≤ c % 10 + b ∧ c % 10 + b ≤ σ 1 4 - 1
  · rw [if_pos q]; intro _; omega
  · rw [if_neg q]; intro h; exact absurd rfl h
theorem z_bes_eq {σ : t_S} (hz : t_sz σ) {c a b : Int} (hc : t_okC (σ 1) c) (d : Int) (ha : t_acr d = a) (hb : t_dwn d = b) (h : t_bes σ c d ≠ -1) : t_bes σ c d = c + 10 * a + b ∧ (t_bes σ c d) / 10 = c / 10 + a ∧ (t_bes σ c d) % 10 = c % 10 + b := by
  obtain ⟨-, h3, h4, -⟩ := hz
  obtain ⟨c0, c1, c2⟩ := hc
  revert h
  unfold t_bes
  rw [ha, hb]
  by_cases q : (0 ≤ c / 10 + a ∧ c / 10 + a ≤ σ 1 3 - 1) ∧ 0 ≤ c % 10 + b ∧ c % 10 + b ≤ σ 1 4 - 1
  · rw [if_pos q]; intro _; omega
  · rw [if_neg q]; intro h; exact absurd rfl h
theorem z_bes_back {σ : t_S} (hz : t_sz σ) {c d : Int} (hc : t_okC (σ 1) c) (hd : 0 ≤ d ∧ d < 4) (h : t_bes σ c d ≠ -1) : t_bes σ (t_bes σ c d) ((d + 2) % 4) = c ∧ t_bes σ c d ≠ c := by
  have ho := z_bes_ok hz h
  have key : ∀ a b : Int, t_acr d = a → t_dwn d = b → t_acr ((d + 2) % 4) = -a → t_dwn ((d + 2) % 4) = -b → (a ≠ 0 ∨ b ≠ 0) → -1 ≤ a ∧ a ≤ 1 → -1 ≤ b ∧ b ≤ 1 → t_bes σ (t_bes σ c d) ((d + 2) % 4) = c ∧ t_bes σ c d ≠ c := by
    intro a b ha hb ha2 hb2 hab ra rb
    obtain ⟨e1, e2, e3⟩ := z_bes_eq hz hc d ha hb h
    obtain ⟨c0, c1, c2⟩ := hc
    refine ⟨?_, by omega⟩
    generalize t_bes σ c d = e at e1 e2 e3
    unfold t_bes
    rw [ha2, hb2, if_pos (by omega)]
    omega
  have hcc : d = 0 ∨ d = 1 ∨ d = 2 ∨ d = 3 := by omega
  rcases hcc with r | r | r | r <;> subst r
  · exact key 0 (-1) rfl rfl rfl rfl (by omega) (by omega) (by omega)
  · exact key 1 0 rfl rfl rfl rfl (by omega) (by omega) (by omega)
  · exact key 0 1 rfl rfl rfl rfl (by omega) (by omega) (by omega)
  · exact key (-1) 0 rfl rfl rfl rfl (by omega) (by omega) (by omega)
theorem z_bt_or {a j b : Int} (ha : 0 ≤ a) (hj : 0 ≤ j) (hb : 0 ≤ b) : e_bt (t_or a (2 ^ j.toNat)) b = 1 ↔ e_bt a b = 1 ∨ b = j := by
  rw [b_or ha (Int.le_of_lt (Int.pow_pos (by decide))) hb, b_pow hj hb]
  by_cases q : b = j
  · rw [if_pos q, if_pos (Or.inr rfl)]
    exact ⟨fun _ => Or.inr q, fun _ => rfl⟩
  · rw [if_neg q]
    by_cases p : e_bt a b = 1
    · rw [if_pos (Or.inl p)]
      exact ⟨fun _ => Or.inl p, fun _ => rfl⟩
    · rw [if_neg (fun w => w.elim p (by decide))]
      exact ⟨fun w => absurd w (by decide), fun w => (w.elim p q).elim⟩
theorem z_go1 {w c to f : Int} {τ : t_S} (h0 : t_prg τ) (hc : 0 ≤ c ∧ c < 80) (ht : 0 ≤ to ∧ to < 80) (hne : to ≠ c) (hf : 0 ≤ f ∧ f < 4) : ∀ e : Int, 0 ≤ e → e < 80 → ∀ b : Int, 0 ≤ b → (e_bt (t_go1 w c to f τ 24 e) b = 1 ↔ e_bt (τ 24 e) b = 1 ∨ (e = c ∧ b = f) ∨ (e = to ∧ b = (f + 2) % 4)) := by
  have e24 : t_go1 w c to f τ 24 = s_up (s_up τ 24 c (t_or (τ 24 c) (2 ^ f.toNat))) 24 to (t_or (τ 24 to) (2 ^ ((f + 2) % 4).toNat)) 24 := by
    unfold t_go1
    rw [s_up_f (by decide), s_up_j hne]
  intro e e0 e1 b hb
  rw [e24]
  by_cases q : e = to
  · rw [q, s_up_eq, z_bt_or (h0 to ht.1 ht.2).1 (by omega) hb]
    constructor
    · intro w1; exact w1.elim Or.inl (fun z => Or.inr (Or.inr ⟨rfl, z⟩))
    · intro w1; exact w1.elim Or.inl (fun z => z.elim (fun y => absurd y.1 hne) (fun y => Or.inr y.2))
  · rw [s_up_j q]
    by_cases p : e = c
    · rw [p, s_up_eq, z_bt_or (h0 c hc.1 hc.2).1 hf.1 hb]
      constructor
      · intro w1; exact w1.elim Or.inl (fun z => Or.inr (Or.inl ⟨rfl, z⟩))
      · intro w1; exact w1.elim Or.inl (fun z => z.elim (fun y => Or.inr y.2) (fun y => absurd (p ▸ y.1) q))
    · rw [s_up_j p]
      constructor
      · intro w1; exact Or.inl w1
      · intro w1; exact w1.elim id (fun z => z.elim (fun y => absurd y.1 p) (fun y => absurd y.1 q))
/-- pegs and steps in a walk -/
def z_sym (τ : t_S) (R : Int → Prop) : Prop := (∀ c : Int, 0 ≤ c → c < 80 → ¬ t_okC (τ 1) c → τ 24 c = 0 ∧ ¬ R c) ∧ ∀ c d : Int, 0 ≤ c → c < 80 → 0 ≤ d → d < 4 → e_bt (τ 24 c) d = 1 → t_bes τ c d ≠ -1 ∧ e_bt (τ 24 (t_bes τ c d)) ((d + 2) % 4) = 1 ∧ R c
theorem z_okC_rg {σ : t_S} (hz : t_sz σ) {c : Int} (h : t_okC (σ 1) c) : 0 ≤ c ∧ c < 80 ∧ c % 10 < 8 := by
  obtain ⟨-, h3, h4, -⟩ := hz
  obtain ⟨c0, c1, c2⟩ := h
  omega
theorem z_bes_cg {σ τ : t_S} (h : σ 1 = τ 1) (c d : Int) : t_bes σ c d = t_bes τ c d := by
  unfold t_bes
  rw [h]
theorem z_sym_go {w c f : Int} {τ : t_S} {R R1 : Int → Prop} (hz : t_sz τ) (hp : t_prg τ) (hc : t_okC (τ 1) c) (hf : 0 ≤ f ∧ f < 4) (hne : t_bes τ c f ≠ -1) (h : z_sym τ R) (h1 : ∀ e, R e → R1 e) (hRc : R1 c) (hRt : R1 (t_bes τ c f)) (hno : ∀ e : Int, 0 ≤ e → e < 80 → ¬ t_okC (τ 1) e → ¬ R1 e) : z_sym (t_go1 w c (t_bes τ c f) f τ) R1 := by
  have ht := z_bes_ok hz hne
  have rc := z_okC_rg hz hc
  have rt := z_okC_rg hz ht
  obtain ⟨bk, bn⟩ := z_bes_back hz hc hf hne
  have hg := z_go1 (w := w) hp ⟨rc.1, rc.2.1⟩ ⟨rt.1, rt.2.1⟩ bn hf
  have e1 : t_go1 w c (t_bes τ c f) f τ 1 = τ 1 := t_go1_k (by decide) (by decide)
  have hb : ∀ e d, t_bes (t_go1 w c (t_bes τ c f) f τ) e d = t_bes τ e d := fun e d => z_bes_cg e1 e d
  refine ⟨fun e e0 e1' he => ?_, fun e d e0 e1' d0 d1 he => ?_⟩
  · rw [e1] at he
    refine ⟨?_, hno e e0 e1' he⟩
    unfold t_go1
    rw [s_up_f (by decide), s_up_j (fun q => he (by rw [q]; exact ht)), s_up_j (fun q => he (by rw [q]; exact hc))]
    exact (h.1 e e0 e1' he).1
  · rw [hb e d]
    rcases (hg e e0 e1' d d0).mp he with q | ⟨q1, q2⟩ | ⟨q1, q2⟩
    · obtain ⟨a, b, r⟩ := h.2 e d e0 e1' d0 d1 q
      have ra := z_okC_rg hz (z_bes_ok hz a)
      exact ⟨a, (hg _ ra.1 ra.2.1 _ (by omega)).mpr (Or.inl b), h1 e r⟩
    · subst q1; subst q2
      exact ⟨hne, (hg _ rt.1 rt.2.1 _ (by omega)).mpr (Or.inr (Or.inr ⟨rfl, rfl⟩)), hRc⟩
    · rw [q1, q2, bk]
      refine ⟨fun z => by omega, ?_, hRt⟩
      rw [show ((f + 2) % 4 + 2) % 4 = f by omega]
      exact (hg c rc.1 rc.2.1 f hf.1).mpr (Or.inr (Or.inl ⟨rfl, rfl⟩))
abbrev z_R (τ : t_S) : Int → Prop := fun c => τ 21 c = 1 ∨ τ 23 c = 1
def z_W (τ0 : t_S) (w : Int) (x : t_X) : Prop := z_sym x.1 (z_R x.1) ∧ t_okC (x.1 1) x.2.2.1 ∧ x.1 23 x.2.2.1 = 1 ∧ (∀ j : Int, 0 ≤ j → j ≤ x.1 27 w → t_okC (x.1 1) (x.1 26 (41 * w + j))) ∧ (∀ v : Int, v ≠ w → x.1 27 v = τ0 27 v) ∧ ∀ v j : Int, v ≠ w → 0 ≤ j → j ≤ 40 → x.1 26 (41 * v + j) = τ0 26 (41 * v + j)
theorem z_go2 {w e k : Int} {τ0 τ τ1 : t_S} (hk : 0 ≤ τ 27 w ∧ τ 27 w < 40) (h1 : τ1 1 = τ 1) (h26 : τ1 26 = τ 26) (h27 : τ1 27 = τ 27) (he : t_okC (τ 1) e) (h4 : ∀ j : Int, 0 ≤ j → j ≤ τ 27 w → t_okC (τ 1) (τ 26 (41 * w + j))) (h5 : ∀ v : Int, v ≠ w → τ 27 v = τ0 27 v) (h6 : ∀ v j : Int, v ≠ w → 0 ≤ j → j ≤ 40 → τ 26 (41 * v + j) = τ0 26 (41 * v + j)) :
    (∀ j : Int, 0 ≤ j → j ≤ t_go2 w e τ1 27 w → t_okC (t_go2 w e τ1 1) (t_go2 w e τ1 26 (41 * w + j))) ∧ (∀ v : Int, v ≠ w → t_go2 w e τ1 27 v = τ0 27 v) ∧ ∀ v j : Int, v ≠ w → 0 ≤ j → j ≤ 40 → t_go2 w e τ1 26 (41 * v + j) = τ0 26 (41 * v + j) := by
  have e27 : ∀ v, t_go2 w e τ1 27 v = s_up τ1 27 w (τ1 27 w + 1) 27 v := fun v => congrFun (s_up_f (by decide)) v
  have e26 : ∀ j, t_go2 w e τ1 26 j = if j = 41 * w + (τ 27 w + 1) then e else τ 26 j := fun j => by
    unfold t_go2
    rw [s_up_eq, h27]
    by_cases q : j = 41 * w + (τ 27 w + 1)
    · rw [if_pos q, q, s_up_eq]
    · rw [if_neg q, s_up_j q, s_up_f (by decide), h26]
  have e1 : t_go2 w e τ1 1 = τ 1 := (t_go2_k (by decide) (by decide)).trans h1
  refine ⟨fun j j0 j1 => ?_, fun v hv => ?_, fun v j hv j0 j1 => ?_⟩
  · rw [e27, s_up_eq, h27] at j1
    rw [e1, e26]
    by_cases q : j = τ 27 w + 1
    · rw [q, if_pos rfl]; exact he
    · rw [if_neg (by omega)]; exact h4 j j0 (by omega)
  · rw [e27, s_up_j hv, h27]; exact h5 v hv
  · rw [e26, if_neg (by omega)]; exact h6 v j hv j0 j1
theorem z_stp {w k : Int} {τ0 τ : t_S} {x : t_X} (hz : t_sz τ) (hk : 0 ≤ k ∧ k < 40) (hi : t_inX w τ k x) (h : z_W τ0 w x) : z_W τ0 w (t_stp w k x) := by
  obtain ⟨i1, i2, i3, i4, i5, i6, i7, i8⟩ := hi
  obtain ⟨h1, h2, h3, h4, h5, h6⟩ := h
  have hz1 : t_sz x.1 := by unfold t_sz; rw [i1 1 (by decide) (by decide) (by decide) (by decide)]; exact hz
  unfold t_stp
  split
  · have hf : 0 ≤ (x.2.1 + t_turn x.1 w k) % 4 ∧ (x.2.1 + t_turn x.1 w k) % 4 < 4 := ⟨by omega, by omega⟩
    generalize (x.2.1 + t_turn x.1 w k) % 4 = f1 at hf
    have hb := t_trn_P x.1 x.2.2.1 f1 (t_law x.1 x.2.2.1) 4 0
    generalize t_trn x.1 x.2.2.1 f1 (t_law x.1 x.2.2.1) 4 0 = n at hb
    obtain ⟨⟨b1, b2⟩, b3⟩ := hb
    unfold t_stpA
    split
    · rename_i q
      have hfr := b3 (by omega)
      have hne : t_bes x.1 x.2.2.1 ((f1 + n) % 4) ≠ -1 := hfr.1
      have hf2 : 0 ≤ (f1 + n) % 4 ∧ (f1 + n) % 4 < 4 := ⟨by omega, by omega⟩
      generalize (f1 + n) % 4 = f2 at hf2 hne
      have ht := z_bes_ok hz1 hne
      have g1 : t_go1 w x.2.2.1 (t_bes x.1 x.2.2.1 f2) f2 x.1 1 = x.1 1 := t_go1_k (by decide) (by decide)
      have g21 : t_go1 w x.2.2.1 (t_bes x.1 x.2.2.1 f2) f2 x.1 21 = x.1 21 := t_go1_k (by decide) (by decide)
      have g26 : t_go1 w x.2.2.1 (t_bes x.1 x.2.2.1 f2) f2 x.1 26 = x.1 26 := t_go1_k (by decide) (by decide)
      have g27 : t_go1 w x.2.2.1 (t_bes x.1 x.2.2.1 f2) f2 x.1 27 = x.1 27 := t_go1_k (by decide) (by decide)
      have g23 : ∀ e, t_go1 w x.2.2.1 (t_bes x.1 x.2.2.1 f2) f2 x.1 23 e = if e = t_bes x.1 x.2.2.1 f2 then 1 else x.1 23 e := fun e => by
        unfold t_go1
        by_cases p : e = t_bes x.1 x.2.2.1 f2
        · rw [if_pos p, p, s_up_eq]
        · rw [if_neg p, s_up_j p, s_up_f (by decide), s_up_f (by decide)]
      have sy := z_sym_go (w := w) (R1 := z_R (t_go1 w x.2.2.1 (t_bes x.1 x.2.2.1 f2) f2 x.1)) hz1 i3 h2 hf2 hne h1 (fun e he => by
          show _ ∨ _
          rw [g21, g23 e]
          rcases he with r | r
          · exact Or.inl r
          · right; split
            · rfl
            · exact r)
        (by show _ ∨ _; rw [g23]; right; split; rfl; exact h3) (by show _ ∨ _; rw [g23, if_pos rfl]; exact Or.inr rfl)
        (fun e e0 e1 he => by
          have hh := (h1.1 e e0 e1 he).2
          show ¬ (_ ∨ _)
          rw [g21, g23 e, if_neg (fun z => he (by rw [z]; exact ht))]
          exact hh)
      obtain ⟨z4, z5, z6⟩ := z_go2 (τ0 := τ0) (τ := x.1) (τ1 := t_go1 w x.2.2.1 (t_bes x.1 x.2.2.1 f2) f2 x.1) (k := k) ⟨i7, by omega⟩ g1 g26 g27 ht h4 h5 h6
      have k2 : ∀ j, j ≠ 26 → j ≠ 27 → t_go2 w (t_bes x.1 x.2.2.1 f2) (t_go1 w x.2.2.1 (t_bes x.1 x.2.2.1 f2) f2 x.1) j = t_go1 w x.2.2.1 (t_bes x.1 x.2.2.1 f2) f2 x.1 j := fun j a b => t_go2_k a b
      refine ⟨?_, ?_, ?_, z4, z5, z6⟩
      · unfold z_sym z_R at sy ⊢
        dsimp only
        rw [k2 1 (by decide) (by decide), k2 21 (by decide) (by decide), k2 23 (by decide) (by decide), k2 24 (by decide) (by decide)]
        refine ⟨sy.1, fun c d c0 c1 d0 d1 hb => ?_⟩
        rw [z_bes_cg (k2 1 (by decide) (by decide)) c d]
        exact sy.2 c d c0 c1 d0 d1 hb
      · dsimp only
        rw [k2 1 (by decide) (by decide), g1]; exact ht
      · dsimp only
        rw [k2 23 (by decide) (by decide), g23, if_pos rfl]
    · obtain ⟨z4, z5, z6⟩ := z_go2 (τ0 := τ0) (τ := x.1) (τ1 := x.1) (k := k) ⟨i7, by omega⟩ rfl rfl rfl h2 h4 h5 h6
      have k2 : ∀ j, j ≠ 26 → j ≠ 27 → t_go2 w x.2.2.1 x.1 j = x.1 j := fun j a b => t_go2_k a b
      refine ⟨?_, ?_, ?_, z4, z5, z6⟩
      · unfold z_sym z_R at h1 ⊢
        dsimp only
        rw [k2 1 (by decide) (by decide), k2 21 (by decide) (by decide), k2 23 (by decide) (by decide), k2 24 (by decide) (by decide)]
        refine ⟨h1.1, fun c d c0 c1 d0 d1 hb => ?_⟩
        rw [z_bes_cg (k2 1 (by decide) (by decide)) c d]
        exact h1.2 c d c0 c1 d0 d1 hb
      · dsimp only
        rw [k2 1 (by decide) (by decide)]; exact h2
      · dsimp only
        rw [k2 23 (by decide) (by decide)]; exact h3
  · exact ⟨h1, h2, h3, h4, h5, h6⟩
