/-! THE COMPONENT'S WALKS: a step whole (printed by tx8.py) -/
set_option maxRecDepth 100000
theorem P_walks_step {Q : e_R → e_A → Prop} {χ : t_S} {h0 : e_A} {α : Nat → Nat} {w y : Int} {ρ : t_S} (A0 : x_at χ h0 (ρ 1) α) (hz : t_sz ρ) (hw : 0 ≤ w ∧ w < ρ 1 7) (hW : t_okW (ρ 1) w) (hRq : x_Rq χ ρ) (h15 : x_g01 (ρ 15)) (hL : 0 ≤ ρ 17 0 ∧ ρ 17 0 < 4) (h1 : t_oneR ρ) (h23 : χ 23 0 = x_bs (ρ 21)) (h21 : x_g01 (ρ 21)) {τ χ1 : t_S} {c f k : Int} {r d : Int → Int} (hk : 0 ≤ k ∧ k < ρ 1 (28 + 13 * w + 2)) (hf : 0 ≤ f ∧ f < 4) (hc : x_c8 c) (hT : x_WT w k ρ τ c) (hX : x_WX w k χ τ χ1) (hP : x_WP ρ τ r d)
    (kN : ∀ (x' : t_X) (χ' : t_S) (r' d' : Int → Int), t_stp w k (τ, f, c, 1) = x' → x'.2.2.2 = 1 → (0 ≤ x'.2.1 ∧ x'.2.1 < 4) → x_c8 x'.2.2.1 → x_WT w (k + 1) ρ x'.1 x'.2.2.1 → x_WX w (k + 1) χ x'.1 χ' → x_WP ρ x'.1 r' d' → e_E mX3_walks 64 [.ref 366, e_i w, e_i y, .ref (α (10 + w.toNat)), e_i (x_sp x'.2.2.1), e_i x'.2.1, e_j (x_bs r'), .retAddr 0, e_j (x_bs d'), .retAddr 0, e_i (k + 1), .retAddr 0, .retAddr 0, .retAddr 0, .retAddr 0] [] (x_H χ' h0) 0 0 4 Q)
    (kB : ∀ (x' : t_X) (χ' : t_S) (r' d' : Int → Int), t_stp w k (τ, f, c, 1) = x' → x'.2.2.2 = 0 → (0 ≤ x'.2.1 ∧ x'.2.1 < 4) → x_c8 x'.2.2.1 → x_WT w (k + 1) ρ x'.1 x'.2.2.1 → x_WX w (k + 1) χ x'.1 χ' → x_WP ρ x'.1 r' d' → e_E mX3_walks 401 [.ref 366, e_i w, e_i y, .ref (α (10 + w.toNat)), e_i (x_sp x'.2.2.1), e_i x'.2.1, e_j (x_bs r'), .retAddr 0, e_j (x_bs d'), .retAddr 0, e_i k, .retAddr 0, .retAddr 0, .retAddr 0, .retAddr 0] [] (x_H χ' h0) 0 0 4 Q) :
    e_E mX3_walks 64 [.ref 366, e_i w, e_i y, .ref (α (10 + w.toNat)), e_i (x_sp c), e_i f, e_j (x_bs r), .retAddr 0, e_j (x_bs d), .retAddr 0, e_i k, .retAddr 0, .retAddr 0, .retAddr 0, .retAddr 0] [] (x_H χ1 h0) 0 0 4 Q := by
  have s7 := hz.2.2.2.2.2.1
  have t1 := hT.1 1 (by decide) (by decide) (by decide) (by decide) (by decide)
  have t15 := hT.1 15 (by decide) (by decide) (by decide) (by decide) (by decide)
  have t17 := hT.1 17 (by decide) (by decide) (by decide) (by decide) (by decide)
  have t19 := hT.1 19 (by decide) (by decide) (by decide) (by decide) (by decide)
  have t20 := hT.1 20 (by decide) (by decide) (by decide) (by decide) (by decide)
  have c22 := hX.1 22 (by decide) (by decide) (by decide) (by decide)
  have c23 := hX.1 23 (by decide) (by decide) (by decide) (by decide)
  have c26 := hX.1 26 (by decide) (by decide) (by decide) (by decide)
  have c17 := hX.1 17 (by decide) (by decide) (by decide) (by decide)
  have A : x_at χ1 h0 (τ 1) α := by rw [t1]; exact x_at_up (congrFun (hX.1 1 (by decide) (by decide) (by decide) (by decide)) 0) A0
  have hz9 : t_sz τ := t_sz_of t1 hz
  have hq : χ1 22 0 = x_bs (τ 15) := by rw [c22, t15]; exact hRq.1
  have hg : x_g01 (τ 15) := by rw [t15]; exact h15
  have hr9 : x_bs (τ 22) = x_bs (ρ 21) := x_bs_cg (fun e he => hT.2.1 e he)
  have g22 : x_g01 (τ 22) := fun e he => by rw [hT.2.1 e he]; exact h21 e he
  have g23 := x_WT_23 hT
  have k23 : χ1 23 0 = x_bs (τ 22) := by rw [c23, hr9]; exact h23
  have k26 : χ1 26 0 = τ 17 0 := by rw [c26, t17]; exact hRq.2.1
  have hW9 : t_okW (τ 1) w := by rw [t1]; exact hW
  have hsteps := hW.2.2.1
  have h19 : t_oneR τ := by unfold t_oneR; rw [t19, t20]; exact h1
  have hso : χ1 17 w = if w = τ 19 0 then τ 20 0 else -1 := by rw [c17, t19, t20]; exact hRq.2.2.2.2 w hw.1 hw.2
  have hL9 : 0 ≤ τ 17 0 ∧ τ 17 0 < 4 := by rw [t17]; exact hL
  have hTu : 0 ≤ t_turn τ w k ∧ t_turn τ w k < 4 := t_turn_rg hW9 hw.1 h19
  have f1r : 0 ≤ (f + t_turn τ w k) % 4 ∧ (f + t_turn τ w k) % 4 < 4 := by omega
  have hb21 : χ1 21 w = x_bs (τ 23) := hX.2.2.2.2.2.1
  have hb11 : χ1 11 w = k := hX.2.2.2.1
  refine P_walks_64 A hz9 ⟨hw.1, by rw [t1]; exact hw.2⟩ hW9 ⟨hk.1, by rw [t1]; exact hk.2⟩ hso h19 ?_
  refine P_walks_106 ⟨hw.1, by omega⟩ hf hTu k26 hL9 k23 hb21 ?_
  obtain ⟨f1, hf1⟩ : ∃ f1, (f + t_turn τ w k) % 4 = f1 := ⟨_, rfl⟩
  rw [hf1] at f1r ⊢
  refine P_walks_144 A hz9 hq hg g22 g23 hc ?_
  obtain ⟨L, hLL⟩ : ∃ L, t_law τ c = L := ⟨_, rfl⟩
  rw [hLL]
  refine P_walks_160 A hz9 hq hg (x_of01 g22 g23 L) hc f1r (fun t ht hb hfr => ?_)
  have hst : ∀ n, t_trn τ c f1 L 4 0 = n → t_stp w k (τ, f, c, 1) = t_stpA w k (τ, f, c, 1) f1 n := fun n hn => by
    rw [← hn, ← hLL, ← hf1]
    rfl
  have ft : 0 ≤ (f1 + t) % 4 ∧ (f1 + t) % 4 < 4 := by omega
  have bt : ∀ e, x_c8 e → e_bt (χ1 23 0) (x_sp e) = τ 22 e := fun e he => by rw [k23]; exact (x_cn_bt g22 (Or.inr he) (by have := he.1; omega)).1
  refine P_walks_203 A hz9 hq hg (x_of01 g22 g23 L) ⟨hw.1, by omega⟩ hc ft (x_bs_rg _).1 (x_bs_rg _).1 (fun hnf => ?_) (fun hfe hodd => ?_) (fun hfe hodd => ?_)
  · have h3 : t = 3 := hfr.elim id (fun z => absurd z hnf)
    subst h3
    have hn : t_trn τ c f1 L 4 0 = 4 := x_trn g22 g23 hz9 ⟨by omega, by omega⟩ (fun j a b => by
      by_cases q : j = 3
      · rw [q]; exact hnf
      · exact hb j a (by omega)) (Or.inl rfl)
    have hst4 := hst 4 hn
    rw [show t_stpA w k (τ, f, c, 1) f1 4 = (t_go2 w c τ, f1, c, 1) from if_neg (by decide)] at hst4
    rw [show ((f1 + 3) % 4 + 1) % 4 = f1 by omega]
    have hs := x_sp_rg hc
    have e12 : s_up χ1 12 w (χ1 12 w + 1) 12 w = χ1 12 w + if c = c then 1 else 0 := by rw [s_up_eq, if_pos rfl]
    refine P_walks_308 (h0 := h0) (χ := s_up χ1 12 w (χ1 12 w + 1)) ⟨hw.1, by omega⟩ (by rw [s_up_f (by decide), k26]; exact ⟨by omega, by omega⟩) (by rw [s_up_f (by decide), k23]; exact x_bs_rg _) (by rw [s_up_f (by decide), hb21]; exact (x_bs_rg _).1) (by rw [s_up_f (by decide), hb11]; omega) ⟨hs.1, hs.2.1⟩ ⟨hs.1, hs.2.1⟩ (fun _ => ?_) (fun q => absurd rfl q.2.1)
    exact kN (t_go2 w c τ, f1, c, 1) _ r d hst4 rfl f1r hc
      (x_WT_s hT ⟨hk.1, by omega⟩ hc (fun _ _ _ => rfl) (fun q hq => by
        by_cases p : q = c
        · rw [if_pos p, p, hT.2.2.2.2.2.2.2.1 c hc]
          exact x_anyg_1 (g := x_hit τ w c) hk.1 (if_pos hT.2.2.2.2.2.2.1) (k + 1).toNat (by have := hk.1; omega)
        · rw [if_neg p]) hT.2.2.2.2.2.2.2.2)
      (x_WX_s ⟨hw.1, by omega⟩ hT hX ⟨hk.1, by omega⟩ hc rfl (fun _ _ _ => rfl) (fun q hq => by
        by_cases p : q = c
        · rw [if_pos p, p, hT.2.2.2.2.2.2.2.1 c hc]
          exact x_anyg_1 (g := x_hit τ w c) hk.1 (if_pos hT.2.2.2.2.2.2.1) (k + 1).toNat (by have := hk.1; omega)
        · rw [if_neg p]) (fun j hj => s_up_f hj) (fun v hv => s_up_j hv) e12)
      ⟨hP.1, hP.2.1, fun e he => by
        have e24 : t_go2 w c τ 24 = τ 24 := by unfold t_go2; rw [s_up_f (by decide), s_up_f (by decide)]
        rw [show ((t_go2 w c τ, f1, c, (1 : Int)) : t_X).1 24 = τ 24 from e24]
        exact hP.2.2 e he⟩
  · obtain ⟨f2, hf2⟩ : ∃ f2, (f1 + t) % 4 = f2 := ⟨_, rfl⟩
    rw [hf2] at ft hodd hfe ⊢
    have hn : t_trn τ c f1 L 4 0 = t := x_trn g22 g23 hz9 ⟨by omega, by omega⟩ hb (Or.inr (by rw [hf2]; exact hfe))
    have hst4 := hst t hn
    rw [show t_stpA w k (τ, f, c, 1) f1 t = (t_go2 w (t_bes τ c ((f1 + t) % 4)) (t_go1 w c (t_bes τ c ((f1 + t) % 4)) ((f1 + t) % 4) τ), (f1 + t) % 4, t_bes τ c ((f1 + t) % 4), if τ 17 0 = 3 ∧ τ 22 (t_bes τ c ((f1 + t) % 4)) = 1 then 0 else 1) from if_pos (by omega), hf2] at hst4
    obtain ⟨he8, hesp⟩ := x_bes_sp hz9 hc ft hfe.1
    obtain ⟨hq8, hqs⟩ := x_q0_sp hz9 hc ft hfe.1
    have hne := x_bes_ne (σ := τ) hc ft
    rw [hqs, x_ad_bs hP.1 hq8]
    have hWP := x_WP_R (w := w) hP hT.2.2.2.2.2.2.2.2 hc he8 hne ft hodd
    have g24 := (x_go1_24 (w := w) hT.2.2.2.2.2.2.2.2 hc he8 hne ft).1
    have go1 : ∀ j, j ≠ 23 → j ≠ 24 → t_go1 w c (t_bes τ c f2) f2 τ j = τ j := fun j a b => by unfold t_go1; rw [s_up_f a, s_up_f b, s_up_f b]
    have go3 : ∀ q, x_c8 q → t_go1 w c (t_bes τ c f2) f2 τ 23 q = if q = t_bes τ c f2 then 1 else τ 23 q := fun q _ => by
      unfold t_go1
      by_cases p : q = t_bes τ c f2
      · rw [if_pos p, p, s_up_eq]
      · rw [if_neg p, s_up_j p, s_up_f (by decide), s_up_f (by decide)]
    generalize t_bes τ c f2 = e at hst4 he8 hesp hne hWP g24 go1 go3 hfe ⊢
    have hs := x_sp_rg hc
    have hs1 := x_sp_rg he8
    have hte := bt e he8
    have wt := x_WT_s hT ⟨hk.1, by omega⟩ he8 go1 go3 g24
    have wx := x_WX_s (χ2 := χ1) ⟨hw.1, by omega⟩ hT hX ⟨hk.1, by omega⟩ he8 rfl go1 go3 (fun _ _ => rfl) (fun _ _ => rfl) (by rw [if_neg hne, Int.add_zero])
    refine P_walks_308 (h0 := h0) (χ := χ1) ⟨hw.1, by omega⟩ (by rw [k26]; exact ⟨by omega, by omega⟩) (by rw [k23]; exact x_bs_rg _) (by rw [hb21]; exact (x_bs_rg _).1) (by rw [hb11]; omega) ⟨hs.1, hs.2.1⟩ ⟨hs1.1, hs1.2.1⟩ (fun q => ?_) (fun q => ?_)
    · rw [if_neg (fun z => q ⟨by rw [k26]; exact z.1, hesp, by rw [hte]; exact z.2⟩)] at hst4
      exact kN _ _ _ _ hst4 rfl ft he8 wt wx hWP
    · rw [if_pos ⟨by rw [← k26]; exact q.1, by rw [← hte]; exact q.2.2⟩] at hst4
      exact kB _ _ _ _ hst4 rfl ft he8 wt wx hWP
  · obtain ⟨f2, hf2⟩ : ∃ f2, (f1 + t) % 4 = f2 := ⟨_, rfl⟩
    rw [hf2] at ft hodd hfe ⊢
    have hn : t_trn τ c f1 L 4 0 = t := x_trn g22 g23 hz9 ⟨by omega, by omega⟩ hb (Or.inr (by rw [hf2]; exact hfe))
    have hst4 := hst t hn
    rw [show t_stpA w k (τ, f, c, 1) f1 t = (t_go2 w (t_bes τ c ((f1 + t) % 4)) (t_go1 w c (t_bes τ c ((f1 + t) % 4)) ((f1 + t) % 4) τ), (f1 + t) % 4, t_bes τ c ((f1 + t) % 4), if τ 17 0 = 3 ∧ τ 22 (t_bes τ c ((f1 + t) % 4)) = 1 then 0 else 1) from if_pos (by omega), hf2] at hst4
    obtain ⟨he8, hesp⟩ := x_bes_sp hz9 hc ft hfe.1
    obtain ⟨hq8, hqs⟩ := x_q0_sp hz9 hc ft hfe.1
    have hne := x_bes_ne (σ := τ) hc ft
    rw [hqs, x_ad_bs hP.2.1 hq8]
    have hWP := x_WP_D (w := w) hP hT.2.2.2.2.2.2.2.2 hc he8 hne ft hodd
    have g24 := (x_go1_24 (w := w) hT.2.2.2.2.2.2.2.2 hc he8 hne ft).1
    have go1 : ∀ j, j ≠ 23 → j ≠ 24 → t_go1 w c (t_bes τ c f2) f2 τ j = τ j := fun j a b => by unfold t_go1; rw [s_up_f a, s_up_f b, s_up_f b]
    have go3 : ∀ q, x_c8 q → t_go1 w c (t_bes τ c f2) f2 τ 23 q = if q = t_bes τ c f2 then 1 else τ 23 q := fun q _ => by
      unfold t_go1
      by_cases p : q = t_bes τ c f2
      · rw [if_pos p, p, s_up_eq]
      · rw [if_neg p, s_up_j p, s_up_f (by decide), s_up_f (by decide)]
    generalize t_bes τ c f2 = e at hst4 he8 hesp hne hWP g24 go1 go3 hfe ⊢
    have hs := x_sp_rg hc
    have hs1 := x_sp_rg he8
    have hte := bt e he8
    have wt := x_WT_s hT ⟨hk.1, by omega⟩ he8 go1 go3 g24
    have wx := x_WX_s (χ2 := χ1) ⟨hw.1, by omega⟩ hT hX ⟨hk.1, by omega⟩ he8 rfl go1 go3 (fun _ _ => rfl) (fun _ _ => rfl) (by rw [if_neg hne, Int.add_zero])
    refine P_walks_308 (h0 := h0) (χ := χ1) ⟨hw.1, by omega⟩ (by rw [k26]; exact ⟨by omega, by omega⟩) (by rw [k23]; exact x_bs_rg _) (by rw [hb21]; exact (x_bs_rg _).1) (by rw [hb11]; omega) ⟨hs.1, hs.2.1⟩ ⟨hs1.1, hs1.2.1⟩ (fun q => ?_) (fun q => ?_)
    · rw [if_neg (fun z => q ⟨by rw [k26]; exact z.1, hesp, by rw [hte]; exact z.2⟩)] at hst4
      exact kN _ _ _ _ hst4 rfl ft he8 wt wx hWP
    · rw [if_pos ⟨by rw [← k26]; exact q.1, by rw [← hte]; exact q.2.2⟩] at hst4
      exact kB _ _ _ _ hst4 rfl ft he8 wt wx hWP
