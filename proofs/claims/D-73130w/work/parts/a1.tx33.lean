/-! THE COMPONENT: a colony changed (printed by tx33.py) -/
set_option maxRecDepth 100000
def x_mu (r : Int → Int) (α : Nat → Nat) (i : Nat) : Prop := i = α 7 ∨ (i = α 8 ∧ i ≠ 259) ∨ ∃ w : Int, 0 ≤ w ∧ w < r 7 ∧ i = α (10 + w.toNat)
def x_PAc (V : Int) (r1 : Int → Int) (χ : t_S) (h0 : e_A) (r : Int → Int) (α : Nat → Nat) : e_R → e_A → Prop := fun q h => q = .inl (some (e_i V)) ∧ ∃ χ1 h1 α1, h = x_H χ1 h1 ∧ (∀ j, (j < 10 ∨ 34 < j) → χ1 j = χ j) ∧ x_at χ1 h1 r1 α1 ∧ x_ow r1 α1 ∧ h0.2 ≤ h1.2 ∧ (∀ i, i < h0.2 → ¬ x_mu r α i → h1.1 i = h0.1 i) ∧ ∀ i, x_mu r1 α1 i → x_mu r α i ∨ h0.2 ≤ i
theorem x_pac0 {V W : Int} {χ : t_S} {h0 : e_A} {r : Int → Int} {α : Nat → Nat} (A : x_at χ h0 r α) (O : x_ow r α) (h : W = V) : x_PAc V r χ h0 r α (.inl (some (e_i W))) (x_H χ h0) :=
  ⟨by rw [h], χ, h0, α, rfl, fun _ _ => rfl, A, O, Nat.le_refl _, fun _ _ _ => rfl, fun _ h => Or.inl h⟩
theorem x_sgr {r : Int → Int} (hr : t_okR r) : ∀ w : Int, 0 ≤ w → w < r 7 → r (28 + 13 * w + 4) ≤ 8 := fun w w0 w1 => (hr.2.2.1 w w0 w1).2.2.2.2.1.2
theorem e_old_of {h h1 : e_A} (a : ∀ i, i < 350 → h1.1 i = h.1 i) (hz : h.2 ≤ h1.2) (ho : e_old h) : e_old h1 := by
  obtain ⟨h1', h2, h3, h4, h5, h6⟩ := ho
  refine ⟨fun p hp => ?_, fun k hk => ?_, ?_, ?_, ?_, Nat.le_trans h6 hz⟩
  · rw [a _ (by omega), a _ (by omega)]; exact h1' p hp
  · rw [a _ (by omega)]; exact h2 k hk
  · rw [a _ (by omega)]; exact h3
  · rw [a _ (by omega)]; exact h4
  · rw [a _ (by omega)]; exact h5
theorem x_nu350 {h : e_A} {i : Nat} (hi : x_nu h i) : 350 ≤ i := by unfold x_nu at hi; omega
/-- behind a rating -/
theorem x_rate {σ χ : t_S} {h0 : e_A} {α : Nat → Nat} (A : x_at χ h0 (σ 1) α) (O : x_ow (σ 1) α) (hz : t_sz σ) (hr : t_okR (σ 1)) {w n V : Int} (hw : 0 ≤ w ∧ w < σ 1 7) : x_PAc V (s_up σ 1 (28 + 13 * w + 2) n 1) χ h0 (σ 1) α (.inl (some (e_i V))) (x_H χ (e_set h0 (α (10 + w.toNat)) (9, 6, updV (x_wF (σ 1) w (α (20 + w.toNat))) 5 (e_i n)))) := by
  have s5 := hz.2.2.2.1
  have s6 := hz.2.2.2.2.1
  have s7 := hz.2.2.2.2.2.1
  obtain ⟨a1, a2, a3, a4⟩ := A
  have nw := (a2.2.2.2.2.2.2.2.2.2.1 w hw.1 hw.2).1
  have hr1 : ∀ k : Int, k ≠ 28 + 13 * w + 2 → s_up σ 1 (28 + 13 * w + 2) n 1 k = σ 1 k := fun k hk => s_up_j hk
  have he : ∀ i, i < h0.2 → i ≠ α (10 + w.toNat) → (e_set h0 (α (10 + w.toNat)) (9, 6, updV (x_wF (σ 1) w (α (20 + w.toNat))) 5 (e_i n))).1 i = h0.1 i := fun i hi hne => if_neg hne
  refine ⟨rfl, χ, _, α, rfl, fun _ _ => rfl, ⟨a1, x_col_wid a2 O hw (Nat.le_refl _) he hr1 ?_ ⟨by omega, by omega, by omega⟩ (x_sgr hr), e_old_of (fun i hi => he i (by omega) (by have := x_nu350 nw; omega)) (Nat.le_refl _) a3, a4⟩, ?_, Nat.le_refl _, fun i hi hne => he i hi (fun e => hne (Or.inr (Or.inr ⟨w, hw.1, hw.2, e⟩))), fun i hi => ?_⟩
  · rw [e_set_at]
    refine Prod.ext rfl (Prod.ext rfl (funext fun k => ?_))
    show updV (x_wF (σ 1) w (α (20 + w.toNat))) 5 (e_i n) k = x_wF (s_up σ 1 (28 + 13 * w + 2) n 1) w (α (20 + w.toNat)) k
    by_cases q : k = 5
    · subst q
      show e_i n = e_i (s_up σ 1 (28 + 13 * w + 2) n 1 (28 + 13 * w + 2))
      rw [s_up_eq]
    · show (if k = 5 then e_i n else x_wF (σ 1) w (α (20 + w.toNat)) k) = _
      rw [if_neg q]
      unfold x_wF
      rw [hr1 _ (by omega), hr1 _ (by omega), hr1 _ (by omega), hr1 _ (by omega)]
      match k, q with
      | 0, _ => rfl
      | 1, _ => rfl
      | 2, _ => rfl
      | 3, _ => rfl
      | 4, _ => rfl
      | 5, q => exact absurd rfl q
      | _ + 6, _ => rfl
  · unfold x_ow at O ⊢
    rw [hr1 7 (by omega)]
    exact O
  · unfold x_mu at hi ⊢
    rw [hr1 7 (by omega)] at hi
    exact Or.inl hi
theorem C_X0_rate {σ χ : t_S} {h0 : e_A} {α : Nat → Nat} (A : x_at χ h0 (σ 1) α) (O : x_ow (σ 1) α) (hz : t_sz σ) (hr : t_okR (σ 1)) {w : Int} (hw : e_rg w) {n : Int} (hn : e_rg n) : e_C mX0_rate [.ref 350, e_i w, e_i n] (x_H χ h0) 0 0 4 (x_PAc (v_rate σ w n) (s_rate σ w n 1) χ h0 (σ 1) α) := by
  have s0 : 0 ≤ σ 1 0 ∧ σ 1 0 ≤ 12 := hz.1
  have s3 := hz.2.1
  have s4 := hz.2.2.1
  have s5 := hz.2.2.2.1
  have s6 := hz.2.2.2.2.1
  have s7 := hz.2.2.2.2.2.1
  have s8 := hz.2.2.2.2.2.2.1
  obtain ⟨mc, hl⟩ := x_a7 A
  have kw1 := hw.1
  have kw2 := hw.2
  have kn1 := hn.1
  have kn2 := hn.2
  refine e_enter (al0 := [.ref 350, e_i w, e_i n, .retAddr 0]) (by decide +kernel) rfl (Nat.le_of_ble_eq_true rfl) ?_
  refine e_aload_n dX0_rate_0 rfl ?_
  refine e_iload_n dX0_rate_1 rfl ?_
  refine e_i2l dX0_rate_2 ⟨by omega, by omega⟩ ?_
  refine e_callV1rz (ci := 0) dX0_rate_3 md_X0_isWidow lk_X0_138 rfl q1222 qs33 (x_o0 _ _) (by decide) rfl (Nat.le_of_ble_eq_true rfl) (C_X0_isWidow A hz ⟨by omega, by omega⟩) ?_
  refine e_bif_eq (tgt := 21) dX0_rate_6 rfl (fun c1 => ?_) (fun c1 => ?_)
  · refine e_bipush dX0_rate_21 rfl ?_
    refine e_ireturn dX0_rate_23 rfl rfl ?_
    have hv : v_rate σ w n = -2 := if_neg (by omega)
    have hs : s_rate σ w n = σ := if_neg (fun q => by have := q.1; omega)
    rw [hv, hs]
    exact x_pac0 A O rfl
  · refine e_iload_n dX0_rate_9 rfl ?_
    refine e_i2l dX0_rate_10 ⟨by omega, by omega⟩ ?_
    refine e_lconst (z := 1) dX0_rate_11 rfl ?_
    refine e_ldc2 (z := 40) dX0_rate_12 q1236 rfl ?_
    refine e_callS3rz dX0_rate_15 md_X0_in lk_X0_11 rfl q186 rfl (Nat.le_of_ble_eq_true rfl) (C_X0_in ⟨by omega, by omega⟩ ⟨by omega, by omega⟩ ⟨by omega, by omega⟩) ?_
    refine e_bif_ne (tgt := 24) dX0_rate_18 rfl (fun c2 => ?_) (fun c2 => ?_)
    · refine e_aload_n dX0_rate_24 rfl ?_
      refine e_getV (.ref (α 0)) dX0_rate_25 fl_X0_47 (x_o0 _ _) (x_now A) ?_
      refine e_getV (.ref (α 7)) dX0_rate_28 fl_X0_174 (x_aC A) rfl ?_
      refine e_callF0rz (ci := 11) dX0_rate_31 md_J2_isEmpty if_X0_474 rfl hl.1 (by decide) rfl (Nat.le_of_ble_eq_true rfl) (C_J2_isEmpty hl ⟨by omega, by omega⟩) ?_
      refine e_bif_ne (tgt := 42) dX0_rate_36 rfl (fun c3 => ?_) (fun c3 => ?_)
      · refine e_aload_n dX0_rate_42 rfl ?_
        refine e_iload_n dX0_rate_43 rfl ?_
        refine e_callV1rz (ci := 0) dX0_rate_44 md_X0_widowOf lk_X0_195 rfl q1127 qs24 (x_o0 _ _) (by decide) rfl (Nat.le_of_ble_eq_true rfl) (C_X0_widowOf A hz ⟨by omega, by omega⟩) ?_
        refine e_getV (e_i (σ 1 (28 + 13 * w + 2))) dX0_rate_47 fl_X0_232 (x_aW A (by omega) (by omega)) rfl ?_
        refine e_istore_n3 dX0_rate_50 rfl ?_
        refine e_aload_n dX0_rate_51 rfl ?_
        refine e_iload_n dX0_rate_52 rfl ?_
        refine e_callV1rz (ci := 0) dX0_rate_53 md_X0_widowOf lk_X0_195 rfl q1127 qs24 (x_o0 _ _) (by decide) rfl (Nat.le_of_ble_eq_true rfl) (C_X0_widowOf A hz ⟨by omega, by omega⟩) ?_
        refine e_iload_n dX0_rate_56 rfl ?_
        refine e_putfield dX0_rate_57 fl_X0_232 (x_aW A (by omega) (by omega)) (Or.inl rfl) (x_nu350 (A.2.1.2.2.2.2.2.2.2.2.2.1 w (by omega) (by omega)).1) (by omega) (e_fit_int _) ?_
        rw [x_set_fr (x_nu_fr (A.2.1.2.2.2.2.2.2.2.2.2.1 w (by omega) (by omega)).1)]
        refine e_iload_n dX0_rate_60 rfl ?_
        refine e_ireturn dX0_rate_61 rfl rfl ?_
        have hv : v_rate σ w n = σ 1 (28 + 13 * w + 2) := by
          unfold v_rate
          rw [if_pos (by omega), if_neg (by omega)]
        have hs : s_rate σ w n = s_up σ 1 (28 + 13 * w + 2) n := if_pos ⟨by omega, by omega⟩
        rw [hv, hs]
        exact x_rate A O hz hr ⟨by omega, by omega⟩
      · refine e_bipush dX0_rate_39 rfl ?_
        refine e_ireturn dX0_rate_41 rfl rfl ?_
        have hv : v_rate σ w n = -5 := by
          unfold v_rate
          rw [if_pos (by omega), if_pos (by omega)]
        have hs : s_rate σ w n = σ := if_neg (fun q => q.2 (by omega))
        rw [hv, hs]
        exact x_pac0 A O rfl
    · refine e_bipush dX0_rate_21 rfl ?_
      refine e_ireturn dX0_rate_23 rfl rfl ?_
      have hv : v_rate σ w n = -2 := if_neg (by omega)
      have hs : s_rate σ w n = σ := if_neg (fun q => by have := q.1; omega)
      rw [hv, hs]
      exact x_pac0 A O rfl
