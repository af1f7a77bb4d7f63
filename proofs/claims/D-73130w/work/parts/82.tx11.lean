/-! THE COMPONENT: as it is, walked (printed by tx11.py) -/
set_option maxRecDepth 100000
/-- all walks walked, as it is -/
def x_An (ρ χ : t_S) : Prop := x_Rm (ρ 1 0) χ ρ ∧ x_hist (ρ 1 0 + 1) ρ χ
def x_PA (σ χ : t_S) (h0 : e_A) : e_R → e_A → Prop := fun r h => r = .inl (some (.ref 366)) ∧ ∃ χ1 h1, x_An (t_af σ) χ1 ∧ (∀ j, (j < 10 ∨ 27 < j) → χ1 j = χ j) ∧ e_ext h0 h1 ∧ h = x_H χ1 h1
theorem x_af_1 {σ : t_S} (hz : t_sz σ) (hr : t_okR (σ 1)) : t_af σ 1 = σ 1 := t_af_k hz hr (by decide)
theorem C_X0_is {σ χ : t_S} {h0 : e_A} {α : Nat → Nat} (A : x_at χ h0 (σ 1) α) (hz : t_sz σ) (hr : t_okR (σ 1)) (hC : t_isC σ ∨ σ 1 7 = 0) : e_C mX0_is [.ref 350] (x_H χ h0) 3 12 6 (x_PA σ χ h0) := by
  have e1 := x_is_1 σ
  refine e_enter (al0 := [.ref 350]) (by decide +kernel) rfl (Nat.le_of_ble_eq_true rfl) ?_
  refine e_aload_n dX0_is_0 rfl ?_
  refine e_getV (.ref 366) dX0_is_1 fl_X0_68 (x_o0 _ _) rfl ?_
  refine e_bud (kc1 := 0 + 3) (ks1 := 0 + 12) (by decide) (by decide) ?_
  refine e_callV0 (M1 := mX3_is) (kc := 0) (ks := 0) (mc := 3) (ms := 12) (ci := 3) dX0_is_4 lk_X0_188 md_X3_is rfl q1050 q1051 (x_o3 _ _) (by decide) rfl (Nat.le_of_ble_eq_true rfl) (C_X3_is A hz hr) (fun a hh q => ?_) (fun i hh q => by cases q.1)
  obtain ⟨q1, χ1, h1, hk, hRq, he1, rfl⟩ := q
  cases q1
  show e_E _ _ _ (_ :: _) _ _ _ _ _
  refine e_bud (kc1 := 0 + 0) (ks1 := 0 + 0) (by decide) (by decide) ?_
  refine e_callV0 (M1 := mX3_goes) (kc := 0) (ks := 0) (mc := 0) (ms := 0) (ci := 3) dX0_is_7 lk_X0_191 md_X3_goes rfl q1148 q1149 (x_o3 _ _) (by decide) rfl (Nat.le_of_ble_eq_true rfl) (C_X3_goes (show x_at χ1 h1 (t_is σ 1) α by rw [e1]; exact x_at_up (congrFun (hk 1 (by decide)) 0) (x_at_ext he1 A)) (t_is_ask hz hr) (by unfold t_isC; rw [e1]; exact hC) hRq) (fun a hh q => ?_) (fun i hh q => by cases q.1)
  obtain ⟨q1, χ2, hG, rfl⟩ := q
  cases q1
  show e_E _ _ _ (_ :: _) _ _ _ _ _
  refine e_areturn dX0_is_10 rfl (Or.inl ⟨_, rfl⟩) ?_
  refine ⟨rfl, χ2, h1, ?_, fun j hj => (hG.2.2.2 j (by unfold x_kG; omega)).trans (hk j (by unfold x_kq; omega)), he1, rfl⟩
  have e2 := x_af_1 hz hr
  unfold x_An
  rw [e2, ← e1]
  exact ⟨hG.1, hG.2.1⟩
