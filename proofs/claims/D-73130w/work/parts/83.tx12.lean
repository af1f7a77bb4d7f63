/-! THE COMPONENT: questions (printed by tx12.py) -/
set_option maxRecDepth 100000
/-- an answer; what lasts is as it was -/
def x_Pub (V : Value) (χ : t_S) (h0 : e_A) : e_R → e_A → Prop := fun r h => r = .inl (some V) ∧ ∃ χ1 h1, (∀ j, (j < 10 ∨ 34 < j) → χ1 j = χ j) ∧ e_ext h0 h1 ∧ h = x_H χ1 h1
theorem x_pub {V W : Value} {χ χ1 : t_S} {h0 h1 : e_A} (h : W = V) (hf : ∀ j, (j < 10 ∨ 34 < j) → χ1 j = χ j) (he : e_ext h0 h1) : x_Pub V χ h0 (.inl (some W)) (x_H χ1 h1) := ⟨by rw [h], χ1, h1, hf, he, rfl⟩
theorem x_f34 {χ χ1 : t_S} (h : ∀ j, (j < 10 ∨ 27 < j) → χ1 j = χ j) : ∀ j, (j < 10 ∨ 34 < j) → χ1 j = χ j := fun j hj => h j (by omega)
theorem x_pub0 {V W : Value} {χ : t_S} {h0 : e_A} (h : W = V) : x_Pub V χ h0 (.inl (some W)) (x_H χ h0) := x_pub h (fun _ _ => rfl) ⟨Nat.le_refl _, fun _ _ => rfl⟩
theorem C_X0_steps {σ χ : t_S} {h0 : e_A} {α : Nat → Nat} (A : x_at χ h0 (σ 1) α) (hz : t_sz σ) (hr : t_okR (σ 1)) (hC : t_isC σ ∨ σ 1 7 = 0) {w : Int} (hw : e_rg w) : e_C mX0_steps [.ref 350, e_i w] (x_H χ h0) 3 12 7 (x_Pub (e_i (v_steps (t_af σ) w)) χ h0) := by
  have e1 := x_af_1 hz hr
  have s7 := hz.2.2.2.2.2.1
  have s6 := hz.2.2.2.2.1
  have s0 : 0 ≤ σ 1 0 ∧ σ 1 0 ≤ 12 := hz.1
  have w1 := hw.1
  have w2 := hw.2
  refine e_enter (al0 := [.ref 350, e_i w]) (by decide +kernel) rfl (Nat.le_of_ble_eq_true rfl) ?_
  refine e_aload_n dX0_steps_0 rfl ?_
  refine e_iload_n dX0_steps_1 rfl ?_
  refine e_i2l dX0_steps_2 ⟨by omega, by omega⟩ ?_
  refine e_callV1rz (ci := 0) dX0_steps_3 md_X0_isWidow lk_X0_138 rfl q1222 qs33 (x_o0 _ _) (by decide) rfl (Nat.le_of_ble_eq_true rfl) (C_X0_isWidow A hz ⟨by omega, by omega⟩) ?_
  refine e_bif_eq (tgt := 21) dX0_steps_6 rfl (fun cw => ?_) (fun cw => ?_)
  · refine e_bipush dX0_steps_21 rfl ?_
    refine e_ireturn dX0_steps_23 rfl rfl ?_
    first
      | (refine x_pub ?_ (x_f34 hfr) he1
         have rc := hAn.1.2.2.2 w (by omega) (by rw [e1]; omega)
         unfold v_steps
         rw [if_pos (show t_isW (t_af σ) w by unfold t_isW; rw [e1]; exact cw), ← rc.2.1])
      | (refine x_pub0 ?_
         unfold v_steps
         rw [if_neg (show ¬ t_isW (t_af σ) w by unfold t_isW; rw [e1]; exact cw)])
  · refine e_aload_n dX0_steps_9 rfl ?_
    refine e_bud (kc1 := 0 + 3) (ks1 := 0 + 12) (by decide) (by decide) ?_
    refine e_callV0 (M1 := mX0_is) (kc := 0) (ks := 0) (mc := 3) (ms := 12) (ci := 0) dX0_steps_10 lk_X0_194 md_X0_is rfl q1047 qs21 (x_o0 _ _) (by decide) rfl (Nat.le_of_ble_eq_true rfl) (C_X0_is A hz hr hC) (fun a hh q => ?_) (fun i hh q => by cases q.1)
    obtain ⟨q1, χ1, h1, hAn, hfr, he1, rfl⟩ := q
    cases q1
    show e_E _ _ _ (_ :: _) _ _ _ _ _
    refine e_getV (.ref (x_ai 11)) dX0_steps_13 fl_X0_202 (x_o3 _ _) rfl ?_
    refine e_iload_n dX0_steps_16 rfl ?_
    refine x_ild 7 dX0_steps_17 rfl (by decide) (fun _ => rfl) rfl ⟨by omega, by omega⟩ ?_
    refine e_goto (tgt := 23) dX0_steps_18 rfl ?_
    refine e_ireturn dX0_steps_23 rfl rfl ?_
    first
      | (refine x_pub ?_ (x_f34 hfr) he1
         have rc := hAn.1.2.2.2 w (by omega) (by rw [e1]; omega)
         unfold v_steps
         rw [if_pos (show t_isW (t_af σ) w by unfold t_isW; rw [e1]; exact cw), ← rc.2.1])
      | (refine x_pub0 ?_
         unfold v_steps
         rw [if_neg (show ¬ t_isW (t_af σ) w by unfold t_isW; rw [e1]; exact cw)])
theorem C_X0_stands {σ χ : t_S} {h0 : e_A} {α : Nat → Nat} (A : x_at χ h0 (σ 1) α) (hz : t_sz σ) (hr : t_okR (σ 1)) (hC : t_isC σ ∨ σ 1 7 = 0) {w : Int} (hw : e_rg w) : e_C mX0_stands [.ref 350, e_i w] (x_H χ h0) 3 12 7 (x_Pub (e_i (v_stands (t_af σ) w)) χ h0) := by
  have e1 := x_af_1 hz hr
  have s7 := hz.2.2.2.2.2.1
  have s6 := hz.2.2.2.2.1
  have s0 : 0 ≤ σ 1 0 ∧ σ 1 0 ≤ 12 := hz.1
  have w1 := hw.1
  have w2 := hw.2
  refine e_enter (al0 := [.ref 350, e_i w]) (by decide +kernel) rfl (Nat.le_of_ble_eq_true rfl) ?_
  refine e_aload_n dX0_stands_0 rfl ?_
  refine e_iload_n dX0_stands_1 rfl ?_
  refine e_i2l dX0_stands_2 ⟨by omega, by omega⟩ ?_
  refine e_callV1rz (ci := 0) dX0_stands_3 md_X0_isWidow lk_X0_138 rfl q1222 qs33 (x_o0 _ _) (by decide) rfl (Nat.le_of_ble_eq_true rfl) (C_X0_isWidow A hz ⟨by omega, by omega⟩) ?_
  refine e_bif_eq (tgt := 21) dX0_stands_6 rfl (fun cw => ?_) (fun cw => ?_)
  · refine e_bipush dX0_stands_21 rfl ?_
    refine e_ireturn dX0_stands_23 rfl rfl ?_
    first
      | (refine x_pub ?_ (x_f34 hfr) he1
         have rc := hAn.1.2.2.2 w (by omega) (by rw [e1]; omega)
         unfold v_stands
         rw [if_pos (show t_isW (t_af σ) w by unfold t_isW; rw [e1]; exact cw), ← rc.2.2.1])
      | (refine x_pub0 ?_
         unfold v_stands
         rw [if_neg (show ¬ t_isW (t_af σ) w by unfold t_isW; rw [e1]; exact cw)])
  · refine e_aload_n dX0_stands_9 rfl ?_
    refine e_bud (kc1 := 0 + 3) (ks1 := 0 + 12) (by decide) (by decide) ?_
    refine e_callV0 (M1 := mX0_is) (kc := 0) (ks := 0) (mc := 3) (ms := 12) (ci := 0) dX0_stands_10 lk_X0_194 md_X0_is rfl q1047 qs21 (x_o0 _ _) (by decide) rfl (Nat.le_of_ble_eq_true rfl) (C_X0_is A hz hr hC) (fun a hh q => ?_) (fun i hh q => by cases q.1)
    obtain ⟨q1, χ1, h1, hAn, hfr, he1, rfl⟩ := q
    cases q1
    show e_E _ _ _ (_ :: _) _ _ _ _ _
    refine e_getV (.ref (x_ai 12)) dX0_stands_13 fl_X0_245 (x_o3 _ _) rfl ?_
    refine e_iload_n dX0_stands_16 rfl ?_
    refine x_ild 7 dX0_stands_17 rfl (by decide) (fun _ => rfl) rfl ⟨by omega, by omega⟩ ?_
    refine e_goto (tgt := 23) dX0_stands_18 rfl ?_
    refine e_ireturn dX0_stands_23 rfl rfl ?_
    first
      | (refine x_pub ?_ (x_f34 hfr) he1
         have rc := hAn.1.2.2.2 w (by omega) (by rw [e1]; omega)
         unfold v_stands
         rw [if_pos (show t_isW (t_af σ) w by unfold t_isW; rw [e1]; exact cw), ← rc.2.2.1])
      | (refine x_pub0 ?_
         unfold v_stands
         rw [if_neg (show ¬ t_isW (t_af σ) w by unfold t_isW; rw [e1]; exact cw)])
theorem C_X0_moves {σ χ : t_S} {h0 : e_A} {α : Nat → Nat} (A : x_at χ h0 (σ 1) α) (hz : t_sz σ) (hr : t_okR (σ 1)) (hC : t_isC σ ∨ σ 1 7 = 0) {w : Int} (hw : e_rg w) : e_C mX0_moves [.ref 350, e_i w] (x_H χ h0) 3 12 7 (x_Pub (e_i (v_moves (t_af σ) w)) χ h0) := by
  have e1 := x_af_1 hz hr
  have s7 := hz.2.2.2.2.2.1
  have s6 := hz.2.2.2.2.1
  have s0 : 0 ≤ σ 1 0 ∧ σ 1 0 ≤ 12 := hz.1
  have w1 := hw.1
  have w2 := hw.2
  refine e_enter (al0 := [.ref 350, e_i w]) (by decide +kernel) rfl (Nat.le_of_ble_eq_true rfl) ?_
  refine e_aload_n dX0_moves_0 rfl ?_
  refine e_iload_n dX0_moves_1 rfl ?_
  refine e_i2l dX0_moves_2 ⟨by omega, by omega⟩ ?_
  refine e_callV1rz (ci := 0) dX0_moves_3 md_X0_isWidow lk_X0_138 rfl q1222 qs33 (x_o0 _ _) (by decide) rfl (Nat.le_of_ble_eq_true rfl) (C_X0_isWidow A hz ⟨by omega, by omega⟩) ?_
  refine e_bif_eq (tgt := 21) dX0_moves_6 rfl (fun cw => ?_) (fun cw => ?_)
  · refine e_bipush dX0_moves_21 rfl ?_
    refine e_ireturn dX0_moves_23 rfl rfl ?_
    first
      | (refine x_pub ?_ (x_f34 hfr) he1
         have rc := hAn.1.2.2.2 w (by omega) (by rw [e1]; omega)
         unfold v_moves
         rw [if_pos (show t_isW (t_af σ) w by unfold t_isW; rw [e1]; exact cw), ← rc.2.2.2.1])
      | (refine x_pub0 ?_
         unfold v_moves
         rw [if_neg (show ¬ t_isW (t_af σ) w by unfold t_isW; rw [e1]; exact cw)])
  · refine e_aload_n dX0_moves_9 rfl ?_
    refine e_bud (kc1 := 0 + 3) (ks1 := 0 + 12) (by decide) (by decide) ?_
    refine e_callV0 (M1 := mX0_is) (kc := 0) (ks := 0) (mc := 3) (ms := 12) (ci := 0) dX0_moves_10 lk_X0_194 md_X0_is rfl q1047 qs21 (x_o0 _ _) (by decide) rfl (Nat.le_of_ble_eq_true rfl) (C_X0_is A hz hr hC) (fun a hh q => ?_) (fun i hh q => by cases q.1)
    obtain ⟨q1, χ1, h1, hAn, hfr, he1, rfl⟩ := q
    cases q1
    show e_E _ _ _ (_ :: _) _ _ _ _ _
    refine e_getV (.ref (x_ai 13)) dX0_moves_13 fl_X0_330 (x_o3 _ _) rfl ?_
    refine e_iload_n dX0_moves_16 rfl ?_
    refine x_ild 7 dX0_moves_17 rfl (by decide) (fun _ => rfl) rfl ⟨by omega, by omega⟩ ?_
    refine e_goto (tgt := 23) dX0_moves_18 rfl ?_
    refine e_ireturn dX0_moves_23 rfl rfl ?_
    first
      | (refine x_pub ?_ (x_f34 hfr) he1
         have rc := hAn.1.2.2.2 w (by omega) (by rw [e1]; omega)
         unfold v_moves
         rw [if_pos (show t_isW (t_af σ) w by unfold t_isW; rw [e1]; exact cw), ← rc.2.2.2.1])
      | (refine x_pub0 ?_
         unfold v_moves
         rw [if_neg (show ¬ t_isW (t_af σ) w by unfold t_isW; rw [e1]; exact cw)])
theorem C_X0_moved {σ χ : t_S} {h0 : e_A} {α : Nat → Nat} (A : x_at χ h0 (σ 1) α) (hz : t_sz σ) (hr : t_okR (σ 1)) (hC : t_isC σ ∨ σ 1 7 = 0) {w : Int} (hw : e_rg w) : e_C mX0_moved [.ref 350, e_i w] (x_H χ h0) 3 12 7 (x_Pub (e_i (v_moved (t_af σ) w)) χ h0) := by
  have e1 := x_af_1 hz hr
  have s7 := hz.2.2.2.2.2.1
  have s6 := hz.2.2.2.2.1
  have s0 : 0 ≤ σ 1 0 ∧ σ 1 0 ≤ 12 := hz.1
  have w1 := hw.1
  have w2 := hw.2
  refine e_enter (al0 := [.ref 350, e_i w]) (by decide +kernel) rfl (Nat.le_of_ble_eq_true rfl) ?_
  refine e_aload_n dX0_moved_0 rfl ?_
  refine e_iload_n dX0_moved_1 rfl ?_
  refine e_callV1rz (ci := 0) dX0_moved_2 md_X0_isHouse lk_X0_322 rfl q1441 qs44 (x_o0 _ _) (by decide) rfl (Nat.le_of_ble_eq_true rfl) (C_X0_isHouse A hz hw) ?_
  refine e_bif_eq (tgt := 20) dX0_moved_5 rfl (fun cw => ?_) (fun cw => ?_)
  · refine e_bipush dX0_moved_20 rfl ?_
    refine e_ireturn dX0_moved_22 rfl rfl ?_
    first
      | (refine x_pub ?_ (x_f34 hfr) he1
         unfold v_moved
         rw [if_pos (show t_isH (t_af σ) w by unfold t_isH; rw [e1]; exact cw), (hAn.1.2.2.1 w (by omega) (by rw [e1]; omega)).2])
      | (refine x_pub0 ?_
         unfold v_moved
         rw [if_neg (show ¬ t_isH (t_af σ) w by unfold t_isH; rw [e1]; exact cw)])
  · refine e_aload_n dX0_moved_8 rfl ?_
    refine e_bud (kc1 := 0 + 3) (ks1 := 0 + 12) (by decide) (by decide) ?_
    refine e_callV0 (M1 := mX0_is) (kc := 0) (ks := 0) (mc := 3) (ms := 12) (ci := 0) dX0_moved_9 lk_X0_194 md_X0_is rfl q1047 qs21 (x_o0 _ _) (by decide) rfl (Nat.le_of_ble_eq_true rfl) (C_X0_is A hz hr hC) (fun a hh q => ?_) (fun i hh q => by cases q.1)
    obtain ⟨q1, χ1, h1, hAn, hfr, he1, rfl⟩ := q
    cases q1
    show e_E _ _ _ (_ :: _) _ _ _ _ _
    refine e_getV (.ref (x_ai 15)) dX0_moved_12 fl_X0_327 (x_o3 _ _) rfl ?_
    refine e_iload_n dX0_moved_15 rfl ?_
    refine x_ild 6 dX0_moved_16 rfl (by decide) (fun _ => rfl) rfl ⟨by omega, by omega⟩ ?_
    refine e_goto (tgt := 22) dX0_moved_17 rfl ?_
    refine e_ireturn dX0_moved_22 rfl rfl ?_
    first
      | (refine x_pub ?_ (x_f34 hfr) he1
         unfold v_moved
         rw [if_pos (show t_isH (t_af σ) w by unfold t_isH; rw [e1]; exact cw), (hAn.1.2.2.1 w (by omega) (by rw [e1]; omega)).2])
      | (refine x_pub0 ?_
         unfold v_moved
         rw [if_neg (show ¬ t_isH (t_af σ) w by unfold t_isH; rw [e1]; exact cw)])
theorem x_cn_ce {c : Int} (h : x_cn c) : x_ce (x_sp c) = c := by
  rcases h with q | q
  · rw [q]; rfl
  · exact (x_sp_rg q).2.2
theorem C_X0_house {σ χ : t_S} {h0 : e_A} {α : Nat → Nat} (A : x_at χ h0 (σ 1) α) (hz : t_sz σ) (hr : t_okR (σ 1)) (hC : t_isC σ ∨ σ 1 7 = 0) {h y : Int} (hw : e_rg h) (hy : e_rg y) : e_C mX0_house [.ref 350, e_i h, e_i y] (x_H χ h0) 3 12 7 (x_Pub (e_i (v_house (t_af σ) h y)) χ h0) := by
  have e1 := x_af_1 hz hr
  have s7 := hz.2.2.2.2.2.1
  have s6 := hz.2.2.2.2.1
  have s0 : 0 ≤ σ 1 0 ∧ σ 1 0 ≤ 12 := hz.1
  have w1 := hw.1
  have w2 := hw.2
  refine e_enter (al0 := [.ref 350, e_i h, e_i y]) (by decide +kernel) rfl (Nat.le_of_ble_eq_true rfl) ?_
  refine e_aload_n dX0_house_0 rfl ?_
  refine e_iload_n dX0_house_1 rfl ?_
  refine e_callV1rz (ci := 0) dX0_house_2 md_X0_isHouse lk_X0_322 rfl q1441 qs44 (x_o0 _ _) (by decide) rfl (Nat.le_of_ble_eq_true rfl) (C_X0_isHouse A hz hw) ?_
  refine e_bif_eq (tgt := 36) dX0_house_5 rfl (fun cw => ?_) (fun cw => ?_)
  · refine e_bipush dX0_house_36 rfl ?_
    refine e_ireturn dX0_house_38 rfl rfl ?_
    first
      | (refine x_pub ?_ (x_f34 hfr) he1
         unfold v_house
         rw [if_pos (show t_isY (t_af σ) y ∧ t_isH (t_af σ) h by unfold t_isY t_isC t_isH; rw [e1]; exact ⟨cy, cw⟩), hh.1, x_cn_ce hh.2])
      | (refine x_pub0 ?_
         unfold v_house
         rw [if_neg (show ¬ (t_isY (t_af σ) y ∧ t_isH (t_af σ) h) by unfold t_isY t_isC t_isH; rw [e1]; first | exact fun q => cw q.2 | exact fun q => cy q.1)])
  · refine e_aload_n dX0_house_8 rfl ?_
    refine e_iload_n dX0_house_9 rfl ?_
    refine e_callV1rz (ci := 0) dX0_house_10 md_X0_isYear lk_X0_269 rfl q1312 qs39 (x_o0 _ _) (by decide) rfl (Nat.le_of_ble_eq_true rfl) (C_X0_isYear A hz hy) ?_
    refine e_bif_eq (tgt := 36) dX0_house_13 rfl (fun cy => ?_) (fun cy => ?_)
    · refine e_bipush dX0_house_36 rfl ?_
      refine e_ireturn dX0_house_38 rfl rfl ?_
      first
        | (refine x_pub ?_ (x_f34 hfr) he1
           unfold v_house
           rw [if_pos (show t_isY (t_af σ) y ∧ t_isH (t_af σ) h by unfold t_isY t_isC t_isH; rw [e1]; exact ⟨cy, cw⟩), hh.1, x_cn_ce hh.2])
        | (refine x_pub0 ?_
           unfold v_house
           rw [if_neg (show ¬ (t_isY (t_af σ) y ∧ t_isH (t_af σ) h) by unfold t_isY t_isC t_isH; rw [e1]; first | exact fun q => cw q.2 | exact fun q => cy q.1)])
    · refine e_aload_n dX0_house_16 rfl ?_
      refine e_bud (kc1 := 0 + 3) (ks1 := 0 + 12) (by decide) (by decide) ?_
      refine e_callV0 (M1 := mX0_is) (kc := 0) (ks := 0) (mc := 3) (ms := 12) (ci := 0) dX0_house_17 lk_X0_194 md_X0_is rfl q1047 qs21 (x_o0 _ _) (by decide) rfl (Nat.le_of_ble_eq_true rfl) (C_X0_is A hz hr hC) (fun a hh q => ?_) (fun i hh q => by cases q.1)
      obtain ⟨q1, χ1, h1, hAn, hfr, he1, rfl⟩ := q
      cases q1
      show e_E _ _ _ (_ :: _) _ _ _ _ _
      refine e_getV (.ref (x_ai 14)) dX0_house_20 fl_X0_325 (x_o3 _ _) rfl ?_
      refine e_bipush dX0_house_23 rfl ?_
      refine e_iload_n dX0_house_25 rfl ?_
      refine e_imul dX0_house_26 ?_
      refine e_iload_n dX0_house_27 rfl ?_
      refine e_iadd dX0_house_28 ?_
      refine x_ild 78 dX0_house_29 rfl (by decide) (fun _ => rfl) rfl ⟨by omega, by omega⟩ ?_
      have hh := (hAn.2 y (by omega) (by rw [e1]; omega)).2.2.2 h (by omega) (by rw [e1]; omega)
      have hcs : -1 ≤ χ1 14 (6 * y + h) ∧ χ1 14 (6 * y + h) < 64 := by rw [hh.1]; exact (x_cn_sp hh.2).1
      refine e_callS1rz dX0_house_30 md_X0_cellOf lk_X0_226 rfl q1226 rfl (Nat.le_of_ble_eq_true rfl) (C_X0_cellOf hcs) ?_
      refine e_goto (tgt := 38) dX0_house_33 rfl ?_
      refine e_ireturn dX0_house_38 rfl rfl ?_
      first
        | (refine x_pub ?_ (x_f34 hfr) he1
           unfold v_house
           rw [if_pos (show t_isY (t_af σ) y ∧ t_isH (t_af σ) h by unfold t_isY t_isC t_isH; rw [e1]; exact ⟨cy, cw⟩), hh.1, x_cn_ce hh.2])
        | (refine x_pub0 ?_
           unfold v_house
           rw [if_neg (show ¬ (t_isY (t_af σ) y ∧ t_isH (t_af σ) h) by unfold t_isY t_isC t_isH; rw [e1]; first | exact fun q => cw q.2 | exact fun q => cy q.1)])
theorem C_X0_creek {σ χ : t_S} {h0 : e_A} {α : Nat → Nat} (A : x_at χ h0 (σ 1) α) (hz : t_sz σ) (hr : t_okR (σ 1)) (hC : t_isC σ ∨ σ 1 7 = 0) {c : Int} (hw : e_rg c) : e_C mX0_creek [.ref 350, e_i c] (x_H χ h0) 2 8 3 (x_Pub (e_i (v_creek (t_af σ) c)) χ h0) := by
  have e1 := x_af_1 hz hr
  have s7 := hz.2.2.2.2.2.1
  have s6 := hz.2.2.2.2.1
  have s0 : 0 ≤ σ 1 0 ∧ σ 1 0 ≤ 12 := hz.1
  have w1 := hw.1
  have w2 := hw.2
  have s3 := hz.2.1
  have s4 := hz.2.2.1
  have e15 : t_af σ 15 = t_is σ 15 := t_ga_k (t_is_ask hz hr) (by decide)
  have g15 : x_g01 (t_is σ 15) := x_b01 (t_is_ask hz hr).2.2.1
  refine e_enter (al0 := [.ref 350, e_i c]) (by decide +kernel) rfl (Nat.le_of_ble_eq_true rfl) ?_
  refine e_aload_n dX0_creek_0 rfl ?_
  refine e_iload_n dX0_creek_1 rfl ?_
  refine e_i2l dX0_creek_2 ⟨by omega, by omega⟩ ?_
  refine e_callV1rz (ci := 0) dX0_creek_3 md_X0_isCell lk_X0_206 rfl q1207 qs32 (x_o0 _ _) (by decide) rfl (Nat.le_of_ble_eq_true rfl) (C_X0_isCell A hz ⟨by omega, by omega⟩) ?_
  refine e_bif_eq (tgt := 32) dX0_creek_6 rfl (fun cw => ?_) (fun cw => ?_)
  · refine e_bipush dX0_creek_32 rfl ?_
    refine e_ireturn dX0_creek_34 rfl rfl ?_
    first
      | (refine x_pub ?_ (fun _ _ => rfl) he1
         obtain ⟨b1, b2⟩ := x_cn_bt (c := c) g15 (Or.inr ⟨by omega, by omega, by omega⟩) (by omega)
         have es : x_sp c = 8 * (c / 10) + c % 10 := by unfold x_sp; rw [if_neg (by omega)]
         rw [es] at b1
         unfold v_creek
         rw [if_pos (show t_isCell (t_af σ) c by unfold t_isCell t_isC; rw [e1]; exact cw), e15]
         rw [b1] at ci
         refine congrArg e_i ?_
         omega)
      | (refine x_pub0 ?_
         unfold v_creek
         rw [if_neg (show ¬ t_isCell (t_af σ) c by unfold t_isCell t_isC; rw [e1]; exact cw)])
  · refine e_aload_n dX0_creek_9 rfl ?_
    refine e_bud (kc1 := 0 + 2) (ks1 := 0 + 8) (by decide) (by decide) ?_
    refine e_callV0 (M1 := mX0_creeksNow) (kc := 0) (ks := 0) (mc := 2) (ms := 8) (ci := 0) dX0_creek_10 lk_X0_209 md_X0_creeksNow rfl q1055 qs22 (x_o0 _ _) (by decide) rfl (Nat.le_of_ble_eq_true rfl) (C_X0_creeksNow A hz hr) (fun a hh q => ?_) (fun i hh q => by cases q.1)
    obtain ⟨q1, h1, he1, rfl⟩ := q
    cases q1
    show e_E _ _ _ (_ :: _) _ _ _ _ _
    refine e_iload_n dX0_creek_13 rfl ?_
    refine e_i2l dX0_creek_14 ⟨by omega, by omega⟩ ?_
    refine e_callS1rz dX0_creek_15 md_X0_spotOf lk_X0_213 rfl q1212 rfl (Nat.le_of_ble_eq_true rfl) (C_X0_spotOf ⟨by omega, by omega⟩) ?_
    refine e_callS2rz dX0_creek_18 md_X0_isIn lk_X0_217 rfl q1188 rfl (Nat.le_of_ble_eq_true rfl) (C_X0_isIn (x_bs_rg _) ⟨by omega, by omega⟩) ?_
    refine e_bif_eq (tgt := 28) dX0_creek_21 rfl (fun ci => ?_) (fun ci => ?_)
    · refine e_iconst dX0_creek_28 ?_
      refine e_goto (tgt := 34) dX0_creek_29 rfl ?_
      refine e_ireturn dX0_creek_34 rfl rfl ?_
      first
        | (refine x_pub ?_ (fun _ _ => rfl) he1
           obtain ⟨b1, b2⟩ := x_cn_bt (c := c) g15 (Or.inr ⟨by omega, by omega, by omega⟩) (by omega)
           have es : x_sp c = 8 * (c / 10) + c % 10 := by unfold x_sp; rw [if_neg (by omega)]
           rw [es] at b1
           unfold v_creek
           rw [if_pos (show t_isCell (t_af σ) c by unfold t_isCell t_isC; rw [e1]; exact cw), e15]
           rw [b1] at ci
           refine congrArg e_i ?_
           omega)
        | (refine x_pub0 ?_
           unfold v_creek
           rw [if_neg (show ¬ t_isCell (t_af σ) c by unfold t_isCell t_isC; rw [e1]; exact cw)])
    · refine e_iconst dX0_creek_24 ?_
      refine e_goto (tgt := 34) dX0_creek_25 rfl ?_
      refine e_ireturn dX0_creek_34 rfl rfl ?_
      first
        | (refine x_pub ?_ (fun _ _ => rfl) he1
           obtain ⟨b1, b2⟩ := x_cn_bt (c := c) g15 (Or.inr ⟨by omega, by omega, by omega⟩) (by omega)
           have es : x_sp c = 8 * (c / 10) + c % 10 := by unfold x_sp; rw [if_neg (by omega)]
           rw [es] at b1
           unfold v_creek
           rw [if_pos (show t_isCell (t_af σ) c by unfold t_isCell t_isC; rw [e1]; exact cw), e15]
           rw [b1] at ci
           refine congrArg e_i ?_
           omega)
        | (refine x_pub0 ?_
           unfold v_creek
           rw [if_neg (show ¬ t_isCell (t_af σ) c by unfold t_isCell t_isC; rw [e1]; exact cw)])
theorem C_X3_at {ρ χ : t_S} {h0 : e_A} {w k : Int} (hw : 0 ≤ w ∧ w < 7) (hk : 0 ≤ k ∧ k ≤ 40) (hr : χ 10 (7 * k + w) = x_sp (t_pth ρ w k)) : e_C mX3_at [.ref 366, e_i w, e_i k] (x_H χ h0) 0 0 0 (e_ret (e_i (x_sp (t_pth ρ w k))) (x_H χ h0)) := by
  refine e_enter (al0 := [.ref 366, e_i w, e_i k]) (by decide +kernel) rfl (Nat.le_of_ble_eq_true rfl) ?_
  refine e_aload_n dX3_at_0 rfl ?_
  refine e_getV (.ref (x_ai 10)) dX3_at_1 fl_X3_15 (x_o3 _ _) rfl ?_
  refine e_bipush dX3_at_4 rfl ?_
  refine e_iload_n dX3_at_6 rfl ?_
  refine e_imul dX3_at_7 ?_
  refine e_iload_n dX3_at_8 rfl ?_
  refine e_iadd dX3_at_9 ?_
  refine x_ild 287 dX3_at_10 rfl (by decide) (fun _ => rfl) rfl ⟨by omega, by omega⟩ ?_
  refine e_ireturn dX3_at_11 rfl rfl ?_
  exact e_rv hr rfl
theorem C_X0_at {σ χ : t_S} {h0 : e_A} {α : Nat → Nat} (A : x_at χ h0 (σ 1) α) (hz : t_sz σ) (hr : t_okR (σ 1)) (hC : t_isC σ ∨ σ 1 7 = 0) {w k : Int} (hw : e_rg w) (hk : e_rg k) : e_C mX0_at [.ref 350, e_i w, e_i k] (x_H χ h0) 3 12 7 (x_Pub (e_i (v_at (t_af σ) w k)) χ h0) := by
  have e1 := x_af_1 hz hr
  have s7 := hz.2.2.2.2.2.1
  have s6 := hz.2.2.2.2.1
  have s0 : 0 ≤ σ 1 0 ∧ σ 1 0 ≤ 12 := hz.1
  have w1 := hw.1
  have w2 := hw.2
  have w3 := hk.1
  have w4 := hk.2
  refine e_enter (al0 := [.ref 350, e_i w, e_i k]) (by decide +kernel) rfl (Nat.le_of_ble_eq_true rfl) ?_
  refine e_aload_n dX0_at_0 rfl ?_
  refine e_iload_n dX0_at_1 rfl ?_
  refine e_i2l dX0_at_2 ⟨by omega, by omega⟩ ?_
  refine e_callV1rz (ci := 0) dX0_at_3 md_X0_isWidow lk_X0_138 rfl q1222 qs33 (x_o0 _ _) (by decide) rfl (Nat.le_of_ble_eq_true rfl) (C_X0_isWidow A hz ⟨by omega, by omega⟩) ?_
  refine e_bif_eq (tgt := 36) dX0_at_6 rfl (fun cw => ?_) (fun cw => ?_)
  · refine e_bipush dX0_at_36 rfl ?_
    refine e_ireturn dX0_at_38 rfl rfl ?_
    first
      | (refine x_pub ?_ (x_f34 hfr) he1
         unfold v_at
         rw [if_pos (show t_isW (t_af σ) w ∧ 0 ≤ k ∧ k ≤ 40 by unfold t_isW; rw [e1]; exact ⟨cw, ck⟩), x_cn_ce hpc])
      | (refine x_pub0 ?_
         unfold v_at
         rw [if_neg (show ¬ (t_isW (t_af σ) w ∧ 0 ≤ k ∧ k ≤ 40) by unfold t_isW; rw [e1]; first | exact fun q => cw q.1 | exact fun q => ck q.2)])
  · refine e_iload_n dX0_at_9 rfl ?_
    refine e_i2l dX0_at_10 ⟨by omega, by omega⟩ ?_
    refine e_lconst (z := 0) dX0_at_11 rfl ?_
    refine e_ldc2 (z := 40) dX0_at_12 q1236 rfl ?_
    refine e_callS3rz dX0_at_15 md_X0_in lk_X0_11 rfl q186 rfl (Nat.le_of_ble_eq_true rfl) (C_X0_in ⟨by omega, by omega⟩ ⟨by omega, by omega⟩ ⟨by omega, by omega⟩) ?_
    refine e_bif_eq (tgt := 36) dX0_at_18 rfl (fun ck => ?_) (fun ck => ?_)
    · refine e_bipush dX0_at_36 rfl ?_
      refine e_ireturn dX0_at_38 rfl rfl ?_
      first
        | (refine x_pub ?_ (x_f34 hfr) he1
           unfold v_at
           rw [if_pos (show t_isW (t_af σ) w ∧ 0 ≤ k ∧ k ≤ 40 by unfold t_isW; rw [e1]; exact ⟨cw, ck⟩), x_cn_ce hpc])
        | (refine x_pub0 ?_
           unfold v_at
           rw [if_neg (show ¬ (t_isW (t_af σ) w ∧ 0 ≤ k ∧ k ≤ 40) by unfold t_isW; rw [e1]; first | exact fun q => cw q.1 | exact fun q => ck q.2)])
    · refine e_aload_n dX0_at_21 rfl ?_
      refine e_bud (kc1 := 0 + 3) (ks1 := 0 + 12) (by decide) (by decide) ?_
      refine e_callV0 (M1 := mX0_is) (kc := 0) (ks := 0) (mc := 3) (ms := 12) (ci := 0) dX0_at_22 lk_X0_194 md_X0_is rfl q1047 qs21 (x_o0 _ _) (by decide) rfl (Nat.le_of_ble_eq_true rfl) (C_X0_is A hz hr hC) (fun a hh q => ?_) (fun i hh q => by cases q.1)
      obtain ⟨q1, χ1, h1, hAn, hfr, he1, rfl⟩ := q
      cases q1
      show e_E _ _ _ (_ :: _) _ _ _ _ _
      have rc := hAn.1.2.2.2 w (by omega) (by rw [e1]; omega)
      have hpt := rc.2.2.2.2.2.1 k ck.1 ck.2
      have hpc : x_cn (t_pth (t_af σ) w k) := by
        show x_cn (if k ≤ t_af σ 27 w then t_af σ 26 (41 * w + k) else -1)
        by_cases q : k ≤ t_af σ 27 w
        · rw [if_pos q]; exact Or.inr (rc.2.2.2.2.2.2 k ck.1 q)
        · rw [if_neg q]; exact Or.inl rfl
      have hcs := (x_cn_sp hpc).1
      refine e_iload_n dX0_at_25 rfl ?_
      refine e_iload_n dX0_at_26 rfl ?_
      refine e_callV2rz (ci := 3) dX0_at_27 md_X3_at lk_X0_241 rfl q1238 q1239 (x_o3 _ _) (by decide) rfl (Nat.le_of_ble_eq_true rfl) (C_X3_at ⟨by omega, by omega⟩ ⟨by omega, by omega⟩ hpt) ?_
      refine e_callS1rz dX0_at_30 md_X0_cellOf lk_X0_226 rfl q1226 rfl (Nat.le_of_ble_eq_true rfl) (C_X0_cellOf hcs) ?_
      refine e_goto (tgt := 38) dX0_at_33 rfl ?_
      refine e_ireturn dX0_at_38 rfl rfl ?_
      first
        | (refine x_pub ?_ (x_f34 hfr) he1
           unfold v_at
           rw [if_pos (show t_isW (t_af σ) w ∧ 0 ≤ k ∧ k ≤ 40 by unfold t_isW; rw [e1]; exact ⟨cw, ck⟩), x_cn_ce hpc])
        | (refine x_pub0 ?_
           unfold v_at
           rw [if_neg (show ¬ (t_isW (t_af σ) w ∧ 0 ≤ k ∧ k ≤ 40) by unfold t_isW; rw [e1]; first | exact fun q => cw q.1 | exact fun q => ck q.2)])
