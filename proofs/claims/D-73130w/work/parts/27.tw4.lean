/-! THE TWIN: simple questions (printed by tw4.py) -/
set_option maxRecDepth 100000
theorem C_X6_widow {σ : t_S} {h0 : e_A} {w : Int} (hw : e_rg w) {k : Int} (hk : e_rg k) (hz : t_sz σ) : e_C mX6_widow [.ref 384, e_i w, e_i k] (t_H σ h0) 0 0 2 (t_Pub (v_widow σ w k) (σ) h0) := by
  have s3 := hz.2.1
  have s4 := hz.2.2.1
  have s5 := hz.2.2.2.1
  have s6 := hz.2.2.2.2.1
  have s7 := hz.2.2.2.2.2.1
  have s8 := hz.2.2.2.2.2.2.1
  have s9 := hz.2.2.2.2.2.2.2
  refine e_enter (al0 := [.ref 384, e_i w, e_i k]) (by decide +kernel) rfl (Nat.le_of_ble_eq_true rfl) ?_
  refine e_aload_n dX6_widow_0 rfl ?_
  refine e_iload_n dX6_widow_1 rfl ?_
  refine e_i2l dX6_widow_2 ⟨by omega, by omega⟩ ?_
  refine e_callV1rz (ci := 6) dX6_widow_3 md_X6_isWidow lk_X6_261 rfl q2055 qs80 (t_obj _ _) (by decide) rfl (Nat.le_of_ble_eq_true rfl) (C_X6_isWidow hz ⟨by omega, by omega⟩) ?_
  refine e_bif_eq (tgt := 30) dX6_widow_6 rfl (fun c1 => ?_) (fun c1 => ?_)
  · refine e_bipush dX6_widow_30 rfl ?_
    refine e_ireturn dX6_widow_32 rfl rfl ?_
    refine t_pub ?_ (t_pk_rf _)
    unfold v_widow
    (repeat' split) <;> first | rfl | omega
  · refine e_iload_n dX6_widow_9 rfl ?_
    refine e_i2l dX6_widow_10 ⟨by omega, by omega⟩ ?_
    refine e_lconst (z := 0) dX6_widow_11 rfl ?_
    refine e_ldc2 (z := 4) dX6_widow_12 q2061 rfl ?_
    refine e_callS3rz dX6_widow_15 md_X6_in lk_X6_106 rfl q1930 rfl (Nat.le_of_ble_eq_true rfl) (C_X6_in ⟨by omega, by omega⟩ ⟨by omega, by omega⟩ ⟨by omega, by omega⟩) ?_
    refine e_bif_eq (tgt := 30) dX6_widow_18 rfl (fun c2 => ?_) (fun c2 => ?_)
    · refine e_bipush dX6_widow_30 rfl ?_
      refine e_ireturn dX6_widow_32 rfl rfl ?_
      refine t_pub ?_ (t_pk_rf _)
      unfold v_widow
      (repeat' split) <;> first | rfl | omega
    · refine e_aload_n dX6_widow_21 rfl ?_
      refine e_iload_n dX6_widow_22 rfl ?_
      refine e_iload_n dX6_widow_23 rfl ?_
      refine e_callV2rz (ci := 6) dX6_widow_24 md_X6_widowOf lk_X6_267 rfl q2064 qs82 (t_obj _ _) (by decide) rfl (Nat.le_of_ble_eq_true rfl) (C_X6_widowOf ⟨by omega, by omega⟩ ⟨by omega, by omega⟩) ?_
      refine e_goto (tgt := 32) dX6_widow_27 rfl ?_
      refine e_ireturn dX6_widow_32 rfl rfl ?_
      refine t_pub ?_ (t_pk_rf _)
      unfold v_widow
      (repeat' split) <;> first | rfl | omega
theorem C_X6_grief {σ : t_S} {h0 : e_A} {w : Int} (hw : e_rg w) {i : Int} (hi : e_rg i) (hz : t_sz σ) (hr : t_okR (σ 1)) : e_C mX6_grief [.ref 384, e_i w, e_i i] (t_H σ h0) 0 0 2 (t_Pub (v_grief σ w i) (σ) h0) := by
  have s3 := hz.2.1
  have s4 := hz.2.2.1
  have s5 := hz.2.2.2.1
  have s6 := hz.2.2.2.2.1
  have s7 := hz.2.2.2.2.2.1
  have s8 := hz.2.2.2.2.2.2.1
  have s9 := hz.2.2.2.2.2.2.2
  refine e_enter (al0 := [.ref 384, e_i w, e_i i]) (by decide +kernel) rfl (Nat.le_of_ble_eq_true rfl) ?_
  refine e_aload_n dX6_grief_0 rfl ?_
  refine e_iload_n dX6_grief_1 rfl ?_
  refine e_i2l dX6_grief_2 ⟨by omega, by omega⟩ ?_
  refine e_callV1rz (ci := 6) dX6_grief_3 md_X6_isWidow lk_X6_261 rfl q2055 qs80 (t_obj _ _) (by decide) rfl (Nat.le_of_ble_eq_true rfl) (C_X6_isWidow hz ⟨by omega, by omega⟩) ?_
  refine e_bif_eq (tgt := 13) dX6_grief_6 rfl (fun c1 => ?_) (fun c1 => ?_)
  · refine e_bipush dX6_grief_13 rfl ?_
    refine e_ireturn dX6_grief_15 rfl rfl ?_
    refine t_pub ?_ (t_pk_rf _)
    unfold v_grief
    (repeat' split) <;> first | rfl | omega
  · refine e_iload_n dX6_grief_9 rfl ?_
    refine e_if_ge (tgt := 16) dX6_grief_10 rfl ⟨by omega, by omega⟩ (fun c2 => ?_) (fun c2 => ?_)
    · have h4 : 1 ≤ t_wd σ w 4 ∧ t_wd σ w 4 ≤ 8 := (hr.2.2.1 w (by omega) (by omega)).2.2.2.2.1
      refine e_iload_n dX6_grief_16 rfl ?_
      refine e_aload_n dX6_grief_17 rfl ?_
      refine e_iload_n dX6_grief_18 rfl ?_
      refine e_iconst dX6_grief_19 ?_
      refine e_callV2rz (ci := 6) dX6_grief_20 md_X6_widowOf lk_X6_267 rfl q2064 qs82 (t_obj _ _) (by decide) rfl (Nat.le_of_ble_eq_true rfl) (C_X6_widowOf ⟨by omega, by omega⟩ ⟨by omega, by omega⟩) ?_
      refine e_icmp_ge (tgt := 37) dX6_grief_23 rfl ⟨by omega, by omega⟩ ⟨by omega, by omega⟩ (fun c3 => ?_) (fun c3 => ?_)
      · refine e_iconst dX6_grief_37 ?_
        refine e_ireturn dX6_grief_38 rfl rfl ?_
        refine t_pub ?_ (t_pk_rf _)
        unfold v_grief
        (repeat' split) <;> first | rfl | omega
      · refine e_aload_n dX6_grief_26 rfl ?_
        refine e_iload_n dX6_grief_27 rfl ?_
        refine e_iconst dX6_grief_28 ?_
        refine e_iload_n dX6_grief_29 rfl ?_
        refine e_iadd dX6_grief_30 ?_
        refine e_callV2rz (ci := 6) dX6_grief_31 md_X6_widowOf lk_X6_267 rfl q2064 qs82 (t_obj _ _) (by decide) rfl (Nat.le_of_ble_eq_true rfl) (C_X6_widowOf ⟨by omega, by omega⟩ ⟨by omega, by omega⟩) ?_
        refine e_goto (tgt := 38) dX6_grief_34 rfl ?_
        refine e_ireturn dX6_grief_38 rfl rfl ?_
        refine t_pub ?_ (t_pk_rf _)
        unfold v_grief
        (repeat' split) <;> first | rfl | omega
    · refine e_bipush dX6_grief_13 rfl ?_
      refine e_ireturn dX6_grief_15 rfl rfl ?_
      refine t_pub ?_ (t_pk_rf _)
      unfold v_grief
      (repeat' split) <;> first | rfl | omega
theorem C_X6_fault {σ : t_S} {h0 : e_A} {k : Int} (hk : e_rg k)  : e_C mX6_fault [.ref 384, e_i k] (t_H σ h0) 0 0 0 (t_Pub (v_fault σ k) (σ) h0) := by
  refine e_enter (al0 := [.ref 384, e_i k]) (by decide +kernel) rfl (Nat.le_of_ble_eq_true rfl) ?_
  refine e_iload_n dX6_fault_0 rfl ?_
  refine e_if_ne (tgt := 11) dX6_fault_1 rfl ⟨by omega, by omega⟩ (fun c1 => ?_) (fun c1 => ?_)
  · refine e_iload_n dX6_fault_11 rfl ?_
    refine e_iconst dX6_fault_12 ?_
    refine e_icmp_ne (tgt := 23) dX6_fault_13 rfl ⟨by omega, by omega⟩ ⟨by omega, by omega⟩ (fun c2 => ?_) (fun c2 => ?_)
    · refine e_iconst dX6_fault_23 ?_
      refine e_ireturn dX6_fault_24 rfl rfl ?_
      refine t_pub ?_ (t_pk_rf _)
      unfold v_fault
      (repeat' split) <;> first | rfl | omega
    · refine e_aload_n dX6_fault_16 rfl ?_
      refine t_geti (k := 13) dX6_fault_17 fl_X6_27 rfl ?_
      refine e_goto (tgt := 24) dX6_fault_20 rfl ?_
      refine e_ireturn dX6_fault_24 rfl rfl ?_
      refine t_pub ?_ (t_pk_rf _)
      unfold v_fault
      (repeat' split) <;> first | rfl | omega
  · refine e_aload_n dX6_fault_4 rfl ?_
    refine t_geti (k := 12) dX6_fault_5 fl_X6_160 rfl ?_
    refine e_goto (tgt := 24) dX6_fault_8 rfl ?_
    refine e_ireturn dX6_fault_24 rfl rfl ?_
    refine t_pub ?_ (t_pk_rf _)
    unfold v_fault
    (repeat' split) <;> first | rfl | omega
theorem C_X6_end {σ : t_S} {h0 : e_A} {n : Int} (hn : e_rg n) (ht : 0 ≤ σ 5 0 ∧ σ 5 0 ≤ 900) : e_C mX6_end [.ref 384, e_i n] (t_H σ h0) 0 0 1 (t_Pub (v_end σ n) (s_end σ n) h0) := by
  refine e_enter (al0 := [.ref 384, e_i n]) (by decide +kernel) rfl (Nat.le_of_ble_eq_true rfl) ?_
  refine e_iload_n dX6_end_0 rfl ?_
  refine e_i2l dX6_end_1 ⟨by omega, by omega⟩ ?_
  refine e_lconst (z := 0) dX6_end_2 rfl ?_
  refine e_aload_n dX6_end_3 rfl ?_
  refine t_geti (k := 5) dX6_end_4 fl_X6_123 rfl ?_
  refine e_i2l dX6_end_7 ⟨by omega, by omega⟩ ?_
  refine e_callS3rz dX6_end_8 md_X6_in lk_X6_106 rfl q1930 rfl (Nat.le_of_ble_eq_true rfl) (C_X6_in ⟨by omega, by omega⟩ ⟨by omega, by omega⟩ ⟨by omega, by omega⟩) ?_
  refine e_bif_ne (tgt := 16) dX6_end_11 rfl (fun c1 => ?_) (fun c1 => ?_)
  · refine e_aload_n dX6_end_16 rfl ?_
    refine e_iload_n dX6_end_17 rfl ?_
    refine t_puti (k := 5) dX6_end_18 fl_X6_123 rfl rfl ?_
    refine e_iload_n dX6_end_21 rfl ?_
    refine e_ireturn dX6_end_22 rfl rfl ?_
    refine t_pub ?_ ?_
    · unfold v_end
      (repeat' split) <;> first | rfl | omega
    · unfold s_end
      (repeat' split) <;> first | (exfalso; omega) | exact t_pk_rf _
  · refine e_iconst dX6_end_14 ?_
    refine e_ireturn dX6_end_15 rfl rfl ?_
    refine t_pub ?_ ?_
    · unfold v_end
      (repeat' split) <;> first | rfl | omega
    · unfold s_end
      (repeat' split) <;> first | (exfalso; omega) | exact t_pk_rf _
theorem C_X6_undo {σ : t_S} {h0 : e_A} (hz : t_sz σ) : e_C mX6_undo [.ref 384] (t_H σ h0) 0 0 1 (t_Pub (v_undo σ) (s_undo σ) h0) := by
  have s3 := hz.2.1
  have s4 := hz.2.2.1
  have s5 := hz.2.2.2.1
  have s6 := hz.2.2.2.2.1
  have s7 := hz.2.2.2.2.2.1
  have s8 := hz.2.2.2.2.2.2.1
  have s9 := hz.2.2.2.2.2.2.2
  refine e_enter (al0 := [.ref 384]) (by decide +kernel) rfl (Nat.le_of_ble_eq_true rfl) ?_
  refine e_aload_n dX6_undo_0 rfl ?_
  refine e_callV0rz (ci := 6) dX6_undo_1 md_X6_isColony lk_X6_114 rfl q2149 qs99 (t_obj _ _) (by decide) rfl (Nat.le_of_ble_eq_true rfl) (C_X6_isColony hz) ?_
  refine e_bif_ne (tgt := 10) dX6_undo_4 rfl (fun c1 => ?_) (fun c1 => ?_)
  · refine e_aload_n dX6_undo_10 rfl ?_
    refine t_geta (k := 1) dX6_undo_11 fl_X6_9 rfl ?_
    refine e_bipush dX6_undo_14 rfl ?_
    refine t_ild 149 dX6_undo_16 rfl (by decide) (fun _ => rfl) rfl ⟨by omega, by omega⟩ ?_
    refine e_if_ne (tgt := 23) dX6_undo_17 rfl ⟨by omega, by omega⟩ (fun c2 => ?_) (fun c2 => ?_)
    · refine e_aload_n dX6_undo_23 rfl ?_
      refine t_geta (k := 1) dX6_undo_24 fl_X6_9 rfl ?_
      refine e_bipush dX6_undo_27 rfl ?_
      refine e_dup2 dX6_undo_29 rfl rfl ?_
      refine t_ild 149 dX6_undo_30 rfl (by decide) (fun _ => rfl) rfl ⟨by omega, by omega⟩ ?_
      refine e_iconst dX6_undo_31 ?_
      refine e_isub dX6_undo_32 ?_
      refine t_ist 149 dX6_undo_33 rfl (by decide) rfl rfl ⟨by omega, by omega⟩ ?_
      refine e_aload_n dX6_undo_34 rfl ?_
      refine t_geta (k := 1) dX6_undo_35 fl_X6_9 rfl ?_
      refine e_bipush dX6_undo_38 rfl ?_
      refine t_ild 149 dX6_undo_40 rfl (by decide) (fun _ => rfl) rfl ⟨by omega, by omega⟩ ?_
      refine e_ireturn dX6_undo_41 rfl rfl ?_
      refine t_pub ?_ ?_
      · rw [s_up_eq]
        unfold v_undo
        rw [if_pos (by omega), if_neg (by omega)]
      · unfold s_undo
        rw [if_pos ⟨by omega, by omega⟩]
        exact t_pk_rf _
    · refine e_bipush dX6_undo_20 rfl ?_
      refine e_ireturn dX6_undo_22 rfl rfl ?_
      refine t_pub ?_ ?_
      · unfold v_undo
        (repeat' split) <;> first | rfl | omega
      · unfold s_undo
        (repeat' split) <;> first | (exfalso; omega) | exact t_pk_rf _
  · refine e_bipush dX6_undo_7 rfl ?_
    refine e_ireturn dX6_undo_9 rfl rfl ?_
    refine t_pub ?_ ?_
    · unfold v_undo
      (repeat' split) <;> first | rfl | omega
    · unfold s_undo
      (repeat' split) <;> first | (exfalso; omega) | exact t_pk_rf _
theorem C_X6_anew {σ : t_S} {h0 : e_A} (hz : t_sz σ) : e_C mX6_anew [.ref 384] (t_H σ h0) 0 0 1 (t_Pub (v_anew σ) (s_anew σ) h0) := by
  have s3 := hz.2.1
  have s4 := hz.2.2.1
  have s5 := hz.2.2.2.1
  have s6 := hz.2.2.2.2.1
  have s7 := hz.2.2.2.2.2.1
  have s8 := hz.2.2.2.2.2.2.1
  have s9 := hz.2.2.2.2.2.2.2
  refine e_enter (al0 := [.ref 384, .retAddr 0]) (by decide +kernel) rfl (Nat.le_of_ble_eq_true rfl) ?_
  refine e_aload_n dX6_anew_0 rfl ?_
  refine e_callV0rz (ci := 6) dX6_anew_1 md_X6_isColony lk_X6_114 rfl q2149 qs99 (t_obj _ _) (by decide) rfl (Nat.le_of_ble_eq_true rfl) (C_X6_isColony hz) ?_
  refine e_bif_ne (tgt := 10) dX6_anew_4 rfl (fun c1 => ?_) (fun c1 => ?_)
  · refine e_aload_n dX6_anew_10 rfl ?_
    refine t_geta (k := 1) dX6_anew_11 fl_X6_9 rfl ?_
    refine e_bipush dX6_anew_14 rfl ?_
    refine t_ild 149 dX6_anew_16 rfl (by decide) (fun _ => rfl) rfl ⟨by omega, by omega⟩ ?_
    refine e_istore_n1 dX6_anew_17 rfl ?_
    refine e_aload_n dX6_anew_18 rfl ?_
    refine t_geta (k := 1) dX6_anew_19 fl_X6_9 rfl ?_
    refine e_bipush dX6_anew_22 rfl ?_
    refine e_iconst dX6_anew_24 ?_
    refine t_ist 149 dX6_anew_25 rfl (by decide) rfl rfl ⟨by omega, by omega⟩ ?_
    refine e_iload_n dX6_anew_26 rfl ?_
    refine e_ireturn dX6_anew_27 rfl rfl ?_
    refine t_pub ?_ ?_
    · unfold v_anew
      (repeat' split) <;> first | rfl | omega
    · unfold s_anew
      (repeat' split) <;> first | (exfalso; omega) | exact t_pk_rf _
  · refine e_bipush dX6_anew_7 rfl ?_
    refine e_ireturn dX6_anew_9 rfl rfl ?_
    refine t_pub ?_ ?_
    · unfold v_anew
      (repeat' split) <;> first | rfl | omega
    · unfold s_anew
      (repeat' split) <;> first | (exfalso; omega) | exact t_pk_rf _
theorem C_X6_rate {σ : t_S} {h0 : e_A} {w : Int} (hw : e_rg w) {n : Int} (hn : e_rg n) (hz : t_sz σ) (hr : t_okR (σ 1)) : e_C mX6_rate [.ref 384, e_i w, e_i n] (t_H σ h0) 0 0 2 (t_Pub (v_rate σ w n) (s_rate σ w n) h0) := by
  have s3 := hz.2.1
  have s4 := hz.2.2.1
  have s5 := hz.2.2.2.1
  have s6 := hz.2.2.2.2.1
  have s7 := hz.2.2.2.2.2.1
  have s8 := hz.2.2.2.2.2.2.1
  have s9 := hz.2.2.2.2.2.2.2
  refine e_enter (al0 := [.ref 384, e_i w, e_i n, .retAddr 0]) (by decide +kernel) rfl (Nat.le_of_ble_eq_true rfl) ?_
  refine e_aload_n dX6_rate_0 rfl ?_
  refine e_iload_n dX6_rate_1 rfl ?_
  refine e_i2l dX6_rate_2 ⟨by omega, by omega⟩ ?_
  refine e_callV1rz (ci := 6) dX6_rate_3 md_X6_isWidow lk_X6_261 rfl q2055 qs80 (t_obj _ _) (by decide) rfl (Nat.le_of_ble_eq_true rfl) (C_X6_isWidow hz ⟨by omega, by omega⟩) ?_
  refine e_bif_eq (tgt := 21) dX6_rate_6 rfl (fun c1 => ?_) (fun c1 => ?_)
  · refine e_bipush dX6_rate_21 rfl ?_
    refine e_ireturn dX6_rate_23 rfl rfl ?_
    refine t_pub ?_ ?_
    · unfold v_rate
      (repeat' split) <;> first | rfl | omega
    · unfold s_rate
      (repeat' split) <;> first | (exfalso; omega) | exact t_pk_rf _
  · refine e_iload_n dX6_rate_9 rfl ?_
    refine e_i2l dX6_rate_10 ⟨by omega, by omega⟩ ?_
    refine e_lconst (z := 1) dX6_rate_11 rfl ?_
    refine e_ldc2 (z := 40) dX6_rate_12 q2164 rfl ?_
    refine e_callS3rz dX6_rate_15 md_X6_in lk_X6_106 rfl q1930 rfl (Nat.le_of_ble_eq_true rfl) (C_X6_in ⟨by omega, by omega⟩ ⟨by omega, by omega⟩ ⟨by omega, by omega⟩) ?_
    refine e_bif_ne (tgt := 24) dX6_rate_18 rfl (fun c2 => ?_) (fun c2 => ?_)
    · refine e_aload_n dX6_rate_24 rfl ?_
      refine t_geta (k := 1) dX6_rate_25 fl_X6_9 rfl ?_
      refine e_bipush dX6_rate_28 rfl ?_
      refine t_ild 149 dX6_rate_30 rfl (by decide) (fun _ => rfl) rfl ⟨by omega, by omega⟩ ?_
      refine e_if_le (tgt := 37) dX6_rate_31 rfl ⟨by omega, by omega⟩ (fun c3 => ?_) (fun c3 => ?_)
      · refine e_aload_n dX6_rate_37 rfl ?_
        refine e_iload_n dX6_rate_38 rfl ?_
        refine e_iconst dX6_rate_39 ?_
        refine e_callV2rz (ci := 6) dX6_rate_40 md_X6_widowOf lk_X6_267 rfl q2064 qs82 (t_obj _ _) (by decide) rfl (Nat.le_of_ble_eq_true rfl) (C_X6_widowOf ⟨by omega, by omega⟩ ⟨by omega, by omega⟩) ?_
        refine e_istore_n3 dX6_rate_43 rfl ?_
        refine e_aload_n dX6_rate_44 rfl ?_
        refine t_geta (k := 1) dX6_rate_45 fl_X6_9 rfl ?_
        refine e_bipush dX6_rate_48 rfl ?_
        refine e_bipush dX6_rate_50 rfl ?_
        refine e_iload_n dX6_rate_52 rfl ?_
        refine e_imul dX6_rate_53 ?_
        refine e_iadd dX6_rate_54 ?_
        refine e_iconst dX6_rate_55 ?_
        refine e_iadd dX6_rate_56 ?_
        refine e_iload_n dX6_rate_57 rfl ?_
        refine t_ist 149 dX6_rate_58 rfl (by decide) rfl rfl ⟨by omega, by omega⟩ ?_
        refine e_iload_n dX6_rate_59 rfl ?_
        refine e_ireturn dX6_rate_60 rfl rfl ?_
        refine t_pub ?_ ?_
        · unfold v_rate
          (repeat' split) <;> first | rfl | omega
        · unfold s_rate
          (repeat' split) <;> first | (exfalso; omega) | exact t_pk_rf _
      · refine e_bipush dX6_rate_34 rfl ?_
        refine e_ireturn dX6_rate_36 rfl rfl ?_
        refine t_pub ?_ ?_
        · unfold v_rate
          (repeat' split) <;> first | rfl | omega
        · unfold s_rate
          (repeat' split) <;> first | (exfalso; omega) | exact t_pk_rf _
    · refine e_bipush dX6_rate_21 rfl ?_
      refine e_ireturn dX6_rate_23 rfl rfl ?_
      refine t_pub ?_ ?_
      · unfold v_rate
        (repeat' split) <;> first | rfl | omega
      · unfold s_rate
        (repeat' split) <;> first | (exfalso; omega) | exact t_pk_rf _
theorem C_X6_count {σ : t_S} {h0 : e_A} {k : Int} (hk : e_rg k) (hm : ∀ s, 0 ≤ s → s < 4 → -1 ≤ σ 42 s ∧ σ 42 s ≤ 60) : e_C mX6_count [.ref 384, e_i k] (t_H σ h0) 0 0 1 (t_Pub (v_count σ k) (σ) h0) := by
  refine e_enter (al0 := [.ref 384, e_i k, .retAddr 0, .retAddr 0]) (by decide +kernel) rfl (Nat.le_of_ble_eq_true rfl) ?_
  refine e_iload_n dX6_count_0 rfl ?_
  refine e_i2l dX6_count_1 ⟨by omega, by omega⟩ ?_
  refine e_lconst (z := 0) dX6_count_2 rfl ?_
  refine e_ldc2 (z := 9) dX6_count_3 q2566 rfl ?_
  refine e_callS3rz dX6_count_6 md_X6_in lk_X6_106 rfl q1930 rfl (Nat.le_of_ble_eq_true rfl) (C_X6_in ⟨by omega, by omega⟩ ⟨by omega, by omega⟩ ⟨by omega, by omega⟩) ?_
  refine e_bif_eq (tgt := 19) dX6_count_9 rfl (fun c1 => ?_) (fun c1 => ?_)
  · refine e_iload_n dX6_count_19 rfl ?_
    refine e_bipush dX6_count_20 rfl ?_
    refine e_icmp_ne (tgt := 30) dX6_count_22 rfl ⟨by omega, by omega⟩ ⟨by omega, by omega⟩ (fun c2 => ?_) (fun c2 => ?_)
    · refine e_iload_n dX6_count_30 rfl ?_
      refine e_bipush dX6_count_31 rfl ?_
      refine e_icmp_eq (tgt := 38) dX6_count_33 rfl ⟨by omega, by omega⟩ ⟨by omega, by omega⟩ (fun c3 => ?_) (fun c3 => ?_)
      · refine e_iconst dX6_count_38 ?_
        refine e_istore_n2 dX6_count_39 rfl ?_
        refine e_iconst dX6_count_40 ?_
        refine e_istore_n3 dX6_count_41 rfl ?_
        refine e_for (n := 4) (fun i => e_E mX6_count 42 [.ref 384, e_i k, e_i (t_sum (t_cng σ) i.toNat), e_i i] [] (t_H σ h0) _ _ _ _) (by omega) ?_ (fun i hi0 hi1 hF => ?_)
        · refine e_iload_n dX6_count_42 rfl ?_
          refine e_iconst dX6_count_43 ?_
          refine e_icmp_ge (tgt := 71) dX6_count_44 rfl ⟨by omega, by omega⟩ ⟨by omega, by omega⟩ (fun c4 => ?_) (fun q => by exfalso; omega)
          refine e_iload_n dX6_count_71 rfl ?_
          refine e_ireturn dX6_count_72 rfl rfl ?_
          refine t_pub ?_ (t_pk_rf _)
          unfold v_count
          (repeat' split) <;> first | rfl | omega
        · rw [t_sum_s (t_cng σ) hi0] at hF
          have hm1 := hm i hi0 hi1
          refine e_iload_n dX6_count_42 rfl ?_
          refine e_iconst dX6_count_43 ?_
          refine e_icmp_ge (tgt := 71) dX6_count_44 rfl ⟨by omega, by omega⟩ ⟨by omega, by omega⟩ (fun q => by exfalso; omega) (fun c5 => ?_)
          refine e_iload_n dX6_count_47 rfl ?_
          refine e_aload_n dX6_count_48 rfl ?_
          refine t_geta (k := 42) dX6_count_49 fl_X6_88 rfl ?_
          refine e_iload_n dX6_count_52 rfl ?_
          refine t_ild 4 dX6_count_53 rfl (by decide) (fun _ => rfl) rfl ⟨by omega, by omega⟩ ?_
          refine e_iconst dX6_count_54 ?_
          refine e_icmp_ne (tgt := 62) dX6_count_55 rfl ⟨by omega, by omega⟩ ⟨by omega, by omega⟩ (fun c6 => ?_) (fun c6 => ?_)
          · refine e_iconst dX6_count_62 ?_
            refine e_iadd dX6_count_63 ?_
            refine e_istore_n2 dX6_count_64 rfl ?_
            refine e_iinc3 dX6_count_65 rfl ?_
            refine e_goto (tgt := 42) dX6_count_68 rfl ?_
            first
              | (rw [show (t_cng σ) i = 0 from if_pos (by omega)] at hF; exact hF)
              | (rw [show (t_cng σ) i = 1 from if_neg (by omega)] at hF; exact hF)
          · refine e_iconst dX6_count_58 ?_
            refine e_goto (tgt := 63) dX6_count_59 rfl ?_
            refine e_iadd dX6_count_63 ?_
            refine e_istore_n2 dX6_count_64 rfl ?_
            refine e_iinc3 dX6_count_65 rfl ?_
            refine e_goto (tgt := 42) dX6_count_68 rfl ?_
            first
              | (rw [show (t_cng σ) i = 0 from if_pos (by omega)] at hF; exact hF)
              | (rw [show (t_cng σ) i = 1 from if_neg (by omega)] at hF; exact hF)
      · refine e_iconst dX6_count_36 ?_
        refine e_ireturn dX6_count_37 rfl rfl ?_
        refine t_pub ?_ (t_pk_rf _)
        unfold v_count
        (repeat' split) <;> first | rfl | omega
    · refine e_aload_n dX6_count_25 rfl ?_
      refine t_geti (k := 5) dX6_count_26 fl_X6_123 rfl ?_
      refine e_ireturn dX6_count_29 rfl rfl ?_
      refine t_pub ?_ (t_pk_rf _)
      unfold v_count
      (repeat' split) <;> first | rfl | omega
  · refine e_aload_n dX6_count_12 rfl ?_
    refine t_geta (k := 1) dX6_count_13 fl_X6_9 rfl ?_
    refine e_iload_n dX6_count_16 rfl ?_
    refine t_ild 149 dX6_count_17 rfl (by decide) (fun _ => rfl) rfl ⟨by omega, by omega⟩ ?_
    refine e_ireturn dX6_count_18 rfl rfl ?_
    refine t_pub ?_ (t_pk_rf _)
    unfold v_count
    (repeat' split) <;> first | rfl | omega
theorem C_X6_image {σ : t_S} {h0 : e_A} {k : Int} (hk : e_rg k)  : e_C mX6_image [.ref 384, e_i k] (t_H σ h0) 0 0 1 (t_Pub (v_image k) (s_image σ k) h0) := by
  refine e_enter (al0 := [.ref 384, e_i k, .retAddr 0]) (by decide +kernel) rfl (Nat.le_of_ble_eq_true rfl) ?_
  refine e_iload_n dX6_image_0 rfl ?_
  refine e_i2l dX6_image_1 ⟨by omega, by omega⟩ ?_
  refine e_lconst (z := 0) dX6_image_2 rfl ?_
  refine e_ldc2 (z := 2) dX6_image_3 q1928 rfl ?_
  refine e_callS3rz dX6_image_6 md_X6_in lk_X6_106 rfl q1930 rfl (Nat.le_of_ble_eq_true rfl) (C_X6_in ⟨by omega, by omega⟩ ⟨by omega, by omega⟩ ⟨by omega, by omega⟩) ?_
  refine e_bif_ne (tgt := 15) dX6_image_9 rfl (fun c1 => ?_) (fun c1 => ?_)
  · refine e_iconst dX6_image_15 ?_
    refine e_istore_n2 dX6_image_16 rfl ?_
    refine e_for (n := 149) (fun i => e_E mX6_image 17 [.ref 384, e_i k, e_i i] [] (t_H (t_it (t_imf k) i.toNat (σ)) h0) _ _ _ _) (by omega) ?_ (fun i hi0 hi1 hF => ?_)
    · refine e_iload_n dX6_image_17 rfl ?_
      refine e_sipush dX6_image_18 rfl ?_
      refine e_icmp_ge (tgt := 48) dX6_image_21 rfl ⟨by omega, by omega⟩ ⟨by omega, by omega⟩ (fun c2 => ?_) (fun q => by exfalso; omega)
      refine e_aload_n dX6_image_48 rfl ?_
      refine t_geta (k := 3) dX6_image_49 fl_X6_16 rfl ?_
      refine e_iload_n dX6_image_52 rfl ?_
      refine e_iconst dX6_image_53 ?_
      refine t_zst 3 dX6_image_54 rfl (by decide) rfl (Or.inr rfl) rfl ⟨by omega, by omega⟩ ?_
      refine e_iconst dX6_image_55 ?_
      refine e_ireturn dX6_image_56 rfl rfl ?_
      refine t_pub ?_ ?_
      · unfold v_image
        (repeat' split) <;> first | rfl | omega
      · unfold s_image
        (repeat' split) <;> first | (exfalso; omega) | exact t_pk_rf _
    · rw [t_it_s _ _ hi0] at hF
      generalize hτ : t_it (t_imf k) i.toNat (σ) = τ at hF ⊢
      refine e_iload_n dX6_image_17 rfl ?_
      refine e_sipush dX6_image_18 rfl ?_
      refine e_icmp_ge (tgt := 48) dX6_image_21 rfl ⟨by omega, by omega⟩ ⟨by omega, by omega⟩ (fun q => by exfalso; omega) (fun c3 => ?_)
      refine e_aload_n dX6_image_24 rfl ?_
      refine t_geta (k := 2) dX6_image_25 fl_X6_13 rfl ?_
      refine e_sipush dX6_image_28 rfl ?_
      refine e_iload_n dX6_image_31 rfl ?_
      refine e_imul dX6_image_32 ?_
      refine e_iload_n dX6_image_33 rfl ?_
      refine e_iadd dX6_image_34 ?_
      refine e_aload_n dX6_image_35 rfl ?_
      refine t_geta (k := 1) dX6_image_36 fl_X6_9 rfl ?_
      refine e_iload_n dX6_image_39 rfl ?_
      refine t_ild 149 dX6_image_40 rfl (by decide) (fun _ => rfl) rfl ⟨by omega, by omega⟩ ?_
      refine t_ist 447 dX6_image_41 rfl (by decide) rfl rfl ⟨by omega, by omega⟩ ?_
      refine e_iinc2 dX6_image_42 rfl ?_
      refine e_goto (tgt := 17) dX6_image_45 rfl ?_
      exact hF
  · refine e_bipush dX6_image_12 rfl ?_
    refine e_ireturn dX6_image_14 rfl rfl ?_
    refine t_pub ?_ ?_
    · unfold v_image
      (repeat' split) <;> first | rfl | omega
    · unfold s_image
      (repeat' split) <;> first | (exfalso; omega) | exact t_pk_rf _
theorem C_X6_back {σ : t_S} {h0 : e_A} {k : Int} (hk : e_rg k) (h3 : ∀ k, 0 ≤ k → k < 3 → σ 3 k = 0 ∨ σ 3 k = 1) : e_C mX6_back [.ref 384, e_i k] (t_H σ h0) 0 0 1 (t_Pub (v_back σ k) (s_back σ k) h0) := by
  refine e_enter (al0 := [.ref 384, e_i k, .retAddr 0]) (by decide +kernel) rfl (Nat.le_of_ble_eq_true rfl) ?_
  refine e_iload_n dX6_back_0 rfl ?_
  refine e_i2l dX6_back_1 ⟨by omega, by omega⟩ ?_
  refine e_lconst (z := 0) dX6_back_2 rfl ?_
  refine e_ldc2 (z := 2) dX6_back_3 q1928 rfl ?_
  refine e_callS3rz dX6_back_6 md_X6_in lk_X6_106 rfl q1930 rfl (Nat.le_of_ble_eq_true rfl) (C_X6_in ⟨by omega, by omega⟩ ⟨by omega, by omega⟩ ⟨by omega, by omega⟩) ?_
  refine e_bif_ne (tgt := 15) dX6_back_9 rfl (fun c1 => ?_) (fun c1 => ?_)
  · have h3k := h3 k (by omega) (by omega)
    refine e_aload_n dX6_back_15 rfl ?_
    refine t_geta (k := 3) dX6_back_16 fl_X6_16 rfl ?_
    refine e_iload_n dX6_back_19 rfl ?_
    refine t_zld 3 dX6_back_20 rfl (by decide) (fun _ => rfl) rfl ⟨by omega, by omega⟩ ?_
    refine e_if_ne (tgt := 27) dX6_back_21 rfl ⟨by omega, by omega⟩ (fun c2 => ?_) (fun c2 => ?_)
    · refine e_iconst dX6_back_27 ?_
      refine e_istore_n2 dX6_back_28 rfl ?_
      refine e_for (n := 149) (fun i => e_E mX6_back 29 [.ref 384, e_i k, e_i i] [] (t_H (t_it (t_bkf k) i.toNat (σ)) h0) _ _ _ _) (by omega) ?_ (fun i hi0 hi1 hF => ?_)
      · refine e_iload_n dX6_back_29 rfl ?_
        refine e_sipush dX6_back_30 rfl ?_
        refine e_icmp_ge (tgt := 60) dX6_back_33 rfl ⟨by omega, by omega⟩ ⟨by omega, by omega⟩ (fun c3 => ?_) (fun q => by exfalso; omega)
        refine e_iconst dX6_back_60 ?_
        refine e_ireturn dX6_back_61 rfl rfl ?_
        refine t_pub ?_ ?_
        · unfold v_back
          (repeat' split) <;> first | rfl | omega
        · unfold s_back
          (repeat' split) <;> first | (exfalso; omega) | exact t_pk_rf _
      · rw [t_it_s _ _ hi0] at hF
        generalize hτ : t_it (t_bkf k) i.toNat (σ) = τ at hF ⊢
        refine e_iload_n dX6_back_29 rfl ?_
        refine e_sipush dX6_back_30 rfl ?_
        refine e_icmp_ge (tgt := 60) dX6_back_33 rfl ⟨by omega, by omega⟩ ⟨by omega, by omega⟩ (fun q => by exfalso; omega) (fun c4 => ?_)
        refine e_aload_n dX6_back_36 rfl ?_
        refine t_geta (k := 1) dX6_back_37 fl_X6_9 rfl ?_
        refine e_iload_n dX6_back_40 rfl ?_
        refine e_aload_n dX6_back_41 rfl ?_
        refine t_geta (k := 2) dX6_back_42 fl_X6_13 rfl ?_
        refine e_sipush dX6_back_45 rfl ?_
        refine e_iload_n dX6_back_48 rfl ?_
        refine e_imul dX6_back_49 ?_
        refine e_iload_n dX6_back_50 rfl ?_
        refine e_iadd dX6_back_51 ?_
        refine t_ild 447 dX6_back_52 rfl (by decide) (fun _ => rfl) rfl ⟨by omega, by omega⟩ ?_
        refine t_ist 149 dX6_back_53 rfl (by decide) rfl rfl ⟨by omega, by omega⟩ ?_
        refine e_iinc2 dX6_back_54 rfl ?_
        refine e_goto (tgt := 29) dX6_back_57 rfl ?_
        exact hF
    · refine e_bipush dX6_back_24 rfl ?_
      refine e_ireturn dX6_back_26 rfl rfl ?_
      refine t_pub ?_ ?_
      · unfold v_back
        (repeat' split) <;> first | rfl | omega
      · unfold s_back
        (repeat' split) <;> first | (exfalso; omega) | exact t_pk_rf _
  · refine e_bipush dX6_back_12 rfl ?_
    refine e_ireturn dX6_back_14 rfl rfl ?_
    refine t_pub ?_ ?_
    · unfold v_back
      (repeat' split) <;> first | rfl | omega
    · unfold s_back
      (repeat' split) <;> first | (exfalso; omega) | exact t_pk_rf _
theorem C_X6_feed {σ : t_S} {h0 : e_A} {a : Int} (ha : e_rg a) {b : Int} (hb : e_rg b) {c : Int} (hc : e_rg c) {d : Int} (hd : e_rg d) {e : Int} (he : e_rg e) (ht : 0 ≤ σ 5 0 ∧ σ 5 0 ≤ 900) : e_C mX6_feed [.ref 384, e_i a, e_i b, e_i c, e_i d, e_i e] (t_H σ h0) 0 0 0 (t_Pub (v_feed σ) (s_feed σ a b c d e) h0) := by
  refine e_enter (al0 := [.ref 384, e_i a, e_i b, e_i c, e_i d, e_i e, .retAddr 0]) (by decide +kernel) rfl (Nat.le_of_ble_eq_true rfl) ?_
  refine e_aload_n dX6_feed_0 rfl ?_
  refine t_geti (k := 5) dX6_feed_1 fl_X6_123 rfl ?_
  refine e_bipush dX6_feed_4 rfl ?_
  refine e_iadd dX6_feed_6 ?_
  refine e_sipush dX6_feed_7 rfl ?_
  refine e_icmp_le (tgt := 15) dX6_feed_10 rfl ⟨by omega, by omega⟩ ⟨by omega, by omega⟩ (fun c1 => ?_) (fun c1 => ?_)
  · refine e_aload_n dX6_feed_15 rfl ?_
    refine t_geta (k := 6) dX6_feed_16 fl_X6_24 rfl ?_
    refine e_iconst dX6_feed_19 ?_
    refine e_iload_n dX6_feed_20 rfl ?_
    refine t_ist 5 dX6_feed_21 rfl (by decide) rfl rfl ⟨by omega, by omega⟩ ?_
    refine e_aload_n dX6_feed_22 rfl ?_
    refine t_geta (k := 6) dX6_feed_23 fl_X6_24 rfl ?_
    refine e_iconst dX6_feed_26 ?_
    refine e_iload_n dX6_feed_27 rfl ?_
    refine t_ist 5 dX6_feed_28 rfl (by decide) rfl rfl ⟨by omega, by omega⟩ ?_
    refine e_aload_n dX6_feed_29 rfl ?_
    refine t_geta (k := 6) dX6_feed_30 fl_X6_24 rfl ?_
    refine e_iconst dX6_feed_33 ?_
    refine e_iload_n dX6_feed_34 rfl ?_
    refine t_ist 5 dX6_feed_35 rfl (by decide) rfl rfl ⟨by omega, by omega⟩ ?_
    refine e_aload_n dX6_feed_36 rfl ?_
    refine t_geta (k := 6) dX6_feed_37 fl_X6_24 rfl ?_
    refine e_iconst dX6_feed_40 ?_
    refine e_iload dX6_feed_41 rfl ?_
    refine t_ist 5 dX6_feed_43 rfl (by decide) rfl rfl ⟨by omega, by omega⟩ ?_
    refine e_aload_n dX6_feed_44 rfl ?_
    refine t_geta (k := 6) dX6_feed_45 fl_X6_24 rfl ?_
    refine e_iconst dX6_feed_48 ?_
    refine e_iload dX6_feed_49 rfl ?_
    refine t_ist 5 dX6_feed_51 rfl (by decide) rfl rfl ⟨by omega, by omega⟩ ?_
    refine e_iconst dX6_feed_52 ?_
    refine e_istore6 dX6_feed_53 rfl ?_
    refine e_for (n := 20) (fun i => e_E mX6_feed 55 [.ref 384, e_i a, e_i b, e_i c, e_i d, e_i e, e_i i] [] (t_H (t_it t_fdf i.toNat (s_fd0 σ a b c d e)) h0) _ _ _ _) (by omega) ?_ (fun i hi0 hi1 hF => ?_)
    · show e_E _ _ _ _ (t_H (s_fd1 σ a b c d e) h0) _ _ _ _
      have e5 : s_fd1 σ a b c d e 5 0 = σ 5 0 := congrFun ((t_it_k (f := t_fdf) (fun _ _ => s_up_f (by decide)) _ _).trans (s_fd0_k (by decide))) 0
      refine e_iload dX6_feed_55 rfl ?_
      refine e_bipush dX6_feed_57 rfl ?_
      refine e_icmp_ge (tgt := 101) dX6_feed_59 rfl ⟨by omega, by omega⟩ ⟨by omega, by omega⟩ (fun c2 => ?_) (fun q => by exfalso; omega)
      refine e_aload_n dX6_feed_101 rfl ?_
      refine e_dup dX6_feed_102 rfl ?_
      refine t_geti (k := 5) dX6_feed_103 fl_X6_123 rfl ?_
      refine e_bipush dX6_feed_106 rfl ?_
      refine e_iadd dX6_feed_108 ?_
      refine t_puti (k := 5) dX6_feed_109 fl_X6_123 rfl rfl ?_
      refine e_aload_n dX6_feed_112 rfl ?_
      refine t_geti (k := 5) dX6_feed_113 fl_X6_123 rfl ?_
      refine e_ireturn dX6_feed_116 rfl rfl ?_
      refine t_pub ?_ ?_
      · rw [s_up_eq]
        unfold v_feed
        rw [if_neg (by omega), e5]
      · unfold s_feed
        rw [if_neg (by omega)]
        exact t_pk_rf _
    · rw [t_it_s _ _ hi0] at hF
      generalize hτ : t_it t_fdf i.toNat (s_fd0 σ a b c d e) = τ at hF ⊢
      have t5 : τ 5 0 = σ 5 0 := by rw [← hτ]; exact congrFun ((t_it_k (f := t_fdf) (fun _ _ => s_up_f (by decide)) _ _).trans (s_fd0_k (by decide))) 0
      have t6 : e_rg (τ 6 (i / 4)) := by
        rw [← hτ, t_it_k (f := t_fdf) (fun _ _ => s_up_f (by decide))]
        exact s_fd0_rg ha hb hc hd he _ (by omega) (by omega)
      refine e_iload dX6_feed_55 rfl ?_
      refine e_bipush dX6_feed_57 rfl ?_
      refine e_icmp_ge (tgt := 101) dX6_feed_59 rfl ⟨by omega, by omega⟩ ⟨by omega, by omega⟩ (fun q => by exfalso; omega) (fun c3 => ?_)
      refine e_aload_n dX6_feed_62 rfl ?_
      refine t_geta (k := 4) dX6_feed_63 fl_X6_20 rfl ?_
      refine e_aload_n dX6_feed_66 rfl ?_
      refine t_geti (k := 5) dX6_feed_67 fl_X6_123 rfl ?_
      refine e_iload dX6_feed_70 rfl ?_
      refine e_iadd dX6_feed_72 ?_
      refine e_aload_n dX6_feed_73 rfl ?_
      refine t_geta (k := 6) dX6_feed_74 fl_X6_24 rfl ?_
      refine e_iload dX6_feed_77 rfl ?_
      refine e_iconst dX6_feed_79 ?_
      refine e_idiv dX6_feed_80 ⟨by omega, by omega⟩ ⟨by omega, by omega⟩ ?_
      refine t_ild 5 dX6_feed_81 rfl (by decide) (fun _ => rfl) rfl ⟨by omega, by omega⟩ ?_
      refine e_bipush dX6_feed_82 rfl ?_
      refine e_bipush dX6_feed_84 rfl ?_
      refine e_iload dX6_feed_86 rfl ?_
      refine e_iconst dX6_feed_88 ?_
      refine e_irem dX6_feed_89 ⟨by omega, by omega⟩ ⟨by omega, by omega⟩ ?_
      refine e_imul dX6_feed_90 ?_
      refine e_isub dX6_feed_91 ?_
      refine e_ishr dX6_feed_92 (e_shr_law t6 ⟨by omega, by omega⟩) ?_
      refine e_i2b dX6_feed_93 (t_i8_law _) ?_
      refine t_bst 900 dX6_feed_94 rfl (by decide) rfl (t_i8_self (t_i8_rg _)) rfl ⟨by omega, by omega⟩ ?_
      refine e_iinc6 dX6_feed_95 rfl ?_
      refine e_goto (tgt := 55) dX6_feed_98 rfl ?_
      exact hF
  · refine e_iconst dX6_feed_13 ?_
    refine e_ireturn dX6_feed_14 rfl rfl ?_
    refine t_pub ?_ ?_
    · unfold v_feed
      (repeat' split) <;> first | rfl | omega
    · unfold s_feed
      (repeat' split) <;> first | (exfalso; omega) | exact t_pk_rf _
theorem C_X6_keepAct {σ : t_S} {h0 : e_A} {c : Int} (hc : e_rg c) (hz : t_sz σ) (hr : t_okR (σ 1)) (ha : t_okC (σ 1) c ∨ (1000 ≤ c ∧ c < 1000 + σ 1 7)) : e_C mX6_keepAct [.ref 384, e_i c] (t_H σ h0) 0 0 7 (t_Pub (v_ka σ c) (s_ka σ c) h0) := by
  have s3 := hz.2.1
  have s4 := hz.2.2.1
  have s5 := hz.2.2.2.1
  have s6 := hz.2.2.2.2.1
  have s7 := hz.2.2.2.2.2.1
  have s8 := hz.2.2.2.2.2.2.1
  have s9 := hz.2.2.2.2.2.2.2
  refine e_enter (al0 := [.ref 384, e_i c]) (by decide +kernel) rfl (Nat.le_of_ble_eq_true rfl) ?_
  refine e_aload_n dX6_keepAct_0 rfl ?_
  refine t_geta (k := 1) dX6_keepAct_1 fl_X6_9 rfl ?_
  refine e_bipush dX6_keepAct_4 rfl ?_
  refine t_ild 149 dX6_keepAct_6 rfl (by decide) (fun _ => rfl) rfl ⟨by omega, by omega⟩ ?_
  refine e_bipush dX6_keepAct_7 rfl ?_
  refine e_icmp_ne (tgt := 15) dX6_keepAct_9 rfl ⟨by omega, by omega⟩ ⟨by omega, by omega⟩ (fun c1 => ?_) (fun c1 => ?_)
  · refine e_aload_n dX6_keepAct_15 rfl ?_
    refine t_geta (k := 1) dX6_keepAct_16 fl_X6_9 rfl ?_
    refine e_bipush dX6_keepAct_19 rfl ?_
    refine e_aload_n dX6_keepAct_21 rfl ?_
    refine t_geta (k := 1) dX6_keepAct_22 fl_X6_9 rfl ?_
    refine e_bipush dX6_keepAct_25 rfl ?_
    refine t_ild 149 dX6_keepAct_27 rfl (by decide) (fun _ => rfl) rfl ⟨by omega, by omega⟩ ?_
    refine e_iadd dX6_keepAct_28 ?_
    refine e_iload_n dX6_keepAct_29 rfl ?_
    refine t_ist 149 dX6_keepAct_30 rfl (by decide) rfl rfl ⟨by omega, by omega⟩ ?_
    have hok := s_ka0_ok hz hr (by omega) ha
    refine e_aload_n dX6_keepAct_31 rfl ?_
    refine t_geta (k := 1) dX6_keepAct_32 fl_X6_9 rfl ?_
    refine e_bipush dX6_keepAct_35 rfl ?_
    refine e_dup2 dX6_keepAct_37 rfl rfl ?_
    refine t_ild 149 dX6_keepAct_38 rfl (by decide) (fun _ => rfl) rfl ⟨by omega, by omega⟩ ?_
    refine e_iconst dX6_keepAct_39 ?_
    refine e_iadd dX6_keepAct_40 ?_
    refine t_ist 149 dX6_keepAct_41 rfl (by decide) rfl rfl ⟨by omega, by omega⟩ ?_
    have H := t_af_hist hok.1 hok.2
    have hpk := t_af_pk hok.1 hok.2
    refine e_aload_n dX6_keepAct_42 rfl ?_
    refine e_callV0rz (ci := 6) dX6_keepAct_43 md_X6_asksColony lk_X6_335 rfl q2080 qs84 (t_obj _ _) (by decide) rfl (Nat.le_of_ble_eq_true rfl) (C_X6_asksColony hok.1 hok.2) ?_
    refine e_pop dX6_keepAct_46 rfl ?_
    refine e_aload_n dX6_keepAct_47 rfl ?_
    refine e_callV0rz (ci := 6) dX6_keepAct_48 md_X6_pegsLast lk_X6_419 rfl q2395 qs124 (t_obj _ _) (by decide) rfl (Nat.le_of_ble_eq_true rfl) (C_X6_pegsLast H) ?_
    refine e_ireturn dX6_keepAct_51 rfl rfl ?_
    refine t_pub ?_ ?_
    · unfold v_ka
      rw [if_neg (by omega)]
      rfl
    · unfold s_ka
      rw [if_neg (by omega)]
      exact hpk
  · refine e_bipush dX6_keepAct_12 rfl ?_
    refine e_ireturn dX6_keepAct_14 rfl rfl ?_
    refine t_pub ?_ ?_
    · unfold v_ka
      (repeat' split) <;> first | rfl | omega
    · unfold s_ka
      (repeat' split) <;> first | (exfalso; omega) | exact t_pk_rf _
theorem C_X6_bridge {σ : t_S} {h0 : e_A} {c : Int} (hc : e_rg c) (hz : t_sz σ) (hr : t_okR (σ 1)) : e_C mX6_bridge [.ref 384, e_i c] (t_H σ h0) 0 0 8 (t_Pub (v_bridge σ c) (s_bridge σ c) h0) := by
  have s3 := hz.2.1
  have s4 := hz.2.2.1
  have s5 := hz.2.2.2.1
  have s6 := hz.2.2.2.2.1
  have s7 := hz.2.2.2.2.2.1
  have s8 := hz.2.2.2.2.2.2.1
  have s9 := hz.2.2.2.2.2.2.2
  refine e_enter (al0 := [.ref 384, e_i c]) (by decide +kernel) rfl (Nat.le_of_ble_eq_true rfl) ?_
  refine e_aload_n dX6_bridge_0 rfl ?_
  refine e_iload_n dX6_bridge_1 rfl ?_
  refine e_i2l dX6_bridge_2 ⟨by omega, by omega⟩ ?_
  refine e_callV1rz (ci := 6) dX6_bridge_3 md_X6_isCell lk_X6_310 rfl q2145 qs98 (t_obj _ _) (by decide) rfl (Nat.le_of_ble_eq_true rfl) (C_X6_isCell hz ⟨by omega, by omega⟩) ?_
  refine e_bif_eq (tgt := 17) dX6_bridge_6 rfl (fun c1 => ?_) (fun c1 => ?_)
  · refine e_bipush dX6_bridge_17 rfl ?_
    refine e_ireturn dX6_bridge_19 rfl rfl ?_
    refine t_pub ?_ ?_
    · unfold v_bridge
      first | rw [if_pos (by omega)] | rw [if_neg (by omega)]
    · unfold s_bridge
      first | (rw [if_pos (by omega)]; exact hq) | (rw [if_neg (by omega)]; exact t_pk_rf _)
  · refine e_aload_n dX6_bridge_9 rfl ?_
    refine e_iload_n dX6_bridge_10 rfl ?_
    have hact : t_okC (σ 1) c ∨ (1000 ≤ c ∧ c < 1000 + σ 1 7) := Or.inl ⟨by omega, by omega, by omega⟩
    refine e_callV1z (ci := 6) dX6_bridge_11 md_X6_keepAct lk_X6_501 rfl q2523 qs138 (t_obj _ _) (by decide) rfl (Nat.le_of_ble_eq_true rfl) (C_X6_keepAct ⟨by omega, by omega⟩ hz hr hact) (fun a h1 q => ?_) (fun i h1 q => by cases q.1)
    obtain ⟨q1, σ1, rfl, hq⟩ := q
    cases q1
    show e_E _ _ _ (_ :: _) (t_H σ1 h0) _ _ _ _
    refine e_goto (tgt := 19) dX6_bridge_14 rfl ?_
    refine e_ireturn dX6_bridge_19 rfl rfl ?_
    refine t_pub ?_ ?_
    · unfold v_bridge
      first | rw [if_pos (by omega)] | rw [if_neg (by omega)]
    · unfold s_bridge
      first | (rw [if_pos (by omega)]; exact hq) | (rw [if_neg (by omega)]; exact t_pk_rf _)
theorem C_X6_keeps {σ : t_S} {h0 : e_A} {w : Int} (hw : e_rg w) (hz : t_sz σ) (hr : t_okR (σ 1)) : e_C mX6_keeps [.ref 384, e_i w] (t_H σ h0) 0 0 8 (t_Pub (v_keeps σ w) (s_keeps σ w) h0) := by
  have s3 := hz.2.1
  have s4 := hz.2.2.1
  have s5 := hz.2.2.2.1
  have s6 := hz.2.2.2.2.1
  have s7 := hz.2.2.2.2.2.1
  have s8 := hz.2.2.2.2.2.2.1
  have s9 := hz.2.2.2.2.2.2.2
  refine e_enter (al0 := [.ref 384, e_i w]) (by decide +kernel) rfl (Nat.le_of_ble_eq_true rfl) ?_
  refine e_aload_n dX6_keeps_0 rfl ?_
  refine e_iload_n dX6_keeps_1 rfl ?_
  refine e_i2l dX6_keeps_2 ⟨by omega, by omega⟩ ?_
  refine e_callV1rz (ci := 6) dX6_keeps_3 md_X6_isWidow lk_X6_261 rfl q2055 qs80 (t_obj _ _) (by decide) rfl (Nat.le_of_ble_eq_true rfl) (C_X6_isWidow hz ⟨by omega, by omega⟩) ?_
  refine e_bif_eq (tgt := 21) dX6_keeps_6 rfl (fun c1 => ?_) (fun c1 => ?_)
  · refine e_bipush dX6_keeps_21 rfl ?_
    refine e_ireturn dX6_keeps_23 rfl rfl ?_
    refine t_pub ?_ ?_
    · unfold v_keeps
      first | rw [if_pos (by omega)] | rw [if_neg (by omega)]
    · unfold s_keeps
      first | (rw [if_pos (by omega)]; exact hq) | (rw [if_neg (by omega)]; exact t_pk_rf _)
  · refine e_aload_n dX6_keeps_9 rfl ?_
    refine e_sipush dX6_keeps_10 rfl ?_
    refine e_iload_n dX6_keeps_13 rfl ?_
    refine e_iadd dX6_keeps_14 ?_
    have hact : t_okC (σ 1) (1000 + w) ∨ (1000 ≤ 1000 + w ∧ 1000 + w < 1000 + σ 1 7) := Or.inr ⟨by omega, by omega⟩
    refine e_callV1z (ci := 6) dX6_keeps_15 md_X6_keepAct lk_X6_501 rfl q2523 qs138 (t_obj _ _) (by decide) rfl (Nat.le_of_ble_eq_true rfl) (C_X6_keepAct ⟨by omega, by omega⟩ hz hr hact) (fun a h1 q => ?_) (fun i h1 q => by cases q.1)
    obtain ⟨q1, σ1, rfl, hq⟩ := q
    cases q1
    show e_E _ _ _ (_ :: _) (t_H σ1 h0) _ _ _ _
    refine e_goto (tgt := 23) dX6_keeps_18 rfl ?_
    refine e_ireturn dX6_keeps_23 rfl rfl ?_
    refine t_pub ?_ ?_
    · unfold v_keeps
      first | rw [if_pos (by omega)] | rw [if_neg (by omega)]
    · unfold s_keeps
      first | (rw [if_pos (by omega)]; exact hq) | (rw [if_neg (by omega)]; exact t_pk_rf _)
theorem C_X6_isSlot {h : e_A} {s : Int} (hs : e_rg s) : e_C mX6_isSlot [e_i s] (h) 0 0 1 (e_ret (e_i (if 0 ≤ s ∧ s ≤ 3 then 1 else 0)) (h)) := by
  refine e_enter (al0 := [e_i s]) (by decide +kernel) rfl (Nat.le_of_ble_eq_true rfl) ?_
  refine e_iload_n dX6_isSlot_0 rfl ?_
  refine e_i2l dX6_isSlot_1 ⟨by omega, by omega⟩ ?_
  refine e_lconst (z := 0) dX6_isSlot_2 rfl ?_
  refine e_ldc2 (z := 3) dX6_isSlot_3 q2412 rfl ?_
  refine e_callS3rz dX6_isSlot_6 md_X6_in lk_X6_106 rfl q1930 rfl (Nat.le_of_ble_eq_true rfl) (C_X6_in ⟨by omega, by omega⟩ ⟨by omega, by omega⟩ ⟨by omega, by omega⟩) ?_
  refine e_ireturn dX6_isSlot_9 rfl e_nB ?_
  exact ⟨rfl, rfl⟩
theorem C_X6_isSeed {h : e_A} {s : Int} (hs : e_rg s) : e_C mX6_isSeed [e_i s] (h) 0 0 1 (e_ret (e_i (if 0 ≤ s ∧ s ≤ 2000000000 then 1 else 0)) (h)) := by
  refine e_enter (al0 := [e_i s]) (by decide +kernel) rfl (Nat.le_of_ble_eq_true rfl) ?_
  refine e_iload_n dX6_isSeed_0 rfl ?_
  refine e_i2l dX6_isSeed_1 ⟨by omega, by omega⟩ ?_
  refine e_lconst (z := 0) dX6_isSeed_2 rfl ?_
  refine e_ldc2 (z := 2000000000) dX6_isSeed_3 q2544 rfl ?_
  refine e_callS3rz dX6_isSeed_6 md_X6_in lk_X6_106 rfl q1930 rfl (Nat.le_of_ble_eq_true rfl) (C_X6_in ⟨by omega, by omega⟩ ⟨by omega, by omega⟩ ⟨by omega, by omega⟩) ?_
  refine e_ireturn dX6_isSeed_9 rfl e_nB ?_
  exact ⟨rfl, rfl⟩
theorem C_X6_clipped {h : e_A} {v w : Int} (hv : e_rl v) (hw : 0 ≤ w ∧ w < 4) : e_C mX6_clipped [e_j v, e_i w] (h) 0 0 0 (e_ret (e_j (t_clip v w)) (h)) := by
  have hw4 : w = 0 ∨ w = 1 ∨ w = 2 ∨ w = 3 := by omega
  have hb : 0 ≤ 64 - 8 * (2 : Int) ^ w.toNat ∧ 64 - 8 * (2 : Int) ^ w.toNat < 64 := by rcases hw4 with rfl | rfl | rfl | rfl <;> decide
  refine e_enter (al0 := [e_j v, .retAddr 0, e_i w, .retAddr 0]) (by decide +kernel) rfl (Nat.le_of_ble_eq_true rfl) ?_
  refine e_bipush dX6_clipped_0 rfl ?_
  refine e_bipush dX6_clipped_2 rfl ?_
  refine e_iload_n dX6_clipped_4 rfl ?_
  refine e_ishl dX6_clipped_5 (e_shl_law 8 ⟨by omega, by omega⟩) ?_
  refine e_isub dX6_clipped_6 ?_
  refine e_istore_n3 dX6_clipped_7 rfl ?_
  refine e_lload_n dX6_clipped_8 rfl ?_
  refine e_iload_n dX6_clipped_9 rfl ?_
  refine e_lshl dX6_clipped_10 (e_lshl_law v hb) ?_
  refine e_iload_n dX6_clipped_11 rfl ?_
  refine e_lshr dX6_clipped_12 (e_lshr_law _ hb) ?_
  refine e_lreturn dX6_clipped_13 rfl ?_
  refine e_rvj ?_ rfl
  exact t_clip_law v hv hw
theorem C_X6_row {σ : t_S} {h0 : e_A} {s : Int} (hs : e_rg s) {w : Int} (hw : e_rg w) {n : Int} (hn : e_rg n)  : e_C mX6_row [.ref 384, e_i s, e_i w, e_i n] (t_H σ h0) 0 0 2 (t_Pub (v_row s w n) (s_row σ s w n) h0) := by
  refine e_enter (al0 := [.ref 384, e_i s, e_i w, e_i n, .retAddr 0]) (by decide +kernel) rfl (Nat.le_of_ble_eq_true rfl) ?_
  refine e_iload_n dX6_row_0 rfl ?_
  refine e_callS1rz dX6_row_1 md_X6_isSlot lk_X6_422 rfl q2410 rfl (Nat.le_of_ble_eq_true rfl) (C_X6_isSlot ⟨by omega, by omega⟩) ?_
  refine e_bif_eq (tgt := 25) dX6_row_4 rfl (fun c1 => ?_) (fun c1 => ?_)
  · refine e_bipush dX6_row_25 rfl ?_
    refine e_ireturn dX6_row_27 rfl rfl ?_
    refine t_pub ?_ ?_
    · unfold v_row
      (repeat' split) <;> first | rfl | omega
    · unfold s_row
      (repeat' split) <;> first | (exfalso; omega) | exact t_pk_rf _
  · refine e_iload_n dX6_row_7 rfl ?_
    refine e_i2l dX6_row_8 ⟨by omega, by omega⟩ ?_
    refine e_lconst (z := 0) dX6_row_9 rfl ?_
    refine e_ldc2 (z := 3) dX6_row_10 q2412 rfl ?_
    refine e_callS3rz dX6_row_13 md_X6_in lk_X6_106 rfl q1930 rfl (Nat.le_of_ble_eq_true rfl) (C_X6_in ⟨by omega, by omega⟩ ⟨by omega, by omega⟩ ⟨by omega, by omega⟩) ?_
    refine e_bif_eq (tgt := 25) dX6_row_16 rfl (fun c2 => ?_) (fun c2 => ?_)
    · refine e_bipush dX6_row_25 rfl ?_
      refine e_ireturn dX6_row_27 rfl rfl ?_
      refine t_pub ?_ ?_
      · unfold v_row
        (repeat' split) <;> first | rfl | omega
      · unfold s_row
        (repeat' split) <;> first | (exfalso; omega) | exact t_pk_rf _
    · refine e_iload_n dX6_row_19 rfl ?_
      refine e_bipush dX6_row_20 rfl ?_
      refine e_icmp_le (tgt := 28) dX6_row_22 rfl ⟨by omega, by omega⟩ ⟨by omega, by omega⟩ (fun c3 => ?_) (fun c3 => ?_)
      · refine e_iload_n dX6_row_28 rfl ?_
        refine e_if_ge (tgt := 35) dX6_row_29 rfl ⟨by omega, by omega⟩ (fun c4 => ?_) (fun c4 => ?_)
        · refine e_aload_n dX6_row_35 rfl ?_
          refine t_geta (k := 42) dX6_row_36 fl_X6_88 rfl ?_
          refine e_iload_n dX6_row_39 rfl ?_
          refine e_iload_n dX6_row_40 rfl ?_
          refine t_ist 4 dX6_row_41 rfl (by decide) rfl rfl ⟨by omega, by omega⟩ ?_
          refine e_aload_n dX6_row_42 rfl ?_
          refine t_geta (k := 43) dX6_row_43 fl_X6_91 rfl ?_
          refine e_iload_n dX6_row_46 rfl ?_
          refine e_iload_n dX6_row_47 rfl ?_
          refine t_ist 4 dX6_row_48 rfl (by decide) rfl rfl ⟨by omega, by omega⟩ ?_
          refine e_iconst dX6_row_49 ?_
          refine e_istore4 dX6_row_50 rfl ?_
          refine e_for (n := 60) (fun i => e_E mX6_row 52 [.ref 384, e_i s, e_i w, e_i n, e_i i] [] (t_H (t_it (t_rwf s) i.toNat (s_up (s_up σ 42 s n) 43 s w)) h0) _ _ _ _) (by omega) ?_ (fun i hi0 hi1 hF => ?_)
          · refine e_iload dX6_row_52 rfl ?_
            refine e_bipush dX6_row_54 rfl ?_
            refine e_icmp_ge (tgt := 78) dX6_row_56 rfl ⟨by omega, by omega⟩ ⟨by omega, by omega⟩ (fun c5 => ?_) (fun q => by exfalso; omega)
            refine e_iconst dX6_row_78 ?_
            refine e_ireturn dX6_row_79 rfl rfl ?_
            refine t_pub ?_ ?_
            · unfold v_row
              (repeat' split) <;> first | rfl | omega
            · unfold s_row
              (repeat' split) <;> first | (exfalso; omega) | exact t_pk_rf _
          · rw [t_it_s _ _ hi0] at hF
            generalize hτ : t_it (t_rwf s) i.toNat (s_up (s_up σ 42 s n) 43 s w) = τ at hF ⊢
            refine e_iload dX6_row_52 rfl ?_
            refine e_bipush dX6_row_54 rfl ?_
            refine e_icmp_ge (tgt := 78) dX6_row_56 rfl ⟨by omega, by omega⟩ ⟨by omega, by omega⟩ (fun q => by exfalso; omega) (fun c6 => ?_)
            refine e_aload_n dX6_row_59 rfl ?_
            refine t_geta (k := 44) dX6_row_60 fl_X6_94 rfl ?_
            refine e_bipush dX6_row_63 rfl ?_
            refine e_iload_n dX6_row_65 rfl ?_
            refine e_imul dX6_row_66 ?_
            refine e_iload dX6_row_67 rfl ?_
            refine e_iadd dX6_row_69 ?_
            refine e_lconst (z := 0) dX6_row_70 rfl ?_
            refine t_lst 240 dX6_row_71 rfl (by decide) rfl rfl ⟨by omega, by omega⟩ ?_
            refine e_iinc4 dX6_row_72 rfl ?_
            refine e_goto (tgt := 52) dX6_row_75 rfl ?_
            exact hF
        · refine e_bipush dX6_row_32 rfl ?_
          refine e_ireturn dX6_row_34 rfl rfl ?_
          refine t_pub ?_ ?_
          · unfold v_row
            (repeat' split) <;> first | rfl | omega
          · unfold s_row
            (repeat' split) <;> first | (exfalso; omega) | exact t_pk_rf _
      · refine e_bipush dX6_row_25 rfl ?_
        refine e_ireturn dX6_row_27 rfl rfl ?_
        refine t_pub ?_ ?_
        · unfold v_row
          (repeat' split) <;> first | rfl | omega
        · unfold s_row
          (repeat' split) <;> first | (exfalso; omega) | exact t_pk_rf _
theorem C_X6_write {σ : t_S} {h0 : e_A} {s : Int} (hs : e_rg s) {i : Int} (hi : e_rg i) {v : Int} (hv : e_rl v) (hm : ∀ s, 0 ≤ s → s < 4 → -1 ≤ σ 42 s ∧ σ 42 s ≤ 60) (hwd : ∀ s, 0 ≤ s → s < 4 → 0 ≤ σ 43 s ∧ σ 43 s < 4) : e_C mX6_write [.ref 384, e_i s, e_i i, e_j v] (t_H σ h0) 0 0 2 (t_Pub (v_write σ s i) (s_write σ s i v) h0) := by
  refine e_enter (al0 := [.ref 384, e_i s, e_i i, e_j v, .retAddr 0]) (by decide +kernel) rfl (Nat.le_of_ble_eq_true rfl) ?_
  refine e_iload_n dX6_write_0 rfl ?_
  refine e_callS1rz dX6_write_1 md_X6_isSlot lk_X6_422 rfl q2410 rfl (Nat.le_of_ble_eq_true rfl) (C_X6_isSlot ⟨by omega, by omega⟩) ?_
  refine e_bif_ne (tgt := 10) dX6_write_4 rfl (fun c1 => ?_) (fun c1 => ?_)
  · have hms := hm s (by omega) (by omega)
    have hws := hwd s (by omega) (by omega)
    refine e_aload_n dX6_write_10 rfl ?_
    refine t_geta (k := 42) dX6_write_11 fl_X6_88 rfl ?_
    refine e_iload_n dX6_write_14 rfl ?_
    refine t_ild 4 dX6_write_15 rfl (by decide) (fun _ => rfl) rfl ⟨by omega, by omega⟩ ?_
    refine e_iconst dX6_write_16 ?_
    refine e_icmp_ne (tgt := 23) dX6_write_17 rfl ⟨by omega, by omega⟩ ⟨by omega, by omega⟩ (fun c2 => ?_) (fun c2 => ?_)
    · refine e_iload_n dX6_write_23 rfl ?_
      refine e_i2l dX6_write_24 ⟨by omega, by omega⟩ ?_
      refine e_lconst (z := 0) dX6_write_25 rfl ?_
      refine e_aload_n dX6_write_26 rfl ?_
      refine t_geta (k := 42) dX6_write_27 fl_X6_88 rfl ?_
      refine e_iload_n dX6_write_30 rfl ?_
      refine t_ild 4 dX6_write_31 rfl (by decide) (fun _ => rfl) rfl ⟨by omega, by omega⟩ ?_
      refine e_iconst dX6_write_32 ?_
      refine e_isub dX6_write_33 ?_
      refine e_i2l dX6_write_34 ⟨by omega, by omega⟩ ?_
      refine e_callS3rz dX6_write_35 md_X6_in lk_X6_106 rfl q1930 rfl (Nat.le_of_ble_eq_true rfl) (C_X6_in ⟨by omega, by omega⟩ ⟨by omega, by omega⟩ ⟨by omega, by omega⟩) ?_
      refine e_bif_ne (tgt := 44) dX6_write_38 rfl (fun c3 => ?_) (fun c3 => ?_)
      · refine e_aload_n dX6_write_44 rfl ?_
        refine t_geta (k := 44) dX6_write_45 fl_X6_94 rfl ?_
        refine e_bipush dX6_write_48 rfl ?_
        refine e_iload_n dX6_write_50 rfl ?_
        refine e_imul dX6_write_51 ?_
        refine e_iload_n dX6_write_52 rfl ?_
        refine e_iadd dX6_write_53 ?_
        refine e_lload_n dX6_write_54 rfl ?_
        refine e_aload_n dX6_write_55 rfl ?_
        refine t_geta (k := 43) dX6_write_56 fl_X6_91 rfl ?_
        refine e_iload_n dX6_write_59 rfl ?_
        refine t_ild 4 dX6_write_60 rfl (by decide) (fun _ => rfl) rfl ⟨by omega, by omega⟩ ?_
        refine e_callS2rz dX6_write_61 md_X6_clipped lk_X6_525 rfl q2576 rfl (Nat.le_of_ble_eq_true rfl) (C_X6_clipped ⟨by omega, by omega⟩ ⟨by omega, by omega⟩) ?_
        refine t_lst 240 dX6_write_64 rfl (by decide) rfl rfl ⟨by omega, by omega⟩ ?_
        refine e_iconst dX6_write_65 ?_
        refine e_ireturn dX6_write_66 rfl rfl ?_
        refine t_pub ?_ ?_
        · unfold v_write
          (repeat' split) <;> first | rfl | omega
        · unfold s_write
          (repeat' split) <;> first | (exfalso; omega) | exact t_pk_rf _
      · refine e_bipush dX6_write_41 rfl ?_
        refine e_ireturn dX6_write_43 rfl rfl ?_
        refine t_pub ?_ ?_
        · unfold v_write
          (repeat' split) <;> first | rfl | omega
        · unfold s_write
          (repeat' split) <;> first | (exfalso; omega) | exact t_pk_rf _
    · refine e_bipush dX6_write_20 rfl ?_
      refine e_ireturn dX6_write_22 rfl rfl ?_
      refine t_pub ?_ ?_
      · unfold v_write
        (repeat' split) <;> first | rfl | omega
      · unfold s_write
        (repeat' split) <;> first | (exfalso; omega) | exact t_pk_rf _
  · refine e_bipush dX6_write_7 rfl ?_
    refine e_ireturn dX6_write_9 rfl rfl ?_
    refine t_pub ?_ ?_
    · unfold v_write
      (repeat' split) <;> first | rfl | omega
    · unfold s_write
      (repeat' split) <;> first | (exfalso; omega) | exact t_pk_rf _
theorem C_X6_paste {σ : t_S} {h0 : e_A} {s : Int} (hs : e_rg s) {i : Int} (hi : e_rg i) {t : Int} (ht : e_rg t) {k : Int} (hk : e_rg k) {n : Int} (hn : e_rg n) (hm : ∀ s, 0 ≤ s → s < 4 → -1 ≤ σ 42 s ∧ σ 42 s ≤ 60) (hwd : ∀ s, 0 ≤ s → s < 4 → 0 ≤ σ 43 s ∧ σ 43 s < 4) : e_C mX6_paste [.ref 384, e_i s, e_i i, e_i t, e_i k, e_i n] (t_H σ h0) 0 0 2 (t_Pub (v_paste σ s i t k n) (s_paste σ s i t k n) h0) := by
  refine e_enter (al0 := [.ref 384, e_i s, e_i i, e_i t, e_i k, e_i n, .retAddr 0]) (by decide +kernel) rfl (Nat.le_of_ble_eq_true rfl) ?_
  refine e_iload_n dX6_paste_0 rfl ?_
  refine e_callS1rz dX6_paste_1 md_X6_isSlot lk_X6_422 rfl q2410 rfl (Nat.le_of_ble_eq_true rfl) (C_X6_isSlot ⟨by omega, by omega⟩) ?_
  refine e_bif_eq (tgt := 14) dX6_paste_4 rfl (fun c1 => ?_) (fun c1 => ?_)
  · refine e_bipush dX6_paste_14 rfl ?_
    refine e_ireturn dX6_paste_16 rfl rfl ?_
    refine t_pub ?_ ?_
    · unfold v_paste
      (repeat' split) <;> first | rfl | omega
    · unfold s_paste
      (repeat' split) <;> first | (exfalso; omega) | exact t_pk_rf _
  · refine e_iload_n dX6_paste_7 rfl ?_
    refine e_callS1rz dX6_paste_8 md_X6_isSlot lk_X6_422 rfl q2410 rfl (Nat.le_of_ble_eq_true rfl) (C_X6_isSlot ⟨by omega, by omega⟩) ?_
    refine e_bif_ne (tgt := 17) dX6_paste_11 rfl (fun c2 => ?_) (fun c2 => ?_)
    · have hms := hm s (by omega) (by omega)
      have hws := hwd s (by omega) (by omega)
      have hmt := hm t (by omega) (by omega)
      have hwt := hwd t (by omega) (by omega)
      refine e_aload_n dX6_paste_17 rfl ?_
      refine t_geta (k := 42) dX6_paste_18 fl_X6_88 rfl ?_
      refine e_iload_n dX6_paste_21 rfl ?_
      refine t_ild 4 dX6_paste_22 rfl (by decide) (fun _ => rfl) rfl ⟨by omega, by omega⟩ ?_
      refine e_iconst dX6_paste_23 ?_
      refine e_icmp_eq (tgt := 37) dX6_paste_24 rfl ⟨by omega, by omega⟩ ⟨by omega, by omega⟩ (fun c3 => ?_) (fun c3 => ?_)
      · refine e_bipush dX6_paste_37 rfl ?_
        refine e_ireturn dX6_paste_39 rfl rfl ?_
        refine t_pub ?_ ?_
        · unfold v_paste
          (repeat' split) <;> first | rfl | omega
        · unfold s_paste
          (repeat' split) <;> first | (exfalso; omega) | exact t_pk_rf _
      · refine e_aload_n dX6_paste_27 rfl ?_
        refine t_geta (k := 42) dX6_paste_28 fl_X6_88 rfl ?_
        refine e_iload_n dX6_paste_31 rfl ?_
        refine t_ild 4 dX6_paste_32 rfl (by decide) (fun _ => rfl) rfl ⟨by omega, by omega⟩ ?_
        refine e_iconst dX6_paste_33 ?_
        refine e_icmp_ne (tgt := 40) dX6_paste_34 rfl ⟨by omega, by omega⟩ ⟨by omega, by omega⟩ (fun c4 => ?_) (fun c4 => ?_)
        · refine e_aload_n dX6_paste_40 rfl ?_
          refine t_geta (k := 43) dX6_paste_41 fl_X6_91 rfl ?_
          refine e_iload_n dX6_paste_44 rfl ?_
          refine t_ild 4 dX6_paste_45 rfl (by decide) (fun _ => rfl) rfl ⟨by omega, by omega⟩ ?_
          refine e_aload_n dX6_paste_46 rfl ?_
          refine t_geta (k := 43) dX6_paste_47 fl_X6_91 rfl ?_
          refine e_iload_n dX6_paste_50 rfl ?_
          refine t_ild 4 dX6_paste_51 rfl (by decide) (fun _ => rfl) rfl ⟨by omega, by omega⟩ ?_
          refine e_icmp_eq (tgt := 58) dX6_paste_52 rfl ⟨by omega, by omega⟩ ⟨by omega, by omega⟩ (fun c5 => ?_) (fun c5 => ?_)
          · refine e_iload_n dX6_paste_58 rfl ?_
            refine e_if_lt (tgt := 107) dX6_paste_59 rfl ⟨by omega, by omega⟩ (fun c6 => ?_) (fun c6 => ?_)
            · refine e_bipush dX6_paste_107 rfl ?_
              refine e_ireturn dX6_paste_109 rfl rfl ?_
              refine t_pub ?_ ?_
              · unfold v_paste
                (repeat' split) <;> first | rfl | omega
              · unfold s_paste
                (repeat' split) <;> first | (exfalso; omega) | exact t_pk_rf _
            · refine e_iload dX6_paste_62 rfl ?_
              refine e_if_lt (tgt := 107) dX6_paste_64 rfl ⟨by omega, by omega⟩ (fun c7 => ?_) (fun c7 => ?_)
              · refine e_bipush dX6_paste_107 rfl ?_
                refine e_ireturn dX6_paste_109 rfl rfl ?_
                refine t_pub ?_ ?_
                · unfold v_paste
                  (repeat' split) <;> first | rfl | omega
                · unfold s_paste
                  (repeat' split) <;> first | (exfalso; omega) | exact t_pk_rf _
              · refine e_iload dX6_paste_67 rfl ?_
                refine e_if_lt (tgt := 107) dX6_paste_69 rfl ⟨by omega, by omega⟩ (fun c8 => ?_) (fun c8 => ?_)
                · refine e_bipush dX6_paste_107 rfl ?_
                  refine e_ireturn dX6_paste_109 rfl rfl ?_
                  refine t_pub ?_ ?_
                  · unfold v_paste
                    (repeat' split) <;> first | rfl | omega
                  · unfold s_paste
                    (repeat' split) <;> first | (exfalso; omega) | exact t_pk_rf _
                · refine e_iload_n dX6_paste_72 rfl ?_
                  refine e_i2l dX6_paste_73 ⟨by omega, by omega⟩ ?_
                  refine e_iload dX6_paste_74 rfl ?_
                  refine e_i2l dX6_paste_76 ⟨by omega, by omega⟩ ?_
                  refine e_ladd dX6_paste_77 ?_
                  refine e_aload_n dX6_paste_78 rfl ?_
                  refine t_geta (k := 42) dX6_paste_79 fl_X6_88 rfl ?_
                  refine e_iload_n dX6_paste_82 rfl ?_
                  refine t_ild 4 dX6_paste_83 rfl (by decide) (fun _ => rfl) rfl ⟨by omega, by omega⟩ ?_
                  refine e_i2l dX6_paste_84 ⟨by omega, by omega⟩ ?_
                  refine e_lcmp_gt (tgt := 107) dX6_paste_85 dX6_paste_86 rfl ⟨by omega, by omega⟩ ⟨by omega, by omega⟩ (fun c9 => ?_) (fun c9 => ?_)
                  · refine e_bipush dX6_paste_107 rfl ?_
                    refine e_ireturn dX6_paste_109 rfl rfl ?_
                    refine t_pub ?_ ?_
                    · unfold v_paste
                      (repeat' split) <;> first | rfl | omega
                    · unfold s_paste
                      (repeat' split) <;> first | (exfalso; omega) | exact t_pk_rf _
                  · refine e_iload dX6_paste_89 rfl ?_
                    refine e_i2l dX6_paste_91 ⟨by omega, by omega⟩ ?_
                    refine e_iload dX6_paste_92 rfl ?_
                    refine e_i2l dX6_paste_94 ⟨by omega, by omega⟩ ?_
                    refine e_ladd dX6_paste_95 ?_
                    refine e_aload_n dX6_paste_96 rfl ?_
                    refine t_geta (k := 42) dX6_paste_97 fl_X6_88 rfl ?_
                    refine e_iload_n dX6_paste_100 rfl ?_
                    refine t_ild 4 dX6_paste_101 rfl (by decide) (fun _ => rfl) rfl ⟨by omega, by omega⟩ ?_
                    refine e_i2l dX6_paste_102 ⟨by omega, by omega⟩ ?_
                    refine e_lcmp_le (tgt := 110) dX6_paste_103 dX6_paste_104 rfl ⟨by omega, by omega⟩ ⟨by omega, by omega⟩ (fun c10 => ?_) (fun c10 => ?_)
                    · refine e_iconst dX6_paste_110 ?_
                      refine e_istore6 dX6_paste_111 rfl ?_
                      refine e_for (n := n) (fun x => e_E mX6_paste 113 [.ref 384, e_i s, e_i i, e_i t, e_i k, e_i n, e_i x] [] (t_H (t_it (t_psf s i) x.toNat (σ)) h0) _ _ _ _) (by omega) ?_ (fun x hi0 hi1 hF => ?_)
                      · refine e_iload dX6_paste_113 rfl ?_
                        refine e_iload dX6_paste_115 rfl ?_
                        refine e_icmp_ge (tgt := 147) dX6_paste_117 rfl ⟨by omega, by omega⟩ ⟨by omega, by omega⟩ (fun c11 => ?_) (fun q => by exfalso; omega)
                        refine e_iconst dX6_paste_147 ?_
                        refine e_istore6 dX6_paste_148 rfl ?_
                        refine e_for (n := n) (fun x => e_E mX6_paste 150 [.ref 384, e_i s, e_i i, e_i t, e_i k, e_i n, e_i x] [] (t_H (t_it (t_psg t k) x.toNat (t_it (t_psf s i) n.toNat σ)) h0) _ _ _ _) (by omega) ?_ (fun x hi0 hi1 hF => ?_)
                        · refine e_iload dX6_paste_150 rfl ?_
                          refine e_iload dX6_paste_152 rfl ?_
                          refine e_icmp_ge (tgt := 185) dX6_paste_154 rfl ⟨by omega, by omega⟩ ⟨by omega, by omega⟩ (fun c12 => ?_) (fun q => by exfalso; omega)
                          refine e_iconst dX6_paste_185 ?_
                          refine e_ireturn dX6_paste_186 rfl rfl ?_
                          refine t_pub ?_ ?_
                          · unfold v_paste
                            (repeat' split) <;> first | rfl | omega
                          · unfold s_paste
                            (repeat' split) <;> first | (exfalso; omega) | exact t_pk_rf _
                        · rw [t_it_s _ _ hi0] at hF
                          generalize hτ : t_it (t_psg t k) x.toNat (t_it (t_psf s i) n.toNat σ) = τ at hF ⊢
                          refine e_iload dX6_paste_150 rfl ?_
                          refine e_iload dX6_paste_152 rfl ?_
                          refine e_icmp_ge (tgt := 185) dX6_paste_154 rfl ⟨by omega, by omega⟩ ⟨by omega, by omega⟩ (fun q => by exfalso; omega) (fun c13 => ?_)
                          refine e_aload_n dX6_paste_157 rfl ?_
                          refine t_geta (k := 44) dX6_paste_158 fl_X6_94 rfl ?_
                          refine e_bipush dX6_paste_161 rfl ?_
                          refine e_iload_n dX6_paste_163 rfl ?_
                          refine e_imul dX6_paste_164 ?_
                          refine e_iload dX6_paste_165 rfl ?_
                          refine e_iadd dX6_paste_167 ?_
                          refine e_iload dX6_paste_168 rfl ?_
                          refine e_iadd dX6_paste_170 ?_
                          refine e_aload_n dX6_paste_171 rfl ?_
                          refine t_geta (k := 45) dX6_paste_172 fl_X6_98 rfl ?_
                          refine e_iload dX6_paste_175 rfl ?_
                          refine t_lld 60 dX6_paste_177 rfl (by decide) (fun _ => rfl) rfl ⟨by omega, by omega⟩ ?_
                          refine t_lst 240 dX6_paste_178 rfl (by decide) rfl rfl ⟨by omega, by omega⟩ ?_
                          refine e_iinc6 dX6_paste_179 rfl ?_
                          refine e_goto (tgt := 150) dX6_paste_182 rfl ?_
                          exact hF
                      · rw [t_it_s _ _ hi0] at hF
                        generalize hτ : t_it (t_psf s i) x.toNat (σ) = τ at hF ⊢
                        refine e_iload dX6_paste_113 rfl ?_
                        refine e_iload dX6_paste_115 rfl ?_
                        refine e_icmp_ge (tgt := 147) dX6_paste_117 rfl ⟨by omega, by omega⟩ ⟨by omega, by omega⟩ (fun q => by exfalso; omega) (fun c14 => ?_)
                        refine e_aload_n dX6_paste_120 rfl ?_
                        refine t_geta (k := 45) dX6_paste_121 fl_X6_98 rfl ?_
                        refine e_iload dX6_paste_124 rfl ?_
                        refine e_aload_n dX6_paste_126 rfl ?_
                        refine t_geta (k := 44) dX6_paste_127 fl_X6_94 rfl ?_
                        refine e_bipush dX6_paste_130 rfl ?_
                        refine e_iload_n dX6_paste_132 rfl ?_
                        refine e_imul dX6_paste_133 ?_
                        refine e_iload_n dX6_paste_134 rfl ?_
                        refine e_iadd dX6_paste_135 ?_
                        refine e_iload dX6_paste_136 rfl ?_
                        refine e_iadd dX6_paste_138 ?_
                        refine t_lld 240 dX6_paste_139 rfl (by decide) (fun _ => rfl) rfl ⟨by omega, by omega⟩ ?_
                        refine t_lst 60 dX6_paste_140 rfl (by decide) rfl rfl ⟨by omega, by omega⟩ ?_
                        refine e_iinc6 dX6_paste_141 rfl ?_
                        refine e_goto (tgt := 113) dX6_paste_144 rfl ?_
                        exact hF
                    · refine e_bipush dX6_paste_107 rfl ?_
                      refine e_ireturn dX6_paste_109 rfl rfl ?_
                      refine t_pub ?_ ?_
                      · unfold v_paste
                        (repeat' split) <;> first | rfl | omega
                      · unfold s_paste
                        (repeat' split) <;> first | (exfalso; omega) | exact t_pk_rf _
          · refine e_bipush dX6_paste_55 rfl ?_
            refine e_ireturn dX6_paste_57 rfl rfl ?_
            refine t_pub ?_ ?_
            · unfold v_paste
              (repeat' split) <;> first | rfl | omega
            · unfold s_paste
              (repeat' split) <;> first | (exfalso; omega) | exact t_pk_rf _
        · refine e_bipush dX6_paste_37 rfl ?_
          refine e_ireturn dX6_paste_39 rfl rfl ?_
          refine t_pub ?_ ?_
          · unfold v_paste
            (repeat' split) <;> first | rfl | omega
          · unfold s_paste
            (repeat' split) <;> first | (exfalso; omega) | exact t_pk_rf _
    · refine e_bipush dX6_paste_14 rfl ?_
      refine e_ireturn dX6_paste_16 rfl rfl ?_
      refine t_pub ?_ ?_
      · unfold v_paste
        (repeat' split) <;> first | rfl | omega
      · unfold s_paste
        (repeat' split) <;> first | (exfalso; omega) | exact t_pk_rf _
