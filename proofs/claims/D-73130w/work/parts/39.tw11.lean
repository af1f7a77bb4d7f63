/-! THE TWIN: two who stay in (printed by tw11.py) -/
set_option maxRecDepth 100000
theorem C_X6_areTwo {σ : t_S} {h0 : e_A} {a b : Int} (hz : t_sz σ) (ha : e_rg a) (hb : e_rg b) : e_C mX6_areTwo [.ref 384, e_i a, e_i b] (t_H σ h0) 0 0 2 (e_ret (e_i (if t_two σ a b then 1 else 0)) (t_H σ h0)) := by
  refine e_enter (al0 := [.ref 384, e_i a, e_i b]) (by decide +kernel) rfl (Nat.le_of_ble_eq_true rfl) ?_
  refine e_aload_n dX6_areTwo_0 rfl ?_
  refine e_iload_n dX6_areTwo_1 rfl ?_
  refine e_i2l dX6_areTwo_2 ⟨by omega, by omega⟩ ?_
  refine e_callV1rz (ci := 6) dX6_areTwo_3 md_X6_isWidow lk_X6_261 rfl q2055 qs80 (t_obj _ _) (by decide) rfl (Nat.le_of_ble_eq_true rfl) (C_X6_isWidow hz ⟨by omega, by omega⟩) ?_
  refine e_bif_eq (tgt := 27) dX6_areTwo_6 rfl (fun c1 => ?_) (fun c1 => ?_)
  · refine e_iconst dX6_areTwo_27 ?_
    refine e_ireturn dX6_areTwo_28 rfl rfl ?_
    refine e_rv ?_ rfl
    first
      | exact (if_pos ⟨by assumption, by assumption, by omega⟩).symm
      | exact (if_neg (fun q => by obtain ⟨q1, q2, q3⟩ := q; omega)).symm
  · refine e_aload_n dX6_areTwo_9 rfl ?_
    refine e_iload_n dX6_areTwo_10 rfl ?_
    refine e_i2l dX6_areTwo_11 ⟨by omega, by omega⟩ ?_
    refine e_callV1rz (ci := 6) dX6_areTwo_12 md_X6_isWidow lk_X6_261 rfl q2055 qs80 (t_obj _ _) (by decide) rfl (Nat.le_of_ble_eq_true rfl) (C_X6_isWidow hz ⟨by omega, by omega⟩) ?_
    refine e_bif_eq (tgt := 27) dX6_areTwo_15 rfl (fun c2 => ?_) (fun c2 => ?_)
    · refine e_iconst dX6_areTwo_27 ?_
      refine e_ireturn dX6_areTwo_28 rfl rfl ?_
      refine e_rv ?_ rfl
      first
        | exact (if_pos ⟨by assumption, by assumption, by omega⟩).symm
        | exact (if_neg (fun q => by obtain ⟨q1, q2, q3⟩ := q; omega)).symm
    · refine e_iload_n dX6_areTwo_18 rfl ?_
      refine e_iload_n dX6_areTwo_19 rfl ?_
      refine e_icmp_eq (tgt := 27) dX6_areTwo_20 rfl ⟨by omega, by omega⟩ ⟨by omega, by omega⟩ (fun c3 => ?_) (fun c3 => ?_)
      · refine e_iconst dX6_areTwo_27 ?_
        refine e_ireturn dX6_areTwo_28 rfl rfl ?_
        refine e_rv ?_ rfl
        first
          | exact (if_pos ⟨by assumption, by assumption, by omega⟩).symm
          | exact (if_neg (fun q => by obtain ⟨q1, q2, q3⟩ := q; omega)).symm
      · refine e_iconst dX6_areTwo_23 ?_
        refine e_goto (tgt := 28) dX6_areTwo_24 rfl ?_
        refine e_ireturn dX6_areTwo_28 rfl rfl ?_
        refine e_rv ?_ rfl
        first
          | exact (if_pos ⟨by assumption, by assumption, by omega⟩).symm
          | exact (if_neg (fun q => by obtain ⟨q1, q2, q3⟩ := q; omega)).symm
theorem C_X6_getsBy {σ : t_S} {h0 : e_A} (hz : t_sz σ) (hr : t_okR (σ 1)) {a b x y u : Int} (ha : 0 ≤ a ∧ a < 7) (hb : 0 ≤ b ∧ b < 7) (hx : 0 ≤ x ∧ x ≤ 1) (hy : 0 ≤ y ∧ y ≤ 1) (hu : e_rg u) : e_C mX6_getsBy [.ref 384, e_i a, e_i b, e_i x, e_i y, e_i u] (t_H σ h0) 0 0 6 (e_ret (e_i (t_gv (if u = 0 then a else b) (t_gb a b x y σ))) (t_H (t_gb a b x y σ) h0)) := by
  have hg := t_gb_in (a := a) (b := b) (x := x) (y := y) hz hr
  have hm1 : 0 ≤ x * 2 ^ a.toNat := Int.mul_nonneg hx.1 (t_p2 _)
  have hm2 : 0 ≤ y * 2 ^ b.toNat := Int.mul_nonneg hy.1 (t_p2 _)
  have h18 := (t_is_ask hz hr).2.2.2.2.2.1
  refine e_enter (al0 := [.ref 384, e_i a, e_i b, e_i x, e_i y, e_i u, .retAddr 0]) (by decide +kernel) rfl (Nat.le_of_ble_eq_true rfl) ?_
  refine e_aload_n dX6_getsBy_0 rfl ?_
  refine e_callV0vz (ci := 6) dX6_getsBy_1 md_X6_asItIs lk_X6_329 rfl q2084 qs85 (t_obj _ _) (by decide) rfl (Nat.le_of_ble_eq_true rfl) (C_X6_asItIs hz hr) ?_
  refine e_aload_n dX6_getsBy_4 rfl ?_
  refine e_dup dX6_getsBy_5 rfl ?_
  refine t_geti (k := 18) dX6_getsBy_6 fl_X6_276 rfl ?_
  refine e_iload_n dX6_getsBy_9 rfl ?_
  refine e_iload_n dX6_getsBy_10 rfl ?_
  refine e_ishl dX6_getsBy_11 (e_shl_law x ⟨by omega, by omega⟩) ?_
  refine e_iload dX6_getsBy_12 rfl ?_
  refine e_iload_n dX6_getsBy_14 rfl ?_
  refine e_ishl dX6_getsBy_15 (e_shl_law y ⟨by omega, by omega⟩) ?_
  refine e_ior dX6_getsBy_16 (t_or_law hm1 hm2) ?_
  refine e_iconst dX6_getsBy_17 ?_
  refine e_ixor dX6_getsBy_18 (e_not_law _) ?_
  refine e_iand dX6_getsBy_19 (e_andn_law h18.1 (Int.natCast_nonneg _)) ?_
  refine t_puti (k := 18) dX6_getsBy_20 fl_X6_276 rfl rfl ?_
  refine e_aload_n dX6_getsBy_23 rfl ?_
  refine e_callV0vz (ci := 6) dX6_getsBy_24 md_X6_goAll lk_X6_332 rfl q2092 qs87 (t_obj _ _) (by decide) rfl (Nat.le_of_ble_eq_true rfl) (C_X6_goAll hg.1) ?_
  show e_E _ _ _ _ (t_H (t_gb a b x y σ) h0) _ _ _ _
  obtain ⟨τ, hτ⟩ : ∃ τ, t_gb a b x y σ = τ := ⟨_, rfl⟩
  rw [hτ] at hg ⊢
  refine e_iload dX6_getsBy_27 rfl ?_
  refine e_if_ne (tgt := 36) dX6_getsBy_29 rfl ⟨by omega, by omega⟩ (fun c1 => ?_) (fun c1 => ?_)
  · refine e_iload_n dX6_getsBy_36 rfl ?_
    refine e_istore6 dX6_getsBy_37 rfl ?_
    refine e_aload_n dX6_getsBy_39 rfl ?_
    refine e_iload dX6_getsBy_40 rfl ?_
    refine e_callV1rz (ci := 6) dX6_getsBy_42 md_X6_walks lk_X6_361 rfl q2179 qs103 (t_obj _ _) (by decide) rfl (Nat.le_of_ble_eq_true rfl) (C_X6_walks hg.2.1 ⟨by omega, by omega⟩) ?_
    refine e_bif_eq (tgt := 67) dX6_getsBy_45 rfl (fun c2 => ?_) (fun c2 => ?_)
    · refine e_iconst dX6_getsBy_67 ?_
      refine e_ireturn dX6_getsBy_68 rfl rfl ?_
      refine e_rv ?_ rfl
      first
        | (rw [if_pos (by omega)]; unfold t_gv; first | rw [if_pos (by omega)] | rw [if_neg (by omega)])
        | (rw [if_neg (by omega)]; unfold t_gv; first | rw [if_pos (by omega)] | rw [if_neg (by omega)])
    · refine e_aload_n dX6_getsBy_48 rfl ?_
      refine e_iload dX6_getsBy_49 rfl ?_
      refine e_callV1rz (ci := 6) dX6_getsBy_51 md_X6_groundOf lk_X6_367 rfl q2187 qs104 (t_obj _ _) (by decide) rfl (Nat.le_of_ble_eq_true rfl) (C_X6_groundOf hg.2.1 ⟨by omega, by omega⟩) ?_
      refine e_iconst dX6_getsBy_54 ?_
      refine e_aload_n dX6_getsBy_55 rfl ?_
      refine t_geta (k := 28) dX6_getsBy_56 fl_X6_61 rfl ?_
      refine e_iload dX6_getsBy_59 rfl ?_
      refine t_ild 7 dX6_getsBy_61 rfl (by decide) (fun _ => rfl) rfl ⟨by omega, by omega⟩ ?_
      refine e_imul dX6_getsBy_62 ?_
      refine e_isub dX6_getsBy_63 ?_
      refine e_goto (tgt := 68) dX6_getsBy_64 rfl ?_
      refine e_ireturn dX6_getsBy_68 rfl rfl ?_
      refine e_rv ?_ rfl
      first
        | (rw [if_pos (by omega)]; unfold t_gv; first | rw [if_pos (by omega)] | rw [if_neg (by omega)])
        | (rw [if_neg (by omega)]; unfold t_gv; first | rw [if_pos (by omega)] | rw [if_neg (by omega)])
  · refine e_iload_n dX6_getsBy_32 rfl ?_
    refine e_goto (tgt := 37) dX6_getsBy_33 rfl ?_
    refine e_istore6 dX6_getsBy_37 rfl ?_
    refine e_aload_n dX6_getsBy_39 rfl ?_
    refine e_iload dX6_getsBy_40 rfl ?_
    refine e_callV1rz (ci := 6) dX6_getsBy_42 md_X6_walks lk_X6_361 rfl q2179 qs103 (t_obj _ _) (by decide) rfl (Nat.le_of_ble_eq_true rfl) (C_X6_walks hg.2.1 ⟨by omega, by omega⟩) ?_
    refine e_bif_eq (tgt := 67) dX6_getsBy_45 rfl (fun c3 => ?_) (fun c3 => ?_)
    · refine e_iconst dX6_getsBy_67 ?_
      refine e_ireturn dX6_getsBy_68 rfl rfl ?_
      refine e_rv ?_ rfl
      first
        | (rw [if_pos (by omega)]; unfold t_gv; first | rw [if_pos (by omega)] | rw [if_neg (by omega)])
        | (rw [if_neg (by omega)]; unfold t_gv; first | rw [if_pos (by omega)] | rw [if_neg (by omega)])
    · refine e_aload_n dX6_getsBy_48 rfl ?_
      refine e_iload dX6_getsBy_49 rfl ?_
      refine e_callV1rz (ci := 6) dX6_getsBy_51 md_X6_groundOf lk_X6_367 rfl q2187 qs104 (t_obj _ _) (by decide) rfl (Nat.le_of_ble_eq_true rfl) (C_X6_groundOf hg.2.1 ⟨by omega, by omega⟩) ?_
      refine e_iconst dX6_getsBy_54 ?_
      refine e_aload_n dX6_getsBy_55 rfl ?_
      refine t_geta (k := 28) dX6_getsBy_56 fl_X6_61 rfl ?_
      refine e_iload dX6_getsBy_59 rfl ?_
      refine t_ild 7 dX6_getsBy_61 rfl (by decide) (fun _ => rfl) rfl ⟨by omega, by omega⟩ ?_
      refine e_imul dX6_getsBy_62 ?_
      refine e_isub dX6_getsBy_63 ?_
      refine e_goto (tgt := 68) dX6_getsBy_64 rfl ?_
      refine e_ireturn dX6_getsBy_68 rfl rfl ?_
      refine e_rv ?_ rfl
      first
        | (rw [if_pos (by omega)]; unfold t_gv; first | rw [if_pos (by omega)] | rw [if_neg (by omega)])
        | (rw [if_neg (by omega)]; unfold t_gv; first | rw [if_pos (by omega)] | rw [if_neg (by omega)])
theorem C_X6_gets {σ : t_S} {h0 : e_A} (hz : t_sz σ) (hr : t_okR (σ 1)) {a b x y : Int} (ha : e_rg a) (hb : e_rg b) (hx : e_rg x) (hy : e_rg y) : e_C mX6_gets [.ref 384, e_i a, e_i b, e_i x, e_i y] (t_H σ h0) 0 0 7 (t_Pub (v_gets σ a b x y) σ h0) := by
  have s7 := hz.2.2.2.2.2.1
  refine e_enter (al0 := [.ref 384, e_i a, e_i b, e_i x, e_i y]) (by decide +kernel) rfl (Nat.le_of_ble_eq_true rfl) ?_
  refine e_aload_n dX6_gets_0 rfl ?_
  refine e_iload_n dX6_gets_1 rfl ?_
  refine e_iload_n dX6_gets_2 rfl ?_
  refine e_callV2rz (ci := 6) dX6_gets_3 md_X6_areTwo lk_X6_479 rfl q2494 qs135 (t_obj _ _) (by decide) rfl (Nat.le_of_ble_eq_true rfl) (C_X6_areTwo hz ⟨by omega, by omega⟩ ⟨by omega, by omega⟩) ?_
  refine e_bif_eq (tgt := 43) dX6_gets_6 rfl (fun c1 => ?_) (fun c1 => ?_)
  · refine e_sipush dX6_gets_43 rfl ?_
    refine e_ireturn dX6_gets_46 rfl rfl ?_
    first
      | exact t_pub (by unfold v_gets; rw [if_pos (show t_two σ a b ∧ (0 ≤ x ∧ x ≤ 1) ∧ 0 ≤ y ∧ y ≤ 1 from ⟨by assumption, by assumption, by assumption⟩)]; rfl) hpk
      | exact t_pub (by unfold v_gets; rw [if_neg (by omega)]) (t_pk_rf _)
  · refine e_iload_n dX6_gets_9 rfl ?_
    refine e_i2l dX6_gets_10 ⟨by omega, by omega⟩ ?_
    refine e_lconst (z := 0) dX6_gets_11 rfl ?_
    refine e_lconst (z := 1) dX6_gets_12 rfl ?_
    refine e_callS3rz dX6_gets_13 md_X6_in lk_X6_106 rfl q1930 rfl (Nat.le_of_ble_eq_true rfl) (C_X6_in ⟨by omega, by omega⟩ ⟨by omega, by omega⟩ ⟨by omega, by omega⟩) ?_
    refine e_bif_eq (tgt := 43) dX6_gets_16 rfl (fun c2 => ?_) (fun c2 => ?_)
    · refine e_sipush dX6_gets_43 rfl ?_
      refine e_ireturn dX6_gets_46 rfl rfl ?_
      first
        | exact t_pub (by unfold v_gets; rw [if_pos (show t_two σ a b ∧ (0 ≤ x ∧ x ≤ 1) ∧ 0 ≤ y ∧ y ≤ 1 from ⟨by assumption, by assumption, by assumption⟩)]; rfl) hpk
        | exact t_pub (by unfold v_gets; rw [if_neg (by omega)]) (t_pk_rf _)
    · refine e_iload dX6_gets_19 rfl ?_
      refine e_i2l dX6_gets_21 ⟨by omega, by omega⟩ ?_
      refine e_lconst (z := 0) dX6_gets_22 rfl ?_
      refine e_lconst (z := 1) dX6_gets_23 rfl ?_
      refine e_callS3rz dX6_gets_24 md_X6_in lk_X6_106 rfl q1930 rfl (Nat.le_of_ble_eq_true rfl) (C_X6_in ⟨by omega, by omega⟩ ⟨by omega, by omega⟩ ⟨by omega, by omega⟩) ?_
      refine e_bif_eq (tgt := 43) dX6_gets_27 rfl (fun c3 => ?_) (fun c3 => ?_)
      · refine e_sipush dX6_gets_43 rfl ?_
        refine e_ireturn dX6_gets_46 rfl rfl ?_
        first
          | exact t_pub (by unfold v_gets; rw [if_pos (show t_two σ a b ∧ (0 ≤ x ∧ x ≤ 1) ∧ 0 ≤ y ∧ y ≤ 1 from ⟨by assumption, by assumption, by assumption⟩)]; rfl) hpk
          | exact t_pub (by unfold v_gets; rw [if_neg (by omega)]) (t_pk_rf _)
      · have hg := t_gb_in (a := a) (b := b) (x := x) (y := y) hz hr
        have hpk : t_pk (t_gb a b x y σ) σ := fun k hk => hg.2.2.2 k (by unfold t_per at hk; omega)
        refine e_aload_n dX6_gets_30 rfl ?_
        refine e_iload_n dX6_gets_31 rfl ?_
        refine e_iload_n dX6_gets_32 rfl ?_
        refine e_iload_n dX6_gets_33 rfl ?_
        refine e_iload dX6_gets_34 rfl ?_
        refine e_iconst dX6_gets_36 ?_
        refine e_callV5rz (ci := 6) dX6_gets_37 md_X6_getsBy lk_X6_482 rfl q2498 qs136 (t_obj _ _) (by decide) rfl (Nat.le_of_ble_eq_true rfl) (C_X6_getsBy hz hr ⟨by omega, by omega⟩ ⟨by omega, by omega⟩ ⟨by omega, by omega⟩ ⟨by omega, by omega⟩ ⟨by omega, by omega⟩) ?_
        refine e_goto (tgt := 46) dX6_gets_40 rfl ?_
        refine e_ireturn dX6_gets_46 rfl rfl ?_
        first
          | exact t_pub (by unfold v_gets; rw [if_pos (show t_two σ a b ∧ (0 ≤ x ∧ x ≤ 1) ∧ 0 ≤ y ∧ y ≤ 1 from ⟨by assumption, by assumption, by assumption⟩)]; rfl) hpk
          | exact t_pub (by unfold v_gets; rw [if_neg (by omega)]) (t_pk_rf _)
