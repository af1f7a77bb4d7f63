/-! THE COMPONENT: questions, three (printed by tx14.py) -/
set_option maxRecDepth 100000
theorem C_X0_widow {ρ χ : t_S} {h0 : e_A} {α : Nat → Nat} (A : x_at χ h0 (ρ 1) α) (hz : t_sz ρ) (hr : t_okR (ρ 1)) {w : Int} (hw : e_rg w) {k : Int} (hk : e_rg k) : e_C mX0_widow [.ref 350, e_i w, e_i k] (x_H χ h0) 0 0 4 (x_Pub (e_i (v_widow ρ w k)) χ h0) := by
  have s7 := hz.2.2.2.2.2.1
  have kw1 := hw.1
  have kw2 := hw.2
  have kk1 := hk.1
  have kk2 := hk.2
  refine e_enter (al0 := [.ref 350, e_i w, e_i k, .retAddr 0]) (by decide +kernel) rfl (Nat.le_of_ble_eq_true rfl) ?_
  refine e_aload_n dX0_widow_0 rfl ?_
  refine e_iload_n dX0_widow_1 rfl ?_
  refine e_i2l dX0_widow_2 ⟨by omega, by omega⟩ ?_
  refine e_callV1rz (ci := 0) dX0_widow_3 md_X0_isWidow lk_X0_138 rfl q1222 qs33 (x_o0 _ _) (by decide) rfl (Nat.le_of_ble_eq_true rfl) (C_X0_isWidow A hz ⟨by omega, by omega⟩) ?_
  refine e_bif_eq (tgt := 21) dX0_widow_6 rfl (fun c1 => ?_) (fun c1 => ?_)
  · refine e_bipush dX0_widow_21 rfl ?_
    refine e_ireturn dX0_widow_23 rfl rfl ?_
    refine x_pubi0 ?_
    unfold v_widow
    (repeat' split) <;> first | rfl | omega
  · refine e_iload_n dX0_widow_9 rfl ?_
    refine e_i2l dX0_widow_10 ⟨by omega, by omega⟩ ?_
    refine e_lconst (z := 0) dX0_widow_11 rfl ?_
    refine e_ldc2 (z := 4) dX0_widow_12 q1224 rfl ?_
    refine e_callS3rz dX0_widow_15 md_X0_in lk_X0_11 rfl q186 rfl (Nat.le_of_ble_eq_true rfl) (C_X0_in ⟨by omega, by omega⟩ ⟨by omega, by omega⟩ ⟨by omega, by omega⟩) ?_
    refine e_bif_ne (tgt := 24) dX0_widow_18 rfl (fun c2 => ?_) (fun c2 => ?_)
    · have hw0 : 0 ≤ w := by omega
      have hw1 : w < ρ 1 7 := by omega
      have hW := hr.2.2.1 w hw0 hw1
      have h8 := x_okc hz hW.1
      have hcs : -1 ≤ x_sp (ρ 1 (28 + 13 * w)) ∧ x_sp (ρ 1 (28 + 13 * w)) < 64 := by have := x_sp_rg h8; omega
      have hce := (x_sp_rg h8).2.2
      have k5 : ∀ j, k = j → t_wd ρ w k = t_wd ρ w j := fun j hj => by rw [hj]
      refine e_aload_n dX0_widow_24 rfl ?_
      refine e_iload_n dX0_widow_25 rfl ?_
      refine e_callV1rz (ci := 0) dX0_widow_26 md_X0_widowOf lk_X0_195 rfl q1127 qs24 (x_o0 _ _) (by decide) rfl (Nat.le_of_ble_eq_true rfl) (C_X0_widowOf A hz ⟨hw0, hw1⟩) ?_
      refine e_astore_n3 dX0_widow_29 rfl ?_
      refine e_iload_n dX0_widow_30 rfl ?_
      refine e_if_ne (tgt := 44) dX0_widow_31 rfl ⟨by omega, by omega⟩ (fun c3 => ?_) (fun c3 => ?_)
      · refine e_iload_n dX0_widow_44 rfl ?_
        refine e_iconst dX0_widow_45 ?_
        refine e_icmp_ne (tgt := 56) dX0_widow_46 rfl ⟨by omega, by omega⟩ ⟨by omega, by omega⟩ (fun c4 => ?_) (fun c4 => ?_)
        · refine e_iload_n dX0_widow_56 rfl ?_
          refine e_iconst dX0_widow_57 ?_
          refine e_icmp_ne (tgt := 68) dX0_widow_58 rfl ⟨by omega, by omega⟩ ⟨by omega, by omega⟩ (fun c5 => ?_) (fun c5 => ?_)
          · refine e_iload_n dX0_widow_68 rfl ?_
            refine e_iconst dX0_widow_69 ?_
            refine e_icmp_ne (tgt := 80) dX0_widow_70 rfl ⟨by omega, by omega⟩ ⟨by omega, by omega⟩ (fun c6 => ?_) (fun c6 => ?_)
            · refine e_aload_n dX0_widow_80 rfl ?_
              refine e_getV (e_i (t_wd ρ w 4)) dX0_widow_81 fl_X0_234 (x_aW A hw0 hw1) rfl ?_
              refine e_ireturn dX0_widow_84 rfl rfl ?_
              refine x_pubi0 ?_
              unfold v_widow
              rw [if_pos ⟨⟨by omega, by omega⟩, by omega, by omega⟩]
              first
                | (rw [k5 0 (by omega)]; show x_ce (x_sp (ρ 1 (28 + 13 * w))) = ρ 1 (28 + 13 * w + 0); rw [Int.add_zero]; exact hce)
                | exact (k5 1 (by omega)).symm
                | exact (k5 2 (by omega)).symm
                | exact (k5 3 (by omega)).symm
                | exact (k5 4 (by omega)).symm
            · refine e_aload_n dX0_widow_73 rfl ?_
              refine e_getV (e_i (t_wd ρ w 3)) dX0_widow_74 fl_X0_199 (x_aW A hw0 hw1) rfl ?_
              refine e_goto (tgt := 84) dX0_widow_77 rfl ?_
              refine e_ireturn dX0_widow_84 rfl rfl ?_
              refine x_pubi0 ?_
              unfold v_widow
              rw [if_pos ⟨⟨by omega, by omega⟩, by omega, by omega⟩]
              first
                | (rw [k5 0 (by omega)]; show x_ce (x_sp (ρ 1 (28 + 13 * w))) = ρ 1 (28 + 13 * w + 0); rw [Int.add_zero]; exact hce)
                | exact (k5 1 (by omega)).symm
                | exact (k5 2 (by omega)).symm
                | exact (k5 3 (by omega)).symm
                | exact (k5 4 (by omega)).symm
          · refine e_aload_n dX0_widow_61 rfl ?_
            refine e_getV (e_i (t_wd ρ w 2)) dX0_widow_62 fl_X0_232 (x_aW A hw0 hw1) rfl ?_
            refine e_goto (tgt := 84) dX0_widow_65 rfl ?_
            refine e_ireturn dX0_widow_84 rfl rfl ?_
            refine x_pubi0 ?_
            unfold v_widow
            rw [if_pos ⟨⟨by omega, by omega⟩, by omega, by omega⟩]
            first
              | (rw [k5 0 (by omega)]; show x_ce (x_sp (ρ 1 (28 + 13 * w))) = ρ 1 (28 + 13 * w + 0); rw [Int.add_zero]; exact hce)
              | exact (k5 1 (by omega)).symm
              | exact (k5 2 (by omega)).symm
              | exact (k5 3 (by omega)).symm
              | exact (k5 4 (by omega)).symm
        · refine e_aload_n dX0_widow_49 rfl ?_
          refine e_getV (e_i (t_wd ρ w 1)) dX0_widow_50 fl_X0_229 (x_aW A hw0 hw1) rfl ?_
          refine e_goto (tgt := 84) dX0_widow_53 rfl ?_
          refine e_ireturn dX0_widow_84 rfl rfl ?_
          refine x_pubi0 ?_
          unfold v_widow
          rw [if_pos ⟨⟨by omega, by omega⟩, by omega, by omega⟩]
          first
            | (rw [k5 0 (by omega)]; show x_ce (x_sp (ρ 1 (28 + 13 * w))) = ρ 1 (28 + 13 * w + 0); rw [Int.add_zero]; exact hce)
            | exact (k5 1 (by omega)).symm
            | exact (k5 2 (by omega)).symm
            | exact (k5 3 (by omega)).symm
            | exact (k5 4 (by omega)).symm
      · refine e_aload_n dX0_widow_34 rfl ?_
        refine e_getV (e_i (x_sp (ρ 1 (28 + 13 * w)))) dX0_widow_35 fl_X0_223 (x_aW A hw0 hw1) rfl ?_
        refine e_callS1rz dX0_widow_38 md_X0_cellOf lk_X0_226 rfl q1226 rfl (Nat.le_of_ble_eq_true rfl) (C_X0_cellOf hcs) ?_
        refine e_goto (tgt := 84) dX0_widow_41 rfl ?_
        refine e_ireturn dX0_widow_84 rfl rfl ?_
        refine x_pubi0 ?_
        unfold v_widow
        rw [if_pos ⟨⟨by omega, by omega⟩, by omega, by omega⟩]
        first
          | (rw [k5 0 (by omega)]; show x_ce (x_sp (ρ 1 (28 + 13 * w))) = ρ 1 (28 + 13 * w + 0); rw [Int.add_zero]; exact hce)
          | exact (k5 1 (by omega)).symm
          | exact (k5 2 (by omega)).symm
          | exact (k5 3 (by omega)).symm
          | exact (k5 4 (by omega)).symm
    · refine e_bipush dX0_widow_21 rfl ?_
      refine e_ireturn dX0_widow_23 rfl rfl ?_
      refine x_pubi0 ?_
      unfold v_widow
      (repeat' split) <;> first | rfl | omega
theorem C_X0_grief {ρ χ : t_S} {h0 : e_A} {α : Nat → Nat} (A : x_at χ h0 (ρ 1) α) (hz : t_sz ρ) (hr : t_okR (ρ 1)) {w : Int} (hw : e_rg w) {k : Int} (hk : e_rg k) : e_C mX0_grief [.ref 350, e_i w, e_i k] (x_H χ h0) 0 0 4 (x_Pub (e_i (v_grief ρ w k)) χ h0) := by
  have s7 := hz.2.2.2.2.2.1
  have kw1 := hw.1
  have kw2 := hw.2
  have kk1 := hk.1
  have kk2 := hk.2
  refine e_enter (al0 := [.ref 350, e_i w, e_i k]) (by decide +kernel) rfl (Nat.le_of_ble_eq_true rfl) ?_
  refine e_aload_n dX0_grief_0 rfl ?_
  refine e_iload_n dX0_grief_1 rfl ?_
  refine e_i2l dX0_grief_2 ⟨by omega, by omega⟩ ?_
  refine e_callV1rz (ci := 0) dX0_grief_3 md_X0_isWidow lk_X0_138 rfl q1222 qs33 (x_o0 _ _) (by decide) rfl (Nat.le_of_ble_eq_true rfl) (C_X0_isWidow A hz ⟨by omega, by omega⟩) ?_
  refine e_bif_eq (tgt := 13) dX0_grief_6 rfl (fun c1 => ?_) (fun c1 => ?_)
  · refine e_bipush dX0_grief_13 rfl ?_
    refine e_ireturn dX0_grief_15 rfl rfl ?_
    refine x_pubi0 ?_
    unfold v_grief
    (repeat' split) <;> first | rfl | omega
  · refine e_iload_n dX0_grief_9 rfl ?_
    refine e_if_ge (tgt := 16) dX0_grief_10 rfl ⟨by omega, by omega⟩ (fun c2 => ?_) (fun c2 => ?_)
    · have hw0 : 0 ≤ w := by omega
      have hw1 : w < ρ 1 7 := by omega
      have hW := hr.2.2.1 w hw0 hw1
      have hW4 : 1 ≤ t_wd ρ w 4 ∧ t_wd ρ w 4 ≤ 8 := hW.2.2.2.2.1
      obtain ⟨gg, hg1, hg2⟩ := x_aG A hw0 hw1
      refine e_iload_n dX0_grief_16 rfl ?_
      refine e_aload_n dX0_grief_17 rfl ?_
      refine e_iload_n dX0_grief_18 rfl ?_
      refine e_callV1rz (ci := 0) dX0_grief_19 md_X0_widowOf lk_X0_195 rfl q1127 qs24 (x_o0 _ _) (by decide) rfl (Nat.le_of_ble_eq_true rfl) (C_X0_widowOf A hz ⟨hw0, hw1⟩) ?_
      refine e_getV (e_i (t_wd ρ w 4)) dX0_grief_22 fl_X0_234 (x_aW A hw0 hw1) rfl ?_
      refine e_icmp_ge (tgt := 41) dX0_grief_25 rfl ⟨by omega, by omega⟩ ⟨by omega, by omega⟩ (fun c3 => ?_) (fun c3 => ?_)
      · refine e_iconst dX0_grief_41 ?_
        refine e_ireturn dX0_grief_42 rfl rfl ?_
        refine x_pubi0 ?_
        unfold v_grief
        (repeat' split) <;> first | rfl | omega
      · refine e_aload_n dX0_grief_28 rfl ?_
        refine e_iload_n dX0_grief_29 rfl ?_
        refine e_callV1rz (ci := 0) dX0_grief_30 md_X0_widowOf lk_X0_195 rfl q1127 qs24 (x_o0 _ _) (by decide) rfl (Nat.le_of_ble_eq_true rfl) (C_X0_widowOf A hz ⟨hw0, hw1⟩) ?_
        refine e_getV (.ref (α (20 + w.toNat))) dX0_grief_33 fl_X0_236 (x_aW A hw0 hw1) rfl ?_
        refine e_iload_n dX0_grief_36 rfl ?_
        refine e_iald k.toNat dX0_grief_37 hg1 (Or.inl rfl) (Int.toNat_of_nonneg (by omega)).symm (by omega) (by omega) ?_
        rw [hg2 k (by omega) (show k < t_wd ρ w 4 by omega)]
        show e_E _ _ _ (e_i (t_wd ρ w (5 + k)) :: _) _ _ _ _ _
        refine e_goto (tgt := 42) dX0_grief_38 rfl ?_
        refine e_ireturn dX0_grief_42 rfl rfl ?_
        refine x_pubi0 ?_
        unfold v_grief
        (repeat' split) <;> first | rfl | omega
    · refine e_bipush dX0_grief_13 rfl ?_
      refine e_ireturn dX0_grief_15 rfl rfl ?_
      refine x_pubi0 ?_
      unfold v_grief
      (repeat' split) <;> first | rfl | omega
theorem C_X0_evening {ρ χ : t_S} {h0 : e_A} {α : Nat → Nat} (q : x_Q ρ χ h0 α) {y : Int} (hy : e_rg y) : e_C mX0_evening [.ref 350, e_i y] (x_H χ h0) 3 12 7 (x_Pub (e_i (v_evening ρ y)) χ h0) := by
  obtain ⟨A, hz, hr, F, hIs, hI⟩ := q
  have s0 : 0 ≤ ρ 1 0 ∧ ρ 1 0 ≤ 12 := hz.1
  have s3 := hz.2.1
  have s4 := hz.2.2.1
  have s5 := hz.2.2.2.1
  have s6 := hz.2.2.2.2.1
  have s7 := hz.2.2.2.2.2.1
  have ky1 := hy.1
  have ky2 := hy.2
  have hA0 := A
  refine e_enter (al0 := [.ref 350, e_i y, .retAddr 0, .retAddr 0]) (by decide +kernel) rfl (Nat.le_of_ble_eq_true rfl) ?_
  refine e_aload_n dX0_evening_0 rfl ?_
  refine e_getV (.ref (α 0)) dX0_evening_1 fl_X0_47 (x_o0 _ _) (x_now A) ?_
  refine e_callV0rz (ci := 2) dX0_evening_4 md_X2_is lk_X0_98 rfl q1034 q1035 (x_aC A) (by decide) rfl (Nat.le_of_ble_eq_true rfl) (C_X2_is A hz) ?_
  refine e_bif_eq (tgt := 29) dX0_evening_7 rfl (fun c1 => ?_) (fun c1 => ?_)
  · refine e_bipush dX0_evening_29 rfl ?_
    refine e_ireturn dX0_evening_31 rfl rfl ?_
    first
      | (refine x_pubi ?_ (x_f34 hfr) he1
         unfold v_evening
         (repeat' split) <;> first | rfl | omega | (omega))
      | (refine x_pubi0 ?_
         unfold v_evening
         (repeat' split) <;> first | rfl | omega)
  · refine e_iload_n dX0_evening_10 rfl ?_
    refine e_i2l dX0_evening_11 ⟨by omega, by omega⟩ ?_
    refine e_lconst (z := 0) dX0_evening_12 rfl ?_
    refine e_aload_n dX0_evening_13 rfl ?_
    refine e_getV (.ref (α 0)) dX0_evening_14 fl_X0_47 (x_o0 _ _) (x_now A) ?_
    refine e_getV (e_i _) dX0_evening_17 fl_X0_142 (x_aC A) rfl ?_
    refine e_iconst dX0_evening_20 ?_
    refine e_isub dX0_evening_21 ?_
    refine e_i2l dX0_evening_22 ⟨by omega, by omega⟩ ?_
    refine e_callS3rz dX0_evening_23 md_X0_in lk_X0_11 rfl q186 rfl (Nat.le_of_ble_eq_true rfl) (C_X0_in ⟨by omega, by omega⟩ ⟨by omega, by omega⟩ ⟨by omega, by omega⟩) ?_
    refine e_bif_ne (tgt := 32) dX0_evening_26 rfl (fun c2 => ?_) (fun c2 => ?_)
    · refine e_aload_n dX0_evening_32 rfl ?_
      refine e_bud (kc1 := 0 + 3) (ks1 := 0 + 12) (by decide) (by decide) ?_
      refine e_callV0 (M1 := mX0_is) (kc := 0) (ks := 0) (mc := 3) (ms := 12) (ci := 0) dX0_evening_33 lk_X0_194 md_X0_is rfl q1047 qs21 (x_o0 _ _) (by decide) rfl (Nat.le_of_ble_eq_true rfl) (hIs) (fun a hh q => ?_) (fun i hh q => by cases q.1)
      obtain ⟨q1, χ1, h1, N, hfr, he1, rfl⟩ := q
      cases q1
      show e_E _ _ _ (_ :: _) _ _ _ _ _
      have A1 := x_at_1 A hfr he1
      refine e_pop dX0_evening_36 rfl ?_
      refine e_iconst dX0_evening_37 ?_
      refine e_istore_n2 dX0_evening_38 rfl ?_
      refine e_iconst dX0_evening_39 ?_
      refine e_istore_n3 dX0_evening_40 rfl ?_
      refine e_for (n := ρ 1 7) (fun w => e_E mX0_evening 41 [.ref 350, e_i y, e_i (t_msk (t_evg ρ y) w.toNat), e_i w] [] (x_H χ1 h1) _ _ _ _) (by omega) ?_ (fun w hw0 hw1 hF => ?_)
      · refine e_iload_n dX0_evening_41 rfl ?_
        refine e_aload_n dX0_evening_42 rfl ?_
        refine e_callV0rz (ci := 0) dX0_evening_43 md_X0_many lk_X0_126 rfl q1121 qs23 (x_o0 _ _) (by decide) rfl (Nat.le_of_ble_eq_true rfl) (C_X0_many A1 hz) ?_
        refine e_icmp_ge (tgt := 90) dX0_evening_46 rfl ⟨by omega, by omega⟩ ⟨by omega, by omega⟩ (fun c3 => ?_) (fun q => by exfalso; omega)
        refine e_iload_n dX0_evening_90 rfl ?_
        refine e_ireturn dX0_evening_91 rfl rfl ?_
        first
          | (refine x_pubi ?_ (x_f34 hfr) he1
             unfold v_evening
             (repeat' split) <;> first | rfl | omega | (omega))
          | (refine x_pubi0 ?_
             unfold v_evening
             (repeat' split) <;> first | rfl | omega)
      · have hm := t_msk_rg (t_evg ρ y) w.toNat
        have rc := N.1.2.2.2 w hw0 hw1
        have rc1 := rc.2.1
        have rc2 := rc.1
        have hW3 : 0 ≤ t_wd ρ w 3 ∧ t_wd ρ w 3 < 12 := (hr.2.2.1 w hw0 hw1).2.2.2.1
        refine e_iload_n dX0_evening_41 rfl ?_
        refine e_aload_n dX0_evening_42 rfl ?_
        refine e_callV0rz (ci := 0) dX0_evening_43 md_X0_many lk_X0_126 rfl q1121 qs23 (x_o0 _ _) (by decide) rfl (Nat.le_of_ble_eq_true rfl) (C_X0_many A1 hz) ?_
        refine e_icmp_ge (tgt := 90) dX0_evening_46 rfl ⟨by omega, by omega⟩ ⟨by omega, by omega⟩ (fun q => by exfalso; omega) (fun c4 => ?_)
        refine e_iload_n dX0_evening_49 rfl ?_
        refine e_aload_n dX0_evening_50 rfl ?_
        refine e_iload_n dX0_evening_51 rfl ?_
        refine e_callV1rz (ci := 0) dX0_evening_52 md_X0_widowOf lk_X0_195 rfl q1127 qs24 (x_o0 _ _) (by decide) rfl (Nat.le_of_ble_eq_true rfl) (C_X0_widowOf A1 hz ⟨hw0, hw1⟩) ?_
        refine e_getV (e_i (t_wd ρ w 3)) dX0_evening_55 fl_X0_199 (x_aW A1 hw0 hw1) rfl ?_
        refine e_iload_n dX0_evening_58 rfl ?_
        refine e_icmp_ne (tgt := 81) dX0_evening_59 rfl ⟨by omega, by omega⟩ ⟨by omega, by omega⟩ (fun c5 => ?_) (fun c5 => ?_)
        · refine e_iconst dX0_evening_81 ?_
          refine e_ior dX0_evening_82 (by first | exact e_or_0 _ | exact e_or_top ⟨by omega, by omega⟩ hm) ?_
          refine e_istore_n2 dX0_evening_83 rfl ?_
          refine e_iinc3 dX0_evening_84 rfl ?_
          refine e_goto (tgt := 41) dX0_evening_87 rfl ?_
          first
            | (rw [t_msk_1 (g := t_evg ρ y) hw0 (if_pos ⟨by omega, by omega⟩)] at hF; exact hF)
            | (rw [t_msk_0 (g := t_evg ρ y) hw0 (if_neg (fun q => by omega))] at hF; exact hF)
        · refine e_aload_n dX0_evening_62 rfl ?_
          refine e_getV (.ref 366) dX0_evening_63 fl_X0_68 (x_o0 _ _) rfl ?_
          refine e_getV (.ref (x_ai 11)) dX0_evening_66 fl_X0_202 (x_o3 _ _) rfl ?_
          refine e_iload_n dX0_evening_69 rfl ?_
          refine x_ild 7 dX0_evening_70 rfl (by decide) (fun _ => rfl) rfl ⟨by omega, by omega⟩ ?_
          refine e_iconst dX0_evening_71 ?_
          refine e_icmp_eq (tgt := 81) dX0_evening_72 rfl ⟨by omega, by omega⟩ ⟨by omega, by omega⟩ (fun c6 => ?_) (fun c6 => ?_)
          · refine e_iconst dX0_evening_81 ?_
            refine e_ior dX0_evening_82 (by first | exact e_or_0 _ | exact e_or_top ⟨by omega, by omega⟩ hm) ?_
            refine e_istore_n2 dX0_evening_83 rfl ?_
            refine e_iinc3 dX0_evening_84 rfl ?_
            refine e_goto (tgt := 41) dX0_evening_87 rfl ?_
            first
              | (rw [t_msk_1 (g := t_evg ρ y) hw0 (if_pos ⟨by omega, by omega⟩)] at hF; exact hF)
              | (rw [t_msk_0 (g := t_evg ρ y) hw0 (if_neg (fun q => by omega))] at hF; exact hF)
          · refine e_iconst dX0_evening_75 ?_
            refine e_iload_n dX0_evening_76 rfl ?_
            refine e_ishl dX0_evening_77 (t_shl1 ⟨by omega, by omega⟩) ?_
            refine e_goto (tgt := 82) dX0_evening_78 rfl ?_
            refine e_ior dX0_evening_82 (by first | exact e_or_0 _ | exact e_or_top ⟨by omega, by omega⟩ hm) ?_
            refine e_istore_n2 dX0_evening_83 rfl ?_
            refine e_iinc3 dX0_evening_84 rfl ?_
            refine e_goto (tgt := 41) dX0_evening_87 rfl ?_
            first
              | (rw [t_msk_1 (g := t_evg ρ y) hw0 (if_pos ⟨by omega, by omega⟩)] at hF; exact hF)
              | (rw [t_msk_0 (g := t_evg ρ y) hw0 (if_neg (fun q => by omega))] at hF; exact hF)
    · refine e_bipush dX0_evening_29 rfl ?_
      refine e_ireturn dX0_evening_31 rfl rfl ?_
      first
        | (refine x_pubi ?_ (x_f34 hfr) he1
           unfold v_evening
           (repeat' split) <;> first | rfl | omega | (omega))
        | (refine x_pubi0 ?_
           unfold v_evening
           (repeat' split) <;> first | rfl | omega)
theorem C_X0_road {ρ χ : t_S} {h0 : e_A} {α : Nat → Nat} (q : x_Q ρ χ h0 α) {c : Int} (hc : e_rg c) {y : Int} (hy : e_rg y) : e_C mX0_road [.ref 350, e_i c, e_i y] (x_H χ h0) 3 12 7 (x_Pub (e_i (v_road ρ c y)) χ h0) := by
  obtain ⟨A, hz, hr, F, hIs, hI⟩ := q
  have s0 : 0 ≤ ρ 1 0 ∧ ρ 1 0 ≤ 12 := hz.1
  have s3 := hz.2.1
  have s4 := hz.2.2.1
  have s5 := hz.2.2.2.1
  have s6 := hz.2.2.2.2.1
  have s7 := hz.2.2.2.2.2.1
  have kc1 := hc.1
  have kc2 := hc.2
  have ky1 := hy.1
  have ky2 := hy.2
  refine e_enter (al0 := [.ref 350, e_i c, e_i y]) (by decide +kernel) rfl (Nat.le_of_ble_eq_true rfl) ?_
  refine e_aload_n dX0_road_0 rfl ?_
  refine e_iload_n dX0_road_1 rfl ?_
  refine e_iload_n dX0_road_2 rfl ?_
  refine e_callV2rz (ci := 0) dX0_road_3 md_X0_isThen lk_X0_272 rfl q1308 qs38 (x_o0 _ _) (by decide) rfl (Nat.le_of_ble_eq_true rfl) (C_X0_isThen A hz ⟨by omega, by omega⟩ ⟨by omega, by omega⟩) ?_
  refine e_bif_eq (tgt := 30) dX0_road_6 rfl (fun c1 => ?_) (fun c1 => ?_)
  · refine e_bipush dX0_road_30 rfl ?_
    refine e_ireturn dX0_road_32 rfl rfl ?_
    first
      | (refine x_pubi ?_ (x_f34 hfr) he1
         rw [b3]
         unfold v_road
         rw [if_pos ⟨⟨by omega, by omega, by omega⟩, by omega, by omega, by omega, by omega⟩])
      | (refine x_pubi0 ?_
         unfold v_road
         rw [if_neg (fun q => by omega)])
  · refine e_aload_n dX0_road_9 rfl ?_
    refine e_bud (kc1 := 0 + 3) (ks1 := 0 + 12) (by decide) (by decide) ?_
    refine e_callV0 (M1 := mX0_is) (kc := 0) (ks := 0) (mc := 3) (ms := 12) (ci := 0) dX0_road_10 lk_X0_194 md_X0_is rfl q1047 qs21 (x_o0 _ _) (by decide) rfl (Nat.le_of_ble_eq_true rfl) (hIs) (fun a hh q => ?_) (fun i hh q => by cases q.1)
    obtain ⟨q1, χ1, h1, N, hfr, he1, rfl⟩ := q
    cases q1
    show e_E _ _ _ (_ :: _) _ _ _ _ _
    have A1 := x_at_1 A hfr he1
    have h8 := x_ok8 hz (c := c) ⟨by omega, by omega, by omega, by omega⟩
    obtain ⟨b1, b2, b3, b4⟩ := x_rdb N F (y := y) ⟨by omega, by omega⟩ rfl h8
    refine e_getV (.ref (x_ai 18)) dX0_road_13 fl_X0_275 (x_o3 _ _) rfl ?_
    refine e_iload_n dX0_road_16 rfl ?_
    refine x_lld 13 dX0_road_17 rfl (by decide) (fun _ => rfl) rfl ⟨by omega, by omega⟩ ?_
    refine e_iload_n dX0_road_18 rfl ?_
    refine e_i2l dX0_road_19 ⟨by omega, by omega⟩ ?_
    refine e_callS1rz dX0_road_20 md_X0_spotOf lk_X0_213 rfl q1212 rfl (Nat.le_of_ble_eq_true rfl) (C_X0_spotOf8 h8) ?_
    refine e_lshr dX0_road_23 (e_lshr_law _ b2) ?_
    refine e_lconst (z := 1) dX0_road_24 rfl ?_
    refine e_land dX0_road_25 (e_lbit_law b1 b2) ?_
    refine e_l2i dX0_road_26 ?_
    refine e_goto (tgt := 32) dX0_road_27 rfl ?_
    refine e_ireturn dX0_road_32 rfl rfl ?_
    first
      | (refine x_pubi ?_ (x_f34 hfr) he1
         rw [b3]
         unfold v_road
         rw [if_pos ⟨⟨by omega, by omega, by omega⟩, by omega, by omega, by omega, by omega⟩])
      | (refine x_pubi0 ?_
         unfold v_road
         rw [if_neg (fun q => by omega)])
theorem C_X0_roads {ρ χ : t_S} {h0 : e_A} {α : Nat → Nat} (q : x_Q ρ χ h0 α) {y : Int} (hy : e_rg y) : e_C mX0_roads [.ref 350, e_i y] (x_H χ h0) 3 12 7 (x_Pub (e_i (v_roads ρ y)) χ h0) := by
  obtain ⟨A, hz, hr, F, hIs, hI⟩ := q
  have s0 : 0 ≤ ρ 1 0 ∧ ρ 1 0 ≤ 12 := hz.1
  have s3 := hz.2.1
  have s4 := hz.2.2.1
  have s5 := hz.2.2.2.1
  have s6 := hz.2.2.2.2.1
  have s7 := hz.2.2.2.2.2.1
  have ky1 := hy.1
  have ky2 := hy.2
  refine e_enter (al0 := [.ref 350, e_i y]) (by decide +kernel) rfl (Nat.le_of_ble_eq_true rfl) ?_
  refine e_aload_n dX0_roads_0 rfl ?_
  refine e_iload_n dX0_roads_1 rfl ?_
  refine e_callV1rz (ci := 0) dX0_roads_2 md_X0_isYear lk_X0_269 rfl q1312 qs39 (x_o0 _ _) (by decide) rfl (Nat.le_of_ble_eq_true rfl) (C_X0_isYear A hz ⟨by omega, by omega⟩) ?_
  refine e_bif_eq (tgt := 23) dX0_roads_5 rfl (fun c1 => ?_) (fun c1 => ?_)
  · refine e_bipush dX0_roads_23 rfl ?_
    refine e_ireturn dX0_roads_25 rfl rfl ?_
    first
      | (refine x_pubi ?_ (x_f34 hfr) he1
         unfold v_roads
         (repeat' split) <;> first | rfl | omega | (rw [n1]; exact x_rdm F ⟨by omega, by omega⟩))
      | (refine x_pubi0 ?_
         unfold v_roads
         (repeat' split) <;> first | rfl | omega)
  · refine e_aload_n dX0_roads_8 rfl ?_
    refine e_bud (kc1 := 0 + 3) (ks1 := 0 + 12) (by decide) (by decide) ?_
    refine e_callV0 (M1 := mX0_is) (kc := 0) (ks := 0) (mc := 3) (ms := 12) (ci := 0) dX0_roads_9 lk_X0_194 md_X0_is rfl q1047 qs21 (x_o0 _ _) (by decide) rfl (Nat.le_of_ble_eq_true rfl) (hIs) (fun a hh q => ?_) (fun i hh q => by cases q.1)
    obtain ⟨q1, χ1, h1, N, hfr, he1, rfl⟩ := q
    cases q1
    show e_E _ _ _ (_ :: _) _ _ _ _ _
    have A1 := x_at_1 A hfr he1
    have n1 := (N.2 y (by omega) (by omega)).1
    refine e_getV (.ref (x_ai 18)) dX0_roads_12 fl_X0_275 (x_o3 _ _) rfl ?_
    refine e_iload_n dX0_roads_15 rfl ?_
    refine x_lld 13 dX0_roads_16 rfl (by decide) (fun _ => rfl) rfl ⟨by omega, by omega⟩ ?_
    refine e_callS1rz dX0_roads_17 md_J17_bitCount lk_X0_252 rfl q1254 rfl (Nat.le_of_ble_eq_true rfl) (C_J17_bitCount (by rw [n1]; exact x_bs_rg _)) ?_
    refine e_goto (tgt := 25) dX0_roads_20 rfl ?_
    refine e_ireturn dX0_roads_25 rfl rfl ?_
    first
      | (refine x_pubi ?_ (x_f34 hfr) he1
         unfold v_roads
         (repeat' split) <;> first | rfl | omega | (rw [n1]; exact x_rdm F ⟨by omega, by omega⟩))
      | (refine x_pubi0 ?_
         unfold v_roads
         (repeat' split) <;> first | rfl | omega)
theorem C_X0_pegs {ρ χ : t_S} {h0 : e_A} {α : Nat → Nat} (q : x_Q ρ χ h0 α) {y : Int} (hy : e_rg y) : e_C mX0_pegs [.ref 350, e_i y] (x_H χ h0) 3 12 7 (x_Pub (e_i (v_pegs ρ y)) χ h0) := by
  obtain ⟨A, hz, hr, F, hIs, hI⟩ := q
  have s0 : 0 ≤ ρ 1 0 ∧ ρ 1 0 ≤ 12 := hz.1
  have s3 := hz.2.1
  have s4 := hz.2.2.1
  have s5 := hz.2.2.2.1
  have s6 := hz.2.2.2.2.1
  have s7 := hz.2.2.2.2.2.1
  have ky1 := hy.1
  have ky2 := hy.2
  refine e_enter (al0 := [.ref 350, e_i y]) (by decide +kernel) rfl (Nat.le_of_ble_eq_true rfl) ?_
  refine e_aload_n dX0_pegs_0 rfl ?_
  refine e_iload_n dX0_pegs_1 rfl ?_
  refine e_callV1rz (ci := 0) dX0_pegs_2 md_X0_isYear lk_X0_269 rfl q1312 qs39 (x_o0 _ _) (by decide) rfl (Nat.le_of_ble_eq_true rfl) (C_X0_isYear A hz ⟨by omega, by omega⟩) ?_
  refine e_bif_eq (tgt := 19) dX0_pegs_5 rfl (fun c1 => ?_) (fun c1 => ?_)
  · refine e_bipush dX0_pegs_19 rfl ?_
    refine e_ireturn dX0_pegs_21 rfl rfl ?_
    first
      | (refine x_pubi ?_ (x_f34 hfr) he1
         unfold v_pegs
         (repeat' split) <;> first | rfl | omega | (omega))
      | (refine x_pubi0 ?_
         unfold v_pegs
         (repeat' split) <;> first | rfl | omega)
  · refine e_aload_n dX0_pegs_8 rfl ?_
    refine e_bud (kc1 := 0 + 3) (ks1 := 0 + 12) (by decide) (by decide) ?_
    refine e_callV0 (M1 := mX0_is) (kc := 0) (ks := 0) (mc := 3) (ms := 12) (ci := 0) dX0_pegs_9 lk_X0_194 md_X0_is rfl q1047 qs21 (x_o0 _ _) (by decide) rfl (Nat.le_of_ble_eq_true rfl) (hIs) (fun a hh q => ?_) (fun i hh q => by cases q.1)
    obtain ⟨q1, χ1, h1, N, hfr, he1, rfl⟩ := q
    cases q1
    show e_E _ _ _ (_ :: _) _ _ _ _ _
    have A1 := x_at_1 A hfr he1
    refine e_iload_n dX0_pegs_12 rfl ?_
    refine e_callV1rz (ci := 3) dX0_pegs_13 md_X3_pegs lk_X0_278 rfl q1323 q1324 (x_o3 _ _) (by decide) rfl (Nat.le_of_ble_eq_true rfl) (C_X3_pegs A1 hz F N ⟨by omega, by omega⟩) ?_
    refine e_goto (tgt := 21) dX0_pegs_16 rfl ?_
    refine e_ireturn dX0_pegs_21 rfl rfl ?_
    first
      | (refine x_pubi ?_ (x_f34 hfr) he1
         unfold v_pegs
         (repeat' split) <;> first | rfl | omega | (omega))
      | (refine x_pubi0 ?_
         unfold v_pegs
         (repeat' split) <;> first | rfl | omega)
theorem C_X0_joins {ρ χ : t_S} {h0 : e_A} {α : Nat → Nat} (q : x_Q ρ χ h0 α) {c : Int} (hc : e_rg c) {y : Int} (hy : e_rg y) : e_C mX0_joins [.ref 350, e_i c, e_i y] (x_H χ h0) 3 12 7 (x_Pub (e_i (v_joins ρ c y)) χ h0) := by
  obtain ⟨A, hz, hr, F, hIs, hI⟩ := q
  have s0 : 0 ≤ ρ 1 0 ∧ ρ 1 0 ≤ 12 := hz.1
  have s3 := hz.2.1
  have s4 := hz.2.2.1
  have s5 := hz.2.2.2.1
  have s6 := hz.2.2.2.2.1
  have s7 := hz.2.2.2.2.2.1
  have kc1 := hc.1
  have kc2 := hc.2
  have ky1 := hy.1
  have ky2 := hy.2
  refine e_enter (al0 := [.ref 350, e_i c, e_i y]) (by decide +kernel) rfl (Nat.le_of_ble_eq_true rfl) ?_
  refine e_aload_n dX0_joins_0 rfl ?_
  refine e_iload_n dX0_joins_1 rfl ?_
  refine e_iload_n dX0_joins_2 rfl ?_
  refine e_callV2rz (ci := 0) dX0_joins_3 md_X0_isThen lk_X0_272 rfl q1308 qs38 (x_o0 _ _) (by decide) rfl (Nat.le_of_ble_eq_true rfl) (C_X0_isThen A hz ⟨by omega, by omega⟩ ⟨by omega, by omega⟩) ?_
  refine e_bif_ne (tgt := 12) dX0_joins_6 rfl (fun c1 => ?_) (fun c1 => ?_)
  · refine e_aload_n dX0_joins_12 rfl ?_
    refine e_bud (kc1 := 0 + 3) (ks1 := 0 + 12) (by decide) (by decide) ?_
    refine e_callV0 (M1 := mX0_is) (kc := 0) (ks := 0) (mc := 3) (ms := 12) (ci := 0) dX0_joins_13 lk_X0_194 md_X0_is rfl q1047 qs21 (x_o0 _ _) (by decide) rfl (Nat.le_of_ble_eq_true rfl) (hIs) (fun a hh q => ?_) (fun i hh q => by cases q.1)
    obtain ⟨q1, χ1, h1, N, hfr, he1, rfl⟩ := q
    cases q1
    show e_E _ _ _ (_ :: _) _ _ _ _ _
    have A1 := x_at_1 A hfr he1
    have h8 := x_ok8 hz (c := c) ⟨by omega, by omega, by omega, by omega⟩
    refine e_pop dX0_joins_16 rfl ?_
    refine e_aload_n dX0_joins_17 rfl ?_
    refine e_iload_n dX0_joins_18 rfl ?_
    refine e_i2l dX0_joins_19 ⟨by omega, by omega⟩ ?_
    refine e_callS1rz dX0_joins_20 md_X0_spotOf lk_X0_213 rfl q1212 rfl (Nat.le_of_ble_eq_true rfl) (C_X0_spotOf8 h8) ?_
    refine e_iload_n dX0_joins_23 rfl ?_
    refine e_callV2rz (ci := 0) dX0_joins_24 md_X0_joinsOf lk_X0_285 rfl q1333 qs40 (x_o0 _ _) (by decide) rfl (Nat.le_of_ble_eq_true rfl) (C_X0_joinsOf A1 hz F N rfl h8 ⟨by omega, by omega⟩) ?_
    refine e_ireturn dX0_joins_27 rfl rfl ?_
    first
      | (refine x_pubi ?_ (x_f34 hfr) he1
         unfold v_joins
         (repeat' split) <;> first | rfl | omega | (omega))
      | (refine x_pubi0 ?_
         unfold v_joins
         (repeat' split) <;> first | rfl | omega)
  · refine e_bipush dX0_joins_9 rfl ?_
    refine e_ireturn dX0_joins_11 rfl rfl ?_
    first
      | (refine x_pubi ?_ (x_f34 hfr) he1
         unfold v_joins
         (repeat' split) <;> first | rfl | omega | (omega))
      | (refine x_pubi0 ?_
         unfold v_joins
         (repeat' split) <;> first | rfl | omega)
theorem C_X0_corners {ρ χ : t_S} {h0 : e_A} {α : Nat → Nat} (q : x_Q ρ χ h0 α) {n : Int} (hn : e_rg n) {y : Int} (hy : e_rg y) : e_C mX0_corners [.ref 350, e_i n, e_i y] (x_H χ h0) 3 12 7 (x_Pub (e_i (v_corners ρ n y)) χ h0) := by
  obtain ⟨A, hz, hr, F, hIs, hI⟩ := q
  have s0 : 0 ≤ ρ 1 0 ∧ ρ 1 0 ≤ 12 := hz.1
  have s3 := hz.2.1
  have s4 := hz.2.2.1
  have s5 := hz.2.2.2.1
  have s6 := hz.2.2.2.2.1
  have s7 := hz.2.2.2.2.2.1
  have kn1 := hn.1
  have kn2 := hn.2
  have ky1 := hy.1
  have ky2 := hy.2
  refine e_enter (al0 := [.ref 350, e_i n, e_i y, .retAddr 0, .retAddr 0]) (by decide +kernel) rfl (Nat.le_of_ble_eq_true rfl) ?_
  refine e_iload_n dX0_corners_0 rfl ?_
  refine e_i2l dX0_corners_1 ⟨by omega, by omega⟩ ?_
  refine e_lconst (z := 0) dX0_corners_2 rfl ?_
  refine e_ldc2 (z := 4) dX0_corners_3 q1224 rfl ?_
  refine e_callS3rz dX0_corners_6 md_X0_in lk_X0_11 rfl q186 rfl (Nat.le_of_ble_eq_true rfl) (C_X0_in ⟨by omega, by omega⟩ ⟨by omega, by omega⟩ ⟨by omega, by omega⟩) ?_
  refine e_bif_eq (tgt := 20) dX0_corners_9 rfl (fun c1 => ?_) (fun c1 => ?_)
  · refine e_bipush dX0_corners_20 rfl ?_
    refine e_ireturn dX0_corners_22 rfl rfl ?_
    first
      | (refine x_pubi ?_ (x_f34 hfr) he1
         unfold v_corners
         (repeat' split) <;> first | rfl | omega | (omega))
      | (refine x_pubi0 ?_
         unfold v_corners
         (repeat' split) <;> first | rfl | omega)
  · refine e_aload_n dX0_corners_12 rfl ?_
    refine e_iload_n dX0_corners_13 rfl ?_
    refine e_callV1rz (ci := 0) dX0_corners_14 md_X0_isYear lk_X0_269 rfl q1312 qs39 (x_o0 _ _) (by decide) rfl (Nat.le_of_ble_eq_true rfl) (C_X0_isYear A hz ⟨by omega, by omega⟩) ?_
    refine e_bif_ne (tgt := 23) dX0_corners_17 rfl (fun c2 => ?_) (fun c2 => ?_)
    · refine e_aload_n dX0_corners_23 rfl ?_
      refine e_bud (kc1 := 0 + 3) (ks1 := 0 + 12) (by decide) (by decide) ?_
      refine e_callV0 (M1 := mX0_is) (kc := 0) (ks := 0) (mc := 3) (ms := 12) (ci := 0) dX0_corners_24 lk_X0_194 md_X0_is rfl q1047 qs21 (x_o0 _ _) (by decide) rfl (Nat.le_of_ble_eq_true rfl) (hIs) (fun a hh q => ?_) (fun i hh q => by cases q.1)
      obtain ⟨q1, χ1, h1, N, hfr, he1, rfl⟩ := q
      cases q1
      show e_E _ _ _ (_ :: _) _ _ _ _ _
      have A1 := x_at_1 A hfr he1
      refine e_pop dX0_corners_27 rfl ?_
      refine e_iconst dX0_corners_28 ?_
      refine e_istore_n3 dX0_corners_29 rfl ?_
      refine e_iconst dX0_corners_30 ?_
      refine e_istore4 dX0_corners_31 rfl ?_
      refine e_for (n := 64) (fun i => e_E mX0_corners 33 [.ref 350, e_i n, e_i y, e_i (t_sum (fun s => t_cog ρ n y (x_ce s)) i.toNat), e_i i] [] (x_H χ1 h1) _ _ _ _) (by omega) ?_ (fun i hi0 hi1 hF => ?_)
      · refine e_iload dX0_corners_33 rfl ?_
        refine e_bipush dX0_corners_35 rfl ?_
        refine e_icmp_ge (tgt := 85) dX0_corners_37 rfl ⟨by omega, by omega⟩ ⟨by omega, by omega⟩ (fun c3 => ?_) (fun q => by exfalso; omega)
        refine e_iload_n dX0_corners_85 rfl ?_
        refine e_ireturn dX0_corners_86 rfl rfl ?_
        refine x_pubi ?_ (x_f34 hfr) he1
        unfold v_corners
        rw [if_pos ⟨by omega, by omega, by omega⟩]
        exact (x_sum_ce (x_cog0 F ⟨by omega, by omega⟩) 8 (Nat.le_refl _)).symm
      · rw [t_sum_s (fun s => t_cog ρ n y (x_ce s)) hi0] at hF
        have h8 := (x_ce_rg (s := i) ⟨by omega, by omega⟩).1
        obtain ⟨b1, b2, b3, b4⟩ := x_rdb N F (y := y) ⟨by omega, by omega⟩ (x_spce (s := i) ⟨by omega, by omega⟩) h8
        have hp := (x_pgF F (y := y) ⟨by omega, by omega⟩ (c := x_ce i) ⟨h8.1, h8.2.1⟩).1
        have hpg : e_bsum (t_pgs ρ (x_ce i) y) 16 = e_bsum (ρ 31 (80 * y + x_ce i)) 16 := rfl
        refine e_iload dX0_corners_33 rfl ?_
        refine e_bipush dX0_corners_35 rfl ?_
        refine e_icmp_ge (tgt := 85) dX0_corners_37 rfl ⟨by omega, by omega⟩ ⟨by omega, by omega⟩ (fun q => by exfalso; omega) (fun c4 => ?_)
        refine e_iload_n dX0_corners_40 rfl ?_
        refine e_aload_n dX0_corners_41 rfl ?_
        refine e_getV (.ref 366) dX0_corners_42 fl_X0_68 (x_o0 _ _) rfl ?_
        refine e_getV (.ref (x_ai 18)) dX0_corners_45 fl_X0_275 (x_o3 _ _) rfl ?_
        refine e_iload_n dX0_corners_48 rfl ?_
        refine x_lld 13 dX0_corners_49 rfl (by decide) (fun _ => rfl) rfl ⟨by omega, by omega⟩ ?_
        refine e_iload dX0_corners_50 rfl ?_
        refine e_callS2rz dX0_corners_52 md_X0_isIn lk_X0_217 rfl q1188 rfl (Nat.le_of_ble_eq_true rfl) (C_X0_isIn b1 b2) ?_
        refine e_bif_eq (tgt := 76) dX0_corners_55 rfl (fun c5 => ?_) (fun c5 => ?_)
        · refine e_iconst dX0_corners_76 ?_
          refine e_iadd dX0_corners_77 ?_
          refine e_istore_n3 dX0_corners_78 rfl ?_
          refine e_iinc4 dX0_corners_79 rfl ?_
          refine e_goto (tgt := 33) dX0_corners_82 rfl ?_
          first
            | (rw [show t_cog ρ n y (x_ce i) = 1 from if_pos ⟨by omega, by omega⟩] at hF; exact hF)
            | (rw [show t_cog ρ n y (x_ce i) = 0 from if_neg (fun q => by have := q.1; have := q.2; omega)] at hF; exact hF)
        · refine e_aload_n dX0_corners_58 rfl ?_
          refine e_iload dX0_corners_59 rfl ?_
          refine e_iload_n dX0_corners_61 rfl ?_
          refine e_callV2rz (ci := 0) dX0_corners_62 md_X0_joinsOf lk_X0_285 rfl q1333 qs40 (x_o0 _ _) (by decide) rfl (Nat.le_of_ble_eq_true rfl) (C_X0_joinsOf A1 hz F N (x_spce (s := i) ⟨by omega, by omega⟩) h8 ⟨by omega, by omega⟩) ?_
          have hq := e_bsum_rg (ρ 31 (80 * y + x_ce i)) 16
          refine e_callS1rz dX0_corners_65 md_X0_size lk_X0_288 rfl q1344 rfl (Nat.le_of_ble_eq_true rfl) (C_X0_size ⟨by omega, by omega⟩) ?_
          refine e_iload_n dX0_corners_68 rfl ?_
          refine e_icmp_ne (tgt := 76) dX0_corners_69 rfl ⟨by omega, by omega⟩ ⟨by omega, by omega⟩ (fun c6 => ?_) (fun c6 => ?_)
          · refine e_iconst dX0_corners_76 ?_
            refine e_iadd dX0_corners_77 ?_
            refine e_istore_n3 dX0_corners_78 rfl ?_
            refine e_iinc4 dX0_corners_79 rfl ?_
            refine e_goto (tgt := 33) dX0_corners_82 rfl ?_
            first
              | (rw [show t_cog ρ n y (x_ce i) = 1 from if_pos ⟨by omega, by omega⟩] at hF; exact hF)
              | (rw [show t_cog ρ n y (x_ce i) = 0 from if_neg (fun q => by have := q.1; have := q.2; omega)] at hF; exact hF)
          · refine e_iconst dX0_corners_72 ?_
            refine e_goto (tgt := 77) dX0_corners_73 rfl ?_
            refine e_iadd dX0_corners_77 ?_
            refine e_istore_n3 dX0_corners_78 rfl ?_
            refine e_iinc4 dX0_corners_79 rfl ?_
            refine e_goto (tgt := 33) dX0_corners_82 rfl ?_
            first
              | (rw [show t_cog ρ n y (x_ce i) = 1 from if_pos ⟨by omega, by omega⟩] at hF; exact hF)
              | (rw [show t_cog ρ n y (x_ce i) = 0 from if_neg (fun q => by have := q.1; have := q.2; omega)] at hF; exact hF)
    · refine e_bipush dX0_corners_20 rfl ?_
      refine e_ireturn dX0_corners_22 rfl rfl ?_
      first
        | (refine x_pubi ?_ (x_f34 hfr) he1
           unfold v_corners
           (repeat' split) <;> first | rfl | omega | (omega))
        | (refine x_pubi0 ?_
           unfold v_corners
           (repeat' split) <;> first | rfl | omega)
theorem C_X0_first {ρ χ : t_S} {h0 : e_A} {α : Nat → Nat} (q : x_Q ρ χ h0 α) {c : Int} (hc : e_rg c) : e_C mX0_first [.ref 350, e_i c] (x_H χ h0) 3 12 7 (x_Pub (e_i (v_first ρ c)) χ h0) := by
  obtain ⟨A, hz, hr, F, hIs, hI⟩ := q
  have s0 : 0 ≤ ρ 1 0 ∧ ρ 1 0 ≤ 12 := hz.1
  have s3 := hz.2.1
  have s4 := hz.2.2.1
  have s5 := hz.2.2.2.1
  have s6 := hz.2.2.2.2.1
  have s7 := hz.2.2.2.2.2.1
  have kc1 := hc.1
  have kc2 := hc.2
  refine e_enter (al0 := [.ref 350, e_i c, .retAddr 0]) (by decide +kernel) rfl (Nat.le_of_ble_eq_true rfl) ?_
  refine e_aload_n dX0_first_0 rfl ?_
  refine e_iload_n dX0_first_1 rfl ?_
  refine e_i2l dX0_first_2 ⟨by omega, by omega⟩ ?_
  refine e_callV1rz (ci := 0) dX0_first_3 md_X0_isCell lk_X0_206 rfl q1207 qs32 (x_o0 _ _) (by decide) rfl (Nat.le_of_ble_eq_true rfl) (C_X0_isCell A hz ⟨by omega, by omega⟩) ?_
  refine e_bif_ne (tgt := 12) dX0_first_6 rfl (fun c1 => ?_) (fun c1 => ?_)
  · refine e_aload_n dX0_first_12 rfl ?_
    refine e_bud (kc1 := 0 + 3) (ks1 := 0 + 12) (by decide) (by decide) ?_
    refine e_callV0 (M1 := mX0_is) (kc := 0) (ks := 0) (mc := 3) (ms := 12) (ci := 0) dX0_first_13 lk_X0_194 md_X0_is rfl q1047 qs21 (x_o0 _ _) (by decide) rfl (Nat.le_of_ble_eq_true rfl) (hIs) (fun a hh q => ?_) (fun i hh q => by cases q.1)
    obtain ⟨q1, χ1, h1, N, hfr, he1, rfl⟩ := q
    cases q1
    show e_E _ _ _ (_ :: _) _ _ _ _ _
    have A1 := x_at_1 A hfr he1
    have h8 := x_ok8 hz (c := c) ⟨by omega, by omega, by omega, by omega⟩
    refine e_pop dX0_first_16 rfl ?_
    refine e_iconst dX0_first_17 ?_
    refine e_istore_n2 dX0_first_18 rfl ?_
    refine e_for (n := (ρ 1 0 + 1)) (fun i => t_fnd (t_rdo ρ c) (ρ 1 0 + 1).toNat 0 = t_fnd (t_rdo ρ c) ((ρ 1 0 + 1) - i).toNat i → e_E mX0_first 19 [.ref 350, e_i c, e_i i] [] (x_H χ1 h1) _ _ _ _) (by omega) (fun hV => ?_) (fun i hi0 hi1 hF hV => ?_) (by rw [Int.sub_zero])
    · rw [Int.sub_self] at hV
      refine e_iload_n dX0_first_19 rfl ?_
      refine e_aload_n dX0_first_20 rfl ?_
      refine e_getV (.ref (α 0)) dX0_first_21 fl_X0_47 (x_o0 _ _) (x_now A1) ?_
      refine e_getV (e_i _) dX0_first_24 fl_X0_142 (x_aC A1) rfl ?_
      refine e_icmp_gt (tgt := 58) dX0_first_27 rfl ⟨by omega, by omega⟩ ⟨by omega, by omega⟩ (fun c2 => ?_) (fun q => by exfalso; omega)
      refine e_iconst dX0_first_58 ?_
      refine e_ireturn dX0_first_59 rfl rfl ?_
      refine x_pubi ?_ (x_f34 hfr) he1
      unfold v_first
      rw [if_pos (by omega)]
      exact hV.symm
    · rw [t_fnd_s _ hi1] at hV
      obtain ⟨b1, b2, b3, b4⟩ := x_rdb N F (y := i) ⟨by omega, by omega⟩ rfl h8
      refine e_iload_n dX0_first_19 rfl ?_
      refine e_aload_n dX0_first_20 rfl ?_
      refine e_getV (.ref (α 0)) dX0_first_21 fl_X0_47 (x_o0 _ _) (x_now A1) ?_
      refine e_getV (e_i _) dX0_first_24 fl_X0_142 (x_aC A1) rfl ?_
      refine e_icmp_gt (tgt := 58) dX0_first_27 rfl ⟨by omega, by omega⟩ ⟨by omega, by omega⟩ (fun q => by exfalso; omega) (fun c3 => ?_)
      refine e_aload_n dX0_first_30 rfl ?_
      refine e_getV (.ref 366) dX0_first_31 fl_X0_68 (x_o0 _ _) rfl ?_
      refine e_getV (.ref (x_ai 18)) dX0_first_34 fl_X0_275 (x_o3 _ _) rfl ?_
      refine e_iload_n dX0_first_37 rfl ?_
      refine x_lld 13 dX0_first_38 rfl (by decide) (fun _ => rfl) rfl ⟨by omega, by omega⟩ ?_
      refine e_iload_n dX0_first_39 rfl ?_
      refine e_i2l dX0_first_40 ⟨by omega, by omega⟩ ?_
      refine e_callS1rz dX0_first_41 md_X0_spotOf lk_X0_213 rfl q1212 rfl (Nat.le_of_ble_eq_true rfl) (C_X0_spotOf8 h8) ?_
      refine e_callS2rz dX0_first_44 md_X0_isIn lk_X0_217 rfl q1188 rfl (Nat.le_of_ble_eq_true rfl) (C_X0_isIn b1 b2) ?_
      refine e_bif_eq (tgt := 52) dX0_first_47 rfl (fun k1 => ?_) (fun k1 => ?_)
      · refine e_iinc2 dX0_first_52 rfl ?_
        refine e_goto (tgt := 19) dX0_first_55 rfl ?_
        exact hF (hV.trans (if_neg (by omega)))
      · refine e_iload_n dX0_first_50 rfl ?_
        refine e_ireturn dX0_first_51 rfl rfl ?_
        refine x_pubi ?_ (x_f34 hfr) he1
        unfold v_first
        rw [if_pos (by omega), hV, if_pos (by omega)]
  · refine e_bipush dX0_first_9 rfl ?_
    refine e_ireturn dX0_first_11 rfl rfl ?_
    first
      | (refine x_pubi ?_ (x_f34 hfr) he1
         unfold v_first
         (repeat' split) <;> first | rfl | omega | (omega))
      | (refine x_pubi0 ?_
         unfold v_first
         (repeat' split) <;> first | rfl | omega)
theorem C_X0_walkedOf {ρ χ : t_S} {h0 : e_A} {α : Nat → Nat} (A : x_at χ h0 (ρ 1) α) (hz : t_sz ρ) (F : z_F ρ) (N : x_An ρ χ) {s c : Int} (hs : s = x_sp c) (hc8 : x_c8 c) : e_C mX0_walkedOf [.ref 350, e_i s] (x_H χ h0) 0 0 2 (e_ret (e_i (t_wdo ρ c)) (x_H χ h0)) := by
  have s0 : 0 ≤ ρ 1 0 ∧ ρ 1 0 ≤ 12 := hz.1
  have s3 := hz.2.1
  have s4 := hz.2.2.1
  have s7 := hz.2.2.2.2.2.1
  refine e_enter (al0 := [.ref 350, e_i s, .retAddr 0, .retAddr 0]) (by decide +kernel) rfl (Nat.le_of_ble_eq_true rfl) ?_
  refine e_iconst dX0_walkedOf_0 ?_
  refine e_istore_n2 dX0_walkedOf_1 rfl ?_
  refine e_iconst dX0_walkedOf_2 ?_
  refine e_istore_n3 dX0_walkedOf_3 rfl ?_
  refine e_for (n := ρ 1 7) (fun i => e_E mX0_walkedOf 4 [.ref 350, e_i s, e_i (t_msk (t_wdg ρ c) i.toNat), e_i i] [] (x_H χ h0) _ _ _ _) (by omega) ?_ (fun i hi0 hi1 hF => ?_)
  · refine e_iload_n dX0_walkedOf_4 rfl ?_
    refine e_aload_n dX0_walkedOf_5 rfl ?_
    refine e_callV0rz (ci := 0) dX0_walkedOf_6 md_X0_many lk_X0_126 rfl q1121 qs23 (x_o0 _ _) (by decide) rfl (Nat.le_of_ble_eq_true rfl) (C_X0_many A hz) ?_
    refine e_icmp_ge (tgt := 44) dX0_walkedOf_9 rfl ⟨by omega, by omega⟩ ⟨by omega, by omega⟩ (fun c1 => ?_) (fun q => by exfalso; omega)
    refine e_iload_n dX0_walkedOf_44 rfl ?_
    refine e_ireturn dX0_walkedOf_45 rfl rfl ?_
    exact ⟨rfl, rfl⟩
  · have hm := t_msk_rg (t_wdg ρ c) i.toNat
    obtain ⟨b1, b2, b3, b4⟩ := x_beb N (w := i) ⟨by omega, by omega⟩ hs hc8
    refine e_iload_n dX0_walkedOf_4 rfl ?_
    refine e_aload_n dX0_walkedOf_5 rfl ?_
    refine e_callV0rz (ci := 0) dX0_walkedOf_6 md_X0_many lk_X0_126 rfl q1121 qs23 (x_o0 _ _) (by decide) rfl (Nat.le_of_ble_eq_true rfl) (C_X0_many A hz) ?_
    refine e_icmp_ge (tgt := 44) dX0_walkedOf_9 rfl ⟨by omega, by omega⟩ ⟨by omega, by omega⟩ (fun q => by exfalso; omega) (fun c2 => ?_)
    refine e_iload_n dX0_walkedOf_12 rfl ?_
    refine e_aload_n dX0_walkedOf_13 rfl ?_
    refine e_getV (.ref 366) dX0_walkedOf_14 fl_X0_68 (x_o0 _ _) rfl ?_
    refine e_getV (.ref (x_ai 21)) dX0_walkedOf_17 fl_X0_248 (x_o3 _ _) rfl ?_
    refine e_iload_n dX0_walkedOf_20 rfl ?_
    refine x_lld 7 dX0_walkedOf_21 rfl (by decide) (fun _ => rfl) rfl ⟨by omega, by omega⟩ ?_
    refine e_iload_n dX0_walkedOf_22 rfl ?_
    refine e_callS2rz dX0_walkedOf_23 md_X0_isIn lk_X0_217 rfl q1188 rfl (Nat.le_of_ble_eq_true rfl) (C_X0_isIn b1 b2) ?_
    refine e_bif_eq (tgt := 35) dX0_walkedOf_26 rfl (fun c3 => ?_) (fun c3 => ?_)
    · refine e_iconst dX0_walkedOf_35 ?_
      refine e_ior dX0_walkedOf_36 (by first | exact e_or_0 _ | exact e_or_top ⟨by omega, by omega⟩ hm) ?_
      refine e_istore_n2 dX0_walkedOf_37 rfl ?_
      refine e_iinc3 dX0_walkedOf_38 rfl ?_
      refine e_goto (tgt := 4) dX0_walkedOf_41 rfl ?_
      first
        | (rw [t_msk_1 (g := t_wdg ρ c) hi0 (by show t_in ρ i c = 1; omega)] at hF; exact hF)
        | (rw [t_msk_0 (g := t_wdg ρ c) hi0 (by show t_in ρ i c = 0; omega)] at hF; exact hF)
    · refine e_iconst dX0_walkedOf_29 ?_
      refine e_iload_n dX0_walkedOf_30 rfl ?_
      refine e_ishl dX0_walkedOf_31 (t_shl1 ⟨by omega, by omega⟩) ?_
      refine e_goto (tgt := 36) dX0_walkedOf_32 rfl ?_
      refine e_ior dX0_walkedOf_36 (by first | exact e_or_0 _ | exact e_or_top ⟨by omega, by omega⟩ hm) ?_
      refine e_istore_n2 dX0_walkedOf_37 rfl ?_
      refine e_iinc3 dX0_walkedOf_38 rfl ?_
      refine e_goto (tgt := 4) dX0_walkedOf_41 rfl ?_
      first
        | (rw [t_msk_1 (g := t_wdg ρ c) hi0 (by show t_in ρ i c = 1; omega)] at hF; exact hF)
        | (rw [t_msk_0 (g := t_wdg ρ c) hi0 (by show t_in ρ i c = 0; omega)] at hF; exact hF)
theorem C_X0_walked {ρ χ : t_S} {h0 : e_A} {α : Nat → Nat} (q : x_Q ρ χ h0 α) {c : Int} (hc : e_rg c) : e_C mX0_walked [.ref 350, e_i c] (x_H χ h0) 3 12 7 (x_Pub (e_i (v_walked ρ c)) χ h0) := by
  obtain ⟨A, hz, hr, F, hIs, hI⟩ := q
  have s0 : 0 ≤ ρ 1 0 ∧ ρ 1 0 ≤ 12 := hz.1
  have s3 := hz.2.1
  have s4 := hz.2.2.1
  have s5 := hz.2.2.2.1
  have s6 := hz.2.2.2.2.1
  have s7 := hz.2.2.2.2.2.1
  have kc1 := hc.1
  have kc2 := hc.2
  refine e_enter (al0 := [.ref 350, e_i c]) (by decide +kernel) rfl (Nat.le_of_ble_eq_true rfl) ?_
  refine e_aload_n dX0_walked_0 rfl ?_
  refine e_iload_n dX0_walked_1 rfl ?_
  refine e_i2l dX0_walked_2 ⟨by omega, by omega⟩ ?_
  refine e_callV1rz (ci := 0) dX0_walked_3 md_X0_isCell lk_X0_206 rfl q1207 qs32 (x_o0 _ _) (by decide) rfl (Nat.le_of_ble_eq_true rfl) (C_X0_isCell A hz ⟨by omega, by omega⟩) ?_
  refine e_bif_ne (tgt := 12) dX0_walked_6 rfl (fun c1 => ?_) (fun c1 => ?_)
  · refine e_aload_n dX0_walked_12 rfl ?_
    refine e_bud (kc1 := 0 + 3) (ks1 := 0 + 12) (by decide) (by decide) ?_
    refine e_callV0 (M1 := mX0_is) (kc := 0) (ks := 0) (mc := 3) (ms := 12) (ci := 0) dX0_walked_13 lk_X0_194 md_X0_is rfl q1047 qs21 (x_o0 _ _) (by decide) rfl (Nat.le_of_ble_eq_true rfl) (hIs) (fun a hh q => ?_) (fun i hh q => by cases q.1)
    obtain ⟨q1, χ1, h1, N, hfr, he1, rfl⟩ := q
    cases q1
    show e_E _ _ _ (_ :: _) _ _ _ _ _
    have A1 := x_at_1 A hfr he1
    have h8 := x_ok8 hz (c := c) ⟨by omega, by omega, by omega, by omega⟩
    refine e_pop dX0_walked_16 rfl ?_
    refine e_aload_n dX0_walked_17 rfl ?_
    refine e_iload_n dX0_walked_18 rfl ?_
    refine e_i2l dX0_walked_19 ⟨by omega, by omega⟩ ?_
    refine e_callS1rz dX0_walked_20 md_X0_spotOf lk_X0_213 rfl q1212 rfl (Nat.le_of_ble_eq_true rfl) (C_X0_spotOf8 h8) ?_
    refine e_callV1rz (ci := 0) dX0_walked_23 md_X0_walkedOf lk_X0_314 rfl q1416 qs43 (x_o0 _ _) (by decide) rfl (Nat.le_of_ble_eq_true rfl) (C_X0_walkedOf A1 hz F N rfl h8) ?_
    refine e_ireturn dX0_walked_26 rfl rfl ?_
    first
      | (refine x_pubi ?_ (x_f34 hfr) he1
         unfold v_walked
         (repeat' split) <;> first | rfl | omega | (omega))
      | (refine x_pubi0 ?_
         unfold v_walked
         (repeat' split) <;> first | rfl | omega)
  · refine e_bipush dX0_walked_9 rfl ?_
    refine e_ireturn dX0_walked_11 rfl rfl ?_
    first
      | (refine x_pubi ?_ (x_f34 hfr) he1
         unfold v_walked
         (repeat' split) <;> first | rfl | omega | (omega))
      | (refine x_pubi0 ?_
         unfold v_walked
         (repeat' split) <;> first | rfl | omega)
theorem C_X0_crossing {ρ χ : t_S} {h0 : e_A} {α : Nat → Nat} (q : x_Q ρ χ h0 α) : e_C mX0_crossing [.ref 350] (x_H χ h0) 3 12 7 (x_Pub (e_i (v_crossing ρ)) χ h0) := by
  obtain ⟨A, hz, hr, F, hIs, hI⟩ := q
  have s0 : 0 ≤ ρ 1 0 ∧ ρ 1 0 ≤ 12 := hz.1
  have s3 := hz.2.1
  have s4 := hz.2.2.1
  have s5 := hz.2.2.2.1
  have s6 := hz.2.2.2.2.1
  have s7 := hz.2.2.2.2.2.1
  refine e_enter (al0 := [.ref 350, .retAddr 0, .retAddr 0, .retAddr 0]) (by decide +kernel) rfl (Nat.le_of_ble_eq_true rfl) ?_
  refine e_aload_n dX0_crossing_0 rfl ?_
  refine e_getV (.ref (α 0)) dX0_crossing_1 fl_X0_47 (x_o0 _ _) (x_now A) ?_
  refine e_callV0rz (ci := 2) dX0_crossing_4 md_X2_is lk_X0_98 rfl q1034 q1035 (x_aC A) (by decide) rfl (Nat.le_of_ble_eq_true rfl) (C_X2_is A hz) ?_
  refine e_bif_ne (tgt := 13) dX0_crossing_7 rfl (fun c1 => ?_) (fun c1 => ?_)
  · refine e_aload_n dX0_crossing_13 rfl ?_
    refine e_bud (kc1 := 0 + 3) (ks1 := 0 + 12) (by decide) (by decide) ?_
    refine e_callV0 (M1 := mX0_is) (kc := 0) (ks := 0) (mc := 3) (ms := 12) (ci := 0) dX0_crossing_14 lk_X0_194 md_X0_is rfl q1047 qs21 (x_o0 _ _) (by decide) rfl (Nat.le_of_ble_eq_true rfl) (hIs) (fun a hh q => ?_) (fun i hh q => by cases q.1)
    obtain ⟨q1, χ1, h1, N, hfr, he1, rfl⟩ := q
    cases q1
    show e_E _ _ _ (_ :: _) _ _ _ _ _
    have A1 := x_at_1 A hfr he1
    refine e_pop dX0_crossing_17 rfl ?_
    refine e_iconst dX0_crossing_18 ?_
    refine e_istore_n1 dX0_crossing_19 rfl ?_
    refine e_iconst dX0_crossing_20 ?_
    refine e_istore_n2 dX0_crossing_21 rfl ?_
    refine e_iconst dX0_crossing_22 ?_
    refine e_istore_n3 dX0_crossing_23 rfl ?_
    refine e_for (n := 64) (fun i => e_E mX0_crossing 24 [.ref 350, e_i (t_best (fun s => t_crg ρ (x_ce s)) i.toNat), e_i (if t_best (fun s => t_crg ρ (x_ce s)) i.toNat = -1 then 0 else t_crg ρ (x_ce (t_best (fun s => t_crg ρ (x_ce s)) i.toNat))), e_i i] [] (x_H χ1 h1) _ _ _ _) (by omega) ?_ (fun i hi0 hi1 hF => ?_)
    · have hb := t_best_rg (fun s => t_crg ρ (x_ce s)) (64 : Int).toNat
      refine e_iload_n dX0_crossing_24 rfl ?_
      refine e_bipush dX0_crossing_25 rfl ?_
      refine e_icmp_ge (tgt := 62) dX0_crossing_27 rfl ⟨by omega, by omega⟩ ⟨by omega, by omega⟩ (fun c2 => ?_) (fun q => by exfalso; omega)
      refine e_iload_n dX0_crossing_62 rfl ?_
      refine e_callS1rz dX0_crossing_63 md_X0_cellOf lk_X0_226 rfl q1226 rfl (Nat.le_of_ble_eq_true rfl) (C_X0_cellOf ⟨by omega, by omega⟩) ?_
      refine e_ireturn dX0_crossing_66 rfl rfl ?_
      refine x_pubi ?_ (x_f34 hfr) he1
      unfold v_crossing
      rw [if_pos (by omega)]
      exact x_best_ce (x_crg0 F)
    · have h8 := (x_ce_rg (s := i) ⟨by omega, by omega⟩).1
      have hw1 := t_wdo_rg hz (x_ce i)
      have hb := t_best_rg (fun s => t_crg ρ (x_ce s)) i.toNat
      have hv1 := e_bsum_rg (t_wdo ρ (x_ce i)) 16
      have hv2 := e_bsum_rg (t_wdo ρ (x_ce (t_best (fun s => t_crg ρ (x_ce s)) i.toNat))) 16
      have hv3 : t_crg ρ (x_ce i) = e_bsum (t_wdo ρ (x_ce i)) 16 := rfl
      have hv4 : t_crg ρ (x_ce (t_best (fun s => t_crg ρ (x_ce s)) i.toNat)) = e_bsum (t_wdo ρ (x_ce (t_best (fun s => t_crg ρ (x_ce s)) i.toNat))) 16 := rfl
      obtain ⟨m, hm⟩ : ∃ m : Int, (if t_best (fun s => t_crg ρ (x_ce s)) i.toNat = -1 then 0 else t_crg ρ (x_ce (t_best (fun s => t_crg ρ (x_ce s)) i.toNat))) = m := ⟨_, rfl⟩
      have hm0 : 0 ≤ m ∧ m ≤ 16 := by rw [← hm]; split <;> omega
      rw [t_best_s (fun s => t_crg ρ (x_ce s)) hi0] at hF
      rw [hm]
      change e_E _ _ [_, e_i (if (if t_best (fun s => t_crg ρ (x_ce s)) i.toNat = -1 then 0 else t_crg ρ (x_ce (t_best (fun s => t_crg ρ (x_ce s)) i.toNat))) < t_crg ρ (x_ce i) then i else t_best (fun s => t_crg ρ (x_ce s)) i.toNat), e_i (if (if (if t_best (fun s => t_crg ρ (x_ce s)) i.toNat = -1 then 0 else t_crg ρ (x_ce (t_best (fun s => t_crg ρ (x_ce s)) i.toNat))) < t_crg ρ (x_ce i) then i else t_best (fun s => t_crg ρ (x_ce s)) i.toNat) = -1 then 0 else t_crg ρ (x_ce (if (if t_best (fun s => t_crg ρ (x_ce s)) i.toNat = -1 then 0 else t_crg ρ (x_ce (t_best (fun s => t_crg ρ (x_ce s)) i.toNat))) < t_crg ρ (x_ce i) then i else t_best (fun s => t_crg ρ (x_ce s)) i.toNat))), _] _ _ _ _ _ _ at hF
      rw [hm] at hF
      refine e_iload_n dX0_crossing_24 rfl ?_
      refine e_bipush dX0_crossing_25 rfl ?_
      refine e_icmp_ge (tgt := 62) dX0_crossing_27 rfl ⟨by omega, by omega⟩ ⟨by omega, by omega⟩ (fun q => by exfalso; omega) (fun c3 => ?_)
      refine e_aload_n dX0_crossing_30 rfl ?_
      refine e_iload_n dX0_crossing_31 rfl ?_
      refine e_callV1rz (ci := 0) dX0_crossing_32 md_X0_walkedOf lk_X0_314 rfl q1416 qs43 (x_o0 _ _) (by decide) rfl (Nat.le_of_ble_eq_true rfl) (C_X0_walkedOf A1 hz F N (x_spce (s := i) ⟨by omega, by omega⟩) h8) ?_
      refine e_callS1rz dX0_crossing_35 md_X0_size lk_X0_288 rfl q1344 rfl (Nat.le_of_ble_eq_true rfl) (C_X0_size ⟨by omega, by omega⟩) ?_
      refine e_iload_n dX0_crossing_38 rfl ?_
      refine e_icmp_gt (tgt := 45) dX0_crossing_39 rfl ⟨by omega, by omega⟩ ⟨by omega, by omega⟩ (fun c4 => ?_) (fun c4 => ?_)
      · refine e_iload_n dX0_crossing_45 rfl ?_
        refine e_istore_n1 dX0_crossing_46 rfl ?_
        refine e_aload_n dX0_crossing_47 rfl ?_
        refine e_iload_n dX0_crossing_48 rfl ?_
        refine e_callV1rz (ci := 0) dX0_crossing_49 md_X0_walkedOf lk_X0_314 rfl q1416 qs43 (x_o0 _ _) (by decide) rfl (Nat.le_of_ble_eq_true rfl) (C_X0_walkedOf A1 hz F N (x_spce (s := i) ⟨by omega, by omega⟩) h8) ?_
        refine e_callS1rz dX0_crossing_52 md_X0_size lk_X0_288 rfl q1344 rfl (Nat.le_of_ble_eq_true rfl) (C_X0_size ⟨by omega, by omega⟩) ?_
        refine e_istore_n2 dX0_crossing_55 rfl ?_
        refine e_iinc3 dX0_crossing_56 rfl ?_
        refine e_goto (tgt := 24) dX0_crossing_59 rfl ?_
        first
          | (rw [if_pos (show m < t_crg ρ (x_ce i) by omega), if_neg (show ¬ i = -1 by omega), hv3] at hF; exact hF)
          | (rw [if_neg (show ¬ m < t_crg ρ (x_ce i) by omega), hm] at hF; exact hF)
      · refine e_goto (tgt := 56) dX0_crossing_42 rfl ?_
        refine e_iinc3 dX0_crossing_56 rfl ?_
        refine e_goto (tgt := 24) dX0_crossing_59 rfl ?_
        first
          | (rw [if_pos (show m < t_crg ρ (x_ce i) by omega), if_neg (show ¬ i = -1 by omega), hv3] at hF; exact hF)
          | (rw [if_neg (show ¬ m < t_crg ρ (x_ce i) by omega), hm] at hF; exact hF)
  · refine e_bipush dX0_crossing_10 rfl ?_
    refine e_ireturn dX0_crossing_12 rfl rfl ?_
    first
      | (refine x_pubi ?_ (x_f34 hfr) he1
         unfold v_crossing
         (repeat' split) <;> first | rfl | omega | (omega))
      | (refine x_pubi0 ?_
         unfold v_crossing
         (repeat' split) <;> first | rfl | omega)
theorem C_X0_shared {ρ χ : t_S} {h0 : e_A} {α : Nat → Nat} (q : x_Q ρ χ h0 α) {a : Int} (ha : e_rg a) {b : Int} (hb : e_rg b) : e_C mX0_shared [.ref 350, e_i a, e_i b] (x_H χ h0) 3 12 7 (x_Pub (e_i (v_shared ρ a b)) χ h0) := by
  obtain ⟨A, hz, hr, F, hIs, hI⟩ := q
  have s0 : 0 ≤ ρ 1 0 ∧ ρ 1 0 ≤ 12 := hz.1
  have s3 := hz.2.1
  have s4 := hz.2.2.1
  have s5 := hz.2.2.2.1
  have s6 := hz.2.2.2.2.1
  have s7 := hz.2.2.2.2.2.1
  have ka1 := ha.1
  have ka2 := ha.2
  have kb1 := hb.1
  have kb2 := hb.2
  refine e_enter (al0 := [.ref 350, e_i a, e_i b]) (by decide +kernel) rfl (Nat.le_of_ble_eq_true rfl) ?_
  refine e_aload_n dX0_shared_0 rfl ?_
  refine e_iload_n dX0_shared_1 rfl ?_
  refine e_i2l dX0_shared_2 ⟨by omega, by omega⟩ ?_
  refine e_callV1rz (ci := 0) dX0_shared_3 md_X0_isWidow lk_X0_138 rfl q1222 qs33 (x_o0 _ _) (by decide) rfl (Nat.le_of_ble_eq_true rfl) (C_X0_isWidow A hz ⟨by omega, by omega⟩) ?_
  refine e_bif_eq (tgt := 43) dX0_shared_6 rfl (fun c1 => ?_) (fun c1 => ?_)
  · refine e_bipush dX0_shared_43 rfl ?_
    refine e_ireturn dX0_shared_45 rfl rfl ?_
    first
      | (refine x_pubi ?_ (x_f34 hfr) he1
         unfold v_shared
         (repeat' split) <;> first | rfl | omega | (rw [ra, rb]; exact x_shr F ⟨by omega, by omega⟩ ⟨by omega, by omega⟩))
      | (refine x_pubi0 ?_
         unfold v_shared
         (repeat' split) <;> first | rfl | omega)
  · refine e_aload_n dX0_shared_9 rfl ?_
    refine e_iload_n dX0_shared_10 rfl ?_
    refine e_i2l dX0_shared_11 ⟨by omega, by omega⟩ ?_
    refine e_callV1rz (ci := 0) dX0_shared_12 md_X0_isWidow lk_X0_138 rfl q1222 qs33 (x_o0 _ _) (by decide) rfl (Nat.le_of_ble_eq_true rfl) (C_X0_isWidow A hz ⟨by omega, by omega⟩) ?_
    refine e_bif_eq (tgt := 43) dX0_shared_15 rfl (fun c2 => ?_) (fun c2 => ?_)
    · refine e_bipush dX0_shared_43 rfl ?_
      refine e_ireturn dX0_shared_45 rfl rfl ?_
      first
        | (refine x_pubi ?_ (x_f34 hfr) he1
           unfold v_shared
           (repeat' split) <;> first | rfl | omega | (rw [ra, rb]; exact x_shr F ⟨by omega, by omega⟩ ⟨by omega, by omega⟩))
        | (refine x_pubi0 ?_
           unfold v_shared
           (repeat' split) <;> first | rfl | omega)
    · refine e_aload_n dX0_shared_18 rfl ?_
      refine e_bud (kc1 := 0 + 3) (ks1 := 0 + 12) (by decide) (by decide) ?_
      refine e_callV0 (M1 := mX0_is) (kc := 0) (ks := 0) (mc := 3) (ms := 12) (ci := 0) dX0_shared_19 lk_X0_194 md_X0_is rfl q1047 qs21 (x_o0 _ _) (by decide) rfl (Nat.le_of_ble_eq_true rfl) (hIs) (fun a hh q => ?_) (fun i hh q => by cases q.1)
      obtain ⟨q1, χ1, h1, N, hfr, he1, rfl⟩ := q
      cases q1
      show e_E _ _ _ (_ :: _) _ _ _ _ _
      have A1 := x_at_1 A hfr he1
      have ra := (N.1.2.2.2 a (by omega) (by omega)).2.2.2.2.1
      have rb := (N.1.2.2.2 b (by omega) (by omega)).2.2.2.2.1
      refine e_getV (.ref (x_ai 21)) dX0_shared_22 fl_X0_248 (x_o3 _ _) rfl ?_
      refine e_iload_n dX0_shared_25 rfl ?_
      refine x_lld 7 dX0_shared_26 rfl (by decide) (fun _ => rfl) rfl ⟨by omega, by omega⟩ ?_
      refine e_aload_n dX0_shared_27 rfl ?_
      refine e_getV (.ref 366) dX0_shared_28 fl_X0_68 (x_o0 _ _) rfl ?_
      refine e_getV (.ref (x_ai 21)) dX0_shared_31 fl_X0_248 (x_o3 _ _) rfl ?_
      refine e_iload_n dX0_shared_34 rfl ?_
      refine x_lld 7 dX0_shared_35 rfl (by decide) (fun _ => rfl) rfl ⟨by omega, by omega⟩ ?_
      refine e_land dX0_shared_36 (e_land_law (by rw [ra]; exact (x_bs_rg _).1) (by rw [rb]; exact (x_bs_rg _).1)) ?_
      refine e_callS1rz dX0_shared_37 md_J17_bitCount lk_X0_252 rfl q1254 rfl (Nat.le_of_ble_eq_true rfl) (C_J17_bitCount (x_and_rg ra)) ?_
      refine e_goto (tgt := 45) dX0_shared_40 rfl ?_
      refine e_ireturn dX0_shared_45 rfl rfl ?_
      first
        | (refine x_pubi ?_ (x_f34 hfr) he1
           unfold v_shared
           (repeat' split) <;> first | rfl | omega | (rw [ra, rb]; exact x_shr F ⟨by omega, by omega⟩ ⟨by omega, by omega⟩))
        | (refine x_pubi0 ?_
           unfold v_shared
           (repeat' split) <;> first | rfl | omega)
