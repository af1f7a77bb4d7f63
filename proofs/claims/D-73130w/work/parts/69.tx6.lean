/-! THE COMPONENT'S WALKS: houses move (printed by tx6.py) -/
set_option maxRecDepth 100000
theorem C_X3_shifts {ρ χ : t_S} {h0 : e_A} {α : Nat → Nat} (A : x_at χ h0 (ρ 1) α) (hz : t_sz ρ) (hC : t_isC ρ) (hq : χ 22 0 = x_bs (ρ 15)) (hg : x_g01 (ρ 15)) (hr : χ 23 0 = x_bs (ρ 21)) (hg2 : x_g01 (ρ 21)) {w y : Int} (hw : 0 ≤ w ∧ w < 7) (hy : 0 ≤ y ∧ y ≤ 12) (hb : χ 21 w = x_bs (ρ 23)) (hg3 : x_g01 (ρ 23)) (hh : ∀ k : Int, 0 ≤ k → k < ρ 1 6 → (χ 14 (6 * y + k) = x_sp (ρ 25 k) ∧ x_cn (ρ 25 k)) ∧ χ 15 k = ρ 29 k) : e_C mX3_shifts [.ref 366, e_i w, e_i y] (x_H χ h0) 0 0 2 (x_PS w y χ ρ h0) := by
  have s3 := hz.2.1
  have s4 := hz.2.2.1
  have s6 := hz.2.2.2.2.1
  obtain ⟨mc, hl⟩ := x_a3 A
  have A0 := A
  refine e_enter (al0 := [.ref 366, e_i w, e_i y, .retAddr 0, .retAddr 0]) (by decide +kernel) rfl (Nat.le_of_ble_eq_true rfl) ?_
  refine e_aload_n dX3_shifts_0 rfl ?_
  refine e_getV (.ref (x_ai 13)) dX3_shifts_1 fl_X3_25 (x_o3 _ _) rfl ?_
  refine e_iload_n dX3_shifts_4 rfl ?_
  refine e_iconst dX3_shifts_5 ?_
  refine x_ist 7 dX3_shifts_6 rfl (by decide) rfl rfl ⟨by omega, by omega⟩ ?_
  refine e_iconst dX3_shifts_7 ?_
  refine e_istore_n3 dX3_shifts_8 rfl ?_
  refine e_for (n := ρ 1 6) (F := fun k => ∀ χ1, x_Sh w y χ (t_it (t_mhf w) k.toNat (s_up ρ 28 w 0)) χ1 → e_E mX3_shifts 9 [.ref 366, e_i w, e_i y, e_i k, .retAddr 0] [] (x_H χ1 h0) 0 0 2 (x_PS w y χ ρ h0)) (by omega) (fun χ1 hs => ?_) (fun k hk0 hk1 hF χ1 hs => ?_) _ (x_Sh0 hh)
  · have A := x_at_up (congrFun (hs.1 1 (by decide) (by decide) (by decide)) 0) A0
    obtain ⟨mc, hl⟩ := x_a3 A
    refine e_iload_n dX3_shifts_9 rfl ?_
    refine e_aload_n dX3_shifts_10 rfl ?_
    refine e_getV (.ref 350) dX3_shifts_11 fl_X3_3 (x_o3 _ _) rfl ?_
    refine e_getV (.ref (α 0)) dX3_shifts_14 fl_X3_53 (x_o0 _ _) (x_now A) ?_
    refine e_getV (.ref (α 3)) dX3_shifts_17 fl_X3_134 (x_aC A) rfl ?_
    refine e_callF0rz (ci := 11) dX3_shifts_20 md_J2_size if_X3_136 rfl hl.1 (by decide) rfl (Nat.le_of_ble_eq_true rfl) (C_J2_size hl) ?_
    refine e_icmp_ge (tgt := 106) dX3_shifts_25 rfl ⟨by omega, by omega⟩ ⟨by omega, by omega⟩ (fun c1 => ?_) (fun q => by exfalso; omega)
    refine e_return dX3_shifts_106 rfl ?_
    exact ⟨rfl, χ1, hs, rfl⟩
  · have A := x_at_up (congrFun (hs.1 1 (by decide) (by decide) (by decide)) 0) A0
    have kk0 := x_mh_k w ρ k.toNat
    rw [t_it_s _ _ hk0] at hF
    generalize t_it (t_mhf w) k.toNat (s_up ρ 28 w 0) = τ at hF hs kk0
    have e1 := kk0 1 (by decide) (by decide) (by decide)
    have A9 : x_at χ1 h0 (τ 1) α := by rw [e1]; exact A
    have hz9 := t_sz_of e1 hz
    have hC9 : t_isC τ := by unfold t_isC; rw [e1]; exact hC
    have e15 := kk0 15 (by decide) (by decide) (by decide)
    have e21 := kk0 21 (by decide) (by decide) (by decide)
    have e23 := kk0 23 (by decide) (by decide) (by decide)
    have hq9 : χ1 22 0 = x_bs (τ 15) := by rw [e15, hs.1 22 (by decide) (by decide) (by decide)]; exact hq
    have hr9 : χ1 23 0 = x_bs (τ 21) := by rw [e21, hs.1 23 (by decide) (by decide) (by decide)]; exact hr
    have hb9 : χ1 21 w = x_bs (τ 23) := by rw [e23, hs.1 21 (by decide) (by decide) (by decide)]; exact hb
    have g9 : x_g01 (τ 15) := by rw [e15]; exact hg
    have g29 : x_g01 (τ 21) := by rw [e21]; exact hg2
    have g39 : x_g01 (τ 23) := by rw [e23]; exact hg3
    have e6 : τ 1 6 = ρ 1 6 := by rw [e1]
    have hh9 := fun k a b => (hs.2.2.2.2 k a b).1
    obtain ⟨hk1a, hk1b⟩ := hh9 k hk0 (by omega)
    obtain ⟨hsr, hs1⟩ := x_cn_sp hk1b
    have hbr : 0 ≤ χ1 21 w ∧ χ1 21 w < 2 ^ 64 := by rw [hb9]; exact x_bs_rg _
    have hbt : χ1 14 (6 * y + k) ≠ -1 → e_bt (χ1 21 w) (χ1 14 (6 * y + k)) = τ 23 (τ 25 k) ∧ (τ 23 (τ 25 k) = 0 ∨ τ 23 (τ 25 k) = 1) := by rw [hk1a]; exact x_bw hb9 g39 hk1b
    obtain ⟨mc, hl⟩ := x_a3 A
    refine e_iload_n dX3_shifts_9 rfl ?_
    refine e_aload_n dX3_shifts_10 rfl ?_
    refine e_getV (.ref 350) dX3_shifts_11 fl_X3_3 (x_o3 _ _) rfl ?_
    refine e_getV (.ref (α 0)) dX3_shifts_14 fl_X3_53 (x_o0 _ _) (x_now A) ?_
    refine e_getV (.ref (α 3)) dX3_shifts_17 fl_X3_134 (x_aC A) rfl ?_
    refine e_callF0rz (ci := 11) dX3_shifts_20 md_J2_size if_X3_136 rfl hl.1 (by decide) rfl (Nat.le_of_ble_eq_true rfl) (C_J2_size hl) ?_
    refine e_icmp_ge (tgt := 106) dX3_shifts_25 rfl ⟨by omega, by omega⟩ ⟨by omega, by omega⟩ (fun q => by exfalso; omega) (fun c2 => ?_)
    refine e_aload_n dX3_shifts_28 rfl ?_
    refine e_getV (.ref (x_ai 14)) dX3_shifts_29 fl_X3_28 (x_o3 _ _) rfl ?_
    refine e_bipush dX3_shifts_32 rfl ?_
    refine e_iload_n dX3_shifts_34 rfl ?_
    refine e_imul dX3_shifts_35 ?_
    refine e_iload_n dX3_shifts_36 rfl ?_
    refine e_iadd dX3_shifts_37 ?_
    refine x_ild 78 dX3_shifts_38 rfl (by decide) (fun _ => rfl) rfl ⟨by omega, by omega⟩ ?_
    refine e_istore4 dX3_shifts_39 rfl ?_
    refine e_iload dX3_shifts_41 rfl ?_
    refine e_iconst dX3_shifts_43 ?_
    refine e_icmp_eq (tgt := 100) dX3_shifts_44 rfl ⟨by omega, by omega⟩ ⟨by omega, by omega⟩ (fun ca => ?_) (fun ca => ?_)
    · refine e_iinc3 dX3_shifts_100 rfl ?_
      refine e_goto (tgt := 9) dX3_shifts_103 rfl ?_
      refine e_fgt 4 ?_
      first
        | exact hF _ (x_Sh_n hs (Or.inl (by omega)))
        | (have hbt2 := hbt (by omega); exact hF _ (x_Sh_n hs (Or.inr (by omega))))
        | (have hbt2 := hbt (by omega); exact hF _ (x_Sh_s hz9 hs ⟨hk0, by omega⟩ (by omega) (by rw [s_up_f (by decide)]) (by rw [s_up_f (by decide), s_up_f (by decide)])))
    · refine e_aload_n dX3_shifts_47 rfl ?_
      refine e_getV (.ref (x_ai 21)) dX3_shifts_48 fl_X3_50 (x_o3 _ _) rfl ?_
      refine e_iload_n dX3_shifts_51 rfl ?_
      refine x_lld 7 dX3_shifts_52 rfl (by decide) (fun _ => rfl) rfl ⟨by omega, by omega⟩ ?_
      refine e_iload dX3_shifts_53 rfl ?_
      refine e_callS2rz dX3_shifts_55 md_X0_isIn lk_X3_168 rfl q1188 rfl (Nat.le_of_ble_eq_true rfl) (C_X0_isIn hbr ⟨by omega, by omega⟩) ?_
      refine e_bif_ne (tgt := 64) dX3_shifts_58 rfl (fun cb => ?_) (fun cb => ?_)
      · refine e_aload_n dX3_shifts_64 rfl ?_
        refine e_getV (.ref (x_ai 14)) dX3_shifts_65 fl_X3_28 (x_o3 _ _) rfl ?_
        refine e_bipush dX3_shifts_68 rfl ?_
        refine e_iload_n dX3_shifts_70 rfl ?_
        refine e_imul dX3_shifts_71 ?_
        refine e_iload_n dX3_shifts_72 rfl ?_
        refine e_iadd dX3_shifts_73 ?_
        refine e_aload_n dX3_shifts_74 rfl ?_
        refine e_iload_n dX3_shifts_75 rfl ?_
        refine e_callV1rz (ci := 3) dX3_shifts_76 md_X3_freeSpot lk_X3_205 rfl q1197 qs31 (x_o3 _ _) (by decide) rfl (Nat.le_of_ble_eq_true rfl) (C_X3_freeSpot A9 hz9 hC9 hq9 g9 hr9 g29 hy hh9) ?_
        refine x_ist 78 dX3_shifts_79 rfl (by decide) rfl rfl ⟨by omega, by omega⟩ ?_
        refine e_aload_n dX3_shifts_80 rfl ?_
        refine e_getV (.ref (x_ai 15)) dX3_shifts_81 fl_X3_31 (x_o3 _ _) rfl ?_
        refine e_iload_n dX3_shifts_84 rfl ?_
        refine e_dup2 dX3_shifts_85 rfl rfl ?_
        refine x_ild 6 dX3_shifts_86 rfl (by decide) (fun _ => rfl) rfl ⟨by omega, by omega⟩ ?_
        refine e_iconst dX3_shifts_87 ?_
        refine e_iadd dX3_shifts_88 ?_
        refine x_ist 6 dX3_shifts_89 rfl (by decide) rfl rfl ⟨by omega, by omega⟩ ?_
        refine e_aload_n dX3_shifts_90 rfl ?_
        refine e_getV (.ref (x_ai 13)) dX3_shifts_91 fl_X3_25 (x_o3 _ _) rfl ?_
        refine e_iload_n dX3_shifts_94 rfl ?_
        refine e_dup2 dX3_shifts_95 rfl rfl ?_
        refine x_ild 7 dX3_shifts_96 rfl (by decide) (fun _ => rfl) rfl ⟨by omega, by omega⟩ ?_
        refine e_iconst dX3_shifts_97 ?_
        refine e_iadd dX3_shifts_98 ?_
        refine x_ist 7 dX3_shifts_99 rfl (by decide) rfl rfl ⟨by omega, by omega⟩ ?_
        refine e_iinc3 dX3_shifts_100 rfl ?_
        refine e_goto (tgt := 9) dX3_shifts_103 rfl ?_
        refine e_fgt 4 ?_
        first
          | exact hF _ (x_Sh_n hs (Or.inl (by omega)))
          | (have hbt2 := hbt (by omega); exact hF _ (x_Sh_n hs (Or.inr (by omega))))
          | (have hbt2 := hbt (by omega); exact hF _ (x_Sh_s hz9 hs ⟨hk0, by omega⟩ (by omega) (by rw [s_up_f (by decide)]) (by rw [s_up_f (by decide), s_up_f (by decide)])))
      · refine e_goto (tgt := 100) dX3_shifts_61 rfl ?_
        refine e_iinc3 dX3_shifts_100 rfl ?_
        refine e_goto (tgt := 9) dX3_shifts_103 rfl ?_
        refine e_fgt 4 ?_
        first
          | exact hF _ (x_Sh_n hs (Or.inl (by omega)))
          | (have hbt2 := hbt (by omega); exact hF _ (x_Sh_n hs (Or.inr (by omega))))
          | (have hbt2 := hbt (by omega); exact hF _ (x_Sh_s hz9 hs ⟨hk0, by omega⟩ (by omega) (by rw [s_up_f (by decide)]) (by rw [s_up_f (by decide), s_up_f (by decide)])))
