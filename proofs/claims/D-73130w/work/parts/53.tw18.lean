/-! THE TWIN READS A COLONY (printed by tw18.py) -/
set_option maxRecDepth 100000
theorem t_mo_rn1 {σ : t_S} (h : t_rdI σ) : t_mo σ (t_rn1 σ) := by
  unfold t_rn1
  split
  · exact t_mo_rf h
  · exact t_mo_er h ⟨by decide, by decide⟩
theorem t_rn1_14 (σ : t_S) : t_rn1 σ 14 = σ 14 := by
  unfold t_rn1
  split
  · rfl
  · exact t_er_14 1 σ
theorem t_mo_rl1 {σ : t_S} (h : t_rdI σ) : t_mo σ (t_rl1 σ) := by
  unfold t_rl1
  split
  · exact t_mo_rf0 h
  · exact t_mo_rn h
theorem P_rw_86 {h0 : e_A} {k : Int} {Q : e_R → e_A → Prop} (ho : e_old h0) (hk : 0 ≤ k ∧ k ≤ 106) : ∀ (f : Nat) (τ : t_S), t_rdI τ → (0 ≤ τ 14 (k + 4) ∧ τ 14 (k + 4) ≤ 8) → (τ 12 0 = 0 → 9 - τ 14 (k + 4) ≤ f) → e_E mX6_readWidow 109 [.ref 384, e_i k] [] (t_H (t_rtl k f τ) h0) 0 0 8 Q → e_E mX6_readWidow 86 [.ref 384, e_i k] [] (t_H τ h0) 0 0 8 Q
  | 0, τ, hI, h8, hf, hX => by
    have hg : τ 12 0 ≠ 0 := fun w => by have := hf w; omega
    replace hX : e_E mX6_readWidow 109 [.ref 384, e_i k] [] (t_H τ h0) 0 0 8 Q := hX
    refine e_aload_n dX6_readWidow_86 rfl ?_
    refine e_callV0rz (ci := 6) dX6_readWidow_87 md_X6_good lk_X6_163 rfl q1968 qs64 (t_obj _ _) (by decide) rfl (Nat.le_of_ble_eq_true rfl) (C_X6_good hI.2.2.2.2.2) ?_
    refine e_bif_eq (tgt := 109) dX6_readWidow_90 rfl (fun c1 => ?_) (fun q => by exfalso; omega)
    exact hX
  | f + 1, τ, hI, h8, hf, hX => by
    refine e_aload_n dX6_readWidow_86 rfl ?_
    refine e_callV0rz (ci := 6) dX6_readWidow_87 md_X6_good lk_X6_163 rfl q1968 qs64 (t_obj _ _) (by decide) rfl (Nat.le_of_ble_eq_true rfl) (C_X6_good hI.2.2.2.2.2) ?_
    have h10 := hI.2.1
    refine e_bif_eq (tgt := 109) dX6_readWidow_90 rfl (fun c1 => ?_) (fun c1 => ?_)
    · rw [t_rtl_s, if_neg (by omega)] at hX
      exact hX
    · refine e_aload_n dX6_readWidow_93 rfl ?_
      refine t_geti (k := 10) dX6_readWidow_94 fl_X6_139 rfl ?_
      refine e_iconst dX6_readWidow_97 ?_
      refine e_icmp_eq (tgt := 109) dX6_readWidow_98 rfl ⟨by omega, by omega⟩ ⟨by omega, by omega⟩ (fun c2 => ?_) (fun c2 => ?_)
      · rw [t_rtl_s, if_neg (by omega)] at hX
        exact hX
      · refine e_aload_n dX6_readWidow_101 rfl ?_
        refine e_iload_n dX6_readWidow_102 rfl ?_
        refine e_callV1vz (ci := 6) dX6_readWidow_103 md_X6_readTurn lk_X6_237 rfl q2039 qs78 (t_obj _ _) (by decide) rfl (Nat.le_of_ble_eq_true rfl) (C_X6_readTurn hI ho hk h8) ?_
        refine e_goto (tgt := 86) dX6_readWidow_106 rfl ?_
        rw [t_rtl_s, if_pos (by omega)] at hX
        exact P_rw_86 ho hk f _ (t_mo_rt (k := k) hI).1 (t_rt_8 h8) (fun w => by have := (t_rt_14 (σ := τ) h8).1 w; omega) hX
theorem C_X6_readWidow {σ : t_S} {h0 : e_A} (hI : t_rdI σ) (ho : e_old h0) (hf : ∀ j, 0 ≤ j → j < 149 → 0 ≤ σ 14 j ∧ σ 14 j ≤ 2000000) (h5 : σ 14 5 ≤ 12) (h6 : σ 14 6 ≤ 6) (h7 : σ 14 7 ≤ 6) (h8 : σ 14 (28 + 13 * σ 14 7 + 4) = 0) : e_C mX6_readWidow [.ref 384] (t_H σ h0) 0 0 8 (e_rev (t_H (t_rw σ) h0)) := by
  have f7 := hf 7 (by omega) (by omega)
  refine e_enter (al0 := [.ref 384, .retAddr 0]) (by decide +kernel) rfl (Nat.le_of_ble_eq_true rfl) ?_
  refine e_bipush dX6_readWidow_0 rfl ?_
  refine e_bipush dX6_readWidow_2 rfl ?_
  refine e_aload_n dX6_readWidow_4 rfl ?_
  refine t_geta (k := 14) dX6_readWidow_5 fl_X6_31 rfl ?_
  refine e_bipush dX6_readWidow_8 rfl ?_
  refine t_ild 149 dX6_readWidow_10 rfl (by decide) (fun _ => rfl) rfl ⟨by omega, by omega⟩ ?_
  refine e_imul dX6_readWidow_11 ?_
  refine e_iadd dX6_readWidow_12 ?_
  show e_E _ _ _ (e_i (t_rwk σ) :: _) _ _ _ _ _
  have hkr : t_rwk σ = 28 + 13 * σ 14 7 := rfl
  have hk : 0 ≤ t_rwk σ ∧ t_rwk σ ≤ 106 := by omega
  refine e_istore_n1 dX6_readWidow_13 rfl ?_
  refine e_aload_n dX6_readWidow_14 rfl ?_
  refine t_geta (k := 14) dX6_readWidow_15 fl_X6_31 rfl ?_
  refine e_iload_n dX6_readWidow_18 rfl ?_
  refine e_aload_n dX6_readWidow_19 rfl ?_
  refine e_iconst dX6_readWidow_20 ?_
  refine e_callV1rz (ci := 6) dX6_readWidow_21 md_X6_readCell lk_X6_226 rfl q2023 qs75 (t_obj _ _) (by decide) rfl (Nat.le_of_ble_eq_true rfl) (C_X6_readCell hI hf h5 h6 (Or.inl rfl)) ?_
  refine t_ist 149 dX6_readWidow_24 rfl (by decide) rfl rfl ⟨by omega, by omega⟩ ?_
  show e_E _ _ _ _ (t_H (t_rw1 (t_rwk σ) σ) h0) _ _ _ _
  have m1 := (t_mo_rw1 (k := t_rwk σ) hI).1
  refine e_aload_n dX6_readWidow_25 rfl ?_
  refine t_geta (k := 14) dX6_readWidow_26 fl_X6_31 rfl ?_
  refine e_iload_n dX6_readWidow_29 rfl ?_
  refine e_iconst dX6_readWidow_30 ?_
  refine e_iadd dX6_readWidow_31 ?_
  refine e_aload_n dX6_readWidow_32 rfl ?_
  refine e_ldcS 26 dX6_readWidow_33 rfl ?_
  refine e_iconst dX6_readWidow_35 ?_
  refine e_iconst dX6_readWidow_36 ?_
  refine e_callV3rz (ci := 6) dX6_readWidow_37 md_X6_toldBy lk_X6_199 rfl q2000 qs71 (t_obj _ _) (by decide) rfl (Nat.le_of_ble_eq_true rfl) (C_X6_toldBy m1 ho (by decide) ⟨by omega, by omega⟩ ⟨by omega, by omega⟩) ?_
  refine t_ist 149 dX6_readWidow_40 rfl (by decide) rfl rfl ⟨by omega, by omega⟩ ?_
  show e_E _ _ _ _ (t_H (t_rf1 26 0 3 (t_rwk σ + 1) (t_rw1 (t_rwk σ) σ)) h0) _ _ _ _
  have m2 := (t_mo_rf1 (p := 26) (lo := 0) (hi := 3) (k := t_rwk σ + 1) m1).1
  refine e_aload_n dX6_readWidow_41 rfl ?_
  refine t_geta (k := 14) dX6_readWidow_42 fl_X6_31 rfl ?_
  refine e_iload_n dX6_readWidow_45 rfl ?_
  refine e_iconst dX6_readWidow_46 ?_
  refine e_iadd dX6_readWidow_47 ?_
  refine e_aload_n dX6_readWidow_48 rfl ?_
  refine e_ldcS 27 dX6_readWidow_49 rfl ?_
  refine e_iconst dX6_readWidow_51 ?_
  refine e_bipush dX6_readWidow_52 rfl ?_
  refine e_callV3rz (ci := 6) dX6_readWidow_54 md_X6_toldBy lk_X6_199 rfl q2000 qs71 (t_obj _ _) (by decide) rfl (Nat.le_of_ble_eq_true rfl) (C_X6_toldBy m2 ho (by decide) ⟨by omega, by omega⟩ ⟨by omega, by omega⟩) ?_
  refine t_ist 149 dX6_readWidow_57 rfl (by decide) rfl rfl ⟨by omega, by omega⟩ ?_
  show e_E _ _ _ _ (t_H (t_rf1 27 1 40 (t_rwk σ + 2) (t_rf1 26 0 3 (t_rwk σ + 1) (t_rw1 (t_rwk σ) σ))) h0) _ _ _ _
  have m3 := (t_mo_rf1 (p := 27) (lo := 1) (hi := 40) (k := t_rwk σ + 2) m2).1
  refine e_aload_n dX6_readWidow_58 rfl ?_
  refine t_geta (k := 14) dX6_readWidow_59 fl_X6_31 rfl ?_
  refine e_iload_n dX6_readWidow_62 rfl ?_
  refine e_iconst dX6_readWidow_63 ?_
  refine e_iadd dX6_readWidow_64 ?_
  refine e_aload_n dX6_readWidow_65 rfl ?_
  refine e_ldcS 28 dX6_readWidow_66 rfl ?_
  refine e_iconst dX6_readWidow_68 ?_
  refine e_bipush dX6_readWidow_69 rfl ?_
  refine e_callV3rz (ci := 6) dX6_readWidow_71 md_X6_toldBy lk_X6_199 rfl q2000 qs71 (t_obj _ _) (by decide) rfl (Nat.le_of_ble_eq_true rfl) (C_X6_toldBy m3 ho (by decide) ⟨by omega, by omega⟩ ⟨by omega, by omega⟩) ?_
  refine t_ist 149 dX6_readWidow_74 rfl (by decide) rfl rfl ⟨by omega, by omega⟩ ?_
  show e_E _ _ _ _ (t_H (t_rf1 28 0 11 (t_rwk σ + 3) (t_rf1 27 1 40 (t_rwk σ + 2) (t_rf1 26 0 3 (t_rwk σ + 1) (t_rw1 (t_rwk σ) σ)))) h0) _ _ _ _
  have m4 := (t_mo_rf1 (p := 28) (lo := 0) (hi := 11) (k := t_rwk σ + 3) m3).1
  refine e_aload_n dX6_readWidow_75 rfl ?_
  refine e_ldcS 29 dX6_readWidow_76 rfl ?_
  refine e_callV1vz (ci := 6) dX6_readWidow_78 md_X6_expects lk_X6_189 rfl q1981 qs67 (t_obj _ _) (by decide) rfl (Nat.le_of_ble_eq_true rfl) (C_X6_expects m4 ho (by decide)) ?_
  show e_E _ _ _ _ (t_H (t_rw2 (t_rwk σ) σ) h0) _ _ _ _
  have m5 := (t_mo_rw2 (k := t_rwk σ) hI).1
  have c5 : t_rw2 (t_rwk σ) σ 14 (t_rwk σ + 4) = 0 := by
    unfold t_rw2
    rw [t_ex_14, t_rf1_14 _ _ _ _ _ _ (by omega), t_rf1_14 _ _ _ _ _ _ (by omega), t_rf1_14 _ _ _ _ _ _ (by omega)]
    unfold t_rw1
    rw [s_up_j (by omega), t_rc_14]
    exact h8
  refine e_aload_n dX6_readWidow_81 rfl ?_
  refine e_iload_n dX6_readWidow_82 rfl ?_
  refine e_callV1vz (ci := 6) dX6_readWidow_83 md_X6_readTurn lk_X6_237 rfl q2039 qs78 (t_obj _ _) (by decide) rfl (Nat.le_of_ble_eq_true rfl) (C_X6_readTurn m5 ho hk ⟨by omega, by omega⟩) ?_
  refine P_rw_86 ho hk 10 _ (t_mo_rt (k := t_rwk σ) m5).1 (t_rt_8 ⟨by omega, by omega⟩) (fun w => by have := (t_rt_14 (k := t_rwk σ) (σ := t_rw2 (t_rwk σ) σ) ⟨by omega, by omega⟩).1 w; omega) ?_
  show e_E _ _ _ _ (t_H (t_rw3 (t_rwk σ) σ) h0) _ _ _ _
  refine e_aload_n dX6_readWidow_109 rfl ?_
  refine t_geta (k := 14) dX6_readWidow_110 fl_X6_31 rfl ?_
  refine e_bipush dX6_readWidow_113 rfl ?_
  refine e_dup2 dX6_readWidow_115 rfl rfl ?_
  refine t_ild 149 dX6_readWidow_116 rfl (by decide) (fun _ => rfl) rfl ⟨by omega, by omega⟩ ?_
  refine e_iconst dX6_readWidow_117 ?_
  refine e_iadd dX6_readWidow_118 ?_
  refine t_ist 149 dX6_readWidow_119 rfl (by decide) rfl rfl ⟨by omega, by omega⟩ ?_
  refine e_return dX6_readWidow_120 rfl ?_
  exact ⟨rfl, rfl⟩
theorem C_X6_readNext {σ : t_S} {h0 : e_A} (hI : t_rdI σ) (ho : e_old h0) (hf : ∀ j, 0 ≤ j → j < 149 → 0 ≤ σ 14 j ∧ σ 14 j ≤ 2000000) (h5 : σ 14 5 ≤ 12) (h6 : σ 14 6 ≤ 6) (h7 : σ 14 7 ≤ 7) (h8 : σ 14 7 ≠ 7 → σ 14 (28 + 13 * σ 14 7 + 4) = 0) : e_C mX6_readNext [.ref 384] (t_H σ h0) 0 0 9 (e_rev (t_H (t_rn σ) h0)) := by
  have f5 := hf 5 (by omega) (by omega)
  have f6 := hf 6 (by omega) (by omega)
  have f7 := hf 7 (by omega) (by omega)
  refine e_enter (al0 := [.ref 384, .retAddr 0, .retAddr 0]) (by decide +kernel) rfl (Nat.le_of_ble_eq_true rfl) ?_
  refine e_aload_n dX6_readNext_0 rfl ?_
  refine e_ldcS 23 dX6_readNext_1 rfl ?_
  refine e_callV1rz (ci := 6) dX6_readNext_3 md_X6_is lk_X6_175 rfl q1989 qs69 (t_obj _ _) (by decide) rfl (Nat.le_of_ble_eq_true rfl) (C_X6_is hI ho (by decide)) ?_
  refine e_bif_ne (tgt := 27) dX6_readNext_6 rfl (fun c1 => ?_) (fun c1 => ?_)
  · refine e_iconst dX6_readNext_27 ?_
    refine e_goto (tgt := 32) dX6_readNext_28 rfl ?_
    refine e_top (e_i (if t_isv σ 23 = 1 ∨ t_isv σ 24 = 1 ∨ t_isv σ 25 = 1 then 1 else 0)) (by first | rw [if_pos (by omega)] | rw [if_neg (by omega)]) ?_
    refine e_istore_n1 dX6_readNext_32 rfl ?_
    refine e_iload_n dX6_readNext_33 rfl ?_
    refine e_bif_ne (tgt := 42) dX6_readNext_34 rfl (fun c2 => ?_) (fun c2 => ?_)
    · refine e_hp (t_rn1 σ) (by first | (exfalso; omega) | (unfold t_rn1; first | rw [if_pos (by omega)] | rw [if_neg (by omega)])) ?_
      have m1 := (t_mo_rn1 hI).1
      have e1 := t_rn1_14 σ
      have hf1 : ∀ j, 0 ≤ j → j < 149 → 0 ≤ t_rn1 σ 14 j ∧ t_rn1 σ 14 j ≤ 2000000 := fun j a b => by rw [e1]; exact hf j a b
      refine e_aload_n dX6_readNext_42 rfl ?_
      refine e_callV0rz (ci := 6) dX6_readNext_43 md_X6_isFull lk_X6_246 rfl q2019 qs74 (t_obj _ _) (by decide) rfl (Nat.le_of_ble_eq_true rfl) (C_X6_isFull m1 ho hf1) ?_
      refine e_bif_eq (tgt := 54) dX6_readNext_46 rfl (fun c3 => ?_) (fun c3 => ?_)
      · refine e_hp (t_rn2 σ) (by unfold t_rn2; first | rw [if_pos (by assumption)] | rw [if_neg (by assumption)]) ?_
        have m2 := (t_mo_rn2 hI).1
        refine e_fgt 1 ?_
        refine e_aload_n dX6_readNext_54 rfl ?_
        refine e_callV0rz (ci := 6) dX6_readNext_55 md_X6_good lk_X6_163 rfl q1968 qs64 (t_obj _ _) (by decide) rfl (Nat.le_of_ble_eq_true rfl) (C_X6_good m2.2.2.2.2.2) ?_
        refine e_bif_ne (tgt := 62) dX6_readNext_58 rfl (fun c4 => ?_) (fun c4 => ?_)
        · obtain ⟨e2, nf, kn⟩ := t_rn2_g (σ := σ) (by assumption)
          rw [e2]
          have ma := (t_mo_adv hI).1
          have ea := t_adv_14 σ
          have hfa : ∀ j, 0 ≤ j → j < 149 → 0 ≤ t_adv σ 14 j ∧ t_adv σ 14 j ≤ 2000000 := fun j a b => by rw [ea]; exact hf j a b
          
          refine e_aload_n dX6_readNext_62 rfl ?_
          refine e_ldcS 23 dX6_readNext_63 rfl ?_
          refine e_callV1rz (ci := 6) dX6_readNext_65 md_X6_takes lk_X6_182 rfl q1985 qs68 (t_obj _ _) (by decide) rfl (Nat.le_of_ble_eq_true rfl) (C_X6_takes hI ho (by decide)) ?_
          refine e_bif_eq (tgt := 105) dX6_readNext_68 rfl (fun c5 => ?_) (fun c5 => ?_)
          · rw [show t_tk 23 σ = σ from if_neg (by assumption)]
            refine e_aload_n dX6_readNext_105 rfl ?_
            refine e_ldcS 24 dX6_readNext_106 rfl ?_
            refine e_callV1rz (ci := 6) dX6_readNext_108 md_X6_takes lk_X6_182 rfl q1985 qs68 (t_obj _ _) (by decide) rfl (Nat.le_of_ble_eq_true rfl) (C_X6_takes hI ho (by decide)) ?_
            refine e_bif_eq (tgt := 150) dX6_readNext_111 rfl (fun c6 => ?_) (fun c6 => ?_)
            · rw [show t_tk 24 σ = σ from if_neg (by assumption)]
              have w7 : σ 14 7 ≠ 7 := fun w => nf (Or.inr (Or.inr ⟨by omega, w⟩))
              refine e_aload_n dX6_readNext_150 rfl ?_
              refine e_callV0vz (ci := 6) dX6_readNext_151 md_X6_advance lk_X6_179 rfl q1954 qs62 (t_obj _ _) (by decide) rfl (Nat.le_of_ble_eq_true rfl) (C_X6_advance hI) ?_
              refine e_aload_n dX6_readNext_154 rfl ?_
              refine e_callV0vz (ci := 6) dX6_readNext_155 md_X6_readWidow lk_X6_249 rfl q2031 qs77 (t_obj _ _) (by decide) rfl (Nat.le_of_ble_eq_true rfl) (C_X6_readWidow ma ho hfa (by rw [ea]; exact h5) (by rw [ea]; exact h6) (by rw [ea]; omega) (by rw [ea]; exact h8 (by omega))) ?_
              refine e_return dX6_readNext_158 rfl ?_
              refine ⟨rfl, ?_⟩
              unfold t_rn
              rw [if_neg (by omega), e2]
              first
                | (rw [if_pos (by assumption)]; rfl)
                | (rw [if_neg (by assumption), if_pos (by assumption)]; rfl)
                | (rw [if_neg (by assumption), if_neg (by assumption)]; done)
            · rw [show t_tk 24 σ = t_adv σ from if_pos (by assumption)]
              refine e_aload_n dX6_readNext_114 rfl ?_
              refine e_iconst dX6_readNext_115 ?_
              refine e_callV1rz (ci := 6) dX6_readNext_116 md_X6_readCell lk_X6_226 rfl q2023 qs75 (t_obj _ _) (by decide) rfl (Nat.le_of_ble_eq_true rfl) (C_X6_readCell ma hfa (by rw [ea]; exact h5) (by rw [ea]; exact h6) (Or.inr rfl)) ?_
              refine e_istore_n2 dX6_readNext_119 rfl ?_
              have k6 : t_rcS 1 (t_adv σ) 14 6 = σ 14 6 := by rw [t_rc_14, ea]
              have w6 : σ 14 6 ≠ 6 := fun w => nf (Or.inr (Or.inl ⟨by assumption, w⟩))
              refine e_aload_n dX6_readNext_120 rfl ?_
              refine t_geta (k := 14) dX6_readNext_121 fl_X6_31 rfl ?_
              refine e_bipush dX6_readNext_124 rfl ?_
              refine e_aload_n dX6_readNext_126 rfl ?_
              refine t_geta (k := 14) dX6_readNext_127 fl_X6_31 rfl ?_
              refine e_bipush dX6_readNext_130 rfl ?_
              refine t_ild 149 dX6_readNext_132 rfl (by decide) (fun _ => rfl) rfl ⟨by omega, by omega⟩ ?_
              refine e_iadd dX6_readNext_133 ?_
              refine e_iload_n dX6_readNext_134 rfl ?_
              refine t_ist 149 dX6_readNext_135 rfl (by decide) rfl rfl ⟨by omega, by omega⟩ ?_
              refine e_aload_n dX6_readNext_136 rfl ?_
              refine t_geta (k := 14) dX6_readNext_137 fl_X6_31 rfl ?_
              refine e_bipush dX6_readNext_140 rfl ?_
              refine e_dup2 dX6_readNext_142 rfl rfl ?_
              refine t_ild 149 dX6_readNext_143 rfl (by decide) (fun _ => rfl) rfl ⟨by omega, by omega⟩ ?_
              refine e_iconst dX6_readNext_144 ?_
              refine e_iadd dX6_readNext_145 ?_
              refine t_ist 149 dX6_readNext_146 rfl (by decide) rfl rfl ⟨by omega, by omega⟩ ?_
              refine e_goto (tgt := 158) dX6_readNext_147 rfl ?_
              refine e_return dX6_readNext_158 rfl ?_
              refine ⟨rfl, ?_⟩
              unfold t_rn
              rw [if_neg (by omega), e2]
              first
                | (rw [if_pos (by assumption)]; rfl)
                | (rw [if_neg (by assumption), if_pos (by assumption)]; rfl)
                | (rw [if_neg (by assumption), if_neg (by assumption)]; done)
          · rw [show t_tk 23 σ = t_adv σ from if_pos (by assumption)]
            refine e_aload_n dX6_readNext_71 rfl ?_
            refine e_iconst dX6_readNext_72 ?_
            refine e_callV1rz (ci := 6) dX6_readNext_73 md_X6_readCell lk_X6_226 rfl q2023 qs75 (t_obj _ _) (by decide) rfl (Nat.le_of_ble_eq_true rfl) (C_X6_readCell ma hfa (by rw [ea]; exact h5) (by rw [ea]; exact h6) (Or.inl rfl)) ?_
            refine e_istore_n2 dX6_readNext_76 rfl ?_
            have k5 : t_rcS 0 (t_adv σ) 14 5 = σ 14 5 := by rw [t_rc_14, ea]
            have w5 : σ 14 5 ≠ 12 := fun w => nf (Or.inl ⟨by assumption, w⟩)
            refine e_aload_n dX6_readNext_77 rfl ?_
            refine t_geta (k := 14) dX6_readNext_78 fl_X6_31 rfl ?_
            refine e_bipush dX6_readNext_81 rfl ?_
            refine e_aload_n dX6_readNext_83 rfl ?_
            refine t_geta (k := 14) dX6_readNext_84 fl_X6_31 rfl ?_
            refine e_iconst dX6_readNext_87 ?_
            refine t_ild 149 dX6_readNext_88 rfl (by decide) (fun _ => rfl) rfl ⟨by omega, by omega⟩ ?_
            refine e_iadd dX6_readNext_89 ?_
            refine e_iload_n dX6_readNext_90 rfl ?_
            refine t_ist 149 dX6_readNext_91 rfl (by decide) rfl rfl ⟨by omega, by omega⟩ ?_
            refine e_aload_n dX6_readNext_92 rfl ?_
            refine t_geta (k := 14) dX6_readNext_93 fl_X6_31 rfl ?_
            refine e_iconst dX6_readNext_96 ?_
            refine e_dup2 dX6_readNext_97 rfl rfl ?_
            refine t_ild 149 dX6_readNext_98 rfl (by decide) (fun _ => rfl) rfl ⟨by omega, by omega⟩ ?_
            refine e_iconst dX6_readNext_99 ?_
            refine e_iadd dX6_readNext_100 ?_
            refine t_ist 149 dX6_readNext_101 rfl (by decide) rfl rfl ⟨by omega, by omega⟩ ?_
            refine e_goto (tgt := 158) dX6_readNext_102 rfl ?_
            refine e_return dX6_readNext_158 rfl ?_
            refine ⟨rfl, ?_⟩
            unfold t_rn
            rw [if_neg (by omega), e2]
            first
              | (rw [if_pos (by assumption)]; rfl)
              | (rw [if_neg (by assumption), if_pos (by assumption)]; rfl)
              | (rw [if_neg (by assumption), if_neg (by assumption)]; done)
        · refine e_return dX6_readNext_61 rfl ?_
          refine ⟨rfl, ?_⟩
          unfold t_rn
          rw [if_pos (by assumption)]
      · refine e_aload_n dX6_readNext_49 rfl ?_
        refine e_iconst dX6_readNext_50 ?_
        refine e_callV1vz (ci := 6) dX6_readNext_51 md_X6_errs lk_X6_185 rfl q1995 qs70 (t_obj _ _) (by decide) rfl (Nat.le_of_ble_eq_true rfl) (C_X6_errs m1.2.2.2.2.2 (by decide)) ?_
        refine e_hp (t_rn2 σ) (by unfold t_rn2; first | rw [if_pos (by assumption)] | rw [if_neg (by assumption)]) ?_
        have m2 := (t_mo_rn2 hI).1
        refine e_fgt 1 ?_
        refine e_aload_n dX6_readNext_54 rfl ?_
        refine e_callV0rz (ci := 6) dX6_readNext_55 md_X6_good lk_X6_163 rfl q1968 qs64 (t_obj _ _) (by decide) rfl (Nat.le_of_ble_eq_true rfl) (C_X6_good m2.2.2.2.2.2) ?_
        refine e_bif_ne (tgt := 62) dX6_readNext_58 rfl (fun c7 => ?_) (fun c7 => ?_)
        · obtain ⟨e2, nf, kn⟩ := t_rn2_g (σ := σ) (by assumption)
          rw [e2]
          have ma := (t_mo_adv hI).1
          have ea := t_adv_14 σ
          have hfa : ∀ j, 0 ≤ j → j < 149 → 0 ≤ t_adv σ 14 j ∧ t_adv σ 14 j ≤ 2000000 := fun j a b => by rw [ea]; exact hf j a b
          
          refine e_aload_n dX6_readNext_62 rfl ?_
          refine e_ldcS 23 dX6_readNext_63 rfl ?_
          refine e_callV1rz (ci := 6) dX6_readNext_65 md_X6_takes lk_X6_182 rfl q1985 qs68 (t_obj _ _) (by decide) rfl (Nat.le_of_ble_eq_true rfl) (C_X6_takes hI ho (by decide)) ?_
          refine e_bif_eq (tgt := 105) dX6_readNext_68 rfl (fun c8 => ?_) (fun c8 => ?_)
          · rw [show t_tk 23 σ = σ from if_neg (by assumption)]
            refine e_aload_n dX6_readNext_105 rfl ?_
            refine e_ldcS 24 dX6_readNext_106 rfl ?_
            refine e_callV1rz (ci := 6) dX6_readNext_108 md_X6_takes lk_X6_182 rfl q1985 qs68 (t_obj _ _) (by decide) rfl (Nat.le_of_ble_eq_true rfl) (C_X6_takes hI ho (by decide)) ?_
            refine e_bif_eq (tgt := 150) dX6_readNext_111 rfl (fun c9 => ?_) (fun c9 => ?_)
            · rw [show t_tk 24 σ = σ from if_neg (by assumption)]
              have w7 : σ 14 7 ≠ 7 := fun w => nf (Or.inr (Or.inr ⟨by omega, w⟩))
              refine e_aload_n dX6_readNext_150 rfl ?_
              refine e_callV0vz (ci := 6) dX6_readNext_151 md_X6_advance lk_X6_179 rfl q1954 qs62 (t_obj _ _) (by decide) rfl (Nat.le_of_ble_eq_true rfl) (C_X6_advance hI) ?_
              refine e_aload_n dX6_readNext_154 rfl ?_
              refine e_callV0vz (ci := 6) dX6_readNext_155 md_X6_readWidow lk_X6_249 rfl q2031 qs77 (t_obj _ _) (by decide) rfl (Nat.le_of_ble_eq_true rfl) (C_X6_readWidow ma ho hfa (by rw [ea]; exact h5) (by rw [ea]; exact h6) (by rw [ea]; omega) (by rw [ea]; exact h8 (by omega))) ?_
              refine e_return dX6_readNext_158 rfl ?_
              refine ⟨rfl, ?_⟩
              unfold t_rn
              rw [if_neg (by omega), e2]
              first
                | (rw [if_pos (by assumption)]; rfl)
                | (rw [if_neg (by assumption), if_pos (by assumption)]; rfl)
                | (rw [if_neg (by assumption), if_neg (by assumption)]; done)
            · rw [show t_tk 24 σ = t_adv σ from if_pos (by assumption)]
              refine e_aload_n dX6_readNext_114 rfl ?_
              refine e_iconst dX6_readNext_115 ?_
              refine e_callV1rz (ci := 6) dX6_readNext_116 md_X6_readCell lk_X6_226 rfl q2023 qs75 (t_obj _ _) (by decide) rfl (Nat.le_of_ble_eq_true rfl) (C_X6_readCell ma hfa (by rw [ea]; exact h5) (by rw [ea]; exact h6) (Or.inr rfl)) ?_
              refine e_istore_n2 dX6_readNext_119 rfl ?_
              have k6 : t_rcS 1 (t_adv σ) 14 6 = σ 14 6 := by rw [t_rc_14, ea]
              have w6 : σ 14 6 ≠ 6 := fun w => nf (Or.inr (Or.inl ⟨by assumption, w⟩))
              refine e_aload_n dX6_readNext_120 rfl ?_
              refine t_geta (k := 14) dX6_readNext_121 fl_X6_31 rfl ?_
              refine e_bipush dX6_readNext_124 rfl ?_
              refine e_aload_n dX6_readNext_126 rfl ?_
              refine t_geta (k := 14) dX6_readNext_127 fl_X6_31 rfl ?_
              refine e_bipush dX6_readNext_130 rfl ?_
              refine t_ild 149 dX6_readNext_132 rfl (by decide) (fun _ => rfl) rfl ⟨by omega, by omega⟩ ?_
              refine e_iadd dX6_readNext_133 ?_
              refine e_iload_n dX6_readNext_134 rfl ?_
              refine t_ist 149 dX6_readNext_135 rfl (by decide) rfl rfl ⟨by omega, by omega⟩ ?_
              refine e_aload_n dX6_readNext_136 rfl ?_
              refine t_geta (k := 14) dX6_readNext_137 fl_X6_31 rfl ?_
              refine e_bipush dX6_readNext_140 rfl ?_
              refine e_dup2 dX6_readNext_142 rfl rfl ?_
              refine t_ild 149 dX6_readNext_143 rfl (by decide) (fun _ => rfl) rfl ⟨by omega, by omega⟩ ?_
              refine e_iconst dX6_readNext_144 ?_
              refine e_iadd dX6_readNext_145 ?_
              refine t_ist 149 dX6_readNext_146 rfl (by decide) rfl rfl ⟨by omega, by omega⟩ ?_
              refine e_goto (tgt := 158) dX6_readNext_147 rfl ?_
              refine e_return dX6_readNext_158 rfl ?_
              refine ⟨rfl, ?_⟩
              unfold t_rn
              rw [if_neg (by omega), e2]
              first
                | (rw [if_pos (by assumption)]; rfl)
                | (rw [if_neg (by assumption), if_pos (by assumption)]; rfl)
                | (rw [if_neg (by assumption), if_neg (by assumption)]; done)
          · rw [show t_tk 23 σ = t_adv σ from if_pos (by assumption)]
            refine e_aload_n dX6_readNext_71 rfl ?_
            refine e_iconst dX6_readNext_72 ?_
            refine e_callV1rz (ci := 6) dX6_readNext_73 md_X6_readCell lk_X6_226 rfl q2023 qs75 (t_obj _ _) (by decide) rfl (Nat.le_of_ble_eq_true rfl) (C_X6_readCell ma hfa (by rw [ea]; exact h5) (by rw [ea]; exact h6) (Or.inl rfl)) ?_
            refine e_istore_n2 dX6_readNext_76 rfl ?_
            have k5 : t_rcS 0 (t_adv σ) 14 5 = σ 14 5 := by rw [t_rc_14, ea]
            have w5 : σ 14 5 ≠ 12 := fun w => nf (Or.inl ⟨by assumption, w⟩)
            refine e_aload_n dX6_readNext_77 rfl ?_
            refine t_geta (k := 14) dX6_readNext_78 fl_X6_31 rfl ?_
            refine e_bipush dX6_readNext_81 rfl ?_
            refine e_aload_n dX6_readNext_83 rfl ?_
            refine t_geta (k := 14) dX6_readNext_84 fl_X6_31 rfl ?_
            refine e_iconst dX6_readNext_87 ?_
            refine t_ild 149 dX6_readNext_88 rfl (by decide) (fun _ => rfl) rfl ⟨by omega, by omega⟩ ?_
            refine e_iadd dX6_readNext_89 ?_
            refine e_iload_n dX6_readNext_90 rfl ?_
            refine t_ist 149 dX6_readNext_91 rfl (by decide) rfl rfl ⟨by omega, by omega⟩ ?_
            refine e_aload_n dX6_readNext_92 rfl ?_
            refine t_geta (k := 14) dX6_readNext_93 fl_X6_31 rfl ?_
            refine e_iconst dX6_readNext_96 ?_
            refine e_dup2 dX6_readNext_97 rfl rfl ?_
            refine t_ild 149 dX6_readNext_98 rfl (by decide) (fun _ => rfl) rfl ⟨by omega, by omega⟩ ?_
            refine e_iconst dX6_readNext_99 ?_
            refine e_iadd dX6_readNext_100 ?_
            refine t_ist 149 dX6_readNext_101 rfl (by decide) rfl rfl ⟨by omega, by omega⟩ ?_
            refine e_goto (tgt := 158) dX6_readNext_102 rfl ?_
            refine e_return dX6_readNext_158 rfl ?_
            refine ⟨rfl, ?_⟩
            unfold t_rn
            rw [if_neg (by omega), e2]
            first
              | (rw [if_pos (by assumption)]; rfl)
              | (rw [if_neg (by assumption), if_pos (by assumption)]; rfl)
              | (rw [if_neg (by assumption), if_neg (by assumption)]; done)
        · refine e_return dX6_readNext_61 rfl ?_
          refine ⟨rfl, ?_⟩
          unfold t_rn
          rw [if_pos (by assumption)]
    · refine e_aload_n dX6_readNext_37 rfl ?_
      refine e_iconst dX6_readNext_38 ?_
      refine e_callV1vz (ci := 6) dX6_readNext_39 md_X6_errs lk_X6_185 rfl q1995 qs70 (t_obj _ _) (by decide) rfl (Nat.le_of_ble_eq_true rfl) (C_X6_errs hI.2.2.2.2.2 (by decide)) ?_
      refine e_hp (t_rn1 σ) (by first | (exfalso; omega) | (unfold t_rn1; first | rw [if_pos (by omega)] | rw [if_neg (by omega)])) ?_
      have m1 := (t_mo_rn1 hI).1
      have e1 := t_rn1_14 σ
      have hf1 : ∀ j, 0 ≤ j → j < 149 → 0 ≤ t_rn1 σ 14 j ∧ t_rn1 σ 14 j ≤ 2000000 := fun j a b => by rw [e1]; exact hf j a b
      refine e_aload_n dX6_readNext_42 rfl ?_
      refine e_callV0rz (ci := 6) dX6_readNext_43 md_X6_isFull lk_X6_246 rfl q2019 qs74 (t_obj _ _) (by decide) rfl (Nat.le_of_ble_eq_true rfl) (C_X6_isFull m1 ho hf1) ?_
      refine e_bif_eq (tgt := 54) dX6_readNext_46 rfl (fun c10 => ?_) (fun c10 => ?_)
      · refine e_hp (t_rn2 σ) (by unfold t_rn2; first | rw [if_pos (by assumption)] | rw [if_neg (by assumption)]) ?_
        have m2 := (t_mo_rn2 hI).1
        refine e_fgt 1 ?_
        refine e_aload_n dX6_readNext_54 rfl ?_
        refine e_callV0rz (ci := 6) dX6_readNext_55 md_X6_good lk_X6_163 rfl q1968 qs64 (t_obj _ _) (by decide) rfl (Nat.le_of_ble_eq_true rfl) (C_X6_good m2.2.2.2.2.2) ?_
        refine e_bif_ne (tgt := 62) dX6_readNext_58 rfl (fun c11 => ?_) (fun c11 => ?_)
        · obtain ⟨e2, nf, kn⟩ := t_rn2_g (σ := σ) (by assumption)
          rw [e2]
          have ma := (t_mo_adv hI).1
          have ea := t_adv_14 σ
          have hfa : ∀ j, 0 ≤ j → j < 149 → 0 ≤ t_adv σ 14 j ∧ t_adv σ 14 j ≤ 2000000 := fun j a b => by rw [ea]; exact hf j a b
          
          refine e_aload_n dX6_readNext_62 rfl ?_
          refine e_ldcS 23 dX6_readNext_63 rfl ?_
          refine e_callV1rz (ci := 6) dX6_readNext_65 md_X6_takes lk_X6_182 rfl q1985 qs68 (t_obj _ _) (by decide) rfl (Nat.le_of_ble_eq_true rfl) (C_X6_takes hI ho (by decide)) ?_
          refine e_bif_eq (tgt := 105) dX6_readNext_68 rfl (fun c12 => ?_) (fun c12 => ?_)
          · rw [show t_tk 23 σ = σ from if_neg (by assumption)]
            refine e_aload_n dX6_readNext_105 rfl ?_
            refine e_ldcS 24 dX6_readNext_106 rfl ?_
            refine e_callV1rz (ci := 6) dX6_readNext_108 md_X6_takes lk_X6_182 rfl q1985 qs68 (t_obj _ _) (by decide) rfl (Nat.le_of_ble_eq_true rfl) (C_X6_takes hI ho (by decide)) ?_
            refine e_bif_eq (tgt := 150) dX6_readNext_111 rfl (fun c13 => ?_) (fun c13 => ?_)
            · rw [show t_tk 24 σ = σ from if_neg (by assumption)]
              have w7 : σ 14 7 ≠ 7 := fun w => nf (Or.inr (Or.inr ⟨by omega, w⟩))
              refine e_aload_n dX6_readNext_150 rfl ?_
              refine e_callV0vz (ci := 6) dX6_readNext_151 md_X6_advance lk_X6_179 rfl q1954 qs62 (t_obj _ _) (by decide) rfl (Nat.le_of_ble_eq_true rfl) (C_X6_advance hI) ?_
              refine e_aload_n dX6_readNext_154 rfl ?_
              refine e_callV0vz (ci := 6) dX6_readNext_155 md_X6_readWidow lk_X6_249 rfl q2031 qs77 (t_obj _ _) (by decide) rfl (Nat.le_of_ble_eq_true rfl) (C_X6_readWidow ma ho hfa (by rw [ea]; exact h5) (by rw [ea]; exact h6) (by rw [ea]; omega) (by rw [ea]; exact h8 (by omega))) ?_
              refine e_return dX6_readNext_158 rfl ?_
              refine ⟨rfl, ?_⟩
              unfold t_rn
              rw [if_neg (by omega), e2]
              first
                | (rw [if_pos (by assumption)]; rfl)
                | (rw [if_neg (by assumption), if_pos (by assumption)]; rfl)
                | (rw [if_neg (by assumption), if_neg (by assumption)]; done)
            · rw [show t_tk 24 σ = t_adv σ from if_pos (by assumption)]
              refine e_aload_n dX6_readNext_114 rfl ?_
              refine e_iconst dX6_readNext_115 ?_
              refine e_callV1rz (ci := 6) dX6_readNext_116 md_X6_readCell lk_X6_226 rfl q2023 qs75 (t_obj _ _) (by decide) rfl (Nat.le_of_ble_eq_true rfl) (C_X6_readCell ma hfa (by rw [ea]; exact h5) (by rw [ea]; exact h6) (Or.inr rfl)) ?_
              refine e_istore_n2 dX6_readNext_119 rfl ?_
              have k6 : t_rcS 1 (t_adv σ) 14 6 = σ 14 6 := by rw [t_rc_14, ea]
              have w6 : σ 14 6 ≠ 6 := fun w => nf (Or.inr (Or.inl ⟨by assumption, w⟩))
              refine e_aload_n dX6_readNext_120 rfl ?_
              refine t_geta (k := 14) dX6_readNext_121 fl_X6_31 rfl ?_
              refine e_bipush dX6_readNext_124 rfl ?_
              refine e_aload_n dX6_readNext_126 rfl ?_
              refine t_geta (k := 14) dX6_readNext_127 fl_X6_31 rfl ?_
              refine e_bipush dX6_readNext_130 rfl ?_
              refine t_ild 149 dX6_readNext_132 rfl (by decide) (fun _ => rfl) rfl ⟨by omega, by omega⟩ ?_
              refine e_iadd dX6_readNext_133 ?_
              refine e_iload_n dX6_readNext_134 rfl ?_
              refine t_ist 149 dX6_readNext_135 rfl (by decide) rfl rfl ⟨by omega, by omega⟩ ?_
              refine e_aload_n dX6_readNext_136 rfl ?_
              refine t_geta (k := 14) dX6_readNext_137 fl_X6_31 rfl ?_
              refine e_bipush dX6_readNext_140 rfl ?_
              refine e_dup2 dX6_readNext_142 rfl rfl ?_
              refine t_ild 149 dX6_readNext_143 rfl (by decide) (fun _ => rfl) rfl ⟨by omega, by omega⟩ ?_
              refine e_iconst dX6_readNext_144 ?_
              refine e_iadd dX6_readNext_145 ?_
              refine t_ist 149 dX6_readNext_146 rfl (by decide) rfl rfl ⟨by omega, by omega⟩ ?_
              refine e_goto (tgt := 158) dX6_readNext_147 rfl ?_
              refine e_return dX6_readNext_158 rfl ?_
              refine ⟨rfl, ?_⟩
              unfold t_rn
              rw [if_neg (by omega), e2]
              first
                | (rw [if_pos (by assumption)]; rfl)
                | (rw [if_neg (by assumption), if_pos (by assumption)]; rfl)
                | (rw [if_neg (by assumption), if_neg (by assumption)]; done)
          · rw [show t_tk 23 σ = t_adv σ from if_pos (by assumption)]
            refine e_aload_n dX6_readNext_71 rfl ?_
            refine e_iconst dX6_readNext_72 ?_
            refine e_callV1rz (ci := 6) dX6_readNext_73 md_X6_readCell lk_X6_226 rfl q2023 qs75 (t_obj _ _) (by decide) rfl (Nat.le_of_ble_eq_true rfl) (C_X6_readCell ma hfa (by rw [ea]; exact h5) (by rw [ea]; exact h6) (Or.inl rfl)) ?_
            refine e_istore_n2 dX6_readNext_76 rfl ?_
            have k5 : t_rcS 0 (t_adv σ) 14 5 = σ 14 5 := by rw [t_rc_14, ea]
            have w5 : σ 14 5 ≠ 12 := fun w => nf (Or.inl ⟨by assumption, w⟩)
            refine e_aload_n dX6_readNext_77 rfl ?_
            refine t_geta (k := 14) dX6_readNext_78 fl_X6_31 rfl ?_
            refine e_bipush dX6_readNext_81 rfl ?_
            refine e_aload_n dX6_readNext_83 rfl ?_
            refine t_geta (k := 14) dX6_readNext_84 fl_X6_31 rfl ?_
            refine e_iconst dX6_readNext_87 ?_
            refine t_ild 149 dX6_readNext_88 rfl (by decide) (fun _ => rfl) rfl ⟨by omega, by omega⟩ ?_
            refine e_iadd dX6_readNext_89 ?_
            refine e_iload_n dX6_readNext_90 rfl ?_
            refine t_ist 149 dX6_readNext_91 rfl (by decide) rfl rfl ⟨by omega, by omega⟩ ?_
            refine e_aload_n dX6_readNext_92 rfl ?_
            refine t_geta (k := 14) dX6_readNext_93 fl_X6_31 rfl ?_
            refine e_iconst dX6_readNext_96 ?_
            refine e_dup2 dX6_readNext_97 rfl rfl ?_
            refine t_ild 149 dX6_readNext_98 rfl (by decide) (fun _ => rfl) rfl ⟨by omega, by omega⟩ ?_
            refine e_iconst dX6_readNext_99 ?_
            refine e_iadd dX6_readNext_100 ?_
            refine t_ist 149 dX6_readNext_101 rfl (by decide) rfl rfl ⟨by omega, by omega⟩ ?_
            refine e_goto (tgt := 158) dX6_readNext_102 rfl ?_
            refine e_return dX6_readNext_158 rfl ?_
            refine ⟨rfl, ?_⟩
            unfold t_rn
            rw [if_neg (by omega), e2]
            first
              | (rw [if_pos (by assumption)]; rfl)
              | (rw [if_neg (by assumption), if_pos (by assumption)]; rfl)
              | (rw [if_neg (by assumption), if_neg (by assumption)]; done)
        · refine e_return dX6_readNext_61 rfl ?_
          refine ⟨rfl, ?_⟩
          unfold t_rn
          rw [if_pos (by assumption)]
      · refine e_aload_n dX6_readNext_49 rfl ?_
        refine e_iconst dX6_readNext_50 ?_
        refine e_callV1vz (ci := 6) dX6_readNext_51 md_X6_errs lk_X6_185 rfl q1995 qs70 (t_obj _ _) (by decide) rfl (Nat.le_of_ble_eq_true rfl) (C_X6_errs m1.2.2.2.2.2 (by decide)) ?_
        refine e_hp (t_rn2 σ) (by unfold t_rn2; first | rw [if_pos (by assumption)] | rw [if_neg (by assumption)]) ?_
        have m2 := (t_mo_rn2 hI).1
        refine e_fgt 1 ?_
        refine e_aload_n dX6_readNext_54 rfl ?_
        refine e_callV0rz (ci := 6) dX6_readNext_55 md_X6_good lk_X6_163 rfl q1968 qs64 (t_obj _ _) (by decide) rfl (Nat.le_of_ble_eq_true rfl) (C_X6_good m2.2.2.2.2.2) ?_
        refine e_bif_ne (tgt := 62) dX6_readNext_58 rfl (fun c14 => ?_) (fun c14 => ?_)
        · obtain ⟨e2, nf, kn⟩ := t_rn2_g (σ := σ) (by assumption)
          rw [e2]
          have ma := (t_mo_adv hI).1
          have ea := t_adv_14 σ
          have hfa : ∀ j, 0 ≤ j → j < 149 → 0 ≤ t_adv σ 14 j ∧ t_adv σ 14 j ≤ 2000000 := fun j a b => by rw [ea]; exact hf j a b
          
          refine e_aload_n dX6_readNext_62 rfl ?_
          refine e_ldcS 23 dX6_readNext_63 rfl ?_
          refine e_callV1rz (ci := 6) dX6_readNext_65 md_X6_takes lk_X6_182 rfl q1985 qs68 (t_obj _ _) (by decide) rfl (Nat.le_of_ble_eq_true rfl) (C_X6_takes hI ho (by decide)) ?_
          refine e_bif_eq (tgt := 105) dX6_readNext_68 rfl (fun c15 => ?_) (fun c15 => ?_)
          · rw [show t_tk 23 σ = σ from if_neg (by assumption)]
            refine e_aload_n dX6_readNext_105 rfl ?_
            refine e_ldcS 24 dX6_readNext_106 rfl ?_
            refine e_callV1rz (ci := 6) dX6_readNext_108 md_X6_takes lk_X6_182 rfl q1985 qs68 (t_obj _ _) (by decide) rfl (Nat.le_of_ble_eq_true rfl) (C_X6_takes hI ho (by decide)) ?_
            refine e_bif_eq (tgt := 150) dX6_readNext_111 rfl (fun c16 => ?_) (fun c16 => ?_)
            · rw [show t_tk 24 σ = σ from if_neg (by assumption)]
              have w7 : σ 14 7 ≠ 7 := fun w => nf (Or.inr (Or.inr ⟨by omega, w⟩))
              refine e_aload_n dX6_readNext_150 rfl ?_
              refine e_callV0vz (ci := 6) dX6_readNext_151 md_X6_advance lk_X6_179 rfl q1954 qs62 (t_obj _ _) (by decide) rfl (Nat.le_of_ble_eq_true rfl) (C_X6_advance hI) ?_
              refine e_aload_n dX6_readNext_154 rfl ?_
              refine e_callV0vz (ci := 6) dX6_readNext_155 md_X6_readWidow lk_X6_249 rfl q2031 qs77 (t_obj _ _) (by decide) rfl (Nat.le_of_ble_eq_true rfl) (C_X6_readWidow ma ho hfa (by rw [ea]; exact h5) (by rw [ea]; exact h6) (by rw [ea]; omega) (by rw [ea]; exact h8 (by omega))) ?_
              refine e_return dX6_readNext_158 rfl ?_
              refine ⟨rfl, ?_⟩
              unfold t_rn
              rw [if_neg (by omega), e2]
              first
                | (rw [if_pos (by assumption)]; rfl)
                | (rw [if_neg (by assumption), if_pos (by assumption)]; rfl)
                | (rw [if_neg (by assumption), if_neg (by assumption)]; done)
            · rw [show t_tk 24 σ = t_adv σ from if_pos (by assumption)]
              refine e_aload_n dX6_readNext_114 rfl ?_
              refine e_iconst dX6_readNext_115 ?_
              refine e_callV1rz (ci := 6) dX6_readNext_116 md_X6_readCell lk_X6_226 rfl q2023 qs75 (t_obj _ _) (by decide) rfl (Nat.le_of_ble_eq_true rfl) (C_X6_readCell ma hfa (by rw [ea]; exact h5) (by rw [ea]; exact h6) (Or.inr rfl)) ?_
              refine e_istore_n2 dX6_readNext_119 rfl ?_
              have k6 : t_rcS 1 (t_adv σ) 14 6 = σ 14 6 := by rw [t_rc_14, ea]
              have w6 : σ 14 6 ≠ 6 := fun w => nf (Or.inr (Or.inl ⟨by assumption, w⟩))
              refine e_aload_n dX6_readNext_120 rfl ?_
              refine t_geta (k := 14) dX6_readNext_121 fl_X6_31 rfl ?_
              refine e_bipush dX6_readNext_124 rfl ?_
              refine e_aload_n dX6_readNext_126 rfl ?_
              refine t_geta (k := 14) dX6_readNext_127 fl_X6_31 rfl ?_
              refine e_bipush dX6_readNext_130 rfl ?_
              refine t_ild 149 dX6_readNext_132 rfl (by decide) (fun _ => rfl) rfl ⟨by omega, by omega⟩ ?_
              refine e_iadd dX6_readNext_133 ?_
              refine e_iload_n dX6_readNext_134 rfl ?_
              refine t_ist 149 dX6_readNext_135 rfl (by decide) rfl rfl ⟨by omega, by omega⟩ ?_
              refine e_aload_n dX6_readNext_136 rfl ?_
              refine t_geta (k := 14) dX6_readNext_137 fl_X6_31 rfl ?_
              refine e_bipush dX6_readNext_140 rfl ?_
              refine e_dup2 dX6_readNext_142 rfl rfl ?_
              refine t_ild 149 dX6_readNext_143 rfl (by decide) (fun _ => rfl) rfl ⟨by omega, by omega⟩ ?_
              refine e_iconst dX6_readNext_144 ?_
              refine e_iadd dX6_readNext_145 ?_
              refine t_ist 149 dX6_readNext_146 rfl (by decide) rfl rfl ⟨by omega, by omega⟩ ?_
              refine e_goto (tgt := 158) dX6_readNext_147 rfl ?_
              refine e_return dX6_readNext_158 rfl ?_
              refine ⟨rfl, ?_⟩
              unfold t_rn
              rw [if_neg (by omega), e2]
              first
                | (rw [if_pos (by assumption)]; rfl)
                | (rw [if_neg (by assumption), if_pos (by assumption)]; rfl)
                | (rw [if_neg (by assumption), if_neg (by assumption)]; done)
          · rw [show t_tk 23 σ = t_adv σ from if_pos (by assumption)]
            refine e_aload_n dX6_readNext_71 rfl ?_
            refine e_iconst dX6_readNext_72 ?_
            refine e_callV1rz (ci := 6) dX6_readNext_73 md_X6_readCell lk_X6_226 rfl q2023 qs75 (t_obj _ _) (by decide) rfl (Nat.le_of_ble_eq_true rfl) (C_X6_readCell ma hfa (by rw [ea]; exact h5) (by rw [ea]; exact h6) (Or.inl rfl)) ?_
            refine e_istore_n2 dX6_readNext_76 rfl ?_
            have k5 : t_rcS 0 (t_adv σ) 14 5 = σ 14 5 := by rw [t_rc_14, ea]
            have w5 : σ 14 5 ≠ 12 := fun w => nf (Or.inl ⟨by assumption, w⟩)
            refine e_aload_n dX6_readNext_77 rfl ?_
            refine t_geta (k := 14) dX6_readNext_78 fl_X6_31 rfl ?_
            refine e_bipush dX6_readNext_81 rfl ?_
            refine e_aload_n dX6_readNext_83 rfl ?_
            refine t_geta (k := 14) dX6_readNext_84 fl_X6_31 rfl ?_
            refine e_iconst dX6_readNext_87 ?_
            refine t_ild 149 dX6_readNext_88 rfl (by decide) (fun _ => rfl) rfl ⟨by omega, by omega⟩ ?_
            refine e_iadd dX6_readNext_89 ?_
            refine e_iload_n dX6_readNext_90 rfl ?_
            refine t_ist 149 dX6_readNext_91 rfl (by decide) rfl rfl ⟨by omega, by omega⟩ ?_
            refine e_aload_n dX6_readNext_92 rfl ?_
            refine t_geta (k := 14) dX6_readNext_93 fl_X6_31 rfl ?_
            refine e_iconst dX6_readNext_96 ?_
            refine e_dup2 dX6_readNext_97 rfl rfl ?_
            refine t_ild 149 dX6_readNext_98 rfl (by decide) (fun _ => rfl) rfl ⟨by omega, by omega⟩ ?_
            refine e_iconst dX6_readNext_99 ?_
            refine e_iadd dX6_readNext_100 ?_
            refine t_ist 149 dX6_readNext_101 rfl (by decide) rfl rfl ⟨by omega, by omega⟩ ?_
            refine e_goto (tgt := 158) dX6_readNext_102 rfl ?_
            refine e_return dX6_readNext_158 rfl ?_
            refine ⟨rfl, ?_⟩
            unfold t_rn
            rw [if_neg (by omega), e2]
            first
              | (rw [if_pos (by assumption)]; rfl)
              | (rw [if_neg (by assumption), if_pos (by assumption)]; rfl)
              | (rw [if_neg (by assumption), if_neg (by assumption)]; done)
        · refine e_return dX6_readNext_61 rfl ?_
          refine ⟨rfl, ?_⟩
          unfold t_rn
          rw [if_pos (by assumption)]
  · refine e_aload_n dX6_readNext_9 rfl ?_
    refine e_ldcS 24 dX6_readNext_10 rfl ?_
    refine e_callV1rz (ci := 6) dX6_readNext_12 md_X6_is lk_X6_175 rfl q1989 qs69 (t_obj _ _) (by decide) rfl (Nat.le_of_ble_eq_true rfl) (C_X6_is hI ho (by decide)) ?_
    refine e_bif_ne (tgt := 27) dX6_readNext_15 rfl (fun c17 => ?_) (fun c17 => ?_)
    · refine e_iconst dX6_readNext_27 ?_
      refine e_goto (tgt := 32) dX6_readNext_28 rfl ?_
      refine e_top (e_i (if t_isv σ 23 = 1 ∨ t_isv σ 24 = 1 ∨ t_isv σ 25 = 1 then 1 else 0)) (by first | rw [if_pos (by omega)] | rw [if_neg (by omega)]) ?_
      refine e_istore_n1 dX6_readNext_32 rfl ?_
      refine e_iload_n dX6_readNext_33 rfl ?_
      refine e_bif_ne (tgt := 42) dX6_readNext_34 rfl (fun c18 => ?_) (fun c18 => ?_)
      · refine e_hp (t_rn1 σ) (by first | (exfalso; omega) | (unfold t_rn1; first | rw [if_pos (by omega)] | rw [if_neg (by omega)])) ?_
        have m1 := (t_mo_rn1 hI).1
        have e1 := t_rn1_14 σ
        have hf1 : ∀ j, 0 ≤ j → j < 149 → 0 ≤ t_rn1 σ 14 j ∧ t_rn1 σ 14 j ≤ 2000000 := fun j a b => by rw [e1]; exact hf j a b
        refine e_aload_n dX6_readNext_42 rfl ?_
        refine e_callV0rz (ci := 6) dX6_readNext_43 md_X6_isFull lk_X6_246 rfl q2019 qs74 (t_obj _ _) (by decide) rfl (Nat.le_of_ble_eq_true rfl) (C_X6_isFull m1 ho hf1) ?_
        refine e_bif_eq (tgt := 54) dX6_readNext_46 rfl (fun c19 => ?_) (fun c19 => ?_)
        · refine e_hp (t_rn2 σ) (by unfold t_rn2; first | rw [if_pos (by assumption)] | rw [if_neg (by assumption)]) ?_
          have m2 := (t_mo_rn2 hI).1
          refine e_fgt 1 ?_
          refine e_aload_n dX6_readNext_54 rfl ?_
          refine e_callV0rz (ci := 6) dX6_readNext_55 md_X6_good lk_X6_163 rfl q1968 qs64 (t_obj _ _) (by decide) rfl (Nat.le_of_ble_eq_true rfl) (C_X6_good m2.2.2.2.2.2) ?_
          refine e_bif_ne (tgt := 62) dX6_readNext_58 rfl (fun c20 => ?_) (fun c20 => ?_)
          · obtain ⟨e2, nf, kn⟩ := t_rn2_g (σ := σ) (by assumption)
            rw [e2]
            have ma := (t_mo_adv hI).1
            have ea := t_adv_14 σ
            have hfa : ∀ j, 0 ≤ j → j < 149 → 0 ≤ t_adv σ 14 j ∧ t_adv σ 14 j ≤ 2000000 := fun j a b => by rw [ea]; exact hf j a b
            
            refine e_aload_n dX6_readNext_62 rfl ?_
            refine e_ldcS 23 dX6_readNext_63 rfl ?_
            refine e_callV1rz (ci := 6) dX6_readNext_65 md_X6_takes lk_X6_182 rfl q1985 qs68 (t_obj _ _) (by decide) rfl (Nat.le_of_ble_eq_true rfl) (C_X6_takes hI ho (by decide)) ?_
            refine e_bif_eq (tgt := 105) dX6_readNext_68 rfl (fun c21 => ?_) (fun c21 => ?_)
            · rw [show t_tk 23 σ = σ from if_neg (by assumption)]
              refine e_aload_n dX6_readNext_105 rfl ?_
              refine e_ldcS 24 dX6_readNext_106 rfl ?_
              refine e_callV1rz (ci := 6) dX6_readNext_108 md_X6_takes lk_X6_182 rfl q1985 qs68 (t_obj _ _) (by decide) rfl (Nat.le_of_ble_eq_true rfl) (C_X6_takes hI ho (by decide)) ?_
              refine e_bif_eq (tgt := 150) dX6_readNext_111 rfl (fun c22 => ?_) (fun c22 => ?_)
              · rw [show t_tk 24 σ = σ from if_neg (by assumption)]
                have w7 : σ 14 7 ≠ 7 := fun w => nf (Or.inr (Or.inr ⟨by omega, w⟩))
                refine e_aload_n dX6_readNext_150 rfl ?_
                refine e_callV0vz (ci := 6) dX6_readNext_151 md_X6_advance lk_X6_179 rfl q1954 qs62 (t_obj _ _) (by decide) rfl (Nat.le_of_ble_eq_true rfl) (C_X6_advance hI) ?_
                refine e_aload_n dX6_readNext_154 rfl ?_
                refine e_callV0vz (ci := 6) dX6_readNext_155 md_X6_readWidow lk_X6_249 rfl q2031 qs77 (t_obj _ _) (by decide) rfl (Nat.le_of_ble_eq_true rfl) (C_X6_readWidow ma ho hfa (by rw [ea]; exact h5) (by rw [ea]; exact h6) (by rw [ea]; omega) (by rw [ea]; exact h8 (by omega))) ?_
                refine e_return dX6_readNext_158 rfl ?_
                refine ⟨rfl, ?_⟩
                unfold t_rn
                rw [if_neg (by omega), e2]
                first
                  | (rw [if_pos (by assumption)]; rfl)
                  | (rw [if_neg (by assumption), if_pos (by assumption)]; rfl)
                  | (rw [if_neg (by assumption), if_neg (by assumption)]; done)
              · rw [show t_tk 24 σ = t_adv σ from if_pos (by assumption)]
                refine e_aload_n dX6_readNext_114 rfl ?_
                refine e_iconst dX6_readNext_115 ?_
                refine e_callV1rz (ci := 6) dX6_readNext_116 md_X6_readCell lk_X6_226 rfl q2023 qs75 (t_obj _ _) (by decide) rfl (Nat.le_of_ble_eq_true rfl) (C_X6_readCell ma hfa (by rw [ea]; exact h5) (by rw [ea]; exact h6) (Or.inr rfl)) ?_
                refine e_istore_n2 dX6_readNext_119 rfl ?_
                have k6 : t_rcS 1 (t_adv σ) 14 6 = σ 14 6 := by rw [t_rc_14, ea]
                have w6 : σ 14 6 ≠ 6 := fun w => nf (Or.inr (Or.inl ⟨by assumption, w⟩))
                refine e_aload_n dX6_readNext_120 rfl ?_
                refine t_geta (k := 14) dX6_readNext_121 fl_X6_31 rfl ?_
                refine e_bipush dX6_readNext_124 rfl ?_
                refine e_aload_n dX6_readNext_126 rfl ?_
                refine t_geta (k := 14) dX6_readNext_127 fl_X6_31 rfl ?_
                refine e_bipush dX6_readNext_130 rfl ?_
                refine t_ild 149 dX6_readNext_132 rfl (by decide) (fun _ => rfl) rfl ⟨by omega, by omega⟩ ?_
                refine e_iadd dX6_readNext_133 ?_
                refine e_iload_n dX6_readNext_134 rfl ?_
                refine t_ist 149 dX6_readNext_135 rfl (by decide) rfl rfl ⟨by omega, by omega⟩ ?_
                refine e_aload_n dX6_readNext_136 rfl ?_
                refine t_geta (k := 14) dX6_readNext_137 fl_X6_31 rfl ?_
                refine e_bipush dX6_readNext_140 rfl ?_
                refine e_dup2 dX6_readNext_142 rfl rfl ?_
                refine t_ild 149 dX6_readNext_143 rfl (by decide) (fun _ => rfl) rfl ⟨by omega, by omega⟩ ?_
                refine e_iconst dX6_readNext_144 ?_
                refine e_iadd dX6_readNext_145 ?_
                refine t_ist 149 dX6_readNext_146 rfl (by decide) rfl rfl ⟨by omega, by omega⟩ ?_
                refine e_goto (tgt := 158) dX6_readNext_147 rfl ?_
                refine e_return dX6_readNext_158 rfl ?_
                refine ⟨rfl, ?_⟩
                unfold t_rn
                rw [if_neg (by omega), e2]
                first
                  | (rw [if_pos (by assumption)]; rfl)
                  | (rw [if_neg (by assumption), if_pos (by assumption)]; rfl)
                  | (rw [if_neg (by assumption), if_neg (by assumption)]; done)
            · rw [show t_tk 23 σ = t_adv σ from if_pos (by assumption)]
              refine e_aload_n dX6_readNext_71 rfl ?_
              refine e_iconst dX6_readNext_72 ?_
              refine e_callV1rz (ci := 6) dX6_readNext_73 md_X6_readCell lk_X6_226 rfl q2023 qs75 (t_obj _ _) (by decide) rfl (Nat.le_of_ble_eq_true rfl) (C_X6_readCell ma hfa (by rw [ea]; exact h5) (by rw [ea]; exact h6) (Or.inl rfl)) ?_
              refine e_istore_n2 dX6_readNext_76 rfl ?_
              have k5 : t_rcS 0 (t_adv σ) 14 5 = σ 14 5 := by rw [t_rc_14, ea]
              have w5 : σ 14 5 ≠ 12 := fun w => nf (Or.inl ⟨by assumption, w⟩)
              refine e_aload_n dX6_readNext_77 rfl ?_
              refine t_geta (k := 14) dX6_readNext_78 fl_X6_31 rfl ?_
              refine e_bipush dX6_readNext_81 rfl ?_
              refine e_aload_n dX6_readNext_83 rfl ?_
              refine t_geta (k := 14) dX6_readNext_84 fl_X6_31 rfl ?_
              refine e_iconst dX6_readNext_87 ?_
              refine t_ild 149 dX6_readNext_88 rfl (by decide) (fun _ => rfl) rfl ⟨by omega, by omega⟩ ?_
              refine e_iadd dX6_readNext_89 ?_
              refine e_iload_n dX6_readNext_90 rfl ?_
              refine t_ist 149 dX6_readNext_91 rfl (by decide) rfl rfl ⟨by omega, by omega⟩ ?_
              refine e_aload_n dX6_readNext_92 rfl ?_
              refine t_geta (k := 14) dX6_readNext_93 fl_X6_31 rfl ?_
              refine e_iconst dX6_readNext_96 ?_
              refine e_dup2 dX6_readNext_97 rfl rfl ?_
              refine t_ild 149 dX6_readNext_98 rfl (by decide) (fun _ => rfl) rfl ⟨by omega, by omega⟩ ?_
              refine e_iconst dX6_readNext_99 ?_
              refine e_iadd dX6_readNext_100 ?_
              refine t_ist 149 dX6_readNext_101 rfl (by decide) rfl rfl ⟨by omega, by omega⟩ ?_
              refine e_goto (tgt := 158) dX6_readNext_102 rfl ?_
              refine e_return dX6_readNext_158 rfl ?_
              refine ⟨rfl, ?_⟩
              unfold t_rn
              rw [if_neg (by omega), e2]
              first
                | (rw [if_pos (by assumption)]; rfl)
                | (rw [if_neg (by assumption), if_pos (by assumption)]; rfl)
                | (rw [if_neg (by assumption), if_neg (by assumption)]; done)
          · refine e_return dX6_readNext_61 rfl ?_
            refine ⟨rfl, ?_⟩
            unfold t_rn
            rw [if_pos (by assumption)]
        · refine e_aload_n dX6_readNext_49 rfl ?_
          refine e_iconst dX6_readNext_50 ?_
          refine e_callV1vz (ci := 6) dX6_readNext_51 md_X6_errs lk_X6_185 rfl q1995 qs70 (t_obj _ _) (by decide) rfl (Nat.le_of_ble_eq_true rfl) (C_X6_errs m1.2.2.2.2.2 (by decide)) ?_
          refine e_hp (t_rn2 σ) (by unfold t_rn2; first | rw [if_pos (by assumption)] | rw [if_neg (by assumption)]) ?_
          have m2 := (t_mo_rn2 hI).1
          refine e_fgt 1 ?_
          refine e_aload_n dX6_readNext_54 rfl ?_
          refine e_callV0rz (ci := 6) dX6_readNext_55 md_X6_good lk_X6_163 rfl q1968 qs64 (t_obj _ _) (by decide) rfl (Nat.le_of_ble_eq_true rfl) (C_X6_good m2.2.2.2.2.2) ?_
          refine e_bif_ne (tgt := 62) dX6_readNext_58 rfl (fun c23 => ?_) (fun c23 => ?_)
          · obtain ⟨e2, nf, kn⟩ := t_rn2_g (σ := σ) (by assumption)
            rw [e2]
            have ma := (t_mo_adv hI).1
            have ea := t_adv_14 σ
            have hfa : ∀ j, 0 ≤ j → j < 149 → 0 ≤ t_adv σ 14 j ∧ t_adv σ 14 j ≤ 2000000 := fun j a b => by rw [ea]; exact hf j a b
            
            refine e_aload_n dX6_readNext_62 rfl ?_
            refine e_ldcS 23 dX6_readNext_63 rfl ?_
            refine e_callV1rz (ci := 6) dX6_readNext_65 md_X6_takes lk_X6_182 rfl q1985 qs68 (t_obj _ _) (by decide) rfl (Nat.le_of_ble_eq_true rfl) (C_X6_takes hI ho (by decide)) ?_
            refine e_bif_eq (tgt := 105) dX6_readNext_68 rfl (fun c24 => ?_) (fun c24 => ?_)
            · rw [show t_tk 23 σ = σ from if_neg (by assumption)]
              refine e_aload_n dX6_readNext_105 rfl ?_
              refine e_ldcS 24 dX6_readNext_106 rfl ?_
              refine e_callV1rz (ci := 6) dX6_readNext_108 md_X6_takes lk_X6_182 rfl q1985 qs68 (t_obj _ _) (by decide) rfl (Nat.le_of_ble_eq_true rfl) (C_X6_takes hI ho (by decide)) ?_
              refine e_bif_eq (tgt := 150) dX6_readNext_111 rfl (fun c25 => ?_) (fun c25 => ?_)
              · rw [show t_tk 24 σ = σ from if_neg (by assumption)]
                have w7 : σ 14 7 ≠ 7 := fun w => nf (Or.inr (Or.inr ⟨by omega, w⟩))
                refine e_aload_n dX6_readNext_150 rfl ?_
                refine e_callV0vz (ci := 6) dX6_readNext_151 md_X6_advance lk_X6_179 rfl q1954 qs62 (t_obj _ _) (by decide) rfl (Nat.le_of_ble_eq_true rfl) (C_X6_advance hI) ?_
                refine e_aload_n dX6_readNext_154 rfl ?_
                refine e_callV0vz (ci := 6) dX6_readNext_155 md_X6_readWidow lk_X6_249 rfl q2031 qs77 (t_obj _ _) (by decide) rfl (Nat.le_of_ble_eq_true rfl) (C_X6_readWidow ma ho hfa (by rw [ea]; exact h5) (by rw [ea]; exact h6) (by rw [ea]; omega) (by rw [ea]; exact h8 (by omega))) ?_
                refine e_return dX6_readNext_158 rfl ?_
                refine ⟨rfl, ?_⟩
                unfold t_rn
                rw [if_neg (by omega), e2]
                first
                  | (rw [if_pos (by assumption)]; rfl)
                  | (rw [if_neg (by assumption), if_pos (by assumption)]; rfl)
                  | (rw [if_neg (by assumption), if_neg (by assumption)]; done)
              · rw [show t_tk 24 σ = t_adv σ from if_pos (by assumption)]
                refine e_aload_n dX6_readNext_114 rfl ?_
                refine e_iconst dX6_readNext_115 ?_
                refine e_callV1rz (ci := 6) dX6_readNext_116 md_X6_readCell lk_X6_226 rfl q2023 qs75 (t_obj _ _) (by decide) rfl (Nat.le_of_ble_eq_true rfl) (C_X6_readCell ma hfa (by rw [ea]; exact h5) (by rw [ea]; exact h6) (Or.inr rfl)) ?_
                refine e_istore_n2 dX6_readNext_119 rfl ?_
                have k6 : t_rcS 1 (t_adv σ) 14 6 = σ 14 6 := by rw [t_rc_14, ea]
                have w6 : σ 14 6 ≠ 6 := fun w => nf (Or.inr (Or.inl ⟨by assumption, w⟩))
                refine e_aload_n dX6_readNext_120 rfl ?_
                refine t_geta (k := 14) dX6_readNext_121 fl_X6_31 rfl ?_
                refine e_bipush dX6_readNext_124 rfl ?_
                refine e_aload_n dX6_readNext_126 rfl ?_
                refine t_geta (k := 14) dX6_readNext_127 fl_X6_31 rfl ?_
                refine e_bipush dX6_readNext_130 rfl ?_
                refine t_ild 149 dX6_readNext_132 rfl (by decide) (fun _ => rfl) rfl ⟨by omega, by omega⟩ ?_
                refine e_iadd dX6_readNext_133 ?_
                refine e_iload_n dX6_readNext_134 rfl ?_
                refine t_ist 149 dX6_readNext_135 rfl (by decide) rfl rfl ⟨by omega, by omega⟩ ?_
                refine e_aload_n dX6_readNext_136 rfl ?_
                refine t_geta (k := 14) dX6_readNext_137 fl_X6_31 rfl ?_
                refine e_bipush dX6_readNext_140 rfl ?_
                refine e_dup2 dX6_readNext_142 rfl rfl ?_
                refine t_ild 149 dX6_readNext_143 rfl (by decide) (fun _ => rfl) rfl ⟨by omega, by omega⟩ ?_
                refine e_iconst dX6_readNext_144 ?_
                refine e_iadd dX6_readNext_145 ?_
                refine t_ist 149 dX6_readNext_146 rfl (by decide) rfl rfl ⟨by omega, by omega⟩ ?_
                refine e_goto (tgt := 158) dX6_readNext_147 rfl ?_
                refine e_return dX6_readNext_158 rfl ?_
                refine ⟨rfl, ?_⟩
                unfold t_rn
                rw [if_neg (by omega), e2]
                first
                  | (rw [if_pos (by assumption)]; rfl)
                  | (rw [if_neg (by assumption), if_pos (by assumption)]; rfl)
                  | (rw [if_neg (by assumption), if_neg (by assumption)]; done)
            · rw [show t_tk 23 σ = t_adv σ from if_pos (by assumption)]
              refine e_aload_n dX6_readNext_71 rfl ?_
              refine e_iconst dX6_readNext_72 ?_
              refine e_callV1rz (ci := 6) dX6_readNext_73 md_X6_readCell lk_X6_226 rfl q2023 qs75 (t_obj _ _) (by decide) rfl (Nat.le_of_ble_eq_true rfl) (C_X6_readCell ma hfa (by rw [ea]; exact h5) (by rw [ea]; exact h6) (Or.inl rfl)) ?_
              refine e_istore_n2 dX6_readNext_76 rfl ?_
              have k5 : t_rcS 0 (t_adv σ) 14 5 = σ 14 5 := by rw [t_rc_14, ea]
              have w5 : σ 14 5 ≠ 12 := fun w => nf (Or.inl ⟨by assumption, w⟩)
              refine e_aload_n dX6_readNext_77 rfl ?_
              refine t_geta (k := 14) dX6_readNext_78 fl_X6_31 rfl ?_
              refine e_bipush dX6_readNext_81 rfl ?_
              refine e_aload_n dX6_readNext_83 rfl ?_
              refine t_geta (k := 14) dX6_readNext_84 fl_X6_31 rfl ?_
              refine e_iconst dX6_readNext_87 ?_
              refine t_ild 149 dX6_readNext_88 rfl (by decide) (fun _ => rfl) rfl ⟨by omega, by omega⟩ ?_
              refine e_iadd dX6_readNext_89 ?_
              refine e_iload_n dX6_readNext_90 rfl ?_
              refine t_ist 149 dX6_readNext_91 rfl (by decide) rfl rfl ⟨by omega, by omega⟩ ?_
              refine e_aload_n dX6_readNext_92 rfl ?_
              refine t_geta (k := 14) dX6_readNext_93 fl_X6_31 rfl ?_
              refine e_iconst dX6_readNext_96 ?_
              refine e_dup2 dX6_readNext_97 rfl rfl ?_
              refine t_ild 149 dX6_readNext_98 rfl (by decide) (fun _ => rfl) rfl ⟨by omega, by omega⟩ ?_
              refine e_iconst dX6_readNext_99 ?_
              refine e_iadd dX6_readNext_100 ?_
              refine t_ist 149 dX6_readNext_101 rfl (by decide) rfl rfl ⟨by omega, by omega⟩ ?_
              refine e_goto (tgt := 158) dX6_readNext_102 rfl ?_
              refine e_return dX6_readNext_158 rfl ?_
              refine ⟨rfl, ?_⟩
              unfold t_rn
              rw [if_neg (by omega), e2]
              first
                | (rw [if_pos (by assumption)]; rfl)
                | (rw [if_neg (by assumption), if_pos (by assumption)]; rfl)
                | (rw [if_neg (by assumption), if_neg (by assumption)]; done)
          · refine e_return dX6_readNext_61 rfl ?_
            refine ⟨rfl, ?_⟩
            unfold t_rn
            rw [if_pos (by assumption)]
      · refine e_aload_n dX6_readNext_37 rfl ?_
        refine e_iconst dX6_readNext_38 ?_
        refine e_callV1vz (ci := 6) dX6_readNext_39 md_X6_errs lk_X6_185 rfl q1995 qs70 (t_obj _ _) (by decide) rfl (Nat.le_of_ble_eq_true rfl) (C_X6_errs hI.2.2.2.2.2 (by decide)) ?_
        refine e_hp (t_rn1 σ) (by first | (exfalso; omega) | (unfold t_rn1; first | rw [if_pos (by omega)] | rw [if_neg (by omega)])) ?_
        have m1 := (t_mo_rn1 hI).1
        have e1 := t_rn1_14 σ
        have hf1 : ∀ j, 0 ≤ j → j < 149 → 0 ≤ t_rn1 σ 14 j ∧ t_rn1 σ 14 j ≤ 2000000 := fun j a b => by rw [e1]; exact hf j a b
        refine e_aload_n dX6_readNext_42 rfl ?_
        refine e_callV0rz (ci := 6) dX6_readNext_43 md_X6_isFull lk_X6_246 rfl q2019 qs74 (t_obj _ _) (by decide) rfl (Nat.le_of_ble_eq_true rfl) (C_X6_isFull m1 ho hf1) ?_
        refine e_bif_eq (tgt := 54) dX6_readNext_46 rfl (fun c26 => ?_) (fun c26 => ?_)
        · refine e_hp (t_rn2 σ) (by unfold t_rn2; first | rw [if_pos (by assumption)] | rw [if_neg (by assumption)]) ?_
          have m2 := (t_mo_rn2 hI).1
          refine e_fgt 1 ?_
          refine e_aload_n dX6_readNext_54 rfl ?_
          refine e_callV0rz (ci := 6) dX6_readNext_55 md_X6_good lk_X6_163 rfl q1968 qs64 (t_obj _ _) (by decide) rfl (Nat.le_of_ble_eq_true rfl) (C_X6_good m2.2.2.2.2.2) ?_
          refine e_bif_ne (tgt := 62) dX6_readNext_58 rfl (fun c27 => ?_) (fun c27 => ?_)
          · obtain ⟨e2, nf, kn⟩ := t_rn2_g (σ := σ) (by assumption)
            rw [e2]
            have ma := (t_mo_adv hI).1
            have ea := t_adv_14 σ
            have hfa : ∀ j, 0 ≤ j → j < 149 → 0 ≤ t_adv σ 14 j ∧ t_adv σ 14 j ≤ 2000000 := fun j a b => by rw [ea]; exact hf j a b
            
            refine e_aload_n dX6_readNext_62 rfl ?_
            refine e_ldcS 23 dX6_readNext_63 rfl ?_
            refine e_callV1rz (ci := 6) dX6_readNext_65 md_X6_takes lk_X6_182 rfl q1985 qs68 (t_obj _ _) (by decide) rfl (Nat.le_of_ble_eq_true rfl) (C_X6_takes hI ho (by decide)) ?_
            refine e_bif_eq (tgt := 105) dX6_readNext_68 rfl (fun c28 => ?_) (fun c28 => ?_)
            · rw [show t_tk 23 σ = σ from if_neg (by assumption)]
              refine e_aload_n dX6_readNext_105 rfl ?_
              refine e_ldcS 24 dX6_readNext_106 rfl ?_
              refine e_callV1rz (ci := 6) dX6_readNext_108 md_X6_takes lk_X6_182 rfl q1985 qs68 (t_obj _ _) (by decide) rfl (Nat.le_of_ble_eq_true rfl) (C_X6_takes hI ho (by decide)) ?_
              refine e_bif_eq (tgt := 150) dX6_readNext_111 rfl (fun c29 => ?_) (fun c29 => ?_)
              · rw [show t_tk 24 σ = σ from if_neg (by assumption)]
                have w7 : σ 14 7 ≠ 7 := fun w => nf (Or.inr (Or.inr ⟨by omega, w⟩))
                refine e_aload_n dX6_readNext_150 rfl ?_
                refine e_callV0vz (ci := 6) dX6_readNext_151 md_X6_advance lk_X6_179 rfl q1954 qs62 (t_obj _ _) (by decide) rfl (Nat.le_of_ble_eq_true rfl) (C_X6_advance hI) ?_
                refine e_aload_n dX6_readNext_154 rfl ?_
                refine e_callV0vz (ci := 6) dX6_readNext_155 md_X6_readWidow lk_X6_249 rfl q2031 qs77 (t_obj _ _) (by decide) rfl (Nat.le_of_ble_eq_true rfl) (C_X6_readWidow ma ho hfa (by rw [ea]; exact h5) (by rw [ea]; exact h6) (by rw [ea]; omega) (by rw [ea]; exact h8 (by omega))) ?_
                refine e_return dX6_readNext_158 rfl ?_
                refine ⟨rfl, ?_⟩
                unfold t_rn
                rw [if_neg (by omega), e2]
                first
                  | (rw [if_pos (by assumption)]; rfl)
                  | (rw [if_neg (by assumption), if_pos (by assumption)]; rfl)
                  | (rw [if_neg (by assumption), if_neg (by assumption)]; done)
              · rw [show t_tk 24 σ = t_adv σ from if_pos (by assumption)]
                refine e_aload_n dX6_readNext_114 rfl ?_
                refine e_iconst dX6_readNext_115 ?_
                refine e_callV1rz (ci := 6) dX6_readNext_116 md_X6_readCell lk_X6_226 rfl q2023 qs75 (t_obj _ _) (by decide) rfl (Nat.le_of_ble_eq_true rfl) (C_X6_readCell ma hfa (by rw [ea]; exact h5) (by rw [ea]; exact h6) (Or.inr rfl)) ?_
                refine e_istore_n2 dX6_readNext_119 rfl ?_
                have k6 : t_rcS 1 (t_adv σ) 14 6 = σ 14 6 := by rw [t_rc_14, ea]
                have w6 : σ 14 6 ≠ 6 := fun w => nf (Or.inr (Or.inl ⟨by assumption, w⟩))
                refine e_aload_n dX6_readNext_120 rfl ?_
                refine t_geta (k := 14) dX6_readNext_121 fl_X6_31 rfl ?_
                refine e_bipush dX6_readNext_124 rfl ?_
                refine e_aload_n dX6_readNext_126 rfl ?_
                refine t_geta (k := 14) dX6_readNext_127 fl_X6_31 rfl ?_
                refine e_bipush dX6_readNext_130 rfl ?_
                refine t_ild 149 dX6_readNext_132 rfl (by decide) (fun _ => rfl) rfl ⟨by omega, by omega⟩ ?_
                refine e_iadd dX6_readNext_133 ?_
                refine e_iload_n dX6_readNext_134 rfl ?_
                refine t_ist 149 dX6_readNext_135 rfl (by decide) rfl rfl ⟨by omega, by omega⟩ ?_
                refine e_aload_n dX6_readNext_136 rfl ?_
                refine t_geta (k := 14) dX6_readNext_137 fl_X6_31 rfl ?_
                refine e_bipush dX6_readNext_140 rfl ?_
                refine e_dup2 dX6_readNext_142 rfl rfl ?_
                refine t_ild 149 dX6_readNext_143 rfl (by decide) (fun _ => rfl) rfl ⟨by omega, by omega⟩ ?_
                refine e_iconst dX6_readNext_144 ?_
                refine e_iadd dX6_readNext_145 ?_
                refine t_ist 149 dX6_readNext_146 rfl (by decide) rfl rfl ⟨by omega, by omega⟩ ?_
                refine e_goto (tgt := 158) dX6_readNext_147 rfl ?_
                refine e_return dX6_readNext_158 rfl ?_
                refine ⟨rfl, ?_⟩
                unfold t_rn
                rw [if_neg (by omega), e2]
                first
                  | (rw [if_pos (by assumption)]; rfl)
                  | (rw [if_neg (by assumption), if_pos (by assumption)]; rfl)
                  | (rw [if_neg (by assumption), if_neg (by assumption)]; done)
            · rw [show t_tk 23 σ = t_adv σ from if_pos (by assumption)]
              refine e_aload_n dX6_readNext_71 rfl ?_
              refine e_iconst dX6_readNext_72 ?_
              refine e_callV1rz (ci := 6) dX6_readNext_73 md_X6_readCell lk_X6_226 rfl q2023 qs75 (t_obj _ _) (by decide) rfl (Nat.le_of_ble_eq_true rfl) (C_X6_readCell ma hfa (by rw [ea]; exact h5) (by rw [ea]; exact h6) (Or.inl rfl)) ?_
              refine e_istore_n2 dX6_readNext_76 rfl ?_
              have k5 : t_rcS 0 (t_adv σ) 14 5 = σ 14 5 := by rw [t_rc_14, ea]
              have w5 : σ 14 5 ≠ 12 := fun w => nf (Or.inl ⟨by assumption, w⟩)
              refine e_aload_n dX6_readNext_77 rfl ?_
              refine t_geta (k := 14) dX6_readNext_78 fl_X6_31 rfl ?_
              refine e_bipush dX6_readNext_81 rfl ?_
              refine e_aload_n dX6_readNext_83 rfl ?_
              refine t_geta (k := 14) dX6_readNext_84 fl_X6_31 rfl ?_
              refine e_iconst dX6_readNext_87 ?_
              refine t_ild 149 dX6_readNext_88 rfl (by decide) (fun _ => rfl) rfl ⟨by omega, by omega⟩ ?_
              refine e_iadd dX6_readNext_89 ?_
              refine e_iload_n dX6_readNext_90 rfl ?_
              refine t_ist 149 dX6_readNext_91 rfl (by decide) rfl rfl ⟨by omega, by omega⟩ ?_
              refine e_aload_n dX6_readNext_92 rfl ?_
              refine t_geta (k := 14) dX6_readNext_93 fl_X6_31 rfl ?_
              refine e_iconst dX6_readNext_96 ?_
              refine e_dup2 dX6_readNext_97 rfl rfl ?_
              refine t_ild 149 dX6_readNext_98 rfl (by decide) (fun _ => rfl) rfl ⟨by omega, by omega⟩ ?_
              refine e_iconst dX6_readNext_99 ?_
              refine e_iadd dX6_readNext_100 ?_
              refine t_ist 149 dX6_readNext_101 rfl (by decide) rfl rfl ⟨by omega, by omega⟩ ?_
              refine e_goto (tgt := 158) dX6_readNext_102 rfl ?_
              refine e_return dX6_readNext_158 rfl ?_
              refine ⟨rfl, ?_⟩
              unfold t_rn
              rw [if_neg (by omega), e2]
              first
                | (rw [if_pos (by assumption)]; rfl)
                | (rw [if_neg (by assumption), if_pos (by assumption)]; rfl)
                | (rw [if_neg (by assumption), if_neg (by assumption)]; done)
          · refine e_return dX6_readNext_61 rfl ?_
            refine ⟨rfl, ?_⟩
            unfold t_rn
            rw [if_pos (by assumption)]
        · refine e_aload_n dX6_readNext_49 rfl ?_
          refine e_iconst dX6_readNext_50 ?_
          refine e_callV1vz (ci := 6) dX6_readNext_51 md_X6_errs lk_X6_185 rfl q1995 qs70 (t_obj _ _) (by decide) rfl (Nat.le_of_ble_eq_true rfl) (C_X6_errs m1.2.2.2.2.2 (by decide)) ?_
          refine e_hp (t_rn2 σ) (by unfold t_rn2; first | rw [if_pos (by assumption)] | rw [if_neg (by assumption)]) ?_
          have m2 := (t_mo_rn2 hI).1
          refine e_fgt 1 ?_
          refine e_aload_n dX6_readNext_54 rfl ?_
          refine e_callV0rz (ci := 6) dX6_readNext_55 md_X6_good lk_X6_163 rfl q1968 qs64 (t_obj _ _) (by decide) rfl (Nat.le_of_ble_eq_true rfl) (C_X6_good m2.2.2.2.2.2) ?_
          refine e_bif_ne (tgt := 62) dX6_readNext_58 rfl (fun c30 => ?_) (fun c30 => ?_)
          · obtain ⟨e2, nf, kn⟩ := t_rn2_g (σ := σ) (by assumption)
            rw [e2]
            have ma := (t_mo_adv hI).1
            have ea := t_adv_14 σ
            have hfa : ∀ j, 0 ≤ j → j < 149 → 0 ≤ t_adv σ 14 j ∧ t_adv σ 14 j ≤ 2000000 := fun j a b => by rw [ea]; exact hf j a b
            
            refine e_aload_n dX6_readNext_62 rfl ?_
            refine e_ldcS 23 dX6_readNext_63 rfl ?_
            refine e_callV1rz (ci := 6) dX6_readNext_65 md_X6_takes lk_X6_182 rfl q1985 qs68 (t_obj _ _) (by decide) rfl (Nat.le_of_ble_eq_true rfl) (C_X6_takes hI ho (by decide)) ?_
            refine e_bif_eq (tgt := 105) dX6_readNext_68 rfl (fun c31 => ?_) (fun c31 => ?_)
            · rw [show t_tk 23 σ = σ from if_neg (by assumption)]
              refine e_aload_n dX6_readNext_105 rfl ?_
              refine e_ldcS 24 dX6_readNext_106 rfl ?_
              refine e_callV1rz (ci := 6) dX6_readNext_108 md_X6_takes lk_X6_182 rfl q1985 qs68 (t_obj _ _) (by decide) rfl (Nat.le_of_ble_eq_true rfl) (C_X6_takes hI ho (by decide)) ?_
              refine e_bif_eq (tgt := 150) dX6_readNext_111 rfl (fun c32 => ?_) (fun c32 => ?_)
              · rw [show t_tk 24 σ = σ from if_neg (by assumption)]
                have w7 : σ 14 7 ≠ 7 := fun w => nf (Or.inr (Or.inr ⟨by omega, w⟩))
                refine e_aload_n dX6_readNext_150 rfl ?_
                refine e_callV0vz (ci := 6) dX6_readNext_151 md_X6_advance lk_X6_179 rfl q1954 qs62 (t_obj _ _) (by decide) rfl (Nat.le_of_ble_eq_true rfl) (C_X6_advance hI) ?_
                refine e_aload_n dX6_readNext_154 rfl ?_
                refine e_callV0vz (ci := 6) dX6_readNext_155 md_X6_readWidow lk_X6_249 rfl q2031 qs77 (t_obj _ _) (by decide) rfl (Nat.le_of_ble_eq_true rfl) (C_X6_readWidow ma ho hfa (by rw [ea]; exact h5) (by rw [ea]; exact h6) (by rw [ea]; omega) (by rw [ea]; exact h8 (by omega))) ?_
                refine e_return dX6_readNext_158 rfl ?_
                refine ⟨rfl, ?_⟩
                unfold t_rn
                rw [if_neg (by omega), e2]
                first
                  | (rw [if_pos (by assumption)]; rfl)
                  | (rw [if_neg (by assumption), if_pos (by assumption)]; rfl)
                  | (rw [if_neg (by assumption), if_neg (by assumption)]; done)
              · rw [show t_tk 24 σ = t_adv σ from if_pos (by assumption)]
                refine e_aload_n dX6_readNext_114 rfl ?_
                refine e_iconst dX6_readNext_115 ?_
                refine e_callV1rz (ci := 6) dX6_readNext_116 md_X6_readCell lk_X6_226 rfl q2023 qs75 (t_obj _ _) (by decide) rfl (Nat.le_of_ble_eq_true rfl) (C_X6_readCell ma hfa (by rw [ea]; exact h5) (by rw [ea]; exact h6) (Or.inr rfl)) ?_
                refine e_istore_n2 dX6_readNext_119 rfl ?_
                have k6 : t_rcS 1 (t_adv σ) 14 6 = σ 14 6 := by rw [t_rc_14, ea]
                have w6 : σ 14 6 ≠ 6 := fun w => nf (Or.inr (Or.inl ⟨by assumption, w⟩))
                refine e_aload_n dX6_readNext_120 rfl ?_
                refine t_geta (k := 14) dX6_readNext_121 fl_X6_31 rfl ?_
                refine e_bipush dX6_readNext_124 rfl ?_
                refine e_aload_n dX6_readNext_126 rfl ?_
                refine t_geta (k := 14) dX6_readNext_127 fl_X6_31 rfl ?_
                refine e_bipush dX6_readNext_130 rfl ?_
                refine t_ild 149 dX6_readNext_132 rfl (by decide) (fun _ => rfl) rfl ⟨by omega, by omega⟩ ?_
                refine e_iadd dX6_readNext_133 ?_
                refine e_iload_n dX6_readNext_134 rfl ?_
                refine t_ist 149 dX6_readNext_135 rfl (by decide) rfl rfl ⟨by omega, by omega⟩ ?_
                refine e_aload_n dX6_readNext_136 rfl ?_
                refine t_geta (k := 14) dX6_readNext_137 fl_X6_31 rfl ?_
                refine e_bipush dX6_readNext_140 rfl ?_
                refine e_dup2 dX6_readNext_142 rfl rfl ?_
                refine t_ild 149 dX6_readNext_143 rfl (by decide) (fun _ => rfl) rfl ⟨by omega, by omega⟩ ?_
                refine e_iconst dX6_readNext_144 ?_
                refine e_iadd dX6_readNext_145 ?_
                refine t_ist 149 dX6_readNext_146 rfl (by decide) rfl rfl ⟨by omega, by omega⟩ ?_
                refine e_goto (tgt := 158) dX6_readNext_147 rfl ?_
                refine e_return dX6_readNext_158 rfl ?_
                refine ⟨rfl, ?_⟩
                unfold t_rn
                rw [if_neg (by omega), e2]
                first
                  | (rw [if_pos (by assumption)]; rfl)
                  | (rw [if_neg (by assumption), if_pos (by assumption)]; rfl)
                  | (rw [if_neg (by assumption), if_neg (by assumption)]; done)
            · rw [show t_tk 23 σ = t_adv σ from if_pos (by assumption)]
              refine e_aload_n dX6_readNext_71 rfl ?_
              refine e_iconst dX6_readNext_72 ?_
              refine e_callV1rz (ci := 6) dX6_readNext_73 md_X6_readCell lk_X6_226 rfl q2023 qs75 (t_obj _ _) (by decide) rfl (Nat.le_of_ble_eq_true rfl) (C_X6_readCell ma hfa (by rw [ea]; exact h5) (by rw [ea]; exact h6) (Or.inl rfl)) ?_
              refine e_istore_n2 dX6_readNext_76 rfl ?_
              have k5 : t_rcS 0 (t_adv σ) 14 5 = σ 14 5 := by rw [t_rc_14, ea]
              have w5 : σ 14 5 ≠ 12 := fun w => nf (Or.inl ⟨by assumption, w⟩)
              refine e_aload_n dX6_readNext_77 rfl ?_
              refine t_geta (k := 14) dX6_readNext_78 fl_X6_31 rfl ?_
              refine e_bipush dX6_readNext_81 rfl ?_
              refine e_aload_n dX6_readNext_83 rfl ?_
              refine t_geta (k := 14) dX6_readNext_84 fl_X6_31 rfl ?_
              refine e_iconst dX6_readNext_87 ?_
              refine t_ild 149 dX6_readNext_88 rfl (by decide) (fun _ => rfl) rfl ⟨by omega, by omega⟩ ?_
              refine e_iadd dX6_readNext_89 ?_
              refine e_iload_n dX6_readNext_90 rfl ?_
              refine t_ist 149 dX6_readNext_91 rfl (by decide) rfl rfl ⟨by omega, by omega⟩ ?_
              refine e_aload_n dX6_readNext_92 rfl ?_
              refine t_geta (k := 14) dX6_readNext_93 fl_X6_31 rfl ?_
              refine e_iconst dX6_readNext_96 ?_
              refine e_dup2 dX6_readNext_97 rfl rfl ?_
              refine t_ild 149 dX6_readNext_98 rfl (by decide) (fun _ => rfl) rfl ⟨by omega, by omega⟩ ?_
              refine e_iconst dX6_readNext_99 ?_
              refine e_iadd dX6_readNext_100 ?_
              refine t_ist 149 dX6_readNext_101 rfl (by decide) rfl rfl ⟨by omega, by omega⟩ ?_
              refine e_goto (tgt := 158) dX6_readNext_102 rfl ?_
              refine e_return dX6_readNext_158 rfl ?_
              refine ⟨rfl, ?_⟩
              unfold t_rn
              rw [if_neg (by omega), e2]
              first
                | (rw [if_pos (by assumption)]; rfl)
                | (rw [if_neg (by assumption), if_pos (by assumption)]; rfl)
                | (rw [if_neg (by assumption), if_neg (by assumption)]; done)
          · refine e_return dX6_readNext_61 rfl ?_
            refine ⟨rfl, ?_⟩
            unfold t_rn
            rw [if_pos (by assumption)]
    · refine e_aload_n dX6_readNext_18 rfl ?_
      refine e_ldcS 25 dX6_readNext_19 rfl ?_
      refine e_callV1rz (ci := 6) dX6_readNext_21 md_X6_is lk_X6_175 rfl q1989 qs69 (t_obj _ _) (by decide) rfl (Nat.le_of_ble_eq_true rfl) (C_X6_is hI ho (by decide)) ?_
      refine e_bif_eq (tgt := 31) dX6_readNext_24 rfl (fun c33 => ?_) (fun c33 => ?_)
      · refine e_iconst dX6_readNext_31 ?_
        refine e_top (e_i (if t_isv σ 23 = 1 ∨ t_isv σ 24 = 1 ∨ t_isv σ 25 = 1 then 1 else 0)) (by first | rw [if_pos (by omega)] | rw [if_neg (by omega)]) ?_
        refine e_istore_n1 dX6_readNext_32 rfl ?_
        refine e_iload_n dX6_readNext_33 rfl ?_
        refine e_bif_ne (tgt := 42) dX6_readNext_34 rfl (fun c34 => ?_) (fun c34 => ?_)
        · refine e_hp (t_rn1 σ) (by first | (exfalso; omega) | (unfold t_rn1; first | rw [if_pos (by omega)] | rw [if_neg (by omega)])) ?_
          have m1 := (t_mo_rn1 hI).1
          have e1 := t_rn1_14 σ
          have hf1 : ∀ j, 0 ≤ j → j < 149 → 0 ≤ t_rn1 σ 14 j ∧ t_rn1 σ 14 j ≤ 2000000 := fun j a b => by rw [e1]; exact hf j a b
          refine e_aload_n dX6_readNext_42 rfl ?_
          refine e_callV0rz (ci := 6) dX6_readNext_43 md_X6_isFull lk_X6_246 rfl q2019 qs74 (t_obj _ _) (by decide) rfl (Nat.le_of_ble_eq_true rfl) (C_X6_isFull m1 ho hf1) ?_
          refine e_bif_eq (tgt := 54) dX6_readNext_46 rfl (fun c35 => ?_) (fun c35 => ?_)
          · refine e_hp (t_rn2 σ) (by unfold t_rn2; first | rw [if_pos (by assumption)] | rw [if_neg (by assumption)]) ?_
            have m2 := (t_mo_rn2 hI).1
            refine e_fgt 1 ?_
            refine e_aload_n dX6_readNext_54 rfl ?_
            refine e_callV0rz (ci := 6) dX6_readNext_55 md_X6_good lk_X6_163 rfl q1968 qs64 (t_obj _ _) (by decide) rfl (Nat.le_of_ble_eq_true rfl) (C_X6_good m2.2.2.2.2.2) ?_
            refine e_bif_ne (tgt := 62) dX6_readNext_58 rfl (fun c36 => ?_) (fun c36 => ?_)
            · obtain ⟨e2, nf, kn⟩ := t_rn2_g (σ := σ) (by assumption)
              rw [e2]
              have ma := (t_mo_adv hI).1
              have ea := t_adv_14 σ
              have hfa : ∀ j, 0 ≤ j → j < 149 → 0 ≤ t_adv σ 14 j ∧ t_adv σ 14 j ≤ 2000000 := fun j a b => by rw [ea]; exact hf j a b
              
              refine e_aload_n dX6_readNext_62 rfl ?_
              refine e_ldcS 23 dX6_readNext_63 rfl ?_
              refine e_callV1rz (ci := 6) dX6_readNext_65 md_X6_takes lk_X6_182 rfl q1985 qs68 (t_obj _ _) (by decide) rfl (Nat.le_of_ble_eq_true rfl) (C_X6_takes hI ho (by decide)) ?_
              refine e_bif_eq (tgt := 105) dX6_readNext_68 rfl (fun c37 => ?_) (fun c37 => ?_)
              · rw [show t_tk 23 σ = σ from if_neg (by assumption)]
                refine e_aload_n dX6_readNext_105 rfl ?_
                refine e_ldcS 24 dX6_readNext_106 rfl ?_
                refine e_callV1rz (ci := 6) dX6_readNext_108 md_X6_takes lk_X6_182 rfl q1985 qs68 (t_obj _ _) (by decide) rfl (Nat.le_of_ble_eq_true rfl) (C_X6_takes hI ho (by decide)) ?_
                refine e_bif_eq (tgt := 150) dX6_readNext_111 rfl (fun c38 => ?_) (fun c38 => ?_)
                · rw [show t_tk 24 σ = σ from if_neg (by assumption)]
                  have w7 : σ 14 7 ≠ 7 := fun w => nf (Or.inr (Or.inr ⟨by omega, w⟩))
                  refine e_aload_n dX6_readNext_150 rfl ?_
                  refine e_callV0vz (ci := 6) dX6_readNext_151 md_X6_advance lk_X6_179 rfl q1954 qs62 (t_obj _ _) (by decide) rfl (Nat.le_of_ble_eq_true rfl) (C_X6_advance hI) ?_
                  refine e_aload_n dX6_readNext_154 rfl ?_
                  refine e_callV0vz (ci := 6) dX6_readNext_155 md_X6_readWidow lk_X6_249 rfl q2031 qs77 (t_obj _ _) (by decide) rfl (Nat.le_of_ble_eq_true rfl) (C_X6_readWidow ma ho hfa (by rw [ea]; exact h5) (by rw [ea]; exact h6) (by rw [ea]; omega) (by rw [ea]; exact h8 (by omega))) ?_
                  refine e_return dX6_readNext_158 rfl ?_
                  refine ⟨rfl, ?_⟩
                  unfold t_rn
                  rw [if_neg (by omega), e2]
                  first
                    | (rw [if_pos (by assumption)]; rfl)
                    | (rw [if_neg (by assumption), if_pos (by assumption)]; rfl)
                    | (rw [if_neg (by assumption), if_neg (by assumption)]; done)
                · rw [show t_tk 24 σ = t_adv σ from if_pos (by assumption)]
                  refine e_aload_n dX6_readNext_114 rfl ?_
                  refine e_iconst dX6_readNext_115 ?_
                  refine e_callV1rz (ci := 6) dX6_readNext_116 md_X6_readCell lk_X6_226 rfl q2023 qs75 (t_obj _ _) (by decide) rfl (Nat.le_of_ble_eq_true rfl) (C_X6_readCell ma hfa (by rw [ea]; exact h5) (by rw [ea]; exact h6) (Or.inr rfl)) ?_
                  refine e_istore_n2 dX6_readNext_119 rfl ?_
                  have k6 : t_rcS 1 (t_adv σ) 14 6 = σ 14 6 := by rw [t_rc_14, ea]
                  have w6 : σ 14 6 ≠ 6 := fun w => nf (Or.inr (Or.inl ⟨by assumption, w⟩))
                  refine e_aload_n dX6_readNext_120 rfl ?_
                  refine t_geta (k := 14) dX6_readNext_121 fl_X6_31 rfl ?_
                  refine e_bipush dX6_readNext_124 rfl ?_
                  refine e_aload_n dX6_readNext_126 rfl ?_
                  refine t_geta (k := 14) dX6_readNext_127 fl_X6_31 rfl ?_
                  refine e_bipush dX6_readNext_130 rfl ?_
                  refine t_ild 149 dX6_readNext_132 rfl (by decide) (fun _ => rfl) rfl ⟨by omega, by omega⟩ ?_
                  refine e_iadd dX6_readNext_133 ?_
                  refine e_iload_n dX6_readNext_134 rfl ?_
                  refine t_ist 149 dX6_readNext_135 rfl (by decide) rfl rfl ⟨by omega, by omega⟩ ?_
                  refine e_aload_n dX6_readNext_136 rfl ?_
                  refine t_geta (k := 14) dX6_readNext_137 fl_X6_31 rfl ?_
                  refine e_bipush dX6_readNext_140 rfl ?_
                  refine e_dup2 dX6_readNext_142 rfl rfl ?_
                  refine t_ild 149 dX6_readNext_143 rfl (by decide) (fun _ => rfl) rfl ⟨by omega, by omega⟩ ?_
                  refine e_iconst dX6_readNext_144 ?_
                  refine e_iadd dX6_readNext_145 ?_
                  refine t_ist 149 dX6_readNext_146 rfl (by decide) rfl rfl ⟨by omega, by omega⟩ ?_
                  refine e_goto (tgt := 158) dX6_readNext_147 rfl ?_
                  refine e_return dX6_readNext_158 rfl ?_
                  refine ⟨rfl, ?_⟩
                  unfold t_rn
                  rw [if_neg (by omega), e2]
                  first
                    | (rw [if_pos (by assumption)]; rfl)
                    | (rw [if_neg (by assumption), if_pos (by assumption)]; rfl)
                    | (rw [if_neg (by assumption), if_neg (by assumption)]; done)
              · rw [show t_tk 23 σ = t_adv σ from if_pos (by assumption)]
                refine e_aload_n dX6_readNext_71 rfl ?_
                refine e_iconst dX6_readNext_72 ?_
                refine e_callV1rz (ci := 6) dX6_readNext_73 md_X6_readCell lk_X6_226 rfl q2023 qs75 (t_obj _ _) (by decide) rfl (Nat.le_of_ble_eq_true rfl) (C_X6_readCell ma hfa (by rw [ea]; exact h5) (by rw [ea]; exact h6) (Or.inl rfl)) ?_
                refine e_istore_n2 dX6_readNext_76 rfl ?_
                have k5 : t_rcS 0 (t_adv σ) 14 5 = σ 14 5 := by rw [t_rc_14, ea]
                have w5 : σ 14 5 ≠ 12 := fun w => nf (Or.inl ⟨by assumption, w⟩)
                refine e_aload_n dX6_readNext_77 rfl ?_
                refine t_geta (k := 14) dX6_readNext_78 fl_X6_31 rfl ?_
                refine e_bipush dX6_readNext_81 rfl ?_
                refine e_aload_n dX6_readNext_83 rfl ?_
                refine t_geta (k := 14) dX6_readNext_84 fl_X6_31 rfl ?_
                refine e_iconst dX6_readNext_87 ?_
                refine t_ild 149 dX6_readNext_88 rfl (by decide) (fun _ => rfl) rfl ⟨by omega, by omega⟩ ?_
                refine e_iadd dX6_readNext_89 ?_
                refine e_iload_n dX6_readNext_90 rfl ?_
                refine t_ist 149 dX6_readNext_91 rfl (by decide) rfl rfl ⟨by omega, by omega⟩ ?_
                refine e_aload_n dX6_readNext_92 rfl ?_
                refine t_geta (k := 14) dX6_readNext_93 fl_X6_31 rfl ?_
                refine e_iconst dX6_readNext_96 ?_
                refine e_dup2 dX6_readNext_97 rfl rfl ?_
                refine t_ild 149 dX6_readNext_98 rfl (by decide) (fun _ => rfl) rfl ⟨by omega, by omega⟩ ?_
                refine e_iconst dX6_readNext_99 ?_
                refine e_iadd dX6_readNext_100 ?_
                refine t_ist 149 dX6_readNext_101 rfl (by decide) rfl rfl ⟨by omega, by omega⟩ ?_
                refine e_goto (tgt := 158) dX6_readNext_102 rfl ?_
                refine e_return dX6_readNext_158 rfl ?_
                refine ⟨rfl, ?_⟩
                unfold t_rn
                rw [if_neg (by omega), e2]
                first
                  | (rw [if_pos (by assumption)]; rfl)
                  | (rw [if_neg (by assumption), if_pos (by assumption)]; rfl)
                  | (rw [if_neg (by assumption), if_neg (by assumption)]; done)
            · refine e_return dX6_readNext_61 rfl ?_
              refine ⟨rfl, ?_⟩
              unfold t_rn
              rw [if_pos (by assumption)]
          · refine e_aload_n dX6_readNext_49 rfl ?_
            refine e_iconst dX6_readNext_50 ?_
            refine e_callV1vz (ci := 6) dX6_readNext_51 md_X6_errs lk_X6_185 rfl q1995 qs70 (t_obj _ _) (by decide) rfl (Nat.le_of_ble_eq_true rfl) (C_X6_errs m1.2.2.2.2.2 (by decide)) ?_
            refine e_hp (t_rn2 σ) (by unfold t_rn2; first | rw [if_pos (by assumption)] | rw [if_neg (by assumption)]) ?_
            have m2 := (t_mo_rn2 hI).1
            refine e_fgt 1 ?_
            refine e_aload_n dX6_readNext_54 rfl ?_
            refine e_callV0rz (ci := 6) dX6_readNext_55 md_X6_good lk_X6_163 rfl q1968 qs64 (t_obj _ _) (by decide) rfl (Nat.le_of_ble_eq_true rfl) (C_X6_good m2.2.2.2.2.2) ?_
            refine e_bif_ne (tgt := 62) dX6_readNext_58 rfl (fun c39 => ?_) (fun c39 => ?_)
            · obtain ⟨e2, nf, kn⟩ := t_rn2_g (σ := σ) (by assumption)
              rw [e2]
              have ma := (t_mo_adv hI).1
              have ea := t_adv_14 σ
              have hfa : ∀ j, 0 ≤ j → j < 149 → 0 ≤ t_adv σ 14 j ∧ t_adv σ 14 j ≤ 2000000 := fun j a b => by rw [ea]; exact hf j a b
              
              refine e_aload_n dX6_readNext_62 rfl ?_
              refine e_ldcS 23 dX6_readNext_63 rfl ?_
              refine e_callV1rz (ci := 6) dX6_readNext_65 md_X6_takes lk_X6_182 rfl q1985 qs68 (t_obj _ _) (by decide) rfl (Nat.le_of_ble_eq_true rfl) (C_X6_takes hI ho (by decide)) ?_
              refine e_bif_eq (tgt := 105) dX6_readNext_68 rfl (fun c40 => ?_) (fun c40 => ?_)
              · rw [show t_tk 23 σ = σ from if_neg (by assumption)]
                refine e_aload_n dX6_readNext_105 rfl ?_
                refine e_ldcS 24 dX6_readNext_106 rfl ?_
                refine e_callV1rz (ci := 6) dX6_readNext_108 md_X6_takes lk_X6_182 rfl q1985 qs68 (t_obj _ _) (by decide) rfl (Nat.le_of_ble_eq_true rfl) (C_X6_takes hI ho (by decide)) ?_
                refine e_bif_eq (tgt := 150) dX6_readNext_111 rfl (fun c41 => ?_) (fun c41 => ?_)
                · rw [show t_tk 24 σ = σ from if_neg (by assumption)]
                  have w7 : σ 14 7 ≠ 7 := fun w => nf (Or.inr (Or.inr ⟨by omega, w⟩))
                  refine e_aload_n dX6_readNext_150 rfl ?_
                  refine e_callV0vz (ci := 6) dX6_readNext_151 md_X6_advance lk_X6_179 rfl q1954 qs62 (t_obj _ _) (by decide) rfl (Nat.le_of_ble_eq_true rfl) (C_X6_advance hI) ?_
                  refine e_aload_n dX6_readNext_154 rfl ?_
                  refine e_callV0vz (ci := 6) dX6_readNext_155 md_X6_readWidow lk_X6_249 rfl q2031 qs77 (t_obj _ _) (by decide) rfl (Nat.le_of_ble_eq_true rfl) (C_X6_readWidow ma ho hfa (by rw [ea]; exact h5) (by rw [ea]; exact h6) (by rw [ea]; omega) (by rw [ea]; exact h8 (by omega))) ?_
                  refine e_return dX6_readNext_158 rfl ?_
                  refine ⟨rfl, ?_⟩
                  unfold t_rn
                  rw [if_neg (by omega), e2]
                  first
                    | (rw [if_pos (by assumption)]; rfl)
                    | (rw [if_neg (by assumption), if_pos (by assumption)]; rfl)
                    | (rw [if_neg (by assumption), if_neg (by assumption)]; done)
                · rw [show t_tk 24 σ = t_adv σ from if_pos (by assumption)]
                  refine e_aload_n dX6_readNext_114 rfl ?_
                  refine e_iconst dX6_readNext_115 ?_
                  refine e_callV1rz (ci := 6) dX6_readNext_116 md_X6_readCell lk_X6_226 rfl q2023 qs75 (t_obj _ _) (by decide) rfl (Nat.le_of_ble_eq_true rfl) (C_X6_readCell ma hfa (by rw [ea]; exact h5) (by rw [ea]; exact h6) (Or.inr rfl)) ?_
                  refine e_istore_n2 dX6_readNext_119 rfl ?_
                  have k6 : t_rcS 1 (t_adv σ) 14 6 = σ 14 6 := by rw [t_rc_14, ea]
                  have w6 : σ 14 6 ≠ 6 := fun w => nf (Or.inr (Or.inl ⟨by assumption, w⟩))
                  refine e_aload_n dX6_readNext_120 rfl ?_
                  refine t_geta (k := 14) dX6_readNext_121 fl_X6_31 rfl ?_
                  refine e_bipush dX6_readNext_124 rfl ?_
                  refine e_aload_n dX6_readNext_126 rfl ?_
                  refine t_geta (k := 14) dX6_readNext_127 fl_X6_31 rfl ?_
                  refine e_bipush dX6_readNext_130 rfl ?_
                  refine t_ild 149 dX6_readNext_132 rfl (by decide) (fun _ => rfl) rfl ⟨by omega, by omega⟩ ?_
                  refine e_iadd dX6_readNext_133 ?_
                  refine e_iload_n dX6_readNext_134 rfl ?_
                  refine t_ist 149 dX6_readNext_135 rfl (by decide) rfl rfl ⟨by omega, by omega⟩ ?_
                  refine e_aload_n dX6_readNext_136 rfl ?_
                  refine t_geta (k := 14) dX6_readNext_137 fl_X6_31 rfl ?_
                  refine e_bipush dX6_readNext_140 rfl ?_
                  refine e_dup2 dX6_readNext_142 rfl rfl ?_
                  refine t_ild 149 dX6_readNext_143 rfl (by decide) (fun _ => rfl) rfl ⟨by omega, by omega⟩ ?_
                  refine e_iconst dX6_readNext_144 ?_
                  refine e_iadd dX6_readNext_145 ?_
                  refine t_ist 149 dX6_readNext_146 rfl (by decide) rfl rfl ⟨by omega, by omega⟩ ?_
                  refine e_goto (tgt := 158) dX6_readNext_147 rfl ?_
                  refine e_return dX6_readNext_158 rfl ?_
                  refine ⟨rfl, ?_⟩
                  unfold t_rn
                  rw [if_neg (by omega), e2]
                  first
                    | (rw [if_pos (by assumption)]; rfl)
                    | (rw [if_neg (by assumption), if_pos (by assumption)]; rfl)
                    | (rw [if_neg (by assumption), if_neg (by assumption)]; done)
              · rw [show t_tk 23 σ = t_adv σ from if_pos (by assumption)]
                refine e_aload_n dX6_readNext_71 rfl ?_
                refine e_iconst dX6_readNext_72 ?_
                refine e_callV1rz (ci := 6) dX6_readNext_73 md_X6_readCell lk_X6_226 rfl q2023 qs75 (t_obj _ _) (by decide) rfl (Nat.le_of_ble_eq_true rfl) (C_X6_readCell ma hfa (by rw [ea]; exact h5) (by rw [ea]; exact h6) (Or.inl rfl)) ?_
                refine e_istore_n2 dX6_readNext_76 rfl ?_
                have k5 : t_rcS 0 (t_adv σ) 14 5 = σ 14 5 := by rw [t_rc_14, ea]
                have w5 : σ 14 5 ≠ 12 := fun w => nf (Or.inl ⟨by assumption, w⟩)
                refine e_aload_n dX6_readNext_77 rfl ?_
                refine t_geta (k := 14) dX6_readNext_78 fl_X6_31 rfl ?_
                refine e_bipush dX6_readNext_81 rfl ?_
                refine e_aload_n dX6_readNext_83 rfl ?_
                refine t_geta (k := 14) dX6_readNext_84 fl_X6_31 rfl ?_
                refine e_iconst dX6_readNext_87 ?_
                refine t_ild 149 dX6_readNext_88 rfl (by decide) (fun _ => rfl) rfl ⟨by omega, by omega⟩ ?_
                refine e_iadd dX6_readNext_89 ?_
                refine e_iload_n dX6_readNext_90 rfl ?_
                refine t_ist 149 dX6_readNext_91 rfl (by decide) rfl rfl ⟨by omega, by omega⟩ ?_
                refine e_aload_n dX6_readNext_92 rfl ?_
                refine t_geta (k := 14) dX6_readNext_93 fl_X6_31 rfl ?_
                refine e_iconst dX6_readNext_96 ?_
                refine e_dup2 dX6_readNext_97 rfl rfl ?_
                refine t_ild 149 dX6_readNext_98 rfl (by decide) (fun _ => rfl) rfl ⟨by omega, by omega⟩ ?_
                refine e_iconst dX6_readNext_99 ?_
                refine e_iadd dX6_readNext_100 ?_
                refine t_ist 149 dX6_readNext_101 rfl (by decide) rfl rfl ⟨by omega, by omega⟩ ?_
                refine e_goto (tgt := 158) dX6_readNext_102 rfl ?_
                refine e_return dX6_readNext_158 rfl ?_
                refine ⟨rfl, ?_⟩
                unfold t_rn
                rw [if_neg (by omega), e2]
                first
                  | (rw [if_pos (by assumption)]; rfl)
                  | (rw [if_neg (by assumption), if_pos (by assumption)]; rfl)
                  | (rw [if_neg (by assumption), if_neg (by assumption)]; done)
            · refine e_return dX6_readNext_61 rfl ?_
              refine ⟨rfl, ?_⟩
              unfold t_rn
              rw [if_pos (by assumption)]
        · refine e_aload_n dX6_readNext_37 rfl ?_
          refine e_iconst dX6_readNext_38 ?_
          refine e_callV1vz (ci := 6) dX6_readNext_39 md_X6_errs lk_X6_185 rfl q1995 qs70 (t_obj _ _) (by decide) rfl (Nat.le_of_ble_eq_true rfl) (C_X6_errs hI.2.2.2.2.2 (by decide)) ?_
          refine e_hp (t_rn1 σ) (by first | (exfalso; omega) | (unfold t_rn1; first | rw [if_pos (by omega)] | rw [if_neg (by omega)])) ?_
          have m1 := (t_mo_rn1 hI).1
          have e1 := t_rn1_14 σ
          have hf1 : ∀ j, 0 ≤ j → j < 149 → 0 ≤ t_rn1 σ 14 j ∧ t_rn1 σ 14 j ≤ 2000000 := fun j a b => by rw [e1]; exact hf j a b
          refine e_aload_n dX6_readNext_42 rfl ?_
          refine e_callV0rz (ci := 6) dX6_readNext_43 md_X6_isFull lk_X6_246 rfl q2019 qs74 (t_obj _ _) (by decide) rfl (Nat.le_of_ble_eq_true rfl) (C_X6_isFull m1 ho hf1) ?_
          refine e_bif_eq (tgt := 54) dX6_readNext_46 rfl (fun c42 => ?_) (fun c42 => ?_)
          · refine e_hp (t_rn2 σ) (by unfold t_rn2; first | rw [if_pos (by assumption)] | rw [if_neg (by assumption)]) ?_
            have m2 := (t_mo_rn2 hI).1
            refine e_fgt 1 ?_
            refine e_aload_n dX6_readNext_54 rfl ?_
            refine e_callV0rz (ci := 6) dX6_readNext_55 md_X6_good lk_X6_163 rfl q1968 qs64 (t_obj _ _) (by decide) rfl (Nat.le_of_ble_eq_true rfl) (C_X6_good m2.2.2.2.2.2) ?_
            refine e_bif_ne (tgt := 62) dX6_readNext_58 rfl (fun c43 => ?_) (fun c43 => ?_)
            · obtain ⟨e2, nf, kn⟩ := t_rn2_g (σ := σ) (by assumption)
              rw [e2]
              have ma := (t_mo_adv hI).1
              have ea := t_adv_14 σ
              have hfa : ∀ j, 0 ≤ j → j < 149 → 0 ≤ t_adv σ 14 j ∧ t_adv σ 14 j ≤ 2000000 := fun j a b => by rw [ea]; exact hf j a b
              
              refine e_aload_n dX6_readNext_62 rfl ?_
              refine e_ldcS 23 dX6_readNext_63 rfl ?_
              refine e_callV1rz (ci := 6) dX6_readNext_65 md_X6_takes lk_X6_182 rfl q1985 qs68 (t_obj _ _) (by decide) rfl (Nat.le_of_ble_eq_true rfl) (C_X6_takes hI ho (by decide)) ?_
              refine e_bif_eq (tgt := 105) dX6_readNext_68 rfl (fun c44 => ?_) (fun c44 => ?_)
              · rw [show t_tk 23 σ = σ from if_neg (by assumption)]
                refine e_aload_n dX6_readNext_105 rfl ?_
                refine e_ldcS 24 dX6_readNext_106 rfl ?_
                refine e_callV1rz (ci := 6) dX6_readNext_108 md_X6_takes lk_X6_182 rfl q1985 qs68 (t_obj _ _) (by decide) rfl (Nat.le_of_ble_eq_true rfl) (C_X6_takes hI ho (by decide)) ?_
                refine e_bif_eq (tgt := 150) dX6_readNext_111 rfl (fun c45 => ?_) (fun c45 => ?_)
                · rw [show t_tk 24 σ = σ from if_neg (by assumption)]
                  have w7 : σ 14 7 ≠ 7 := fun w => nf (Or.inr (Or.inr ⟨by omega, w⟩))
                  refine e_aload_n dX6_readNext_150 rfl ?_
                  refine e_callV0vz (ci := 6) dX6_readNext_151 md_X6_advance lk_X6_179 rfl q1954 qs62 (t_obj _ _) (by decide) rfl (Nat.le_of_ble_eq_true rfl) (C_X6_advance hI) ?_
                  refine e_aload_n dX6_readNext_154 rfl ?_
                  refine e_callV0vz (ci := 6) dX6_readNext_155 md_X6_readWidow lk_X6_249 rfl q2031 qs77 (t_obj _ _) (by decide) rfl (Nat.le_of_ble_eq_true rfl) (C_X6_readWidow ma ho hfa (by rw [ea]; exact h5) (by rw [ea]; exact h6) (by rw [ea]; omega) (by rw [ea]; exact h8 (by omega))) ?_
                  refine e_return dX6_readNext_158 rfl ?_
                  refine ⟨rfl, ?_⟩
                  unfold t_rn
                  rw [if_neg (by omega), e2]
                  first
                    | (rw [if_pos (by assumption)]; rfl)
                    | (rw [if_neg (by assumption), if_pos (by assumption)]; rfl)
                    | (rw [if_neg (by assumption), if_neg (by assumption)]; done)
                · rw [show t_tk 24 σ = t_adv σ from if_pos (by assumption)]
                  refine e_aload_n dX6_readNext_114 rfl ?_
                  refine e_iconst dX6_readNext_115 ?_
                  refine e_callV1rz (ci := 6) dX6_readNext_116 md_X6_readCell lk_X6_226 rfl q2023 qs75 (t_obj _ _) (by decide) rfl (Nat.le_of_ble_eq_true rfl) (C_X6_readCell ma hfa (by rw [ea]; exact h5) (by rw [ea]; exact h6) (Or.inr rfl)) ?_
                  refine e_istore_n2 dX6_readNext_119 rfl ?_
                  have k6 : t_rcS 1 (t_adv σ) 14 6 = σ 14 6 := by rw [t_rc_14, ea]
                  have w6 : σ 14 6 ≠ 6 := fun w => nf (Or.inr (Or.inl ⟨by assumption, w⟩))
                  refine e_aload_n dX6_readNext_120 rfl ?_
                  refine t_geta (k := 14) dX6_readNext_121 fl_X6_31 rfl ?_
                  refine e_bipush dX6_readNext_124 rfl ?_
                  refine e_aload_n dX6_readNext_126 rfl ?_
                  refine t_geta (k := 14) dX6_readNext_127 fl_X6_31 rfl ?_
                  refine e_bipush dX6_readNext_130 rfl ?_
                  refine t_ild 149 dX6_readNext_132 rfl (by decide) (fun _ => rfl) rfl ⟨by omega, by omega⟩ ?_
                  refine e_iadd dX6_readNext_133 ?_
                  refine e_iload_n dX6_readNext_134 rfl ?_
                  refine t_ist 149 dX6_readNext_135 rfl (by decide) rfl rfl ⟨by omega, by omega⟩ ?_
                  refine e_aload_n dX6_readNext_136 rfl ?_
                  refine t_geta (k := 14) dX6_readNext_137 fl_X6_31 rfl ?_
                  refine e_bipush dX6_readNext_140 rfl ?_
                  refine e_dup2 dX6_readNext_142 rfl rfl ?_
                  refine t_ild 149 dX6_readNext_143 rfl (by decide) (fun _ => rfl) rfl ⟨by omega, by omega⟩ ?_
                  refine e_iconst dX6_readNext_144 ?_
                  refine e_iadd dX6_readNext_145 ?_
                  refine t_ist 149 dX6_readNext_146 rfl (by decide) rfl rfl ⟨by omega, by omega⟩ ?_
                  refine e_goto (tgt := 158) dX6_readNext_147 rfl ?_
                  refine e_return dX6_readNext_158 rfl ?_
                  refine ⟨rfl, ?_⟩
                  unfold t_rn
                  rw [if_neg (by omega), e2]
                  first
                    | (rw [if_pos (by assumption)]; rfl)
                    | (rw [if_neg (by assumption), if_pos (by assumption)]; rfl)
                    | (rw [if_neg (by assumption), if_neg (by assumption)]; done)
              · rw [show t_tk 23 σ = t_adv σ from if_pos (by assumption)]
                refine e_aload_n dX6_readNext_71 rfl ?_
                refine e_iconst dX6_readNext_72 ?_
                refine e_callV1rz (ci := 6) dX6_readNext_73 md_X6_readCell lk_X6_226 rfl q2023 qs75 (t_obj _ _) (by decide) rfl (Nat.le_of_ble_eq_true rfl) (C_X6_readCell ma hfa (by rw [ea]; exact h5) (by rw [ea]; exact h6) (Or.inl rfl)) ?_
                refine e_istore_n2 dX6_readNext_76 rfl ?_
                have k5 : t_rcS 0 (t_adv σ) 14 5 = σ 14 5 := by rw [t_rc_14, ea]
                have w5 : σ 14 5 ≠ 12 := fun w => nf (Or.inl ⟨by assumption, w⟩)
                refine e_aload_n dX6_readNext_77 rfl ?_
                refine t_geta (k := 14) dX6_readNext_78 fl_X6_31 rfl ?_
                refine e_bipush dX6_readNext_81 rfl ?_
                refine e_aload_n dX6_readNext_83 rfl ?_
                refine t_geta (k := 14) dX6_readNext_84 fl_X6_31 rfl ?_
                refine e_iconst dX6_readNext_87 ?_
                refine t_ild 149 dX6_readNext_88 rfl (by decide) (fun _ => rfl) rfl ⟨by omega, by omega⟩ ?_
                refine e_iadd dX6_readNext_89 ?_
                refine e_iload_n dX6_readNext_90 rfl ?_
                refine t_ist 149 dX6_readNext_91 rfl (by decide) rfl rfl ⟨by omega, by omega⟩ ?_
                refine e_aload_n dX6_readNext_92 rfl ?_
                refine t_geta (k := 14) dX6_readNext_93 fl_X6_31 rfl ?_
                refine e_iconst dX6_readNext_96 ?_
                refine e_dup2 dX6_readNext_97 rfl rfl ?_
                refine t_ild 149 dX6_readNext_98 rfl (by decide) (fun _ => rfl) rfl ⟨by omega, by omega⟩ ?_
                refine e_iconst dX6_readNext_99 ?_
                refine e_iadd dX6_readNext_100 ?_
                refine t_ist 149 dX6_readNext_101 rfl (by decide) rfl rfl ⟨by omega, by omega⟩ ?_
                refine e_goto (tgt := 158) dX6_readNext_102 rfl ?_
                refine e_return dX6_readNext_158 rfl ?_
                refine ⟨rfl, ?_⟩
                unfold t_rn
                rw [if_neg (by omega), e2]
                first
                  | (rw [if_pos (by assumption)]; rfl)
                  | (rw [if_neg (by assumption), if_pos (by assumption)]; rfl)
                  | (rw [if_neg (by assumption), if_neg (by assumption)]; done)
            · refine e_return dX6_readNext_61 rfl ?_
              refine ⟨rfl, ?_⟩
              unfold t_rn
              rw [if_pos (by assumption)]
          · refine e_aload_n dX6_readNext_49 rfl ?_
            refine e_iconst dX6_readNext_50 ?_
            refine e_callV1vz (ci := 6) dX6_readNext_51 md_X6_errs lk_X6_185 rfl q1995 qs70 (t_obj _ _) (by decide) rfl (Nat.le_of_ble_eq_true rfl) (C_X6_errs m1.2.2.2.2.2 (by decide)) ?_
            refine e_hp (t_rn2 σ) (by unfold t_rn2; first | rw [if_pos (by assumption)] | rw [if_neg (by assumption)]) ?_
            have m2 := (t_mo_rn2 hI).1
            refine e_fgt 1 ?_
            refine e_aload_n dX6_readNext_54 rfl ?_
            refine e_callV0rz (ci := 6) dX6_readNext_55 md_X6_good lk_X6_163 rfl q1968 qs64 (t_obj _ _) (by decide) rfl (Nat.le_of_ble_eq_true rfl) (C_X6_good m2.2.2.2.2.2) ?_
            refine e_bif_ne (tgt := 62) dX6_readNext_58 rfl (fun c46 => ?_) (fun c46 => ?_)
            · obtain ⟨e2, nf, kn⟩ := t_rn2_g (σ := σ) (by assumption)
              rw [e2]
              have ma := (t_mo_adv hI).1
              have ea := t_adv_14 σ
              have hfa : ∀ j, 0 ≤ j → j < 149 → 0 ≤ t_adv σ 14 j ∧ t_adv σ 14 j ≤ 2000000 := fun j a b => by rw [ea]; exact hf j a b
              
              refine e_aload_n dX6_readNext_62 rfl ?_
              refine e_ldcS 23 dX6_readNext_63 rfl ?_
              refine e_callV1rz (ci := 6) dX6_readNext_65 md_X6_takes lk_X6_182 rfl q1985 qs68 (t_obj _ _) (by decide) rfl (Nat.le_of_ble_eq_true rfl) (C_X6_takes hI ho (by decide)) ?_
              refine e_bif_eq (tgt := 105) dX6_readNext_68 rfl (fun c47 => ?_) (fun c47 => ?_)
              · rw [show t_tk 23 σ = σ from if_neg (by assumption)]
                refine e_aload_n dX6_readNext_105 rfl ?_
                refine e_ldcS 24 dX6_readNext_106 rfl ?_
                refine e_callV1rz (ci := 6) dX6_readNext_108 md_X6_takes lk_X6_182 rfl q1985 qs68 (t_obj _ _) (by decide) rfl (Nat.le_of_ble_eq_true rfl) (C_X6_takes hI ho (by decide)) ?_
                refine e_bif_eq (tgt := 150) dX6_readNext_111 rfl (fun c48 => ?_) (fun c48 => ?_)
                · rw [show t_tk 24 σ = σ from if_neg (by assumption)]
                  have w7 : σ 14 7 ≠ 7 := fun w => nf (Or.inr (Or.inr ⟨by omega, w⟩))
                  refine e_aload_n dX6_readNext_150 rfl ?_
                  refine e_callV0vz (ci := 6) dX6_readNext_151 md_X6_advance lk_X6_179 rfl q1954 qs62 (t_obj _ _) (by decide) rfl (Nat.le_of_ble_eq_true rfl) (C_X6_advance hI) ?_
                  refine e_aload_n dX6_readNext_154 rfl ?_
                  refine e_callV0vz (ci := 6) dX6_readNext_155 md_X6_readWidow lk_X6_249 rfl q2031 qs77 (t_obj _ _) (by decide) rfl (Nat.le_of_ble_eq_true rfl) (C_X6_readWidow ma ho hfa (by rw [ea]; exact h5) (by rw [ea]; exact h6) (by rw [ea]; omega) (by rw [ea]; exact h8 (by omega))) ?_
                  refine e_return dX6_readNext_158 rfl ?_
                  refine ⟨rfl, ?_⟩
                  unfold t_rn
                  rw [if_neg (by omega), e2]
                  first
                    | (rw [if_pos (by assumption)]; rfl)
                    | (rw [if_neg (by assumption), if_pos (by assumption)]; rfl)
                    | (rw [if_neg (by assumption), if_neg (by assumption)]; done)
                · rw [show t_tk 24 σ = t_adv σ from if_pos (by assumption)]
                  refine e_aload_n dX6_readNext_114 rfl ?_
                  refine e_iconst dX6_readNext_115 ?_
                  refine e_callV1rz (ci := 6) dX6_readNext_116 md_X6_readCell lk_X6_226 rfl q2023 qs75 (t_obj _ _) (by decide) rfl (Nat.le_of_ble_eq_true rfl) (C_X6_readCell ma hfa (by rw [ea]; exact h5) (by rw [ea]; exact h6) (Or.inr rfl)) ?_
                  refine e_istore_n2 dX6_readNext_119 rfl ?_
                  have k6 : t_rcS 1 (t_adv σ) 14 6 = σ 14 6 := by rw [t_rc_14, ea]
                  have w6 : σ 14 6 ≠ 6 := fun w => nf (Or.inr (Or.inl ⟨by assumption, w⟩))
                  refine e_aload_n dX6_readNext_120 rfl ?_
                  refine t_geta (k := 14) dX6_readNext_121 fl_X6_31 rfl ?_
                  refine e_bipush dX6_readNext_124 rfl ?_
                  refine e_aload_n dX6_readNext_126 rfl ?_
                  refine t_geta (k := 14) dX6_readNext_127 fl_X6_31 rfl ?_
                  refine e_bipush dX6_readNext_130 rfl ?_
                  refine t_ild 149 dX6_readNext_132 rfl (by decide) (fun _ => rfl) rfl ⟨by omega, by omega⟩ ?_
                  refine e_iadd dX6_readNext_133 ?_
                  refine e_iload_n dX6_readNext_134 rfl ?_
                  refine t_ist 149 dX6_readNext_135 rfl (by decide) rfl rfl ⟨by omega, by omega⟩ ?_
                  refine e_aload_n dX6_readNext_136 rfl ?_
                  refine t_geta (k := 14) dX6_readNext_137 fl_X6_31 rfl ?_
                  refine e_bipush dX6_readNext_140 rfl ?_
                  refine e_dup2 dX6_readNext_142 rfl rfl ?_
                  refine t_ild 149 dX6_readNext_143 rfl (by decide) (fun _ => rfl) rfl ⟨by omega, by omega⟩ ?_
                  refine e_iconst dX6_readNext_144 ?_
                  refine e_iadd dX6_readNext_145 ?_
                  refine t_ist 149 dX6_readNext_146 rfl (by decide) rfl rfl ⟨by omega, by omega⟩ ?_
                  refine e_goto (tgt := 158) dX6_readNext_147 rfl ?_
                  refine e_return dX6_readNext_158 rfl ?_
                  refine ⟨rfl, ?_⟩
                  unfold t_rn
                  rw [if_neg (by omega), e2]
                  first
                    | (rw [if_pos (by assumption)]; rfl)
                    | (rw [if_neg (by assumption), if_pos (by assumption)]; rfl)
                    | (rw [if_neg (by assumption), if_neg (by assumption)]; done)
              · rw [show t_tk 23 σ = t_adv σ from if_pos (by assumption)]
                refine e_aload_n dX6_readNext_71 rfl ?_
                refine e_iconst dX6_readNext_72 ?_
                refine e_callV1rz (ci := 6) dX6_readNext_73 md_X6_readCell lk_X6_226 rfl q2023 qs75 (t_obj _ _) (by decide) rfl (Nat.le_of_ble_eq_true rfl) (C_X6_readCell ma hfa (by rw [ea]; exact h5) (by rw [ea]; exact h6) (Or.inl rfl)) ?_
                refine e_istore_n2 dX6_readNext_76 rfl ?_
                have k5 : t_rcS 0 (t_adv σ) 14 5 = σ 14 5 := by rw [t_rc_14, ea]
                have w5 : σ 14 5 ≠ 12 := fun w => nf (Or.inl ⟨by assumption, w⟩)
                refine e_aload_n dX6_readNext_77 rfl ?_
                refine t_geta (k := 14) dX6_readNext_78 fl_X6_31 rfl ?_
                refine e_bipush dX6_readNext_81 rfl ?_
                refine e_aload_n dX6_readNext_83 rfl ?_
                refine t_geta (k := 14) dX6_readNext_84 fl_X6_31 rfl ?_
                refine e_iconst dX6_readNext_87 ?_
                refine t_ild 149 dX6_readNext_88 rfl (by decide) (fun _ => rfl) rfl ⟨by omega, by omega⟩ ?_
                refine e_iadd dX6_readNext_89 ?_
                refine e_iload_n dX6_readNext_90 rfl ?_
                refine t_ist 149 dX6_readNext_91 rfl (by decide) rfl rfl ⟨by omega, by omega⟩ ?_
                refine e_aload_n dX6_readNext_92 rfl ?_
                refine t_geta (k := 14) dX6_readNext_93 fl_X6_31 rfl ?_
                refine e_iconst dX6_readNext_96 ?_
                refine e_dup2 dX6_readNext_97 rfl rfl ?_
                refine t_ild 149 dX6_readNext_98 rfl (by decide) (fun _ => rfl) rfl ⟨by omega, by omega⟩ ?_
                refine e_iconst dX6_readNext_99 ?_
                refine e_iadd dX6_readNext_100 ?_
                refine t_ist 149 dX6_readNext_101 rfl (by decide) rfl rfl ⟨by omega, by omega⟩ ?_
                refine e_goto (tgt := 158) dX6_readNext_102 rfl ?_
                refine e_return dX6_readNext_158 rfl ?_
                refine ⟨rfl, ?_⟩
                unfold t_rn
                rw [if_neg (by omega), e2]
                first
                  | (rw [if_pos (by assumption)]; rfl)
                  | (rw [if_neg (by assumption), if_pos (by assumption)]; rfl)
                  | (rw [if_neg (by assumption), if_neg (by assumption)]; done)
            · refine e_return dX6_readNext_61 rfl ?_
              refine ⟨rfl, ?_⟩
              unfold t_rn
              rw [if_pos (by assumption)]
      · refine e_iconst dX6_readNext_27 ?_
        refine e_goto (tgt := 32) dX6_readNext_28 rfl ?_
        refine e_top (e_i (if t_isv σ 23 = 1 ∨ t_isv σ 24 = 1 ∨ t_isv σ 25 = 1 then 1 else 0)) (by first | rw [if_pos (by omega)] | rw [if_neg (by omega)]) ?_
        refine e_istore_n1 dX6_readNext_32 rfl ?_
        refine e_iload_n dX6_readNext_33 rfl ?_
        refine e_bif_ne (tgt := 42) dX6_readNext_34 rfl (fun c49 => ?_) (fun c49 => ?_)
        · refine e_hp (t_rn1 σ) (by first | (exfalso; omega) | (unfold t_rn1; first | rw [if_pos (by omega)] | rw [if_neg (by omega)])) ?_
          have m1 := (t_mo_rn1 hI).1
          have e1 := t_rn1_14 σ
          have hf1 : ∀ j, 0 ≤ j → j < 149 → 0 ≤ t_rn1 σ 14 j ∧ t_rn1 σ 14 j ≤ 2000000 := fun j a b => by rw [e1]; exact hf j a b
          refine e_aload_n dX6_readNext_42 rfl ?_
          refine e_callV0rz (ci := 6) dX6_readNext_43 md_X6_isFull lk_X6_246 rfl q2019 qs74 (t_obj _ _) (by decide) rfl (Nat.le_of_ble_eq_true rfl) (C_X6_isFull m1 ho hf1) ?_
          refine e_bif_eq (tgt := 54) dX6_readNext_46 rfl (fun c50 => ?_) (fun c50 => ?_)
          · refine e_hp (t_rn2 σ) (by unfold t_rn2; first | rw [if_pos (by assumption)] | rw [if_neg (by assumption)]) ?_
            have m2 := (t_mo_rn2 hI).1
            refine e_fgt 1 ?_
            refine e_aload_n dX6_readNext_54 rfl ?_
            refine e_callV0rz (ci := 6) dX6_readNext_55 md_X6_good lk_X6_163 rfl q1968 qs64 (t_obj _ _) (by decide) rfl (Nat.le_of_ble_eq_true rfl) (C_X6_good m2.2.2.2.2.2) ?_
            refine e_bif_ne (tgt := 62) dX6_readNext_58 rfl (fun c51 => ?_) (fun c51 => ?_)
            · obtain ⟨e2, nf, kn⟩ := t_rn2_g (σ := σ) (by assumption)
              rw [e2]
              have ma := (t_mo_adv hI).1
              have ea := t_adv_14 σ
              have hfa : ∀ j, 0 ≤ j → j < 149 → 0 ≤ t_adv σ 14 j ∧ t_adv σ 14 j ≤ 2000000 := fun j a b => by rw [ea]; exact hf j a b
              
              refine e_aload_n dX6_readNext_62 rfl ?_
              refine e_ldcS 23 dX6_readNext_63 rfl ?_
              refine e_callV1rz (ci := 6) dX6_readNext_65 md_X6_takes lk_X6_182 rfl q1985 qs68 (t_obj _ _) (by decide) rfl (Nat.le_of_ble_eq_true rfl) (C_X6_takes hI ho (by decide)) ?_
              refine e_bif_eq (tgt := 105) dX6_readNext_68 rfl (fun c52 => ?_) (fun c52 => ?_)
              · rw [show t_tk 23 σ = σ from if_neg (by assumption)]
                refine e_aload_n dX6_readNext_105 rfl ?_
                refine e_ldcS 24 dX6_readNext_106 rfl ?_
                refine e_callV1rz (ci := 6) dX6_readNext_108 md_X6_takes lk_X6_182 rfl q1985 qs68 (t_obj _ _) (by decide) rfl (Nat.le_of_ble_eq_true rfl) (C_X6_takes hI ho (by decide)) ?_
                refine e_bif_eq (tgt := 150) dX6_readNext_111 rfl (fun c53 => ?_) (fun c53 => ?_)
                · rw [show t_tk 24 σ = σ from if_neg (by assumption)]
                  have w7 : σ 14 7 ≠ 7 := fun w => nf (Or.inr (Or.inr ⟨by omega, w⟩))
                  refine e_aload_n dX6_readNext_150 rfl ?_
                  refine e_callV0vz (ci := 6) dX6_readNext_151 md_X6_advance lk_X6_179 rfl q1954 qs62 (t_obj _ _) (by decide) rfl (Nat.le_of_ble_eq_true rfl) (C_X6_advance hI) ?_
                  refine e_aload_n dX6_readNext_154 rfl ?_
                  refine e_callV0vz (ci := 6) dX6_readNext_155 md_X6_readWidow lk_X6_249 rfl q2031 qs77 (t_obj _ _) (by decide) rfl (Nat.le_of_ble_eq_true rfl) (C_X6_readWidow ma ho hfa (by rw [ea]; exact h5) (by rw [ea]; exact h6) (by rw [ea]; omega) (by rw [ea]; exact h8 (by omega))) ?_
                  refine e_return dX6_readNext_158 rfl ?_
                  refine ⟨rfl, ?_⟩
                  unfold t_rn
                  rw [if_neg (by omega), e2]
                  first
                    | (rw [if_pos (by assumption)]; rfl)
                    | (rw [if_neg (by assumption), if_pos (by assumption)]; rfl)
                    | (rw [if_neg (by assumption), if_neg (by assumption)]; done)
                · rw [show t_tk 24 σ = t_adv σ from if_pos (by assumption)]
                  refine e_aload_n dX6_readNext_114 rfl ?_
                  refine e_iconst dX6_readNext_115 ?_
                  refine e_callV1rz (ci := 6) dX6_readNext_116 md_X6_readCell lk_X6_226 rfl q2023 qs75 (t_obj _ _) (by decide) rfl (Nat.le_of_ble_eq_true rfl) (C_X6_readCell ma hfa (by rw [ea]; exact h5) (by rw [ea]; exact h6) (Or.inr rfl)) ?_
                  refine e_istore_n2 dX6_readNext_119 rfl ?_
                  have k6 : t_rcS 1 (t_adv σ) 14 6 = σ 14 6 := by rw [t_rc_14, ea]
                  have w6 : σ 14 6 ≠ 6 := fun w => nf (Or.inr (Or.inl ⟨by assumption, w⟩))
                  refine e_aload_n dX6_readNext_120 rfl ?_
                  refine t_geta (k := 14) dX6_readNext_121 fl_X6_31 rfl ?_
                  refine e_bipush dX6_readNext_124 rfl ?_
                  refine e_aload_n dX6_readNext_126 rfl ?_
                  refine t_geta (k := 14) dX6_readNext_127 fl_X6_31 rfl ?_
                  refine e_bipush dX6_readNext_130 rfl ?_
                  refine t_ild 149 dX6_readNext_132 rfl (by decide) (fun _ => rfl) rfl ⟨by omega, by omega⟩ ?_
                  refine e_iadd dX6_readNext_133 ?_
                  refine e_iload_n dX6_readNext_134 rfl ?_
                  refine t_ist 149 dX6_readNext_135 rfl (by decide) rfl rfl ⟨by omega, by omega⟩ ?_
                  refine e_aload_n dX6_readNext_136 rfl ?_
                  refine t_geta (k := 14) dX6_readNext_137 fl_X6_31 rfl ?_
                  refine e_bipush dX6_readNext_140 rfl ?_
                  refine e_dup2 dX6_readNext_142 rfl rfl ?_
                  refine t_ild 149 dX6_readNext_143 rfl (by decide) (fun _ => rfl) rfl ⟨by omega, by omega⟩ ?_
                  refine e_iconst dX6_readNext_144 ?_
                  refine e_iadd dX6_readNext_145 ?_
                  refine t_ist 149 dX6_readNext_146 rfl (by decide) rfl rfl ⟨by omega, by omega⟩ ?_
                  refine e_goto (tgt := 158) dX6_readNext_147 rfl ?_
                  refine e_return dX6_readNext_158 rfl ?_
                  refine ⟨rfl, ?_⟩
                  unfold t_rn
                  rw [if_neg (by omega), e2]
                  first
                    | (rw [if_pos (by assumption)]; rfl)
                    | (rw [if_neg (by assumption), if_pos (by assumption)]; rfl)
                    | (rw [if_neg (by assumption), if_neg (by assumption)]; done)
              · rw [show t_tk 23 σ = t_adv σ from if_pos (by assumption)]
                refine e_aload_n dX6_readNext_71 rfl ?_
                refine e_iconst dX6_readNext_72 ?_
                refine e_callV1rz (ci := 6) dX6_readNext_73 md_X6_readCell lk_X6_226 rfl q2023 qs75 (t_obj _ _) (by decide) rfl (Nat.le_of_ble_eq_true rfl) (C_X6_readCell ma hfa (by rw [ea]; exact h5) (by rw [ea]; exact h6) (Or.inl rfl)) ?_
                refine e_istore_n2 dX6_readNext_76 rfl ?_
                have k5 : t_rcS 0 (t_adv σ) 14 5 = σ 14 5 := by rw [t_rc_14, ea]
                have w5 : σ 14 5 ≠ 12 := fun w => nf (Or.inl ⟨by assumption, w⟩)
                refine e_aload_n dX6_readNext_77 rfl ?_
                refine t_geta (k := 14) dX6_readNext_78 fl_X6_31 rfl ?_
                refine e_bipush dX6_readNext_81 rfl ?_
                refine e_aload_n dX6_readNext_83 rfl ?_
                refine t_geta (k := 14) dX6_readNext_84 fl_X6_31 rfl ?_
                refine e_iconst dX6_readNext_87 ?_
                refine t_ild 149 dX6_readNext_88 rfl (by decide) (fun _ => rfl) rfl ⟨by omega, by omega⟩ ?_
                refine e_iadd dX6_readNext_89 ?_
                refine e_iload_n dX6_readNext_90 rfl ?_
                refine t_ist 149 dX6_readNext_91 rfl (by decide) rfl rfl ⟨by omega, by omega⟩ ?_
                refine e_aload_n dX6_readNext_92 rfl ?_
                refine t_geta (k := 14) dX6_readNext_93 fl_X6_31 rfl ?_
                refine e_iconst dX6_readNext_96 ?_
                refine e_dup2 dX6_readNext_97 rfl rfl ?_
                refine t_ild 149 dX6_readNext_98 rfl (by decide) (fun _ => rfl) rfl ⟨by omega, by omega⟩ ?_
                refine e_iconst dX6_readNext_99 ?_
                refine e_iadd dX6_readNext_100 ?_
                refine t_ist 149 dX6_readNext_101 rfl (by decide) rfl rfl ⟨by omega, by omega⟩ ?_
                refine e_goto (tgt := 158) dX6_readNext_102 rfl ?_
                refine e_return dX6_readNext_158 rfl ?_
                refine ⟨rfl, ?_⟩
                unfold t_rn
                rw [if_neg (by omega), e2]
                first
                  | (rw [if_pos (by assumption)]; rfl)
                  | (rw [if_neg (by assumption), if_pos (by assumption)]; rfl)
                  | (rw [if_neg (by assumption), if_neg (by assumption)]; done)
            · refine e_return dX6_readNext_61 rfl ?_
              refine ⟨rfl, ?_⟩
              unfold t_rn
              rw [if_pos (by assumption)]
          · refine e_aload_n dX6_readNext_49 rfl ?_
            refine e_iconst dX6_readNext_50 ?_
            refine e_callV1vz (ci := 6) dX6_readNext_51 md_X6_errs lk_X6_185 rfl q1995 qs70 (t_obj _ _) (by decide) rfl (Nat.le_of_ble_eq_true rfl) (C_X6_errs m1.2.2.2.2.2 (by decide)) ?_
            refine e_hp (t_rn2 σ) (by unfold t_rn2; first | rw [if_pos (by assumption)] | rw [if_neg (by assumption)]) ?_
            have m2 := (t_mo_rn2 hI).1
            refine e_fgt 1 ?_
            refine e_aload_n dX6_readNext_54 rfl ?_
            refine e_callV0rz (ci := 6) dX6_readNext_55 md_X6_good lk_X6_163 rfl q1968 qs64 (t_obj _ _) (by decide) rfl (Nat.le_of_ble_eq_true rfl) (C_X6_good m2.2.2.2.2.2) ?_
            refine e_bif_ne (tgt := 62) dX6_readNext_58 rfl (fun c54 => ?_) (fun c54 => ?_)
            · obtain ⟨e2, nf, kn⟩ := t_rn2_g (σ := σ) (by assumption)
              rw [e2]
              have ma := (t_mo_adv hI).1
              have ea := t_adv_14 σ
              have hfa : ∀ j, 0 ≤ j → j < 149 → 0 ≤ t_adv σ 14 j ∧ t_adv σ 14 j ≤ 2000000 := fun j a b => by rw [ea]; exact hf j a b
              
              refine e_aload_n dX6_readNext_62 rfl ?_
              refine e_ldcS 23 dX6_readNext_63 rfl ?_
              refine e_callV1rz (ci := 6) dX6_readNext_65 md_X6_takes lk_X6_182 rfl q1985 qs68 (t_obj _ _) (by decide) rfl (Nat.le_of_ble_eq_true rfl) (C_X6_takes hI ho (by decide)) ?_
              refine e_bif_eq (tgt := 105) dX6_readNext_68 rfl (fun c55 => ?_) (fun c55 => ?_)
              · rw [show t_tk 23 σ = σ from if_neg (by assumption)]
                refine e_aload_n dX6_readNext_105 rfl ?_
                refine e_ldcS 24 dX6_readNext_106 rfl ?_
                refine e_callV1rz (ci := 6) dX6_readNext_108 md_X6_takes lk_X6_182 rfl q1985 qs68 (t_obj _ _) (by decide) rfl (Nat.le_of_ble_eq_true rfl) (C_X6_takes hI ho (by decide)) ?_
                refine e_bif_eq (tgt := 150) dX6_readNext_111 rfl (fun c56 => ?_) (fun c56 => ?_)
                · rw [show t_tk 24 σ = σ from if_neg (by assumption)]
                  have w7 : σ 14 7 ≠ 7 := fun w => nf (Or.inr (Or.inr ⟨by omega, w⟩))
                  refine e_aload_n dX6_readNext_150 rfl ?_
                  refine e_callV0vz (ci := 6) dX6_readNext_151 md_X6_advance lk_X6_179 rfl q1954 qs62 (t_obj _ _) (by decide) rfl (Nat.le_of_ble_eq_true rfl) (C_X6_advance hI) ?_
                  refine e_aload_n dX6_readNext_154 rfl ?_
                  refine e_callV0vz (ci := 6) dX6_readNext_155 md_X6_readWidow lk_X6_249 rfl q2031 qs77 (t_obj _ _) (by decide) rfl (Nat.le_of_ble_eq_true rfl) (C_X6_readWidow ma ho hfa (by rw [ea]; exact h5) (by rw [ea]; exact h6) (by rw [ea]; omega) (by rw [ea]; exact h8 (by omega))) ?_
                  refine e_return dX6_readNext_158 rfl ?_
                  refine ⟨rfl, ?_⟩
                  unfold t_rn
                  rw [if_neg (by omega), e2]
                  first
                    | (rw [if_pos (by assumption)]; rfl)
                    | (rw [if_neg (by assumption), if_pos (by assumption)]; rfl)
                    | (rw [if_neg (by assumption), if_neg (by assumption)]; done)
                · rw [show t_tk 24 σ = t_adv σ from if_pos (by assumption)]
                  refine e_aload_n dX6_readNext_114 rfl ?_
                  refine e_iconst dX6_readNext_115 ?_
                  refine e_callV1rz (ci := 6) dX6_readNext_116 md_X6_readCell lk_X6_226 rfl q2023 qs75 (t_obj _ _) (by decide) rfl (Nat.le_of_ble_eq_true rfl) (C_X6_readCell ma hfa (by rw [ea]; exact h5) (by rw [ea]; exact h6) (Or.inr rfl)) ?_
                  refine e_istore_n2 dX6_readNext_119 rfl ?_
                  have k6 : t_rcS 1 (t_adv σ) 14 6 = σ 14 6 := by rw [t_rc_14, ea]
                  have w6 : σ 14 6 ≠ 6 := fun w => nf (Or.inr (Or.inl ⟨by assumption, w⟩))
                  refine e_aload_n dX6_readNext_120 rfl ?_
                  refine t_geta (k := 14) dX6_readNext_121 fl_X6_31 rfl ?_
                  refine e_bipush dX6_readNext_124 rfl ?_
                  refine e_aload_n dX6_readNext_126 rfl ?_
                  refine t_geta (k := 14) dX6_readNext_127 fl_X6_31 rfl ?_
                  refine e_bipush dX6_readNext_130 rfl ?_
                  refine t_ild 149 dX6_readNext_132 rfl (by decide) (fun _ => rfl) rfl ⟨by omega, by omega⟩ ?_
                  refine e_iadd dX6_readNext_133 ?_
                  refine e_iload_n dX6_readNext_134 rfl ?_
                  refine t_ist 149 dX6_readNext_135 rfl (by decide) rfl rfl ⟨by omega, by omega⟩ ?_
                  refine e_aload_n dX6_readNext_136 rfl ?_
                  refine t_geta (k := 14) dX6_readNext_137 fl_X6_31 rfl ?_
                  refine e_bipush dX6_readNext_140 rfl ?_
                  refine e_dup2 dX6_readNext_142 rfl rfl ?_
                  refine t_ild 149 dX6_readNext_143 rfl (by decide) (fun _ => rfl) rfl ⟨by omega, by omega⟩ ?_
                  refine e_iconst dX6_readNext_144 ?_
                  refine e_iadd dX6_readNext_145 ?_
                  refine t_ist 149 dX6_readNext_146 rfl (by decide) rfl rfl ⟨by omega, by omega⟩ ?_
                  refine e_goto (tgt := 158) dX6_readNext_147 rfl ?_
                  refine e_return dX6_readNext_158 rfl ?_
                  refine ⟨rfl, ?_⟩
                  unfold t_rn
                  rw [if_neg (by omega), e2]
                  first
                    | (rw [if_pos (by assumption)]; rfl)
                    | (rw [if_neg (by assumption), if_pos (by assumption)]; rfl)
                    | (rw [if_neg (by assumption), if_neg (by assumption)]; done)
              · rw [show t_tk 23 σ = t_adv σ from if_pos (by assumption)]
                refine e_aload_n dX6_readNext_71 rfl ?_
                refine e_iconst dX6_readNext_72 ?_
                refine e_callV1rz (ci := 6) dX6_readNext_73 md_X6_readCell lk_X6_226 rfl q2023 qs75 (t_obj _ _) (by decide) rfl (Nat.le_of_ble_eq_true rfl) (C_X6_readCell ma hfa (by rw [ea]; exact h5) (by rw [ea]; exact h6) (Or.inl rfl)) ?_
                refine e_istore_n2 dX6_readNext_76 rfl ?_
                have k5 : t_rcS 0 (t_adv σ) 14 5 = σ 14 5 := by rw [t_rc_14, ea]
                have w5 : σ 14 5 ≠ 12 := fun w => nf (Or.inl ⟨by assumption, w⟩)
                refine e_aload_n dX6_readNext_77 rfl ?_
                refine t_geta (k := 14) dX6_readNext_78 fl_X6_31 rfl ?_
                refine e_bipush dX6_readNext_81 rfl ?_
                refine e_aload_n dX6_readNext_83 rfl ?_
                refine t_geta (k := 14) dX6_readNext_84 fl_X6_31 rfl ?_
                refine e_iconst dX6_readNext_87 ?_
                refine t_ild 149 dX6_readNext_88 rfl (by decide) (fun _ => rfl) rfl ⟨by omega, by omega⟩ ?_
                refine e_iadd dX6_readNext_89 ?_
                refine e_iload_n dX6_readNext_90 rfl ?_
                refine t_ist 149 dX6_readNext_91 rfl (by decide) rfl rfl ⟨by omega, by omega⟩ ?_
                refine e_aload_n dX6_readNext_92 rfl ?_
                refine t_geta (k := 14) dX6_readNext_93 fl_X6_31 rfl ?_
                refine e_iconst dX6_readNext_96 ?_
                refine e_dup2 dX6_readNext_97 rfl rfl ?_
                refine t_ild 149 dX6_readNext_98 rfl (by decide) (fun _ => rfl) rfl ⟨by omega, by omega⟩ ?_
                refine e_iconst dX6_readNext_99 ?_
                refine e_iadd dX6_readNext_100 ?_
                refine t_ist 149 dX6_readNext_101 rfl (by decide) rfl rfl ⟨by omega, by omega⟩ ?_
                refine e_goto (tgt := 158) dX6_readNext_102 rfl ?_
                refine e_return dX6_readNext_158 rfl ?_
                refine ⟨rfl, ?_⟩
                unfold t_rn
                rw [if_neg (by omega), e2]
                first
                  | (rw [if_pos (by assumption)]; rfl)
                  | (rw [if_neg (by assumption), if_pos (by assumption)]; rfl)
                  | (rw [if_neg (by assumption), if_neg (by assumption)]; done)
            · refine e_return dX6_readNext_61 rfl ?_
              refine ⟨rfl, ?_⟩
              unfold t_rn
              rw [if_pos (by assumption)]
        · refine e_aload_n dX6_readNext_37 rfl ?_
          refine e_iconst dX6_readNext_38 ?_
          refine e_callV1vz (ci := 6) dX6_readNext_39 md_X6_errs lk_X6_185 rfl q1995 qs70 (t_obj _ _) (by decide) rfl (Nat.le_of_ble_eq_true rfl) (C_X6_errs hI.2.2.2.2.2 (by decide)) ?_
          refine e_hp (t_rn1 σ) (by first | (exfalso; omega) | (unfold t_rn1; first | rw [if_pos (by omega)] | rw [if_neg (by omega)])) ?_
          have m1 := (t_mo_rn1 hI).1
          have e1 := t_rn1_14 σ
          have hf1 : ∀ j, 0 ≤ j → j < 149 → 0 ≤ t_rn1 σ 14 j ∧ t_rn1 σ 14 j ≤ 2000000 := fun j a b => by rw [e1]; exact hf j a b
          refine e_aload_n dX6_readNext_42 rfl ?_
          refine e_callV0rz (ci := 6) dX6_readNext_43 md_X6_isFull lk_X6_246 rfl q2019 qs74 (t_obj _ _) (by decide) rfl (Nat.le_of_ble_eq_true rfl) (C_X6_isFull m1 ho hf1) ?_
          refine e_bif_eq (tgt := 54) dX6_readNext_46 rfl (fun c57 => ?_) (fun c57 => ?_)
          · refine e_hp (t_rn2 σ) (by unfold t_rn2; first | rw [if_pos (by assumption)] | rw [if_neg (by assumption)]) ?_
            have m2 := (t_mo_rn2 hI).1
            refine e_fgt 1 ?_
            refine e_aload_n dX6_readNext_54 rfl ?_
            refine e_callV0rz (ci := 6) dX6_readNext_55 md_X6_good lk_X6_163 rfl q1968 qs64 (t_obj _ _) (by decide) rfl (Nat.le_of_ble_eq_true rfl) (C_X6_good m2.2.2.2.2.2) ?_
            refine e_bif_ne (tgt := 62) dX6_readNext_58 rfl (fun c58 => ?_) (fun c58 => ?_)
            · obtain ⟨e2, nf, kn⟩ := t_rn2_g (σ := σ) (by assumption)
              rw [e2]
              have ma := (t_mo_adv hI).1
              have ea := t_adv_14 σ
              have hfa : ∀ j, 0 ≤ j → j < 149 → 0 ≤ t_adv σ 14 j ∧ t_adv σ 14 j ≤ 2000000 := fun j a b => by rw [ea]; exact hf j a b
              
              refine e_aload_n dX6_readNext_62 rfl ?_
              refine e_ldcS 23 dX6_readNext_63 rfl ?_
              refine e_callV1rz (ci := 6) dX6_readNext_65 md_X6_takes lk_X6_182 rfl q1985 qs68 (t_obj _ _) (by decide) rfl (Nat.le_of_ble_eq_true rfl) (C_X6_takes hI ho (by decide)) ?_
              refine e_bif_eq (tgt := 105) dX6_readNext_68 rfl (fun c59 => ?_) (fun c59 => ?_)
              · rw [show t_tk 23 σ = σ from if_neg (by assumption)]
                refine e_aload_n dX6_readNext_105 rfl ?_
                refine e_ldcS 24 dX6_readNext_106 rfl ?_
                refine e_callV1rz (ci := 6) dX6_readNext_108 md_X6_takes lk_X6_182 rfl q1985 qs68 (t_obj _ _) (by decide) rfl (Nat.le_of_ble_eq_true rfl) (C_X6_takes hI ho (by decide)) ?_
                refine e_bif_eq (tgt := 150) dX6_readNext_111 rfl (fun c60 => ?_) (fun c60 => ?_)
                · rw [show t_tk 24 σ = σ from if_neg (by assumption)]
                  have w7 : σ 14 7 ≠ 7 := fun w => nf (Or.inr (Or.inr ⟨by omega, w⟩))
                  refine e_aload_n dX6_readNext_150 rfl ?_
                  refine e_callV0vz (ci := 6) dX6_readNext_151 md_X6_advance lk_X6_179 rfl q1954 qs62 (t_obj _ _) (by decide) rfl (Nat.le_of_ble_eq_true rfl) (C_X6_advance hI) ?_
                  refine e_aload_n dX6_readNext_154 rfl ?_
                  refine e_callV0vz (ci := 6) dX6_readNext_155 md_X6_readWidow lk_X6_249 rfl q2031 qs77 (t_obj _ _) (by decide) rfl (Nat.le_of_ble_eq_true rfl) (C_X6_readWidow ma ho hfa (by rw [ea]; exact h5) (by rw [ea]; exact h6) (by rw [ea]; omega) (by rw [ea]; exact h8 (by omega))) ?_
                  refine e_return dX6_readNext_158 rfl ?_
                  refine ⟨rfl, ?_⟩
                  unfold t_rn
                  rw [if_neg (by omega), e2]
                  first
                    | (rw [if_pos (by assumption)]; rfl)
                    | (rw [if_neg (by assumption), if_pos (by assumption)]; rfl)
                    | (rw [if_neg (by assumption), if_neg (by assumption)]; done)
                · rw [show t_tk 24 σ = t_adv σ from if_pos (by assumption)]
                  refine e_aload_n dX6_readNext_114 rfl ?_
                  refine e_iconst dX6_readNext_115 ?_
                  refine e_callV1rz (ci := 6) dX6_readNext_116 md_X6_readCell lk_X6_226 rfl q2023 qs75 (t_obj _ _) (by decide) rfl (Nat.le_of_ble_eq_true rfl) (C_X6_readCell ma hfa (by rw [ea]; exact h5) (by rw [ea]; exact h6) (Or.inr rfl)) ?_
                  refine e_istore_n2 dX6_readNext_119 rfl ?_
                  have k6 : t_rcS 1 (t_adv σ) 14 6 = σ 14 6 := by rw [t_rc_14, ea]
                  have w6 : σ 14 6 ≠ 6 := fun w => nf (Or.inr (Or.inl ⟨by assumption, w⟩))
                  refine e_aload_n dX6_readNext_120 rfl ?_
                  refine t_geta (k := 14) dX6_readNext_121 fl_X6_31 rfl ?_
                  refine e_bipush dX6_readNext_124 rfl ?_
                  refine e_aload_n dX6_readNext_126 rfl ?_
                  refine t_geta (k := 14) dX6_readNext_127 fl_X6_31 rfl ?_
                  refine e_bipush dX6_readNext_130 rfl ?_
                  refine t_ild 149 dX6_readNext_132 rfl (by decide) (fun _ => rfl) rfl ⟨by omega, by omega⟩ ?_
                  refine e_iadd dX6_readNext_133 ?_
                  refine e_iload_n dX6_readNext_134 rfl ?_
                  refine t_ist 149 dX6_readNext_135 rfl (by decide) rfl rfl ⟨by omega, by omega⟩ ?_
                  refine e_aload_n dX6_readNext_136 rfl ?_
                  refine t_geta (k := 14) dX6_readNext_137 fl_X6_31 rfl ?_
                  refine e_bipush dX6_readNext_140 rfl ?_
                  refine e_dup2 dX6_readNext_142 rfl rfl ?_
                  refine t_ild 149 dX6_readNext_143 rfl (by decide) (fun _ => rfl) rfl ⟨by omega, by omega⟩ ?_
                  refine e_iconst dX6_readNext_144 ?_
                  refine e_iadd dX6_readNext_145 ?_
                  refine t_ist 149 dX6_readNext_146 rfl (by decide) rfl rfl ⟨by omega, by omega⟩ ?_
                  refine e_goto (tgt := 158) dX6_readNext_147 rfl ?_
                  refine e_return dX6_readNext_158 rfl ?_
                  refine ⟨rfl, ?_⟩
                  unfold t_rn
                  rw [if_neg (by omega), e2]
                  first
                    | (rw [if_pos (by assumption)]; rfl)
                    | (rw [if_neg (by assumption), if_pos (by assumption)]; rfl)
                    | (rw [if_neg (by assumption), if_neg (by assumption)]; done)
              · rw [show t_tk 23 σ = t_adv σ from if_pos (by assumption)]
                refine e_aload_n dX6_readNext_71 rfl ?_
                refine e_iconst dX6_readNext_72 ?_
                refine e_callV1rz (ci := 6) dX6_readNext_73 md_X6_readCell lk_X6_226 rfl q2023 qs75 (t_obj _ _) (by decide) rfl (Nat.le_of_ble_eq_true rfl) (C_X6_readCell ma hfa (by rw [ea]; exact h5) (by rw [ea]; exact h6) (Or.inl rfl)) ?_
                refine e_istore_n2 dX6_readNext_76 rfl ?_
                have k5 : t_rcS 0 (t_adv σ) 14 5 = σ 14 5 := by rw [t_rc_14, ea]
                have w5 : σ 14 5 ≠ 12 := fun w => nf (Or.inl ⟨by assumption, w⟩)
                refine e_aload_n dX6_readNext_77 rfl ?_
                refine t_geta (k := 14) dX6_readNext_78 fl_X6_31 rfl ?_
                refine e_bipush dX6_readNext_81 rfl ?_
                refine e_aload_n dX6_readNext_83 rfl ?_
                refine t_geta (k := 14) dX6_readNext_84 fl_X6_31 rfl ?_
                refine e_iconst dX6_readNext_87 ?_
                refine t_ild 149 dX6_readNext_88 rfl (by decide) (fun _ => rfl) rfl ⟨by omega, by omega⟩ ?_
                refine e_iadd dX6_readNext_89 ?_
                refine e_iload_n dX6_readNext_90 rfl ?_
                refine t_ist 149 dX6_readNext_91 rfl (by decide) rfl rfl ⟨by omega, by omega⟩ ?_
                refine e_aload_n dX6_readNext_92 rfl ?_
                refine t_geta (k := 14) dX6_readNext_93 fl_X6_31 rfl ?_
                refine e_iconst dX6_readNext_96 ?_
                refine e_dup2 dX6_readNext_97 rfl rfl ?_
                refine t_ild 149 dX6_readNext_98 rfl (by decide) (fun _ => rfl) rfl ⟨by omega, by omega⟩ ?_
                refine e_iconst dX6_readNext_99 ?_
                refine e_iadd dX6_readNext_100 ?_
                refine t_ist 149 dX6_readNext_101 rfl (by decide) rfl rfl ⟨by omega, by omega⟩ ?_
                refine e_goto (tgt := 158) dX6_readNext_102 rfl ?_
                refine e_return dX6_readNext_158 rfl ?_
                refine ⟨rfl, ?_⟩
                unfold t_rn
                rw [if_neg (by omega), e2]
                first
                  | (rw [if_pos (by assumption)]; rfl)
                  | (rw [if_neg (by assumption), if_pos (by assumption)]; rfl)
                  | (rw [if_neg (by assumption), if_neg (by assumption)]; done)
            · refine e_return dX6_readNext_61 rfl ?_
              refine ⟨rfl, ?_⟩
              unfold t_rn
              rw [if_pos (by assumption)]
          · refine e_aload_n dX6_readNext_49 rfl ?_
            refine e_iconst dX6_readNext_50 ?_
            refine e_callV1vz (ci := 6) dX6_readNext_51 md_X6_errs lk_X6_185 rfl q1995 qs70 (t_obj _ _) (by decide) rfl (Nat.le_of_ble_eq_true rfl) (C_X6_errs m1.2.2.2.2.2 (by decide)) ?_
            refine e_hp (t_rn2 σ) (by unfold t_rn2; first | rw [if_pos (by assumption)] | rw [if_neg (by assumption)]) ?_
            have m2 := (t_mo_rn2 hI).1
            refine e_fgt 1 ?_
            refine e_aload_n dX6_readNext_54 rfl ?_
            refine e_callV0rz (ci := 6) dX6_readNext_55 md_X6_good lk_X6_163 rfl q1968 qs64 (t_obj _ _) (by decide) rfl (Nat.le_of_ble_eq_true rfl) (C_X6_good m2.2.2.2.2.2) ?_
            refine e_bif_ne (tgt := 62) dX6_readNext_58 rfl (fun c61 => ?_) (fun c61 => ?_)
            · obtain ⟨e2, nf, kn⟩ := t_rn2_g (σ := σ) (by assumption)
              rw [e2]
              have ma := (t_mo_adv hI).1
              have ea := t_adv_14 σ
              have hfa : ∀ j, 0 ≤ j → j < 149 → 0 ≤ t_adv σ 14 j ∧ t_adv σ 14 j ≤ 2000000 := fun j a b => by rw [ea]; exact hf j a b
              
              refine e_aload_n dX6_readNext_62 rfl ?_
              refine e_ldcS 23 dX6_readNext_63 rfl ?_
              refine e_callV1rz (ci := 6) dX6_readNext_65 md_X6_takes lk_X6_182 rfl q1985 qs68 (t_obj _ _) (by decide) rfl (Nat.le_of_ble_eq_true rfl) (C_X6_takes hI ho (by decide)) ?_
              refine e_bif_eq (tgt := 105) dX6_readNext_68 rfl (fun c62 => ?_) (fun c62 => ?_)
              · rw [show t_tk 23 σ = σ from if_neg (by assumption)]
                refine e_aload_n dX6_readNext_105 rfl ?_
                refine e_ldcS 24 dX6_readNext_106 rfl ?_
                refine e_callV1rz (ci := 6) dX6_readNext_108 md_X6_takes lk_X6_182 rfl q1985 qs68 (t_obj _ _) (by decide) rfl (Nat.le_of_ble_eq_true rfl) (C_X6_takes hI ho (by decide)) ?_
                refine e_bif_eq (tgt := 150) dX6_readNext_111 rfl (fun c63 => ?_) (fun c63 => ?_)
                · rw [show t_tk 24 σ = σ from if_neg (by assumption)]
                  have w7 : σ 14 7 ≠ 7 := fun w => nf (Or.inr (Or.inr ⟨by omega, w⟩))
                  refine e_aload_n dX6_readNext_150 rfl ?_
                  refine e_callV0vz (ci := 6) dX6_readNext_151 md_X6_advance lk_X6_179 rfl q1954 qs62 (t_obj _ _) (by decide) rfl (Nat.le_of_ble_eq_true rfl) (C_X6_advance hI) ?_
                  refine e_aload_n dX6_readNext_154 rfl ?_
                  refine e_callV0vz (ci := 6) dX6_readNext_155 md_X6_readWidow lk_X6_249 rfl q2031 qs77 (t_obj _ _) (by decide) rfl (Nat.le_of_ble_eq_true rfl) (C_X6_readWidow ma ho hfa (by rw [ea]; exact h5) (by rw [ea]; exact h6) (by rw [ea]; omega) (by rw [ea]; exact h8 (by omega))) ?_
                  refine e_return dX6_readNext_158 rfl ?_
                  refine ⟨rfl, ?_⟩
                  unfold t_rn
                  rw [if_neg (by omega), e2]
                  first
                    | (rw [if_pos (by assumption)]; rfl)
                    | (rw [if_neg (by assumption), if_pos (by assumption)]; rfl)
                    | (rw [if_neg (by assumption), if_neg (by assumption)]; done)
                · rw [show t_tk 24 σ = t_adv σ from if_pos (by assumption)]
                  refine e_aload_n dX6_readNext_114 rfl ?_
                  refine e_iconst dX6_readNext_115 ?_
                  refine e_callV1rz (ci := 6) dX6_readNext_116 md_X6_readCell lk_X6_226 rfl q2023 qs75 (t_obj _ _) (by decide) rfl (Nat.le_of_ble_eq_true rfl) (C_X6_readCell ma hfa (by rw [ea]; exact h5) (by rw [ea]; exact h6) (Or.inr rfl)) ?_
                  refine e_istore_n2 dX6_readNext_119 rfl ?_
                  have k6 : t_rcS 1 (t_adv σ) 14 6 = σ 14 6 := by rw [t_rc_14, ea]
                  have w6 : σ 14 6 ≠ 6 := fun w => nf (Or.inr (Or.inl ⟨by assumption, w⟩))
                  refine e_aload_n dX6_readNext_120 rfl ?_
                  refine t_geta (k := 14) dX6_readNext_121 fl_X6_31 rfl ?_
                  refine e_bipush dX6_readNext_124 rfl ?_
                  refine e_aload_n dX6_readNext_126 rfl ?_
                  refine t_geta (k := 14) dX6_readNext_127 fl_X6_31 rfl ?_
                  refine e_bipush dX6_readNext_130 rfl ?_
                  refine t_ild 149 dX6_readNext_132 rfl (by decide) (fun _ => rfl) rfl ⟨by omega, by omega⟩ ?_
                  refine e_iadd dX6_readNext_133 ?_
                  refine e_iload_n dX6_readNext_134 rfl ?_
                  refine t_ist 149 dX6_readNext_135 rfl (by decide) rfl rfl ⟨by omega, by omega⟩ ?_
                  refine e_aload_n dX6_readNext_136 rfl ?_
                  refine t_geta (k := 14) dX6_readNext_137 fl_X6_31 rfl ?_
                  refine e_bipush dX6_readNext_140 rfl ?_
                  refine e_dup2 dX6_readNext_142 rfl rfl ?_
                  refine t_ild 149 dX6_readNext_143 rfl (by decide) (fun _ => rfl) rfl ⟨by omega, by omega⟩ ?_
                  refine e_iconst dX6_readNext_144 ?_
                  refine e_iadd dX6_readNext_145 ?_
                  refine t_ist 149 dX6_readNext_146 rfl (by decide) rfl rfl ⟨by omega, by omega⟩ ?_
                  refine e_goto (tgt := 158) dX6_readNext_147 rfl ?_
                  refine e_return dX6_readNext_158 rfl ?_
                  refine ⟨rfl, ?_⟩
                  unfold t_rn
                  rw [if_neg (by omega), e2]
                  first
                    | (rw [if_pos (by assumption)]; rfl)
                    | (rw [if_neg (by assumption), if_pos (by assumption)]; rfl)
                    | (rw [if_neg (by assumption), if_neg (by assumption)]; done)
              · rw [show t_tk 23 σ = t_adv σ from if_pos (by assumption)]
                refine e_aload_n dX6_readNext_71 rfl ?_
                refine e_iconst dX6_readNext_72 ?_
                refine e_callV1rz (ci := 6) dX6_readNext_73 md_X6_readCell lk_X6_226 rfl q2023 qs75 (t_obj _ _) (by decide) rfl (Nat.le_of_ble_eq_true rfl) (C_X6_readCell ma hfa (by rw [ea]; exact h5) (by rw [ea]; exact h6) (Or.inl rfl)) ?_
                refine e_istore_n2 dX6_readNext_76 rfl ?_
                have k5 : t_rcS 0 (t_adv σ) 14 5 = σ 14 5 := by rw [t_rc_14, ea]
                have w5 : σ 14 5 ≠ 12 := fun w => nf (Or.inl ⟨by assumption, w⟩)
                refine e_aload_n dX6_readNext_77 rfl ?_
                refine t_geta (k := 14) dX6_readNext_78 fl_X6_31 rfl ?_
                refine e_bipush dX6_readNext_81 rfl ?_
                refine e_aload_n dX6_readNext_83 rfl ?_
                refine t_geta (k := 14) dX6_readNext_84 fl_X6_31 rfl ?_
                refine e_iconst dX6_readNext_87 ?_
                refine t_ild 149 dX6_readNext_88 rfl (by decide) (fun _ => rfl) rfl ⟨by omega, by omega⟩ ?_
                refine e_iadd dX6_readNext_89 ?_
                refine e_iload_n dX6_readNext_90 rfl ?_
                refine t_ist 149 dX6_readNext_91 rfl (by decide) rfl rfl ⟨by omega, by omega⟩ ?_
                refine e_aload_n dX6_readNext_92 rfl ?_
                refine t_geta (k := 14) dX6_readNext_93 fl_X6_31 rfl ?_
                refine e_iconst dX6_readNext_96 ?_
                refine e_dup2 dX6_readNext_97 rfl rfl ?_
                refine t_ild 149 dX6_readNext_98 rfl (by decide) (fun _ => rfl) rfl ⟨by omega, by omega⟩ ?_
                refine e_iconst dX6_readNext_99 ?_
                refine e_iadd dX6_readNext_100 ?_
                refine t_ist 149 dX6_readNext_101 rfl (by decide) rfl rfl ⟨by omega, by omega⟩ ?_
                refine e_goto (tgt := 158) dX6_readNext_102 rfl ?_
                refine e_return dX6_readNext_158 rfl ?_
                refine ⟨rfl, ?_⟩
                unfold t_rn
                rw [if_neg (by omega), e2]
                first
                  | (rw [if_pos (by assumption)]; rfl)
                  | (rw [if_neg (by assumption), if_pos (by assumption)]; rfl)
                  | (rw [if_neg (by assumption), if_neg (by assumption)]; done)
            · refine e_return dX6_readNext_61 rfl ?_
              refine ⟨rfl, ?_⟩
              unfold t_rn
              rw [if_pos (by assumption)]
theorem C_X6_readLine {σ : t_S} {h0 : e_A} (hI : t_rdI σ) (ho : e_old h0) (hf : ∀ j, 0 ≤ j → j < 149 → 0 ≤ σ 14 j ∧ σ 14 j ≤ 2000000) (h5 : σ 14 5 ≤ 12) (h6 : σ 14 6 ≤ 6) (h7 : σ 14 7 ≤ 7) (h8 : σ 14 7 ≠ 7 → σ 14 (28 + 13 * σ 14 7 + 4) = 0) : e_C mX6_readLine [.ref 384] (t_H σ h0) 0 0 10 (e_rev (t_H (t_rl σ) h0)) := by
  have f9 := hf 9 (by omega) (by omega)
  refine e_enter (al0 := [.ref 384]) (by decide +kernel) rfl (Nat.le_of_ble_eq_true rfl) ?_
  refine e_aload_n dX6_readLine_0 rfl ?_
  refine t_geta (k := 14) dX6_readLine_1 fl_X6_31 rfl ?_
  refine e_bipush dX6_readLine_4 rfl ?_
  refine t_ild 149 dX6_readLine_6 rfl (by decide) (fun _ => rfl) rfl ⟨by omega, by omega⟩ ?_
  refine e_if_ne (tgt := 17) dX6_readLine_7 rfl ⟨by omega, by omega⟩ (fun c1 => ?_) (fun c1 => ?_)
  · refine e_aload_n dX6_readLine_17 rfl ?_
    refine e_callV0vz (ci := 6) dX6_readLine_18 md_X6_readNext lk_X6_255 rfl q2012 qs73 (t_obj _ _) (by decide) rfl (Nat.le_of_ble_eq_true rfl) (C_X6_readNext hI ho hf h5 h6 h7 h8) ?_
    refine e_hp (t_rl1 σ) (by unfold t_rl1; first | rw [if_pos (by omega)] | rw [if_neg (by omega)]) ?_
    have m1 := (t_mo_rl1 hI).1
    have m10 := m1.2.1
    refine e_aload_n dX6_readLine_21 rfl ?_
    refine e_callV0rz (ci := 6) dX6_readLine_22 md_X6_good lk_X6_163 rfl q1968 qs64 (t_obj _ _) (by decide) rfl (Nat.le_of_ble_eq_true rfl) (C_X6_good m1.2.2.2.2.2) ?_
    refine e_bif_eq (tgt := 41) dX6_readLine_25 rfl (fun c2 => ?_) (fun c2 => ?_)
    · refine e_hp (t_rl2 σ) (by unfold t_rl2; first | rw [if_pos (by omega)] | rw [if_neg (by omega)]) ?_
      have m2 := (t_mo_rl2 hI).1
      refine e_aload_n dX6_readLine_41 rfl ?_
      refine e_callV0rz (ci := 6) dX6_readLine_42 md_X6_good lk_X6_163 rfl q1968 qs64 (t_obj _ _) (by decide) rfl (Nat.le_of_ble_eq_true rfl) (C_X6_good m2.2.2.2.2.2) ?_
      refine e_bif_eq (tgt := 52) dX6_readLine_45 rfl (fun c3 => ?_) (fun c3 => ?_)
      · refine e_hp (t_rl3 σ) (by unfold t_rl3; first | rw [if_pos (by assumption)] | rw [if_neg (by assumption)]) ?_
        refine e_aload_n dX6_readLine_52 rfl ?_
        refine t_geta (k := 14) dX6_readLine_53 fl_X6_31 rfl ?_
        refine e_bipush dX6_readLine_56 rfl ?_
        refine e_dup2 dX6_readLine_58 rfl rfl ?_
        refine t_ild 149 dX6_readLine_59 rfl (by decide) (fun _ => rfl) rfl ⟨by omega, by omega⟩ ?_
        refine e_iconst dX6_readLine_60 ?_
        refine e_iadd dX6_readLine_61 ?_
        refine t_ist 149 dX6_readLine_62 rfl (by decide) rfl rfl ⟨by omega, by omega⟩ ?_
        refine e_return dX6_readLine_63 rfl ?_
        exact ⟨rfl, rfl⟩
      · refine e_aload_n dX6_readLine_48 rfl ?_
        refine e_callV0vz (ci := 6) dX6_readLine_49 md_X6_advance lk_X6_179 rfl q1954 qs62 (t_obj _ _) (by decide) rfl (Nat.le_of_ble_eq_true rfl) (C_X6_advance m2) ?_
        refine e_hp (t_rl3 σ) (by unfold t_rl3; first | rw [if_pos (by assumption)] | rw [if_neg (by assumption)]) ?_
        refine e_aload_n dX6_readLine_52 rfl ?_
        refine t_geta (k := 14) dX6_readLine_53 fl_X6_31 rfl ?_
        refine e_bipush dX6_readLine_56 rfl ?_
        refine e_dup2 dX6_readLine_58 rfl rfl ?_
        refine t_ild 149 dX6_readLine_59 rfl (by decide) (fun _ => rfl) rfl ⟨by omega, by omega⟩ ?_
        refine e_iconst dX6_readLine_60 ?_
        refine e_iadd dX6_readLine_61 ?_
        refine t_ist 149 dX6_readLine_62 rfl (by decide) rfl rfl ⟨by omega, by omega⟩ ?_
        refine e_return dX6_readLine_63 rfl ?_
        exact ⟨rfl, rfl⟩
    · refine e_aload_n dX6_readLine_28 rfl ?_
      refine t_geti (k := 10) dX6_readLine_29 fl_X6_139 rfl ?_
      refine e_iconst dX6_readLine_32 ?_
      refine e_icmp_eq (tgt := 41) dX6_readLine_33 rfl ⟨by omega, by omega⟩ ⟨by omega, by omega⟩ (fun c4 => ?_) (fun c4 => ?_)
      · refine e_hp (t_rl2 σ) (by unfold t_rl2; first | rw [if_pos (by omega)] | rw [if_neg (by omega)]) ?_
        have m2 := (t_mo_rl2 hI).1
        refine e_aload_n dX6_readLine_41 rfl ?_
        refine e_callV0rz (ci := 6) dX6_readLine_42 md_X6_good lk_X6_163 rfl q1968 qs64 (t_obj _ _) (by decide) rfl (Nat.le_of_ble_eq_true rfl) (C_X6_good m2.2.2.2.2.2) ?_
        refine e_bif_eq (tgt := 52) dX6_readLine_45 rfl (fun c5 => ?_) (fun c5 => ?_)
        · refine e_hp (t_rl3 σ) (by unfold t_rl3; first | rw [if_pos (by assumption)] | rw [if_neg (by assumption)]) ?_
          refine e_aload_n dX6_readLine_52 rfl ?_
          refine t_geta (k := 14) dX6_readLine_53 fl_X6_31 rfl ?_
          refine e_bipush dX6_readLine_56 rfl ?_
          refine e_dup2 dX6_readLine_58 rfl rfl ?_
          refine t_ild 149 dX6_readLine_59 rfl (by decide) (fun _ => rfl) rfl ⟨by omega, by omega⟩ ?_
          refine e_iconst dX6_readLine_60 ?_
          refine e_iadd dX6_readLine_61 ?_
          refine t_ist 149 dX6_readLine_62 rfl (by decide) rfl rfl ⟨by omega, by omega⟩ ?_
          refine e_return dX6_readLine_63 rfl ?_
          exact ⟨rfl, rfl⟩
        · refine e_aload_n dX6_readLine_48 rfl ?_
          refine e_callV0vz (ci := 6) dX6_readLine_49 md_X6_advance lk_X6_179 rfl q1954 qs62 (t_obj _ _) (by decide) rfl (Nat.le_of_ble_eq_true rfl) (C_X6_advance m2) ?_
          refine e_hp (t_rl3 σ) (by unfold t_rl3; first | rw [if_pos (by assumption)] | rw [if_neg (by assumption)]) ?_
          refine e_aload_n dX6_readLine_52 rfl ?_
          refine t_geta (k := 14) dX6_readLine_53 fl_X6_31 rfl ?_
          refine e_bipush dX6_readLine_56 rfl ?_
          refine e_dup2 dX6_readLine_58 rfl rfl ?_
          refine t_ild 149 dX6_readLine_59 rfl (by decide) (fun _ => rfl) rfl ⟨by omega, by omega⟩ ?_
          refine e_iconst dX6_readLine_60 ?_
          refine e_iadd dX6_readLine_61 ?_
          refine t_ist 149 dX6_readLine_62 rfl (by decide) rfl rfl ⟨by omega, by omega⟩ ?_
          refine e_return dX6_readLine_63 rfl ?_
          exact ⟨rfl, rfl⟩
      · refine e_aload_n dX6_readLine_36 rfl ?_
        refine e_iconst dX6_readLine_37 ?_
        refine e_callV1vz (ci := 6) dX6_readLine_38 md_X6_errs lk_X6_185 rfl q1995 qs70 (t_obj _ _) (by decide) rfl (Nat.le_of_ble_eq_true rfl) (C_X6_errs m1.2.2.2.2.2 (by decide)) ?_
        refine e_hp (t_rl2 σ) (by unfold t_rl2; first | rw [if_pos (by omega)] | rw [if_neg (by omega)]) ?_
        have m2 := (t_mo_rl2 hI).1
        refine e_aload_n dX6_readLine_41 rfl ?_
        refine e_callV0rz (ci := 6) dX6_readLine_42 md_X6_good lk_X6_163 rfl q1968 qs64 (t_obj _ _) (by decide) rfl (Nat.le_of_ble_eq_true rfl) (C_X6_good m2.2.2.2.2.2) ?_
        refine e_bif_eq (tgt := 52) dX6_readLine_45 rfl (fun c6 => ?_) (fun c6 => ?_)
        · refine e_hp (t_rl3 σ) (by unfold t_rl3; first | rw [if_pos (by assumption)] | rw [if_neg (by assumption)]) ?_
          refine e_aload_n dX6_readLine_52 rfl ?_
          refine t_geta (k := 14) dX6_readLine_53 fl_X6_31 rfl ?_
          refine e_bipush dX6_readLine_56 rfl ?_
          refine e_dup2 dX6_readLine_58 rfl rfl ?_
          refine t_ild 149 dX6_readLine_59 rfl (by decide) (fun _ => rfl) rfl ⟨by omega, by omega⟩ ?_
          refine e_iconst dX6_readLine_60 ?_
          refine e_iadd dX6_readLine_61 ?_
          refine t_ist 149 dX6_readLine_62 rfl (by decide) rfl rfl ⟨by omega, by omega⟩ ?_
          refine e_return dX6_readLine_63 rfl ?_
          exact ⟨rfl, rfl⟩
        · refine e_aload_n dX6_readLine_48 rfl ?_
          refine e_callV0vz (ci := 6) dX6_readLine_49 md_X6_advance lk_X6_179 rfl q1954 qs62 (t_obj _ _) (by decide) rfl (Nat.le_of_ble_eq_true rfl) (C_X6_advance m2) ?_
          refine e_hp (t_rl3 σ) (by unfold t_rl3; first | rw [if_pos (by assumption)] | rw [if_neg (by assumption)]) ?_
          refine e_aload_n dX6_readLine_52 rfl ?_
          refine t_geta (k := 14) dX6_readLine_53 fl_X6_31 rfl ?_
          refine e_bipush dX6_readLine_56 rfl ?_
          refine e_dup2 dX6_readLine_58 rfl rfl ?_
          refine t_ild 149 dX6_readLine_59 rfl (by decide) (fun _ => rfl) rfl ⟨by omega, by omega⟩ ?_
          refine e_iconst dX6_readLine_60 ?_
          refine e_iadd dX6_readLine_61 ?_
          refine t_ist 149 dX6_readLine_62 rfl (by decide) rfl rfl ⟨by omega, by omega⟩ ?_
          refine e_return dX6_readLine_63 rfl ?_
          exact ⟨rfl, rfl⟩
  · refine e_aload_n dX6_readLine_10 rfl ?_
    refine e_callV0vz (ci := 6) dX6_readLine_11 md_X6_readFirst lk_X6_252 rfl q1976 qs66 (t_obj _ _) (by decide) rfl (Nat.le_of_ble_eq_true rfl) (C_X6_readFirst hI ho) ?_
    refine e_goto (tgt := 21) dX6_readLine_14 rfl ?_
    refine e_hp (t_rl1 σ) (by unfold t_rl1; first | rw [if_pos (by omega)] | rw [if_neg (by omega)]) ?_
    have m1 := (t_mo_rl1 hI).1
    have m10 := m1.2.1
    refine e_aload_n dX6_readLine_21 rfl ?_
    refine e_callV0rz (ci := 6) dX6_readLine_22 md_X6_good lk_X6_163 rfl q1968 qs64 (t_obj _ _) (by decide) rfl (Nat.le_of_ble_eq_true rfl) (C_X6_good m1.2.2.2.2.2) ?_
    refine e_bif_eq (tgt := 41) dX6_readLine_25 rfl (fun c7 => ?_) (fun c7 => ?_)
    · refine e_hp (t_rl2 σ) (by unfold t_rl2; first | rw [if_pos (by omega)] | rw [if_neg (by omega)]) ?_
      have m2 := (t_mo_rl2 hI).1
      refine e_aload_n dX6_readLine_41 rfl ?_
      refine e_callV0rz (ci := 6) dX6_readLine_42 md_X6_good lk_X6_163 rfl q1968 qs64 (t_obj _ _) (by decide) rfl (Nat.le_of_ble_eq_true rfl) (C_X6_good m2.2.2.2.2.2) ?_
      refine e_bif_eq (tgt := 52) dX6_readLine_45 rfl (fun c8 => ?_) (fun c8 => ?_)
      · refine e_hp (t_rl3 σ) (by unfold t_rl3; first | rw [if_pos (by assumption)] | rw [if_neg (by assumption)]) ?_
        refine e_aload_n dX6_readLine_52 rfl ?_
        refine t_geta (k := 14) dX6_readLine_53 fl_X6_31 rfl ?_
        refine e_bipush dX6_readLine_56 rfl ?_
        refine e_dup2 dX6_readLine_58 rfl rfl ?_
        refine t_ild 149 dX6_readLine_59 rfl (by decide) (fun _ => rfl) rfl ⟨by omega, by omega⟩ ?_
        refine e_iconst dX6_readLine_60 ?_
        refine e_iadd dX6_readLine_61 ?_
        refine t_ist 149 dX6_readLine_62 rfl (by decide) rfl rfl ⟨by omega, by omega⟩ ?_
        refine e_return dX6_readLine_63 rfl ?_
        exact ⟨rfl, rfl⟩
      · refine e_aload_n dX6_readLine_48 rfl ?_
        refine e_callV0vz (ci := 6) dX6_readLine_49 md_X6_advance lk_X6_179 rfl q1954 qs62 (t_obj _ _) (by decide) rfl (Nat.le_of_ble_eq_true rfl) (C_X6_advance m2) ?_
        refine e_hp (t_rl3 σ) (by unfold t_rl3; first | rw [if_pos (by assumption)] | rw [if_neg (by assumption)]) ?_
        refine e_aload_n dX6_readLine_52 rfl ?_
        refine t_geta (k := 14) dX6_readLine_53 fl_X6_31 rfl ?_
        refine e_bipush dX6_readLine_56 rfl ?_
        refine e_dup2 dX6_readLine_58 rfl rfl ?_
        refine t_ild 149 dX6_readLine_59 rfl (by decide) (fun _ => rfl) rfl ⟨by omega, by omega⟩ ?_
        refine e_iconst dX6_readLine_60 ?_
        refine e_iadd dX6_readLine_61 ?_
        refine t_ist 149 dX6_readLine_62 rfl (by decide) rfl rfl ⟨by omega, by omega⟩ ?_
        refine e_return dX6_readLine_63 rfl ?_
        exact ⟨rfl, rfl⟩
    · refine e_aload_n dX6_readLine_28 rfl ?_
      refine t_geti (k := 10) dX6_readLine_29 fl_X6_139 rfl ?_
      refine e_iconst dX6_readLine_32 ?_
      refine e_icmp_eq (tgt := 41) dX6_readLine_33 rfl ⟨by omega, by omega⟩ ⟨by omega, by omega⟩ (fun c9 => ?_) (fun c9 => ?_)
      · refine e_hp (t_rl2 σ) (by unfold t_rl2; first | rw [if_pos (by omega)] | rw [if_neg (by omega)]) ?_
        have m2 := (t_mo_rl2 hI).1
        refine e_aload_n dX6_readLine_41 rfl ?_
        refine e_callV0rz (ci := 6) dX6_readLine_42 md_X6_good lk_X6_163 rfl q1968 qs64 (t_obj _ _) (by decide) rfl (Nat.le_of_ble_eq_true rfl) (C_X6_good m2.2.2.2.2.2) ?_
        refine e_bif_eq (tgt := 52) dX6_readLine_45 rfl (fun c10 => ?_) (fun c10 => ?_)
        · refine e_hp (t_rl3 σ) (by unfold t_rl3; first | rw [if_pos (by assumption)] | rw [if_neg (by assumption)]) ?_
          refine e_aload_n dX6_readLine_52 rfl ?_
          refine t_geta (k := 14) dX6_readLine_53 fl_X6_31 rfl ?_
          refine e_bipush dX6_readLine_56 rfl ?_
          refine e_dup2 dX6_readLine_58 rfl rfl ?_
          refine t_ild 149 dX6_readLine_59 rfl (by decide) (fun _ => rfl) rfl ⟨by omega, by omega⟩ ?_
          refine e_iconst dX6_readLine_60 ?_
          refine e_iadd dX6_readLine_61 ?_
          refine t_ist 149 dX6_readLine_62 rfl (by decide) rfl rfl ⟨by omega, by omega⟩ ?_
          refine e_return dX6_readLine_63 rfl ?_
          exact ⟨rfl, rfl⟩
        · refine e_aload_n dX6_readLine_48 rfl ?_
          refine e_callV0vz (ci := 6) dX6_readLine_49 md_X6_advance lk_X6_179 rfl q1954 qs62 (t_obj _ _) (by decide) rfl (Nat.le_of_ble_eq_true rfl) (C_X6_advance m2) ?_
          refine e_hp (t_rl3 σ) (by unfold t_rl3; first | rw [if_pos (by assumption)] | rw [if_neg (by assumption)]) ?_
          refine e_aload_n dX6_readLine_52 rfl ?_
          refine t_geta (k := 14) dX6_readLine_53 fl_X6_31 rfl ?_
          refine e_bipush dX6_readLine_56 rfl ?_
          refine e_dup2 dX6_readLine_58 rfl rfl ?_
          refine t_ild 149 dX6_readLine_59 rfl (by decide) (fun _ => rfl) rfl ⟨by omega, by omega⟩ ?_
          refine e_iconst dX6_readLine_60 ?_
          refine e_iadd dX6_readLine_61 ?_
          refine t_ist 149 dX6_readLine_62 rfl (by decide) rfl rfl ⟨by omega, by omega⟩ ?_
          refine e_return dX6_readLine_63 rfl ?_
          exact ⟨rfl, rfl⟩
      · refine e_aload_n dX6_readLine_36 rfl ?_
        refine e_iconst dX6_readLine_37 ?_
        refine e_callV1vz (ci := 6) dX6_readLine_38 md_X6_errs lk_X6_185 rfl q1995 qs70 (t_obj _ _) (by decide) rfl (Nat.le_of_ble_eq_true rfl) (C_X6_errs m1.2.2.2.2.2 (by decide)) ?_
        refine e_hp (t_rl2 σ) (by unfold t_rl2; first | rw [if_pos (by omega)] | rw [if_neg (by omega)]) ?_
        have m2 := (t_mo_rl2 hI).1
        refine e_aload_n dX6_readLine_41 rfl ?_
        refine e_callV0rz (ci := 6) dX6_readLine_42 md_X6_good lk_X6_163 rfl q1968 qs64 (t_obj _ _) (by decide) rfl (Nat.le_of_ble_eq_true rfl) (C_X6_good m2.2.2.2.2.2) ?_
        refine e_bif_eq (tgt := 52) dX6_readLine_45 rfl (fun c11 => ?_) (fun c11 => ?_)
        · refine e_hp (t_rl3 σ) (by unfold t_rl3; first | rw [if_pos (by assumption)] | rw [if_neg (by assumption)]) ?_
          refine e_aload_n dX6_readLine_52 rfl ?_
          refine t_geta (k := 14) dX6_readLine_53 fl_X6_31 rfl ?_
          refine e_bipush dX6_readLine_56 rfl ?_
          refine e_dup2 dX6_readLine_58 rfl rfl ?_
          refine t_ild 149 dX6_readLine_59 rfl (by decide) (fun _ => rfl) rfl ⟨by omega, by omega⟩ ?_
          refine e_iconst dX6_readLine_60 ?_
          refine e_iadd dX6_readLine_61 ?_
          refine t_ist 149 dX6_readLine_62 rfl (by decide) rfl rfl ⟨by omega, by omega⟩ ?_
          refine e_return dX6_readLine_63 rfl ?_
          exact ⟨rfl, rfl⟩
        · refine e_aload_n dX6_readLine_48 rfl ?_
          refine e_callV0vz (ci := 6) dX6_readLine_49 md_X6_advance lk_X6_179 rfl q1954 qs62 (t_obj _ _) (by decide) rfl (Nat.le_of_ble_eq_true rfl) (C_X6_advance m2) ?_
          refine e_hp (t_rl3 σ) (by unfold t_rl3; first | rw [if_pos (by assumption)] | rw [if_neg (by assumption)]) ?_
          refine e_aload_n dX6_readLine_52 rfl ?_
          refine t_geta (k := 14) dX6_readLine_53 fl_X6_31 rfl ?_
          refine e_bipush dX6_readLine_56 rfl ?_
          refine e_dup2 dX6_readLine_58 rfl rfl ?_
          refine t_ild 149 dX6_readLine_59 rfl (by decide) (fun _ => rfl) rfl ⟨by omega, by omega⟩ ?_
          refine e_iconst dX6_readLine_60 ?_
          refine e_iadd dX6_readLine_61 ?_
          refine t_ist 149 dX6_readLine_62 rfl (by decide) rfl rfl ⟨by omega, by omega⟩ ?_
          refine e_return dX6_readLine_63 rfl ?_
          exact ⟨rfl, rfl⟩
theorem P_co_54 {h0 : e_A} {Q : e_R → e_A → Prop} (ho : e_old h0) : ∀ (f : Nat) (τ : t_S), t_RS τ → (τ 12 0 = 0 → 901 - τ 9 0 ≤ f) → e_E mX6_colony 75 [.ref 384, .retAddr 0] [] (t_H (t_rds f τ) h0) 0 0 11 Q → e_E mX6_colony 54 [.ref 384, .retAddr 0] [] (t_H τ h0) 0 0 11 Q
  | 0, τ, h, hf, hX => by
    have hI := h.1
    have hg : τ 12 0 ≠ 0 := fun w => by have := hf w; have := hI.1; omega
    replace hX : e_E mX6_colony 75 [.ref 384, .retAddr 0] [] (t_H τ h0) 0 0 11 Q := hX
    refine e_aload_n dX6_colony_54 rfl ?_
    refine e_callV0rz (ci := 6) dX6_colony_55 md_X6_good lk_X6_163 rfl q1968 qs64 (t_obj _ _) (by decide) rfl (Nat.le_of_ble_eq_true rfl) (C_X6_good hI.2.2.2.2.2) ?_
    refine e_bif_eq (tgt := 75) dX6_colony_58 rfl (fun c1 => ?_) (fun q => by exfalso; omega)
    exact hX
  | f + 1, τ, h, hf, hX => by
    have hI := h.1
    refine e_aload_n dX6_colony_54 rfl ?_
    refine e_callV0rz (ci := 6) dX6_colony_55 md_X6_good lk_X6_163 rfl q1968 qs64 (t_obj _ _) (by decide) rfl (Nat.le_of_ble_eq_true rfl) (C_X6_good hI.2.2.2.2.2) ?_
    have h10 := hI.2.1
    refine e_bif_eq (tgt := 75) dX6_colony_58 rfl (fun c1 => ?_) (fun c1 => ?_)
    · rw [t_rds_s, if_neg (by omega)] at hX
      exact hX
    · refine e_aload_n dX6_colony_61 rfl ?_
      refine t_geti (k := 10) dX6_colony_62 fl_X6_139 rfl ?_
      refine e_if_eq (tgt := 75) dX6_colony_65 rfl ⟨by omega, by omega⟩ (fun c2 => ?_) (fun c2 => ?_)
      · rw [t_rds_s, if_neg (by omega)] at hX
        exact hX
      · have hS := h.2 (by assumption)
        refine e_aload_n dX6_colony_68 rfl ?_
        refine e_callV0vz (ci := 6) dX6_colony_69 md_X6_readLine lk_X6_258 rfl q1972 qs65 (t_obj _ _) (by decide) rfl (Nat.le_of_ble_eq_true rfl) (C_X6_readLine hI ho (hS.1.2.2.2.2.2.2.2) (by have := hS.1.1; omega) (by have := hS.1.1; omega) (by have := hS.1.1; omega) (fun w => hS.1.2.2.2.2.2.2.1 _ (by omega) (by have := hS.1.1; omega))) ?_
        refine e_goto (tgt := 54) dX6_colony_72 rfl ?_
        rw [t_rds_s, if_pos (by omega)] at hX
        exact P_co_54 ho f _ (t_rl_S h (by assumption)) (fun w => by have := t_rl_on hI w; have := hf (by assumption); omega) hX
theorem C_X6_colony {σ : t_S} {h0 : e_A} (ho : e_old h0) (h5 : 0 ≤ σ 5 0 ∧ σ 5 0 ≤ 900) (h4 : ∀ k, 0 ≤ k → k < 900 → -128 ≤ σ 4 k ∧ σ 4 k < 128) : e_C mX6_colony [.ref 384] (t_H σ h0) 0 0 11 (e_ret (e_i (v_colony σ)) (t_H (t_co σ) h0)) := by
  refine e_enter (al0 := [.ref 384, .retAddr 0]) (by decide +kernel) rfl (Nat.le_of_ble_eq_true rfl) ?_
  refine e_aload_n dX6_colony_0 rfl ?_
  refine e_aload_n dX6_colony_1 rfl ?_
  refine t_geti (k := 5) dX6_colony_2 fl_X6_123 rfl ?_
  refine t_puti (k := 7) dX6_colony_5 fl_X6_126 rfl rfl ?_
  refine e_aload_n dX6_colony_8 rfl ?_
  refine e_iconst dX6_colony_9 ?_
  refine t_puti (k := 5) dX6_colony_10 fl_X6_123 rfl rfl ?_
  refine e_aload_n dX6_colony_13 rfl ?_
  refine e_iconst dX6_colony_14 ?_
  refine t_puti (k := 8) dX6_colony_15 fl_X6_129 rfl rfl ?_
  refine e_aload_n dX6_colony_18 rfl ?_
  refine e_iconst dX6_colony_19 ?_
  refine t_puti (k := 12) dX6_colony_20 fl_X6_160 rfl rfl ?_
  refine e_aload_n dX6_colony_23 rfl ?_
  refine e_iconst dX6_colony_24 ?_
  refine t_puti (k := 13) dX6_colony_25 fl_X6_27 rfl rfl ?_
  show e_E _ _ _ _ (t_H (t_co0 σ) h0) _ _ _ _
  refine e_iconst dX6_colony_28 ?_
  refine e_istore_n1 dX6_colony_29 rfl ?_
  refine e_for (n := 149) (fun i => e_E mX6_colony 30 [.ref 384, e_i i] [] (t_H (t_it t_co1f i.toNat (t_co0 σ)) h0) _ _ _ _) (by omega) ?_ (fun i hi0 hi1 hF => ?_)
  · have e7 : t_it t_co1f (149 : Int).toNat (t_co0 σ) 7 0 = σ 5 0 := by
      rw [t_it_k (f := t_co1f) (fun _ _ => s_up_f (by decide))]
      unfold t_co0
      rw [s_up_k (by decide), s_up_k (by decide), s_up_k (by decide), s_up_k (by decide), s_up_eq]
    have e8 : t_it t_co1f (149 : Int).toNat (t_co0 σ) 8 0 = 0 := by
      rw [t_it_k (f := t_co1f) (fun _ _ => s_up_f (by decide))]
      unfold t_co0
      rw [s_up_k (by decide), s_up_k (by decide), s_up_eq]
    refine e_iload_n dX6_colony_30 rfl ?_
    refine e_sipush dX6_colony_31 rfl ?_
    refine e_icmp_ge (tgt := 50) dX6_colony_34 rfl ⟨by omega, by omega⟩ ⟨by omega, by omega⟩ (fun c1 => ?_) (fun q => by exfalso; omega)
    refine e_aload_n dX6_colony_50 rfl ?_
    refine e_callV0vz (ci := 6) dX6_colony_51 md_X6_advance lk_X6_179 rfl q1954 qs62 (t_obj _ _) (by decide) rfl (Nat.le_of_ble_eq_true rfl) (C_X6_advance0 ⟨by omega, by omega, by omega⟩) ?_
    show e_E _ _ _ _ (t_H (t_co1 σ) h0) _ _ _ _
    have g1 := t_co1_S h5 h4
    have g2 := t_rds_S 901 g1.1
    refine e_fgt 1 ?_
    refine P_co_54 ho 901 _ g1.1 (fun _ => by have := g1.1.1.1; omega) ?_
    show e_E _ _ _ _ (t_H (t_co2 σ) h0) _ _ _ _
    refine e_aload_n dX6_colony_75 rfl ?_
    refine e_callV0rz (ci := 6) dX6_colony_76 md_X6_good lk_X6_163 rfl q1968 qs64 (t_obj _ _) (by decide) rfl (Nat.le_of_ble_eq_true rfl) (C_X6_good g2.1.1.2.2.2.2.2) ?_
    refine e_bif_ne (tgt := 85) dX6_colony_79 rfl (fun c1 => ?_) (fun c1 => ?_)
    · refine e_iconst dX6_colony_85 ?_
      refine e_istore_n1 dX6_colony_86 rfl ?_
      refine e_for (n := 149) (fun i => e_E mX6_colony 87 [.ref 384, e_i i] [] (t_H (t_it t_co3f i.toNat (t_co2 σ)) h0) _ _ _ _) (by omega) ?_ (fun i hi0 hi1 hF => ?_)
      · refine e_iload_n dX6_colony_87 rfl ?_
        refine e_sipush dX6_colony_88 rfl ?_
        refine e_icmp_ge (tgt := 112) dX6_colony_91 rfl ⟨by omega, by omega⟩ ⟨by omega, by omega⟩ (fun c2 => ?_) (fun q => by exfalso; omega)
        rw [show t_H (t_it t_co3f (149 : Int).toNat (t_co2 σ)) h0 = t_H (t_co σ) h0 from by unfold t_co; rw [if_neg (by omega)]; rfl]
        refine e_aload_n dX6_colony_112 rfl ?_
        refine t_geta (k := 1) dX6_colony_113 fl_X6_9 rfl ?_
        refine e_bipush dX6_colony_116 rfl ?_
        refine t_ild 149 dX6_colony_118 rfl (by decide) (fun _ => rfl) rfl ⟨by omega, by omega⟩ ?_
        refine e_ireturn dX6_colony_119 rfl rfl ?_
        refine ⟨?_, rfl⟩
        rw [show v_colony σ = t_co σ 1 9 from if_neg (by omega)]
      · rw [t_it_s _ _ hi0] at hF
        generalize hτ : t_it t_co3f i.toNat (t_co2 σ) = τ at hF ⊢
        refine e_iload_n dX6_colony_87 rfl ?_
        refine e_sipush dX6_colony_88 rfl ?_
        refine e_icmp_ge (tgt := 112) dX6_colony_91 rfl ⟨by omega, by omega⟩ ⟨by omega, by omega⟩ (fun q => by exfalso; omega) (fun c3 => ?_)
        refine e_aload_n dX6_colony_94 rfl ?_
        refine t_geta (k := 1) dX6_colony_95 fl_X6_9 rfl ?_
        refine e_iload_n dX6_colony_98 rfl ?_
        refine e_aload_n dX6_colony_99 rfl ?_
        refine t_geta (k := 14) dX6_colony_100 fl_X6_31 rfl ?_
        refine e_iload_n dX6_colony_103 rfl ?_
        refine t_ild 149 dX6_colony_104 rfl (by decide) (fun _ => rfl) rfl ⟨by omega, by omega⟩ ?_
        refine t_ist 149 dX6_colony_105 rfl (by decide) rfl rfl ⟨by omega, by omega⟩ ?_
        refine e_iinc1 dX6_colony_106 rfl ?_
        refine e_goto (tgt := 87) dX6_colony_109 rfl ?_
        exact hF
    · refine e_bipush dX6_colony_82 rfl ?_
      refine e_ireturn dX6_colony_84 rfl rfl ?_
      refine ⟨?_, ?_⟩
      · rw [show v_colony σ = -4 from if_pos (by omega)]
      · rw [show t_co σ = t_co2 σ from if_pos (by omega)]
  · rw [t_it_s _ _ hi0] at hF
    generalize hτ : t_it t_co1f i.toNat (t_co0 σ) = τ at hF ⊢
    refine e_iload_n dX6_colony_30 rfl ?_
    refine e_sipush dX6_colony_31 rfl ?_
    refine e_icmp_ge (tgt := 50) dX6_colony_34 rfl ⟨by omega, by omega⟩ ⟨by omega, by omega⟩ (fun q => by exfalso; omega) (fun c2 => ?_)
    refine e_aload_n dX6_colony_37 rfl ?_
    refine t_geta (k := 14) dX6_colony_38 fl_X6_31 rfl ?_
    refine e_iload_n dX6_colony_41 rfl ?_
    refine e_iconst dX6_colony_42 ?_
    refine t_ist 149 dX6_colony_43 rfl (by decide) rfl rfl ⟨by omega, by omega⟩ ?_
    refine e_iinc1 dX6_colony_44 rfl ?_
    refine e_goto (tgt := 30) dX6_colony_47 rfl ?_
    exact hF
