/-! THE TWIN: bridges, covers, served, blame (printed by tw7.py) -/
set_option maxRecDepth 100000
theorem C_X6_isServed {σ : t_S} {h0 : e_A} (H : t_hist σ) {c y : Int} (hc : -1 ≤ c ∧ c < 80) (hy : 0 ≤ y ∧ y ≤ σ 1 0) : e_C mX6_isServed [.ref 384, e_i c, e_i y] (t_H σ h0) 0 0 2 (e_ret (e_i (t_srv σ c y)) (t_H σ h0)) := by
  have hz := H.1.1
  obtain ⟨N, hN⟩ : ∃ N : Int, (c = -1 ∧ N = 0) ∨ (c ≠ -1 ∧ N = 4) := by
    by_cases q : c = -1
    · exact ⟨0, Or.inl ⟨q, rfl⟩⟩
    · exact ⟨4, Or.inr ⟨q, rfl⟩⟩
  have hv : t_anyg (t_svg σ c y) N.toNat = t_srv σ c y := by
    unfold t_srv
    rcases hN with ⟨q, rfl⟩ | ⟨q, rfl⟩
    · rw [if_pos q]; rfl
    · rw [if_neg q]; rfl
  refine e_enter (al0 := [.ref 384, e_i c, e_i y, .retAddr 0, .retAddr 0]) (by decide +kernel) rfl (Nat.le_of_ble_eq_true rfl) ?_
  refine e_iconst dX6_isServed_0 ?_
  refine e_istore_n3 dX6_isServed_1 rfl ?_
  refine e_iconst dX6_isServed_2 ?_
  refine e_istore4 dX6_isServed_3 rfl ?_
  refine e_for (n := N) (fun i => e_E mX6_isServed 5 [.ref 384, e_i c, e_i y, e_i (t_anyg (t_svg σ c y) i.toNat), e_i i] [] (t_H σ h0) _ _ _ _) (by omega) ?_ (fun i hi0 hi1 hF => ?_)
  · refine e_iload dX6_isServed_5 rfl ?_
    refine e_iconst dX6_isServed_7 ?_
    refine e_icmp_ge (tgt := 58) dX6_isServed_8 rfl ⟨by omega, by omega⟩ ⟨by omega, by omega⟩ (fun c1 => ?_) (fun c1 => ?_)
    · refine e_iload_n dX6_isServed_58 rfl ?_
      refine e_ireturn dX6_isServed_59 rfl (by rcases t_svg01 σ c y N.toNat with q | q <;> (show narrow .boolean (e_i (t_anyg (t_svg σ c y) N.toNat)) = e_i (t_anyg (t_svg σ c y) N.toNat); rw [q]; rfl)) ?_
      exact e_rv hv rfl
    · refine e_iload_n dX6_isServed_11 rfl ?_
      refine e_iconst dX6_isServed_12 ?_
      refine e_icmp_eq (tgt := 58) dX6_isServed_13 rfl ⟨by omega, by omega⟩ ⟨by omega, by omega⟩ (fun c2 => ?_) (fun c2 => ?_)
      · refine e_iload_n dX6_isServed_58 rfl ?_
        refine e_ireturn dX6_isServed_59 rfl (by rcases t_svg01 σ c y N.toNat with q | q <;> (show narrow .boolean (e_i (t_anyg (t_svg σ c y) N.toNat)) = e_i (t_anyg (t_svg σ c y) N.toNat); rw [q]; rfl)) ?_
        exact e_rv hv rfl
      · exfalso; omega
  · rw [t_anyg_s (t_svg σ c y) hi0] at hF
    have h01 := t_svg01 σ c y i.toNat
    have hb0 := t_bes_rg hz c i
    have hr : t_bes σ c i ≠ -1 → t_rdo σ (t_bes σ c i) y = 0 ∨ t_rdo σ (t_bes σ c i) y = 1 := fun q => (H.2.1 y (t_bes σ c i) hy.1 hy.2 (by omega) (by omega)).1
    refine e_iload dX6_isServed_5 rfl ?_
    refine e_iconst dX6_isServed_7 ?_
    refine e_icmp_ge (tgt := 58) dX6_isServed_8 rfl ⟨by omega, by omega⟩ ⟨by omega, by omega⟩ (fun q => by exfalso; omega) (fun c3 => ?_)
    refine e_iload_n dX6_isServed_11 rfl ?_
    refine e_iconst dX6_isServed_12 ?_
    refine e_icmp_eq (tgt := 58) dX6_isServed_13 rfl ⟨by omega, by omega⟩ ⟨by omega, by omega⟩ (fun q => by exfalso; omega) (fun c4 => ?_)
    refine e_iload_n dX6_isServed_16 rfl ?_
    refine e_if_ne (tgt := 46) dX6_isServed_17 rfl ⟨by omega, by omega⟩ (fun c5 => ?_) (fun c5 => ?_)
    · refine e_iconst dX6_isServed_46 ?_
      refine e_goto (tgt := 51) dX6_isServed_47 rfl ?_
      refine e_istore_n3 dX6_isServed_51 rfl ?_
      refine e_iinc4 dX6_isServed_52 rfl ?_
      refine e_goto (tgt := 5) dX6_isServed_55 rfl ?_
      first
        | (rw [if_pos (by omega)] at hF; exact hF)
        | (rw [if_neg (by omega), show (t_svg σ c y) i = 1 from if_pos (by omega)] at hF; exact hF)
        | (rw [if_neg (by omega), show (t_svg σ c y) i = 0 from if_neg (by omega)] at hF; exact hF)
    · refine e_aload_n dX6_isServed_20 rfl ?_
      refine e_iload_n dX6_isServed_21 rfl ?_
      refine e_iload dX6_isServed_22 rfl ?_
      refine e_callV2rz (ci := 6) dX6_isServed_24 md_X6_beside lk_X6_288 rfl q2119 qs93 (t_obj _ _) (by decide) rfl (Nat.le_of_ble_eq_true rfl) (C_X6_beside hz ⟨by omega, by omega⟩ ⟨by omega, by omega⟩) ?_
      have hb := t_bes_rg hz c i
      refine e_iconst dX6_isServed_27 ?_
      refine e_icmp_eq (tgt := 50) dX6_isServed_28 rfl ⟨by omega, by omega⟩ ⟨by omega, by omega⟩ (fun c6 => ?_) (fun c6 => ?_)
      · refine e_iconst dX6_isServed_50 ?_
        refine e_istore_n3 dX6_isServed_51 rfl ?_
        refine e_iinc4 dX6_isServed_52 rfl ?_
        refine e_goto (tgt := 5) dX6_isServed_55 rfl ?_
        first
          | (rw [if_pos (by omega)] at hF; exact hF)
          | (rw [if_neg (by omega), show (t_svg σ c y) i = 1 from if_pos (by omega)] at hF; exact hF)
          | (rw [if_neg (by omega), show (t_svg σ c y) i = 0 from if_neg (by omega)] at hF; exact hF)
      · refine e_aload_n dX6_isServed_31 rfl ?_
        refine e_aload_n dX6_isServed_32 rfl ?_
        refine e_iload_n dX6_isServed_33 rfl ?_
        refine e_iload dX6_isServed_34 rfl ?_
        refine e_callV2rz (ci := 6) dX6_isServed_36 md_X6_beside lk_X6_288 rfl q2119 qs93 (t_obj _ _) (by decide) rfl (Nat.le_of_ble_eq_true rfl) (C_X6_beside hz ⟨by omega, by omega⟩ ⟨by omega, by omega⟩) ?_
        refine e_iload_n dX6_isServed_39 rfl ?_
        refine e_callV2rz (ci := 6) dX6_isServed_40 md_X6_roadOf lk_X6_386 rfl q2251 qs113 (t_obj _ _) (by decide) rfl (Nat.le_of_ble_eq_true rfl) (C_X6_roadOf H ⟨by omega, by omega⟩ ⟨by omega, by omega⟩) ?_
        refine e_if_eq (tgt := 50) dX6_isServed_43 rfl ⟨by omega, by omega⟩ (fun c7 => ?_) (fun c7 => ?_)
        · refine e_iconst dX6_isServed_50 ?_
          refine e_istore_n3 dX6_isServed_51 rfl ?_
          refine e_iinc4 dX6_isServed_52 rfl ?_
          refine e_goto (tgt := 5) dX6_isServed_55 rfl ?_
          first
            | (rw [if_pos (by omega)] at hF; exact hF)
            | (rw [if_neg (by omega), show (t_svg σ c y) i = 1 from if_pos (by omega)] at hF; exact hF)
            | (rw [if_neg (by omega), show (t_svg σ c y) i = 0 from if_neg (by omega)] at hF; exact hF)
        · refine e_iconst dX6_isServed_46 ?_
          refine e_goto (tgt := 51) dX6_isServed_47 rfl ?_
          refine e_istore_n3 dX6_isServed_51 rfl ?_
          refine e_iinc4 dX6_isServed_52 rfl ?_
          refine e_goto (tgt := 5) dX6_isServed_55 rfl ?_
          first
            | (rw [if_pos (by omega)] at hF; exact hF)
            | (rw [if_neg (by omega), show (t_svg σ c y) i = 1 from if_pos (by omega)] at hF; exact hF)
            | (rw [if_neg (by omega), show (t_svg σ c y) i = 0 from if_neg (by omega)] at hF; exact hF)
theorem t_srv01 (σ : t_S) (c y : Int) : t_srv σ c y = 0 ∨ t_srv σ c y = 1 := by
  unfold t_srv
  split
  · exact Or.inl rfl
  · exact t_svg01 σ c y 4
theorem C_X6_served {σ : t_S} {h0 : e_A} (hz : t_sz σ) (hr : t_okR (σ 1)) {y : Int} (hy : e_rg y) : e_C mX6_served [.ref 384, e_i y] (t_H σ h0) 0 0 8 (t_Pub (v_served (t_af σ) y) σ h0) := by
  refine e_enter (al0 := [.ref 384, e_i y, .retAddr 0, .retAddr 0]) (by decide +kernel) rfl (Nat.le_of_ble_eq_true rfl) ?_
  refine e_aload_n dX6_served_0 rfl ?_
  refine e_iload_n dX6_served_1 rfl ?_
  refine e_callV1rz (ci := 6) dX6_served_2 md_X6_asksYear lk_X6_373 rfl q2215 qs107 (t_obj _ _) (by decide) rfl (Nat.le_of_ble_eq_true rfl) (C_X6_asksYear hz hr ⟨by omega, by omega⟩) ?_
  have H := t_af_hist hz hr
  have hpk := t_af_pk hz hr
  generalize t_af σ = ρ at H hpk ⊢
  replace hz : t_sz ρ := H.1.1
  have s0 := H.1.1.1
  have s3 := H.1.1.2.1
  have s4 := H.1.1.2.2.1
  have s6 := H.1.1.2.2.2.2.1
  have s7 := H.1.1.2.2.2.2.2.1
  
  refine e_bif_ne (tgt := 11) dX6_served_5 rfl (fun c1 => ?_) (fun c1 => ?_)
  · refine e_iconst dX6_served_11 ?_
    refine e_istore_n2 dX6_served_12 rfl ?_
    refine e_iconst dX6_served_13 ?_
    refine e_istore_n3 dX6_served_14 rfl ?_
    refine e_for (n := ρ 1 6) (fun i => e_E mX6_served 15 [.ref 384, e_i y, e_i (t_sum (t_sdg ρ y) i.toNat), e_i i] [] (t_H ρ h0) _ _ _ _) (by omega) ?_ (fun i hi0 hi1 hF => ?_)
    · refine e_iload_n dX6_served_15 rfl ?_
      refine e_aload_n dX6_served_16 rfl ?_
      refine e_callV0rz (ci := 6) dX6_served_17 md_X6_houses lk_X6_307 rfl q2137 qs96 (t_obj _ _) (by decide) rfl (Nat.le_of_ble_eq_true rfl) (C_X6_houses) ?_
      refine e_icmp_ge (tgt := 56) dX6_served_20 rfl ⟨by omega, by omega⟩ ⟨by omega, by omega⟩ (fun c2 => ?_) (fun q => by exfalso; omega)
      refine e_iload_n dX6_served_56 rfl ?_
      refine e_ireturn dX6_served_57 rfl rfl ?_
      refine t_pub ?_ hpk
      unfold v_served
      (repeat' split) <;> first | rfl | omega
    · rw [t_sum_s (t_sdg ρ y) hi0] at hF
      have h32 : -1 ≤ ρ 32 (6 * y + i) ∧ ρ 32 (6 * y + i) < 80 := H.2.2.1 y i (by omega) (by omega) hi0 (by omega)
      have hsv := t_srv01 ρ (ρ 32 (6 * y + i)) y
      refine e_iload_n dX6_served_15 rfl ?_
      refine e_aload_n dX6_served_16 rfl ?_
      refine e_callV0rz (ci := 6) dX6_served_17 md_X6_houses lk_X6_307 rfl q2137 qs96 (t_obj _ _) (by decide) rfl (Nat.le_of_ble_eq_true rfl) (C_X6_houses) ?_
      refine e_icmp_ge (tgt := 56) dX6_served_20 rfl ⟨by omega, by omega⟩ ⟨by omega, by omega⟩ (fun q => by exfalso; omega) (fun c3 => ?_)
      refine e_iload_n dX6_served_23 rfl ?_
      refine e_aload_n dX6_served_24 rfl ?_
      refine e_aload_n dX6_served_25 rfl ?_
      refine t_geta (k := 32) dX6_served_26 fl_X6_73 rfl ?_
      refine e_bipush dX6_served_29 rfl ?_
      refine e_iload_n dX6_served_31 rfl ?_
      refine e_imul dX6_served_32 ?_
      refine e_iload_n dX6_served_33 rfl ?_
      refine e_iadd dX6_served_34 ?_
      refine t_ild 78 dX6_served_35 rfl (by decide) (fun _ => rfl) rfl ⟨by omega, by omega⟩ ?_
      refine e_iload_n dX6_served_36 rfl ?_
      refine e_callV2rz (ci := 6) dX6_served_37 md_X6_isServed lk_X6_413 rfl q2379 qs122 (t_obj _ _) (by decide) rfl (Nat.le_of_ble_eq_true rfl) (C_X6_isServed H h32 ⟨by omega, by omega⟩) ?_
      refine e_if_eq (tgt := 47) dX6_served_40 rfl ⟨by omega, by omega⟩ (fun c4 => ?_) (fun c4 => ?_)
      · refine e_iconst dX6_served_47 ?_
        refine e_iadd dX6_served_48 ?_
        refine e_istore_n2 dX6_served_49 rfl ?_
        refine e_iinc3 dX6_served_50 rfl ?_
        refine e_goto (tgt := 15) dX6_served_53 rfl ?_
        first
          | (rw [show (t_sdg ρ y) i = 1 by (show t_srv ρ (ρ 32 (6 * y + i)) y = (1 : Int); omega)] at hF; exact hF)
          | (rw [show (t_sdg ρ y) i = 0 by (show t_srv ρ (ρ 32 (6 * y + i)) y = (0 : Int); omega)] at hF; exact hF)
      · refine e_iconst dX6_served_43 ?_
        refine e_goto (tgt := 48) dX6_served_44 rfl ?_
        refine e_iadd dX6_served_48 ?_
        refine e_istore_n2 dX6_served_49 rfl ?_
        refine e_iinc3 dX6_served_50 rfl ?_
        refine e_goto (tgt := 15) dX6_served_53 rfl ?_
        first
          | (rw [show (t_sdg ρ y) i = 1 by (show t_srv ρ (ρ 32 (6 * y + i)) y = (1 : Int); omega)] at hF; exact hF)
          | (rw [show (t_sdg ρ y) i = 0 by (show t_srv ρ (ρ 32 (6 * y + i)) y = (0 : Int); omega)] at hF; exact hF)
  · refine e_bipush dX6_served_8 rfl ?_
    refine e_ireturn dX6_served_10 rfl rfl ?_
    refine t_pub ?_ hpk
    unfold v_served
    (repeat' split) <;> first | rfl | omega
theorem P_cov_33 {σ : t_S} {h0 : e_A} {best set b : Int} {Q : e_R → e_A → Prop} (H : t_hist σ) (hs : 0 ≤ set ∧ set < 2 ^ 7) (hb : b = 0 ∨ b = 1) (hF0 : e_E mX6_coversOf 4 [.ref 384, e_i (if t_alg b (t_cvg σ set) 80 = 0 then best else set), e_i (set + 1), .retAddr 0, .retAddr 0] [] (t_H σ h0) 0 0 3 Q) : e_E mX6_coversOf 33 [.ref 384, e_i best, e_i set, .retAddr 0, .retAddr 0] [e_i b] (t_H σ h0) 0 0 3 (Q) := by
  have hz := H.1.1
  have s0 := hz.1
  have h84 : e_E mX6_coversOf 84 [.ref 384, e_i best, e_i set, e_i (t_alg b (t_cvg σ set) 80), .retAddr 0] [] (t_H σ h0) 0 0 3 Q := by
    have h01 := t_alg01 (b := b) hb (t_cvg01 σ set) 80
    refine e_iload_n dX6_coversOf_84 rfl ?_
    refine e_if_eq (tgt := 90) dX6_coversOf_85 rfl ⟨by omega, by omega⟩ (fun c1 => ?_) (fun c1 => ?_)
    · refine e_iinc2 dX6_coversOf_90 rfl ?_
      refine e_goto (tgt := 4) dX6_coversOf_93 rfl ?_
      first
        | (rw [if_pos (by omega)] at hF0; exact e_fgs [3, 4] hF0)
        | (rw [if_neg (by omega)] at hF0; exact e_fgs [3, 4] hF0)
    · refine e_iload_n dX6_coversOf_88 rfl ?_
      refine e_istore_n1 dX6_coversOf_89 rfl ?_
      refine e_iinc2 dX6_coversOf_90 rfl ?_
      refine e_goto (tgt := 4) dX6_coversOf_93 rfl ?_
      first
        | (rw [if_pos (by omega)] at hF0; exact e_fgs [3, 4] hF0)
        | (rw [if_neg (by omega)] at hF0; exact e_fgs [3, 4] hF0)
  refine e_istore_n3 dX6_coversOf_33 rfl ?_
  refine e_iconst dX6_coversOf_34 ?_
  refine e_istore4 dX6_coversOf_35 rfl ?_
  refine e_for (n := 80) (fun i => e_E mX6_coversOf 37 [.ref 384, e_i best, e_i set, e_i (t_alg b (t_cvg σ set) i.toNat), e_i i] [] (t_H σ h0) _ _ _ _) (by omega) ?_ (fun i hi0 hi1 hF => ?_)
  · refine e_iload dX6_coversOf_37 rfl ?_
    refine e_bipush dX6_coversOf_39 rfl ?_
    refine e_icmp_ge (tgt := 84) dX6_coversOf_41 rfl ⟨by omega, by omega⟩ ⟨by omega, by omega⟩ (fun c1 => ?_) (fun q => by exfalso; omega)
    exact e_fgt 4 h84
  · rw [t_alg_s _ _ hi0] at hF
    have h01 := t_alg01 (b := b) hb (t_cvg01 σ set) i.toNat
    have hrd : t_rdo σ i (σ 1 0) = 0 ∨ t_rdo σ i (σ 1 0) = 1 := (H.2.1 (σ 1 0) i (by omega) (by omega) hi0 hi1).1
    refine e_iload dX6_coversOf_37 rfl ?_
    refine e_bipush dX6_coversOf_39 rfl ?_
    refine e_icmp_ge (tgt := 84) dX6_coversOf_41 rfl ⟨by omega, by omega⟩ ⟨by omega, by omega⟩ (fun q => by exfalso; omega) (fun c2 => ?_)
    refine e_iload_n dX6_coversOf_44 rfl ?_
    refine e_if_eq (tgt := 84) dX6_coversOf_45 rfl ⟨by omega, by omega⟩ (fun kg => ?_) (fun kg => ?_)
    · have e := t_alg_stop (b := b) (g := t_cvg σ set) (i := i.toNat) kg 80 (by omega)
      rw [e] at h84
      rw [kg]
      exact e_fgt 4 h84
    · refine e_aload_n dX6_coversOf_48 rfl ?_
      refine e_iload dX6_coversOf_49 rfl ?_
      refine e_aload_n dX6_coversOf_51 rfl ?_
      refine e_callV0rz (ci := 6) dX6_coversOf_52 md_X6_years lk_X6_118 rfl q2096 qs88 (t_obj _ _) (by decide) rfl (Nat.le_of_ble_eq_true rfl) (C_X6_years) ?_
      refine e_callV2rz (ci := 6) dX6_coversOf_55 md_X6_roadOf lk_X6_386 rfl q2251 qs113 (t_obj _ _) (by decide) rfl (Nat.le_of_ble_eq_true rfl) (C_X6_roadOf H ⟨by omega, by omega⟩ ⟨by omega, by omega⟩) ?_
      refine e_if_eq (tgt := 72) dX6_coversOf_58 rfl ⟨by omega, by omega⟩ (fun c4 => ?_) (fun c4 => ?_)
      · refine e_iconst dX6_coversOf_72 ?_
        refine e_goto (tgt := 77) dX6_coversOf_73 rfl ?_
        refine e_istore_n3 dX6_coversOf_77 rfl ?_
        refine e_iinc4 dX6_coversOf_78 rfl ?_
        refine e_goto (tgt := 37) dX6_coversOf_81 rfl ?_
        first
          | (rw [if_neg (by omega), show t_cvg σ set i = 1 from if_pos (by omega)] at hF; exact hF)
          | (rw [if_neg (by omega), show t_cvg σ set i = 0 from if_neg (by omega)] at hF; exact hF)
      · refine e_aload_n dX6_coversOf_61 rfl ?_
        refine e_iload dX6_coversOf_62 rfl ?_
        refine e_callV1rz (ci := 6) dX6_coversOf_64 md_X6_walkedOf lk_X6_404 rfl q2335 qs119 (t_obj _ _) (by decide) rfl (Nat.le_of_ble_eq_true rfl) (C_X6_walkedOf H ⟨by omega, by omega⟩) ?_
        refine e_iload_n dX6_coversOf_67 rfl ?_
        have hwd := t_wdo_rg hz i
        have han := t_and_rg (a := t_wdo σ i) (b := set) hwd.1
        refine e_iand dX6_coversOf_68 (t_and_law hwd.1 hs.1) ?_
        refine e_if_eq (tgt := 76) dX6_coversOf_69 rfl ⟨by omega, by omega⟩ (fun c5 => ?_) (fun c5 => ?_)
        · refine e_iconst dX6_coversOf_76 ?_
          refine e_istore_n3 dX6_coversOf_77 rfl ?_
          refine e_iinc4 dX6_coversOf_78 rfl ?_
          refine e_goto (tgt := 37) dX6_coversOf_81 rfl ?_
          first
            | (rw [if_neg (by omega), show t_cvg σ set i = 1 from if_pos (by omega)] at hF; exact hF)
            | (rw [if_neg (by omega), show t_cvg σ set i = 0 from if_neg (by omega)] at hF; exact hF)
        · refine e_iconst dX6_coversOf_72 ?_
          refine e_goto (tgt := 77) dX6_coversOf_73 rfl ?_
          refine e_istore_n3 dX6_coversOf_77 rfl ?_
          refine e_iinc4 dX6_coversOf_78 rfl ?_
          refine e_goto (tgt := 37) dX6_coversOf_81 rfl ?_
          first
            | (rw [if_neg (by omega), show t_cvg σ set i = 1 from if_pos (by omega)] at hF; exact hF)
            | (rw [if_neg (by omega), show t_cvg σ set i = 0 from if_neg (by omega)] at hF; exact hF)
theorem C_X6_coversOf {σ : t_S} {h0 : e_A} (H : t_hist σ) : e_C mX6_coversOf [.ref 384] (t_H σ h0) 0 0 3 (e_ret (e_i (t_cov σ)) (t_H σ h0)) := by
  have hz := H.1.1
  have s7 := hz.2.2.2.2.2.1
  have hp : (1 : Int) ≤ 2 ^ (σ 1 7).toNat ∧ (2 : Int) ^ (σ 1 7).toNat ≤ 2 ^ 7 := by
    have := Nat.pow_le_pow_right (n := 2) (by decide) (show (σ 1 7).toNat ≤ 7 by omega)
    have h1 := Nat.one_le_two_pow (n := (σ 1 7).toNat)
    have e2 : ((2 ^ (σ 1 7).toNat : Nat) : Int) = 2 ^ (σ 1 7).toNat := by simp
    omega
  refine e_enter (al0 := [.ref 384, .retAddr 0, .retAddr 0, .retAddr 0, .retAddr 0]) (by decide +kernel) rfl (Nat.le_of_ble_eq_true rfl) ?_
  refine e_iconst dX6_coversOf_0 ?_
  refine e_istore_n1 dX6_coversOf_1 rfl ?_
  refine e_iconst dX6_coversOf_2 ?_
  refine e_istore_n2 dX6_coversOf_3 rfl ?_
  refine e_for (n := 2 ^ (σ 1 7).toNat - 1 + 1) (fun set => e_E mX6_coversOf 4 [.ref 384, e_i (t_it (t_cvf σ) set.toNat (-1 : Int)), e_i set, .retAddr 0, .retAddr 0] [] (t_H σ h0) _ _ _ _) (by omega) ?_ (fun set hs0 hs1 hF => ?_)
  · refine e_iload_n dX6_coversOf_4 rfl ?_
    refine e_aload_n dX6_coversOf_5 rfl ?_
    refine e_callV0rz (ci := 6) dX6_coversOf_6 md_X6_allWidows lk_X6_273 rfl q2088 qs86 (t_obj _ _) (by decide) rfl (Nat.le_of_ble_eq_true rfl) (C_X6_allWidows hz) ?_
    refine e_icmp_gt (tgt := 96) dX6_coversOf_9 rfl ⟨by omega, by omega⟩ ⟨by omega, by omega⟩ (fun c1 => ?_) (fun q => by exfalso; omega)
    refine e_iload_n dX6_coversOf_96 rfl ?_
    refine e_ireturn dX6_coversOf_97 rfl rfl ?_
    exact ⟨rfl, rfl⟩
  · rw [t_it_s _ _ hs0] at hF
    have hbr := t_cvl_rg σ set.toNat
    generalize t_it (t_cvf σ) set.toNat (-1 : Int) = best at hF hbr ⊢
    have h33 := P_cov_33 (h0 := h0) (b := t_cvb best set) H ⟨hs0, by omega⟩ (by unfold t_cvb; split <;> simp) hF
    refine e_iload_n dX6_coversOf_4 rfl ?_
    refine e_aload_n dX6_coversOf_5 rfl ?_
    refine e_callV0rz (ci := 6) dX6_coversOf_6 md_X6_allWidows lk_X6_273 rfl q2088 qs86 (t_obj _ _) (by decide) rfl (Nat.le_of_ble_eq_true rfl) (C_X6_allWidows hz) ?_
    refine e_icmp_gt (tgt := 96) dX6_coversOf_9 rfl ⟨by omega, by omega⟩ ⟨by omega, by omega⟩ (fun q => by exfalso; omega) (fun c2 => ?_)
    refine e_iload_n dX6_coversOf_12 rfl ?_
    refine e_iconst dX6_coversOf_13 ?_
    refine e_icmp_eq (tgt := 28) dX6_coversOf_14 rfl ⟨by omega, by omega⟩ ⟨by omega, by omega⟩ (fun c3 => ?_) (fun c3 => ?_)
    · refine e_iconst dX6_coversOf_28 ?_
      refine e_goto (tgt := 33) dX6_coversOf_29 rfl ?_
      first
        | (have e : t_cvb best set = 1 := if_pos (by omega)
           rw [e] at h33; exact h33)
        | (have e : t_cvb best set = 0 := if_neg (by omega)
           rw [e] at h33; exact h33)
    · refine e_iload_n dX6_coversOf_17 rfl ?_
      refine e_callS1rz dX6_coversOf_18 md_X6_bits lk_X6_347 rfl q2286 rfl (Nat.le_of_ble_eq_true rfl) (C_X6_bits ⟨by omega, by omega⟩) ?_
      refine e_iload_n dX6_coversOf_21 rfl ?_
      refine e_callS1rz dX6_coversOf_22 md_X6_bits lk_X6_347 rfl q2286 rfl (Nat.le_of_ble_eq_true rfl) (C_X6_bits ⟨by omega, by omega⟩) ?_
      have hb1 := e_bsum_rg set 16
      have hb2 := e_bsum_rg best 16
      refine e_icmp_ge (tgt := 32) dX6_coversOf_25 rfl ⟨by omega, by omega⟩ ⟨by omega, by omega⟩ (fun c4 => ?_) (fun c4 => ?_)
      · refine e_iconst dX6_coversOf_32 ?_
        first
          | (have e : t_cvb best set = 1 := if_pos (by omega)
             rw [e] at h33; exact h33)
          | (have e : t_cvb best set = 0 := if_neg (by omega)
             rw [e] at h33; exact h33)
      · refine e_iconst dX6_coversOf_28 ?_
        refine e_goto (tgt := 33) dX6_coversOf_29 rfl ?_
        first
          | (have e : t_cvb best set = 1 := if_pos (by omega)
             rw [e] at h33; exact h33)
          | (have e : t_cvb best set = 0 := if_neg (by omega)
             rw [e] at h33; exact h33)
theorem t_cov_rg {σ : t_S} (hz : t_sz σ) : -1 ≤ t_cov σ ∧ t_cov σ < 2 ^ 7 := by
  have s7 := hz.2.2.2.2.2.1
  have h := t_cvl_rg σ (2 ^ (σ 1 7).toNat - 1 + 1 : Int).toNat
  have := Nat.pow_le_pow_right (n := 2) (by decide) (show (σ 1 7).toNat ≤ 7 by omega)
  have e2 : ((2 ^ (σ 1 7).toNat : Nat) : Int) = 2 ^ (σ 1 7).toNat := by simp
  unfold t_cov
  omega
theorem C_X6_cover {σ : t_S} {h0 : e_A} (hz : t_sz σ) (hr : t_okR (σ 1)) : e_C mX6_cover [.ref 384] (t_H σ h0) 0 0 7 (t_Pub (v_cover (t_af σ)) σ h0) := by
  refine e_enter (al0 := [.ref 384]) (by decide +kernel) rfl (Nat.le_of_ble_eq_true rfl) ?_
  refine e_aload_n dX6_cover_0 rfl ?_
  refine e_callV0rz (ci := 6) dX6_cover_1 md_X6_asksColony lk_X6_335 rfl q2080 qs84 (t_obj _ _) (by decide) rfl (Nat.le_of_ble_eq_true rfl) (C_X6_asksColony hz hr) ?_
  have H := t_af_hist hz hr
  have hpk := t_af_pk hz hr
  generalize t_af σ = ρ at H hpk ⊢
  replace hz : t_sz ρ := H.1.1
  have s0 := H.1.1.1
  have s3 := H.1.1.2.1
  have s4 := H.1.1.2.2.1
  have s6 := H.1.1.2.2.2.2.1
  have s7 := H.1.1.2.2.2.2.2.1
  
  refine e_bif_eq (tgt := 17) dX6_cover_4 rfl (fun c1 => ?_) (fun c1 => ?_)
  · refine e_bipush dX6_cover_17 rfl ?_
    refine e_ireturn dX6_cover_19 rfl rfl ?_
    refine t_pub ?_ hpk
    unfold v_cover
    (repeat' split) <;> first | rfl | omega
  · refine e_aload_n dX6_cover_7 rfl ?_
    refine e_callV0rz (ci := 6) dX6_cover_8 md_X6_coversOf lk_X6_407 rfl q2351 qs120 (t_obj _ _) (by decide) rfl (Nat.le_of_ble_eq_true rfl) (C_X6_coversOf H) ?_
    have hcv := t_cov_rg hz
    refine e_callS1rz dX6_cover_11 md_X6_bits lk_X6_347 rfl q2286 rfl (Nat.le_of_ble_eq_true rfl) (C_X6_bits ⟨by omega, by omega⟩) ?_
    refine e_goto (tgt := 19) dX6_cover_14 rfl ?_
    refine e_ireturn dX6_cover_19 rfl rfl ?_
    refine t_pub ?_ hpk
    unfold v_cover
    (repeat' split) <;> first | rfl | omega
theorem C_X6_covers {σ : t_S} {h0 : e_A} (hz : t_sz σ) (hr : t_okR (σ 1)) : e_C mX6_covers [.ref 384] (t_H σ h0) 0 0 7 (t_Pub (v_covers (t_af σ)) σ h0) := by
  refine e_enter (al0 := [.ref 384]) (by decide +kernel) rfl (Nat.le_of_ble_eq_true rfl) ?_
  refine e_aload_n dX6_covers_0 rfl ?_
  refine e_callV0rz (ci := 6) dX6_covers_1 md_X6_asksColony lk_X6_335 rfl q2080 qs84 (t_obj _ _) (by decide) rfl (Nat.le_of_ble_eq_true rfl) (C_X6_asksColony hz hr) ?_
  have H := t_af_hist hz hr
  have hpk := t_af_pk hz hr
  generalize t_af σ = ρ at H hpk ⊢
  replace hz : t_sz ρ := H.1.1
  have s0 := H.1.1.1
  have s3 := H.1.1.2.1
  have s4 := H.1.1.2.2.1
  have s6 := H.1.1.2.2.2.2.1
  have s7 := H.1.1.2.2.2.2.2.1
  
  refine e_bif_eq (tgt := 14) dX6_covers_4 rfl (fun c1 => ?_) (fun c1 => ?_)
  · refine e_bipush dX6_covers_14 rfl ?_
    refine e_ireturn dX6_covers_16 rfl rfl ?_
    refine t_pub ?_ hpk
    unfold v_covers
    (repeat' split) <;> first | rfl | omega
  · refine e_aload_n dX6_covers_7 rfl ?_
    refine e_callV0rz (ci := 6) dX6_covers_8 md_X6_coversOf lk_X6_407 rfl q2351 qs120 (t_obj _ _) (by decide) rfl (Nat.le_of_ble_eq_true rfl) (C_X6_coversOf H) ?_
    refine e_goto (tgt := 16) dX6_covers_11 rfl ?_
    refine e_ireturn dX6_covers_16 rfl rfl ?_
    refine t_pub ?_ hpk
    unfold v_covers
    (repeat' split) <;> first | rfl | omega
