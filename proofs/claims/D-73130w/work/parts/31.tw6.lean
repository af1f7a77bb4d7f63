/-! THE TWIN: side by side, bridges, lines, covers, blame (printed by tw6.py) -/
set_option maxRecDepth 100000
theorem C_X6_isOneSideBySide {σ : t_S} {h0 : e_A} (H : t_hist σ) {y : Int} (hy : 0 ≤ y ∧ y ≤ σ 1 0) (hne : t_rdm σ y ≠ 0) : e_C mX6_isOneSideBySide [.ref 384, e_i y] (t_H σ h0) 0 0 2 (e_ret (e_i (if t_oss y σ then 1 else 0)) (t_H (t_os y σ).1 h0)) := by
  have hz := H.1.1
  have h1 := t_os1_rg H hy hne
  have H0 : t_hist (t_nm0 σ) := t_hist_of H (fun j _ j2 _ _ => t_nm0_k j2)
  have e10 : t_nm0 σ 1 0 = σ 1 0 := congrFun (t_nm0_k (by decide)) 0
  have hi0 := t_os0_in (σ := σ) (y := y)
  refine e_enter (al0 := [.ref 384, e_i y, .retAddr 0, .retAddr 0, .retAddr 0, .retAddr 0, .retAddr 0, .retAddr 0]) (by decide +kernel) rfl (Nat.le_of_ble_eq_true rfl) ?_
  refine e_iconst dX6_isOneSideBySide_0 ?_
  refine e_istore_n2 dX6_isOneSideBySide_1 rfl ?_
  refine e_for (n := 80) (fun i => e_E mX6_isOneSideBySide 2 [.ref 384, e_i y, e_i i, .retAddr 0, .retAddr 0, .retAddr 0, .retAddr 0, .retAddr 0] [] (t_H (t_it t_nm0f i.toNat (σ)) h0) _ _ _ _) (by omega) ?_ (fun i hi0 hi1 hF => ?_)
  · show e_E _ _ _ _ (t_H (t_nm0 σ) h0) _ _ _ _
    refine e_iload_n dX6_isOneSideBySide_2 rfl ?_
    refine e_bipush dX6_isOneSideBySide_3 rfl ?_
    refine e_icmp_ge (tgt := 21) dX6_isOneSideBySide_5 rfl ⟨by omega, by omega⟩ ⟨by omega, by omega⟩ (fun c1 => ?_) (fun q => by exfalso; omega)
    refine e_iconst dX6_isOneSideBySide_21 ?_
    refine e_istore_n2 dX6_isOneSideBySide_22 rfl ?_
    refine e_for (n := 80) (fun i => t_os1 y σ = t_fnd (t_rdg σ y) (80 - i).toNat i → e_E mX6_isOneSideBySide 23 [.ref 384, e_i y, e_i i, .retAddr 0, .retAddr 0, .retAddr 0, .retAddr 0, .retAddr 0] [] (t_H (t_nm0 σ) h0) _ _ _ _) (by omega) (fun hV => ?_) (fun i hi0 hi1 hF hV => ?_) rfl
    · have q : t_os1 y σ = -1 := hV
      exfalso; omega
    · rw [t_fnd_s _ hi1] at hV
      have hr : t_rdo (t_nm0 σ) i y = 0 ∨ t_rdo (t_nm0 σ) i y = 1 := (H0.2.1 y i (by omega) (by omega) hi0 hi1).1
      have er : t_rdo (t_nm0 σ) i y = t_rdo σ i y := congrFun (t_nm0_k (by decide)) _
      refine e_aload_n dX6_isOneSideBySide_23 rfl ?_
      refine e_iload_n dX6_isOneSideBySide_24 rfl ?_
      refine e_iload_n dX6_isOneSideBySide_25 rfl ?_
      refine e_callV2rz (ci := 6) dX6_isOneSideBySide_26 md_X6_roadOf lk_X6_386 rfl q2251 qs113 (t_obj _ _) (by decide) rfl (Nat.le_of_ble_eq_true rfl) (C_X6_roadOf H0 ⟨by omega, by omega⟩ ⟨by omega, by omega⟩) ?_
      refine e_if_ne (tgt := 38) dX6_isOneSideBySide_29 rfl ⟨by omega, by omega⟩ (fun kr => ?_) (fun kr => ?_)
      · have ho : t_os1 y σ = i := by rw [hV, if_pos (show t_rdg σ y i = 1 by show t_rdo σ i y = 1; omega)]
        subst ho
        refine e_aload_n dX6_isOneSideBySide_38 rfl ?_
        refine t_geta (k := 34) dX6_isOneSideBySide_39 fl_X6_79 rfl ?_
        refine e_iload_n dX6_isOneSideBySide_42 rfl ?_
        refine e_iconst dX6_isOneSideBySide_43 ?_
        refine t_zst 80 dX6_isOneSideBySide_44 rfl (by decide) rfl (Or.inr rfl) rfl ⟨by omega, by omega⟩ ?_
        refine e_iconst dX6_isOneSideBySide_45 ?_
        refine e_istore_n3 dX6_isOneSideBySide_46 rfl ?_
        refine e_iconst dX6_isOneSideBySide_47 ?_
        refine e_istore4 dX6_isOneSideBySide_48 rfl ?_
        refine e_fgt 2 ?_
        refine e_for (n := 80) (fun n => e_E mX6_isOneSideBySide 50 [.ref 384, e_i y, .retAddr 0, e_i (t_it (t_osr y) n.toNat (t_os0 y σ)).2, e_i n, .retAddr 0, .retAddr 0, .retAddr 0] [] (t_H (t_it (t_osr y) n.toNat (t_os0 y σ)).1 h0) _ _ _ _) (by omega) ?_ (fun n hn0 hn1 hnF => ?_)
        · have xe : t_it (t_osr y) (80 : Int).toNat (t_os0 y σ) = t_os y σ := rfl
          rw [xe]
          have xin := t_osrl_in (y := y) (t_os0_in (σ := σ) (y := y)) 80
          rw [show t_it (t_osr y) 80 (t_os0 y σ) = t_os y σ from rfl] at xin
          have xH : t_hist (t_os y σ).1 := t_hist_of H (fun j _ j2 _ _ => xin.1 j j2)
          have x1 : (t_os y σ).1 1 0 = σ 1 0 := congrFun (xin.1 1 (by decide)) 0
          have xr := t_rdm_rg (y := y) xH ⟨by omega, by omega⟩
          have xb := xin.2.2
          unfold t_oss
          generalize t_os y σ = xx at xin xH x1 xr xb ⊢
          refine e_iload dX6_isOneSideBySide_50 rfl ?_
          refine e_bipush dX6_isOneSideBySide_52 rfl ?_
          refine e_icmp_ge (tgt := 157) dX6_isOneSideBySide_54 rfl ⟨by omega, by omega⟩ ⟨by omega, by omega⟩ (fun c3 => ?_) (fun q => by exfalso; omega)
          refine e_iload_n dX6_isOneSideBySide_157 rfl ?_
          refine e_aload_n dX6_isOneSideBySide_158 rfl ?_
          refine e_iload_n dX6_isOneSideBySide_159 rfl ?_
          refine e_callV1rz (ci := 6) dX6_isOneSideBySide_160 md_X6_roadMany lk_X6_392 rfl q2275 qs115 (t_obj _ _) (by decide) rfl (Nat.le_of_ble_eq_true rfl) (C_X6_roadMany xH ⟨by omega, by omega⟩) ?_
          refine e_icmp_ne (tgt := 170) dX6_isOneSideBySide_163 rfl ⟨by omega, by omega⟩ ⟨by omega, by omega⟩ (fun c4 => ?_) (fun c4 => ?_)
          · refine e_iconst dX6_isOneSideBySide_170 ?_
            refine e_ireturn dX6_isOneSideBySide_171 rfl rfl ?_
            refine e_rv ?_ rfl
            first
              | exact (if_pos (by omega)).symm
              | exact (if_neg (by omega)).symm
          · refine e_iconst dX6_isOneSideBySide_166 ?_
            refine e_goto (tgt := 171) dX6_isOneSideBySide_167 rfl ?_
            refine e_ireturn dX6_isOneSideBySide_171 rfl rfl ?_
            refine e_rv ?_ rfl
            first
              | exact (if_pos (by omega)).symm
              | exact (if_neg (by omega)).symm
        · rw [t_it_s _ _ hn0] at hnF
          have xin := t_osrl_in (y := y) (t_os0_in (σ := σ) (y := y)) n.toNat
          generalize t_it (t_osr y) n.toNat (t_os0 y σ) = x at hnF xin ⊢
          refine e_iload dX6_isOneSideBySide_50 rfl ?_
          refine e_bipush dX6_isOneSideBySide_52 rfl ?_
          refine e_icmp_ge (tgt := 157) dX6_isOneSideBySide_54 rfl ⟨by omega, by omega⟩ ⟨by omega, by omega⟩ (fun q => by exfalso; omega) (fun c5 => ?_)
          refine e_iconst dX6_isOneSideBySide_57 ?_
          refine e_istore5 dX6_isOneSideBySide_58 rfl ?_
          refine e_for (n := 80) (fun c => e_E mX6_isOneSideBySide 60 [.ref 384, e_i y, .retAddr 0, e_i (t_it (t_osc y) c.toNat x).2, e_i n, e_i c, .retAddr 0, .retAddr 0] [] (t_H (t_it (t_osc y) c.toNat x).1 h0) _ _ _ _) (by omega) ?_ (fun c hc0 hc1 hcF => ?_)
          · have xe : t_it (t_osc y) (80 : Int).toNat x = t_osr y n x := rfl
            rw [xe]
            refine e_iload dX6_isOneSideBySide_60 rfl ?_
            refine e_bipush dX6_isOneSideBySide_62 rfl ?_
            refine e_icmp_ge (tgt := 151) dX6_isOneSideBySide_64 rfl ⟨by omega, by omega⟩ ⟨by omega, by omega⟩ (fun c6 => ?_) (fun q => by exfalso; omega)
            refine e_iinc4 dX6_isOneSideBySide_151 rfl ?_
            refine e_goto (tgt := 50) dX6_isOneSideBySide_154 rfl ?_
            exact e_fgs [5] hnF
          · rw [t_it_s _ _ hc0] at hcF
            have cin := t_oscl_in (y := y) xin c.toNat
            generalize t_it (t_osc y) c.toNat x = u at hcF cin ⊢
            have cs := cin.2.1 c hc0 hc1
            refine e_iload dX6_isOneSideBySide_60 rfl ?_
            refine e_bipush dX6_isOneSideBySide_62 rfl ?_
            refine e_icmp_ge (tgt := 151) dX6_isOneSideBySide_64 rfl ⟨by omega, by omega⟩ ⟨by omega, by omega⟩ (fun q => by exfalso; omega) (fun c7 => ?_)
            refine e_aload_n dX6_isOneSideBySide_67 rfl ?_
            refine t_geta (k := 34) dX6_isOneSideBySide_68 fl_X6_79 rfl ?_
            refine e_iload dX6_isOneSideBySide_71 rfl ?_
            refine t_zld 80 dX6_isOneSideBySide_73 rfl (by decide) (fun _ => rfl) rfl ⟨by omega, by omega⟩ ?_
            refine e_if_ne (tgt := 80) dX6_isOneSideBySide_74 rfl ⟨by omega, by omega⟩ (fun c8 => ?_) (fun c8 => ?_)
            · refine e_iconst dX6_isOneSideBySide_80 ?_
              refine e_istore6 dX6_isOneSideBySide_81 rfl ?_
              refine e_for (n := 4) (fun d => e_E mX6_isOneSideBySide 83 [.ref 384, e_i y, .retAddr 0, e_i (t_it (t_osd y c) d.toNat u).2, e_i n, e_i c, e_i d, .retAddr 0] [] (t_H (t_it (t_osd y c) d.toNat u).1 h0) _ _ _ _) (by omega) ?_ (fun d hd0 hd1 hdF => ?_)
              · have xe : t_it (t_osd y c) (4 : Int).toNat u = t_it (t_osd y c) 4 u := rfl
                rw [xe]
                refine e_iload dX6_isOneSideBySide_83 rfl ?_
                refine e_iconst dX6_isOneSideBySide_85 ?_
                refine e_icmp_ge (tgt := 145) dX6_isOneSideBySide_86 rfl ⟨by omega, by omega⟩ ⟨by omega, by omega⟩ (fun c9 => ?_) (fun q => by exfalso; omega)
                refine e_iinc5 dX6_isOneSideBySide_145 rfl ?_
                refine e_goto (tgt := 60) dX6_isOneSideBySide_148 rfl ?_
                first
                  | (have e : t_osc y c u = u := if_pos (by omega)
                     rw [e] at hcF; exact hcF)
                  | (have e : t_osc y c u = t_it (t_osd y c) 4 u := if_neg (by omega)
                     rw [e] at hcF; exact e_fgs [6, 7] hcF)
              · rw [t_it_s _ _ hd0] at hdF
                have zin := t_osdl_in (y := y) (c := c) cin d.toNat
                generalize t_it (t_osd y c) d.toNat u = z at hdF zin ⊢
                have zH : t_hist z.1 := t_hist_of H (fun j _ j2 _ _ => zin.1 j j2)
                have zz := zH.1.1
                have z10 : z.1 1 0 = σ 1 0 := congrFun (zin.1 1 (by decide)) 0
                have zb := t_bes_rg zz c d
                refine e_iload dX6_isOneSideBySide_83 rfl ?_
                refine e_iconst dX6_isOneSideBySide_85 ?_
                refine e_icmp_ge (tgt := 145) dX6_isOneSideBySide_86 rfl ⟨by omega, by omega⟩ ⟨by omega, by omega⟩ (fun q => by exfalso; omega) (fun c10 => ?_)
                refine e_aload_n dX6_isOneSideBySide_89 rfl ?_
                refine e_iload dX6_isOneSideBySide_90 rfl ?_
                refine e_iload dX6_isOneSideBySide_92 rfl ?_
                refine e_callV2rz (ci := 6) dX6_isOneSideBySide_94 md_X6_beside lk_X6_288 rfl q2119 qs93 (t_obj _ _) (by decide) rfl (Nat.le_of_ble_eq_true rfl) (C_X6_beside zz ⟨by omega, by omega⟩ ⟨by omega, by omega⟩) ?_
                refine e_istore7 dX6_isOneSideBySide_97 rfl ?_
                have zr : t_bes z.1 c d ≠ -1 → t_rdo z.1 (t_bes z.1 c d) y = 0 ∨ t_rdo z.1 (t_bes z.1 c d) y = 1 := fun q => (zH.2.1 y (t_bes z.1 c d) (by omega) (by omega) (by omega) (by omega)).1
                have z34 : t_bes z.1 c d ≠ -1 → z.1 34 (t_bes z.1 c d) = 0 ∨ z.1 34 (t_bes z.1 c d) = 1 := fun q => zin.2.1 (t_bes z.1 c d) (by omega) (by omega)
                refine e_iload dX6_isOneSideBySide_99 rfl ?_
                refine e_iconst dX6_isOneSideBySide_101 ?_
                refine e_icmp_eq (tgt := 139) dX6_isOneSideBySide_102 rfl ⟨by omega, by omega⟩ ⟨by omega, by omega⟩ (fun c11 => ?_) (fun c11 => ?_)
                · refine e_iinc6 dX6_isOneSideBySide_139 rfl ?_
                  refine e_goto (tgt := 83) dX6_isOneSideBySide_142 rfl ?_
                  first
                    | (have e : t_osd y c d z = z := if_neg (by omega)
                       rw [e] at hdF; exact e_fgt 7 hdF)
                    | (have e : t_osd y c d z = (s_up z.1 34 (t_bes z.1 c d) 1, z.2 + 1) := if_pos ⟨by omega, by omega, by omega⟩
                       rw [e] at hdF; exact e_fgt 7 hdF)
                · refine e_aload_n dX6_isOneSideBySide_105 rfl ?_
                  refine e_iload dX6_isOneSideBySide_106 rfl ?_
                  refine e_iload_n dX6_isOneSideBySide_108 rfl ?_
                  refine e_callV2rz (ci := 6) dX6_isOneSideBySide_109 md_X6_roadOf lk_X6_386 rfl q2251 qs113 (t_obj _ _) (by decide) rfl (Nat.le_of_ble_eq_true rfl) (C_X6_roadOf zH ⟨by omega, by omega⟩ ⟨by omega, by omega⟩) ?_
                  refine e_if_eq (tgt := 139) dX6_isOneSideBySide_112 rfl ⟨by omega, by omega⟩ (fun c12 => ?_) (fun c12 => ?_)
                  · refine e_iinc6 dX6_isOneSideBySide_139 rfl ?_
                    refine e_goto (tgt := 83) dX6_isOneSideBySide_142 rfl ?_
                    first
                      | (have e : t_osd y c d z = z := if_neg (by omega)
                         rw [e] at hdF; exact e_fgt 7 hdF)
                      | (have e : t_osd y c d z = (s_up z.1 34 (t_bes z.1 c d) 1, z.2 + 1) := if_pos ⟨by omega, by omega, by omega⟩
                         rw [e] at hdF; exact e_fgt 7 hdF)
                  · refine e_aload_n dX6_isOneSideBySide_115 rfl ?_
                    refine t_geta (k := 34) dX6_isOneSideBySide_116 fl_X6_79 rfl ?_
                    refine e_iload dX6_isOneSideBySide_119 rfl ?_
                    refine t_zld 80 dX6_isOneSideBySide_121 rfl (by decide) (fun _ => rfl) rfl ⟨by omega, by omega⟩ ?_
                    refine e_if_eq (tgt := 128) dX6_isOneSideBySide_122 rfl ⟨by omega, by omega⟩ (fun c13 => ?_) (fun c13 => ?_)
                    · refine e_aload_n dX6_isOneSideBySide_128 rfl ?_
                      refine t_geta (k := 34) dX6_isOneSideBySide_129 fl_X6_79 rfl ?_
                      refine e_iload dX6_isOneSideBySide_132 rfl ?_
                      refine e_iconst dX6_isOneSideBySide_134 ?_
                      refine t_zst 80 dX6_isOneSideBySide_135 rfl (by decide) rfl (Or.inr rfl) rfl ⟨by omega, by omega⟩ ?_
                      refine e_iinc3 dX6_isOneSideBySide_136 rfl ?_
                      refine e_iinc6 dX6_isOneSideBySide_139 rfl ?_
                      refine e_goto (tgt := 83) dX6_isOneSideBySide_142 rfl ?_
                      first
                        | (have e : t_osd y c d z = z := if_neg (by omega)
                           rw [e] at hdF; exact e_fgt 7 hdF)
                        | (have e : t_osd y c d z = (s_up z.1 34 (t_bes z.1 c d) 1, z.2 + 1) := if_pos ⟨by omega, by omega, by omega⟩
                           rw [e] at hdF; exact e_fgt 7 hdF)
                    · refine e_goto (tgt := 139) dX6_isOneSideBySide_125 rfl ?_
                      refine e_iinc6 dX6_isOneSideBySide_139 rfl ?_
                      refine e_goto (tgt := 83) dX6_isOneSideBySide_142 rfl ?_
                      first
                        | (have e : t_osd y c d z = z := if_neg (by omega)
                           rw [e] at hdF; exact e_fgt 7 hdF)
                        | (have e : t_osd y c d z = (s_up z.1 34 (t_bes z.1 c d) 1, z.2 + 1) := if_pos ⟨by omega, by omega, by omega⟩
                           rw [e] at hdF; exact e_fgt 7 hdF)
            · refine e_goto (tgt := 145) dX6_isOneSideBySide_77 rfl ?_
              refine e_iinc5 dX6_isOneSideBySide_145 rfl ?_
              refine e_goto (tgt := 60) dX6_isOneSideBySide_148 rfl ?_
              first
                | (have e : t_osc y c u = u := if_pos (by omega)
                   rw [e] at hcF; exact hcF)
                | (have e : t_osc y c u = t_it (t_osd y c) 4 u := if_neg (by omega)
                   rw [e] at hcF; exact e_fgs [6, 7] hcF)
      · refine e_iinc2 dX6_isOneSideBySide_32 rfl ?_
        refine e_goto (tgt := 23) dX6_isOneSideBySide_35 rfl ?_
        exact hF (hV.trans (if_neg (fun q => by have q2 : t_rdo σ i y = 1 := q; omega)))
  · rw [t_it_s _ _ hi0] at hF
    generalize hτ : t_it t_nm0f i.toNat (σ) = τ at hF ⊢
    refine e_iload_n dX6_isOneSideBySide_2 rfl ?_
    refine e_bipush dX6_isOneSideBySide_3 rfl ?_
    refine e_icmp_ge (tgt := 21) dX6_isOneSideBySide_5 rfl ⟨by omega, by omega⟩ ⟨by omega, by omega⟩ (fun q => by exfalso; omega) (fun c14 => ?_)
    refine e_aload_n dX6_isOneSideBySide_8 rfl ?_
    refine t_geta (k := 34) dX6_isOneSideBySide_9 fl_X6_79 rfl ?_
    refine e_iload_n dX6_isOneSideBySide_12 rfl ?_
    refine e_iconst dX6_isOneSideBySide_13 ?_
    refine t_zst 80 dX6_isOneSideBySide_14 rfl (by decide) rfl (Or.inl rfl) rfl ⟨by omega, by omega⟩ ?_
    refine e_iinc2 dX6_isOneSideBySide_15 rfl ?_
    refine e_goto (tgt := 2) dX6_isOneSideBySide_18 rfl ?_
    exact hF
theorem C_X6_missing {σ : t_S} {h0 : e_A} (hz : t_sz σ) (hr : t_okR (σ 1)) {y : Int} (hy : e_rg y) : e_C mX6_missing [.ref 384, e_i y] (t_H σ h0) 0 0 8 (t_Pub (v_missing (t_af σ) y) σ h0) := by
  refine e_enter (al0 := [.ref 384, e_i y]) (by decide +kernel) rfl (Nat.le_of_ble_eq_true rfl) ?_
  refine e_aload_n dX6_missing_0 rfl ?_
  refine e_iload_n dX6_missing_1 rfl ?_
  refine e_callV1rz (ci := 6) dX6_missing_2 md_X6_asksYear lk_X6_373 rfl q2215 qs107 (t_obj _ _) (by decide) rfl (Nat.le_of_ble_eq_true rfl) (C_X6_asksYear hz hr ⟨by omega, by omega⟩) ?_
  have H := t_af_hist hz hr
  have hpk := t_af_pk hz hr
  generalize t_af σ = ρ at H hpk ⊢
  replace hz : t_sz ρ := H.1.1
  have s0 := H.1.1.1
  have s3 := H.1.1.2.1
  have s4 := H.1.1.2.2.1
  have s6 := H.1.1.2.2.2.2.1
  have s7 := H.1.1.2.2.2.2.2.1
  
  refine e_bif_ne (tgt := 11) dX6_missing_5 rfl (fun c1 => ?_) (fun c1 => ?_)
  · refine e_aload_n dX6_missing_11 rfl ?_
    refine e_iload_n dX6_missing_12 rfl ?_
    refine e_callV1rz (ci := 6) dX6_missing_13 md_X6_roadMany lk_X6_392 rfl q2275 qs115 (t_obj _ _) (by decide) rfl (Nat.le_of_ble_eq_true rfl) (C_X6_roadMany H ⟨by omega, by omega⟩) ?_
    have hrm := t_rdm_rg (y := y) H ⟨by omega, by omega⟩
    refine e_if_ne (tgt := 21) dX6_missing_16 rfl ⟨by omega, by omega⟩ (fun c2 => ?_) (fun c2 => ?_)
    · have hos := t_osrl_in (y := y) (t_os0_in (σ := ρ) (y := y)) 80
      rw [show t_it (t_osr y) 80 (t_os0 y ρ) = t_os y ρ from rfl] at hos
      have Ho : t_hist (t_os y ρ).1 := t_hist_of H (fun j _ j2 _ _ => hos.1 j j2)
      have o10 : (t_os y ρ).1 1 0 = ρ 1 0 := congrFun (hos.1 1 (by decide)) 0
      have hpk2 : t_pk (t_os y ρ).1 σ := t_pk36 hpk (fun j _ j2 _ _ => hos.1 j j2)
      refine e_aload_n dX6_missing_21 rfl ?_
      refine e_iload_n dX6_missing_22 rfl ?_
      refine e_callV1rz (ci := 6) dX6_missing_23 md_X6_isOneSideBySide lk_X6_398 rfl q2310 qs118 (t_obj _ _) (by decide) rfl (Nat.le_of_ble_eq_true rfl) (C_X6_isOneSideBySide H ⟨by omega, by omega⟩ (by omega)) ?_
      obtain ⟨x, hx⟩ : ∃ x, t_os y ρ = x := ⟨_, rfl⟩
      unfold t_oss
      rw [hx] at hos Ho o10 hpk2 ⊢
      have hnm : t_inN x.1 80 (t_nm y x.1) := t_nm_in (y := y) Ho.1.1 80 (Nat.le_refl _)
      have hpk3 : t_pk (t_nm y x.1).1 σ := t_pk36 hpk2 (fun j j1 j2 _ _ => hnm.1 j j1 j2)
      refine e_bif_eq (tgt := 39) dX6_missing_26 rfl (fun ko => ?_) (fun ko => ?_)
      · refine e_iconst dX6_missing_39 ?_
        refine e_ireturn dX6_missing_40 rfl rfl ?_
        first
          | (have k2 : x.2 = t_rdm x.1 y := ko
             exact t_pub (by unfold v_missing t_oss; rw [hx, if_pos (by assumption), if_neg (by omega), if_pos k2]) hpk3)
          | (have k2 : ¬ x.2 = t_rdm x.1 y := ko
             exact t_pub (by unfold v_missing t_oss; rw [hx, if_pos (by assumption), if_neg (by omega), if_neg k2]) hpk2)
      · refine e_aload_n dX6_missing_29 rfl ?_
        refine e_iload_n dX6_missing_30 rfl ?_
        refine e_callV1rz (ci := 6) dX6_missing_31 md_X6_netMany lk_X6_395 rfl q2302 qs117 (t_obj _ _) (by decide) rfl (Nat.le_of_ble_eq_true rfl) (C_X6_netMany Ho ⟨by omega, by omega⟩) ?_
        refine e_iconst dX6_missing_34 ?_
        refine e_isub dX6_missing_35 ?_
        refine e_goto (tgt := 40) dX6_missing_36 rfl ?_
        refine e_ireturn dX6_missing_40 rfl rfl ?_
        first
          | (have k2 : x.2 = t_rdm x.1 y := ko
             exact t_pub (by unfold v_missing t_oss; rw [hx, if_pos (by assumption), if_neg (by omega), if_pos k2]) hpk3)
          | (have k2 : ¬ x.2 = t_rdm x.1 y := ko
             exact t_pub (by unfold v_missing t_oss; rw [hx, if_pos (by assumption), if_neg (by omega), if_neg k2]) hpk2)
    · refine e_iconst dX6_missing_19 ?_
      refine e_ireturn dX6_missing_20 rfl rfl ?_
      exact t_pub (by unfold v_missing; rw [if_pos (by assumption), if_pos (by omega)]) hpk
  · refine e_bipush dX6_missing_8 rfl ?_
    refine e_ireturn dX6_missing_10 rfl rfl ?_
    exact t_pub (by unfold v_missing; rw [if_neg (by assumption)]) hpk
theorem C_X6_rings {σ : t_S} {h0 : e_A} (hz : t_sz σ) (hr : t_okR (σ 1)) {y : Int} (hy : e_rg y) : e_C mX6_rings [.ref 384, e_i y] (t_H σ h0) 0 0 8 (t_Pub (v_rings (t_af σ) y) σ h0) := by
  refine e_enter (al0 := [.ref 384, e_i y]) (by decide +kernel) rfl (Nat.le_of_ble_eq_true rfl) ?_
  refine e_aload_n dX6_rings_0 rfl ?_
  refine e_iload_n dX6_rings_1 rfl ?_
  refine e_callV1rz (ci := 6) dX6_rings_2 md_X6_asksYear lk_X6_373 rfl q2215 qs107 (t_obj _ _) (by decide) rfl (Nat.le_of_ble_eq_true rfl) (C_X6_asksYear hz hr ⟨by omega, by omega⟩) ?_
  have H := t_af_hist hz hr
  have hpk := t_af_pk hz hr
  generalize t_af σ = ρ at H hpk ⊢
  replace hz : t_sz ρ := H.1.1
  have s0 := H.1.1.1
  have s3 := H.1.1.2.1
  have s4 := H.1.1.2.2.1
  have s6 := H.1.1.2.2.2.2.1
  have s7 := H.1.1.2.2.2.2.2.1
  
  refine e_bif_eq (tgt := 28) dX6_rings_5 rfl (fun c1 => ?_) (fun c1 => ?_)
  · refine e_bipush dX6_rings_28 rfl ?_
    refine e_ireturn dX6_rings_30 rfl rfl ?_
    first
      | exact t_pub (by unfold v_rings; rw [if_pos (by assumption)]) hpk3
      | exact t_pub (by unfold v_rings; rw [if_neg (by assumption)]) hpk
  · refine e_aload_n dX6_rings_8 rfl ?_
    refine e_iload_n dX6_rings_9 rfl ?_
    refine e_callV1rz (ci := 6) dX6_rings_10 md_X6_pegMany lk_X6_350 rfl q2283 qs116 (t_obj _ _) (by decide) rfl (Nat.le_of_ble_eq_true rfl) (C_X6_pegMany H ⟨by omega, by omega⟩) ?_
    refine e_aload_n dX6_rings_13 rfl ?_
    refine e_iload_n dX6_rings_14 rfl ?_
    refine e_callV1rz (ci := 6) dX6_rings_15 md_X6_roadMany lk_X6_392 rfl q2275 qs115 (t_obj _ _) (by decide) rfl (Nat.le_of_ble_eq_true rfl) (C_X6_roadMany H ⟨by omega, by omega⟩) ?_
    refine e_isub dX6_rings_18 ?_
    refine e_aload_n dX6_rings_19 rfl ?_
    refine e_iload_n dX6_rings_20 rfl ?_
    have hnm := t_nm_in (y := y) hz 80 (Nat.le_refl _)
    have hpk3 : t_pk (t_nm y ρ).1 σ := t_pk36 hpk (fun j j1 j2 _ _ => hnm.1 j j1 j2)
    refine e_callV1rz (ci := 6) dX6_rings_21 md_X6_netMany lk_X6_395 rfl q2302 qs117 (t_obj _ _) (by decide) rfl (Nat.le_of_ble_eq_true rfl) (C_X6_netMany H ⟨by omega, by omega⟩) ?_
    refine e_iadd dX6_rings_24 ?_
    refine e_goto (tgt := 30) dX6_rings_25 rfl ?_
    refine e_ireturn dX6_rings_30 rfl rfl ?_
    first
      | exact t_pub (by unfold v_rings; rw [if_pos (by assumption)]) hpk3
      | exact t_pub (by unfold v_rings; rw [if_neg (by assumption)]) hpk
theorem C_J3_max {h : e_A} {a b : Int} (ha : e_rg a) (hb : e_rg b) : e_C mJ3_max [e_i a, e_i b] (h) 0 0 0 (e_ret (e_i (t_mx a b)) (h)) := by
  refine e_enterF (al0 := [e_i a, e_i b]) (by decide +kernel) rfl rfl (Nat.le_of_ble_eq_true rfl) ?_
  refine e_iload_n dJ3_max_0 rfl ?_
  refine e_iload_n dJ3_max_1 rfl ?_
  refine e_icmp_lt (tgt := 9) dJ3_max_2 rfl ⟨by omega, by omega⟩ ⟨by omega, by omega⟩ (fun c1 => ?_) (fun c1 => ?_)
  · refine e_iload_n dJ3_max_9 rfl ?_
    refine e_ireturn dJ3_max_10 rfl rfl ?_
    refine e_rv ?_ rfl
    unfold t_mx
    split <;> omega
  · refine e_iload_n dJ3_max_5 rfl ?_
    refine e_goto (tgt := 10) dJ3_max_6 rfl ?_
    refine e_ireturn dJ3_max_10 rfl rfl ?_
    refine e_rv ?_ rfl
    unfold t_mx
    split <;> omega
theorem P_line_36 {σ : t_S} {h0 : e_A} {y m c d : Int} {Q : e_R → e_A → Prop} (H : t_hist σ) (hy : 0 ≤ y ∧ y ≤ σ 1 0) (hd : d = 1 ∨ d = 2) : ∀ (f : Nat) (k n : Int), (0 ≤ k ∧ k < 80) → ((d = 1 ∧ 7 - k / 10 < f) ∨ (d = 2 ∧ 9 - k % 10 < f)) → (0 ≤ n ∧ n + f ≤ 20) → e_E mX6_line 68 [.ref 384, e_i y, e_i m, e_i c, e_i d, e_i (t_lne σ y d f k n), .retAddr 0] [] (t_H σ h0) 0 0 8 Q → e_E mX6_line 36 [.ref 384, e_i y, e_i m, e_i c, e_i d, e_i n, e_i k] [] (t_H σ h0) 0 0 8 Q
  | 0, k, n, hk, hm, hn, hX => by exfalso; omega
  | f + 1, k, n, hk, hm, hn, hX => by
    have s0 := H.1.1.1
    have hp : 0 ≤ t_pgs σ k y ∧ t_pgs σ k y < 2 ^ 4 := (H.2.1 y k hy.1 hy.2 hk.1 hk.2).2.1
    have hbt := e_bt01 (t_pgs σ k y) d
    refine e_aload_n dX6_line_36 rfl ?_
    refine e_iload dX6_line_37 rfl ?_
    refine e_iload_n dX6_line_39 rfl ?_
    refine e_callV2rz (ci := 6) dX6_line_40 md_X6_pegsOf lk_X6_344 rfl q2239 qs112 (t_obj _ _) (by decide) rfl (Nat.le_of_ble_eq_true rfl) (C_X6_pegsOf ⟨by omega, by omega⟩ ⟨by omega, by omega⟩) ?_
    refine e_iload dX6_line_43 rfl ?_
    refine e_callS2rz dX6_line_45 md_X6_bit lk_X6_323 rfl q2103 rfl (Nat.le_of_ble_eq_true rfl) (C_X6_bit ⟨by omega, by omega⟩ ⟨by omega, by omega⟩) ?_
    refine e_iconst dX6_line_48 ?_
    refine e_icmp_ne (tgt := 68) dX6_line_49 rfl ⟨by omega, by omega⟩ ⟨by omega, by omega⟩ (fun kb => ?_) (fun kb => ?_)
    · have e : t_lne σ y d (f + 1) k n = n := if_neg (by omega)
      rw [e] at hX
      exact e_fgt 6 hX
    · refine e_iinc5 dX6_line_52 rfl ?_
      have hbb := (H.2.1 y k hy.1 hy.2 hk.1 hk.2).2.2 d (by omega) (by omega) (by show e_bt (t_pgs σ k y) d = 1; omega)
      have hst := t_bes_st hd hbb.1
      have hbr := t_bes_rg H.1.1 k d
      have hne := hbb.1
      have s3 := H.1.1.2.1
      have s4 := H.1.1.2.2.1
      have e : t_lne σ y d (f + 1) k n = t_lne σ y d f (t_bes σ k d) (n + 1) := if_pos (by omega)
      rw [e] at hX
      refine e_aload_n dX6_line_55 rfl ?_
      refine e_iload dX6_line_56 rfl ?_
      refine e_iload dX6_line_58 rfl ?_
      refine e_callV2rz (ci := 6) dX6_line_60 md_X6_beside lk_X6_288 rfl q2119 qs93 (t_obj _ _) (by decide) rfl (Nat.le_of_ble_eq_true rfl) (C_X6_beside H.1.1 ⟨by omega, by omega⟩ ⟨by omega, by omega⟩) ?_
      refine e_istore6 dX6_line_63 rfl ?_
      refine e_goto (tgt := 36) dX6_line_65 rfl ?_
      exact P_line_36 H hy hd f (t_bes σ k d) (n + 1) ⟨by omega, by omega⟩ (by omega) ⟨by omega, by omega⟩ hX
theorem C_X6_line {σ : t_S} {h0 : e_A} (hz : t_sz σ) (hr : t_okR (σ 1)) {y : Int} (hy : e_rg y) : e_C mX6_line [.ref 384, e_i y] (t_H σ h0) 0 0 8 (t_Pub (v_line (t_af σ) y) σ h0) := by
  refine e_enter (al0 := [.ref 384, e_i y, .retAddr 0, .retAddr 0, .retAddr 0, .retAddr 0, .retAddr 0]) (by decide +kernel) rfl (Nat.le_of_ble_eq_true rfl) ?_
  refine e_aload_n dX6_line_0 rfl ?_
  refine e_iload_n dX6_line_1 rfl ?_
  refine e_callV1rz (ci := 6) dX6_line_2 md_X6_asksYear lk_X6_373 rfl q2215 qs107 (t_obj _ _) (by decide) rfl (Nat.le_of_ble_eq_true rfl) (C_X6_asksYear hz hr ⟨by omega, by omega⟩) ?_
  have H := t_af_hist hz hr
  have hpk := t_af_pk hz hr
  generalize t_af σ = ρ at H hpk ⊢
  replace hz : t_sz ρ := H.1.1
  have s0 := H.1.1.1
  have s3 := H.1.1.2.1
  have s4 := H.1.1.2.2.1
  have s6 := H.1.1.2.2.2.2.1
  have s7 := H.1.1.2.2.2.2.2.1
  
  refine e_bif_ne (tgt := 11) dX6_line_5 rfl (fun c1 => ?_) (fun c1 => ?_)
  · refine e_iconst dX6_line_11 ?_
    refine e_istore_n2 dX6_line_12 rfl ?_
    refine e_iconst dX6_line_13 ?_
    refine e_istore_n3 dX6_line_14 rfl ?_
    refine e_for (n := 80) (fun c => e_E mX6_line 15 [.ref 384, e_i y, e_i (t_it (t_lnf ρ y) c.toNat (0 : Int)), e_i c, .retAddr 0, .retAddr 0, .retAddr 0] [] (t_H ρ h0) _ _ _ _) (by omega) ?_ (fun c hc0 hc1 hF => ?_)
    · refine e_iload_n dX6_line_15 rfl ?_
      refine e_bipush dX6_line_16 rfl ?_
      refine e_icmp_ge (tgt := 87) dX6_line_18 rfl ⟨by omega, by omega⟩ ⟨by omega, by omega⟩ (fun c2 => ?_) (fun q => by exfalso; omega)
      refine e_iload_n dX6_line_87 rfl ?_
      refine e_ireturn dX6_line_88 rfl rfl ?_
      refine t_pub ?_ hpk
      unfold v_line
      (repeat' split) <;> first | rfl | omega
    · rw [t_it_s _ _ hc0] at hF
      have hr := t_lnf_rg ρ y c.toNat
      generalize t_it (t_lnf ρ y) c.toNat (0 : Int) = m at hF hr ⊢
      have l1 := t_lne_rg ρ y 1 11 c 0
      have l2 := t_lne_rg ρ y 2 11 c 0
      have m1 := t_mx_rg (m := 11) (a := m) (b := t_lne ρ y 1 11 c 0) hr ⟨by omega, by omega⟩
      refine e_iload_n dX6_line_15 rfl ?_
      refine e_bipush dX6_line_16 rfl ?_
      refine e_icmp_ge (tgt := 87) dX6_line_18 rfl ⟨by omega, by omega⟩ ⟨by omega, by omega⟩ (fun q => by exfalso; omega) (fun c3 => ?_)
      refine e_iconst dX6_line_21 ?_
      refine e_istore4 dX6_line_22 rfl ?_
      refine e_forA (a := 1) (n := 3) (fun d => e_E mX6_line 24 [.ref 384, e_i y, e_i (t_it (fun j m => t_mx m (t_lne ρ y (j + 1) 11 c 0)) (d - 1).toNat m), e_i c, e_i d, .retAddr 0, .retAddr 0] [] (t_H ρ h0) _ _ _ _) (by omega) ?_ (fun d hd0 hd1 hG => ?_)
      · show e_E _ _ [_, _, e_i (t_lnf ρ y c m), _, _, _, _] _ _ _ _ _ _
        refine e_iload dX6_line_24 rfl ?_
        refine e_iconst dX6_line_26 ?_
        refine e_icmp_gt (tgt := 81) dX6_line_27 rfl ⟨by omega, by omega⟩ ⟨by omega, by omega⟩ (fun c4 => ?_) (fun q => by exfalso; omega)
        refine e_iinc3 dX6_line_81 rfl ?_
        refine e_goto (tgt := 15) dX6_line_84 rfl ?_
        exact e_fgs [4, 5] hF
      · have e : t_it (fun j m => t_mx m (t_lne ρ y (j + 1) 11 c 0)) (d + 1 - 1).toNat m = t_mx (t_it (fun j m => t_mx m (t_lne ρ y (j + 1) 11 c 0)) (d - 1).toNat m) (t_lne ρ y d 11 c 0) := by
          rw [show d + 1 - 1 = (d - 1) + 1 by omega, t_it_s _ _ (by omega)]
          show t_mx _ (t_lne ρ y (d - 1 + 1) 11 c 0) = _
          rw [Int.sub_add_cancel]
        rw [e] at hG
        have hq : 0 ≤ t_it (fun j m => t_mx m (t_lne ρ y (j + 1) 11 c 0)) (d - 1).toNat m ∧ t_it (fun j m => t_mx m (t_lne ρ y (j + 1) 11 c 0)) (d - 1).toNat m ≤ 11 := by
          have hd : d = 1 ∨ d = 2 := by omega
          rcases hd with rfl | rfl
          · exact hr
          · exact m1
        generalize t_it (fun j m => t_mx m (t_lne ρ y (j + 1) 11 c 0)) (d - 1).toNat m = mm at hG hq ⊢
        have l3 := t_lne_rg ρ y d 11 c 0
        refine e_iload dX6_line_24 rfl ?_
        refine e_iconst dX6_line_26 ?_
        refine e_icmp_gt (tgt := 81) dX6_line_27 rfl ⟨by omega, by omega⟩ ⟨by omega, by omega⟩ (fun q => by exfalso; omega) (fun c5 => ?_)
        refine e_iconst dX6_line_30 ?_
        refine e_istore5 dX6_line_31 rfl ?_
        refine e_iload_n dX6_line_33 rfl ?_
        refine e_istore6 dX6_line_34 rfl ?_
        refine P_line_36 H ⟨by omega, by omega⟩ (by omega) 11 c 0 ⟨hc0, hc1⟩ (by omega) ⟨by omega, by omega⟩ ?_
        refine e_iload_n dX6_line_68 rfl ?_
        refine e_iload dX6_line_69 rfl ?_
        refine e_callS2rz dX6_line_71 md_J3_max lk_X6_401 rfl q939 rfl (Nat.le_of_ble_eq_true rfl) (C_J3_max ⟨by omega, by omega⟩ ⟨by omega, by omega⟩) ?_
        refine e_istore_n2 dX6_line_74 rfl ?_
        refine e_iinc4 dX6_line_75 rfl ?_
        refine e_goto (tgt := 24) dX6_line_78 rfl ?_
        exact e_fgt 5 hG
  · refine e_bipush dX6_line_8 rfl ?_
    refine e_ireturn dX6_line_10 rfl rfl ?_
    refine t_pub ?_ hpk
    unfold v_line
    (repeat' split) <;> first | rfl | omega
