/-! THE TWIN: who rests (printed by tw12.py) -/
set_option maxRecDepth 100000
theorem C_X6_rests {σ : t_S} {h0 : e_A} (hz : t_sz σ) (hr : t_okR (σ 1)) {a b : Int} (ha : e_rg a) (hb : e_rg b) : e_C mX6_rests [.ref 384, e_i a, e_i b] (t_H σ h0) 0 0 7 (t_Pub (v_rests σ a b) σ h0) := by
  have s7 := hz.2.2.2.2.2.1
  refine e_enter (al0 := [.ref 384, e_i a, e_i b, .retAddr 0, .retAddr 0, .retAddr 0, .retAddr 0, .retAddr 0]) (by decide +kernel) rfl (Nat.le_of_ble_eq_true rfl) ?_
  refine e_aload_n dX6_rests_0 rfl ?_
  refine e_iload_n dX6_rests_1 rfl ?_
  refine e_iload_n dX6_rests_2 rfl ?_
  refine e_callV2rz (ci := 6) dX6_rests_3 md_X6_areTwo lk_X6_479 rfl q2494 qs135 (t_obj _ _) (by decide) rfl (Nat.le_of_ble_eq_true rfl) (C_X6_areTwo hz ⟨by omega, by omega⟩ ⟨by omega, by omega⟩) ?_
  refine e_bif_ne (tgt := 12) dX6_rests_6 rfl (fun c1 => ?_) (fun c1 => ?_)
  · refine e_iconst dX6_rests_12 ?_
    refine e_istore_n3 dX6_rests_13 rfl ?_
    refine e_iconst dX6_rests_14 ?_
    refine e_istore4 dX6_rests_15 rfl ?_
    refine e_for (n := 4) (fun i => e_E mX6_rests 17 [.ref 384, e_i a, e_i b, e_i (t_it (t_rsf a b) i.toNat (σ, (0 : Int))).2, e_i i, .retAddr 0, .retAddr 0, .retAddr 0] [] (t_H (t_it (t_rsf a b) i.toNat (σ, (0 : Int))).1 h0) _ _ _ _) (by omega) ?_ (fun i hi0 hi1 hF => ?_)
    · have hin := t_rsl_in (a := a) (b := b) hz hr 4
      obtain ⟨x, hx⟩ : ∃ x, t_it (t_rsf a b) 4 (σ, (0 : Int)) = x := ⟨_, rfl⟩
      rw [show t_it (t_rsf a b) (4 : Int).toNat (σ, (0 : Int)) = t_it (t_rsf a b) 4 (σ, (0 : Int)) from rfl]
      rw [hx] at hin ⊢
      refine e_iload dX6_rests_17 rfl ?_
      refine e_iconst dX6_rests_19 ?_
      refine e_icmp_ge (tgt := 118) dX6_rests_20 rfl ⟨by omega, by omega⟩ ⟨by omega, by omega⟩ (fun c2 => ?_) (fun q => by exfalso; omega)
      refine e_iload_n dX6_rests_118 rfl ?_
      refine e_ireturn dX6_rests_119 rfl rfl ?_
      refine t_pub ?_ (fun k hk => hin.1 k (by unfold t_per at hk; omega))
      unfold v_rests t_rsl
      rw [hx, if_pos (by assumption)]
    · have hin := t_rsl_in (a := a) (b := b) hz hr i.toNat
      rw [t_it_s _ _ hi0] at hF
      generalize t_it (t_rsf a b) i.toNat (σ, (0 : Int)) = x at hF hin ⊢
      rw [Int.toNat_of_nonneg hi0] at hin
      have xz : t_sz x.1 := by unfold t_sz; rw [hin.1 1 (by omega)]; exact hz
      have xr : t_okR (x.1 1) := by rw [hin.1 1 (by omega)]; exact hr
      have hi := t_rs_in (σ := x.1) a b i xz xr
      have hpw := e_pow_lt 4 (k := i) ⟨hi0, by omega⟩
      have hin2 := hin.2
      refine e_iload dX6_rests_17 rfl ?_
      refine e_iconst dX6_rests_19 ?_
      refine e_icmp_ge (tgt := 118) dX6_rests_20 rfl ⟨by omega, by omega⟩ ⟨by omega, by omega⟩ (fun q => by exfalso; omega) (fun c3 => ?_)
      refine e_iload dX6_rests_23 rfl ?_
      refine e_iconst dX6_rests_25 ?_
      refine e_iand dX6_rests_26 (e_and1_law _) ?_
      refine e_istore5 dX6_rests_27 rfl ?_
      refine e_iload dX6_rests_29 rfl ?_
      refine e_iconst dX6_rests_31 ?_
      refine e_ishr dX6_rests_32 (e_shr_law ⟨by omega, by omega⟩ ⟨by omega, by omega⟩) ?_
      refine e_istore6 dX6_rests_33 rfl ?_
      have hdv : 0 ≤ i / 2 ^ (1 : Int).toNat ∧ i / 2 ^ (1 : Int).toNat ≤ 1 := by
        have hi4 : i = 0 ∨ i = 1 ∨ i = 2 ∨ i = 3 := by omega
        rcases hi4 with rfl | rfl | rfl | rfl <;> decide
      refine e_aload_n dX6_rests_35 rfl ?_
      refine e_iload_n dX6_rests_36 rfl ?_
      refine e_iload_n dX6_rests_37 rfl ?_
      refine e_iload dX6_rests_38 rfl ?_
      refine e_iload dX6_rests_40 rfl ?_
      refine e_iconst dX6_rests_42 ?_
      refine e_callV5rz (ci := 6) dX6_rests_43 md_X6_getsBy lk_X6_482 rfl q2498 qs136 (t_obj _ _) (by decide) rfl (Nat.le_of_ble_eq_true rfl) (C_X6_getsBy xz xr ⟨by omega, by omega⟩ ⟨by omega, by omega⟩ ⟨by omega, by omega⟩ ⟨by omega, by omega⟩ ⟨by omega, by omega⟩) ?_
      rw [if_pos rfl]
      show e_E _ _ _ _ (t_H (t_rs1 a b i x.1) h0) _ _ _ _
      refine e_aload_n dX6_rests_46 rfl ?_
      refine e_iload_n dX6_rests_47 rfl ?_
      refine e_iload_n dX6_rests_48 rfl ?_
      refine e_iconst dX6_rests_49 ?_
      refine e_iload dX6_rests_50 rfl ?_
      refine e_isub dX6_rests_52 ?_
      refine e_iload dX6_rests_53 rfl ?_
      refine e_iconst dX6_rests_55 ?_
      refine e_callV5rz (ci := 6) dX6_rests_56 md_X6_getsBy lk_X6_482 rfl q2498 qs136 (t_obj _ _) (by decide) rfl (Nat.le_of_ble_eq_true rfl) (C_X6_getsBy hi.2.1.1.1 hi.2.1.1.2 ⟨by omega, by omega⟩ ⟨by omega, by omega⟩ ⟨by omega, by omega⟩ ⟨by omega, by omega⟩ ⟨by omega, by omega⟩) ?_
      rw [if_pos rfl]
      show e_E _ _ _ (_ :: e_i (t_gv a (t_rs1 a b i x.1)) :: _) (t_H (t_rs2 a b i x.1) h0) _ _ _ _
      have v1 := t_gv_rg (w := a) hi.1.1 ⟨by omega, by omega⟩
      have v2 : -12 ≤ t_gv a (t_gb a b (1 - i % 2) (i / 2 ^ (1 : Int).toNat) (t_rs1 a b i x.1)) ∧ t_gv a (t_gb a b (1 - i % 2) (i / 2 ^ (1 : Int).toNat) (t_rs1 a b i x.1)) ≤ 80 := t_gv_rg (w := a) hi.1.2.1 ⟨by omega, by omega⟩
      show e_E _ _ _ (e_i (t_gv a (t_rs2 a b i x.1)) :: _) _ _ _ _ _
      have v2 := t_gv_rg (w := a) hi.1.2.1 ⟨by omega, by omega⟩
      refine e_icmp_lt (tgt := 93) dX6_rests_59 rfl ⟨by omega, by omega⟩ ⟨by omega, by omega⟩ (fun c4 => ?_) (fun c4 => ?_)
      · refine e_iconst dX6_rests_93 ?_
        refine e_istore7 dX6_rests_94 rfl ?_
        refine e_iload_n dX6_rests_96 rfl ?_
        refine e_iload dX6_rests_97 rfl ?_
        refine e_if_eq (tgt := 109) dX6_rests_99 rfl ⟨by omega, by omega⟩ (fun c5 => ?_) (fun c5 => ?_)
        · refine e_iconst dX6_rests_109 ?_
          refine e_ior dX6_rests_110 (by first | exact e_or_0 _ | exact e_or_top ⟨by omega, by omega⟩ hin.2) ?_
          refine e_istore_n3 dX6_rests_111 rfl ?_
          refine e_iinc4 dX6_rests_112 rfl ?_
          refine e_goto (tgt := 17) dX6_rests_115 rfl ?_
          unfold t_rsf at hF
          first
            | (exfalso; omega)
            | (rw [if_pos (by omega)] at hF; exact e_fgs [5, 6, 7] hF)
            | (rw [if_neg (by omega), if_pos (by omega)] at hF; exact e_fgs [5, 6, 7] hF)
            | (rw [if_neg (by omega), if_neg (by omega)] at hF; exact e_fgs [5, 6, 7] hF)
        · refine e_iconst dX6_rests_102 ?_
          refine e_iload dX6_rests_103 rfl ?_
          refine e_ishl dX6_rests_105 (t_shl1 ⟨by omega, by omega⟩) ?_
          refine e_goto (tgt := 110) dX6_rests_106 rfl ?_
          refine e_ior dX6_rests_110 (by first | exact e_or_0 _ | exact e_or_top ⟨by omega, by omega⟩ hin.2) ?_
          refine e_istore_n3 dX6_rests_111 rfl ?_
          refine e_iinc4 dX6_rests_112 rfl ?_
          refine e_goto (tgt := 17) dX6_rests_115 rfl ?_
          unfold t_rsf at hF
          first
            | (exfalso; omega)
            | (rw [if_pos (by omega)] at hF; exact e_fgs [5, 6, 7] hF)
            | (rw [if_neg (by omega), if_pos (by omega)] at hF; exact e_fgs [5, 6, 7] hF)
            | (rw [if_neg (by omega), if_neg (by omega)] at hF; exact e_fgs [5, 6, 7] hF)
      · refine e_aload_n dX6_rests_62 rfl ?_
        refine e_iload_n dX6_rests_63 rfl ?_
        refine e_iload_n dX6_rests_64 rfl ?_
        refine e_iload dX6_rests_65 rfl ?_
        refine e_iload dX6_rests_67 rfl ?_
        refine e_iconst dX6_rests_69 ?_
        refine e_callV5rz (ci := 6) dX6_rests_70 md_X6_getsBy lk_X6_482 rfl q2498 qs136 (t_obj _ _) (by decide) rfl (Nat.le_of_ble_eq_true rfl) (C_X6_getsBy hi.2.1.2.1.1 hi.2.1.2.1.2 ⟨by omega, by omega⟩ ⟨by omega, by omega⟩ ⟨by omega, by omega⟩ ⟨by omega, by omega⟩ ⟨by omega, by omega⟩) ?_
        rw [if_neg (by decide)]
        show e_E _ _ _ _ (t_H (t_rs3 a b i x.1) h0) _ _ _ _
        refine e_aload_n dX6_rests_73 rfl ?_
        refine e_iload_n dX6_rests_74 rfl ?_
        refine e_iload_n dX6_rests_75 rfl ?_
        refine e_iload dX6_rests_76 rfl ?_
        refine e_iconst dX6_rests_78 ?_
        refine e_iload dX6_rests_79 rfl ?_
        refine e_isub dX6_rests_81 ?_
        refine e_iconst dX6_rests_82 ?_
        refine e_callV5rz (ci := 6) dX6_rests_83 md_X6_getsBy lk_X6_482 rfl q2498 qs136 (t_obj _ _) (by decide) rfl (Nat.le_of_ble_eq_true rfl) (C_X6_getsBy hi.2.1.2.2.1 hi.2.1.2.2.2 ⟨by omega, by omega⟩ ⟨by omega, by omega⟩ ⟨by omega, by omega⟩ ⟨by omega, by omega⟩ ⟨by omega, by omega⟩) ?_
        rw [if_neg (by decide)]
        show e_E _ _ _ (e_i (t_gv b (t_rs4 a b i x.1)) :: e_i (t_gv b (t_rs3 a b i x.1)) :: _) (t_H (t_rs4 a b i x.1) h0) _ _ _ _
        have v3 := t_gv_rg (w := b) hi.1.2.2.1 ⟨by omega, by omega⟩
        have v4 := t_gv_rg (w := b) hi.1.2.2.2 ⟨by omega, by omega⟩
        refine e_icmp_lt (tgt := 93) dX6_rests_86 rfl ⟨by omega, by omega⟩ ⟨by omega, by omega⟩ (fun c6 => ?_) (fun c6 => ?_)
        · refine e_iconst dX6_rests_93 ?_
          refine e_istore7 dX6_rests_94 rfl ?_
          refine e_iload_n dX6_rests_96 rfl ?_
          refine e_iload dX6_rests_97 rfl ?_
          refine e_if_eq (tgt := 109) dX6_rests_99 rfl ⟨by omega, by omega⟩ (fun c7 => ?_) (fun c7 => ?_)
          · refine e_iconst dX6_rests_109 ?_
            refine e_ior dX6_rests_110 (by first | exact e_or_0 _ | exact e_or_top ⟨by omega, by omega⟩ hin.2) ?_
            refine e_istore_n3 dX6_rests_111 rfl ?_
            refine e_iinc4 dX6_rests_112 rfl ?_
            refine e_goto (tgt := 17) dX6_rests_115 rfl ?_
            unfold t_rsf at hF
            first
              | (exfalso; omega)
              | (rw [if_pos (by omega)] at hF; exact e_fgs [5, 6, 7] hF)
              | (rw [if_neg (by omega), if_pos (by omega)] at hF; exact e_fgs [5, 6, 7] hF)
              | (rw [if_neg (by omega), if_neg (by omega)] at hF; exact e_fgs [5, 6, 7] hF)
          · refine e_iconst dX6_rests_102 ?_
            refine e_iload dX6_rests_103 rfl ?_
            refine e_ishl dX6_rests_105 (t_shl1 ⟨by omega, by omega⟩) ?_
            refine e_goto (tgt := 110) dX6_rests_106 rfl ?_
            refine e_ior dX6_rests_110 (by first | exact e_or_0 _ | exact e_or_top ⟨by omega, by omega⟩ hin.2) ?_
            refine e_istore_n3 dX6_rests_111 rfl ?_
            refine e_iinc4 dX6_rests_112 rfl ?_
            refine e_goto (tgt := 17) dX6_rests_115 rfl ?_
            unfold t_rsf at hF
            first
              | (exfalso; omega)
              | (rw [if_pos (by omega)] at hF; exact e_fgs [5, 6, 7] hF)
              | (rw [if_neg (by omega), if_pos (by omega)] at hF; exact e_fgs [5, 6, 7] hF)
              | (rw [if_neg (by omega), if_neg (by omega)] at hF; exact e_fgs [5, 6, 7] hF)
        · refine e_iconst dX6_rests_89 ?_
          refine e_goto (tgt := 94) dX6_rests_90 rfl ?_
          refine e_istore7 dX6_rests_94 rfl ?_
          refine e_iload_n dX6_rests_96 rfl ?_
          refine e_iload dX6_rests_97 rfl ?_
          refine e_if_eq (tgt := 109) dX6_rests_99 rfl ⟨by omega, by omega⟩ (fun c8 => ?_) (fun c8 => ?_)
          · refine e_iconst dX6_rests_109 ?_
            refine e_ior dX6_rests_110 (by first | exact e_or_0 _ | exact e_or_top ⟨by omega, by omega⟩ hin.2) ?_
            refine e_istore_n3 dX6_rests_111 rfl ?_
            refine e_iinc4 dX6_rests_112 rfl ?_
            refine e_goto (tgt := 17) dX6_rests_115 rfl ?_
            unfold t_rsf at hF
            first
              | (exfalso; omega)
              | (rw [if_pos (by omega)] at hF; exact e_fgs [5, 6, 7] hF)
              | (rw [if_neg (by omega), if_pos (by omega)] at hF; exact e_fgs [5, 6, 7] hF)
              | (rw [if_neg (by omega), if_neg (by omega)] at hF; exact e_fgs [5, 6, 7] hF)
          · refine e_iconst dX6_rests_102 ?_
            refine e_iload dX6_rests_103 rfl ?_
            refine e_ishl dX6_rests_105 (t_shl1 ⟨by omega, by omega⟩) ?_
            refine e_goto (tgt := 110) dX6_rests_106 rfl ?_
            refine e_ior dX6_rests_110 (by first | exact e_or_0 _ | exact e_or_top ⟨by omega, by omega⟩ hin.2) ?_
            refine e_istore_n3 dX6_rests_111 rfl ?_
            refine e_iinc4 dX6_rests_112 rfl ?_
            refine e_goto (tgt := 17) dX6_rests_115 rfl ?_
            unfold t_rsf at hF
            first
              | (exfalso; omega)
              | (rw [if_pos (by omega)] at hF; exact e_fgs [5, 6, 7] hF)
              | (rw [if_neg (by omega), if_pos (by omega)] at hF; exact e_fgs [5, 6, 7] hF)
              | (rw [if_neg (by omega), if_neg (by omega)] at hF; exact e_fgs [5, 6, 7] hF)
  · refine e_bipush dX6_rests_9 rfl ?_
    refine e_ireturn dX6_rests_11 rfl rfl ?_
    exact t_pub (by unfold v_rests; rw [if_neg (by assumption)]) (t_pk_rf _)
