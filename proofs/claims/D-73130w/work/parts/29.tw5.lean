/-! THE TWIN: how far, nets (printed by tw5.py) -/
set_option maxRecDepth 100000
theorem C_X6_leads {σ : t_S} {h0 : e_A} {c d y : Int} (hl : t_lh σ y) (hc : 0 ≤ c ∧ c < 80) (hd : 0 ≤ d ∧ d < 4) : e_C mX6_leads [.ref 384, e_i c, e_i d, e_i y] (t_H σ h0) 0 0 2 (e_ret (e_i (if t_lead σ c d y then 1 else 0)) (t_H σ h0)) := by
  have hz := hl.1
  have h15 := hl.2.1
  have hy := hl.2.2
  have hb := t_bes_rg hz c d
  have s0 := hz.1
  have hy2 : y = -1 ∨ (0 ≤ y ∧ y ≤ σ 1 0) := hy.imp id (fun q => q.1)
  refine e_enter (al0 := [.ref 384, e_i c, e_i d, e_i y, .retAddr 0]) (by decide +kernel) rfl (Nat.le_of_ble_eq_true rfl) ?_
  refine e_aload_n dX6_leads_0 rfl ?_
  refine e_iload_n dX6_leads_1 rfl ?_
  refine e_iload_n dX6_leads_2 rfl ?_
  refine e_callV2rz (ci := 6) dX6_leads_3 md_X6_beside lk_X6_288 rfl q2119 qs93 (t_obj _ _) (by decide) rfl (Nat.le_of_ble_eq_true rfl) (C_X6_beside hz ⟨by omega, by omega⟩ ⟨by omega, by omega⟩) ?_
  refine e_istore4 dX6_leads_6 rfl ?_
  refine e_iload dX6_leads_8 rfl ?_
  refine e_iconst dX6_leads_10 ?_
  refine e_icmp_ne (tgt := 16) dX6_leads_11 rfl ⟨by omega, by omega⟩ ⟨by omega, by omega⟩ (fun c1 => ?_) (fun c1 => ?_)
  · refine e_iload_n dX6_leads_16 rfl ?_
    refine e_iconst dX6_leads_17 ?_
    refine e_icmp_ne (tgt := 39) dX6_leads_18 rfl ⟨by omega, by omega⟩ ⟨by omega, by omega⟩ (fun c2 => ?_) (fun c2 => ?_)
    · refine e_aload_n dX6_leads_39 rfl ?_
      refine e_iload_n dX6_leads_40 rfl ?_
      refine e_iload_n dX6_leads_41 rfl ?_
      refine e_callV2rz (ci := 6) dX6_leads_42 md_X6_pegsOf lk_X6_344 rfl q2239 qs112 (t_obj _ _) (by decide) rfl (Nat.le_of_ble_eq_true rfl) (C_X6_pegsOf ⟨by omega, by omega⟩ ⟨by omega, by omega⟩) ?_
      have hp : 0 ≤ t_pgs σ c y ∧ t_pgs σ c y < 2 ^ 4 := by
        rcases hy with q | q
        · exfalso; omega
        · exact q.2 c hc.1 hc.2
      refine e_iload_n dX6_leads_45 rfl ?_
      refine e_callS2rz dX6_leads_46 md_X6_bit lk_X6_323 rfl q2103 rfl (Nat.le_of_ble_eq_true rfl) (C_X6_bit ⟨by omega, by omega⟩ ⟨by omega, by omega⟩) ?_
      have hbt := e_bt01 (t_pgs σ c y) d
      refine e_iconst dX6_leads_49 ?_
      refine e_icmp_ne (tgt := 57) dX6_leads_50 rfl ⟨by omega, by omega⟩ ⟨by omega, by omega⟩ (fun c3 => ?_) (fun c3 => ?_)
      · refine e_iconst dX6_leads_57 ?_
        refine e_ireturn dX6_leads_58 rfl rfl ?_
        refine e_rv ?_ rfl
        first
          | exact (if_pos (by omega)).symm
          | exact (if_neg (by omega)).symm
      · refine e_iconst dX6_leads_53 ?_
        refine e_goto (tgt := 58) dX6_leads_54 rfl ?_
        refine e_ireturn dX6_leads_58 rfl rfl ?_
        refine e_rv ?_ rfl
        first
          | exact (if_pos (by omega)).symm
          | exact (if_neg (by omega)).symm
    · refine e_aload_n dX6_leads_21 rfl ?_
      refine t_geta (k := 15) dX6_leads_22 fl_X6_34 rfl ?_
      refine e_iload dX6_leads_25 rfl ?_
      refine t_zld 80 dX6_leads_27 rfl (by decide) (fun _ => rfl) rfl ⟨by omega, by omega⟩ ?_
      have hb15 := h15 (t_bes σ c d)
      refine e_if_ne (tgt := 35) dX6_leads_28 rfl ⟨by omega, by omega⟩ (fun c4 => ?_) (fun c4 => ?_)
      · refine e_iconst dX6_leads_35 ?_
        refine e_goto (tgt := 58) dX6_leads_36 rfl ?_
        refine e_ireturn dX6_leads_58 rfl rfl ?_
        refine e_rv ?_ rfl
        first
          | exact (if_pos (by omega)).symm
          | exact (if_neg (by omega)).symm
      · refine e_iconst dX6_leads_31 ?_
        refine e_goto (tgt := 58) dX6_leads_32 rfl ?_
        refine e_ireturn dX6_leads_58 rfl rfl ?_
        refine e_rv ?_ rfl
        first
          | exact (if_pos (by omega)).symm
          | exact (if_neg (by omega)).symm
  · refine e_iconst dX6_leads_14 ?_
    refine e_ireturn dX6_leads_15 rfl rfl ?_
    refine e_rv ?_ rfl
    first
      | exact (if_pos (by omega)).symm
      | exact (if_neg (by omega)).symm
theorem P_layFar_37 {τ : t_S} {h0 : e_A} {a y n : Int} {Q : e_R → e_A → Prop} (hl : t_lh τ y) (hn : 0 ≤ n ∧ n ≤ 81) (hf : t_frg τ n) (hF0 : e_E mX6_layFar 33 [.ref 384, e_i a, e_i y, e_i (t_lfr y n τ).2, e_i (n + 1), .retAddr 0, .retAddr 0] [] (t_H (t_lfr y n τ).1 h0) 0 0 3 Q) : e_E mX6_layFar 37 [.ref 384, e_i a, e_i y, .retAddr 0, e_i n, .retAddr 0, .retAddr 0] [] (t_H τ h0) 0 0 3 (Q) := by
  refine e_iconst dX6_layFar_37 ?_
  refine e_istore_n3 dX6_layFar_38 rfl ?_
  refine e_iconst dX6_layFar_39 ?_
  refine e_istore5 dX6_layFar_40 rfl ?_
  refine e_for (n := 80) (fun i => e_E mX6_layFar 42 [.ref 384, e_i a, e_i y, e_i (t_it (t_lfc n y) i.toNat (τ, (0 : Int))).2, e_i n, e_i i, .retAddr 0] [] (t_H (t_it (t_lfc n y) i.toNat (τ, (0 : Int))).1 h0) _ _ _ _) (by omega) ?_ (fun i hi0 hi1 hF => ?_)
  · show e_E _ _ [_, _, _, e_i (t_lfr y n τ).2, _, _, _] _ (t_H (t_lfr y n τ).1 h0) _ _ _ _
    refine e_iload dX6_layFar_42 rfl ?_
    refine e_bipush dX6_layFar_44 rfl ?_
    refine e_icmp_ge (tgt := 136) dX6_layFar_46 rfl ⟨by omega, by omega⟩ ⟨by omega, by omega⟩ (fun c1 => ?_) (fun q => by exfalso; omega)
    refine e_iinc4 dX6_layFar_136 rfl ?_
    refine e_goto (tgt := 33) dX6_layFar_139 rfl ?_
    exact e_fgs [5, 6] hF0
  · rw [t_it_s _ _ hi0] at hF
    have hin := t_lfcl_in (y := y) hl.1 hn.1 hf i.toNat
    generalize t_it (t_lfc n y) i.toNat (τ, (0 : Int)) = x at hF hin ⊢
    have hx := hin.2.1 i hi0 hi1
    refine e_iload dX6_layFar_42 rfl ?_
    refine e_bipush dX6_layFar_44 rfl ?_
    refine e_icmp_ge (tgt := 136) dX6_layFar_46 rfl ⟨by omega, by omega⟩ ⟨by omega, by omega⟩ (fun q => by exfalso; omega) (fun c2 => ?_)
    refine e_aload_n dX6_layFar_49 rfl ?_
    refine t_geta (k := 33) dX6_layFar_50 fl_X6_76 rfl ?_
    refine e_iload dX6_layFar_53 rfl ?_
    refine t_ild 80 dX6_layFar_55 rfl (by decide) (fun _ => rfl) rfl ⟨by omega, by omega⟩ ?_
    refine e_iload dX6_layFar_56 rfl ?_
    refine e_icmp_eq (tgt := 64) dX6_layFar_58 rfl ⟨by omega, by omega⟩ ⟨by omega, by omega⟩ (fun c3 => ?_) (fun c3 => ?_)
    · refine e_iconst dX6_layFar_64 ?_
      refine e_istore6 dX6_layFar_65 rfl ?_
      refine e_for (n := 4) (fun d => e_E mX6_layFar 67 [.ref 384, e_i a, e_i y, e_i (t_it (t_lfd n i y) d.toNat x).2, e_i n, e_i i, e_i d] [] (t_H (t_it (t_lfd n i y) d.toNat x).1 h0) _ _ _ _) (by omega) ?_ (fun d hd0 hd1 hG => ?_)
      · have hxe : t_it (t_lfd n i y) (4 : Int).toNat x = t_it (t_lfd n i y) 4 x := rfl
        rw [hxe]
        refine e_iload dX6_layFar_67 rfl ?_
        refine e_iconst dX6_layFar_69 ?_
        refine e_icmp_ge (tgt := 130) dX6_layFar_70 rfl ⟨by omega, by omega⟩ ⟨by omega, by omega⟩ (fun c4 => ?_) (fun q => by exfalso; omega)
        refine e_iinc5 dX6_layFar_130 rfl ?_
        refine e_goto (tgt := 42) dX6_layFar_133 rfl ?_
        first
          | (have e : t_lfc n y i x = x := if_neg (by omega)
             rw [e] at hF; exact hF)
          | (have e : t_lfc n y i x = t_it (t_lfd n i y) 4 x := if_pos (by omega)
             rw [e] at hF; exact e_fgt 6 hF)
      · rw [t_it_s _ _ hd0] at hG
        have jin := t_lfdl_in (c := i) (y := y) hl.1 hn.1 hin d.toNat
        generalize t_it (t_lfd n i y) d.toNat x = z at hG jin ⊢
        have jl := t_lh_of hl jin.1
        have jb := t_bes_rg jl.1 i d
        have jx := jin.2.1 (t_bes z.1 i d)
        refine e_iload dX6_layFar_67 rfl ?_
        refine e_iconst dX6_layFar_69 ?_
        refine e_icmp_ge (tgt := 130) dX6_layFar_70 rfl ⟨by omega, by omega⟩ ⟨by omega, by omega⟩ (fun q => by exfalso; omega) (fun c5 => ?_)
        refine e_aload_n dX6_layFar_73 rfl ?_
        refine e_iload dX6_layFar_74 rfl ?_
        refine e_iload dX6_layFar_76 rfl ?_
        refine e_iload_n dX6_layFar_78 rfl ?_
        refine e_callV3rz (ci := 6) dX6_layFar_79 md_X6_leads lk_X6_376 rfl q2235 qs111 (t_obj _ _) (by decide) rfl (Nat.le_of_ble_eq_true rfl) (C_X6_leads jl ⟨by omega, by omega⟩ ⟨by omega, by omega⟩) ?_
        refine e_bif_eq (tgt := 124) dX6_layFar_82 rfl (fun c6 => ?_) (fun c6 => ?_)
        · refine e_iinc6 dX6_layFar_124 rfl ?_
          refine e_goto (tgt := 67) dX6_layFar_127 rfl ?_
          first
            | (have e : t_lfd n i y d z = z := if_neg (by omega)
               rw [e] at hG; exact hG)
            | (have e : t_lfd n i y d z = (s_up z.1 33 (t_bes z.1 i d) (n + 1), 1) := if_pos ⟨by assumption, by omega⟩
               rw [e] at hG; exact hG)
        · refine e_aload_n dX6_layFar_85 rfl ?_
          refine t_geta (k := 33) dX6_layFar_86 fl_X6_76 rfl ?_
          refine e_aload_n dX6_layFar_89 rfl ?_
          refine e_iload dX6_layFar_90 rfl ?_
          refine e_iload dX6_layFar_92 rfl ?_
          refine e_callV2rz (ci := 6) dX6_layFar_94 md_X6_beside lk_X6_288 rfl q2119 qs93 (t_obj _ _) (by decide) rfl (Nat.le_of_ble_eq_true rfl) (C_X6_beside jl.1 ⟨by omega, by omega⟩ ⟨by omega, by omega⟩) ?_
          refine t_ild 80 dX6_layFar_97 rfl (by decide) (fun _ => rfl) rfl ⟨by omega, by omega⟩ ?_
          refine e_iconst dX6_layFar_98 ?_
          refine e_icmp_eq (tgt := 105) dX6_layFar_99 rfl ⟨by omega, by omega⟩ ⟨by omega, by omega⟩ (fun c7 => ?_) (fun c7 => ?_)
          · refine e_aload_n dX6_layFar_105 rfl ?_
            refine t_geta (k := 33) dX6_layFar_106 fl_X6_76 rfl ?_
            refine e_aload_n dX6_layFar_109 rfl ?_
            refine e_iload dX6_layFar_110 rfl ?_
            refine e_iload dX6_layFar_112 rfl ?_
            refine e_callV2rz (ci := 6) dX6_layFar_114 md_X6_beside lk_X6_288 rfl q2119 qs93 (t_obj _ _) (by decide) rfl (Nat.le_of_ble_eq_true rfl) (C_X6_beside jl.1 ⟨by omega, by omega⟩ ⟨by omega, by omega⟩) ?_
            refine e_iload dX6_layFar_117 rfl ?_
            refine e_iconst dX6_layFar_119 ?_
            refine e_iadd dX6_layFar_120 ?_
            refine t_ist 80 dX6_layFar_121 rfl (by decide) rfl rfl ⟨by omega, by omega⟩ ?_
            refine e_iconst dX6_layFar_122 ?_
            refine e_istore_n3 dX6_layFar_123 rfl ?_
            refine e_iinc6 dX6_layFar_124 rfl ?_
            refine e_goto (tgt := 67) dX6_layFar_127 rfl ?_
            first
              | (have e : t_lfd n i y d z = z := if_neg (by omega)
                 rw [e] at hG; exact hG)
              | (have e : t_lfd n i y d z = (s_up z.1 33 (t_bes z.1 i d) (n + 1), 1) := if_pos ⟨by assumption, by omega⟩
                 rw [e] at hG; exact hG)
          · refine e_goto (tgt := 124) dX6_layFar_102 rfl ?_
            refine e_iinc6 dX6_layFar_124 rfl ?_
            refine e_goto (tgt := 67) dX6_layFar_127 rfl ?_
            first
              | (have e : t_lfd n i y d z = z := if_neg (by omega)
                 rw [e] at hG; exact hG)
              | (have e : t_lfd n i y d z = (s_up z.1 33 (t_bes z.1 i d) (n + 1), 1) := if_pos ⟨by assumption, by omega⟩
                 rw [e] at hG; exact hG)
    · refine e_goto (tgt := 130) dX6_layFar_61 rfl ?_
      refine e_iinc5 dX6_layFar_130 rfl ?_
      refine e_goto (tgt := 42) dX6_layFar_133 rfl ?_
      first
        | (have e : t_lfc n y i x = x := if_neg (by omega)
           rw [e] at hF; exact hF)
        | (have e : t_lfc n y i x = t_it (t_lfd n i y) 4 x := if_pos (by omega)
           rw [e] at hF; exact e_fgt 6 hF)
theorem P_layFar_33 {h0 : e_A} {a y : Int} {Q : e_R → e_A → Prop} : ∀ (f : Nat) (n : Int) (τ : t_S), t_lh τ y → (0 ≤ n ∧ n + t_unk τ ≤ 80) → t_frg τ n → t_unk τ < f → e_E mX6_layFar 142 [.ref 384, e_i a, e_i y, .retAddr 0, .retAddr 0, .retAddr 0, .retAddr 0] [] (t_H (t_lfl y f n τ) h0) 0 0 3 Q → e_E mX6_layFar 33 [.ref 384, e_i a, e_i y, e_i 1, e_i n, .retAddr 0, .retAddr 0] [] (t_H τ h0) 0 0 3 Q
  | 0, n, τ, hl, hn, hf, hu, hX => by
    have := t_unk_rg τ
    exfalso; omega
  | f + 1, n, τ, hl, hn, hf, hu, hX => by
    have hun := t_unk_rg τ
    have h2 : t_inL τ n (t_lfr y n τ) := t_lfcl_in (y := y) hl.1 hn.1 hf 80
    have hun2 := t_unk_rg (t_lfr y n τ).1
    have hm := h2.2.2.1
    have hd := h2.2.2.2
    refine e_iload_n dX6_layFar_33 rfl ?_
    refine e_if_eq (tgt := 142) dX6_layFar_34 rfl ⟨by omega, by omega⟩ (fun q => by exfalso; omega) (fun _ => ?_)
    refine e_fgt 3 ?_
    refine P_layFar_37 hl ⟨hn.1, by omega⟩ hf ?_
    by_cases q : (t_lfr y n τ).2 = 0
    · have e : t_lfl y (f + 1) n τ = (t_lfr y n τ).1 := if_pos q
      rw [e] at hX
      rw [q]
      refine e_iload_n dX6_layFar_33 rfl ?_
      refine e_if_eq (tgt := 142) dX6_layFar_34 rfl ⟨by omega, by omega⟩ (fun _ => ?_) (fun q => by exfalso; omega)
      exact e_fgs [3, 4] hX
    · have e : t_lfl y (f + 1) n τ = t_lfl y f (n + 1) (t_lfr y n τ).1 := if_neg q
      rw [e] at hX
      have q1 : (t_lfr y n τ).2 = 1 := by omega
      rw [q1]
      exact P_layFar_33 f (n + 1) (t_lfr y n τ).1 (t_lh_of hl h2.1) ⟨by omega, by omega⟩ h2.2.1 (by omega) hX
theorem C_X6_layFar {σ : t_S} {h0 : e_A} {a y : Int} (hl : t_lh σ y) (ha : 0 ≤ a ∧ a < 80) : e_C mX6_layFar [.ref 384, e_i a, e_i y] (t_H σ h0) 0 0 3 (e_rev (t_H (t_lyf a y σ) h0)) := by
  refine e_enter (al0 := [.ref 384, e_i a, e_i y, .retAddr 0, .retAddr 0, .retAddr 0, .retAddr 0]) (by decide +kernel) rfl (Nat.le_of_ble_eq_true rfl) ?_
  refine e_iconst dX6_layFar_0 ?_
  refine e_istore_n3 dX6_layFar_1 rfl ?_
  refine e_for (n := 80) (fun i => e_E mX6_layFar 2 [.ref 384, e_i a, e_i y, e_i i, .retAddr 0, .retAddr 0, .retAddr 0] [] (t_H (t_it t_lf0f i.toNat (σ)) h0) _ _ _ _) (by omega) ?_ (fun i hi0 hi1 hF => ?_)
  · refine e_iload_n dX6_layFar_2 rfl ?_
    refine e_bipush dX6_layFar_3 rfl ?_
    refine e_icmp_ge (tgt := 21) dX6_layFar_5 rfl ⟨by omega, by omega⟩ ⟨by omega, by omega⟩ (fun c1 => ?_) (fun q => by exfalso; omega)
    refine e_aload_n dX6_layFar_21 rfl ?_
    refine t_geta (k := 33) dX6_layFar_22 fl_X6_76 rfl ?_
    refine e_iload_n dX6_layFar_25 rfl ?_
    refine e_iconst dX6_layFar_26 ?_
    refine t_ist 80 dX6_layFar_27 rfl (by decide) rfl rfl ⟨by omega, by omega⟩ ?_
    refine e_iconst dX6_layFar_28 ?_
    refine e_istore_n3 dX6_layFar_29 rfl ?_
    refine e_iconst dX6_layFar_30 ?_
    refine e_istore4 dX6_layFar_31 rfl ?_
    refine P_layFar_33 81 0 (t_lf0 a σ) (t_lh_of hl (fun j hj => t_lf0_k hj)) ⟨Int.le_refl 0, by have := t_lf0_un (σ := σ) ha; omega⟩ (t_lf0_fr ha) (by have := t_lf0_un (σ := σ) ha; omega) ?_
    refine e_return dX6_layFar_142 rfl ?_
    exact ⟨rfl, rfl⟩
  · rw [t_it_s _ _ hi0] at hF
    generalize hτ : t_it t_lf0f i.toNat (σ) = τ at hF ⊢
    refine e_iload_n dX6_layFar_2 rfl ?_
    refine e_bipush dX6_layFar_3 rfl ?_
    refine e_icmp_ge (tgt := 21) dX6_layFar_5 rfl ⟨by omega, by omega⟩ ⟨by omega, by omega⟩ (fun q => by exfalso; omega) (fun c2 => ?_)
    refine e_aload_n dX6_layFar_8 rfl ?_
    refine t_geta (k := 33) dX6_layFar_9 fl_X6_76 rfl ?_
    refine e_iload_n dX6_layFar_12 rfl ?_
    refine e_iconst dX6_layFar_13 ?_
    refine t_ist 80 dX6_layFar_14 rfl (by decide) rfl rfl ⟨by omega, by omega⟩ ?_
    refine e_iinc3 dX6_layFar_15 rfl ?_
    refine e_goto (tgt := 2) dX6_layFar_18 rfl ?_
    exact hF
theorem C_X6_straightBy {σ : t_S} {h0 : e_A} {a b : Int} (hl : t_lh σ (-1)) (ha : 0 ≤ a ∧ a < 80) (hb : 0 ≤ b ∧ b < 80) : e_C mX6_straightBy [.ref 384, e_i a, e_i b] (t_H σ h0) 0 0 4 (e_ret (e_i (v_sb σ a b)) (t_H (s_sb σ a b) h0)) := by
  have h1 := hl.2.1 a ha.1 ha.2
  have h2 := hl.2.1 b hb.1 hb.2
  refine e_enter (al0 := [.ref 384, e_i a, e_i b]) (by decide +kernel) rfl (Nat.le_of_ble_eq_true rfl) ?_
  refine e_aload_n dX6_straightBy_0 rfl ?_
  refine t_geta (k := 15) dX6_straightBy_1 fl_X6_34 rfl ?_
  refine e_iload_n dX6_straightBy_4 rfl ?_
  refine t_zld 80 dX6_straightBy_5 rfl (by decide) (fun _ => rfl) rfl ⟨by omega, by omega⟩ ?_
  refine e_if_ne (tgt := 18) dX6_straightBy_6 rfl ⟨by omega, by omega⟩ (fun c1 => ?_) (fun c1 => ?_)
  · refine e_iconst dX6_straightBy_18 ?_
    refine e_ireturn dX6_straightBy_19 rfl rfl ?_
    refine e_rv ?_ ?_
    · unfold v_sb
      first
        | rw [if_pos (by omega)]
        | rw [if_neg (by omega)]
    · unfold s_sb
      first
        | rw [if_pos (by omega)]
        | rw [if_neg (by omega)]
  · refine e_aload_n dX6_straightBy_9 rfl ?_
    refine t_geta (k := 15) dX6_straightBy_10 fl_X6_34 rfl ?_
    refine e_iload_n dX6_straightBy_13 rfl ?_
    refine t_zld 80 dX6_straightBy_14 rfl (by decide) (fun _ => rfl) rfl ⟨by omega, by omega⟩ ?_
    refine e_if_eq (tgt := 20) dX6_straightBy_15 rfl ⟨by omega, by omega⟩ (fun c2 => ?_) (fun c2 => ?_)
    · refine e_aload_n dX6_straightBy_20 rfl ?_
      refine e_iload_n dX6_straightBy_21 rfl ?_
      refine e_iconst dX6_straightBy_22 ?_
      refine e_callV2vz (ci := 6) dX6_straightBy_23 md_X6_layFar lk_X6_379 rfl q2231 qs110 (t_obj _ _) (by decide) rfl (Nat.le_of_ble_eq_true rfl) (C_X6_layFar hl ha) ?_
      refine e_aload_n dX6_straightBy_26 rfl ?_
      refine t_geta (k := 33) dX6_straightBy_27 fl_X6_76 rfl ?_
      refine e_iload_n dX6_straightBy_30 rfl ?_
      refine t_ild 80 dX6_straightBy_31 rfl (by decide) (fun _ => rfl) rfl ⟨by omega, by omega⟩ ?_
      refine e_ireturn dX6_straightBy_32 rfl rfl ?_
      refine e_rv ?_ ?_
      · unfold v_sb
        first
          | rw [if_pos (by omega)]
          | rw [if_neg (by omega)]
      · unfold s_sb
        first
          | rw [if_pos (by omega)]
          | rw [if_neg (by omega)]
    · refine e_iconst dX6_straightBy_18 ?_
      refine e_ireturn dX6_straightBy_19 rfl rfl ?_
      refine e_rv ?_ ?_
      · unfold v_sb
        first
          | rw [if_pos (by omega)]
          | rw [if_neg (by omega)]
      · unfold s_sb
        first
          | rw [if_pos (by omega)]
          | rw [if_neg (by omega)]
theorem C_X6_straight {σ : t_S} {h0 : e_A} (hz : t_sz σ) (hr : t_okR (σ 1)) {w : Int} (hw : e_rg w) : e_C mX6_straight [.ref 384, e_i w] (t_H σ h0) 0 0 8 (t_Pub (v_straight (t_af σ) w) σ h0) := by
  refine e_enter (al0 := [.ref 384, e_i w, .retAddr 0]) (by decide +kernel) rfl (Nat.le_of_ble_eq_true rfl) ?_
  refine e_aload_n dX6_straight_0 rfl ?_
  refine e_iload_n dX6_straight_1 rfl ?_
  refine e_callV1rz (ci := 6) dX6_straight_2 md_X6_asksWidow lk_X6_356 rfl q2162 qs101 (t_obj _ _) (by decide) rfl (Nat.le_of_ble_eq_true rfl) (C_X6_asksWidow hz hr ⟨by omega, by omega⟩) ?_
  have H := t_af_hist hz hr
  have hpk := t_af_pk hz hr
  generalize t_af σ = ρ at H hpk ⊢
  replace hz : t_sz ρ := H.1.1
  have s0 := H.1.1.1
  have s3 := H.1.1.2.1
  have s4 := H.1.1.2.2.1
  have s6 := H.1.1.2.2.2.2.1
  have s7 := H.1.1.2.2.2.2.2.1
  
  refine e_bif_ne (tgt := 11) dX6_straight_5 rfl (fun c1 => ?_) (fun c1 => ?_)
  · refine e_aload_n dX6_straight_11 rfl ?_
    refine e_iload_n dX6_straight_12 rfl ?_
    refine e_callV1rz (ci := 6) dX6_straight_13 md_X6_walks lk_X6_361 rfl q2179 qs103 (t_obj _ _) (by decide) rfl (Nat.le_of_ble_eq_true rfl) (C_X6_walks H ⟨by omega, by omega⟩) ?_
    refine e_bif_ne (tgt := 21) dX6_straight_16 rfl (fun c2 => ?_) (fun c2 => ?_)
    · have h1 := (H.2.2.2.1 w (by omega) (by omega)).1
      have p0 := (H.2.2.2.1 w (by omega) (by omega)).2 0 (Int.le_refl 0) (by omega)
      have pn := (H.2.2.2.1 w (by omega) (by omega)).2 (ρ 27 w) (by omega) (Int.le_refl _)
      rw [Int.add_zero] at p0
      have q0 : t_pth ρ w 0 = ρ 26 (41 * w) := by unfold t_pth; rw [if_pos (by omega), Int.add_zero]
      have qn : t_pth ρ w (ρ 27 w) = ρ 26 (41 * w + ρ 27 w) := if_pos (Int.le_refl _)
      have hl := t_hist_lh H (y := -1) (Or.inl rfl)
      have hv := v_sb_rg hz (a := t_pth ρ w 0) (b := t_pth ρ w (ρ 27 w)) ⟨by omega, by omega⟩ ⟨by omega, by omega⟩
      have hpk2 := t_pk36 hpk (fun j j1 _ _ _ => s_sb_k (b := t_pth ρ w (ρ 27 w)) hz (a := t_pth ρ w 0) ⟨by omega, by omega⟩ j j1)
      refine e_aload_n dX6_straight_21 rfl ?_
      refine e_aload_n dX6_straight_22 rfl ?_
      refine e_iload_n dX6_straight_23 rfl ?_
      refine e_iconst dX6_straight_24 ?_
      refine e_callV2rz (ci := 6) dX6_straight_25 md_X6_pathOf lk_X6_341 rfl q2167 qs102 (t_obj _ _) (by decide) rfl (Nat.le_of_ble_eq_true rfl) (C_X6_pathOf H ⟨by omega, by omega⟩ ⟨by omega, by omega⟩) ?_
      refine e_aload_n dX6_straight_28 rfl ?_
      refine e_iload_n dX6_straight_29 rfl ?_
      refine e_aload_n dX6_straight_30 rfl ?_
      refine t_geta (k := 27) dX6_straight_31 fl_X6_58 rfl ?_
      refine e_iload_n dX6_straight_34 rfl ?_
      refine t_ild 7 dX6_straight_35 rfl (by decide) (fun _ => rfl) rfl ⟨by omega, by omega⟩ ?_
      refine e_callV2rz (ci := 6) dX6_straight_36 md_X6_pathOf lk_X6_341 rfl q2167 qs102 (t_obj _ _) (by decide) rfl (Nat.le_of_ble_eq_true rfl) (C_X6_pathOf H ⟨by omega, by omega⟩ ⟨by omega, by omega⟩) ?_
      refine e_callV2rz (ci := 6) dX6_straight_39 md_X6_straightBy lk_X6_383 rfl q2227 qs109 (t_obj _ _) (by decide) rfl (Nat.le_of_ble_eq_true rfl) (C_X6_straightBy hl ⟨by omega, by omega⟩ ⟨by omega, by omega⟩) ?_
      refine e_istore_n2 dX6_straight_42 rfl ?_
      refine e_iload_n dX6_straight_43 rfl ?_
      refine e_iconst dX6_straight_44 ?_
      refine e_icmp_ne (tgt := 53) dX6_straight_45 rfl ⟨by omega, by omega⟩ ⟨by omega, by omega⟩ (fun c3 => ?_) (fun c3 => ?_)
      · refine e_iload_n dX6_straight_53 rfl ?_
        refine e_ireturn dX6_straight_54 rfl rfl ?_
        refine t_pub ?_ hpk2
        unfold v_straight
        (repeat' split) <;> first | rfl | omega
      · refine e_bipush dX6_straight_48 rfl ?_
        refine e_goto (tgt := 54) dX6_straight_50 rfl ?_
        refine e_ireturn dX6_straight_54 rfl rfl ?_
        refine t_pub ?_ hpk2
        unfold v_straight
        (repeat' split) <;> first | rfl | omega
    · refine e_iconst dX6_straight_19 ?_
      refine e_ireturn dX6_straight_20 rfl rfl ?_
      refine t_pub ?_ hpk
      unfold v_straight
      (repeat' split) <;> first | rfl | omega
  · refine e_bipush dX6_straight_8 rfl ?_
    refine e_ireturn dX6_straight_10 rfl rfl ?_
    refine t_pub ?_ hpk
    unfold v_straight
    (repeat' split) <;> first | rfl | omega
theorem C_X6_beeline {σ : t_S} {h0 : e_A} (hz : t_sz σ) (hr : t_okR (σ 1)) {a : Int} (ha : e_rg a) {b : Int} (hb : e_rg b) : e_C mX6_beeline [.ref 384, e_i a, e_i b] (t_H σ h0) 0 0 8 (t_Pub (v_beeline (t_af σ) a b) σ h0) := by
  refine e_enter (al0 := [.ref 384, e_i a, e_i b]) (by decide +kernel) rfl (Nat.le_of_ble_eq_true rfl) ?_
  refine e_aload_n dX6_beeline_0 rfl ?_
  refine e_iload_n dX6_beeline_1 rfl ?_
  refine e_callV1rz (ci := 6) dX6_beeline_2 md_X6_asksCell lk_X6_353 rfl q2076 qs83 (t_obj _ _) (by decide) rfl (Nat.le_of_ble_eq_true rfl) (C_X6_asksCell hz hr ⟨by omega, by omega⟩) ?_
  have H := t_af_hist hz hr
  have hpk := t_af_pk hz hr
  generalize t_af σ = ρ at H hpk ⊢
  replace hz : t_sz ρ := H.1.1
  have s0 := H.1.1.1
  have s3 := H.1.1.2.1
  have s4 := H.1.1.2.2.1
  have s6 := H.1.1.2.2.2.2.1
  have s7 := H.1.1.2.2.2.2.2.1
  
  refine e_bif_eq (tgt := 26) dX6_beeline_5 rfl (fun c1 => ?_) (fun c1 => ?_)
  · refine e_bipush dX6_beeline_26 rfl ?_
    refine e_ireturn dX6_beeline_28 rfl rfl ?_
    first
      | exact t_pub (by unfold v_beeline; rw [if_pos ⟨by assumption, by assumption⟩]) hpk2
      | exact t_pub (by unfold v_beeline; rw [if_neg (by omega)]) hpk
  · refine e_aload_n dX6_beeline_8 rfl ?_
    refine e_iload_n dX6_beeline_9 rfl ?_
    refine e_i2l dX6_beeline_10 ⟨by omega, by omega⟩ ?_
    refine e_callV1rz (ci := 6) dX6_beeline_11 md_X6_isCell lk_X6_310 rfl q2145 qs98 (t_obj _ _) (by decide) rfl (Nat.le_of_ble_eq_true rfl) (C_X6_isCell hz ⟨by omega, by omega⟩) ?_
    refine e_bif_eq (tgt := 26) dX6_beeline_14 rfl (fun c2 => ?_) (fun c2 => ?_)
    · refine e_bipush dX6_beeline_26 rfl ?_
      refine e_ireturn dX6_beeline_28 rfl rfl ?_
      first
        | exact t_pub (by unfold v_beeline; rw [if_pos ⟨by assumption, by assumption⟩]) hpk2
        | exact t_pub (by unfold v_beeline; rw [if_neg (by omega)]) hpk
    · have hl := t_hist_lh H (y := -1) (Or.inl rfl)
      have hpk2 := t_pk36 hpk (fun j j1 _ _ _ => s_sb_k (b := b) hz (a := a) ⟨by omega, by omega⟩ j j1)
      refine e_aload_n dX6_beeline_17 rfl ?_
      refine e_iload_n dX6_beeline_18 rfl ?_
      refine e_iload_n dX6_beeline_19 rfl ?_
      refine e_callV2rz (ci := 6) dX6_beeline_20 md_X6_straightBy lk_X6_383 rfl q2227 qs109 (t_obj _ _) (by decide) rfl (Nat.le_of_ble_eq_true rfl) (C_X6_straightBy hl ⟨by omega, by omega⟩ ⟨by omega, by omega⟩) ?_
      refine e_goto (tgt := 28) dX6_beeline_23 rfl ?_
      refine e_ireturn dX6_beeline_28 rfl rfl ?_
      first
        | exact t_pub (by unfold v_beeline; rw [if_pos ⟨by assumption, by assumption⟩]) hpk2
        | exact t_pub (by unfold v_beeline; rw [if_neg (by omega)]) hpk
theorem C_X6_way {σ : t_S} {h0 : e_A} (hz : t_sz σ) (hr : t_okR (σ 1)) {a : Int} (ha : e_rg a) {b : Int} (hb : e_rg b) {y : Int} (hy : e_rg y) : e_C mX6_way [.ref 384, e_i a, e_i b, e_i y] (t_H σ h0) 0 0 8 (t_Pub (v_way (t_af σ) a b y) σ h0) := by
  refine e_enter (al0 := [.ref 384, e_i a, e_i b, e_i y]) (by decide +kernel) rfl (Nat.le_of_ble_eq_true rfl) ?_
  refine e_aload_n dX6_way_0 rfl ?_
  refine e_iload_n dX6_way_1 rfl ?_
  refine e_callV1rz (ci := 6) dX6_way_2 md_X6_asksYear lk_X6_373 rfl q2215 qs107 (t_obj _ _) (by decide) rfl (Nat.le_of_ble_eq_true rfl) (C_X6_asksYear hz hr ⟨by omega, by omega⟩) ?_
  have H := t_af_hist hz hr
  have hpk := t_af_pk hz hr
  generalize t_af σ = ρ at H hpk ⊢
  replace hz : t_sz ρ := H.1.1
  have s0 := H.1.1.1
  have s3 := H.1.1.2.1
  have s4 := H.1.1.2.2.1
  have s6 := H.1.1.2.2.2.2.1
  have s7 := H.1.1.2.2.2.2.2.1
  
  refine e_bif_eq (tgt := 26) dX6_way_5 rfl (fun c1 => ?_) (fun c1 => ?_)
  · refine e_bipush dX6_way_26 rfl ?_
    refine e_ireturn dX6_way_28 rfl rfl ?_
    refine t_pub ?_ hpk
    unfold v_way
    (repeat' split) <;> first | rfl | omega
  · refine e_aload_n dX6_way_8 rfl ?_
    refine e_iload_n dX6_way_9 rfl ?_
    refine e_i2l dX6_way_10 ⟨by omega, by omega⟩ ?_
    refine e_callV1rz (ci := 6) dX6_way_11 md_X6_isCell lk_X6_310 rfl q2145 qs98 (t_obj _ _) (by decide) rfl (Nat.le_of_ble_eq_true rfl) (C_X6_isCell hz ⟨by omega, by omega⟩) ?_
    refine e_bif_eq (tgt := 26) dX6_way_14 rfl (fun c2 => ?_) (fun c2 => ?_)
    · refine e_bipush dX6_way_26 rfl ?_
      refine e_ireturn dX6_way_28 rfl rfl ?_
      refine t_pub ?_ hpk
      unfold v_way
      (repeat' split) <;> first | rfl | omega
    · refine e_aload_n dX6_way_17 rfl ?_
      refine e_iload_n dX6_way_18 rfl ?_
      refine e_i2l dX6_way_19 ⟨by omega, by omega⟩ ?_
      refine e_callV1rz (ci := 6) dX6_way_20 md_X6_isCell lk_X6_310 rfl q2145 qs98 (t_obj _ _) (by decide) rfl (Nat.le_of_ble_eq_true rfl) (C_X6_isCell hz ⟨by omega, by omega⟩) ?_
      refine e_bif_ne (tgt := 29) dX6_way_23 rfl (fun c3 => ?_) (fun c3 => ?_)
      · have hl := t_hist_lh H (y := y) (Or.inr ⟨by omega, by omega⟩)
        have hp : t_rdo ρ a y = 0 ∨ t_rdo ρ a y = 1 := (H.2.1 y a (by omega) (by omega) (by omega) (by omega)).1
        have hly := t_lyf_in (y := y) hz (a := a) ⟨by omega, by omega⟩
        have hpk2 := t_pk36 hpk (fun j j1 _ _ _ => hly.1 j j1)
        refine e_aload_n dX6_way_29 rfl ?_
        refine e_iload_n dX6_way_30 rfl ?_
        refine e_iload_n dX6_way_31 rfl ?_
        refine e_callV2rz (ci := 6) dX6_way_32 md_X6_roadOf lk_X6_386 rfl q2251 qs113 (t_obj _ _) (by decide) rfl (Nat.le_of_ble_eq_true rfl) (C_X6_roadOf H ⟨by omega, by omega⟩ ⟨by omega, by omega⟩) ?_
        refine e_if_ne (tgt := 40) dX6_way_35 rfl ⟨by omega, by omega⟩ (fun c4 => ?_) (fun c4 => ?_)
        · refine e_aload_n dX6_way_40 rfl ?_
          refine e_iload_n dX6_way_41 rfl ?_
          refine e_iload_n dX6_way_42 rfl ?_
          refine e_callV2vz (ci := 6) dX6_way_43 md_X6_layFar lk_X6_379 rfl q2231 qs110 (t_obj _ _) (by decide) rfl (Nat.le_of_ble_eq_true rfl) (C_X6_layFar hl ⟨by omega, by omega⟩) ?_
          refine e_aload_n dX6_way_46 rfl ?_
          refine t_geta (k := 33) dX6_way_47 fl_X6_76 rfl ?_
          refine e_iload_n dX6_way_50 rfl ?_
          refine t_ild 80 dX6_way_51 rfl (by decide) (fun _ => rfl) rfl ⟨by omega, by omega⟩ ?_
          refine e_ireturn dX6_way_52 rfl rfl ?_
          refine t_pub ?_ hpk2
          unfold v_way
          rw [if_pos ⟨by assumption, by assumption, by assumption⟩, if_neg (by omega)]
        · refine e_iconst dX6_way_38 ?_
          refine e_ireturn dX6_way_39 rfl rfl ?_
          refine t_pub ?_ hpk
          unfold v_way
          (repeat' split) <;> first | rfl | omega
      · refine e_bipush dX6_way_26 rfl ?_
        refine e_ireturn dX6_way_28 rfl rfl ?_
        refine t_pub ?_ hpk
        unfold v_way
        (repeat' split) <;> first | rfl | omega
theorem C_X6_netOf {σ : t_S} {h0 : e_A} (H : t_hist σ) {c y : Int} (hc : 0 ≤ c ∧ c < 80) (hy : 0 ≤ y ∧ y ≤ σ 1 0) : e_C mX6_netOf [.ref 384, e_i c, e_i y] (t_H σ h0) 0 0 4 (e_ret (e_i (v_no σ c y)) (t_H (s_no σ c y) h0)) := by
  have hz := H.1.1
  have hl := t_hist_lh H (y := y) (Or.inr hy)
  have hp : t_rdo σ c y = 0 ∨ t_rdo σ c y = 1 := (H.2.1 y c hy.1 hy.2 hc.1 hc.2).1
  have hly := t_lyf_in (y := y) hz (a := c) hc
  refine e_enter (al0 := [.ref 384, e_i c, e_i y, .retAddr 0, .retAddr 0]) (by decide +kernel) rfl (Nat.le_of_ble_eq_true rfl) ?_
  refine e_aload_n dX6_netOf_0 rfl ?_
  refine e_iload_n dX6_netOf_1 rfl ?_
  refine e_iload_n dX6_netOf_2 rfl ?_
  refine e_callV2rz (ci := 6) dX6_netOf_3 md_X6_roadOf lk_X6_386 rfl q2251 qs113 (t_obj _ _) (by decide) rfl (Nat.le_of_ble_eq_true rfl) (C_X6_roadOf H ⟨by omega, by omega⟩ ⟨by omega, by omega⟩) ?_
  refine e_if_ne (tgt := 11) dX6_netOf_6 rfl ⟨by omega, by omega⟩ (fun c1 => ?_) (fun c1 => ?_)
  · refine e_aload_n dX6_netOf_11 rfl ?_
    refine e_iload_n dX6_netOf_12 rfl ?_
    refine e_iload_n dX6_netOf_13 rfl ?_
    refine e_callV2vz (ci := 6) dX6_netOf_14 md_X6_layFar lk_X6_379 rfl q2231 qs110 (t_obj _ _) (by decide) rfl (Nat.le_of_ble_eq_true rfl) (C_X6_layFar hl hc) ?_
    refine e_iconst dX6_netOf_17 ?_
    refine e_istore_n3 dX6_netOf_18 rfl ?_
    refine e_iconst dX6_netOf_19 ?_
    refine e_istore4 dX6_netOf_20 rfl ?_
    refine e_for (n := 80) (fun i => e_E mX6_netOf 22 [.ref 384, e_i c, e_i y, e_i (t_sum (t_nog (t_lyf c y σ)) i.toNat), e_i i] [] (t_H (t_lyf c y σ) h0) _ _ _ _) (by omega) ?_ (fun i hi0 hi1 hF => ?_)
    · refine e_iload dX6_netOf_22 rfl ?_
      refine e_bipush dX6_netOf_24 rfl ?_
      refine e_icmp_ge (tgt := 54) dX6_netOf_26 rfl ⟨by omega, by omega⟩ ⟨by omega, by omega⟩ (fun c2 => ?_) (fun q => by exfalso; omega)
      refine e_iload_n dX6_netOf_54 rfl ?_
      refine e_ireturn dX6_netOf_55 rfl rfl ?_
      refine e_rv ?_ ?_
      · unfold v_no
        first
          | (rw [if_pos (by omega)])
          | (rw [if_neg (by omega)]; rfl)
      · unfold s_no
        first
          | rw [if_pos (by omega)]
          | rw [if_neg (by omega)]
    · rw [t_sum_s (t_nog (t_lyf c y σ)) hi0] at hF
      have hv := hly.2 i hi0 hi1
      refine e_iload dX6_netOf_22 rfl ?_
      refine e_bipush dX6_netOf_24 rfl ?_
      refine e_icmp_ge (tgt := 54) dX6_netOf_26 rfl ⟨by omega, by omega⟩ ⟨by omega, by omega⟩ (fun q => by exfalso; omega) (fun c3 => ?_)
      refine e_iload_n dX6_netOf_29 rfl ?_
      refine e_aload_n dX6_netOf_30 rfl ?_
      refine t_geta (k := 33) dX6_netOf_31 fl_X6_76 rfl ?_
      refine e_iload dX6_netOf_34 rfl ?_
      refine t_ild 80 dX6_netOf_36 rfl (by decide) (fun _ => rfl) rfl ⟨by omega, by omega⟩ ?_
      refine e_iconst dX6_netOf_37 ?_
      refine e_icmp_eq (tgt := 45) dX6_netOf_38 rfl ⟨by omega, by omega⟩ ⟨by omega, by omega⟩ (fun c4 => ?_) (fun c4 => ?_)
      · refine e_iconst dX6_netOf_45 ?_
        refine e_iadd dX6_netOf_46 ?_
        refine e_istore_n3 dX6_netOf_47 rfl ?_
        refine e_iinc4 dX6_netOf_48 rfl ?_
        refine e_goto (tgt := 22) dX6_netOf_51 rfl ?_
        first
          | (rw [show (t_nog (t_lyf c y σ)) i = 0 from if_pos (by omega)] at hF; exact hF)
          | (rw [show (t_nog (t_lyf c y σ)) i = 1 from if_neg (by omega)] at hF; exact hF)
      · refine e_iconst dX6_netOf_41 ?_
        refine e_goto (tgt := 46) dX6_netOf_42 rfl ?_
        refine e_iadd dX6_netOf_46 ?_
        refine e_istore_n3 dX6_netOf_47 rfl ?_
        refine e_iinc4 dX6_netOf_48 rfl ?_
        refine e_goto (tgt := 22) dX6_netOf_51 rfl ?_
        first
          | (rw [show (t_nog (t_lyf c y σ)) i = 0 from if_pos (by omega)] at hF; exact hF)
          | (rw [show (t_nog (t_lyf c y σ)) i = 1 from if_neg (by omega)] at hF; exact hF)
  · refine e_iconst dX6_netOf_9 ?_
    refine e_ireturn dX6_netOf_10 rfl rfl ?_
    refine e_rv ?_ ?_
    · unfold v_no
      first
        | (rw [if_pos (by omega)])
        | (rw [if_neg (by omega)]; rfl)
    · unfold s_no
      first
        | rw [if_pos (by omega)]
        | rw [if_neg (by omega)]
theorem C_X6_net {σ : t_S} {h0 : e_A} (hz : t_sz σ) (hr : t_okR (σ 1)) {c : Int} (hc : e_rg c) {y : Int} (hy : e_rg y) : e_C mX6_net [.ref 384, e_i c, e_i y] (t_H σ h0) 0 0 8 (t_Pub (v_net (t_af σ) c y) σ h0) := by
  refine e_enter (al0 := [.ref 384, e_i c, e_i y]) (by decide +kernel) rfl (Nat.le_of_ble_eq_true rfl) ?_
  refine e_aload_n dX6_net_0 rfl ?_
  refine e_iload_n dX6_net_1 rfl ?_
  refine e_callV1rz (ci := 6) dX6_net_2 md_X6_asksYear lk_X6_373 rfl q2215 qs107 (t_obj _ _) (by decide) rfl (Nat.le_of_ble_eq_true rfl) (C_X6_asksYear hz hr ⟨by omega, by omega⟩) ?_
  have H := t_af_hist hz hr
  have hpk := t_af_pk hz hr
  generalize t_af σ = ρ at H hpk ⊢
  replace hz : t_sz ρ := H.1.1
  have s0 := H.1.1.1
  have s3 := H.1.1.2.1
  have s4 := H.1.1.2.2.1
  have s6 := H.1.1.2.2.2.2.1
  have s7 := H.1.1.2.2.2.2.2.1
  
  refine e_bif_eq (tgt := 26) dX6_net_5 rfl (fun c1 => ?_) (fun c1 => ?_)
  · refine e_bipush dX6_net_26 rfl ?_
    refine e_ireturn dX6_net_28 rfl rfl ?_
    first
      | exact t_pub (by unfold v_net; rw [if_pos ⟨by assumption, by assumption⟩]) hpk2
      | exact t_pub (by unfold v_net; rw [if_neg (by omega)]) hpk
  · refine e_aload_n dX6_net_8 rfl ?_
    refine e_iload_n dX6_net_9 rfl ?_
    refine e_i2l dX6_net_10 ⟨by omega, by omega⟩ ?_
    refine e_callV1rz (ci := 6) dX6_net_11 md_X6_isCell lk_X6_310 rfl q2145 qs98 (t_obj _ _) (by decide) rfl (Nat.le_of_ble_eq_true rfl) (C_X6_isCell hz ⟨by omega, by omega⟩) ?_
    refine e_bif_eq (tgt := 26) dX6_net_14 rfl (fun c2 => ?_) (fun c2 => ?_)
    · refine e_bipush dX6_net_26 rfl ?_
      refine e_ireturn dX6_net_28 rfl rfl ?_
      first
        | exact t_pub (by unfold v_net; rw [if_pos ⟨by assumption, by assumption⟩]) hpk2
        | exact t_pub (by unfold v_net; rw [if_neg (by omega)]) hpk
    · have hpk2 := t_pk36 hpk (fun j j1 _ _ _ => s_no_k (y := y) hz (c := c) ⟨by omega, by omega⟩ j j1)
      refine e_aload_n dX6_net_17 rfl ?_
      refine e_iload_n dX6_net_18 rfl ?_
      refine e_iload_n dX6_net_19 rfl ?_
      refine e_callV2rz (ci := 6) dX6_net_20 md_X6_netOf lk_X6_389 rfl q2259 qs114 (t_obj _ _) (by decide) rfl (Nat.le_of_ble_eq_true rfl) (C_X6_netOf H ⟨by omega, by omega⟩ ⟨by omega, by omega⟩) ?_
      refine e_goto (tgt := 28) dX6_net_23 rfl ?_
      refine e_ireturn dX6_net_28 rfl rfl ?_
      first
        | exact t_pub (by unfold v_net; rw [if_pos ⟨by assumption, by assumption⟩]) hpk2
        | exact t_pub (by unfold v_net; rw [if_neg (by omega)]) hpk
theorem C_X6_farthest {σ : t_S} {h0 : e_A} (hz : t_sz σ) (hr : t_okR (σ 1)) {c : Int} (hc : e_rg c) {y : Int} (hy : e_rg y) : e_C mX6_farthest [.ref 384, e_i c, e_i y] (t_H σ h0) 0 0 8 (t_Pub (v_farthest (t_af σ) c y) σ h0) := by
  refine e_enter (al0 := [.ref 384, e_i c, e_i y, .retAddr 0, .retAddr 0]) (by decide +kernel) rfl (Nat.le_of_ble_eq_true rfl) ?_
  refine e_aload_n dX6_farthest_0 rfl ?_
  refine e_iload_n dX6_farthest_1 rfl ?_
  refine e_callV1rz (ci := 6) dX6_farthest_2 md_X6_asksYear lk_X6_373 rfl q2215 qs107 (t_obj _ _) (by decide) rfl (Nat.le_of_ble_eq_true rfl) (C_X6_asksYear hz hr ⟨by omega, by omega⟩) ?_
  have H := t_af_hist hz hr
  have hpk := t_af_pk hz hr
  generalize t_af σ = ρ at H hpk ⊢
  replace hz : t_sz ρ := H.1.1
  have s0 := H.1.1.1
  have s3 := H.1.1.2.1
  have s4 := H.1.1.2.2.1
  have s6 := H.1.1.2.2.2.2.1
  have s7 := H.1.1.2.2.2.2.2.1
  
  refine e_bif_eq (tgt := 17) dX6_farthest_5 rfl (fun c1 => ?_) (fun c1 => ?_)
  · refine e_bipush dX6_farthest_17 rfl ?_
    refine e_ireturn dX6_farthest_19 rfl rfl ?_
    refine t_pub ?_ hpk
    unfold v_farthest
    (repeat' split) <;> first | rfl | omega
  · refine e_aload_n dX6_farthest_8 rfl ?_
    refine e_iload_n dX6_farthest_9 rfl ?_
    refine e_i2l dX6_farthest_10 ⟨by omega, by omega⟩ ?_
    refine e_callV1rz (ci := 6) dX6_farthest_11 md_X6_isCell lk_X6_310 rfl q2145 qs98 (t_obj _ _) (by decide) rfl (Nat.le_of_ble_eq_true rfl) (C_X6_isCell hz ⟨by omega, by omega⟩) ?_
    refine e_bif_ne (tgt := 20) dX6_farthest_14 rfl (fun c2 => ?_) (fun c2 => ?_)
    · have hl := t_hist_lh H (y := y) (Or.inr ⟨by omega, by omega⟩)
      have hp : t_rdo ρ c y = 0 ∨ t_rdo ρ c y = 1 := (H.2.1 y c (by omega) (by omega) (by omega) (by omega)).1
      have hly := t_lyf_in (y := y) hz (a := c) ⟨by omega, by omega⟩
      have hpk2 := t_pk36 hpk (fun j j1 _ _ _ => hly.1 j j1)
      refine e_aload_n dX6_farthest_20 rfl ?_
      refine e_iload_n dX6_farthest_21 rfl ?_
      refine e_iload_n dX6_farthest_22 rfl ?_
      refine e_callV2rz (ci := 6) dX6_farthest_23 md_X6_roadOf lk_X6_386 rfl q2251 qs113 (t_obj _ _) (by decide) rfl (Nat.le_of_ble_eq_true rfl) (C_X6_roadOf H ⟨by omega, by omega⟩ ⟨by omega, by omega⟩) ?_
      refine e_if_ne (tgt := 31) dX6_farthest_26 rfl ⟨by omega, by omega⟩ (fun c3 => ?_) (fun c3 => ?_)
      · refine e_aload_n dX6_farthest_31 rfl ?_
        refine e_iload_n dX6_farthest_32 rfl ?_
        refine e_iload_n dX6_farthest_33 rfl ?_
        refine e_callV2vz (ci := 6) dX6_farthest_34 md_X6_layFar lk_X6_379 rfl q2231 qs110 (t_obj _ _) (by decide) rfl (Nat.le_of_ble_eq_true rfl) (C_X6_layFar hl ⟨by omega, by omega⟩) ?_
        refine e_iload_n dX6_farthest_37 rfl ?_
        refine e_istore_n3 dX6_farthest_38 rfl ?_
        refine e_iconst dX6_farthest_39 ?_
        refine e_istore4 dX6_farthest_40 rfl ?_
        refine e_for (n := 80) (fun i => e_E mX6_farthest 42 [.ref 384, e_i c, e_i y, e_i (t_frb (t_lyf c y ρ) c i.toNat), e_i i] [] (t_H (t_lyf c y ρ) h0) _ _ _ _) (by omega) ?_ (fun i hi0 hi1 hF => ?_)
        · refine e_iload dX6_farthest_42 rfl ?_
          refine e_bipush dX6_farthest_44 rfl ?_
          refine e_icmp_ge (tgt := 96) dX6_farthest_46 rfl ⟨by omega, by omega⟩ ⟨by omega, by omega⟩ (fun c4 => ?_) (fun q => by exfalso; omega)
          refine e_iload_n dX6_farthest_96 rfl ?_
          refine e_ireturn dX6_farthest_97 rfl rfl ?_
          refine t_pub ?_ hpk2
          unfold v_farthest
          rw [if_pos ⟨by assumption, by assumption⟩, if_neg (by omega)]
          rfl
        · rw [t_frb_s _ _ hi0] at hF
          have hb := t_frb_rg (t_lyf c y ρ) (c := c) ⟨by omega, by omega⟩ i.toNat (by omega)
          have hv1 := hly.2 i hi0 hi1
          have hv2 := hly.2 (t_frb (t_lyf c y ρ) c i.toNat) hb.1 hb.2
          refine e_iload dX6_farthest_42 rfl ?_
          refine e_bipush dX6_farthest_44 rfl ?_
          refine e_icmp_ge (tgt := 96) dX6_farthest_46 rfl ⟨by omega, by omega⟩ ⟨by omega, by omega⟩ (fun q => by exfalso; omega) (fun c5 => ?_)
          refine e_aload_n dX6_farthest_49 rfl ?_
          refine t_geta (k := 33) dX6_farthest_50 fl_X6_76 rfl ?_
          refine e_iload dX6_farthest_53 rfl ?_
          refine t_ild 80 dX6_farthest_55 rfl (by decide) (fun _ => rfl) rfl ⟨by omega, by omega⟩ ?_
          refine e_aload_n dX6_farthest_56 rfl ?_
          refine t_geta (k := 33) dX6_farthest_57 fl_X6_76 rfl ?_
          refine e_iload_n dX6_farthest_60 rfl ?_
          refine t_ild 80 dX6_farthest_61 rfl (by decide) (fun _ => rfl) rfl ⟨by omega, by omega⟩ ?_
          refine e_icmp_gt (tgt := 87) dX6_farthest_62 rfl ⟨by omega, by omega⟩ ⟨by omega, by omega⟩ (fun c6 => ?_) (fun c6 => ?_)
          · refine e_iload dX6_farthest_87 rfl ?_
            refine e_istore_n3 dX6_farthest_89 rfl ?_
            refine e_iinc4 dX6_farthest_90 rfl ?_
            refine e_goto (tgt := 42) dX6_farthest_93 rfl ?_
            first
              | (rw [if_pos (by omega)] at hF; exact hF)
              | (rw [if_neg (by omega)] at hF; exact hF)
          · refine e_aload_n dX6_farthest_65 rfl ?_
            refine t_geta (k := 33) dX6_farthest_66 fl_X6_76 rfl ?_
            refine e_iload dX6_farthest_69 rfl ?_
            refine t_ild 80 dX6_farthest_71 rfl (by decide) (fun _ => rfl) rfl ⟨by omega, by omega⟩ ?_
            refine e_aload_n dX6_farthest_72 rfl ?_
            refine t_geta (k := 33) dX6_farthest_73 fl_X6_76 rfl ?_
            refine e_iload_n dX6_farthest_76 rfl ?_
            refine t_ild 80 dX6_farthest_77 rfl (by decide) (fun _ => rfl) rfl ⟨by omega, by omega⟩ ?_
            refine e_icmp_ne (tgt := 90) dX6_farthest_78 rfl ⟨by omega, by omega⟩ ⟨by omega, by omega⟩ (fun c7 => ?_) (fun c7 => ?_)
            · refine e_iinc4 dX6_farthest_90 rfl ?_
              refine e_goto (tgt := 42) dX6_farthest_93 rfl ?_
              first
                | (rw [if_pos (by omega)] at hF; exact hF)
                | (rw [if_neg (by omega)] at hF; exact hF)
            · refine e_iload dX6_farthest_81 rfl ?_
              refine e_iload_n dX6_farthest_83 rfl ?_
              refine e_icmp_ge (tgt := 90) dX6_farthest_84 rfl ⟨by omega, by omega⟩ ⟨by omega, by omega⟩ (fun c8 => ?_) (fun c8 => ?_)
              · refine e_iinc4 dX6_farthest_90 rfl ?_
                refine e_goto (tgt := 42) dX6_farthest_93 rfl ?_
                first
                  | (rw [if_pos (by omega)] at hF; exact hF)
                  | (rw [if_neg (by omega)] at hF; exact hF)
              · refine e_iload dX6_farthest_87 rfl ?_
                refine e_istore_n3 dX6_farthest_89 rfl ?_
                refine e_iinc4 dX6_farthest_90 rfl ?_
                refine e_goto (tgt := 42) dX6_farthest_93 rfl ?_
                first
                  | (rw [if_pos (by omega)] at hF; exact hF)
                  | (rw [if_neg (by omega)] at hF; exact hF)
      · refine e_iconst dX6_farthest_29 ?_
        refine e_ireturn dX6_farthest_30 rfl rfl ?_
        refine t_pub ?_ hpk
        unfold v_farthest
        (repeat' split) <;> first | rfl | omega
    · refine e_bipush dX6_farthest_17 rfl ?_
      refine e_ireturn dX6_farthest_19 rfl rfl ?_
      refine t_pub ?_ hpk
      unfold v_farthest
      (repeat' split) <;> first | rfl | omega
theorem C_X6_netMany {σ : t_S} {h0 : e_A} (H : t_hist σ) {y : Int} (hy : 0 ≤ y ∧ y ≤ σ 1 0) : e_C mX6_netMany [.ref 384, e_i y] (t_H σ h0) 0 0 4 (e_ret (e_i (t_nm y σ).2) (t_H (t_nm y σ).1 h0)) := by
  have hz := H.1.1
  refine e_enter (al0 := [.ref 384, e_i y, .retAddr 0, .retAddr 0, .retAddr 0]) (by decide +kernel) rfl (Nat.le_of_ble_eq_true rfl) ?_
  refine e_iconst dX6_netMany_0 ?_
  refine e_istore_n2 dX6_netMany_1 rfl ?_
  refine e_iconst dX6_netMany_2 ?_
  refine e_istore_n3 dX6_netMany_3 rfl ?_
  refine e_for (n := 80) (fun i => e_E mX6_netMany 4 [.ref 384, e_i y, e_i 0, e_i i, .retAddr 0] [] (t_H (t_it t_nm0f i.toNat (σ)) h0) _ _ _ _) (by omega) ?_ (fun i hi0 hi1 hF => ?_)
  · show e_E _ _ _ _ (t_H (t_nm0 σ) h0) _ _ _ _
    refine e_iload_n dX6_netMany_4 rfl ?_
    refine e_bipush dX6_netMany_5 rfl ?_
    refine e_icmp_ge (tgt := 23) dX6_netMany_7 rfl ⟨by omega, by omega⟩ ⟨by omega, by omega⟩ (fun c1 => ?_) (fun q => by exfalso; omega)
    refine e_iconst dX6_netMany_23 ?_
    refine e_istore_n3 dX6_netMany_24 rfl ?_
    refine e_for (n := 80) (fun i => e_E mX6_netMany 25 [.ref 384, e_i y, e_i (t_it (t_nmf y) i.toNat (t_nm0 σ, (0 : Int))).2, e_i i, .retAddr 0] [] (t_H (t_it (t_nmf y) i.toNat (t_nm0 σ, (0 : Int))).1 h0) _ _ _ _) (by omega) ?_ (fun i hi0 hi1 hF => ?_)
    · show e_E _ _ [_, _, e_i (t_nm y σ).2, _, _] _ (t_H (t_nm y σ).1 h0) _ _ _ _
      refine e_iload_n dX6_netMany_25 rfl ?_
      refine e_bipush dX6_netMany_26 rfl ?_
      refine e_icmp_ge (tgt := 116) dX6_netMany_28 rfl ⟨by omega, by omega⟩ ⟨by omega, by omega⟩ (fun c2 => ?_) (fun q => by exfalso; omega)
      refine e_iload_n dX6_netMany_116 rfl ?_
      refine e_ireturn dX6_netMany_117 rfl rfl ?_
      exact ⟨rfl, rfl⟩
    · have hin := t_nm_in (y := y) hz i.toNat (by omega)
      rw [t_it_s _ _ hi0] at hF
      generalize t_it (t_nmf y) i.toNat (t_nm0 σ, (0 : Int)) = x at hF hin ⊢
      have jH : t_hist x.1 := t_hist_of H (fun j j1 j2 _ _ => hin.1 j j1 j2)
      have jz : t_sz x.1 := jH.1.1
      have j1 : x.1 1 0 = σ 1 0 := congrFun (hin.1 1 (by decide) (by decide)) 0
      have jl := t_hist_lh jH (y := y) (Or.inr ⟨by omega, by omega⟩)
      have jp : t_rdo x.1 i y = 0 ∨ t_rdo x.1 i y = 1 := (jH.2.1 y i (by omega) (by omega) hi0 hi1).1
      have js := hin.2.1 i hi0 hi1
      have jly := t_lyf_in (y := y) jz (a := i) ⟨hi0, hi1⟩
      have j34 : t_b01 (t_lyf i y x.1) 34 := by unfold t_b01; rw [jly.1 34 (by decide)]; exact hin.2.1
      refine e_iload_n dX6_netMany_25 rfl ?_
      refine e_bipush dX6_netMany_26 rfl ?_
      refine e_icmp_ge (tgt := 116) dX6_netMany_28 rfl ⟨by omega, by omega⟩ ⟨by omega, by omega⟩ (fun q => by exfalso; omega) (fun c3 => ?_)
      refine e_aload_n dX6_netMany_31 rfl ?_
      refine e_iload_n dX6_netMany_32 rfl ?_
      refine e_iload_n dX6_netMany_33 rfl ?_
      refine e_callV2rz (ci := 6) dX6_netMany_34 md_X6_roadOf lk_X6_386 rfl q2251 qs113 (t_obj _ _) (by decide) rfl (Nat.le_of_ble_eq_true rfl) (C_X6_roadOf jH ⟨by omega, by omega⟩ ⟨by omega, by omega⟩) ?_
      refine e_if_eq (tgt := 110) dX6_netMany_37 rfl ⟨by omega, by omega⟩ (fun c4 => ?_) (fun c4 => ?_)
      · refine e_iinc3 dX6_netMany_110 rfl ?_
        refine e_goto (tgt := 25) dX6_netMany_113 rfl ?_
        first
          | (have e : t_nmf y i x = x := if_pos (by omega)
             rw [e] at hF; exact hF)
          | (have e : t_nmf y i x = (t_it t_nm1f 80 (t_lyf i y x.1), x.2 + 1) := if_neg (by omega)
             rw [e] at hF; exact e_fgt 4 hF)
      · refine e_aload_n dX6_netMany_40 rfl ?_
        refine t_geta (k := 34) dX6_netMany_41 fl_X6_79 rfl ?_
        refine e_iload_n dX6_netMany_44 rfl ?_
        refine t_zld 80 dX6_netMany_45 rfl (by decide) (fun _ => rfl) rfl ⟨by omega, by omega⟩ ?_
        refine e_if_eq (tgt := 52) dX6_netMany_46 rfl ⟨by omega, by omega⟩ (fun c5 => ?_) (fun c5 => ?_)
        · refine e_iinc2 dX6_netMany_52 rfl ?_
          refine e_aload_n dX6_netMany_55 rfl ?_
          refine e_iload_n dX6_netMany_56 rfl ?_
          refine e_iload_n dX6_netMany_57 rfl ?_
          refine e_callV2vz (ci := 6) dX6_netMany_58 md_X6_layFar lk_X6_379 rfl q2231 qs110 (t_obj _ _) (by decide) rfl (Nat.le_of_ble_eq_true rfl) (C_X6_layFar jl ⟨by omega, by omega⟩) ?_
          refine e_iconst dX6_netMany_61 ?_
          refine e_istore4 dX6_netMany_62 rfl ?_
          refine e_for (n := 80) (fun k => e_E mX6_netMany 64 [.ref 384, e_i y, e_i (x.2 + 1), e_i i, e_i k] [] (t_H (t_it t_nm1f k.toNat (t_lyf i y x.1)) h0) _ _ _ _) (by omega) ?_ (fun k hk0 hk1 hG => ?_)
          · have hxe : t_it t_nm1f (80 : Int).toNat (t_lyf i y x.1) = t_it t_nm1f 80 (t_lyf i y x.1) := rfl
            rw [hxe]
            refine e_iload dX6_netMany_64 rfl ?_
            refine e_bipush dX6_netMany_66 rfl ?_
            refine e_icmp_ge (tgt := 110) dX6_netMany_68 rfl ⟨by omega, by omega⟩ ⟨by omega, by omega⟩ (fun c6 => ?_) (fun q => by exfalso; omega)
            refine e_iinc3 dX6_netMany_110 rfl ?_
            refine e_goto (tgt := 25) dX6_netMany_113 rfl ?_
            first
              | (have e : t_nmf y i x = x := if_pos (by omega)
                 rw [e] at hF; exact hF)
              | (have e : t_nmf y i x = (t_it t_nm1f 80 (t_lyf i y x.1), x.2 + 1) := if_neg (by omega)
                 rw [e] at hF; exact e_fgt 4 hF)
          · rw [t_it_s _ _ hk0] at hG
            have kin := t_nm1_in j34 k.toNat
            generalize t_it t_nm1f k.toNat (t_lyf i y x.1) = z at hG kin ⊢
            have k33 := jly.2 k hk0 hk1
            have e33 : z 33 k = t_lyf i y x.1 33 k := congrFun (kin.1 33 (by decide)) k
            have k34 := kin.2 k hk0 hk1
            refine e_iload dX6_netMany_64 rfl ?_
            refine e_bipush dX6_netMany_66 rfl ?_
            refine e_icmp_ge (tgt := 110) dX6_netMany_68 rfl ⟨by omega, by omega⟩ ⟨by omega, by omega⟩ (fun q => by exfalso; omega) (fun c7 => ?_)
            refine e_aload_n dX6_netMany_71 rfl ?_
            refine t_geta (k := 34) dX6_netMany_72 fl_X6_79 rfl ?_
            refine e_iload dX6_netMany_75 rfl ?_
            refine e_aload_n dX6_netMany_77 rfl ?_
            refine t_geta (k := 34) dX6_netMany_78 fl_X6_79 rfl ?_
            refine e_iload dX6_netMany_81 rfl ?_
            refine t_zld 80 dX6_netMany_83 rfl (by decide) (fun _ => rfl) rfl ⟨by omega, by omega⟩ ?_
            refine e_if_ne (tgt := 98) dX6_netMany_84 rfl ⟨by omega, by omega⟩ (fun c8 => ?_) (fun c8 => ?_)
            · refine e_iconst dX6_netMany_98 ?_
              refine e_goto (tgt := 103) dX6_netMany_99 rfl ?_
              refine t_zst 80 dX6_netMany_103 rfl (by decide) rfl (Or.inr rfl) rfl ⟨by omega, by omega⟩ ?_
              refine e_iinc4 dX6_netMany_104 rfl ?_
              refine e_goto (tgt := 64) dX6_netMany_107 rfl ?_
              unfold t_nm1f at hG
              first
                | (rw [if_pos (by omega)] at hG; exact hG)
                | (rw [if_neg (by omega)] at hG; exact hG)
            · refine e_aload_n dX6_netMany_87 rfl ?_
              refine t_geta (k := 33) dX6_netMany_88 fl_X6_76 rfl ?_
              refine e_iload dX6_netMany_91 rfl ?_
              refine t_ild 80 dX6_netMany_93 rfl (by decide) (fun _ => rfl) rfl ⟨by omega, by omega⟩ ?_
              refine e_iconst dX6_netMany_94 ?_
              refine e_icmp_eq (tgt := 102) dX6_netMany_95 rfl ⟨by omega, by omega⟩ ⟨by omega, by omega⟩ (fun c9 => ?_) (fun c9 => ?_)
              · refine e_iconst dX6_netMany_102 ?_
                refine t_zst 80 dX6_netMany_103 rfl (by decide) rfl (Or.inl rfl) rfl ⟨by omega, by omega⟩ ?_
                refine e_iinc4 dX6_netMany_104 rfl ?_
                refine e_goto (tgt := 64) dX6_netMany_107 rfl ?_
                unfold t_nm1f at hG
                first
                  | (rw [if_pos (by omega)] at hG; exact hG)
                  | (rw [if_neg (by omega)] at hG; exact hG)
              · refine e_iconst dX6_netMany_98 ?_
                refine e_goto (tgt := 103) dX6_netMany_99 rfl ?_
                refine t_zst 80 dX6_netMany_103 rfl (by decide) rfl (Or.inr rfl) rfl ⟨by omega, by omega⟩ ?_
                refine e_iinc4 dX6_netMany_104 rfl ?_
                refine e_goto (tgt := 64) dX6_netMany_107 rfl ?_
                unfold t_nm1f at hG
                first
                  | (rw [if_pos (by omega)] at hG; exact hG)
                  | (rw [if_neg (by omega)] at hG; exact hG)
        · refine e_goto (tgt := 110) dX6_netMany_49 rfl ?_
          refine e_iinc3 dX6_netMany_110 rfl ?_
          refine e_goto (tgt := 25) dX6_netMany_113 rfl ?_
          first
            | (have e : t_nmf y i x = x := if_pos (by omega)
               rw [e] at hF; exact hF)
            | (have e : t_nmf y i x = (t_it t_nm1f 80 (t_lyf i y x.1), x.2 + 1) := if_neg (by omega)
               rw [e] at hF; exact e_fgt 4 hF)
  · rw [t_it_s _ _ hi0] at hF
    generalize hτ : t_it t_nm0f i.toNat (σ) = τ at hF ⊢
    refine e_iload_n dX6_netMany_4 rfl ?_
    refine e_bipush dX6_netMany_5 rfl ?_
    refine e_icmp_ge (tgt := 23) dX6_netMany_7 rfl ⟨by omega, by omega⟩ ⟨by omega, by omega⟩ (fun q => by exfalso; omega) (fun c10 => ?_)
    refine e_aload_n dX6_netMany_10 rfl ?_
    refine t_geta (k := 34) dX6_netMany_11 fl_X6_79 rfl ?_
    refine e_iload_n dX6_netMany_14 rfl ?_
    refine e_iconst dX6_netMany_15 ?_
    refine t_zst 80 dX6_netMany_16 rfl (by decide) rfl (Or.inl rfl) rfl ⟨by omega, by omega⟩ ?_
    refine e_iinc3 dX6_netMany_17 rfl ?_
    refine e_goto (tgt := 4) dX6_netMany_20 rfl ?_
    exact hF
theorem C_X6_nets {σ : t_S} {h0 : e_A} (hz : t_sz σ) (hr : t_okR (σ 1)) {y : Int} (hy : e_rg y) : e_C mX6_nets [.ref 384, e_i y] (t_H σ h0) 0 0 8 (t_Pub (v_nets (t_af σ) y) σ h0) := by
  refine e_enter (al0 := [.ref 384, e_i y]) (by decide +kernel) rfl (Nat.le_of_ble_eq_true rfl) ?_
  refine e_aload_n dX6_nets_0 rfl ?_
  refine e_iload_n dX6_nets_1 rfl ?_
  refine e_callV1rz (ci := 6) dX6_nets_2 md_X6_asksYear lk_X6_373 rfl q2215 qs107 (t_obj _ _) (by decide) rfl (Nat.le_of_ble_eq_true rfl) (C_X6_asksYear hz hr ⟨by omega, by omega⟩) ?_
  have H := t_af_hist hz hr
  have hpk := t_af_pk hz hr
  generalize t_af σ = ρ at H hpk ⊢
  replace hz : t_sz ρ := H.1.1
  have s0 := H.1.1.1
  have s3 := H.1.1.2.1
  have s4 := H.1.1.2.2.1
  have s6 := H.1.1.2.2.2.2.1
  have s7 := H.1.1.2.2.2.2.2.1
  
  refine e_bif_eq (tgt := 16) dX6_nets_5 rfl (fun c1 => ?_) (fun c1 => ?_)
  · refine e_bipush dX6_nets_16 rfl ?_
    refine e_ireturn dX6_nets_18 rfl rfl ?_
    first
      | exact t_pub (by unfold v_nets; rw [if_pos (by assumption)]) hpk2
      | exact t_pub (by unfold v_nets; rw [if_neg (by assumption)]) hpk
  · have hnm := t_nm_in (y := y) hz 80 (Nat.le_refl _)
    have hpk2 : t_pk (t_nm y ρ).1 σ := t_pk36 hpk (fun j j1 j2 _ _ => hnm.1 j j1 j2)
    refine e_aload_n dX6_nets_8 rfl ?_
    refine e_iload_n dX6_nets_9 rfl ?_
    refine e_callV1rz (ci := 6) dX6_nets_10 md_X6_netMany lk_X6_395 rfl q2302 qs117 (t_obj _ _) (by decide) rfl (Nat.le_of_ble_eq_true rfl) (C_X6_netMany H ⟨by omega, by omega⟩) ?_
    refine e_goto (tgt := 18) dX6_nets_13 rfl ?_
    refine e_ireturn dX6_nets_18 rfl rfl ?_
    first
      | exact t_pub (by unfold v_nets; rw [if_pos (by assumption)]) hpk2
      | exact t_pub (by unfold v_nets; rw [if_neg (by assumption)]) hpk
