/-! THE TWIN: as it is, walks (printed by tw2.py) -/
set_option maxRecDepth 100000
theorem t_is0_18 {σ : t_S} (h7 : 0 ≤ σ 1 7 ∧ σ 1 7 ≤ 7) : 0 ≤ t_is0 σ 18 0 ∧ t_is0 σ 18 0 < 2 ^ 7 := by
  have e : t_is0 σ 18 0 = 2 ^ (σ 1 7).toNat - 1 := by
    unfold t_is0
    rw [s_up_k (by decide), s_up_eq, s_up_k (by decide)]
  rw [e]
  have := e_pow_lt 8 (k := σ 1 7) (by omega)
  have h2 : (2 : Int) ^ (σ 1 7).toNat ≤ 2 ^ 7 := by
    have := Nat.pow_le_pow_right (n := 2) (by decide) (show (σ 1 7).toNat ≤ 7 by omega)
    have e2 : ((2 ^ (σ 1 7).toNat : Nat) : Int) = 2 ^ (σ 1 7).toNat := by simp
    omega
  omega
theorem t_is3_18 {σ : t_S} (h7 : 0 ≤ σ 1 7 ∧ σ 1 7 ≤ 7) (n : Nat) : 0 ≤ t_it t_is3f n (t_is2 σ) 18 0 ∧ t_it t_is3f n (t_is2 σ) 18 0 < 2 ^ 7 := by
  refine t_it_P (fun _ (τ : t_S) => 0 ≤ τ 18 0 ∧ τ 18 0 < 2 ^ 7) ?_ n (fun i y _ _ h => ?_)
  · have e : t_is2 σ 18 = t_is0 σ 18 := (t_it_k (f := t_is2f) (fun _ _ => s_up_f (by decide)) _ _).trans (t_it_k (f := t_is1f) (fun _ _ => s_up_f (by decide)) _ _)
    rw [e]
    exact t_is0_18 h7
  · unfold t_is3f
    split
    · rw [s_up_k (by decide)]; exact h
    · rw [s_up_eq]; exact t_andn_rg 7 h
theorem C_X6_asItIs {σ : t_S} {h0 : e_A} (hz : t_sz σ) (hr : t_okR (σ 1)) : e_C mX6_asItIs [.ref 384] (t_H σ h0) 0 0 2 (e_rev (t_H (t_is σ) h0)) := by
  have h3 := hz.2.1
  have h4 := hz.2.2.1
  have h5 := hz.2.2.2.1
  have h7 := hz.2.2.2.2.2.1
  have h8 := hz.2.2.2.2.2.2.1
  have r1 := hr.2.2.2.2.2.2.1
  refine e_enter (al0 := [.ref 384, .retAddr 0, .retAddr 0]) (by decide +kernel) rfl (Nat.le_of_ble_eq_true rfl) ?_
  refine e_aload_n dX6_asItIs_0 rfl ?_
  refine e_aload_n dX6_asItIs_1 rfl ?_
  refine t_geta (k := 1) dX6_asItIs_2 fl_X6_9 rfl ?_
  refine e_iconst dX6_asItIs_5 ?_
  refine t_ild 149 dX6_asItIs_6 rfl (by decide) (fun _ => rfl) rfl ⟨by omega, by omega⟩ ?_
  refine t_puti (k := 17) dX6_asItIs_7 fl_X6_270 rfl rfl ?_
  refine e_aload_n dX6_asItIs_10 rfl ?_
  refine e_aload_n dX6_asItIs_11 rfl ?_
  have hz1 : t_sz (s_up σ 17 0 (σ 1 1)) := hz
  refine e_callV0rz (ci := 6) dX6_asItIs_12 md_X6_allWidows lk_X6_273 rfl q2088 qs86 (t_obj _ _) (by decide) rfl (Nat.le_of_ble_eq_true rfl) (C_X6_allWidows hz1) ?_
  refine t_puti (k := 18) dX6_asItIs_15 fl_X6_276 rfl rfl ?_
  refine e_aload_n dX6_asItIs_18 rfl ?_
  refine e_iconst dX6_asItIs_19 ?_
  refine t_puti (k := 19) dX6_asItIs_20 fl_X6_279 rfl rfl ?_
  refine e_iconst dX6_asItIs_23 ?_
  refine e_istore_n1 dX6_asItIs_24 rfl ?_
  refine e_for (n := 80) (fun i => e_E mX6_asItIs 25 [.ref 384, e_i i, .retAddr 0] [] (t_H (t_it t_is1f i.toNat (t_is0 σ)) h0) _ _ _ _) (by omega) ?_ (fun i hi0 hi1 hF => ?_)
  · show e_E _ _ _ _ (t_H (t_is1 σ) h0) _ _ _ _
    have e1 : t_is1 σ 1 = σ 1 := t_is1_k (by decide) (by decide) (by decide) (by decide) σ
    have e5 := congrFun e1 5
    refine e_iload_n dX6_asItIs_25 rfl ?_
    refine e_bipush dX6_asItIs_26 rfl ?_
    refine e_icmp_ge (tgt := 44) dX6_asItIs_28 rfl ⟨by omega, by omega⟩ ⟨by omega, by omega⟩ (fun c1 => ?_) (fun q => by exfalso; omega)
    refine e_iconst dX6_asItIs_44 ?_
    refine e_istore_n1 dX6_asItIs_45 rfl ?_
    refine e_for (n := σ 1 5) (fun i => e_E mX6_asItIs 46 [.ref 384, e_i i, .retAddr 0] [] (t_H (t_it t_is2f i.toNat (t_is1 σ)) h0) _ _ _ _) (by omega) ?_ (fun i hi0 hi1 hF => ?_)
    · show e_E _ _ _ _ (t_H (t_is2 σ) h0) _ _ _ _
      have e2 : t_is2 σ 1 = σ 1 := t_is2_k (by decide) (by decide) (by decide) (by decide) σ
      have e28 := congrFun e2 8
      have e25 := congrFun e2 5
      refine e_iload_n dX6_asItIs_46 rfl ?_
      refine e_aload_n dX6_asItIs_47 rfl ?_
      refine t_geta (k := 1) dX6_asItIs_48 fl_X6_9 rfl ?_
      refine e_iconst dX6_asItIs_51 ?_
      refine t_ild 149 dX6_asItIs_52 rfl (by decide) (fun _ => rfl) rfl ⟨by omega, by omega⟩ ?_
      refine e_icmp_ge (tgt := 77) dX6_asItIs_53 rfl ⟨by omega, by omega⟩ ⟨by omega, by omega⟩ (fun c2 => ?_) (fun q => by exfalso; omega)
      refine e_iconst dX6_asItIs_77 ?_
      refine e_istore_n1 dX6_asItIs_78 rfl ?_
      refine e_for (n := σ 1 8) (fun i => e_E mX6_asItIs 79 [.ref 384, e_i i, .retAddr 0] [] (t_H (t_it t_is3f i.toNat (t_is2 σ)) h0) _ _ _ _) (by omega) ?_ (fun i hi0 hi1 hF => ?_)
      · show e_E _ _ _ _ (t_H (t_is3 σ) h0) _ _ _ _
        have e3 : t_is3 σ 1 = σ 1 := t_is3_k (by decide) (by decide) (by decide) (by decide) σ
        have e38 := congrFun e3 8
        refine e_iload_n dX6_asItIs_79 rfl ?_
        refine e_aload_n dX6_asItIs_80 rfl ?_
        refine t_geta (k := 1) dX6_asItIs_81 fl_X6_9 rfl ?_
        refine e_bipush dX6_asItIs_84 rfl ?_
        refine t_ild 149 dX6_asItIs_86 rfl (by decide) (fun _ => rfl) rfl ⟨by omega, by omega⟩ ?_
        refine e_icmp_ge (tgt := 141) dX6_asItIs_87 rfl ⟨by omega, by omega⟩ ⟨by omega, by omega⟩ (fun c3 => ?_) (fun q => by exfalso; omega)
        refine e_iconst dX6_asItIs_141 ?_
        refine e_istore_n1 dX6_asItIs_142 rfl ?_
        refine e_for (n := 7) (fun i => e_E mX6_asItIs 143 [.ref 384, e_i i, .retAddr 0] [] (t_H (t_it t_is4f i.toNat (t_is3 σ)) h0) _ _ _ _) (by omega) ?_ (fun i hi0 hi1 hF => ?_)
        · refine e_iload_n dX6_asItIs_143 rfl ?_
          refine e_bipush dX6_asItIs_144 rfl ?_
          refine e_icmp_ge (tgt := 167) dX6_asItIs_146 rfl ⟨by omega, by omega⟩ ⟨by omega, by omega⟩ (fun c4 => ?_) (fun q => by exfalso; omega)
          refine e_return dX6_asItIs_167 rfl ?_
          exact ⟨rfl, rfl⟩
        · rw [t_it_s _ _ hi0] at hF
          generalize hτ : t_it t_is4f i.toNat (t_is3 σ) = τ at hF ⊢
          refine e_iload_n dX6_asItIs_143 rfl ?_
          refine e_bipush dX6_asItIs_144 rfl ?_
          refine e_icmp_ge (tgt := 167) dX6_asItIs_146 rfl ⟨by omega, by omega⟩ ⟨by omega, by omega⟩ (fun q => by exfalso; omega) (fun c5 => ?_)
          refine e_aload_n dX6_asItIs_149 rfl ?_
          refine t_geta (k := 16) dX6_asItIs_150 fl_X6_37 rfl ?_
          refine e_iload_n dX6_asItIs_153 rfl ?_
          refine e_aload_n dX6_asItIs_154 rfl ?_
          refine e_iload_n dX6_asItIs_155 rfl ?_
          refine e_iconst dX6_asItIs_156 ?_
          refine e_callV2rz (ci := 6) dX6_asItIs_157 md_X6_widowOf lk_X6_267 rfl q2064 qs82 (t_obj _ _) (by decide) rfl (Nat.le_of_ble_eq_true rfl) (C_X6_widowOf ⟨by omega, by omega⟩ ⟨by omega, by omega⟩) ?_
          refine t_ist 7 dX6_asItIs_160 rfl (by decide) rfl rfl ⟨by omega, by omega⟩ ?_
          refine e_iinc1 dX6_asItIs_161 rfl ?_
          refine e_goto (tgt := 143) dX6_asItIs_164 rfl ?_
          exact hF
      · rw [t_it_s _ _ hi0] at hF
        generalize hτ : t_it t_is3f i.toNat (t_is2 σ) = τ at hF ⊢
        have e6 : τ 1 = σ 1 := by rw [← hτ]; exact (t_it_k (f := t_is3f) (t_is3f_k (by decide) (by decide)) _ _).trans e2
        have e68 := congrFun e6 8
        have e6i := congrFun e6 (119 + i)
        have hws : 0 ≤ τ 18 0 ∧ τ 18 0 < 2 ^ 7 := by rw [← hτ]; exact t_is3_18 h7 _
        have ha : (0 ≤ τ 1 (119 + i) ∧ τ 1 (119 + i) < 80) ∨ (1000 ≤ τ 1 (119 + i) ∧ τ 1 (119 + i) < 1007) := by
          rcases hr.2.2.2.1 i hi0 hi1 with ⟨c1, c2, c3⟩ | ⟨c1, c2⟩ <;> omega
        refine e_iload_n dX6_asItIs_79 rfl ?_
        refine e_aload_n dX6_asItIs_80 rfl ?_
        refine t_geta (k := 1) dX6_asItIs_81 fl_X6_9 rfl ?_
        refine e_bipush dX6_asItIs_84 rfl ?_
        refine t_ild 149 dX6_asItIs_86 rfl (by decide) (fun _ => rfl) rfl ⟨by omega, by omega⟩ ?_
        refine e_icmp_ge (tgt := 141) dX6_asItIs_87 rfl ⟨by omega, by omega⟩ ⟨by omega, by omega⟩ (fun q => by exfalso; omega) (fun c6 => ?_)
        refine e_aload_n dX6_asItIs_90 rfl ?_
        refine t_geta (k := 1) dX6_asItIs_91 fl_X6_9 rfl ?_
        refine e_bipush dX6_asItIs_94 rfl ?_
        refine e_iload_n dX6_asItIs_96 rfl ?_
        refine e_iadd dX6_asItIs_97 ?_
        refine t_ild 149 dX6_asItIs_98 rfl (by decide) (fun _ => rfl) rfl ⟨by omega, by omega⟩ ?_
        refine e_istore_n2 dX6_asItIs_99 rfl ?_
        refine e_iload_n dX6_asItIs_100 rfl ?_
        refine e_sipush dX6_asItIs_101 rfl ?_
        refine e_icmp_ge (tgt := 117) dX6_asItIs_104 rfl ⟨by omega, by omega⟩ ⟨by omega, by omega⟩ (fun c7 => ?_) (fun c7 => ?_)
        · refine e_aload_n dX6_asItIs_117 rfl ?_
          refine e_dup dX6_asItIs_118 rfl ?_
          refine t_geti (k := 18) dX6_asItIs_119 fl_X6_276 rfl ?_
          refine e_iconst dX6_asItIs_122 ?_
          refine e_iload_n dX6_asItIs_123 rfl ?_
          refine e_sipush dX6_asItIs_124 rfl ?_
          refine e_isub dX6_asItIs_127 ?_
          refine e_ishl dX6_asItIs_128 ((e_shl_law 1 ⟨by omega, by omega⟩).trans (by rw [Int.one_mul])) ?_
          refine e_iconst dX6_asItIs_129 ?_
          refine e_ixor dX6_asItIs_130 (e_not_law _) ?_
          refine e_iand dX6_asItIs_131 (e_andn_law hws.1 (by have := e_pow_lt 8 (k := τ 1 (119 + i) - 1000) (by omega); omega)) ?_
          refine t_puti (k := 18) dX6_asItIs_132 fl_X6_276 rfl rfl ?_
          refine e_iinc1 dX6_asItIs_135 rfl ?_
          refine e_goto (tgt := 79) dX6_asItIs_138 rfl ?_
          refine e_fgt 2 ?_
          first
            | (unfold t_is3f at hF; rw [if_pos (by omega)] at hF; exact hF)
            | (unfold t_is3f at hF; rw [if_neg (by omega)] at hF; exact hF)
        · refine e_aload_n dX6_asItIs_107 rfl ?_
          refine t_geta (k := 15) dX6_asItIs_108 fl_X6_34 rfl ?_
          refine e_iload_n dX6_asItIs_111 rfl ?_
          refine e_iconst dX6_asItIs_112 ?_
          refine t_zst 80 dX6_asItIs_113 rfl (by decide) rfl (Or.inl rfl) rfl ⟨by omega, by omega⟩ ?_
          refine e_goto (tgt := 135) dX6_asItIs_114 rfl ?_
          refine e_iinc1 dX6_asItIs_135 rfl ?_
          refine e_goto (tgt := 79) dX6_asItIs_138 rfl ?_
          refine e_fgt 2 ?_
          first
            | (unfold t_is3f at hF; rw [if_pos (by omega)] at hF; exact hF)
            | (unfold t_is3f at hF; rw [if_neg (by omega)] at hF; exact hF)
    · rw [t_it_s _ _ hi0] at hF
      generalize hτ : t_it t_is2f i.toNat (t_is1 σ) = τ at hF ⊢
      have e6 : τ 1 = σ 1 := by rw [← hτ]; exact (t_it_k (f := t_is2f) (fun _ _ => s_up_f (by decide)) _ _).trans e1
      have e65 := congrFun e6 5
      have e6i := congrFun e6 (10 + i)
      obtain ⟨c1, c2, c3⟩ := hr.1 i hi0 hi1
      refine e_iload_n dX6_asItIs_46 rfl ?_
      refine e_aload_n dX6_asItIs_47 rfl ?_
      refine t_geta (k := 1) dX6_asItIs_48 fl_X6_9 rfl ?_
      refine e_iconst dX6_asItIs_51 ?_
      refine t_ild 149 dX6_asItIs_52 rfl (by decide) (fun _ => rfl) rfl ⟨by omega, by omega⟩ ?_
      refine e_icmp_ge (tgt := 77) dX6_asItIs_53 rfl ⟨by omega, by omega⟩ ⟨by omega, by omega⟩ (fun q => by exfalso; omega) (fun c8 => ?_)
      refine e_aload_n dX6_asItIs_56 rfl ?_
      refine t_geta (k := 15) dX6_asItIs_57 fl_X6_34 rfl ?_
      refine e_aload_n dX6_asItIs_60 rfl ?_
      refine t_geta (k := 1) dX6_asItIs_61 fl_X6_9 rfl ?_
      refine e_bipush dX6_asItIs_64 rfl ?_
      refine e_iload_n dX6_asItIs_66 rfl ?_
      refine e_iadd dX6_asItIs_67 ?_
      refine t_ild 149 dX6_asItIs_68 rfl (by decide) (fun _ => rfl) rfl ⟨by omega, by omega⟩ ?_
      refine e_iconst dX6_asItIs_69 ?_
      refine t_zst 80 dX6_asItIs_70 rfl (by decide) rfl (Or.inr rfl) rfl ⟨by omega, by omega⟩ ?_
      refine e_iinc1 dX6_asItIs_71 rfl ?_
      refine e_goto (tgt := 46) dX6_asItIs_74 rfl ?_
      exact hF
  · rw [t_it_s _ _ hi0] at hF
    generalize hτ : t_it t_is1f i.toNat (t_is0 σ) = τ at hF ⊢
    refine e_iload_n dX6_asItIs_25 rfl ?_
    refine e_bipush dX6_asItIs_26 rfl ?_
    refine e_icmp_ge (tgt := 44) dX6_asItIs_28 rfl ⟨by omega, by omega⟩ ⟨by omega, by omega⟩ (fun q => by exfalso; omega) (fun c9 => ?_)
    refine e_aload_n dX6_asItIs_31 rfl ?_
    refine t_geta (k := 15) dX6_asItIs_32 fl_X6_34 rfl ?_
    refine e_iload_n dX6_asItIs_35 rfl ?_
    refine e_iconst dX6_asItIs_36 ?_
    refine t_zst 80 dX6_asItIs_37 rfl (by decide) rfl (Or.inl rfl) rfl ⟨by omega, by omega⟩ ?_
    refine e_iinc1 dX6_asItIs_38 rfl ?_
    refine e_goto (tgt := 25) dX6_asItIs_41 rfl ?_
    exact hF
theorem C_X6_keepYear {σ : t_S} {h0 : e_A} {y : Int} (hy : 0 ≤ y ∧ y ≤ 12) (hb : t_b01 σ 21) : e_C mX6_keepYear [.ref 384, e_i y] (t_H σ h0) 0 0 0 (e_rev (t_H (t_kp y σ) h0)) := by
  refine e_enter (al0 := [.ref 384, e_i y, .retAddr 0]) (by decide +kernel) rfl (Nat.le_of_ble_eq_true rfl) ?_
  refine e_iconst dX6_keepYear_0 ?_
  refine e_istore_n2 dX6_keepYear_1 rfl ?_
  refine e_for (n := 80) (fun i => e_E mX6_keepYear 2 [.ref 384, e_i y, e_i i] [] (t_H (t_it (t_kp1f y) i.toNat (σ)) h0) _ _ _ _) (by omega) ?_ (fun i hi0 hi1 hF => ?_)
  · refine e_iload_n dX6_keepYear_2 rfl ?_
    refine e_bipush dX6_keepYear_3 rfl ?_
    refine e_icmp_ge (tgt := 48) dX6_keepYear_5 rfl ⟨by omega, by omega⟩ ⟨by omega, by omega⟩ (fun c1 => ?_) (fun q => by exfalso; omega)
    refine e_iconst dX6_keepYear_48 ?_
    refine e_istore_n2 dX6_keepYear_49 rfl ?_
    refine e_for (n := 6) (fun i => e_E mX6_keepYear 50 [.ref 384, e_i y, e_i i] [] (t_H (t_it (t_kp2f y) i.toNat (t_it (t_kp1f y) 80 σ)) h0) _ _ _ _) (by omega) ?_ (fun i hi0 hi1 hF => ?_)
    · refine e_iload_n dX6_keepYear_50 rfl ?_
      refine e_bipush dX6_keepYear_51 rfl ?_
      refine e_icmp_ge (tgt := 79) dX6_keepYear_53 rfl ⟨by omega, by omega⟩ ⟨by omega, by omega⟩ (fun c2 => ?_) (fun q => by exfalso; omega)
      refine e_return dX6_keepYear_79 rfl ?_
      exact ⟨rfl, rfl⟩
    · rw [t_it_s _ _ hi0] at hF
      generalize hτ : t_it (t_kp2f y) i.toNat (t_it (t_kp1f y) 80 σ) = τ at hF ⊢
      refine e_iload_n dX6_keepYear_50 rfl ?_
      refine e_bipush dX6_keepYear_51 rfl ?_
      refine e_icmp_ge (tgt := 79) dX6_keepYear_53 rfl ⟨by omega, by omega⟩ ⟨by omega, by omega⟩ (fun q => by exfalso; omega) (fun c3 => ?_)
      refine e_aload_n dX6_keepYear_56 rfl ?_
      refine t_geta (k := 32) dX6_keepYear_57 fl_X6_73 rfl ?_
      refine e_bipush dX6_keepYear_60 rfl ?_
      refine e_iload_n dX6_keepYear_62 rfl ?_
      refine e_imul dX6_keepYear_63 ?_
      refine e_iload_n dX6_keepYear_64 rfl ?_
      refine e_iadd dX6_keepYear_65 ?_
      refine e_aload_n dX6_keepYear_66 rfl ?_
      refine t_geta (k := 25) dX6_keepYear_67 fl_X6_52 rfl ?_
      refine e_iload_n dX6_keepYear_70 rfl ?_
      refine t_ild 6 dX6_keepYear_71 rfl (by decide) (fun _ => rfl) rfl ⟨by omega, by omega⟩ ?_
      refine t_ist 78 dX6_keepYear_72 rfl (by decide) rfl rfl ⟨by omega, by omega⟩ ?_
      refine e_iinc2 dX6_keepYear_73 rfl ?_
      refine e_goto (tgt := 50) dX6_keepYear_76 rfl ?_
      exact hF
  · rw [t_it_s _ _ hi0] at hF
    generalize hτ : t_it (t_kp1f y) i.toNat (σ) = τ at hF ⊢
    have hb1 : τ 21 i = 0 ∨ τ 21 i = 1 := by rw [← hτ, t_it_k (f := t_kp1f y) (t_kp1f_k (by decide) (by decide))]; exact hb i hi0 hi1
    refine e_iload_n dX6_keepYear_2 rfl ?_
    refine e_bipush dX6_keepYear_3 rfl ?_
    refine e_icmp_ge (tgt := 48) dX6_keepYear_5 rfl ⟨by omega, by omega⟩ ⟨by omega, by omega⟩ (fun q => by exfalso; omega) (fun c4 => ?_)
    refine e_aload_n dX6_keepYear_8 rfl ?_
    refine t_geta (k := 30) dX6_keepYear_9 fl_X6_67 rfl ?_
    refine e_bipush dX6_keepYear_12 rfl ?_
    refine e_iload_n dX6_keepYear_14 rfl ?_
    refine e_imul dX6_keepYear_15 ?_
    refine e_iload_n dX6_keepYear_16 rfl ?_
    refine e_iadd dX6_keepYear_17 ?_
    refine e_aload_n dX6_keepYear_18 rfl ?_
    refine t_geta (k := 21) dX6_keepYear_19 fl_X6_40 rfl ?_
    refine e_iload_n dX6_keepYear_22 rfl ?_
    refine t_zld 80 dX6_keepYear_23 rfl (by decide) (fun _ => rfl) rfl ⟨by omega, by omega⟩ ?_
    refine t_zst 1040 dX6_keepYear_24 rfl (by decide) rfl hb1 rfl ⟨by omega, by omega⟩ ?_
    refine e_aload_n dX6_keepYear_25 rfl ?_
    refine t_geta (k := 31) dX6_keepYear_26 fl_X6_70 rfl ?_
    refine e_bipush dX6_keepYear_29 rfl ?_
    refine e_iload_n dX6_keepYear_31 rfl ?_
    refine e_imul dX6_keepYear_32 ?_
    refine e_iload_n dX6_keepYear_33 rfl ?_
    refine e_iadd dX6_keepYear_34 ?_
    refine e_aload_n dX6_keepYear_35 rfl ?_
    refine t_geta (k := 24) dX6_keepYear_36 fl_X6_49 rfl ?_
    refine e_iload_n dX6_keepYear_39 rfl ?_
    refine t_ild 80 dX6_keepYear_40 rfl (by decide) (fun _ => rfl) rfl ⟨by omega, by omega⟩ ?_
    refine t_ist 1040 dX6_keepYear_41 rfl (by decide) rfl rfl ⟨by omega, by omega⟩ ?_
    refine e_iinc2 dX6_keepYear_42 rfl ?_
    refine e_goto (tgt := 2) dX6_keepYear_45 rfl ?_
    exact hF
theorem C_X6_isHouse {σ : t_S} {h0 : e_A} {c : Int} (hz : t_sz σ) (hh : t_hrg σ) (hc : e_rg c) : e_C mX6_isHouse [.ref 384, e_i c] (t_H σ h0) 0 0 1 (e_ret (e_i (t_hs σ c)) (t_H σ h0)) := by
  have h6 := hz.2.2.2.2.1
  refine e_enter (al0 := [.ref 384, e_i c, .retAddr 0, .retAddr 0]) (by decide +kernel) rfl (Nat.le_of_ble_eq_true rfl) ?_
  refine e_iconst dX6_isHouse_0 ?_
  refine e_istore_n2 dX6_isHouse_1 rfl ?_
  refine e_iconst dX6_isHouse_2 ?_
  refine e_istore_n3 dX6_isHouse_3 rfl ?_
  refine e_for (n := σ 1 6) (fun i => e_E mX6_isHouse 4 [.ref 384, e_i c, e_i (t_anyg (t_hsg σ c) i.toNat), e_i i] [] (t_H σ h0) _ _ _ _) (by omega) ?_ (fun i hi0 hi1 hF => ?_)
  · refine e_iload_n dX6_isHouse_4 rfl ?_
    refine e_aload_n dX6_isHouse_5 rfl ?_
    refine e_callV0rz (ci := 6) dX6_isHouse_6 md_X6_houses lk_X6_307 rfl q2137 qs96 (t_obj _ _) (by decide) rfl (Nat.le_of_ble_eq_true rfl) (C_X6_houses) ?_
    refine e_icmp_ge (tgt := 38) dX6_isHouse_9 rfl ⟨by omega, by omega⟩ ⟨by omega, by omega⟩ (fun c1 => ?_) (fun q => by exfalso; omega)
    refine e_iload_n dX6_isHouse_38 rfl ?_
    refine e_ireturn dX6_isHouse_39 rfl (by rcases t_hs01 σ c (σ 1 6).toNat with q | q <;> (show narrow .boolean (e_i (t_anyg (t_hsg σ c) (σ 1 6).toNat)) = e_i (t_anyg (t_hsg σ c) (σ 1 6).toNat); rw [q]; rfl)) ?_
    exact ⟨rfl, rfl⟩
  · rw [t_anyg_s (t_hsg σ c) hi0] at hF
    have h01 := t_hs01 σ c i.toNat
    have hh1 := hh i hi0 (by omega)
    refine e_iload_n dX6_isHouse_4 rfl ?_
    refine e_aload_n dX6_isHouse_5 rfl ?_
    refine e_callV0rz (ci := 6) dX6_isHouse_6 md_X6_houses lk_X6_307 rfl q2137 qs96 (t_obj _ _) (by decide) rfl (Nat.le_of_ble_eq_true rfl) (C_X6_houses) ?_
    refine e_icmp_ge (tgt := 38) dX6_isHouse_9 rfl ⟨by omega, by omega⟩ ⟨by omega, by omega⟩ (fun q => by exfalso; omega) (fun c2 => ?_)
    refine e_iload_n dX6_isHouse_12 rfl ?_
    refine e_if_ne (tgt := 26) dX6_isHouse_13 rfl ⟨by omega, by omega⟩ (fun c3 => ?_) (fun c3 => ?_)
    · refine e_iconst dX6_isHouse_26 ?_
      refine e_goto (tgt := 31) dX6_isHouse_27 rfl ?_
      refine e_istore_n2 dX6_isHouse_31 rfl ?_
      refine e_iinc3 dX6_isHouse_32 rfl ?_
      refine e_goto (tgt := 4) dX6_isHouse_35 rfl ?_
      first
        | (rw [if_pos (by omega)] at hF; exact hF)
        | (rw [if_neg (by omega), show (t_hsg σ c) i = 1 from if_pos (by omega)] at hF; exact hF)
        | (rw [if_neg (by omega), show (t_hsg σ c) i = 0 from if_neg (by omega)] at hF; exact hF)
    · refine e_aload_n dX6_isHouse_16 rfl ?_
      refine t_geta (k := 25) dX6_isHouse_17 fl_X6_52 rfl ?_
      refine e_iload_n dX6_isHouse_20 rfl ?_
      refine t_ild 6 dX6_isHouse_21 rfl (by decide) (fun _ => rfl) rfl ⟨by omega, by omega⟩ ?_
      refine e_iload_n dX6_isHouse_22 rfl ?_
      refine e_icmp_ne (tgt := 30) dX6_isHouse_23 rfl ⟨by omega, by omega⟩ ⟨by omega, by omega⟩ (fun c4 => ?_) (fun c4 => ?_)
      · refine e_iconst dX6_isHouse_30 ?_
        refine e_istore_n2 dX6_isHouse_31 rfl ?_
        refine e_iinc3 dX6_isHouse_32 rfl ?_
        refine e_goto (tgt := 4) dX6_isHouse_35 rfl ?_
        first
          | (rw [if_pos (by omega)] at hF; exact hF)
          | (rw [if_neg (by omega), show (t_hsg σ c) i = 1 from if_pos (by omega)] at hF; exact hF)
          | (rw [if_neg (by omega), show (t_hsg σ c) i = 0 from if_neg (by omega)] at hF; exact hF)
      · refine e_iconst dX6_isHouse_26 ?_
        refine e_goto (tgt := 31) dX6_isHouse_27 rfl ?_
        refine e_istore_n2 dX6_isHouse_31 rfl ?_
        refine e_iinc3 dX6_isHouse_32 rfl ?_
        refine e_goto (tgt := 4) dX6_isHouse_35 rfl ?_
        first
          | (rw [if_pos (by omega)] at hF; exact hF)
          | (rw [if_neg (by omega), show (t_hsg σ c) i = 1 from if_pos (by omega)] at hF; exact hF)
          | (rw [if_neg (by omega), show (t_hsg σ c) i = 0 from if_neg (by omega)] at hF; exact hF)
theorem C_X6_emptyCell {σ : t_S} {h0 : e_A} (hz : t_sz σ) (hh : t_hrg σ) (h15 : t_b01 σ 15) (h21 : t_b01 σ 21) : e_C mX6_emptyCell [.ref 384] (t_H σ h0) 0 0 2 (e_ret (e_i (t_emp σ)) (t_H σ h0)) := by
  refine e_enter (al0 := [.ref 384, .retAddr 0]) (by decide +kernel) rfl (Nat.le_of_ble_eq_true rfl) ?_
  refine e_iconst dX6_emptyCell_0 ?_
  refine e_istore_n1 dX6_emptyCell_1 rfl ?_
  refine e_for (n := 80) (fun i => t_emp σ = t_fnd (t_emg σ) (80 - i).toNat i → e_E mX6_emptyCell 2 [.ref 384, e_i i] [] (t_H σ h0) _ _ _ _) (by omega) (fun hV => ?_) (fun i hi0 hi1 hF hV => ?_) rfl
  · refine e_iload_n dX6_emptyCell_2 rfl ?_
    refine e_bipush dX6_emptyCell_3 rfl ?_
    refine e_icmp_ge (tgt := 51) dX6_emptyCell_5 rfl ⟨by omega, by omega⟩ ⟨by omega, by omega⟩ (fun c1 => ?_) (fun q => by exfalso; omega)
    refine e_iconst dX6_emptyCell_51 ?_
    refine e_ireturn dX6_emptyCell_52 rfl rfl ?_
    exact e_rv hV.symm rfl
  · rw [t_fnd_s _ hi1] at hV
    have g1 := h15 i hi0 hi1
    have g2 := h21 i hi0 hi1
    refine e_iload_n dX6_emptyCell_2 rfl ?_
    refine e_bipush dX6_emptyCell_3 rfl ?_
    refine e_icmp_ge (tgt := 51) dX6_emptyCell_5 rfl ⟨by omega, by omega⟩ ⟨by omega, by omega⟩ (fun q => by exfalso; omega) (fun c2 => ?_)
    refine e_aload_n dX6_emptyCell_8 rfl ?_
    refine e_iload_n dX6_emptyCell_9 rfl ?_
    refine e_i2l dX6_emptyCell_10 ⟨by omega, by omega⟩ ?_
    refine e_callV1rz (ci := 6) dX6_emptyCell_11 md_X6_isCell lk_X6_310 rfl q2145 qs98 (t_obj _ _) (by decide) rfl (Nat.le_of_ble_eq_true rfl) (C_X6_isCell hz ⟨by omega, by omega⟩) ?_
    refine e_bif_eq (tgt := 45) dX6_emptyCell_14 rfl (fun k1 => ?_) (fun k1 => ?_)
    · refine e_iinc1 dX6_emptyCell_45 rfl ?_
      refine e_goto (tgt := 2) dX6_emptyCell_48 rfl ?_
      exact hF (hV.trans (if_neg (fun q => by
        unfold t_emg at q
        rw [if_neg (fun w => by
          obtain ⟨w1, w2, w3, w4⟩ := w
          first | exact k1 w1 | omega)] at q
        omega)))
    · refine e_aload_n dX6_emptyCell_17 rfl ?_
      refine t_geta (k := 15) dX6_emptyCell_18 fl_X6_34 rfl ?_
      refine e_iload_n dX6_emptyCell_21 rfl ?_
      refine t_zld 80 dX6_emptyCell_22 rfl (by decide) (fun _ => rfl) rfl ⟨by omega, by omega⟩ ?_
      refine e_if_ne (tgt := 45) dX6_emptyCell_23 rfl ⟨by omega, by omega⟩ (fun k2 => ?_) (fun k2 => ?_)
      · refine e_iinc1 dX6_emptyCell_45 rfl ?_
        refine e_goto (tgt := 2) dX6_emptyCell_48 rfl ?_
        exact hF (hV.trans (if_neg (fun q => by
          unfold t_emg at q
          rw [if_neg (fun w => by
            obtain ⟨w1, w2, w3, w4⟩ := w
            first | exact k1 w1 | omega)] at q
          omega)))
      · refine e_aload_n dX6_emptyCell_26 rfl ?_
        refine t_geta (k := 21) dX6_emptyCell_27 fl_X6_40 rfl ?_
        refine e_iload_n dX6_emptyCell_30 rfl ?_
        refine t_zld 80 dX6_emptyCell_31 rfl (by decide) (fun _ => rfl) rfl ⟨by omega, by omega⟩ ?_
        refine e_if_ne (tgt := 45) dX6_emptyCell_32 rfl ⟨by omega, by omega⟩ (fun k3 => ?_) (fun k3 => ?_)
        · refine e_iinc1 dX6_emptyCell_45 rfl ?_
          refine e_goto (tgt := 2) dX6_emptyCell_48 rfl ?_
          exact hF (hV.trans (if_neg (fun q => by
            unfold t_emg at q
            rw [if_neg (fun w => by
              obtain ⟨w1, w2, w3, w4⟩ := w
              first | exact k1 w1 | omega)] at q
            omega)))
        · refine e_aload_n dX6_emptyCell_35 rfl ?_
          refine e_iload_n dX6_emptyCell_36 rfl ?_
          refine e_callV1rz (ci := 6) dX6_emptyCell_37 md_X6_isHouse lk_X6_313 rfl q2154 qs100 (t_obj _ _) (by decide) rfl (Nat.le_of_ble_eq_true rfl) (C_X6_isHouse hz hh ⟨by omega, by omega⟩) ?_
          have h01 : t_hs σ i = 0 ∨ t_hs σ i = 1 := t_hs01 σ i (σ 1 6).toNat
          refine e_if_ne (tgt := 45) dX6_emptyCell_40 rfl ⟨by omega, by omega⟩ (fun k4 => ?_) (fun k4 => ?_)
          · refine e_iinc1 dX6_emptyCell_45 rfl ?_
            refine e_goto (tgt := 2) dX6_emptyCell_48 rfl ?_
            exact hF (hV.trans (if_neg (fun q => by
              unfold t_emg at q
              rw [if_neg (fun w => by
                obtain ⟨w1, w2, w3, w4⟩ := w
                first | exact k1 w1 | omega)] at q
              omega)))
          · refine e_iload_n dX6_emptyCell_43 rfl ?_
            refine e_ireturn dX6_emptyCell_44 rfl rfl ?_
            refine e_rv ?_ rfl
            rw [hV]
            exact (if_pos (if_pos ⟨k1, by omega, by omega, by omega⟩)).symm
theorem C_X6_moveHouses {σ : t_S} {h0 : e_A} {w : Int} (hz : t_sz σ) (hw : 0 ≤ w ∧ w < 7) (hh : t_hrg σ) (h15 : t_b01 σ 15) (h21 : t_b01 σ 21) (h23 : t_b01 σ 23) : e_C mX6_moveHouses [.ref 384, e_i w] (t_H σ h0) 0 0 3 (e_rev (t_H (t_mh w σ) h0)) := by
  have h6 := hz.2.2.2.2.1
  refine e_enter (al0 := [.ref 384, e_i w, .retAddr 0]) (by decide +kernel) rfl (Nat.le_of_ble_eq_true rfl) ?_
  refine e_aload_n dX6_moveHouses_0 rfl ?_
  refine t_geta (k := 28) dX6_moveHouses_1 fl_X6_61 rfl ?_
  refine e_iload_n dX6_moveHouses_4 rfl ?_
  refine e_iconst dX6_moveHouses_5 ?_
  refine t_ist 7 dX6_moveHouses_6 rfl (by decide) rfl rfl ⟨by omega, by omega⟩ ?_
  refine e_iconst dX6_moveHouses_7 ?_
  refine e_istore_n2 dX6_moveHouses_8 rfl ?_
  refine e_for (n := σ 1 6) (fun i => e_E mX6_moveHouses 9 [.ref 384, e_i w, e_i i] [] (t_H (t_it (t_mhf w) i.toNat (s_up σ 28 w 0)) h0) _ _ _ _) (by omega) ?_ (fun i hi0 hi1 hF => ?_)
  · show e_E _ _ _ _ (t_H (t_mh w σ) h0) _ _ _ _
    have e1 : t_mh w σ 1 = σ 1 := t_mh_k (by decide) (by decide) (by decide) σ
    have e6 := congrFun e1 6
    refine e_iload_n dX6_moveHouses_9 rfl ?_
    refine e_aload_n dX6_moveHouses_10 rfl ?_
    refine e_callV0rz (ci := 6) dX6_moveHouses_11 md_X6_houses lk_X6_307 rfl q2137 qs96 (t_obj _ _) (by decide) rfl (Nat.le_of_ble_eq_true rfl) (C_X6_houses) ?_
    refine e_icmp_ge (tgt := 80) dX6_moveHouses_14 rfl ⟨by omega, by omega⟩ ⟨by omega, by omega⟩ (fun c1 => ?_) (fun q => by exfalso; omega)
    refine e_return dX6_moveHouses_80 rfl ?_
    exact ⟨rfl, rfl⟩
  · rw [t_it_s _ _ hi0] at hF
    generalize hτ : t_it (t_mhf w) i.toNat (s_up σ 28 w 0) = τ at hF ⊢
    have f1 : τ 1 = σ 1 := by rw [← hτ]; exact (t_it_k (f := t_mhf w) (t_mhf_k (by decide) (by decide) (by decide)) _ _).trans (s_up_f (by decide))
    have f15 : τ 15 = σ 15 := by rw [← hτ]; exact (t_it_k (f := t_mhf w) (t_mhf_k (by decide) (by decide) (by decide)) _ _).trans (s_up_f (by decide))
    have f21 : τ 21 = σ 21 := by rw [← hτ]; exact (t_it_k (f := t_mhf w) (t_mhf_k (by decide) (by decide) (by decide)) _ _).trans (s_up_f (by decide))
    have f23 : τ 23 = σ 23 := by rw [← hτ]; exact (t_it_k (f := t_mhf w) (t_mhf_k (by decide) (by decide) (by decide)) _ _).trans (s_up_f (by decide))
    have e6 := congrFun f1 6
    have hh1 : t_hrg τ := by rw [← hτ]; exact t_mh_25 (fun k k0 k1 => by rw [s_up_k (by decide)]; exact hh k k0 k1) _
    have hz1 : t_sz τ := by unfold t_sz; rw [f1]; exact hz
    have i15 : t_b01 τ 15 := by unfold t_b01; rw [f15]; exact h15
    have i21 : t_b01 τ 21 := by unfold t_b01; rw [f21]; exact h21
    have i23 : t_b01 τ 23 := by unfold t_b01; rw [f23]; exact h23
    have hh2 := hh1 i hi0 (by omega)
    have hh3 := i23 (τ 25 i)
    refine e_iload_n dX6_moveHouses_9 rfl ?_
    refine e_aload_n dX6_moveHouses_10 rfl ?_
    refine e_callV0rz (ci := 6) dX6_moveHouses_11 md_X6_houses lk_X6_307 rfl q2137 qs96 (t_obj _ _) (by decide) rfl (Nat.le_of_ble_eq_true rfl) (C_X6_houses) ?_
    refine e_icmp_ge (tgt := 80) dX6_moveHouses_14 rfl ⟨by omega, by omega⟩ ⟨by omega, by omega⟩ (fun q => by exfalso; omega) (fun c2 => ?_)
    refine e_aload_n dX6_moveHouses_17 rfl ?_
    refine t_geta (k := 25) dX6_moveHouses_18 fl_X6_52 rfl ?_
    refine e_iload_n dX6_moveHouses_21 rfl ?_
    refine t_ild 6 dX6_moveHouses_22 rfl (by decide) (fun _ => rfl) rfl ⟨by omega, by omega⟩ ?_
    refine e_iconst dX6_moveHouses_23 ?_
    refine e_icmp_eq (tgt := 74) dX6_moveHouses_24 rfl ⟨by omega, by omega⟩ ⟨by omega, by omega⟩ (fun c3 => ?_) (fun c3 => ?_)
    · refine e_iinc2 dX6_moveHouses_74 rfl ?_
      refine e_goto (tgt := 9) dX6_moveHouses_77 rfl ?_
      first
        | (unfold t_mhf at hF; rw [if_pos (by omega)] at hF; exact hF)
        | (unfold t_mhf at hF; rw [if_neg (by omega)] at hF; exact hF)
    · refine e_aload_n dX6_moveHouses_27 rfl ?_
      refine t_geta (k := 23) dX6_moveHouses_28 fl_X6_46 rfl ?_
      refine e_aload_n dX6_moveHouses_31 rfl ?_
      refine t_geta (k := 25) dX6_moveHouses_32 fl_X6_52 rfl ?_
      refine e_iload_n dX6_moveHouses_35 rfl ?_
      refine t_ild 6 dX6_moveHouses_36 rfl (by decide) (fun _ => rfl) rfl ⟨by omega, by omega⟩ ?_
      refine t_zld 80 dX6_moveHouses_37 rfl (by decide) (fun _ => rfl) rfl ⟨by omega, by omega⟩ ?_
      refine e_if_ne (tgt := 44) dX6_moveHouses_38 rfl ⟨by omega, by omega⟩ (fun c4 => ?_) (fun c4 => ?_)
      · refine e_aload_n dX6_moveHouses_44 rfl ?_
        refine t_geta (k := 25) dX6_moveHouses_45 fl_X6_52 rfl ?_
        refine e_iload_n dX6_moveHouses_48 rfl ?_
        refine e_aload_n dX6_moveHouses_49 rfl ?_
        refine e_callV0rz (ci := 6) dX6_moveHouses_50 md_X6_emptyCell lk_X6_317 rfl q2141 qs97 (t_obj _ _) (by decide) rfl (Nat.le_of_ble_eq_true rfl) (C_X6_emptyCell hz1 hh1 i15 i21) ?_
        refine t_ist 6 dX6_moveHouses_53 rfl (by decide) rfl rfl ⟨by omega, by omega⟩ ?_
        refine e_aload_n dX6_moveHouses_54 rfl ?_
        refine t_geta (k := 28) dX6_moveHouses_55 fl_X6_61 rfl ?_
        refine e_iload_n dX6_moveHouses_58 rfl ?_
        refine e_dup2 dX6_moveHouses_59 rfl rfl ?_
        refine t_ild 7 dX6_moveHouses_60 rfl (by decide) (fun _ => rfl) rfl ⟨by omega, by omega⟩ ?_
        refine e_iconst dX6_moveHouses_61 ?_
        refine e_iadd dX6_moveHouses_62 ?_
        refine t_ist 7 dX6_moveHouses_63 rfl (by decide) rfl rfl ⟨by omega, by omega⟩ ?_
        refine e_aload_n dX6_moveHouses_64 rfl ?_
        refine t_geta (k := 29) dX6_moveHouses_65 fl_X6_64 rfl ?_
        refine e_iload_n dX6_moveHouses_68 rfl ?_
        refine e_dup2 dX6_moveHouses_69 rfl rfl ?_
        refine t_ild 6 dX6_moveHouses_70 rfl (by decide) (fun _ => rfl) rfl ⟨by omega, by omega⟩ ?_
        refine e_iconst dX6_moveHouses_71 ?_
        refine e_iadd dX6_moveHouses_72 ?_
        refine t_ist 6 dX6_moveHouses_73 rfl (by decide) rfl rfl ⟨by omega, by omega⟩ ?_
        refine e_iinc2 dX6_moveHouses_74 rfl ?_
        refine e_goto (tgt := 9) dX6_moveHouses_77 rfl ?_
        first
          | (unfold t_mhf at hF; rw [if_pos (by omega)] at hF; exact hF)
          | (unfold t_mhf at hF; rw [if_neg (by omega)] at hF; exact hF)
      · refine e_goto (tgt := 74) dX6_moveHouses_41 rfl ?_
        refine e_iinc2 dX6_moveHouses_74 rfl ?_
        refine e_goto (tgt := 9) dX6_moveHouses_77 rfl ?_
        first
          | (unfold t_mhf at hF; rw [if_pos (by omega)] at hF; exact hF)
          | (unfold t_mhf at hF; rw [if_neg (by omega)] at hF; exact hF)
theorem P_walk_281 {σ : t_S} {h0 : e_A} {w : Int} (hz : t_sz σ) (hw : 0 ≤ w ∧ w < 7) (hh : t_hrg σ) (h15 : t_b01 σ 15) (h21 : t_b01 σ 21) (h23 : t_b01 σ 23) : e_E mX6_walk 281 [.ref 384, e_i w, .retAddr 0, .retAddr 0, .retAddr 0, .retAddr 0, .retAddr 0, .retAddr 0, .retAddr 0, .retAddr 0] [] (t_H σ h0) 0 0 4 (e_rev (t_H (t_mh w (t_it t_wk3f 80 σ)) h0)) := by
  refine e_iconst dX6_walk_281 ?_
  refine e_istore6 dX6_walk_282 rfl ?_
  refine e_for (n := 80) (fun i => e_E mX6_walk 284 [.ref 384, e_i w, .retAddr 0, .retAddr 0, .retAddr 0, .retAddr 0, e_i i, .retAddr 0, .retAddr 0, .retAddr 0] [] (t_H (t_it t_wk3f i.toNat (σ)) h0) _ _ _ _) (by omega) ?_ (fun i hi0 hi1 hF => ?_)
  · have k1 : ∀ {k : Nat}, k ≠ 21 → t_it t_wk3f 80 σ k = σ k := fun h => t_it_k (f := t_wk3f) (fun _ _ => s_up_f h) _ _
    have zz : t_sz (t_it t_wk3f 80 σ) := by unfold t_sz; rw [k1 (by decide)]; exact hz
    have zh : t_hrg (t_it t_wk3f 80 σ) := by unfold t_hrg; rw [k1 (by decide)]; exact hh
    have z15 : t_b01 (t_it t_wk3f 80 σ) 15 := by unfold t_b01; rw [k1 (by decide)]; exact h15
    have z23 : t_b01 (t_it t_wk3f 80 σ) 23 := by unfold t_b01; rw [k1 (by decide)]; exact h23
    have z21 : t_b01 (t_it t_wk3f 80 σ) 21 := t_wk3_b h21
    refine e_iload dX6_walk_284 rfl ?_
    refine e_bipush dX6_walk_286 rfl ?_
    refine e_icmp_ge (tgt := 329) dX6_walk_288 rfl ⟨by omega, by omega⟩ ⟨by omega, by omega⟩ (fun c1 => ?_) (fun q => by exfalso; omega)
    refine e_aload_n dX6_walk_329 rfl ?_
    refine e_iload_n dX6_walk_330 rfl ?_
    refine e_callV1vz (ci := 6) dX6_walk_331 md_X6_moveHouses lk_X6_304 rfl q2133 qs95 (t_obj _ _) (by decide) rfl (Nat.le_of_ble_eq_true rfl) (C_X6_moveHouses zz hw zh z15 z21 z23) ?_
    refine e_return dX6_walk_334 rfl ?_
    exact ⟨rfl, rfl⟩
  · rw [t_it_s _ _ hi0] at hF
    generalize hτ : t_it t_wk3f i.toNat (σ) = τ at hF ⊢
    have i23 : τ 23 i = 0 ∨ τ 23 i = 1 := by rw [← hτ, t_it_k (f := t_wk3f) (fun _ _ => s_up_f (by decide))]; exact h23 i hi0 hi1
    have i21 : τ 21 i = 0 ∨ τ 21 i = 1 := by rw [← hτ]; exact t_wk3_b h21 i hi0 hi1
    refine e_iload dX6_walk_284 rfl ?_
    refine e_bipush dX6_walk_286 rfl ?_
    refine e_icmp_ge (tgt := 329) dX6_walk_288 rfl ⟨by omega, by omega⟩ ⟨by omega, by omega⟩ (fun q => by exfalso; omega) (fun c2 => ?_)
    refine e_aload_n dX6_walk_291 rfl ?_
    refine t_geta (k := 21) dX6_walk_292 fl_X6_40 rfl ?_
    refine e_iload dX6_walk_295 rfl ?_
    refine e_aload_n dX6_walk_297 rfl ?_
    refine t_geta (k := 21) dX6_walk_298 fl_X6_40 rfl ?_
    refine e_iload dX6_walk_301 rfl ?_
    refine t_zld 80 dX6_walk_303 rfl (by decide) (fun _ => rfl) rfl ⟨by omega, by omega⟩ ?_
    refine e_if_ne (tgt := 317) dX6_walk_304 rfl ⟨by omega, by omega⟩ (fun c3 => ?_) (fun c3 => ?_)
    · refine e_iconst dX6_walk_317 ?_
      refine e_goto (tgt := 322) dX6_walk_318 rfl ?_
      refine t_zst 80 dX6_walk_322 rfl (by decide) rfl (Or.inr rfl) rfl ⟨by omega, by omega⟩ ?_
      refine e_iinc6 dX6_walk_323 rfl ?_
      refine e_goto (tgt := 284) dX6_walk_326 rfl ?_
      first
        | (unfold t_wk3f at hF; rw [if_pos (by omega)] at hF; exact hF)
        | (unfold t_wk3f at hF; rw [if_neg (by omega)] at hF; exact hF)
    · refine e_aload_n dX6_walk_307 rfl ?_
      refine t_geta (k := 23) dX6_walk_308 fl_X6_46 rfl ?_
      refine e_iload dX6_walk_311 rfl ?_
      refine t_zld 80 dX6_walk_313 rfl (by decide) (fun _ => rfl) rfl ⟨by omega, by omega⟩ ?_
      refine e_if_eq (tgt := 321) dX6_walk_314 rfl ⟨by omega, by omega⟩ (fun c4 => ?_) (fun c4 => ?_)
      · refine e_iconst dX6_walk_321 ?_
        refine t_zst 80 dX6_walk_322 rfl (by decide) rfl (Or.inl rfl) rfl ⟨by omega, by omega⟩ ?_
        refine e_iinc6 dX6_walk_323 rfl ?_
        refine e_goto (tgt := 284) dX6_walk_326 rfl ?_
        first
          | (unfold t_wk3f at hF; rw [if_pos (by omega)] at hF; exact hF)
          | (unfold t_wk3f at hF; rw [if_neg (by omega)] at hF; exact hF)
      · refine e_iconst dX6_walk_317 ?_
        refine e_goto (tgt := 322) dX6_walk_318 rfl ?_
        refine t_zst 80 dX6_walk_322 rfl (by decide) rfl (Or.inr rfl) rfl ⟨by omega, by omega⟩ ?_
        refine e_iinc6 dX6_walk_323 rfl ?_
        refine e_goto (tgt := 284) dX6_walk_326 rfl ?_
        first
          | (unfold t_wk3f at hF; rw [if_pos (by omega)] at hF; exact hF)
          | (unfold t_wk3f at hF; rw [if_neg (by omega)] at hF; exact hF)
theorem P_walk_166 {σ : t_S} {h0 : e_A} {w c f f0 n k : Int} {Q : e_R → e_A → Prop} (hz : t_sz σ) (hw : 0 ≤ w ∧ w < 7) (hc : 0 ≤ c ∧ c < 80) (hf : 0 ≤ f ∧ f < 4) (hn : 0 ≤ n ∧ n ≤ 4) (hfr : n < 4 → 0 ≤ t_bes σ c ((f + n) % 4)) (h17 : 0 ≤ σ 17 0 ∧ σ 17 0 < 4) (h22 : t_b01 σ 22) (hp : t_prg σ) (h27 : 0 ≤ σ 27 w ∧ σ 27 w < 40) (hF : e_E mX6_walk 81 [.ref 384, e_i w, e_i (t_stpA w k (σ, f0, c, 1) f n).2.2.1, e_i (t_stpA w k (σ, f0, c, 1) f n).2.1, e_i (41 * w), e_i (t_stpA w k (σ, f0, c, 1) f n).2.2.2, e_i (k + 1), .retAddr 0, .retAddr 0, .retAddr 0] [] (t_H (t_stpA w k (σ, f0, c, 1) f n).1 h0) 0 0 4 Q) : e_E mX6_walk 166 [.ref 384, e_i w, e_i c, e_i f, e_i (41 * w), e_i 1, e_i k, .retAddr 0, e_i n, .retAddr 0] [] (t_H σ h0) 0 0 4 (Q) := by
  have hb := t_bes_rg hz c ((f + n) % 4)
  refine e_iload dX6_walk_166 rfl ?_
  refine e_iconst dX6_walk_168 ?_
  refine e_icmp_ge (tgt := 250) dX6_walk_169 rfl ⟨by omega, by omega⟩ ⟨by omega, by omega⟩ (fun c1 => ?_) (fun c1 => ?_)
  · refine e_aload_n dX6_walk_250 rfl ?_
    refine t_geta (k := 27) dX6_walk_251 fl_X6_58 rfl ?_
    refine e_iload_n dX6_walk_254 rfl ?_
    refine e_dup2 dX6_walk_255 rfl rfl ?_
    refine t_ild 7 dX6_walk_256 rfl (by decide) (fun _ => rfl) rfl ⟨by omega, by omega⟩ ?_
    refine e_iconst dX6_walk_257 ?_
    refine e_iadd dX6_walk_258 ?_
    refine t_ist 7 dX6_walk_259 rfl (by decide) rfl rfl ⟨by omega, by omega⟩ ?_
    refine e_aload_n dX6_walk_260 rfl ?_
    refine t_geta (k := 26) dX6_walk_261 fl_X6_55 rfl ?_
    refine e_iload dX6_walk_264 rfl ?_
    refine e_aload_n dX6_walk_266 rfl ?_
    refine t_geta (k := 27) dX6_walk_267 fl_X6_58 rfl ?_
    refine e_iload_n dX6_walk_270 rfl ?_
    refine t_ild 7 dX6_walk_271 rfl (by decide) (fun _ => rfl) rfl ⟨by omega, by omega⟩ ?_
    refine e_iadd dX6_walk_272 ?_
    refine e_iload_n dX6_walk_273 rfl ?_
    refine t_ist 287 dX6_walk_274 rfl (by decide) rfl rfl ⟨by rw [s_up_eq]; omega, by rw [s_up_eq]; omega⟩ ?_
    refine e_iinc6 dX6_walk_275 rfl ?_
    refine e_goto (tgt := 81) dX6_walk_278 rfl ?_
    first
      | (rw [if_pos (by omega)] at hF; exact e_fgs [7, 8, 9] hF)
      | (rw [if_neg (by omega)] at hF; exact e_fgs [7, 8, 9] hF)
      | (unfold t_stpA at hF; rw [if_neg (by omega)] at hF; exact e_fgs [7, 8, 9] hF)
  · refine e_iload_n dX6_walk_172 rfl ?_
    refine e_iload dX6_walk_173 rfl ?_
    refine e_iadd dX6_walk_175 ?_
    refine e_iconst dX6_walk_176 ?_
    refine e_irem dX6_walk_177 ⟨by omega, by omega⟩ ⟨by omega, by omega⟩ ?_
    refine e_istore_n3 dX6_walk_178 rfl ?_
    refine e_aload_n dX6_walk_179 rfl ?_
    refine e_iload_n dX6_walk_180 rfl ?_
    refine e_iload_n dX6_walk_181 rfl ?_
    refine e_callV2rz (ci := 6) dX6_walk_182 md_X6_beside lk_X6_288 rfl q2119 qs93 (t_obj _ _) (by decide) rfl (Nat.le_of_ble_eq_true rfl) (C_X6_beside hz ⟨by omega, by omega⟩ ⟨by omega, by omega⟩) ?_
    refine e_istore9 dX6_walk_185 rfl ?_
    unfold t_stpA at hF
    rw [if_pos (by omega)] at hF
    dsimp only at hF
    have hto := hfr (by omega)
    have hf2 : 0 ≤ (f + n) % 4 ∧ (f + n) % 4 < 4 := ⟨by omega, by omega⟩
    generalize hF2 : (f + n) % 4 = f2 at hF hb hto hf2 ⊢
    generalize hTO : t_bes σ c f2 = to at hF hb hto ⊢
    have hp1 := hp c hc.1 hc.2
    have g1 := t_p16 hf2
    have hp2 : t_prg (s_up σ 24 c (t_or (σ 24 c) (2 ^ f2.toNat))) := t_pr1 hp hc hf2
    have g2 := t_p16 (f := (f2 + 2) % 4) ⟨by omega, by omega⟩
    have hp3 := hp2 to hto hb.2
    refine e_aload_n dX6_walk_187 rfl ?_
    refine t_geta (k := 24) dX6_walk_188 fl_X6_49 rfl ?_
    refine e_iload_n dX6_walk_191 rfl ?_
    refine e_dup2 dX6_walk_192 rfl rfl ?_
    refine t_ild 80 dX6_walk_193 rfl (by decide) (fun _ => rfl) rfl ⟨by omega, by omega⟩ ?_
    refine e_iconst dX6_walk_194 ?_
    refine e_iload_n dX6_walk_195 rfl ?_
    refine e_ishl dX6_walk_196 (t_shl1 ⟨by omega, by omega⟩) ?_
    refine e_ior dX6_walk_197 (t_or_law hp1.1 g1.1) ?_
    refine t_ist 80 dX6_walk_198 rfl (by decide) rfl rfl ⟨by omega, by omega⟩ ?_
    refine e_aload_n dX6_walk_199 rfl ?_
    refine t_geta (k := 24) dX6_walk_200 fl_X6_49 rfl ?_
    refine e_iload dX6_walk_203 rfl ?_
    refine e_dup2 dX6_walk_205 rfl rfl ?_
    refine t_ild 80 dX6_walk_206 rfl (by decide) (fun _ => rfl) rfl ⟨by omega, by omega⟩ ?_
    refine e_iconst dX6_walk_207 ?_
    refine e_iload_n dX6_walk_208 rfl ?_
    refine e_iconst dX6_walk_209 ?_
    refine e_iadd dX6_walk_210 ?_
    refine e_iconst dX6_walk_211 ?_
    refine e_irem dX6_walk_212 ⟨by omega, by omega⟩ ⟨by omega, by omega⟩ ?_
    refine e_ishl dX6_walk_213 (t_shl1 ⟨by omega, by omega⟩) ?_
    refine e_ior dX6_walk_214 (t_or_law hp3.1 g2.1) ?_
    refine t_ist 80 dX6_walk_215 rfl (by decide) rfl rfl ⟨by omega, by omega⟩ ?_
    refine e_iload dX6_walk_216 rfl ?_
    refine e_istore_n2 dX6_walk_218 rfl ?_
    refine e_aload_n dX6_walk_219 rfl ?_
    refine t_geta (k := 23) dX6_walk_220 fl_X6_46 rfl ?_
    refine e_iload_n dX6_walk_223 rfl ?_
    refine e_iconst dX6_walk_224 ?_
    refine t_zst 80 dX6_walk_225 rfl (by decide) rfl (Or.inr rfl) rfl ⟨by omega, by omega⟩ ?_
    have e17 := congrFun (t_go1_k (w := w) (c := c) (to := to) (f := f2) (σ := σ) (j := 17) (by decide) (by decide)) 0
    have e22 := congrFun (t_go1_k (w := w) (c := c) (to := to) (f := f2) (σ := σ) (j := 22) (by decide) (by decide)) to
    have e27 := congrFun (t_go1_k (w := w) (c := c) (to := to) (f := f2) (σ := σ) (j := 27) (by decide) (by decide)) w
    have i22 := h22 to hto hb.2
    unfold t_go1 at e17 e22 e27
    refine e_aload_n dX6_walk_226 rfl ?_
    refine t_geti (k := 17) dX6_walk_227 fl_X6_270 rfl ?_
    refine e_iconst dX6_walk_230 ?_
    refine e_icmp_ne (tgt := 243) dX6_walk_231 rfl ⟨by omega, by omega⟩ ⟨by omega, by omega⟩ (fun c2 => ?_) (fun c2 => ?_)
    · refine e_iconst dX6_walk_243 ?_
      refine e_goto (tgt := 248) dX6_walk_244 rfl ?_
      refine e_istore5 dX6_walk_248 rfl ?_
      refine e_aload_n dX6_walk_250 rfl ?_
      refine t_geta (k := 27) dX6_walk_251 fl_X6_58 rfl ?_
      refine e_iload_n dX6_walk_254 rfl ?_
      refine e_dup2 dX6_walk_255 rfl rfl ?_
      refine t_ild 7 dX6_walk_256 rfl (by decide) (fun _ => rfl) rfl ⟨by omega, by omega⟩ ?_
      refine e_iconst dX6_walk_257 ?_
      refine e_iadd dX6_walk_258 ?_
      refine t_ist 7 dX6_walk_259 rfl (by decide) rfl rfl ⟨by omega, by omega⟩ ?_
      refine e_aload_n dX6_walk_260 rfl ?_
      refine t_geta (k := 26) dX6_walk_261 fl_X6_55 rfl ?_
      refine e_iload dX6_walk_264 rfl ?_
      refine e_aload_n dX6_walk_266 rfl ?_
      refine t_geta (k := 27) dX6_walk_267 fl_X6_58 rfl ?_
      refine e_iload_n dX6_walk_270 rfl ?_
      refine t_ild 7 dX6_walk_271 rfl (by decide) (fun _ => rfl) rfl ⟨by omega, by omega⟩ ?_
      refine e_iadd dX6_walk_272 ?_
      refine e_iload_n dX6_walk_273 rfl ?_
      refine t_ist 287 dX6_walk_274 rfl (by decide) rfl rfl ⟨by rw [s_up_eq]; omega, by rw [s_up_eq]; omega⟩ ?_
      refine e_iinc6 dX6_walk_275 rfl ?_
      refine e_goto (tgt := 81) dX6_walk_278 rfl ?_
      first
        | (rw [if_pos (by omega)] at hF; exact e_fgs [7, 8, 9] hF)
        | (rw [if_neg (by omega)] at hF; exact e_fgs [7, 8, 9] hF)
        | (unfold t_stpA at hF; rw [if_neg (by omega)] at hF; exact e_fgs [7, 8, 9] hF)
    · refine e_aload_n dX6_walk_234 rfl ?_
      refine t_geta (k := 22) dX6_walk_235 fl_X6_43 rfl ?_
      refine e_iload_n dX6_walk_238 rfl ?_
      refine t_zld 80 dX6_walk_239 rfl (by decide) (fun _ => rfl) rfl ⟨by omega, by omega⟩ ?_
      refine e_if_ne (tgt := 247) dX6_walk_240 rfl ⟨by omega, by omega⟩ (fun c3 => ?_) (fun c3 => ?_)
      · refine e_iconst dX6_walk_247 ?_
        refine e_istore5 dX6_walk_248 rfl ?_
        refine e_aload_n dX6_walk_250 rfl ?_
        refine t_geta (k := 27) dX6_walk_251 fl_X6_58 rfl ?_
        refine e_iload_n dX6_walk_254 rfl ?_
        refine e_dup2 dX6_walk_255 rfl rfl ?_
        refine t_ild 7 dX6_walk_256 rfl (by decide) (fun _ => rfl) rfl ⟨by omega, by omega⟩ ?_
        refine e_iconst dX6_walk_257 ?_
        refine e_iadd dX6_walk_258 ?_
        refine t_ist 7 dX6_walk_259 rfl (by decide) rfl rfl ⟨by omega, by omega⟩ ?_
        refine e_aload_n dX6_walk_260 rfl ?_
        refine t_geta (k := 26) dX6_walk_261 fl_X6_55 rfl ?_
        refine e_iload dX6_walk_264 rfl ?_
        refine e_aload_n dX6_walk_266 rfl ?_
        refine t_geta (k := 27) dX6_walk_267 fl_X6_58 rfl ?_
        refine e_iload_n dX6_walk_270 rfl ?_
        refine t_ild 7 dX6_walk_271 rfl (by decide) (fun _ => rfl) rfl ⟨by omega, by omega⟩ ?_
        refine e_iadd dX6_walk_272 ?_
        refine e_iload_n dX6_walk_273 rfl ?_
        refine t_ist 287 dX6_walk_274 rfl (by decide) rfl rfl ⟨by rw [s_up_eq]; omega, by rw [s_up_eq]; omega⟩ ?_
        refine e_iinc6 dX6_walk_275 rfl ?_
        refine e_goto (tgt := 81) dX6_walk_278 rfl ?_
        first
          | (rw [if_pos (by omega)] at hF; exact e_fgs [7, 8, 9] hF)
          | (rw [if_neg (by omega)] at hF; exact e_fgs [7, 8, 9] hF)
          | (unfold t_stpA at hF; rw [if_neg (by omega)] at hF; exact e_fgs [7, 8, 9] hF)
      · refine e_iconst dX6_walk_243 ?_
        refine e_goto (tgt := 248) dX6_walk_244 rfl ?_
        refine e_istore5 dX6_walk_248 rfl ?_
        refine e_aload_n dX6_walk_250 rfl ?_
        refine t_geta (k := 27) dX6_walk_251 fl_X6_58 rfl ?_
        refine e_iload_n dX6_walk_254 rfl ?_
        refine e_dup2 dX6_walk_255 rfl rfl ?_
        refine t_ild 7 dX6_walk_256 rfl (by decide) (fun _ => rfl) rfl ⟨by omega, by omega⟩ ?_
        refine e_iconst dX6_walk_257 ?_
        refine e_iadd dX6_walk_258 ?_
        refine t_ist 7 dX6_walk_259 rfl (by decide) rfl rfl ⟨by omega, by omega⟩ ?_
        refine e_aload_n dX6_walk_260 rfl ?_
        refine t_geta (k := 26) dX6_walk_261 fl_X6_55 rfl ?_
        refine e_iload dX6_walk_264 rfl ?_
        refine e_aload_n dX6_walk_266 rfl ?_
        refine t_geta (k := 27) dX6_walk_267 fl_X6_58 rfl ?_
        refine e_iload_n dX6_walk_270 rfl ?_
        refine t_ild 7 dX6_walk_271 rfl (by decide) (fun _ => rfl) rfl ⟨by omega, by omega⟩ ?_
        refine e_iadd dX6_walk_272 ?_
        refine e_iload_n dX6_walk_273 rfl ?_
        refine t_ist 287 dX6_walk_274 rfl (by decide) rfl rfl ⟨by rw [s_up_eq]; omega, by rw [s_up_eq]; omega⟩ ?_
        refine e_iinc6 dX6_walk_275 rfl ?_
        refine e_goto (tgt := 81) dX6_walk_278 rfl ?_
        first
          | (rw [if_pos (by omega)] at hF; exact e_fgs [7, 8, 9] hF)
          | (rw [if_neg (by omega)] at hF; exact e_fgs [7, 8, 9] hF)
          | (unfold t_stpA at hF; rw [if_neg (by omega)] at hF; exact e_fgs [7, 8, 9] hF)
theorem P_walk_129 {σ : t_S} {h0 : e_A} {w c f f0 law k : Int} {Q : e_R → e_A → Prop} (hz : t_sz σ) (hw : 0 ≤ w ∧ w < 7) (hc : 0 ≤ c ∧ c < 80) (hf : 0 ≤ f ∧ f < 4) (hl : 0 ≤ law ∧ law < 4) (h17 : 0 ≤ σ 17 0 ∧ σ 17 0 < 4) (h15 : t_b01 σ 15) (h22 : t_b01 σ 22) (h23 : t_b01 σ 23) (hp : t_prg σ) (h27 : 0 ≤ σ 27 w ∧ σ 27 w < 40) (hF0 : e_E mX6_walk 81 [.ref 384, e_i w, e_i (t_stpA w k (σ, f0, c, 1) f (t_trn σ c f law 4 0)).2.2.1, e_i (t_stpA w k (σ, f0, c, 1) f (t_trn σ c f law 4 0)).2.1, e_i (41 * w), e_i (t_stpA w k (σ, f0, c, 1) f (t_trn σ c f law 4 0)).2.2.2, e_i (k + 1), .retAddr 0, .retAddr 0, .retAddr 0] [] (t_H (t_stpA w k (σ, f0, c, 1) f (t_trn σ c f law 4 0)).1 h0) 0 0 4 Q) : e_E mX6_walk 129 [.ref 384, e_i w, e_i c, e_i f, e_i (41 * w), e_i 1, e_i k, .retAddr 0, .retAddr 0, .retAddr 0] [e_i law] (t_H σ h0) 0 0 4 (Q) := by
  have hb := t_trn_P σ c f law 4 0
  have hr := t_bes_rg hz c ((f + t_trn σ c f law 4 0) % 4)
  have h166 := P_walk_166 (h0 := h0) (Q := Q) (f0 := f0) (n := t_trn σ c f law 4 0) (k := k) hz hw hc hf ⟨hb.1.1, by have := hb.1.2; omega⟩ (fun q => by have q2 := (hb.2 (by omega)).1; omega) h17 h22 hp h27 hF0
  refine e_istore7 dX6_walk_129 rfl ?_
  refine e_iconst dX6_walk_131 ?_
  refine e_istore8 dX6_walk_132 rfl ?_
  refine e_for (n := 4) (fun i => t_trn σ c f law 4 0 = t_trn σ c f law (4 - i).toNat i → e_E mX6_walk 134 [.ref 384, e_i w, e_i c, e_i f, e_i (41 * w), e_i 1, e_i k, e_i law, e_i i, .retAddr 0] [] (t_H σ h0) _ _ _ _) (by omega) (fun hV => ?_) (fun i hi0 hi1 hF hV => ?_) rfl
  · refine e_iload dX6_walk_134 rfl ?_
    refine e_iconst dX6_walk_136 ?_
    refine e_icmp_ge (tgt := 166) dX6_walk_137 rfl ⟨by omega, by omega⟩ ⟨by omega, by omega⟩ (fun c1 => ?_) (fun q => by exfalso; omega)
    have hV4 : t_trn σ c f law 4 0 = 4 := hV
    rw [hV4] at h166
    exact e_fgs [7] h166
  · rw [t_trn_s _ _ _ _ hi1] at hV
    refine e_iload dX6_walk_134 rfl ?_
    refine e_iconst dX6_walk_136 ?_
    refine e_icmp_ge (tgt := 166) dX6_walk_137 rfl ⟨by omega, by omega⟩ ⟨by omega, by omega⟩ (fun q => by exfalso; omega) (fun c2 => ?_)
    refine e_aload_n dX6_walk_140 rfl ?_
    refine e_aload_n dX6_walk_141 rfl ?_
    refine e_iload_n dX6_walk_142 rfl ?_
    refine e_iload_n dX6_walk_143 rfl ?_
    refine e_iload dX6_walk_144 rfl ?_
    refine e_iadd dX6_walk_146 ?_
    refine e_iconst dX6_walk_147 ?_
    refine e_irem dX6_walk_148 ⟨by omega, by omega⟩ ⟨by omega, by omega⟩ ?_
    refine e_callV2rz (ci := 6) dX6_walk_149 md_X6_beside lk_X6_288 rfl q2119 qs93 (t_obj _ _) (by decide) rfl (Nat.le_of_ble_eq_true rfl) (C_X6_beside hz hc ⟨by omega, by omega⟩) ?_
    refine e_iload dX6_walk_152 rfl ?_
    have hbi := t_bes_rg hz c ((f + i) % 4)
    refine e_callV2rz (ci := 6) dX6_walk_154 md_X6_isFree lk_X6_291 rfl q2129 qs94 (t_obj _ _) (by decide) rfl (Nat.le_of_ble_eq_true rfl) (C_X6_isFree h15 h22 h23 hbi hl) ?_
    refine e_bif_ne (tgt := 166) dX6_walk_157 rfl (fun kf => ?_) (fun kf => ?_)
    · rw [hV, if_pos kf] at h166
      exact e_fgs [7] h166
    · refine e_iinc8 dX6_walk_160 rfl ?_
      refine e_goto (tgt := 134) dX6_walk_163 rfl ?_
      exact hF (hV.trans (if_neg kf))
theorem C_X6_walk {σ : t_S} {h0 : e_A} {w : Int} (hz : t_sz σ) (hw0 : 0 ≤ w ∧ w < 7) (hw : t_okW (σ 1) w) (hh : t_hrg σ) (hp : t_prg σ) (h15 : t_b01 σ 15) (h21 : t_b01 σ 21) (h16 : 0 ≤ σ 16 w ∧ σ 16 w < 4) (h17 : 0 ≤ σ 17 0 ∧ σ 17 0 < 4) (ho : t_oneR σ) : e_C mX6_walk [.ref 384, e_i w] (t_H σ h0) 0 0 4 (e_rev (t_H (t_wk w σ) h0)) := by
  have hw1 := hw
  obtain ⟨⟨u1, u2, u3⟩, u4, u5, u6, u7, u8⟩ := hw1
  have v2 : 1 ≤ t_wd σ w 2 ∧ t_wd σ w 2 ≤ 40 := u5
  have v4 : 1 ≤ t_wd σ w 4 ∧ t_wd σ w 4 ≤ 8 := u7
  have hz3 := hz.2.1
  have hz4 := hz.2.2.1
  have k0 : ∀ {k : Nat}, k ≠ 22 → k ≠ 23 → t_wk0 σ k = σ k := fun h1 h2 => t_wk0_k h1 h2 80
  have d1 : t_wd (t_wk0 σ) w 0 = σ 1 (28 + 13 * w) := by show t_wk0 σ 1 (28 + 13 * w + 0) = _; rw [k0 (by decide) (by decide), Int.add_zero]
  have hcell : 0 ≤ t_wd (t_wk0 σ) w 0 ∧ t_wd (t_wk0 σ) w 0 < 80 := ⟨by omega, by omega⟩
  have hinX := t_wkX_in hz hw h21 hp h16 (t_wd σ w 2).toNat
  have hX : e_E mX6_walk 281 [.ref 384, e_i w, .retAddr 0, .retAddr 0, .retAddr 0, .retAddr 0, .retAddr 0, .retAddr 0, .retAddr 0, .retAddr 0] [] (t_H (t_wkX w σ).1 h0) 0 0 4 (e_rev (t_H (t_wk w σ) h0)) := by
    have e1 : (t_wkX w σ).1 1 = σ 1 := (hinX.1 1 (by decide) (by decide) (by decide) (by decide)).trans (k0 (by decide) (by decide))
    have e15 : (t_wkX w σ).1 15 = σ 15 := (hinX.1 15 (by decide) (by decide) (by decide) (by decide)).trans (k0 (by decide) (by decide))
    have e21 : (t_wkX w σ).1 21 = σ 21 := (hinX.1 21 (by decide) (by decide) (by decide) (by decide)).trans (k0 (by decide) (by decide))
    have e25 : (t_wkX w σ).1 25 = σ 25 := (hinX.1 25 (by decide) (by decide) (by decide) (by decide)).trans (k0 (by decide) (by decide))
    exact P_walk_281 (σ := (t_wkX w σ).1) (by unfold t_sz; rw [e1]; exact hz) hw0 (by unfold t_hrg; rw [e25]; exact hh) (by unfold t_b01; rw [e15]; exact h15) (by unfold t_b01; rw [e21]; exact h21) hinX.2.1
  refine e_enter (al0 := [.ref 384, e_i w, .retAddr 0, .retAddr 0, .retAddr 0, .retAddr 0, .retAddr 0, .retAddr 0, .retAddr 0, .retAddr 0]) (by decide +kernel) rfl (Nat.le_of_ble_eq_true rfl) ?_
  refine e_iconst dX6_walk_0 ?_
  refine e_istore_n2 dX6_walk_1 rfl ?_
  refine e_for (n := 80) (fun i => e_E mX6_walk 2 [.ref 384, e_i w, e_i i, .retAddr 0, .retAddr 0, .retAddr 0, .retAddr 0, .retAddr 0, .retAddr 0, .retAddr 0] [] (t_H (t_it t_wk1f i.toNat (σ)) h0) _ _ _ _) (by omega) ?_ (fun i hi0 hi1 hF => ?_)
  · show e_E _ _ _ _ (t_H (t_wk0 σ) h0) _ _ _ _
    refine e_iload_n dX6_walk_2 rfl ?_
    refine e_bipush dX6_walk_3 rfl ?_
    refine e_icmp_ge (tgt := 33) dX6_walk_5 rfl ⟨by omega, by omega⟩ ⟨by omega, by omega⟩ (fun c1 => ?_) (fun q => by exfalso; omega)
    refine e_aload_n dX6_walk_33 rfl ?_
    refine e_iload_n dX6_walk_34 rfl ?_
    refine e_iconst dX6_walk_35 ?_
    refine e_callV2rz (ci := 6) dX6_walk_36 md_X6_widowOf lk_X6_267 rfl q2064 qs82 (t_obj _ _) (by decide) rfl (Nat.le_of_ble_eq_true rfl) (C_X6_widowOf ⟨by omega, by omega⟩ ⟨by omega, by omega⟩) ?_
    refine e_istore_n2 dX6_walk_39 rfl ?_
    refine e_aload_n dX6_walk_40 rfl ?_
    refine t_geta (k := 16) dX6_walk_41 fl_X6_37 rfl ?_
    refine e_iload_n dX6_walk_44 rfl ?_
    refine t_ild 7 dX6_walk_45 rfl (by decide) (fun _ => rfl) rfl ⟨by omega, by omega⟩ ?_
    refine e_istore_n3 dX6_walk_46 rfl ?_
    refine e_bipush dX6_walk_47 rfl ?_
    refine e_iload_n dX6_walk_49 rfl ?_
    refine e_imul dX6_walk_50 ?_
    refine e_istore4 dX6_walk_51 rfl ?_
    refine e_aload_n dX6_walk_53 rfl ?_
    refine t_geta (k := 26) dX6_walk_54 fl_X6_55 rfl ?_
    refine e_iload dX6_walk_57 rfl ?_
    refine e_iload_n dX6_walk_59 rfl ?_
    refine t_ist 287 dX6_walk_60 rfl (by decide) rfl rfl ⟨by omega, by omega⟩ ?_
    refine e_aload_n dX6_walk_61 rfl ?_
    refine t_geta (k := 23) dX6_walk_62 fl_X6_46 rfl ?_
    refine e_iload_n dX6_walk_65 rfl ?_
    refine e_iconst dX6_walk_66 ?_
    refine t_zst 80 dX6_walk_67 rfl (by decide) rfl (Or.inr rfl) rfl ⟨by omega, by omega⟩ ?_
    refine e_aload_n dX6_walk_68 rfl ?_
    refine t_geta (k := 27) dX6_walk_69 fl_X6_58 rfl ?_
    refine e_iload_n dX6_walk_72 rfl ?_
    refine e_iconst dX6_walk_73 ?_
    refine t_ist 7 dX6_walk_74 rfl (by decide) rfl rfl ⟨by omega, by omega⟩ ?_
    refine e_iconst dX6_walk_75 ?_
    refine e_istore5 dX6_walk_76 rfl ?_
    refine e_iconst dX6_walk_78 ?_
    refine e_istore6 dX6_walk_79 rfl ?_
    refine e_for (n := t_wd σ w 2) (fun i => e_E mX6_walk 81 [.ref 384, e_i w, e_i (t_it (t_stp w) i.toNat (t_wkx w σ)).2.2.1, e_i (t_it (t_stp w) i.toNat (t_wkx w σ)).2.1, e_i (41 * w), e_i (t_it (t_stp w) i.toNat (t_wkx w σ)).2.2.2, e_i i, .retAddr 0, .retAddr 0, .retAddr 0] [] (t_H (t_it (t_stp w) i.toNat (t_wkx w σ)).1 h0) _ _ _ _) (by omega) ?_ (fun i hi0 hi1 hF => ?_)
    · have e1 : t_wd (t_wkX w σ).1 w 2 = t_wd σ w 2 := congrFun ((hinX.1 1 (by decide) (by decide) (by decide) (by decide)).trans (k0 (by decide) (by decide))) _
      have e2 : t_it (t_stp w) (t_wd σ w 2).toNat (t_wkx w σ) = t_wkX w σ := rfl
      rw [e2]
      refine e_iload dX6_walk_81 rfl ?_
      refine e_aload_n dX6_walk_83 rfl ?_
      refine e_iload_n dX6_walk_84 rfl ?_
      refine e_iconst dX6_walk_85 ?_
      refine e_callV2rz (ci := 6) dX6_walk_86 md_X6_widowOf lk_X6_267 rfl q2064 qs82 (t_obj _ _) (by decide) rfl (Nat.le_of_ble_eq_true rfl) (C_X6_widowOf ⟨by omega, by omega⟩ ⟨by omega, by omega⟩) ?_
      refine e_icmp_ge (tgt := 281) dX6_walk_89 rfl ⟨by omega, by omega⟩ ⟨by omega, by omega⟩ (fun c2 => ?_) (fun q => by exfalso; omega)
      exact e_fgs [2, 3, 4, 5, 6] hX
    · have hin := t_wkX_in hz hw h21 hp h16 i.toNat
      have hst := t_stp_stop (w := w) (x0 := t_wkx w σ) (i := i.toNat) (n := (t_wd σ w 2).toNat) (by omega)
      rw [t_it_s _ _ hi0] at hF
      generalize t_it (t_stp w) i.toNat (t_wkx w σ) = x at hF hin hst ⊢
      have m1 : ∀ {k : Nat}, k ≠ 22 → k ≠ 23 → k ≠ 24 → k ≠ 26 → k ≠ 27 → x.1 k = σ k := fun a b c d e => (hin.1 _ b c d e).trans (k0 a b)
      have j1 : x.1 1 = σ 1 := m1 (by decide) (by decide) (by decide) (by decide) (by decide)
      have j16 := m1 (k := 16) (by decide) (by decide) (by decide) (by decide) (by decide)
      have j17e := congrFun (m1 (k := 17) (by decide) (by decide) (by decide) (by decide) (by decide)) 0
      have j19 := congrFun (m1 (k := 19) (by decide) (by decide) (by decide) (by decide) (by decide)) 0
      have j20 := congrFun (m1 (k := 20) (by decide) (by decide) (by decide) (by decide) (by decide)) 0
      have jz : t_sz x.1 := by unfold t_sz; rw [j1]; exact hz
      have j15 : t_b01 x.1 15 := by unfold t_b01; rw [m1 (k := 15) (by decide) (by decide) (by decide) (by decide) (by decide)]; exact h15
      have j22 : t_b01 x.1 22 := by unfold t_b01; rw [hin.1 22 (by decide) (by decide) (by decide) (by decide)]; exact (t_wk0_b h21).1
      have j17 : 0 ≤ x.1 17 0 ∧ x.1 17 0 < 4 := by rw [j17e]; exact h17
      have jd2 : t_wd x.1 w 2 = t_wd σ w 2 := congrFun j1 _
      have jd4 : t_wd x.1 w 4 = t_wd σ w 4 := congrFun j1 _
      have jo : t_oneR x.1 := by unfold t_oneR; rw [j19, j20]; exact ho
      have jo1 := jo.1
      have jw : t_okW (x.1 1) w := by rw [j1]; exact hw
      have jt := t_turn_rg (k := i) jw hw0.1 jo
      have jf := hin.2.2.2.1
      have jc := hin.2.2.2.2.1
      have jg := hin.2.2.2.2.2.1
      have j27 := hin.2.2.2.2.2.2
      refine e_iload dX6_walk_81 rfl ?_
      refine e_aload_n dX6_walk_83 rfl ?_
      refine e_iload_n dX6_walk_84 rfl ?_
      refine e_iconst dX6_walk_85 ?_
      refine e_callV2rz (ci := 6) dX6_walk_86 md_X6_widowOf lk_X6_267 rfl q2064 qs82 (t_obj _ _) (by decide) rfl (Nat.le_of_ble_eq_true rfl) (C_X6_widowOf ⟨by omega, by omega⟩ ⟨by omega, by omega⟩) ?_
      refine e_icmp_ge (tgt := 281) dX6_walk_89 rfl ⟨by omega, by omega⟩ ⟨by omega, by omega⟩ (fun q => by exfalso; omega) (fun c3 => ?_)
      refine e_iload dX6_walk_92 rfl ?_
      refine e_if_eq (tgt := 281) dX6_walk_94 rfl ⟨by omega, by omega⟩ (fun kg => ?_) (fun kg => ?_)
      · have e3 := hst (by omega)
        rw [show t_wkX w σ = x from e3] at hX
        exact e_fgs [2, 3, 4, 5, 6] hX
      · refine e_iload_n dX6_walk_97 rfl ?_
        refine e_aload_n dX6_walk_98 rfl ?_
        refine e_iload_n dX6_walk_99 rfl ?_
        refine e_iload dX6_walk_100 rfl ?_
        refine e_callV2rz (ci := 6) dX6_walk_102 md_X6_turnAt lk_X6_298 rfl q2111 qs91 (t_obj _ _) (by decide) rfl (Nat.le_of_ble_eq_true rfl) (C_X6_turnAt ⟨by omega, by omega⟩ ⟨by omega, by omega⟩ ⟨by omega, by omega⟩ ⟨by omega, by omega⟩) ?_
        refine e_iadd dX6_walk_105 ?_
        refine e_iconst dX6_walk_106 ?_
        refine e_irem dX6_walk_107 ⟨by omega, by omega⟩ ⟨by omega, by omega⟩ ?_
        refine e_istore_n3 dX6_walk_108 rfl ?_
        refine e_aload_n dX6_walk_109 rfl ?_
        refine e_iload_n dX6_walk_110 rfl ?_
        refine e_aload_n dX6_walk_111 rfl ?_
        refine t_geti (k := 17) dX6_walk_112 fl_X6_270 rfl ?_
        refine e_callV2rz (ci := 6) dX6_walk_115 md_X6_isAnyFree lk_X6_301 rfl q2115 qs92 (t_obj _ _) (by decide) rfl (Nat.le_of_ble_eq_true rfl) (C_X6_isAnyFree jz j15 j22 hin.2.1 hin.2.2.2.2.1 j17) ?_
        have hA := t_anyI_01 x.1 x.2.2.1 (x.1 17 0) 4
        refine e_if_eq (tgt := 128) dX6_walk_118 rfl ⟨by omega, by omega⟩ (fun ka => ?_) (fun ka => ?_)
        · refine e_iconst dX6_walk_128 ?_
          have e5 : x = (x.1, x.2.1, x.2.2.1, 1) := by
            obtain ⟨x1, x2, x3, x4⟩ := x
            have : x4 = 1 := by have q := jg; dsimp only at q kg; omega
            rw [this]
          have h129 := P_walk_129 (h0 := h0) (f0 := x.2.1) (law := t_law x.1 x.2.2.1) (k := i) jz hw0 jc (f := (x.2.1 + t_turn x.1 w i) % 4) ⟨by omega, by omega⟩ (by show 0 ≤ (if _ then _ else (0 : Int)) ∧ (if _ then _ else (0 : Int)) < 4; split <;> omega) j17 j15 j22 hin.2.1 hin.2.2.1 ⟨by omega, by omega⟩ (by
            have q : t_stp w i x = t_stpA w i x ((x.2.1 + t_turn x.1 w i) % 4) (t_trn x.1 x.2.2.1 ((x.2.1 + t_turn x.1 w i) % 4) (t_law x.1 x.2.2.1) 4 0) := if_pos (by omega)
            rw [q] at hF
            rw [← e5]
            exact hF)
          have jg1 : x.2.2.2 = 1 := by omega
          rw [jg1]
          first
            | (have q : t_law x.1 x.2.2.1 = 0 := if_neg (by omega)
               rw [q] at h129; exact h129)
            | (have q : t_law x.1 x.2.2.1 = x.1 17 0 := if_pos (by omega)
               rw [q] at h129; exact h129)
        · refine e_aload_n dX6_walk_121 rfl ?_
          refine t_geti (k := 17) dX6_walk_122 fl_X6_270 rfl ?_
          refine e_goto (tgt := 129) dX6_walk_125 rfl ?_
          have e5 : x = (x.1, x.2.1, x.2.2.1, 1) := by
            obtain ⟨x1, x2, x3, x4⟩ := x
            have : x4 = 1 := by have q := jg; dsimp only at q kg; omega
            rw [this]
          have h129 := P_walk_129 (h0 := h0) (f0 := x.2.1) (law := t_law x.1 x.2.2.1) (k := i) jz hw0 jc (f := (x.2.1 + t_turn x.1 w i) % 4) ⟨by omega, by omega⟩ (by show 0 ≤ (if _ then _ else (0 : Int)) ∧ (if _ then _ else (0 : Int)) < 4; split <;> omega) j17 j15 j22 hin.2.1 hin.2.2.1 ⟨by omega, by omega⟩ (by
            have q : t_stp w i x = t_stpA w i x ((x.2.1 + t_turn x.1 w i) % 4) (t_trn x.1 x.2.2.1 ((x.2.1 + t_turn x.1 w i) % 4) (t_law x.1 x.2.2.1) 4 0) := if_pos (by omega)
            rw [q] at hF
            rw [← e5]
            exact hF)
          have jg1 : x.2.2.2 = 1 := by omega
          rw [jg1]
          first
            | (have q : t_law x.1 x.2.2.1 = 0 := if_neg (by omega)
               rw [q] at h129; exact h129)
            | (have q : t_law x.1 x.2.2.1 = x.1 17 0 := if_pos (by omega)
               rw [q] at h129; exact h129)
  · rw [t_it_s _ _ hi0] at hF
    generalize hτ : t_it t_wk1f i.toNat (σ) = τ at hF ⊢
    have i21 : τ 21 i = 0 ∨ τ 21 i = 1 := by rw [← hτ]; exact t_wk0_s h21 i hi0 hi1
    refine e_iload_n dX6_walk_2 rfl ?_
    refine e_bipush dX6_walk_3 rfl ?_
    refine e_icmp_ge (tgt := 33) dX6_walk_5 rfl ⟨by omega, by omega⟩ ⟨by omega, by omega⟩ (fun q => by exfalso; omega) (fun c6 => ?_)
    refine e_aload_n dX6_walk_8 rfl ?_
    refine t_geta (k := 22) dX6_walk_9 fl_X6_43 rfl ?_
    refine e_iload_n dX6_walk_12 rfl ?_
    refine e_aload_n dX6_walk_13 rfl ?_
    refine t_geta (k := 21) dX6_walk_14 fl_X6_40 rfl ?_
    refine e_iload_n dX6_walk_17 rfl ?_
    refine t_zld 80 dX6_walk_18 rfl (by decide) (fun _ => rfl) rfl ⟨by omega, by omega⟩ ?_
    refine t_zst 80 dX6_walk_19 rfl (by decide) rfl i21 rfl ⟨by omega, by omega⟩ ?_
    refine e_aload_n dX6_walk_20 rfl ?_
    refine t_geta (k := 23) dX6_walk_21 fl_X6_46 rfl ?_
    refine e_iload_n dX6_walk_24 rfl ?_
    refine e_iconst dX6_walk_25 ?_
    refine t_zst 80 dX6_walk_26 rfl (by decide) rfl (Or.inl rfl) rfl ⟨by omega, by omega⟩ ?_
    refine e_iinc2 dX6_walk_27 rfl ?_
    refine e_goto (tgt := 2) dX6_walk_30 rfl ?_
    exact hF
theorem P_goAll_95 {σ : t_S} {h0 : e_A} {y : Int} {Q : e_R → e_A → Prop} (ha : t_ask σ) (h21 : t_b01 σ 21) (hp : t_prg σ) (hh : t_hrg σ) (hy : 0 ≤ y ∧ y ≤ σ 1 0) (hF0 : e_E mX6_goAll 87 [.ref 384, e_i (y + 1), .retAddr 0] [] (t_H (t_yr y σ) h0) 0 0 5 Q) : e_E mX6_goAll 95 [.ref 384, e_i y, .retAddr 0] [] (t_H σ h0) 0 0 5 (Q) := by
  have hz := ha.1
  have hz0 := hz.1
  have hz7 := hz.2.2.2.2.2.1
  have hG : t_inG σ σ := ⟨fun _ _ => rfl, h21, hp, hh⟩
  have hN0 : ∃ N : Int, (y < σ 1 0 ∧ N = σ 1 7 ∨ σ 1 0 ≤ y ∧ N = 0) ∧ N.toNat = (if y < σ 1 0 then (σ 1 7).toNat else 0) := by
    refine ⟨if y < σ 1 0 then σ 1 7 else 0, ?_, ?_⟩ <;> split <;> simp <;> omega
  obtain ⟨N, hN, hN2⟩ := hN0
  refine e_aload_n dX6_goAll_95 rfl ?_
  refine e_iload_n dX6_goAll_96 rfl ?_
  refine e_callV1vz (ci := 6) dX6_goAll_97 md_X6_keepYear lk_X6_320 rfl q2100 qs89 (t_obj _ _) (by decide) rfl (Nat.le_of_ble_eq_true rfl) (C_X6_keepYear ⟨by omega, by omega⟩ h21) ?_
  refine e_iconst dX6_goAll_100 ?_
  refine e_istore_n2 dX6_goAll_101 rfl ?_
  refine e_for (n := N) (fun i => e_E mX6_goAll 102 [.ref 384, e_i y, e_i i] [] (t_H (t_it (t_yrf y) i.toNat (t_kp y σ)) h0) _ _ _ _) (by omega) ?_ (fun i hi0 hi1 hF => ?_)
  · have e1 : t_it (t_yrf y) N.toNat (t_kp y σ) = t_yr y σ := by unfold t_yr; rw [hN2]
    rw [e1]
    have hY := t_yr_in (y := y) ha hG
    have y0 := congrFun (hY.1 1 (by omega)) 0
    have y7 := congrFun (hY.1 1 (by omega)) 7
    refine e_iload_n dX6_goAll_102 rfl ?_
    refine e_aload_n dX6_goAll_103 rfl ?_
    refine e_callV0rz (ci := 6) dX6_goAll_104 md_X6_widows lk_X6_110 rfl q2059 qs81 (t_obj _ _) (by decide) rfl (Nat.le_of_ble_eq_true rfl) (C_X6_widows) ?_
    refine e_icmp_ge (tgt := 151) dX6_goAll_107 rfl ⟨by omega, by omega⟩ ⟨by omega, by omega⟩ (fun c1 => ?_) (fun c1 => ?_)
    · refine e_iinc1 dX6_goAll_151 rfl ?_
      refine e_goto (tgt := 87) dX6_goAll_154 rfl ?_
      exact e_fgt 2 hF0
    · refine e_iload_n dX6_goAll_110 rfl ?_
      refine e_aload_n dX6_goAll_111 rfl ?_
      refine e_callV0rz (ci := 6) dX6_goAll_112 md_X6_years lk_X6_118 rfl q2096 qs88 (t_obj _ _) (by decide) rfl (Nat.le_of_ble_eq_true rfl) (C_X6_years) ?_
      refine e_icmp_ge (tgt := 151) dX6_goAll_115 rfl ⟨by omega, by omega⟩ ⟨by omega, by omega⟩ (fun c2 => ?_) (fun c2 => ?_)
      · refine e_iinc1 dX6_goAll_151 rfl ?_
        refine e_goto (tgt := 87) dX6_goAll_154 rfl ?_
        exact e_fgt 2 hF0
      · exfalso; omega
  · rw [t_it_s _ _ hi0] at hF
    generalize hτ : t_it (t_yrf y) i.toNat (t_kp y σ) = τ at hF ⊢
    have hT := t_yrl_in (y := y) ha hG (n := i.toNat) (by omega)
    rw [hτ] at hT
    have ta := t_inG_ask ha hT
    have t1 := hT.1 1 (by omega)
    have t10 := congrFun t1 0
    have t17 := congrFun t1 7
    have tw : t_okW (τ 1) i := by rw [t1]; exact ha.2.1.2.2.1 i hi0 (by omega)
    have tw3 : 0 ≤ t_wd τ i 3 ∧ t_wd τ i 3 < 12 := tw.2.2.2.1
    refine e_iload_n dX6_goAll_102 rfl ?_
    refine e_aload_n dX6_goAll_103 rfl ?_
    refine e_callV0rz (ci := 6) dX6_goAll_104 md_X6_widows lk_X6_110 rfl q2059 qs81 (t_obj _ _) (by decide) rfl (Nat.le_of_ble_eq_true rfl) (C_X6_widows) ?_
    refine e_icmp_ge (tgt := 151) dX6_goAll_107 rfl ⟨by omega, by omega⟩ ⟨by omega, by omega⟩ (fun q => by exfalso; omega) (fun c3 => ?_)
    refine e_iload_n dX6_goAll_110 rfl ?_
    refine e_aload_n dX6_goAll_111 rfl ?_
    refine e_callV0rz (ci := 6) dX6_goAll_112 md_X6_years lk_X6_118 rfl q2096 qs88 (t_obj _ _) (by decide) rfl (Nat.le_of_ble_eq_true rfl) (C_X6_years) ?_
    refine e_icmp_ge (tgt := 151) dX6_goAll_115 rfl ⟨by omega, by omega⟩ ⟨by omega, by omega⟩ (fun q => by exfalso; omega) (fun c4 => ?_)
    refine e_aload_n dX6_goAll_118 rfl ?_
    refine e_iload_n dX6_goAll_119 rfl ?_
    refine e_iconst dX6_goAll_120 ?_
    refine e_callV2rz (ci := 6) dX6_goAll_121 md_X6_widowOf lk_X6_267 rfl q2064 qs82 (t_obj _ _) (by decide) rfl (Nat.le_of_ble_eq_true rfl) (C_X6_widowOf ⟨by omega, by omega⟩ ⟨by omega, by omega⟩) ?_
    refine e_iload_n dX6_goAll_124 rfl ?_
    refine e_icmp_ne (tgt := 145) dX6_goAll_125 rfl ⟨by omega, by omega⟩ ⟨by omega, by omega⟩ (fun c5 => ?_) (fun c5 => ?_)
    · refine e_iinc2 dX6_goAll_145 rfl ?_
      refine e_goto (tgt := 102) dX6_goAll_148 rfl ?_
      first
        | (unfold t_yrf at hF; rw [if_pos (by omega)] at hF; exact hF)
        | (unfold t_yrf at hF; rw [if_neg (by omega)] at hF; exact hF)
    · refine e_aload_n dX6_goAll_128 rfl ?_
      refine t_geti (k := 18) dX6_goAll_129 fl_X6_276 rfl ?_
      refine e_iload_n dX6_goAll_132 rfl ?_
      have t18 := ta.2.2.2.2.2.1
      refine e_callS2rz dX6_goAll_133 md_X6_bit lk_X6_323 rfl q2103 rfl (Nat.le_of_ble_eq_true rfl) (C_X6_bit ⟨by omega, by omega⟩ ⟨by omega, by omega⟩) ?_
      have tb := e_bt01 (τ 18 0) i
      refine e_iconst dX6_goAll_136 ?_
      refine e_icmp_ne (tgt := 145) dX6_goAll_137 rfl ⟨by omega, by omega⟩ ⟨by omega, by omega⟩ (fun c6 => ?_) (fun c6 => ?_)
      · refine e_iinc2 dX6_goAll_145 rfl ?_
        refine e_goto (tgt := 102) dX6_goAll_148 rfl ?_
        first
          | (unfold t_yrf at hF; rw [if_pos (by omega)] at hF; exact hF)
          | (unfold t_yrf at hF; rw [if_neg (by omega)] at hF; exact hF)
      · refine e_aload_n dX6_goAll_140 rfl ?_
        refine e_iload_n dX6_goAll_141 rfl ?_
        refine e_callV1vz (ci := 6) dX6_goAll_142 md_X6_walk lk_X6_326 rfl q2107 qs90 (t_obj _ _) (by decide) rfl (Nat.le_of_ble_eq_true rfl) (C_X6_walk ta.1 ⟨by omega, by omega⟩ tw hT.2.2.2 hT.2.2.1 ta.2.2.1 hT.2.1 (ta.2.2.2.1 i hi0 (by omega)) ta.2.2.2.2.1 ta.2.2.2.2.2.2) ?_
        refine e_iinc2 dX6_goAll_145 rfl ?_
        refine e_goto (tgt := 102) dX6_goAll_148 rfl ?_
        first
          | (unfold t_yrf at hF; rw [if_pos (by omega)] at hF; exact hF)
          | (unfold t_yrf at hF; rw [if_neg (by omega)] at hF; exact hF)
theorem C_X6_goAll {σ : t_S} {h0 : e_A} (ha : t_ask σ) : e_C mX6_goAll [.ref 384] (t_H σ h0) 0 0 5 (e_rev (t_H (t_ga σ) h0)) := by
  have hz0 := ha.1.1
  have h22 := ha.2.1.2.2.2.2.1
  refine e_enter (al0 := [.ref 384, .retAddr 0, .retAddr 0]) (by decide +kernel) rfl (Nat.le_of_ble_eq_true rfl) ?_
  refine e_iconst dX6_goAll_0 ?_
  refine e_istore_n1 dX6_goAll_1 rfl ?_
  refine e_for (n := 80) (fun i => e_E mX6_goAll 2 [.ref 384, e_i i, .retAddr 0] [] (t_H (t_it t_ga1f i.toNat (σ)) h0) _ _ _ _) (by omega) ?_ (fun i hi0 hi1 hF => ?_)
  · refine e_iload_n dX6_goAll_2 rfl ?_
    refine e_bipush dX6_goAll_3 rfl ?_
    refine e_icmp_ge (tgt := 28) dX6_goAll_5 rfl ⟨by omega, by omega⟩ ⟨by omega, by omega⟩ (fun c1 => ?_) (fun q => by exfalso; omega)
    refine e_iconst dX6_goAll_28 ?_
    refine e_istore_n1 dX6_goAll_29 rfl ?_
    refine e_for (n := 6) (fun i => e_E mX6_goAll 30 [.ref 384, e_i i, .retAddr 0] [] (t_H (t_it t_ga2f i.toNat (t_it t_ga1f 80 σ)) h0) _ _ _ _) (by omega) ?_ (fun i hi0 hi1 hF => ?_)
    · refine e_iload_n dX6_goAll_30 rfl ?_
      refine e_bipush dX6_goAll_31 rfl ?_
      refine e_icmp_ge (tgt := 64) dX6_goAll_33 rfl ⟨by omega, by omega⟩ ⟨by omega, by omega⟩ (fun c2 => ?_) (fun q => by exfalso; omega)
      refine e_iconst dX6_goAll_64 ?_
      refine e_istore_n1 dX6_goAll_65 rfl ?_
      refine e_for (n := 7) (fun i => e_E mX6_goAll 66 [.ref 384, e_i i, .retAddr 0] [] (t_H (t_it t_ga3f i.toNat (t_it t_ga2f 6 (t_it t_ga1f 80 σ))) h0) _ _ _ _) (by omega) ?_ (fun i hi0 hi1 hF => ?_)
      · show e_E _ _ _ _ (t_H (t_ga0 σ) h0) _ _ _ _
        refine e_iload_n dX6_goAll_66 rfl ?_
        refine e_bipush dX6_goAll_67 rfl ?_
        refine e_icmp_ge (tgt := 85) dX6_goAll_69 rfl ⟨by omega, by omega⟩ ⟨by omega, by omega⟩ (fun c3 => ?_) (fun q => by exfalso; omega)
        refine e_iconst dX6_goAll_85 ?_
        refine e_istore_n1 dX6_goAll_86 rfl ?_
        refine e_for (n := (σ 1 0 + 1)) (fun i => e_E mX6_goAll 87 [.ref 384, e_i i, .retAddr 0] [] (t_H (t_it t_yr i.toNat (t_ga0 σ)) h0) _ _ _ _) (by omega) ?_ (fun i hi0 hi1 hF => ?_)
        · show e_E _ _ _ _ (t_H (t_ga σ) h0) _ _ _ _
          have g0 : t_ga σ 1 0 = σ 1 0 := congrFun ((t_ga_in ha _).1 1 (by omega)) 0
          refine e_iload_n dX6_goAll_87 rfl ?_
          refine e_aload_n dX6_goAll_88 rfl ?_
          refine e_callV0rz (ci := 6) dX6_goAll_89 md_X6_years lk_X6_118 rfl q2096 qs88 (t_obj _ _) (by decide) rfl (Nat.le_of_ble_eq_true rfl) (C_X6_years) ?_
          refine e_icmp_gt (tgt := 157) dX6_goAll_92 rfl ⟨by omega, by omega⟩ ⟨by omega, by omega⟩ (fun c4 => ?_) (fun q => by exfalso; omega)
          refine e_return dX6_goAll_157 rfl ?_
          exact ⟨rfl, rfl⟩
        · rw [t_it_s _ _ hi0] at hF
          generalize hτ : t_it t_yr i.toNat (t_ga0 σ) = τ at hF ⊢
          have hT := t_ga_in ha i.toNat
          rw [hτ] at hT
          have ta := t_inG_ask ha hT
          have t10 := congrFun (hT.1 1 (by omega)) 0
          refine e_iload_n dX6_goAll_87 rfl ?_
          refine e_aload_n dX6_goAll_88 rfl ?_
          refine e_callV0rz (ci := 6) dX6_goAll_89 md_X6_years lk_X6_118 rfl q2096 qs88 (t_obj _ _) (by decide) rfl (Nat.le_of_ble_eq_true rfl) (C_X6_years) ?_
          refine e_icmp_gt (tgt := 157) dX6_goAll_92 rfl ⟨by omega, by omega⟩ ⟨by omega, by omega⟩ (fun q => by exfalso; omega) (fun c5 => ?_)
          exact P_goAll_95 ta hT.2.1 hT.2.2.1 hT.2.2.2 ⟨hi0, by omega⟩ hF
      · rw [t_it_s _ _ hi0] at hF
        generalize hτ : t_it t_ga3f i.toNat (t_it t_ga2f 6 (t_it t_ga1f 80 σ)) = τ at hF ⊢
        refine e_iload_n dX6_goAll_66 rfl ?_
        refine e_bipush dX6_goAll_67 rfl ?_
        refine e_icmp_ge (tgt := 85) dX6_goAll_69 rfl ⟨by omega, by omega⟩ ⟨by omega, by omega⟩ (fun q => by exfalso; omega) (fun c6 => ?_)
        refine e_aload_n dX6_goAll_72 rfl ?_
        refine t_geta (k := 27) dX6_goAll_73 fl_X6_58 rfl ?_
        refine e_iload_n dX6_goAll_76 rfl ?_
        refine e_iconst dX6_goAll_77 ?_
        refine t_ist 7 dX6_goAll_78 rfl (by decide) rfl rfl ⟨by omega, by omega⟩ ?_
        refine e_iinc1 dX6_goAll_79 rfl ?_
        refine e_goto (tgt := 66) dX6_goAll_82 rfl ?_
        exact hF
    · rw [t_it_s _ _ hi0] at hF
      generalize hτ : t_it t_ga2f i.toNat (t_it t_ga1f 80 σ) = τ at hF ⊢
      refine e_iload_n dX6_goAll_30 rfl ?_
      refine e_bipush dX6_goAll_31 rfl ?_
      refine e_icmp_ge (tgt := 64) dX6_goAll_33 rfl ⟨by omega, by omega⟩ ⟨by omega, by omega⟩ (fun q => by exfalso; omega) (fun c7 => ?_)
      refine e_aload_n dX6_goAll_36 rfl ?_
      refine t_geta (k := 25) dX6_goAll_37 fl_X6_52 rfl ?_
      refine e_iload_n dX6_goAll_40 rfl ?_
      refine e_aload_n dX6_goAll_41 rfl ?_
      refine t_geta (k := 1) dX6_goAll_42 fl_X6_9 rfl ?_
      refine e_bipush dX6_goAll_45 rfl ?_
      refine e_iload_n dX6_goAll_47 rfl ?_
      refine e_iadd dX6_goAll_48 ?_
      refine t_ild 149 dX6_goAll_49 rfl (by decide) (fun _ => rfl) rfl ⟨by omega, by omega⟩ ?_
      refine t_ist 6 dX6_goAll_50 rfl (by decide) rfl rfl ⟨by omega, by omega⟩ ?_
      refine e_aload_n dX6_goAll_51 rfl ?_
      refine t_geta (k := 29) dX6_goAll_52 fl_X6_64 rfl ?_
      refine e_iload_n dX6_goAll_55 rfl ?_
      refine e_iconst dX6_goAll_56 ?_
      refine t_ist 6 dX6_goAll_57 rfl (by decide) rfl rfl ⟨by omega, by omega⟩ ?_
      refine e_iinc1 dX6_goAll_58 rfl ?_
      refine e_goto (tgt := 30) dX6_goAll_61 rfl ?_
      exact hF
  · rw [t_it_s _ _ hi0] at hF
    generalize hτ : t_it t_ga1f i.toNat (σ) = τ at hF ⊢
    refine e_iload_n dX6_goAll_2 rfl ?_
    refine e_bipush dX6_goAll_3 rfl ?_
    refine e_icmp_ge (tgt := 28) dX6_goAll_5 rfl ⟨by omega, by omega⟩ ⟨by omega, by omega⟩ (fun q => by exfalso; omega) (fun c8 => ?_)
    refine e_aload_n dX6_goAll_8 rfl ?_
    refine t_geta (k := 21) dX6_goAll_9 fl_X6_40 rfl ?_
    refine e_iload_n dX6_goAll_12 rfl ?_
    refine e_iconst dX6_goAll_13 ?_
    refine t_zst 80 dX6_goAll_14 rfl (by decide) rfl (Or.inl rfl) rfl ⟨by omega, by omega⟩ ?_
    refine e_aload_n dX6_goAll_15 rfl ?_
    refine t_geta (k := 24) dX6_goAll_16 fl_X6_49 rfl ?_
    refine e_iload_n dX6_goAll_19 rfl ?_
    refine e_iconst dX6_goAll_20 ?_
    refine t_ist 80 dX6_goAll_21 rfl (by decide) rfl rfl ⟨by omega, by omega⟩ ?_
    refine e_iinc1 dX6_goAll_22 rfl ?_
    refine e_goto (tgt := 2) dX6_goAll_25 rfl ?_
    exact hF
