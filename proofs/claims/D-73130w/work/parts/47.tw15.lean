/-! THE TWIN: fog, shares (printed by tw15.py) -/
set_option maxRecDepth 100000
theorem C_X6_layFog {σ : t_S} {h0 : e_A} (hz : t_sz σ) (hr : t_okR (σ 1)) {c : Int} (hc : 0 ≤ c ∧ c < 80) : e_C mX6_layFog [.ref 384, e_i c] (t_H σ h0) 0 0 7 (e_rev (t_H (t_fg c σ) h0)) := by
  refine e_enter (al0 := [.ref 384, e_i c, .retAddr 0, .retAddr 0, .retAddr 0, .retAddr 0, .retAddr 0]) (by decide +kernel) rfl (Nat.le_of_ble_eq_true rfl) ?_
  refine e_aload_n dX6_layFog_0 rfl ?_
  refine e_lconst (z := 0) dX6_layFog_1 rfl ?_
  refine t_putj (k := 39) dX6_layFog_2 fl_X6_486 rfl rfl ?_
  refine e_aload_n dX6_layFog_5 rfl ?_
  refine e_lconst (z := 0) dX6_layFog_6 rfl ?_
  refine t_putj (k := 40) dX6_layFog_7 fl_X6_490 rfl rfl ?_
  refine e_aload_n dX6_layFog_10 rfl ?_
  refine e_lconst (z := 0) dX6_layFog_11 rfl ?_
  refine t_putj (k := 41) dX6_layFog_12 fl_X6_493 rfl rfl ?_
  refine e_aload_n dX6_layFog_15 rfl ?_
  have hz1 : t_sz (s_up (s_up (s_up σ 39 0 0) 40 0 0) 41 0 0) := hz
  have hr1 : t_okR (s_up (s_up (s_up σ 39 0 0) 40 0 0) 41 0 0 1) := hr
  refine e_callV0vz (ci := 6) dX6_layFog_16 md_X6_beginSets lk_X6_457 rfl q2467 qs133 (t_obj _ _) (by decide) rfl (Nat.le_of_ble_eq_true rfl) (C_X6_beginSets hz1 hr1) ?_
  show e_E _ _ _ _ (t_H (t_fg0 σ) h0) _ _ _ _
  unfold t_fg
  obtain ⟨ha, h38, h00, hk⟩ := t_fg0_in hz hr
  rw [show σ 1 7 = t_fg0 σ 1 7 from (congrFun (hk 1 (by omega) (by decide) (by decide) (by decide) (by decide)) 7).symm]
  clear hk
  generalize t_fg0 σ = ρ at ha h38 h00 ⊢
  have hz9 := ha.1
  have s7 := ha.1.2.2.2.2.2.1
  have s2 : 0 ≤ ρ 1 2 ∧ ρ 1 2 ≤ 10 := ha.2.1.2.2.2.2.2.2.2
  have hp7 := t_p7 ha.1
  refine e_aload_n dX6_layFog_19 rfl ?_
  refine e_callV0rz (ci := 6) dX6_layFog_20 md_X6_widows lk_X6_110 rfl q2059 qs81 (t_obj _ _) (by decide) rfl (Nat.le_of_ble_eq_true rfl) (C_X6_widows) ?_
  refine e_istore_n2 dX6_layFog_23 rfl ?_
  refine e_iconst dX6_layFog_24 ?_
  refine e_istore_n3 dX6_layFog_25 rfl ?_
  refine e_for (n := 2 ^ (ρ 1 7).toNat) (fun i => e_E mX6_layFog 26 [.ref 384, e_i c, e_i (ρ 1 7), e_i i, .retAddr 0, .retAddr 0, .retAddr 0] [] (t_H (t_it (t_fgf c) i.toNat ρ) h0) _ _ _ _) (by omega) ?_ (fun i hi0 hi1 hF => ?_)
  · refine e_iload_n dX6_layFog_26 rfl ?_
    refine e_iconst dX6_layFog_27 ?_
    refine e_iload_n dX6_layFog_28 rfl ?_
    refine e_ishl dX6_layFog_29 (t_shl1 ⟨by omega, by omega⟩) ?_
    refine e_icmp_ge (tgt := 169) dX6_layFog_30 rfl ⟨by omega, by omega⟩ ⟨by omega, by omega⟩ (fun c1 => ?_) (fun q => by exfalso; omega)
    refine e_return dX6_layFog_169 rfl ?_
    exact ⟨rfl, rfl⟩
  · have hin := t_fgl_in (c := c) ha h38 h00 i.toNat
    rw [t_it_s _ _ hi0] at hF
    generalize t_it (t_fgf c) i.toNat ρ = x at hF hin ⊢
    rw [Int.toNat_of_nonneg hi0] at hin
    have hx1 : x 1 = ρ 1 := hin.1 1 (by omega) (by decide) (by decide) (by decide) (by decide)
    have hx17 := congrFun hx1 7
    have hx12 := congrFun hx1 2
    have xz := hin.2.1.1
    have hp7x := t_p7 xz
    have h38x : 0 ≤ x 38 0 ∧ x 38 0 < 2 ^ 7 := by rw [hin.1 38 (by omega) (by decide) (by decide) (by decide) (by decide)]; exact h38
    have ev : t_fgv x i = t_pv (x 1 2) (10 - x 1 2) i (ρ 1 7).toNat := by unfold t_fgv; rw [hx17]
    have hF2 : t_fgf c i x = if t_pv (x 1 2) (10 - x 1 2) i (ρ 1 7).toNat = 0 then x else t_fg3 c (t_pv (x 1 2) (10 - x 1 2) i (ρ 1 7).toNat) (t_pgl (t_fgw i x)) (t_fgw i x) := by
      rw [← ev]; rfl
    have hvr : 0 ≤ t_pv (x 1 2) (10 - x 1 2) i (ρ 1 7).toNat ∧ t_pv (x 1 2) (10 - x 1 2) i (ρ 1 7).toNat ≤ 10000000 := by rw [← ev]; exact t_fgv_rg xz hin.2.1.2.1 i (by omega)
    refine e_iload_n dX6_layFog_26 rfl ?_
    refine e_iconst dX6_layFog_27 ?_
    refine e_iload_n dX6_layFog_28 rfl ?_
    refine e_ishl dX6_layFog_29 (t_shl1 ⟨by omega, by omega⟩) ?_
    refine e_icmp_ge (tgt := 169) dX6_layFog_30 rfl ⟨by omega, by omega⟩ ⟨by omega, by omega⟩ (fun q => by exfalso; omega) (fun c2 => ?_)
    refine e_lconst (z := 1) dX6_layFog_33 rfl ?_
    refine e_lstore4 dX6_layFog_34 rfl ?_
    refine e_iconst dX6_layFog_36 ?_
    refine e_istore6 dX6_layFog_37 rfl ?_
    refine e_for (n := ρ 1 7) (fun w => e_E mX6_layFog 39 [.ref 384, e_i c, e_i (ρ 1 7), e_i i, e_j (t_pv (x 1 2) (10 - x 1 2) i w.toNat), .retAddr 0, e_i w] [] (t_H x h0) _ _ _ _) (by omega) ?_ (fun w hw0 hw1 hG => ?_)
    · generalize t_pv (x 1 2) (10 - x 1 2) i (ρ 1 7).toNat = v at hF2 hvr ⊢
      refine e_iload dX6_layFog_39 rfl ?_
      refine e_iload_n dX6_layFog_41 rfl ?_
      refine e_icmp_ge (tgt := 86) dX6_layFog_42 rfl ⟨by omega, by omega⟩ ⟨by omega, by omega⟩ (fun c3 => ?_) (fun q => by exfalso; omega)
      refine e_lload dX6_layFog_86 rfl ?_
      refine e_lconst (z := 0) dX6_layFog_88 rfl ?_
      refine e_lcmp_ne (tgt := 96) dX6_layFog_89 dX6_layFog_90 rfl ⟨by omega, by omega⟩ ⟨by omega, by omega⟩ (fun c4 => ?_) (fun c4 => ?_)
      · refine e_aload_n dX6_layFog_96 rfl ?_
        refine e_aload_n dX6_layFog_97 rfl ?_
        refine e_callV0rz (ci := 6) dX6_layFog_98 md_X6_allWidows lk_X6_273 rfl q2088 qs86 (t_obj _ _) (by decide) rfl (Nat.le_of_ble_eq_true rfl) (C_X6_allWidows xz) ?_
        refine e_iload_n dX6_layFog_101 rfl ?_
        refine e_iconst dX6_layFog_102 ?_
        refine e_ixor dX6_layFog_103 (e_not_law _) ?_
        refine e_iand dX6_layFog_104 (e_andn_law (by omega) hi0) ?_
        refine e_callV1rz (ci := 6) dX6_layFog_105 md_X6_worthOf lk_X6_460 rfl q2471 qs134 (t_obj _ _) (by decide) rfl (Nat.le_of_ble_eq_true rfl) (C_X6_worthOf hin.2.1 h38x (Int.natCast_nonneg _)) ?_
        show e_E _ _ _ (e_i (t_pgl (t_fgw i x)) :: _) (t_H (t_fgw i x) h0) _ _ _ _
        have hw := t_fgw_in (set := i) h38 hin.2.1 (hin.1 38 (by omega) (by decide) (by decide) (by decide) (by decide))
        obtain ⟨τ, hτ⟩ : ∃ τ, t_fgw i x = τ := ⟨_, rfl⟩
        rw [hτ] at hF2 hw ⊢
        have hpg : 0 ≤ t_pgl τ ∧ t_pgl τ ≤ 640 := t_pgm_rg _ _
        have s0 := hw.2.1.1.1
        have hh1 : t_hist (t_fg1 v τ) := t_hist_lt hw.2 (fun j hj => s_up_f (by omega))
        have hp : t_rdo τ c (τ 1 0) = 0 ∨ t_rdo τ c (τ 1 0) = 1 := (hw.2.2.1 (τ 1 0) c s0.1 (Int.le_refl _) hc.1 hc.2).1
        have eR : t_rdo (t_fg1 v τ) c (t_fg1 v τ 1 0) = t_rdo τ c (τ 1 0) := by
          unfold t_fg1
          show s_up τ 39 0 _ 30 (80 * s_up τ 39 0 _ 1 0 + c) = _
          rw [s_up_k (by decide), s_up_k (by decide)]
        refine e_istore6 dX6_layFog_108 rfl ?_
        refine e_aload_n dX6_layFog_110 rfl ?_
        refine e_dup dX6_layFog_111 rfl ?_
        refine t_getj (k := 39) dX6_layFog_112 fl_X6_486 rfl ?_
        refine e_lload dX6_layFog_115 rfl ?_
        refine e_ladd dX6_layFog_117 ?_
        refine t_putj (k := 39) dX6_layFog_118 fl_X6_486 rfl rfl ?_
        show e_E _ _ _ _ (t_H (t_fg1 v τ) h0) _ _ _ _
        refine e_aload_n dX6_layFog_121 rfl ?_
        refine e_dup dX6_layFog_122 rfl ?_
        refine t_getj (k := 40) dX6_layFog_123 fl_X6_490 rfl ?_
        refine e_aload_n dX6_layFog_126 rfl ?_
        refine e_iload_n dX6_layFog_127 rfl ?_
        refine e_aload_n dX6_layFog_128 rfl ?_
        refine e_callV0rz (ci := 6) dX6_layFog_129 md_X6_years lk_X6_118 rfl q2096 qs88 (t_obj _ _) (by decide) rfl (Nat.le_of_ble_eq_true rfl) (C_X6_years) ?_
        refine e_callV2rz (ci := 6) dX6_layFog_132 md_X6_roadOf lk_X6_386 rfl q2251 qs113 (t_obj _ _) (by decide) rfl (Nat.le_of_ble_eq_true rfl) (C_X6_roadOf hh1 ⟨by omega, by omega⟩ ⟨s0.1, Int.le_refl _⟩) ?_
        rw [eR]
        refine e_if_eq (tgt := 143) dX6_layFog_135 rfl ⟨by omega, by omega⟩ (fun c5 => ?_) (fun c5 => ?_)
        · refine e_lconst (z := 0) dX6_layFog_143 rfl ?_
          refine e_top (e_j (if t_rdo τ c (τ 1 0) = 0 then 0 else v)) (by first | rw [if_pos (by assumption)] | rw [if_neg (by assumption)]) ?_
          refine e_ladd dX6_layFog_144 ?_
          refine t_putj (k := 40) dX6_layFog_145 fl_X6_490 rfl rfl ?_
          show e_E _ _ _ _ (t_H (t_fg2 c v τ) h0) _ _ _ _
          refine e_aload_n dX6_layFog_148 rfl ?_
          refine e_dup dX6_layFog_149 rfl ?_
          refine t_getj (k := 41) dX6_layFog_150 fl_X6_493 rfl ?_
          refine e_lload dX6_layFog_153 rfl ?_
          refine e_iload dX6_layFog_155 rfl ?_
          refine e_i2l dX6_layFog_157 ⟨by omega, by omega⟩ ?_
          refine e_lmul dX6_layFog_158 ?_
          refine e_ladd dX6_layFog_159 ?_
          refine t_putj (k := 41) dX6_layFog_160 fl_X6_493 rfl rfl ?_
          refine e_iinc3 dX6_layFog_163 rfl ?_
          refine e_goto (tgt := 26) dX6_layFog_166 rfl ?_
          rw [hF2] at hF
          first
            | (rw [if_pos (by omega)] at hF; exact e_fgs [4, 6] hF)
            | (rw [if_neg (by omega)] at hF; exact e_fgs [4, 6] hF)
        · refine e_lload dX6_layFog_138 rfl ?_
          refine e_goto (tgt := 144) dX6_layFog_140 rfl ?_
          refine e_top (e_j (if t_rdo τ c (τ 1 0) = 0 then 0 else v)) (by first | rw [if_pos (by assumption)] | rw [if_neg (by assumption)]) ?_
          refine e_ladd dX6_layFog_144 ?_
          refine t_putj (k := 40) dX6_layFog_145 fl_X6_490 rfl rfl ?_
          show e_E _ _ _ _ (t_H (t_fg2 c v τ) h0) _ _ _ _
          refine e_aload_n dX6_layFog_148 rfl ?_
          refine e_dup dX6_layFog_149 rfl ?_
          refine t_getj (k := 41) dX6_layFog_150 fl_X6_493 rfl ?_
          refine e_lload dX6_layFog_153 rfl ?_
          refine e_iload dX6_layFog_155 rfl ?_
          refine e_i2l dX6_layFog_157 ⟨by omega, by omega⟩ ?_
          refine e_lmul dX6_layFog_158 ?_
          refine e_ladd dX6_layFog_159 ?_
          refine t_putj (k := 41) dX6_layFog_160 fl_X6_493 rfl rfl ?_
          refine e_iinc3 dX6_layFog_163 rfl ?_
          refine e_goto (tgt := 26) dX6_layFog_166 rfl ?_
          rw [hF2] at hF
          first
            | (rw [if_pos (by omega)] at hF; exact e_fgs [4, 6] hF)
            | (rw [if_neg (by omega)] at hF; exact e_fgs [4, 6] hF)
      · refine e_goto (tgt := 163) dX6_layFog_93 rfl ?_
        refine e_iinc3 dX6_layFog_163 rfl ?_
        refine e_goto (tgt := 26) dX6_layFog_166 rfl ?_
        rw [hF2] at hF
        first
          | (rw [if_pos (by omega)] at hF; exact e_fgs [4, 6] hF)
          | (rw [if_neg (by omega)] at hF; exact e_fgs [4, 6] hF)
    · have e : t_pv (x 1 2) (10 - x 1 2) i (w + 1).toNat = t_pv (x 1 2) (10 - x 1 2) i w.toNat * (if e_bt i w = 1 then x 1 2 else 10 - x 1 2) := t_it_s _ _ hw0
      rw [e] at hG
      refine e_iload dX6_layFog_39 rfl ?_
      refine e_iload_n dX6_layFog_41 rfl ?_
      refine e_icmp_ge (tgt := 86) dX6_layFog_42 rfl ⟨by omega, by omega⟩ ⟨by omega, by omega⟩ (fun q => by exfalso; omega) (fun c6 => ?_)
      have hbt := e_bt01 i w
      refine e_lload dX6_layFog_45 rfl ?_
      refine e_iload_n dX6_layFog_47 rfl ?_
      refine e_iload dX6_layFog_48 rfl ?_
      refine e_callS2rz dX6_layFog_50 md_X6_bit lk_X6_323 rfl q2103 rfl (Nat.le_of_ble_eq_true rfl) (C_X6_bit ⟨by omega, by omega⟩ ⟨by omega, by omega⟩) ?_
      refine e_iconst dX6_layFog_53 ?_
      refine e_icmp_ne (tgt := 67) dX6_layFog_54 rfl ⟨by omega, by omega⟩ ⟨by omega, by omega⟩ (fun c7 => ?_) (fun c7 => ?_)
      · refine e_bipush dX6_layFog_67 rfl ?_
        refine e_aload_n dX6_layFog_69 rfl ?_
        refine t_geta (k := 1) dX6_layFog_70 fl_X6_9 rfl ?_
        refine e_iconst dX6_layFog_73 ?_
        refine t_ild 149 dX6_layFog_74 rfl (by decide) (fun _ => rfl) rfl ⟨by omega, by omega⟩ ?_
        refine e_isub dX6_layFog_75 ?_
        refine e_i2l dX6_layFog_76 ⟨by omega, by omega⟩ ?_
        refine e_lmul dX6_layFog_77 ?_
        refine e_lstore4 dX6_layFog_78 rfl ?_
        refine e_iinc6 dX6_layFog_80 rfl ?_
        refine e_goto (tgt := 39) dX6_layFog_83 rfl ?_
        first
          | (rw [if_pos (by omega)] at hG; exact hG)
          | (rw [if_neg (by omega)] at hG; exact hG)
      · refine e_aload_n dX6_layFog_57 rfl ?_
        refine t_geta (k := 1) dX6_layFog_58 fl_X6_9 rfl ?_
        refine e_iconst dX6_layFog_61 ?_
        refine t_ild 149 dX6_layFog_62 rfl (by decide) (fun _ => rfl) rfl ⟨by omega, by omega⟩ ?_
        refine e_i2l dX6_layFog_63 ⟨by omega, by omega⟩ ?_
        refine e_goto (tgt := 77) dX6_layFog_64 rfl ?_
        refine e_lmul dX6_layFog_77 ?_
        refine e_lstore4 dX6_layFog_78 rfl ?_
        refine e_iinc6 dX6_layFog_80 rfl ?_
        refine e_goto (tgt := 39) dX6_layFog_83 rfl ?_
        first
          | (rw [if_pos (by omega)] at hG; exact hG)
          | (rw [if_neg (by omega)] at hG; exact hG)
theorem C_X6_chance {σ : t_S} {h0 : e_A} (hz : t_sz σ) (hr : t_okR (σ 1)) {c w : Int} (hc : e_rg c) (hw : e_rg w) : e_C mX6_chance [.ref 384, e_i c, e_i w] (t_H σ h0) 0 0 8 (t_PubJ (v_chance σ c w) σ h0) := by
  have s3 := hz.2.1
  have s4 := hz.2.2.1
  refine e_enter (al0 := [.ref 384, e_i c, e_i w]) (by decide +kernel) rfl (Nat.le_of_ble_eq_true rfl) ?_
  refine e_aload_n dX6_chance_0 rfl ?_
  refine e_iload_n dX6_chance_1 rfl ?_
  refine e_i2l dX6_chance_2 ⟨by omega, by omega⟩ ?_
  refine e_callV1rz (ci := 6) dX6_chance_3 md_X6_isCell lk_X6_310 rfl q2145 qs98 (t_obj _ _) (by decide) rfl (Nat.le_of_ble_eq_true rfl) (C_X6_isCell hz ⟨by omega, by omega⟩) ?_
  refine e_bif_eq (tgt := 19) dX6_chance_6 rfl (fun c1 => ?_) (fun c1 => ?_)
  · refine e_ldc2 (z := -2) dX6_chance_19 q2508 rfl ?_
    refine e_lreturn dX6_chance_22 rfl ?_
    first
      | exact t_pubJ (by unfold v_chance; rw [if_pos ⟨by assumption, by assumption⟩, hx]) hpk
      | exact t_pubJ (by unfold v_chance; rw [if_neg (by omega)]) (t_pk_rf _)
  · refine e_iload_n dX6_chance_9 rfl ?_
    refine e_i2l dX6_chance_10 ⟨by omega, by omega⟩ ?_
    refine e_lconst (z := 0) dX6_chance_11 rfl ?_
    refine e_lconst (z := 1) dX6_chance_12 rfl ?_
    refine e_callS3rz dX6_chance_13 md_X6_in lk_X6_106 rfl q1930 rfl (Nat.le_of_ble_eq_true rfl) (C_X6_in ⟨by omega, by omega⟩ ⟨by omega, by omega⟩ ⟨by omega, by omega⟩) ?_
    refine e_bif_ne (tgt := 23) dX6_chance_16 rfl (fun c2 => ?_) (fun c2 => ?_)
    · refine e_aload_n dX6_chance_23 rfl ?_
      refine e_iload_n dX6_chance_24 rfl ?_
      refine e_callV1vz (ci := 6) dX6_chance_25 md_X6_layFog lk_X6_498 rfl q2511 qs137 (t_obj _ _) (by decide) rfl (Nat.le_of_ble_eq_true rfl) (C_X6_layFog hz hr ⟨by omega, by omega⟩) ?_
      have hb := t_fg_b hz hr c
      have hpk := (t_fg_in hz hr c).2.1
      obtain ⟨x, hx⟩ : ∃ x, t_fg c σ = x := ⟨_, rfl⟩
      rw [hx] at hb hpk ⊢
      refine e_aload_n dX6_chance_28 rfl ?_
      refine t_getj (k := 40) dX6_chance_29 fl_X6_490 rfl ?_
      refine e_aload_n dX6_chance_32 rfl ?_
      refine t_getj (k := 39) dX6_chance_33 fl_X6_486 rfl ?_
      refine e_iload_n dX6_chance_36 rfl ?_
      refine e_callS3rz dX6_chance_37 md_X6_part lk_X6_475 rfl q2482 rfl (Nat.le_of_ble_eq_true rfl) (C_X6_part ⟨by omega, by omega⟩ ⟨by omega, by omega⟩ ⟨by omega, by omega⟩) ?_
      refine e_lreturn dX6_chance_40 rfl ?_
      first
        | exact t_pubJ (by unfold v_chance; rw [if_pos ⟨by assumption, by assumption⟩, hx]) hpk
        | exact t_pubJ (by unfold v_chance; rw [if_neg (by omega)]) (t_pk_rf _)
    · refine e_ldc2 (z := -2) dX6_chance_19 q2508 rfl ?_
      refine e_lreturn dX6_chance_22 rfl ?_
      first
        | exact t_pubJ (by unfold v_chance; rw [if_pos ⟨by assumption, by assumption⟩, hx]) hpk
        | exact t_pubJ (by unfold v_chance; rw [if_neg (by omega)]) (t_pk_rf _)
theorem C_X6_mean {σ : t_S} {h0 : e_A} (hz : t_sz σ) (hr : t_okR (σ 1)) {w : Int} (hw : e_rg w) : e_C mX6_mean [.ref 384, e_i w] (t_H σ h0) 0 0 8 (t_PubJ (v_mean σ w) σ h0) := by
  refine e_enter (al0 := [.ref 384, e_i w]) (by decide +kernel) rfl (Nat.le_of_ble_eq_true rfl) ?_
  refine e_aload_n dX6_mean_0 rfl ?_
  refine e_callV0rz (ci := 6) dX6_mean_1 md_X6_isColony lk_X6_114 rfl q2149 qs99 (t_obj _ _) (by decide) rfl (Nat.le_of_ble_eq_true rfl) (C_X6_isColony hz) ?_
  refine e_bif_eq (tgt := 17) dX6_mean_4 rfl (fun c1 => ?_) (fun c1 => ?_)
  · refine e_ldc2 (z := -2) dX6_mean_17 q2508 rfl ?_
    refine e_lreturn dX6_mean_20 rfl ?_
    first
      | exact t_pubJ (by unfold v_mean; rw [if_pos ⟨by assumption, by assumption⟩, hx]) hpk
      | exact t_pubJ (by unfold v_mean; rw [if_neg (by omega)]) (t_pk_rf _)
  · refine e_iload_n dX6_mean_7 rfl ?_
    refine e_i2l dX6_mean_8 ⟨by omega, by omega⟩ ?_
    refine e_lconst (z := 0) dX6_mean_9 rfl ?_
    refine e_lconst (z := 1) dX6_mean_10 rfl ?_
    refine e_callS3rz dX6_mean_11 md_X6_in lk_X6_106 rfl q1930 rfl (Nat.le_of_ble_eq_true rfl) (C_X6_in ⟨by omega, by omega⟩ ⟨by omega, by omega⟩ ⟨by omega, by omega⟩) ?_
    refine e_bif_ne (tgt := 21) dX6_mean_14 rfl (fun c2 => ?_) (fun c2 => ?_)
    · refine e_aload_n dX6_mean_21 rfl ?_
      refine e_iconst dX6_mean_22 ?_
      refine e_callV1vz (ci := 6) dX6_mean_23 md_X6_layFog lk_X6_498 rfl q2511 qs137 (t_obj _ _) (by decide) rfl (Nat.le_of_ble_eq_true rfl) (C_X6_layFog hz hr ⟨by omega, by omega⟩) ?_
      have hb := t_fg_b hz hr 0
      have hpk := (t_fg_in hz hr 0).2.1
      obtain ⟨x, hx⟩ : ∃ x, t_fg 0 σ = x := ⟨_, rfl⟩
      rw [hx] at hb hpk ⊢
      refine e_aload_n dX6_mean_26 rfl ?_
      refine t_getj (k := 41) dX6_mean_27 fl_X6_493 rfl ?_
      refine e_aload_n dX6_mean_30 rfl ?_
      refine t_getj (k := 39) dX6_mean_31 fl_X6_486 rfl ?_
      refine e_iload_n dX6_mean_34 rfl ?_
      refine e_callS3rz dX6_mean_35 md_X6_part lk_X6_475 rfl q2482 rfl (Nat.le_of_ble_eq_true rfl) (C_X6_part ⟨by omega, by omega⟩ ⟨by omega, by omega⟩ ⟨by omega, by omega⟩) ?_
      refine e_lreturn dX6_mean_38 rfl ?_
      first
        | exact t_pubJ (by unfold v_mean; rw [if_pos ⟨by assumption, by assumption⟩, hx]) hpk
        | exact t_pubJ (by unfold v_mean; rw [if_neg (by omega)]) (t_pk_rf _)
    · refine e_ldc2 (z := -2) dX6_mean_17 q2508 rfl ?_
      refine e_lreturn dX6_mean_20 rfl ?_
      first
        | exact t_pubJ (by unfold v_mean; rw [if_pos ⟨by assumption, by assumption⟩, hx]) hpk
        | exact t_pubJ (by unfold v_mean; rw [if_neg (by omega)]) (t_pk_rf _)
theorem C_X6_share {σ : t_S} {h0 : e_A} (hz : t_sz σ) (hr : t_okR (σ 1)) {w k : Int} (hw : e_rg w) (hk : e_rg k) : e_C mX6_share [.ref 384, e_i w, e_i k] (t_H σ h0) 0 0 7 (t_Pub (v_share σ w k) σ h0) := by
  refine e_enter (al0 := [.ref 384, e_i w, e_i k, .retAddr 0, .retAddr 0, .retAddr 0, .retAddr 0]) (by decide +kernel) rfl (Nat.le_of_ble_eq_true rfl) ?_
  refine e_aload_n dX6_share_0 rfl ?_
  refine e_callV0vz (ci := 6) dX6_share_1 md_X6_beginSets lk_X6_457 rfl q2467 qs133 (t_obj _ _) (by decide) rfl (Nat.le_of_ble_eq_true rfl) (C_X6_beginSets hz hr) ?_
  have hB := t_bg_in hz hr
  obtain ⟨ρ, hρ⟩ : ∃ ρ, t_bg σ = ρ := ⟨_, rfl⟩
  rw [hρ] at hB ⊢
  have rz := hB.1.1
  have s7 := rz.2.2.2.2.2.1
  have e17 := congrFun hB.2.2.2 7
  have hp7 := t_p7 rz
  have hpk := hB.2.2.1
  refine e_aload_n dX6_share_4 rfl ?_
  refine e_iload_n dX6_share_5 rfl ?_
  refine e_i2l dX6_share_6 ⟨by omega, by omega⟩ ?_
  refine e_callV1rz (ci := 6) dX6_share_7 md_X6_isWidow lk_X6_261 rfl q2055 qs80 (t_obj _ _) (by decide) rfl (Nat.le_of_ble_eq_true rfl) (C_X6_isWidow rz ⟨by omega, by omega⟩) ?_
  refine e_bif_eq (tgt := 23) dX6_share_10 rfl (fun c1 => ?_) (fun c1 => ?_)
  · refine e_ldcw (z := -1000000) dX6_share_23 q2477 rfl ?_
    refine e_ireturn dX6_share_26 rfl rfl ?_
    exact t_pub (by unfold v_share; rw [if_neg (by omega)]) hpk
  · refine e_iload_n dX6_share_13 rfl ?_
    refine e_i2l dX6_share_14 ⟨by omega, by omega⟩ ?_
    refine e_lconst (z := 0) dX6_share_15 rfl ?_
    refine e_lconst (z := 1) dX6_share_16 rfl ?_
    refine e_callS3rz dX6_share_17 md_X6_in lk_X6_106 rfl q1930 rfl (Nat.le_of_ble_eq_true rfl) (C_X6_in ⟨by omega, by omega⟩ ⟨by omega, by omega⟩ ⟨by omega, by omega⟩) ?_
    refine e_bif_ne (tgt := 27) dX6_share_20 rfl (fun c2 => ?_) (fun c2 => ?_)
    · refine e_aload_n dX6_share_27 rfl ?_
      refine e_callV0rz (ci := 6) dX6_share_28 md_X6_widows lk_X6_110 rfl q2059 qs81 (t_obj _ _) (by decide) rfl (Nat.le_of_ble_eq_true rfl) (C_X6_widows) ?_
      refine e_istore_n3 dX6_share_31 rfl ?_
      refine e_iconst dX6_share_32 ?_
      refine e_istore4 dX6_share_33 rfl ?_
      refine e_for (n := 2 ^ (ρ 1 7).toNat) (fun i => e_E mX6_share 35 [.ref 384, e_i w, e_i k, e_i (ρ 1 7), e_i i, .retAddr 0, .retAddr 0] [] (t_H (t_it t_shf i.toNat ρ) h0) _ _ _ _) (by omega) ?_ (fun i hi0 hi1 hF => ?_)
      · have hin := t_shl_in hB.1 hB.2.1 ((2 : Int) ^ (ρ 1 7).toNat).toNat
        obtain ⟨x, hx⟩ : ∃ x, t_it t_shf ((2 : Int) ^ (ρ 1 7).toNat).toNat ρ = x := ⟨_, rfl⟩
        rw [hx] at hin ⊢
        rw [Int.toNat_of_nonneg (Int.le_of_lt hp7.1)] at hin
        have hx37 := hin.2.2
        refine e_iload dX6_share_35 rfl ?_
        refine e_iconst dX6_share_37 ?_
        refine e_iload_n dX6_share_38 rfl ?_
        refine e_ishl dX6_share_39 (t_shl1 ⟨by omega, by omega⟩) ?_
        refine e_icmp_ge (tgt := 62) dX6_share_40 rfl ⟨by omega, by omega⟩ ⟨by omega, by omega⟩ (fun c3 => ?_) (fun q => by exfalso; omega)
        refine e_lconst (z := 0) dX6_share_62 rfl ?_
        refine e_lstore4 dX6_share_63 rfl ?_
        refine e_iconst dX6_share_65 ?_
        refine e_istore6 dX6_share_66 rfl ?_
        refine e_for (n := 2 ^ (ρ 1 7).toNat) (fun i => e_E mX6_share 68 [.ref 384, e_i w, e_i k, e_i (ρ 1 7), e_j (t_sum (t_smg x (ρ 1 7) w) i.toNat), .retAddr 0, e_i i] [] (t_H x h0) _ _ _ _) (by omega) ?_ (fun i hi0 hi1 hF => ?_)
        · refine e_iload dX6_share_68 rfl ?_
          refine e_iconst dX6_share_70 ?_
          refine e_iload_n dX6_share_71 rfl ?_
          refine e_ishl dX6_share_72 (t_shl1 ⟨by omega, by omega⟩) ?_
          refine e_icmp_ge (tgt := 140) dX6_share_73 rfl ⟨by omega, by omega⟩ ⟨by omega, by omega⟩ (fun c4 => ?_) (fun q => by exfalso; omega)
          have hsr := t_sum_rg2 (g := t_smg x (ρ 1 7) w) (b := 16257024000) ((2 : Int) ^ (ρ 1 7).toNat).toNat (fun i i0 i1 => t_smg_rg ⟨by omega, by omega⟩ ⟨by omega, by omega⟩ ⟨i0, by omega⟩ (fun j j0 j1 => hx37 j j0 (by omega)))
          have f3 := t_fac_rg (ρ 1 7) (by omega) (by omega)
          refine e_lload dX6_share_140 rfl ?_
          refine e_iload_n dX6_share_142 rfl ?_
          refine e_callS1rz dX6_share_143 md_X6_factorial lk_X6_472 rfl q2479 rfl (Nat.le_of_ble_eq_true rfl) (C_X6_factorial ⟨by omega, by omega⟩) ?_
          refine e_i2l dX6_share_146 ⟨by omega, by omega⟩ ?_
          refine e_iload_n dX6_share_147 rfl ?_
          refine e_callS3rz dX6_share_148 md_X6_part lk_X6_475 rfl q2482 rfl (Nat.le_of_ble_eq_true rfl) (C_X6_part ⟨by omega, by omega⟩ ⟨by omega, by omega⟩ ⟨by omega, by omega⟩) ?_
          refine e_l2i dX6_share_151 ?_
          refine e_ireturn dX6_share_152 rfl rfl ?_
          refine t_pub ?_ (fun k hk => (hin.1 k (by unfold t_per at hk; omega) (by unfold t_per at hk; omega) (by unfold t_per at hk; omega)).trans (hpk k hk))
          unfold v_share t_sh
          rw [if_pos (by omega), hρ, ← e17, hx]
        · have e : t_sum (t_smg x (ρ 1 7) w) (i + 1).toNat = t_sum (t_smg x (ρ 1 7) w) i.toNat + t_smg x (ρ 1 7) w i := t_sum_s _ hi0
          rw [e] at hF
          refine e_iload dX6_share_68 rfl ?_
          refine e_iconst dX6_share_70 ?_
          refine e_iload_n dX6_share_71 rfl ?_
          refine e_ishl dX6_share_72 (t_shl1 ⟨by omega, by omega⟩) ?_
          refine e_icmp_ge (tgt := 140) dX6_share_73 rfl ⟨by omega, by omega⟩ ⟨by omega, by omega⟩ (fun q => by exfalso; omega) (fun c5 => ?_)
          have hbt := e_bt01 i w
          refine e_iload dX6_share_76 rfl ?_
          refine e_iload_n dX6_share_78 rfl ?_
          refine e_callS2rz dX6_share_79 md_X6_bit lk_X6_323 rfl q2103 rfl (Nat.le_of_ble_eq_true rfl) (C_X6_bit ⟨by omega, by omega⟩ ⟨by omega, by omega⟩) ?_
          refine e_if_ne (tgt := 134) dX6_share_82 rfl ⟨by omega, by omega⟩ (fun c6 => ?_) (fun c6 => ?_)
          · refine e_iinc6 dX6_share_134 rfl ?_
            refine e_goto (tgt := 68) dX6_share_137 rfl ?_
            first
              | (rw [hgE] at hF; exact hF)
              | (rw [show t_smg x (ρ 1 7) w i = 0 from if_neg (by omega), Int.add_zero] at hF; exact hF)
          · have hbl := e_bsum_le (n := (ρ 1 7).toNat) hi0 hi1 (by omega) (w := w) ⟨by omega, by omega⟩ (by omega)
            have hpw := e_pow_lt (ρ 1 7).toNat (k := w) ⟨by omega, by omega⟩
            have hor := t_or_rg (ρ 1 7).toNat (a := i) (b := 2 ^ w.toNat) ⟨hi0, hi1⟩ ⟨by omega, hpw.2⟩
            have f1 := t_fac_rg (e_bsum i 16) hbl.1 (by omega)
            have f2 := t_fac_rg (ρ 1 7 - 1 - e_bsum i 16) (by omega) (by omega)
            have g1 := hx37 _ hor.1 (by omega)
            have g2 := hx37 i hi0 (by omega)
            have hgE : t_smg x (ρ 1 7) w i = t_fac (e_bsum i 16) * t_fac (ρ 1 7 - 1 - e_bsum i 16) * (x 37 (t_or i (2 ^ w.toNat)) - x 37 i) := if_pos (by omega)
            refine e_lload dX6_share_85 rfl ?_
            refine e_iload dX6_share_87 rfl ?_
            refine e_callS1rz dX6_share_89 md_X6_bits lk_X6_347 rfl q2286 rfl (Nat.le_of_ble_eq_true rfl) (C_X6_bits ⟨by omega, by omega⟩) ?_
            refine e_callS1rz dX6_share_92 md_X6_factorial lk_X6_472 rfl q2479 rfl (Nat.le_of_ble_eq_true rfl) (C_X6_factorial ⟨by omega, by omega⟩) ?_
            refine e_i2l dX6_share_95 ⟨by omega, by omega⟩ ?_
            refine e_iload_n dX6_share_96 rfl ?_
            refine e_iconst dX6_share_97 ?_
            refine e_isub dX6_share_98 ?_
            refine e_iload dX6_share_99 rfl ?_
            refine e_callS1rz dX6_share_101 md_X6_bits lk_X6_347 rfl q2286 rfl (Nat.le_of_ble_eq_true rfl) (C_X6_bits ⟨by omega, by omega⟩) ?_
            refine e_isub dX6_share_104 ?_
            refine e_callS1rz dX6_share_105 md_X6_factorial lk_X6_472 rfl q2479 rfl (Nat.le_of_ble_eq_true rfl) (C_X6_factorial ⟨by omega, by omega⟩) ?_
            refine e_i2l dX6_share_108 ⟨by omega, by omega⟩ ?_
            refine e_lmul dX6_share_109 ?_
            refine e_aload_n dX6_share_110 rfl ?_
            refine t_geta (k := 37) dX6_share_111 fl_X6_85 rfl ?_
            refine e_iload dX6_share_114 rfl ?_
            refine e_iconst dX6_share_116 ?_
            refine e_iload_n dX6_share_117 rfl ?_
            refine e_ishl dX6_share_118 (t_shl1 ⟨by omega, by omega⟩) ?_
            refine e_ior dX6_share_119 (t_or_law hi0 (t_p2 _)) ?_
            refine t_ild 128 dX6_share_120 rfl (by decide) (fun _ => rfl) rfl ⟨by omega, by omega⟩ ?_
            refine e_aload_n dX6_share_121 rfl ?_
            refine t_geta (k := 37) dX6_share_122 fl_X6_85 rfl ?_
            refine e_iload dX6_share_125 rfl ?_
            refine t_ild 128 dX6_share_127 rfl (by decide) (fun _ => rfl) rfl ⟨by omega, by omega⟩ ?_
            refine e_isub dX6_share_128 ?_
            refine e_i2l dX6_share_129 ⟨by omega, by omega⟩ ?_
            refine e_lmul dX6_share_130 ?_
            refine e_ladd dX6_share_131 ?_
            refine e_lstore4 dX6_share_132 rfl ?_
            refine e_iinc6 dX6_share_134 rfl ?_
            refine e_goto (tgt := 68) dX6_share_137 rfl ?_
            first
              | (rw [hgE] at hF; exact hF)
              | (rw [show t_smg x (ρ 1 7) w i = 0 from if_neg (by omega), Int.add_zero] at hF; exact hF)
      · have hin := t_shl_in hB.1 hB.2.1 i.toNat
        rw [t_it_s _ _ hi0] at hF
        generalize t_it t_shf i.toNat ρ = x at hF hin ⊢
        have h38x : 0 ≤ x 38 0 ∧ x 38 0 < 2 ^ 7 := by rw [hin.1 38 (by omega) (by decide) (by decide)]; exact hB.2.1
        refine e_iload dX6_share_35 rfl ?_
        refine e_iconst dX6_share_37 ?_
        refine e_iload_n dX6_share_38 rfl ?_
        refine e_ishl dX6_share_39 (t_shl1 ⟨by omega, by omega⟩) ?_
        refine e_icmp_ge (tgt := 62) dX6_share_40 rfl ⟨by omega, by omega⟩ ⟨by omega, by omega⟩ (fun q => by exfalso; omega) (fun c7 => ?_)
        refine e_aload_n dX6_share_43 rfl ?_
        refine t_geta (k := 37) dX6_share_44 fl_X6_85 rfl ?_
        refine e_iload dX6_share_47 rfl ?_
        refine e_aload_n dX6_share_49 rfl ?_
        refine e_iload dX6_share_50 rfl ?_
        refine e_callV1rz (ci := 6) dX6_share_52 md_X6_worthOf lk_X6_460 rfl q2471 qs134 (t_obj _ _) (by decide) rfl (Nat.le_of_ble_eq_true rfl) (C_X6_worthOf hin.2.1 h38x hi0) ?_
        refine t_ist 128 dX6_share_55 rfl (by decide) rfl rfl ⟨by omega, by omega⟩ ?_
        refine e_iinc4 dX6_share_56 rfl ?_
        refine e_goto (tgt := 35) dX6_share_59 rfl ?_
        exact hF
    · refine e_ldcw (z := -1000000) dX6_share_23 q2477 rfl ?_
      refine e_ireturn dX6_share_26 rfl rfl ?_
      exact t_pub (by unfold v_share; rw [if_neg (by omega)]) hpk
