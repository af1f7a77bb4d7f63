/-! THE TWIN: drawn, luck, seen (printed by tw14.py) -/
set_option maxRecDepth 100000
theorem C_X6_drawn {σ : t_S} {h0 : e_A} (hz : t_sz σ) (hr : t_okR (σ 1)) {s w : Int} (hs : e_rg s) (hw : e_rg w) : e_C mX6_drawn [.ref 384, e_i s, e_i w] (t_H σ h0) 0 0 8 (t_Pub (v_drawn σ s w) σ h0) := by
  refine e_enter (al0 := [.ref 384, e_i s, e_i w, .retAddr 0]) (by decide +kernel) rfl (Nat.le_of_ble_eq_true rfl) ?_
  refine e_aload_n dX6_drawn_0 rfl ?_
  refine e_callV0rz (ci := 6) dX6_drawn_1 md_X6_isColony lk_X6_114 rfl q2149 qs99 (t_obj _ _) (by decide) rfl (Nat.le_of_ble_eq_true rfl) (C_X6_isColony hz) ?_
  refine e_bif_eq (tgt := 24) dX6_drawn_4 rfl (fun c1 => ?_) (fun c1 => ?_)
  · refine e_bipush dX6_drawn_24 rfl ?_
    refine e_ireturn dX6_drawn_26 rfl rfl ?_
    first
      | exact t_pub (by unfold v_drawn; rw [if_pos ⟨by assumption, by assumption, by assumption⟩, if_pos (by omega)]) hpk
      | exact t_pub (by unfold v_drawn; rw [if_pos ⟨by assumption, by assumption, by assumption⟩, if_neg (by omega)]) hpk
      | exact t_pub (by unfold v_drawn; rw [if_neg (by omega)]) (t_pk_rf _)
  · refine e_iload_n dX6_drawn_7 rfl ?_
    refine e_callS1rz dX6_drawn_8 md_X6_isSeed lk_X6_514 rfl q2542 rfl (Nat.le_of_ble_eq_true rfl) (C_X6_isSeed ⟨by omega, by omega⟩) ?_
    refine e_bif_eq (tgt := 24) dX6_drawn_11 rfl (fun c2 => ?_) (fun c2 => ?_)
    · refine e_bipush dX6_drawn_24 rfl ?_
      refine e_ireturn dX6_drawn_26 rfl rfl ?_
      first
        | exact t_pub (by unfold v_drawn; rw [if_pos ⟨by assumption, by assumption, by assumption⟩, if_pos (by omega)]) hpk
        | exact t_pub (by unfold v_drawn; rw [if_pos ⟨by assumption, by assumption, by assumption⟩, if_neg (by omega)]) hpk
        | exact t_pub (by unfold v_drawn; rw [if_neg (by omega)]) (t_pk_rf _)
    · refine e_iload_n dX6_drawn_14 rfl ?_
      refine e_i2l dX6_drawn_15 ⟨by omega, by omega⟩ ?_
      refine e_lconst (z := 0) dX6_drawn_16 rfl ?_
      refine e_lconst (z := 1) dX6_drawn_17 rfl ?_
      refine e_callS3rz dX6_drawn_18 md_X6_in lk_X6_106 rfl q1930 rfl (Nat.le_of_ble_eq_true rfl) (C_X6_in ⟨by omega, by omega⟩ ⟨by omega, by omega⟩ ⟨by omega, by omega⟩) ?_
      refine e_bif_ne (tgt := 27) dX6_drawn_21 rfl (fun c3 => ?_) (fun c3 => ?_)
      · refine e_aload_n dX6_drawn_27 rfl ?_
        refine e_iload_n dX6_drawn_28 rfl ?_
        refine e_i2l dX6_drawn_29 ⟨by omega, by omega⟩ ?_
        refine e_callV1rz (ci := 6) dX6_drawn_30 md_X6_goDrawn lk_X6_517 rfl q2547 qs139 (t_obj _ _) (by decide) rfl (Nat.le_of_ble_eq_true rfl) (C_X6_goDrawn hz hr ⟨by omega, by omega⟩) ?_
        have hg := t_gd_in hz hr s
        have hpk : t_pk (t_gd s σ) σ := fun k hk => hg.2 k (by unfold t_per at hk; omega) (by unfold t_per at hk; omega)
        refine e_istore_n3 dX6_drawn_33 rfl ?_
        refine e_iload_n dX6_drawn_34 rfl ?_
        refine e_if_ne (tgt := 42) dX6_drawn_35 rfl ⟨by omega, by omega⟩ (fun c4 => ?_) (fun c4 => ?_)
        · refine e_aload_n dX6_drawn_42 rfl ?_
          refine e_callV0rz (ci := 6) dX6_drawn_43 md_X6_pegsLast lk_X6_419 rfl q2395 qs124 (t_obj _ _) (by decide) rfl (Nat.le_of_ble_eq_true rfl) (C_X6_pegsLast hg.1) ?_
          refine e_ireturn dX6_drawn_46 rfl rfl ?_
          first
            | exact t_pub (by unfold v_drawn; rw [if_pos ⟨by assumption, by assumption, by assumption⟩, if_pos (by omega)]) hpk
            | exact t_pub (by unfold v_drawn; rw [if_pos ⟨by assumption, by assumption, by assumption⟩, if_neg (by omega)]) hpk
            | exact t_pub (by unfold v_drawn; rw [if_neg (by omega)]) (t_pk_rf _)
        · refine e_iload_n dX6_drawn_38 rfl ?_
          refine e_goto (tgt := 46) dX6_drawn_39 rfl ?_
          refine e_ireturn dX6_drawn_46 rfl rfl ?_
          first
            | exact t_pub (by unfold v_drawn; rw [if_pos ⟨by assumption, by assumption, by assumption⟩, if_pos (by omega)]) hpk
            | exact t_pub (by unfold v_drawn; rw [if_pos ⟨by assumption, by assumption, by assumption⟩, if_neg (by omega)]) hpk
            | exact t_pub (by unfold v_drawn; rw [if_neg (by omega)]) (t_pk_rf _)
      · refine e_bipush dX6_drawn_24 rfl ?_
        refine e_ireturn dX6_drawn_26 rfl rfl ?_
        first
          | exact t_pub (by unfold v_drawn; rw [if_pos ⟨by assumption, by assumption, by assumption⟩, if_pos (by omega)]) hpk
          | exact t_pub (by unfold v_drawn; rw [if_pos ⟨by assumption, by assumption, by assumption⟩, if_neg (by omega)]) hpk
          | exact t_pub (by unfold v_drawn; rw [if_neg (by omega)]) (t_pk_rf _)
theorem C_X6_luck {σ : t_S} {h0 : e_A} (hz : t_sz σ) (hr : t_okR (σ 1)) {s n c : Int} (hs : e_rg s) (hn : e_rg n) (hc : e_rg c) : e_C mX6_luck [.ref 384, e_i s, e_i n, e_i c] (t_H σ h0) 0 0 8 (t_Pub (v_luck σ s n c) σ h0) := by
  have s3 := hz.2.1
  have s4 := hz.2.2.1
  refine e_enter (al0 := [.ref 384, e_i s, e_i n, e_i c, .retAddr 0, .retAddr 0]) (by decide +kernel) rfl (Nat.le_of_ble_eq_true rfl) ?_
  refine e_iload_n dX6_luck_0 rfl ?_
  refine e_callS1rz dX6_luck_1 md_X6_isSeed lk_X6_514 rfl q2542 rfl (Nat.le_of_ble_eq_true rfl) (C_X6_isSeed ⟨by omega, by omega⟩) ?_
  refine e_bif_eq (tgt := 28) dX6_luck_4 rfl (fun c1 => ?_) (fun c1 => ?_)
  · refine e_bipush dX6_luck_28 rfl ?_
    refine e_ireturn dX6_luck_30 rfl rfl ?_
    exact t_pub (by unfold v_luck; rw [if_neg (by omega)]) (t_pk_rf _)
  · refine e_iload_n dX6_luck_7 rfl ?_
    refine e_i2l dX6_luck_8 ⟨by omega, by omega⟩ ?_
    refine e_lconst (z := 1) dX6_luck_9 rfl ?_
    refine e_ldc2 (z := 20) dX6_luck_10 q2557 rfl ?_
    refine e_callS3rz dX6_luck_13 md_X6_in lk_X6_106 rfl q1930 rfl (Nat.le_of_ble_eq_true rfl) (C_X6_in ⟨by omega, by omega⟩ ⟨by omega, by omega⟩ ⟨by omega, by omega⟩) ?_
    refine e_bif_eq (tgt := 28) dX6_luck_16 rfl (fun c2 => ?_) (fun c2 => ?_)
    · refine e_bipush dX6_luck_28 rfl ?_
      refine e_ireturn dX6_luck_30 rfl rfl ?_
      exact t_pub (by unfold v_luck; rw [if_neg (by omega)]) (t_pk_rf _)
    · refine e_aload_n dX6_luck_19 rfl ?_
      refine e_iload_n dX6_luck_20 rfl ?_
      refine e_i2l dX6_luck_21 ⟨by omega, by omega⟩ ?_
      refine e_callV1rz (ci := 6) dX6_luck_22 md_X6_isCell lk_X6_310 rfl q2145 qs98 (t_obj _ _) (by decide) rfl (Nat.le_of_ble_eq_true rfl) (C_X6_isCell hz ⟨by omega, by omega⟩) ?_
      refine e_bif_ne (tgt := 31) dX6_luck_25 rfl (fun c3 => ?_) (fun c3 => ?_)
      · refine e_iconst dX6_luck_31 ?_
        refine e_istore4 dX6_luck_32 rfl ?_
        refine e_iconst dX6_luck_34 ?_
        refine e_istore5 dX6_luck_35 rfl ?_
        refine e_for (n := n) (fun i => e_E mX6_luck 37 [.ref 384, e_i s, e_i n, e_i c, e_i (t_it (t_lkf s c) i.toNat (σ, (0 : Int))).2, e_i i] [] (t_H (t_it (t_lkf s c) i.toNat (σ, (0 : Int))).1 h0) _ _ _ _) (by omega) ?_ (fun i hi0 hi1 hF => ?_)
        · have hin := t_lkl_in (s := s) (c := c) hz hr n.toNat
          obtain ⟨x, hx⟩ : ∃ x, t_it (t_lkf s c) n.toNat (σ, (0 : Int)) = x := ⟨_, rfl⟩
          rw [hx] at hin ⊢
          refine e_iload dX6_luck_37 rfl ?_
          refine e_iload_n dX6_luck_39 rfl ?_
          refine e_icmp_ge (tgt := 82) dX6_luck_40 rfl ⟨by omega, by omega⟩ ⟨by omega, by omega⟩ (fun c4 => ?_) (fun q => by exfalso; omega)
          refine e_iload dX6_luck_82 rfl ?_
          refine e_ireturn dX6_luck_84 rfl rfl ?_
          refine t_pub ?_ (fun k hk => hin.1 k (by unfold t_per at hk; omega) (by unfold t_per at hk; omega))
          unfold v_luck t_lk
          rw [hx, if_pos ⟨by assumption, by assumption, by assumption⟩]
        · have hin := t_lkl_in (s := s) (c := c) hz hr i.toNat
          rw [t_it_s _ _ hi0] at hF
          generalize t_it (t_lkf s c) i.toNat (σ, (0 : Int)) = x at hF hin ⊢
          rw [Int.toNat_of_nonneg hi0] at hin
          have xz : t_sz x.1 := by unfold t_sz; rw [hin.1 1 (by omega) (by decide)]; exact hz
          have xr : t_okR (x.1 1) := by rw [hin.1 1 (by omega) (by decide)]; exact hr
          have hg := t_gd_in xz xr (s + i)
          have hin2 := hin.2
          refine e_iload dX6_luck_37 rfl ?_
          refine e_iload_n dX6_luck_39 rfl ?_
          refine e_icmp_ge (tgt := 82) dX6_luck_40 rfl ⟨by omega, by omega⟩ ⟨by omega, by omega⟩ (fun q => by exfalso; omega) (fun c5 => ?_)
          refine e_aload_n dX6_luck_43 rfl ?_
          refine e_iload_n dX6_luck_44 rfl ?_
          refine e_i2l dX6_luck_45 ⟨by omega, by omega⟩ ?_
          refine e_iload dX6_luck_46 rfl ?_
          refine e_i2l dX6_luck_48 ⟨by omega, by omega⟩ ?_
          refine e_ladd dX6_luck_49 ?_
          refine e_callV1rz (ci := 6) dX6_luck_50 md_X6_goDrawn lk_X6_517 rfl q2547 qs139 (t_obj _ _) (by decide) rfl (Nat.le_of_ble_eq_true rfl) (C_X6_goDrawn xz xr ⟨by omega, by omega⟩) ?_
          obtain ⟨τ, hτ⟩ : ∃ τ, t_gd (s + i) x.1 = τ := ⟨_, rfl⟩
          have hF2 : t_lkf s c i x = (τ, x.2 + (if t_rdo τ c (τ 1 0) = 0 then 0 else 1)) := by unfold t_lkf; rw [hτ]
          rw [hF2] at hF
          rw [hτ] at hg ⊢
          have s0 := hg.1.1.1.1
          have hp : t_rdo τ c (τ 1 0) = 0 ∨ t_rdo τ c (τ 1 0) = 1 := (hg.1.2.1 (τ 1 0) c s0.1 (Int.le_refl _) (by omega) (by omega)).1
          refine e_pop dX6_luck_53 rfl ?_
          refine e_iload dX6_luck_54 rfl ?_
          refine e_aload_n dX6_luck_56 rfl ?_
          refine e_iload_n dX6_luck_57 rfl ?_
          refine e_aload_n dX6_luck_58 rfl ?_
          refine e_callV0rz (ci := 6) dX6_luck_59 md_X6_years lk_X6_118 rfl q2096 qs88 (t_obj _ _) (by decide) rfl (Nat.le_of_ble_eq_true rfl) (C_X6_years) ?_
          refine e_callV2rz (ci := 6) dX6_luck_62 md_X6_roadOf lk_X6_386 rfl q2251 qs113 (t_obj _ _) (by decide) rfl (Nat.le_of_ble_eq_true rfl) (C_X6_roadOf hg.1 ⟨by omega, by omega⟩ ⟨by omega, by omega⟩) ?_
          refine e_if_eq (tgt := 72) dX6_luck_65 rfl ⟨by omega, by omega⟩ (fun c6 => ?_) (fun c6 => ?_)
          · refine e_iconst dX6_luck_72 ?_
            refine e_iadd dX6_luck_73 ?_
            refine e_istore4 dX6_luck_74 rfl ?_
            refine e_iinc5 dX6_luck_76 rfl ?_
            refine e_goto (tgt := 37) dX6_luck_79 rfl ?_
            first
              | (rw [if_pos (by assumption)] at hF; exact hF)
              | (rw [if_neg (by assumption)] at hF; exact hF)
          · refine e_iconst dX6_luck_68 ?_
            refine e_goto (tgt := 73) dX6_luck_69 rfl ?_
            refine e_iadd dX6_luck_73 ?_
            refine e_istore4 dX6_luck_74 rfl ?_
            refine e_iinc5 dX6_luck_76 rfl ?_
            refine e_goto (tgt := 37) dX6_luck_79 rfl ?_
            first
              | (rw [if_pos (by assumption)] at hF; exact hF)
              | (rw [if_neg (by assumption)] at hF; exact hF)
      · refine e_bipush dX6_luck_28 rfl ?_
        refine e_ireturn dX6_luck_30 rfl rfl ?_
        exact t_pub (by unfold v_luck; rw [if_neg (by omega)]) (t_pk_rf _)
theorem C_X6_numberAt {σ : t_S} {h0 : e_A} {s i : Int} (hs : 0 ≤ s ∧ s < 4) (hi : 0 ≤ i ∧ i < 60) : e_C mX6_numberAt [.ref 384, e_i s, e_i i] (t_H σ h0) 0 0 0 (e_ret (e_j (t_nu σ s i)) (t_H σ h0)) := by
  refine e_enter (al0 := [.ref 384, e_i s, e_i i]) (by decide +kernel) rfl (Nat.le_of_ble_eq_true rfl) ?_
  refine e_aload_n dX6_numberAt_0 rfl ?_
  refine t_geta (k := 44) dX6_numberAt_1 fl_X6_94 rfl ?_
  refine e_bipush dX6_numberAt_4 rfl ?_
  refine e_iload_n dX6_numberAt_6 rfl ?_
  refine e_imul dX6_numberAt_7 ?_
  refine e_iload_n dX6_numberAt_8 rfl ?_
  refine e_iadd dX6_numberAt_9 ?_
  refine t_lld 240 dX6_numberAt_10 rfl (by decide) (fun _ => rfl) rfl ⟨by omega, by omega⟩ ?_
  refine e_lreturn dX6_numberAt_11 rfl ?_
  exact ⟨rfl, rfl⟩
theorem C_X6_askSeen_2 {σ : t_S} {h0 : e_A} (hz : t_sz σ) (hr : t_okR (σ 1)) (ht : t_slt σ) {s : Int} (hs : e_rg s) : e_C mX6_askSeen_2 [.ref 384, e_i s] (t_H σ h0) 0 0 3 (e_ret (e_i (t_wny σ s)) (t_H (if t_wny σ s < 0 then σ else t_is σ) h0)) := by
  refine e_enter (al0 := [.ref 384, e_i s, .retAddr 0]) (by decide +kernel) rfl (Nat.le_of_ble_eq_true rfl) ?_
  refine e_iload_n dX6_askSeen_2_0 rfl ?_
  refine e_callS1rz dX6_askSeen_2_1 md_X6_isSlot lk_X6_422 rfl q2410 rfl (Nat.le_of_ble_eq_true rfl) (C_X6_isSlot ⟨by omega, by omega⟩) ?_
  refine e_bif_eq (tgt := 14) dX6_askSeen_2_4 rfl (fun c1 => ?_) (fun c1 => ?_)
  · refine e_bipush dX6_askSeen_2_14 rfl ?_
    refine e_ireturn dX6_askSeen_2_16 rfl rfl ?_
    first
      | (have e : t_wny σ s = -2 := by unfold t_wny; rw [if_neg (by omega)]
         rw [e]; exact ⟨rfl, rfl⟩)
      | (have e : t_wny σ s = -2 := by unfold t_wny; rw [if_pos ⟨by assumption, by assumption⟩, if_neg (by omega), if_pos (by omega)]
         rw [e]; exact ⟨rfl, rfl⟩)
      | (have e9 : t_bad σ s k = 1 := if_neg (fun q => by obtain ⟨q1, q2, q3⟩ := q; omega)
         rw [if_pos e9] at hV
         have e : t_wny σ s = -2 := by unfold t_wny; rw [if_pos ⟨by assumption, by assumption⟩, if_neg (by omega), if_neg (by omega), if_neg (by omega)]
         rw [e]; exact ⟨rfl, rfl⟩)
  · refine e_aload_n dX6_askSeen_2_7 rfl ?_
    refine e_callV0rz (ci := 6) dX6_askSeen_2_8 md_X6_isColony lk_X6_114 rfl q2149 qs99 (t_obj _ _) (by decide) rfl (Nat.le_of_ble_eq_true rfl) (C_X6_isColony hz) ?_
    refine e_bif_ne (tgt := 17) dX6_askSeen_2_11 rfl (fun c2 => ?_) (fun c2 => ?_)
    · have h42 := ht.1 s (by omega) (by omega)
      refine e_aload_n dX6_askSeen_2_17 rfl ?_
      refine t_geta (k := 42) dX6_askSeen_2_18 fl_X6_88 rfl ?_
      refine e_iload_n dX6_askSeen_2_21 rfl ?_
      refine t_ild 4 dX6_askSeen_2_22 rfl (by decide) (fun _ => rfl) rfl ⟨by omega, by omega⟩ ?_
      refine e_iconst dX6_askSeen_2_23 ?_
      refine e_icmp_ne (tgt := 30) dX6_askSeen_2_24 rfl ⟨by omega, by omega⟩ ⟨by omega, by omega⟩ (fun c3 => ?_) (fun c3 => ?_)
      · refine e_aload_n dX6_askSeen_2_30 rfl ?_
        refine t_geta (k := 42) dX6_askSeen_2_31 fl_X6_88 rfl ?_
        refine e_iload_n dX6_askSeen_2_34 rfl ?_
        refine t_ild 4 dX6_askSeen_2_35 rfl (by decide) (fun _ => rfl) rfl ⟨by omega, by omega⟩ ?_
        refine e_iconst dX6_askSeen_2_36 ?_
        refine e_irem dX6_askSeen_2_37 ⟨by omega, by omega⟩ ⟨by omega, by omega⟩ ?_
        refine e_if_eq (tgt := 44) dX6_askSeen_2_38 rfl ⟨by omega, by omega⟩ (fun c4 => ?_) (fun c4 => ?_)
        · refine e_iconst dX6_askSeen_2_44 ?_
          refine e_istore_n2 dX6_askSeen_2_45 rfl ?_
          refine e_for (n := σ 42 s / 3) (fun k => t_fnd (t_bad σ s) (σ 42 s / 3).toNat 0 = t_fnd (t_bad σ s) (σ 42 s / 3 - k).toNat k → e_E mX6_askSeen_2 46 [.ref 384, e_i s, e_i (3 * k)] [] (t_H σ h0) _ _ _ _) (by omega) (fun hV => ?_) (fun k hk0 hk1 hF hV => ?_) (by rw [Int.sub_zero])
          · rw [Int.sub_self] at hV
            replace hV : t_fnd (t_bad σ s) (σ 42 s / 3).toNat 0 = -1 := hV
            refine e_iload_n dX6_askSeen_2_46 rfl ?_
            refine e_aload_n dX6_askSeen_2_47 rfl ?_
            refine t_geta (k := 42) dX6_askSeen_2_48 fl_X6_88 rfl ?_
            refine e_iload_n dX6_askSeen_2_51 rfl ?_
            refine t_ild 4 dX6_askSeen_2_52 rfl (by decide) (fun _ => rfl) rfl ⟨by omega, by omega⟩ ?_
            refine e_icmp_ge (tgt := 111) dX6_askSeen_2_53 rfl ⟨by omega, by omega⟩ ⟨by omega, by omega⟩ (fun c5 => ?_) (fun q => by exfalso; omega)
            refine e_aload_n dX6_askSeen_2_111 rfl ?_
            refine e_callV0vz (ci := 6) dX6_askSeen_2_112 md_X6_asItIs lk_X6_329 rfl q2084 qs85 (t_obj _ _) (by decide) rfl (Nat.le_of_ble_eq_true rfl) (C_X6_asItIs hz hr) ?_
            refine e_iconst dX6_askSeen_2_115 ?_
            refine e_ireturn dX6_askSeen_2_116 rfl rfl ?_
            have e : t_wny σ s = 0 := by unfold t_wny; rw [if_pos ⟨by assumption, by assumption⟩, if_neg (by omega), if_neg (by omega), if_pos hV]
            rw [e]; exact ⟨rfl, rfl⟩
          · rw [t_fnd_s _ hk1] at hV
            have n1 : e_rl (t_nu σ s (3 * k)) := ht.2.2 _
            have n2 : e_rl (t_nu σ s (3 * k + 1)) := ht.2.2 _
            have n3 : e_rl (t_nu σ s (3 * k + 2)) := ht.2.2 _
            refine e_iload_n dX6_askSeen_2_46 rfl ?_
            refine e_aload_n dX6_askSeen_2_47 rfl ?_
            refine t_geta (k := 42) dX6_askSeen_2_48 fl_X6_88 rfl ?_
            refine e_iload_n dX6_askSeen_2_51 rfl ?_
            refine t_ild 4 dX6_askSeen_2_52 rfl (by decide) (fun _ => rfl) rfl ⟨by omega, by omega⟩ ?_
            refine e_icmp_ge (tgt := 111) dX6_askSeen_2_53 rfl ⟨by omega, by omega⟩ ⟨by omega, by omega⟩ (fun q => by exfalso; omega) (fun c6 => ?_)
            refine e_aload_n dX6_askSeen_2_56 rfl ?_
            refine e_aload_n dX6_askSeen_2_57 rfl ?_
            refine e_iload_n dX6_askSeen_2_58 rfl ?_
            refine e_iload_n dX6_askSeen_2_59 rfl ?_
            refine e_callV2rz (ci := 6) dX6_askSeen_2_60 md_X6_numberAt lk_X6_425 rfl q2415 qs127 (t_obj _ _) (by decide) rfl (Nat.le_of_ble_eq_true rfl) (C_X6_numberAt ⟨by omega, by omega⟩ ⟨by omega, by omega⟩) ?_
            refine e_callV1rz (ci := 6) dX6_askSeen_2_63 md_X6_isWidow lk_X6_261 rfl q2055 qs80 (t_obj _ _) (by decide) rfl (Nat.le_of_ble_eq_true rfl) (C_X6_isWidow hz n1) ?_
            refine e_bif_eq (tgt := 102) dX6_askSeen_2_66 rfl (fun c7 => ?_) (fun c7 => ?_)
            · refine e_bipush dX6_askSeen_2_102 rfl ?_
              refine e_ireturn dX6_askSeen_2_104 rfl rfl ?_
              first
                | (have e : t_wny σ s = -2 := by unfold t_wny; rw [if_neg (by omega)]
                   rw [e]; exact ⟨rfl, rfl⟩)
                | (have e : t_wny σ s = -2 := by unfold t_wny; rw [if_pos ⟨by assumption, by assumption⟩, if_neg (by omega), if_pos (by omega)]
                   rw [e]; exact ⟨rfl, rfl⟩)
                | (have e9 : t_bad σ s k = 1 := if_neg (fun q => by obtain ⟨q1, q2, q3⟩ := q; omega)
                   rw [if_pos e9] at hV
                   have e : t_wny σ s = -2 := by unfold t_wny; rw [if_pos ⟨by assumption, by assumption⟩, if_neg (by omega), if_neg (by omega), if_neg (by omega)]
                   rw [e]; exact ⟨rfl, rfl⟩)
            · refine e_aload_n dX6_askSeen_2_69 rfl ?_
              refine e_iload_n dX6_askSeen_2_70 rfl ?_
              refine e_iload_n dX6_askSeen_2_71 rfl ?_
              refine e_iconst dX6_askSeen_2_72 ?_
              refine e_iadd dX6_askSeen_2_73 ?_
              refine e_callV2rz (ci := 6) dX6_askSeen_2_74 md_X6_numberAt lk_X6_425 rfl q2415 qs127 (t_obj _ _) (by decide) rfl (Nat.le_of_ble_eq_true rfl) (C_X6_numberAt ⟨by omega, by omega⟩ ⟨by omega, by omega⟩) ?_
              refine e_lconst (z := 0) dX6_askSeen_2_77 rfl ?_
              refine e_ldc2 (z := 40) dX6_askSeen_2_78 q2164 rfl ?_
              refine e_callS3rz dX6_askSeen_2_81 md_X6_in lk_X6_106 rfl q1930 rfl (Nat.le_of_ble_eq_true rfl) (C_X6_in n2 ⟨by omega, by omega⟩ ⟨by omega, by omega⟩) ?_
              refine e_bif_eq (tgt := 102) dX6_askSeen_2_84 rfl (fun c8 => ?_) (fun c8 => ?_)
              · refine e_bipush dX6_askSeen_2_102 rfl ?_
                refine e_ireturn dX6_askSeen_2_104 rfl rfl ?_
                first
                  | (have e : t_wny σ s = -2 := by unfold t_wny; rw [if_neg (by omega)]
                     rw [e]; exact ⟨rfl, rfl⟩)
                  | (have e : t_wny σ s = -2 := by unfold t_wny; rw [if_pos ⟨by assumption, by assumption⟩, if_neg (by omega), if_pos (by omega)]
                     rw [e]; exact ⟨rfl, rfl⟩)
                  | (have e9 : t_bad σ s k = 1 := if_neg (fun q => by obtain ⟨q1, q2, q3⟩ := q; omega)
                     rw [if_pos e9] at hV
                     have e : t_wny σ s = -2 := by unfold t_wny; rw [if_pos ⟨by assumption, by assumption⟩, if_neg (by omega), if_neg (by omega), if_neg (by omega)]
                     rw [e]; exact ⟨rfl, rfl⟩)
              · refine e_aload_n dX6_askSeen_2_87 rfl ?_
                refine e_aload_n dX6_askSeen_2_88 rfl ?_
                refine e_iload_n dX6_askSeen_2_89 rfl ?_
                refine e_iload_n dX6_askSeen_2_90 rfl ?_
                refine e_iconst dX6_askSeen_2_91 ?_
                refine e_iadd dX6_askSeen_2_92 ?_
                refine e_callV2rz (ci := 6) dX6_askSeen_2_93 md_X6_numberAt lk_X6_425 rfl q2415 qs127 (t_obj _ _) (by decide) rfl (Nat.le_of_ble_eq_true rfl) (C_X6_numberAt ⟨by omega, by omega⟩ ⟨by omega, by omega⟩) ?_
                refine e_callV1rz (ci := 6) dX6_askSeen_2_96 md_X6_isCell lk_X6_310 rfl q2145 qs98 (t_obj _ _) (by decide) rfl (Nat.le_of_ble_eq_true rfl) (C_X6_isCell hz n3) ?_
                refine e_bif_ne (tgt := 105) dX6_askSeen_2_99 rfl (fun c9 => ?_) (fun c9 => ?_)
                · refine e_iinc2 dX6_askSeen_2_105 rfl ?_
                  refine e_goto (tgt := 46) dX6_askSeen_2_108 rfl ?_
                  have e9 : t_bad σ s k = 0 := if_pos ⟨by assumption, by assumption, by assumption⟩
                  rw [if_neg (by rw [e9]; decide)] at hV
                  have hF2 := hF hV
                  rw [show 3 * (k + 1) = 3 * k + 3 by omega] at hF2
                  exact hF2
                · refine e_bipush dX6_askSeen_2_102 rfl ?_
                  refine e_ireturn dX6_askSeen_2_104 rfl rfl ?_
                  first
                    | (have e : t_wny σ s = -2 := by unfold t_wny; rw [if_neg (by omega)]
                       rw [e]; exact ⟨rfl, rfl⟩)
                    | (have e : t_wny σ s = -2 := by unfold t_wny; rw [if_pos ⟨by assumption, by assumption⟩, if_neg (by omega), if_pos (by omega)]
                       rw [e]; exact ⟨rfl, rfl⟩)
                    | (have e9 : t_bad σ s k = 1 := if_neg (fun q => by obtain ⟨q1, q2, q3⟩ := q; omega)
                       rw [if_pos e9] at hV
                       have e : t_wny σ s = -2 := by unfold t_wny; rw [if_pos ⟨by assumption, by assumption⟩, if_neg (by omega), if_neg (by omega), if_neg (by omega)]
                       rw [e]; exact ⟨rfl, rfl⟩)
        · refine e_bipush dX6_askSeen_2_41 rfl ?_
          refine e_ireturn dX6_askSeen_2_43 rfl rfl ?_
          first
            | (have e : t_wny σ s = -2 := by unfold t_wny; rw [if_neg (by omega)]
               rw [e]; exact ⟨rfl, rfl⟩)
            | (have e : t_wny σ s = -2 := by unfold t_wny; rw [if_pos ⟨by assumption, by assumption⟩, if_neg (by omega), if_pos (by omega)]
               rw [e]; exact ⟨rfl, rfl⟩)
            | (have e9 : t_bad σ s k = 1 := if_neg (fun q => by obtain ⟨q1, q2, q3⟩ := q; omega)
               rw [if_pos e9] at hV
               have e : t_wny σ s = -2 := by unfold t_wny; rw [if_pos ⟨by assumption, by assumption⟩, if_neg (by omega), if_neg (by omega), if_neg (by omega)]
               rw [e]; exact ⟨rfl, rfl⟩)
      · refine e_bipush dX6_askSeen_2_27 rfl ?_
        refine e_ireturn dX6_askSeen_2_29 rfl rfl ?_
        have e : t_wny σ s = -6 := by unfold t_wny; rw [if_pos ⟨by assumption, by assumption⟩, if_pos (by omega)]
        rw [e]; exact ⟨rfl, rfl⟩
    · refine e_bipush dX6_askSeen_2_14 rfl ?_
      refine e_ireturn dX6_askSeen_2_16 rfl rfl ?_
      first
        | (have e : t_wny σ s = -2 := by unfold t_wny; rw [if_neg (by omega)]
           rw [e]; exact ⟨rfl, rfl⟩)
        | (have e : t_wny σ s = -2 := by unfold t_wny; rw [if_pos ⟨by assumption, by assumption⟩, if_neg (by omega), if_pos (by omega)]
           rw [e]; exact ⟨rfl, rfl⟩)
        | (have e9 : t_bad σ s k = 1 := if_neg (fun q => by obtain ⟨q1, q2, q3⟩ := q; omega)
           rw [if_pos e9] at hV
           have e : t_wny σ s = -2 := by unfold t_wny; rw [if_pos ⟨by assumption, by assumption⟩, if_neg (by omega), if_neg (by omega), if_neg (by omega)]
           rw [e]; exact ⟨rfl, rfl⟩)
theorem C_X6_askSeen {σ : t_S} {h0 : e_A} (hz : t_sz σ) (hr : t_okR (σ 1)) (ht : t_slt σ) {s w : Int} (hs : e_rg s) (hw : e_rg w) : e_C mX6_askSeen [.ref 384, e_i s, e_i w] (t_H σ h0) 0 0 4 (e_ret (e_i (t_wnw σ s w)) (t_H (if t_wnw σ s w < 0 then σ else t_is σ) h0)) := by
  refine e_enter (al0 := [.ref 384, e_i s, e_i w]) (by decide +kernel) rfl (Nat.le_of_ble_eq_true rfl) ?_
  refine e_aload_n dX6_askSeen_0 rfl ?_
  refine e_iload_n dX6_askSeen_1 rfl ?_
  refine e_i2l dX6_askSeen_2 ⟨by omega, by omega⟩ ?_
  refine e_callV1rz (ci := 6) dX6_askSeen_3 md_X6_isWidow lk_X6_261 rfl q2055 qs80 (t_obj _ _) (by decide) rfl (Nat.le_of_ble_eq_true rfl) (C_X6_isWidow hz ⟨by omega, by omega⟩) ?_
  refine e_bif_eq (tgt := 17) dX6_askSeen_6 rfl (fun c1 => ?_) (fun c1 => ?_)
  · refine e_bipush dX6_askSeen_17 rfl ?_
    refine e_ireturn dX6_askSeen_19 rfl rfl ?_
    first
      | (have e : t_wnw σ s w = t_wny σ s := if_pos (by assumption)
         rw [e]; exact ⟨rfl, rfl⟩)
      | (have e : t_wnw σ s w = -2 := if_neg (by assumption)
         rw [e]; exact ⟨rfl, rfl⟩)
  · refine e_aload_n dX6_askSeen_9 rfl ?_
    refine e_iload_n dX6_askSeen_10 rfl ?_
    refine e_callV1rz (ci := 6) dX6_askSeen_11 md_X6_askSeen_2 lk_X6_429 rfl q2407 qs126 (t_obj _ _) (by decide) rfl (Nat.le_of_ble_eq_true rfl) (C_X6_askSeen_2 hz hr ht hs) ?_
    refine e_goto (tgt := 19) dX6_askSeen_14 rfl ?_
    refine e_ireturn dX6_askSeen_19 rfl rfl ?_
    first
      | (have e : t_wnw σ s w = t_wny σ s := if_pos (by assumption)
         rw [e]; exact ⟨rfl, rfl⟩)
      | (have e : t_wnw σ s w = -2 := if_neg (by assumption)
         rw [e]; exact ⟨rfl, rfl⟩)
theorem C_X6_isSeen {σ : t_S} {h0 : e_A} (ha : t_ask σ) {s : Int} (hg : t_sgd σ s) (hl : t_slt σ) : e_C mX6_isSeen [.ref 384, e_i s] (t_H σ h0) 0 0 6 (e_ret (e_i (if t_see (t_ga σ) s then 1 else 0)) (t_H (t_ga σ) h0)) := by
  refine e_enter (al0 := [.ref 384, e_i s, .retAddr 0]) (by decide +kernel) rfl (Nat.le_of_ble_eq_true rfl) ?_
  refine e_aload_n dX6_isSeen_0 rfl ?_
  refine e_callV0vz (ci := 6) dX6_isSeen_1 md_X6_goAll lk_X6_332 rfl q2092 qs87 (t_obj _ _) (by decide) rfl (Nat.le_of_ble_eq_true rfl) (C_X6_goAll ha) ?_
  have H := t_ga_hist ha
  have hg2 := t_sgd_of hg (t_ga_k ha (j := 1) (by omega)) (t_ga_k ha (j := 42) (by omega)) (t_ga_k ha (j := 44) (by omega))
  have hl2 := t_slt_of hl (t_ga_k ha (j := 42) (by omega)) (t_ga_k ha (j := 43) (by omega)) (t_ga_k ha (j := 44) (by omega))
  clear hg hl
  generalize t_ga σ = ρ at H hg2 hl2 ⊢
  obtain ⟨g1, g2, g3⟩ := hg2
  have s7 := H.1.1.2.2.2.2.2.1
  refine e_iconst dX6_isSeen_4 ?_
  refine e_istore_n2 dX6_isSeen_5 rfl ?_
  refine e_for (n := ρ 42 s / 3) (fun k => t_fnd (t_seg ρ s) (ρ 42 s / 3).toNat 0 = t_fnd (t_seg ρ s) (ρ 42 s / 3 - k).toNat k → e_E mX6_isSeen 6 [.ref 384, e_i s, e_i (3 * k)] [] (t_H ρ h0) _ _ _ _) (by omega) (fun hV => ?_) (fun k hk0 hk1 hF hV => ?_) (by rw [Int.sub_zero])
  · rw [Int.sub_self] at hV
    replace hV : t_fnd (t_seg ρ s) (ρ 42 s / 3).toNat 0 = -1 := hV
    refine e_iload_n dX6_isSeen_6 rfl ?_
    refine e_aload_n dX6_isSeen_7 rfl ?_
    refine t_geta (k := 42) dX6_isSeen_8 fl_X6_88 rfl ?_
    refine e_iload_n dX6_isSeen_11 rfl ?_
    refine t_ild 4 dX6_isSeen_12 rfl (by decide) (fun _ => rfl) rfl ⟨by omega, by omega⟩ ?_
    refine e_icmp_ge (tgt := 57) dX6_isSeen_13 rfl ⟨by omega, by omega⟩ ⟨by omega, by omega⟩ (fun c1 => ?_) (fun q => by exfalso; omega)
    refine e_iconst dX6_isSeen_57 ?_
    refine e_ireturn dX6_isSeen_58 rfl rfl ?_
    refine e_rv ?_ rfl
    rw [if_pos (show t_see ρ s from hV)]
  · rw [t_fnd_s _ hk1] at hV
    obtain ⟨k1, k2, k3⟩ := g3 k hk0 hk1
    have n3 : e_rl (t_nu ρ s (3 * k + 2)) := hl2.2.2 _
    have hp := t_pth_rg H.2.2.2.1 (w := t_nu ρ s (3 * k)) (k := t_nu ρ s (3 * k + 1)) (by omega) (by omega)
    refine e_iload_n dX6_isSeen_6 rfl ?_
    refine e_aload_n dX6_isSeen_7 rfl ?_
    refine t_geta (k := 42) dX6_isSeen_8 fl_X6_88 rfl ?_
    refine e_iload_n dX6_isSeen_11 rfl ?_
    refine t_ild 4 dX6_isSeen_12 rfl (by decide) (fun _ => rfl) rfl ⟨by omega, by omega⟩ ?_
    refine e_icmp_ge (tgt := 57) dX6_isSeen_13 rfl ⟨by omega, by omega⟩ ⟨by omega, by omega⟩ (fun q => by exfalso; omega) (fun c2 => ?_)
    refine e_aload_n dX6_isSeen_16 rfl ?_
    refine e_aload_n dX6_isSeen_17 rfl ?_
    refine e_iload_n dX6_isSeen_18 rfl ?_
    refine e_iload_n dX6_isSeen_19 rfl ?_
    refine e_callV2rz (ci := 6) dX6_isSeen_20 md_X6_numberAt lk_X6_425 rfl q2415 qs127 (t_obj _ _) (by decide) rfl (Nat.le_of_ble_eq_true rfl) (C_X6_numberAt ⟨by omega, by omega⟩ ⟨by omega, by omega⟩) ?_
    refine e_l2i dX6_isSeen_23 ?_
    refine e_aload_n dX6_isSeen_24 rfl ?_
    refine e_iload_n dX6_isSeen_25 rfl ?_
    refine e_iload_n dX6_isSeen_26 rfl ?_
    refine e_iconst dX6_isSeen_27 ?_
    refine e_iadd dX6_isSeen_28 ?_
    refine e_callV2rz (ci := 6) dX6_isSeen_29 md_X6_numberAt lk_X6_425 rfl q2415 qs127 (t_obj _ _) (by decide) rfl (Nat.le_of_ble_eq_true rfl) (C_X6_numberAt ⟨by omega, by omega⟩ ⟨by omega, by omega⟩) ?_
    refine e_l2i dX6_isSeen_32 ?_
    refine e_callV2rz (ci := 6) dX6_isSeen_33 md_X6_pathOf lk_X6_341 rfl q2167 qs102 (t_obj _ _) (by decide) rfl (Nat.le_of_ble_eq_true rfl) (C_X6_pathOf H ⟨by omega, by omega⟩ ⟨by omega, by omega⟩) ?_
    refine e_i2l dX6_isSeen_36 ⟨by omega, by omega⟩ ?_
    refine e_aload_n dX6_isSeen_37 rfl ?_
    refine e_iload_n dX6_isSeen_38 rfl ?_
    refine e_iload_n dX6_isSeen_39 rfl ?_
    refine e_iconst dX6_isSeen_40 ?_
    refine e_iadd dX6_isSeen_41 ?_
    refine e_callV2rz (ci := 6) dX6_isSeen_42 md_X6_numberAt lk_X6_425 rfl q2415 qs127 (t_obj _ _) (by decide) rfl (Nat.le_of_ble_eq_true rfl) (C_X6_numberAt ⟨by omega, by omega⟩ ⟨by omega, by omega⟩) ?_
    refine e_lcmp_eq (tgt := 51) dX6_isSeen_45 dX6_isSeen_46 rfl ⟨by omega, by omega⟩ n3 (fun c3 => ?_) (fun c3 => ?_)
    · refine e_iinc2 dX6_isSeen_51 rfl ?_
      refine e_goto (tgt := 6) dX6_isSeen_54 rfl ?_
      have e9 : t_seg ρ s k = 0 := if_pos (by assumption)
      rw [if_neg (by rw [e9]; decide)] at hV
      have hF2 := hF hV
      rw [show 3 * (k + 1) = 3 * k + 3 by omega] at hF2
      exact hF2
    · refine e_iconst dX6_isSeen_49 ?_
      refine e_ireturn dX6_isSeen_50 rfl rfl ?_
      have e9 : t_seg ρ s k = 1 := if_neg (by assumption)
      rw [if_pos e9] at hV
      refine e_rv ?_ rfl
      rw [if_neg (show ¬ t_see ρ s by show ¬ (t_fnd _ _ _ = -1); omega)]
theorem C_X6_facedOf {σ : t_S} {h0 : e_A} (ha : t_ask σ) {s w : Int} (hg : t_sgd σ s) (hl : t_slt σ) (hw : 0 ≤ w ∧ w < 7) : e_C mX6_facedOf [.ref 384, e_i s, e_i w] (t_H σ h0) 0 0 7 (e_ret (e_i (t_fc s w σ).2) (t_H (t_fc s w σ).1 h0)) := by
  refine e_enter (al0 := [.ref 384, e_i s, e_i w, .retAddr 0, .retAddr 0, .retAddr 0]) (by decide +kernel) rfl (Nat.le_of_ble_eq_true rfl) ?_
  refine e_iconst dX6_facedOf_0 ?_
  refine e_istore_n3 dX6_facedOf_1 rfl ?_
  refine e_iconst dX6_facedOf_2 ?_
  refine e_istore4 dX6_facedOf_3 rfl ?_
  refine e_for (n := 4) (fun d => e_E mX6_facedOf 5 [.ref 384, e_i s, e_i w, e_i (t_it (t_fcf s w) d.toNat (σ, (0 : Int))).2, e_i d, .retAddr 0] [] (t_H (t_it (t_fcf s w) d.toNat (σ, (0 : Int))).1 h0) _ _ _ _) (by omega) ?_ (fun d hd0 hd1 hF => ?_)
  · show e_E _ _ [_, _, _, e_i (t_fc s w σ).2, _, _] _ (t_H (t_fc s w σ).1 h0) _ _ _ _
    obtain ⟨x, hx⟩ : ∃ x, t_fc s w σ = x := ⟨_, rfl⟩
    rw [hx]
    refine e_iload dX6_facedOf_5 rfl ?_
    refine e_iconst dX6_facedOf_7 ?_
    refine e_icmp_ge (tgt := 80) dX6_facedOf_8 rfl ⟨by omega, by omega⟩ ⟨by omega, by omega⟩ (fun c1 => ?_) (fun q => by exfalso; omega)
    refine e_iload_n dX6_facedOf_80 rfl ?_
    refine e_ireturn dX6_facedOf_81 rfl rfl ?_
    exact ⟨rfl, rfl⟩
  · have hin := t_fcl_in (s := s) hw ha d.toNat (by omega)
    rw [t_it_s _ _ hd0] at hF
    generalize t_it (t_fcf s w) d.toNat (σ, (0 : Int)) = x at hF hin ⊢
    rw [Int.toNat_of_nonneg hd0] at hin
    have h1 := t_fc1_in (w := w) hin.2.1 ⟨hd0, hd1⟩
    have hgx : t_sgd (s_up x.1 16 w d) s := t_sgd_of hg ((s_up_f (by decide)).trans (hin.1 1 (by omega) (by decide) (by decide))) ((s_up_f (by decide)).trans (hin.1 42 (by omega) (by decide) (by decide))) ((s_up_f (by decide)).trans (hin.1 44 (by omega) (by decide) (by decide)))
    have hlx : t_slt (s_up x.1 16 w d) := t_slt_of hl ((s_up_f (by decide)).trans (hin.1 42 (by omega) (by decide) (by decide))) ((s_up_f (by decide)).trans (hin.1 43 (by omega) (by decide) (by decide))) ((s_up_f (by decide)).trans (hin.1 44 (by omega) (by decide) (by decide)))
    refine e_iload dX6_facedOf_5 rfl ?_
    refine e_iconst dX6_facedOf_7 ?_
    refine e_icmp_ge (tgt := 80) dX6_facedOf_8 rfl ⟨by omega, by omega⟩ ⟨by omega, by omega⟩ (fun q => by exfalso; omega) (fun c2 => ?_)
    refine e_aload_n dX6_facedOf_11 rfl ?_
    refine t_geta (k := 16) dX6_facedOf_12 fl_X6_37 rfl ?_
    refine e_iload_n dX6_facedOf_15 rfl ?_
    refine e_iload dX6_facedOf_16 rfl ?_
    refine t_ist 7 dX6_facedOf_18 rfl (by decide) rfl rfl ⟨by omega, by omega⟩ ?_
    refine e_iload_n dX6_facedOf_19 rfl ?_
    refine e_aload_n dX6_facedOf_20 rfl ?_
    refine e_iload_n dX6_facedOf_21 rfl ?_
    refine e_callV1rz (ci := 6) dX6_facedOf_22 md_X6_isSeen lk_X6_432 rfl q2423 qs129 (t_obj _ _) (by decide) rfl (Nat.le_of_ble_eq_true rfl) (C_X6_isSeen h1.2.2 hgx hlx) ?_
    show e_E _ _ _ (e_i (if t_see (t_fc1 w d x.1) s then 1 else 0) :: _) (t_H (t_fc1 w d x.1) h0) _ _ _ _
    obtain ⟨τ, hτ⟩ : ∃ τ, t_fc1 w d x.1 = τ := ⟨_, rfl⟩
    have hF2 : t_fcf s w d x = (t_it (t_fc2f w d) 41 τ, x.2 + (if t_see τ s then 2 ^ d.toNat else 0)) := by unfold t_fcf t_fc2; rw [hτ]
    rw [hF2] at hF
    rw [hτ] at h1 ⊢
    have hm := hin.2.2.1
    refine e_bif_eq (tgt := 35) dX6_facedOf_25 rfl (fun c3 => ?_) (fun c3 => ?_)
    · refine e_iconst dX6_facedOf_35 ?_
      refine e_ior dX6_facedOf_36 (show Int32.ofInt x.2 ||| Int32.ofInt _ = Int32.ofInt (x.2 + (if t_see τ s then 2 ^ d.toNat else 0)) from by first | (rw [if_pos (by assumption)]; exact e_or_top ⟨by omega, by omega⟩ hm) | (rw [if_neg (by assumption), Int.add_zero]; exact e_or_0 _)) ?_
      refine e_istore_n3 dX6_facedOf_37 rfl ?_
      refine e_iconst dX6_facedOf_38 ?_
      refine e_istore5 dX6_facedOf_39 rfl ?_
      refine e_for (n := 41) (fun k => e_E mX6_facedOf 41 [.ref 384, e_i s, e_i w, e_i (x.2 + (if t_see τ s then 2 ^ d.toNat else 0)), e_i d, e_i k] [] (t_H (t_it (t_fc2f w d) k.toNat τ) h0) _ _ _ _) (by omega) ?_ (fun k hk0 hk1 hG => ?_)
      · show e_E _ _ _ _ (t_H (t_it (t_fc2f w d) 41 τ) h0) _ _ _ _
        refine e_iload dX6_facedOf_41 rfl ?_
        refine e_bipush dX6_facedOf_43 rfl ?_
        refine e_icmp_gt (tgt := 74) dX6_facedOf_45 rfl ⟨by omega, by omega⟩ ⟨by omega, by omega⟩ (fun c4 => ?_) (fun q => by exfalso; omega)
        refine e_iinc4 dX6_facedOf_74 rfl ?_
        refine e_goto (tgt := 5) dX6_facedOf_77 rfl ?_
        exact e_fgs [5] hF
      · have hk := t_fc2_in (w := w) (d := d) h1.2.1 hw k.toNat (by omega)
        have hkH : t_hist (t_it (t_fc2f w d) k.toNat τ) := t_hist_of h1.2.1 (fun j _ _ j3 _ => hk.1 j j3)
        rw [t_it_s _ _ hk0] at hG
        generalize t_it (t_fc2f w d) k.toNat τ = υ at hG hk hkH ⊢
        refine e_iload dX6_facedOf_41 rfl ?_
        refine e_bipush dX6_facedOf_43 rfl ?_
        refine e_icmp_gt (tgt := 74) dX6_facedOf_45 rfl ⟨by omega, by omega⟩ ⟨by omega, by omega⟩ (fun q => by exfalso; omega) (fun c5 => ?_)
        refine e_aload_n dX6_facedOf_48 rfl ?_
        refine t_geta (k := 35) dX6_facedOf_49 fl_X6_82 rfl ?_
        refine e_bipush dX6_facedOf_52 rfl ?_
        refine e_iload dX6_facedOf_54 rfl ?_
        refine e_imul dX6_facedOf_56 ?_
        refine e_iload dX6_facedOf_57 rfl ?_
        refine e_iadd dX6_facedOf_59 ?_
        refine e_aload_n dX6_facedOf_60 rfl ?_
        refine e_iload_n dX6_facedOf_61 rfl ?_
        refine e_iload dX6_facedOf_62 rfl ?_
        refine e_callV2rz (ci := 6) dX6_facedOf_64 md_X6_pathOf lk_X6_341 rfl q2167 qs102 (t_obj _ _) (by decide) rfl (Nat.le_of_ble_eq_true rfl) (C_X6_pathOf hkH hw ⟨by omega, by omega⟩) ?_
        refine t_ist 164 dX6_facedOf_67 rfl (by decide) rfl rfl ⟨by omega, by omega⟩ ?_
        refine e_iinc5 dX6_facedOf_68 rfl ?_
        refine e_goto (tgt := 41) dX6_facedOf_71 rfl ?_
        exact hG
    · refine e_iconst dX6_facedOf_28 ?_
      refine e_iload dX6_facedOf_29 rfl ?_
      refine e_ishl dX6_facedOf_31 (t_shl1 ⟨by omega, by omega⟩) ?_
      refine e_goto (tgt := 36) dX6_facedOf_32 rfl ?_
      refine e_ior dX6_facedOf_36 (show Int32.ofInt x.2 ||| Int32.ofInt _ = Int32.ofInt (x.2 + (if t_see τ s then 2 ^ d.toNat else 0)) from by first | (rw [if_pos (by assumption)]; exact e_or_top ⟨by omega, by omega⟩ hm) | (rw [if_neg (by assumption), Int.add_zero]; exact e_or_0 _)) ?_
      refine e_istore_n3 dX6_facedOf_37 rfl ?_
      refine e_iconst dX6_facedOf_38 ?_
      refine e_istore5 dX6_facedOf_39 rfl ?_
      refine e_for (n := 41) (fun k => e_E mX6_facedOf 41 [.ref 384, e_i s, e_i w, e_i (x.2 + (if t_see τ s then 2 ^ d.toNat else 0)), e_i d, e_i k] [] (t_H (t_it (t_fc2f w d) k.toNat τ) h0) _ _ _ _) (by omega) ?_ (fun k hk0 hk1 hG => ?_)
      · show e_E _ _ _ _ (t_H (t_it (t_fc2f w d) 41 τ) h0) _ _ _ _
        refine e_iload dX6_facedOf_41 rfl ?_
        refine e_bipush dX6_facedOf_43 rfl ?_
        refine e_icmp_gt (tgt := 74) dX6_facedOf_45 rfl ⟨by omega, by omega⟩ ⟨by omega, by omega⟩ (fun c6 => ?_) (fun q => by exfalso; omega)
        refine e_iinc4 dX6_facedOf_74 rfl ?_
        refine e_goto (tgt := 5) dX6_facedOf_77 rfl ?_
        exact e_fgs [5] hF
      · have hk := t_fc2_in (w := w) (d := d) h1.2.1 hw k.toNat (by omega)
        have hkH : t_hist (t_it (t_fc2f w d) k.toNat τ) := t_hist_of h1.2.1 (fun j _ _ j3 _ => hk.1 j j3)
        rw [t_it_s _ _ hk0] at hG
        generalize t_it (t_fc2f w d) k.toNat τ = υ at hG hk hkH ⊢
        refine e_iload dX6_facedOf_41 rfl ?_
        refine e_bipush dX6_facedOf_43 rfl ?_
        refine e_icmp_gt (tgt := 74) dX6_facedOf_45 rfl ⟨by omega, by omega⟩ ⟨by omega, by omega⟩ (fun q => by exfalso; omega) (fun c7 => ?_)
        refine e_aload_n dX6_facedOf_48 rfl ?_
        refine t_geta (k := 35) dX6_facedOf_49 fl_X6_82 rfl ?_
        refine e_bipush dX6_facedOf_52 rfl ?_
        refine e_iload dX6_facedOf_54 rfl ?_
        refine e_imul dX6_facedOf_56 ?_
        refine e_iload dX6_facedOf_57 rfl ?_
        refine e_iadd dX6_facedOf_59 ?_
        refine e_aload_n dX6_facedOf_60 rfl ?_
        refine e_iload_n dX6_facedOf_61 rfl ?_
        refine e_iload dX6_facedOf_62 rfl ?_
        refine e_callV2rz (ci := 6) dX6_facedOf_64 md_X6_pathOf lk_X6_341 rfl q2167 qs102 (t_obj _ _) (by decide) rfl (Nat.le_of_ble_eq_true rfl) (C_X6_pathOf hkH hw ⟨by omega, by omega⟩) ?_
        refine t_ist 164 dX6_facedOf_67 rfl (by decide) rfl rfl ⟨by omega, by omega⟩ ?_
        refine e_iinc5 dX6_facedOf_68 rfl ?_
        refine e_goto (tgt := 41) dX6_facedOf_71 rfl ?_
        exact hG
theorem C_X6_faced {σ : t_S} {h0 : e_A} (hz : t_sz σ) (hr : t_okR (σ 1)) (ht : t_slt σ) {s w : Int} (hs : e_rg s) (hw : e_rg w) : e_C mX6_faced [.ref 384, e_i s, e_i w] (t_H σ h0) 0 0 8 (t_Pub (v_faced σ s w) σ h0) := by
  have hwr := t_wnw_rg σ s w
  have s7 := hz.2.2.2.2.2.1
  refine e_enter (al0 := [.ref 384, e_i s, e_i w, .retAddr 0]) (by decide +kernel) rfl (Nat.le_of_ble_eq_true rfl) ?_
  refine e_aload_n dX6_faced_0 rfl ?_
  refine e_iload_n dX6_faced_1 rfl ?_
  refine e_iload_n dX6_faced_2 rfl ?_
  refine e_callV2rz (ci := 6) dX6_faced_3 md_X6_askSeen lk_X6_435 rfl q2403 qs125 (t_obj _ _) (by decide) rfl (Nat.le_of_ble_eq_true rfl) (C_X6_askSeen hz hr ht hs hw) ?_
  refine e_istore_n3 dX6_faced_6 rfl ?_
  refine e_iload_n dX6_faced_7 rfl ?_
  refine e_if_ge (tgt := 15) dX6_faced_8 rfl ⟨by omega, by omega⟩ (fun c1 => ?_) (fun c1 => ?_)
  · rw [if_neg (show ¬ t_wnw σ s w < 0 by omega)]
    obtain ⟨gw, gg⟩ := t_wnw_gd ht (show ¬ t_wnw σ s w < 0 by omega)
    have hask := t_is_ask hz hr
    have hin := t_fcl_in (s := s) (w := w) (by omega) hask 4 (Nat.le_refl _)
    refine e_aload_n dX6_faced_15 rfl ?_
    refine e_iload_n dX6_faced_16 rfl ?_
    refine e_iload_n dX6_faced_17 rfl ?_
    refine e_callV2rz (ci := 6) dX6_faced_18 md_X6_facedOf lk_X6_437 rfl q2419 qs128 (t_obj _ _) (by decide) rfl (Nat.le_of_ble_eq_true rfl) (C_X6_facedOf hask (t_is_sgd gg) (t_is_slt ht) (by omega)) ?_
    refine e_ireturn dX6_faced_21 rfl rfl ?_
    first
      | exact t_pub (by unfold v_faced; rw [if_pos (show t_wnw σ s w < 0 by omega)]) (t_pk_rf _)
      | exact t_pub (by unfold v_faced; rw [if_neg (show ¬ t_wnw σ s w < 0 by omega)]) (fun k hk => (hin.1 k (by unfold t_per at hk; omega) (by unfold t_per at hk; omega) (by unfold t_per at hk; omega)).trans (t_is_k (by unfold t_per at hk; omega) (by unfold t_per at hk; omega) (by unfold t_per at hk; omega) (by unfold t_per at hk; omega) (by unfold t_per at hk; omega) σ))
  · rw [if_pos (show t_wnw σ s w < 0 by omega)]
    refine e_iload_n dX6_faced_11 rfl ?_
    refine e_goto (tgt := 21) dX6_faced_12 rfl ?_
    refine e_ireturn dX6_faced_21 rfl rfl ?_
    first
      | exact t_pub (by unfold v_faced; rw [if_pos (show t_wnw σ s w < 0 by omega)]) (t_pk_rf _)
      | exact t_pub (by unfold v_faced; rw [if_neg (show ¬ t_wnw σ s w < 0 by omega)]) (fun k hk => (hin.1 k (by unfold t_per at hk; omega) (by unfold t_per at hk; omega) (by unfold t_per at hk; omega)).trans (t_is_k (by unfold t_per at hk; omega) (by unfold t_per at hk; omega) (by unfold t_per at hk; omega) (by unfold t_per at hk; omega) (by unfold t_per at hk; omega) σ))
theorem C_X6_worstOf {σ : t_S} {h0 : e_A} (h35 : ∀ j, 0 ≤ j → j < 164 → -1 ≤ σ 35 j ∧ σ 35 j < 80) {S k : Int} (hS : 0 ≤ S ∧ S < 16) (hk : 0 ≤ k ∧ k ≤ 40) : e_C mX6_worstOf [.ref 384, e_i S, e_i k] (t_H σ h0) 0 0 1 (e_ret (e_i (t_wst σ S k)) (t_H σ h0)) := by
  refine e_enter (al0 := [.ref 384, e_i S, e_i k, .retAddr 0, .retAddr 0, .retAddr 0, .retAddr 0]) (by decide +kernel) rfl (Nat.le_of_ble_eq_true rfl) ?_
  refine e_iconst dX6_worstOf_0 ?_
  refine e_istore_n3 dX6_worstOf_1 rfl ?_
  refine e_iconst dX6_worstOf_2 ?_
  refine e_istore4 dX6_worstOf_3 rfl ?_
  refine e_for (n := 4) (fun a => e_E mX6_worstOf 5 [.ref 384, e_i S, e_i k, e_i (t_it (t_wsf σ S k) a.toNat 0), e_i a, .retAddr 0, .retAddr 0] [] (t_H σ h0) _ _ _ _) (by omega) ?_ (fun a ha0 ha1 hF => ?_)
  · refine e_iload dX6_worstOf_5 rfl ?_
    refine e_iconst dX6_worstOf_7 ?_
    refine e_icmp_ge (tgt := 99) dX6_worstOf_8 rfl ⟨by omega, by omega⟩ ⟨by omega, by omega⟩ (fun c1 => ?_) (fun q => by exfalso; omega)
    refine e_iload_n dX6_worstOf_99 rfl ?_
    refine e_ireturn dX6_worstOf_100 rfl rfl ?_
    exact ⟨rfl, rfl⟩
  · have hmx := t_wst_rg σ S k a.toNat
    rw [t_it_s _ _ ha0] at hF
    generalize t_it (t_wsf σ S k) a.toNat 0 = m at hF hmx ⊢
    have hba := e_bt01 S a
    refine e_iload dX6_worstOf_5 rfl ?_
    refine e_iconst dX6_worstOf_7 ?_
    refine e_icmp_ge (tgt := 99) dX6_worstOf_8 rfl ⟨by omega, by omega⟩ ⟨by omega, by omega⟩ (fun q => by exfalso; omega) (fun c2 => ?_)
    refine e_iconst dX6_worstOf_11 ?_
    refine e_istore5 dX6_worstOf_12 rfl ?_
    refine e_iconst dX6_worstOf_14 ?_
    refine e_istore6 dX6_worstOf_15 rfl ?_
    refine e_for (n := 4) (fun i => e_E mX6_worstOf 17 [.ref 384, e_i S, e_i k, e_i m, e_i a, e_i (t_sum (t_wog σ S k a) i.toNat), e_i i] [] (t_H σ h0) _ _ _ _) (by omega) ?_ (fun i hi0 hi1 hF => ?_)
    · show e_E _ _ [_, _, _, _, _, e_i (t_sum (t_wog σ S k a) 4), _] _ _ _ _ _ _
      refine e_iload dX6_worstOf_17 rfl ?_
      refine e_iconst dX6_worstOf_19 ?_
      refine e_icmp_ge (tgt := 86) dX6_worstOf_20 rfl ⟨by omega, by omega⟩ ⟨by omega, by omega⟩ (fun c3 => ?_) (fun q => by exfalso; omega)
      have hsm := t_wog_rg σ S k a 4
      refine e_iload_n dX6_worstOf_86 rfl ?_
      refine e_iload dX6_worstOf_87 rfl ?_
      refine e_callS2rz dX6_worstOf_89 md_J3_max lk_X6_401 rfl q939 rfl (Nat.le_of_ble_eq_true rfl) (C_J3_max ⟨by omega, by omega⟩ ⟨by omega, by omega⟩) ?_
      refine e_istore_n3 dX6_worstOf_92 rfl ?_
      refine e_iinc4 dX6_worstOf_93 rfl ?_
      refine e_goto (tgt := 5) dX6_worstOf_96 rfl ?_
      exact e_fgs [5, 6] hF
    · rw [t_sum_s (t_wog σ S k a) hi0] at hF
      have hbb := e_bt01 S i
      have q1 := h35 (41 * a + k) (by omega) (by omega)
      have q2 := h35 (41 * i + k) (by omega) (by omega)
      have hsr := t_wog_rg σ S k a i.toNat
      refine e_iload dX6_worstOf_17 rfl ?_
      refine e_iconst dX6_worstOf_19 ?_
      refine e_icmp_ge (tgt := 86) dX6_worstOf_20 rfl ⟨by omega, by omega⟩ ⟨by omega, by omega⟩ (fun q => by exfalso; omega) (fun c4 => ?_)
      refine e_iload dX6_worstOf_23 rfl ?_
      refine e_iload_n dX6_worstOf_25 rfl ?_
      refine e_iload dX6_worstOf_26 rfl ?_
      refine e_callS2rz dX6_worstOf_28 md_X6_bit lk_X6_323 rfl q2103 rfl (Nat.le_of_ble_eq_true rfl) (C_X6_bit ⟨by omega, by omega⟩ ⟨by omega, by omega⟩) ?_
      refine e_iconst dX6_worstOf_31 ?_
      refine e_icmp_ne (tgt := 76) dX6_worstOf_32 rfl ⟨by omega, by omega⟩ ⟨by omega, by omega⟩ (fun c5 => ?_) (fun c5 => ?_)
      · refine e_iconst dX6_worstOf_76 ?_
        refine e_iadd dX6_worstOf_77 ?_
        refine e_istore5 dX6_worstOf_78 rfl ?_
        refine e_iinc6 dX6_worstOf_80 rfl ?_
        refine e_goto (tgt := 17) dX6_worstOf_83 rfl ?_
        first
          | (rw [show (t_wog σ S k a) i = 1 from if_pos (by omega)] at hF; exact hF)
          | (rw [show (t_wog σ S k a) i = 0 from if_neg (by omega)] at hF; exact hF)
      · refine e_iload_n dX6_worstOf_35 rfl ?_
        refine e_iload dX6_worstOf_36 rfl ?_
        refine e_callS2rz dX6_worstOf_38 md_X6_bit lk_X6_323 rfl q2103 rfl (Nat.le_of_ble_eq_true rfl) (C_X6_bit ⟨by omega, by omega⟩ ⟨by omega, by omega⟩) ?_
        refine e_iconst dX6_worstOf_41 ?_
        refine e_icmp_ne (tgt := 76) dX6_worstOf_42 rfl ⟨by omega, by omega⟩ ⟨by omega, by omega⟩ (fun c6 => ?_) (fun c6 => ?_)
        · refine e_iconst dX6_worstOf_76 ?_
          refine e_iadd dX6_worstOf_77 ?_
          refine e_istore5 dX6_worstOf_78 rfl ?_
          refine e_iinc6 dX6_worstOf_80 rfl ?_
          refine e_goto (tgt := 17) dX6_worstOf_83 rfl ?_
          first
            | (rw [show (t_wog σ S k a) i = 1 from if_pos (by omega)] at hF; exact hF)
            | (rw [show (t_wog σ S k a) i = 0 from if_neg (by omega)] at hF; exact hF)
        · refine e_aload_n dX6_worstOf_45 rfl ?_
          refine t_geta (k := 35) dX6_worstOf_46 fl_X6_82 rfl ?_
          refine e_bipush dX6_worstOf_49 rfl ?_
          refine e_iload dX6_worstOf_51 rfl ?_
          refine e_imul dX6_worstOf_53 ?_
          refine e_iload_n dX6_worstOf_54 rfl ?_
          refine e_iadd dX6_worstOf_55 ?_
          refine t_ild 164 dX6_worstOf_56 rfl (by decide) (fun _ => rfl) rfl ⟨by omega, by omega⟩ ?_
          refine e_aload_n dX6_worstOf_57 rfl ?_
          refine t_geta (k := 35) dX6_worstOf_58 fl_X6_82 rfl ?_
          refine e_bipush dX6_worstOf_61 rfl ?_
          refine e_iload dX6_worstOf_63 rfl ?_
          refine e_imul dX6_worstOf_65 ?_
          refine e_iload_n dX6_worstOf_66 rfl ?_
          refine e_iadd dX6_worstOf_67 ?_
          refine t_ild 164 dX6_worstOf_68 rfl (by decide) (fun _ => rfl) rfl ⟨by omega, by omega⟩ ?_
          refine e_icmp_ne (tgt := 76) dX6_worstOf_69 rfl ⟨by omega, by omega⟩ ⟨by omega, by omega⟩ (fun c7 => ?_) (fun c7 => ?_)
          · refine e_iconst dX6_worstOf_76 ?_
            refine e_iadd dX6_worstOf_77 ?_
            refine e_istore5 dX6_worstOf_78 rfl ?_
            refine e_iinc6 dX6_worstOf_80 rfl ?_
            refine e_goto (tgt := 17) dX6_worstOf_83 rfl ?_
            first
              | (rw [show (t_wog σ S k a) i = 1 from if_pos (by omega)] at hF; exact hF)
              | (rw [show (t_wog σ S k a) i = 0 from if_neg (by omega)] at hF; exact hF)
          · refine e_iconst dX6_worstOf_72 ?_
            refine e_goto (tgt := 77) dX6_worstOf_73 rfl ?_
            refine e_iadd dX6_worstOf_77 ?_
            refine e_istore5 dX6_worstOf_78 rfl ?_
            refine e_iinc6 dX6_worstOf_80 rfl ?_
            refine e_goto (tgt := 17) dX6_worstOf_83 rfl ?_
            first
              | (rw [show (t_wog σ S k a) i = 1 from if_pos (by omega)] at hF; exact hF)
              | (rw [show (t_wog σ S k a) i = 0 from if_neg (by omega)] at hF; exact hF)
theorem C_X6_askOf {σ : t_S} {h0 : e_A} (h35 : ∀ j, 0 ≤ j → j < 164 → -1 ≤ σ 35 j ∧ σ 35 j < 80) {S : Int} (hS : 0 ≤ S ∧ S < 16) : e_C mX6_askOf [.ref 384, e_i S] (t_H σ h0) 0 0 2 (e_ret (e_i (t_ak σ S).2) (t_H (s_up σ 36 0 (t_ak σ S).1) h0)) := by
  refine e_enter (al0 := [.ref 384, e_i S, .retAddr 0, .retAddr 0, .retAddr 0]) (by decide +kernel) rfl (Nat.le_of_ble_eq_true rfl) ?_
  refine e_aload_n dX6_askOf_0 rfl ?_
  refine e_iload_n dX6_askOf_1 rfl ?_
  refine e_callS1rz dX6_askOf_2 md_X6_bits lk_X6_347 rfl q2286 rfl (Nat.le_of_ble_eq_true rfl) (C_X6_bits ⟨by omega, by omega⟩) ?_
  refine t_puti (k := 36) dX6_askOf_5 fl_X6_440 rfl rfl ?_
  refine e_iconst dX6_askOf_8 ?_
  refine e_istore_n2 dX6_askOf_9 rfl ?_
  refine e_iconst dX6_askOf_10 ?_
  refine e_istore_n3 dX6_askOf_11 rfl ?_
  refine e_for (n := 41) (fun k => e_E mX6_askOf 12 [.ref 384, e_i S, e_i (t_it (t_akf σ S) k.toNat (e_bsum S 16, (-1 : Int))).2, e_i k, .retAddr 0] [] (t_H (s_up σ 36 0 (t_it (t_akf σ S) k.toNat (e_bsum S 16, (-1 : Int))).1) h0) _ _ _ _) (by omega) ?_ (fun k hk0 hk1 hF => ?_)
  · show e_E _ _ [_, _, e_i (t_ak σ S).2, _, _] _ (t_H (s_up σ 36 0 (t_ak σ S).1) h0) _ _ _ _
    refine e_iload_n dX6_askOf_12 rfl ?_
    refine e_bipush dX6_askOf_13 rfl ?_
    refine e_icmp_gt (tgt := 52) dX6_askOf_15 rfl ⟨by omega, by omega⟩ ⟨by omega, by omega⟩ (fun c1 => ?_) (fun q => by exfalso; omega)
    refine e_iload_n dX6_askOf_52 rfl ?_
    refine e_ireturn dX6_askOf_53 rfl rfl ?_
    exact ⟨rfl, rfl⟩
  · have hr9 := t_ak_rg σ S k.toNat
    rw [t_it_s _ _ hk0] at hF
    generalize t_it (t_akf σ S) k.toNat (e_bsum S 16, (-1 : Int)) = x at hF hr9 ⊢
    refine e_iload_n dX6_askOf_12 rfl ?_
    refine e_bipush dX6_askOf_13 rfl ?_
    refine e_icmp_gt (tgt := 52) dX6_askOf_15 rfl ⟨by omega, by omega⟩ ⟨by omega, by omega⟩ (fun q => by exfalso; omega) (fun c2 => ?_)
    refine e_aload_n dX6_askOf_18 rfl ?_
    refine e_iload_n dX6_askOf_19 rfl ?_
    refine e_iload_n dX6_askOf_20 rfl ?_
    refine e_callV2rz (ci := 6) dX6_askOf_21 md_X6_worstOf lk_X6_443 rfl q2439 qs131 (t_obj _ _) (by decide) rfl (Nat.le_of_ble_eq_true rfl) (C_X6_worstOf (by rw [s_up_f (by decide)]; exact h35) hS ⟨by omega, by omega⟩) ?_
    rw [t_wst_of]
    have hw : 0 ≤ t_wst σ S k ∧ t_wst σ S k ≤ 4 := t_wst_rg σ S k 4
    refine e_istore4 dX6_askOf_24 rfl ?_
    refine e_iload dX6_askOf_26 rfl ?_
    refine e_aload_n dX6_askOf_28 rfl ?_
    refine t_geti (k := 36) dX6_askOf_29 fl_X6_440 rfl ?_
    rw [s_up_eq]
    refine e_icmp_lt (tgt := 38) dX6_askOf_32 rfl ⟨by omega, by omega⟩ ⟨by omega, by omega⟩ (fun c3 => ?_) (fun c3 => ?_)
    · refine e_aload_n dX6_askOf_38 rfl ?_
      refine e_iload dX6_askOf_39 rfl ?_
      refine t_puti (k := 36) dX6_askOf_41 fl_X6_440 rfl rfl ?_
      rw [s_up_up]
      refine e_iload_n dX6_askOf_44 rfl ?_
      refine e_istore_n2 dX6_askOf_45 rfl ?_
      refine e_iinc3 dX6_askOf_46 rfl ?_
      refine e_goto (tgt := 12) dX6_askOf_49 rfl ?_
      unfold t_akf at hF
      first
        | (rw [if_neg (by omega)] at hF; exact e_fgt 4 hF)
        | (rw [if_pos (by omega)] at hF; exact e_fgt 4 hF)
    · refine e_goto (tgt := 46) dX6_askOf_35 rfl ?_
      refine e_iinc3 dX6_askOf_46 rfl ?_
      refine e_goto (tgt := 12) dX6_askOf_49 rfl ?_
      unfold t_akf at hF
      first
        | (rw [if_neg (by omega)] at hF; exact e_fgt 4 hF)
        | (rw [if_pos (by omega)] at hF; exact e_fgt 4 hF)
theorem C_X6_ask {σ : t_S} {h0 : e_A} (hz : t_sz σ) (hr : t_okR (σ 1)) (ht : t_slt σ) {s w : Int} (hs : e_rg s) (hw : e_rg w) : e_C mX6_ask [.ref 384, e_i s, e_i w] (t_H σ h0) 0 0 8 (t_Pub (v_ask σ s w) σ h0) := by
  have hwr := t_wnw_rg σ s w
  have s7 := hz.2.2.2.2.2.1
  refine e_enter (al0 := [.ref 384, e_i s, e_i w, .retAddr 0]) (by decide +kernel) rfl (Nat.le_of_ble_eq_true rfl) ?_
  refine e_aload_n dX6_ask_0 rfl ?_
  refine e_iload_n dX6_ask_1 rfl ?_
  refine e_iload_n dX6_ask_2 rfl ?_
  refine e_callV2rz (ci := 6) dX6_ask_3 md_X6_askSeen lk_X6_435 rfl q2403 qs125 (t_obj _ _) (by decide) rfl (Nat.le_of_ble_eq_true rfl) (C_X6_askSeen hz hr ht hs hw) ?_
  refine e_istore_n3 dX6_ask_6 rfl ?_
  refine e_iload_n dX6_ask_7 rfl ?_
  refine e_if_ge (tgt := 15) dX6_ask_8 rfl ⟨by omega, by omega⟩ (fun c1 => ?_) (fun c1 => ?_)
  · rw [if_neg (show ¬ t_wnw σ s w < 0 by omega)]
    obtain ⟨gw, gg⟩ := t_wnw_gd ht (show ¬ t_wnw σ s w < 0 by omega)
    have hask := t_is_ask hz hr
    have hin := t_fcl_in (s := s) (w := w) (by omega) hask 4 (Nat.le_refl _)
    refine e_aload_n dX6_ask_15 rfl ?_
    refine e_aload_n dX6_ask_16 rfl ?_
    refine e_iload_n dX6_ask_17 rfl ?_
    refine e_iload_n dX6_ask_18 rfl ?_
    refine e_callV2rz (ci := 6) dX6_ask_19 md_X6_facedOf lk_X6_437 rfl q2419 qs128 (t_obj _ _) (by decide) rfl (Nat.le_of_ble_eq_true rfl) (C_X6_facedOf hask (t_is_sgd gg) (t_is_slt ht) (by omega)) ?_
    have hin : t_inD (t_is σ) 4 (t_fc s w (t_is σ)) := hin
    obtain ⟨x, hx⟩ : ∃ x, t_fc s w (t_is σ) = x := ⟨_, rfl⟩
    rw [hx] at hin ⊢
    have hm := hin.2.2.1
    refine e_callV1rz (ci := 6) dX6_ask_22 md_X6_askOf lk_X6_446 rfl q2435 qs130 (t_obj _ _) (by decide) rfl (Nat.le_of_ble_eq_true rfl) (C_X6_askOf hin.2.2.2 hm) ?_
    refine e_ireturn dX6_ask_25 rfl rfl ?_
    first
      | exact t_pub (by unfold v_ask; rw [if_pos (show t_wnw σ s w < 0 by omega)]) (t_pk_rf _)
      | exact t_pub (by unfold v_ask; rw [if_neg (show ¬ t_wnw σ s w < 0 by omega), hx]) (fun k hk => (s_up_f (by unfold t_per at hk; omega)).trans ((hin.1 k (by unfold t_per at hk; omega) (by unfold t_per at hk; omega) (by unfold t_per at hk; omega)).trans (t_is_k (by unfold t_per at hk; omega) (by unfold t_per at hk; omega) (by unfold t_per at hk; omega) (by unfold t_per at hk; omega) (by unfold t_per at hk; omega) σ)))
  · rw [if_pos (show t_wnw σ s w < 0 by omega)]
    refine e_iload_n dX6_ask_11 rfl ?_
    refine e_goto (tgt := 25) dX6_ask_12 rfl ?_
    refine e_ireturn dX6_ask_25 rfl rfl ?_
    first
      | exact t_pub (by unfold v_ask; rw [if_pos (show t_wnw σ s w < 0 by omega)]) (t_pk_rf _)
      | exact t_pub (by unfold v_ask; rw [if_neg (show ¬ t_wnw σ s w < 0 by omega), hx]) (fun k hk => (s_up_f (by unfold t_per at hk; omega)).trans ((hin.1 k (by unfold t_per at hk; omega) (by unfold t_per at hk; omega) (by unfold t_per at hk; omega)).trans (t_is_k (by unfold t_per at hk; omega) (by unfold t_per at hk; omega) (by unfold t_per at hk; omega) (by unfold t_per at hk; omega) (by unfold t_per at hk; omega) σ)))
theorem C_X6_leaves {σ : t_S} {h0 : e_A} (hz : t_sz σ) (hr : t_okR (σ 1)) (ht : t_slt σ) {s w : Int} (hs : e_rg s) (hw : e_rg w) : e_C mX6_leaves [.ref 384, e_i s, e_i w] (t_H σ h0) 0 0 8 (t_Pub (v_leaves σ s w) σ h0) := by
  have hwr := t_wnw_rg σ s w
  have s7 := hz.2.2.2.2.2.1
  refine e_enter (al0 := [.ref 384, e_i s, e_i w, .retAddr 0]) (by decide +kernel) rfl (Nat.le_of_ble_eq_true rfl) ?_
  refine e_aload_n dX6_leaves_0 rfl ?_
  refine e_iload_n dX6_leaves_1 rfl ?_
  refine e_iload_n dX6_leaves_2 rfl ?_
  refine e_callV2rz (ci := 6) dX6_leaves_3 md_X6_askSeen lk_X6_435 rfl q2403 qs125 (t_obj _ _) (by decide) rfl (Nat.le_of_ble_eq_true rfl) (C_X6_askSeen hz hr ht hs hw) ?_
  refine e_istore_n3 dX6_leaves_6 rfl ?_
  refine e_iload_n dX6_leaves_7 rfl ?_
  refine e_if_ge (tgt := 13) dX6_leaves_8 rfl ⟨by omega, by omega⟩ (fun c1 => ?_) (fun c1 => ?_)
  · rw [if_neg (show ¬ t_wnw σ s w < 0 by omega)]
    obtain ⟨gw, gg⟩ := t_wnw_gd ht (show ¬ t_wnw σ s w < 0 by omega)
    have hask := t_is_ask hz hr
    have hin := t_fcl_in (s := s) (w := w) (by omega) hask 4 (Nat.le_refl _)
    refine e_aload_n dX6_leaves_13 rfl ?_
    refine e_aload_n dX6_leaves_14 rfl ?_
    refine e_iload_n dX6_leaves_15 rfl ?_
    refine e_iload_n dX6_leaves_16 rfl ?_
    refine e_callV2rz (ci := 6) dX6_leaves_17 md_X6_facedOf lk_X6_437 rfl q2419 qs128 (t_obj _ _) (by decide) rfl (Nat.le_of_ble_eq_true rfl) (C_X6_facedOf hask (t_is_sgd gg) (t_is_slt ht) (by omega)) ?_
    have hin : t_inD (t_is σ) 4 (t_fc s w (t_is σ)) := hin
    obtain ⟨x, hx⟩ : ∃ x, t_fc s w (t_is σ) = x := ⟨_, rfl⟩
    rw [hx] at hin ⊢
    have hm := hin.2.2.1
    refine e_callV1rz (ci := 6) dX6_leaves_20 md_X6_askOf lk_X6_446 rfl q2435 qs130 (t_obj _ _) (by decide) rfl (Nat.le_of_ble_eq_true rfl) (C_X6_askOf hin.2.2.2 hm) ?_
    refine e_pop dX6_leaves_23 rfl ?_
    refine e_aload_n dX6_leaves_24 rfl ?_
    refine t_geti (k := 36) dX6_leaves_25 fl_X6_440 rfl ?_
    rw [s_up_eq]
    refine e_ireturn dX6_leaves_28 rfl rfl ?_
    first
      | exact t_pub (by unfold v_leaves; rw [if_pos (show t_wnw σ s w < 0 by omega)]) (t_pk_rf _)
      | exact t_pub (by unfold v_leaves; rw [if_neg (show ¬ t_wnw σ s w < 0 by omega), hx]) (fun k hk => (s_up_f (by unfold t_per at hk; omega)).trans ((hin.1 k (by unfold t_per at hk; omega) (by unfold t_per at hk; omega) (by unfold t_per at hk; omega)).trans (t_is_k (by unfold t_per at hk; omega) (by unfold t_per at hk; omega) (by unfold t_per at hk; omega) (by unfold t_per at hk; omega) (by unfold t_per at hk; omega) σ)))
  · rw [if_pos (show t_wnw σ s w < 0 by omega)]
    refine e_iload_n dX6_leaves_11 rfl ?_
    refine e_ireturn dX6_leaves_12 rfl rfl ?_
    first
      | exact t_pub (by unfold v_leaves; rw [if_pos (show t_wnw σ s w < 0 by omega)]) (t_pk_rf _)
      | exact t_pub (by unfold v_leaves; rw [if_neg (show ¬ t_wnw σ s w < 0 by omega), hx]) (fun k hk => (s_up_f (by unfold t_per at hk; omega)).trans ((hin.1 k (by unfold t_per at hk; omega) (by unfold t_per at hk; omega) (by unfold t_per at hk; omega)).trans (t_is_k (by unfold t_per at hk; omega) (by unfold t_per at hk; omega) (by unfold t_per at hk; omega) (by unfold t_per at hk; omega) (by unfold t_per at hk; omega) σ)))
theorem C_X6_griefs {σ : t_S} {h0 : e_A} (hz : t_sz σ) (hr : t_okR (σ 1)) (ht : t_slt σ) {s w : Int} (hs : e_rg s) (hw : e_rg w) : e_C mX6_griefs [.ref 384, e_i s, e_i w] (t_H σ h0) 0 0 7 (t_Pub (v_griefs σ s w) σ h0) := by
  have hwr := t_wnw_rg σ s w
  have s7 := hz.2.2.2.2.2.1
  refine e_enter (al0 := [.ref 384, e_i s, e_i w, .retAddr 0, .retAddr 0]) (by decide +kernel) rfl (Nat.le_of_ble_eq_true rfl) ?_
  refine e_aload_n dX6_griefs_0 rfl ?_
  refine e_iload_n dX6_griefs_1 rfl ?_
  refine e_iload_n dX6_griefs_2 rfl ?_
  refine e_callV2rz (ci := 6) dX6_griefs_3 md_X6_askSeen lk_X6_435 rfl q2403 qs125 (t_obj _ _) (by decide) rfl (Nat.le_of_ble_eq_true rfl) (C_X6_askSeen hz hr ht hs hw) ?_
  refine e_istore_n3 dX6_griefs_6 rfl ?_
  refine e_iload_n dX6_griefs_7 rfl ?_
  refine e_if_ge (tgt := 13) dX6_griefs_8 rfl ⟨by omega, by omega⟩ (fun c1 => ?_) (fun c1 => ?_)
  · rw [if_neg (show ¬ t_wnw σ s w < 0 by omega)]
    obtain ⟨gw, gg⟩ := t_wnw_gd ht (show ¬ t_wnw σ s w < 0 by omega)
    have hask := t_is_ask hz hr
    obtain ⟨gs, lt⟩ : t_sgd (t_is σ) s ∧ t_slt (t_is σ) := ⟨t_is_sgd gg, t_is_slt ht⟩
    have eis : ∀ j, (j < 15 ∨ 20 < j) → t_is σ j = σ j := fun j hj => t_is_k (by omega) (by omega) (by omega) (by omega) (by omega) σ
    obtain ⟨ρ, hρ⟩ : ∃ ρ, t_is σ = ρ := ⟨_, rfl⟩
    rw [hρ] at hask gs lt eis ⊢
    refine e_fgt 3 ?_
    refine e_iconst dX6_griefs_13 ?_
    refine e_istore4 dX6_griefs_14 rfl ?_
    refine e_aload_n dX6_griefs_16 rfl ?_
    refine e_iload_n dX6_griefs_17 rfl ?_
    refine t_puti (k := 19) dX6_griefs_18 fl_X6_279 rfl rfl ?_
    refine e_aload_n dX6_griefs_21 rfl ?_
    refine e_iconst dX6_griefs_22 ?_
    refine t_puti (k := 20) dX6_griefs_23 fl_X6_295 rfl rfl ?_
    refine e_for (n := 4) (fun i => e_E mX6_griefs 26 [.ref 384, e_i s, e_i w, .retAddr 0, e_i (t_it (t_grf s) i.toNat (t_gr0 w ρ, (0 : Int))).2] [] (t_H (t_it (t_grf s) i.toNat (t_gr0 w ρ, (0 : Int))).1 h0) _ _ _ _) (by omega) ?_ (fun i hi0 hi1 hF => ?_)
    · have hin := t_grl_in (s := s) (w := w) hask (by omega) 4 (Nat.le_refl _)
      obtain ⟨x, hx⟩ : ∃ x, t_it (t_grf s) 4 (t_gr0 w ρ, (0 : Int)) = x := ⟨_, rfl⟩
      rw [show t_it (t_grf s) (4 : Int).toNat (t_gr0 w ρ, (0 : Int)) = t_it (t_grf s) 4 (t_gr0 w ρ, (0 : Int)) from rfl]
      rw [hx] at hin ⊢
      have hi4 : x.1 20 0 = 4 := hin.2.1
      refine e_aload_n dX6_griefs_26 rfl ?_
      refine t_geti (k := 20) dX6_griefs_27 fl_X6_295 rfl ?_
      refine e_iconst dX6_griefs_30 ?_
      refine e_icmp_ge (tgt := 70) dX6_griefs_31 rfl ⟨by omega, by omega⟩ ⟨by omega, by omega⟩ (fun c2 => ?_) (fun q => by exfalso; omega)
      refine e_iload dX6_griefs_70 rfl ?_
      refine e_ireturn dX6_griefs_72 rfl rfl ?_
      refine t_pub ?_ (fun k hk => (hin.1 k (by unfold t_per at hk; omega) (by unfold t_per at hk; omega)).trans ((s_up_f (by unfold t_per at hk; omega)).trans ((s_up_f (by unfold t_per at hk; omega)).trans (eis k (by unfold t_per at hk; omega)))))
      unfold v_griefs t_gr
      rw [if_neg (show ¬ t_wnw σ s w < 0 by omega), hρ, hx]
    · have hin := t_grl_in (s := s) (w := w) hask (by omega) i.toNat (by omega)
      rw [t_it_s _ _ hi0] at hF
      generalize t_it (t_grf s) i.toNat (t_gr0 w ρ, (0 : Int)) = x at hF hin ⊢
      rw [Int.toNat_of_nonneg hi0] at hin
      have hi4 := hin.2.1
      have hax := (t_gr_ask hask (by omega) ⟨hi0, hi1⟩ hin)
      have hek : ∀ j, (j < 16 ∨ 32 < j) → x.1 j = ρ j := fun j hj => (hin.1 j (by omega) (by omega)).trans ((s_up_f (by omega)).trans (s_up_f (by omega)))
      refine e_aload_n dX6_griefs_26 rfl ?_
      refine t_geti (k := 20) dX6_griefs_27 fl_X6_295 rfl ?_
      refine e_iconst dX6_griefs_30 ?_
      refine e_icmp_ge (tgt := 70) dX6_griefs_31 rfl ⟨by omega, by omega⟩ ⟨by omega, by omega⟩ (fun q => by exfalso; omega) (fun c3 => ?_)
      refine e_iload dX6_griefs_34 rfl ?_
      refine e_aload_n dX6_griefs_36 rfl ?_
      refine e_iload_n dX6_griefs_37 rfl ?_
      refine e_callV1rz (ci := 6) dX6_griefs_38 md_X6_isSeen lk_X6_432 rfl q2423 qs129 (t_obj _ _) (by decide) rfl (Nat.le_of_ble_eq_true rfl) (C_X6_isSeen hax (t_sgd_of gs (hek 1 (by omega)) (hek 42 (by omega)) (hek 44 (by omega))) (t_slt_of lt (hek 42 (by omega)) (hek 43 (by omega)) (hek 44 (by omega)))) ?_
      obtain ⟨τ, hτ⟩ : ∃ τ, t_ga x.1 = τ := ⟨_, rfl⟩
      have hF2 : t_grf s i x = (s_up τ 20 0 (τ 20 0 + 1), x.2 + (if t_see τ s then 2 ^ i.toNat else 0)) := by unfold t_grf; rw [hτ]
      rw [hF2] at hF
      have h20 : τ 20 0 = i := by rw [← hτ, t_ga_k hax (by omega), hin.2.1]
      rw [hτ]
      have hm := hin.2.2
      refine e_bif_eq (tgt := 53) dX6_griefs_41 rfl (fun c4 => ?_) (fun c4 => ?_)
      · refine e_iconst dX6_griefs_53 ?_
        refine e_ior dX6_griefs_54 (show Int32.ofInt x.2 ||| Int32.ofInt _ = Int32.ofInt (x.2 + (if t_see τ s then 2 ^ i.toNat else 0)) from by first | (rw [if_pos (by assumption)]; exact e_or_top ⟨by omega, by omega⟩ hm) | (rw [if_neg (by assumption), Int.add_zero]; exact e_or_0 _)) ?_
        refine e_istore4 dX6_griefs_55 rfl ?_
        refine e_aload_n dX6_griefs_57 rfl ?_
        refine e_dup dX6_griefs_58 rfl ?_
        refine t_geti (k := 20) dX6_griefs_59 fl_X6_295 rfl ?_
        refine e_iconst dX6_griefs_62 ?_
        refine e_iadd dX6_griefs_63 ?_
        refine t_puti (k := 20) dX6_griefs_64 fl_X6_295 rfl rfl ?_
        refine e_goto (tgt := 26) dX6_griefs_67 rfl ?_
        exact hF
      · refine e_iconst dX6_griefs_44 ?_
        refine e_aload_n dX6_griefs_45 rfl ?_
        refine t_geti (k := 20) dX6_griefs_46 fl_X6_295 rfl ?_
        rw [h20]
        refine e_ishl dX6_griefs_49 (t_shl1 ⟨by omega, by omega⟩) ?_
        refine e_goto (tgt := 54) dX6_griefs_50 rfl ?_
        refine e_ior dX6_griefs_54 (show Int32.ofInt x.2 ||| Int32.ofInt _ = Int32.ofInt (x.2 + (if t_see τ s then 2 ^ i.toNat else 0)) from by first | (rw [if_pos (by assumption)]; exact e_or_top ⟨by omega, by omega⟩ hm) | (rw [if_neg (by assumption), Int.add_zero]; exact e_or_0 _)) ?_
        refine e_istore4 dX6_griefs_55 rfl ?_
        refine e_aload_n dX6_griefs_57 rfl ?_
        refine e_dup dX6_griefs_58 rfl ?_
        refine t_geti (k := 20) dX6_griefs_59 fl_X6_295 rfl ?_
        refine e_iconst dX6_griefs_62 ?_
        refine e_iadd dX6_griefs_63 ?_
        refine t_puti (k := 20) dX6_griefs_64 fl_X6_295 rfl rfl ?_
        refine e_goto (tgt := 26) dX6_griefs_67 rfl ?_
        exact hF
  · rw [if_pos (show t_wnw σ s w < 0 by omega)]
    refine e_iload_n dX6_griefs_11 rfl ?_
    refine e_ireturn dX6_griefs_12 rfl rfl ?_
    exact t_pub (by unfold v_griefs; rw [if_pos (show t_wnw σ s w < 0 by omega)]) (t_pk_rf _)
theorem C_X6_laws {σ : t_S} {h0 : e_A} (hz : t_sz σ) (hr : t_okR (σ 1)) (ht : t_slt σ) {s : Int} (hs : e_rg s) : e_C mX6_laws [.ref 384, e_i s] (t_H σ h0) 0 0 7 (t_Pub (v_laws σ s) σ h0) := by
  have hwr := t_wny_rg σ s
  refine e_enter (al0 := [.ref 384, e_i s, .retAddr 0, .retAddr 0]) (by decide +kernel) rfl (Nat.le_of_ble_eq_true rfl) ?_
  refine e_aload_n dX6_laws_0 rfl ?_
  refine e_iload_n dX6_laws_1 rfl ?_
  refine e_callV1rz (ci := 6) dX6_laws_2 md_X6_askSeen_2 lk_X6_429 rfl q2407 qs126 (t_obj _ _) (by decide) rfl (Nat.le_of_ble_eq_true rfl) (C_X6_askSeen_2 hz hr ht hs) ?_
  refine e_istore_n2 dX6_laws_5 rfl ?_
  refine e_iload_n dX6_laws_6 rfl ?_
  refine e_if_ge (tgt := 12) dX6_laws_7 rfl ⟨by omega, by omega⟩ (fun c1 => ?_) (fun c1 => ?_)
  · rw [if_neg (show ¬ t_wny σ s < 0 by omega)]
    have gg := t_wny_gd ht (show ¬ t_wny σ s < 0 by omega)
    have hask := t_is_ask hz hr
    obtain ⟨gs, lt⟩ : t_sgd (t_is σ) s ∧ t_slt (t_is σ) := ⟨t_is_sgd gg, t_is_slt ht⟩
    have eis : ∀ j, (j < 15 ∨ 20 < j) → t_is σ j = σ j := fun j hj => t_is_k (by omega) (by omega) (by omega) (by omega) (by omega) σ
    obtain ⟨ρ, hρ⟩ : ∃ ρ, t_is σ = ρ := ⟨_, rfl⟩
    rw [hρ] at hask gs lt eis ⊢
    refine e_fgt 2 ?_
    refine e_iconst dX6_laws_12 ?_
    refine e_istore_n3 dX6_laws_13 rfl ?_
    refine e_aload_n dX6_laws_14 rfl ?_
    refine e_iconst dX6_laws_15 ?_
    refine t_puti (k := 17) dX6_laws_16 fl_X6_270 rfl rfl ?_
    refine e_for (n := 4) (fun i => e_E mX6_laws 19 [.ref 384, e_i s, .retAddr 0, e_i (t_it (t_lsf s) i.toNat (t_ls0 ρ, (0 : Int))).2] [] (t_H (t_it (t_lsf s) i.toNat (t_ls0 ρ, (0 : Int))).1 h0) _ _ _ _) (by omega) ?_ (fun i hi0 hi1 hF => ?_)
    · have hin := t_lsl_in (s := s) hask 4 (Nat.le_refl _)
      obtain ⟨x, hx⟩ : ∃ x, t_it (t_lsf s) 4 (t_ls0 ρ, (0 : Int)) = x := ⟨_, rfl⟩
      rw [show t_it (t_lsf s) (4 : Int).toNat (t_ls0 ρ, (0 : Int)) = t_it (t_lsf s) 4 (t_ls0 ρ, (0 : Int)) from rfl]
      rw [hx] at hin ⊢
      have hi4 : x.1 17 0 = 4 := hin.2.1
      refine e_aload_n dX6_laws_19 rfl ?_
      refine t_geti (k := 17) dX6_laws_20 fl_X6_270 rfl ?_
      refine e_iconst dX6_laws_23 ?_
      refine e_icmp_ge (tgt := 61) dX6_laws_24 rfl ⟨by omega, by omega⟩ ⟨by omega, by omega⟩ (fun c2 => ?_) (fun q => by exfalso; omega)
      refine e_iload_n dX6_laws_61 rfl ?_
      refine e_ireturn dX6_laws_62 rfl rfl ?_
      refine t_pub ?_ (fun k hk => (hin.1 k (by unfold t_per at hk; omega) (by unfold t_per at hk; omega)).trans ((s_up_f (by unfold t_per at hk; omega)).trans (eis k (by unfold t_per at hk; omega))))
      unfold v_laws t_ls
      rw [if_neg (show ¬ t_wny σ s < 0 by omega), hρ, hx]
    · have hin := t_lsl_in (s := s) hask i.toNat (by omega)
      rw [t_it_s _ _ hi0] at hF
      generalize t_it (t_lsf s) i.toNat (t_ls0 ρ, (0 : Int)) = x at hF hin ⊢
      rw [Int.toNat_of_nonneg hi0] at hin
      have hi4 := hin.2.1
      have hax := (t_ls_ask hask ⟨hi0, hi1⟩ hin)
      have hek : ∀ j, (j < 16 ∨ 32 < j) → x.1 j = ρ j := fun j hj => (hin.1 j (by omega) (by omega)).trans (s_up_f (by omega))
      refine e_aload_n dX6_laws_19 rfl ?_
      refine t_geti (k := 17) dX6_laws_20 fl_X6_270 rfl ?_
      refine e_iconst dX6_laws_23 ?_
      refine e_icmp_ge (tgt := 61) dX6_laws_24 rfl ⟨by omega, by omega⟩ ⟨by omega, by omega⟩ (fun q => by exfalso; omega) (fun c3 => ?_)
      refine e_iload_n dX6_laws_27 rfl ?_
      refine e_aload_n dX6_laws_28 rfl ?_
      refine e_iload_n dX6_laws_29 rfl ?_
      refine e_callV1rz (ci := 6) dX6_laws_30 md_X6_isSeen lk_X6_432 rfl q2423 qs129 (t_obj _ _) (by decide) rfl (Nat.le_of_ble_eq_true rfl) (C_X6_isSeen hax (t_sgd_of gs (hek 1 (by omega)) (hek 42 (by omega)) (hek 44 (by omega))) (t_slt_of lt (hek 42 (by omega)) (hek 43 (by omega)) (hek 44 (by omega)))) ?_
      obtain ⟨τ, hτ⟩ : ∃ τ, t_ga x.1 = τ := ⟨_, rfl⟩
      have hF2 : t_lsf s i x = (s_up τ 17 0 (τ 17 0 + 1), x.2 + (if t_see τ s then 2 ^ i.toNat else 0)) := by unfold t_lsf; rw [hτ]
      rw [hF2] at hF
      have h20 : τ 17 0 = i := by rw [← hτ, t_ga_k hax (by omega), hin.2.1]
      rw [hτ]
      have hm := hin.2.2
      refine e_bif_eq (tgt := 45) dX6_laws_33 rfl (fun c4 => ?_) (fun c4 => ?_)
      · refine e_iconst dX6_laws_45 ?_
        refine e_ior dX6_laws_46 (show Int32.ofInt x.2 ||| Int32.ofInt _ = Int32.ofInt (x.2 + (if t_see τ s then 2 ^ i.toNat else 0)) from by first | (rw [if_pos (by assumption)]; exact e_or_top ⟨by omega, by omega⟩ hm) | (rw [if_neg (by assumption), Int.add_zero]; exact e_or_0 _)) ?_
        refine e_istore_n3 dX6_laws_47 rfl ?_
        refine e_aload_n dX6_laws_48 rfl ?_
        refine e_dup dX6_laws_49 rfl ?_
        refine t_geti (k := 17) dX6_laws_50 fl_X6_270 rfl ?_
        refine e_iconst dX6_laws_53 ?_
        refine e_iadd dX6_laws_54 ?_
        refine t_puti (k := 17) dX6_laws_55 fl_X6_270 rfl rfl ?_
        refine e_goto (tgt := 19) dX6_laws_58 rfl ?_
        exact hF
      · refine e_iconst dX6_laws_36 ?_
        refine e_aload_n dX6_laws_37 rfl ?_
        refine t_geti (k := 17) dX6_laws_38 fl_X6_270 rfl ?_
        rw [h20]
        refine e_ishl dX6_laws_41 (t_shl1 ⟨by omega, by omega⟩) ?_
        refine e_goto (tgt := 46) dX6_laws_42 rfl ?_
        refine e_ior dX6_laws_46 (show Int32.ofInt x.2 ||| Int32.ofInt _ = Int32.ofInt (x.2 + (if t_see τ s then 2 ^ i.toNat else 0)) from by first | (rw [if_pos (by assumption)]; exact e_or_top ⟨by omega, by omega⟩ hm) | (rw [if_neg (by assumption), Int.add_zero]; exact e_or_0 _)) ?_
        refine e_istore_n3 dX6_laws_47 rfl ?_
        refine e_aload_n dX6_laws_48 rfl ?_
        refine e_dup dX6_laws_49 rfl ?_
        refine t_geti (k := 17) dX6_laws_50 fl_X6_270 rfl ?_
        refine e_iconst dX6_laws_53 ?_
        refine e_iadd dX6_laws_54 ?_
        refine t_puti (k := 17) dX6_laws_55 fl_X6_270 rfl rfl ?_
        refine e_goto (tgt := 19) dX6_laws_58 rfl ?_
        exact hF
  · rw [if_pos (show t_wny σ s < 0 by omega)]
    refine e_iload_n dX6_laws_10 rfl ?_
    refine e_ireturn dX6_laws_11 rfl rfl ?_
    exact t_pub (by unfold v_laws; rw [if_pos (show t_wny σ s < 0 by omega)]) (t_pk_rf _)
