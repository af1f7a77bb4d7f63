/-! THE TWIN: blame, ford, bridges (printed by tw8.py) -/
set_option maxRecDepth 100000
theorem C_X6_blame {σ : t_S} {h0 : e_A} (hz : t_sz σ) (hr : t_okR (σ 1)) : e_C mX6_blame [.ref 384] (t_H σ h0) 0 0 7 (t_Pub (v_blame (t_af σ)) σ h0) := by
  refine e_enter (al0 := [.ref 384, .retAddr 0, .retAddr 0, .retAddr 0, .retAddr 0]) (by decide +kernel) rfl (Nat.le_of_ble_eq_true rfl) ?_
  refine e_aload_n dX6_blame_0 rfl ?_
  refine e_callV0rz (ci := 6) dX6_blame_1 md_X6_asksColony lk_X6_335 rfl q2080 qs84 (t_obj _ _) (by decide) rfl (Nat.le_of_ble_eq_true rfl) (C_X6_asksColony hz hr) ?_
  have H := t_af_hist hz hr
  have hpk := t_af_pk hz hr
  generalize t_af σ = ρ at H hpk ⊢
  replace hz : t_sz ρ := H.1.1
  have s0 := H.1.1.1
  have s3 := H.1.1.2.1
  have s4 := H.1.1.2.2.1
  have s6 := H.1.1.2.2.2.2.1
  have s7 := H.1.1.2.2.2.2.2.1
  have hk := H.1.2.2.2.2.2.1
  have hmv := t_mva_rg H
  
  refine e_bif_ne (tgt := 10) dX6_blame_4 rfl (fun c1 => ?_) (fun c1 => ?_)
  · refine e_aload_n dX6_blame_10 rfl ?_
    refine e_callV0rz (ci := 6) dX6_blame_11 md_X6_movedAll lk_X6_416 rfl q2387 qs123 (t_obj _ _) (by decide) rfl (Nat.le_of_ble_eq_true rfl) (C_X6_movedAll H) ?_
    refine e_istore_n1 dX6_blame_14 rfl ?_
    refine e_iconst dX6_blame_15 ?_
    refine e_istore_n2 dX6_blame_16 rfl ?_
    refine e_aload_n dX6_blame_17 rfl ?_
    refine t_geti (k := 18) dX6_blame_18 fl_X6_276 rfl ?_
    refine e_istore_n3 dX6_blame_21 rfl ?_
    refine e_iconst dX6_blame_22 ?_
    refine e_istore4 dX6_blame_23 rfl ?_
    refine e_for (n := (ρ 1 7)) (fun w => e_E mX6_blame 25 [.ref 384, e_i (t_it (t_blf (ρ 18 0)) w.toNat (ρ, t_mva ρ, (-1 : Int))).2.1, e_i (t_it (t_blf (ρ 18 0)) w.toNat (ρ, t_mva ρ, (-1 : Int))).2.2, e_i (ρ 18 0), e_i w] [] (t_H (t_it (t_blf (ρ 18 0)) w.toNat (ρ, t_mva ρ, (-1 : Int))).1 h0) _ _ _ _) (by omega) ?_ (fun w hw0 hw1 hF => ?_)
    · have hin := t_bll_in H hk ((ρ 1 7).toNat) (by omega)
      obtain ⟨x, hx⟩ : ∃ x, t_it (t_blf (ρ 18 0)) (ρ 1 7).toNat (ρ, t_mva ρ, (-1 : Int)) = x := ⟨_, rfl⟩
      rw [hx] at hin ⊢
      have j7 : x.1 1 7 = ρ 1 7 := congrFun (hin.1 1 (by omega) (by decide)) 7
      refine e_iload dX6_blame_25 rfl ?_
      refine e_aload_n dX6_blame_27 rfl ?_
      refine e_callV0rz (ci := 6) dX6_blame_28 md_X6_widows lk_X6_110 rfl q2059 qs81 (t_obj _ _) (by decide) rfl (Nat.le_of_ble_eq_true rfl) (C_X6_widows) ?_
      refine e_icmp_ge (tgt := 75) dX6_blame_31 rfl ⟨by omega, by omega⟩ ⟨by omega, by omega⟩ (fun c2 => ?_) (fun q => by exfalso; omega)
      refine e_iload_n dX6_blame_75 rfl ?_
      refine e_ireturn dX6_blame_76 rfl rfl ?_
      refine t_pub ?_ (t_pkG hpk hin.1)
      unfold v_blame t_bl
      rw [hx, if_pos (by omega)]
    · have hin := t_bll_in H hk (w.toNat) (by omega)
      rw [t_it_s _ _ hw0] at hF
      generalize t_it (t_blf (ρ 18 0)) w.toNat (ρ, t_mva ρ, (-1 : Int)) = x at hF hin ⊢
      have jr := hin.2.2.1
      have j7 : x.1 1 7 = ρ 1 7 := congrFun (hin.1 1 (by omega) (by decide)) 7
      refine e_iload dX6_blame_25 rfl ?_
      refine e_aload_n dX6_blame_27 rfl ?_
      refine e_callV0rz (ci := 6) dX6_blame_28 md_X6_widows lk_X6_110 rfl q2059 qs81 (t_obj _ _) (by decide) rfl (Nat.le_of_ble_eq_true rfl) (C_X6_widows) ?_
      refine e_icmp_ge (tgt := 75) dX6_blame_31 rfl ⟨by omega, by omega⟩ ⟨by omega, by omega⟩ (fun q => by exfalso; omega) (fun c3 => ?_)
      refine e_aload_n dX6_blame_34 rfl ?_
      refine e_iload_n dX6_blame_35 rfl ?_
      refine e_iconst dX6_blame_36 ?_
      refine e_iload dX6_blame_37 rfl ?_
      refine e_ishl dX6_blame_39 (t_shl1 ⟨by omega, by omega⟩) ?_
      refine e_iconst dX6_blame_40 ?_
      refine e_ixor dX6_blame_41 (e_not_law _) ?_
      refine e_iand dX6_blame_42 (e_andn_law hk.1 (t_p2 _)) ?_
      refine t_puti (k := 18) dX6_blame_43 fl_X6_276 rfl rfl ?_
      have h1 := t_bl1_in (w := w) H.1 hk hin.1
      refine e_aload_n dX6_blame_46 rfl ?_
      refine e_callV0vz (ci := 6) dX6_blame_47 md_X6_goAll lk_X6_332 rfl q2092 qs87 (t_obj _ _) (by decide) rfl (Nat.le_of_ble_eq_true rfl) (C_X6_goAll h1.2.2) ?_
      have hb := t_bl1_in (w := w) H.1 hk hin.1
      show e_E _ _ _ _ (t_H (t_bl1 (ρ 18 0) w x.1) h0) _ _ _ _
      obtain ⟨τ, hτ⟩ : ∃ τ, t_bl1 (ρ 18 0) w x.1 = τ := ⟨_, rfl⟩
      have hF2 : t_blf (ρ 18 0) w x = if x.2.1 ≤ t_mva τ then (τ, x.2.1, x.2.2) else (τ, t_mva τ, w) := by unfold t_blf; rw [hτ]
      rw [hF2] at hF
      rw [hτ] at hb ⊢
      have hm2 := t_mva_rg hb.2.1
      refine e_aload_n dX6_blame_50 rfl ?_
      refine e_callV0rz (ci := 6) dX6_blame_51 md_X6_movedAll lk_X6_416 rfl q2387 qs123 (t_obj _ _) (by decide) rfl (Nat.le_of_ble_eq_true rfl) (C_X6_movedAll hb.2.1) ?_
      refine e_iload_n dX6_blame_54 rfl ?_
      refine e_icmp_lt (tgt := 61) dX6_blame_55 rfl ⟨by omega, by omega⟩ ⟨by omega, by omega⟩ (fun c4 => ?_) (fun c4 => ?_)
      · refine e_aload_n dX6_blame_61 rfl ?_
        refine e_callV0rz (ci := 6) dX6_blame_62 md_X6_movedAll lk_X6_416 rfl q2387 qs123 (t_obj _ _) (by decide) rfl (Nat.le_of_ble_eq_true rfl) (C_X6_movedAll hb.2.1) ?_
        refine e_istore_n1 dX6_blame_65 rfl ?_
        refine e_iload dX6_blame_66 rfl ?_
        refine e_istore_n2 dX6_blame_68 rfl ?_
        refine e_iinc4 dX6_blame_69 rfl ?_
        refine e_goto (tgt := 25) dX6_blame_72 rfl ?_
        first
          | (rw [if_pos (by omega)] at hF; exact hF)
          | (rw [if_neg (by omega)] at hF; exact hF)
      · refine e_goto (tgt := 69) dX6_blame_58 rfl ?_
        refine e_iinc4 dX6_blame_69 rfl ?_
        refine e_goto (tgt := 25) dX6_blame_72 rfl ?_
        first
          | (rw [if_pos (by omega)] at hF; exact hF)
          | (rw [if_neg (by omega)] at hF; exact hF)
  · refine e_bipush dX6_blame_7 rfl ?_
    refine e_ireturn dX6_blame_9 rfl rfl ?_
    refine t_pub ?_ hpk
    unfold v_blame
    (repeat' split) <;> first | rfl | omega
theorem C_X6_ford {σ : t_S} {h0 : e_A} (hz : t_sz σ) (hr : t_okR (σ 1)) : e_C mX6_ford [.ref 384] (t_H σ h0) 0 0 7 (t_Pub (v_ford (t_af σ)) σ h0) := by
  refine e_enter (al0 := [.ref 384, .retAddr 0, .retAddr 0, .retAddr 0, .retAddr 0]) (by decide +kernel) rfl (Nat.le_of_ble_eq_true rfl) ?_
  refine e_aload_n dX6_ford_0 rfl ?_
  refine e_callV0rz (ci := 6) dX6_ford_1 md_X6_asksColony lk_X6_335 rfl q2080 qs84 (t_obj _ _) (by decide) rfl (Nat.le_of_ble_eq_true rfl) (C_X6_asksColony hz hr) ?_
  have H := t_af_hist hz hr
  have hpk := t_af_pk hz hr
  generalize t_af σ = ρ at H hpk ⊢
  replace hz : t_sz ρ := H.1.1
  have s0 := H.1.1.1
  have s3 := H.1.1.2.1
  have s4 := H.1.1.2.2.1
  have s6 := H.1.1.2.2.2.2.1
  have s7 := H.1.1.2.2.2.2.2.1
  have s5 := H.1.1.2.2.2.1
  have hmv := t_pgm_rg ρ (ρ 1 0)
  
  refine e_bif_ne (tgt := 10) dX6_ford_4 rfl (fun c1 => ?_) (fun c1 => ?_)
  · refine e_aload_n dX6_ford_10 rfl ?_
    refine e_callV0rz (ci := 6) dX6_ford_11 md_X6_pegsLast lk_X6_419 rfl q2395 qs124 (t_obj _ _) (by decide) rfl (Nat.le_of_ble_eq_true rfl) (C_X6_pegsLast H) ?_
    refine e_istore_n1 dX6_ford_14 rfl ?_
    refine e_iconst dX6_ford_15 ?_
    refine e_istore_n2 dX6_ford_16 rfl ?_
    refine e_iconst dX6_ford_17 ?_
    refine e_istore_n3 dX6_ford_18 rfl ?_
    refine e_for (n := (ρ 1 5)) (fun k => e_E mX6_ford 19 [.ref 384, e_i (t_it (t_fof) k.toNat (ρ, t_pgl ρ, (-1 : Int))).2.1, e_i (t_it (t_fof) k.toNat (ρ, t_pgl ρ, (-1 : Int))).2.2, e_i k, .retAddr 0] [] (t_H (t_it (t_fof) k.toNat (ρ, t_pgl ρ, (-1 : Int))).1 h0) _ _ _ _) (by omega) ?_ (fun k hk0 hk1 hF => ?_)
    · have hin := t_fol_in H ((ρ 1 5).toNat) (by omega)
      obtain ⟨x, hx⟩ : ∃ x, t_it (t_fof) (ρ 1 5).toNat (ρ, t_pgl ρ, (-1 : Int)) = x := ⟨_, rfl⟩
      rw [hx] at hin ⊢
      have j5 : x.1 1 5 = ρ 1 5 := congrFun (hin.1 1 (by omega)) 5
      refine e_iload_n dX6_ford_19 rfl ?_
      refine e_aload_n dX6_ford_20 rfl ?_
      refine t_geta (k := 1) dX6_ford_21 fl_X6_9 rfl ?_
      refine e_iconst dX6_ford_24 ?_
      refine t_ild 149 dX6_ford_25 rfl (by decide) (fun _ => rfl) rfl ⟨by omega, by omega⟩ ?_
      refine e_icmp_ge (tgt := 104) dX6_ford_26 rfl ⟨by omega, by omega⟩ ⟨by omega, by omega⟩ (fun c2 => ?_) (fun q => by exfalso; omega)
      refine e_iload_n dX6_ford_104 rfl ?_
      refine e_ireturn dX6_ford_105 rfl rfl ?_
      refine t_pub ?_ (t_pkG hpk (fun j j1 _ => hin.1 j j1))
      unfold v_ford t_fo
      rw [hx, if_pos (by omega)]
    · have hin := t_fol_in H (k.toNat) (by omega)
      rw [t_it_s _ _ hk0] at hF
      generalize t_it (t_fof) k.toNat (ρ, t_pgl ρ, (-1 : Int)) = x at hF hin ⊢
      have jr := hin.2.2.1
      have j5 : x.1 1 5 = ρ 1 5 := congrFun (hin.1 1 (by omega)) 5
      have hb := t_fd1_in (k := k) H.1 ⟨hk0, hk1⟩ hin.1
      have hbc := hb.2.2.2.1
      have hbw := hb.2.2.2.2.2
      refine e_iload_n dX6_ford_19 rfl ?_
      refine e_aload_n dX6_ford_20 rfl ?_
      refine t_geta (k := 1) dX6_ford_21 fl_X6_9 rfl ?_
      refine e_iconst dX6_ford_24 ?_
      refine t_ild 149 dX6_ford_25 rfl (by decide) (fun _ => rfl) rfl ⟨by omega, by omega⟩ ?_
      refine e_icmp_ge (tgt := 104) dX6_ford_26 rfl ⟨by omega, by omega⟩ ⟨by omega, by omega⟩ (fun q => by exfalso; omega) (fun c3 => ?_)
      refine e_aload_n dX6_ford_29 rfl ?_
      refine t_geta (k := 15) dX6_ford_30 fl_X6_34 rfl ?_
      refine e_aload_n dX6_ford_33 rfl ?_
      refine t_geta (k := 1) dX6_ford_34 fl_X6_9 rfl ?_
      refine e_bipush dX6_ford_37 rfl ?_
      refine e_iload_n dX6_ford_39 rfl ?_
      refine e_iadd dX6_ford_40 ?_
      refine t_ild 149 dX6_ford_41 rfl (by decide) (fun _ => rfl) rfl ⟨by omega, by omega⟩ ?_
      refine t_zld 80 dX6_ford_42 rfl (by decide) (fun _ => rfl) rfl ⟨by omega, by omega⟩ ?_
      refine e_istore4 dX6_ford_43 rfl ?_
      refine e_aload_n dX6_ford_45 rfl ?_
      refine t_geta (k := 15) dX6_ford_46 fl_X6_34 rfl ?_
      refine e_aload_n dX6_ford_49 rfl ?_
      refine t_geta (k := 1) dX6_ford_50 fl_X6_9 rfl ?_
      refine e_bipush dX6_ford_53 rfl ?_
      refine e_iload_n dX6_ford_55 rfl ?_
      refine e_iadd dX6_ford_56 ?_
      refine t_ild 149 dX6_ford_57 rfl (by decide) (fun _ => rfl) rfl ⟨by omega, by omega⟩ ?_
      refine e_iconst dX6_ford_58 ?_
      refine t_zst 80 dX6_ford_59 rfl (by decide) rfl (Or.inl rfl) rfl ⟨by omega, by omega⟩ ?_
      refine e_aload_n dX6_ford_60 rfl ?_
      refine e_callV0vz (ci := 6) dX6_ford_61 md_X6_goAll lk_X6_332 rfl q2092 qs87 (t_obj _ _) (by decide) rfl (Nat.le_of_ble_eq_true rfl) (C_X6_goAll hb.2.2.1) ?_
      have g10 : t_ga (s_up x.1 15 (x.1 1 (10 + k)) 0) 1 (10 + k) = x.1 1 (10 + k) := congrFun hb.2.2.2.2.1 _
      refine e_aload_n dX6_ford_64 rfl ?_
      refine t_geta (k := 15) dX6_ford_65 fl_X6_34 rfl ?_
      refine e_aload_n dX6_ford_68 rfl ?_
      refine t_geta (k := 1) dX6_ford_69 fl_X6_9 rfl ?_
      refine e_bipush dX6_ford_72 rfl ?_
      refine e_iload_n dX6_ford_74 rfl ?_
      refine e_iadd dX6_ford_75 ?_
      refine t_ild 149 dX6_ford_76 rfl (by decide) (fun _ => rfl) rfl ⟨by omega, by omega⟩ ?_
      refine e_iload dX6_ford_77 rfl ?_
      refine t_zst 80 dX6_ford_79 rfl (by decide) rfl hb.2.2.2.2.2 rfl ⟨by omega, by omega⟩ ?_
      show e_E _ _ _ _ (t_H (t_fd1 k x.1) h0) _ _ _ _
      obtain ⟨τ, hτ⟩ : ∃ τ, t_fd1 k x.1 = τ := ⟨_, rfl⟩
      have hF2 : t_fof k x = if x.2.1 < t_pgl τ then (τ, t_pgl τ, k) else (τ, x.2.1, x.2.2) := by unfold t_fof; rw [hτ]
      rw [hF2] at hF
      rw [hτ] at hb ⊢
      have hm2 := t_pgm_rg τ (τ 1 0)
      refine e_aload_n dX6_ford_80 rfl ?_
      refine e_callV0rz (ci := 6) dX6_ford_81 md_X6_pegsLast lk_X6_419 rfl q2395 qs124 (t_obj _ _) (by decide) rfl (Nat.le_of_ble_eq_true rfl) (C_X6_pegsLast hb.2.1) ?_
      refine e_iload_n dX6_ford_84 rfl ?_
      refine e_icmp_gt (tgt := 91) dX6_ford_85 rfl ⟨by omega, by omega⟩ ⟨by omega, by omega⟩ (fun c4 => ?_) (fun c4 => ?_)
      · refine e_aload_n dX6_ford_91 rfl ?_
        refine e_callV0rz (ci := 6) dX6_ford_92 md_X6_pegsLast lk_X6_419 rfl q2395 qs124 (t_obj _ _) (by decide) rfl (Nat.le_of_ble_eq_true rfl) (C_X6_pegsLast hb.2.1) ?_
        refine e_istore_n1 dX6_ford_95 rfl ?_
        refine e_iload_n dX6_ford_96 rfl ?_
        refine e_istore_n2 dX6_ford_97 rfl ?_
        refine e_iinc3 dX6_ford_98 rfl ?_
        refine e_goto (tgt := 19) dX6_ford_101 rfl ?_
        first
          | (rw [if_pos (by show x.2.1 < t_pgm τ (τ 1 0); omega)] at hF; exact e_fgt 4 hF)
          | (rw [if_neg (by show ¬ x.2.1 < t_pgm τ (τ 1 0); omega)] at hF; exact e_fgt 4 hF)
      · refine e_goto (tgt := 98) dX6_ford_88 rfl ?_
        refine e_iinc3 dX6_ford_98 rfl ?_
        refine e_goto (tgt := 19) dX6_ford_101 rfl ?_
        first
          | (rw [if_pos (by show x.2.1 < t_pgm τ (τ 1 0); omega)] at hF; exact e_fgt 4 hF)
          | (rw [if_neg (by show ¬ x.2.1 < t_pgm τ (τ 1 0); omega)] at hF; exact e_fgt 4 hF)
  · refine e_bipush dX6_ford_7 rfl ?_
    refine e_ireturn dX6_ford_9 rfl rfl ?_
    refine t_pub ?_ hpk
    unfold v_ford
    (repeat' split) <;> first | rfl | omega
theorem C_X6_bridges {σ : t_S} {h0 : e_A} (hz : t_sz σ) (hr : t_okR (σ 1)) {y : Int} (hy : e_rg y) : e_C mX6_bridges [.ref 384, e_i y] (t_H σ h0) 0 0 8 (t_Pub (v_bridges (t_af σ) y) σ h0) := by
  refine e_enter (al0 := [.ref 384, e_i y, .retAddr 0, .retAddr 0, .retAddr 0, .retAddr 0]) (by decide +kernel) rfl (Nat.le_of_ble_eq_true rfl) ?_
  refine e_aload_n dX6_bridges_0 rfl ?_
  refine e_iload_n dX6_bridges_1 rfl ?_
  refine e_callV1rz (ci := 6) dX6_bridges_2 md_X6_asksYear lk_X6_373 rfl q2215 qs107 (t_obj _ _) (by decide) rfl (Nat.le_of_ble_eq_true rfl) (C_X6_asksYear hz hr ⟨by omega, by omega⟩) ?_
  have H := t_af_hist hz hr
  have hpk := t_af_pk hz hr
  generalize t_af σ = ρ at H hpk ⊢
  replace hz : t_sz ρ := H.1.1
  have s0 := H.1.1.1
  have s3 := H.1.1.2.1
  have s4 := H.1.1.2.2.1
  have s6 := H.1.1.2.2.2.2.1
  have s7 := H.1.1.2.2.2.2.2.1
  
  refine e_bif_ne (tgt := 11) dX6_bridges_5 rfl (fun c1 => ?_) (fun c1 => ?_)
  · refine e_iconst dX6_bridges_11 ?_
    refine e_istore_n2 dX6_bridges_12 rfl ?_
    refine e_iconst dX6_bridges_13 ?_
    refine e_istore_n3 dX6_bridges_14 rfl ?_
    refine e_for (n := 80) (fun c => e_E mX6_bridges 15 [.ref 384, e_i y, e_i (t_it (t_brc y) c.toNat (ρ, (0 : Int))).2, e_i c, .retAddr 0, .retAddr 0] [] (t_H (t_it (t_brc y) c.toNat (ρ, (0 : Int))).1 h0) _ _ _ _) (by omega) ?_ (fun c hc0 hc1 hF => ?_)
    · have hin := t_brc_in (y := y) H ⟨by omega, by omega⟩ 80 (Nat.le_refl _)
      obtain ⟨x, hx⟩ : ∃ x, t_it (t_brc y) 80 (ρ, (0 : Int)) = x := ⟨_, rfl⟩
      rw [show t_it (t_brc y) (80 : Int).toNat (ρ, (0 : Int)) = t_it (t_brc y) 80 (ρ, (0 : Int)) from rfl]
      rw [hx] at hin ⊢
      refine e_iload_n dX6_bridges_15 rfl ?_
      refine e_bipush dX6_bridges_16 rfl ?_
      refine e_icmp_ge (tgt := 175) dX6_bridges_18 rfl ⟨by omega, by omega⟩ ⟨by omega, by omega⟩ (fun c2 => ?_) (fun q => by exfalso; omega)
      refine e_iload_n dX6_bridges_175 rfl ?_
      refine e_ireturn dX6_bridges_176 rfl rfl ?_
      refine t_pub ?_ (t_pk36 hpk (fun j j1 _ _ _ => hin.1 j j1))
      unfold v_bridges t_br
      rw [hx, if_pos (by omega)]
    · have hin := t_brc_in (y := y) H ⟨by omega, by omega⟩ c.toNat (by omega)
      rw [t_it_s _ _ hc0] at hF
      generalize t_it (t_brc y) c.toNat (ρ, (0 : Int)) = x at hF hin ⊢
      refine e_iload_n dX6_bridges_15 rfl ?_
      refine e_bipush dX6_bridges_16 rfl ?_
      refine e_icmp_ge (tgt := 175) dX6_bridges_18 rfl ⟨by omega, by omega⟩ ⟨by omega, by omega⟩ (fun q => by exfalso; omega) (fun c3 => ?_)
      refine e_iconst dX6_bridges_21 ?_
      refine e_istore4 dX6_bridges_22 rfl ?_
      refine e_forA (a := 1) (n := 3) (fun d => e_E mX6_bridges 24 [.ref 384, e_i y, e_i (t_it (fun j z => t_brf y c (j + 1) z) (d - 1).toNat x).2, e_i c, e_i d, .retAddr 0] [] (t_H (t_it (fun j z => t_brf y c (j + 1) z) (d - 1).toNat x).1 h0) _ _ _ _) (by omega) ?_ (fun d hd0 hd1 hG => ?_)
      · show e_E _ _ [_, _, e_i (t_brc y c x).2, _, _, _] _ (t_H (t_brc y c x).1 h0) _ _ _ _
        refine e_iload dX6_bridges_24 rfl ?_
        refine e_iconst dX6_bridges_26 ?_
        refine e_icmp_gt (tgt := 169) dX6_bridges_27 rfl ⟨by omega, by omega⟩ ⟨by omega, by omega⟩ (fun c4 => ?_) (fun q => by exfalso; omega)
        refine e_iinc3 dX6_bridges_169 rfl ?_
        refine e_goto (tgt := 15) dX6_bridges_172 rfl ?_
        exact e_fgs [4, 5] hF
      · have e : t_it (fun j z => t_brf y c (j + 1) z) (d + 1 - 1).toNat x = t_brf y c d (t_it (fun j z => t_brf y c (j + 1) z) (d - 1).toNat x) := by
          rw [show d + 1 - 1 = (d - 1) + 1 by omega, t_it_s _ _ (by omega)]
          show t_brf y c (d - 1 + 1) _ = _
          rw [Int.sub_add_cancel]
        rw [e] at hG
        have zin : t_inB ρ (2 * (c.toNat : Int) + 1) (t_it (fun j z => t_brf y c (j + 1) z) (d - 1).toNat x) := by
          have hd : d = 1 ∨ d = 2 := by omega
          rcases hd with rfl | rfl
          · exact ⟨hin.1, hin.2.1, by have := hin.2.2; show x.2 ≤ _; omega⟩
          · exact t_brf_in H ⟨by omega, by omega⟩ ⟨hc0, hc1⟩ (Or.inl rfl) hin
        clear e
        generalize t_it (fun j z => t_brf y c (j + 1) z) (d - 1).toNat x = z at hG zin ⊢
        have zH : t_hist z.1 := t_hist_of H (fun j j1 _ _ _ => zin.1 j j1)
        have hyz : 0 ≤ y ∧ y ≤ z.1 1 0 := by rw [zin.1 1 (by decide)]; omega
        have zz := zin.2
        have hp0 : 0 ≤ t_pgs z.1 c y ∧ t_pgs z.1 c y < 2 ^ 4 := (zH.2.1 y c hyz.1 hyz.2 hc0 hc1).2.1
        have hp1 : e_rg (t_pgs z.1 c y) := ⟨by omega, by omega⟩
        refine e_iload dX6_bridges_24 rfl ?_
        refine e_iconst dX6_bridges_26 ?_
        refine e_icmp_gt (tgt := 169) dX6_bridges_27 rfl ⟨by omega, by omega⟩ ⟨by omega, by omega⟩ (fun q => by exfalso; omega) (fun c5 => ?_)
        refine e_aload_n dX6_bridges_30 rfl ?_
        refine e_iload_n dX6_bridges_31 rfl ?_
        refine e_iload_n dX6_bridges_32 rfl ?_
        refine e_callV2rz (ci := 6) dX6_bridges_33 md_X6_pegsOf lk_X6_344 rfl q2239 qs112 (t_obj _ _) (by decide) rfl (Nat.le_of_ble_eq_true rfl) (C_X6_pegsOf ⟨by omega, by omega⟩ ⟨by omega, by omega⟩) ?_
        refine e_iload dX6_bridges_36 rfl ?_
        refine e_callS2rz dX6_bridges_38 md_X6_bit lk_X6_323 rfl q2103 rfl (Nat.le_of_ble_eq_true rfl) (C_X6_bit hp1 ⟨by omega, by omega⟩) ?_
        have hbt := e_bt01 (t_pgs z.1 c y) d
        refine e_if_ne (tgt := 47) dX6_bridges_41 rfl ⟨by omega, by omega⟩ (fun c6 => ?_) (fun c6 => ?_)
        · refine e_aload_n dX6_bridges_47 rfl ?_
          refine e_iload_n dX6_bridges_48 rfl ?_
          refine e_iload dX6_bridges_49 rfl ?_
          refine e_callV2rz (ci := 6) dX6_bridges_51 md_X6_beside lk_X6_288 rfl q2119 qs93 (t_obj _ _) (by decide) rfl (Nat.le_of_ble_eq_true rfl) (C_X6_beside zH.1.1 ⟨by omega, by omega⟩ ⟨by omega, by omega⟩) ?_
          have hq := t_brq_in zH hyz ⟨hc0, hc1⟩ (by omega) (show e_bt (t_pgs z.1 c y) d = 1 by omega)
          obtain ⟨⟨q1, q2, q3⟩, hl⟩ := hq
          have hp2 : 0 ≤ z.1 31 (80 * y + t_bes z.1 c d) ∧ z.1 31 (80 * y + t_bes z.1 c d) < 2 ^ 4 := (zH.2.1 y (t_bes z.1 c d) hyz.1 hyz.2 q1 q2).2.1
          have hp3 : 0 ≤ z.1 31 (80 * y + c) ∧ z.1 31 (80 * y + c) < 2 ^ 4 := (zH.2.1 y c hyz.1 hyz.2 hc0 hc1).2.1
          have e31 : ∀ v, s_up z.1 31 (80 * y + c) v 31 (80 * y + t_bes z.1 c d) = z.1 31 (80 * y + t_bes z.1 c d) := fun v => s_up_j (by omega)
          have hly := t_lyf_in (y := y) hl.1 (a := c) ⟨hc0, hc1⟩
          refine e_istore5 dX6_bridges_54 rfl ?_
          refine e_aload_n dX6_bridges_56 rfl ?_
          refine t_geta (k := 31) dX6_bridges_57 fl_X6_70 rfl ?_
          refine e_bipush dX6_bridges_60 rfl ?_
          refine e_iload_n dX6_bridges_62 rfl ?_
          refine e_imul dX6_bridges_63 ?_
          refine e_iload_n dX6_bridges_64 rfl ?_
          refine e_iadd dX6_bridges_65 ?_
          refine e_dup2 dX6_bridges_66 rfl rfl ?_
          refine t_ild 1040 dX6_bridges_67 rfl (by decide) (fun _ => rfl) rfl ⟨by omega, by omega⟩ ?_
          refine e_iconst dX6_bridges_68 ?_
          refine e_iload dX6_bridges_69 rfl ?_
          refine e_ishl dX6_bridges_71 (t_shl1 ⟨by omega, by omega⟩) ?_
          refine e_ixor dX6_bridges_72 (t_xor_law (by omega) (t_p2 _)) ?_
          refine t_ist 1040 dX6_bridges_73 rfl (by decide) rfl rfl ⟨by omega, by omega⟩ ?_
          refine e_aload_n dX6_bridges_74 rfl ?_
          refine t_geta (k := 31) dX6_bridges_75 fl_X6_70 rfl ?_
          refine e_bipush dX6_bridges_78 rfl ?_
          refine e_iload_n dX6_bridges_80 rfl ?_
          refine e_imul dX6_bridges_81 ?_
          refine e_iload dX6_bridges_82 rfl ?_
          refine e_iadd dX6_bridges_84 ?_
          refine e_dup2 dX6_bridges_85 rfl rfl ?_
          refine t_ild 1040 dX6_bridges_86 rfl (by decide) (fun _ => rfl) rfl ⟨by omega, by omega⟩ ?_
          refine e_iconst dX6_bridges_87 ?_
          refine e_iload dX6_bridges_88 rfl ?_
          refine e_iconst dX6_bridges_90 ?_
          refine e_iadd dX6_bridges_91 ?_
          refine e_iconst dX6_bridges_92 ?_
          refine e_irem dX6_bridges_93 ⟨by omega, by omega⟩ ⟨by omega, by omega⟩ ?_
          refine e_ishl dX6_bridges_94 (t_shl1 ⟨by omega, by omega⟩) ?_
          refine e_ixor dX6_bridges_95 (t_xor_law (by rw [e31]; omega) (t_p2 _)) ?_
          refine t_ist 1040 dX6_bridges_96 rfl (by decide) rfl rfl ⟨by omega, by omega⟩ ?_
          refine e_aload_n dX6_bridges_97 rfl ?_
          refine e_iload_n dX6_bridges_98 rfl ?_
          refine e_iload_n dX6_bridges_99 rfl ?_
          refine e_callV2vz (ci := 6) dX6_bridges_100 md_X6_layFar lk_X6_379 rfl q2231 qs110 (t_obj _ _) (by decide) rfl (Nat.le_of_ble_eq_true rfl) (C_X6_layFar hl ⟨by omega, by omega⟩) ?_
          show e_E _ _ _ _ (t_H (t_brq y c d z.1) h0) _ _ _ _
          have gf : t_frg (t_brq y c d z.1) 81 := hly.2
          have gr : ∀ a, 0 ≤ a → a < 80 → 0 ≤ t_brq y c d z.1 31 (80 * y + a) ∧ t_brq y c d z.1 31 (80 * y + a) < 2 ^ 4 := by
            intro a a0 a1
            rw [show t_brq y c d z.1 31 = t_tg (80 * y + c) (80 * y + t_bes z.1 c d) (2 ^ d.toNat) (2 ^ ((d + 2) % 4).toNat) z.1 31 from hly.1 31 (by decide)]
            rcases hl.2.2 with w | w
            · exfalso; omega
            · exact w.2 a a0 a1
          have hB : t_brf y c d z = (t_tg (80 * y + c) (80 * y + t_bes z.1 c d) (2 ^ d.toNat) (2 ^ ((d + 2) % 4).toNat) (t_brq y c d z.1), z.2 + (if t_brq y c d z.1 33 (t_bes z.1 c d) = -1 then 1 else 0)) := by
            unfold t_brf
            rw [if_neg (by omega)]
          obtain ⟨G, hG2⟩ : ∃ G, t_brq y c d z.1 = G := ⟨_, rfl⟩
          rw [hG2] at gf gr hB ⊢
          rw [hB] at hG
          have gt := gf (t_bes z.1 c d) q1 q2
          have e32 : ∀ v, s_up G 31 (80 * y + c) v 31 (80 * y + t_bes z.1 c d) = G 31 (80 * y + t_bes z.1 c d) := fun v => s_up_j (by omega)
          refine e_iload_n dX6_bridges_103 rfl ?_
          refine e_aload_n dX6_bridges_104 rfl ?_
          refine t_geta (k := 33) dX6_bridges_105 fl_X6_76 rfl ?_
          refine e_iload dX6_bridges_108 rfl ?_
          refine t_ild 80 dX6_bridges_110 rfl (by decide) (fun _ => rfl) rfl ⟨by omega, by omega⟩ ?_
          refine e_iconst dX6_bridges_111 ?_
          refine e_icmp_ne (tgt := 119) dX6_bridges_112 rfl ⟨by omega, by omega⟩ ⟨by omega, by omega⟩ (fun c7 => ?_) (fun c7 => ?_)
          · refine e_iconst dX6_bridges_119 ?_
            refine e_iadd dX6_bridges_120 ?_
            refine e_istore_n2 dX6_bridges_121 rfl ?_
            refine e_aload_n dX6_bridges_122 rfl ?_
            refine t_geta (k := 31) dX6_bridges_123 fl_X6_70 rfl ?_
            refine e_bipush dX6_bridges_126 rfl ?_
            refine e_iload_n dX6_bridges_128 rfl ?_
            refine e_imul dX6_bridges_129 ?_
            refine e_iload_n dX6_bridges_130 rfl ?_
            refine e_iadd dX6_bridges_131 ?_
            refine e_dup2 dX6_bridges_132 rfl rfl ?_
            refine t_ild 1040 dX6_bridges_133 rfl (by decide) (fun _ => rfl) rfl ⟨by omega, by omega⟩ ?_
            refine e_iconst dX6_bridges_134 ?_
            refine e_iload dX6_bridges_135 rfl ?_
            refine e_ishl dX6_bridges_137 (t_shl1 ⟨by omega, by omega⟩) ?_
            refine e_ixor dX6_bridges_138 (t_xor_law (gr c hc0 hc1).1 (t_p2 _)) ?_
            refine t_ist 1040 dX6_bridges_139 rfl (by decide) rfl rfl ⟨by omega, by omega⟩ ?_
            refine e_aload_n dX6_bridges_140 rfl ?_
            refine t_geta (k := 31) dX6_bridges_141 fl_X6_70 rfl ?_
            refine e_bipush dX6_bridges_144 rfl ?_
            refine e_iload_n dX6_bridges_146 rfl ?_
            refine e_imul dX6_bridges_147 ?_
            refine e_iload dX6_bridges_148 rfl ?_
            refine e_iadd dX6_bridges_150 ?_
            refine e_dup2 dX6_bridges_151 rfl rfl ?_
            refine t_ild 1040 dX6_bridges_152 rfl (by decide) (fun _ => rfl) rfl ⟨by omega, by omega⟩ ?_
            refine e_iconst dX6_bridges_153 ?_
            refine e_iload dX6_bridges_154 rfl ?_
            refine e_iconst dX6_bridges_156 ?_
            refine e_iadd dX6_bridges_157 ?_
            refine e_iconst dX6_bridges_158 ?_
            refine e_irem dX6_bridges_159 ⟨by omega, by omega⟩ ⟨by omega, by omega⟩ ?_
            refine e_ishl dX6_bridges_160 (t_shl1 ⟨by omega, by omega⟩) ?_
            refine e_ixor dX6_bridges_161 (t_xor_law (by rw [e32]; exact (gr (t_bes z.1 c d) q1 q2).1) (t_p2 _)) ?_
            refine t_ist 1040 dX6_bridges_162 rfl (by decide) rfl rfl ⟨by omega, by omega⟩ ?_
            refine e_iinc4 dX6_bridges_163 rfl ?_
            refine e_goto (tgt := 24) dX6_bridges_166 rfl ?_
            first
              | (have e : t_brf y c d z = z := if_pos (by omega)
                 rw [e] at hG; exact e_fgt 5 hG)
              | (rw [if_pos (by omega)] at hG; exact e_fgt 5 hG)
              | (rw [if_neg (by omega)] at hG; exact e_fgt 5 hG)
          · refine e_iconst dX6_bridges_115 ?_
            refine e_goto (tgt := 120) dX6_bridges_116 rfl ?_
            refine e_iadd dX6_bridges_120 ?_
            refine e_istore_n2 dX6_bridges_121 rfl ?_
            refine e_aload_n dX6_bridges_122 rfl ?_
            refine t_geta (k := 31) dX6_bridges_123 fl_X6_70 rfl ?_
            refine e_bipush dX6_bridges_126 rfl ?_
            refine e_iload_n dX6_bridges_128 rfl ?_
            refine e_imul dX6_bridges_129 ?_
            refine e_iload_n dX6_bridges_130 rfl ?_
            refine e_iadd dX6_bridges_131 ?_
            refine e_dup2 dX6_bridges_132 rfl rfl ?_
            refine t_ild 1040 dX6_bridges_133 rfl (by decide) (fun _ => rfl) rfl ⟨by omega, by omega⟩ ?_
            refine e_iconst dX6_bridges_134 ?_
            refine e_iload dX6_bridges_135 rfl ?_
            refine e_ishl dX6_bridges_137 (t_shl1 ⟨by omega, by omega⟩) ?_
            refine e_ixor dX6_bridges_138 (t_xor_law (gr c hc0 hc1).1 (t_p2 _)) ?_
            refine t_ist 1040 dX6_bridges_139 rfl (by decide) rfl rfl ⟨by omega, by omega⟩ ?_
            refine e_aload_n dX6_bridges_140 rfl ?_
            refine t_geta (k := 31) dX6_bridges_141 fl_X6_70 rfl ?_
            refine e_bipush dX6_bridges_144 rfl ?_
            refine e_iload_n dX6_bridges_146 rfl ?_
            refine e_imul dX6_bridges_147 ?_
            refine e_iload dX6_bridges_148 rfl ?_
            refine e_iadd dX6_bridges_150 ?_
            refine e_dup2 dX6_bridges_151 rfl rfl ?_
            refine t_ild 1040 dX6_bridges_152 rfl (by decide) (fun _ => rfl) rfl ⟨by omega, by omega⟩ ?_
            refine e_iconst dX6_bridges_153 ?_
            refine e_iload dX6_bridges_154 rfl ?_
            refine e_iconst dX6_bridges_156 ?_
            refine e_iadd dX6_bridges_157 ?_
            refine e_iconst dX6_bridges_158 ?_
            refine e_irem dX6_bridges_159 ⟨by omega, by omega⟩ ⟨by omega, by omega⟩ ?_
            refine e_ishl dX6_bridges_160 (t_shl1 ⟨by omega, by omega⟩) ?_
            refine e_ixor dX6_bridges_161 (t_xor_law (by rw [e32]; exact (gr (t_bes z.1 c d) q1 q2).1) (t_p2 _)) ?_
            refine t_ist 1040 dX6_bridges_162 rfl (by decide) rfl rfl ⟨by omega, by omega⟩ ?_
            refine e_iinc4 dX6_bridges_163 rfl ?_
            refine e_goto (tgt := 24) dX6_bridges_166 rfl ?_
            first
              | (have e : t_brf y c d z = z := if_pos (by omega)
                 rw [e] at hG; exact e_fgt 5 hG)
              | (rw [if_pos (by omega)] at hG; exact e_fgt 5 hG)
              | (rw [if_neg (by omega)] at hG; exact e_fgt 5 hG)
        · refine e_goto (tgt := 163) dX6_bridges_44 rfl ?_
          refine e_iinc4 dX6_bridges_163 rfl ?_
          refine e_goto (tgt := 24) dX6_bridges_166 rfl ?_
          first
            | (have e : t_brf y c d z = z := if_pos (by omega)
               rw [e] at hG; exact e_fgt 5 hG)
            | (rw [if_pos (by omega)] at hG; exact e_fgt 5 hG)
            | (rw [if_neg (by omega)] at hG; exact e_fgt 5 hG)
  · refine e_bipush dX6_bridges_8 rfl ?_
    refine e_ireturn dX6_bridges_10 rfl rfl ?_
    refine t_pub ?_ hpk
    unfold v_bridges
    (repeat' split) <;> first | rfl | omega
