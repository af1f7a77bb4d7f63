/-! THE TWIN: decades drawn (printed by tw13.py) -/
set_option maxRecDepth 100000
theorem C_X6_goDrawn {σ : t_S} {h0 : e_A} (hz : t_sz σ) (hr : t_okR (σ 1)) {s : Int} (hs : 0 ≤ s ∧ s < 2147483648) : e_C mX6_goDrawn [.ref 384, e_j s] (t_H σ h0) 0 0 7 (e_ret (e_i (t_fog (t_bg σ) s)) (t_H (t_gd s σ) h0)) := by
  refine e_enter (al0 := [.ref 384, e_j s, .retAddr 0, .retAddr 0, .retAddr 0, .retAddr 0, .retAddr 0]) (by decide +kernel) rfl (Nat.le_of_ble_eq_true rfl) ?_
  refine e_aload_n dX6_goDrawn_0 rfl ?_
  refine e_callV0vz (ci := 6) dX6_goDrawn_1 md_X6_beginSets lk_X6_457 rfl q2467 qs133 (t_obj _ _) (by decide) rfl (Nat.le_of_ble_eq_true rfl) (C_X6_beginSets hz hr) ?_
  unfold t_gd
  have hB := t_bg_in hz hr
  generalize t_bg σ = ρ at hB ⊢
  have bz := hB.1.1
  have s7 := bz.2.2.2.2.2.1
  have s2 : 0 ≤ ρ 1 2 ∧ ρ 1 2 ≤ 10 := hB.1.2.1.2.2.2.2.2.2.2
  refine e_lload_n dX6_goDrawn_4 rfl ?_
  refine e_lstore_n3 dX6_goDrawn_5 rfl ?_
  refine e_iconst dX6_goDrawn_6 ?_
  refine e_istore5 dX6_goDrawn_7 rfl ?_
  refine e_iconst dX6_goDrawn_9 ?_
  refine e_istore6 dX6_goDrawn_10 rfl ?_
  refine e_for (n := ρ 1 7) (fun i => e_E mX6_goDrawn 12 [.ref 384, e_j s, .retAddr 0, e_j (t_lcn s i.toNat), .retAddr 0, e_i (t_msk (t_fgg ρ s) i.toNat), e_i i] [] (t_H ρ h0) _ _ _ _) (by omega) ?_ (fun i hi0 hi1 hF => ?_)
  · refine e_iload dX6_goDrawn_12 rfl ?_
    refine e_aload_n dX6_goDrawn_14 rfl ?_
    refine e_callV0rz (ci := 6) dX6_goDrawn_15 md_X6_widows lk_X6_110 rfl q2059 qs81 (t_obj _ _) (by decide) rfl (Nat.le_of_ble_eq_true rfl) (C_X6_widows) ?_
    refine e_icmp_ge (tgt := 74) dX6_goDrawn_18 rfl ⟨by omega, by omega⟩ ⟨by omega, by omega⟩ (fun c1 => ?_) (fun q => by exfalso; omega)
    refine e_aload_n dX6_goDrawn_74 rfl ?_
    have hf := t_msk_rg (t_fgg ρ s) (ρ 1 7).toNat
    have hp2 := e_pow_lt 8 (k := ρ 1 7) ⟨s7.1, by omega⟩
    refine e_aload_n dX6_goDrawn_75 rfl ?_
    refine e_callV0rz (ci := 6) dX6_goDrawn_76 md_X6_allWidows lk_X6_273 rfl q2088 qs86 (t_obj _ _) (by decide) rfl (Nat.le_of_ble_eq_true rfl) (C_X6_allWidows bz) ?_
    refine e_iload dX6_goDrawn_79 rfl ?_
    refine e_iconst dX6_goDrawn_81 ?_
    refine e_ixor dX6_goDrawn_82 (e_not_law _) ?_
    refine e_iand dX6_goDrawn_83 (e_andn_law (by omega) hf.1) ?_
    refine e_callV1rz (ci := 6) dX6_goDrawn_84 md_X6_worthOf lk_X6_460 rfl q2471 qs134 (t_obj _ _) (by decide) rfl (Nat.le_of_ble_eq_true rfl) (C_X6_worthOf hB.1 hB.2.1 (Int.natCast_nonneg _)) ?_
    refine e_pop dX6_goDrawn_87 rfl ?_
    refine e_iload dX6_goDrawn_88 rfl ?_
    refine e_ireturn dX6_goDrawn_90 rfl rfl ?_
    exact ⟨rfl, rfl⟩
  · have hm := t_msk_rg (t_fgg ρ s) i.toNat
    have hx := t_lcn_rg hs i.toNat
    have e : t_lcn s (i + 1).toNat = (1103515245 * t_lcn s i.toNat + 12345) % 2147483648 := t_it_s t_lcf s hi0
    have hF9 := hF
    rw [e] at hF
    refine e_iload dX6_goDrawn_12 rfl ?_
    refine e_aload_n dX6_goDrawn_14 rfl ?_
    refine e_callV0rz (ci := 6) dX6_goDrawn_15 md_X6_widows lk_X6_110 rfl q2059 qs81 (t_obj _ _) (by decide) rfl (Nat.le_of_ble_eq_true rfl) (C_X6_widows) ?_
    refine e_icmp_ge (tgt := 74) dX6_goDrawn_18 rfl ⟨by omega, by omega⟩ ⟨by omega, by omega⟩ (fun q => by exfalso; omega) (fun c2 => ?_)
    refine e_ldc2 (z := 1103515245) dX6_goDrawn_21 q2549 rfl ?_
    refine e_lload_n dX6_goDrawn_24 rfl ?_
    refine e_lmul dX6_goDrawn_25 ?_
    refine e_ldc2 (z := 12345) dX6_goDrawn_26 q2550 rfl ?_
    refine e_ladd dX6_goDrawn_29 ?_
    refine e_ldc2 (z := 2147483648) dX6_goDrawn_30 q2551 rfl ?_
    refine e_lrem dX6_goDrawn_33 ⟨by omega, by omega⟩ ⟨by omega, by omega⟩ ?_
    refine e_lstore_n3 dX6_goDrawn_34 rfl ?_
    refine e_iload dX6_goDrawn_35 rfl ?_
    refine e_lload_n dX6_goDrawn_37 rfl ?_
    refine e_ldc2 (z := 65536) dX6_goDrawn_38 q2552 rfl ?_
    refine e_ldiv dX6_goDrawn_41 ⟨by omega, by omega⟩ ⟨by omega, by omega⟩ ?_
    refine e_ldc2 (z := 10) dX6_goDrawn_42 q2151 rfl ?_
    refine e_lrem dX6_goDrawn_45 ⟨by omega, by omega⟩ ⟨by omega, by omega⟩ ?_
    refine e_aload_n dX6_goDrawn_46 rfl ?_
    refine t_geta (k := 1) dX6_goDrawn_47 fl_X6_9 rfl ?_
    refine e_iconst dX6_goDrawn_50 ?_
    refine t_ild 149 dX6_goDrawn_51 rfl (by decide) (fun _ => rfl) rfl ⟨by omega, by omega⟩ ?_
    refine e_i2l dX6_goDrawn_52 ⟨by omega, by omega⟩ ?_
    refine e_lcmp_ge (tgt := 64) dX6_goDrawn_53 dX6_goDrawn_54 rfl ⟨by omega, by omega⟩ ⟨by omega, by omega⟩ (fun c3 => ?_) (fun c3 => ?_)
    · refine e_iconst dX6_goDrawn_64 ?_
      refine e_ior dX6_goDrawn_65 (by first | exact e_or_0 _ | exact e_or_top ⟨by omega, by omega⟩ hm) ?_
      refine e_istore5 dX6_goDrawn_66 rfl ?_
      refine e_iinc6 dX6_goDrawn_68 rfl ?_
      refine e_goto (tgt := 12) dX6_goDrawn_71 rfl ?_
      first
        | (rw [t_msk_1 (g := t_fgg ρ s) hi0 (if_pos (by rw [e]; omega))] at hF; exact hF)
        | (rw [t_msk_0 (g := t_fgg ρ s) hi0 (if_neg (by rw [e]; omega))] at hF; exact hF)
    · refine e_iconst dX6_goDrawn_57 ?_
      refine e_iload dX6_goDrawn_58 rfl ?_
      refine e_ishl dX6_goDrawn_60 (t_shl1 ⟨by omega, by omega⟩) ?_
      refine e_goto (tgt := 65) dX6_goDrawn_61 rfl ?_
      refine e_ior dX6_goDrawn_65 (by first | exact e_or_0 _ | exact e_or_top ⟨by omega, by omega⟩ hm) ?_
      refine e_istore5 dX6_goDrawn_66 rfl ?_
      refine e_iinc6 dX6_goDrawn_68 rfl ?_
      refine e_goto (tgt := 12) dX6_goDrawn_71 rfl ?_
      first
        | (rw [t_msk_1 (g := t_fgg ρ s) hi0 (if_pos (by rw [e]; omega))] at hF; exact hF)
        | (rw [t_msk_0 (g := t_fgg ρ s) hi0 (if_neg (by rw [e]; omega))] at hF; exact hF)
