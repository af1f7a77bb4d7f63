/-! THE COMPONENT'S WALKS: the empty cell (printed by tx5.py) -/
set_option maxRecDepth 100000
theorem C_X3_freeSpot {ρ χ : t_S} {h0 : e_A} {α : Nat → Nat} (A : x_at χ h0 (ρ 1) α) (hz : t_sz ρ) (hC : t_isC ρ) (hq : χ 22 0 = x_bs (ρ 15)) (hg : x_g01 (ρ 15)) (hr : χ 23 0 = x_bs (ρ 21)) (hg2 : x_g01 (ρ 21)) {y : Int} (hy : 0 ≤ y ∧ y ≤ 12) (hh : ∀ k, 0 ≤ k → k < ρ 1 6 → χ 14 (6 * y + k) = x_sp (ρ 25 k) ∧ x_cn (ρ 25 k)) : e_C mX3_freeSpot [.ref 366, e_i y] (x_H χ h0) 0 0 1 (e_ret (e_i (x_sp (t_emp ρ))) (x_H χ h0)) := by
  have s3 := hz.2.1
  have s4 := hz.2.2.1
  have s6 := hz.2.2.2.2.1
  obtain ⟨mc, hl⟩ := x_a3 A
  refine e_enter (al0 := [.ref 366, e_i y, .retAddr 0, .retAddr 0, .retAddr 0, .retAddr 0]) (by decide +kernel) rfl (Nat.le_of_ble_eq_true rfl) ?_
  refine e_aload_n dX3_freeSpot_0 rfl ?_
  refine e_getV (e_j _) dX3_freeSpot_1 fl_X3_71 (x_o3 _ _) rfl ?_
  refine e_aload_n dX3_freeSpot_4 rfl ?_
  refine e_getV (e_j _) dX3_freeSpot_5 fl_X3_116 (x_o3 _ _) rfl ?_
  refine e_lor dX3_freeSpot_8 ((e_lor_law (by rw [hq]; exact (x_bs_rg _).1) (by rw [hr]; exact (x_bs_rg _).1)).trans (by rw [hq, hr, x_tk0 hg hg2])) ?_
  refine e_lstore_n2 dX3_freeSpot_9 rfl ?_
  refine e_iconst dX3_freeSpot_10 ?_
  refine e_istore4 dX3_freeSpot_11 rfl ?_
  refine e_for (n := ρ 1 6) (F := fun k => e_E mX3_freeSpot 13 [.ref 366, e_i y, e_j (x_bs (x_tk ρ k)), .retAddr 0, e_i k, .retAddr 0] [] (x_H χ h0) 0 0 1 (e_ret (e_i (x_sp (t_emp ρ))) (x_H χ h0))) (by omega) ?_ (fun k hk0 hk1 hF => ?_)
  · refine e_iload dX3_freeSpot_13 rfl ?_
    refine e_aload_n dX3_freeSpot_15 rfl ?_
    refine e_getV (.ref 350) dX3_freeSpot_16 fl_X3_3 (x_o3 _ _) rfl ?_
    refine e_getV (.ref (α 0)) dX3_freeSpot_19 fl_X3_53 (x_o0 _ _) (x_now A) ?_
    refine e_getV (.ref (α 3)) dX3_freeSpot_22 fl_X3_134 (x_aC A) rfl ?_
    refine e_callF0rz (ci := 11) dX3_freeSpot_25 md_J2_size if_X3_136 rfl hl.1 (by decide) rfl (Nat.le_of_ble_eq_true rfl) (C_J2_size hl) ?_
    refine e_icmp_ge (tgt := 72) dX3_freeSpot_30 rfl ⟨by omega, by omega⟩ ⟨by omega, by omega⟩ (fun c1 => ?_) (fun q => by exfalso; omega)
    refine e_iconst dX3_freeSpot_72 ?_
    refine e_istore4 dX3_freeSpot_73 rfl ?_
    refine e_for (n := ρ 1 3) (F := fun a => x_bare ρ (10 * a + 0) → e_E mX3_freeSpot 75 [.ref 366, e_i y, e_j (x_bs (x_tk ρ (ρ 1 6))), .retAddr 0, e_i a, .retAddr 0] [] (x_H χ h0) 0 0 1 (e_ret (e_i (x_sp (t_emp ρ))) (x_H χ h0))) (by omega) (fun hb => ?_) (fun a ha0 ha1 hF hb => ?_) (fun c _ _ => by omega)
    · refine e_iload dX3_freeSpot_75 rfl ?_
      refine e_aload_n dX3_freeSpot_77 rfl ?_
      refine e_getV (.ref 350) dX3_freeSpot_78 fl_X3_3 (x_o3 _ _) rfl ?_
      refine e_getV (.ref (α 0)) dX3_freeSpot_81 fl_X3_53 (x_o0 _ _) (x_now A) ?_
      refine e_getV (e_i _) dX3_freeSpot_84 fl_X3_209 (x_aC A) rfl ?_
      refine e_icmp_ge (tgt := 144) dX3_freeSpot_87 rfl ⟨by omega, by omega⟩ ⟨by omega, by omega⟩ (fun c2 => ?_) (fun q => by exfalso; omega)
      refine e_iconst dX3_freeSpot_144 ?_
      refine e_ireturn dX3_freeSpot_145 rfl rfl ?_
      exact e_rv (by rw [x_bare_n hb]; rfl) rfl
    · refine e_iload dX3_freeSpot_75 rfl ?_
      refine e_aload_n dX3_freeSpot_77 rfl ?_
      refine e_getV (.ref 350) dX3_freeSpot_78 fl_X3_3 (x_o3 _ _) rfl ?_
      refine e_getV (.ref (α 0)) dX3_freeSpot_81 fl_X3_53 (x_o0 _ _) (x_now A) ?_
      refine e_getV (e_i _) dX3_freeSpot_84 fl_X3_209 (x_aC A) rfl ?_
      refine e_icmp_ge (tgt := 144) dX3_freeSpot_87 rfl ⟨by omega, by omega⟩ ⟨by omega, by omega⟩ (fun q => by exfalso; omega) (fun c3 => ?_)
      refine e_iconst dX3_freeSpot_90 ?_
      refine e_istore5 dX3_freeSpot_91 rfl ?_
      refine e_for (n := ρ 1 4) (F := fun d => x_bare ρ (10 * a + d) → e_E mX3_freeSpot 93 [.ref 366, e_i y, e_j (x_bs (x_tk ρ (ρ 1 6))), .retAddr 0, e_i a, e_i d] [] (x_H χ h0) 0 0 1 (e_ret (e_i (x_sp (t_emp ρ))) (x_H χ h0))) (by omega) (fun hd => ?_) (fun d hd0 hd1 hG hd => ?_) hb
      · refine e_iload dX3_freeSpot_93 rfl ?_
        refine e_aload_n dX3_freeSpot_95 rfl ?_
        refine e_getV (.ref 350) dX3_freeSpot_96 fl_X3_3 (x_o3 _ _) rfl ?_
        refine e_getV (.ref (α 0)) dX3_freeSpot_99 fl_X3_53 (x_o0 _ _) (x_now A) ?_
        refine e_getV (e_i _) dX3_freeSpot_102 fl_X3_212 (x_aC A) rfl ?_
        refine e_icmp_ge (tgt := 138) dX3_freeSpot_105 rfl ⟨by omega, by omega⟩ ⟨by omega, by omega⟩ (fun c4 => ?_) (fun q => by exfalso; omega)
        refine e_iinc4 dX3_freeSpot_138 rfl ?_
        refine e_goto (tgt := 75) dX3_freeSpot_141 rfl ?_
        refine e_fgt 5 ?_
        exact hF (x_bare_a ha0 (by omega) hd)
      · refine e_iload dX3_freeSpot_93 rfl ?_
        refine e_aload_n dX3_freeSpot_95 rfl ?_
        refine e_getV (.ref 350) dX3_freeSpot_96 fl_X3_3 (x_o3 _ _) rfl ?_
        refine e_getV (.ref (α 0)) dX3_freeSpot_99 fl_X3_53 (x_o0 _ _) (x_now A) ?_
        refine e_getV (e_i _) dX3_freeSpot_102 fl_X3_212 (x_aC A) rfl ?_
        refine e_icmp_ge (tgt := 138) dX3_freeSpot_105 rfl ⟨by omega, by omega⟩ ⟨by omega, by omega⟩ (fun q => by exfalso; omega) (fun c5 => ?_)
        refine e_lload_n dX3_freeSpot_108 rfl ?_
        refine e_bipush dX3_freeSpot_109 rfl ?_
        refine e_iload dX3_freeSpot_111 rfl ?_
        refine e_imul dX3_freeSpot_113 ?_
        refine e_iload dX3_freeSpot_114 rfl ?_
        refine e_iadd dX3_freeSpot_116 ?_
        refine e_callS2rz dX3_freeSpot_117 md_X0_isIn lk_X3_168 rfl q1188 rfl (Nat.le_of_ble_eq_true rfl) (C_X0_isIn (x_bs_rg _) ⟨by omega, by omega⟩) ?_
        refine e_bif_ne (tgt := 132) dX3_freeSpot_120 rfl (fun ce => ?_) (fun ce => ?_)
        · refine e_iinc5 dX3_freeSpot_132 rfl ?_
          refine e_goto (tgt := 93) dX3_freeSpot_135 rfl ?_
          exact hG (x_bare_s hd (x_em_0 ⟨ha0, by omega⟩ ⟨hd0, by omega⟩ ce))
        · refine e_bipush dX3_freeSpot_123 rfl ?_
          refine e_iload dX3_freeSpot_125 rfl ?_
          refine e_imul dX3_freeSpot_127 ?_
          refine e_iload dX3_freeSpot_128 rfl ?_
          refine e_iadd dX3_freeSpot_130 ?_
          refine e_ireturn dX3_freeSpot_131 rfl rfl ?_
          exact e_rv (x_bare_e ⟨ha0, by omega⟩ ⟨hd0, by omega⟩ hd (x_em_1 hC hg hg2 ⟨ha0, by omega⟩ ⟨hd0, by omega⟩ ha1 hd1 ce)) rfl
  · obtain ⟨hh1, hh2⟩ := hh k hk0 hk1
    obtain ⟨hs, hs1⟩ := x_cn_sp hh2
    refine e_iload dX3_freeSpot_13 rfl ?_
    refine e_aload_n dX3_freeSpot_15 rfl ?_
    refine e_getV (.ref 350) dX3_freeSpot_16 fl_X3_3 (x_o3 _ _) rfl ?_
    refine e_getV (.ref (α 0)) dX3_freeSpot_19 fl_X3_53 (x_o0 _ _) (x_now A) ?_
    refine e_getV (.ref (α 3)) dX3_freeSpot_22 fl_X3_134 (x_aC A) rfl ?_
    refine e_callF0rz (ci := 11) dX3_freeSpot_25 md_J2_size if_X3_136 rfl hl.1 (by decide) rfl (Nat.le_of_ble_eq_true rfl) (C_J2_size hl) ?_
    refine e_icmp_ge (tgt := 72) dX3_freeSpot_30 rfl ⟨by omega, by omega⟩ ⟨by omega, by omega⟩ (fun q => by exfalso; omega) (fun c7 => ?_)
    refine e_aload_n dX3_freeSpot_33 rfl ?_
    refine e_getV (.ref (x_ai 14)) dX3_freeSpot_34 fl_X3_28 (x_o3 _ _) rfl ?_
    refine e_bipush dX3_freeSpot_37 rfl ?_
    refine e_iload_n dX3_freeSpot_39 rfl ?_
    refine e_imul dX3_freeSpot_40 ?_
    refine e_iload dX3_freeSpot_41 rfl ?_
    refine e_iadd dX3_freeSpot_43 ?_
    refine x_ild 78 dX3_freeSpot_44 rfl (by decide) (fun _ => rfl) rfl ⟨by omega, by omega⟩ ?_
    refine e_iconst dX3_freeSpot_45 ?_
    refine e_icmp_eq (tgt := 66) dX3_freeSpot_46 rfl ⟨by omega, by omega⟩ ⟨by omega, by omega⟩ (fun c8 => ?_) (fun c8 => ?_)
    · refine e_iinc4 dX3_freeSpot_66 rfl ?_
      refine e_goto (tgt := 13) dX3_freeSpot_69 rfl ?_
      first
        | (rw [hh1, x_tk_s hk0 (by rcases hh2 with q | q; exfalso; omega; exact q)]; exact hF)
        | (rw [x_tk_n hk0 (by omega)]; exact hF)
    · refine e_lload_n dX3_freeSpot_49 rfl ?_
      refine e_lconst (z := 1) dX3_freeSpot_50 rfl ?_
      refine e_aload_n dX3_freeSpot_51 rfl ?_
      refine e_getV (.ref (x_ai 14)) dX3_freeSpot_52 fl_X3_28 (x_o3 _ _) rfl ?_
      refine e_bipush dX3_freeSpot_55 rfl ?_
      refine e_iload_n dX3_freeSpot_57 rfl ?_
      refine e_imul dX3_freeSpot_58 ?_
      refine e_iload dX3_freeSpot_59 rfl ?_
      refine e_iadd dX3_freeSpot_61 ?_
      refine x_ild 78 dX3_freeSpot_62 rfl (by decide) (fun _ => rfl) rfl ⟨by omega, by omega⟩ ?_
      refine e_lshl dX3_freeSpot_63 ((e_lshl_law 1 ⟨by omega, by omega⟩).trans (by rw [Int.one_mul])) ?_
      refine e_lor dX3_freeSpot_64 (e_lor_law (x_bs_rg _).1 (Int.le_of_lt (Int.pow_pos (by decide)))) ?_
      refine e_lstore_n2 dX3_freeSpot_65 rfl ?_
      refine e_iinc4 dX3_freeSpot_66 rfl ?_
      refine e_goto (tgt := 13) dX3_freeSpot_69 rfl ?_
      first
        | (rw [hh1, x_tk_s hk0 (by rcases hh2 with q | q; exfalso; omega; exact q)]; exact hF)
        | (rw [x_tk_n hk0 (by omega)]; exact hF)
