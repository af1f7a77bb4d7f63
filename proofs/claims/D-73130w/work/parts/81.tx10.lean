/-! THE COMPONENT'S WALKS: goes (printed by tx10.py) -/
set_option maxRecDepth 100000
def x_PG (σ χ : t_S) (h0 : e_A) : e_R → e_A → Prop := fun r h => r = .inl (some (.ref 366)) ∧ ∃ χ1, x_Gs (σ 1 0) χ (t_ga σ) χ1 ∧ h = x_H χ1 h0
theorem x_ga_end (σ : t_S) (h0 : 0 ≤ σ 1 0) (hk : t_it t_yr (σ 1 0).toNat (t_ga0 σ) 1 = σ 1) : t_ga σ = t_kp (σ 1 0) (t_it t_yr (σ 1 0).toNat (t_ga0 σ)) := by
  have e : t_ga σ = t_it t_yr (σ 1 0 + 1).toNat (t_ga0 σ) := rfl
  rw [e, t_it_s _ _ h0]
  revert hk
  generalize t_it t_yr (σ 1 0).toNat (t_ga0 σ) = τ
  intro hk
  unfold t_yr
  rw [hk, if_neg (by omega)]
  rfl
theorem x_yr_at {y : Int} {τ σ : t_S} (hk : τ 1 = σ 1) (h : y < σ 1 0) : t_yr y τ = t_it (t_yrf y) (σ 1 7).toNat (t_kp y τ) := by
  unfold t_yr
  rw [hk, if_pos h]
theorem x_In0 (χ σ : t_S) : x_In 0 χ σ (s_fl (s_fl (s_fl (s_fl (s_fl (s_fl (s_up (s_up (s_up χ 23 0 0) 24 0 0) 25 0 0) 10 287 (fun _ => -1)) 11 7 (fun _ => -1)) 12 7 (fun _ => -1)) 13 7 (fun _ => -1)) 21 7 (fun _ => 0)) 15 6 (fun _ => 0)) := by
  refine ⟨⟨rfl, rfl, rfl⟩, fun v v0 v1 => ⟨?_, ?_, ?_, ?_⟩, fun j j0 j1 => ?_, fun j j0 j1 => ?_, fun k k0 k1 => by omega, fun j hj => ?_⟩
  · rw [s_fl_f (by decide), s_fl_f (by decide), s_fl_f (by decide), s_fl_f (by decide)]; exact if_pos ⟨rfl, v0, v1⟩
  · rw [s_fl_f (by decide), s_fl_f (by decide), s_fl_f (by decide)]; exact if_pos ⟨rfl, v0, v1⟩
  · rw [s_fl_f (by decide), s_fl_f (by decide)]; exact if_pos ⟨rfl, v0, v1⟩
  · rw [s_fl_f (by decide)]; exact if_pos ⟨rfl, v0, v1⟩
  · rw [s_fl_f (by decide), s_fl_f (by decide), s_fl_f (by decide), s_fl_f (by decide), s_fl_f (by decide)]; exact if_pos ⟨rfl, j0, j1⟩
  · exact if_pos ⟨rfl, j0, j1⟩
  · unfold x_kG at hj
    rw [s_fl_f (by omega), s_fl_f (by omega), s_fl_f (by omega), s_fl_f (by omega), s_fl_f (by omega), s_fl_f (by omega), s_up_f (by omega), s_up_f (by omega), s_up_f (by omega)]
theorem C_X3_goes {σ χ : t_S} {h0 : e_A} {α : Nat → Nat} (A : x_at χ h0 (σ 1) α) (ha : t_ask σ) (hC : t_isC σ ∨ σ 1 7 = 0) (hq : x_Rq χ σ) : e_C mX3_goes [.ref 366] (x_H χ h0) 0 0 5 (x_PG σ χ h0) := by
  have hz := ha.1
  have hr := ha.2.1
  have s0 : 0 ≤ σ 1 0 ∧ σ 1 0 ≤ 12 := hz.1
  have s6 := hz.2.2.2.2.1
  have s7 := hz.2.2.2.2.2.1
  have A0 := A
  obtain ⟨mc, hl0⟩ := x_a3 A
  have hl := hl0
  refine e_enter (al0 := [.ref 366, .retAddr 0, .retAddr 0]) (by decide +kernel) rfl (Nat.le_of_ble_eq_true rfl) ?_
  refine e_aload_n dX3_goes_0 rfl ?_
  refine e_lconst (z := 0) dX3_goes_1 rfl ?_
  refine x_put_23 dX3_goes_2 fl_X3_116 ?_
  refine e_aload_n dX3_goes_5 rfl ?_
  refine e_lconst (z := 0) dX3_goes_6 rfl ?_
  refine x_put_24 dX3_goes_7 fl_X3_119 ?_
  refine e_aload_n dX3_goes_10 rfl ?_
  refine e_lconst (z := 0) dX3_goes_11 rfl ?_
  refine x_put_25 dX3_goes_12 fl_X3_122 ?_
  refine e_aload_n dX3_goes_15 rfl ?_
  refine e_getV (.ref (x_ai 10)) dX3_goes_16 fl_X3_15 (x_o3 _ _) rfl ?_
  refine e_iconst dX3_goes_19 ?_
  refine e_callS2vz dX3_goes_20 md_J14_fill lk_X3_125 rfl q1152 rfl (Nat.le_of_ble_eq_true rfl) (C_J14_fill 287 rfl (by decide) rfl (fun _ => rfl)) ?_
  refine e_aload_n dX3_goes_23 rfl ?_
  refine e_getV (.ref (x_ai 11)) dX3_goes_24 fl_X3_19 (x_o3 _ _) rfl ?_
  refine e_iconst dX3_goes_27 ?_
  refine e_callS2vz dX3_goes_28 md_J14_fill lk_X3_125 rfl q1152 rfl (Nat.le_of_ble_eq_true rfl) (C_J14_fill 7 rfl (by decide) rfl (fun _ => rfl)) ?_
  refine e_aload_n dX3_goes_31 rfl ?_
  refine e_getV (.ref (x_ai 12)) dX3_goes_32 fl_X3_22 (x_o3 _ _) rfl ?_
  refine e_iconst dX3_goes_35 ?_
  refine e_callS2vz dX3_goes_36 md_J14_fill lk_X3_125 rfl q1152 rfl (Nat.le_of_ble_eq_true rfl) (C_J14_fill 7 rfl (by decide) rfl (fun _ => rfl)) ?_
  refine e_aload_n dX3_goes_39 rfl ?_
  refine e_getV (.ref (x_ai 13)) dX3_goes_40 fl_X3_25 (x_o3 _ _) rfl ?_
  refine e_iconst dX3_goes_43 ?_
  refine e_callS2vz dX3_goes_44 md_J14_fill lk_X3_125 rfl q1152 rfl (Nat.le_of_ble_eq_true rfl) (C_J14_fill 7 rfl (by decide) rfl (fun _ => rfl)) ?_
  refine e_aload_n dX3_goes_47 rfl ?_
  refine e_getV (.ref (x_ai 21)) dX3_goes_48 fl_X3_50 (x_o3 _ _) rfl ?_
  refine e_lconst (z := 0) dX3_goes_51 rfl ?_
  refine e_callS2vz dX3_goes_52 md_J14_fill_2 lk_X3_131 rfl q1155 rfl (Nat.le_of_ble_eq_true rfl) (C_J14_fill_2 7 rfl (by decide) rfl (fun _ => rfl)) ?_
  refine e_aload_n dX3_goes_55 rfl ?_
  refine e_getV (.ref (x_ai 15)) dX3_goes_56 fl_X3_31 (x_o3 _ _) rfl ?_
  refine e_iconst dX3_goes_59 ?_
  refine e_callS2vz dX3_goes_60 md_J14_fill lk_X3_125 rfl q1152 rfl (Nat.le_of_ble_eq_true rfl) (C_J14_fill 6 rfl (by decide) rfl (fun _ => rfl)) ?_
  refine e_iconst dX3_goes_63 ?_
  refine e_istore_n1 dX3_goes_64 rfl ?_
  refine e_for (n := σ 1 6) (F := fun k => ∀ χ1, x_In k χ σ χ1 → e_E mX3_goes 65 [.ref 366, e_i k, .retAddr 0] [] (x_H χ1 h0) 0 0 5 (x_PG σ χ h0)) (by omega) (fun χ1 hI => ?_) (fun k hk0 hk1 hF χ1 hI => ?_) _ (x_In0 χ σ)
  · have A := x_at_up (congrFun (hI.2.2.2.2.2 1 (by decide)) 0) A0
    obtain ⟨mc, hl⟩ := x_a3 A
    refine e_iload_n dX3_goes_65 rfl ?_
    refine e_aload_n dX3_goes_66 rfl ?_
    refine e_getV (.ref 350) dX3_goes_67 fl_X3_3 (x_o3 _ _) rfl ?_
    refine e_getV (.ref (α 0)) dX3_goes_70 fl_X3_53 (x_o0 _ _) (x_now A) ?_
    refine e_getV (.ref (α 3)) dX3_goes_73 fl_X3_134 (x_aC A) rfl ?_
    refine e_callF0rz (ci := 11) dX3_goes_76 md_J2_size if_X3_136 rfl hl.1 (by decide) rfl (Nat.le_of_ble_eq_true rfl) (C_J2_size hl) ?_
    refine e_icmp_ge (tgt := 118) dX3_goes_81 rfl ⟨by omega, by omega⟩ ⟨by omega, by omega⟩ (fun c1 => ?_) (fun q => by exfalso; omega)
    refine e_iconst dX3_goes_118 ?_
    refine e_istore_n1 dX3_goes_119 rfl ?_
    refine e_for (n := σ 1 0) (F := fun y => ∀ χ1, x_Gy y χ (t_it t_yr y.toNat (t_ga0 σ)) χ1 → e_E mX3_goes 120 [.ref 366, e_i y, .retAddr 0] [] (x_H χ1 h0) 0 0 5 (x_PG σ χ h0)) (by omega) (fun χ1 hG => ?_) (fun y hy0 hy1 hF χ1 hG => ?_) χ1 (x_Gy0 hz hr hq hI)
    · have A := x_at_up (congrFun (hG.2.2.2 1 (by decide)) 0) A0
      have k1 := (t_ga_in ha (σ 1 0).toNat).1 1 (by decide)
      have hS := x_store (t_sz_of k1 hz) hG
      refine e_iload_n dX3_goes_120 rfl ?_
      refine e_aload_n dX3_goes_121 rfl ?_
      refine e_getV (.ref 350) dX3_goes_122 fl_X3_3 (x_o3 _ _) rfl ?_
      refine e_getV (.ref (α 0)) dX3_goes_125 fl_X3_53 (x_o0 _ _) (x_now A) ?_
      refine e_getV (e_i _) dX3_goes_128 fl_X3_148 (x_aC A) rfl ?_
      refine e_icmp_gt (tgt := 262) dX3_goes_131 rfl ⟨by omega, by omega⟩ ⟨by omega, by omega⟩ (fun q => by exfalso; omega) (fun c2 => ?_)
      refine e_aload_n dX3_goes_134 rfl ?_
      refine e_getV (.ref (x_ai 18)) dX3_goes_135 fl_X3_40 (x_o3 _ _) rfl ?_
      refine e_iload_n dX3_goes_138 rfl ?_
      refine e_aload_n dX3_goes_139 rfl ?_
      refine e_getV (e_j _) dX3_goes_140 fl_X3_116 (x_o3 _ _) rfl ?_
      refine x_lst 13 dX3_goes_143 rfl (by decide) rfl rfl ⟨by omega, by omega⟩ ?_
      refine e_aload_n dX3_goes_144 rfl ?_
      refine e_getV (.ref (x_ai 19)) dX3_goes_145 fl_X3_44 (x_o3 _ _) rfl ?_
      refine e_iload_n dX3_goes_148 rfl ?_
      refine e_aload_n dX3_goes_149 rfl ?_
      refine e_getV (e_j _) dX3_goes_150 fl_X3_119 (x_o3 _ _) rfl ?_
      refine x_lst 13 dX3_goes_153 rfl (by decide) rfl rfl ⟨by omega, by omega⟩ ?_
      refine e_aload_n dX3_goes_154 rfl ?_
      refine e_getV (.ref (x_ai 20)) dX3_goes_155 fl_X3_47 (x_o3 _ _) rfl ?_
      refine e_iload_n dX3_goes_158 rfl ?_
      refine e_aload_n dX3_goes_159 rfl ?_
      refine e_getV (e_j _) dX3_goes_160 fl_X3_122 (x_o3 _ _) rfl ?_
      refine x_lst 13 dX3_goes_163 rfl (by decide) rfl rfl ⟨by omega, by omega⟩ ?_
      refine e_iload_n dX3_goes_164 rfl ?_
      refine e_aload_n dX3_goes_165 rfl ?_
      refine e_getV (.ref 350) dX3_goes_166 fl_X3_3 (x_o3 _ _) rfl ?_
      refine e_getV (.ref (α 0)) dX3_goes_169 fl_X3_53 (x_o0 _ _) (x_now A) ?_
      refine e_getV (e_i _) dX3_goes_172 fl_X3_148 (x_aC A) rfl ?_
      refine e_icmp_ne (tgt := 180) dX3_goes_175 rfl ⟨by omega, by omega⟩ ⟨by omega, by omega⟩ (fun q => by exfalso; omega) (fun c3 => ?_)
      refine e_aload_n dX3_goes_178 rfl ?_
      refine e_areturn dX3_goes_179 rfl (Or.inl ⟨_, rfl⟩) ?_
      rw [← x_ga_end σ s0.1 k1] at hS
      exact ⟨rfl, _, hS, rfl⟩
    · have hin := t_ga_in ha y.toNat
      obtain ⟨ρ, hρ⟩ : ∃ ρ, t_it t_yr y.toNat (t_ga0 σ) = ρ := ⟨_, rfl⟩
      rw [hρ] at hG hin
      have k1 := hin.1 1 (by decide)
      have hzρ : t_sz ρ := t_sz_of k1 hz
      have A := x_at_up (congrFun (hG.2.2.2 1 (by decide)) 0) A0
      have hS := x_store hzρ hG
      refine e_iload_n dX3_goes_120 rfl ?_
      refine e_aload_n dX3_goes_121 rfl ?_
      refine e_getV (.ref 350) dX3_goes_122 fl_X3_3 (x_o3 _ _) rfl ?_
      refine e_getV (.ref (α 0)) dX3_goes_125 fl_X3_53 (x_o0 _ _) (x_now A) ?_
      refine e_getV (e_i _) dX3_goes_128 fl_X3_148 (x_aC A) rfl ?_
      refine e_icmp_gt (tgt := 262) dX3_goes_131 rfl ⟨by omega, by omega⟩ ⟨by omega, by omega⟩ (fun q => by exfalso; omega) (fun c4 => ?_)
      refine e_aload_n dX3_goes_134 rfl ?_
      refine e_getV (.ref (x_ai 18)) dX3_goes_135 fl_X3_40 (x_o3 _ _) rfl ?_
      refine e_iload_n dX3_goes_138 rfl ?_
      refine e_aload_n dX3_goes_139 rfl ?_
      refine e_getV (e_j _) dX3_goes_140 fl_X3_116 (x_o3 _ _) rfl ?_
      refine x_lst 13 dX3_goes_143 rfl (by decide) rfl rfl ⟨by omega, by omega⟩ ?_
      refine e_aload_n dX3_goes_144 rfl ?_
      refine e_getV (.ref (x_ai 19)) dX3_goes_145 fl_X3_44 (x_o3 _ _) rfl ?_
      refine e_iload_n dX3_goes_148 rfl ?_
      refine e_aload_n dX3_goes_149 rfl ?_
      refine e_getV (e_j _) dX3_goes_150 fl_X3_119 (x_o3 _ _) rfl ?_
      refine x_lst 13 dX3_goes_153 rfl (by decide) rfl rfl ⟨by omega, by omega⟩ ?_
      refine e_aload_n dX3_goes_154 rfl ?_
      refine e_getV (.ref (x_ai 20)) dX3_goes_155 fl_X3_47 (x_o3 _ _) rfl ?_
      refine e_iload_n dX3_goes_158 rfl ?_
      refine e_aload_n dX3_goes_159 rfl ?_
      refine e_getV (e_j _) dX3_goes_160 fl_X3_122 (x_o3 _ _) rfl ?_
      refine x_lst 13 dX3_goes_163 rfl (by decide) rfl rfl ⟨by omega, by omega⟩ ?_
      refine e_iload_n dX3_goes_164 rfl ?_
      refine e_aload_n dX3_goes_165 rfl ?_
      refine e_getV (.ref 350) dX3_goes_166 fl_X3_3 (x_o3 _ _) rfl ?_
      refine e_getV (.ref (α 0)) dX3_goes_169 fl_X3_53 (x_o0 _ _) (x_now A) ?_
      refine e_getV (e_i _) dX3_goes_172 fl_X3_148 (x_aC A) rfl ?_
      refine e_icmp_ne (tgt := 180) dX3_goes_175 rfl ⟨by omega, by omega⟩ ⟨by omega, by omega⟩ (fun c5 => ?_) (fun q => by exfalso; omega)
      refine e_aload_n dX3_goes_180 rfl ?_
      refine e_getV (.ref (x_ai 14)) dX3_goes_181 fl_X3_28 (x_o3 _ _) rfl ?_
      refine e_bipush dX3_goes_184 rfl ?_
      refine e_iload_n dX3_goes_186 rfl ?_
      refine e_imul dX3_goes_187 ?_
      refine e_aload_n dX3_goes_188 rfl ?_
      refine e_getV (.ref (x_ai 14)) dX3_goes_189 fl_X3_28 (x_o3 _ _) rfl ?_
      refine e_bipush dX3_goes_192 rfl ?_
      refine e_iload_n dX3_goes_194 rfl ?_
      refine e_iconst dX3_goes_195 ?_
      refine e_iadd dX3_goes_196 ?_
      refine e_imul dX3_goes_197 ?_
      refine e_bipush dX3_goes_198 rfl ?_
      refine e_copy (6 * y).toNat (6 * (y + 1)).toNat 6 dX3_goes_200 q1163 (x_oAH _ _) (x_oAH _ _) (by decide) (by decide) (by omega) (by omega) rfl (by show _ ≤ 78; omega) (by show _ ≤ 78; omega) ⟨by decide, by decide⟩ (fun i _ => ⟨rfl, fun r q => by cases q⟩) rfl ?_
      rw [x_cpy]
      refine e_iconst dX3_goes_203 ?_
      refine e_istore_n2 dX3_goes_204 rfl ?_
      have hk1 : t_kp y ρ 1 = ρ 1 := t_kp_k (by decide) (by decide) (by decide) ρ
      have hW0 := x_copied (t_sz_of (hk1.trans k1) hz) hy0 hS
      refine e_for (n := σ 1 7) (F := fun w => ∀ χ2, x_Gw y w χ (t_it (t_yrf y) w.toNat (t_kp y ρ)) χ2 → e_E mX3_goes 205 [.ref 366, e_i y, e_i w] [] (x_H χ2 h0) 0 0 5 (x_PG σ χ h0)) (by omega) (fun χ2 hW => ?_) (fun w hw0 hw1 hG2 χ2 hW => ?_) _ hW0
      · have A := x_at_up (congrFun (hW.2.2.2 1 (by decide)) 0) A0
        have m9 := (t_yrl_in (y := y) ha hin (n := (σ 1 7).toNat) (by omega)).1 1 (by decide)
        have hW : x_Gw y (t_it (t_yrf y) (σ 1 7).toNat (t_kp y ρ) 1 7) χ (t_it (t_yrf y) (σ 1 7).toNat (t_kp y ρ)) χ2 := by rw [m9]; exact hW
        refine e_iload_n dX3_goes_205 rfl ?_
        refine e_aload_n dX3_goes_206 rfl ?_
        refine e_getV (.ref 350) dX3_goes_207 fl_X3_3 (x_o3 _ _) rfl ?_
        refine e_callV0rz (ci := 0) dX3_goes_210 md_X0_many lk_X3_104 rfl q1121 qs23 (x_o0 _ _) (by decide) rfl (Nat.le_of_ble_eq_true rfl) (C_X0_many A hz) ?_
        refine e_icmp_ge (tgt := 256) dX3_goes_213 rfl ⟨by omega, by omega⟩ ⟨by omega, by omega⟩ (fun c6 => ?_) (fun q => by exfalso; omega)
        refine e_iinc1 dX3_goes_256 rfl ?_
        refine e_goto (tgt := 120) dX3_goes_259 rfl ?_
        rw [t_it_s _ _ hy0, hρ, x_yr_at k1 hy1] at hF
        refine e_fgt 2 ?_
        exact hF _ (x_Gw_y hW)
      · have hyr := (hr.2.2.1 w hw0 hw1).2.2.2.1
        have hμ := t_yrl_in (y := y) ha hin (n := w.toNat) (by omega)
        obtain ⟨μ, hμe⟩ : ∃ μ, t_it (t_yrf y) w.toNat (t_kp y ρ) = μ := ⟨_, rfl⟩
        rw [t_it_s _ _ hw0] at hG2
        rw [hμe] at hW hG2 hμ
        have m1 := hμ.1 1 (by decide)
        have A := x_at_up (congrFun (hW.2.2.2 1 (by decide)) 0) A0
        have A9 : x_at χ2 h0 (μ 1) α := by rw [m1]; exact A
        have hzμ : t_sz μ := t_sz_of m1 hz
        have hst := hW.1.1.2.2.1
        have hbt := hst.2 w hw0 (by rw [m1]; exact hw1)
        have hb0 := e_bt01 (μ 18 0) w
        have hst1 := hst.1
        have hN : ¬ (t_wd μ w 3 = y ∧ e_bt (μ 18 0) w = 1) → t_yrf y w μ = μ := fun q => if_neg q
        have hY : (t_wd μ w 3 = y ∧ e_bt (μ 18 0) w = 1) → t_yrf y w μ = t_wk w μ := fun q => if_pos q
        have e3 : t_wd μ w 3 = σ 1 (28 + 13 * w + 3) := by show μ 1 _ = _; rw [m1]
        have hC9 : t_isC μ := by unfold t_isC; rw [m1]; rcases hC with q | q; exact q; exfalso; omega
        refine e_iload_n dX3_goes_205 rfl ?_
        refine e_aload_n dX3_goes_206 rfl ?_
        refine e_getV (.ref 350) dX3_goes_207 fl_X3_3 (x_o3 _ _) rfl ?_
        refine e_callV0rz (ci := 0) dX3_goes_210 md_X0_many lk_X3_104 rfl q1121 qs23 (x_o0 _ _) (by decide) rfl (Nat.le_of_ble_eq_true rfl) (C_X0_many A hz) ?_
        refine e_icmp_ge (tgt := 256) dX3_goes_213 rfl ⟨by omega, by omega⟩ ⟨by omega, by omega⟩ (fun q => by exfalso; omega) (fun c7 => ?_)
        refine e_aload_n dX3_goes_216 rfl ?_
        refine e_getV (.ref 350) dX3_goes_217 fl_X3_3 (x_o3 _ _) rfl ?_
        refine e_iload_n dX3_goes_220 rfl ?_
        refine e_callV1rz (ci := 0) dX3_goes_221 md_X0_widowOf lk_X3_108 rfl q1127 qs24 (x_o0 _ _) (by decide) rfl (Nat.le_of_ble_eq_true rfl) (C_X0_widowOf A hz ⟨hw0, hw1⟩) ?_
        refine e_getV (e_i (σ 1 (28 + 13 * w + 3))) dX3_goes_224 fl_X3_157 (x_aW A hw0 hw1) rfl ?_
        refine e_iload_n dX3_goes_227 rfl ?_
        refine e_icmp_ne (tgt := 250) dX3_goes_228 rfl ⟨by omega, by omega⟩ ⟨by omega, by omega⟩ (fun c8 => ?_) (fun c8 => ?_)
        · refine e_iinc2 dX3_goes_250 rfl ?_
          refine e_goto (tgt := 205) dX3_goes_253 rfl ?_
          first
            | (have hNN := hN (fun q => by omega); rw [hNN] at hG2; exact hG2 _ (x_Gw_n hW))
            | (have hYY := hY ⟨by omega, by omega⟩; rw [hYY] at hG2; exact hG2 _ (x_Gw_w hzμ ⟨hw0, by rw [m1]; exact hw1⟩ (by omega) hW hR3 hf3))
        · refine e_aload_n dX3_goes_231 rfl ?_
          refine e_getV (e_i _) dX3_goes_232 fl_X3_64 (x_o3 _ _) rfl ?_
          refine e_iload_n dX3_goes_235 rfl ?_
          refine e_callS2rz dX3_goes_236 md_X0_isOn lk_X3_160 rfl q1165 rfl (Nat.le_of_ble_eq_true rfl) (C_X0_isOn ⟨by omega, by omega⟩ ⟨by omega, by omega⟩) ?_
          refine e_bif_ne (tgt := 250) dX3_goes_239 rfl (fun c9 => ?_) (fun c9 => ?_)
          · refine e_iinc2 dX3_goes_250 rfl ?_
            refine e_goto (tgt := 205) dX3_goes_253 rfl ?_
            first
              | (have hNN := hN (fun q => by omega); rw [hNN] at hG2; exact hG2 _ (x_Gw_n hW))
              | (have hYY := hY ⟨by omega, by omega⟩; rw [hYY] at hG2; exact hG2 _ (x_Gw_w hzμ ⟨hw0, by rw [m1]; exact hw1⟩ (by omega) hW hR3 hf3))
          · refine e_aload_n dX3_goes_242 rfl ?_
            refine e_iload_n dX3_goes_243 rfl ?_
            refine e_iload_n dX3_goes_244 rfl ?_
            refine e_iconst dX3_goes_245 ?_
            refine e_iadd dX3_goes_246 ?_
            refine e_bud (kc1 := 0 + 0) (ks1 := 0 + 0) (by decide) (by decide) ?_
            refine e_callV2 (M1 := mX3_walks) (kc := 0) (ks := 0) (mc := 0) (ms := 0) (ci := 3) dX3_goes_247 lk_X3_164 md_X3_walks rfl q1169 qs25 (x_o3 _ _) (by decide) rfl (Nat.le_of_ble_eq_true rfl) (C_X3_walks A9 hzμ hC9 ⟨hw0, by rw [m1]; exact hw1⟩ (by rw [m1]; exact hr.2.2.1 w hw0 hw1) ⟨by omega, by omega⟩ (by rw [hμ.1 15 (by decide)]; exact x_b01 ha.2.2.1) (by rw [hμ.1 17 (by decide)]; exact ha.2.2.2.2.1) (by unfold t_oneR; rw [hμ.1 19 (by decide), hμ.1 20 (by decide)]; exact ha.2.2.2.2.2.2) (by rw [hμ.1 16 (by decide)]; exact ha.2.2.2.1 w hw0 (by omega)) (x_b01 hμ.2.1) (fun e he => (hμ.2.2.1 e he.1 he.2.1).1) (hW.2.2.1 w hw0 (by rw [m1]; exact hw1) (Or.inr ⟨by omega, Int.le_refl _⟩)) hW.1) (fun a hh q => ?_) (fun i hh q => by cases q.1)
            obtain ⟨q1, χ3, hR3, hf3, rfl⟩ := q
            cases q1
            show e_E _ _ _ _ _ _ _ _ _
            refine e_iinc2 dX3_goes_250 rfl ?_
            refine e_goto (tgt := 205) dX3_goes_253 rfl ?_
            first
              | (have hNN := hN (fun q => by omega); rw [hNN] at hG2; exact hG2 _ (x_Gw_n hW))
              | (have hYY := hY ⟨by omega, by omega⟩; rw [hYY] at hG2; exact hG2 _ (x_Gw_w hzμ ⟨hw0, by rw [m1]; exact hw1⟩ (by omega) hW hR3 hf3))
  · have A := x_at_up (congrFun (hI.2.2.2.2.2 1 (by decide)) 0) A0
    obtain ⟨mc, hl⟩ := x_a3 A
    have hig : (x_H χ1 h0).1 (x_ig (σ 1 (22 + k))) = (13, 1, fun _ => e_i (x_sp (σ 1 (22 + k)))) := e_igr (e_old_xH A.2.2.1) (x_okc hz (hr.2.1 k hk0 hk1))
    refine e_iload_n dX3_goes_65 rfl ?_
    refine e_aload_n dX3_goes_66 rfl ?_
    refine e_getV (.ref 350) dX3_goes_67 fl_X3_3 (x_o3 _ _) rfl ?_
    refine e_getV (.ref (α 0)) dX3_goes_70 fl_X3_53 (x_o0 _ _) (x_now A) ?_
    refine e_getV (.ref (α 3)) dX3_goes_73 fl_X3_134 (x_aC A) rfl ?_
    refine e_callF0rz (ci := 11) dX3_goes_76 md_J2_size if_X3_136 rfl hl.1 (by decide) rfl (Nat.le_of_ble_eq_true rfl) (C_J2_size hl) ?_
    refine e_icmp_ge (tgt := 118) dX3_goes_81 rfl ⟨by omega, by omega⟩ ⟨by omega, by omega⟩ (fun q => by exfalso; omega) (fun c10 => ?_)
    refine e_aload_n dX3_goes_84 rfl ?_
    refine e_getV (.ref (x_ai 14)) dX3_goes_85 fl_X3_28 (x_o3 _ _) rfl ?_
    refine e_iload_n dX3_goes_88 rfl ?_
    refine e_aload_n dX3_goes_89 rfl ?_
    refine e_getV (.ref 350) dX3_goes_90 fl_X3_3 (x_o3 _ _) rfl ?_
    refine e_getV (.ref (α 0)) dX3_goes_93 fl_X3_53 (x_o0 _ _) (x_now A) ?_
    refine e_getV (.ref (α 3)) dX3_goes_96 fl_X3_134 (x_aC A) rfl ?_
    refine e_iload_n dX3_goes_99 rfl ?_
    refine e_callF1rz (ci := 11) dX3_goes_100 md_J2_get if_X3_139 rfl hl.1 (by decide) rfl (Nat.le_of_ble_eq_true rfl) (C_J2_get hl ⟨hk0, hk1⟩) ?_
    refine e_castS (ci := 13) dX3_goes_105 hig (by decide) q1161 ?_
    refine e_callV0rz (ci := 13) dX3_goes_108 md_J12_intValue lk_X3_145 rfl q901 q902 hig (by decide) rfl (Nat.le_of_ble_eq_true rfl) (C_J12_intValue hig) ?_
    refine x_ist 78 dX3_goes_111 rfl (by decide) rfl rfl ⟨by omega, by omega⟩ ?_
    refine e_iinc1 dX3_goes_112 rfl ?_
    refine e_goto (tgt := 65) dX3_goes_115 rfl ?_
    exact hF _ (x_In_s hI)
