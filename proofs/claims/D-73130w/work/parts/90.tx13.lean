/-! THE COMPONENT: questions, two (printed by tx13.py) -/
set_option maxRecDepth 100000
theorem C_X0_isThen {ρ χ : t_S} {h0 : e_A} {α : Nat → Nat} (A : x_at χ h0 (ρ 1) α) (hz : t_sz ρ) {c y : Int} (hc : e_rg c) (hy : e_rg y) : e_C mX0_isThen [.ref 350, e_i c, e_i y] (x_H χ h0) 0 0 2 (e_ret (e_i (if t_isCell ρ c ∧ t_isY ρ y then 1 else 0)) (x_H χ h0)) := by
  have k1 := hc.1
  have k2 := hc.2
  refine e_enter (al0 := [.ref 350, e_i c, e_i y]) (by decide +kernel) rfl (Nat.le_of_ble_eq_true rfl) ?_
  refine e_aload_n dX0_isThen_0 rfl ?_
  refine e_iload_n dX0_isThen_1 rfl ?_
  refine e_i2l dX0_isThen_2 ⟨by omega, by omega⟩ ?_
  refine e_callV1rz (ci := 0) dX0_isThen_3 md_X0_isCell lk_X0_206 rfl q1207 qs32 (x_o0 _ _) (by decide) rfl (Nat.le_of_ble_eq_true rfl) (C_X0_isCell A hz ⟨by omega, by omega⟩) ?_
  refine e_bif_eq (tgt := 21) dX0_isThen_6 rfl (fun c1 => ?_) (fun c1 => ?_)
  · refine e_iconst dX0_isThen_21 ?_
    refine e_ireturn dX0_isThen_22 rfl rfl ?_
    refine e_rv ?_ rfl
    (try split) <;> omega
  · refine e_aload_n dX0_isThen_9 rfl ?_
    refine e_iload_n dX0_isThen_10 rfl ?_
    refine e_callV1rz (ci := 0) dX0_isThen_11 md_X0_isYear lk_X0_269 rfl q1312 qs39 (x_o0 _ _) (by decide) rfl (Nat.le_of_ble_eq_true rfl) (C_X0_isYear A hz ⟨by omega, by omega⟩) ?_
    refine e_bif_eq (tgt := 21) dX0_isThen_14 rfl (fun c2 => ?_) (fun c2 => ?_)
    · refine e_iconst dX0_isThen_21 ?_
      refine e_ireturn dX0_isThen_22 rfl rfl ?_
      refine e_rv ?_ rfl
      (try split) <;> omega
    · refine e_iconst dX0_isThen_17 ?_
      refine e_goto (tgt := 22) dX0_isThen_18 rfl ?_
      refine e_ireturn dX0_isThen_22 rfl rfl ?_
      refine e_rv ?_ rfl
      (try split) <;> omega
theorem C_X3_isPeg {ρ χ : t_S} {h0 : e_A} {α : Nat → Nat} (A : x_at χ h0 (ρ 1) α) (hz : t_sz ρ) (F : z_F ρ) (N : x_An ρ χ) {s c d y : Int} (hs : s = x_sp c) (hc : x_c8 c) (hd : 0 ≤ d ∧ d < 4) (hy : 0 ≤ y ∧ y ≤ ρ 1 0) : e_C mX3_isPeg [.ref 366, e_i s, e_i d, e_i y] (x_H χ h0) 0 0 2 (e_ret (e_i (if e_bt (ρ 31 (80 * y + c)) d = 1 then 1 else 0)) (x_H χ h0)) := by
  refine e_enter (al0 := [.ref 366, e_i s, e_i d, e_i y, .retAddr 0]) (by decide +kernel) rfl (Nat.le_of_ble_eq_true rfl) ?_
  subst hs
  have s0 : 0 ≤ ρ 1 0 ∧ ρ 1 0 ≤ 12 := hz.1
  have s3 := hz.2.1
  have s4 := hz.2.2.1
  have s7 := hz.2.2.2.2.2.1
  have hcn := x_bes_cn hz c d
  have hcs := x_cn_sp hcn
  have hsr := x_sp_rg hc
  obtain ⟨p1, p2⟩ := x_peg F hy hc hd
  have p3 := e_bt01 (ρ 31 (80 * y + c)) d
  have n2 : χ 19 y = x_bs (x_rg ρ y 1) := (N.2 y hy.1 (by omega)).2.1
  have n3 : χ 20 y = x_bs (x_rg ρ y 2) := (N.2 y hy.1 (by omega)).2.2.1
  refine e_aload_n dX3_isPeg_0 rfl ?_
  refine e_getV (.ref 350) dX3_isPeg_1 fl_X3_3 (x_o3 _ _) rfl ?_
  refine e_iload_n dX3_isPeg_4 rfl ?_
  refine e_iload_n dX3_isPeg_5 rfl ?_
  refine e_callV2rz (ci := 0) dX3_isPeg_6 md_X0_beside lk_X3_176 rfl q1177 qs27 (x_o0 _ _) (by decide) rfl (Nat.le_of_ble_eq_true rfl) (C_X0_beside A hz hc hd) ?_
  refine e_istore4 dX3_isPeg_9 rfl ?_
  refine e_iload dX3_isPeg_11 rfl ?_
  refine e_iconst dX3_isPeg_13 ?_
  refine e_icmp_eq (tgt := 55) dX3_isPeg_14 rfl ⟨by omega, by omega⟩ ⟨by omega, by omega⟩ (fun c1 => ?_) (fun c1 => ?_)
  · refine e_iconst dX3_isPeg_55 ?_
    refine e_ireturn dX3_isPeg_56 rfl rfl ?_
    refine e_rv ?_ rfl
    first
      | (rw [if_pos (by omega)]; done)
      | (rw [if_neg (by omega)]; done)
  · refine e_iload_n dX3_isPeg_17 rfl ?_
    refine e_iconst dX3_isPeg_18 ?_
    refine e_irem dX3_isPeg_19 ⟨by omega, by omega⟩ ⟨by omega, by omega⟩ ?_
    refine e_iconst dX3_isPeg_20 ?_
    refine e_icmp_ne (tgt := 33) dX3_isPeg_21 rfl ⟨by omega, by omega⟩ ⟨by omega, by omega⟩ (fun c2 => ?_) (fun c2 => ?_)
    · refine e_aload_n dX3_isPeg_33 rfl ?_
      refine e_getV (.ref (x_ai 20)) dX3_isPeg_34 fl_X3_47 (x_o3 _ _) rfl ?_
      refine e_iload_n dX3_isPeg_37 rfl ?_
      refine x_lld 13 dX3_isPeg_38 rfl (by decide) (fun _ => rfl) rfl ⟨by omega, by omega⟩ ?_
      refine e_iload_n dX3_isPeg_39 rfl ?_
      refine e_iload dX3_isPeg_40 rfl ?_
      refine e_callS2rz dX3_isPeg_42 md_J3_min lk_X3_197 rfl q683 rfl (Nat.le_of_ble_eq_true rfl) (C_J3_min ⟨by omega, by omega⟩ ⟨by omega, by omega⟩) ?_
      obtain ⟨m, m1, m2, m3⟩ := p2 (by omega)
      have mr := x_sp_rg m1
      have hbr := x_bs_rg (x_rg ρ y (if d % 2 = 1 then 1 else 2))
      have hbm := (x_cn_bt (x_rg01 ρ y (if d % 2 = 1 then 1 else 2)) (Or.inr m1) (by have := m1.1; omega)).1
      rw [← m2]
      first
        | (rw [if_pos (show d % 2 = 1 by omega)] at hbm hbr m3; rw [n2])
        | (rw [if_neg (show ¬ d % 2 = 1 by omega)] at hbm hbr m3; rw [n3])
      have hbm2 := hbm.trans m3
      refine e_callS2rz dX3_isPeg_45 md_X0_isIn lk_X3_168 rfl q1188 rfl (Nat.le_of_ble_eq_true rfl) (C_X0_isIn hbr ⟨by omega, by omega⟩) ?_
      refine e_bif_eq (tgt := 55) dX3_isPeg_48 rfl (fun c3 => ?_) (fun c3 => ?_)
      · refine e_iconst dX3_isPeg_55 ?_
        refine e_ireturn dX3_isPeg_56 rfl rfl ?_
        refine e_rv ?_ rfl
        first
          | (rw [if_pos (by omega)]; done)
          | (rw [if_neg (by omega)]; done)
      · refine e_iconst dX3_isPeg_51 ?_
        refine e_goto (tgt := 56) dX3_isPeg_52 rfl ?_
        refine e_ireturn dX3_isPeg_56 rfl rfl ?_
        refine e_rv ?_ rfl
        first
          | (rw [if_pos (by omega)]; done)
          | (rw [if_neg (by omega)]; done)
    · refine e_aload_n dX3_isPeg_24 rfl ?_
      refine e_getV (.ref (x_ai 19)) dX3_isPeg_25 fl_X3_44 (x_o3 _ _) rfl ?_
      refine e_iload_n dX3_isPeg_28 rfl ?_
      refine x_lld 13 dX3_isPeg_29 rfl (by decide) (fun _ => rfl) rfl ⟨by omega, by omega⟩ ?_
      refine e_goto (tgt := 39) dX3_isPeg_30 rfl ?_
      refine e_iload_n dX3_isPeg_39 rfl ?_
      refine e_iload dX3_isPeg_40 rfl ?_
      refine e_callS2rz dX3_isPeg_42 md_J3_min lk_X3_197 rfl q683 rfl (Nat.le_of_ble_eq_true rfl) (C_J3_min ⟨by omega, by omega⟩ ⟨by omega, by omega⟩) ?_
      obtain ⟨m, m1, m2, m3⟩ := p2 (by omega)
      have mr := x_sp_rg m1
      have hbr := x_bs_rg (x_rg ρ y (if d % 2 = 1 then 1 else 2))
      have hbm := (x_cn_bt (x_rg01 ρ y (if d % 2 = 1 then 1 else 2)) (Or.inr m1) (by have := m1.1; omega)).1
      rw [← m2]
      first
        | (rw [if_pos (show d % 2 = 1 by omega)] at hbm hbr m3; rw [n2])
        | (rw [if_neg (show ¬ d % 2 = 1 by omega)] at hbm hbr m3; rw [n3])
      have hbm2 := hbm.trans m3
      refine e_callS2rz dX3_isPeg_45 md_X0_isIn lk_X3_168 rfl q1188 rfl (Nat.le_of_ble_eq_true rfl) (C_X0_isIn hbr ⟨by omega, by omega⟩) ?_
      refine e_bif_eq (tgt := 55) dX3_isPeg_48 rfl (fun c4 => ?_) (fun c4 => ?_)
      · refine e_iconst dX3_isPeg_55 ?_
        refine e_ireturn dX3_isPeg_56 rfl rfl ?_
        refine e_rv ?_ rfl
        first
          | (rw [if_pos (by omega)]; done)
          | (rw [if_neg (by omega)]; done)
      · refine e_iconst dX3_isPeg_51 ?_
        refine e_goto (tgt := 56) dX3_isPeg_52 rfl ?_
        refine e_ireturn dX3_isPeg_56 rfl rfl ?_
        refine e_rv ?_ rfl
        first
          | (rw [if_pos (by omega)]; done)
          | (rw [if_neg (by omega)]; done)
theorem C_X3_pegs {ρ χ : t_S} {h0 : e_A} {α : Nat → Nat} (A : x_at χ h0 (ρ 1) α) (hz : t_sz ρ) (F : z_F ρ) (N : x_An ρ χ) {y : Int} (hy : 0 ≤ y ∧ y ≤ ρ 1 0) : e_C mX3_pegs [.ref 366, e_i y] (x_H χ h0) 0 0 1 (e_ret (e_i (t_pgm ρ y)) (x_H χ h0)) := by
  have s0 : 0 ≤ ρ 1 0 ∧ ρ 1 0 ≤ 12 := hz.1
  have s3 := hz.2.1
  have s4 := hz.2.2.1
  have s7 := hz.2.2.2.2.2.1
  obtain ⟨-, n2, n3, -⟩ := N.2 y hy.1 (by omega)
  refine e_enter (al0 := [.ref 366, e_i y]) (by decide +kernel) rfl (Nat.le_of_ble_eq_true rfl) ?_
  refine e_aload_n dX3_pegs_0 rfl ?_
  refine e_getV (.ref (x_ai 19)) dX3_pegs_1 fl_X3_44 (x_o3 _ _) rfl ?_
  refine e_iload_n dX3_pegs_4 rfl ?_
  refine x_lld 13 dX3_pegs_5 rfl (by decide) (fun _ => rfl) rfl ⟨by omega, by omega⟩ ?_
  refine e_callS1rz dX3_pegs_6 md_J17_bitCount lk_X3_215 rfl q1254 rfl (Nat.le_of_ble_eq_true rfl) (C_J17_bitCount (by rw [n2]; exact x_bs_rg _)) ?_
  refine e_aload_n dX3_pegs_9 rfl ?_
  refine e_getV (.ref (x_ai 20)) dX3_pegs_10 fl_X3_47 (x_o3 _ _) rfl ?_
  refine e_iload_n dX3_pegs_13 rfl ?_
  refine x_lld 13 dX3_pegs_14 rfl (by decide) (fun _ => rfl) rfl ⟨by omega, by omega⟩ ?_
  refine e_callS1rz dX3_pegs_15 md_J17_bitCount lk_X3_215 rfl q1254 rfl (Nat.le_of_ble_eq_true rfl) (C_J17_bitCount (by rw [n3]; exact x_bs_rg _)) ?_
  refine e_iadd dX3_pegs_18 ?_
  refine e_ireturn dX3_pegs_19 rfl rfl ?_
  refine e_rv ?_ rfl
  rw [n2, n3]
  exact x_pgm F hy
theorem C_X3_last {ρ χ : t_S} {h0 : e_A} {α : Nat → Nat} (A : x_at χ h0 (ρ 1) α) (hz : t_sz ρ) (F : z_F ρ) (N : x_An ρ χ) : e_C mX3_last [.ref 366] (x_H χ h0) 0 0 2 (e_ret (e_i (t_pgl ρ)) (x_H χ h0)) := by
  have s0 : 0 ≤ ρ 1 0 ∧ ρ 1 0 ≤ 12 := hz.1
  have s3 := hz.2.1
  have s4 := hz.2.2.1
  have s7 := hz.2.2.2.2.2.1
  refine e_enter (al0 := [.ref 366]) (by decide +kernel) rfl (Nat.le_of_ble_eq_true rfl) ?_
  refine e_aload_n dX3_last_0 rfl ?_
  refine e_aload_n dX3_last_1 rfl ?_
  refine e_getV (.ref 350) dX3_last_2 fl_X3_3 (x_o3 _ _) rfl ?_
  refine e_getV (.ref (α 0)) dX3_last_5 fl_X3_53 (x_o0 _ _) (x_now A) ?_
  refine e_getV (e_i _) dX3_last_8 fl_X3_148 (x_aC A) rfl ?_
  refine e_callV1rz (ci := 3) dX3_last_11 md_X3_pegs lk_X3_221 rfl q1323 q1324 (x_o3 _ _) (by decide) rfl (Nat.le_of_ble_eq_true rfl) (C_X3_pegs A hz F N ⟨by omega, by omega⟩) ?_
  refine e_ireturn dX3_last_14 rfl rfl ?_
  exact ⟨rfl, rfl⟩
theorem C_X0_joinsOf {ρ χ : t_S} {h0 : e_A} {α : Nat → Nat} (A : x_at χ h0 (ρ 1) α) (hz : t_sz ρ) (F : z_F ρ) (N : x_An ρ χ) {s c y : Int} (hs : s = x_sp c) (hc8 : x_c8 c) (hy : 0 ≤ y ∧ y ≤ ρ 1 0) : e_C mX0_joinsOf [.ref 350, e_i s, e_i y] (x_H χ h0) 0 0 3 (e_ret (e_i (ρ 31 (80 * y + c))) (x_H χ h0)) := by
  have s0 : 0 ≤ ρ 1 0 ∧ ρ 1 0 ≤ 12 := hz.1
  have s3 := hz.2.1
  have s4 := hz.2.2.1
  have s7 := hz.2.2.2.2.2.1
  have hg := (x_pgF F hy (c := c) ⟨hc8.1, hc8.2.1⟩).1
  refine e_enter (al0 := [.ref 350, e_i s, e_i y, .retAddr 0, .retAddr 0]) (by decide +kernel) rfl (Nat.le_of_ble_eq_true rfl) ?_
  refine e_iconst dX0_joinsOf_0 ?_
  refine e_istore_n3 dX0_joinsOf_1 rfl ?_
  refine e_iconst dX0_joinsOf_2 ?_
  refine e_istore4 dX0_joinsOf_3 rfl ?_
  refine e_for (n := 4) (fun i => e_E mX0_joinsOf 5 [.ref 350, e_i s, e_i y, e_i (t_msk (fun d => e_bt (ρ 31 (80 * y + c)) d) i.toNat), e_i i] [] (x_H χ h0) _ _ _ _) (by omega) ?_ (fun i hi0 hi1 hF => ?_)
  · refine e_iload dX0_joinsOf_5 rfl ?_
    refine e_iconst dX0_joinsOf_7 ?_
    refine e_icmp_ge (tgt := 42) dX0_joinsOf_8 rfl ⟨by omega, by omega⟩ ⟨by omega, by omega⟩ (fun c1 => ?_) (fun q => by exfalso; omega)
    refine e_iload_n dX0_joinsOf_42 rfl ?_
    refine e_ireturn dX0_joinsOf_43 rfl rfl ?_
    exact e_rv (x_msk4 hg) rfl
  · have hm := t_msk_rg (fun d => e_bt (ρ 31 (80 * y + c)) d) i.toNat
    have h01 := e_bt01 (ρ 31 (80 * y + c)) i
    refine e_iload dX0_joinsOf_5 rfl ?_
    refine e_iconst dX0_joinsOf_7 ?_
    refine e_icmp_ge (tgt := 42) dX0_joinsOf_8 rfl ⟨by omega, by omega⟩ ⟨by omega, by omega⟩ (fun q => by exfalso; omega) (fun c2 => ?_)
    refine e_iload_n dX0_joinsOf_11 rfl ?_
    refine e_aload_n dX0_joinsOf_12 rfl ?_
    refine e_getV (.ref 366) dX0_joinsOf_13 fl_X0_68 (x_o0 _ _) rfl ?_
    refine e_iload_n dX0_joinsOf_16 rfl ?_
    refine e_iload dX0_joinsOf_17 rfl ?_
    refine e_iload_n dX0_joinsOf_19 rfl ?_
    refine e_callV3rz (ci := 3) dX0_joinsOf_20 md_X3_isPeg lk_X0_281 rfl q1336 q1337 (x_o3 _ _) (by decide) rfl (Nat.le_of_ble_eq_true rfl) (C_X3_isPeg A hz F N hs hc8 ⟨by omega, by omega⟩ ⟨by omega, by omega⟩) ?_
    refine e_bif_eq (tgt := 33) dX0_joinsOf_23 rfl (fun c3 => ?_) (fun c3 => ?_)
    · refine e_iconst dX0_joinsOf_33 ?_
      refine e_ior dX0_joinsOf_34 (by first | exact e_or_0 _ | exact e_or_top ⟨by omega, by omega⟩ hm) ?_
      refine e_istore_n3 dX0_joinsOf_35 rfl ?_
      refine e_iinc4 dX0_joinsOf_36 rfl ?_
      refine e_goto (tgt := 5) dX0_joinsOf_39 rfl ?_
      first
        | (rw [t_msk_1 (g := fun d => e_bt (ρ 31 (80 * y + c)) d) hi0 (by assumption)] at hF; exact hF)
        | (rw [t_msk_0 (g := fun d => e_bt (ρ 31 (80 * y + c)) d) hi0 (by show e_bt (ρ 31 (80 * y + c)) i = 0; omega)] at hF; exact hF)
    · refine e_iconst dX0_joinsOf_26 ?_
      refine e_iload dX0_joinsOf_27 rfl ?_
      refine e_ishl dX0_joinsOf_29 (t_shl1 ⟨by omega, by omega⟩) ?_
      refine e_goto (tgt := 34) dX0_joinsOf_30 rfl ?_
      refine e_ior dX0_joinsOf_34 (by first | exact e_or_0 _ | exact e_or_top ⟨by omega, by omega⟩ hm) ?_
      refine e_istore_n3 dX0_joinsOf_35 rfl ?_
      refine e_iinc4 dX0_joinsOf_36 rfl ?_
      refine e_goto (tgt := 5) dX0_joinsOf_39 rfl ?_
      first
        | (rw [t_msk_1 (g := fun d => e_bt (ρ 31 (80 * y + c)) d) hi0 (by assumption)] at hF; exact hF)
        | (rw [t_msk_0 (g := fun d => e_bt (ρ 31 (80 * y + c)) d) hi0 (by show e_bt (ρ 31 (80 * y + c)) i = 0; omega)] at hF; exact hF)
theorem C_X0_ground {ρ χ : t_S} {h0 : e_A} {α : Nat → Nat} (q : x_Q ρ χ h0 α) {w : Int} (hw : e_rg w) : e_C mX0_ground [.ref 350, e_i w] (x_H χ h0) 3 12 7 (x_Pub (e_i (v_ground ρ w)) χ h0) := by
  obtain ⟨A, hz, hr, F, hIs, hI⟩ := q
  have s0 : 0 ≤ ρ 1 0 ∧ ρ 1 0 ≤ 12 := hz.1
  have s3 := hz.2.1
  have s4 := hz.2.2.1
  have s5 := hz.2.2.2.1
  have s6 := hz.2.2.2.2.1
  have s7 := hz.2.2.2.2.2.1
  have kw1 := hw.1
  have kw2 := hw.2
  refine e_enter (al0 := [.ref 350, e_i w]) (by decide +kernel) rfl (Nat.le_of_ble_eq_true rfl) ?_
  refine e_aload_n dX0_ground_0 rfl ?_
  refine e_iload_n dX0_ground_1 rfl ?_
  refine e_i2l dX0_ground_2 ⟨by omega, by omega⟩ ?_
  refine e_callV1rz (ci := 0) dX0_ground_3 md_X0_isWidow lk_X0_138 rfl q1222 qs33 (x_o0 _ _) (by decide) rfl (Nat.le_of_ble_eq_true rfl) (C_X0_isWidow A hz ⟨by omega, by omega⟩) ?_
  refine e_bif_ne (tgt := 12) dX0_ground_6 rfl (fun c1 => ?_) (fun c1 => ?_)
  · refine e_aload_n dX0_ground_12 rfl ?_
    refine e_bud (kc1 := 0 + 3) (ks1 := 0 + 12) (by decide) (by decide) ?_
    refine e_callV0 (M1 := mX0_is) (kc := 0) (ks := 0) (mc := 3) (ms := 12) (ci := 0) dX0_ground_13 lk_X0_194 md_X0_is rfl q1047 qs21 (x_o0 _ _) (by decide) rfl (Nat.le_of_ble_eq_true rfl) (hIs) (fun a hh q => ?_) (fun i hh q => by cases q.1)
    obtain ⟨q1, χ1, h1, N, hfr, he1, rfl⟩ := q
    cases q1
    show e_E _ _ _ (_ :: _) _ _ _ _ _
    have A1 := x_at_1 A hfr he1
    have rc := N.1.2.2.2 w (by omega) (by omega)
    have rc1 := rc.2.1
    have rc0 := rc.1
    refine e_getV (.ref (x_ai 11)) dX0_ground_16 fl_X0_202 (x_o3 _ _) rfl ?_
    refine e_iload_n dX0_ground_19 rfl ?_
    refine x_ild 7 dX0_ground_20 rfl (by decide) (fun _ => rfl) rfl ⟨by omega, by omega⟩ ?_
    refine e_iconst dX0_ground_21 ?_
    refine e_icmp_ne (tgt := 29) dX0_ground_22 rfl ⟨by omega, by omega⟩ ⟨by omega, by omega⟩ (fun c2 => ?_) (fun c2 => ?_)
    · refine e_aload_n dX0_ground_29 rfl ?_
      refine e_getV (.ref 366) dX0_ground_30 fl_X0_68 (x_o0 _ _) rfl ?_
      refine e_getV (.ref (x_ai 21)) dX0_ground_33 fl_X0_248 (x_o3 _ _) rfl ?_
      refine e_iload_n dX0_ground_36 rfl ?_
      refine x_lld 7 dX0_ground_37 rfl (by decide) (fun _ => rfl) rfl ⟨by omega, by omega⟩ ?_
      refine e_callS1rz dX0_ground_38 md_J17_bitCount lk_X0_252 rfl q1254 rfl (Nat.le_of_ble_eq_true rfl) (C_J17_bitCount (by rw [rc.2.2.2.2.1]; exact x_bs_rg _)) ?_
      refine e_ireturn dX0_ground_41 rfl rfl ?_
      first
        | (refine x_pubi ?_ (x_f34 hfr) he1
           unfold v_ground
           (repeat' split) <;> first | rfl | omega | (rw [rc.2.2.2.2.1]; exact x_grd F ⟨by omega, by omega⟩))
        | (refine x_pubi0 ?_
           unfold v_ground
           (repeat' split) <;> first | rfl | omega)
    · refine e_iconst dX0_ground_25 ?_
      refine e_goto (tgt := 41) dX0_ground_26 rfl ?_
      refine e_ireturn dX0_ground_41 rfl rfl ?_
      first
        | (refine x_pubi ?_ (x_f34 hfr) he1
           unfold v_ground
           (repeat' split) <;> first | rfl | omega | (rw [rc.2.2.2.2.1]; exact x_grd F ⟨by omega, by omega⟩))
        | (refine x_pubi0 ?_
           unfold v_ground
           (repeat' split) <;> first | rfl | omega)
  · refine e_bipush dX0_ground_9 rfl ?_
    refine e_ireturn dX0_ground_11 rfl rfl ?_
    first
      | (refine x_pubi ?_ (x_f34 hfr) he1
         unfold v_ground
         (repeat' split) <;> first | rfl | omega | (rw [rc.2.2.2.2.1]; exact x_grd F ⟨by omega, by omega⟩))
      | (refine x_pubi0 ?_
         unfold v_ground
         (repeat' split) <;> first | rfl | omega)
theorem C_X0_loop {ρ χ : t_S} {h0 : e_A} {α : Nat → Nat} (q : x_Q ρ χ h0 α) {w : Int} (hw : e_rg w) : e_C mX0_loop [.ref 350, e_i w] (x_H χ h0) 3 12 7 (x_Pub (e_i (v_loop ρ w)) χ h0) := by
  obtain ⟨A, hz, hr, F, hIs, hI⟩ := q
  have s0 : 0 ≤ ρ 1 0 ∧ ρ 1 0 ≤ 12 := hz.1
  have s3 := hz.2.1
  have s4 := hz.2.2.1
  have s5 := hz.2.2.2.1
  have s6 := hz.2.2.2.2.1
  have s7 := hz.2.2.2.2.2.1
  have kw1 := hw.1
  have kw2 := hw.2
  refine e_enter (al0 := [.ref 350, e_i w, .retAddr 0]) (by decide +kernel) rfl (Nat.le_of_ble_eq_true rfl) ?_
  refine e_aload_n dX0_loop_0 rfl ?_
  refine e_iload_n dX0_loop_1 rfl ?_
  refine e_i2l dX0_loop_2 ⟨by omega, by omega⟩ ?_
  refine e_callV1rz (ci := 0) dX0_loop_3 md_X0_isWidow lk_X0_138 rfl q1222 qs33 (x_o0 _ _) (by decide) rfl (Nat.le_of_ble_eq_true rfl) (C_X0_isWidow A hz ⟨by omega, by omega⟩) ?_
  refine e_bif_ne (tgt := 12) dX0_loop_6 rfl (fun c1 => ?_) (fun c1 => ?_)
  · refine e_aload_n dX0_loop_12 rfl ?_
    refine e_bud (kc1 := 0 + 3) (ks1 := 0 + 12) (by decide) (by decide) ?_
    refine e_callV0 (M1 := mX0_is) (kc := 0) (ks := 0) (mc := 3) (ms := 12) (ci := 0) dX0_loop_13 lk_X0_194 md_X0_is rfl q1047 qs21 (x_o0 _ _) (by decide) rfl (Nat.le_of_ble_eq_true rfl) (hIs) (fun a hh q => ?_) (fun i hh q => by cases q.1)
    obtain ⟨q1, χ1, h1, N, hfr, he1, rfl⟩ := q
    cases q1
    show e_E _ _ _ (_ :: _) _ _ _ _ _
    have A1 := x_at_1 A hfr he1
    have rc := N.1.2.2.2 w (by omega) (by omega)
    have rc1 := rc.2.1
    have rc0 := rc.1
    obtain ⟨n, hN⟩ := t_stN (ρ 27 w)
    have pc0 := x_pth_cn F (w := w) (k := 0) ⟨by omega, by omega⟩ (by omega)
    have pr0 := (x_cn_sp pc0).1
    refine e_pop dX0_loop_16 rfl ?_
    refine e_iconst dX0_loop_17 ?_
    refine e_istore_n2 dX0_loop_18 rfl ?_
    refine e_forA (a := 1) (n := n) (fun i => t_fnd (t_lpg ρ w) (ρ 27 w).toNat 1 = t_fnd (t_lpg ρ w) (n - i).toNat i → e_E mX0_loop 19 [.ref 350, e_i w, e_i i] [] (x_H χ1 h1) _ _ _ _) (by omega) (fun hV => ?_) (fun i hi0 hi1 hF hV => ?_) (by rw [show (n - 1).toNat = (ρ 27 w).toNat by omega])
    · rw [Int.sub_self] at hV
      refine e_iload_n dX0_loop_19 rfl ?_
      refine e_aload_n dX0_loop_20 rfl ?_
      refine e_getV (.ref 366) dX0_loop_21 fl_X0_68 (x_o0 _ _) rfl ?_
      refine e_getV (.ref (x_ai 11)) dX0_loop_24 fl_X0_202 (x_o3 _ _) rfl ?_
      refine e_iload_n dX0_loop_27 rfl ?_
      refine x_ild 7 dX0_loop_28 rfl (by decide) (fun _ => rfl) rfl ⟨by omega, by omega⟩ ?_
      refine e_icmp_gt (tgt := 84) dX0_loop_29 rfl ⟨by omega, by omega⟩ ⟨by omega, by omega⟩ (fun c2 => ?_) (fun q => by exfalso; omega)
      refine e_iconst dX0_loop_84 ?_
      refine e_ireturn dX0_loop_85 rfl rfl ?_
      refine x_pubi ?_ (x_f34 hfr) he1
      unfold v_loop
      rw [if_pos (by omega)]
      exact hV.symm
    · rw [t_fnd_s _ hi1] at hV
      have pc1 := x_pth_cn F (w := w) (k := i) ⟨by omega, by omega⟩ (by omega)
      have pr1 := (x_cn_sp pc1).1
      have pc2 := x_pth_cn F (w := w) (k := i - 1) ⟨by omega, by omega⟩ (by omega)
      have pr2 := (x_cn_sp pc2).1
      have j1 := x_cn_inj pc1 pc0
      have j2 := x_cn_inj pc2 pc0
      have hg : t_lpg ρ w i = if t_pth ρ w i = t_pth ρ w 0 ∧ t_pth ρ w (i - 1) ≠ t_pth ρ w 0 then 1 else 0 := rfl
      refine e_iload_n dX0_loop_19 rfl ?_
      refine e_aload_n dX0_loop_20 rfl ?_
      refine e_getV (.ref 366) dX0_loop_21 fl_X0_68 (x_o0 _ _) rfl ?_
      refine e_getV (.ref (x_ai 11)) dX0_loop_24 fl_X0_202 (x_o3 _ _) rfl ?_
      refine e_iload_n dX0_loop_27 rfl ?_
      refine x_ild 7 dX0_loop_28 rfl (by decide) (fun _ => rfl) rfl ⟨by omega, by omega⟩ ?_
      refine e_icmp_gt (tgt := 84) dX0_loop_29 rfl ⟨by omega, by omega⟩ ⟨by omega, by omega⟩ (fun q => by exfalso; omega) (fun c3 => ?_)
      refine e_aload_n dX0_loop_32 rfl ?_
      refine e_getV (.ref 366) dX0_loop_33 fl_X0_68 (x_o0 _ _) rfl ?_
      refine e_iload_n dX0_loop_36 rfl ?_
      refine e_iload_n dX0_loop_37 rfl ?_
      refine e_callV2rz (ci := 3) dX0_loop_38 md_X3_at lk_X0_241 rfl q1238 q1239 (x_o3 _ _) (by decide) rfl (Nat.le_of_ble_eq_true rfl) (C_X3_at ⟨by omega, by omega⟩ ⟨by omega, by omega⟩ (rc.2.2.2.2.2.1 i (by omega) (by omega))) ?_
      refine e_aload_n dX0_loop_41 rfl ?_
      refine e_getV (.ref 366) dX0_loop_42 fl_X0_68 (x_o0 _ _) rfl ?_
      refine e_iload_n dX0_loop_45 rfl ?_
      refine e_iconst dX0_loop_46 ?_
      refine e_callV2rz (ci := 3) dX0_loop_47 md_X3_at lk_X0_241 rfl q1238 q1239 (x_o3 _ _) (by decide) rfl (Nat.le_of_ble_eq_true rfl) (C_X3_at ⟨by omega, by omega⟩ ⟨by omega, by omega⟩ (rc.2.2.2.2.2.1 0 (by omega) (by omega))) ?_
      refine e_icmp_ne (tgt := 78) dX0_loop_50 rfl ⟨by omega, by omega⟩ ⟨by omega, by omega⟩ (fun k1 => ?_) (fun k1 => ?_)
      · refine e_iinc2 dX0_loop_78 rfl ?_
        refine e_goto (tgt := 19) dX0_loop_81 rfl ?_
        exact hF (hV.trans (if_neg (by rw [hg]; rw [if_neg (by omega)]; decide)))
      · refine e_aload_n dX0_loop_53 rfl ?_
        refine e_getV (.ref 366) dX0_loop_54 fl_X0_68 (x_o0 _ _) rfl ?_
        refine e_iload_n dX0_loop_57 rfl ?_
        refine e_iload_n dX0_loop_58 rfl ?_
        refine e_iconst dX0_loop_59 ?_
        refine e_isub dX0_loop_60 ?_
        refine e_callV2rz (ci := 3) dX0_loop_61 md_X3_at lk_X0_241 rfl q1238 q1239 (x_o3 _ _) (by decide) rfl (Nat.le_of_ble_eq_true rfl) (C_X3_at ⟨by omega, by omega⟩ ⟨by omega, by omega⟩ (rc.2.2.2.2.2.1 (i - 1) (by omega) (by omega))) ?_
        refine e_aload_n dX0_loop_64 rfl ?_
        refine e_getV (.ref 366) dX0_loop_65 fl_X0_68 (x_o0 _ _) rfl ?_
        refine e_iload_n dX0_loop_68 rfl ?_
        refine e_iconst dX0_loop_69 ?_
        refine e_callV2rz (ci := 3) dX0_loop_70 md_X3_at lk_X0_241 rfl q1238 q1239 (x_o3 _ _) (by decide) rfl (Nat.le_of_ble_eq_true rfl) (C_X3_at ⟨by omega, by omega⟩ ⟨by omega, by omega⟩ (rc.2.2.2.2.2.1 0 (by omega) (by omega))) ?_
        refine e_icmp_eq (tgt := 78) dX0_loop_73 rfl ⟨by omega, by omega⟩ ⟨by omega, by omega⟩ (fun k2 => ?_) (fun k2 => ?_)
        · refine e_iinc2 dX0_loop_78 rfl ?_
          refine e_goto (tgt := 19) dX0_loop_81 rfl ?_
          exact hF (hV.trans (if_neg (by rw [hg]; rw [if_neg (by omega)]; decide)))
        · refine e_iload_n dX0_loop_76 rfl ?_
          refine e_ireturn dX0_loop_77 rfl rfl ?_
          refine x_pubi ?_ (x_f34 hfr) he1
          unfold v_loop
          rw [if_pos (by omega), hV, if_pos (show t_lpg ρ w i = 1 from if_pos ⟨by omega, by omega⟩)]
  · refine e_bipush dX0_loop_9 rfl ?_
    refine e_ireturn dX0_loop_11 rfl rfl ?_
    first
      | (refine x_pubi ?_ (x_f34 hfr) he1
         unfold v_loop
         (repeat' split) <;> first | rfl | omega | (omega))
      | (refine x_pubi0 ?_
         unfold v_loop
         (repeat' split) <;> first | rfl | omega)
theorem C_X0_visitsOf {ρ χ : t_S} {h0 : e_A} {α : Nat → Nat} (A : x_at χ h0 (ρ 1) α) (hz : t_sz ρ) (F : z_F ρ) (N : x_An ρ χ) {w s c : Int} (hw : 0 ≤ w ∧ w < ρ 1 7) (hs : s = x_sp c) (hc8 : x_c8 c) : e_C mX0_visitsOf [.ref 350, e_i w, e_i s] (x_H χ h0) 0 0 1 (e_ret (e_i (t_vis ρ w c)) (x_H χ h0)) := by
  have s0 : 0 ≤ ρ 1 0 ∧ ρ 1 0 ≤ 12 := hz.1
  have s3 := hz.2.1
  have s4 := hz.2.2.1
  have s7 := hz.2.2.2.2.2.1
  have rc := N.1.2.2.2 w hw.1 hw.2
  have rc1 := rc.2.1
  have rc0 := rc.1
  have hsr := x_sp_rg hc8
  refine e_enter (al0 := [.ref 350, e_i w, e_i s, .retAddr 0, .retAddr 0]) (by decide +kernel) rfl (Nat.le_of_ble_eq_true rfl) ?_
  refine e_iconst dX0_visitsOf_0 ?_
  refine e_istore_n3 dX0_visitsOf_1 rfl ?_
  refine e_iconst dX0_visitsOf_2 ?_
  refine e_istore4 dX0_visitsOf_3 rfl ?_
  refine e_for (n := ρ 27 w + 1) (fun i => e_E mX0_visitsOf 5 [.ref 350, e_i w, e_i s, e_i (t_sum (t_ing ρ w c) i.toNat), e_i i] [] (x_H χ h0) _ _ _ _) (by omega) ?_ (fun i hi0 hi1 hF => ?_)
  · refine e_iload dX0_visitsOf_5 rfl ?_
    refine e_aload_n dX0_visitsOf_7 rfl ?_
    refine e_getV (.ref 366) dX0_visitsOf_8 fl_X0_68 (x_o0 _ _) rfl ?_
    refine e_getV (.ref (x_ai 11)) dX0_visitsOf_11 fl_X0_202 (x_o3 _ _) rfl ?_
    refine e_iload_n dX0_visitsOf_14 rfl ?_
    refine x_ild 7 dX0_visitsOf_15 rfl (by decide) (fun _ => rfl) rfl ⟨by omega, by omega⟩ ?_
    refine e_icmp_gt (tgt := 47) dX0_visitsOf_16 rfl ⟨by omega, by omega⟩ ⟨by omega, by omega⟩ (fun c1 => ?_) (fun q => by exfalso; omega)
    refine e_iload_n dX0_visitsOf_47 rfl ?_
    refine e_ireturn dX0_visitsOf_48 rfl rfl ?_
    exact ⟨rfl, rfl⟩
  · rw [t_sum_s (t_ing ρ w c) hi0] at hF
    have pc1 := x_pth_cn F (w := w) (k := i) ⟨by omega, by omega⟩ (by omega)
    have pr1 := (x_cn_sp pc1).1
    have j1 := x_cn_inj pc1 (Or.inr hc8)
    have hgi : t_ing ρ w c i = if t_pth ρ w i = c then 1 else 0 := rfl
    refine e_iload dX0_visitsOf_5 rfl ?_
    refine e_aload_n dX0_visitsOf_7 rfl ?_
    refine e_getV (.ref 366) dX0_visitsOf_8 fl_X0_68 (x_o0 _ _) rfl ?_
    refine e_getV (.ref (x_ai 11)) dX0_visitsOf_11 fl_X0_202 (x_o3 _ _) rfl ?_
    refine e_iload_n dX0_visitsOf_14 rfl ?_
    refine x_ild 7 dX0_visitsOf_15 rfl (by decide) (fun _ => rfl) rfl ⟨by omega, by omega⟩ ?_
    refine e_icmp_gt (tgt := 47) dX0_visitsOf_16 rfl ⟨by omega, by omega⟩ ⟨by omega, by omega⟩ (fun q => by exfalso; omega) (fun c2 => ?_)
    refine e_iload_n dX0_visitsOf_19 rfl ?_
    refine e_aload_n dX0_visitsOf_20 rfl ?_
    refine e_getV (.ref 366) dX0_visitsOf_21 fl_X0_68 (x_o0 _ _) rfl ?_
    refine e_iload_n dX0_visitsOf_24 rfl ?_
    refine e_iload dX0_visitsOf_25 rfl ?_
    refine e_callV2rz (ci := 3) dX0_visitsOf_27 md_X3_at lk_X0_241 rfl q1238 q1239 (x_o3 _ _) (by decide) rfl (Nat.le_of_ble_eq_true rfl) (C_X3_at ⟨by omega, by omega⟩ ⟨by omega, by omega⟩ (rc.2.2.2.2.2.1 i (by omega) (by omega))) ?_
    refine e_iload_n dX0_visitsOf_30 rfl ?_
    refine e_icmp_ne (tgt := 38) dX0_visitsOf_31 rfl ⟨by omega, by omega⟩ ⟨by omega, by omega⟩ (fun c3 => ?_) (fun c3 => ?_)
    · refine e_iconst dX0_visitsOf_38 ?_
      refine e_iadd dX0_visitsOf_39 ?_
      refine e_istore_n3 dX0_visitsOf_40 rfl ?_
      refine e_iinc4 dX0_visitsOf_41 rfl ?_
      refine e_goto (tgt := 5) dX0_visitsOf_44 rfl ?_
      first
        | (rw [show (t_ing ρ w c) i = 1 from if_pos (by omega)] at hF; exact hF)
        | (rw [show (t_ing ρ w c) i = 0 from if_neg (by omega)] at hF; exact hF)
    · refine e_iconst dX0_visitsOf_34 ?_
      refine e_goto (tgt := 39) dX0_visitsOf_35 rfl ?_
      refine e_iadd dX0_visitsOf_39 ?_
      refine e_istore_n3 dX0_visitsOf_40 rfl ?_
      refine e_iinc4 dX0_visitsOf_41 rfl ?_
      refine e_goto (tgt := 5) dX0_visitsOf_44 rfl ?_
      first
        | (rw [show (t_ing ρ w c) i = 1 from if_pos (by omega)] at hF; exact hF)
        | (rw [show (t_ing ρ w c) i = 0 from if_neg (by omega)] at hF; exact hF)
theorem C_X0_visits {ρ χ : t_S} {h0 : e_A} {α : Nat → Nat} (q : x_Q ρ χ h0 α) {w : Int} (hw : e_rg w) {c : Int} (hc : e_rg c) : e_C mX0_visits [.ref 350, e_i w, e_i c] (x_H χ h0) 3 12 7 (x_Pub (e_i (v_visits ρ w c)) χ h0) := by
  obtain ⟨A, hz, hr, F, hIs, hI⟩ := q
  have s0 : 0 ≤ ρ 1 0 ∧ ρ 1 0 ≤ 12 := hz.1
  have s3 := hz.2.1
  have s4 := hz.2.2.1
  have s5 := hz.2.2.2.1
  have s6 := hz.2.2.2.2.1
  have s7 := hz.2.2.2.2.2.1
  have kw1 := hw.1
  have kw2 := hw.2
  have kc1 := hc.1
  have kc2 := hc.2
  refine e_enter (al0 := [.ref 350, e_i w, e_i c]) (by decide +kernel) rfl (Nat.le_of_ble_eq_true rfl) ?_
  refine e_aload_n dX0_visits_0 rfl ?_
  refine e_iload_n dX0_visits_1 rfl ?_
  refine e_i2l dX0_visits_2 ⟨by omega, by omega⟩ ?_
  refine e_callV1rz (ci := 0) dX0_visits_3 md_X0_isWidow lk_X0_138 rfl q1222 qs33 (x_o0 _ _) (by decide) rfl (Nat.le_of_ble_eq_true rfl) (C_X0_isWidow A hz ⟨by omega, by omega⟩) ?_
  refine e_bif_eq (tgt := 18) dX0_visits_6 rfl (fun c1 => ?_) (fun c1 => ?_)
  · refine e_bipush dX0_visits_18 rfl ?_
    refine e_ireturn dX0_visits_20 rfl rfl ?_
    first
      | (refine x_pubi ?_ (x_f34 hfr) he1
         unfold v_visits
         (repeat' split) <;> first | rfl | omega | (omega))
      | (refine x_pubi0 ?_
         unfold v_visits
         (repeat' split) <;> first | rfl | omega)
  · refine e_aload_n dX0_visits_9 rfl ?_
    refine e_iload_n dX0_visits_10 rfl ?_
    refine e_i2l dX0_visits_11 ⟨by omega, by omega⟩ ?_
    refine e_callV1rz (ci := 0) dX0_visits_12 md_X0_isCell lk_X0_206 rfl q1207 qs32 (x_o0 _ _) (by decide) rfl (Nat.le_of_ble_eq_true rfl) (C_X0_isCell A hz ⟨by omega, by omega⟩) ?_
    refine e_bif_ne (tgt := 21) dX0_visits_15 rfl (fun c2 => ?_) (fun c2 => ?_)
    · refine e_aload_n dX0_visits_21 rfl ?_
      refine e_bud (kc1 := 0 + 3) (ks1 := 0 + 12) (by decide) (by decide) ?_
      refine e_callV0 (M1 := mX0_is) (kc := 0) (ks := 0) (mc := 3) (ms := 12) (ci := 0) dX0_visits_22 lk_X0_194 md_X0_is rfl q1047 qs21 (x_o0 _ _) (by decide) rfl (Nat.le_of_ble_eq_true rfl) (hIs) (fun a hh q => ?_) (fun i hh q => by cases q.1)
      obtain ⟨q1, χ1, h1, N, hfr, he1, rfl⟩ := q
      cases q1
      show e_E _ _ _ (_ :: _) _ _ _ _ _
      have A1 := x_at_1 A hfr he1
      have h8 := x_ok8 hz (c := c) ⟨by omega, by omega, by omega, by omega⟩
      refine e_pop dX0_visits_25 rfl ?_
      refine e_aload_n dX0_visits_26 rfl ?_
      refine e_iload_n dX0_visits_27 rfl ?_
      refine e_iload_n dX0_visits_28 rfl ?_
      refine e_i2l dX0_visits_29 ⟨by omega, by omega⟩ ?_
      refine e_callS1rz dX0_visits_30 md_X0_spotOf lk_X0_213 rfl q1212 rfl (Nat.le_of_ble_eq_true rfl) (C_X0_spotOf8 h8) ?_
      refine e_callV2rz (ci := 0) dX0_visits_33 md_X0_visitsOf lk_X0_256 rfl q1269 qs34 (x_o0 _ _) (by decide) rfl (Nat.le_of_ble_eq_true rfl) (C_X0_visitsOf A1 hz F N ⟨by omega, by omega⟩ rfl h8) ?_
      refine e_ireturn dX0_visits_36 rfl rfl ?_
      first
        | (refine x_pubi ?_ (x_f34 hfr) he1
           unfold v_visits
           (repeat' split) <;> first | rfl | omega | (omega))
        | (refine x_pubi0 ?_
           unfold v_visits
           (repeat' split) <;> first | rfl | omega)
    · refine e_bipush dX0_visits_18 rfl ?_
      refine e_ireturn dX0_visits_20 rfl rfl ?_
      first
        | (refine x_pubi ?_ (x_f34 hfr) he1
           unfold v_visits
           (repeat' split) <;> first | rfl | omega | (omega))
        | (refine x_pubi0 ?_
           unfold v_visits
           (repeat' split) <;> first | rfl | omega)
theorem C_X0_haunt {ρ χ : t_S} {h0 : e_A} {α : Nat → Nat} (q : x_Q ρ χ h0 α) {w : Int} (hw : e_rg w) : e_C mX0_haunt [.ref 350, e_i w] (x_H χ h0) 3 12 7 (x_Pub (e_i (v_haunt ρ w)) χ h0) := by
  obtain ⟨A, hz, hr, F, hIs, hI⟩ := q
  have s0 : 0 ≤ ρ 1 0 ∧ ρ 1 0 ≤ 12 := hz.1
  have s3 := hz.2.1
  have s4 := hz.2.2.1
  have s5 := hz.2.2.2.1
  have s6 := hz.2.2.2.2.1
  have s7 := hz.2.2.2.2.2.1
  have kw1 := hw.1
  have kw2 := hw.2
  refine e_enter (al0 := [.ref 350, e_i w, .retAddr 0, .retAddr 0]) (by decide +kernel) rfl (Nat.le_of_ble_eq_true rfl) ?_
  refine e_aload_n dX0_haunt_0 rfl ?_
  refine e_iload_n dX0_haunt_1 rfl ?_
  refine e_i2l dX0_haunt_2 ⟨by omega, by omega⟩ ?_
  refine e_callV1rz (ci := 0) dX0_haunt_3 md_X0_isWidow lk_X0_138 rfl q1222 qs33 (x_o0 _ _) (by decide) rfl (Nat.le_of_ble_eq_true rfl) (C_X0_isWidow A hz ⟨by omega, by omega⟩) ?_
  refine e_bif_ne (tgt := 12) dX0_haunt_6 rfl (fun c1 => ?_) (fun c1 => ?_)
  · refine e_aload_n dX0_haunt_12 rfl ?_
    refine e_bud (kc1 := 0 + 3) (ks1 := 0 + 12) (by decide) (by decide) ?_
    refine e_callV0 (M1 := mX0_is) (kc := 0) (ks := 0) (mc := 3) (ms := 12) (ci := 0) dX0_haunt_13 lk_X0_194 md_X0_is rfl q1047 qs21 (x_o0 _ _) (by decide) rfl (Nat.le_of_ble_eq_true rfl) (hIs) (fun a hh q => ?_) (fun i hh q => by cases q.1)
    obtain ⟨q1, χ1, h1, N, hfr, he1, rfl⟩ := q
    cases q1
    show e_E _ _ _ (_ :: _) _ _ _ _ _
    have A1 := x_at_1 A hfr he1
    have rc := N.1.2.2.2 w (by omega) (by omega)
    have rc1 := rc.2.1
    have rc0 := rc.1
    refine e_getV (.ref (x_ai 11)) dX0_haunt_16 fl_X0_202 (x_o3 _ _) rfl ?_
    refine e_iload_n dX0_haunt_19 rfl ?_
    refine x_ild 7 dX0_haunt_20 rfl (by decide) (fun _ => rfl) rfl ⟨by omega, by omega⟩ ?_
    refine e_iconst dX0_haunt_21 ?_
    refine e_icmp_ne (tgt := 27) dX0_haunt_22 rfl ⟨by omega, by omega⟩ ⟨by omega, by omega⟩ (fun c2 => ?_) (fun c2 => ?_)
    · refine e_iconst dX0_haunt_27 ?_
      refine e_istore_n2 dX0_haunt_28 rfl ?_
      refine e_iconst dX0_haunt_29 ?_
      refine e_istore_n3 dX0_haunt_30 rfl ?_
      rw [show (Value.int (Int32.ofInt 0)) = e_i (x_hb (fun s => t_vis ρ w (x_ce s)) (1 : Int).toNat) from by rw [x_hb_1]]
      refine e_forA (a := 1) (n := 64) (fun i => e_E mX0_haunt 31 [.ref 350, e_i w, e_i (x_hb (fun s => t_vis ρ w (x_ce s)) i.toNat), e_i i] [] (x_H χ1 h1) _ _ _ _) (by omega) ?_ (fun i hi0 hi1 hF => ?_)
      · have hb := x_hb_ch (fun s => t_vis ρ w (x_ce s)) 64 (by decide)
        have hb1 : 0 ≤ x_hb (fun s => t_vis ρ w (x_ce s)) (64 : Int).toNat := hb.1
        have hb2 : x_hb (fun s => t_vis ρ w (x_ce s)) (64 : Int).toNat < 64 := hb.2.1
        refine e_iload_n dX0_haunt_31 rfl ?_
        refine e_bipush dX0_haunt_32 rfl ?_
        refine e_icmp_ge (tgt := 60) dX0_haunt_34 rfl ⟨by omega, by omega⟩ ⟨by omega, by omega⟩ (fun c3 => ?_) (fun q => by exfalso; omega)
        refine e_iload_n dX0_haunt_60 rfl ?_
        refine e_callS1rz dX0_haunt_61 md_X0_cellOf lk_X0_226 rfl q1226 rfl (Nat.le_of_ble_eq_true rfl) (C_X0_cellOf ⟨by omega, by omega⟩) ?_
        refine e_ireturn dX0_haunt_64 rfl rfl ?_
        refine x_pubi ?_ (x_f34 hfr) he1
        unfold v_haunt
        rw [if_pos (by omega)]
        exact x_hb_ce (x_vis0 F ⟨by omega, by omega⟩) (x_vis1 F ⟨by omega, by omega⟩ (by omega))
      · have hb := x_hb_ch (fun s => t_vis ρ w (x_ce s)) i.toNat (by omega)
        have hb1 := hb.1
        have hb2 := hb.2.1
        have hv1 := t_vis_rg (z_h3 F) (w := w) ⟨by omega, by omega⟩ (x_ce i)
        have hv2 := t_vis_rg (z_h3 F) (w := w) ⟨by omega, by omega⟩ (x_ce (x_hb (fun s => t_vis ρ w (x_ce s)) i.toNat))
        rw [x_hb_s _ (show (0 : Int) ≤ i by omega)] at hF
        refine e_iload_n dX0_haunt_31 rfl ?_
        refine e_bipush dX0_haunt_32 rfl ?_
        refine e_icmp_ge (tgt := 60) dX0_haunt_34 rfl ⟨by omega, by omega⟩ ⟨by omega, by omega⟩ (fun q => by exfalso; omega) (fun c4 => ?_)
        refine e_aload_n dX0_haunt_37 rfl ?_
        refine e_iload_n dX0_haunt_38 rfl ?_
        refine e_iload_n dX0_haunt_39 rfl ?_
        refine e_callV2rz (ci := 0) dX0_haunt_40 md_X0_visitsOf lk_X0_256 rfl q1269 qs34 (x_o0 _ _) (by decide) rfl (Nat.le_of_ble_eq_true rfl) (C_X0_visitsOf A1 hz F N ⟨by omega, by omega⟩ (x_spce (s := i) ⟨by omega, by omega⟩) (x_ce_rg (s := i) ⟨by omega, by omega⟩).1) ?_
        refine e_aload_n dX0_haunt_43 rfl ?_
        refine e_iload_n dX0_haunt_44 rfl ?_
        refine e_iload_n dX0_haunt_45 rfl ?_
        refine e_callV2rz (ci := 0) dX0_haunt_46 md_X0_visitsOf lk_X0_256 rfl q1269 qs34 (x_o0 _ _) (by decide) rfl (Nat.le_of_ble_eq_true rfl) (C_X0_visitsOf A1 hz F N ⟨by omega, by omega⟩ (x_spce (s := x_hb (fun s => t_vis ρ w (x_ce s)) i.toNat) ⟨by omega, by omega⟩) (x_ce_rg (s := x_hb (fun s => t_vis ρ w (x_ce s)) i.toNat) ⟨by omega, by omega⟩).1) ?_
        refine e_icmp_le (tgt := 54) dX0_haunt_49 rfl ⟨by omega, by omega⟩ ⟨by omega, by omega⟩ (fun c5 => ?_) (fun c5 => ?_)
        · refine e_iinc3 dX0_haunt_54 rfl ?_
          refine e_goto (tgt := 31) dX0_haunt_57 rfl ?_
          first
            | (rw [if_pos (by show t_vis ρ w (x_ce (x_hb (fun s => t_vis ρ w (x_ce s)) i.toNat)) < t_vis ρ w (x_ce i); omega)] at hF; exact hF)
            | (rw [if_neg (by show ¬ t_vis ρ w (x_ce (x_hb (fun s => t_vis ρ w (x_ce s)) i.toNat)) < t_vis ρ w (x_ce i); omega)] at hF; exact hF)
        · refine e_iload_n dX0_haunt_52 rfl ?_
          refine e_istore_n2 dX0_haunt_53 rfl ?_
          refine e_iinc3 dX0_haunt_54 rfl ?_
          refine e_goto (tgt := 31) dX0_haunt_57 rfl ?_
          first
            | (rw [if_pos (by show t_vis ρ w (x_ce (x_hb (fun s => t_vis ρ w (x_ce s)) i.toNat)) < t_vis ρ w (x_ce i); omega)] at hF; exact hF)
            | (rw [if_neg (by show ¬ t_vis ρ w (x_ce (x_hb (fun s => t_vis ρ w (x_ce s)) i.toNat)) < t_vis ρ w (x_ce i); omega)] at hF; exact hF)
    · refine e_iconst dX0_haunt_25 ?_
      refine e_ireturn dX0_haunt_26 rfl rfl ?_
      refine x_pubi ?_ (x_f34 hfr) he1
      unfold v_haunt
      rw [if_pos (by omega)]
      exact x_haunt0 (by omega)
  · refine e_bipush dX0_haunt_9 rfl ?_
    refine e_ireturn dX0_haunt_11 rfl rfl ?_
    first
      | (refine x_pubi ?_ (x_f34 hfr) he1
         unfold v_haunt
         (repeat' split) <;> first | rfl | omega | (omega))
      | (refine x_pubi0 ?_
         unfold v_haunt
         (repeat' split) <;> first | rfl | omega)
