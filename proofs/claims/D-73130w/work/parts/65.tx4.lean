/-! THE COMPONENT'S WALKS: free cells (printed by tx4.py) -/
set_option maxRecDepth 100000
theorem C_X3_isLand {ρ χ : t_S} {h0 : e_A} (hq : χ 22 0 = x_bs (ρ 15)) (hg : x_g01 (ρ 15)) {c : Int} (hc : x_cn c) : e_C mX3_isLand [.ref 366, e_i (x_sp c)] (x_H χ h0) 0 0 1 (e_ret (e_i (if c ≠ -1 ∧ ρ 15 c = 0 then 1 else 0)) (x_H χ h0)) := by
  have hbr : 0 ≤ χ 22 0 ∧ χ 22 0 < 2 ^ 64 := by rw [hq]; exact x_bs_rg _
  obtain ⟨hs, hs1⟩ := x_cn_sp hc
  refine e_enter (al0 := [.ref 366, e_i (x_sp c)]) (by decide +kernel) rfl (Nat.le_of_ble_eq_true rfl) ?_
  refine e_iload_n dX3_isLand_0 rfl ?_
  refine e_iconst dX3_isLand_1 ?_
  refine e_icmp_eq (tgt := 20) dX3_isLand_2 rfl ⟨by omega, by omega⟩ ⟨by omega, by omega⟩ (fun c1 => ?_) (fun c1 => ?_)
  · refine e_iconst dX3_isLand_20 ?_
    refine e_ireturn dX3_isLand_21 rfl rfl ?_
    refine e_rv ?_ rfl
    first
      | (exfalso; omega)
      | (rw [if_neg (by omega)])
      | (have hb := x_cn_bt hg hc (by omega); rw [hq] at *; first | (rw [if_pos (by omega)]; done) | (rw [if_neg (by omega)]; done))
  · refine e_aload_n dX3_isLand_5 rfl ?_
    refine e_getV (e_j _) dX3_isLand_6 fl_X3_71 (x_o3 _ _) rfl ?_
    refine e_iload_n dX3_isLand_9 rfl ?_
    refine e_callS2rz dX3_isLand_10 md_X0_isIn lk_X3_168 rfl q1188 rfl (Nat.le_of_ble_eq_true rfl) (C_X0_isIn hbr ⟨by omega, by omega⟩) ?_
    refine e_bif_ne (tgt := 20) dX3_isLand_13 rfl (fun c2 => ?_) (fun c2 => ?_)
    · refine e_iconst dX3_isLand_20 ?_
      refine e_ireturn dX3_isLand_21 rfl rfl ?_
      refine e_rv ?_ rfl
      first
        | (exfalso; omega)
        | (rw [if_neg (by omega)])
        | (have hb := x_cn_bt hg hc (by omega); rw [hq] at *; first | (rw [if_pos (by omega)]; done) | (rw [if_neg (by omega)]; done))
    · refine e_iconst dX3_isLand_16 ?_
      refine e_goto (tgt := 21) dX3_isLand_17 rfl ?_
      refine e_ireturn dX3_isLand_21 rfl rfl ?_
      refine e_rv ?_ rfl
      first
        | (exfalso; omega)
        | (rw [if_neg (by omega)])
        | (have hb := x_cn_bt hg hc (by omega); rw [hq] at *; first | (rw [if_pos (by omega)]; done) | (rw [if_neg (by omega)]; done))
theorem C_X3_isFree {ρ χ : t_S} {h0 : e_A} (hq : χ 22 0 = x_bs (ρ 15)) (hg : x_g01 (ρ 15)) {o : Int → Int} (ho : x_g01 o) {c : Int} (hc : x_cn c) : e_C mX3_isFree [.ref 366, e_i (x_sp c), e_j (x_bs o)] (x_H χ h0) 0 0 2 (e_ret (e_i (if x_free ρ o c then 1 else 0)) (x_H χ h0)) := by
  have hbr := x_bs_rg o
  obtain ⟨hs, hs1⟩ := x_cn_sp hc
  refine e_enter (al0 := [.ref 366, e_i (x_sp c), e_j (x_bs o), .retAddr 0]) (by decide +kernel) rfl (Nat.le_of_ble_eq_true rfl) ?_
  refine e_aload_n dX3_isFree_0 rfl ?_
  refine e_iload_n dX3_isFree_1 rfl ?_
  refine e_callV1rz (ci := 3) dX3_isFree_2 md_X3_isLand lk_X3_172 rfl q1185 qs29 (x_o3 _ _) (by decide) rfl (Nat.le_of_ble_eq_true rfl) (C_X3_isLand hq hg hc) ?_
  refine e_bif_eq (tgt := 20) dX3_isFree_5 rfl (fun c1 => ?_) (fun c1 => ?_)
  · refine e_iconst dX3_isFree_20 ?_
    refine e_ireturn dX3_isFree_21 rfl rfl ?_
    refine e_rv ?_ rfl
    first
      | (exfalso; omega)
      | (rw [if_neg (fun w => by omega)]; done)
      | (have hb := x_cn_bt ho hc (by omega); first | (rw [if_pos ⟨by omega, by omega, by omega⟩]; done) | (rw [if_neg (fun w => by omega)]; done))
  · refine e_lload_n dX3_isFree_8 rfl ?_
    refine e_iload_n dX3_isFree_9 rfl ?_
    refine e_callS2rz dX3_isFree_10 md_X0_isIn lk_X3_168 rfl q1188 rfl (Nat.le_of_ble_eq_true rfl) (C_X0_isIn hbr ⟨by omega, by omega⟩) ?_
    refine e_bif_ne (tgt := 20) dX3_isFree_13 rfl (fun c2 => ?_) (fun c2 => ?_)
    · refine e_iconst dX3_isFree_20 ?_
      refine e_ireturn dX3_isFree_21 rfl rfl ?_
      refine e_rv ?_ rfl
      first
        | (exfalso; omega)
        | (rw [if_neg (fun w => by omega)]; done)
        | (have hb := x_cn_bt ho hc (by omega); first | (rw [if_pos ⟨by omega, by omega, by omega⟩]; done) | (rw [if_neg (fun w => by omega)]; done))
    · refine e_iconst dX3_isFree_16 ?_
      refine e_goto (tgt := 21) dX3_isFree_17 rfl ?_
      refine e_ireturn dX3_isFree_21 rfl rfl ?_
      refine e_rv ?_ rfl
      first
        | (exfalso; omega)
        | (rw [if_neg (fun w => by omega)]; done)
        | (have hb := x_cn_bt ho hc (by omega); first | (rw [if_pos ⟨by omega, by omega, by omega⟩]; done) | (rw [if_neg (fun w => by omega)]; done))
theorem C_X3_isAny {ρ χ : t_S} {h0 : e_A} (hq : χ 22 0 = x_bs (ρ 15)) (hg : x_g01 (ρ 15)) {o : Int → Int} (ho : x_g01 o) {α : Nat → Nat} (A : x_at χ h0 (ρ 1) α) (hz : t_sz ρ) {c : Int} (hc : x_c8 c) : e_C mX3_isAny [.ref 366, e_i (x_sp c), e_j (x_bs o)] (x_H χ h0) 0 0 3 (e_ret (e_i (t_anyg (x_fg ρ o c) 4)) (x_H χ h0)) := by
  refine e_enter (al0 := [.ref 366, e_i (x_sp c), e_j (x_bs o), .retAddr 0, .retAddr 0]) (by decide +kernel) rfl (Nat.le_of_ble_eq_true rfl) ?_
  refine e_iconst dX3_isAny_0 ?_
  refine e_istore4 dX3_isAny_1 rfl ?_
  refine e_for (n := 4) (F := fun i => t_anyg (x_fg ρ o c) i.toNat = 0 → e_E mX3_isAny 3 [.ref 366, e_i (x_sp c), e_j (x_bs o), .retAddr 0, e_i i] [] (x_H χ h0) 0 0 3 (e_ret (e_i (t_anyg (x_fg ρ o c) 4)) (x_H χ h0))) (by omega) (fun hi => ?_) (fun i hi0 hi1 hF hi => ?_) rfl
  · refine e_iload dX3_isAny_3 rfl ?_
    refine e_iconst dX3_isAny_5 ?_
    refine e_icmp_ge (tgt := 35) dX3_isAny_6 rfl ⟨by omega, by omega⟩ ⟨by omega, by omega⟩ (fun c1 => ?_) (fun q => by exfalso; omega)
    refine e_iconst dX3_isAny_35 ?_
    refine e_ireturn dX3_isAny_36 rfl rfl ?_
    exact e_rv hi.symm rfl
  · refine e_iload dX3_isAny_3 rfl ?_
    refine e_iconst dX3_isAny_5 ?_
    refine e_icmp_ge (tgt := 35) dX3_isAny_6 rfl ⟨by omega, by omega⟩ ⟨by omega, by omega⟩ (fun q => by exfalso; omega) (fun c2 => ?_)
    refine e_aload_n dX3_isAny_9 rfl ?_
    refine e_aload_n dX3_isAny_10 rfl ?_
    refine e_getV (.ref 350) dX3_isAny_11 fl_X3_3 (x_o3 _ _) rfl ?_
    refine e_iload_n dX3_isAny_14 rfl ?_
    refine e_iload dX3_isAny_15 rfl ?_
    refine e_callV2rz (ci := 0) dX3_isAny_17 md_X0_beside lk_X3_176 rfl q1177 qs27 (x_o0 _ _) (by decide) rfl (Nat.le_of_ble_eq_true rfl) (C_X0_beside A hz hc ⟨by omega, by omega⟩) ?_
    refine e_lload_n dX3_isAny_20 rfl ?_
    refine e_callV2rz (ci := 3) dX3_isAny_21 md_X3_isFree lk_X3_180 rfl q1181 qs28 (x_o3 _ _) (by decide) rfl (Nat.le_of_ble_eq_true rfl) (C_X3_isFree hq hg ho (x_bes_cn hz c i)) ?_
    refine e_bif_eq (tgt := 29) dX3_isAny_24 rfl (fun cf => ?_) (fun cf => ?_)
    · refine e_iinc4 dX3_isAny_29 rfl ?_
      refine e_goto (tgt := 3) dX3_isAny_32 rfl ?_
      exact hF (x_anyg_0 hi0 hi (x_fg_0 cf))
    · refine e_iconst dX3_isAny_27 ?_
      refine e_ireturn dX3_isAny_28 rfl rfl ?_
      exact e_rv (x_anyg_1 hi0 (x_fg_1 cf) 4 hi1).symm rfl
