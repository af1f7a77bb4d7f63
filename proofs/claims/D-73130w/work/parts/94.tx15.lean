/-! THE COMPONENT: the search (printed by tx15.py) -/
set_option maxRecDepth 100000
theorem C_X4_begins {χ : t_S} {h0 : e_A} {s : Int} (hs : 0 ≤ s ∧ s < 64) : e_C mX4_begins [.ref 379, e_i s] (x_H χ h0) 0 0 1 (e_rev (x_H (x_bg χ s) h0)) := by
  refine e_enter (al0 := [.ref 379, e_i s]) (by decide +kernel) rfl (Nat.le_of_ble_eq_true rfl) ?_
  refine e_aload_n dX4_begins_0 rfl ?_
  refine e_getV (.ref (x_ai 28)) dX4_begins_1 fl_X4_15 (x_o4 _ _) rfl ?_
  refine e_iconst dX4_begins_4 ?_
  refine e_callS2vz dX4_begins_5 md_J14_fill lk_X4_22 rfl q1152 rfl (Nat.le_of_ble_eq_true rfl) (C_J14_fill 64 rfl (by decide) rfl (fun _ => rfl)) ?_
  refine e_aload_n dX4_begins_8 rfl ?_
  refine e_getV (.ref (x_ai 28)) dX4_begins_9 fl_X4_15 (x_o4 _ _) rfl ?_
  refine e_iload_n dX4_begins_12 rfl ?_
  refine e_iconst dX4_begins_13 ?_
  refine x_ist 64 dX4_begins_14 rfl (by decide) rfl rfl ⟨by omega, by omega⟩ ?_
  refine e_aload_n dX4_begins_15 rfl ?_
  refine e_getV (.ref (x_ai 29)) dX4_begins_16 fl_X4_19 (x_o4 _ _) rfl ?_
  refine e_iconst dX4_begins_19 ?_
  refine e_iload_n dX4_begins_20 rfl ?_
  refine x_ist 64 dX4_begins_21 rfl (by decide) rfl rfl ⟨by omega, by omega⟩ ?_
  refine e_aload_n dX4_begins_22 rfl ?_
  refine e_iconst dX4_begins_23 ?_
  refine x_put_30 dX4_begins_24 fl_X4_28 ?_
  refine e_return dX4_begins_27 rfl ?_
  exact ⟨rfl, rfl⟩
theorem C_X4_comes {χ : t_S} {h0 : e_A} {f t : Int} (hf : 0 ≤ f ∧ f < 64) (ht : -1 ≤ t ∧ t < 64) (hr : ∀ s : Int, 0 ≤ s → s < 64 → -1 ≤ χ 28 s ∧ χ 28 s < 64) (hm : t ≠ -1 → χ 28 t = -1 → 0 ≤ χ 30 0 ∧ χ 30 0 < 64) : e_C mX4_comes [.ref 379, e_i f, e_i t] (x_H χ h0) 0 0 0 (e_rev (x_H (x_cm χ f t) h0)) := by
  refine e_enter (al0 := [.ref 379, e_i f, e_i t]) (by decide +kernel) rfl (Nat.le_of_ble_eq_true rfl) ?_
  refine e_iload_n dX4_comes_0 rfl ?_
  refine e_iconst dX4_comes_1 ?_
  refine e_icmp_eq (tgt := 15) dX4_comes_2 rfl ⟨by omega, by omega⟩ ⟨by omega, by omega⟩ (fun c1 => ?_) (fun c1 => ?_)
  · refine e_return dX4_comes_15 rfl ?_
    refine ⟨rfl, ?_⟩
    unfold x_cm
    first
      | rw [if_pos (Or.inl c1)]
      | rw [if_pos (Or.inr c2)]
  · have hrt := hr t (by omega) (by omega)
    refine e_aload_n dX4_comes_5 rfl ?_
    refine e_getV (.ref (x_ai 28)) dX4_comes_6 fl_X4_15 (x_o4 _ _) rfl ?_
    refine e_iload_n dX4_comes_9 rfl ?_
    refine x_ild 64 dX4_comes_10 rfl (by decide) (fun _ => rfl) rfl ⟨by omega, by omega⟩ ?_
    refine e_iconst dX4_comes_11 ?_
    refine e_icmp_eq (tgt := 16) dX4_comes_12 rfl ⟨by omega, by omega⟩ ⟨by omega, by omega⟩ (fun c2 => ?_) (fun c2 => ?_)
    · have hmm := hm c1 c2
      have e30 : s_up (s_up χ 28 t (χ 28 f + 1)) 29 (χ 30 0) t 30 0 = χ 30 0 := by rw [s_up_f (by decide), s_up_f (by decide)]
      have e30b : s_up χ 28 t (χ 28 f + 1) 30 0 = χ 30 0 := by rw [s_up_f (by decide)]
      refine e_aload_n dX4_comes_16 rfl ?_
      refine e_getV (.ref (x_ai 28)) dX4_comes_17 fl_X4_15 (x_o4 _ _) rfl ?_
      refine e_iload_n dX4_comes_20 rfl ?_
      refine e_aload_n dX4_comes_21 rfl ?_
      refine e_getV (.ref (x_ai 28)) dX4_comes_22 fl_X4_15 (x_o4 _ _) rfl ?_
      refine e_iload_n dX4_comes_25 rfl ?_
      refine x_ild 64 dX4_comes_26 rfl (by decide) (fun _ => rfl) rfl ⟨by omega, by omega⟩ ?_
      refine e_iconst dX4_comes_27 ?_
      refine e_iadd dX4_comes_28 ?_
      refine x_ist 64 dX4_comes_29 rfl (by decide) rfl rfl ⟨by omega, by omega⟩ ?_
      refine e_aload_n dX4_comes_30 rfl ?_
      refine e_getV (.ref (x_ai 29)) dX4_comes_31 fl_X4_19 (x_o4 _ _) rfl ?_
      refine e_aload_n dX4_comes_34 rfl ?_
      refine e_getV (e_i _) dX4_comes_35 fl_X4_28 (x_o4 _ _) rfl ?_
      refine e_iload_n dX4_comes_38 rfl ?_
      rw [e30b]
      refine x_ist 64 dX4_comes_39 rfl (by decide) rfl rfl ⟨by omega, by omega⟩ ?_
      refine e_aload_n dX4_comes_40 rfl ?_
      refine e_dup dX4_comes_41 rfl ?_
      refine e_getV (e_i _) dX4_comes_42 fl_X4_28 (x_o4 _ _) rfl ?_
      refine e_iconst dX4_comes_45 ?_
      refine e_iadd dX4_comes_46 ?_
      refine x_put_30 dX4_comes_47 fl_X4_28 ?_
      refine e_return dX4_comes_50 rfl ?_
      refine ⟨rfl, ?_⟩
      unfold x_cm
      rw [if_neg (fun z => z.elim c1 (fun z => z c2)), e30]
    · refine e_return dX4_comes_15 rfl ?_
      refine ⟨rfl, ?_⟩
      unfold x_cm
      first
        | rw [if_pos (Or.inl c1)]
        | rw [if_pos (Or.inr c2)]
theorem C_X4_over {ρ χ : t_S} {h0 : e_A} {α : Nat → Nat} (A0 : x_at χ h0 (ρ 1) α) (hz : t_sz ρ) {g : Int → Int} (hg : x_g01 g) {a s z : Int} (hs : s = x_sp a) (ha : x_c8 a) (hz1 : z = x_bs g) {D : Int → Int} (hD : x_D (fun c d => t_bes ρ c d ≠ -1 ∧ g (t_bes ρ c d) = 0) (t_bes ρ) a D) (hD0 : ∀ c : Int, 0 ≤ c → c < 80 → ¬ x_c8 c → D c = -1) : e_C mX4_over [.ref 379, e_i s, e_j z] (x_H χ h0) 0 0 2 (x_PY D χ h0) := by
  refine e_enter (al0 := [.ref 379, e_i s, e_j z, .retAddr 0, .retAddr 0, .retAddr 0, .retAddr 0]) (by decide +kernel) rfl (Nat.le_of_ble_eq_true rfl) ?_
  subst hs
  subst hz1
  have ras := x_sp_rg ha
  refine e_aload_n dX4_over_0 rfl ?_
  refine e_iload_n dX4_over_1 rfl ?_
  refine e_callV1vz (ci := 4) dX4_over_2 md_X4_begins lk_X4_32 rfl q1289 qs36 (x_o4 _ _) (by decide) rfl (Nat.le_of_ble_eq_true rfl) (C_X4_begins ⟨by omega, by omega⟩) ?_
  refine e_iconst dX4_over_5 ?_
  refine e_istore4 dX4_over_6 rfl ?_
  have v0 := x_V0 (L := (fun c d => t_bes ρ c d ≠ -1 ∧ g (t_bes ρ c d) = 0)) (nb := t_bes ρ) ha χ
  have w0 := x_bg_k χ (x_sp a)
  generalize x_bg χ (x_sp a) = χ2 at v0 w0 ⊢
  refine e_for (n := 64) (F := fun k => ∀ χ3, x_V ((fun c d => t_bes ρ c d ≠ -1 ∧ g (t_bes ρ c d) = 0)) (t_bes ρ) a k 0 χ3 → x_fW χ χ3 → e_E mX4_over 8 [.ref 379, e_i (x_sp a), e_j (x_bs g), .retAddr 0, e_i k, .retAddr 0, .retAddr 0] [] (x_H χ3 h0) 0 0 2 (x_PY D χ h0)) (by omega) (fun χ3 v w => ?_) (fun k hk0 hk1 hF χ3 v w => ?_) χ2 v0 w0
  · have v1 := v.1
    refine e_iload dX4_over_8 rfl ?_
    refine e_aload_n dX4_over_10 rfl ?_
    refine e_getV (e_i _) dX4_over_11 fl_X4_28 (x_o4 _ _) rfl ?_
    refine e_icmp_ge (tgt := 84) dX4_over_14 rfl ⟨by omega, by omega⟩ ⟨by omega, by omega⟩ (fun c1 => ?_) (fun q => by exfalso; omega)
    refine e_aload_n dX4_over_84 rfl ?_
    refine e_areturn dX4_over_85 rfl (Or.inl ⟨_, rfl⟩) ?_
    exact ⟨rfl, χ3, w, x_V_Dn v (by omega) hD hD0, rfl⟩
  · have v1 := v.1
    have v8 := v
    refine e_iload dX4_over_8 rfl ?_
    refine e_aload_n dX4_over_10 rfl ?_
    refine e_getV (e_i _) dX4_over_11 fl_X4_28 (x_o4 _ _) rfl ?_
    refine e_icmp_ge (tgt := 84) dX4_over_14 rfl ⟨by omega, by omega⟩ ⟨by omega, by omega⟩ (fun c2 => ?_) (fun c2 => ?_)
    · refine e_aload_n dX4_over_84 rfl ?_
      refine e_areturn dX4_over_85 rfl (Or.inl ⟨_, rfl⟩) ?_
      exact ⟨rfl, χ3, w, x_V_Dn v (by omega) hD hD0, rfl⟩
    · refine e_iconst dX4_over_17 ?_
      refine e_istore5 dX4_over_18 rfl ?_
      have hk : k < χ3 30 0 := by omega
      refine e_for (n := 4) (F := fun d => ∀ χ4, x_V ((fun c d => t_bes ρ c d ≠ -1 ∧ g (t_bes ρ c d) = 0)) (t_bes ρ) a k d χ4 → x_fW χ χ4 → k < χ4 30 0 → e_E mX4_over 20 [.ref 379, e_i (x_sp a), e_j (x_bs g), .retAddr 0, e_i k, e_i d, .retAddr 0] [] (x_H χ4 h0) 0 0 2 (x_PY D χ h0)) (by omega) (fun χ4 v w hk => ?_) (fun d hd0 hd1 hG χ4 v4 w hk => ?_) χ3 v w hk
      · refine e_iload dX4_over_20 rfl ?_
        refine e_iconst dX4_over_22 ?_
        refine e_icmp_ge (tgt := 78) dX4_over_23 rfl ⟨by omega, by omega⟩ ⟨by omega, by omega⟩ (fun c3 => ?_) (fun q => by exfalso; omega)
        refine e_iinc4 dX4_over_78 rfl ?_
        refine e_goto (tgt := 8) dX4_over_81 rfl ?_
        exact e_fgs [5, 6] (hF χ4 (x_V_nx v hk) w)
      · have hq := v4.2.1 k hk0 hk
        obtain ⟨c, c8, hc⟩ : ∃ c, x_c8 c ∧ χ4 29 k = x_sp c := ⟨x_ce (χ4 29 k), (x_ce_rg hq.1).1, (x_ce_rg hq.1).2.symm⟩
        have rcs := x_sp_rg c8
        have A := x_at_fW w A0
        have hcn := x_bes_cn hz c d
        have hts := (x_cn_sp hcn).1
        have htn := (x_cn_sp hcn).2
        refine e_iload dX4_over_20 rfl ?_
        refine e_iconst dX4_over_22 ?_
        refine e_icmp_ge (tgt := 78) dX4_over_23 rfl ⟨by omega, by omega⟩ ⟨by omega, by omega⟩ (fun q => by exfalso; omega) (fun c4 => ?_)
        refine e_aload_n dX4_over_26 rfl ?_
        refine e_getV (.ref 350) dX4_over_27 fl_X4_3 (x_o4 _ _) rfl ?_
        refine e_aload_n dX4_over_30 rfl ?_
        refine e_getV (.ref (x_ai 29)) dX4_over_31 fl_X4_19 (x_o4 _ _) rfl ?_
        refine e_iload dX4_over_34 rfl ?_
        refine x_ild 64 dX4_over_36 rfl (by decide) (fun _ => rfl) rfl ⟨by omega, by omega⟩ ?_
        refine e_iload dX4_over_37 rfl ?_
        rw [hc]
        refine e_callV2rz (ci := 0) dX4_over_39 md_X0_beside lk_X4_36 rfl q1177 qs27 (x_o0 _ _) (by decide) rfl (Nat.le_of_ble_eq_true rfl) (C_X0_beside A hz c8 ⟨by omega, by omega⟩) ?_
        refine e_istore6 dX4_over_42 rfl ?_
        refine e_iload dX4_over_44 rfl ?_
        refine e_iconst dX4_over_46 ?_
        refine e_icmp_eq (tgt := 72) dX4_over_47 rfl ⟨by omega, by omega⟩ ⟨by omega, by omega⟩ (fun c5 => ?_) (fun c5 => ?_)
        · refine e_iinc5 dX4_over_72 rfl ?_
          refine e_goto (tgt := 20) dX4_over_75 rfl ?_
          first
            | exact e_fgt 6 (hG _ (x_V_go1 hc c8 hk v4 ⟨hd0, hd1⟩ ⟨by omega, by omega⟩ (hcn.elim (fun z => absurd z (by omega)) id)) (x_fW_cm w _ _) (Int.lt_of_lt_of_le hk (x_cm_30 _ _ _)))
            | exact e_fgt 6 (hG _ (x_V_no1 hc c8 v4 (fun z => by have z1 := z.1; have z2 := z.2; omega)) w hk)
        · refine e_lload_n dX4_over_50 rfl ?_
          refine e_iload dX4_over_51 rfl ?_
          have hbt := x_cn_bt hg hcn (by omega)
          refine e_callS2rz dX4_over_53 md_X0_isIn lk_X4_40 rfl q1188 rfl (Nat.le_of_ble_eq_true rfl) (C_X0_isIn (x_bs_rg _) ⟨by omega, by omega⟩) ?_
          refine e_bif_ne (tgt := 72) dX4_over_56 rfl (fun c6 => ?_) (fun c6 => ?_)
          · refine e_iinc5 dX4_over_72 rfl ?_
            refine e_goto (tgt := 20) dX4_over_75 rfl ?_
            first
              | exact e_fgt 6 (hG _ (x_V_go1 hc c8 hk v4 ⟨hd0, hd1⟩ ⟨by omega, by omega⟩ (hcn.elim (fun z => absurd z (by omega)) id)) (x_fW_cm w _ _) (Int.lt_of_lt_of_le hk (x_cm_30 _ _ _)))
              | exact e_fgt 6 (hG _ (x_V_no1 hc c8 v4 (fun z => by have z1 := z.1; have z2 := z.2; omega)) w hk)
          · refine e_aload_n dX4_over_59 rfl ?_
            refine e_aload_n dX4_over_60 rfl ?_
            refine e_getV (.ref (x_ai 29)) dX4_over_61 fl_X4_19 (x_o4 _ _) rfl ?_
            refine e_iload dX4_over_64 rfl ?_
            refine x_ild 64 dX4_over_66 rfl (by decide) (fun _ => rfl) rfl ⟨by omega, by omega⟩ ?_
            refine e_iload dX4_over_67 rfl ?_
            rw [hc]
            refine e_callV2vz (ci := 4) dX4_over_69 md_X4_comes lk_X4_44 rfl q1296 qs37 (x_o4 _ _) (by decide) rfl (Nat.le_of_ble_eq_true rfl) (C_X4_comes ⟨by omega, by omega⟩ hts (fun s s0 s1 => by have := v4.2.2.2.2.2.2.2.1 s s0 s1; have := v4.1.1; omega) (fun z1 z2 => x_V_rm v4 ⟨by omega, by omega⟩ z2)) ?_
            refine e_iinc5 dX4_over_72 rfl ?_
            refine e_goto (tgt := 20) dX4_over_75 rfl ?_
            first
              | exact e_fgt 6 (hG _ (x_V_go1 hc c8 hk v4 ⟨hd0, hd1⟩ ⟨by omega, by omega⟩ (hcn.elim (fun z => absurd z (by omega)) id)) (x_fW_cm w _ _) (Int.lt_of_lt_of_le hk (x_cm_30 _ _ _)))
              | exact e_fgt 6 (hG _ (x_V_no1 hc c8 v4 (fun z => by have z1 := z.1; have z2 := z.2; omega)) w hk)
theorem C_X4_along {ρ χ : t_S} {h0 : e_A} {α : Nat → Nat} (A0 : x_at χ h0 (ρ 1) α) (hz : t_sz ρ) {g : Int → Int} (hg : x_g01 g) {a s z : Int} (hs : s = x_sp a) (ha : x_c8 a) (hz1 : z = x_bs g) {D : Int → Int} (hD : x_D (fun c d => t_bes ρ c d ≠ -1 ∧ g (t_bes ρ c d) = 1) (t_bes ρ) a D) (hD0 : ∀ c : Int, 0 ≤ c → c < 80 → ¬ x_c8 c → D c = -1) : e_C mX4_along [.ref 379, e_i s, e_j z] (x_H χ h0) 0 0 2 (x_PY D χ h0) := by
  refine e_enter (al0 := [.ref 379, e_i s, e_j z, .retAddr 0, .retAddr 0, .retAddr 0, .retAddr 0]) (by decide +kernel) rfl (Nat.le_of_ble_eq_true rfl) ?_
  subst hs
  subst hz1
  have ras := x_sp_rg ha
  refine e_aload_n dX4_along_0 rfl ?_
  refine e_iload_n dX4_along_1 rfl ?_
  refine e_callV1vz (ci := 4) dX4_along_2 md_X4_begins lk_X4_32 rfl q1289 qs36 (x_o4 _ _) (by decide) rfl (Nat.le_of_ble_eq_true rfl) (C_X4_begins ⟨by omega, by omega⟩) ?_
  refine e_iconst dX4_along_5 ?_
  refine e_istore4 dX4_along_6 rfl ?_
  have v0 := x_V0 (L := (fun c d => t_bes ρ c d ≠ -1 ∧ g (t_bes ρ c d) = 1)) (nb := t_bes ρ) ha χ
  have w0 := x_bg_k χ (x_sp a)
  generalize x_bg χ (x_sp a) = χ2 at v0 w0 ⊢
  refine e_for (n := 64) (F := fun k => ∀ χ3, x_V ((fun c d => t_bes ρ c d ≠ -1 ∧ g (t_bes ρ c d) = 1)) (t_bes ρ) a k 0 χ3 → x_fW χ χ3 → e_E mX4_along 8 [.ref 379, e_i (x_sp a), e_j (x_bs g), .retAddr 0, e_i k, .retAddr 0, .retAddr 0] [] (x_H χ3 h0) 0 0 2 (x_PY D χ h0)) (by omega) (fun χ3 v w => ?_) (fun k hk0 hk1 hF χ3 v w => ?_) χ2 v0 w0
  · have v1 := v.1
    refine e_iload dX4_along_8 rfl ?_
    refine e_aload_n dX4_along_10 rfl ?_
    refine e_getV (e_i _) dX4_along_11 fl_X4_28 (x_o4 _ _) rfl ?_
    refine e_icmp_ge (tgt := 84) dX4_along_14 rfl ⟨by omega, by omega⟩ ⟨by omega, by omega⟩ (fun c1 => ?_) (fun q => by exfalso; omega)
    refine e_aload_n dX4_along_84 rfl ?_
    refine e_areturn dX4_along_85 rfl (Or.inl ⟨_, rfl⟩) ?_
    exact ⟨rfl, χ3, w, x_V_Dn v (by omega) hD hD0, rfl⟩
  · have v1 := v.1
    have v8 := v
    refine e_iload dX4_along_8 rfl ?_
    refine e_aload_n dX4_along_10 rfl ?_
    refine e_getV (e_i _) dX4_along_11 fl_X4_28 (x_o4 _ _) rfl ?_
    refine e_icmp_ge (tgt := 84) dX4_along_14 rfl ⟨by omega, by omega⟩ ⟨by omega, by omega⟩ (fun c2 => ?_) (fun c2 => ?_)
    · refine e_aload_n dX4_along_84 rfl ?_
      refine e_areturn dX4_along_85 rfl (Or.inl ⟨_, rfl⟩) ?_
      exact ⟨rfl, χ3, w, x_V_Dn v (by omega) hD hD0, rfl⟩
    · refine e_iconst dX4_along_17 ?_
      refine e_istore5 dX4_along_18 rfl ?_
      have hk : k < χ3 30 0 := by omega
      refine e_for (n := 4) (F := fun d => ∀ χ4, x_V ((fun c d => t_bes ρ c d ≠ -1 ∧ g (t_bes ρ c d) = 1)) (t_bes ρ) a k d χ4 → x_fW χ χ4 → k < χ4 30 0 → e_E mX4_along 20 [.ref 379, e_i (x_sp a), e_j (x_bs g), .retAddr 0, e_i k, e_i d, .retAddr 0] [] (x_H χ4 h0) 0 0 2 (x_PY D χ h0)) (by omega) (fun χ4 v w hk => ?_) (fun d hd0 hd1 hG χ4 v4 w hk => ?_) χ3 v w hk
      · refine e_iload dX4_along_20 rfl ?_
        refine e_iconst dX4_along_22 ?_
        refine e_icmp_ge (tgt := 78) dX4_along_23 rfl ⟨by omega, by omega⟩ ⟨by omega, by omega⟩ (fun c3 => ?_) (fun q => by exfalso; omega)
        refine e_iinc4 dX4_along_78 rfl ?_
        refine e_goto (tgt := 8) dX4_along_81 rfl ?_
        exact e_fgs [5, 6] (hF χ4 (x_V_nx v hk) w)
      · have hq := v4.2.1 k hk0 hk
        obtain ⟨c, c8, hc⟩ : ∃ c, x_c8 c ∧ χ4 29 k = x_sp c := ⟨x_ce (χ4 29 k), (x_ce_rg hq.1).1, (x_ce_rg hq.1).2.symm⟩
        have rcs := x_sp_rg c8
        have A := x_at_fW w A0
        have hcn := x_bes_cn hz c d
        have hts := (x_cn_sp hcn).1
        have htn := (x_cn_sp hcn).2
        refine e_iload dX4_along_20 rfl ?_
        refine e_iconst dX4_along_22 ?_
        refine e_icmp_ge (tgt := 78) dX4_along_23 rfl ⟨by omega, by omega⟩ ⟨by omega, by omega⟩ (fun q => by exfalso; omega) (fun c4 => ?_)
        refine e_aload_n dX4_along_26 rfl ?_
        refine e_getV (.ref 350) dX4_along_27 fl_X4_3 (x_o4 _ _) rfl ?_
        refine e_aload_n dX4_along_30 rfl ?_
        refine e_getV (.ref (x_ai 29)) dX4_along_31 fl_X4_19 (x_o4 _ _) rfl ?_
        refine e_iload dX4_along_34 rfl ?_
        refine x_ild 64 dX4_along_36 rfl (by decide) (fun _ => rfl) rfl ⟨by omega, by omega⟩ ?_
        refine e_iload dX4_along_37 rfl ?_
        rw [hc]
        refine e_callV2rz (ci := 0) dX4_along_39 md_X0_beside lk_X4_36 rfl q1177 qs27 (x_o0 _ _) (by decide) rfl (Nat.le_of_ble_eq_true rfl) (C_X0_beside A hz c8 ⟨by omega, by omega⟩) ?_
        refine e_istore6 dX4_along_42 rfl ?_
        refine e_iload dX4_along_44 rfl ?_
        refine e_iconst dX4_along_46 ?_
        refine e_icmp_eq (tgt := 72) dX4_along_47 rfl ⟨by omega, by omega⟩ ⟨by omega, by omega⟩ (fun c5 => ?_) (fun c5 => ?_)
        · refine e_iinc5 dX4_along_72 rfl ?_
          refine e_goto (tgt := 20) dX4_along_75 rfl ?_
          first
            | exact e_fgt 6 (hG _ (x_V_go1 hc c8 hk v4 ⟨hd0, hd1⟩ ⟨by omega, by omega⟩ (hcn.elim (fun z => absurd z (by omega)) id)) (x_fW_cm w _ _) (Int.lt_of_lt_of_le hk (x_cm_30 _ _ _)))
            | exact e_fgt 6 (hG _ (x_V_no1 hc c8 v4 (fun z => by have z1 := z.1; have z2 := z.2; omega)) w hk)
        · refine e_lload_n dX4_along_50 rfl ?_
          refine e_iload dX4_along_51 rfl ?_
          have hbt := x_cn_bt hg hcn (by omega)
          refine e_callS2rz dX4_along_53 md_X0_isIn lk_X4_40 rfl q1188 rfl (Nat.le_of_ble_eq_true rfl) (C_X0_isIn (x_bs_rg _) ⟨by omega, by omega⟩) ?_
          refine e_bif_eq (tgt := 72) dX4_along_56 rfl (fun c6 => ?_) (fun c6 => ?_)
          · refine e_iinc5 dX4_along_72 rfl ?_
            refine e_goto (tgt := 20) dX4_along_75 rfl ?_
            first
              | exact e_fgt 6 (hG _ (x_V_go1 hc c8 hk v4 ⟨hd0, hd1⟩ ⟨by omega, by omega⟩ (hcn.elim (fun z => absurd z (by omega)) id)) (x_fW_cm w _ _) (Int.lt_of_lt_of_le hk (x_cm_30 _ _ _)))
              | exact e_fgt 6 (hG _ (x_V_no1 hc c8 v4 (fun z => by have z1 := z.1; have z2 := z.2; omega)) w hk)
          · refine e_aload_n dX4_along_59 rfl ?_
            refine e_aload_n dX4_along_60 rfl ?_
            refine e_getV (.ref (x_ai 29)) dX4_along_61 fl_X4_19 (x_o4 _ _) rfl ?_
            refine e_iload dX4_along_64 rfl ?_
            refine x_ild 64 dX4_along_66 rfl (by decide) (fun _ => rfl) rfl ⟨by omega, by omega⟩ ?_
            refine e_iload dX4_along_67 rfl ?_
            rw [hc]
            refine e_callV2vz (ci := 4) dX4_along_69 md_X4_comes lk_X4_44 rfl q1296 qs37 (x_o4 _ _) (by decide) rfl (Nat.le_of_ble_eq_true rfl) (C_X4_comes ⟨by omega, by omega⟩ hts (fun s s0 s1 => by have := v4.2.2.2.2.2.2.2.1 s s0 s1; have := v4.1.1; omega) (fun z1 z2 => x_V_rm v4 ⟨by omega, by omega⟩ z2)) ?_
            refine e_iinc5 dX4_along_72 rfl ?_
            refine e_goto (tgt := 20) dX4_along_75 rfl ?_
            first
              | exact e_fgt 6 (hG _ (x_V_go1 hc c8 hk v4 ⟨hd0, hd1⟩ ⟨by omega, by omega⟩ (hcn.elim (fun z => absurd z (by omega)) id)) (x_fW_cm w _ _) (Int.lt_of_lt_of_le hk (x_cm_30 _ _ _)))
              | exact e_fgt 6 (hG _ (x_V_no1 hc c8 v4 (fun z => by have z1 := z.1; have z2 := z.2; omega)) w hk)
theorem C_X4_isBut {ρ χ : t_S} {h0 : e_A} {α : Nat → Nat} (A : x_at χ h0 (ρ 1) α) (hz : t_sz ρ) {s c d t b w : Int} (hs : s = x_sp c) (hc : x_c8 c) (hd : 0 ≤ d ∧ d < 4) (ht : t = x_sp b) (hb : x_cn b) (hw : -1 ≤ w ∧ w < 4) : e_C mX4_isBut [.ref 379, e_i s, e_i d, e_i t, e_i w] (x_H χ h0) 0 0 2 (e_ret (e_i (if (c = b ∧ d = w) ∨ (t_bes ρ c d = b ∧ (d + 2) % 4 = w) then 1 else 0)) (x_H χ h0)) := by
  refine e_enter (al0 := [.ref 379, e_i s, e_i d, e_i t, e_i w]) (by decide +kernel) rfl (Nat.le_of_ble_eq_true rfl) ?_
  subst hs
  subst ht
  have rcs := x_sp_rg hc
  have rb := (x_cn_sp hb).1
  have rt := (x_cn_sp (x_bes_cn hz c d)).1
  have i1 := x_cn_inj (Or.inr hc) hb
  have i2 := x_cn_inj (x_bes_cn hz c d) hb
  refine e_iload_n dX4_isBut_0 rfl ?_
  refine e_iload_n dX4_isBut_1 rfl ?_
  refine e_icmp_ne (tgt := 11) dX4_isBut_2 rfl ⟨by omega, by omega⟩ ⟨by omega, by omega⟩ (fun c1 => ?_) (fun c1 => ?_)
  · refine e_aload_n dX4_isBut_11 rfl ?_
    refine e_getV (.ref 350) dX4_isBut_12 fl_X4_3 (x_o4 _ _) rfl ?_
    refine e_iload_n dX4_isBut_15 rfl ?_
    refine e_iload_n dX4_isBut_16 rfl ?_
    refine e_callV2rz (ci := 0) dX4_isBut_17 md_X0_beside lk_X4_36 rfl q1177 qs27 (x_o0 _ _) (by decide) rfl (Nat.le_of_ble_eq_true rfl) (C_X0_beside A hz hc hd) ?_
    refine e_iload_n dX4_isBut_20 rfl ?_
    refine e_icmp_ne (tgt := 38) dX4_isBut_21 rfl ⟨by omega, by omega⟩ ⟨by omega, by omega⟩ (fun c2 => ?_) (fun c2 => ?_)
    · refine e_iconst dX4_isBut_38 ?_
      refine e_ireturn dX4_isBut_39 rfl rfl ?_
      refine e_rv ?_ rfl
      first
        | (rw [if_pos (by omega)]; done)
        | (rw [if_neg (by omega)]; done)
    · refine e_iload_n dX4_isBut_24 rfl ?_
      refine e_iconst dX4_isBut_25 ?_
      refine e_iadd dX4_isBut_26 ?_
      refine e_iconst dX4_isBut_27 ?_
      refine e_irem dX4_isBut_28 ⟨by omega, by omega⟩ ⟨by omega, by omega⟩ ?_
      refine e_iload dX4_isBut_29 rfl ?_
      refine e_icmp_ne (tgt := 38) dX4_isBut_31 rfl ⟨by omega, by omega⟩ ⟨by omega, by omega⟩ (fun c3 => ?_) (fun c3 => ?_)
      · refine e_iconst dX4_isBut_38 ?_
        refine e_ireturn dX4_isBut_39 rfl rfl ?_
        refine e_rv ?_ rfl
        first
          | (rw [if_pos (by omega)]; done)
          | (rw [if_neg (by omega)]; done)
      · refine e_iconst dX4_isBut_34 ?_
        refine e_goto (tgt := 39) dX4_isBut_35 rfl ?_
        refine e_ireturn dX4_isBut_39 rfl rfl ?_
        refine e_rv ?_ rfl
        first
          | (rw [if_pos (by omega)]; done)
          | (rw [if_neg (by omega)]; done)
  · refine e_iload_n dX4_isBut_5 rfl ?_
    refine e_iload dX4_isBut_6 rfl ?_
    refine e_icmp_eq (tgt := 34) dX4_isBut_8 rfl ⟨by omega, by omega⟩ ⟨by omega, by omega⟩ (fun c4 => ?_) (fun c4 => ?_)
    · refine e_iconst dX4_isBut_34 ?_
      refine e_goto (tgt := 39) dX4_isBut_35 rfl ?_
      refine e_ireturn dX4_isBut_39 rfl rfl ?_
      refine e_rv ?_ rfl
      first
        | (rw [if_pos (by omega)]; done)
        | (rw [if_neg (by omega)]; done)
    · refine e_aload_n dX4_isBut_11 rfl ?_
      refine e_getV (.ref 350) dX4_isBut_12 fl_X4_3 (x_o4 _ _) rfl ?_
      refine e_iload_n dX4_isBut_15 rfl ?_
      refine e_iload_n dX4_isBut_16 rfl ?_
      refine e_callV2rz (ci := 0) dX4_isBut_17 md_X0_beside lk_X4_36 rfl q1177 qs27 (x_o0 _ _) (by decide) rfl (Nat.le_of_ble_eq_true rfl) (C_X0_beside A hz hc hd) ?_
      refine e_iload_n dX4_isBut_20 rfl ?_
      refine e_icmp_ne (tgt := 38) dX4_isBut_21 rfl ⟨by omega, by omega⟩ ⟨by omega, by omega⟩ (fun c5 => ?_) (fun c5 => ?_)
      · refine e_iconst dX4_isBut_38 ?_
        refine e_ireturn dX4_isBut_39 rfl rfl ?_
        refine e_rv ?_ rfl
        first
          | (rw [if_pos (by omega)]; done)
          | (rw [if_neg (by omega)]; done)
      · refine e_iload_n dX4_isBut_24 rfl ?_
        refine e_iconst dX4_isBut_25 ?_
        refine e_iadd dX4_isBut_26 ?_
        refine e_iconst dX4_isBut_27 ?_
        refine e_irem dX4_isBut_28 ⟨by omega, by omega⟩ ⟨by omega, by omega⟩ ?_
        refine e_iload dX4_isBut_29 rfl ?_
        refine e_icmp_ne (tgt := 38) dX4_isBut_31 rfl ⟨by omega, by omega⟩ ⟨by omega, by omega⟩ (fun c6 => ?_) (fun c6 => ?_)
        · refine e_iconst dX4_isBut_38 ?_
          refine e_ireturn dX4_isBut_39 rfl rfl ?_
          refine e_rv ?_ rfl
          first
            | (rw [if_pos (by omega)]; done)
            | (rw [if_neg (by omega)]; done)
        · refine e_iconst dX4_isBut_34 ?_
          refine e_goto (tgt := 39) dX4_isBut_35 rfl ?_
          refine e_ireturn dX4_isBut_39 rfl rfl ?_
          refine e_rv ?_ rfl
          first
            | (rw [if_pos (by omega)]; done)
            | (rw [if_neg (by omega)]; done)
theorem C_X4_by_2 {ρ χ : t_S} {h0 : e_A} {α : Nat → Nat} (A0 : x_at χ h0 (ρ 1) α) (hz : t_sz ρ) (F : z_F ρ) (N0 : x_An ρ χ) {a s y t b bw : Int} (hs : s = x_sp a) (ha : x_c8 a) (hy : 0 ≤ y ∧ y ≤ ρ 1 0) (ht : t = x_sp b) (hb : x_cn b) (hbw : -1 ≤ bw ∧ bw < 4) {D : Int → Int} (hD : x_D (fun c d => e_bt (ρ 31 (80 * y + c)) d = 1 ∧ ¬ ((c = b ∧ d = bw) ∨ (t_bes ρ c d = b ∧ (d + 2) % 4 = bw))) (t_bes ρ) a D) (hD0 : ∀ c : Int, 0 ≤ c → c < 80 → ¬ x_c8 c → D c = -1) : e_C mX4_by_2 [.ref 379, e_i s, e_i y, e_i t, e_i bw] (x_H χ h0) 0 0 4 (x_PY D χ h0) := by
  refine e_enter (al0 := [.ref 379, e_i s, e_i y, e_i t, e_i bw, .retAddr 0, .retAddr 0]) (by decide +kernel) rfl (Nat.le_of_ble_eq_true rfl) ?_
  subst hs
  have ras := x_sp_rg ha
  have s0 : 0 ≤ ρ 1 0 ∧ ρ 1 0 ≤ 12 := hz.1
  refine e_aload_n dX4_by_2_0 rfl ?_
  refine e_iload_n dX4_by_2_1 rfl ?_
  refine e_callV1vz (ci := 4) dX4_by_2_2 md_X4_begins lk_X4_32 rfl q1289 qs36 (x_o4 _ _) (by decide) rfl (Nat.le_of_ble_eq_true rfl) (C_X4_begins ⟨by omega, by omega⟩) ?_
  refine e_iconst dX4_by_2_5 ?_
  refine e_istore5 dX4_by_2_6 rfl ?_
  have v0 := x_V0 (L := (fun c d => e_bt (ρ 31 (80 * y + c)) d = 1 ∧ ¬ ((c = b ∧ d = bw) ∨ (t_bes ρ c d = b ∧ (d + 2) % 4 = bw)))) (nb := t_bes ρ) ha χ
  have w0 := x_bg_k χ (x_sp a)
  generalize x_bg χ (x_sp a) = χ2 at v0 w0 ⊢
  refine e_for (n := 64) (F := fun k => ∀ χ3, x_V ((fun c d => e_bt (ρ 31 (80 * y + c)) d = 1 ∧ ¬ ((c = b ∧ d = bw) ∨ (t_bes ρ c d = b ∧ (d + 2) % 4 = bw)))) (t_bes ρ) a k 0 χ3 → x_fW χ χ3 → e_E mX4_by_2 8 [.ref 379, e_i (x_sp a), e_i y, e_i t, e_i bw, e_i k, .retAddr 0] [] (x_H χ3 h0) 0 0 4 (x_PY D χ h0)) (by omega) (fun χ3 v w => ?_) (fun k hk0 hk1 hF χ3 v w => ?_) χ2 v0 w0
  · have v1 := v.1
    refine e_iload dX4_by_2_8 rfl ?_
    refine e_aload_n dX4_by_2_10 rfl ?_
    refine e_getV (e_i _) dX4_by_2_11 fl_X4_28 (x_o4 _ _) rfl ?_
    refine e_icmp_ge (tgt := 107) dX4_by_2_14 rfl ⟨by omega, by omega⟩ ⟨by omega, by omega⟩ (fun c1 => ?_) (fun q => by exfalso; omega)
    refine e_aload_n dX4_by_2_107 rfl ?_
    refine e_areturn dX4_by_2_108 rfl (Or.inl ⟨_, rfl⟩) ?_
    exact ⟨rfl, χ3, w, x_V_Dn v (by omega) hD hD0, rfl⟩
  · have v1 := v.1
    have v8 := v
    refine e_iload dX4_by_2_8 rfl ?_
    refine e_aload_n dX4_by_2_10 rfl ?_
    refine e_getV (e_i _) dX4_by_2_11 fl_X4_28 (x_o4 _ _) rfl ?_
    refine e_icmp_ge (tgt := 107) dX4_by_2_14 rfl ⟨by omega, by omega⟩ ⟨by omega, by omega⟩ (fun c2 => ?_) (fun c2 => ?_)
    · refine e_aload_n dX4_by_2_107 rfl ?_
      refine e_areturn dX4_by_2_108 rfl (Or.inl ⟨_, rfl⟩) ?_
      exact ⟨rfl, χ3, w, x_V_Dn v (by omega) hD hD0, rfl⟩
    · refine e_iconst dX4_by_2_17 ?_
      refine e_istore6 dX4_by_2_18 rfl ?_
      have hk : k < χ3 30 0 := by omega
      refine e_for (n := 4) (F := fun d => ∀ χ4, x_V ((fun c d => e_bt (ρ 31 (80 * y + c)) d = 1 ∧ ¬ ((c = b ∧ d = bw) ∨ (t_bes ρ c d = b ∧ (d + 2) % 4 = bw)))) (t_bes ρ) a k d χ4 → x_fW χ χ4 → k < χ4 30 0 → e_E mX4_by_2 20 [.ref 379, e_i (x_sp a), e_i y, e_i t, e_i bw, e_i k, e_i d] [] (x_H χ4 h0) 0 0 4 (x_PY D χ h0)) (by omega) (fun χ4 v w hk => ?_) (fun d hd0 hd1 hG χ4 v4 w hk => ?_) χ3 v w hk
      · refine e_iload dX4_by_2_20 rfl ?_
        refine e_iconst dX4_by_2_22 ?_
        refine e_icmp_ge (tgt := 101) dX4_by_2_23 rfl ⟨by omega, by omega⟩ ⟨by omega, by omega⟩ (fun c3 => ?_) (fun q => by exfalso; omega)
        refine e_iinc5 dX4_by_2_101 rfl ?_
        refine e_goto (tgt := 8) dX4_by_2_104 rfl ?_
        exact e_fgs [6] (hF χ4 (x_V_nx v hk) w)
      · have hq := v4.2.1 k hk0 hk
        obtain ⟨c, c8, hc⟩ : ∃ c, x_c8 c ∧ χ4 29 k = x_sp c := ⟨x_ce (χ4 29 k), (x_ce_rg hq.1).1, (x_ce_rg hq.1).2.symm⟩
        have rcs := x_sp_rg c8
        have A := x_at_fW w A0
        have hcn := x_bes_cn hz c d
        have hts := (x_cn_sp hcn).1
        have htn := (x_cn_sp hcn).2
        have N := x_An_fW w N0
        have hp := (x_pgF F hy (c := c) ⟨c8.1, c8.2.1⟩).2.1 d hd0 hd1
        refine e_iload dX4_by_2_20 rfl ?_
        refine e_iconst dX4_by_2_22 ?_
        refine e_icmp_ge (tgt := 101) dX4_by_2_23 rfl ⟨by omega, by omega⟩ ⟨by omega, by omega⟩ (fun q => by exfalso; omega) (fun c4 => ?_)
        refine e_aload_n dX4_by_2_26 rfl ?_
        refine e_getV (.ref 350) dX4_by_2_27 fl_X4_3 (x_o4 _ _) rfl ?_
        refine e_getV (.ref 366) dX4_by_2_30 fl_X4_48 (x_o0 _ _) rfl ?_
        refine e_aload_n dX4_by_2_33 rfl ?_
        refine e_getV (.ref (x_ai 29)) dX4_by_2_34 fl_X4_19 (x_o4 _ _) rfl ?_
        refine e_iload dX4_by_2_37 rfl ?_
        refine x_ild 64 dX4_by_2_39 rfl (by decide) (fun _ => rfl) rfl ⟨by omega, by omega⟩ ?_
        refine e_iload dX4_by_2_40 rfl ?_
        refine e_iload_n dX4_by_2_42 rfl ?_
        refine e_callV3rz (ci := 3) dX4_by_2_43 md_X3_isPeg lk_X4_52 rfl q1336 q1337 (x_o3 _ _) (by decide) rfl (Nat.le_of_ble_eq_true rfl) (C_X3_isPeg A hz F N hc c8 ⟨hd0, hd1⟩ hy) ?_
        refine e_bif_eq (tgt := 95) dX4_by_2_46 rfl (fun c5 => ?_) (fun c5 => ?_)
        · refine e_iinc6 dX4_by_2_95 rfl ?_
          refine e_goto (tgt := 20) dX4_by_2_98 rfl ?_
          first
            | exact hG _ (x_V_go1 hc c8 hk v4 ⟨hd0, hd1⟩ ⟨by assumption, by assumption⟩ h8) (x_fW_cm w _ _) (Int.lt_of_lt_of_le hk (x_cm_30 _ _ _))
            | exact hG _ (x_V_no1 hc c8 v4 (fun z => absurd z.1 (by assumption))) w hk
            | exact hG _ (x_V_no1 hc c8 v4 (fun z => z.2 (by assumption))) w hk
        · refine e_aload_n dX4_by_2_49 rfl ?_
          refine e_aload_n dX4_by_2_50 rfl ?_
          refine e_getV (.ref (x_ai 29)) dX4_by_2_51 fl_X4_19 (x_o4 _ _) rfl ?_
          refine e_iload dX4_by_2_54 rfl ?_
          refine x_ild 64 dX4_by_2_56 rfl (by decide) (fun _ => rfl) rfl ⟨by omega, by omega⟩ ?_
          refine e_iload dX4_by_2_57 rfl ?_
          refine e_iload_n dX4_by_2_59 rfl ?_
          refine e_iload dX4_by_2_60 rfl ?_
          refine e_callV4rz (ci := 4) dX4_by_2_62 md_X4_isBut lk_X4_58 rfl q1378 qs42 (x_o4 _ _) (by decide) rfl (Nat.le_of_ble_eq_true rfl) (C_X4_isBut A hz hc c8 ⟨hd0, hd1⟩ ht hb hbw) ?_
          refine e_bif_ne (tgt := 95) dX4_by_2_65 rfl (fun c6 => ?_) (fun c6 => ?_)
          · refine e_iinc6 dX4_by_2_95 rfl ?_
            refine e_goto (tgt := 20) dX4_by_2_98 rfl ?_
            first
              | exact hG _ (x_V_go1 hc c8 hk v4 ⟨hd0, hd1⟩ ⟨by assumption, by assumption⟩ h8) (x_fW_cm w _ _) (Int.lt_of_lt_of_le hk (x_cm_30 _ _ _))
              | exact hG _ (x_V_no1 hc c8 v4 (fun z => absurd z.1 (by assumption))) w hk
              | exact hG _ (x_V_no1 hc c8 v4 (fun z => z.2 (by assumption))) w hk
          · have h8 := hcn.elim (fun z => absurd z (hp (by assumption)).1) id
            have r8 := x_sp_rg h8
            refine e_aload_n dX4_by_2_68 rfl ?_
            refine e_aload_n dX4_by_2_69 rfl ?_
            refine e_getV (.ref (x_ai 29)) dX4_by_2_70 fl_X4_19 (x_o4 _ _) rfl ?_
            refine e_iload dX4_by_2_73 rfl ?_
            refine x_ild 64 dX4_by_2_75 rfl (by decide) (fun _ => rfl) rfl ⟨by omega, by omega⟩ ?_
            refine e_aload_n dX4_by_2_76 rfl ?_
            refine e_getV (.ref 350) dX4_by_2_77 fl_X4_3 (x_o4 _ _) rfl ?_
            refine e_aload_n dX4_by_2_80 rfl ?_
            refine e_getV (.ref (x_ai 29)) dX4_by_2_81 fl_X4_19 (x_o4 _ _) rfl ?_
            refine e_iload dX4_by_2_84 rfl ?_
            refine x_ild 64 dX4_by_2_86 rfl (by decide) (fun _ => rfl) rfl ⟨by omega, by omega⟩ ?_
            refine e_iload dX4_by_2_87 rfl ?_
            rw [hc]
            refine e_callV2rz (ci := 0) dX4_by_2_89 md_X0_beside lk_X4_36 rfl q1177 qs27 (x_o0 _ _) (by decide) rfl (Nat.le_of_ble_eq_true rfl) (C_X0_beside A hz c8 ⟨by omega, by omega⟩) ?_
            refine e_callV2vz (ci := 4) dX4_by_2_92 md_X4_comes lk_X4_44 rfl q1296 qs37 (x_o4 _ _) (by decide) rfl (Nat.le_of_ble_eq_true rfl) (C_X4_comes ⟨by omega, by omega⟩ hts (fun s s0 s1 => by have := v4.2.2.2.2.2.2.2.1 s s0 s1; have := v4.1.1; omega) (fun z1 z2 => x_V_rm v4 ⟨by omega, by omega⟩ z2)) ?_
            refine e_iinc6 dX4_by_2_95 rfl ?_
            refine e_goto (tgt := 20) dX4_by_2_98 rfl ?_
            first
              | exact hG _ (x_V_go1 hc c8 hk v4 ⟨hd0, hd1⟩ ⟨by assumption, by assumption⟩ h8) (x_fW_cm w _ _) (Int.lt_of_lt_of_le hk (x_cm_30 _ _ _))
              | exact hG _ (x_V_no1 hc c8 v4 (fun z => absurd z.1 (by assumption))) w hk
              | exact hG _ (x_V_no1 hc c8 v4 (fun z => z.2 (by assumption))) w hk
theorem x_by_L {ρ : t_S} (F : z_F ρ) {y a : Int} (hy : 0 ≤ y ∧ y ≤ ρ 1 0) {D : Int → Int} (hD : x_D (fun c d => t_lead ρ c d y) (t_bes ρ) a D) : x_D (fun c d => e_bt (ρ 31 (80 * y + c)) d = 1 ∧ ¬ ((c = -1 ∧ d = -1) ∨ (t_bes ρ c d = -1 ∧ (d + 2) % 4 = -1))) (t_bes ρ) a D := by
  refine x_D_cg (fun c d hc d0 d1 => ?_) (fun _ _ => rfl) hD
  have hp := (x_pgF F hy (c := c) ⟨hc.1, hc.2.1⟩).2.1 d d0 d1
  have c0 := hc.1
  constructor
  · intro h
    refine ⟨?_, fun z => by omega⟩
    rcases h.2 with q | q
    · omega
    · exact q.2
  · intro h
    exact ⟨(hp h.1).1, Or.inr ⟨by omega, h.1⟩⟩
theorem C_X4_by {ρ χ : t_S} {h0 : e_A} {α : Nat → Nat} (A0 : x_at χ h0 (ρ 1) α) (hz : t_sz ρ) (F : z_F ρ) (N0 : x_An ρ χ) {a s y : Int} (hs : s = x_sp a) (ha : x_c8 a) (hy : 0 ≤ y ∧ y ≤ ρ 1 0) {D : Int → Int} (hD : x_D (fun c d => t_lead ρ c d y) (t_bes ρ) a D) (hD0 : ∀ c : Int, 0 ≤ c → c < 80 → ¬ x_c8 c → D c = -1) : e_C mX4_by [.ref 379, e_i s, e_i y] (x_H χ h0) 0 0 5 (x_PY D χ h0) := by
  refine e_enter (al0 := [.ref 379, e_i s, e_i y]) (by decide +kernel) rfl (Nat.le_of_ble_eq_true rfl) ?_
  refine e_aload_n dX4_by_0 rfl ?_
  refine e_iload_n dX4_by_1 rfl ?_
  refine e_iload_n dX4_by_2 rfl ?_
  refine e_iconst dX4_by_3 ?_
  refine e_iconst dX4_by_4 ?_
  refine e_bud (kc1 := 0 + 0) (ks1 := 0 + 0) (by decide) (by decide) ?_
  refine e_callV4 (M1 := mX4_by_2) (kc := 0) (ks := 0) (mc := 0) (ms := 0) (ci := 4) dX4_by_5 lk_X4_62 md_X4_by_2 rfl q1372 q1373 (x_o4 _ _) (by decide) rfl (Nat.le_of_ble_eq_true rfl) (C_X4_by_2 A0 hz F N0 hs ha hy (b := -1) rfl (Or.inl rfl) ⟨by omega, by omega⟩ (x_by_L F hy hD) hD0) (fun a hh q => ?_) (fun i hh q => by cases q.1)
  obtain ⟨q1, χ2, hw, hDn, rfl⟩ := q
  cases q1
  show e_E _ _ _ (_ :: _) _ _ _ _ _
  refine e_areturn dX4_by_8 rfl (Or.inl ⟨_, rfl⟩) ?_
  exact ⟨rfl, χ2, hw, hDn, rfl⟩
