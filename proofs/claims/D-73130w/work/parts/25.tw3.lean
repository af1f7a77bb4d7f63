/-! THE TWIN: questions (printed by tw3.py) -/
set_option maxRecDepth 100000
theorem C_X6_asksColony {σ : t_S} {h0 : e_A} (hz : t_sz σ) (hr : t_okR (σ 1)) : e_C mX6_asksColony [.ref 384] (t_H σ h0) 0 0 6 (e_ret (e_i (if t_isC (t_af σ) then 1 else 0)) (t_H (t_af σ) h0)) := by
  refine e_enter (al0 := [.ref 384]) (by decide +kernel) rfl (Nat.le_of_ble_eq_true rfl) ?_
  refine e_aload_n dX6_asksColony_0 rfl ?_
  refine e_callV0vz (ci := 6) dX6_asksColony_1 md_X6_asItIs lk_X6_329 rfl q2084 qs85 (t_obj _ _) (by decide) rfl (Nat.le_of_ble_eq_true rfl) (C_X6_asItIs hz hr) ?_
  refine e_aload_n dX6_asksColony_4 rfl ?_
  refine e_callV0vz (ci := 6) dX6_asksColony_5 md_X6_goAll lk_X6_332 rfl q2092 qs87 (t_obj _ _) (by decide) rfl (Nat.le_of_ble_eq_true rfl) (C_X6_goAll (t_is_ask hz hr)) ?_
  refine e_aload_n dX6_asksColony_8 rfl ?_
  refine e_callV0rz (ci := 6) dX6_asksColony_9 md_X6_isColony lk_X6_114 rfl q2149 qs99 (t_obj _ _) (by decide) rfl (Nat.le_of_ble_eq_true rfl) (C_X6_isColony (t_af_hist hz hr).1.1) ?_
  refine e_ireturn dX6_asksColony_12 rfl e_nB ?_
  exact ⟨rfl, rfl⟩
theorem C_X6_asksYear {σ : t_S} {h0 : e_A} (hz : t_sz σ) (hr : t_okR (σ 1)) {y : Int} (hy : e_rg y) : e_C mX6_asksYear [.ref 384, e_i y] (t_H σ h0) 0 0 7 (e_ret (e_i (if t_isY (t_af σ) y then 1 else 0)) (t_H (t_af σ) h0)) := by
  refine e_enter (al0 := [.ref 384, e_i y]) (by decide +kernel) rfl (Nat.le_of_ble_eq_true rfl) ?_
  refine e_aload_n dX6_asksYear_0 rfl ?_
  refine e_callV0rz (ci := 6) dX6_asksYear_1 md_X6_asksColony lk_X6_335 rfl q2080 qs84 (t_obj _ _) (by decide) rfl (Nat.le_of_ble_eq_true rfl) (C_X6_asksColony hz hr) ?_
  refine e_pop dX6_asksYear_4 rfl ?_
  refine e_aload_n dX6_asksYear_5 rfl ?_
  refine e_iload_n dX6_asksYear_6 rfl ?_
  refine e_i2l dX6_asksYear_7 ⟨by omega, by omega⟩ ?_
  refine e_callV1rz (ci := 6) dX6_asksYear_8 md_X6_isYear lk_X6_338 rfl q2219 qs108 (t_obj _ _) (by decide) rfl (Nat.le_of_ble_eq_true rfl) (C_X6_isYear (t_af_hist hz hr).1.1 ⟨by omega, by omega⟩) ?_
  refine e_ireturn dX6_asksYear_11 rfl e_nB ?_
  exact ⟨rfl, rfl⟩
theorem C_X6_asksWidow {σ : t_S} {h0 : e_A} (hz : t_sz σ) (hr : t_okR (σ 1)) {w : Int} (hw : e_rg w) : e_C mX6_asksWidow [.ref 384, e_i w] (t_H σ h0) 0 0 7 (e_ret (e_i (if t_isW (t_af σ) w then 1 else 0)) (t_H (t_af σ) h0)) := by
  refine e_enter (al0 := [.ref 384, e_i w]) (by decide +kernel) rfl (Nat.le_of_ble_eq_true rfl) ?_
  refine e_aload_n dX6_asksWidow_0 rfl ?_
  refine e_callV0rz (ci := 6) dX6_asksWidow_1 md_X6_asksColony lk_X6_335 rfl q2080 qs84 (t_obj _ _) (by decide) rfl (Nat.le_of_ble_eq_true rfl) (C_X6_asksColony hz hr) ?_
  refine e_pop dX6_asksWidow_4 rfl ?_
  refine e_aload_n dX6_asksWidow_5 rfl ?_
  refine e_iload_n dX6_asksWidow_6 rfl ?_
  refine e_i2l dX6_asksWidow_7 ⟨by omega, by omega⟩ ?_
  refine e_callV1rz (ci := 6) dX6_asksWidow_8 md_X6_isWidow lk_X6_261 rfl q2055 qs80 (t_obj _ _) (by decide) rfl (Nat.le_of_ble_eq_true rfl) (C_X6_isWidow (t_af_hist hz hr).1.1 ⟨by omega, by omega⟩) ?_
  refine e_ireturn dX6_asksWidow_11 rfl e_nB ?_
  exact ⟨rfl, rfl⟩
theorem C_X6_asksCell {σ : t_S} {h0 : e_A} (hz : t_sz σ) (hr : t_okR (σ 1)) {c : Int} (hc : e_rg c) : e_C mX6_asksCell [.ref 384, e_i c] (t_H σ h0) 0 0 7 (e_ret (e_i (if t_isCell (t_af σ) c then 1 else 0)) (t_H (t_af σ) h0)) := by
  refine e_enter (al0 := [.ref 384, e_i c]) (by decide +kernel) rfl (Nat.le_of_ble_eq_true rfl) ?_
  refine e_aload_n dX6_asksCell_0 rfl ?_
  refine e_callV0rz (ci := 6) dX6_asksCell_1 md_X6_asksColony lk_X6_335 rfl q2080 qs84 (t_obj _ _) (by decide) rfl (Nat.le_of_ble_eq_true rfl) (C_X6_asksColony hz hr) ?_
  refine e_pop dX6_asksCell_4 rfl ?_
  refine e_aload_n dX6_asksCell_5 rfl ?_
  refine e_iload_n dX6_asksCell_6 rfl ?_
  refine e_i2l dX6_asksCell_7 ⟨by omega, by omega⟩ ?_
  refine e_callV1rz (ci := 6) dX6_asksCell_8 md_X6_isCell lk_X6_310 rfl q2145 qs98 (t_obj _ _) (by decide) rfl (Nat.le_of_ble_eq_true rfl) (C_X6_isCell (t_af_hist hz hr).1.1 ⟨by omega, by omega⟩) ?_
  refine e_ireturn dX6_asksCell_11 rfl e_nB ?_
  exact ⟨rfl, rfl⟩
theorem C_X6_walks {σ : t_S} {h0 : e_A} (H : t_hist σ) {w : Int} (hw : 0 ≤ w ∧ w < 7) : e_C mX6_walks [.ref 384, e_i w] (t_H σ h0) 0 0 0 (e_ret (e_i (if σ 27 w ≠ -1 then 1 else 0)) (t_H σ h0)) := by
  have h1 := (H.2.2.2.1 w hw.1 hw.2).1
  refine e_enter (al0 := [.ref 384, e_i w]) (by decide +kernel) rfl (Nat.le_of_ble_eq_true rfl) ?_
  refine e_aload_n dX6_walks_0 rfl ?_
  refine t_geta (k := 27) dX6_walks_1 fl_X6_58 rfl ?_
  refine e_iload_n dX6_walks_4 rfl ?_
  refine t_ild 7 dX6_walks_5 rfl (by decide) (fun _ => rfl) rfl ⟨by omega, by omega⟩ ?_
  refine e_iconst dX6_walks_6 ?_
  refine e_icmp_eq (tgt := 14) dX6_walks_7 rfl ⟨by omega, by omega⟩ ⟨by omega, by omega⟩ (fun c1 => ?_) (fun c1 => ?_)
  · refine e_iconst dX6_walks_14 ?_
    refine e_ireturn dX6_walks_15 rfl rfl ?_
    refine e_rv ?_ rfl
    (try split) <;> omega
  · refine e_iconst dX6_walks_10 ?_
    refine e_goto (tgt := 15) dX6_walks_11 rfl ?_
    refine e_ireturn dX6_walks_15 rfl rfl ?_
    refine e_rv ?_ rfl
    (try split) <;> omega
theorem C_X6_pathOf {σ : t_S} {h0 : e_A} (H : t_hist σ) {w k : Int} (hw : 0 ≤ w ∧ w < 7) (hk : 0 ≤ k ∧ k ≤ 40) : e_C mX6_pathOf [.ref 384, e_i w, e_i k] (t_H σ h0) 0 0 0 (e_ret (e_i (t_pth σ w k)) (t_H σ h0)) := by
  have h1 := (H.2.2.2.1 w hw.1 hw.2).1
  refine e_enter (al0 := [.ref 384, e_i w, e_i k]) (by decide +kernel) rfl (Nat.le_of_ble_eq_true rfl) ?_
  refine e_iload_n dX6_pathOf_0 rfl ?_
  refine e_aload_n dX6_pathOf_1 rfl ?_
  refine t_geta (k := 27) dX6_pathOf_2 fl_X6_58 rfl ?_
  refine e_iload_n dX6_pathOf_5 rfl ?_
  refine t_ild 7 dX6_pathOf_6 rfl (by decide) (fun _ => rfl) rfl ⟨by omega, by omega⟩ ?_
  refine e_icmp_gt (tgt := 24) dX6_pathOf_7 rfl ⟨by omega, by omega⟩ ⟨by omega, by omega⟩ (fun c1 => ?_) (fun c1 => ?_)
  · refine e_iconst dX6_pathOf_24 ?_
    refine e_ireturn dX6_pathOf_25 rfl rfl ?_
    refine e_rv ?_ rfl
    unfold t_pth
    (try split) <;> omega
  · refine e_aload_n dX6_pathOf_10 rfl ?_
    refine t_geta (k := 26) dX6_pathOf_11 fl_X6_55 rfl ?_
    refine e_bipush dX6_pathOf_14 rfl ?_
    refine e_iload_n dX6_pathOf_16 rfl ?_
    refine e_imul dX6_pathOf_17 ?_
    refine e_iload_n dX6_pathOf_18 rfl ?_
    refine e_iadd dX6_pathOf_19 ?_
    refine t_ild 287 dX6_pathOf_20 rfl (by decide) (fun _ => rfl) rfl ⟨by omega, by omega⟩ ?_
    refine e_goto (tgt := 25) dX6_pathOf_21 rfl ?_
    refine e_ireturn dX6_pathOf_25 rfl rfl ?_
    refine e_rv ?_ rfl
    unfold t_pth
    (try split) <;> omega
theorem C_X6_pegsOf {σ : t_S} {h0 : e_A} {c y : Int} (hc : 0 ≤ c ∧ c < 80) (hy : 0 ≤ y ∧ y ≤ 12) : e_C mX6_pegsOf [.ref 384, e_i c, e_i y] (t_H σ h0) 0 0 0 (e_ret (e_i (t_pgs σ c y)) (t_H σ h0)) := by
  refine e_enter (al0 := [.ref 384, e_i c, e_i y]) (by decide +kernel) rfl (Nat.le_of_ble_eq_true rfl) ?_
  refine e_aload_n dX6_pegsOf_0 rfl ?_
  refine t_geta (k := 31) dX6_pegsOf_1 fl_X6_70 rfl ?_
  refine e_bipush dX6_pegsOf_4 rfl ?_
  refine e_iload_n dX6_pegsOf_6 rfl ?_
  refine e_imul dX6_pegsOf_7 ?_
  refine e_iload_n dX6_pegsOf_8 rfl ?_
  refine e_iadd dX6_pegsOf_9 ?_
  refine t_ild 1040 dX6_pegsOf_10 rfl (by decide) (fun _ => rfl) rfl ⟨by omega, by omega⟩ ?_
  refine e_ireturn dX6_pegsOf_11 rfl rfl ?_
  exact ⟨rfl, rfl⟩
theorem C_X6_roadOf {σ : t_S} {h0 : e_A} (H : t_hist σ) {c y : Int} (hc : 0 ≤ c ∧ c < 80) (hy : 0 ≤ y ∧ y ≤ σ 1 0) : e_C mX6_roadOf [.ref 384, e_i c, e_i y] (t_H σ h0) 0 0 0 (e_ret (e_i (t_rdo σ c y)) (t_H σ h0)) := by
  have h0 := H.1.1.1
  have h1 := (H.2.1 y c hy.1 hy.2 hc.1 hc.2).1
  refine e_enter (al0 := [.ref 384, e_i c, e_i y]) (by decide +kernel) rfl (Nat.le_of_ble_eq_true rfl) ?_
  refine e_aload_n dX6_roadOf_0 rfl ?_
  refine t_geta (k := 30) dX6_roadOf_1 fl_X6_67 rfl ?_
  refine e_bipush dX6_roadOf_4 rfl ?_
  refine e_iload_n dX6_roadOf_6 rfl ?_
  refine e_imul dX6_roadOf_7 ?_
  refine e_iload_n dX6_roadOf_8 rfl ?_
  refine e_iadd dX6_roadOf_9 ?_
  refine t_zld 1040 dX6_roadOf_10 rfl (by decide) (fun _ => rfl) rfl ⟨by omega, by omega⟩ ?_
  refine e_ireturn dX6_roadOf_11 rfl (by rcases h1 with q | q <;> (show narrow .boolean (e_i (t_rdo σ c y)) = e_i (t_rdo σ c y); show narrow .boolean (e_i (σ 30 (80 * y + c))) = e_i (σ 30 (80 * y + c)); rw [q]; rfl)) ?_
  exact ⟨rfl, rfl⟩
theorem C_X6_isIn {σ : t_S} {h0 : e_A} (H : t_hist σ) {w c : Int} (hw : 0 ≤ w ∧ w < 7) (hc : e_rg c) : e_C mX6_isIn [.ref 384, e_i w, e_i c] (t_H σ h0) 0 0 1 (e_ret (e_i (t_in σ w c)) (t_H σ h0)) := by
  have h1 := (H.2.2.2.1 w hw.1 hw.2).1
  refine e_enter (al0 := [.ref 384, e_i w, e_i c, .retAddr 0, .retAddr 0]) (by decide +kernel) rfl (Nat.le_of_ble_eq_true rfl) ?_
  refine e_iconst dX6_isIn_0 ?_
  refine e_istore_n3 dX6_isIn_1 rfl ?_
  refine e_iconst dX6_isIn_2 ?_
  refine e_istore4 dX6_isIn_3 rfl ?_
  refine e_for (n := σ 27 w + 1) (fun i => e_E mX6_isIn 5 [.ref 384, e_i w, e_i c, e_i (t_anyg (t_ing σ w c) i.toNat), e_i i] [] (t_H σ h0) _ _ _ _) (by omega) ?_ (fun i hi0 hi1 hF => ?_)
  · refine e_iload dX6_isIn_5 rfl ?_
    refine e_aload_n dX6_isIn_7 rfl ?_
    refine t_geta (k := 27) dX6_isIn_8 fl_X6_58 rfl ?_
    refine e_iload_n dX6_isIn_11 rfl ?_
    refine t_ild 7 dX6_isIn_12 rfl (by decide) (fun _ => rfl) rfl ⟨by omega, by omega⟩ ?_
    refine e_icmp_gt (tgt := 43) dX6_isIn_13 rfl ⟨by omega, by omega⟩ ⟨by omega, by omega⟩ (fun c1 => ?_) (fun q => by exfalso; omega)
    refine e_iload_n dX6_isIn_43 rfl ?_
    refine e_ireturn dX6_isIn_44 rfl (by rcases t_in01 σ w c (σ 27 w + 1).toNat with q | q <;> (show narrow .boolean (e_i (t_anyg (t_ing σ w c) (σ 27 w + 1).toNat)) = e_i (t_anyg (t_ing σ w c) (σ 27 w + 1).toNat); rw [q]; rfl)) ?_
    exact ⟨rfl, rfl⟩
  · rw [t_anyg_s (t_ing σ w c) hi0] at hF
    have h01 := t_in01 σ w c i.toNat
    have hp := t_pth_rg H.2.2.2.1 hw hi0
    refine e_iload dX6_isIn_5 rfl ?_
    refine e_aload_n dX6_isIn_7 rfl ?_
    refine t_geta (k := 27) dX6_isIn_8 fl_X6_58 rfl ?_
    refine e_iload_n dX6_isIn_11 rfl ?_
    refine t_ild 7 dX6_isIn_12 rfl (by decide) (fun _ => rfl) rfl ⟨by omega, by omega⟩ ?_
    refine e_icmp_gt (tgt := 43) dX6_isIn_13 rfl ⟨by omega, by omega⟩ ⟨by omega, by omega⟩ (fun q => by exfalso; omega) (fun c2 => ?_)
    refine e_iload_n dX6_isIn_16 rfl ?_
    refine e_if_ne (tgt := 31) dX6_isIn_17 rfl ⟨by omega, by omega⟩ (fun c3 => ?_) (fun c3 => ?_)
    · refine e_iconst dX6_isIn_31 ?_
      refine e_goto (tgt := 36) dX6_isIn_32 rfl ?_
      refine e_istore_n3 dX6_isIn_36 rfl ?_
      refine e_iinc4 dX6_isIn_37 rfl ?_
      refine e_goto (tgt := 5) dX6_isIn_40 rfl ?_
      first
        | (rw [if_pos (by omega)] at hF; exact hF)
        | (rw [if_neg (by omega), show (t_ing σ w c) i = 1 from if_pos (by omega)] at hF; exact hF)
        | (rw [if_neg (by omega), show (t_ing σ w c) i = 0 from if_neg (by omega)] at hF; exact hF)
    · refine e_aload_n dX6_isIn_20 rfl ?_
      refine e_iload_n dX6_isIn_21 rfl ?_
      refine e_iload dX6_isIn_22 rfl ?_
      refine e_callV2rz (ci := 6) dX6_isIn_24 md_X6_pathOf lk_X6_341 rfl q2167 qs102 (t_obj _ _) (by decide) rfl (Nat.le_of_ble_eq_true rfl) (C_X6_pathOf H hw ⟨by omega, by omega⟩) ?_
      refine e_iload_n dX6_isIn_27 rfl ?_
      refine e_icmp_ne (tgt := 35) dX6_isIn_28 rfl ⟨by omega, by omega⟩ ⟨by omega, by omega⟩ (fun c4 => ?_) (fun c4 => ?_)
      · refine e_iconst dX6_isIn_35 ?_
        refine e_istore_n3 dX6_isIn_36 rfl ?_
        refine e_iinc4 dX6_isIn_37 rfl ?_
        refine e_goto (tgt := 5) dX6_isIn_40 rfl ?_
        first
          | (rw [if_pos (by omega)] at hF; exact hF)
          | (rw [if_neg (by omega), show (t_ing σ w c) i = 1 from if_pos (by omega)] at hF; exact hF)
          | (rw [if_neg (by omega), show (t_ing σ w c) i = 0 from if_neg (by omega)] at hF; exact hF)
      · refine e_iconst dX6_isIn_31 ?_
        refine e_goto (tgt := 36) dX6_isIn_32 rfl ?_
        refine e_istore_n3 dX6_isIn_36 rfl ?_
        refine e_iinc4 dX6_isIn_37 rfl ?_
        refine e_goto (tgt := 5) dX6_isIn_40 rfl ?_
        first
          | (rw [if_pos (by omega)] at hF; exact hF)
          | (rw [if_neg (by omega), show (t_ing σ w c) i = 1 from if_pos (by omega)] at hF; exact hF)
          | (rw [if_neg (by omega), show (t_ing σ w c) i = 0 from if_neg (by omega)] at hF; exact hF)
theorem C_X6_pegMany {σ : t_S} {h0 : e_A} (H : t_hist σ) {y : Int} (hy : 0 ≤ y ∧ y ≤ σ 1 0) : e_C mX6_pegMany [.ref 384, e_i y] (t_H σ h0) 0 0 1 (e_ret (e_i (t_pgm σ y)) (t_H σ h0)) := by
  have s0 := H.1.1.1
  have hs := t_sum_rg (g := t_pgg σ y) (b := 16) 80 (fun i _ _ => e_bsum_rg _ 16)
  refine e_enter (al0 := [.ref 384, e_i y, .retAddr 0, .retAddr 0]) (by decide +kernel) rfl (Nat.le_of_ble_eq_true rfl) ?_
  refine e_iconst dX6_pegMany_0 ?_
  refine e_istore_n2 dX6_pegMany_1 rfl ?_
  refine e_iconst dX6_pegMany_2 ?_
  refine e_istore_n3 dX6_pegMany_3 rfl ?_
  refine e_for (n := 80) (fun i => e_E mX6_pegMany 4 [.ref 384, e_i y, e_i (t_sum (t_pgg σ y) i.toNat), e_i i] [] (t_H σ h0) _ _ _ _) (by omega) ?_ (fun i hi0 hi1 hF => ?_)
  · show e_E _ _ [_, _, e_i (t_sum (t_pgg σ y) 80), _] _ _ _ _ _ _
    refine e_iload_n dX6_pegMany_4 rfl ?_
    refine e_bipush dX6_pegMany_5 rfl ?_
    refine e_icmp_ge (tgt := 28) dX6_pegMany_7 rfl ⟨by omega, by omega⟩ ⟨by omega, by omega⟩ (fun c1 => ?_) (fun q => by exfalso; omega)
    refine e_iload_n dX6_pegMany_28 rfl ?_
    refine e_iconst dX6_pegMany_29 ?_
    refine e_idiv dX6_pegMany_30 ⟨by omega, by omega⟩ ⟨by omega, by omega⟩ ?_
    refine e_ireturn dX6_pegMany_31 rfl rfl ?_
    exact ⟨rfl, rfl⟩
  · rw [t_sum_s (t_pgg σ y) hi0] at hF
    have hp : 0 ≤ t_pgs σ i y ∧ t_pgs σ i y < 2 ^ 4 := (H.2.1 y i hy.1 hy.2 hi0 hi1).2.1
    refine e_iload_n dX6_pegMany_4 rfl ?_
    refine e_bipush dX6_pegMany_5 rfl ?_
    refine e_icmp_ge (tgt := 28) dX6_pegMany_7 rfl ⟨by omega, by omega⟩ ⟨by omega, by omega⟩ (fun q => by exfalso; omega) (fun c2 => ?_)
    refine e_iload_n dX6_pegMany_10 rfl ?_
    refine e_aload_n dX6_pegMany_11 rfl ?_
    refine e_iload_n dX6_pegMany_12 rfl ?_
    refine e_iload_n dX6_pegMany_13 rfl ?_
    refine e_callV2rz (ci := 6) dX6_pegMany_14 md_X6_pegsOf lk_X6_344 rfl q2239 qs112 (t_obj _ _) (by decide) rfl (Nat.le_of_ble_eq_true rfl) (C_X6_pegsOf ⟨by omega, by omega⟩ ⟨by omega, by omega⟩) ?_
    refine e_callS1rz dX6_pegMany_17 md_X6_bits lk_X6_347 rfl q2286 rfl (Nat.le_of_ble_eq_true rfl) (C_X6_bits ⟨by omega, by omega⟩) ?_
    refine e_iadd dX6_pegMany_20 ?_
    refine e_istore_n2 dX6_pegMany_21 rfl ?_
    refine e_iinc3 dX6_pegMany_22 rfl ?_
    refine e_goto (tgt := 4) dX6_pegMany_25 rfl ?_
    exact hF
theorem C_X6_pegsLast {σ : t_S} {h0 : e_A} (H : t_hist σ) : e_C mX6_pegsLast [.ref 384] (t_H σ h0) 0 0 2 (e_ret (e_i (t_pgm σ (σ 1 0))) (t_H σ h0)) := by
  have s0 := H.1.1.1
  refine e_enter (al0 := [.ref 384]) (by decide +kernel) rfl (Nat.le_of_ble_eq_true rfl) ?_
  refine e_aload_n dX6_pegsLast_0 rfl ?_
  refine e_aload_n dX6_pegsLast_1 rfl ?_
  refine e_callV0rz (ci := 6) dX6_pegsLast_2 md_X6_years lk_X6_118 rfl q2096 qs88 (t_obj _ _) (by decide) rfl (Nat.le_of_ble_eq_true rfl) (C_X6_years) ?_
  refine e_callV1rz (ci := 6) dX6_pegsLast_5 md_X6_pegMany lk_X6_350 rfl q2283 qs116 (t_obj _ _) (by decide) rfl (Nat.le_of_ble_eq_true rfl) (C_X6_pegMany H ⟨by omega, by omega⟩) ?_
  refine e_ireturn dX6_pegsLast_8 rfl rfl ?_
  exact ⟨rfl, rfl⟩
theorem C_X6_groundOf {σ : t_S} {h0 : e_A} (H : t_hist σ) {w : Int} (hw : 0 ≤ w ∧ w < 7) : e_C mX6_groundOf [.ref 384, e_i w] (t_H σ h0) 0 0 2 (e_ret (e_i (t_grd σ w)) (t_H σ h0)) := by
  refine e_enter (al0 := [.ref 384, e_i w, .retAddr 0, .retAddr 0]) (by decide +kernel) rfl (Nat.le_of_ble_eq_true rfl) ?_
  refine e_iconst dX6_groundOf_0 ?_
  refine e_istore_n2 dX6_groundOf_1 rfl ?_
  refine e_iconst dX6_groundOf_2 ?_
  refine e_istore_n3 dX6_groundOf_3 rfl ?_
  refine e_for (n := 80) (fun i => e_E mX6_groundOf 4 [.ref 384, e_i w, e_i (t_sum (t_in σ w) i.toNat), e_i i] [] (t_H σ h0) _ _ _ _) (by omega) ?_ (fun i hi0 hi1 hF => ?_)
  · refine e_iload_n dX6_groundOf_4 rfl ?_
    refine e_bipush dX6_groundOf_5 rfl ?_
    refine e_icmp_ge (tgt := 33) dX6_groundOf_7 rfl ⟨by omega, by omega⟩ ⟨by omega, by omega⟩ (fun c1 => ?_) (fun q => by exfalso; omega)
    refine e_iload_n dX6_groundOf_33 rfl ?_
    refine e_ireturn dX6_groundOf_34 rfl rfl ?_
    exact ⟨rfl, rfl⟩
  · rw [t_sum_s (t_in σ w) hi0] at hF
    have h01 : t_in σ w i = 0 ∨ t_in σ w i = 1 := t_in01 σ w i _
    refine e_iload_n dX6_groundOf_4 rfl ?_
    refine e_bipush dX6_groundOf_5 rfl ?_
    refine e_icmp_ge (tgt := 33) dX6_groundOf_7 rfl ⟨by omega, by omega⟩ ⟨by omega, by omega⟩ (fun q => by exfalso; omega) (fun c2 => ?_)
    refine e_iload_n dX6_groundOf_10 rfl ?_
    refine e_aload_n dX6_groundOf_11 rfl ?_
    refine e_iload_n dX6_groundOf_12 rfl ?_
    refine e_iload_n dX6_groundOf_13 rfl ?_
    refine e_callV2rz (ci := 6) dX6_groundOf_14 md_X6_isIn lk_X6_364 rfl q2191 qs105 (t_obj _ _) (by decide) rfl (Nat.le_of_ble_eq_true rfl) (C_X6_isIn H ⟨by omega, by omega⟩ ⟨by omega, by omega⟩) ?_
    refine e_if_eq (tgt := 24) dX6_groundOf_17 rfl ⟨by omega, by omega⟩ (fun c3 => ?_) (fun c3 => ?_)
    · refine e_iconst dX6_groundOf_24 ?_
      refine e_iadd dX6_groundOf_25 ?_
      refine e_istore_n2 dX6_groundOf_26 rfl ?_
      refine e_iinc3 dX6_groundOf_27 rfl ?_
      refine e_goto (tgt := 4) dX6_groundOf_30 rfl ?_
      first
        | (rw [show (t_in σ w) i = 1 by (show _ = (1 : Int); omega)] at hF; exact hF)
        | (rw [show (t_in σ w) i = 0 by (show _ = (0 : Int); omega)] at hF; exact hF)
    · refine e_iconst dX6_groundOf_20 ?_
      refine e_goto (tgt := 25) dX6_groundOf_21 rfl ?_
      refine e_iadd dX6_groundOf_25 ?_
      refine e_istore_n2 dX6_groundOf_26 rfl ?_
      refine e_iinc3 dX6_groundOf_27 rfl ?_
      refine e_goto (tgt := 4) dX6_groundOf_30 rfl ?_
      first
        | (rw [show (t_in σ w) i = 1 by (show _ = (1 : Int); omega)] at hF; exact hF)
        | (rw [show (t_in σ w) i = 0 by (show _ = (0 : Int); omega)] at hF; exact hF)
theorem C_X6_visitsOf {σ : t_S} {h0 : e_A} (H : t_hist σ) {w c : Int} (hw : 0 ≤ w ∧ w < 7) (hc : e_rg c) : e_C mX6_visitsOf [.ref 384, e_i w, e_i c] (t_H σ h0) 0 0 1 (e_ret (e_i (t_vis σ w c)) (t_H σ h0)) := by
  have h1 := (H.2.2.2.1 w hw.1 hw.2).1
  refine e_enter (al0 := [.ref 384, e_i w, e_i c, .retAddr 0, .retAddr 0]) (by decide +kernel) rfl (Nat.le_of_ble_eq_true rfl) ?_
  refine e_iconst dX6_visitsOf_0 ?_
  refine e_istore_n3 dX6_visitsOf_1 rfl ?_
  refine e_iconst dX6_visitsOf_2 ?_
  refine e_istore4 dX6_visitsOf_3 rfl ?_
  refine e_for (n := σ 27 w + 1) (fun i => e_E mX6_visitsOf 5 [.ref 384, e_i w, e_i c, e_i (t_sum (t_ing σ w c) i.toNat), e_i i] [] (t_H σ h0) _ _ _ _) (by omega) ?_ (fun i hi0 hi1 hF => ?_)
  · refine e_iload dX6_visitsOf_5 rfl ?_
    refine e_aload_n dX6_visitsOf_7 rfl ?_
    refine t_geta (k := 27) dX6_visitsOf_8 fl_X6_58 rfl ?_
    refine e_iload_n dX6_visitsOf_11 rfl ?_
    refine t_ild 7 dX6_visitsOf_12 rfl (by decide) (fun _ => rfl) rfl ⟨by omega, by omega⟩ ?_
    refine e_icmp_gt (tgt := 41) dX6_visitsOf_13 rfl ⟨by omega, by omega⟩ ⟨by omega, by omega⟩ (fun c1 => ?_) (fun q => by exfalso; omega)
    refine e_iload_n dX6_visitsOf_41 rfl ?_
    refine e_ireturn dX6_visitsOf_42 rfl rfl ?_
    exact ⟨rfl, rfl⟩
  · rw [t_sum_s (t_ing σ w c) hi0] at hF
    have hp := t_pth_rg H.2.2.2.1 hw hi0
    refine e_iload dX6_visitsOf_5 rfl ?_
    refine e_aload_n dX6_visitsOf_7 rfl ?_
    refine t_geta (k := 27) dX6_visitsOf_8 fl_X6_58 rfl ?_
    refine e_iload_n dX6_visitsOf_11 rfl ?_
    refine t_ild 7 dX6_visitsOf_12 rfl (by decide) (fun _ => rfl) rfl ⟨by omega, by omega⟩ ?_
    refine e_icmp_gt (tgt := 41) dX6_visitsOf_13 rfl ⟨by omega, by omega⟩ ⟨by omega, by omega⟩ (fun q => by exfalso; omega) (fun c2 => ?_)
    refine e_iload_n dX6_visitsOf_16 rfl ?_
    refine e_aload_n dX6_visitsOf_17 rfl ?_
    refine e_iload_n dX6_visitsOf_18 rfl ?_
    refine e_iload dX6_visitsOf_19 rfl ?_
    refine e_callV2rz (ci := 6) dX6_visitsOf_21 md_X6_pathOf lk_X6_341 rfl q2167 qs102 (t_obj _ _) (by decide) rfl (Nat.le_of_ble_eq_true rfl) (C_X6_pathOf H ⟨by omega, by omega⟩ ⟨by omega, by omega⟩) ?_
    refine e_iload_n dX6_visitsOf_24 rfl ?_
    refine e_icmp_ne (tgt := 32) dX6_visitsOf_25 rfl ⟨by omega, by omega⟩ ⟨by omega, by omega⟩ (fun c3 => ?_) (fun c3 => ?_)
    · refine e_iconst dX6_visitsOf_32 ?_
      refine e_iadd dX6_visitsOf_33 ?_
      refine e_istore_n3 dX6_visitsOf_34 rfl ?_
      refine e_iinc4 dX6_visitsOf_35 rfl ?_
      refine e_goto (tgt := 5) dX6_visitsOf_38 rfl ?_
      first
        | (rw [show (t_ing σ w c) i = 1 from if_pos (by omega)] at hF; exact hF)
        | (rw [show (t_ing σ w c) i = 0 from if_neg (by omega)] at hF; exact hF)
    · refine e_iconst dX6_visitsOf_28 ?_
      refine e_goto (tgt := 33) dX6_visitsOf_29 rfl ?_
      refine e_iadd dX6_visitsOf_33 ?_
      refine e_istore_n3 dX6_visitsOf_34 rfl ?_
      refine e_iinc4 dX6_visitsOf_35 rfl ?_
      refine e_goto (tgt := 5) dX6_visitsOf_38 rfl ?_
      first
        | (rw [show (t_ing σ w c) i = 1 from if_pos (by omega)] at hF; exact hF)
        | (rw [show (t_ing σ w c) i = 0 from if_neg (by omega)] at hF; exact hF)
theorem C_X6_roadMany {σ : t_S} {h0 : e_A} (H : t_hist σ) {y : Int} (hy : 0 ≤ y ∧ y ≤ σ 1 0) : e_C mX6_roadMany [.ref 384, e_i y] (t_H σ h0) 0 0 1 (e_ret (e_i (t_rdm σ y)) (t_H σ h0)) := by
  refine e_enter (al0 := [.ref 384, e_i y, .retAddr 0, .retAddr 0]) (by decide +kernel) rfl (Nat.le_of_ble_eq_true rfl) ?_
  refine e_iconst dX6_roadMany_0 ?_
  refine e_istore_n2 dX6_roadMany_1 rfl ?_
  refine e_iconst dX6_roadMany_2 ?_
  refine e_istore_n3 dX6_roadMany_3 rfl ?_
  refine e_for (n := 80) (fun i => e_E mX6_roadMany 4 [.ref 384, e_i y, e_i (t_sum (t_rdg σ y) i.toNat), e_i i] [] (t_H σ h0) _ _ _ _) (by omega) ?_ (fun i hi0 hi1 hF => ?_)
  · refine e_iload_n dX6_roadMany_4 rfl ?_
    refine e_bipush dX6_roadMany_5 rfl ?_
    refine e_icmp_ge (tgt := 33) dX6_roadMany_7 rfl ⟨by omega, by omega⟩ ⟨by omega, by omega⟩ (fun c1 => ?_) (fun q => by exfalso; omega)
    refine e_iload_n dX6_roadMany_33 rfl ?_
    refine e_ireturn dX6_roadMany_34 rfl rfl ?_
    exact ⟨rfl, rfl⟩
  · rw [t_sum_s (t_rdg σ y) hi0] at hF
    have hp : t_rdo σ i y = 0 ∨ t_rdo σ i y = 1 := (H.2.1 y i hy.1 hy.2 hi0 hi1).1
    have hp2 : t_rdg σ y i = t_rdo σ i y := rfl
    refine e_iload_n dX6_roadMany_4 rfl ?_
    refine e_bipush dX6_roadMany_5 rfl ?_
    refine e_icmp_ge (tgt := 33) dX6_roadMany_7 rfl ⟨by omega, by omega⟩ ⟨by omega, by omega⟩ (fun q => by exfalso; omega) (fun c2 => ?_)
    refine e_iload_n dX6_roadMany_10 rfl ?_
    refine e_aload_n dX6_roadMany_11 rfl ?_
    refine e_iload_n dX6_roadMany_12 rfl ?_
    refine e_iload_n dX6_roadMany_13 rfl ?_
    refine e_callV2rz (ci := 6) dX6_roadMany_14 md_X6_roadOf lk_X6_386 rfl q2251 qs113 (t_obj _ _) (by decide) rfl (Nat.le_of_ble_eq_true rfl) (C_X6_roadOf H ⟨by omega, by omega⟩ ⟨by omega, by omega⟩) ?_
    refine e_if_eq (tgt := 24) dX6_roadMany_17 rfl ⟨by omega, by omega⟩ (fun c3 => ?_) (fun c3 => ?_)
    · refine e_iconst dX6_roadMany_24 ?_
      refine e_iadd dX6_roadMany_25 ?_
      refine e_istore_n2 dX6_roadMany_26 rfl ?_
      refine e_iinc3 dX6_roadMany_27 rfl ?_
      refine e_goto (tgt := 4) dX6_roadMany_30 rfl ?_
      first
        | (rw [show (t_rdg σ y) i = 1 by (show _ = (1 : Int); omega)] at hF; exact hF)
        | (rw [show (t_rdg σ y) i = 0 by (show _ = (0 : Int); omega)] at hF; exact hF)
    · refine e_iconst dX6_roadMany_20 ?_
      refine e_goto (tgt := 25) dX6_roadMany_21 rfl ?_
      refine e_iadd dX6_roadMany_25 ?_
      refine e_istore_n2 dX6_roadMany_26 rfl ?_
      refine e_iinc3 dX6_roadMany_27 rfl ?_
      refine e_goto (tgt := 4) dX6_roadMany_30 rfl ?_
      first
        | (rw [show (t_rdg σ y) i = 1 by (show _ = (1 : Int); omega)] at hF; exact hF)
        | (rw [show (t_rdg σ y) i = 0 by (show _ = (0 : Int); omega)] at hF; exact hF)
theorem C_X6_walkedOf {σ : t_S} {h0 : e_A} (H : t_hist σ) {c : Int} (hc : e_rg c) : e_C mX6_walkedOf [.ref 384, e_i c] (t_H σ h0) 0 0 2 (e_ret (e_i (t_wdo σ c)) (t_H σ h0)) := by
  have s0 := H.1.1.1
  have s3 := H.1.1.2.1
  have s4 := H.1.1.2.2.1
  have s6 := H.1.1.2.2.2.2.1
  have s7 := H.1.1.2.2.2.2.2.1
  refine e_enter (al0 := [.ref 384, e_i c, .retAddr 0, .retAddr 0]) (by decide +kernel) rfl (Nat.le_of_ble_eq_true rfl) ?_
  refine e_iconst dX6_walkedOf_0 ?_
  refine e_istore_n2 dX6_walkedOf_1 rfl ?_
  refine e_iconst dX6_walkedOf_2 ?_
  refine e_istore_n3 dX6_walkedOf_3 rfl ?_
  refine e_for (n := σ 1 7) (fun i => e_E mX6_walkedOf 4 [.ref 384, e_i c, e_i (t_msk (t_wdg σ c) i.toNat), e_i i] [] (t_H σ h0) _ _ _ _) (by omega) ?_ (fun i hi0 hi1 hF => ?_)
  · refine e_iload_n dX6_walkedOf_4 rfl ?_
    refine e_aload_n dX6_walkedOf_5 rfl ?_
    refine e_callV0rz (ci := 6) dX6_walkedOf_6 md_X6_widows lk_X6_110 rfl q2059 qs81 (t_obj _ _) (by decide) rfl (Nat.le_of_ble_eq_true rfl) (C_X6_widows) ?_
    refine e_icmp_ge (tgt := 37) dX6_walkedOf_9 rfl ⟨by omega, by omega⟩ ⟨by omega, by omega⟩ (fun c1 => ?_) (fun q => by exfalso; omega)
    refine e_iload_n dX6_walkedOf_37 rfl ?_
    refine e_ireturn dX6_walkedOf_38 rfl rfl ?_
    exact ⟨rfl, rfl⟩
  · have hm := t_msk_rg (t_wdg σ c) i.toNat
    have h01 : t_in σ i c = 0 ∨ t_in σ i c = 1 := t_in01 σ i c _
    refine e_iload_n dX6_walkedOf_4 rfl ?_
    refine e_aload_n dX6_walkedOf_5 rfl ?_
    refine e_callV0rz (ci := 6) dX6_walkedOf_6 md_X6_widows lk_X6_110 rfl q2059 qs81 (t_obj _ _) (by decide) rfl (Nat.le_of_ble_eq_true rfl) (C_X6_widows) ?_
    refine e_icmp_ge (tgt := 37) dX6_walkedOf_9 rfl ⟨by omega, by omega⟩ ⟨by omega, by omega⟩ (fun q => by exfalso; omega) (fun c2 => ?_)
    refine e_iload_n dX6_walkedOf_12 rfl ?_
    refine e_aload_n dX6_walkedOf_13 rfl ?_
    refine e_iload_n dX6_walkedOf_14 rfl ?_
    refine e_iload_n dX6_walkedOf_15 rfl ?_
    refine e_callV2rz (ci := 6) dX6_walkedOf_16 md_X6_isIn lk_X6_364 rfl q2191 qs105 (t_obj _ _) (by decide) rfl (Nat.le_of_ble_eq_true rfl) (C_X6_isIn H ⟨by omega, by omega⟩ ⟨by omega, by omega⟩) ?_
    refine e_if_eq (tgt := 28) dX6_walkedOf_19 rfl ⟨by omega, by omega⟩ (fun c3 => ?_) (fun c3 => ?_)
    · refine e_iconst dX6_walkedOf_28 ?_
      refine e_ior dX6_walkedOf_29 (by first | exact e_or_0 _ | exact e_or_top ⟨by omega, by omega⟩ hm) ?_
      refine e_istore_n2 dX6_walkedOf_30 rfl ?_
      refine e_iinc3 dX6_walkedOf_31 rfl ?_
      refine e_goto (tgt := 4) dX6_walkedOf_34 rfl ?_
      first
        | (rw [t_msk_1 (g := t_wdg σ c) hi0 (by show t_in σ i c = 1; omega)] at hF; exact hF)
        | (rw [t_msk_0 (g := t_wdg σ c) hi0 (by show t_in σ i c = 0; omega)] at hF; exact hF)
    · refine e_iconst dX6_walkedOf_22 ?_
      refine e_iload_n dX6_walkedOf_23 rfl ?_
      refine e_ishl dX6_walkedOf_24 (t_shl1 ⟨by omega, by omega⟩) ?_
      refine e_goto (tgt := 29) dX6_walkedOf_25 rfl ?_
      refine e_ior dX6_walkedOf_29 (by first | exact e_or_0 _ | exact e_or_top ⟨by omega, by omega⟩ hm) ?_
      refine e_istore_n2 dX6_walkedOf_30 rfl ?_
      refine e_iinc3 dX6_walkedOf_31 rfl ?_
      refine e_goto (tgt := 4) dX6_walkedOf_34 rfl ?_
      first
        | (rw [t_msk_1 (g := t_wdg σ c) hi0 (by show t_in σ i c = 1; omega)] at hF; exact hF)
        | (rw [t_msk_0 (g := t_wdg σ c) hi0 (by show t_in σ i c = 0; omega)] at hF; exact hF)
theorem C_X6_isHouseTold {σ : t_S} {h0 : e_A} {h : Int} (hz : t_sz σ) (hh : e_rg h) : e_C mX6_isHouseTold [.ref 384, e_i h] (t_H σ h0) 0 0 1 (e_ret (e_i (if t_isH σ h then 1 else 0)) (t_H σ h0)) := by
  have h6 := hz.2.2.2.2.1
  refine e_enter (al0 := [.ref 384, e_i h]) (by decide +kernel) rfl (Nat.le_of_ble_eq_true rfl) ?_
  refine e_iload_n dX6_isHouseTold_0 rfl ?_
  refine e_i2l dX6_isHouseTold_1 ⟨by omega, by omega⟩ ?_
  refine e_lconst (z := 0) dX6_isHouseTold_2 rfl ?_
  refine e_aload_n dX6_isHouseTold_3 rfl ?_
  refine e_callV0rz (ci := 6) dX6_isHouseTold_4 md_X6_houses lk_X6_307 rfl q2137 qs96 (t_obj _ _) (by decide) rfl (Nat.le_of_ble_eq_true rfl) (C_X6_houses) ?_
  refine e_iconst dX6_isHouseTold_7 ?_
  refine e_isub dX6_isHouseTold_8 ?_
  refine e_i2l dX6_isHouseTold_9 ⟨by omega, by omega⟩ ?_
  refine e_callS3rz dX6_isHouseTold_10 md_X6_in lk_X6_106 rfl q1930 rfl (Nat.le_of_ble_eq_true rfl) (C_X6_in ⟨by omega, by omega⟩ ⟨by omega, by omega⟩ ⟨by omega, by omega⟩) ?_
  refine e_ireturn dX6_isHouseTold_13 rfl e_nB ?_
  exact ⟨rfl, rfl⟩
theorem C_X6_movedAll {σ : t_S} {h0 : e_A} (H : t_hist σ) : e_C mX6_movedAll [.ref 384] (t_H σ h0) 0 0 1 (e_ret (e_i (t_mva σ)) (t_H σ h0)) := by
  have s0 := H.1.1.1
  have s3 := H.1.1.2.1
  have s4 := H.1.1.2.2.1
  have s6 := H.1.1.2.2.2.2.1
  have s7 := H.1.1.2.2.2.2.2.1
  refine e_enter (al0 := [.ref 384, .retAddr 0, .retAddr 0]) (by decide +kernel) rfl (Nat.le_of_ble_eq_true rfl) ?_
  refine e_iconst dX6_movedAll_0 ?_
  refine e_istore_n1 dX6_movedAll_1 rfl ?_
  refine e_iconst dX6_movedAll_2 ?_
  refine e_istore_n2 dX6_movedAll_3 rfl ?_
  refine e_for (n := σ 1 6) (fun i => e_E mX6_movedAll 4 [.ref 384, e_i (t_sum (σ 29) i.toNat), e_i i] [] (t_H σ h0) _ _ _ _) (by omega) ?_ (fun i hi0 hi1 hF => ?_)
  · refine e_iload_n dX6_movedAll_4 rfl ?_
    refine e_aload_n dX6_movedAll_5 rfl ?_
    refine e_callV0rz (ci := 6) dX6_movedAll_6 md_X6_houses lk_X6_307 rfl q2137 qs96 (t_obj _ _) (by decide) rfl (Nat.le_of_ble_eq_true rfl) (C_X6_houses) ?_
    refine e_icmp_ge (tgt := 27) dX6_movedAll_9 rfl ⟨by omega, by omega⟩ ⟨by omega, by omega⟩ (fun c1 => ?_) (fun q => by exfalso; omega)
    refine e_iload_n dX6_movedAll_27 rfl ?_
    refine e_ireturn dX6_movedAll_28 rfl rfl ?_
    exact ⟨rfl, rfl⟩
  · rw [t_sum_s (σ 29) hi0] at hF
    refine e_iload_n dX6_movedAll_4 rfl ?_
    refine e_aload_n dX6_movedAll_5 rfl ?_
    refine e_callV0rz (ci := 6) dX6_movedAll_6 md_X6_houses lk_X6_307 rfl q2137 qs96 (t_obj _ _) (by decide) rfl (Nat.le_of_ble_eq_true rfl) (C_X6_houses) ?_
    refine e_icmp_ge (tgt := 27) dX6_movedAll_9 rfl ⟨by omega, by omega⟩ ⟨by omega, by omega⟩ (fun q => by exfalso; omega) (fun c2 => ?_)
    refine e_iload_n dX6_movedAll_12 rfl ?_
    refine e_aload_n dX6_movedAll_13 rfl ?_
    refine t_geta (k := 29) dX6_movedAll_14 fl_X6_64 rfl ?_
    refine e_iload_n dX6_movedAll_17 rfl ?_
    refine t_ild 6 dX6_movedAll_18 rfl (by decide) (fun _ => rfl) rfl ⟨by omega, by omega⟩ ?_
    refine e_iadd dX6_movedAll_19 ?_
    refine e_istore_n1 dX6_movedAll_20 rfl ?_
    refine e_iinc2 dX6_movedAll_21 rfl ?_
    refine e_goto (tgt := 4) dX6_movedAll_24 rfl ?_
    exact hF
theorem C_X6_creek {σ : t_S} {h0 : e_A} (hz : t_sz σ) (hr : t_okR (σ 1)) {c : Int} (hc : e_rg c) : e_C mX6_creek [.ref 384, e_i c] (t_H σ h0) 0 0 8 (t_Pub (v_creek (t_af σ) c) σ h0) := by
  refine e_enter (al0 := [.ref 384, e_i c]) (by decide +kernel) rfl (Nat.le_of_ble_eq_true rfl) ?_
  refine e_aload_n dX6_creek_0 rfl ?_
  refine e_iload_n dX6_creek_1 rfl ?_
  refine e_callV1rz (ci := 6) dX6_creek_2 md_X6_asksCell lk_X6_353 rfl q2076 qs83 (t_obj _ _) (by decide) rfl (Nat.le_of_ble_eq_true rfl) (C_X6_asksCell hz hr ⟨by omega, by omega⟩) ?_
  have H := t_af_hist hz hr
  have hpk := t_af_pk hz hr
  generalize t_af σ = ρ at H hpk ⊢
  replace hz : t_sz ρ := H.1.1
  have s0 := H.1.1.1
  have s3 := H.1.1.2.1
  have s4 := H.1.1.2.2.1
  have s6 := H.1.1.2.2.2.2.1
  have s7 := H.1.1.2.2.2.2.2.1
  
  refine e_bif_ne (tgt := 11) dX6_creek_5 rfl (fun c1 => ?_) (fun c1 => ?_)
  · have hc1 := H.1.2.2.1 c
    refine e_aload_n dX6_creek_11 rfl ?_
    refine t_geta (k := 15) dX6_creek_12 fl_X6_34 rfl ?_
    refine e_iload_n dX6_creek_15 rfl ?_
    refine t_zld 80 dX6_creek_16 rfl (by decide) (fun _ => rfl) rfl ⟨by omega, by omega⟩ ?_
    refine e_if_eq (tgt := 24) dX6_creek_17 rfl ⟨by omega, by omega⟩ (fun c2 => ?_) (fun c2 => ?_)
    · refine e_iconst dX6_creek_24 ?_
      refine e_ireturn dX6_creek_25 rfl rfl ?_
      refine t_pub ?_ hpk
      unfold v_creek
      (repeat' split) <;> first | rfl | omega
    · refine e_iconst dX6_creek_20 ?_
      refine e_goto (tgt := 25) dX6_creek_21 rfl ?_
      refine e_ireturn dX6_creek_25 rfl rfl ?_
      refine t_pub ?_ hpk
      unfold v_creek
      (repeat' split) <;> first | rfl | omega
  · refine e_bipush dX6_creek_8 rfl ?_
    refine e_ireturn dX6_creek_10 rfl rfl ?_
    refine t_pub ?_ hpk
    unfold v_creek
    (repeat' split) <;> first | rfl | omega
theorem C_X6_at {σ : t_S} {h0 : e_A} (hz : t_sz σ) (hr : t_okR (σ 1)) {w : Int} (hw : e_rg w) {k : Int} (hk : e_rg k) : e_C mX6_at [.ref 384, e_i w, e_i k] (t_H σ h0) 0 0 8 (t_Pub (v_at (t_af σ) w k) σ h0) := by
  refine e_enter (al0 := [.ref 384, e_i w, e_i k]) (by decide +kernel) rfl (Nat.le_of_ble_eq_true rfl) ?_
  refine e_aload_n dX6_at_0 rfl ?_
  refine e_iload_n dX6_at_1 rfl ?_
  refine e_callV1rz (ci := 6) dX6_at_2 md_X6_asksWidow lk_X6_356 rfl q2162 qs101 (t_obj _ _) (by decide) rfl (Nat.le_of_ble_eq_true rfl) (C_X6_asksWidow hz hr ⟨by omega, by omega⟩) ?_
  have H := t_af_hist hz hr
  have hpk := t_af_pk hz hr
  generalize t_af σ = ρ at H hpk ⊢
  replace hz : t_sz ρ := H.1.1
  have s0 := H.1.1.1
  have s3 := H.1.1.2.1
  have s4 := H.1.1.2.2.1
  have s6 := H.1.1.2.2.2.2.1
  have s7 := H.1.1.2.2.2.2.2.1
  
  refine e_bif_eq (tgt := 29) dX6_at_5 rfl (fun c1 => ?_) (fun c1 => ?_)
  · refine e_bipush dX6_at_29 rfl ?_
    refine e_ireturn dX6_at_31 rfl rfl ?_
    refine t_pub ?_ hpk
    unfold v_at
    (repeat' split) <;> first | rfl | omega
  · refine e_iload_n dX6_at_8 rfl ?_
    refine e_i2l dX6_at_9 ⟨by omega, by omega⟩ ?_
    refine e_lconst (z := 0) dX6_at_10 rfl ?_
    refine e_ldc2 (z := 40) dX6_at_11 q2164 rfl ?_
    refine e_callS3rz dX6_at_14 md_X6_in lk_X6_106 rfl q1930 rfl (Nat.le_of_ble_eq_true rfl) (C_X6_in ⟨by omega, by omega⟩ ⟨by omega, by omega⟩ ⟨by omega, by omega⟩) ?_
    refine e_bif_eq (tgt := 29) dX6_at_17 rfl (fun c2 => ?_) (fun c2 => ?_)
    · refine e_bipush dX6_at_29 rfl ?_
      refine e_ireturn dX6_at_31 rfl rfl ?_
      refine t_pub ?_ hpk
      unfold v_at
      (repeat' split) <;> first | rfl | omega
    · refine e_aload_n dX6_at_20 rfl ?_
      refine e_iload_n dX6_at_21 rfl ?_
      refine e_iload_n dX6_at_22 rfl ?_
      refine e_callV2rz (ci := 6) dX6_at_23 md_X6_pathOf lk_X6_341 rfl q2167 qs102 (t_obj _ _) (by decide) rfl (Nat.le_of_ble_eq_true rfl) (C_X6_pathOf H ⟨by omega, by omega⟩ ⟨by omega, by omega⟩) ?_
      refine e_goto (tgt := 31) dX6_at_26 rfl ?_
      refine e_ireturn dX6_at_31 rfl rfl ?_
      refine t_pub ?_ hpk
      unfold v_at
      (repeat' split) <;> first | rfl | omega
theorem C_X6_steps {σ : t_S} {h0 : e_A} (hz : t_sz σ) (hr : t_okR (σ 1)) {w : Int} (hw : e_rg w) : e_C mX6_steps [.ref 384, e_i w] (t_H σ h0) 0 0 8 (t_Pub (v_steps (t_af σ) w) σ h0) := by
  refine e_enter (al0 := [.ref 384, e_i w]) (by decide +kernel) rfl (Nat.le_of_ble_eq_true rfl) ?_
  refine e_aload_n dX6_steps_0 rfl ?_
  refine e_iload_n dX6_steps_1 rfl ?_
  refine e_callV1rz (ci := 6) dX6_steps_2 md_X6_asksWidow lk_X6_356 rfl q2162 qs101 (t_obj _ _) (by decide) rfl (Nat.le_of_ble_eq_true rfl) (C_X6_asksWidow hz hr ⟨by omega, by omega⟩) ?_
  have H := t_af_hist hz hr
  have hpk := t_af_pk hz hr
  generalize t_af σ = ρ at H hpk ⊢
  replace hz : t_sz ρ := H.1.1
  have s0 := H.1.1.1
  have s3 := H.1.1.2.1
  have s4 := H.1.1.2.2.1
  have s6 := H.1.1.2.2.2.2.1
  have s7 := H.1.1.2.2.2.2.2.1
  
  refine e_bif_eq (tgt := 17) dX6_steps_5 rfl (fun c1 => ?_) (fun c1 => ?_)
  · refine e_bipush dX6_steps_17 rfl ?_
    refine e_ireturn dX6_steps_19 rfl rfl ?_
    refine t_pub ?_ hpk
    unfold v_steps
    (repeat' split) <;> first | rfl | omega
  · refine e_aload_n dX6_steps_8 rfl ?_
    refine t_geta (k := 27) dX6_steps_9 fl_X6_58 rfl ?_
    refine e_iload_n dX6_steps_12 rfl ?_
    refine t_ild 7 dX6_steps_13 rfl (by decide) (fun _ => rfl) rfl ⟨by omega, by omega⟩ ?_
    refine e_goto (tgt := 19) dX6_steps_14 rfl ?_
    refine e_ireturn dX6_steps_19 rfl rfl ?_
    refine t_pub ?_ hpk
    unfold v_steps
    (repeat' split) <;> first | rfl | omega
theorem C_X6_ground {σ : t_S} {h0 : e_A} (hz : t_sz σ) (hr : t_okR (σ 1)) {w : Int} (hw : e_rg w) : e_C mX6_ground [.ref 384, e_i w] (t_H σ h0) 0 0 8 (t_Pub (v_ground (t_af σ) w) σ h0) := by
  refine e_enter (al0 := [.ref 384, e_i w]) (by decide +kernel) rfl (Nat.le_of_ble_eq_true rfl) ?_
  refine e_aload_n dX6_ground_0 rfl ?_
  refine e_iload_n dX6_ground_1 rfl ?_
  refine e_callV1rz (ci := 6) dX6_ground_2 md_X6_asksWidow lk_X6_356 rfl q2162 qs101 (t_obj _ _) (by decide) rfl (Nat.le_of_ble_eq_true rfl) (C_X6_asksWidow hz hr ⟨by omega, by omega⟩) ?_
  have H := t_af_hist hz hr
  have hpk := t_af_pk hz hr
  generalize t_af σ = ρ at H hpk ⊢
  replace hz : t_sz ρ := H.1.1
  have s0 := H.1.1.1
  have s3 := H.1.1.2.1
  have s4 := H.1.1.2.2.1
  have s6 := H.1.1.2.2.2.2.1
  have s7 := H.1.1.2.2.2.2.2.1
  
  refine e_bif_ne (tgt := 11) dX6_ground_5 rfl (fun c1 => ?_) (fun c1 => ?_)
  · refine e_aload_n dX6_ground_11 rfl ?_
    refine e_iload_n dX6_ground_12 rfl ?_
    refine e_callV1rz (ci := 6) dX6_ground_13 md_X6_walks lk_X6_361 rfl q2179 qs103 (t_obj _ _) (by decide) rfl (Nat.le_of_ble_eq_true rfl) (C_X6_walks H ⟨by omega, by omega⟩) ?_
    refine e_bif_eq (tgt := 27) dX6_ground_16 rfl (fun c2 => ?_) (fun c2 => ?_)
    · refine e_iconst dX6_ground_27 ?_
      refine e_ireturn dX6_ground_28 rfl rfl ?_
      refine t_pub ?_ hpk
      unfold v_ground
      (repeat' split) <;> first | rfl | omega
    · refine e_aload_n dX6_ground_19 rfl ?_
      refine e_iload_n dX6_ground_20 rfl ?_
      refine e_callV1rz (ci := 6) dX6_ground_21 md_X6_groundOf lk_X6_367 rfl q2187 qs104 (t_obj _ _) (by decide) rfl (Nat.le_of_ble_eq_true rfl) (C_X6_groundOf H ⟨by omega, by omega⟩) ?_
      refine e_goto (tgt := 28) dX6_ground_24 rfl ?_
      refine e_ireturn dX6_ground_28 rfl rfl ?_
      refine t_pub ?_ hpk
      unfold v_ground
      (repeat' split) <;> first | rfl | omega
  · refine e_bipush dX6_ground_8 rfl ?_
    refine e_ireturn dX6_ground_10 rfl rfl ?_
    refine t_pub ?_ hpk
    unfold v_ground
    (repeat' split) <;> first | rfl | omega
theorem C_X6_visits {σ : t_S} {h0 : e_A} (hz : t_sz σ) (hr : t_okR (σ 1)) {w : Int} (hw : e_rg w) {c : Int} (hc : e_rg c) : e_C mX6_visits [.ref 384, e_i w, e_i c] (t_H σ h0) 0 0 8 (t_Pub (v_visits (t_af σ) w c) σ h0) := by
  refine e_enter (al0 := [.ref 384, e_i w, e_i c]) (by decide +kernel) rfl (Nat.le_of_ble_eq_true rfl) ?_
  refine e_aload_n dX6_visits_0 rfl ?_
  refine e_iload_n dX6_visits_1 rfl ?_
  refine e_callV1rz (ci := 6) dX6_visits_2 md_X6_asksWidow lk_X6_356 rfl q2162 qs101 (t_obj _ _) (by decide) rfl (Nat.le_of_ble_eq_true rfl) (C_X6_asksWidow hz hr ⟨by omega, by omega⟩) ?_
  have H := t_af_hist hz hr
  have hpk := t_af_pk hz hr
  generalize t_af σ = ρ at H hpk ⊢
  replace hz : t_sz ρ := H.1.1
  have s0 := H.1.1.1
  have s3 := H.1.1.2.1
  have s4 := H.1.1.2.2.1
  have s6 := H.1.1.2.2.2.2.1
  have s7 := H.1.1.2.2.2.2.2.1
  
  refine e_bif_eq (tgt := 26) dX6_visits_5 rfl (fun c1 => ?_) (fun c1 => ?_)
  · refine e_bipush dX6_visits_26 rfl ?_
    refine e_ireturn dX6_visits_28 rfl rfl ?_
    refine t_pub ?_ hpk
    unfold v_visits
    (repeat' split) <;> first | rfl | omega
  · refine e_aload_n dX6_visits_8 rfl ?_
    refine e_iload_n dX6_visits_9 rfl ?_
    refine e_i2l dX6_visits_10 ⟨by omega, by omega⟩ ?_
    refine e_callV1rz (ci := 6) dX6_visits_11 md_X6_isCell lk_X6_310 rfl q2145 qs98 (t_obj _ _) (by decide) rfl (Nat.le_of_ble_eq_true rfl) (C_X6_isCell hz ⟨by omega, by omega⟩) ?_
    refine e_bif_eq (tgt := 26) dX6_visits_14 rfl (fun c2 => ?_) (fun c2 => ?_)
    · refine e_bipush dX6_visits_26 rfl ?_
      refine e_ireturn dX6_visits_28 rfl rfl ?_
      refine t_pub ?_ hpk
      unfold v_visits
      (repeat' split) <;> first | rfl | omega
    · refine e_aload_n dX6_visits_17 rfl ?_
      refine e_iload_n dX6_visits_18 rfl ?_
      refine e_iload_n dX6_visits_19 rfl ?_
      refine e_callV2rz (ci := 6) dX6_visits_20 md_X6_visitsOf lk_X6_370 rfl q2203 qs106 (t_obj _ _) (by decide) rfl (Nat.le_of_ble_eq_true rfl) (C_X6_visitsOf H ⟨by omega, by omega⟩ ⟨by omega, by omega⟩) ?_
      refine e_goto (tgt := 28) dX6_visits_23 rfl ?_
      refine e_ireturn dX6_visits_28 rfl rfl ?_
      refine t_pub ?_ hpk
      unfold v_visits
      (repeat' split) <;> first | rfl | omega
theorem C_X6_road {σ : t_S} {h0 : e_A} (hz : t_sz σ) (hr : t_okR (σ 1)) {c : Int} (hc : e_rg c) {y : Int} (hy : e_rg y) : e_C mX6_road [.ref 384, e_i c, e_i y] (t_H σ h0) 0 0 8 (t_Pub (v_road (t_af σ) c y) σ h0) := by
  refine e_enter (al0 := [.ref 384, e_i c, e_i y]) (by decide +kernel) rfl (Nat.le_of_ble_eq_true rfl) ?_
  refine e_aload_n dX6_road_0 rfl ?_
  refine e_iload_n dX6_road_1 rfl ?_
  refine e_callV1rz (ci := 6) dX6_road_2 md_X6_asksYear lk_X6_373 rfl q2215 qs107 (t_obj _ _) (by decide) rfl (Nat.le_of_ble_eq_true rfl) (C_X6_asksYear hz hr ⟨by omega, by omega⟩) ?_
  have H := t_af_hist hz hr
  have hpk := t_af_pk hz hr
  generalize t_af σ = ρ at H hpk ⊢
  replace hz : t_sz ρ := H.1.1
  have s0 := H.1.1.1
  have s3 := H.1.1.2.1
  have s4 := H.1.1.2.2.1
  have s6 := H.1.1.2.2.2.2.1
  have s7 := H.1.1.2.2.2.2.2.1
  
  refine e_bif_eq (tgt := 17) dX6_road_5 rfl (fun c1 => ?_) (fun c1 => ?_)
  · refine e_bipush dX6_road_17 rfl ?_
    refine e_ireturn dX6_road_19 rfl rfl ?_
    refine t_pub ?_ hpk
    unfold v_road
    (repeat' split) <;> first | rfl | omega
  · refine e_aload_n dX6_road_8 rfl ?_
    refine e_iload_n dX6_road_9 rfl ?_
    refine e_i2l dX6_road_10 ⟨by omega, by omega⟩ ?_
    refine e_callV1rz (ci := 6) dX6_road_11 md_X6_isCell lk_X6_310 rfl q2145 qs98 (t_obj _ _) (by decide) rfl (Nat.le_of_ble_eq_true rfl) (C_X6_isCell hz ⟨by omega, by omega⟩) ?_
    refine e_bif_ne (tgt := 20) dX6_road_14 rfl (fun c2 => ?_) (fun c2 => ?_)
    · refine e_aload_n dX6_road_20 rfl ?_
      refine e_iload_n dX6_road_21 rfl ?_
      refine e_iload_n dX6_road_22 rfl ?_
      refine e_callV2rz (ci := 6) dX6_road_23 md_X6_roadOf lk_X6_386 rfl q2251 qs113 (t_obj _ _) (by decide) rfl (Nat.le_of_ble_eq_true rfl) (C_X6_roadOf H ⟨by omega, by omega⟩ ⟨by omega, by omega⟩) ?_
      have hp : t_rdo ρ c y = 0 ∨ t_rdo ρ c y = 1 := (H.2.1 y c (by omega) (by omega) (by omega) (by omega)).1
      refine e_if_eq (tgt := 33) dX6_road_26 rfl ⟨by omega, by omega⟩ (fun c3 => ?_) (fun c3 => ?_)
      · refine e_iconst dX6_road_33 ?_
        refine e_ireturn dX6_road_34 rfl rfl ?_
        refine t_pub ?_ hpk
        unfold v_road
        (repeat' split) <;> first | rfl | omega
      · refine e_iconst dX6_road_29 ?_
        refine e_goto (tgt := 34) dX6_road_30 rfl ?_
        refine e_ireturn dX6_road_34 rfl rfl ?_
        refine t_pub ?_ hpk
        unfold v_road
        (repeat' split) <;> first | rfl | omega
    · refine e_bipush dX6_road_17 rfl ?_
      refine e_ireturn dX6_road_19 rfl rfl ?_
      refine t_pub ?_ hpk
      unfold v_road
      (repeat' split) <;> first | rfl | omega
theorem C_X6_roads {σ : t_S} {h0 : e_A} (hz : t_sz σ) (hr : t_okR (σ 1)) {y : Int} (hy : e_rg y) : e_C mX6_roads [.ref 384, e_i y] (t_H σ h0) 0 0 8 (t_Pub (v_roads (t_af σ) y) σ h0) := by
  refine e_enter (al0 := [.ref 384, e_i y]) (by decide +kernel) rfl (Nat.le_of_ble_eq_true rfl) ?_
  refine e_aload_n dX6_roads_0 rfl ?_
  refine e_iload_n dX6_roads_1 rfl ?_
  refine e_callV1rz (ci := 6) dX6_roads_2 md_X6_asksYear lk_X6_373 rfl q2215 qs107 (t_obj _ _) (by decide) rfl (Nat.le_of_ble_eq_true rfl) (C_X6_asksYear hz hr ⟨by omega, by omega⟩) ?_
  have H := t_af_hist hz hr
  have hpk := t_af_pk hz hr
  generalize t_af σ = ρ at H hpk ⊢
  replace hz : t_sz ρ := H.1.1
  have s0 := H.1.1.1
  have s3 := H.1.1.2.1
  have s4 := H.1.1.2.2.1
  have s6 := H.1.1.2.2.2.2.1
  have s7 := H.1.1.2.2.2.2.2.1
  
  refine e_bif_eq (tgt := 16) dX6_roads_5 rfl (fun c1 => ?_) (fun c1 => ?_)
  · refine e_bipush dX6_roads_16 rfl ?_
    refine e_ireturn dX6_roads_18 rfl rfl ?_
    refine t_pub ?_ hpk
    unfold v_roads
    (repeat' split) <;> first | rfl | omega
  · refine e_aload_n dX6_roads_8 rfl ?_
    refine e_iload_n dX6_roads_9 rfl ?_
    refine e_callV1rz (ci := 6) dX6_roads_10 md_X6_roadMany lk_X6_392 rfl q2275 qs115 (t_obj _ _) (by decide) rfl (Nat.le_of_ble_eq_true rfl) (C_X6_roadMany H ⟨by omega, by omega⟩) ?_
    refine e_goto (tgt := 18) dX6_roads_13 rfl ?_
    refine e_ireturn dX6_roads_18 rfl rfl ?_
    refine t_pub ?_ hpk
    unfold v_roads
    (repeat' split) <;> first | rfl | omega
theorem C_X6_pegs {σ : t_S} {h0 : e_A} (hz : t_sz σ) (hr : t_okR (σ 1)) {y : Int} (hy : e_rg y) : e_C mX6_pegs [.ref 384, e_i y] (t_H σ h0) 0 0 8 (t_Pub (v_pegs (t_af σ) y) σ h0) := by
  refine e_enter (al0 := [.ref 384, e_i y]) (by decide +kernel) rfl (Nat.le_of_ble_eq_true rfl) ?_
  refine e_aload_n dX6_pegs_0 rfl ?_
  refine e_iload_n dX6_pegs_1 rfl ?_
  refine e_callV1rz (ci := 6) dX6_pegs_2 md_X6_asksYear lk_X6_373 rfl q2215 qs107 (t_obj _ _) (by decide) rfl (Nat.le_of_ble_eq_true rfl) (C_X6_asksYear hz hr ⟨by omega, by omega⟩) ?_
  have H := t_af_hist hz hr
  have hpk := t_af_pk hz hr
  generalize t_af σ = ρ at H hpk ⊢
  replace hz : t_sz ρ := H.1.1
  have s0 := H.1.1.1
  have s3 := H.1.1.2.1
  have s4 := H.1.1.2.2.1
  have s6 := H.1.1.2.2.2.2.1
  have s7 := H.1.1.2.2.2.2.2.1
  
  refine e_bif_eq (tgt := 16) dX6_pegs_5 rfl (fun c1 => ?_) (fun c1 => ?_)
  · refine e_bipush dX6_pegs_16 rfl ?_
    refine e_ireturn dX6_pegs_18 rfl rfl ?_
    refine t_pub ?_ hpk
    unfold v_pegs
    (repeat' split) <;> first | rfl | omega
  · refine e_aload_n dX6_pegs_8 rfl ?_
    refine e_iload_n dX6_pegs_9 rfl ?_
    refine e_callV1rz (ci := 6) dX6_pegs_10 md_X6_pegMany lk_X6_350 rfl q2283 qs116 (t_obj _ _) (by decide) rfl (Nat.le_of_ble_eq_true rfl) (C_X6_pegMany H ⟨by omega, by omega⟩) ?_
    refine e_goto (tgt := 18) dX6_pegs_13 rfl ?_
    refine e_ireturn dX6_pegs_18 rfl rfl ?_
    refine t_pub ?_ hpk
    unfold v_pegs
    (repeat' split) <;> first | rfl | omega
theorem C_X6_joins {σ : t_S} {h0 : e_A} (hz : t_sz σ) (hr : t_okR (σ 1)) {c : Int} (hc : e_rg c) {y : Int} (hy : e_rg y) : e_C mX6_joins [.ref 384, e_i c, e_i y] (t_H σ h0) 0 0 8 (t_Pub (v_joins (t_af σ) c y) σ h0) := by
  refine e_enter (al0 := [.ref 384, e_i c, e_i y]) (by decide +kernel) rfl (Nat.le_of_ble_eq_true rfl) ?_
  refine e_aload_n dX6_joins_0 rfl ?_
  refine e_iload_n dX6_joins_1 rfl ?_
  refine e_callV1rz (ci := 6) dX6_joins_2 md_X6_asksYear lk_X6_373 rfl q2215 qs107 (t_obj _ _) (by decide) rfl (Nat.le_of_ble_eq_true rfl) (C_X6_asksYear hz hr ⟨by omega, by omega⟩) ?_
  have H := t_af_hist hz hr
  have hpk := t_af_pk hz hr
  generalize t_af σ = ρ at H hpk ⊢
  replace hz : t_sz ρ := H.1.1
  have s0 := H.1.1.1
  have s3 := H.1.1.2.1
  have s4 := H.1.1.2.2.1
  have s6 := H.1.1.2.2.2.2.1
  have s7 := H.1.1.2.2.2.2.2.1
  
  refine e_bif_eq (tgt := 26) dX6_joins_5 rfl (fun c1 => ?_) (fun c1 => ?_)
  · refine e_bipush dX6_joins_26 rfl ?_
    refine e_ireturn dX6_joins_28 rfl rfl ?_
    refine t_pub ?_ hpk
    unfold v_joins
    (repeat' split) <;> first | rfl | omega
  · refine e_aload_n dX6_joins_8 rfl ?_
    refine e_iload_n dX6_joins_9 rfl ?_
    refine e_i2l dX6_joins_10 ⟨by omega, by omega⟩ ?_
    refine e_callV1rz (ci := 6) dX6_joins_11 md_X6_isCell lk_X6_310 rfl q2145 qs98 (t_obj _ _) (by decide) rfl (Nat.le_of_ble_eq_true rfl) (C_X6_isCell hz ⟨by omega, by omega⟩) ?_
    refine e_bif_eq (tgt := 26) dX6_joins_14 rfl (fun c2 => ?_) (fun c2 => ?_)
    · refine e_bipush dX6_joins_26 rfl ?_
      refine e_ireturn dX6_joins_28 rfl rfl ?_
      refine t_pub ?_ hpk
      unfold v_joins
      (repeat' split) <;> first | rfl | omega
    · refine e_aload_n dX6_joins_17 rfl ?_
      refine e_iload_n dX6_joins_18 rfl ?_
      refine e_iload_n dX6_joins_19 rfl ?_
      refine e_callV2rz (ci := 6) dX6_joins_20 md_X6_pegsOf lk_X6_344 rfl q2239 qs112 (t_obj _ _) (by decide) rfl (Nat.le_of_ble_eq_true rfl) (C_X6_pegsOf ⟨by omega, by omega⟩ ⟨by omega, by omega⟩) ?_
      refine e_goto (tgt := 28) dX6_joins_23 rfl ?_
      refine e_ireturn dX6_joins_28 rfl rfl ?_
      refine t_pub ?_ hpk
      unfold v_joins
      (repeat' split) <;> first | rfl | omega
theorem C_X6_walked {σ : t_S} {h0 : e_A} (hz : t_sz σ) (hr : t_okR (σ 1)) {c : Int} (hc : e_rg c) : e_C mX6_walked [.ref 384, e_i c] (t_H σ h0) 0 0 8 (t_Pub (v_walked (t_af σ) c) σ h0) := by
  refine e_enter (al0 := [.ref 384, e_i c]) (by decide +kernel) rfl (Nat.le_of_ble_eq_true rfl) ?_
  refine e_aload_n dX6_walked_0 rfl ?_
  refine e_iload_n dX6_walked_1 rfl ?_
  refine e_callV1rz (ci := 6) dX6_walked_2 md_X6_asksCell lk_X6_353 rfl q2076 qs83 (t_obj _ _) (by decide) rfl (Nat.le_of_ble_eq_true rfl) (C_X6_asksCell hz hr ⟨by omega, by omega⟩) ?_
  have H := t_af_hist hz hr
  have hpk := t_af_pk hz hr
  generalize t_af σ = ρ at H hpk ⊢
  replace hz : t_sz ρ := H.1.1
  have s0 := H.1.1.1
  have s3 := H.1.1.2.1
  have s4 := H.1.1.2.2.1
  have s6 := H.1.1.2.2.2.2.1
  have s7 := H.1.1.2.2.2.2.2.1
  
  refine e_bif_eq (tgt := 16) dX6_walked_5 rfl (fun c1 => ?_) (fun c1 => ?_)
  · refine e_bipush dX6_walked_16 rfl ?_
    refine e_ireturn dX6_walked_18 rfl rfl ?_
    refine t_pub ?_ hpk
    unfold v_walked
    (repeat' split) <;> first | rfl | omega
  · refine e_aload_n dX6_walked_8 rfl ?_
    refine e_iload_n dX6_walked_9 rfl ?_
    refine e_callV1rz (ci := 6) dX6_walked_10 md_X6_walkedOf lk_X6_404 rfl q2335 qs119 (t_obj _ _) (by decide) rfl (Nat.le_of_ble_eq_true rfl) (C_X6_walkedOf H ⟨by omega, by omega⟩) ?_
    refine e_goto (tgt := 18) dX6_walked_13 rfl ?_
    refine e_ireturn dX6_walked_18 rfl rfl ?_
    refine t_pub ?_ hpk
    unfold v_walked
    (repeat' split) <;> first | rfl | omega
theorem C_X6_house {σ : t_S} {h0 : e_A} (hz : t_sz σ) (hr : t_okR (σ 1)) {h : Int} (hh : e_rg h) {y : Int} (hy : e_rg y) : e_C mX6_house [.ref 384, e_i h, e_i y] (t_H σ h0) 0 0 8 (t_Pub (v_house (t_af σ) h y) σ h0) := by
  refine e_enter (al0 := [.ref 384, e_i h, e_i y]) (by decide +kernel) rfl (Nat.le_of_ble_eq_true rfl) ?_
  refine e_aload_n dX6_house_0 rfl ?_
  refine e_iload_n dX6_house_1 rfl ?_
  refine e_callV1rz (ci := 6) dX6_house_2 md_X6_asksYear lk_X6_373 rfl q2215 qs107 (t_obj _ _) (by decide) rfl (Nat.le_of_ble_eq_true rfl) (C_X6_asksYear hz hr ⟨by omega, by omega⟩) ?_
  have H := t_af_hist hz hr
  have hpk := t_af_pk hz hr
  generalize t_af σ = ρ at H hpk ⊢
  replace hz : t_sz ρ := H.1.1
  have s0 := H.1.1.1
  have s3 := H.1.1.2.1
  have s4 := H.1.1.2.2.1
  have s6 := H.1.1.2.2.2.2.1
  have s7 := H.1.1.2.2.2.2.2.1
  
  refine e_bif_eq (tgt := 30) dX6_house_5 rfl (fun c1 => ?_) (fun c1 => ?_)
  · refine e_bipush dX6_house_30 rfl ?_
    refine e_ireturn dX6_house_32 rfl rfl ?_
    refine t_pub ?_ hpk
    unfold v_house
    (repeat' split) <;> first | rfl | omega
  · refine e_aload_n dX6_house_8 rfl ?_
    refine e_iload_n dX6_house_9 rfl ?_
    refine e_callV1rz (ci := 6) dX6_house_10 md_X6_isHouseTold lk_X6_410 rfl q2363 qs121 (t_obj _ _) (by decide) rfl (Nat.le_of_ble_eq_true rfl) (C_X6_isHouseTold hz ⟨by omega, by omega⟩) ?_
    refine e_bif_eq (tgt := 30) dX6_house_13 rfl (fun c2 => ?_) (fun c2 => ?_)
    · refine e_bipush dX6_house_30 rfl ?_
      refine e_ireturn dX6_house_32 rfl rfl ?_
      refine t_pub ?_ hpk
      unfold v_house
      (repeat' split) <;> first | rfl | omega
    · refine e_aload_n dX6_house_16 rfl ?_
      refine t_geta (k := 32) dX6_house_17 fl_X6_73 rfl ?_
      refine e_bipush dX6_house_20 rfl ?_
      refine e_iload_n dX6_house_22 rfl ?_
      refine e_imul dX6_house_23 ?_
      refine e_iload_n dX6_house_24 rfl ?_
      refine e_iadd dX6_house_25 ?_
      refine t_ild 78 dX6_house_26 rfl (by decide) (fun _ => rfl) rfl ⟨by omega, by omega⟩ ?_
      refine e_goto (tgt := 32) dX6_house_27 rfl ?_
      refine e_ireturn dX6_house_32 rfl rfl ?_
      refine t_pub ?_ hpk
      unfold v_house
      (repeat' split) <;> first | rfl | omega
theorem C_X6_moved {σ : t_S} {h0 : e_A} (hz : t_sz σ) (hr : t_okR (σ 1)) {h : Int} (hh : e_rg h) : e_C mX6_moved [.ref 384, e_i h] (t_H σ h0) 0 0 7 (t_Pub (v_moved (t_af σ) h) σ h0) := by
  refine e_enter (al0 := [.ref 384, e_i h]) (by decide +kernel) rfl (Nat.le_of_ble_eq_true rfl) ?_
  refine e_aload_n dX6_moved_0 rfl ?_
  refine e_callV0rz (ci := 6) dX6_moved_1 md_X6_asksColony lk_X6_335 rfl q2080 qs84 (t_obj _ _) (by decide) rfl (Nat.le_of_ble_eq_true rfl) (C_X6_asksColony hz hr) ?_
  have H := t_af_hist hz hr
  have hpk := t_af_pk hz hr
  generalize t_af σ = ρ at H hpk ⊢
  replace hz : t_sz ρ := H.1.1
  have s0 := H.1.1.1
  have s3 := H.1.1.2.1
  have s4 := H.1.1.2.2.1
  have s6 := H.1.1.2.2.2.2.1
  have s7 := H.1.1.2.2.2.2.2.1
  
  refine e_pop dX6_moved_4 rfl ?_
  refine e_aload_n dX6_moved_5 rfl ?_
  refine e_iload_n dX6_moved_6 rfl ?_
  refine e_callV1rz (ci := 6) dX6_moved_7 md_X6_isHouseTold lk_X6_410 rfl q2363 qs121 (t_obj _ _) (by decide) rfl (Nat.le_of_ble_eq_true rfl) (C_X6_isHouseTold hz ⟨by omega, by omega⟩) ?_
  refine e_bif_eq (tgt := 22) dX6_moved_10 rfl (fun c1 => ?_) (fun c1 => ?_)
  · refine e_bipush dX6_moved_22 rfl ?_
    refine e_ireturn dX6_moved_24 rfl rfl ?_
    refine t_pub ?_ hpk
    unfold v_moved
    (repeat' split) <;> first | rfl | omega
  · refine e_aload_n dX6_moved_13 rfl ?_
    refine t_geta (k := 29) dX6_moved_14 fl_X6_64 rfl ?_
    refine e_iload_n dX6_moved_17 rfl ?_
    refine t_ild 6 dX6_moved_18 rfl (by decide) (fun _ => rfl) rfl ⟨by omega, by omega⟩ ?_
    refine e_goto (tgt := 24) dX6_moved_19 rfl ?_
    refine e_ireturn dX6_moved_24 rfl rfl ?_
    refine t_pub ?_ hpk
    unfold v_moved
    (repeat' split) <;> first | rfl | omega
theorem C_X6_moves {σ : t_S} {h0 : e_A} (hz : t_sz σ) (hr : t_okR (σ 1)) {w : Int} (hw : e_rg w) : e_C mX6_moves [.ref 384, e_i w] (t_H σ h0) 0 0 8 (t_Pub (v_moves (t_af σ) w) σ h0) := by
  refine e_enter (al0 := [.ref 384, e_i w]) (by decide +kernel) rfl (Nat.le_of_ble_eq_true rfl) ?_
  refine e_aload_n dX6_moves_0 rfl ?_
  refine e_iload_n dX6_moves_1 rfl ?_
  refine e_callV1rz (ci := 6) dX6_moves_2 md_X6_asksWidow lk_X6_356 rfl q2162 qs101 (t_obj _ _) (by decide) rfl (Nat.le_of_ble_eq_true rfl) (C_X6_asksWidow hz hr ⟨by omega, by omega⟩) ?_
  have H := t_af_hist hz hr
  have hpk := t_af_pk hz hr
  generalize t_af σ = ρ at H hpk ⊢
  replace hz : t_sz ρ := H.1.1
  have s0 := H.1.1.1
  have s3 := H.1.1.2.1
  have s4 := H.1.1.2.2.1
  have s6 := H.1.1.2.2.2.2.1
  have s7 := H.1.1.2.2.2.2.2.1
  
  refine e_bif_ne (tgt := 11) dX6_moves_5 rfl (fun c1 => ?_) (fun c1 => ?_)
  · refine e_aload_n dX6_moves_11 rfl ?_
    refine e_iload_n dX6_moves_12 rfl ?_
    refine e_callV1rz (ci := 6) dX6_moves_13 md_X6_walks lk_X6_361 rfl q2179 qs103 (t_obj _ _) (by decide) rfl (Nat.le_of_ble_eq_true rfl) (C_X6_walks H ⟨by omega, by omega⟩) ?_
    refine e_bif_eq (tgt := 28) dX6_moves_16 rfl (fun c2 => ?_) (fun c2 => ?_)
    · refine e_iconst dX6_moves_28 ?_
      refine e_ireturn dX6_moves_29 rfl rfl ?_
      refine t_pub ?_ hpk
      unfold v_moves
      (repeat' split) <;> first | rfl | omega
    · refine e_aload_n dX6_moves_19 rfl ?_
      refine t_geta (k := 28) dX6_moves_20 fl_X6_61 rfl ?_
      refine e_iload_n dX6_moves_23 rfl ?_
      refine t_ild 7 dX6_moves_24 rfl (by decide) (fun _ => rfl) rfl ⟨by omega, by omega⟩ ?_
      refine e_goto (tgt := 29) dX6_moves_25 rfl ?_
      refine e_ireturn dX6_moves_29 rfl rfl ?_
      refine t_pub ?_ hpk
      unfold v_moves
      (repeat' split) <;> first | rfl | omega
  · refine e_bipush dX6_moves_8 rfl ?_
    refine e_ireturn dX6_moves_10 rfl rfl ?_
    refine t_pub ?_ hpk
    unfold v_moves
    (repeat' split) <;> first | rfl | omega
theorem C_X6_stands {σ : t_S} {h0 : e_A} (hz : t_sz σ) (hr : t_okR (σ 1)) {w : Int} (hw : e_rg w) : e_C mX6_stands [.ref 384, e_i w] (t_H σ h0) 0 0 8 (t_Pub (v_stands (t_af σ) w) σ h0) := by
  refine e_enter (al0 := [.ref 384, e_i w, .retAddr 0, .retAddr 0]) (by decide +kernel) rfl (Nat.le_of_ble_eq_true rfl) ?_
  refine e_aload_n dX6_stands_0 rfl ?_
  refine e_iload_n dX6_stands_1 rfl ?_
  refine e_callV1rz (ci := 6) dX6_stands_2 md_X6_asksWidow lk_X6_356 rfl q2162 qs101 (t_obj _ _) (by decide) rfl (Nat.le_of_ble_eq_true rfl) (C_X6_asksWidow hz hr ⟨by omega, by omega⟩) ?_
  have H := t_af_hist hz hr
  have hpk := t_af_pk hz hr
  generalize t_af σ = ρ at H hpk ⊢
  replace hz : t_sz ρ := H.1.1
  have s0 := H.1.1.1
  have s3 := H.1.1.2.1
  have s4 := H.1.1.2.2.1
  have s6 := H.1.1.2.2.2.2.1
  have s7 := H.1.1.2.2.2.2.2.1
  
  refine e_bif_ne (tgt := 11) dX6_stands_5 rfl (fun c1 => ?_) (fun c1 => ?_)
  · have h1 := (H.2.2.2.1 w (by omega) (by omega)).1
    obtain ⟨N, hN⟩ := t_stN (ρ 27 w)
    refine e_iconst dX6_stands_11 ?_
    refine e_istore_n2 dX6_stands_12 rfl ?_
    refine e_iconst dX6_stands_13 ?_
    refine e_istore_n3 dX6_stands_14 rfl ?_
    refine e_forA (a := 1) (n := N) (fun i => e_E mX6_stands 15 [.ref 384, e_i w, e_i (t_sum (t_stg ρ w) (i - 1).toNat), e_i i] [] (t_H ρ h0) _ _ _ _) (by omega) ?_ (fun i hi0 hi1 hF => ?_)
    · refine e_iload_n dX6_stands_15 rfl ?_
      refine e_aload_n dX6_stands_16 rfl ?_
      refine t_geta (k := 27) dX6_stands_17 fl_X6_58 rfl ?_
      refine e_iload_n dX6_stands_20 rfl ?_
      refine t_ild 7 dX6_stands_21 rfl (by decide) (fun _ => rfl) rfl ⟨by omega, by omega⟩ ?_
      refine e_icmp_gt (tgt := 56) dX6_stands_22 rfl ⟨by omega, by omega⟩ ⟨by omega, by omega⟩ (fun c2 => ?_) (fun q => by exfalso; omega)
      refine e_aload_n dX6_stands_56 rfl ?_
      refine e_iload_n dX6_stands_57 rfl ?_
      refine e_callV1rz (ci := 6) dX6_stands_58 md_X6_walks lk_X6_361 rfl q2179 qs103 (t_obj _ _) (by decide) rfl (Nat.le_of_ble_eq_true rfl) (C_X6_walks H ⟨by omega, by omega⟩) ?_
      refine e_bif_eq (tgt := 68) dX6_stands_61 rfl (fun c3 => ?_) (fun c3 => ?_)
      · refine e_iconst dX6_stands_68 ?_
        refine e_ireturn dX6_stands_69 rfl rfl ?_
        refine t_pub ?_ hpk
        unfold v_stands
        (repeat' split) <;> first | rfl | omega | (rw [show N - 1 = ρ 27 w by omega])
      · refine e_iload_n dX6_stands_64 rfl ?_
        refine e_goto (tgt := 69) dX6_stands_65 rfl ?_
        refine e_ireturn dX6_stands_69 rfl rfl ?_
        refine t_pub ?_ hpk
        unfold v_stands
        (repeat' split) <;> first | rfl | omega | (rw [show N - 1 = ρ 27 w by omega])
    · rw [show i + 1 - 1 = (i - 1) + 1 by omega, t_sum_s _ (by omega)] at hF
      have hg : t_stg ρ w (i - 1) = if t_pth ρ w i = t_pth ρ w (i - 1) then 1 else 0 := by unfold t_stg; rw [Int.sub_add_cancel]
      have hp1 := t_pth_rg H.2.2.2.1 (w := w) (k := i) (by omega) (by omega)
      have hp2 := t_pth_rg H.2.2.2.1 (w := w) (k := i - 1) (by omega) (by omega)
      refine e_iload_n dX6_stands_15 rfl ?_
      refine e_aload_n dX6_stands_16 rfl ?_
      refine t_geta (k := 27) dX6_stands_17 fl_X6_58 rfl ?_
      refine e_iload_n dX6_stands_20 rfl ?_
      refine t_ild 7 dX6_stands_21 rfl (by decide) (fun _ => rfl) rfl ⟨by omega, by omega⟩ ?_
      refine e_icmp_gt (tgt := 56) dX6_stands_22 rfl ⟨by omega, by omega⟩ ⟨by omega, by omega⟩ (fun q => by exfalso; omega) (fun c4 => ?_)
      refine e_iload_n dX6_stands_25 rfl ?_
      refine e_aload_n dX6_stands_26 rfl ?_
      refine e_iload_n dX6_stands_27 rfl ?_
      refine e_iload_n dX6_stands_28 rfl ?_
      refine e_callV2rz (ci := 6) dX6_stands_29 md_X6_pathOf lk_X6_341 rfl q2167 qs102 (t_obj _ _) (by decide) rfl (Nat.le_of_ble_eq_true rfl) (C_X6_pathOf H ⟨by omega, by omega⟩ ⟨by omega, by omega⟩) ?_
      refine e_aload_n dX6_stands_32 rfl ?_
      refine e_iload_n dX6_stands_33 rfl ?_
      refine e_iload_n dX6_stands_34 rfl ?_
      refine e_iconst dX6_stands_35 ?_
      refine e_isub dX6_stands_36 ?_
      refine e_callV2rz (ci := 6) dX6_stands_37 md_X6_pathOf lk_X6_341 rfl q2167 qs102 (t_obj _ _) (by decide) rfl (Nat.le_of_ble_eq_true rfl) (C_X6_pathOf H ⟨by omega, by omega⟩ ⟨by omega, by omega⟩) ?_
      refine e_icmp_ne (tgt := 47) dX6_stands_40 rfl ⟨by omega, by omega⟩ ⟨by omega, by omega⟩ (fun c5 => ?_) (fun c5 => ?_)
      · refine e_iconst dX6_stands_47 ?_
        refine e_iadd dX6_stands_48 ?_
        refine e_istore_n2 dX6_stands_49 rfl ?_
        refine e_iinc3 dX6_stands_50 rfl ?_
        refine e_goto (tgt := 15) dX6_stands_53 rfl ?_
        first
          | (rw [hg, if_pos (by omega)] at hF; exact hF)
          | (rw [hg, if_neg (by omega)] at hF; exact hF)
      · refine e_iconst dX6_stands_43 ?_
        refine e_goto (tgt := 48) dX6_stands_44 rfl ?_
        refine e_iadd dX6_stands_48 ?_
        refine e_istore_n2 dX6_stands_49 rfl ?_
        refine e_iinc3 dX6_stands_50 rfl ?_
        refine e_goto (tgt := 15) dX6_stands_53 rfl ?_
        first
          | (rw [hg, if_pos (by omega)] at hF; exact hF)
          | (rw [hg, if_neg (by omega)] at hF; exact hF)
  · refine e_bipush dX6_stands_8 rfl ?_
    refine e_ireturn dX6_stands_10 rfl rfl ?_
    refine t_pub ?_ hpk
    unfold v_stands
    (repeat' split) <;> first | rfl | omega | (rw [show N - 1 = ρ 27 w by omega])
theorem C_X6_loop {σ : t_S} {h0 : e_A} (hz : t_sz σ) (hr : t_okR (σ 1)) {w : Int} (hw : e_rg w) : e_C mX6_loop [.ref 384, e_i w] (t_H σ h0) 0 0 8 (t_Pub (v_loop (t_af σ) w) σ h0) := by
  refine e_enter (al0 := [.ref 384, e_i w, .retAddr 0]) (by decide +kernel) rfl (Nat.le_of_ble_eq_true rfl) ?_
  refine e_aload_n dX6_loop_0 rfl ?_
  refine e_iload_n dX6_loop_1 rfl ?_
  refine e_callV1rz (ci := 6) dX6_loop_2 md_X6_asksWidow lk_X6_356 rfl q2162 qs101 (t_obj _ _) (by decide) rfl (Nat.le_of_ble_eq_true rfl) (C_X6_asksWidow hz hr ⟨by omega, by omega⟩) ?_
  have H := t_af_hist hz hr
  have hpk := t_af_pk hz hr
  generalize t_af σ = ρ at H hpk ⊢
  replace hz : t_sz ρ := H.1.1
  have s0 := H.1.1.1
  have s3 := H.1.1.2.1
  have s4 := H.1.1.2.2.1
  have s6 := H.1.1.2.2.2.2.1
  have s7 := H.1.1.2.2.2.2.2.1
  
  refine e_bif_ne (tgt := 11) dX6_loop_5 rfl (fun c1 => ?_) (fun c1 => ?_)
  · have h1 := (H.2.2.2.1 w (by omega) (by omega)).1
    obtain ⟨N, hN⟩ := t_stN (ρ 27 w)
    have hp0 := t_pth_rg H.2.2.2.1 (w := w) (k := 0) (by omega) (by omega)
    refine e_iconst dX6_loop_11 ?_
    refine e_istore_n2 dX6_loop_12 rfl ?_
    refine e_forA (a := 1) (n := N) (fun i => t_fnd (t_lpg ρ w) (ρ 27 w).toNat 1 = t_fnd (t_lpg ρ w) (N - i).toNat i → e_E mX6_loop 13 [.ref 384, e_i w, e_i i] [] (t_H ρ h0) _ _ _ _) (by omega) (fun hV => ?_) (fun i hi0 hi1 hF hV => ?_) (by rw [show (N - 1).toNat = (ρ 27 w).toNat by omega])
    · rw [Int.sub_self] at hV
      refine e_iload_n dX6_loop_13 rfl ?_
      refine e_aload_n dX6_loop_14 rfl ?_
      refine t_geta (k := 27) dX6_loop_15 fl_X6_58 rfl ?_
      refine e_iload_n dX6_loop_18 rfl ?_
      refine t_ild 7 dX6_loop_19 rfl (by decide) (fun _ => rfl) rfl ⟨by omega, by omega⟩ ?_
      refine e_icmp_gt (tgt := 63) dX6_loop_20 rfl ⟨by omega, by omega⟩ ⟨by omega, by omega⟩ (fun c2 => ?_) (fun q => by exfalso; omega)
      refine e_iconst dX6_loop_63 ?_
      refine e_ireturn dX6_loop_64 rfl rfl ?_
      refine t_pub ?_ hpk
      unfold v_loop
      rw [if_pos (by omega)]
      exact hV.symm
    · rw [t_fnd_s _ hi1] at hV
      have hp1 := t_pth_rg H.2.2.2.1 (w := w) (k := i) (by omega) (by omega)
      have hp2 := t_pth_rg H.2.2.2.1 (w := w) (k := i - 1) (by omega) (by omega)
      have hg : t_lpg ρ w i = if t_pth ρ w i = t_pth ρ w 0 ∧ t_pth ρ w (i - 1) ≠ t_pth ρ w 0 then 1 else 0 := rfl
      refine e_iload_n dX6_loop_13 rfl ?_
      refine e_aload_n dX6_loop_14 rfl ?_
      refine t_geta (k := 27) dX6_loop_15 fl_X6_58 rfl ?_
      refine e_iload_n dX6_loop_18 rfl ?_
      refine t_ild 7 dX6_loop_19 rfl (by decide) (fun _ => rfl) rfl ⟨by omega, by omega⟩ ?_
      refine e_icmp_gt (tgt := 63) dX6_loop_20 rfl ⟨by omega, by omega⟩ ⟨by omega, by omega⟩ (fun q => by exfalso; omega) (fun c3 => ?_)
      refine e_aload_n dX6_loop_23 rfl ?_
      refine e_iload_n dX6_loop_24 rfl ?_
      refine e_iload_n dX6_loop_25 rfl ?_
      refine e_callV2rz (ci := 6) dX6_loop_26 md_X6_pathOf lk_X6_341 rfl q2167 qs102 (t_obj _ _) (by decide) rfl (Nat.le_of_ble_eq_true rfl) (C_X6_pathOf H ⟨by omega, by omega⟩ ⟨by omega, by omega⟩) ?_
      refine e_aload_n dX6_loop_29 rfl ?_
      refine e_iload_n dX6_loop_30 rfl ?_
      refine e_iconst dX6_loop_31 ?_
      refine e_callV2rz (ci := 6) dX6_loop_32 md_X6_pathOf lk_X6_341 rfl q2167 qs102 (t_obj _ _) (by decide) rfl (Nat.le_of_ble_eq_true rfl) (C_X6_pathOf H ⟨by omega, by omega⟩ ⟨by omega, by omega⟩) ?_
      refine e_icmp_ne (tgt := 57) dX6_loop_35 rfl ⟨by omega, by omega⟩ ⟨by omega, by omega⟩ (fun k1 => ?_) (fun k1 => ?_)
      · refine e_iinc2 dX6_loop_57 rfl ?_
        refine e_goto (tgt := 13) dX6_loop_60 rfl ?_
        exact hF (hV.trans (if_neg (by rw [hg]; rw [if_neg (by omega)]; decide)))
      · refine e_aload_n dX6_loop_38 rfl ?_
        refine e_iload_n dX6_loop_39 rfl ?_
        refine e_iload_n dX6_loop_40 rfl ?_
        refine e_iconst dX6_loop_41 ?_
        refine e_isub dX6_loop_42 ?_
        refine e_callV2rz (ci := 6) dX6_loop_43 md_X6_pathOf lk_X6_341 rfl q2167 qs102 (t_obj _ _) (by decide) rfl (Nat.le_of_ble_eq_true rfl) (C_X6_pathOf H ⟨by omega, by omega⟩ ⟨by omega, by omega⟩) ?_
        refine e_aload_n dX6_loop_46 rfl ?_
        refine e_iload_n dX6_loop_47 rfl ?_
        refine e_iconst dX6_loop_48 ?_
        refine e_callV2rz (ci := 6) dX6_loop_49 md_X6_pathOf lk_X6_341 rfl q2167 qs102 (t_obj _ _) (by decide) rfl (Nat.le_of_ble_eq_true rfl) (C_X6_pathOf H ⟨by omega, by omega⟩ ⟨by omega, by omega⟩) ?_
        refine e_icmp_eq (tgt := 57) dX6_loop_52 rfl ⟨by omega, by omega⟩ ⟨by omega, by omega⟩ (fun k2 => ?_) (fun k2 => ?_)
        · refine e_iinc2 dX6_loop_57 rfl ?_
          refine e_goto (tgt := 13) dX6_loop_60 rfl ?_
          exact hF (hV.trans (if_neg (by rw [hg]; rw [if_neg (by omega)]; decide)))
        · refine e_iload_n dX6_loop_55 rfl ?_
          refine e_ireturn dX6_loop_56 rfl rfl ?_
          refine t_pub ?_ hpk
          unfold v_loop
          rw [if_pos (by omega), hV, if_pos (show t_lpg ρ w i = 1 from if_pos ⟨by omega, by omega⟩)]
  · refine e_bipush dX6_loop_8 rfl ?_
    refine e_ireturn dX6_loop_10 rfl rfl ?_
    refine t_pub ?_ hpk
    unfold v_loop
    (repeat' split) <;> first | rfl | omega
theorem C_X6_haunt {σ : t_S} {h0 : e_A} (hz : t_sz σ) (hr : t_okR (σ 1)) {w : Int} (hw : e_rg w) : e_C mX6_haunt [.ref 384, e_i w] (t_H σ h0) 0 0 8 (t_Pub (v_haunt (t_af σ) w) σ h0) := by
  refine e_enter (al0 := [.ref 384, e_i w, .retAddr 0, .retAddr 0]) (by decide +kernel) rfl (Nat.le_of_ble_eq_true rfl) ?_
  refine e_aload_n dX6_haunt_0 rfl ?_
  refine e_iload_n dX6_haunt_1 rfl ?_
  refine e_callV1rz (ci := 6) dX6_haunt_2 md_X6_asksWidow lk_X6_356 rfl q2162 qs101 (t_obj _ _) (by decide) rfl (Nat.le_of_ble_eq_true rfl) (C_X6_asksWidow hz hr ⟨by omega, by omega⟩) ?_
  have H := t_af_hist hz hr
  have hpk := t_af_pk hz hr
  generalize t_af σ = ρ at H hpk ⊢
  replace hz : t_sz ρ := H.1.1
  have s0 := H.1.1.1
  have s3 := H.1.1.2.1
  have s4 := H.1.1.2.2.1
  have s6 := H.1.1.2.2.2.2.1
  have s7 := H.1.1.2.2.2.2.2.1
  
  refine e_bif_ne (tgt := 11) dX6_haunt_5 rfl (fun c1 => ?_) (fun c1 => ?_)
  · refine e_iconst dX6_haunt_11 ?_
    refine e_istore_n2 dX6_haunt_12 rfl ?_
    refine e_iconst dX6_haunt_13 ?_
    refine e_istore_n3 dX6_haunt_14 rfl ?_
    refine e_for (n := 80) (fun i => e_E mX6_haunt 15 [.ref 384, e_i w, e_i (t_best (t_vis ρ w) i.toNat), e_i i] [] (t_H ρ h0) _ _ _ _) (by omega) ?_ (fun i hi0 hi1 hF => ?_)
    · refine e_iload_n dX6_haunt_15 rfl ?_
      refine e_bipush dX6_haunt_16 rfl ?_
      refine e_icmp_ge (tgt := 53) dX6_haunt_18 rfl ⟨by omega, by omega⟩ ⟨by omega, by omega⟩ (fun c2 => ?_) (fun q => by exfalso; omega)
      refine e_iload_n dX6_haunt_53 rfl ?_
      refine e_ireturn dX6_haunt_54 rfl rfl ?_
      refine t_pub ?_ hpk
      unfold v_haunt
      (repeat' split) <;> first | rfl | omega
    · have hb := t_best_rg (t_vis ρ w) i.toNat
      have hv1 := t_vis_rg H.2.2.2.1 (w := w) (by omega) i
      have hv2 := t_vis_rg H.2.2.2.1 (w := w) (by omega) (t_best (t_vis ρ w) i.toNat)
      refine e_iload_n dX6_haunt_15 rfl ?_
      refine e_bipush dX6_haunt_16 rfl ?_
      refine e_icmp_ge (tgt := 53) dX6_haunt_18 rfl ⟨by omega, by omega⟩ ⟨by omega, by omega⟩ (fun q => by exfalso; omega) (fun c3 => ?_)
      refine e_aload_n dX6_haunt_21 rfl ?_
      refine e_iload_n dX6_haunt_22 rfl ?_
      refine e_iload_n dX6_haunt_23 rfl ?_
      refine e_callV2rz (ci := 6) dX6_haunt_24 md_X6_visitsOf lk_X6_370 rfl q2203 qs106 (t_obj _ _) (by decide) rfl (Nat.le_of_ble_eq_true rfl) (C_X6_visitsOf H ⟨by omega, by omega⟩ ⟨by omega, by omega⟩) ?_
      refine e_iload_n dX6_haunt_27 rfl ?_
      refine e_iconst dX6_haunt_28 ?_
      refine e_icmp_ne (tgt := 36) dX6_haunt_29 rfl ⟨by omega, by omega⟩ ⟨by omega, by omega⟩ (fun c4 => ?_) (fun c4 => ?_)
      · refine e_aload_n dX6_haunt_36 rfl ?_
        refine e_iload_n dX6_haunt_37 rfl ?_
        refine e_iload_n dX6_haunt_38 rfl ?_
        refine e_callV2rz (ci := 6) dX6_haunt_39 md_X6_visitsOf lk_X6_370 rfl q2203 qs106 (t_obj _ _) (by decide) rfl (Nat.le_of_ble_eq_true rfl) (C_X6_visitsOf H ⟨by omega, by omega⟩ ⟨by omega, by omega⟩) ?_
        refine e_icmp_le (tgt := 47) dX6_haunt_42 rfl ⟨by omega, by omega⟩ ⟨by omega, by omega⟩ (fun c5 => ?_) (fun c5 => ?_)
        · refine e_iinc3 dX6_haunt_47 rfl ?_
          refine e_goto (tgt := 15) dX6_haunt_50 rfl ?_
          first
            | (rw [t_best_s _ hi0, show (if t_best (t_vis ρ w) i.toNat = -1 then 0 else (t_vis ρ w) (t_best (t_vis ρ w) i.toNat)) = 0 from if_pos (by omega), if_pos (by omega)] at hF; exact hF)
            | (rw [t_best_s _ hi0, show (if t_best (t_vis ρ w) i.toNat = -1 then 0 else (t_vis ρ w) (t_best (t_vis ρ w) i.toNat)) = 0 from if_pos (by omega), if_neg (by omega)] at hF; exact hF)
            | (rw [t_best_s _ hi0, show (if t_best (t_vis ρ w) i.toNat = -1 then 0 else (t_vis ρ w) (t_best (t_vis ρ w) i.toNat)) = (t_vis ρ w) (t_best (t_vis ρ w) i.toNat) from if_neg (by omega), if_pos (by omega)] at hF; exact hF)
            | (rw [t_best_s _ hi0, show (if t_best (t_vis ρ w) i.toNat = -1 then 0 else (t_vis ρ w) (t_best (t_vis ρ w) i.toNat)) = (t_vis ρ w) (t_best (t_vis ρ w) i.toNat) from if_neg (by omega), if_neg (by omega)] at hF; exact hF)
        · refine e_iload_n dX6_haunt_45 rfl ?_
          refine e_istore_n2 dX6_haunt_46 rfl ?_
          refine e_iinc3 dX6_haunt_47 rfl ?_
          refine e_goto (tgt := 15) dX6_haunt_50 rfl ?_
          first
            | (rw [t_best_s _ hi0, show (if t_best (t_vis ρ w) i.toNat = -1 then 0 else (t_vis ρ w) (t_best (t_vis ρ w) i.toNat)) = 0 from if_pos (by omega), if_pos (by omega)] at hF; exact hF)
            | (rw [t_best_s _ hi0, show (if t_best (t_vis ρ w) i.toNat = -1 then 0 else (t_vis ρ w) (t_best (t_vis ρ w) i.toNat)) = 0 from if_pos (by omega), if_neg (by omega)] at hF; exact hF)
            | (rw [t_best_s _ hi0, show (if t_best (t_vis ρ w) i.toNat = -1 then 0 else (t_vis ρ w) (t_best (t_vis ρ w) i.toNat)) = (t_vis ρ w) (t_best (t_vis ρ w) i.toNat) from if_neg (by omega), if_pos (by omega)] at hF; exact hF)
            | (rw [t_best_s _ hi0, show (if t_best (t_vis ρ w) i.toNat = -1 then 0 else (t_vis ρ w) (t_best (t_vis ρ w) i.toNat)) = (t_vis ρ w) (t_best (t_vis ρ w) i.toNat) from if_neg (by omega), if_neg (by omega)] at hF; exact hF)
      · refine e_iconst dX6_haunt_32 ?_
        refine e_goto (tgt := 42) dX6_haunt_33 rfl ?_
        refine e_icmp_le (tgt := 47) dX6_haunt_42 rfl ⟨by omega, by omega⟩ ⟨by omega, by omega⟩ (fun c6 => ?_) (fun c6 => ?_)
        · refine e_iinc3 dX6_haunt_47 rfl ?_
          refine e_goto (tgt := 15) dX6_haunt_50 rfl ?_
          first
            | (rw [t_best_s _ hi0, show (if t_best (t_vis ρ w) i.toNat = -1 then 0 else (t_vis ρ w) (t_best (t_vis ρ w) i.toNat)) = 0 from if_pos (by omega), if_pos (by omega)] at hF; exact hF)
            | (rw [t_best_s _ hi0, show (if t_best (t_vis ρ w) i.toNat = -1 then 0 else (t_vis ρ w) (t_best (t_vis ρ w) i.toNat)) = 0 from if_pos (by omega), if_neg (by omega)] at hF; exact hF)
            | (rw [t_best_s _ hi0, show (if t_best (t_vis ρ w) i.toNat = -1 then 0 else (t_vis ρ w) (t_best (t_vis ρ w) i.toNat)) = (t_vis ρ w) (t_best (t_vis ρ w) i.toNat) from if_neg (by omega), if_pos (by omega)] at hF; exact hF)
            | (rw [t_best_s _ hi0, show (if t_best (t_vis ρ w) i.toNat = -1 then 0 else (t_vis ρ w) (t_best (t_vis ρ w) i.toNat)) = (t_vis ρ w) (t_best (t_vis ρ w) i.toNat) from if_neg (by omega), if_neg (by omega)] at hF; exact hF)
        · refine e_iload_n dX6_haunt_45 rfl ?_
          refine e_istore_n2 dX6_haunt_46 rfl ?_
          refine e_iinc3 dX6_haunt_47 rfl ?_
          refine e_goto (tgt := 15) dX6_haunt_50 rfl ?_
          first
            | (rw [t_best_s _ hi0, show (if t_best (t_vis ρ w) i.toNat = -1 then 0 else (t_vis ρ w) (t_best (t_vis ρ w) i.toNat)) = 0 from if_pos (by omega), if_pos (by omega)] at hF; exact hF)
            | (rw [t_best_s _ hi0, show (if t_best (t_vis ρ w) i.toNat = -1 then 0 else (t_vis ρ w) (t_best (t_vis ρ w) i.toNat)) = 0 from if_pos (by omega), if_neg (by omega)] at hF; exact hF)
            | (rw [t_best_s _ hi0, show (if t_best (t_vis ρ w) i.toNat = -1 then 0 else (t_vis ρ w) (t_best (t_vis ρ w) i.toNat)) = (t_vis ρ w) (t_best (t_vis ρ w) i.toNat) from if_neg (by omega), if_pos (by omega)] at hF; exact hF)
            | (rw [t_best_s _ hi0, show (if t_best (t_vis ρ w) i.toNat = -1 then 0 else (t_vis ρ w) (t_best (t_vis ρ w) i.toNat)) = (t_vis ρ w) (t_best (t_vis ρ w) i.toNat) from if_neg (by omega), if_neg (by omega)] at hF; exact hF)
  · refine e_bipush dX6_haunt_8 rfl ?_
    refine e_ireturn dX6_haunt_10 rfl rfl ?_
    refine t_pub ?_ hpk
    unfold v_haunt
    (repeat' split) <;> first | rfl | omega
theorem C_X6_crossing {σ : t_S} {h0 : e_A} (hz : t_sz σ) (hr : t_okR (σ 1)) : e_C mX6_crossing [.ref 384] (t_H σ h0) 0 0 7 (t_Pub (v_crossing (t_af σ)) σ h0) := by
  refine e_enter (al0 := [.ref 384, .retAddr 0, .retAddr 0]) (by decide +kernel) rfl (Nat.le_of_ble_eq_true rfl) ?_
  refine e_aload_n dX6_crossing_0 rfl ?_
  refine e_callV0rz (ci := 6) dX6_crossing_1 md_X6_asksColony lk_X6_335 rfl q2080 qs84 (t_obj _ _) (by decide) rfl (Nat.le_of_ble_eq_true rfl) (C_X6_asksColony hz hr) ?_
  have H := t_af_hist hz hr
  have hpk := t_af_pk hz hr
  generalize t_af σ = ρ at H hpk ⊢
  replace hz : t_sz ρ := H.1.1
  have s0 := H.1.1.1
  have s3 := H.1.1.2.1
  have s4 := H.1.1.2.2.1
  have s6 := H.1.1.2.2.2.2.1
  have s7 := H.1.1.2.2.2.2.2.1
  
  refine e_bif_ne (tgt := 10) dX6_crossing_4 rfl (fun c1 => ?_) (fun c1 => ?_)
  · refine e_iconst dX6_crossing_10 ?_
    refine e_istore_n1 dX6_crossing_11 rfl ?_
    refine e_iconst dX6_crossing_12 ?_
    refine e_istore_n2 dX6_crossing_13 rfl ?_
    refine e_for (n := 80) (fun i => e_E mX6_crossing 14 [.ref 384, e_i (t_best (t_crg ρ) i.toNat), e_i i] [] (t_H ρ h0) _ _ _ _) (by omega) ?_ (fun i hi0 hi1 hF => ?_)
    · refine e_iload_n dX6_crossing_14 rfl ?_
      refine e_bipush dX6_crossing_15 rfl ?_
      refine e_icmp_ge (tgt := 56) dX6_crossing_17 rfl ⟨by omega, by omega⟩ ⟨by omega, by omega⟩ (fun c2 => ?_) (fun q => by exfalso; omega)
      refine e_iload_n dX6_crossing_56 rfl ?_
      refine e_ireturn dX6_crossing_57 rfl rfl ?_
      refine t_pub ?_ hpk
      unfold v_crossing
      (repeat' split) <;> first | rfl | omega
    · have hb := t_best_rg (t_crg ρ) i.toNat
      have hv1 := e_bsum_rg (t_wdo ρ i) 16
      have hv2 := e_bsum_rg (t_wdo ρ (t_best (t_crg ρ) i.toNat)) 16
      have hv3 : t_crg ρ i = e_bsum (t_wdo ρ i) 16 := rfl
      have hv4 : t_crg ρ (t_best (t_crg ρ) i.toNat) = e_bsum (t_wdo ρ (t_best (t_crg ρ) i.toNat)) 16 := rfl
      refine e_iload_n dX6_crossing_14 rfl ?_
      refine e_bipush dX6_crossing_15 rfl ?_
      refine e_icmp_ge (tgt := 56) dX6_crossing_17 rfl ⟨by omega, by omega⟩ ⟨by omega, by omega⟩ (fun q => by exfalso; omega) (fun c3 => ?_)
      refine e_aload_n dX6_crossing_20 rfl ?_
      refine e_iload_n dX6_crossing_21 rfl ?_
      refine e_callV1rz (ci := 6) dX6_crossing_22 md_X6_walkedOf lk_X6_404 rfl q2335 qs119 (t_obj _ _) (by decide) rfl (Nat.le_of_ble_eq_true rfl) (C_X6_walkedOf H ⟨by omega, by omega⟩) ?_
      have hw1 := t_wdo_rg hz i
      refine e_callS1rz dX6_crossing_25 md_X6_bits lk_X6_347 rfl q2286 rfl (Nat.le_of_ble_eq_true rfl) (C_X6_bits ⟨by omega, by omega⟩) ?_
      refine e_iload_n dX6_crossing_28 rfl ?_
      refine e_iconst dX6_crossing_29 ?_
      refine e_icmp_ne (tgt := 37) dX6_crossing_30 rfl ⟨by omega, by omega⟩ ⟨by omega, by omega⟩ (fun c4 => ?_) (fun c4 => ?_)
      · refine e_aload_n dX6_crossing_37 rfl ?_
        refine e_iload_n dX6_crossing_38 rfl ?_
        refine e_callV1rz (ci := 6) dX6_crossing_39 md_X6_walkedOf lk_X6_404 rfl q2335 qs119 (t_obj _ _) (by decide) rfl (Nat.le_of_ble_eq_true rfl) (C_X6_walkedOf H ⟨by omega, by omega⟩) ?_
        have hw2 := t_wdo_rg hz (t_best (t_crg ρ) i.toNat)
        refine e_callS1rz dX6_crossing_42 md_X6_bits lk_X6_347 rfl q2286 rfl (Nat.le_of_ble_eq_true rfl) (C_X6_bits ⟨by omega, by omega⟩) ?_
        refine e_icmp_le (tgt := 50) dX6_crossing_45 rfl ⟨by omega, by omega⟩ ⟨by omega, by omega⟩ (fun c5 => ?_) (fun c5 => ?_)
        · refine e_iinc2 dX6_crossing_50 rfl ?_
          refine e_goto (tgt := 14) dX6_crossing_53 rfl ?_
          first
            | (rw [t_best_s _ hi0, show (if t_best (t_crg ρ) i.toNat = -1 then 0 else (t_crg ρ) (t_best (t_crg ρ) i.toNat)) = 0 from if_pos (by omega), if_pos (by omega)] at hF; exact hF)
            | (rw [t_best_s _ hi0, show (if t_best (t_crg ρ) i.toNat = -1 then 0 else (t_crg ρ) (t_best (t_crg ρ) i.toNat)) = 0 from if_pos (by omega), if_neg (by omega)] at hF; exact hF)
            | (rw [t_best_s _ hi0, show (if t_best (t_crg ρ) i.toNat = -1 then 0 else (t_crg ρ) (t_best (t_crg ρ) i.toNat)) = (t_crg ρ) (t_best (t_crg ρ) i.toNat) from if_neg (by omega), if_pos (by omega)] at hF; exact hF)
            | (rw [t_best_s _ hi0, show (if t_best (t_crg ρ) i.toNat = -1 then 0 else (t_crg ρ) (t_best (t_crg ρ) i.toNat)) = (t_crg ρ) (t_best (t_crg ρ) i.toNat) from if_neg (by omega), if_neg (by omega)] at hF; exact hF)
        · refine e_iload_n dX6_crossing_48 rfl ?_
          refine e_istore_n1 dX6_crossing_49 rfl ?_
          refine e_iinc2 dX6_crossing_50 rfl ?_
          refine e_goto (tgt := 14) dX6_crossing_53 rfl ?_
          first
            | (rw [t_best_s _ hi0, show (if t_best (t_crg ρ) i.toNat = -1 then 0 else (t_crg ρ) (t_best (t_crg ρ) i.toNat)) = 0 from if_pos (by omega), if_pos (by omega)] at hF; exact hF)
            | (rw [t_best_s _ hi0, show (if t_best (t_crg ρ) i.toNat = -1 then 0 else (t_crg ρ) (t_best (t_crg ρ) i.toNat)) = 0 from if_pos (by omega), if_neg (by omega)] at hF; exact hF)
            | (rw [t_best_s _ hi0, show (if t_best (t_crg ρ) i.toNat = -1 then 0 else (t_crg ρ) (t_best (t_crg ρ) i.toNat)) = (t_crg ρ) (t_best (t_crg ρ) i.toNat) from if_neg (by omega), if_pos (by omega)] at hF; exact hF)
            | (rw [t_best_s _ hi0, show (if t_best (t_crg ρ) i.toNat = -1 then 0 else (t_crg ρ) (t_best (t_crg ρ) i.toNat)) = (t_crg ρ) (t_best (t_crg ρ) i.toNat) from if_neg (by omega), if_neg (by omega)] at hF; exact hF)
      · refine e_iconst dX6_crossing_33 ?_
        refine e_goto (tgt := 45) dX6_crossing_34 rfl ?_
        refine e_icmp_le (tgt := 50) dX6_crossing_45 rfl ⟨by omega, by omega⟩ ⟨by omega, by omega⟩ (fun c6 => ?_) (fun c6 => ?_)
        · refine e_iinc2 dX6_crossing_50 rfl ?_
          refine e_goto (tgt := 14) dX6_crossing_53 rfl ?_
          first
            | (rw [t_best_s _ hi0, show (if t_best (t_crg ρ) i.toNat = -1 then 0 else (t_crg ρ) (t_best (t_crg ρ) i.toNat)) = 0 from if_pos (by omega), if_pos (by omega)] at hF; exact hF)
            | (rw [t_best_s _ hi0, show (if t_best (t_crg ρ) i.toNat = -1 then 0 else (t_crg ρ) (t_best (t_crg ρ) i.toNat)) = 0 from if_pos (by omega), if_neg (by omega)] at hF; exact hF)
            | (rw [t_best_s _ hi0, show (if t_best (t_crg ρ) i.toNat = -1 then 0 else (t_crg ρ) (t_best (t_crg ρ) i.toNat)) = (t_crg ρ) (t_best (t_crg ρ) i.toNat) from if_neg (by omega), if_pos (by omega)] at hF; exact hF)
            | (rw [t_best_s _ hi0, show (if t_best (t_crg ρ) i.toNat = -1 then 0 else (t_crg ρ) (t_best (t_crg ρ) i.toNat)) = (t_crg ρ) (t_best (t_crg ρ) i.toNat) from if_neg (by omega), if_neg (by omega)] at hF; exact hF)
        · refine e_iload_n dX6_crossing_48 rfl ?_
          refine e_istore_n1 dX6_crossing_49 rfl ?_
          refine e_iinc2 dX6_crossing_50 rfl ?_
          refine e_goto (tgt := 14) dX6_crossing_53 rfl ?_
          first
            | (rw [t_best_s _ hi0, show (if t_best (t_crg ρ) i.toNat = -1 then 0 else (t_crg ρ) (t_best (t_crg ρ) i.toNat)) = 0 from if_pos (by omega), if_pos (by omega)] at hF; exact hF)
            | (rw [t_best_s _ hi0, show (if t_best (t_crg ρ) i.toNat = -1 then 0 else (t_crg ρ) (t_best (t_crg ρ) i.toNat)) = 0 from if_pos (by omega), if_neg (by omega)] at hF; exact hF)
            | (rw [t_best_s _ hi0, show (if t_best (t_crg ρ) i.toNat = -1 then 0 else (t_crg ρ) (t_best (t_crg ρ) i.toNat)) = (t_crg ρ) (t_best (t_crg ρ) i.toNat) from if_neg (by omega), if_pos (by omega)] at hF; exact hF)
            | (rw [t_best_s _ hi0, show (if t_best (t_crg ρ) i.toNat = -1 then 0 else (t_crg ρ) (t_best (t_crg ρ) i.toNat)) = (t_crg ρ) (t_best (t_crg ρ) i.toNat) from if_neg (by omega), if_neg (by omega)] at hF; exact hF)
  · refine e_bipush dX6_crossing_7 rfl ?_
    refine e_ireturn dX6_crossing_9 rfl rfl ?_
    refine t_pub ?_ hpk
    unfold v_crossing
    (repeat' split) <;> first | rfl | omega
theorem C_X6_evening {σ : t_S} {h0 : e_A} (hz : t_sz σ) (hr : t_okR (σ 1)) {y : Int} (hy : e_rg y) : e_C mX6_evening [.ref 384, e_i y] (t_H σ h0) 0 0 8 (t_Pub (v_evening (t_af σ) y) σ h0) := by
  refine e_enter (al0 := [.ref 384, e_i y, .retAddr 0, .retAddr 0]) (by decide +kernel) rfl (Nat.le_of_ble_eq_true rfl) ?_
  refine e_aload_n dX6_evening_0 rfl ?_
  refine e_iload_n dX6_evening_1 rfl ?_
  refine e_callV1rz (ci := 6) dX6_evening_2 md_X6_asksYear lk_X6_373 rfl q2215 qs107 (t_obj _ _) (by decide) rfl (Nat.le_of_ble_eq_true rfl) (C_X6_asksYear hz hr ⟨by omega, by omega⟩) ?_
  have H := t_af_hist hz hr
  have hpk := t_af_pk hz hr
  generalize t_af σ = ρ at H hpk ⊢
  replace hz : t_sz ρ := H.1.1
  have s0 := H.1.1.1
  have s3 := H.1.1.2.1
  have s4 := H.1.1.2.2.1
  have s6 := H.1.1.2.2.2.2.1
  have s7 := H.1.1.2.2.2.2.2.1
  
  refine e_bif_eq (tgt := 16) dX6_evening_5 rfl (fun c1 => ?_) (fun c1 => ?_)
  · refine e_bipush dX6_evening_16 rfl ?_
    refine e_ireturn dX6_evening_18 rfl rfl ?_
    refine t_pub ?_ hpk
    unfold v_evening
    (repeat' split) <;> first | rfl | omega
  · refine e_iload_n dX6_evening_8 rfl ?_
    refine e_aload_n dX6_evening_9 rfl ?_
    refine e_callV0rz (ci := 6) dX6_evening_10 md_X6_years lk_X6_118 rfl q2096 qs88 (t_obj _ _) (by decide) rfl (Nat.le_of_ble_eq_true rfl) (C_X6_years) ?_
    refine e_icmp_ne (tgt := 19) dX6_evening_13 rfl ⟨by omega, by omega⟩ ⟨by omega, by omega⟩ (fun c2 => ?_) (fun c2 => ?_)
    · refine e_iconst dX6_evening_19 ?_
      refine e_istore_n2 dX6_evening_20 rfl ?_
      refine e_iconst dX6_evening_21 ?_
      refine e_istore_n3 dX6_evening_22 rfl ?_
      refine e_for (n := ρ 1 7) (fun i => e_E mX6_evening 23 [.ref 384, e_i y, e_i (t_msk (t_evg ρ y) i.toNat), e_i i] [] (t_H ρ h0) _ _ _ _) (by omega) ?_ (fun i hi0 hi1 hF => ?_)
      · refine e_iload_n dX6_evening_23 rfl ?_
        refine e_aload_n dX6_evening_24 rfl ?_
        refine e_callV0rz (ci := 6) dX6_evening_25 md_X6_widows lk_X6_110 rfl q2059 qs81 (t_obj _ _) (by decide) rfl (Nat.le_of_ble_eq_true rfl) (C_X6_widows) ?_
        refine e_icmp_ge (tgt := 65) dX6_evening_28 rfl ⟨by omega, by omega⟩ ⟨by omega, by omega⟩ (fun c3 => ?_) (fun q => by exfalso; omega)
        refine e_iload_n dX6_evening_65 rfl ?_
        refine e_ireturn dX6_evening_66 rfl rfl ?_
        refine t_pub ?_ hpk
        unfold v_evening
        (repeat' split) <;> first | rfl | omega
      · have hm := t_msk_rg (t_evg ρ y) i.toNat
        refine e_iload_n dX6_evening_23 rfl ?_
        refine e_aload_n dX6_evening_24 rfl ?_
        refine e_callV0rz (ci := 6) dX6_evening_25 md_X6_widows lk_X6_110 rfl q2059 qs81 (t_obj _ _) (by decide) rfl (Nat.le_of_ble_eq_true rfl) (C_X6_widows) ?_
        refine e_icmp_ge (tgt := 65) dX6_evening_28 rfl ⟨by omega, by omega⟩ ⟨by omega, by omega⟩ (fun q => by exfalso; omega) (fun c4 => ?_)
        refine e_iload_n dX6_evening_31 rfl ?_
        refine e_aload_n dX6_evening_32 rfl ?_
        refine e_iload_n dX6_evening_33 rfl ?_
        refine e_callV1rz (ci := 6) dX6_evening_34 md_X6_walks lk_X6_361 rfl q2179 qs103 (t_obj _ _) (by decide) rfl (Nat.le_of_ble_eq_true rfl) (C_X6_walks H ⟨by omega, by omega⟩) ?_
        refine e_bif_eq (tgt := 56) dX6_evening_37 rfl (fun c5 => ?_) (fun c5 => ?_)
        · refine e_iconst dX6_evening_56 ?_
          refine e_ior dX6_evening_57 (by first | exact e_or_0 _ | exact e_or_top ⟨by omega, by omega⟩ hm) ?_
          refine e_istore_n2 dX6_evening_58 rfl ?_
          refine e_iinc3 dX6_evening_59 rfl ?_
          refine e_goto (tgt := 23) dX6_evening_62 rfl ?_
          first
            | (rw [t_msk_1 (g := t_evg ρ y) hi0 (if_pos ⟨by omega, by omega⟩)] at hF; exact hF)
            | (rw [t_msk_0 (g := t_evg ρ y) hi0 (if_neg (fun q => by omega))] at hF; exact hF)
        · refine e_aload_n dX6_evening_40 rfl ?_
          refine e_iload_n dX6_evening_41 rfl ?_
          refine e_iconst dX6_evening_42 ?_
          refine e_callV2rz (ci := 6) dX6_evening_43 md_X6_widowOf lk_X6_267 rfl q2064 qs82 (t_obj _ _) (by decide) rfl (Nat.le_of_ble_eq_true rfl) (C_X6_widowOf ⟨by omega, by omega⟩ ⟨by omega, by omega⟩) ?_
          refine e_iload_n dX6_evening_46 rfl ?_
          have hw3 : 0 ≤ t_wd ρ i 3 ∧ t_wd ρ i 3 < 12 := (H.1.2.1.2.2.1 i hi0 hi1).2.2.2.1
          refine e_icmp_ne (tgt := 56) dX6_evening_47 rfl ⟨by omega, by omega⟩ ⟨by omega, by omega⟩ (fun c6 => ?_) (fun c6 => ?_)
          · refine e_iconst dX6_evening_56 ?_
            refine e_ior dX6_evening_57 (by first | exact e_or_0 _ | exact e_or_top ⟨by omega, by omega⟩ hm) ?_
            refine e_istore_n2 dX6_evening_58 rfl ?_
            refine e_iinc3 dX6_evening_59 rfl ?_
            refine e_goto (tgt := 23) dX6_evening_62 rfl ?_
            first
              | (rw [t_msk_1 (g := t_evg ρ y) hi0 (if_pos ⟨by omega, by omega⟩)] at hF; exact hF)
              | (rw [t_msk_0 (g := t_evg ρ y) hi0 (if_neg (fun q => by omega))] at hF; exact hF)
          · refine e_iconst dX6_evening_50 ?_
            refine e_iload_n dX6_evening_51 rfl ?_
            refine e_ishl dX6_evening_52 (t_shl1 ⟨by omega, by omega⟩) ?_
            refine e_goto (tgt := 57) dX6_evening_53 rfl ?_
            refine e_ior dX6_evening_57 (by first | exact e_or_0 _ | exact e_or_top ⟨by omega, by omega⟩ hm) ?_
            refine e_istore_n2 dX6_evening_58 rfl ?_
            refine e_iinc3 dX6_evening_59 rfl ?_
            refine e_goto (tgt := 23) dX6_evening_62 rfl ?_
            first
              | (rw [t_msk_1 (g := t_evg ρ y) hi0 (if_pos ⟨by omega, by omega⟩)] at hF; exact hF)
              | (rw [t_msk_0 (g := t_evg ρ y) hi0 (if_neg (fun q => by omega))] at hF; exact hF)
    · refine e_bipush dX6_evening_16 rfl ?_
      refine e_ireturn dX6_evening_18 rfl rfl ?_
      refine t_pub ?_ hpk
      unfold v_evening
      (repeat' split) <;> first | rfl | omega
theorem C_X6_corners {σ : t_S} {h0 : e_A} (hz : t_sz σ) (hr : t_okR (σ 1)) {n : Int} (hn : e_rg n) {y : Int} (hy : e_rg y) : e_C mX6_corners [.ref 384, e_i n, e_i y] (t_H σ h0) 0 0 8 (t_Pub (v_corners (t_af σ) n y) σ h0) := by
  refine e_enter (al0 := [.ref 384, e_i n, e_i y, .retAddr 0, .retAddr 0]) (by decide +kernel) rfl (Nat.le_of_ble_eq_true rfl) ?_
  refine e_aload_n dX6_corners_0 rfl ?_
  refine e_iload_n dX6_corners_1 rfl ?_
  refine e_callV1rz (ci := 6) dX6_corners_2 md_X6_asksYear lk_X6_373 rfl q2215 qs107 (t_obj _ _) (by decide) rfl (Nat.le_of_ble_eq_true rfl) (C_X6_asksYear hz hr ⟨by omega, by omega⟩) ?_
  have H := t_af_hist hz hr
  have hpk := t_af_pk hz hr
  generalize t_af σ = ρ at H hpk ⊢
  replace hz : t_sz ρ := H.1.1
  have s0 := H.1.1.1
  have s3 := H.1.1.2.1
  have s4 := H.1.1.2.2.1
  have s6 := H.1.1.2.2.2.2.1
  have s7 := H.1.1.2.2.2.2.2.1
  
  refine e_bif_eq (tgt := 20) dX6_corners_5 rfl (fun c1 => ?_) (fun c1 => ?_)
  · refine e_bipush dX6_corners_20 rfl ?_
    refine e_ireturn dX6_corners_22 rfl rfl ?_
    refine t_pub ?_ hpk
    unfold v_corners
    (repeat' split) <;> first | rfl | omega
  · refine e_iload_n dX6_corners_8 rfl ?_
    refine e_i2l dX6_corners_9 ⟨by omega, by omega⟩ ?_
    refine e_lconst (z := 0) dX6_corners_10 rfl ?_
    refine e_ldc2 (z := 4) dX6_corners_11 q2061 rfl ?_
    refine e_callS3rz dX6_corners_14 md_X6_in lk_X6_106 rfl q1930 rfl (Nat.le_of_ble_eq_true rfl) (C_X6_in ⟨by omega, by omega⟩ ⟨by omega, by omega⟩ ⟨by omega, by omega⟩) ?_
    refine e_bif_ne (tgt := 23) dX6_corners_17 rfl (fun c2 => ?_) (fun c2 => ?_)
    · refine e_iconst dX6_corners_23 ?_
      refine e_istore_n3 dX6_corners_24 rfl ?_
      refine e_iconst dX6_corners_25 ?_
      refine e_istore4 dX6_corners_26 rfl ?_
      refine e_for (n := 80) (fun i => e_E mX6_corners 28 [.ref 384, e_i n, e_i y, e_i (t_sum (t_cog ρ n y) i.toNat), e_i i] [] (t_H ρ h0) _ _ _ _) (by omega) ?_ (fun i hi0 hi1 hF => ?_)
      · refine e_iload dX6_corners_28 rfl ?_
        refine e_bipush dX6_corners_30 rfl ?_
        refine e_icmp_ge (tgt := 73) dX6_corners_32 rfl ⟨by omega, by omega⟩ ⟨by omega, by omega⟩ (fun c3 => ?_) (fun q => by exfalso; omega)
        refine e_iload_n dX6_corners_73 rfl ?_
        refine e_ireturn dX6_corners_74 rfl rfl ?_
        refine t_pub ?_ hpk
        unfold v_corners
        (repeat' split) <;> first | rfl | omega
      · rw [t_sum_s (t_cog ρ n y) hi0] at hF
        have hp : t_rdo ρ i y = 0 ∨ t_rdo ρ i y = 1 := (H.2.1 y i (by omega) (by omega) hi0 hi1).1
        have hp2 : e_rg (t_pgs ρ i y) := by
          have q : 0 ≤ t_pgs ρ i y ∧ t_pgs ρ i y < 2 ^ 4 := (H.2.1 y i (by omega) (by omega) hi0 hi1).2.1
          exact ⟨by omega, by omega⟩
        refine e_iload dX6_corners_28 rfl ?_
        refine e_bipush dX6_corners_30 rfl ?_
        refine e_icmp_ge (tgt := 73) dX6_corners_32 rfl ⟨by omega, by omega⟩ ⟨by omega, by omega⟩ (fun q => by exfalso; omega) (fun c4 => ?_)
        refine e_iload_n dX6_corners_35 rfl ?_
        refine e_aload_n dX6_corners_36 rfl ?_
        refine e_iload dX6_corners_37 rfl ?_
        refine e_iload_n dX6_corners_39 rfl ?_
        refine e_callV2rz (ci := 6) dX6_corners_40 md_X6_roadOf lk_X6_386 rfl q2251 qs113 (t_obj _ _) (by decide) rfl (Nat.le_of_ble_eq_true rfl) (C_X6_roadOf H ⟨by omega, by omega⟩ ⟨by omega, by omega⟩) ?_
        refine e_if_eq (tgt := 64) dX6_corners_43 rfl ⟨by omega, by omega⟩ (fun c5 => ?_) (fun c5 => ?_)
        · refine e_iconst dX6_corners_64 ?_
          refine e_iadd dX6_corners_65 ?_
          refine e_istore_n3 dX6_corners_66 rfl ?_
          refine e_iinc4 dX6_corners_67 rfl ?_
          refine e_goto (tgt := 28) dX6_corners_70 rfl ?_
          first
            | (rw [show (t_cog ρ n y) i = 1 from if_pos (by omega)] at hF; exact hF)
            | (rw [show (t_cog ρ n y) i = 0 from if_neg (by omega)] at hF; exact hF)
        · refine e_aload_n dX6_corners_46 rfl ?_
          refine e_iload dX6_corners_47 rfl ?_
          refine e_iload_n dX6_corners_49 rfl ?_
          refine e_callV2rz (ci := 6) dX6_corners_50 md_X6_pegsOf lk_X6_344 rfl q2239 qs112 (t_obj _ _) (by decide) rfl (Nat.le_of_ble_eq_true rfl) (C_X6_pegsOf ⟨by omega, by omega⟩ ⟨by omega, by omega⟩) ?_
          refine e_callS1rz dX6_corners_53 md_X6_bits lk_X6_347 rfl q2286 rfl (Nat.le_of_ble_eq_true rfl) (C_X6_bits hp2) ?_
          refine e_iload_n dX6_corners_56 rfl ?_
          have hq := e_bsum_rg (t_pgs ρ i y) 16
          refine e_icmp_ne (tgt := 64) dX6_corners_57 rfl ⟨by omega, by omega⟩ ⟨by omega, by omega⟩ (fun c6 => ?_) (fun c6 => ?_)
          · refine e_iconst dX6_corners_64 ?_
            refine e_iadd dX6_corners_65 ?_
            refine e_istore_n3 dX6_corners_66 rfl ?_
            refine e_iinc4 dX6_corners_67 rfl ?_
            refine e_goto (tgt := 28) dX6_corners_70 rfl ?_
            first
              | (rw [show (t_cog ρ n y) i = 1 from if_pos (by omega)] at hF; exact hF)
              | (rw [show (t_cog ρ n y) i = 0 from if_neg (by omega)] at hF; exact hF)
          · refine e_iconst dX6_corners_60 ?_
            refine e_goto (tgt := 65) dX6_corners_61 rfl ?_
            refine e_iadd dX6_corners_65 ?_
            refine e_istore_n3 dX6_corners_66 rfl ?_
            refine e_iinc4 dX6_corners_67 rfl ?_
            refine e_goto (tgt := 28) dX6_corners_70 rfl ?_
            first
              | (rw [show (t_cog ρ n y) i = 1 from if_pos (by omega)] at hF; exact hF)
              | (rw [show (t_cog ρ n y) i = 0 from if_neg (by omega)] at hF; exact hF)
    · refine e_bipush dX6_corners_20 rfl ?_
      refine e_ireturn dX6_corners_22 rfl rfl ?_
      refine t_pub ?_ hpk
      unfold v_corners
      (repeat' split) <;> first | rfl | omega
theorem C_X6_first {σ : t_S} {h0 : e_A} (hz : t_sz σ) (hr : t_okR (σ 1)) {c : Int} (hc : e_rg c) : e_C mX6_first [.ref 384, e_i c] (t_H σ h0) 0 0 8 (t_Pub (v_first (t_af σ) c) σ h0) := by
  refine e_enter (al0 := [.ref 384, e_i c, .retAddr 0]) (by decide +kernel) rfl (Nat.le_of_ble_eq_true rfl) ?_
  refine e_aload_n dX6_first_0 rfl ?_
  refine e_iload_n dX6_first_1 rfl ?_
  refine e_callV1rz (ci := 6) dX6_first_2 md_X6_asksCell lk_X6_353 rfl q2076 qs83 (t_obj _ _) (by decide) rfl (Nat.le_of_ble_eq_true rfl) (C_X6_asksCell hz hr ⟨by omega, by omega⟩) ?_
  have H := t_af_hist hz hr
  have hpk := t_af_pk hz hr
  generalize t_af σ = ρ at H hpk ⊢
  replace hz : t_sz ρ := H.1.1
  have s0 := H.1.1.1
  have s3 := H.1.1.2.1
  have s4 := H.1.1.2.2.1
  have s6 := H.1.1.2.2.2.2.1
  have s7 := H.1.1.2.2.2.2.2.1
  
  refine e_bif_ne (tgt := 11) dX6_first_5 rfl (fun c1 => ?_) (fun c1 => ?_)
  · refine e_iconst dX6_first_11 ?_
    refine e_istore_n2 dX6_first_12 rfl ?_
    refine e_for (n := (ρ 1 0 + 1)) (fun i => t_fnd (t_rdo ρ c) (ρ 1 0 + 1).toNat 0 = t_fnd (t_rdo ρ c) ((ρ 1 0 + 1) - i).toNat i → e_E mX6_first 13 [.ref 384, e_i c, e_i i] [] (t_H ρ h0) _ _ _ _) (by omega) (fun hV => ?_) (fun i hi0 hi1 hF hV => ?_) (by rw [Int.sub_zero])
    · rw [Int.sub_self] at hV
      refine e_iload_n dX6_first_13 rfl ?_
      refine e_aload_n dX6_first_14 rfl ?_
      refine e_callV0rz (ci := 6) dX6_first_15 md_X6_years lk_X6_118 rfl q2096 qs88 (t_obj _ _) (by decide) rfl (Nat.le_of_ble_eq_true rfl) (C_X6_years) ?_
      refine e_icmp_gt (tgt := 38) dX6_first_18 rfl ⟨by omega, by omega⟩ ⟨by omega, by omega⟩ (fun c2 => ?_) (fun q => by exfalso; omega)
      refine e_iconst dX6_first_38 ?_
      refine e_ireturn dX6_first_39 rfl rfl ?_
      refine t_pub ?_ hpk
      unfold v_first
      rw [if_pos (by omega)]
      exact hV.symm
    · rw [t_fnd_s _ hi1] at hV
      have hp : t_rdo ρ c i = 0 ∨ t_rdo ρ c i = 1 := (H.2.1 i c (by omega) (by omega) (by omega) (by omega)).1
      refine e_iload_n dX6_first_13 rfl ?_
      refine e_aload_n dX6_first_14 rfl ?_
      refine e_callV0rz (ci := 6) dX6_first_15 md_X6_years lk_X6_118 rfl q2096 qs88 (t_obj _ _) (by decide) rfl (Nat.le_of_ble_eq_true rfl) (C_X6_years) ?_
      refine e_icmp_gt (tgt := 38) dX6_first_18 rfl ⟨by omega, by omega⟩ ⟨by omega, by omega⟩ (fun q => by exfalso; omega) (fun c3 => ?_)
      refine e_aload_n dX6_first_21 rfl ?_
      refine e_iload_n dX6_first_22 rfl ?_
      refine e_iload_n dX6_first_23 rfl ?_
      refine e_callV2rz (ci := 6) dX6_first_24 md_X6_roadOf lk_X6_386 rfl q2251 qs113 (t_obj _ _) (by decide) rfl (Nat.le_of_ble_eq_true rfl) (C_X6_roadOf H ⟨by omega, by omega⟩ ⟨by omega, by omega⟩) ?_
      refine e_if_eq (tgt := 32) dX6_first_27 rfl ⟨by omega, by omega⟩ (fun k1 => ?_) (fun k1 => ?_)
      · refine e_iinc2 dX6_first_32 rfl ?_
        refine e_goto (tgt := 13) dX6_first_35 rfl ?_
        exact hF (hV.trans (if_neg (by omega)))
      · refine e_iload_n dX6_first_30 rfl ?_
        refine e_ireturn dX6_first_31 rfl rfl ?_
        refine t_pub ?_ hpk
        unfold v_first
        rw [if_pos (by omega), hV, if_pos (by omega)]
  · refine e_bipush dX6_first_8 rfl ?_
    refine e_ireturn dX6_first_10 rfl rfl ?_
    refine t_pub ?_ hpk
    unfold v_first
    (repeat' split) <;> first | rfl | omega
theorem C_X6_shared {σ : t_S} {h0 : e_A} (hz : t_sz σ) (hr : t_okR (σ 1)) {a : Int} (ha : e_rg a) {b : Int} (hb : e_rg b) : e_C mX6_shared [.ref 384, e_i a, e_i b] (t_H σ h0) 0 0 8 (t_Pub (v_shared (t_af σ) a b) σ h0) := by
  refine e_enter (al0 := [.ref 384, e_i a, e_i b, .retAddr 0, .retAddr 0]) (by decide +kernel) rfl (Nat.le_of_ble_eq_true rfl) ?_
  refine e_aload_n dX6_shared_0 rfl ?_
  refine e_iload_n dX6_shared_1 rfl ?_
  refine e_callV1rz (ci := 6) dX6_shared_2 md_X6_asksWidow lk_X6_356 rfl q2162 qs101 (t_obj _ _) (by decide) rfl (Nat.le_of_ble_eq_true rfl) (C_X6_asksWidow hz hr ⟨by omega, by omega⟩) ?_
  have H := t_af_hist hz hr
  have hpk := t_af_pk hz hr
  generalize t_af σ = ρ at H hpk ⊢
  replace hz : t_sz ρ := H.1.1
  have s0 := H.1.1.1
  have s3 := H.1.1.2.1
  have s4 := H.1.1.2.2.1
  have s6 := H.1.1.2.2.2.2.1
  have s7 := H.1.1.2.2.2.2.2.1
  
  refine e_bif_eq (tgt := 17) dX6_shared_5 rfl (fun c1 => ?_) (fun c1 => ?_)
  · refine e_bipush dX6_shared_17 rfl ?_
    refine e_ireturn dX6_shared_19 rfl rfl ?_
    refine t_pub ?_ hpk
    unfold v_shared
    (repeat' split) <;> first | rfl | omega
  · refine e_aload_n dX6_shared_8 rfl ?_
    refine e_iload_n dX6_shared_9 rfl ?_
    refine e_i2l dX6_shared_10 ⟨by omega, by omega⟩ ?_
    refine e_callV1rz (ci := 6) dX6_shared_11 md_X6_isWidow lk_X6_261 rfl q2055 qs80 (t_obj _ _) (by decide) rfl (Nat.le_of_ble_eq_true rfl) (C_X6_isWidow hz ⟨by omega, by omega⟩) ?_
    refine e_bif_ne (tgt := 20) dX6_shared_14 rfl (fun c2 => ?_) (fun c2 => ?_)
    · refine e_iconst dX6_shared_20 ?_
      refine e_istore_n3 dX6_shared_21 rfl ?_
      refine e_iconst dX6_shared_22 ?_
      refine e_istore4 dX6_shared_23 rfl ?_
      refine e_for (n := 80) (fun i => e_E mX6_shared 25 [.ref 384, e_i a, e_i b, e_i (t_sum (t_shg ρ a b) i.toNat), e_i i] [] (t_H ρ h0) _ _ _ _) (by omega) ?_ (fun i hi0 hi1 hF => ?_)
      · refine e_iload dX6_shared_25 rfl ?_
        refine e_bipush dX6_shared_27 rfl ?_
        refine e_icmp_ge (tgt := 66) dX6_shared_29 rfl ⟨by omega, by omega⟩ ⟨by omega, by omega⟩ (fun c3 => ?_) (fun q => by exfalso; omega)
        refine e_iload_n dX6_shared_66 rfl ?_
        refine e_ireturn dX6_shared_67 rfl rfl ?_
        refine t_pub ?_ hpk
        unfold v_shared
        (repeat' split) <;> first | rfl | omega
      · rw [t_sum_s (t_shg ρ a b) hi0] at hF
        have hp : t_in ρ a i = 0 ∨ t_in ρ a i = 1 := t_in01 ρ a i _
        have hp2 : t_in ρ b i = 0 ∨ t_in ρ b i = 1 := t_in01 ρ b i _
        refine e_iload dX6_shared_25 rfl ?_
        refine e_bipush dX6_shared_27 rfl ?_
        refine e_icmp_ge (tgt := 66) dX6_shared_29 rfl ⟨by omega, by omega⟩ ⟨by omega, by omega⟩ (fun q => by exfalso; omega) (fun c4 => ?_)
        refine e_iload_n dX6_shared_32 rfl ?_
        refine e_aload_n dX6_shared_33 rfl ?_
        refine e_iload_n dX6_shared_34 rfl ?_
        refine e_iload dX6_shared_35 rfl ?_
        refine e_callV2rz (ci := 6) dX6_shared_37 md_X6_isIn lk_X6_364 rfl q2191 qs105 (t_obj _ _) (by decide) rfl (Nat.le_of_ble_eq_true rfl) (C_X6_isIn H ⟨by omega, by omega⟩ ⟨by omega, by omega⟩) ?_
        refine e_if_eq (tgt := 57) dX6_shared_40 rfl ⟨by omega, by omega⟩ (fun c5 => ?_) (fun c5 => ?_)
        · refine e_iconst dX6_shared_57 ?_
          refine e_iadd dX6_shared_58 ?_
          refine e_istore_n3 dX6_shared_59 rfl ?_
          refine e_iinc4 dX6_shared_60 rfl ?_
          refine e_goto (tgt := 25) dX6_shared_63 rfl ?_
          first
            | (rw [show (t_shg ρ a b) i = 1 from if_pos (by omega)] at hF; exact hF)
            | (rw [show (t_shg ρ a b) i = 0 from if_neg (by omega)] at hF; exact hF)
        · refine e_aload_n dX6_shared_43 rfl ?_
          refine e_iload_n dX6_shared_44 rfl ?_
          refine e_iload dX6_shared_45 rfl ?_
          refine e_callV2rz (ci := 6) dX6_shared_47 md_X6_isIn lk_X6_364 rfl q2191 qs105 (t_obj _ _) (by decide) rfl (Nat.le_of_ble_eq_true rfl) (C_X6_isIn H ⟨by omega, by omega⟩ ⟨by omega, by omega⟩) ?_
          refine e_if_eq (tgt := 57) dX6_shared_50 rfl ⟨by omega, by omega⟩ (fun c6 => ?_) (fun c6 => ?_)
          · refine e_iconst dX6_shared_57 ?_
            refine e_iadd dX6_shared_58 ?_
            refine e_istore_n3 dX6_shared_59 rfl ?_
            refine e_iinc4 dX6_shared_60 rfl ?_
            refine e_goto (tgt := 25) dX6_shared_63 rfl ?_
            first
              | (rw [show (t_shg ρ a b) i = 1 from if_pos (by omega)] at hF; exact hF)
              | (rw [show (t_shg ρ a b) i = 0 from if_neg (by omega)] at hF; exact hF)
          · refine e_iconst dX6_shared_53 ?_
            refine e_goto (tgt := 58) dX6_shared_54 rfl ?_
            refine e_iadd dX6_shared_58 ?_
            refine e_istore_n3 dX6_shared_59 rfl ?_
            refine e_iinc4 dX6_shared_60 rfl ?_
            refine e_goto (tgt := 25) dX6_shared_63 rfl ?_
            first
              | (rw [show (t_shg ρ a b) i = 1 from if_pos (by omega)] at hF; exact hF)
              | (rw [show (t_shg ρ a b) i = 0 from if_neg (by omega)] at hF; exact hF)
    · refine e_bipush dX6_shared_17 rfl ?_
      refine e_ireturn dX6_shared_19 rfl rfl ?_
      refine t_pub ?_ hpk
      unfold v_shared
      (repeat' split) <;> first | rfl | omega
