/-! THE TWIN READS ON (printed by tw17.py) -/
set_option maxRecDepth 100000
theorem C_X6_is {σ : t_S} {h0 : e_A} (hI : t_rdI σ) (ho : e_old h0) {p : Nat} (hp : p < 34) : e_C mX6_is [.ref 384, .ref (270 + p)] (t_H σ h0) 0 0 4 (e_ret (e_i (if t_isv σ p = 1 then 1 else 0)) (t_H σ h0)) := by
  have hI9 := hI
  obtain ⟨i1, i2, i3, i4, i5, i6⟩ := hI
  obtain ⟨htn, htc⟩ := e_tx_rg hp
  refine e_enter (al0 := [.ref 384, .ref (270 + p), .retAddr 0, .retAddr 0]) (by decide +kernel) rfl (Nat.le_of_ble_eq_true rfl) ?_
  refine e_aload_n dX6_is_0 rfl ?_
  refine e_callV0rz (ci := 6) dX6_is_1 md_X6_good lk_X6_163 rfl q1968 qs64 (t_obj _ _) (by decide) rfl (Nat.le_of_ble_eq_true rfl) (C_X6_good i6) ?_
  refine e_bif_eq (tgt := 35) dX6_is_4 rfl (fun c1 => ?_) (fun c1 => ?_)
  · refine e_iconst dX6_is_35 ?_
    refine e_top (e_i (t_isb σ p)) (by unfold t_isb; first | rw [if_pos (by omega)] | rw [if_neg (by omega)]) ?_
    refine e_istore_n2 dX6_is_36 rfl ?_
    refine e_iconst dX6_is_37 ?_
    refine e_istore_n3 dX6_is_38 rfl ?_
    refine e_for (n := e_tn p) (fun k => e_E mX6_is 39 [.ref 384, .ref (270 + p), e_i (t_alg (t_isb σ p) (t_isg σ p) k.toNat), e_i k] [] (t_H σ h0) _ _ _ _) (by omega) ?_ (fun k hk0 hk1 hF => ?_)
    · have h01 := t_isv01 σ p (e_tn p).toNat
      refine e_iload_n dX6_is_39 rfl ?_
      refine e_aload_n dX6_is_40 rfl ?_
      refine e_callV0rz (ci := 14) dX6_is_41 md_J4_length lk_X6_166 rfl q725 q726 ((e_old_tH ho).1 p hp).1 (by decide) rfl (Nat.le_of_ble_eq_true rfl) (C_J4_length (e_old_tH ho) hp) ?_
      refine e_icmp_ge (tgt := 82) dX6_is_44 rfl ⟨by omega, by omega⟩ ⟨by omega, by omega⟩ (fun c2 => ?_) (fun q => by exfalso; omega)
      refine e_iload_n dX6_is_82 rfl ?_
      refine e_ireturn dX6_is_83 rfl (by rcases h01 with q | q <;> (first | (show narrow .boolean (e_i (t_alg (t_isb σ p) (t_isg σ p) (e_tn p).toNat)) = e_i (t_alg (t_isb σ p) (t_isg σ p) (e_tn p).toNat); rw [q]; rfl) | (show narrow .boolean (e_i (t_alg (t_isb σ p) (t_isg σ p) k.toNat)) = e_i (t_alg (t_isb σ p) (t_isg σ p) k.toNat); rw [q]; rfl))) ?_
      refine e_rv ?_ rfl
      first
        | (show t_alg (t_isb σ p) (t_isg σ p) (e_tn p).toNat = if t_alg (t_isb σ p) (t_isg σ p) (e_tn p).toNat = 1 then 1 else 0
           rcases h01 with q | q <;> rw [q] <;> rfl)
        | (rw [show t_isv σ p = 0 from t_alg_stop (i := k.toNat) (by omega) _ (by omega)]; omega)
    · have h01 := t_isv01 σ p k.toNat
      have es : t_alg (t_isb σ p) (t_isg σ p) (k + 1).toNat = if t_alg (t_isb σ p) (t_isg σ p) k.toNat = 0 then 0 else t_isg σ p k := t_alg_s _ _ hk0
      refine e_iload_n dX6_is_39 rfl ?_
      refine e_aload_n dX6_is_40 rfl ?_
      refine e_callV0rz (ci := 14) dX6_is_41 md_J4_length lk_X6_166 rfl q725 q726 ((e_old_tH ho).1 p hp).1 (by decide) rfl (Nat.le_of_ble_eq_true rfl) (C_J4_length (e_old_tH ho) hp) ?_
      refine e_icmp_ge (tgt := 82) dX6_is_44 rfl ⟨by omega, by omega⟩ ⟨by omega, by omega⟩ (fun q => by exfalso; omega) (fun c3 => ?_)
      refine e_iload_n dX6_is_47 rfl ?_
      refine e_if_eq (tgt := 82) dX6_is_48 rfl ⟨by omega, by omega⟩ (fun c4 => ?_) (fun c4 => ?_)
      · refine e_iload_n dX6_is_82 rfl ?_
        refine e_ireturn dX6_is_83 rfl (by rcases h01 with q | q <;> (first | (show narrow .boolean (e_i (t_alg (t_isb σ p) (t_isg σ p) (e_tn p).toNat)) = e_i (t_alg (t_isb σ p) (t_isg σ p) (e_tn p).toNat); rw [q]; rfl) | (show narrow .boolean (e_i (t_alg (t_isb σ p) (t_isg σ p) k.toNat)) = e_i (t_alg (t_isb σ p) (t_isg σ p) k.toNat); rw [q]; rfl))) ?_
        refine e_rv ?_ rfl
        first
          | (show t_alg (t_isb σ p) (t_isg σ p) (e_tn p).toNat = if t_alg (t_isb σ p) (t_isg σ p) (e_tn p).toNat = 1 then 1 else 0
             rcases h01 with q | q <;> rw [q] <;> rfl)
          | (rw [show t_isv σ p = 0 from t_alg_stop (i := k.toNat) (by omega) _ (by omega)]; omega)
      · have hb : t_isb σ p = 1 := by
          rcases t_isb01 σ p with q | q
          · exact absurd (t_alg_b q k.toNat) (by omega)
          · exact q
        have hb2 : σ 12 0 = 0 ∧ σ 10 0 = 1 ∧ σ 8 0 - σ 9 0 = e_tn p := by
          by_cases q : σ 12 0 = 0 ∧ σ 10 0 = 1 ∧ σ 8 0 - σ 9 0 = e_tn p
          · exact q
          · unfold t_isb at hb
            rw [if_neg q] at hb
            exact absurd hb (by decide)
        have h4 := i5 (σ 9 0 + k) (by omega) (by omega)
        have h5 := htc k hk0 hk1
        refine e_aload_n dX6_is_51 rfl ?_
        refine t_geta (k := 4) dX6_is_52 fl_X6_20 rfl ?_
        refine e_aload_n dX6_is_55 rfl ?_
        refine t_geti (k := 9) dX6_is_56 fl_X6_136 rfl ?_
        refine e_iload_n dX6_is_59 rfl ?_
        refine e_iadd dX6_is_60 ?_
        refine t_bld 900 dX6_is_61 rfl (by decide) (fun _ => rfl) rfl ⟨by omega, by omega⟩ ?_
        refine e_aload_n dX6_is_62 rfl ?_
        refine e_iload_n dX6_is_63 rfl ?_
        refine e_callV1rz (ci := 14) dX6_is_64 md_J4_charAt lk_X6_171 rfl q735 q736 ((e_old_tH ho).1 p hp).1 (by decide) rfl (Nat.le_of_ble_eq_true rfl) (C_J4_charAt (e_old_tH ho) hp ⟨hk0, hk1⟩) ?_
        refine e_icmp_ne (tgt := 74) dX6_is_67 rfl ⟨by omega, by omega⟩ ⟨by omega, by omega⟩ (fun c5 => ?_) (fun c5 => ?_)
        · refine e_iconst dX6_is_74 ?_
          refine e_istore_n2 dX6_is_75 rfl ?_
          refine e_iinc3 dX6_is_76 rfl ?_
          refine e_goto (tgt := 39) dX6_is_79 rfl ?_
          rw [es, if_neg (by omega)] at hF
          first
            | (rw [show t_isg σ p k = 1 from if_pos (by omega)] at hF; exact hF)
            | (rw [show t_isg σ p k = 0 from if_neg (by omega)] at hF; exact hF)
        · refine e_iconst dX6_is_70 ?_
          refine e_goto (tgt := 75) dX6_is_71 rfl ?_
          refine e_istore_n2 dX6_is_75 rfl ?_
          refine e_iinc3 dX6_is_76 rfl ?_
          refine e_goto (tgt := 39) dX6_is_79 rfl ?_
          rw [es, if_neg (by omega)] at hF
          first
            | (rw [show t_isg σ p k = 1 from if_pos (by omega)] at hF; exact hF)
            | (rw [show t_isg σ p k = 0 from if_neg (by omega)] at hF; exact hF)
  · refine e_aload_n dX6_is_7 rfl ?_
    refine t_geti (k := 10) dX6_is_8 fl_X6_139 rfl ?_
    refine e_iconst dX6_is_11 ?_
    refine e_icmp_ne (tgt := 35) dX6_is_12 rfl ⟨by omega, by omega⟩ ⟨by omega, by omega⟩ (fun c6 => ?_) (fun c6 => ?_)
    · refine e_iconst dX6_is_35 ?_
      refine e_top (e_i (t_isb σ p)) (by unfold t_isb; first | rw [if_pos (by omega)] | rw [if_neg (by omega)]) ?_
      refine e_istore_n2 dX6_is_36 rfl ?_
      refine e_iconst dX6_is_37 ?_
      refine e_istore_n3 dX6_is_38 rfl ?_
      refine e_for (n := e_tn p) (fun k => e_E mX6_is 39 [.ref 384, .ref (270 + p), e_i (t_alg (t_isb σ p) (t_isg σ p) k.toNat), e_i k] [] (t_H σ h0) _ _ _ _) (by omega) ?_ (fun k hk0 hk1 hF => ?_)
      · have h01 := t_isv01 σ p (e_tn p).toNat
        refine e_iload_n dX6_is_39 rfl ?_
        refine e_aload_n dX6_is_40 rfl ?_
        refine e_callV0rz (ci := 14) dX6_is_41 md_J4_length lk_X6_166 rfl q725 q726 ((e_old_tH ho).1 p hp).1 (by decide) rfl (Nat.le_of_ble_eq_true rfl) (C_J4_length (e_old_tH ho) hp) ?_
        refine e_icmp_ge (tgt := 82) dX6_is_44 rfl ⟨by omega, by omega⟩ ⟨by omega, by omega⟩ (fun c7 => ?_) (fun q => by exfalso; omega)
        refine e_iload_n dX6_is_82 rfl ?_
        refine e_ireturn dX6_is_83 rfl (by rcases h01 with q | q <;> (first | (show narrow .boolean (e_i (t_alg (t_isb σ p) (t_isg σ p) (e_tn p).toNat)) = e_i (t_alg (t_isb σ p) (t_isg σ p) (e_tn p).toNat); rw [q]; rfl) | (show narrow .boolean (e_i (t_alg (t_isb σ p) (t_isg σ p) k.toNat)) = e_i (t_alg (t_isb σ p) (t_isg σ p) k.toNat); rw [q]; rfl))) ?_
        refine e_rv ?_ rfl
        first
          | (show t_alg (t_isb σ p) (t_isg σ p) (e_tn p).toNat = if t_alg (t_isb σ p) (t_isg σ p) (e_tn p).toNat = 1 then 1 else 0
             rcases h01 with q | q <;> rw [q] <;> rfl)
          | (rw [show t_isv σ p = 0 from t_alg_stop (i := k.toNat) (by omega) _ (by omega)]; omega)
      · have h01 := t_isv01 σ p k.toNat
        have es : t_alg (t_isb σ p) (t_isg σ p) (k + 1).toNat = if t_alg (t_isb σ p) (t_isg σ p) k.toNat = 0 then 0 else t_isg σ p k := t_alg_s _ _ hk0
        refine e_iload_n dX6_is_39 rfl ?_
        refine e_aload_n dX6_is_40 rfl ?_
        refine e_callV0rz (ci := 14) dX6_is_41 md_J4_length lk_X6_166 rfl q725 q726 ((e_old_tH ho).1 p hp).1 (by decide) rfl (Nat.le_of_ble_eq_true rfl) (C_J4_length (e_old_tH ho) hp) ?_
        refine e_icmp_ge (tgt := 82) dX6_is_44 rfl ⟨by omega, by omega⟩ ⟨by omega, by omega⟩ (fun q => by exfalso; omega) (fun c8 => ?_)
        refine e_iload_n dX6_is_47 rfl ?_
        refine e_if_eq (tgt := 82) dX6_is_48 rfl ⟨by omega, by omega⟩ (fun c9 => ?_) (fun c9 => ?_)
        · refine e_iload_n dX6_is_82 rfl ?_
          refine e_ireturn dX6_is_83 rfl (by rcases h01 with q | q <;> (first | (show narrow .boolean (e_i (t_alg (t_isb σ p) (t_isg σ p) (e_tn p).toNat)) = e_i (t_alg (t_isb σ p) (t_isg σ p) (e_tn p).toNat); rw [q]; rfl) | (show narrow .boolean (e_i (t_alg (t_isb σ p) (t_isg σ p) k.toNat)) = e_i (t_alg (t_isb σ p) (t_isg σ p) k.toNat); rw [q]; rfl))) ?_
          refine e_rv ?_ rfl
          first
            | (show t_alg (t_isb σ p) (t_isg σ p) (e_tn p).toNat = if t_alg (t_isb σ p) (t_isg σ p) (e_tn p).toNat = 1 then 1 else 0
               rcases h01 with q | q <;> rw [q] <;> rfl)
            | (rw [show t_isv σ p = 0 from t_alg_stop (i := k.toNat) (by omega) _ (by omega)]; omega)
        · have hb : t_isb σ p = 1 := by
            rcases t_isb01 σ p with q | q
            · exact absurd (t_alg_b q k.toNat) (by omega)
            · exact q
          have hb2 : σ 12 0 = 0 ∧ σ 10 0 = 1 ∧ σ 8 0 - σ 9 0 = e_tn p := by
            by_cases q : σ 12 0 = 0 ∧ σ 10 0 = 1 ∧ σ 8 0 - σ 9 0 = e_tn p
            · exact q
            · unfold t_isb at hb
              rw [if_neg q] at hb
              exact absurd hb (by decide)
          have h4 := i5 (σ 9 0 + k) (by omega) (by omega)
          have h5 := htc k hk0 hk1
          refine e_aload_n dX6_is_51 rfl ?_
          refine t_geta (k := 4) dX6_is_52 fl_X6_20 rfl ?_
          refine e_aload_n dX6_is_55 rfl ?_
          refine t_geti (k := 9) dX6_is_56 fl_X6_136 rfl ?_
          refine e_iload_n dX6_is_59 rfl ?_
          refine e_iadd dX6_is_60 ?_
          refine t_bld 900 dX6_is_61 rfl (by decide) (fun _ => rfl) rfl ⟨by omega, by omega⟩ ?_
          refine e_aload_n dX6_is_62 rfl ?_
          refine e_iload_n dX6_is_63 rfl ?_
          refine e_callV1rz (ci := 14) dX6_is_64 md_J4_charAt lk_X6_171 rfl q735 q736 ((e_old_tH ho).1 p hp).1 (by decide) rfl (Nat.le_of_ble_eq_true rfl) (C_J4_charAt (e_old_tH ho) hp ⟨hk0, hk1⟩) ?_
          refine e_icmp_ne (tgt := 74) dX6_is_67 rfl ⟨by omega, by omega⟩ ⟨by omega, by omega⟩ (fun c10 => ?_) (fun c10 => ?_)
          · refine e_iconst dX6_is_74 ?_
            refine e_istore_n2 dX6_is_75 rfl ?_
            refine e_iinc3 dX6_is_76 rfl ?_
            refine e_goto (tgt := 39) dX6_is_79 rfl ?_
            rw [es, if_neg (by omega)] at hF
            first
              | (rw [show t_isg σ p k = 1 from if_pos (by omega)] at hF; exact hF)
              | (rw [show t_isg σ p k = 0 from if_neg (by omega)] at hF; exact hF)
          · refine e_iconst dX6_is_70 ?_
            refine e_goto (tgt := 75) dX6_is_71 rfl ?_
            refine e_istore_n2 dX6_is_75 rfl ?_
            refine e_iinc3 dX6_is_76 rfl ?_
            refine e_goto (tgt := 39) dX6_is_79 rfl ?_
            rw [es, if_neg (by omega)] at hF
            first
              | (rw [show t_isg σ p k = 1 from if_pos (by omega)] at hF; exact hF)
              | (rw [show t_isg σ p k = 0 from if_neg (by omega)] at hF; exact hF)
    · refine e_aload_n dX6_is_15 rfl ?_
      refine t_geti (k := 8) dX6_is_16 fl_X6_129 rfl ?_
      refine e_aload_n dX6_is_19 rfl ?_
      refine t_geti (k := 9) dX6_is_20 fl_X6_136 rfl ?_
      refine e_isub dX6_is_23 ?_
      refine e_aload_n dX6_is_24 rfl ?_
      refine e_callV0rz (ci := 14) dX6_is_25 md_J4_length lk_X6_166 rfl q725 q726 ((e_old_tH ho).1 p hp).1 (by decide) rfl (Nat.le_of_ble_eq_true rfl) (C_J4_length (e_old_tH ho) hp) ?_
      refine e_icmp_ne (tgt := 35) dX6_is_28 rfl ⟨by omega, by omega⟩ ⟨by omega, by omega⟩ (fun c11 => ?_) (fun c11 => ?_)
      · refine e_iconst dX6_is_35 ?_
        refine e_top (e_i (t_isb σ p)) (by unfold t_isb; first | rw [if_pos (by omega)] | rw [if_neg (by omega)]) ?_
        refine e_istore_n2 dX6_is_36 rfl ?_
        refine e_iconst dX6_is_37 ?_
        refine e_istore_n3 dX6_is_38 rfl ?_
        refine e_for (n := e_tn p) (fun k => e_E mX6_is 39 [.ref 384, .ref (270 + p), e_i (t_alg (t_isb σ p) (t_isg σ p) k.toNat), e_i k] [] (t_H σ h0) _ _ _ _) (by omega) ?_ (fun k hk0 hk1 hF => ?_)
        · have h01 := t_isv01 σ p (e_tn p).toNat
          refine e_iload_n dX6_is_39 rfl ?_
          refine e_aload_n dX6_is_40 rfl ?_
          refine e_callV0rz (ci := 14) dX6_is_41 md_J4_length lk_X6_166 rfl q725 q726 ((e_old_tH ho).1 p hp).1 (by decide) rfl (Nat.le_of_ble_eq_true rfl) (C_J4_length (e_old_tH ho) hp) ?_
          refine e_icmp_ge (tgt := 82) dX6_is_44 rfl ⟨by omega, by omega⟩ ⟨by omega, by omega⟩ (fun c12 => ?_) (fun q => by exfalso; omega)
          refine e_iload_n dX6_is_82 rfl ?_
          refine e_ireturn dX6_is_83 rfl (by rcases h01 with q | q <;> (first | (show narrow .boolean (e_i (t_alg (t_isb σ p) (t_isg σ p) (e_tn p).toNat)) = e_i (t_alg (t_isb σ p) (t_isg σ p) (e_tn p).toNat); rw [q]; rfl) | (show narrow .boolean (e_i (t_alg (t_isb σ p) (t_isg σ p) k.toNat)) = e_i (t_alg (t_isb σ p) (t_isg σ p) k.toNat); rw [q]; rfl))) ?_
          refine e_rv ?_ rfl
          first
            | (show t_alg (t_isb σ p) (t_isg σ p) (e_tn p).toNat = if t_alg (t_isb σ p) (t_isg σ p) (e_tn p).toNat = 1 then 1 else 0
               rcases h01 with q | q <;> rw [q] <;> rfl)
            | (rw [show t_isv σ p = 0 from t_alg_stop (i := k.toNat) (by omega) _ (by omega)]; omega)
        · have h01 := t_isv01 σ p k.toNat
          have es : t_alg (t_isb σ p) (t_isg σ p) (k + 1).toNat = if t_alg (t_isb σ p) (t_isg σ p) k.toNat = 0 then 0 else t_isg σ p k := t_alg_s _ _ hk0
          refine e_iload_n dX6_is_39 rfl ?_
          refine e_aload_n dX6_is_40 rfl ?_
          refine e_callV0rz (ci := 14) dX6_is_41 md_J4_length lk_X6_166 rfl q725 q726 ((e_old_tH ho).1 p hp).1 (by decide) rfl (Nat.le_of_ble_eq_true rfl) (C_J4_length (e_old_tH ho) hp) ?_
          refine e_icmp_ge (tgt := 82) dX6_is_44 rfl ⟨by omega, by omega⟩ ⟨by omega, by omega⟩ (fun q => by exfalso; omega) (fun c13 => ?_)
          refine e_iload_n dX6_is_47 rfl ?_
          refine e_if_eq (tgt := 82) dX6_is_48 rfl ⟨by omega, by omega⟩ (fun c14 => ?_) (fun c14 => ?_)
          · refine e_iload_n dX6_is_82 rfl ?_
            refine e_ireturn dX6_is_83 rfl (by rcases h01 with q | q <;> (first | (show narrow .boolean (e_i (t_alg (t_isb σ p) (t_isg σ p) (e_tn p).toNat)) = e_i (t_alg (t_isb σ p) (t_isg σ p) (e_tn p).toNat); rw [q]; rfl) | (show narrow .boolean (e_i (t_alg (t_isb σ p) (t_isg σ p) k.toNat)) = e_i (t_alg (t_isb σ p) (t_isg σ p) k.toNat); rw [q]; rfl))) ?_
            refine e_rv ?_ rfl
            first
              | (show t_alg (t_isb σ p) (t_isg σ p) (e_tn p).toNat = if t_alg (t_isb σ p) (t_isg σ p) (e_tn p).toNat = 1 then 1 else 0
                 rcases h01 with q | q <;> rw [q] <;> rfl)
              | (rw [show t_isv σ p = 0 from t_alg_stop (i := k.toNat) (by omega) _ (by omega)]; omega)
          · have hb : t_isb σ p = 1 := by
              rcases t_isb01 σ p with q | q
              · exact absurd (t_alg_b q k.toNat) (by omega)
              · exact q
            have hb2 : σ 12 0 = 0 ∧ σ 10 0 = 1 ∧ σ 8 0 - σ 9 0 = e_tn p := by
              by_cases q : σ 12 0 = 0 ∧ σ 10 0 = 1 ∧ σ 8 0 - σ 9 0 = e_tn p
              · exact q
              · unfold t_isb at hb
                rw [if_neg q] at hb
                exact absurd hb (by decide)
            have h4 := i5 (σ 9 0 + k) (by omega) (by omega)
            have h5 := htc k hk0 hk1
            refine e_aload_n dX6_is_51 rfl ?_
            refine t_geta (k := 4) dX6_is_52 fl_X6_20 rfl ?_
            refine e_aload_n dX6_is_55 rfl ?_
            refine t_geti (k := 9) dX6_is_56 fl_X6_136 rfl ?_
            refine e_iload_n dX6_is_59 rfl ?_
            refine e_iadd dX6_is_60 ?_
            refine t_bld 900 dX6_is_61 rfl (by decide) (fun _ => rfl) rfl ⟨by omega, by omega⟩ ?_
            refine e_aload_n dX6_is_62 rfl ?_
            refine e_iload_n dX6_is_63 rfl ?_
            refine e_callV1rz (ci := 14) dX6_is_64 md_J4_charAt lk_X6_171 rfl q735 q736 ((e_old_tH ho).1 p hp).1 (by decide) rfl (Nat.le_of_ble_eq_true rfl) (C_J4_charAt (e_old_tH ho) hp ⟨hk0, hk1⟩) ?_
            refine e_icmp_ne (tgt := 74) dX6_is_67 rfl ⟨by omega, by omega⟩ ⟨by omega, by omega⟩ (fun c15 => ?_) (fun c15 => ?_)
            · refine e_iconst dX6_is_74 ?_
              refine e_istore_n2 dX6_is_75 rfl ?_
              refine e_iinc3 dX6_is_76 rfl ?_
              refine e_goto (tgt := 39) dX6_is_79 rfl ?_
              rw [es, if_neg (by omega)] at hF
              first
                | (rw [show t_isg σ p k = 1 from if_pos (by omega)] at hF; exact hF)
                | (rw [show t_isg σ p k = 0 from if_neg (by omega)] at hF; exact hF)
            · refine e_iconst dX6_is_70 ?_
              refine e_goto (tgt := 75) dX6_is_71 rfl ?_
              refine e_istore_n2 dX6_is_75 rfl ?_
              refine e_iinc3 dX6_is_76 rfl ?_
              refine e_goto (tgt := 39) dX6_is_79 rfl ?_
              rw [es, if_neg (by omega)] at hF
              first
                | (rw [show t_isg σ p k = 1 from if_pos (by omega)] at hF; exact hF)
                | (rw [show t_isg σ p k = 0 from if_neg (by omega)] at hF; exact hF)
      · refine e_iconst dX6_is_31 ?_
        refine e_goto (tgt := 36) dX6_is_32 rfl ?_
        refine e_top (e_i (t_isb σ p)) (by unfold t_isb; first | rw [if_pos (by omega)] | rw [if_neg (by omega)]) ?_
        refine e_istore_n2 dX6_is_36 rfl ?_
        refine e_iconst dX6_is_37 ?_
        refine e_istore_n3 dX6_is_38 rfl ?_
        refine e_for (n := e_tn p) (fun k => e_E mX6_is 39 [.ref 384, .ref (270 + p), e_i (t_alg (t_isb σ p) (t_isg σ p) k.toNat), e_i k] [] (t_H σ h0) _ _ _ _) (by omega) ?_ (fun k hk0 hk1 hF => ?_)
        · have h01 := t_isv01 σ p (e_tn p).toNat
          refine e_iload_n dX6_is_39 rfl ?_
          refine e_aload_n dX6_is_40 rfl ?_
          refine e_callV0rz (ci := 14) dX6_is_41 md_J4_length lk_X6_166 rfl q725 q726 ((e_old_tH ho).1 p hp).1 (by decide) rfl (Nat.le_of_ble_eq_true rfl) (C_J4_length (e_old_tH ho) hp) ?_
          refine e_icmp_ge (tgt := 82) dX6_is_44 rfl ⟨by omega, by omega⟩ ⟨by omega, by omega⟩ (fun c16 => ?_) (fun q => by exfalso; omega)
          refine e_iload_n dX6_is_82 rfl ?_
          refine e_ireturn dX6_is_83 rfl (by rcases h01 with q | q <;> (first | (show narrow .boolean (e_i (t_alg (t_isb σ p) (t_isg σ p) (e_tn p).toNat)) = e_i (t_alg (t_isb σ p) (t_isg σ p) (e_tn p).toNat); rw [q]; rfl) | (show narrow .boolean (e_i (t_alg (t_isb σ p) (t_isg σ p) k.toNat)) = e_i (t_alg (t_isb σ p) (t_isg σ p) k.toNat); rw [q]; rfl))) ?_
          refine e_rv ?_ rfl
          first
            | (show t_alg (t_isb σ p) (t_isg σ p) (e_tn p).toNat = if t_alg (t_isb σ p) (t_isg σ p) (e_tn p).toNat = 1 then 1 else 0
               rcases h01 with q | q <;> rw [q] <;> rfl)
            | (rw [show t_isv σ p = 0 from t_alg_stop (i := k.toNat) (by omega) _ (by omega)]; omega)
        · have h01 := t_isv01 σ p k.toNat
          have es : t_alg (t_isb σ p) (t_isg σ p) (k + 1).toNat = if t_alg (t_isb σ p) (t_isg σ p) k.toNat = 0 then 0 else t_isg σ p k := t_alg_s _ _ hk0
          refine e_iload_n dX6_is_39 rfl ?_
          refine e_aload_n dX6_is_40 rfl ?_
          refine e_callV0rz (ci := 14) dX6_is_41 md_J4_length lk_X6_166 rfl q725 q726 ((e_old_tH ho).1 p hp).1 (by decide) rfl (Nat.le_of_ble_eq_true rfl) (C_J4_length (e_old_tH ho) hp) ?_
          refine e_icmp_ge (tgt := 82) dX6_is_44 rfl ⟨by omega, by omega⟩ ⟨by omega, by omega⟩ (fun q => by exfalso; omega) (fun c17 => ?_)
          refine e_iload_n dX6_is_47 rfl ?_
          refine e_if_eq (tgt := 82) dX6_is_48 rfl ⟨by omega, by omega⟩ (fun c18 => ?_) (fun c18 => ?_)
          · refine e_iload_n dX6_is_82 rfl ?_
            refine e_ireturn dX6_is_83 rfl (by rcases h01 with q | q <;> (first | (show narrow .boolean (e_i (t_alg (t_isb σ p) (t_isg σ p) (e_tn p).toNat)) = e_i (t_alg (t_isb σ p) (t_isg σ p) (e_tn p).toNat); rw [q]; rfl) | (show narrow .boolean (e_i (t_alg (t_isb σ p) (t_isg σ p) k.toNat)) = e_i (t_alg (t_isb σ p) (t_isg σ p) k.toNat); rw [q]; rfl))) ?_
            refine e_rv ?_ rfl
            first
              | (show t_alg (t_isb σ p) (t_isg σ p) (e_tn p).toNat = if t_alg (t_isb σ p) (t_isg σ p) (e_tn p).toNat = 1 then 1 else 0
                 rcases h01 with q | q <;> rw [q] <;> rfl)
              | (rw [show t_isv σ p = 0 from t_alg_stop (i := k.toNat) (by omega) _ (by omega)]; omega)
          · have hb : t_isb σ p = 1 := by
              rcases t_isb01 σ p with q | q
              · exact absurd (t_alg_b q k.toNat) (by omega)
              · exact q
            have hb2 : σ 12 0 = 0 ∧ σ 10 0 = 1 ∧ σ 8 0 - σ 9 0 = e_tn p := by
              by_cases q : σ 12 0 = 0 ∧ σ 10 0 = 1 ∧ σ 8 0 - σ 9 0 = e_tn p
              · exact q
              · unfold t_isb at hb
                rw [if_neg q] at hb
                exact absurd hb (by decide)
            have h4 := i5 (σ 9 0 + k) (by omega) (by omega)
            have h5 := htc k hk0 hk1
            refine e_aload_n dX6_is_51 rfl ?_
            refine t_geta (k := 4) dX6_is_52 fl_X6_20 rfl ?_
            refine e_aload_n dX6_is_55 rfl ?_
            refine t_geti (k := 9) dX6_is_56 fl_X6_136 rfl ?_
            refine e_iload_n dX6_is_59 rfl ?_
            refine e_iadd dX6_is_60 ?_
            refine t_bld 900 dX6_is_61 rfl (by decide) (fun _ => rfl) rfl ⟨by omega, by omega⟩ ?_
            refine e_aload_n dX6_is_62 rfl ?_
            refine e_iload_n dX6_is_63 rfl ?_
            refine e_callV1rz (ci := 14) dX6_is_64 md_J4_charAt lk_X6_171 rfl q735 q736 ((e_old_tH ho).1 p hp).1 (by decide) rfl (Nat.le_of_ble_eq_true rfl) (C_J4_charAt (e_old_tH ho) hp ⟨hk0, hk1⟩) ?_
            refine e_icmp_ne (tgt := 74) dX6_is_67 rfl ⟨by omega, by omega⟩ ⟨by omega, by omega⟩ (fun c19 => ?_) (fun c19 => ?_)
            · refine e_iconst dX6_is_74 ?_
              refine e_istore_n2 dX6_is_75 rfl ?_
              refine e_iinc3 dX6_is_76 rfl ?_
              refine e_goto (tgt := 39) dX6_is_79 rfl ?_
              rw [es, if_neg (by omega)] at hF
              first
                | (rw [show t_isg σ p k = 1 from if_pos (by omega)] at hF; exact hF)
                | (rw [show t_isg σ p k = 0 from if_neg (by omega)] at hF; exact hF)
            · refine e_iconst dX6_is_70 ?_
              refine e_goto (tgt := 75) dX6_is_71 rfl ?_
              refine e_istore_n2 dX6_is_75 rfl ?_
              refine e_iinc3 dX6_is_76 rfl ?_
              refine e_goto (tgt := 39) dX6_is_79 rfl ?_
              rw [es, if_neg (by omega)] at hF
              first
                | (rw [show t_isg σ p k = 1 from if_pos (by omega)] at hF; exact hF)
                | (rw [show t_isg σ p k = 0 from if_neg (by omega)] at hF; exact hF)
theorem C_X6_takes {σ : t_S} {h0 : e_A} (hI : t_rdI σ) (ho : e_old h0) {p : Nat} (hp : p < 34) : e_C mX6_takes [.ref 384, .ref (270 + p)] (t_H σ h0) 0 0 5 (e_ret (e_i (if t_isv σ p = 1 then 1 else 0)) (t_H (t_tk p σ) h0)) := by
  refine e_enter (al0 := [.ref 384, .ref (270 + p), .retAddr 0]) (by decide +kernel) rfl (Nat.le_of_ble_eq_true rfl) ?_
  refine e_aload_n dX6_takes_0 rfl ?_
  refine e_aload_n dX6_takes_1 rfl ?_
  refine e_callV1rz (ci := 6) dX6_takes_2 md_X6_is lk_X6_175 rfl q1989 qs69 (t_obj _ _) (by decide) rfl (Nat.le_of_ble_eq_true rfl) (C_X6_is hI ho hp) ?_
  refine e_istore_n2 dX6_takes_5 rfl ?_
  refine e_iload_n dX6_takes_6 rfl ?_
  refine e_bif_eq (tgt := 14) dX6_takes_7 rfl (fun c1 => ?_) (fun c1 => ?_)
  · refine e_iload_n dX6_takes_14 rfl ?_
    refine e_ireturn dX6_takes_15 rfl e_nB ?_
    refine ⟨rfl, ?_⟩
    unfold t_tk
    first | rw [if_pos (by assumption)] | rw [if_neg (by assumption)]
  · refine e_aload_n dX6_takes_10 rfl ?_
    refine e_callV0vz (ci := 6) dX6_takes_11 md_X6_advance lk_X6_179 rfl q1954 qs62 (t_obj _ _) (by decide) rfl (Nat.le_of_ble_eq_true rfl) (C_X6_advance hI) ?_
    refine e_iload_n dX6_takes_14 rfl ?_
    refine e_ireturn dX6_takes_15 rfl e_nB ?_
    refine ⟨rfl, ?_⟩
    unfold t_tk
    first | rw [if_pos (by assumption)] | rw [if_neg (by assumption)]
theorem C_X6_expects {σ : t_S} {h0 : e_A} (hI : t_rdI σ) (ho : e_old h0) {p : Nat} (hp : p < 34) : e_C mX6_expects [.ref 384, .ref (270 + p)] (t_H σ h0) 0 0 6 (e_rev (t_H (t_ex p σ) h0)) := by
  refine e_enter (al0 := [.ref 384, .ref (270 + p)]) (by decide +kernel) rfl (Nat.le_of_ble_eq_true rfl) ?_
  refine e_aload_n dX6_expects_0 rfl ?_
  refine e_aload_n dX6_expects_1 rfl ?_
  refine e_callV1rz (ci := 6) dX6_expects_2 md_X6_takes lk_X6_182 rfl q1985 qs68 (t_obj _ _) (by decide) rfl (Nat.le_of_ble_eq_true rfl) (C_X6_takes hI ho hp) ?_
  refine e_bif_ne (tgt := 13) dX6_expects_5 rfl (fun c1 => ?_) (fun c1 => ?_)
  · refine e_return dX6_expects_13 rfl ?_
    refine ⟨rfl, ?_⟩
    unfold t_ex
    first
      | rw [if_neg (by assumption)]
      | (unfold t_tk; rw [if_pos (by assumption), if_pos (by assumption)])
  · rw [show t_tk p σ = σ from if_neg (by assumption)]
    refine e_aload_n dX6_expects_8 rfl ?_
    refine e_iconst dX6_expects_9 ?_
    refine e_callV1vz (ci := 6) dX6_expects_10 md_X6_errs lk_X6_185 rfl q1995 qs70 (t_obj _ _) (by decide) rfl (Nat.le_of_ble_eq_true rfl) (C_X6_errs hI.2.2.2.2.2 (by decide)) ?_
    refine e_return dX6_expects_13 rfl ?_
    refine ⟨rfl, ?_⟩
    unfold t_ex
    first
      | rw [if_neg (by assumption)]
      | (unfold t_tk; rw [if_pos (by assumption), if_pos (by assumption)])
theorem C_X6_number_a {σ : t_S} {h0 : e_A} (hI : t_rdI σ) {lo hi : Int} (hl : e_rg lo) (hh : e_rg hi) (hg : σ 12 0 ≠ 0) : e_C mX6_number [.ref 384, e_i lo, e_i hi] (t_H σ h0) 0 0 4 (e_ret (e_i 0) (t_H (σ) h0)) := by
  have i6 := hI.2.2.2.2.2
  have i2 := hI.2.1
  have i4 := hI.2.2.2.1
  refine e_enter (al0 := [.ref 384, e_i lo, e_i hi, .retAddr 0]) (by decide +kernel) rfl (Nat.le_of_ble_eq_true rfl) ?_
  refine e_aload_n dX6_number_0 rfl ?_
  refine e_callV0rz (ci := 6) dX6_number_1 md_X6_good lk_X6_163 rfl q1968 qs64 (t_obj _ _) (by decide) rfl (Nat.le_of_ble_eq_true rfl) (C_X6_good i6) ?_
  refine e_bif_eq (tgt := 20) dX6_number_4 rfl (fun c1 => ?_) (fun q => by exfalso; omega)
  refine e_aload_n dX6_number_20 rfl ?_
  refine e_callV0rz (ci := 6) dX6_number_21 md_X6_good lk_X6_163 rfl q1968 qs64 (t_obj _ _) (by decide) rfl (Nat.le_of_ble_eq_true rfl) (C_X6_good i6) ?_
  refine e_bif_eq (tgt := 47) dX6_number_24 rfl (fun c2 => ?_) (fun q => by exfalso; omega)
  refine e_aload_n dX6_number_47 rfl ?_
  refine e_callV0rz (ci := 6) dX6_number_48 md_X6_good lk_X6_163 rfl q1968 qs64 (t_obj _ _) (by decide) rfl (Nat.le_of_ble_eq_true rfl) (C_X6_good i6) ?_
  refine e_bif_ne (tgt := 56) dX6_number_51 rfl (fun q => by exfalso; omega) (fun c3 => ?_)
  refine e_iconst dX6_number_54 ?_
  refine e_ireturn dX6_number_55 rfl rfl ?_
  exact ⟨rfl, rfl⟩
theorem C_X6_number_b {σ : t_S} {h0 : e_A} (hI : t_rdI σ) {lo hi : Int} (hl : e_rg lo) (hh : e_rg hi) (hg : σ 12 0 = 0) (ht : σ 10 0 ≠ 2) : e_C mX6_number [.ref 384, e_i lo, e_i hi] (t_H σ h0) 0 0 4 (e_ret (e_i 0) (t_H (t_er 1 σ) h0)) := by
  have i6 := hI.2.2.2.2.2
  have i2 := hI.2.1
  have i4 := hI.2.2.2.1
  refine e_enter (al0 := [.ref 384, e_i lo, e_i hi, .retAddr 0]) (by decide +kernel) rfl (Nat.le_of_ble_eq_true rfl) ?_
  refine e_aload_n dX6_number_0 rfl ?_
  refine e_callV0rz (ci := 6) dX6_number_1 md_X6_good lk_X6_163 rfl q1968 qs64 (t_obj _ _) (by decide) rfl (Nat.le_of_ble_eq_true rfl) (C_X6_good i6) ?_
  refine e_bif_eq (tgt := 20) dX6_number_4 rfl (fun q => by exfalso; omega) (fun c1 => ?_)
  refine e_aload_n dX6_number_7 rfl ?_
  refine t_geti (k := 10) dX6_number_8 fl_X6_139 rfl ?_
  refine e_iconst dX6_number_11 ?_
  refine e_icmp_eq (tgt := 20) dX6_number_12 rfl ⟨by omega, by omega⟩ ⟨by omega, by omega⟩ (fun q => by exfalso; omega) (fun c2 => ?_)
  refine e_aload_n dX6_number_15 rfl ?_
  refine e_iconst dX6_number_16 ?_
  refine e_callV1vz (ci := 6) dX6_number_17 md_X6_errs lk_X6_185 rfl q1995 qs70 (t_obj _ _) (by decide) rfl (Nat.le_of_ble_eq_true rfl) (C_X6_errs i6 (by decide)) ?_
  have e12 := t_er_0 (k := 1) (σ := σ) hg
  have j6 : 0 ≤ t_er 1 σ 12 0 ∧ t_er 1 σ 12 0 ≤ 3 := by omega
  refine e_aload_n dX6_number_20 rfl ?_
  refine e_callV0rz (ci := 6) dX6_number_21 md_X6_good lk_X6_163 rfl q1968 qs64 (t_obj _ _) (by decide) rfl (Nat.le_of_ble_eq_true rfl) (C_X6_good j6) ?_
  refine e_bif_eq (tgt := 47) dX6_number_24 rfl (fun c3 => ?_) (fun q => by exfalso; omega)
  refine e_aload_n dX6_number_47 rfl ?_
  refine e_callV0rz (ci := 6) dX6_number_48 md_X6_good lk_X6_163 rfl q1968 qs64 (t_obj _ _) (by decide) rfl (Nat.le_of_ble_eq_true rfl) (C_X6_good j6) ?_
  refine e_bif_ne (tgt := 56) dX6_number_51 rfl (fun q => by exfalso; omega) (fun c4 => ?_)
  refine e_iconst dX6_number_54 ?_
  refine e_ireturn dX6_number_55 rfl rfl ?_
  exact ⟨rfl, rfl⟩
theorem C_X6_number_c {σ : t_S} {h0 : e_A} (hI : t_rdI σ) {lo hi : Int} (hl : e_rg lo) (hh : e_rg hi) (hg : σ 12 0 = 0) (ht : σ 10 0 = 2) (hr : ¬ (lo ≤ σ 11 0 ∧ σ 11 0 ≤ hi)) : e_C mX6_number [.ref 384, e_i lo, e_i hi] (t_H σ h0) 0 0 4 (e_ret (e_i 0) (t_H (t_er 2 σ) h0)) := by
  have i6 := hI.2.2.2.2.2
  have i2 := hI.2.1
  have i4 := hI.2.2.2.1
  refine e_enter (al0 := [.ref 384, e_i lo, e_i hi, .retAddr 0]) (by decide +kernel) rfl (Nat.le_of_ble_eq_true rfl) ?_
  refine e_aload_n dX6_number_0 rfl ?_
  refine e_callV0rz (ci := 6) dX6_number_1 md_X6_good lk_X6_163 rfl q1968 qs64 (t_obj _ _) (by decide) rfl (Nat.le_of_ble_eq_true rfl) (C_X6_good i6) ?_
  refine e_bif_eq (tgt := 20) dX6_number_4 rfl (fun q => by exfalso; omega) (fun c1 => ?_)
  refine e_aload_n dX6_number_7 rfl ?_
  refine t_geti (k := 10) dX6_number_8 fl_X6_139 rfl ?_
  refine e_iconst dX6_number_11 ?_
  refine e_icmp_eq (tgt := 20) dX6_number_12 rfl ⟨by omega, by omega⟩ ⟨by omega, by omega⟩ (fun c2 => ?_) (fun q => by exfalso; omega)
  refine e_aload_n dX6_number_20 rfl ?_
  refine e_callV0rz (ci := 6) dX6_number_21 md_X6_good lk_X6_163 rfl q1968 qs64 (t_obj _ _) (by decide) rfl (Nat.le_of_ble_eq_true rfl) (C_X6_good i6) ?_
  refine e_bif_eq (tgt := 47) dX6_number_24 rfl (fun q => by exfalso; omega) (fun c3 => ?_)
  refine e_aload_n dX6_number_27 rfl ?_
  refine t_geti (k := 11) dX6_number_28 fl_X6_150 rfl ?_
  refine e_i2l dX6_number_31 ⟨by omega, by omega⟩ ?_
  refine e_iload_n dX6_number_32 rfl ?_
  refine e_i2l dX6_number_33 ⟨by omega, by omega⟩ ?_
  refine e_iload_n dX6_number_34 rfl ?_
  refine e_i2l dX6_number_35 ⟨by omega, by omega⟩ ?_
  refine e_callS3rz dX6_number_36 md_X6_in lk_X6_106 rfl q1930 rfl (Nat.le_of_ble_eq_true rfl) (C_X6_in ⟨by omega, by omega⟩ ⟨by omega, by omega⟩ ⟨by omega, by omega⟩) ?_
  refine e_bif_ne (tgt := 47) dX6_number_39 rfl (fun q => by exfalso; omega) (fun c4 => ?_)
  refine e_aload_n dX6_number_42 rfl ?_
  refine e_iconst dX6_number_43 ?_
  refine e_callV1vz (ci := 6) dX6_number_44 md_X6_errs lk_X6_185 rfl q1995 qs70 (t_obj _ _) (by decide) rfl (Nat.le_of_ble_eq_true rfl) (C_X6_errs i6 (by decide)) ?_
  have e12 := t_er_0 (k := 2) (σ := σ) hg
  have j6 : 0 ≤ t_er 2 σ 12 0 ∧ t_er 2 σ 12 0 ≤ 3 := by omega
  refine e_aload_n dX6_number_47 rfl ?_
  refine e_callV0rz (ci := 6) dX6_number_48 md_X6_good lk_X6_163 rfl q1968 qs64 (t_obj _ _) (by decide) rfl (Nat.le_of_ble_eq_true rfl) (C_X6_good j6) ?_
  refine e_bif_ne (tgt := 56) dX6_number_51 rfl (fun q => by exfalso; omega) (fun c5 => ?_)
  refine e_iconst dX6_number_54 ?_
  refine e_ireturn dX6_number_55 rfl rfl ?_
  exact ⟨rfl, rfl⟩
theorem C_X6_number_d {σ : t_S} {h0 : e_A} (hI : t_rdI σ) {lo hi : Int} (hl : e_rg lo) (hh : e_rg hi) (hg : σ 12 0 = 0) (ht : σ 10 0 = 2) (hr : lo ≤ σ 11 0 ∧ σ 11 0 ≤ hi) : e_C mX6_number [.ref 384, e_i lo, e_i hi] (t_H σ h0) 0 0 4 (e_ret (e_i (σ 11 0)) (t_H (t_adv σ) h0)) := by
  have i6 := hI.2.2.2.2.2
  have i2 := hI.2.1
  have i4 := hI.2.2.2.1
  refine e_enter (al0 := [.ref 384, e_i lo, e_i hi, .retAddr 0]) (by decide +kernel) rfl (Nat.le_of_ble_eq_true rfl) ?_
  refine e_aload_n dX6_number_0 rfl ?_
  refine e_callV0rz (ci := 6) dX6_number_1 md_X6_good lk_X6_163 rfl q1968 qs64 (t_obj _ _) (by decide) rfl (Nat.le_of_ble_eq_true rfl) (C_X6_good i6) ?_
  refine e_bif_eq (tgt := 20) dX6_number_4 rfl (fun q => by exfalso; omega) (fun c1 => ?_)
  refine e_aload_n dX6_number_7 rfl ?_
  refine t_geti (k := 10) dX6_number_8 fl_X6_139 rfl ?_
  refine e_iconst dX6_number_11 ?_
  refine e_icmp_eq (tgt := 20) dX6_number_12 rfl ⟨by omega, by omega⟩ ⟨by omega, by omega⟩ (fun c2 => ?_) (fun q => by exfalso; omega)
  refine e_aload_n dX6_number_20 rfl ?_
  refine e_callV0rz (ci := 6) dX6_number_21 md_X6_good lk_X6_163 rfl q1968 qs64 (t_obj _ _) (by decide) rfl (Nat.le_of_ble_eq_true rfl) (C_X6_good i6) ?_
  refine e_bif_eq (tgt := 47) dX6_number_24 rfl (fun q => by exfalso; omega) (fun c3 => ?_)
  refine e_aload_n dX6_number_27 rfl ?_
  refine t_geti (k := 11) dX6_number_28 fl_X6_150 rfl ?_
  refine e_i2l dX6_number_31 ⟨by omega, by omega⟩ ?_
  refine e_iload_n dX6_number_32 rfl ?_
  refine e_i2l dX6_number_33 ⟨by omega, by omega⟩ ?_
  refine e_iload_n dX6_number_34 rfl ?_
  refine e_i2l dX6_number_35 ⟨by omega, by omega⟩ ?_
  refine e_callS3rz dX6_number_36 md_X6_in lk_X6_106 rfl q1930 rfl (Nat.le_of_ble_eq_true rfl) (C_X6_in ⟨by omega, by omega⟩ ⟨by omega, by omega⟩ ⟨by omega, by omega⟩) ?_
  refine e_bif_ne (tgt := 47) dX6_number_39 rfl (fun c4 => ?_) (fun q => by exfalso; omega)
  refine e_aload_n dX6_number_47 rfl ?_
  refine e_callV0rz (ci := 6) dX6_number_48 md_X6_good lk_X6_163 rfl q1968 qs64 (t_obj _ _) (by decide) rfl (Nat.le_of_ble_eq_true rfl) (C_X6_good i6) ?_
  refine e_bif_ne (tgt := 56) dX6_number_51 rfl (fun c5 => ?_) (fun q => by exfalso; omega)
  refine e_aload_n dX6_number_56 rfl ?_
  refine t_geti (k := 11) dX6_number_57 fl_X6_150 rfl ?_
  refine e_istore_n3 dX6_number_60 rfl ?_
  refine e_aload_n dX6_number_61 rfl ?_
  refine e_callV0vz (ci := 6) dX6_number_62 md_X6_advance lk_X6_179 rfl q1954 qs62 (t_obj _ _) (by decide) rfl (Nat.le_of_ble_eq_true rfl) (C_X6_advance hI) ?_
  refine e_iload_n dX6_number_65 rfl ?_
  refine e_ireturn dX6_number_66 rfl rfl ?_
  exact ⟨rfl, rfl⟩
theorem C_X6_number {σ : t_S} {h0 : e_A} (hI : t_rdI σ) {lo hi : Int} (hl : e_rg lo) (hh : e_rg hi) : e_C mX6_number [.ref 384, e_i lo, e_i hi] (t_H σ h0) 0 0 4 (e_ret (e_i (t_nbV lo hi σ)) (t_H (t_nbS lo hi σ) h0)) := by
  by_cases hg : σ 12 0 = 0
  · by_cases ht : σ 10 0 = 2
    · by_cases hr : lo ≤ σ 11 0 ∧ σ 11 0 ≤ hi
      · rw [show t_nbV lo hi σ = σ 11 0 from if_pos ⟨hg, ht, hr⟩, show t_nbS lo hi σ = t_adv σ from (if_neg (fun w => w hg)).trans ((if_neg (fun w => w ht)).trans (if_neg (fun w => w hr)))]
        exact C_X6_number_d hI hl hh hg ht hr
      · rw [show t_nbV lo hi σ = 0 from if_neg (fun w => hr w.2.2), show t_nbS lo hi σ = t_er 2 σ from (if_neg (fun w => w hg)).trans ((if_neg (fun w => w ht)).trans (if_pos hr))]
        exact C_X6_number_c hI hl hh hg ht hr
    · rw [show t_nbV lo hi σ = 0 from if_neg (fun w => ht w.2.1), show t_nbS lo hi σ = t_er 1 σ from (if_neg (fun w => w hg)).trans (if_pos ht)]
      exact C_X6_number_b hI hl hh hg ht
  · rw [show t_nbV lo hi σ = 0 from if_neg (fun w => hg w.1), show t_nbS lo hi σ = σ from if_pos hg]
    exact C_X6_number_a hI hl hh hg
theorem C_X6_toldBy {σ : t_S} {h0 : e_A} (hI : t_rdI σ) (ho : e_old h0) {p : Nat} (hp : p < 34) {lo hi : Int} (hl : e_rg lo) (hh : e_rg hi) : e_C mX6_toldBy [.ref 384, .ref (270 + p), e_i lo, e_i hi] (t_H σ h0) 0 0 7 (e_ret (e_i (t_nbV lo hi (t_ex p σ))) (t_H (t_nbS lo hi (t_ex p σ)) h0)) := by
  refine e_enter (al0 := [.ref 384, .ref (270 + p), e_i lo, e_i hi]) (by decide +kernel) rfl (Nat.le_of_ble_eq_true rfl) ?_
  refine e_aload_n dX6_toldBy_0 rfl ?_
  refine e_aload_n dX6_toldBy_1 rfl ?_
  refine e_callV1vz (ci := 6) dX6_toldBy_2 md_X6_expects lk_X6_189 rfl q1981 qs67 (t_obj _ _) (by decide) rfl (Nat.le_of_ble_eq_true rfl) (C_X6_expects hI ho hp) ?_
  refine e_aload_n dX6_toldBy_5 rfl ?_
  refine e_iload_n dX6_toldBy_6 rfl ?_
  refine e_iload_n dX6_toldBy_7 rfl ?_
  refine e_callV2rz (ci := 6) dX6_toldBy_8 md_X6_number lk_X6_193 rfl q2004 qs72 (t_obj _ _) (by decide) rfl (Nat.le_of_ble_eq_true rfl) (C_X6_number (t_mo_ex hI).1 hl hh) ?_
  refine e_ireturn dX6_toldBy_11 rfl rfl ?_
  exact ⟨rfl, rfl⟩
theorem C_X6_readFirst {σ : t_S} {h0 : e_A} (hI : t_rdI σ) (ho : e_old h0) : e_C mX6_readFirst [.ref 384] (t_H σ h0) 0 0 8 (e_rev (t_H (t_rf σ) h0)) := by
  refine e_enter (al0 := [.ref 384]) (by decide +kernel) rfl (Nat.le_of_ble_eq_true rfl) ?_
  refine e_aload_n dX6_readFirst_0 rfl ?_
  refine e_ldcS 17 dX6_readFirst_1 rfl ?_
  refine e_callV1vz (ci := 6) dX6_readFirst_3 md_X6_expects lk_X6_189 rfl q1981 qs67 (t_obj _ _) (by decide) rfl (Nat.le_of_ble_eq_true rfl) (C_X6_expects hI ho (by decide)) ?_
  have m0 := (t_mo_ex (p := 17) hI).1
  refine e_aload_n dX6_readFirst_6 rfl ?_
  refine t_geta (k := 14) dX6_readFirst_7 fl_X6_31 rfl ?_
  refine e_iconst dX6_readFirst_10 ?_
  refine e_aload_n dX6_readFirst_11 rfl ?_
  refine e_ldcS 18 dX6_readFirst_12 rfl ?_
  refine e_iconst dX6_readFirst_14 ?_
  refine e_bipush dX6_readFirst_15 rfl ?_
  refine e_callV3rz (ci := 6) dX6_readFirst_17 md_X6_toldBy lk_X6_199 rfl q2000 qs71 (t_obj _ _) (by decide) rfl (Nat.le_of_ble_eq_true rfl) (C_X6_toldBy m0 ho (by decide) ⟨by omega, by omega⟩ ⟨by omega, by omega⟩) ?_
  refine t_ist 149 dX6_readFirst_20 rfl (by decide) rfl rfl ⟨by omega, by omega⟩ ?_
  show e_E _ _ _ _ (t_H (t_rf1 18 1 12 0 (t_ex 17 σ)) h0) _ _ _ _
  have m1 := (t_mo_rf1 (p := 18) (lo := 1) (hi := 12) (k := 0) m0).1
  refine e_aload_n dX6_readFirst_21 rfl ?_
  refine t_geta (k := 14) dX6_readFirst_22 fl_X6_31 rfl ?_
  refine e_iconst dX6_readFirst_25 ?_
  refine e_aload_n dX6_readFirst_26 rfl ?_
  refine e_ldcS 19 dX6_readFirst_27 rfl ?_
  refine e_iconst dX6_readFirst_29 ?_
  refine e_iconst dX6_readFirst_30 ?_
  refine e_callV3rz (ci := 6) dX6_readFirst_31 md_X6_toldBy lk_X6_199 rfl q2000 qs71 (t_obj _ _) (by decide) rfl (Nat.le_of_ble_eq_true rfl) (C_X6_toldBy m1 ho (by decide) ⟨by omega, by omega⟩ ⟨by omega, by omega⟩) ?_
  refine t_ist 149 dX6_readFirst_34 rfl (by decide) rfl rfl ⟨by omega, by omega⟩ ?_
  show e_E _ _ _ _ (t_H (t_rf1 19 0 3 1 (t_rf1 18 1 12 0 (t_ex 17 σ))) h0) _ _ _ _
  have m2 := (t_mo_rf1 (p := 19) (lo := 0) (hi := 3) (k := 1) m1).1
  refine e_aload_n dX6_readFirst_35 rfl ?_
  refine t_geta (k := 14) dX6_readFirst_36 fl_X6_31 rfl ?_
  refine e_iconst dX6_readFirst_39 ?_
  refine e_aload_n dX6_readFirst_40 rfl ?_
  refine e_ldcS 20 dX6_readFirst_41 rfl ?_
  refine e_iconst dX6_readFirst_43 ?_
  refine e_bipush dX6_readFirst_44 rfl ?_
  refine e_callV3rz (ci := 6) dX6_readFirst_46 md_X6_toldBy lk_X6_199 rfl q2000 qs71 (t_obj _ _) (by decide) rfl (Nat.le_of_ble_eq_true rfl) (C_X6_toldBy m2 ho (by decide) ⟨by omega, by omega⟩ ⟨by omega, by omega⟩) ?_
  refine t_ist 149 dX6_readFirst_49 rfl (by decide) rfl rfl ⟨by omega, by omega⟩ ?_
  show e_E _ _ _ _ (t_H (t_rf1 20 0 10 2 (t_rf1 19 0 3 1 (t_rf1 18 1 12 0 (t_ex 17 σ)))) h0) _ _ _ _
  have m3 := (t_mo_rf1 (p := 20) (lo := 0) (hi := 10) (k := 2) m2).1
  refine e_aload_n dX6_readFirst_50 rfl ?_
  refine t_geta (k := 14) dX6_readFirst_51 fl_X6_31 rfl ?_
  refine e_iconst dX6_readFirst_54 ?_
  refine e_aload_n dX6_readFirst_55 rfl ?_
  refine e_ldcS 21 dX6_readFirst_56 rfl ?_
  refine e_iconst dX6_readFirst_58 ?_
  refine e_bipush dX6_readFirst_59 rfl ?_
  refine e_callV3rz (ci := 6) dX6_readFirst_61 md_X6_toldBy lk_X6_199 rfl q2000 qs71 (t_obj _ _) (by decide) rfl (Nat.le_of_ble_eq_true rfl) (C_X6_toldBy m3 ho (by decide) ⟨by omega, by omega⟩ ⟨by omega, by omega⟩) ?_
  refine t_ist 149 dX6_readFirst_64 rfl (by decide) rfl rfl ⟨by omega, by omega⟩ ?_
  show e_E _ _ _ _ (t_H (t_rf1 21 2 8 3 (t_rf1 20 0 10 2 (t_rf1 19 0 3 1 (t_rf1 18 1 12 0 (t_ex 17 σ))))) h0) _ _ _ _
  have m4 := (t_mo_rf1 (p := 21) (lo := 2) (hi := 8) (k := 3) m3).1
  refine e_aload_n dX6_readFirst_65 rfl ?_
  refine t_geta (k := 14) dX6_readFirst_66 fl_X6_31 rfl ?_
  refine e_iconst dX6_readFirst_69 ?_
  refine e_aload_n dX6_readFirst_70 rfl ?_
  refine e_ldcS 22 dX6_readFirst_71 rfl ?_
  refine e_iconst dX6_readFirst_73 ?_
  refine e_bipush dX6_readFirst_74 rfl ?_
  refine e_callV3rz (ci := 6) dX6_readFirst_76 md_X6_toldBy lk_X6_199 rfl q2000 qs71 (t_obj _ _) (by decide) rfl (Nat.le_of_ble_eq_true rfl) (C_X6_toldBy m4 ho (by decide) ⟨by omega, by omega⟩ ⟨by omega, by omega⟩) ?_
  refine t_ist 149 dX6_readFirst_79 rfl (by decide) rfl rfl ⟨by omega, by omega⟩ ?_
  show e_E _ _ _ _ (t_H (t_rf1 22 2 8 4 (t_rf1 21 2 8 3 (t_rf1 20 0 10 2 (t_rf1 19 0 3 1 (t_rf1 18 1 12 0 (t_ex 17 σ)))))) h0) _ _ _ _
  have m5 := (t_mo_rf1 (p := 22) (lo := 2) (hi := 8) (k := 4) m4).1
  refine e_return dX6_readFirst_80 rfl ?_
  exact ⟨rfl, rfl⟩
theorem C_X6_isTaken {σ : t_S} {h0 : e_A} (hf : ∀ j, 0 ≤ j → j < 149 → e_rg (σ 14 j)) {c f n : Int} (hc : e_rg c) (hfr : 0 ≤ f ∧ f ≤ 22) (hn : 0 ≤ n ∧ n ≤ 12) : e_C mX6_isTaken [.ref 384, e_i c, e_i f, e_i n] (t_H σ h0) 0 0 0 (e_ret (e_i (if t_itk σ c f n = 1 then 1 else 0)) (t_H σ h0)) := by
  refine e_enter (al0 := [.ref 384, e_i c, e_i f, e_i n, .retAddr 0, .retAddr 0]) (by decide +kernel) rfl (Nat.le_of_ble_eq_true rfl) ?_
  refine e_iconst dX6_isTaken_0 ?_
  refine e_istore4 dX6_isTaken_1 rfl ?_
  refine e_iconst dX6_isTaken_3 ?_
  refine e_istore5 dX6_isTaken_4 rfl ?_
  refine e_for (n := n) (fun i => e_E mX6_isTaken 6 [.ref 384, e_i c, e_i f, e_i n, e_i (t_anyg (t_itg σ c f) i.toNat), e_i i] [] (t_H σ h0) _ _ _ _) (by omega) ?_ (fun i hi0 hi1 hF => ?_)
  · have h01 := t_itk01 σ c f n.toNat
    refine e_iload dX6_isTaken_6 rfl ?_
    refine e_iload_n dX6_isTaken_8 rfl ?_
    refine e_icmp_ge (tgt := 43) dX6_isTaken_9 rfl ⟨by omega, by omega⟩ ⟨by omega, by omega⟩ (fun c1 => ?_) (fun q => by exfalso; omega)
    refine e_iload dX6_isTaken_43 rfl ?_
    refine e_ireturn dX6_isTaken_45 rfl (by rcases h01 with q | q <;> (show narrow .boolean (e_i (t_anyg (t_itg σ c f) n.toNat)) = e_i (t_anyg (t_itg σ c f) n.toNat); rw [q]; rfl)) ?_
    refine e_rv ?_ rfl
    show t_anyg (t_itg σ c f) n.toNat = if t_anyg (t_itg σ c f) n.toNat = 1 then 1 else 0
    rcases h01 with q | q <;> rw [q] <;> rfl
  · have h01 := t_itk01 σ c f i.toNat
    have es : t_anyg (t_itg σ c f) (i + 1).toNat = if t_anyg (t_itg σ c f) i.toNat = 1 then 1 else t_itg σ c f i := t_anyg_s _ hi0
    have h4 := hf (f + i) (by omega) (by omega)
    refine e_iload dX6_isTaken_6 rfl ?_
    refine e_iload_n dX6_isTaken_8 rfl ?_
    refine e_icmp_ge (tgt := 43) dX6_isTaken_9 rfl ⟨by omega, by omega⟩ ⟨by omega, by omega⟩ (fun q => by exfalso; omega) (fun c2 => ?_)
    refine e_iload dX6_isTaken_12 rfl ?_
    refine e_if_ne (tgt := 30) dX6_isTaken_14 rfl ⟨by omega, by omega⟩ (fun c3 => ?_) (fun c3 => ?_)
    · refine e_iconst dX6_isTaken_30 ?_
      refine e_goto (tgt := 35) dX6_isTaken_31 rfl ?_
      refine e_istore4 dX6_isTaken_35 rfl ?_
      refine e_iinc5 dX6_isTaken_37 rfl ?_
      refine e_goto (tgt := 6) dX6_isTaken_40 rfl ?_
      rw [es] at hF
      first
        | (rw [if_pos (by omega)] at hF; exact hF)
        | (rw [if_neg (by omega), show t_itg σ c f i = 1 from if_pos (by omega)] at hF; exact hF)
        | (rw [if_neg (by omega), show t_itg σ c f i = 0 from if_neg (by omega)] at hF; exact hF)
    · refine e_aload_n dX6_isTaken_17 rfl ?_
      refine t_geta (k := 14) dX6_isTaken_18 fl_X6_31 rfl ?_
      refine e_iload_n dX6_isTaken_21 rfl ?_
      refine e_iload dX6_isTaken_22 rfl ?_
      refine e_iadd dX6_isTaken_24 ?_
      refine t_ild 149 dX6_isTaken_25 rfl (by decide) (fun _ => rfl) rfl ⟨by omega, by omega⟩ ?_
      refine e_iload_n dX6_isTaken_26 rfl ?_
      refine e_icmp_ne (tgt := 34) dX6_isTaken_27 rfl ⟨by omega, by omega⟩ ⟨by omega, by omega⟩ (fun c4 => ?_) (fun c4 => ?_)
      · refine e_iconst dX6_isTaken_34 ?_
        refine e_istore4 dX6_isTaken_35 rfl ?_
        refine e_iinc5 dX6_isTaken_37 rfl ?_
        refine e_goto (tgt := 6) dX6_isTaken_40 rfl ?_
        rw [es] at hF
        first
          | (rw [if_pos (by omega)] at hF; exact hF)
          | (rw [if_neg (by omega), show t_itg σ c f i = 1 from if_pos (by omega)] at hF; exact hF)
          | (rw [if_neg (by omega), show t_itg σ c f i = 0 from if_neg (by omega)] at hF; exact hF)
      · refine e_iconst dX6_isTaken_30 ?_
        refine e_goto (tgt := 35) dX6_isTaken_31 rfl ?_
        refine e_istore4 dX6_isTaken_35 rfl ?_
        refine e_iinc5 dX6_isTaken_37 rfl ?_
        refine e_goto (tgt := 6) dX6_isTaken_40 rfl ?_
        rw [es] at hF
        first
          | (rw [if_pos (by omega)] at hF; exact hF)
          | (rw [if_neg (by omega), show t_itg σ c f i = 1 from if_pos (by omega)] at hF; exact hF)
          | (rw [if_neg (by omega), show t_itg σ c f i = 0 from if_neg (by omega)] at hF; exact hF)
theorem C_X6_readCell {σ : t_S} {h0 : e_A} (hI : t_rdI σ) (hf : ∀ j, 0 ≤ j → j < 149 → 0 ≤ σ 14 j ∧ σ 14 j ≤ 2000000) (h5 : σ 14 5 ≤ 12) (h6 : σ 14 6 ≤ 6) {b : Int} (hb : b = 0 ∨ b = 1) : e_C mX6_readCell [.ref 384, e_i b] (t_H σ h0) 0 0 5 (e_ret (e_i (t_rcV b σ)) (t_H (t_rcS b σ) h0)) := by
  have f3 := hf 3 (by omega) (by omega)
  have f4 := hf 4 (by omega) (by omega)
  have f5 := hf 5 (by omega) (by omega)
  have f6 := hf 6 (by omega) (by omega)
  refine e_enter (al0 := [.ref 384, e_i b, .retAddr 0, .retAddr 0]) (by decide +kernel) rfl (Nat.le_of_ble_eq_true rfl) ?_
  refine e_aload_n dX6_readCell_0 rfl ?_
  refine e_iconst dX6_readCell_1 ?_
  refine e_aload_n dX6_readCell_2 rfl ?_
  refine t_geta (k := 14) dX6_readCell_3 fl_X6_31 rfl ?_
  refine e_iconst dX6_readCell_6 ?_
  refine t_ild 149 dX6_readCell_7 rfl (by decide) (fun _ => rfl) rfl ⟨by omega, by omega⟩ ?_
  refine e_iconst dX6_readCell_8 ?_
  refine e_isub dX6_readCell_9 ?_
  refine e_callV2rz (ci := 6) dX6_readCell_10 md_X6_number lk_X6_193 rfl q2004 qs72 (t_obj _ _) (by decide) rfl (Nat.le_of_ble_eq_true rfl) (C_X6_number hI ⟨by omega, by omega⟩ ⟨by omega, by omega⟩) ?_
  have m1 := (t_mo_nb (lo := 0) (hi := σ 14 3 - 1) hI).1
  have hxv : 0 ≤ t_rcX σ ∧ t_rcX σ ≤ 99999 := t_nbV_rg hI
  have e14 := t_nb_14 0 (σ 14 3 - 1) σ
  have m2 := (t_mo_rc2 (h := b) hI).1
  have e14b := t_rc2_14 b σ
  have g4 := congrFun e14 4
  have g5 := congrFun e14 5
  have g6 := congrFun e14 6
  have g4b := congrFun e14b 4
  have m2e : t_rc2 b σ = t_rc1 b (t_rcX σ) (t_nbS 0 (σ 14 3 - 1) σ) := rfl
  show e_E _ _ _ (e_i (t_rcX σ) :: _) _ _ _ _ _
  unfold t_rcV t_rcS
  rw [m2e] at m2 g4b ⊢
  clear m2e
  generalize t_rcX σ = x at hxv m2 g4b ⊢
  generalize t_nbS 0 (σ 14 3 - 1) σ = τ at m1 e14 m2 g4 g5 g6 g4b ⊢
  have hft : ∀ j, 0 ≤ j → j < 149 → e_rg (τ 14 j) := fun j j0 j1 => by rw [e14]; have := hf j j0 j1; exact ⟨by omega, by omega⟩
  have hv := m1.2.2.2.1
  have hv10 := m1.2.1
  refine e_istore_n2 dX6_readCell_13 rfl ?_
  refine e_aload_n dX6_readCell_14 rfl ?_
  refine e_callV0rz (ci := 6) dX6_readCell_15 md_X6_good lk_X6_163 rfl q1968 qs64 (t_obj _ _) (by decide) rfl (Nat.le_of_ble_eq_true rfl) (C_X6_good m1.2.2.2.2.2) ?_
  refine e_bif_eq (tgt := 102) dX6_readCell_18 rfl (fun c1 => ?_) (fun c1 => ?_)
  · refine e_hp (t_rc1 b x τ) (by unfold t_rc1 t_rcT t_rcC; first | rw [if_pos (by omega)] | rw [if_neg (by omega)]) ?_
    refine e_fgt 3 ?_
    refine e_bipush dX6_readCell_102 rfl ?_
    refine e_iload_n dX6_readCell_104 rfl ?_
    refine e_imul dX6_readCell_105 ?_
    refine e_aload_n dX6_readCell_106 rfl ?_
    refine e_iconst dX6_readCell_107 ?_
    refine e_aload_n dX6_readCell_108 rfl ?_
    refine t_geta (k := 14) dX6_readCell_109 fl_X6_31 rfl ?_
    refine e_iconst dX6_readCell_112 ?_
    refine t_ild 149 dX6_readCell_113 rfl (by decide) (fun _ => rfl) rfl ⟨by omega, by omega⟩ ?_
    refine e_iconst dX6_readCell_114 ?_
    refine e_isub dX6_readCell_115 ?_
    refine e_callV2rz (ci := 6) dX6_readCell_116 md_X6_number lk_X6_193 rfl q2004 qs72 (t_obj _ _) (by decide) rfl (Nat.le_of_ble_eq_true rfl) (C_X6_number m2 ⟨by omega, by omega⟩ ⟨by omega, by omega⟩) ?_
    have hv2 := t_nbV_rg (lo := 0) (hi := t_rc1 b x τ 14 4 - 1) m2
    refine e_iadd dX6_readCell_119 ?_
    refine e_ireturn dX6_readCell_120 rfl rfl ?_
    exact ⟨rfl, rfl⟩
  · refine e_aload_n dX6_readCell_21 rfl ?_
    refine t_geti (k := 10) dX6_readCell_22 fl_X6_139 rfl ?_
    refine e_iconst dX6_readCell_25 ?_
    refine e_icmp_ne (tgt := 102) dX6_readCell_26 rfl ⟨by omega, by omega⟩ ⟨by omega, by omega⟩ (fun c2 => ?_) (fun c2 => ?_)
    · refine e_hp (t_rc1 b x τ) (by unfold t_rc1 t_rcT t_rcC; first | rw [if_pos (by omega)] | rw [if_neg (by omega)]) ?_
      refine e_fgt 3 ?_
      refine e_bipush dX6_readCell_102 rfl ?_
      refine e_iload_n dX6_readCell_104 rfl ?_
      refine e_imul dX6_readCell_105 ?_
      refine e_aload_n dX6_readCell_106 rfl ?_
      refine e_iconst dX6_readCell_107 ?_
      refine e_aload_n dX6_readCell_108 rfl ?_
      refine t_geta (k := 14) dX6_readCell_109 fl_X6_31 rfl ?_
      refine e_iconst dX6_readCell_112 ?_
      refine t_ild 149 dX6_readCell_113 rfl (by decide) (fun _ => rfl) rfl ⟨by omega, by omega⟩ ?_
      refine e_iconst dX6_readCell_114 ?_
      refine e_isub dX6_readCell_115 ?_
      refine e_callV2rz (ci := 6) dX6_readCell_116 md_X6_number lk_X6_193 rfl q2004 qs72 (t_obj _ _) (by decide) rfl (Nat.le_of_ble_eq_true rfl) (C_X6_number m2 ⟨by omega, by omega⟩ ⟨by omega, by omega⟩) ?_
      have hv2 := t_nbV_rg (lo := 0) (hi := t_rc1 b x τ 14 4 - 1) m2
      refine e_iadd dX6_readCell_119 ?_
      refine e_ireturn dX6_readCell_120 rfl rfl ?_
      exact ⟨rfl, rfl⟩
    · refine e_aload_n dX6_readCell_29 rfl ?_
      refine t_geti (k := 11) dX6_readCell_30 fl_X6_150 rfl ?_
      refine e_i2l dX6_readCell_33 ⟨by omega, by omega⟩ ?_
      refine e_lconst (z := 0) dX6_readCell_34 rfl ?_
      refine e_aload_n dX6_readCell_35 rfl ?_
      refine t_geta (k := 14) dX6_readCell_36 fl_X6_31 rfl ?_
      refine e_iconst dX6_readCell_39 ?_
      refine t_ild 149 dX6_readCell_40 rfl (by decide) (fun _ => rfl) rfl ⟨by omega, by omega⟩ ?_
      refine e_iconst dX6_readCell_41 ?_
      refine e_isub dX6_readCell_42 ?_
      refine e_i2l dX6_readCell_43 ⟨by omega, by omega⟩ ?_
      refine e_callS3rz dX6_readCell_44 md_X6_in lk_X6_106 rfl q1930 rfl (Nat.le_of_ble_eq_true rfl) (C_X6_in ⟨by omega, by omega⟩ ⟨by omega, by omega⟩ ⟨by omega, by omega⟩) ?_
      refine e_bif_eq (tgt := 102) dX6_readCell_47 rfl (fun c3 => ?_) (fun c3 => ?_)
      · refine e_hp (t_rc1 b x τ) (by unfold t_rc1 t_rcT t_rcC; first | rw [if_pos (by omega)] | rw [if_neg (by omega)]) ?_
        refine e_fgt 3 ?_
        refine e_bipush dX6_readCell_102 rfl ?_
        refine e_iload_n dX6_readCell_104 rfl ?_
        refine e_imul dX6_readCell_105 ?_
        refine e_aload_n dX6_readCell_106 rfl ?_
        refine e_iconst dX6_readCell_107 ?_
        refine e_aload_n dX6_readCell_108 rfl ?_
        refine t_geta (k := 14) dX6_readCell_109 fl_X6_31 rfl ?_
        refine e_iconst dX6_readCell_112 ?_
        refine t_ild 149 dX6_readCell_113 rfl (by decide) (fun _ => rfl) rfl ⟨by omega, by omega⟩ ?_
        refine e_iconst dX6_readCell_114 ?_
        refine e_isub dX6_readCell_115 ?_
        refine e_callV2rz (ci := 6) dX6_readCell_116 md_X6_number lk_X6_193 rfl q2004 qs72 (t_obj _ _) (by decide) rfl (Nat.le_of_ble_eq_true rfl) (C_X6_number m2 ⟨by omega, by omega⟩ ⟨by omega, by omega⟩) ?_
        have hv2 := t_nbV_rg (lo := 0) (hi := t_rc1 b x τ 14 4 - 1) m2
        refine e_iadd dX6_readCell_119 ?_
        refine e_ireturn dX6_readCell_120 rfl rfl ?_
        exact ⟨rfl, rfl⟩
      · refine e_bipush dX6_readCell_50 rfl ?_
        refine e_iload_n dX6_readCell_52 rfl ?_
        refine e_imul dX6_readCell_53 ?_
        refine e_aload_n dX6_readCell_54 rfl ?_
        refine t_geti (k := 11) dX6_readCell_55 fl_X6_150 rfl ?_
        refine e_iadd dX6_readCell_58 ?_
        refine e_istore_n3 dX6_readCell_59 rfl ?_
        refine e_aload_n dX6_readCell_60 rfl ?_
        refine e_iload_n dX6_readCell_61 rfl ?_
        refine e_bipush dX6_readCell_62 rfl ?_
        refine e_aload_n dX6_readCell_64 rfl ?_
        refine t_geta (k := 14) dX6_readCell_65 fl_X6_31 rfl ?_
        refine e_iconst dX6_readCell_68 ?_
        refine t_ild 149 dX6_readCell_69 rfl (by decide) (fun _ => rfl) rfl ⟨by omega, by omega⟩ ?_
        refine e_callV3rz (ci := 6) dX6_readCell_70 md_X6_isTaken lk_X6_211 rfl q2027 qs76 (t_obj _ _) (by decide) rfl (Nat.le_of_ble_eq_true rfl) (C_X6_isTaken hft ⟨by omega, by omega⟩ ⟨by omega, by omega⟩ ⟨by omega, by omega⟩) ?_
        refine e_bif_ne (tgt := 97) dX6_readCell_73 rfl (fun c4 => ?_) (fun c4 => ?_)
        · refine e_aload_n dX6_readCell_97 rfl ?_
          refine e_iconst dX6_readCell_98 ?_
          refine e_callV1vz (ci := 6) dX6_readCell_99 md_X6_errs lk_X6_185 rfl q1995 qs70 (t_obj _ _) (by decide) rfl (Nat.le_of_ble_eq_true rfl) (C_X6_errs m1.2.2.2.2.2 (by decide)) ?_
          refine e_hp (t_rc1 b x τ) (by unfold t_rc1 t_rcT t_rcC; first | rw [if_pos (by omega)] | rw [if_neg (by omega)]) ?_
          refine e_fgt 3 ?_
          refine e_bipush dX6_readCell_102 rfl ?_
          refine e_iload_n dX6_readCell_104 rfl ?_
          refine e_imul dX6_readCell_105 ?_
          refine e_aload_n dX6_readCell_106 rfl ?_
          refine e_iconst dX6_readCell_107 ?_
          refine e_aload_n dX6_readCell_108 rfl ?_
          refine t_geta (k := 14) dX6_readCell_109 fl_X6_31 rfl ?_
          refine e_iconst dX6_readCell_112 ?_
          refine t_ild 149 dX6_readCell_113 rfl (by decide) (fun _ => rfl) rfl ⟨by omega, by omega⟩ ?_
          refine e_iconst dX6_readCell_114 ?_
          refine e_isub dX6_readCell_115 ?_
          refine e_callV2rz (ci := 6) dX6_readCell_116 md_X6_number lk_X6_193 rfl q2004 qs72 (t_obj _ _) (by decide) rfl (Nat.le_of_ble_eq_true rfl) (C_X6_number m2 ⟨by omega, by omega⟩ ⟨by omega, by omega⟩) ?_
          have hv2 := t_nbV_rg (lo := 0) (hi := t_rc1 b x τ 14 4 - 1) m2
          refine e_iadd dX6_readCell_119 ?_
          refine e_ireturn dX6_readCell_120 rfl rfl ?_
          exact ⟨rfl, rfl⟩
        · refine e_iload_n dX6_readCell_76 rfl ?_
          refine e_if_eq (tgt := 102) dX6_readCell_77 rfl ⟨by omega, by omega⟩ (fun c5 => ?_) (fun c5 => ?_)
          · refine e_hp (t_rc1 b x τ) (by unfold t_rc1 t_rcT t_rcC; first | rw [if_pos (by omega)] | rw [if_neg (by omega)]) ?_
            refine e_fgt 3 ?_
            refine e_bipush dX6_readCell_102 rfl ?_
            refine e_iload_n dX6_readCell_104 rfl ?_
            refine e_imul dX6_readCell_105 ?_
            refine e_aload_n dX6_readCell_106 rfl ?_
            refine e_iconst dX6_readCell_107 ?_
            refine e_aload_n dX6_readCell_108 rfl ?_
            refine t_geta (k := 14) dX6_readCell_109 fl_X6_31 rfl ?_
            refine e_iconst dX6_readCell_112 ?_
            refine t_ild 149 dX6_readCell_113 rfl (by decide) (fun _ => rfl) rfl ⟨by omega, by omega⟩ ?_
            refine e_iconst dX6_readCell_114 ?_
            refine e_isub dX6_readCell_115 ?_
            refine e_callV2rz (ci := 6) dX6_readCell_116 md_X6_number lk_X6_193 rfl q2004 qs72 (t_obj _ _) (by decide) rfl (Nat.le_of_ble_eq_true rfl) (C_X6_number m2 ⟨by omega, by omega⟩ ⟨by omega, by omega⟩) ?_
            have hv2 := t_nbV_rg (lo := 0) (hi := t_rc1 b x τ 14 4 - 1) m2
            refine e_iadd dX6_readCell_119 ?_
            refine e_ireturn dX6_readCell_120 rfl rfl ?_
            exact ⟨rfl, rfl⟩
          · refine e_aload_n dX6_readCell_80 rfl ?_
            refine e_iload_n dX6_readCell_81 rfl ?_
            refine e_bipush dX6_readCell_82 rfl ?_
            refine e_aload_n dX6_readCell_84 rfl ?_
            refine t_geta (k := 14) dX6_readCell_85 fl_X6_31 rfl ?_
            refine e_bipush dX6_readCell_88 rfl ?_
            refine t_ild 149 dX6_readCell_90 rfl (by decide) (fun _ => rfl) rfl ⟨by omega, by omega⟩ ?_
            refine e_callV3rz (ci := 6) dX6_readCell_91 md_X6_isTaken lk_X6_211 rfl q2027 qs76 (t_obj _ _) (by decide) rfl (Nat.le_of_ble_eq_true rfl) (C_X6_isTaken hft ⟨by omega, by omega⟩ ⟨by omega, by omega⟩ ⟨by omega, by omega⟩) ?_
            refine e_bif_eq (tgt := 102) dX6_readCell_94 rfl (fun c6 => ?_) (fun c6 => ?_)
            · refine e_hp (t_rc1 b x τ) (by unfold t_rc1 t_rcT t_rcC; first | rw [if_pos (by omega)] | rw [if_neg (by omega)]) ?_
              refine e_fgt 3 ?_
              refine e_bipush dX6_readCell_102 rfl ?_
              refine e_iload_n dX6_readCell_104 rfl ?_
              refine e_imul dX6_readCell_105 ?_
              refine e_aload_n dX6_readCell_106 rfl ?_
              refine e_iconst dX6_readCell_107 ?_
              refine e_aload_n dX6_readCell_108 rfl ?_
              refine t_geta (k := 14) dX6_readCell_109 fl_X6_31 rfl ?_
              refine e_iconst dX6_readCell_112 ?_
              refine t_ild 149 dX6_readCell_113 rfl (by decide) (fun _ => rfl) rfl ⟨by omega, by omega⟩ ?_
              refine e_iconst dX6_readCell_114 ?_
              refine e_isub dX6_readCell_115 ?_
              refine e_callV2rz (ci := 6) dX6_readCell_116 md_X6_number lk_X6_193 rfl q2004 qs72 (t_obj _ _) (by decide) rfl (Nat.le_of_ble_eq_true rfl) (C_X6_number m2 ⟨by omega, by omega⟩ ⟨by omega, by omega⟩) ?_
              have hv2 := t_nbV_rg (lo := 0) (hi := t_rc1 b x τ 14 4 - 1) m2
              refine e_iadd dX6_readCell_119 ?_
              refine e_ireturn dX6_readCell_120 rfl rfl ?_
              exact ⟨rfl, rfl⟩
            · refine e_aload_n dX6_readCell_97 rfl ?_
              refine e_iconst dX6_readCell_98 ?_
              refine e_callV1vz (ci := 6) dX6_readCell_99 md_X6_errs lk_X6_185 rfl q1995 qs70 (t_obj _ _) (by decide) rfl (Nat.le_of_ble_eq_true rfl) (C_X6_errs m1.2.2.2.2.2 (by decide)) ?_
              refine e_hp (t_rc1 b x τ) (by unfold t_rc1 t_rcT t_rcC; first | rw [if_pos (by omega)] | rw [if_neg (by omega)]) ?_
              refine e_fgt 3 ?_
              refine e_bipush dX6_readCell_102 rfl ?_
              refine e_iload_n dX6_readCell_104 rfl ?_
              refine e_imul dX6_readCell_105 ?_
              refine e_aload_n dX6_readCell_106 rfl ?_
              refine e_iconst dX6_readCell_107 ?_
              refine e_aload_n dX6_readCell_108 rfl ?_
              refine t_geta (k := 14) dX6_readCell_109 fl_X6_31 rfl ?_
              refine e_iconst dX6_readCell_112 ?_
              refine t_ild 149 dX6_readCell_113 rfl (by decide) (fun _ => rfl) rfl ⟨by omega, by omega⟩ ?_
              refine e_iconst dX6_readCell_114 ?_
              refine e_isub dX6_readCell_115 ?_
              refine e_callV2rz (ci := 6) dX6_readCell_116 md_X6_number lk_X6_193 rfl q2004 qs72 (t_obj _ _) (by decide) rfl (Nat.le_of_ble_eq_true rfl) (C_X6_number m2 ⟨by omega, by omega⟩ ⟨by omega, by omega⟩) ?_
              have hv2 := t_nbV_rg (lo := 0) (hi := t_rc1 b x τ 14 4 - 1) m2
              refine e_iadd dX6_readCell_119 ?_
              refine e_ireturn dX6_readCell_120 rfl rfl ?_
              exact ⟨rfl, rfl⟩
theorem C_X6_turnWord {σ : t_S} {h0 : e_A} (hI : t_rdI σ) (ho : e_old h0) : e_C mX6_turnWord [.ref 384] (t_H σ h0) 0 0 5 (e_ret (e_i (t_tw σ)) (t_H σ h0)) := by
  refine e_enter (al0 := [.ref 384]) (by decide +kernel) rfl (Nat.le_of_ble_eq_true rfl) ?_
  refine e_aload_n dX6_turnWord_0 rfl ?_
  refine e_ldcS 30 dX6_turnWord_1 rfl ?_
  refine e_callV1rz (ci := 6) dX6_turnWord_3 md_X6_is lk_X6_175 rfl q1989 qs69 (t_obj _ _) (by decide) rfl (Nat.le_of_ble_eq_true rfl) (C_X6_is hI ho (by decide)) ?_
  refine e_bif_eq (tgt := 13) dX6_turnWord_6 rfl (fun c1 => ?_) (fun c1 => ?_)
  · refine e_aload_n dX6_turnWord_13 rfl ?_
    refine e_ldcS 31 dX6_turnWord_14 rfl ?_
    refine e_callV1rz (ci := 6) dX6_turnWord_16 md_X6_is lk_X6_175 rfl q1989 qs69 (t_obj _ _) (by decide) rfl (Nat.le_of_ble_eq_true rfl) (C_X6_is hI ho (by decide)) ?_
    refine e_bif_eq (tgt := 26) dX6_turnWord_19 rfl (fun c2 => ?_) (fun c2 => ?_)
    · refine e_aload_n dX6_turnWord_26 rfl ?_
      refine e_ldcS 32 dX6_turnWord_27 rfl ?_
      refine e_callV1rz (ci := 6) dX6_turnWord_29 md_X6_is lk_X6_175 rfl q1989 qs69 (t_obj _ _) (by decide) rfl (Nat.le_of_ble_eq_true rfl) (C_X6_is hI ho (by decide)) ?_
      refine e_bif_eq (tgt := 39) dX6_turnWord_32 rfl (fun c3 => ?_) (fun c3 => ?_)
      · refine e_aload_n dX6_turnWord_39 rfl ?_
        refine e_ldcS 33 dX6_turnWord_40 rfl ?_
        refine e_callV1rz (ci := 6) dX6_turnWord_42 md_X6_is lk_X6_175 rfl q1989 qs69 (t_obj _ _) (by decide) rfl (Nat.le_of_ble_eq_true rfl) (C_X6_is hI ho (by decide)) ?_
        refine e_bif_eq (tgt := 52) dX6_turnWord_45 rfl (fun c4 => ?_) (fun c4 => ?_)
        · refine e_iconst dX6_turnWord_52 ?_
          refine e_ireturn dX6_turnWord_53 rfl rfl ?_
          refine e_rv ?_ rfl
          unfold t_tw
          first
            | (rw [if_pos (by assumption)]; done)
            | (rw [if_neg (by assumption), if_pos (by assumption)]; done)
            | (rw [if_neg (by assumption), if_neg (by assumption), if_pos (by assumption)]; done)
            | (rw [if_neg (by assumption), if_neg (by assumption), if_neg (by assumption), if_pos (by assumption)]; done)
            | (rw [if_neg (by assumption), if_neg (by assumption), if_neg (by assumption), if_neg (by assumption)]; done)
        · refine e_iconst dX6_turnWord_48 ?_
          refine e_goto (tgt := 53) dX6_turnWord_49 rfl ?_
          refine e_ireturn dX6_turnWord_53 rfl rfl ?_
          refine e_rv ?_ rfl
          unfold t_tw
          first
            | (rw [if_pos (by assumption)]; done)
            | (rw [if_neg (by assumption), if_pos (by assumption)]; done)
            | (rw [if_neg (by assumption), if_neg (by assumption), if_pos (by assumption)]; done)
            | (rw [if_neg (by assumption), if_neg (by assumption), if_neg (by assumption), if_pos (by assumption)]; done)
            | (rw [if_neg (by assumption), if_neg (by assumption), if_neg (by assumption), if_neg (by assumption)]; done)
      · refine e_iconst dX6_turnWord_35 ?_
        refine e_goto (tgt := 53) dX6_turnWord_36 rfl ?_
        refine e_ireturn dX6_turnWord_53 rfl rfl ?_
        refine e_rv ?_ rfl
        unfold t_tw
        first
          | (rw [if_pos (by assumption)]; done)
          | (rw [if_neg (by assumption), if_pos (by assumption)]; done)
          | (rw [if_neg (by assumption), if_neg (by assumption), if_pos (by assumption)]; done)
          | (rw [if_neg (by assumption), if_neg (by assumption), if_neg (by assumption), if_pos (by assumption)]; done)
          | (rw [if_neg (by assumption), if_neg (by assumption), if_neg (by assumption), if_neg (by assumption)]; done)
    · refine e_iconst dX6_turnWord_22 ?_
      refine e_goto (tgt := 53) dX6_turnWord_23 rfl ?_
      refine e_ireturn dX6_turnWord_53 rfl rfl ?_
      refine e_rv ?_ rfl
      unfold t_tw
      first
        | (rw [if_pos (by assumption)]; done)
        | (rw [if_neg (by assumption), if_pos (by assumption)]; done)
        | (rw [if_neg (by assumption), if_neg (by assumption), if_pos (by assumption)]; done)
        | (rw [if_neg (by assumption), if_neg (by assumption), if_neg (by assumption), if_pos (by assumption)]; done)
        | (rw [if_neg (by assumption), if_neg (by assumption), if_neg (by assumption), if_neg (by assumption)]; done)
  · refine e_iconst dX6_turnWord_9 ?_
    refine e_goto (tgt := 53) dX6_turnWord_10 rfl ?_
    refine e_ireturn dX6_turnWord_53 rfl rfl ?_
    refine e_rv ?_ rfl
    unfold t_tw
    first
      | (rw [if_pos (by assumption)]; done)
      | (rw [if_neg (by assumption), if_pos (by assumption)]; done)
      | (rw [if_neg (by assumption), if_neg (by assumption), if_pos (by assumption)]; done)
      | (rw [if_neg (by assumption), if_neg (by assumption), if_neg (by assumption), if_pos (by assumption)]; done)
      | (rw [if_neg (by assumption), if_neg (by assumption), if_neg (by assumption), if_neg (by assumption)]; done)
theorem C_X6_readTurn {σ : t_S} {h0 : e_A} (hI : t_rdI σ) (ho : e_old h0) {k : Int} (hk : 0 ≤ k ∧ k ≤ 106) (h8 : 0 ≤ σ 14 (k + 4) ∧ σ 14 (k + 4) ≤ 8) : e_C mX6_readTurn [.ref 384, e_i k] (t_H σ h0) 0 0 6 (e_rev (t_H (t_rt k σ) h0)) := by
  refine e_enter (al0 := [.ref 384, e_i k, .retAddr 0]) (by decide +kernel) rfl (Nat.le_of_ble_eq_true rfl) ?_
  refine e_aload_n dX6_readTurn_0 rfl ?_
  refine e_callV0rz (ci := 6) dX6_readTurn_1 md_X6_turnWord lk_X6_223 rfl q2043 qs79 (t_obj _ _) (by decide) rfl (Nat.le_of_ble_eq_true rfl) (C_X6_turnWord hI ho) ?_
  refine e_istore_n2 dX6_readTurn_4 rfl ?_
  have htw := t_tw_rg σ
  refine e_iload_n dX6_readTurn_5 rfl ?_
  refine e_iconst dX6_readTurn_6 ?_
  refine e_icmp_ne (tgt := 15) dX6_readTurn_7 rfl ⟨by omega, by omega⟩ ⟨by omega, by omega⟩ (fun c1 => ?_) (fun c1 => ?_)
  · refine e_hp (t_rt1 σ) (by unfold t_rt1; first | rw [if_pos (by omega)] | rw [if_neg (by omega)]) ?_
    have m1 := (t_mo_rt1 hI).1
    have g1 := congrFun (t_rt1_14 σ) (k + 4)
    refine e_aload_n dX6_readTurn_15 rfl ?_
    refine t_geta (k := 14) dX6_readTurn_16 fl_X6_31 rfl ?_
    refine e_iload_n dX6_readTurn_19 rfl ?_
    refine e_iconst dX6_readTurn_20 ?_
    refine e_iadd dX6_readTurn_21 ?_
    refine t_ild 149 dX6_readTurn_22 rfl (by decide) (fun _ => rfl) rfl ⟨by omega, by omega⟩ ?_
    refine e_bipush dX6_readTurn_23 rfl ?_
    refine e_icmp_ne (tgt := 33) dX6_readTurn_25 rfl ⟨by omega, by omega⟩ ⟨by omega, by omega⟩ (fun c2 => ?_) (fun c2 => ?_)
    · refine e_hp (t_rt2 k σ) (by unfold t_rt2; first | rw [if_pos (by omega)] | rw [if_neg (by omega)]) ?_
      have m2 := (t_mo_rt2 (k := k) hI).1
      have g2 := congrFun (t_rt2_14 k σ) (k + 4)
      refine e_aload_n dX6_readTurn_33 rfl ?_
      refine e_callV0rz (ci := 6) dX6_readTurn_34 md_X6_good lk_X6_163 rfl q1968 qs64 (t_obj _ _) (by decide) rfl (Nat.le_of_ble_eq_true rfl) (C_X6_good m2.2.2.2.2.2) ?_
      refine e_bif_ne (tgt := 41) dX6_readTurn_37 rfl (fun c3 => ?_) (fun c3 => ?_)
      · refine e_aload_n dX6_readTurn_41 rfl ?_
        refine t_geta (k := 14) dX6_readTurn_42 fl_X6_31 rfl ?_
        refine e_iload_n dX6_readTurn_45 rfl ?_
        refine e_iconst dX6_readTurn_46 ?_
        refine e_iadd dX6_readTurn_47 ?_
        refine e_aload_n dX6_readTurn_48 rfl ?_
        refine t_geta (k := 14) dX6_readTurn_49 fl_X6_31 rfl ?_
        refine e_iload_n dX6_readTurn_52 rfl ?_
        refine e_iconst dX6_readTurn_53 ?_
        refine e_iadd dX6_readTurn_54 ?_
        refine t_ild 149 dX6_readTurn_55 rfl (by decide) (fun _ => rfl) rfl ⟨by omega, by omega⟩ ?_
        refine e_iadd dX6_readTurn_56 ?_
        refine e_iload_n dX6_readTurn_57 rfl ?_
        refine t_ist 149 dX6_readTurn_58 rfl (by decide) rfl rfl ⟨by omega, by omega⟩ ?_
        refine e_aload_n dX6_readTurn_59 rfl ?_
        refine t_geta (k := 14) dX6_readTurn_60 fl_X6_31 rfl ?_
        refine e_iload_n dX6_readTurn_63 rfl ?_
        refine e_iconst dX6_readTurn_64 ?_
        refine e_iadd dX6_readTurn_65 ?_
        refine e_dup2 dX6_readTurn_66 rfl rfl ?_
        refine t_ild 149 dX6_readTurn_67 rfl (by decide) (fun _ => rfl) rfl ⟨by omega, by omega⟩ ?_
        refine e_iconst dX6_readTurn_68 ?_
        refine e_iadd dX6_readTurn_69 ?_
        refine t_ist 149 dX6_readTurn_70 rfl (by decide) rfl rfl ⟨by omega, by omega⟩ ?_
        have m3 : t_rdI (t_rt3 k (t_tw σ) (t_rt2 k σ)) := (t_mo_14 (t_mo_14 (t_mo_rt2 (k := k) hI))).1
        show e_E _ _ _ _ (t_H (t_rt3 k (t_tw σ) (t_rt2 k σ)) h0) _ _ _ _
        refine e_aload_n dX6_readTurn_71 rfl ?_
        refine e_callV0vz (ci := 6) dX6_readTurn_72 md_X6_advance lk_X6_179 rfl q1954 qs62 (t_obj _ _) (by decide) rfl (Nat.le_of_ble_eq_true rfl) (C_X6_advance m3) ?_
        refine e_return dX6_readTurn_75 rfl ?_
        refine ⟨rfl, ?_⟩
        unfold t_rt
        rw [if_neg (by omega)]
      · refine e_return dX6_readTurn_40 rfl ?_
        refine ⟨rfl, ?_⟩
        unfold t_rt
        rw [if_pos (by assumption)]
    · refine e_aload_n dX6_readTurn_28 rfl ?_
      refine e_iconst dX6_readTurn_29 ?_
      refine e_callV1vz (ci := 6) dX6_readTurn_30 md_X6_errs lk_X6_185 rfl q1995 qs70 (t_obj _ _) (by decide) rfl (Nat.le_of_ble_eq_true rfl) (C_X6_errs m1.2.2.2.2.2 (by decide)) ?_
      refine e_hp (t_rt2 k σ) (by unfold t_rt2; first | rw [if_pos (by omega)] | rw [if_neg (by omega)]) ?_
      have m2 := (t_mo_rt2 (k := k) hI).1
      have g2 := congrFun (t_rt2_14 k σ) (k + 4)
      refine e_aload_n dX6_readTurn_33 rfl ?_
      refine e_callV0rz (ci := 6) dX6_readTurn_34 md_X6_good lk_X6_163 rfl q1968 qs64 (t_obj _ _) (by decide) rfl (Nat.le_of_ble_eq_true rfl) (C_X6_good m2.2.2.2.2.2) ?_
      refine e_bif_ne (tgt := 41) dX6_readTurn_37 rfl (fun c4 => ?_) (fun c4 => ?_)
      · refine e_aload_n dX6_readTurn_41 rfl ?_
        refine t_geta (k := 14) dX6_readTurn_42 fl_X6_31 rfl ?_
        refine e_iload_n dX6_readTurn_45 rfl ?_
        refine e_iconst dX6_readTurn_46 ?_
        refine e_iadd dX6_readTurn_47 ?_
        refine e_aload_n dX6_readTurn_48 rfl ?_
        refine t_geta (k := 14) dX6_readTurn_49 fl_X6_31 rfl ?_
        refine e_iload_n dX6_readTurn_52 rfl ?_
        refine e_iconst dX6_readTurn_53 ?_
        refine e_iadd dX6_readTurn_54 ?_
        refine t_ild 149 dX6_readTurn_55 rfl (by decide) (fun _ => rfl) rfl ⟨by omega, by omega⟩ ?_
        refine e_iadd dX6_readTurn_56 ?_
        refine e_iload_n dX6_readTurn_57 rfl ?_
        refine t_ist 149 dX6_readTurn_58 rfl (by decide) rfl rfl ⟨by omega, by omega⟩ ?_
        refine e_aload_n dX6_readTurn_59 rfl ?_
        refine t_geta (k := 14) dX6_readTurn_60 fl_X6_31 rfl ?_
        refine e_iload_n dX6_readTurn_63 rfl ?_
        refine e_iconst dX6_readTurn_64 ?_
        refine e_iadd dX6_readTurn_65 ?_
        refine e_dup2 dX6_readTurn_66 rfl rfl ?_
        refine t_ild 149 dX6_readTurn_67 rfl (by decide) (fun _ => rfl) rfl ⟨by omega, by omega⟩ ?_
        refine e_iconst dX6_readTurn_68 ?_
        refine e_iadd dX6_readTurn_69 ?_
        refine t_ist 149 dX6_readTurn_70 rfl (by decide) rfl rfl ⟨by omega, by omega⟩ ?_
        have m3 : t_rdI (t_rt3 k (t_tw σ) (t_rt2 k σ)) := (t_mo_14 (t_mo_14 (t_mo_rt2 (k := k) hI))).1
        show e_E _ _ _ _ (t_H (t_rt3 k (t_tw σ) (t_rt2 k σ)) h0) _ _ _ _
        refine e_aload_n dX6_readTurn_71 rfl ?_
        refine e_callV0vz (ci := 6) dX6_readTurn_72 md_X6_advance lk_X6_179 rfl q1954 qs62 (t_obj _ _) (by decide) rfl (Nat.le_of_ble_eq_true rfl) (C_X6_advance m3) ?_
        refine e_return dX6_readTurn_75 rfl ?_
        refine ⟨rfl, ?_⟩
        unfold t_rt
        rw [if_neg (by omega)]
      · refine e_return dX6_readTurn_40 rfl ?_
        refine ⟨rfl, ?_⟩
        unfold t_rt
        rw [if_pos (by assumption)]
  · refine e_aload_n dX6_readTurn_10 rfl ?_
    refine e_iconst dX6_readTurn_11 ?_
    refine e_callV1vz (ci := 6) dX6_readTurn_12 md_X6_errs lk_X6_185 rfl q1995 qs70 (t_obj _ _) (by decide) rfl (Nat.le_of_ble_eq_true rfl) (C_X6_errs hI.2.2.2.2.2 (by decide)) ?_
    refine e_hp (t_rt1 σ) (by unfold t_rt1; first | rw [if_pos (by omega)] | rw [if_neg (by omega)]) ?_
    have m1 := (t_mo_rt1 hI).1
    have g1 := congrFun (t_rt1_14 σ) (k + 4)
    refine e_aload_n dX6_readTurn_15 rfl ?_
    refine t_geta (k := 14) dX6_readTurn_16 fl_X6_31 rfl ?_
    refine e_iload_n dX6_readTurn_19 rfl ?_
    refine e_iconst dX6_readTurn_20 ?_
    refine e_iadd dX6_readTurn_21 ?_
    refine t_ild 149 dX6_readTurn_22 rfl (by decide) (fun _ => rfl) rfl ⟨by omega, by omega⟩ ?_
    refine e_bipush dX6_readTurn_23 rfl ?_
    refine e_icmp_ne (tgt := 33) dX6_readTurn_25 rfl ⟨by omega, by omega⟩ ⟨by omega, by omega⟩ (fun c5 => ?_) (fun c5 => ?_)
    · refine e_hp (t_rt2 k σ) (by unfold t_rt2; first | rw [if_pos (by omega)] | rw [if_neg (by omega)]) ?_
      have m2 := (t_mo_rt2 (k := k) hI).1
      have g2 := congrFun (t_rt2_14 k σ) (k + 4)
      refine e_aload_n dX6_readTurn_33 rfl ?_
      refine e_callV0rz (ci := 6) dX6_readTurn_34 md_X6_good lk_X6_163 rfl q1968 qs64 (t_obj _ _) (by decide) rfl (Nat.le_of_ble_eq_true rfl) (C_X6_good m2.2.2.2.2.2) ?_
      refine e_bif_ne (tgt := 41) dX6_readTurn_37 rfl (fun c6 => ?_) (fun c6 => ?_)
      · refine e_aload_n dX6_readTurn_41 rfl ?_
        refine t_geta (k := 14) dX6_readTurn_42 fl_X6_31 rfl ?_
        refine e_iload_n dX6_readTurn_45 rfl ?_
        refine e_iconst dX6_readTurn_46 ?_
        refine e_iadd dX6_readTurn_47 ?_
        refine e_aload_n dX6_readTurn_48 rfl ?_
        refine t_geta (k := 14) dX6_readTurn_49 fl_X6_31 rfl ?_
        refine e_iload_n dX6_readTurn_52 rfl ?_
        refine e_iconst dX6_readTurn_53 ?_
        refine e_iadd dX6_readTurn_54 ?_
        refine t_ild 149 dX6_readTurn_55 rfl (by decide) (fun _ => rfl) rfl ⟨by omega, by omega⟩ ?_
        refine e_iadd dX6_readTurn_56 ?_
        refine e_iload_n dX6_readTurn_57 rfl ?_
        refine t_ist 149 dX6_readTurn_58 rfl (by decide) rfl rfl ⟨by omega, by omega⟩ ?_
        refine e_aload_n dX6_readTurn_59 rfl ?_
        refine t_geta (k := 14) dX6_readTurn_60 fl_X6_31 rfl ?_
        refine e_iload_n dX6_readTurn_63 rfl ?_
        refine e_iconst dX6_readTurn_64 ?_
        refine e_iadd dX6_readTurn_65 ?_
        refine e_dup2 dX6_readTurn_66 rfl rfl ?_
        refine t_ild 149 dX6_readTurn_67 rfl (by decide) (fun _ => rfl) rfl ⟨by omega, by omega⟩ ?_
        refine e_iconst dX6_readTurn_68 ?_
        refine e_iadd dX6_readTurn_69 ?_
        refine t_ist 149 dX6_readTurn_70 rfl (by decide) rfl rfl ⟨by omega, by omega⟩ ?_
        have m3 : t_rdI (t_rt3 k (t_tw σ) (t_rt2 k σ)) := (t_mo_14 (t_mo_14 (t_mo_rt2 (k := k) hI))).1
        show e_E _ _ _ _ (t_H (t_rt3 k (t_tw σ) (t_rt2 k σ)) h0) _ _ _ _
        refine e_aload_n dX6_readTurn_71 rfl ?_
        refine e_callV0vz (ci := 6) dX6_readTurn_72 md_X6_advance lk_X6_179 rfl q1954 qs62 (t_obj _ _) (by decide) rfl (Nat.le_of_ble_eq_true rfl) (C_X6_advance m3) ?_
        refine e_return dX6_readTurn_75 rfl ?_
        refine ⟨rfl, ?_⟩
        unfold t_rt
        rw [if_neg (by omega)]
      · refine e_return dX6_readTurn_40 rfl ?_
        refine ⟨rfl, ?_⟩
        unfold t_rt
        rw [if_pos (by assumption)]
    · refine e_aload_n dX6_readTurn_28 rfl ?_
      refine e_iconst dX6_readTurn_29 ?_
      refine e_callV1vz (ci := 6) dX6_readTurn_30 md_X6_errs lk_X6_185 rfl q1995 qs70 (t_obj _ _) (by decide) rfl (Nat.le_of_ble_eq_true rfl) (C_X6_errs m1.2.2.2.2.2 (by decide)) ?_
      refine e_hp (t_rt2 k σ) (by unfold t_rt2; first | rw [if_pos (by omega)] | rw [if_neg (by omega)]) ?_
      have m2 := (t_mo_rt2 (k := k) hI).1
      have g2 := congrFun (t_rt2_14 k σ) (k + 4)
      refine e_aload_n dX6_readTurn_33 rfl ?_
      refine e_callV0rz (ci := 6) dX6_readTurn_34 md_X6_good lk_X6_163 rfl q1968 qs64 (t_obj _ _) (by decide) rfl (Nat.le_of_ble_eq_true rfl) (C_X6_good m2.2.2.2.2.2) ?_
      refine e_bif_ne (tgt := 41) dX6_readTurn_37 rfl (fun c7 => ?_) (fun c7 => ?_)
      · refine e_aload_n dX6_readTurn_41 rfl ?_
        refine t_geta (k := 14) dX6_readTurn_42 fl_X6_31 rfl ?_
        refine e_iload_n dX6_readTurn_45 rfl ?_
        refine e_iconst dX6_readTurn_46 ?_
        refine e_iadd dX6_readTurn_47 ?_
        refine e_aload_n dX6_readTurn_48 rfl ?_
        refine t_geta (k := 14) dX6_readTurn_49 fl_X6_31 rfl ?_
        refine e_iload_n dX6_readTurn_52 rfl ?_
        refine e_iconst dX6_readTurn_53 ?_
        refine e_iadd dX6_readTurn_54 ?_
        refine t_ild 149 dX6_readTurn_55 rfl (by decide) (fun _ => rfl) rfl ⟨by omega, by omega⟩ ?_
        refine e_iadd dX6_readTurn_56 ?_
        refine e_iload_n dX6_readTurn_57 rfl ?_
        refine t_ist 149 dX6_readTurn_58 rfl (by decide) rfl rfl ⟨by omega, by omega⟩ ?_
        refine e_aload_n dX6_readTurn_59 rfl ?_
        refine t_geta (k := 14) dX6_readTurn_60 fl_X6_31 rfl ?_
        refine e_iload_n dX6_readTurn_63 rfl ?_
        refine e_iconst dX6_readTurn_64 ?_
        refine e_iadd dX6_readTurn_65 ?_
        refine e_dup2 dX6_readTurn_66 rfl rfl ?_
        refine t_ild 149 dX6_readTurn_67 rfl (by decide) (fun _ => rfl) rfl ⟨by omega, by omega⟩ ?_
        refine e_iconst dX6_readTurn_68 ?_
        refine e_iadd dX6_readTurn_69 ?_
        refine t_ist 149 dX6_readTurn_70 rfl (by decide) rfl rfl ⟨by omega, by omega⟩ ?_
        have m3 : t_rdI (t_rt3 k (t_tw σ) (t_rt2 k σ)) := (t_mo_14 (t_mo_14 (t_mo_rt2 (k := k) hI))).1
        show e_E _ _ _ _ (t_H (t_rt3 k (t_tw σ) (t_rt2 k σ)) h0) _ _ _ _
        refine e_aload_n dX6_readTurn_71 rfl ?_
        refine e_callV0vz (ci := 6) dX6_readTurn_72 md_X6_advance lk_X6_179 rfl q1954 qs62 (t_obj _ _) (by decide) rfl (Nat.le_of_ble_eq_true rfl) (C_X6_advance m3) ?_
        refine e_return dX6_readTurn_75 rfl ?_
        refine ⟨rfl, ?_⟩
        unfold t_rt
        rw [if_neg (by omega)]
      · refine e_return dX6_readTurn_40 rfl ?_
        refine ⟨rfl, ?_⟩
        unfold t_rt
        rw [if_pos (by assumption)]
theorem C_X6_isFull {σ : t_S} {h0 : e_A} (hI : t_rdI σ) (ho : e_old h0) (hf : ∀ j, 0 ≤ j → j < 149 → 0 ≤ σ 14 j ∧ σ 14 j ≤ 2000000) : e_C mX6_isFull [.ref 384] (t_H σ h0) 0 0 5 (e_ret (e_i (if t_ful σ then 1 else 0)) (t_H σ h0)) := by
  have f5 := hf 5 (by omega) (by omega)
  have f6 := hf 6 (by omega) (by omega)
  have f7 := hf 7 (by omega) (by omega)
  refine e_enter (al0 := [.ref 384]) (by decide +kernel) rfl (Nat.le_of_ble_eq_true rfl) ?_
  refine e_aload_n dX6_isFull_0 rfl ?_
  refine e_ldcS 23 dX6_isFull_1 rfl ?_
  refine e_callV1rz (ci := 6) dX6_isFull_3 md_X6_is lk_X6_175 rfl q1989 qs69 (t_obj _ _) (by decide) rfl (Nat.le_of_ble_eq_true rfl) (C_X6_is hI ho (by decide)) ?_
  refine e_bif_eq (tgt := 20) dX6_isFull_6 rfl (fun c1 => ?_) (fun c1 => ?_)
  · refine e_aload_n dX6_isFull_20 rfl ?_
    refine e_ldcS 24 dX6_isFull_21 rfl ?_
    refine e_callV1rz (ci := 6) dX6_isFull_23 md_X6_is lk_X6_175 rfl q1989 qs69 (t_obj _ _) (by decide) rfl (Nat.le_of_ble_eq_true rfl) (C_X6_is hI ho (by decide)) ?_
    refine e_bif_eq (tgt := 43) dX6_isFull_26 rfl (fun c2 => ?_) (fun c2 => ?_)
    · refine e_aload_n dX6_isFull_43 rfl ?_
      refine e_ldcS 25 dX6_isFull_44 rfl ?_
      refine e_callV1rz (ci := 6) dX6_isFull_46 md_X6_is lk_X6_175 rfl q1989 qs69 (t_obj _ _) (by decide) rfl (Nat.le_of_ble_eq_true rfl) (C_X6_is hI ho (by decide)) ?_
      refine e_bif_eq (tgt := 68) dX6_isFull_49 rfl (fun c3 => ?_) (fun c3 => ?_)
      · refine e_iconst dX6_isFull_68 ?_
        refine e_ireturn dX6_isFull_69 rfl rfl ?_
        refine e_rv ?_ rfl
        first | rw [if_pos (by omega)] | rw [if_neg (by omega)]
      · refine e_aload_n dX6_isFull_52 rfl ?_
        refine t_geta (k := 14) dX6_isFull_53 fl_X6_31 rfl ?_
        refine e_bipush dX6_isFull_56 rfl ?_
        refine t_ild 149 dX6_isFull_58 rfl (by decide) (fun _ => rfl) rfl ⟨by omega, by omega⟩ ?_
        refine e_bipush dX6_isFull_59 rfl ?_
        refine e_icmp_ne (tgt := 68) dX6_isFull_61 rfl ⟨by omega, by omega⟩ ⟨by omega, by omega⟩ (fun c4 => ?_) (fun c4 => ?_)
        · refine e_iconst dX6_isFull_68 ?_
          refine e_ireturn dX6_isFull_69 rfl rfl ?_
          refine e_rv ?_ rfl
          first | rw [if_pos (by omega)] | rw [if_neg (by omega)]
        · refine e_iconst dX6_isFull_64 ?_
          refine e_goto (tgt := 69) dX6_isFull_65 rfl ?_
          refine e_ireturn dX6_isFull_69 rfl rfl ?_
          refine e_rv ?_ rfl
          first | rw [if_pos (by omega)] | rw [if_neg (by omega)]
    · refine e_aload_n dX6_isFull_29 rfl ?_
      refine t_geta (k := 14) dX6_isFull_30 fl_X6_31 rfl ?_
      refine e_bipush dX6_isFull_33 rfl ?_
      refine t_ild 149 dX6_isFull_35 rfl (by decide) (fun _ => rfl) rfl ⟨by omega, by omega⟩ ?_
      refine e_bipush dX6_isFull_36 rfl ?_
      refine e_icmp_ne (tgt := 43) dX6_isFull_38 rfl ⟨by omega, by omega⟩ ⟨by omega, by omega⟩ (fun c5 => ?_) (fun c5 => ?_)
      · refine e_aload_n dX6_isFull_43 rfl ?_
        refine e_ldcS 25 dX6_isFull_44 rfl ?_
        refine e_callV1rz (ci := 6) dX6_isFull_46 md_X6_is lk_X6_175 rfl q1989 qs69 (t_obj _ _) (by decide) rfl (Nat.le_of_ble_eq_true rfl) (C_X6_is hI ho (by decide)) ?_
        refine e_bif_eq (tgt := 68) dX6_isFull_49 rfl (fun c6 => ?_) (fun c6 => ?_)
        · refine e_iconst dX6_isFull_68 ?_
          refine e_ireturn dX6_isFull_69 rfl rfl ?_
          refine e_rv ?_ rfl
          first | rw [if_pos (by omega)] | rw [if_neg (by omega)]
        · refine e_aload_n dX6_isFull_52 rfl ?_
          refine t_geta (k := 14) dX6_isFull_53 fl_X6_31 rfl ?_
          refine e_bipush dX6_isFull_56 rfl ?_
          refine t_ild 149 dX6_isFull_58 rfl (by decide) (fun _ => rfl) rfl ⟨by omega, by omega⟩ ?_
          refine e_bipush dX6_isFull_59 rfl ?_
          refine e_icmp_ne (tgt := 68) dX6_isFull_61 rfl ⟨by omega, by omega⟩ ⟨by omega, by omega⟩ (fun c7 => ?_) (fun c7 => ?_)
          · refine e_iconst dX6_isFull_68 ?_
            refine e_ireturn dX6_isFull_69 rfl rfl ?_
            refine e_rv ?_ rfl
            first | rw [if_pos (by omega)] | rw [if_neg (by omega)]
          · refine e_iconst dX6_isFull_64 ?_
            refine e_goto (tgt := 69) dX6_isFull_65 rfl ?_
            refine e_ireturn dX6_isFull_69 rfl rfl ?_
            refine e_rv ?_ rfl
            first | rw [if_pos (by omega)] | rw [if_neg (by omega)]
      · refine e_iconst dX6_isFull_41 ?_
        refine e_ireturn dX6_isFull_42 rfl rfl ?_
        refine e_rv ?_ rfl
        first | rw [if_pos (by omega)] | rw [if_neg (by omega)]
  · refine e_aload_n dX6_isFull_9 rfl ?_
    refine t_geta (k := 14) dX6_isFull_10 fl_X6_31 rfl ?_
    refine e_iconst dX6_isFull_13 ?_
    refine t_ild 149 dX6_isFull_14 rfl (by decide) (fun _ => rfl) rfl ⟨by omega, by omega⟩ ?_
    refine e_bipush dX6_isFull_15 rfl ?_
    refine e_icmp_eq (tgt := 41) dX6_isFull_17 rfl ⟨by omega, by omega⟩ ⟨by omega, by omega⟩ (fun c8 => ?_) (fun c8 => ?_)
    · refine e_iconst dX6_isFull_41 ?_
      refine e_ireturn dX6_isFull_42 rfl rfl ?_
      refine e_rv ?_ rfl
      first | rw [if_pos (by omega)] | rw [if_neg (by omega)]
    · refine e_aload_n dX6_isFull_20 rfl ?_
      refine e_ldcS 24 dX6_isFull_21 rfl ?_
      refine e_callV1rz (ci := 6) dX6_isFull_23 md_X6_is lk_X6_175 rfl q1989 qs69 (t_obj _ _) (by decide) rfl (Nat.le_of_ble_eq_true rfl) (C_X6_is hI ho (by decide)) ?_
      refine e_bif_eq (tgt := 43) dX6_isFull_26 rfl (fun c9 => ?_) (fun c9 => ?_)
      · refine e_aload_n dX6_isFull_43 rfl ?_
        refine e_ldcS 25 dX6_isFull_44 rfl ?_
        refine e_callV1rz (ci := 6) dX6_isFull_46 md_X6_is lk_X6_175 rfl q1989 qs69 (t_obj _ _) (by decide) rfl (Nat.le_of_ble_eq_true rfl) (C_X6_is hI ho (by decide)) ?_
        refine e_bif_eq (tgt := 68) dX6_isFull_49 rfl (fun c10 => ?_) (fun c10 => ?_)
        · refine e_iconst dX6_isFull_68 ?_
          refine e_ireturn dX6_isFull_69 rfl rfl ?_
          refine e_rv ?_ rfl
          first | rw [if_pos (by omega)] | rw [if_neg (by omega)]
        · refine e_aload_n dX6_isFull_52 rfl ?_
          refine t_geta (k := 14) dX6_isFull_53 fl_X6_31 rfl ?_
          refine e_bipush dX6_isFull_56 rfl ?_
          refine t_ild 149 dX6_isFull_58 rfl (by decide) (fun _ => rfl) rfl ⟨by omega, by omega⟩ ?_
          refine e_bipush dX6_isFull_59 rfl ?_
          refine e_icmp_ne (tgt := 68) dX6_isFull_61 rfl ⟨by omega, by omega⟩ ⟨by omega, by omega⟩ (fun c11 => ?_) (fun c11 => ?_)
          · refine e_iconst dX6_isFull_68 ?_
            refine e_ireturn dX6_isFull_69 rfl rfl ?_
            refine e_rv ?_ rfl
            first | rw [if_pos (by omega)] | rw [if_neg (by omega)]
          · refine e_iconst dX6_isFull_64 ?_
            refine e_goto (tgt := 69) dX6_isFull_65 rfl ?_
            refine e_ireturn dX6_isFull_69 rfl rfl ?_
            refine e_rv ?_ rfl
            first | rw [if_pos (by omega)] | rw [if_neg (by omega)]
      · refine e_aload_n dX6_isFull_29 rfl ?_
        refine t_geta (k := 14) dX6_isFull_30 fl_X6_31 rfl ?_
        refine e_bipush dX6_isFull_33 rfl ?_
        refine t_ild 149 dX6_isFull_35 rfl (by decide) (fun _ => rfl) rfl ⟨by omega, by omega⟩ ?_
        refine e_bipush dX6_isFull_36 rfl ?_
        refine e_icmp_ne (tgt := 43) dX6_isFull_38 rfl ⟨by omega, by omega⟩ ⟨by omega, by omega⟩ (fun c12 => ?_) (fun c12 => ?_)
        · refine e_aload_n dX6_isFull_43 rfl ?_
          refine e_ldcS 25 dX6_isFull_44 rfl ?_
          refine e_callV1rz (ci := 6) dX6_isFull_46 md_X6_is lk_X6_175 rfl q1989 qs69 (t_obj _ _) (by decide) rfl (Nat.le_of_ble_eq_true rfl) (C_X6_is hI ho (by decide)) ?_
          refine e_bif_eq (tgt := 68) dX6_isFull_49 rfl (fun c13 => ?_) (fun c13 => ?_)
          · refine e_iconst dX6_isFull_68 ?_
            refine e_ireturn dX6_isFull_69 rfl rfl ?_
            refine e_rv ?_ rfl
            first | rw [if_pos (by omega)] | rw [if_neg (by omega)]
          · refine e_aload_n dX6_isFull_52 rfl ?_
            refine t_geta (k := 14) dX6_isFull_53 fl_X6_31 rfl ?_
            refine e_bipush dX6_isFull_56 rfl ?_
            refine t_ild 149 dX6_isFull_58 rfl (by decide) (fun _ => rfl) rfl ⟨by omega, by omega⟩ ?_
            refine e_bipush dX6_isFull_59 rfl ?_
            refine e_icmp_ne (tgt := 68) dX6_isFull_61 rfl ⟨by omega, by omega⟩ ⟨by omega, by omega⟩ (fun c14 => ?_) (fun c14 => ?_)
            · refine e_iconst dX6_isFull_68 ?_
              refine e_ireturn dX6_isFull_69 rfl rfl ?_
              refine e_rv ?_ rfl
              first | rw [if_pos (by omega)] | rw [if_neg (by omega)]
            · refine e_iconst dX6_isFull_64 ?_
              refine e_goto (tgt := 69) dX6_isFull_65 rfl ?_
              refine e_ireturn dX6_isFull_69 rfl rfl ?_
              refine e_rv ?_ rfl
              first | rw [if_pos (by omega)] | rw [if_neg (by omega)]
        · refine e_iconst dX6_isFull_41 ?_
          refine e_ireturn dX6_isFull_42 rfl rfl ?_
          refine e_rv ?_ rfl
          first | rw [if_pos (by omega)] | rw [if_neg (by omega)]
