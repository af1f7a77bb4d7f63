/-! THE COMPONENT: iterators, the colony asked (printed by tx2.py) -/
set_option maxRecDepth 100000
theorem C_J15_init {h : e_A} {i a b : Nat} {mc n : Int} {it : Int → Nat} (hi : h.1 i = (12, 4, dv_12)) (hl : x_li h a b mc n it) (hia : i ≠ a ∧ 350 ≤ i) : e_C mJ15_init [.ref i, .ref a] (h) 0 0 0 (e_rev (e_set h i (12, 4, x_iF 0 (-1) mc a))) := by
  refine e_enter (al0 := [.ref i, .ref a]) (by decide +kernel) rfl (Nat.le_of_ble_eq_true rfl) ?_
  refine e_aload_n dJ15_init_0 rfl ?_
  refine e_aload_n dJ15_init_1 rfl ?_
  refine e_putfield dJ15_init_2 fl_J15_1 hi (Or.inr ⟨rfl, _, _, _, rfl, rfl⟩) hia.2 (by decide) (e_fit_ref _) ?_
  refine e_aload_n dJ15_init_5 rfl ?_
  refine e_objinit dJ15_init_6 q1071 (by rw [e_set_at]; exact Nat.le_of_ble_eq_true rfl) rfl ?_
  refine e_aload_n dJ15_init_9 rfl ?_
  refine e_iconst dJ15_init_10 ?_
  refine e_putfield dJ15_init_11 fl_J15_13 (e_set_at _ _ _) (Or.inl rfl) hia.2 (by decide) (e_fit_int _) ?_
  refine e_aload_n dJ15_init_14 rfl ?_
  refine e_aload_n dJ15_init_15 rfl ?_
  refine e_getV (.ref a) dJ15_init_16 fl_J15_1 (e_set_at _ _ _) rfl ?_
  refine e_getV (e_i mc) dJ15_init_19 fl_J15_17 ((e_set_ne (Ne.symm hia.1)).trans ((e_set_ne (Ne.symm hia.1)).trans hl.1)) rfl ?_
  refine e_putfield dJ15_init_22 fl_J15_22 (e_set_at _ _ _) (Or.inl rfl) hia.2 (by decide) (e_fit_int _) ?_
  refine e_return dJ15_init_25 rfl ?_
  refine ⟨rfl, ?_⟩
  rw [e_set_set, e_set_set]
  congr 1
  refine Prod.ext rfl (Prod.ext rfl ?_)
  funext k
  unfold updV
  match k with
  | 0 => rfl
  | 1 => rfl
  | 2 => rfl
  | 3 => rfl
  | k + 4 => rfl
theorem C_J2_iterator {h : e_A} {a b : Nat} {mc n : Int} {it : Int → Nat} (hl : x_li h a b mc n it) (ha : a < h.2) (hb9 : b < h.2) (h350 : 350 ≤ h.2) : e_C mJ2_iterator [.ref a] (h) 1 4 1 (e_ret (.ref h.2) (e_push h (12, 4, x_iF 0 (-1) mc a))) := by
  have hl1 : x_li (e_push h (12, 4, dv_12)) a b mc n it := x_li_of hl ((e_ext_push h _).2 a ha) ((e_ext_push h _).2 b hb9)
  have hia : h.2 ≠ a ∧ 350 ≤ h.2 := ⟨by omega, h350⟩
  refine e_enter (al0 := [.ref a]) (by decide +kernel) rfl (Nat.le_of_ble_eq_true rfl) ?_
  refine e_bud (kc1 := 0 + 1) (ks1 := 0 + 4) (by decide) (by decide) ?_
  refine e_new (kc := 0) (ks := 0) (n := 4) dJ2_iterator_0 nw_J2_267 (fun q hq => by cases hq; rfl) ?_
  refine e_dup dJ2_iterator_3 rfl ?_
  refine e_aload_n dJ2_iterator_4 rfl ?_
  refine e_callI1vz dJ2_iterator_5 md_J15_init lk_J2_269 rfl rfl rfl q1069 (by rw [e_push_at]; exact Nat.le_of_ble_eq_true rfl) rfl (Nat.le_of_ble_eq_true rfl) (C_J15_init (e_push_at _ _) hl1 hia) ?_
  rw [e_push_set]
  refine e_areturn dJ2_iterator_8 rfl (Or.inl ⟨_, rfl⟩) ?_
  exact ⟨rfl, rfl⟩
theorem C_X2_is {σ χ : t_S} {h0 : e_A} {α : Nat → Nat} (A : x_at χ h0 (σ 1) α) (hz : t_sz σ) : e_C mX2_is [.ref (α 0)] (x_H χ h0) 0 0 0 (e_ret (e_i (if t_isC σ then 1 else 0)) (x_H χ h0)) := by
  have s9 := hz.2.2.2.2.2.2.2
  refine e_enter (al0 := [.ref (α 0)]) (by decide +kernel) rfl (Nat.le_of_ble_eq_true rfl) ?_
  refine e_aload_n dX2_is_0 rfl ?_
  refine e_getV (e_i (σ 1 9)) dX2_is_1 fl_X2_30 (x_aC A) rfl ?_
  refine e_if_le (tgt := 11) dX2_is_4 rfl ⟨by omega, by omega⟩ (fun c1 => ?_) (fun c1 => ?_)
  · refine e_iconst dX2_is_11 ?_
    refine e_ireturn dX2_is_12 rfl rfl ?_
    refine e_rv ?_ rfl
    (try split) <;> omega
  · refine e_iconst dX2_is_7 ?_
    refine e_goto (tgt := 12) dX2_is_8 rfl ?_
    refine e_ireturn dX2_is_12 rfl rfl ?_
    refine e_rv ?_ rfl
    (try split) <;> omega
theorem C_X0_many {σ χ : t_S} {h0 : e_A} {α : Nat → Nat} (A : x_at χ h0 (σ 1) α) (hz : t_sz σ) : e_C mX0_many [.ref 350] (x_H χ h0) 0 0 1 (e_ret (e_i (σ 1 7)) (x_H χ h0)) := by
  obtain ⟨mc, hl⟩ := x_a5 A
  refine e_enter (al0 := [.ref 350]) (by decide +kernel) rfl (Nat.le_of_ble_eq_true rfl) ?_
  refine e_aload_n dX0_many_0 rfl ?_
  refine e_getV (.ref (α 0)) dX0_many_1 fl_X0_47 (x_o0 _ _) (x_now A) ?_
  refine e_getV (.ref (α 5)) dX0_many_4 fl_X0_116 (x_aC A) rfl ?_
  refine e_callF0rz (ci := 11) dX0_many_7 md_J2_size if_X0_120 rfl hl.1 (by decide) rfl (Nat.le_of_ble_eq_true rfl) (C_J2_size hl) ?_
  refine e_ireturn dX0_many_12 rfl rfl ?_
  exact ⟨rfl, rfl⟩
theorem C_X0_every {σ χ : t_S} {h0 : e_A} {α : Nat → Nat} (A : x_at χ h0 (σ 1) α) (hz : t_sz σ) : e_C mX0_every [.ref 350] (x_H χ h0) 0 0 2 (e_ret (e_i (2 ^ (σ 1 7).toNat - 1)) (x_H χ h0)) := by
  have s7 := hz.2.2.2.2.2.1
  refine e_enter (al0 := [.ref 350]) (by decide +kernel) rfl (Nat.le_of_ble_eq_true rfl) ?_
  refine e_iconst dX0_every_0 ?_
  refine e_aload_n dX0_every_1 rfl ?_
  refine e_callV0rz (ci := 0) dX0_every_2 md_X0_many lk_X0_126 rfl q1121 qs23 (x_o0 _ _) (by decide) rfl (Nat.le_of_ble_eq_true rfl) (C_X0_many A hz) ?_
  refine e_ishl dX0_every_5 ((e_shl_law 1 ⟨by omega, by omega⟩).trans (by rw [Int.one_mul])) ?_
  refine e_iconst dX0_every_6 ?_
  refine e_isub dX0_every_7 ?_
  refine e_ireturn dX0_every_8 rfl rfl ?_
  exact ⟨rfl, rfl⟩
theorem C_X0_widowOf {σ χ : t_S} {h0 : e_A} {α : Nat → Nat} (A : x_at χ h0 (σ 1) α) (hz : t_sz σ) {w : Int} (hw : 0 ≤ w ∧ w < σ 1 7) : e_C mX0_widowOf [.ref 350, e_i w] (x_H χ h0) 0 0 3 (e_ret (.ref (α (10 + w.toNat))) (x_H χ h0)) := by
  have s7 := hz.2.2.2.2.2.1
  obtain ⟨mc, hl⟩ := x_a5 A
  refine e_enter (al0 := [.ref 350, e_i w]) (by decide +kernel) rfl (Nat.le_of_ble_eq_true rfl) ?_
  refine e_aload_n dX0_widowOf_0 rfl ?_
  refine e_getV (.ref (α 0)) dX0_widowOf_1 fl_X0_47 (x_o0 _ _) (x_now A) ?_
  refine e_getV (.ref (α 5)) dX0_widowOf_4 fl_X0_116 (x_aC A) rfl ?_
  refine e_iload_n dX0_widowOf_7 rfl ?_
  refine e_callF1rz (ci := 11) dX0_widowOf_8 md_J2_get if_X0_129 rfl hl.1 (by decide) rfl (Nat.le_of_ble_eq_true rfl) (C_J2_get hl hw) ?_
  refine e_castS (ci := 9) dX0_widowOf_13 (x_aW A hw.1 hw.2) (by decide) q1146 ?_
  refine e_areturn dX0_widowOf_16 rfl (Or.inl ⟨_, rfl⟩) ?_
  exact ⟨rfl, rfl⟩
theorem C_X0_isWidow {σ χ : t_S} {h0 : e_A} {α : Nat → Nat} (A : x_at χ h0 (σ 1) α) (hz : t_sz σ) {w : Int} (hw : e_rl w) : e_C mX0_isWidow [.ref 350, e_j w] (x_H χ h0) 0 0 2 (e_ret (e_i (if t_isW σ w then 1 else 0)) (x_H χ h0)) := by
  have s7 := hz.2.2.2.2.2.1
  refine e_enter (al0 := [.ref 350, e_j w, .retAddr 0]) (by decide +kernel) rfl (Nat.le_of_ble_eq_true rfl) ?_
  refine e_lload_n dX0_isWidow_0 rfl ?_
  refine e_lconst (z := 0) dX0_isWidow_1 rfl ?_
  refine e_aload_n dX0_isWidow_2 rfl ?_
  refine e_callV0rz (ci := 0) dX0_isWidow_3 md_X0_many lk_X0_126 rfl q1121 qs23 (x_o0 _ _) (by decide) rfl (Nat.le_of_ble_eq_true rfl) (C_X0_many A hz) ?_
  refine e_iconst dX0_isWidow_6 ?_
  refine e_isub dX0_isWidow_7 ?_
  refine e_i2l dX0_isWidow_8 ⟨by omega, by omega⟩ ?_
  refine e_callS3rz dX0_isWidow_9 md_X0_in lk_X0_11 rfl q186 rfl (Nat.le_of_ble_eq_true rfl) (C_X0_in ⟨by omega, by omega⟩ ⟨by omega, by omega⟩ ⟨by omega, by omega⟩) ?_
  refine e_ireturn dX0_isWidow_12 rfl e_nB ?_
  exact ⟨rfl, rfl⟩
theorem C_X0_isHouse {σ χ : t_S} {h0 : e_A} {α : Nat → Nat} (A : x_at χ h0 (σ 1) α) (hz : t_sz σ) {w : Int} (hw : e_rg w) : e_C mX0_isHouse [.ref 350, e_i w] (x_H χ h0) 0 0 1 (e_ret (e_i (if t_isH σ w then 1 else 0)) (x_H χ h0)) := by
  have s6 := hz.2.2.2.2.1
  obtain ⟨mc, hl⟩ := x_a3 A
  refine e_enter (al0 := [.ref 350, e_i w]) (by decide +kernel) rfl (Nat.le_of_ble_eq_true rfl) ?_
  refine e_iload_n dX0_isHouse_0 rfl ?_
  refine e_i2l dX0_isHouse_1 ⟨by omega, by omega⟩ ?_
  refine e_lconst (z := 0) dX0_isHouse_2 rfl ?_
  refine e_aload_n dX0_isHouse_3 rfl ?_
  refine e_getV (.ref (α 0)) dX0_isHouse_4 fl_X0_47 (x_o0 _ _) (x_now A) ?_
  refine e_getV (.ref (α 3)) dX0_isHouse_7 fl_X0_135 (x_aC A) rfl ?_
  refine e_callF0rz (ci := 11) dX0_isHouse_10 md_J2_size if_X0_120 rfl hl.1 (by decide) rfl (Nat.le_of_ble_eq_true rfl) (C_J2_size hl) ?_
  refine e_iconst dX0_isHouse_15 ?_
  refine e_isub dX0_isHouse_16 ?_
  refine e_i2l dX0_isHouse_17 ⟨by omega, by omega⟩ ?_
  refine e_callS3rz dX0_isHouse_18 md_X0_in lk_X0_11 rfl q186 rfl (Nat.le_of_ble_eq_true rfl) (C_X0_in ⟨by omega, by omega⟩ ⟨by omega, by omega⟩ ⟨by omega, by omega⟩) ?_
  refine e_ireturn dX0_isHouse_21 rfl e_nB ?_
  exact ⟨rfl, rfl⟩
theorem C_X0_areTwo {σ χ : t_S} {h0 : e_A} {α : Nat → Nat} (A : x_at χ h0 (σ 1) α) (hz : t_sz σ) {a b : Int} (ha : e_rg a) (hb : e_rg b) : e_C mX0_areTwo [.ref 350, e_i a, e_i b] (x_H χ h0) 0 0 3 (e_ret (e_i (if t_two σ a b then 1 else 0)) (x_H χ h0)) := by
  refine e_enter (al0 := [.ref 350, e_i a, e_i b]) (by decide +kernel) rfl (Nat.le_of_ble_eq_true rfl) ?_
  refine e_aload_n dX0_areTwo_0 rfl ?_
  refine e_iload_n dX0_areTwo_1 rfl ?_
  refine e_i2l dX0_areTwo_2 ⟨by omega, by omega⟩ ?_
  refine e_callV1rz (ci := 0) dX0_areTwo_3 md_X0_isWidow lk_X0_138 rfl q1222 qs33 (x_o0 _ _) (by decide) rfl (Nat.le_of_ble_eq_true rfl) (C_X0_isWidow A hz ⟨by omega, by omega⟩) ?_
  refine e_bif_eq (tgt := 27) dX0_areTwo_6 rfl (fun c1 => ?_) (fun c1 => ?_)
  · refine e_iconst dX0_areTwo_27 ?_
    refine e_ireturn dX0_areTwo_28 rfl rfl ?_
    refine e_rv ?_ rfl
    first
      | exact (if_pos ⟨by assumption, by assumption, by omega⟩).symm
      | exact (if_neg (fun q => by obtain ⟨q1, q2, q3⟩ := q; omega)).symm
  · refine e_aload_n dX0_areTwo_9 rfl ?_
    refine e_iload_n dX0_areTwo_10 rfl ?_
    refine e_i2l dX0_areTwo_11 ⟨by omega, by omega⟩ ?_
    refine e_callV1rz (ci := 0) dX0_areTwo_12 md_X0_isWidow lk_X0_138 rfl q1222 qs33 (x_o0 _ _) (by decide) rfl (Nat.le_of_ble_eq_true rfl) (C_X0_isWidow A hz ⟨by omega, by omega⟩) ?_
    refine e_bif_eq (tgt := 27) dX0_areTwo_15 rfl (fun c2 => ?_) (fun c2 => ?_)
    · refine e_iconst dX0_areTwo_27 ?_
      refine e_ireturn dX0_areTwo_28 rfl rfl ?_
      refine e_rv ?_ rfl
      first
        | exact (if_pos ⟨by assumption, by assumption, by omega⟩).symm
        | exact (if_neg (fun q => by obtain ⟨q1, q2, q3⟩ := q; omega)).symm
    · refine e_iload_n dX0_areTwo_18 rfl ?_
      refine e_iload_n dX0_areTwo_19 rfl ?_
      refine e_icmp_eq (tgt := 27) dX0_areTwo_20 rfl ⟨by omega, by omega⟩ ⟨by omega, by omega⟩ (fun c3 => ?_) (fun c3 => ?_)
      · refine e_iconst dX0_areTwo_27 ?_
        refine e_ireturn dX0_areTwo_28 rfl rfl ?_
        refine e_rv ?_ rfl
        first
          | exact (if_pos ⟨by assumption, by assumption, by omega⟩).symm
          | exact (if_neg (fun q => by obtain ⟨q1, q2, q3⟩ := q; omega)).symm
      · refine e_iconst dX0_areTwo_23 ?_
        refine e_goto (tgt := 28) dX0_areTwo_24 rfl ?_
        refine e_ireturn dX0_areTwo_28 rfl rfl ?_
        refine e_rv ?_ rfl
        first
          | exact (if_pos ⟨by assumption, by assumption, by omega⟩).symm
          | exact (if_neg (fun q => by obtain ⟨q1, q2, q3⟩ := q; omega)).symm
theorem C_X0_isYear {σ χ : t_S} {h0 : e_A} {α : Nat → Nat} (A : x_at χ h0 (σ 1) α) (hz : t_sz σ) {y : Int} (hy : e_rg y) : e_C mX0_isYear [.ref 350, e_i y] (x_H χ h0) 0 0 1 (e_ret (e_i (if t_isY σ y then 1 else 0)) (x_H χ h0)) := by
  have s0 : 0 ≤ σ 1 0 ∧ σ 1 0 ≤ 12 := hz.1
  refine e_enter (al0 := [.ref 350, e_i y]) (by decide +kernel) rfl (Nat.le_of_ble_eq_true rfl) ?_
  refine e_aload_n dX0_isYear_0 rfl ?_
  refine e_getV (.ref (α 0)) dX0_isYear_1 fl_X0_47 (x_o0 _ _) (x_now A) ?_
  refine e_callV0rz (ci := 2) dX0_isYear_4 md_X2_is lk_X0_98 rfl q1034 q1035 (x_aC A) (by decide) rfl (Nat.le_of_ble_eq_true rfl) (C_X2_is A hz) ?_
  refine e_bif_eq (tgt := 31) dX0_isYear_7 rfl (fun c1 => ?_) (fun c1 => ?_)
  · refine e_iconst dX0_isYear_31 ?_
    refine e_ireturn dX0_isYear_32 rfl rfl ?_
    refine e_rv ?_ rfl
    (try split) <;> omega
  · refine e_iload_n dX0_isYear_10 rfl ?_
    refine e_i2l dX0_isYear_11 ⟨by omega, by omega⟩ ?_
    refine e_lconst (z := 0) dX0_isYear_12 rfl ?_
    refine e_aload_n dX0_isYear_13 rfl ?_
    refine e_getV (.ref (α 0)) dX0_isYear_14 fl_X0_47 (x_o0 _ _) (x_now A) ?_
    refine e_getV (e_i _) dX0_isYear_17 fl_X0_142 (x_aC A) rfl ?_
    refine e_i2l dX0_isYear_20 ⟨by omega, by omega⟩ ?_
    refine e_callS3rz dX0_isYear_21 md_X0_in lk_X0_11 rfl q186 rfl (Nat.le_of_ble_eq_true rfl) (C_X0_in ⟨by omega, by omega⟩ ⟨by omega, by omega⟩ ⟨by omega, by omega⟩) ?_
    refine e_bif_eq (tgt := 31) dX0_isYear_24 rfl (fun c2 => ?_) (fun c2 => ?_)
    · refine e_iconst dX0_isYear_31 ?_
      refine e_ireturn dX0_isYear_32 rfl rfl ?_
      refine e_rv ?_ rfl
      (try split) <;> omega
    · refine e_iconst dX0_isYear_27 ?_
      refine e_goto (tgt := 32) dX0_isYear_28 rfl ?_
      refine e_ireturn dX0_isYear_32 rfl rfl ?_
      refine e_rv ?_ rfl
      (try split) <;> omega
theorem C_X0_isCell {σ χ : t_S} {h0 : e_A} {α : Nat → Nat} (A : x_at χ h0 (σ 1) α) (hz : t_sz σ) {c : Int} (hc : e_rl c) : e_C mX0_isCell [.ref 350, e_j c] (x_H χ h0) 0 0 1 (e_ret (e_i (if t_isCell σ c then 1 else 0)) (x_H χ h0)) := by
  have s3 := hz.2.1
  have s4 := hz.2.2.1
  refine e_enter (al0 := [.ref 350, e_j c, .retAddr 0]) (by decide +kernel) rfl (Nat.le_of_ble_eq_true rfl) ?_
  refine e_aload_n dX0_isCell_0 rfl ?_
  refine e_getV (.ref (α 0)) dX0_isCell_1 fl_X0_47 (x_o0 _ _) (x_now A) ?_
  refine e_callV0rz (ci := 2) dX0_isCell_4 md_X2_is lk_X0_98 rfl q1034 q1035 (x_aC A) (by decide) rfl (Nat.le_of_ble_eq_true rfl) (C_X2_is A hz) ?_
  refine e_bif_eq (tgt := 54) dX0_isCell_7 rfl (fun c1 => ?_) (fun c1 => ?_)
  · refine e_iconst dX0_isCell_54 ?_
    refine e_ireturn dX0_isCell_55 rfl rfl ?_
    refine e_rv ?_ rfl
    (try split) <;> omega
  · refine e_lload_n dX0_isCell_10 rfl ?_
    refine e_lconst (z := 0) dX0_isCell_11 rfl ?_
    refine e_lcmp_lt (tgt := 54) dX0_isCell_12 dX0_isCell_13 rfl ⟨by omega, by omega⟩ ⟨by omega, by omega⟩ (fun c2 => ?_) (fun c2 => ?_)
    · refine e_iconst dX0_isCell_54 ?_
      refine e_ireturn dX0_isCell_55 rfl rfl ?_
      refine e_rv ?_ rfl
      (try split) <;> omega
    · refine e_lload_n dX0_isCell_16 rfl ?_
      refine e_ldc2 (z := 10) dX0_isCell_17 q1209 rfl ?_
      refine e_ldiv dX0_isCell_20 ⟨by omega, by omega⟩ ⟨by omega, by omega⟩ ?_
      refine e_aload_n dX0_isCell_21 rfl ?_
      refine e_getV (.ref (α 0)) dX0_isCell_22 fl_X0_47 (x_o0 _ _) (x_now A) ?_
      refine e_getV (e_i _) dX0_isCell_25 fl_X0_147 (x_aC A) rfl ?_
      refine e_i2l dX0_isCell_28 ⟨by omega, by omega⟩ ?_
      refine e_lcmp_ge (tgt := 54) dX0_isCell_29 dX0_isCell_30 rfl ⟨by omega, by omega⟩ ⟨by omega, by omega⟩ (fun c3 => ?_) (fun c3 => ?_)
      · refine e_iconst dX0_isCell_54 ?_
        refine e_ireturn dX0_isCell_55 rfl rfl ?_
        refine e_rv ?_ rfl
        (try split) <;> omega
      · refine e_lload_n dX0_isCell_33 rfl ?_
        refine e_ldc2 (z := 10) dX0_isCell_34 q1209 rfl ?_
        refine e_lrem dX0_isCell_37 ⟨by omega, by omega⟩ ⟨by omega, by omega⟩ ?_
        refine e_aload_n dX0_isCell_38 rfl ?_
        refine e_getV (.ref (α 0)) dX0_isCell_39 fl_X0_47 (x_o0 _ _) (x_now A) ?_
        refine e_getV (e_i _) dX0_isCell_42 fl_X0_150 (x_aC A) rfl ?_
        refine e_i2l dX0_isCell_45 ⟨by omega, by omega⟩ ?_
        refine e_lcmp_ge (tgt := 54) dX0_isCell_46 dX0_isCell_47 rfl ⟨by omega, by omega⟩ ⟨by omega, by omega⟩ (fun c4 => ?_) (fun c4 => ?_)
        · refine e_iconst dX0_isCell_54 ?_
          refine e_ireturn dX0_isCell_55 rfl rfl ?_
          refine e_rv ?_ rfl
          (try split) <;> omega
        · refine e_iconst dX0_isCell_50 ?_
          refine e_goto (tgt := 55) dX0_isCell_51 rfl ?_
          refine e_ireturn dX0_isCell_55 rfl rfl ?_
          refine e_rv ?_ rfl
          (try split) <;> omega
theorem C_X0_beside {σ χ : t_S} {h0 : e_A} {α : Nat → Nat} (A : x_at χ h0 (σ 1) α) (hz : t_sz σ) {c d : Int} (hc : x_c8 c) (hd : 0 ≤ d ∧ d < 4) : e_C mX0_beside [.ref 350, e_i (x_sp c), e_i d] (x_H χ h0) 0 0 1 (e_ret (e_i (x_sp (t_bes σ c d))) (x_H χ h0)) := by
  refine e_enter (al0 := [.ref 350, e_i (x_sp c), e_i d, .retAddr 0, .retAddr 0]) (by decide +kernel) rfl (Nat.le_of_ble_eq_true rfl) ?_
  have s3 := hz.2.1
  have s4 := hz.2.2.1
  obtain ⟨hc0, hc1, hc2⟩ := hc
  obtain ⟨s, hs⟩ : ∃ s, x_sp c = s := ⟨_, rfl⟩
  have hs2 : s = 8 * (c / 10) + c % 10 := by rw [← hs]; unfold x_sp; rw [if_neg (by omega)]
  rw [hs]
  have hacr : (d = 1 ∧ t_acr d = 1) ∨ (d = 3 ∧ t_acr d = -1) ∨ (d ≠ 1 ∧ d ≠ 3 ∧ t_acr d = 0) := by
    unfold t_acr
    (repeat' split) <;> omega
  have hdwn : (d = 2 ∧ t_dwn d = 1) ∨ (d = 0 ∧ t_dwn d = -1) ∨ (d ≠ 2 ∧ d ≠ 0 ∧ t_dwn d = 0) := by
    unfold t_dwn
    (repeat' split) <;> omega
  refine e_iload_n dX0_beside_0 rfl ?_
  refine e_bipush dX0_beside_1 rfl ?_
  refine e_idiv dX0_beside_3 ⟨by omega, by omega⟩ ⟨by omega, by omega⟩ ?_
  refine e_iload_n dX0_beside_4 rfl ?_
  refine e_iconst dX0_beside_5 ?_
  refine e_icmp_ne (tgt := 13) dX0_beside_6 rfl ⟨by omega, by omega⟩ ⟨by omega, by omega⟩ (fun c1 => ?_) (fun c1 => ?_)
  · refine e_iload_n dX0_beside_13 rfl ?_
    refine e_iconst dX0_beside_14 ?_
    refine e_icmp_ne (tgt := 22) dX0_beside_15 rfl ⟨by omega, by omega⟩ ⟨by omega, by omega⟩ (fun c2 => ?_) (fun c2 => ?_)
    · refine e_iconst dX0_beside_22 ?_
      refine e_iadd dX0_beside_23 ?_
      refine e_istore_n3 dX0_beside_24 rfl ?_
      refine e_iload_n dX0_beside_25 rfl ?_
      refine e_bipush dX0_beside_26 rfl ?_
      refine e_irem dX0_beside_28 ⟨by omega, by omega⟩ ⟨by omega, by omega⟩ ?_
      refine e_iload_n dX0_beside_29 rfl ?_
      refine e_iconst dX0_beside_30 ?_
      refine e_icmp_ne (tgt := 38) dX0_beside_31 rfl ⟨by omega, by omega⟩ ⟨by omega, by omega⟩ (fun c3 => ?_) (fun c3 => ?_)
      · refine e_iload_n dX0_beside_38 rfl ?_
        refine e_if_ne (tgt := 46) dX0_beside_39 rfl ⟨by omega, by omega⟩ (fun c4 => ?_) (fun c4 => ?_)
        · refine e_iconst dX0_beside_46 ?_
          refine e_iadd dX0_beside_47 ?_
          refine e_istore4 dX0_beside_48 rfl ?_
          refine e_iload_n dX0_beside_50 rfl ?_
          refine e_i2l dX0_beside_51 ⟨by omega, by omega⟩ ?_
          refine e_lconst (z := 0) dX0_beside_52 rfl ?_
          refine e_aload_n dX0_beside_53 rfl ?_
          refine e_getV (.ref (α 0)) dX0_beside_54 fl_X0_47 (x_o0 _ _) (x_now A) ?_
          refine e_getV (e_i _) dX0_beside_57 fl_X0_147 (x_aC A) rfl ?_
          refine e_iconst dX0_beside_60 ?_
          refine e_isub dX0_beside_61 ?_
          refine e_i2l dX0_beside_62 ⟨by omega, by omega⟩ ?_
          refine e_callS3rz dX0_beside_63 md_X0_in lk_X0_11 rfl q186 rfl (Nat.le_of_ble_eq_true rfl) (C_X0_in ⟨by omega, by omega⟩ ⟨by omega, by omega⟩ ⟨by omega, by omega⟩) ?_
          refine e_bif_eq (tgt := 99) dX0_beside_66 rfl (fun c5 => ?_) (fun c5 => ?_)
          · refine e_iconst dX0_beside_99 ?_
            refine e_ireturn dX0_beside_100 rfl rfl ?_
            refine e_rv ?_ rfl
            unfold t_bes
            generalize t_acr d = u at hacr ⊢
            generalize t_dwn d = v at hdwn ⊢
            first
              | (rw [if_neg (by omega)]; rfl)
              | (rw [if_pos (by omega)]; unfold x_sp; rw [if_neg (by omega)]; omega)
          · refine e_iload dX0_beside_69 rfl ?_
            refine e_i2l dX0_beside_71 ⟨by omega, by omega⟩ ?_
            refine e_lconst (z := 0) dX0_beside_72 rfl ?_
            refine e_aload_n dX0_beside_73 rfl ?_
            refine e_getV (.ref (α 0)) dX0_beside_74 fl_X0_47 (x_o0 _ _) (x_now A) ?_
            refine e_getV (e_i _) dX0_beside_77 fl_X0_150 (x_aC A) rfl ?_
            refine e_iconst dX0_beside_80 ?_
            refine e_isub dX0_beside_81 ?_
            refine e_i2l dX0_beside_82 ⟨by omega, by omega⟩ ?_
            refine e_callS3rz dX0_beside_83 md_X0_in lk_X0_11 rfl q186 rfl (Nat.le_of_ble_eq_true rfl) (C_X0_in ⟨by omega, by omega⟩ ⟨by omega, by omega⟩ ⟨by omega, by omega⟩) ?_
            refine e_bif_eq (tgt := 99) dX0_beside_86 rfl (fun c6 => ?_) (fun c6 => ?_)
            · refine e_iconst dX0_beside_99 ?_
              refine e_ireturn dX0_beside_100 rfl rfl ?_
              refine e_rv ?_ rfl
              unfold t_bes
              generalize t_acr d = u at hacr ⊢
              generalize t_dwn d = v at hdwn ⊢
              first
                | (rw [if_neg (by omega)]; rfl)
                | (rw [if_pos (by omega)]; unfold x_sp; rw [if_neg (by omega)]; omega)
            · refine e_bipush dX0_beside_89 rfl ?_
              refine e_iload_n dX0_beside_91 rfl ?_
              refine e_imul dX0_beside_92 ?_
              refine e_iload dX0_beside_93 rfl ?_
              refine e_iadd dX0_beside_95 ?_
              refine e_goto (tgt := 100) dX0_beside_96 rfl ?_
              refine e_ireturn dX0_beside_100 rfl rfl ?_
              refine e_rv ?_ rfl
              unfold t_bes
              generalize t_acr d = u at hacr ⊢
              generalize t_dwn d = v at hdwn ⊢
              first
                | (rw [if_neg (by omega)]; rfl)
                | (rw [if_pos (by omega)]; unfold x_sp; rw [if_neg (by omega)]; omega)
        · refine e_iconst dX0_beside_42 ?_
          refine e_goto (tgt := 47) dX0_beside_43 rfl ?_
          refine e_iadd dX0_beside_47 ?_
          refine e_istore4 dX0_beside_48 rfl ?_
          refine e_iload_n dX0_beside_50 rfl ?_
          refine e_i2l dX0_beside_51 ⟨by omega, by omega⟩ ?_
          refine e_lconst (z := 0) dX0_beside_52 rfl ?_
          refine e_aload_n dX0_beside_53 rfl ?_
          refine e_getV (.ref (α 0)) dX0_beside_54 fl_X0_47 (x_o0 _ _) (x_now A) ?_
          refine e_getV (e_i _) dX0_beside_57 fl_X0_147 (x_aC A) rfl ?_
          refine e_iconst dX0_beside_60 ?_
          refine e_isub dX0_beside_61 ?_
          refine e_i2l dX0_beside_62 ⟨by omega, by omega⟩ ?_
          refine e_callS3rz dX0_beside_63 md_X0_in lk_X0_11 rfl q186 rfl (Nat.le_of_ble_eq_true rfl) (C_X0_in ⟨by omega, by omega⟩ ⟨by omega, by omega⟩ ⟨by omega, by omega⟩) ?_
          refine e_bif_eq (tgt := 99) dX0_beside_66 rfl (fun c7 => ?_) (fun c7 => ?_)
          · refine e_iconst dX0_beside_99 ?_
            refine e_ireturn dX0_beside_100 rfl rfl ?_
            refine e_rv ?_ rfl
            unfold t_bes
            generalize t_acr d = u at hacr ⊢
            generalize t_dwn d = v at hdwn ⊢
            first
              | (rw [if_neg (by omega)]; rfl)
              | (rw [if_pos (by omega)]; unfold x_sp; rw [if_neg (by omega)]; omega)
          · refine e_iload dX0_beside_69 rfl ?_
            refine e_i2l dX0_beside_71 ⟨by omega, by omega⟩ ?_
            refine e_lconst (z := 0) dX0_beside_72 rfl ?_
            refine e_aload_n dX0_beside_73 rfl ?_
            refine e_getV (.ref (α 0)) dX0_beside_74 fl_X0_47 (x_o0 _ _) (x_now A) ?_
            refine e_getV (e_i _) dX0_beside_77 fl_X0_150 (x_aC A) rfl ?_
            refine e_iconst dX0_beside_80 ?_
            refine e_isub dX0_beside_81 ?_
            refine e_i2l dX0_beside_82 ⟨by omega, by omega⟩ ?_
            refine e_callS3rz dX0_beside_83 md_X0_in lk_X0_11 rfl q186 rfl (Nat.le_of_ble_eq_true rfl) (C_X0_in ⟨by omega, by omega⟩ ⟨by omega, by omega⟩ ⟨by omega, by omega⟩) ?_
            refine e_bif_eq (tgt := 99) dX0_beside_86 rfl (fun c8 => ?_) (fun c8 => ?_)
            · refine e_iconst dX0_beside_99 ?_
              refine e_ireturn dX0_beside_100 rfl rfl ?_
              refine e_rv ?_ rfl
              unfold t_bes
              generalize t_acr d = u at hacr ⊢
              generalize t_dwn d = v at hdwn ⊢
              first
                | (rw [if_neg (by omega)]; rfl)
                | (rw [if_pos (by omega)]; unfold x_sp; rw [if_neg (by omega)]; omega)
            · refine e_bipush dX0_beside_89 rfl ?_
              refine e_iload_n dX0_beside_91 rfl ?_
              refine e_imul dX0_beside_92 ?_
              refine e_iload dX0_beside_93 rfl ?_
              refine e_iadd dX0_beside_95 ?_
              refine e_goto (tgt := 100) dX0_beside_96 rfl ?_
              refine e_ireturn dX0_beside_100 rfl rfl ?_
              refine e_rv ?_ rfl
              unfold t_bes
              generalize t_acr d = u at hacr ⊢
              generalize t_dwn d = v at hdwn ⊢
              first
                | (rw [if_neg (by omega)]; rfl)
                | (rw [if_pos (by omega)]; unfold x_sp; rw [if_neg (by omega)]; omega)
      · refine e_iconst dX0_beside_34 ?_
        refine e_goto (tgt := 47) dX0_beside_35 rfl ?_
        refine e_iadd dX0_beside_47 ?_
        refine e_istore4 dX0_beside_48 rfl ?_
        refine e_iload_n dX0_beside_50 rfl ?_
        refine e_i2l dX0_beside_51 ⟨by omega, by omega⟩ ?_
        refine e_lconst (z := 0) dX0_beside_52 rfl ?_
        refine e_aload_n dX0_beside_53 rfl ?_
        refine e_getV (.ref (α 0)) dX0_beside_54 fl_X0_47 (x_o0 _ _) (x_now A) ?_
        refine e_getV (e_i _) dX0_beside_57 fl_X0_147 (x_aC A) rfl ?_
        refine e_iconst dX0_beside_60 ?_
        refine e_isub dX0_beside_61 ?_
        refine e_i2l dX0_beside_62 ⟨by omega, by omega⟩ ?_
        refine e_callS3rz dX0_beside_63 md_X0_in lk_X0_11 rfl q186 rfl (Nat.le_of_ble_eq_true rfl) (C_X0_in ⟨by omega, by omega⟩ ⟨by omega, by omega⟩ ⟨by omega, by omega⟩) ?_
        refine e_bif_eq (tgt := 99) dX0_beside_66 rfl (fun c9 => ?_) (fun c9 => ?_)
        · refine e_iconst dX0_beside_99 ?_
          refine e_ireturn dX0_beside_100 rfl rfl ?_
          refine e_rv ?_ rfl
          unfold t_bes
          generalize t_acr d = u at hacr ⊢
          generalize t_dwn d = v at hdwn ⊢
          first
            | (rw [if_neg (by omega)]; rfl)
            | (rw [if_pos (by omega)]; unfold x_sp; rw [if_neg (by omega)]; omega)
        · refine e_iload dX0_beside_69 rfl ?_
          refine e_i2l dX0_beside_71 ⟨by omega, by omega⟩ ?_
          refine e_lconst (z := 0) dX0_beside_72 rfl ?_
          refine e_aload_n dX0_beside_73 rfl ?_
          refine e_getV (.ref (α 0)) dX0_beside_74 fl_X0_47 (x_o0 _ _) (x_now A) ?_
          refine e_getV (e_i _) dX0_beside_77 fl_X0_150 (x_aC A) rfl ?_
          refine e_iconst dX0_beside_80 ?_
          refine e_isub dX0_beside_81 ?_
          refine e_i2l dX0_beside_82 ⟨by omega, by omega⟩ ?_
          refine e_callS3rz dX0_beside_83 md_X0_in lk_X0_11 rfl q186 rfl (Nat.le_of_ble_eq_true rfl) (C_X0_in ⟨by omega, by omega⟩ ⟨by omega, by omega⟩ ⟨by omega, by omega⟩) ?_
          refine e_bif_eq (tgt := 99) dX0_beside_86 rfl (fun c10 => ?_) (fun c10 => ?_)
          · refine e_iconst dX0_beside_99 ?_
            refine e_ireturn dX0_beside_100 rfl rfl ?_
            refine e_rv ?_ rfl
            unfold t_bes
            generalize t_acr d = u at hacr ⊢
            generalize t_dwn d = v at hdwn ⊢
            first
              | (rw [if_neg (by omega)]; rfl)
              | (rw [if_pos (by omega)]; unfold x_sp; rw [if_neg (by omega)]; omega)
          · refine e_bipush dX0_beside_89 rfl ?_
            refine e_iload_n dX0_beside_91 rfl ?_
            refine e_imul dX0_beside_92 ?_
            refine e_iload dX0_beside_93 rfl ?_
            refine e_iadd dX0_beside_95 ?_
            refine e_goto (tgt := 100) dX0_beside_96 rfl ?_
            refine e_ireturn dX0_beside_100 rfl rfl ?_
            refine e_rv ?_ rfl
            unfold t_bes
            generalize t_acr d = u at hacr ⊢
            generalize t_dwn d = v at hdwn ⊢
            first
              | (rw [if_neg (by omega)]; rfl)
              | (rw [if_pos (by omega)]; unfold x_sp; rw [if_neg (by omega)]; omega)
    · refine e_iconst dX0_beside_18 ?_
      refine e_goto (tgt := 23) dX0_beside_19 rfl ?_
      refine e_iadd dX0_beside_23 ?_
      refine e_istore_n3 dX0_beside_24 rfl ?_
      refine e_iload_n dX0_beside_25 rfl ?_
      refine e_bipush dX0_beside_26 rfl ?_
      refine e_irem dX0_beside_28 ⟨by omega, by omega⟩ ⟨by omega, by omega⟩ ?_
      refine e_iload_n dX0_beside_29 rfl ?_
      refine e_iconst dX0_beside_30 ?_
      refine e_icmp_ne (tgt := 38) dX0_beside_31 rfl ⟨by omega, by omega⟩ ⟨by omega, by omega⟩ (fun c11 => ?_) (fun c11 => ?_)
      · refine e_iload_n dX0_beside_38 rfl ?_
        refine e_if_ne (tgt := 46) dX0_beside_39 rfl ⟨by omega, by omega⟩ (fun c12 => ?_) (fun c12 => ?_)
        · refine e_iconst dX0_beside_46 ?_
          refine e_iadd dX0_beside_47 ?_
          refine e_istore4 dX0_beside_48 rfl ?_
          refine e_iload_n dX0_beside_50 rfl ?_
          refine e_i2l dX0_beside_51 ⟨by omega, by omega⟩ ?_
          refine e_lconst (z := 0) dX0_beside_52 rfl ?_
          refine e_aload_n dX0_beside_53 rfl ?_
          refine e_getV (.ref (α 0)) dX0_beside_54 fl_X0_47 (x_o0 _ _) (x_now A) ?_
          refine e_getV (e_i _) dX0_beside_57 fl_X0_147 (x_aC A) rfl ?_
          refine e_iconst dX0_beside_60 ?_
          refine e_isub dX0_beside_61 ?_
          refine e_i2l dX0_beside_62 ⟨by omega, by omega⟩ ?_
          refine e_callS3rz dX0_beside_63 md_X0_in lk_X0_11 rfl q186 rfl (Nat.le_of_ble_eq_true rfl) (C_X0_in ⟨by omega, by omega⟩ ⟨by omega, by omega⟩ ⟨by omega, by omega⟩) ?_
          refine e_bif_eq (tgt := 99) dX0_beside_66 rfl (fun c13 => ?_) (fun c13 => ?_)
          · refine e_iconst dX0_beside_99 ?_
            refine e_ireturn dX0_beside_100 rfl rfl ?_
            refine e_rv ?_ rfl
            unfold t_bes
            generalize t_acr d = u at hacr ⊢
            generalize t_dwn d = v at hdwn ⊢
            first
              | (rw [if_neg (by omega)]; rfl)
              | (rw [if_pos (by omega)]; unfold x_sp; rw [if_neg (by omega)]; omega)
          · refine e_iload dX0_beside_69 rfl ?_
            refine e_i2l dX0_beside_71 ⟨by omega, by omega⟩ ?_
            refine e_lconst (z := 0) dX0_beside_72 rfl ?_
            refine e_aload_n dX0_beside_73 rfl ?_
            refine e_getV (.ref (α 0)) dX0_beside_74 fl_X0_47 (x_o0 _ _) (x_now A) ?_
            refine e_getV (e_i _) dX0_beside_77 fl_X0_150 (x_aC A) rfl ?_
            refine e_iconst dX0_beside_80 ?_
            refine e_isub dX0_beside_81 ?_
            refine e_i2l dX0_beside_82 ⟨by omega, by omega⟩ ?_
            refine e_callS3rz dX0_beside_83 md_X0_in lk_X0_11 rfl q186 rfl (Nat.le_of_ble_eq_true rfl) (C_X0_in ⟨by omega, by omega⟩ ⟨by omega, by omega⟩ ⟨by omega, by omega⟩) ?_
            refine e_bif_eq (tgt := 99) dX0_beside_86 rfl (fun c14 => ?_) (fun c14 => ?_)
            · refine e_iconst dX0_beside_99 ?_
              refine e_ireturn dX0_beside_100 rfl rfl ?_
              refine e_rv ?_ rfl
              unfold t_bes
              generalize t_acr d = u at hacr ⊢
              generalize t_dwn d = v at hdwn ⊢
              first
                | (rw [if_neg (by omega)]; rfl)
                | (rw [if_pos (by omega)]; unfold x_sp; rw [if_neg (by omega)]; omega)
            · refine e_bipush dX0_beside_89 rfl ?_
              refine e_iload_n dX0_beside_91 rfl ?_
              refine e_imul dX0_beside_92 ?_
              refine e_iload dX0_beside_93 rfl ?_
              refine e_iadd dX0_beside_95 ?_
              refine e_goto (tgt := 100) dX0_beside_96 rfl ?_
              refine e_ireturn dX0_beside_100 rfl rfl ?_
              refine e_rv ?_ rfl
              unfold t_bes
              generalize t_acr d = u at hacr ⊢
              generalize t_dwn d = v at hdwn ⊢
              first
                | (rw [if_neg (by omega)]; rfl)
                | (rw [if_pos (by omega)]; unfold x_sp; rw [if_neg (by omega)]; omega)
        · refine e_iconst dX0_beside_42 ?_
          refine e_goto (tgt := 47) dX0_beside_43 rfl ?_
          refine e_iadd dX0_beside_47 ?_
          refine e_istore4 dX0_beside_48 rfl ?_
          refine e_iload_n dX0_beside_50 rfl ?_
          refine e_i2l dX0_beside_51 ⟨by omega, by omega⟩ ?_
          refine e_lconst (z := 0) dX0_beside_52 rfl ?_
          refine e_aload_n dX0_beside_53 rfl ?_
          refine e_getV (.ref (α 0)) dX0_beside_54 fl_X0_47 (x_o0 _ _) (x_now A) ?_
          refine e_getV (e_i _) dX0_beside_57 fl_X0_147 (x_aC A) rfl ?_
          refine e_iconst dX0_beside_60 ?_
          refine e_isub dX0_beside_61 ?_
          refine e_i2l dX0_beside_62 ⟨by omega, by omega⟩ ?_
          refine e_callS3rz dX0_beside_63 md_X0_in lk_X0_11 rfl q186 rfl (Nat.le_of_ble_eq_true rfl) (C_X0_in ⟨by omega, by omega⟩ ⟨by omega, by omega⟩ ⟨by omega, by omega⟩) ?_
          refine e_bif_eq (tgt := 99) dX0_beside_66 rfl (fun c15 => ?_) (fun c15 => ?_)
          · refine e_iconst dX0_beside_99 ?_
            refine e_ireturn dX0_beside_100 rfl rfl ?_
            refine e_rv ?_ rfl
            unfold t_bes
            generalize t_acr d = u at hacr ⊢
            generalize t_dwn d = v at hdwn ⊢
            first
              | (rw [if_neg (by omega)]; rfl)
              | (rw [if_pos (by omega)]; unfold x_sp; rw [if_neg (by omega)]; omega)
          · refine e_iload dX0_beside_69 rfl ?_
            refine e_i2l dX0_beside_71 ⟨by omega, by omega⟩ ?_
            refine e_lconst (z := 0) dX0_beside_72 rfl ?_
            refine e_aload_n dX0_beside_73 rfl ?_
            refine e_getV (.ref (α 0)) dX0_beside_74 fl_X0_47 (x_o0 _ _) (x_now A) ?_
            refine e_getV (e_i _) dX0_beside_77 fl_X0_150 (x_aC A) rfl ?_
            refine e_iconst dX0_beside_80 ?_
            refine e_isub dX0_beside_81 ?_
            refine e_i2l dX0_beside_82 ⟨by omega, by omega⟩ ?_
            refine e_callS3rz dX0_beside_83 md_X0_in lk_X0_11 rfl q186 rfl (Nat.le_of_ble_eq_true rfl) (C_X0_in ⟨by omega, by omega⟩ ⟨by omega, by omega⟩ ⟨by omega, by omega⟩) ?_
            refine e_bif_eq (tgt := 99) dX0_beside_86 rfl (fun c16 => ?_) (fun c16 => ?_)
            · refine e_iconst dX0_beside_99 ?_
              refine e_ireturn dX0_beside_100 rfl rfl ?_
              refine e_rv ?_ rfl
              unfold t_bes
              generalize t_acr d = u at hacr ⊢
              generalize t_dwn d = v at hdwn ⊢
              first
                | (rw [if_neg (by omega)]; rfl)
                | (rw [if_pos (by omega)]; unfold x_sp; rw [if_neg (by omega)]; omega)
            · refine e_bipush dX0_beside_89 rfl ?_
              refine e_iload_n dX0_beside_91 rfl ?_
              refine e_imul dX0_beside_92 ?_
              refine e_iload dX0_beside_93 rfl ?_
              refine e_iadd dX0_beside_95 ?_
              refine e_goto (tgt := 100) dX0_beside_96 rfl ?_
              refine e_ireturn dX0_beside_100 rfl rfl ?_
              refine e_rv ?_ rfl
              unfold t_bes
              generalize t_acr d = u at hacr ⊢
              generalize t_dwn d = v at hdwn ⊢
              first
                | (rw [if_neg (by omega)]; rfl)
                | (rw [if_pos (by omega)]; unfold x_sp; rw [if_neg (by omega)]; omega)
      · refine e_iconst dX0_beside_34 ?_
        refine e_goto (tgt := 47) dX0_beside_35 rfl ?_
        refine e_iadd dX0_beside_47 ?_
        refine e_istore4 dX0_beside_48 rfl ?_
        refine e_iload_n dX0_beside_50 rfl ?_
        refine e_i2l dX0_beside_51 ⟨by omega, by omega⟩ ?_
        refine e_lconst (z := 0) dX0_beside_52 rfl ?_
        refine e_aload_n dX0_beside_53 rfl ?_
        refine e_getV (.ref (α 0)) dX0_beside_54 fl_X0_47 (x_o0 _ _) (x_now A) ?_
        refine e_getV (e_i _) dX0_beside_57 fl_X0_147 (x_aC A) rfl ?_
        refine e_iconst dX0_beside_60 ?_
        refine e_isub dX0_beside_61 ?_
        refine e_i2l dX0_beside_62 ⟨by omega, by omega⟩ ?_
        refine e_callS3rz dX0_beside_63 md_X0_in lk_X0_11 rfl q186 rfl (Nat.le_of_ble_eq_true rfl) (C_X0_in ⟨by omega, by omega⟩ ⟨by omega, by omega⟩ ⟨by omega, by omega⟩) ?_
        refine e_bif_eq (tgt := 99) dX0_beside_66 rfl (fun c17 => ?_) (fun c17 => ?_)
        · refine e_iconst dX0_beside_99 ?_
          refine e_ireturn dX0_beside_100 rfl rfl ?_
          refine e_rv ?_ rfl
          unfold t_bes
          generalize t_acr d = u at hacr ⊢
          generalize t_dwn d = v at hdwn ⊢
          first
            | (rw [if_neg (by omega)]; rfl)
            | (rw [if_pos (by omega)]; unfold x_sp; rw [if_neg (by omega)]; omega)
        · refine e_iload dX0_beside_69 rfl ?_
          refine e_i2l dX0_beside_71 ⟨by omega, by omega⟩ ?_
          refine e_lconst (z := 0) dX0_beside_72 rfl ?_
          refine e_aload_n dX0_beside_73 rfl ?_
          refine e_getV (.ref (α 0)) dX0_beside_74 fl_X0_47 (x_o0 _ _) (x_now A) ?_
          refine e_getV (e_i _) dX0_beside_77 fl_X0_150 (x_aC A) rfl ?_
          refine e_iconst dX0_beside_80 ?_
          refine e_isub dX0_beside_81 ?_
          refine e_i2l dX0_beside_82 ⟨by omega, by omega⟩ ?_
          refine e_callS3rz dX0_beside_83 md_X0_in lk_X0_11 rfl q186 rfl (Nat.le_of_ble_eq_true rfl) (C_X0_in ⟨by omega, by omega⟩ ⟨by omega, by omega⟩ ⟨by omega, by omega⟩) ?_
          refine e_bif_eq (tgt := 99) dX0_beside_86 rfl (fun c18 => ?_) (fun c18 => ?_)
          · refine e_iconst dX0_beside_99 ?_
            refine e_ireturn dX0_beside_100 rfl rfl ?_
            refine e_rv ?_ rfl
            unfold t_bes
            generalize t_acr d = u at hacr ⊢
            generalize t_dwn d = v at hdwn ⊢
            first
              | (rw [if_neg (by omega)]; rfl)
              | (rw [if_pos (by omega)]; unfold x_sp; rw [if_neg (by omega)]; omega)
          · refine e_bipush dX0_beside_89 rfl ?_
            refine e_iload_n dX0_beside_91 rfl ?_
            refine e_imul dX0_beside_92 ?_
            refine e_iload dX0_beside_93 rfl ?_
            refine e_iadd dX0_beside_95 ?_
            refine e_goto (tgt := 100) dX0_beside_96 rfl ?_
            refine e_ireturn dX0_beside_100 rfl rfl ?_
            refine e_rv ?_ rfl
            unfold t_bes
            generalize t_acr d = u at hacr ⊢
            generalize t_dwn d = v at hdwn ⊢
            first
              | (rw [if_neg (by omega)]; rfl)
              | (rw [if_pos (by omega)]; unfold x_sp; rw [if_neg (by omega)]; omega)
  · refine e_iconst dX0_beside_9 ?_
    refine e_goto (tgt := 23) dX0_beside_10 rfl ?_
    refine e_iadd dX0_beside_23 ?_
    refine e_istore_n3 dX0_beside_24 rfl ?_
    refine e_iload_n dX0_beside_25 rfl ?_
    refine e_bipush dX0_beside_26 rfl ?_
    refine e_irem dX0_beside_28 ⟨by omega, by omega⟩ ⟨by omega, by omega⟩ ?_
    refine e_iload_n dX0_beside_29 rfl ?_
    refine e_iconst dX0_beside_30 ?_
    refine e_icmp_ne (tgt := 38) dX0_beside_31 rfl ⟨by omega, by omega⟩ ⟨by omega, by omega⟩ (fun c19 => ?_) (fun c19 => ?_)
    · refine e_iload_n dX0_beside_38 rfl ?_
      refine e_if_ne (tgt := 46) dX0_beside_39 rfl ⟨by omega, by omega⟩ (fun c20 => ?_) (fun c20 => ?_)
      · refine e_iconst dX0_beside_46 ?_
        refine e_iadd dX0_beside_47 ?_
        refine e_istore4 dX0_beside_48 rfl ?_
        refine e_iload_n dX0_beside_50 rfl ?_
        refine e_i2l dX0_beside_51 ⟨by omega, by omega⟩ ?_
        refine e_lconst (z := 0) dX0_beside_52 rfl ?_
        refine e_aload_n dX0_beside_53 rfl ?_
        refine e_getV (.ref (α 0)) dX0_beside_54 fl_X0_47 (x_o0 _ _) (x_now A) ?_
        refine e_getV (e_i _) dX0_beside_57 fl_X0_147 (x_aC A) rfl ?_
        refine e_iconst dX0_beside_60 ?_
        refine e_isub dX0_beside_61 ?_
        refine e_i2l dX0_beside_62 ⟨by omega, by omega⟩ ?_
        refine e_callS3rz dX0_beside_63 md_X0_in lk_X0_11 rfl q186 rfl (Nat.le_of_ble_eq_true rfl) (C_X0_in ⟨by omega, by omega⟩ ⟨by omega, by omega⟩ ⟨by omega, by omega⟩) ?_
        refine e_bif_eq (tgt := 99) dX0_beside_66 rfl (fun c21 => ?_) (fun c21 => ?_)
        · refine e_iconst dX0_beside_99 ?_
          refine e_ireturn dX0_beside_100 rfl rfl ?_
          refine e_rv ?_ rfl
          unfold t_bes
          generalize t_acr d = u at hacr ⊢
          generalize t_dwn d = v at hdwn ⊢
          first
            | (rw [if_neg (by omega)]; rfl)
            | (rw [if_pos (by omega)]; unfold x_sp; rw [if_neg (by omega)]; omega)
        · refine e_iload dX0_beside_69 rfl ?_
          refine e_i2l dX0_beside_71 ⟨by omega, by omega⟩ ?_
          refine e_lconst (z := 0) dX0_beside_72 rfl ?_
          refine e_aload_n dX0_beside_73 rfl ?_
          refine e_getV (.ref (α 0)) dX0_beside_74 fl_X0_47 (x_o0 _ _) (x_now A) ?_
          refine e_getV (e_i _) dX0_beside_77 fl_X0_150 (x_aC A) rfl ?_
          refine e_iconst dX0_beside_80 ?_
          refine e_isub dX0_beside_81 ?_
          refine e_i2l dX0_beside_82 ⟨by omega, by omega⟩ ?_
          refine e_callS3rz dX0_beside_83 md_X0_in lk_X0_11 rfl q186 rfl (Nat.le_of_ble_eq_true rfl) (C_X0_in ⟨by omega, by omega⟩ ⟨by omega, by omega⟩ ⟨by omega, by omega⟩) ?_
          refine e_bif_eq (tgt := 99) dX0_beside_86 rfl (fun c22 => ?_) (fun c22 => ?_)
          · refine e_iconst dX0_beside_99 ?_
            refine e_ireturn dX0_beside_100 rfl rfl ?_
            refine e_rv ?_ rfl
            unfold t_bes
            generalize t_acr d = u at hacr ⊢
            generalize t_dwn d = v at hdwn ⊢
            first
              | (rw [if_neg (by omega)]; rfl)
              | (rw [if_pos (by omega)]; unfold x_sp; rw [if_neg (by omega)]; omega)
          · refine e_bipush dX0_beside_89 rfl ?_
            refine e_iload_n dX0_beside_91 rfl ?_
            refine e_imul dX0_beside_92 ?_
            refine e_iload dX0_beside_93 rfl ?_
            refine e_iadd dX0_beside_95 ?_
            refine e_goto (tgt := 100) dX0_beside_96 rfl ?_
            refine e_ireturn dX0_beside_100 rfl rfl ?_
            refine e_rv ?_ rfl
            unfold t_bes
            generalize t_acr d = u at hacr ⊢
            generalize t_dwn d = v at hdwn ⊢
            first
              | (rw [if_neg (by omega)]; rfl)
              | (rw [if_pos (by omega)]; unfold x_sp; rw [if_neg (by omega)]; omega)
      · refine e_iconst dX0_beside_42 ?_
        refine e_goto (tgt := 47) dX0_beside_43 rfl ?_
        refine e_iadd dX0_beside_47 ?_
        refine e_istore4 dX0_beside_48 rfl ?_
        refine e_iload_n dX0_beside_50 rfl ?_
        refine e_i2l dX0_beside_51 ⟨by omega, by omega⟩ ?_
        refine e_lconst (z := 0) dX0_beside_52 rfl ?_
        refine e_aload_n dX0_beside_53 rfl ?_
        refine e_getV (.ref (α 0)) dX0_beside_54 fl_X0_47 (x_o0 _ _) (x_now A) ?_
        refine e_getV (e_i _) dX0_beside_57 fl_X0_147 (x_aC A) rfl ?_
        refine e_iconst dX0_beside_60 ?_
        refine e_isub dX0_beside_61 ?_
        refine e_i2l dX0_beside_62 ⟨by omega, by omega⟩ ?_
        refine e_callS3rz dX0_beside_63 md_X0_in lk_X0_11 rfl q186 rfl (Nat.le_of_ble_eq_true rfl) (C_X0_in ⟨by omega, by omega⟩ ⟨by omega, by omega⟩ ⟨by omega, by omega⟩) ?_
        refine e_bif_eq (tgt := 99) dX0_beside_66 rfl (fun c23 => ?_) (fun c23 => ?_)
        · refine e_iconst dX0_beside_99 ?_
          refine e_ireturn dX0_beside_100 rfl rfl ?_
          refine e_rv ?_ rfl
          unfold t_bes
          generalize t_acr d = u at hacr ⊢
          generalize t_dwn d = v at hdwn ⊢
          first
            | (rw [if_neg (by omega)]; rfl)
            | (rw [if_pos (by omega)]; unfold x_sp; rw [if_neg (by omega)]; omega)
        · refine e_iload dX0_beside_69 rfl ?_
          refine e_i2l dX0_beside_71 ⟨by omega, by omega⟩ ?_
          refine e_lconst (z := 0) dX0_beside_72 rfl ?_
          refine e_aload_n dX0_beside_73 rfl ?_
          refine e_getV (.ref (α 0)) dX0_beside_74 fl_X0_47 (x_o0 _ _) (x_now A) ?_
          refine e_getV (e_i _) dX0_beside_77 fl_X0_150 (x_aC A) rfl ?_
          refine e_iconst dX0_beside_80 ?_
          refine e_isub dX0_beside_81 ?_
          refine e_i2l dX0_beside_82 ⟨by omega, by omega⟩ ?_
          refine e_callS3rz dX0_beside_83 md_X0_in lk_X0_11 rfl q186 rfl (Nat.le_of_ble_eq_true rfl) (C_X0_in ⟨by omega, by omega⟩ ⟨by omega, by omega⟩ ⟨by omega, by omega⟩) ?_
          refine e_bif_eq (tgt := 99) dX0_beside_86 rfl (fun c24 => ?_) (fun c24 => ?_)
          · refine e_iconst dX0_beside_99 ?_
            refine e_ireturn dX0_beside_100 rfl rfl ?_
            refine e_rv ?_ rfl
            unfold t_bes
            generalize t_acr d = u at hacr ⊢
            generalize t_dwn d = v at hdwn ⊢
            first
              | (rw [if_neg (by omega)]; rfl)
              | (rw [if_pos (by omega)]; unfold x_sp; rw [if_neg (by omega)]; omega)
          · refine e_bipush dX0_beside_89 rfl ?_
            refine e_iload_n dX0_beside_91 rfl ?_
            refine e_imul dX0_beside_92 ?_
            refine e_iload dX0_beside_93 rfl ?_
            refine e_iadd dX0_beside_95 ?_
            refine e_goto (tgt := 100) dX0_beside_96 rfl ?_
            refine e_ireturn dX0_beside_100 rfl rfl ?_
            refine e_rv ?_ rfl
            unfold t_bes
            generalize t_acr d = u at hacr ⊢
            generalize t_dwn d = v at hdwn ⊢
            first
              | (rw [if_neg (by omega)]; rfl)
              | (rw [if_pos (by omega)]; unfold x_sp; rw [if_neg (by omega)]; omega)
    · refine e_iconst dX0_beside_34 ?_
      refine e_goto (tgt := 47) dX0_beside_35 rfl ?_
      refine e_iadd dX0_beside_47 ?_
      refine e_istore4 dX0_beside_48 rfl ?_
      refine e_iload_n dX0_beside_50 rfl ?_
      refine e_i2l dX0_beside_51 ⟨by omega, by omega⟩ ?_
      refine e_lconst (z := 0) dX0_beside_52 rfl ?_
      refine e_aload_n dX0_beside_53 rfl ?_
      refine e_getV (.ref (α 0)) dX0_beside_54 fl_X0_47 (x_o0 _ _) (x_now A) ?_
      refine e_getV (e_i _) dX0_beside_57 fl_X0_147 (x_aC A) rfl ?_
      refine e_iconst dX0_beside_60 ?_
      refine e_isub dX0_beside_61 ?_
      refine e_i2l dX0_beside_62 ⟨by omega, by omega⟩ ?_
      refine e_callS3rz dX0_beside_63 md_X0_in lk_X0_11 rfl q186 rfl (Nat.le_of_ble_eq_true rfl) (C_X0_in ⟨by omega, by omega⟩ ⟨by omega, by omega⟩ ⟨by omega, by omega⟩) ?_
      refine e_bif_eq (tgt := 99) dX0_beside_66 rfl (fun c25 => ?_) (fun c25 => ?_)
      · refine e_iconst dX0_beside_99 ?_
        refine e_ireturn dX0_beside_100 rfl rfl ?_
        refine e_rv ?_ rfl
        unfold t_bes
        generalize t_acr d = u at hacr ⊢
        generalize t_dwn d = v at hdwn ⊢
        first
          | (rw [if_neg (by omega)]; rfl)
          | (rw [if_pos (by omega)]; unfold x_sp; rw [if_neg (by omega)]; omega)
      · refine e_iload dX0_beside_69 rfl ?_
        refine e_i2l dX0_beside_71 ⟨by omega, by omega⟩ ?_
        refine e_lconst (z := 0) dX0_beside_72 rfl ?_
        refine e_aload_n dX0_beside_73 rfl ?_
        refine e_getV (.ref (α 0)) dX0_beside_74 fl_X0_47 (x_o0 _ _) (x_now A) ?_
        refine e_getV (e_i _) dX0_beside_77 fl_X0_150 (x_aC A) rfl ?_
        refine e_iconst dX0_beside_80 ?_
        refine e_isub dX0_beside_81 ?_
        refine e_i2l dX0_beside_82 ⟨by omega, by omega⟩ ?_
        refine e_callS3rz dX0_beside_83 md_X0_in lk_X0_11 rfl q186 rfl (Nat.le_of_ble_eq_true rfl) (C_X0_in ⟨by omega, by omega⟩ ⟨by omega, by omega⟩ ⟨by omega, by omega⟩) ?_
        refine e_bif_eq (tgt := 99) dX0_beside_86 rfl (fun c26 => ?_) (fun c26 => ?_)
        · refine e_iconst dX0_beside_99 ?_
          refine e_ireturn dX0_beside_100 rfl rfl ?_
          refine e_rv ?_ rfl
          unfold t_bes
          generalize t_acr d = u at hacr ⊢
          generalize t_dwn d = v at hdwn ⊢
          first
            | (rw [if_neg (by omega)]; rfl)
            | (rw [if_pos (by omega)]; unfold x_sp; rw [if_neg (by omega)]; omega)
        · refine e_bipush dX0_beside_89 rfl ?_
          refine e_iload_n dX0_beside_91 rfl ?_
          refine e_imul dX0_beside_92 ?_
          refine e_iload dX0_beside_93 rfl ?_
          refine e_iadd dX0_beside_95 ?_
          refine e_goto (tgt := 100) dX0_beside_96 rfl ?_
          refine e_ireturn dX0_beside_100 rfl rfl ?_
          refine e_rv ?_ rfl
          unfold t_bes
          generalize t_acr d = u at hacr ⊢
          generalize t_dwn d = v at hdwn ⊢
          first
            | (rw [if_neg (by omega)]; rfl)
            | (rw [if_pos (by omega)]; unfold x_sp; rw [if_neg (by omega)]; omega)
