/-! THE COMPONENT: creeks, as it is (printed by tx3.py) -/
set_option maxRecDepth 100000
theorem C_X0_creeksNow {σ χ : t_S} {h0 : e_A} {α : Nat → Nat} (A : x_at χ h0 (σ 1) α) (hz : t_sz σ) (hr : t_okR (σ 1)) : e_C mX0_creeksNow [.ref 350] (x_H χ h0) 2 8 2 (x_P (e_j (x_bs (t_is σ 15))) χ h0) := by
  have s5 := hz.2.2.2.1
  have s7 := hz.2.2.2.2.2.1
  have s8 := hz.2.2.2.2.2.2.1
  have h4 := A.2.2.2
  obtain ⟨mc, o1⟩ := x_ok1 A
  refine e_enter (al0 := [.ref 350, .retAddr 0, .retAddr 0, .retAddr 0, .retAddr 0]) (by decide +kernel) rfl (Nat.le_of_ble_eq_true rfl) ?_
  refine e_lconst (z := 0) dX0_creeksNow_0 rfl ?_
  refine e_lstore_n1 dX0_creeksNow_1 rfl ?_
  refine e_aload_n dX0_creeksNow_2 rfl ?_
  refine e_getV (.ref (α 0)) dX0_creeksNow_3 fl_X0_47 (x_o0 _ _) (x_now A) ?_
  refine e_getV (.ref (α 1)) dX0_creeksNow_6 fl_X0_155 (x_aC A) rfl ?_
  refine e_bud (kc1 := 1 + 1) (ks1 := 4 + 4) (by decide) (by decide) ?_
  refine e_callF0r (M1 := mJ2_iterator) (kc := 1) (ks := 4) (mc := 1) (ms := 4) (ci := 11) dX0_creeksNow_9 md_J2_iterator if_X0_158 rfl (x_ok_H o1).1 (by decide) rfl (Nat.le_of_ble_eq_true rfl) (C_J2_iterator (x_ok_H o1) (x_ok_b o1).1 (x_ok_b o1).2.1 (x_ok_b o1).2.2) ?_
  rw [x_push (by omega), x_m1]
  show e_E _ _ _ (.ref h0.2 :: _) _ _ _ _ _
  refine e_astore_n3 dX0_creeksNow_14 rfl ?_
  rw [x_is2_00 σ]
  refine e_for (n := σ 1 5) (fun k => e_E mX0_creeksNow 15 [.ref 350, e_j (x_bs (t_it t_is2f k.toNat (t_is1 σ) 15)), .retAddr 0, .ref h0.2, .retAddr 0] [] (x_H χ (e_push h0 (12, 4, x_iF k (k - 1) mc (α 1)))) 1 4 2 (x_P (e_j (x_bs (t_is σ 15))) χ h0)) (by omega) ?_ (fun k hk0 hk1 hF => ?_)
  · obtain ⟨h1, he1⟩ : ∃ h1, e_push h0 (12, 4, x_iF (σ 1 5) (σ 1 5 - 1) mc (α 1)) = h1 := ⟨_, rfl⟩
    have x1 : e_ext h0 h1 := by rw [← he1]; exact e_ext_push _ _
    have A1 := x_at_ext x1 A
    have h5 := A1.2.2.2
    obtain ⟨m7, o7⟩ := x_ok7 A1
    refine e_aload_n dX0_creeksNow_15 rfl ?_
    refine e_callF0rz (ci := 12) dX0_creeksNow_16 md_J15_hasNext if_X0_162 rfl (x_it_at h4) (by decide) rfl (Nat.le_of_ble_eq_true rfl) (C_J15_hasNext (x_it_at h4) (x_ok_it o1) ⟨by omega, by omega⟩ ⟨by omega, by omega⟩) ?_
    refine e_bif_eq (tgt := 48) dX0_creeksNow_21 rfl (fun c1 => ?_) (fun q => by exfalso; omega)
    rw [he1]
    have A := A1
    refine e_aload_n dX0_creeksNow_48 rfl ?_
    refine e_getV (.ref (α 0)) dX0_creeksNow_49 fl_X0_47 (x_o0 _ _) (x_now A) ?_
    refine e_getV (.ref (α 7)) dX0_creeksNow_52 fl_X0_174 (x_aC A) rfl ?_
    refine e_bud (kc1 := 0 + 1) (ks1 := 0 + 4) (by decide) (by decide) ?_
    refine e_callF0r (M1 := mJ2_iterator) (kc := 0) (ks := 0) (mc := 1) (ms := 4) (ci := 11) dX0_creeksNow_55 md_J2_iterator if_X0_158 rfl (x_ok_H o7).1 (by decide) rfl (Nat.le_of_ble_eq_true rfl) (C_J2_iterator (x_ok_H o7) (x_ok_b o7).1 (x_ok_b o7).2.1 (x_ok_b o7).2.2) ?_
    rw [x_push (by omega), x_m1]
    show e_E _ _ _ (.ref h1.2 :: _) _ _ _ _ _
    refine e_astore_n3 dX0_creeksNow_60 rfl ?_
    rw [x_is3_00]
    refine e_for (n := σ 1 8) (fun k => e_E mX0_creeksNow 61 [.ref 350, e_j (x_bs (t_it t_is3f k.toNat (t_is2 σ) 15)), .retAddr 0, .ref h1.2, .retAddr 0] [] (x_H χ (e_push h1 (12, 4, x_iF k (k - 1) m7 (α 7)))) 0 0 2 (x_P (e_j (x_bs (t_is σ 15))) χ h0)) (by omega) ?_ (fun k hk0 hk1 hF => ?_)
    · refine e_aload_n dX0_creeksNow_61 rfl ?_
      refine e_callF0rz (ci := 12) dX0_creeksNow_62 md_J15_hasNext if_X0_162 rfl (x_it_at h5) (by decide) rfl (Nat.le_of_ble_eq_true rfl) (C_J15_hasNext (x_it_at h5) (x_ok_it o7) ⟨by omega, by omega⟩ ⟨by omega, by omega⟩) ?_
      refine e_bif_eq (tgt := 106) dX0_creeksNow_67 rfl (fun c2 => ?_) (fun q => by exfalso; omega)
      refine e_lload_n dX0_creeksNow_106 rfl ?_
      refine e_lreturn dX0_creeksNow_107 rfl ?_
      exact x_p (by rw [x_is_15]; rfl) (e_ext_tr x1 (e_ext_push _ _)) rfl
    · refine e_aload_n dX0_creeksNow_61 rfl ?_
      refine e_callF0rz (ci := 12) dX0_creeksNow_62 md_J15_hasNext if_X0_162 rfl (x_it_at h5) (by decide) rfl (Nat.le_of_ble_eq_true rfl) (C_J15_hasNext (x_it_at h5) (x_ok_it o7) ⟨by omega, by omega⟩ ⟨by omega, by omega⟩) ?_
      refine e_bif_eq (tgt := 106) dX0_creeksNow_67 rfl (fun q => by exfalso; omega) (fun c3 => ?_)
      refine e_aload_n dX0_creeksNow_70 rfl ?_
      refine e_callF0rz (ci := 12) dX0_creeksNow_71 md_J15_next if_X0_167 rfl (x_it_at h5) (by decide) rfl (Nat.le_of_ble_eq_true rfl) (C_J15_next (x_it_at h5) (x_ok_it o7) ⟨hk0, hk1⟩ (x_it_ne o7)) ?_
      rw [x_it_set h5]
      have A2 := x_at_ext (e_ext_push h1 (12, 4, x_iF (k + 1) k m7 (α 7))) A1
      refine e_castS (ci := 10) dX0_creeksNow_76 (x_aD A2 hk0 hk1) (by decide) q1110 ?_
      refine e_astore4 dX0_creeksNow_79 rfl ?_
      refine e_aload dX0_creeksNow_81 rfl ?_
      refine e_getV (e_i (if σ 1 (119 + k) < 1000 then 1 else 0)) dX0_creeksNow_83 fl_X0_179 (x_aD A2 hk0 hk1) rfl ?_
      refine e_bif_eq (tgt := 103) dX0_creeksNow_86 rfl (fun c4 => ?_) (fun c4 => ?_)
      · refine e_goto (tgt := 61) dX0_creeksNow_103 rfl ?_
        refine e_fgt 4 ?_
        rw [show k + 1 - 1 = k by omega] at hF
        first
          | (rw [x_is3_b hk0 hc8 (by assumption)]; exact hF)
          | (rw [← x_is3_n hk0 (by assumption)] at hF; exact hF)
      · have hc8 := x_okc hz (c := σ 1 (119 + k)) (by rcases hr.2.2.2.1 k hk0 hk1 with q | q; exact q; omega)
        have hsp := x_sp_rg hc8
        have hbr := x_bs_rg (t_it t_is3f k.toNat (t_is2 σ) 15)
        refine e_lload_n dX0_creeksNow_89 rfl ?_
        refine e_lconst (z := 1) dX0_creeksNow_90 rfl ?_
        refine e_aload dX0_creeksNow_91 rfl ?_
        refine e_getV (e_i (if σ 1 (119 + k) < 1000 then x_sp (σ 1 (119 + k)) else σ 1 (119 + k) - 1000)) dX0_creeksNow_93 fl_X0_183 (x_aD A2 hk0 hk1) rfl ?_
        rw [if_pos (by assumption)]
        refine e_lshl dX0_creeksNow_96 ((e_lshl_law 1 ⟨by omega, by omega⟩).trans (by rw [Int.one_mul])) ?_
        refine e_ldc2 (z := -1) dX0_creeksNow_97 q1111 rfl ?_
        refine e_lxor dX0_creeksNow_100 (e_lnot_law _) ?_
        refine e_land dX0_creeksNow_101 (e_landn_law hbr.1 (Int.le_of_lt (Int.pow_pos (by decide)))) ?_
        refine e_lstore_n1 dX0_creeksNow_102 rfl ?_
        refine e_goto (tgt := 61) dX0_creeksNow_103 rfl ?_
        refine e_fgt 4 ?_
        rw [show k + 1 - 1 = k by omega] at hF
        first
          | (rw [x_is3_b hk0 hc8 (by assumption)]; exact hF)
          | (rw [← x_is3_n hk0 (by assumption)] at hF; exact hF)
  · have hc8 := x_okc hz (hr.1 k hk0 hk1)
    have hsp := x_sp_rg hc8
    have hbr := x_bs_rg (t_it t_is2f k.toNat (t_is1 σ) 15)
    refine e_aload_n dX0_creeksNow_15 rfl ?_
    refine e_callF0rz (ci := 12) dX0_creeksNow_16 md_J15_hasNext if_X0_162 rfl (x_it_at h4) (by decide) rfl (Nat.le_of_ble_eq_true rfl) (C_J15_hasNext (x_it_at h4) (x_ok_it o1) ⟨by omega, by omega⟩ ⟨by omega, by omega⟩) ?_
    refine e_bif_eq (tgt := 48) dX0_creeksNow_21 rfl (fun q => by exfalso; omega) (fun c5 => ?_)
    refine e_aload_n dX0_creeksNow_24 rfl ?_
    refine e_callF0rz (ci := 12) dX0_creeksNow_25 md_J15_next if_X0_167 rfl (x_it_at h4) (by decide) rfl (Nat.le_of_ble_eq_true rfl) (C_J15_next (x_it_at h4) (x_ok_it o1) ⟨hk0, hk1⟩ (x_it_ne o1)) ?_
    rw [x_it_set h4]
    have hig : (x_H χ (e_push h0 (12, 4, x_iF (k + 1) k mc (α 1)))).1 (x_ig (σ 1 (10 + k))) = (13, 1, fun _ => e_i (x_sp (σ 1 (10 + k)))) := x_ig_at A.2.2.1 hc8
    refine e_castS (ci := 13) dX0_creeksNow_30 hig (by decide) q1108 ?_
    refine e_callV0rz (ci := 13) dX0_creeksNow_33 md_J12_intValue lk_X0_171 rfl q901 q902 hig (by decide) rfl (Nat.le_of_ble_eq_true rfl) (C_J12_intValue hig) ?_
    refine e_istore4 dX0_creeksNow_36 rfl ?_
    refine e_lload_n dX0_creeksNow_38 rfl ?_
    refine e_lconst (z := 1) dX0_creeksNow_39 rfl ?_
    refine e_iload dX0_creeksNow_40 rfl ?_
    refine e_lshl dX0_creeksNow_42 ((e_lshl_law 1 ⟨by omega, by omega⟩).trans (by rw [Int.one_mul])) ?_
    refine e_lor dX0_creeksNow_43 (e_lor_law hbr.1 (Int.le_of_lt (Int.pow_pos (by decide)))) ?_
    refine e_lstore_n1 dX0_creeksNow_44 rfl ?_
    refine e_goto (tgt := 15) dX0_creeksNow_45 rfl ?_
    refine e_fgt 4 ?_
    rw [x_is2_s hk0 hc8]
    rw [show k + 1 - 1 = k by omega] at hF
    exact hF
theorem C_X3_is {σ χ : t_S} {h0 : e_A} {α : Nat → Nat} (A : x_at χ h0 (σ 1) α) (hz : t_sz σ) (hr : t_okR (σ 1)) : e_C mX3_is [.ref 366] (x_H χ h0) 3 12 4 (x_PQ σ χ h0) := by
  have s5 := hz.2.2.2.1
  have s7 := hz.2.2.2.2.2.1
  have s8 := hz.2.2.2.2.2.2.1
  have h4 := A.2.2.2
  have A0 := A
  refine e_enter (al0 := [.ref 366, .retAddr 0, .retAddr 0]) (by decide +kernel) rfl (Nat.le_of_ble_eq_true rfl) ?_
  refine e_aload_n dX3_is_0 rfl ?_
  refine e_aload_n dX3_is_1 rfl ?_
  refine e_getV (.ref 350) dX3_is_2 fl_X3_3 (x_o3 _ _) rfl ?_
  refine e_getV (.ref (α 0)) dX3_is_5 fl_X3_53 (x_o0 _ _) (x_now A) ?_
  refine e_getV (e_i _) dX3_is_8 fl_X3_57 (x_aC A) rfl ?_
  refine x_put_26 dX3_is_11 fl_X3_63 ?_
  refine e_aload_n dX3_is_14 rfl ?_
  refine e_iconst dX3_is_15 ?_
  refine x_put_27 dX3_is_16 fl_X3_64 ?_
  have A : x_at (s_up (s_up χ 26 0 (σ 1 1)) 27 0 0) h0 (σ 1) α := x_at_up (congrFun ((s_up_f (by decide)).trans (s_up_f (by decide))) 0) A0
  refine e_aload_n dX3_is_19 rfl ?_
  refine e_aload_n dX3_is_20 rfl ?_
  refine e_getV (.ref 350) dX3_is_21 fl_X3_3 (x_o3 _ _) rfl ?_
  refine e_bud (kc1 := 1 + 2) (ks1 := 4 + 8) (by decide) (by decide) ?_
  refine e_callV0 (M1 := mX0_creeksNow) (kc := 1) (ks := 4) (mc := 2) (ms := 8) (ci := 0) dX3_is_24 lk_X3_67 md_X0_creeksNow rfl q1055 qs22 (x_o0 _ _) (by decide) rfl (Nat.le_of_ble_eq_true rfl) (C_X0_creeksNow A hz hr) (fun a hh q => ?_) (fun i hh q => by cases q.1)
  obtain ⟨q1, h1, heh1, rfl⟩ := q
  cases q1
  show e_E _ _ _ (_ :: _) _ _ _ _ _
  refine x_put_22 dX3_is_27 fl_X3_71 ?_
  obtain ⟨χ1, hχ1⟩ : ∃ χ1, s_up (s_up (s_up χ 26 0 (σ 1 1)) 27 0 0) 22 0 (x_bs (t_is σ 15)) = χ1 := ⟨_, rfl⟩
  have Ra := x_Ra0 χ hz
  rw [hχ1] at Ra ⊢
  have A1 := x_at_ext heh1 A0
  have A := x_at_up (congrFun (Ra.1 1 (by decide)) 0) A1
  have h5 := A.2.2.2
  obtain ⟨m7, o7⟩ := x_ok7 A
  refine e_aload_n dX3_is_30 rfl ?_
  refine e_getV (.ref 350) dX3_is_31 fl_X3_3 (x_o3 _ _) rfl ?_
  refine e_getV (.ref (α 0)) dX3_is_34 fl_X3_53 (x_o0 _ _) (x_now A) ?_
  refine e_getV (.ref (α 7)) dX3_is_37 fl_X3_75 (x_aC A) rfl ?_
  refine e_bud (kc1 := 0 + 1) (ks1 := 0 + 4) (by decide) (by decide) ?_
  refine e_callF0r (M1 := mJ2_iterator) (kc := 0) (ks := 0) (mc := 1) (ms := 4) (ci := 11) dX3_is_40 md_J2_iterator if_X3_79 rfl (x_ok_H o7).1 (by decide) rfl (Nat.le_of_ble_eq_true rfl) (C_J2_iterator (x_ok_H o7) (x_ok_b o7).1 (x_ok_b o7).2.1 (x_ok_b o7).2.2) ?_
  rw [x_push (by omega), x_m1]
  show e_E _ _ _ (.ref h1.2 :: _) _ _ _ _ _
  refine e_astore_n1 dX3_is_45 rfl ?_
  refine e_for (n := σ 1 8) (F := fun k => ∀ χ2, x_Ra σ χ k χ2 → e_E mX3_is 46 [.ref 366, .ref h1.2, .retAddr 0] [] (x_H χ2 (e_push h1 (12, 4, x_iF k (k - 1) m7 (α 7)))) 0 0 4 (x_PQ σ χ h0)) (by omega) (fun χ2 Rk => ?_) (fun k hk0 hk1 hF χ2 Rk => ?_) χ1 Ra
  · have x1 := e_ext_tr heh1 (e_ext_push h1 (12, 4, x_iF (σ 1 8) (σ 1 8 - 1) m7 (α 7)))
    have A2 := x_at_ext x1 A0
    refine e_aload_n dX3_is_46 rfl ?_
    refine e_callF0rz (ci := 12) dX3_is_47 md_J15_hasNext if_X3_85 rfl (x_it_at h5) (by decide) rfl (Nat.le_of_ble_eq_true rfl) (C_J15_hasNext (x_it_at h5) (x_ok_it o7) ⟨by omega, by omega⟩ ⟨by omega, by omega⟩) ?_
    refine e_bif_eq (tgt := 90) dX3_is_52 rfl (fun c1 => ?_) (fun q => by exfalso; omega)
    refine e_iconst dX3_is_90 ?_
    refine e_istore_n1 dX3_is_91 rfl ?_
    refine e_for (n := σ 1 7) (F := fun w => ∀ χ3, x_Rb σ χ w χ3 → e_E mX3_is 92 [.ref 366, e_i w, .retAddr 0] [] (x_H χ3 (e_push h1 (12, 4, x_iF (σ 1 8) (σ 1 8 - 1) m7 (α 7)))) 0 0 4 (x_PQ σ χ h0)) (by omega) (fun χ3 Rw => ?_) (fun w hw0 hw1 hF χ3 Rw => ?_) χ2 (x_Rb0 Rk)
    · have A := x_at_up (congrFun (Rw.1 1 (by decide)) 0) A2
      refine e_iload_n dX3_is_92 rfl ?_
      refine e_aload_n dX3_is_93 rfl ?_
      refine e_getV (.ref 350) dX3_is_94 fl_X3_3 (x_o3 _ _) rfl ?_
      refine e_callV0rz (ci := 0) dX3_is_97 md_X0_many lk_X3_104 rfl q1121 qs23 (x_o0 _ _) (by decide) rfl (Nat.le_of_ble_eq_true rfl) (C_X0_many A hz) ?_
      refine e_icmp_ge (tgt := 133) dX3_is_100 rfl ⟨by omega, by omega⟩ ⟨by omega, by omega⟩ (fun c2 => ?_) (fun q => by exfalso; omega)
      refine e_aload_n dX3_is_133 rfl ?_
      refine e_areturn dX3_is_134 rfl (Or.inl ⟨_, rfl⟩) ?_
      exact ⟨rfl, χ3, _, Rw.1, x_RbR Rw, x1, rfl⟩
    · have A := x_at_up (congrFun (Rw.1 1 (by decide)) 0) A2
      refine e_iload_n dX3_is_92 rfl ?_
      refine e_aload_n dX3_is_93 rfl ?_
      refine e_getV (.ref 350) dX3_is_94 fl_X3_3 (x_o3 _ _) rfl ?_
      refine e_callV0rz (ci := 0) dX3_is_97 md_X0_many lk_X3_104 rfl q1121 qs23 (x_o0 _ _) (by decide) rfl (Nat.le_of_ble_eq_true rfl) (C_X0_many A hz) ?_
      refine e_icmp_ge (tgt := 133) dX3_is_100 rfl ⟨by omega, by omega⟩ ⟨by omega, by omega⟩ (fun q => by exfalso; omega) (fun c3 => ?_)
      refine e_aload_n dX3_is_103 rfl ?_
      refine e_getV (.ref (x_ai 16)) dX3_is_104 fl_X3_34 (x_o3 _ _) rfl ?_
      refine e_iload_n dX3_is_107 rfl ?_
      refine e_aload_n dX3_is_108 rfl ?_
      refine e_getV (.ref 350) dX3_is_109 fl_X3_3 (x_o3 _ _) rfl ?_
      refine e_iload_n dX3_is_112 rfl ?_
      refine e_callV1rz (ci := 0) dX3_is_113 md_X0_widowOf lk_X3_108 rfl q1127 qs24 (x_o0 _ _) (by decide) rfl (Nat.le_of_ble_eq_true rfl) (C_X0_widowOf A hz ⟨by omega, by omega⟩) ?_
      refine e_getV (e_i (t_wd σ w 1)) dX3_is_116 fl_X3_112 (x_aW A hw0 hw1) rfl ?_
      refine x_ist 7 dX3_is_119 rfl (by decide) rfl rfl ⟨by omega, by omega⟩ ?_
      refine e_aload_n dX3_is_120 rfl ?_
      refine e_getV (.ref (x_ai 17)) dX3_is_121 fl_X3_37 (x_o3 _ _) rfl ?_
      refine e_iload_n dX3_is_124 rfl ?_
      refine e_iconst dX3_is_125 ?_
      refine x_ist 7 dX3_is_126 rfl (by decide) rfl rfl ⟨by omega, by omega⟩ ?_
      refine e_iinc1 dX3_is_127 rfl ?_
      refine e_goto (tgt := 92) dX3_is_130 rfl ?_
      exact hF _ (x_Rb_s hz hw0 hw1 Rw)
  · refine e_aload_n dX3_is_46 rfl ?_
    refine e_callF0rz (ci := 12) dX3_is_47 md_J15_hasNext if_X3_85 rfl (x_it_at h5) (by decide) rfl (Nat.le_of_ble_eq_true rfl) (C_J15_hasNext (x_it_at h5) (x_ok_it o7) ⟨by omega, by omega⟩ ⟨by omega, by omega⟩) ?_
    refine e_bif_eq (tgt := 90) dX3_is_52 rfl (fun q => by exfalso; omega) (fun c4 => ?_)
    refine e_aload_n dX3_is_55 rfl ?_
    refine e_callF0rz (ci := 12) dX3_is_56 md_J15_next if_X3_91 rfl (x_it_at h5) (by decide) rfl (Nat.le_of_ble_eq_true rfl) (C_J15_next (x_it_at h5) (x_ok_it o7) ⟨hk0, hk1⟩ (x_it_ne o7)) ?_
    rw [x_it_set h5]
    have A := x_at_ext (e_ext_push h1 (12, 4, x_iF (k + 1) k m7 (α 7))) (x_at_up (congrFun (Rk.1 1 (by decide)) 0) A1)
    refine e_castS (ci := 10) dX3_is_61 (x_aD A hk0 hk1) (by decide) q1118 ?_
    refine e_astore_n2 dX3_is_64 rfl ?_
    refine e_aload_n dX3_is_65 rfl ?_
    refine e_getV (e_i (if σ 1 (119 + k) < 1000 then 1 else 0)) dX3_is_66 fl_X3_97 (x_aD A hk0 hk1) rfl ?_
    refine e_bif_ne (tgt := 87) dX3_is_69 rfl (fun c5 => ?_) (fun c5 => ?_)
    · refine e_goto (tgt := 46) dX3_is_87 rfl ?_
      refine e_fgt 2 ?_
      rw [show k + 1 - 1 = k by omega] at hF
      first
        | exact hF _ (x_Ra_s hz hk0 ha Rk)
        | exact hF _ (x_Ra_n hk0 (by assumption) Rk)
    · have ha : 1000 ≤ σ 1 (119 + k) ∧ σ 1 (119 + k) < 1000 + σ 1 7 := by
        rcases hr.2.2.2.1 k hk0 hk1 with q | q
        · have := (x_okc hz q).2; have := q.2; omega
        · exact q
      have hs := Rk.2.2.2.1
      have hp := e_pow_lt 7 (k := σ 1 (119 + k) - 1000) ⟨by omega, by omega⟩
      refine e_aload_n dX3_is_72 rfl ?_
      refine e_dup dX3_is_73 rfl ?_
      refine e_getV (e_i _) dX3_is_74 fl_X3_64 (x_o3 _ _) rfl ?_
      refine e_iconst dX3_is_77 ?_
      refine e_aload_n dX3_is_78 rfl ?_
      refine e_getV (e_i (if σ 1 (119 + k) < 1000 then x_sp (σ 1 (119 + k)) else σ 1 (119 + k) - 1000)) dX3_is_79 fl_X3_101 (x_aD A hk0 hk1) rfl ?_
      rw [if_neg (show ¬ σ 1 (119 + k) < 1000 by omega)]
      refine e_ishl dX3_is_82 ((e_shl_law 1 ⟨by omega, by omega⟩).trans (by rw [Int.one_mul])) ?_
      refine e_ior dX3_is_83 (e_or_law hs.1 (Int.le_of_lt (Int.pow_pos (by decide)))) ?_
      refine x_put_27 dX3_is_84 fl_X3_64 ?_
      refine e_goto (tgt := 46) dX3_is_87 rfl ?_
      refine e_fgt 2 ?_
      rw [show k + 1 - 1 = k by omega] at hF
      first
        | exact hF _ (x_Ra_s hz hk0 ha Rk)
        | exact hF _ (x_Ra_n hk0 (by assumption) Rk)
