/-! THE COMPONENT: nets, ways, asked (printed by tx18.py) -/
set_option maxRecDepth 100000
theorem C_X0_nets {ρ χ : t_S} {h0 : e_A} {α : Nat → Nat} (q : x_Q ρ χ h0 α) {y : Int} (hy : e_rg y) : e_C mX0_nets [.ref 350, e_i y] (x_H χ h0) 3 12 7 (x_Pub (e_i (v_nets ρ y)) χ h0) := by
  obtain ⟨A, hz, hr, F, hIs, hI⟩ := q
  have s0 : 0 ≤ ρ 1 0 ∧ ρ 1 0 ≤ 12 := hz.1
  have s3 := hz.2.1
  have s4 := hz.2.2.1
  have s5 := hz.2.2.2.1
  have s6 := hz.2.2.2.2.1
  have s7 := hz.2.2.2.2.2.1
  have ky1 := hy.1
  have ky2 := hy.2
  refine e_enter (al0 := [.ref 350, e_i y]) (by decide +kernel) rfl (Nat.le_of_ble_eq_true rfl) ?_
  refine e_aload_n dX0_nets_0 rfl ?_
  refine e_iload_n dX0_nets_1 rfl ?_
  refine e_callV1rz (ci := 0) dX0_nets_2 md_X0_isYear lk_X0_269 rfl q1312 qs39 (x_o0 _ _) (by decide) rfl (Nat.le_of_ble_eq_true rfl) (C_X0_isYear A hz ⟨by omega, by omega⟩) ?_
  refine e_bif_ne (tgt := 11) dX0_nets_5 rfl (fun c1 => ?_) (fun c1 => ?_)
  · refine e_aload_n dX0_nets_11 rfl ?_
    refine e_bud (kc1 := 0 + 3) (ks1 := 0 + 12) (by decide) (by decide) ?_
    refine e_callV0 (M1 := mX0_is) (kc := 0) (ks := 0) (mc := 3) (ms := 12) (ci := 0) dX0_nets_12 lk_X0_194 md_X0_is rfl q1047 qs21 (x_o0 _ _) (by decide) rfl (Nat.le_of_ble_eq_true rfl) (hIs) (fun a hh q => ?_) (fun i hh q => by cases q.1)
    obtain ⟨q1, χ1, h1, N, hfr, he1, rfl⟩ := q
    cases q1
    show e_E _ _ _ (_ :: _) _ _ _ _ _
    have A1 := x_at_1 A hfr he1
    refine e_pop dX0_nets_15 rfl ?_
    refine e_aload_n dX0_nets_16 rfl ?_
    refine e_iload_n dX0_nets_17 rfl ?_
    refine e_iconst dX0_nets_18 ?_
    refine e_bud (kc1 := 0 + 0) (ks1 := 0 + 0) (by decide) (by decide) ?_
    refine e_callV2 (M1 := mX0_partsOf) (kc := 0) (ks := 0) (mc := 0) (ms := 0) (ci := 0) dX0_nets_19 lk_X0_304 md_X0_partsOf rfl q1358 qs41 (x_o0 _ _) (by decide) rfl (Nat.le_of_ble_eq_true rfl) (C_X0_partsOf1 A1 hz F N ⟨by omega, by omega⟩) (fun a hh q => ?_) (fun i hh q => by cases q.1)
    obtain ⟨q1, χ2, w2, rfl⟩ := q
    cases q1
    show e_E _ _ _ (_ :: _) _ _ _ _ _
    refine e_ireturn dX0_nets_22 rfl rfl ?_
    first
      | (refine x_pubi ?_ (x_f34w hfr w2) he1
         unfold v_nets
         (repeat' split) <;> first | rfl | omega | (omega))
      | (refine x_pubi0 ?_
         unfold v_nets
         (repeat' split) <;> first | rfl | omega)
  · refine e_bipush dX0_nets_8 rfl ?_
    refine e_ireturn dX0_nets_10 rfl rfl ?_
    first
      | (refine x_pubi ?_ (x_f34w hfr w2) he1
         unfold v_nets
         (repeat' split) <;> first | rfl | omega | (omega))
      | (refine x_pubi0 ?_
         unfold v_nets
         (repeat' split) <;> first | rfl | omega)
theorem C_X0_missing {ρ χ : t_S} {h0 : e_A} {α : Nat → Nat} (q : x_Q ρ χ h0 α) {y : Int} (hy : e_rg y) : e_C mX0_missing [.ref 350, e_i y] (x_H χ h0) 3 12 7 (x_Pub (e_i (v_missing ρ y)) χ h0) := by
  obtain ⟨A, hz, hr, F, hIs, hI⟩ := q
  have s0 : 0 ≤ ρ 1 0 ∧ ρ 1 0 ≤ 12 := hz.1
  have s3 := hz.2.1
  have s4 := hz.2.2.1
  have s5 := hz.2.2.2.1
  have s6 := hz.2.2.2.2.1
  have s7 := hz.2.2.2.2.2.1
  have ky1 := hy.1
  have ky2 := hy.2
  refine e_enter (al0 := [.ref 350, e_i y, .retAddr 0]) (by decide +kernel) rfl (Nat.le_of_ble_eq_true rfl) ?_
  refine e_aload_n dX0_missing_0 rfl ?_
  refine e_iload_n dX0_missing_1 rfl ?_
  refine e_callV1rz (ci := 0) dX0_missing_2 md_X0_isYear lk_X0_269 rfl q1312 qs39 (x_o0 _ _) (by decide) rfl (Nat.le_of_ble_eq_true rfl) (C_X0_isYear A hz ⟨by omega, by omega⟩) ?_
  refine e_bif_ne (tgt := 11) dX0_missing_5 rfl (fun c1 => ?_) (fun c1 => ?_)
  · refine e_aload_n dX0_missing_11 rfl ?_
    refine e_bud (kc1 := 0 + 3) (ks1 := 0 + 12) (by decide) (by decide) ?_
    refine e_callV0 (M1 := mX0_is) (kc := 0) (ks := 0) (mc := 3) (ms := 12) (ci := 0) dX0_missing_12 lk_X0_194 md_X0_is rfl q1047 qs21 (x_o0 _ _) (by decide) rfl (Nat.le_of_ble_eq_true rfl) (hIs) (fun a hh q => ?_) (fun i hh q => by cases q.1)
    obtain ⟨q1, χ1, h1, N, hfr, he1, rfl⟩ := q
    cases q1
    show e_E _ _ _ (_ :: _) _ _ _ _ _
    have A1 := x_at_1 A hfr he1
    refine e_pop dX0_missing_15 rfl ?_
    refine e_aload_n dX0_missing_16 rfl ?_
    refine e_iload_n dX0_missing_17 rfl ?_
    refine e_iconst dX0_missing_18 ?_
    refine e_bud (kc1 := 0 + 0) (ks1 := 0 + 0) (by decide) (by decide) ?_
    refine e_callV2 (M1 := mX0_partsOf) (kc := 0) (ks := 0) (mc := 0) (ms := 0) (ci := 0) dX0_missing_19 lk_X0_304 md_X0_partsOf rfl q1358 qs41 (x_o0 _ _) (by decide) rfl (Nat.le_of_ble_eq_true rfl) (C_X0_partsOf1 A1 hz F N ⟨by omega, by omega⟩) (fun a hh q => ?_) (fun i hh q => by cases q.1)
    obtain ⟨q1, χ2, w2, rfl⟩ := q
    cases q1
    show e_E _ _ _ (_ :: _) _ _ _ _ _
    obtain ⟨n, hn⟩ : ∃ n, (t_nm y ρ).2 = n := ⟨_, rfl⟩
    have hnr := (x_T_in hz y (c := 80) ⟨by decide, by decide⟩).2.2
    rw [x_T_80, hn] at hnr
    have hY : t_isY ρ y := ⟨by omega, by omega, by omega⟩
    rw [hn]
    refine e_istore_n2 dX0_missing_22 rfl ?_
    refine e_iload_n dX0_missing_23 rfl ?_
    refine e_if_ne (tgt := 31) dX0_missing_24 rfl ⟨by omega, by omega⟩ (fun k1 => ?_) (fun k1 => ?_)
    · have hm := x_missing1 F hY (by rw [hn]; exact k1)
      rw [hn] at hm
      refine e_aload_n dX0_missing_31 rfl ?_
      refine e_iload_n dX0_missing_32 rfl ?_
      refine e_iconst dX0_missing_33 ?_
      refine e_bud (kc1 := 0 + 0) (ks1 := 0 + 0) (by decide) (by decide) ?_
      refine e_callV2 (M1 := mX0_partsOf) (kc := 0) (ks := 0) (mc := 0) (ms := 0) (ci := 0) dX0_missing_34 lk_X0_304 md_X0_partsOf rfl q1358 qs41 (x_o0 _ _) (by decide) rfl (Nat.le_of_ble_eq_true rfl) (C_X0_partsOf0 (x_at_fW w2 A1) hz F (x_An_fW w2 N) ⟨by omega, by omega⟩ hm.1.1 hm.1.2.1 hm.1.2.2) (fun a hh q => ?_) (fun i hh q => by obtain ⟨_, q1, _⟩ := q; cases q1)
      obtain ⟨N9, q1, hJ, χ3, w3, rfl⟩ := q
      cases q1
      show e_E _ _ _ (_ :: _) _ _ _ _ _
      have hv := hm.2 N9 hJ
      have hJ1 := hJ.1
      refine e_iconst dX0_missing_37 ?_
      refine e_icmp_ne (tgt := 47) dX0_missing_38 rfl ⟨by omega, by omega⟩ ⟨by omega, by omega⟩ (fun k2 => ?_) (fun k2 => ?_)
      · refine e_iconst dX0_missing_47 ?_
        refine e_ireturn dX0_missing_48 rfl rfl ?_
        first
          | (refine x_pubi ?_ (x_f34w hfr (x_fW_tr w2 w3)) he1
             rw [hv]
             first
               | (rw [if_pos k2])
               | (rw [if_neg k2]))
          | (refine x_pubi ?_ (x_f34w hfr w2) he1
             exact x_missing0 F hY (hn.trans k1))
      · refine e_iload_n dX0_missing_41 rfl ?_
        refine e_iconst dX0_missing_42 ?_
        refine e_isub dX0_missing_43 ?_
        refine e_goto (tgt := 48) dX0_missing_44 rfl ?_
        refine e_ireturn dX0_missing_48 rfl rfl ?_
        first
          | (refine x_pubi ?_ (x_f34w hfr (x_fW_tr w2 w3)) he1
             rw [hv]
             first
               | (rw [if_pos k2])
               | (rw [if_neg k2]))
          | (refine x_pubi ?_ (x_f34w hfr w2) he1
             exact x_missing0 F hY (hn.trans k1))
    · refine e_iconst dX0_missing_27 ?_
      refine e_goto (tgt := 48) dX0_missing_28 rfl ?_
      refine e_ireturn dX0_missing_48 rfl rfl ?_
      first
        | (refine x_pubi ?_ (x_f34w hfr (x_fW_tr w2 w3)) he1
           rw [hv]
           first
             | (rw [if_pos k2])
             | (rw [if_neg k2]))
        | (refine x_pubi ?_ (x_f34w hfr w2) he1
           exact x_missing0 F hY (hn.trans k1))
  · refine e_bipush dX0_missing_8 rfl ?_
    refine e_ireturn dX0_missing_10 rfl rfl ?_
    first
      | (refine x_pubi ?_ (x_f34 hfr) he1
         unfold v_missing
         (repeat' split) <;> first | rfl | omega | (omega))
      | (refine x_pubi0 ?_
         unfold v_missing
         (repeat' split) <;> first | rfl | omega)
theorem C_X0_rings {ρ χ : t_S} {h0 : e_A} {α : Nat → Nat} (q : x_Q ρ χ h0 α) {y : Int} (hy : e_rg y) : e_C mX0_rings [.ref 350, e_i y] (x_H χ h0) 3 12 7 (x_Pub (e_i (v_rings ρ y)) χ h0) := by
  obtain ⟨A, hz, hr, F, hIs, hI⟩ := q
  have s0 : 0 ≤ ρ 1 0 ∧ ρ 1 0 ≤ 12 := hz.1
  have s3 := hz.2.1
  have s4 := hz.2.2.1
  have s5 := hz.2.2.2.1
  have s6 := hz.2.2.2.2.1
  have s7 := hz.2.2.2.2.2.1
  have ky1 := hy.1
  have ky2 := hy.2
  refine e_enter (al0 := [.ref 350, e_i y]) (by decide +kernel) rfl (Nat.le_of_ble_eq_true rfl) ?_
  refine e_aload_n dX0_rings_0 rfl ?_
  refine e_iload_n dX0_rings_1 rfl ?_
  refine e_callV1rz (ci := 0) dX0_rings_2 md_X0_isYear lk_X0_269 rfl q1312 qs39 (x_o0 _ _) (by decide) rfl (Nat.le_of_ble_eq_true rfl) (C_X0_isYear A hz ⟨by omega, by omega⟩) ?_
  refine e_bif_ne (tgt := 11) dX0_rings_5 rfl (fun c1 => ?_) (fun c1 => ?_)
  · refine e_aload_n dX0_rings_11 rfl ?_
    refine e_bud (kc1 := 0 + 3) (ks1 := 0 + 12) (by decide) (by decide) ?_
    refine e_callV0 (M1 := mX0_is) (kc := 0) (ks := 0) (mc := 3) (ms := 12) (ci := 0) dX0_rings_12 lk_X0_194 md_X0_is rfl q1047 qs21 (x_o0 _ _) (by decide) rfl (Nat.le_of_ble_eq_true rfl) (hIs) (fun a hh q => ?_) (fun i hh q => by cases q.1)
    obtain ⟨q1, χ1, h1, N, hfr, he1, rfl⟩ := q
    cases q1
    show e_E _ _ _ (_ :: _) _ _ _ _ _
    have A1 := x_at_1 A hfr he1
    have n1 := (N.2 y (by omega) (by omega)).1
    refine e_pop dX0_rings_15 rfl ?_
    refine e_aload_n dX0_rings_16 rfl ?_
    refine e_getV (.ref 366) dX0_rings_17 fl_X0_68 (x_o0 _ _) rfl ?_
    refine e_iload_n dX0_rings_20 rfl ?_
    refine e_callV1rz (ci := 3) dX0_rings_21 md_X3_pegs lk_X0_278 rfl q1323 q1324 (x_o3 _ _) (by decide) rfl (Nat.le_of_ble_eq_true rfl) (C_X3_pegs A1 hz F N ⟨by omega, by omega⟩) ?_
    refine e_aload_n dX0_rings_24 rfl ?_
    refine e_getV (.ref 366) dX0_rings_25 fl_X0_68 (x_o0 _ _) rfl ?_
    refine e_getV (.ref (x_ai 18)) dX0_rings_28 fl_X0_275 (x_o3 _ _) rfl ?_
    refine e_iload_n dX0_rings_31 rfl ?_
    refine x_lld 13 dX0_rings_32 rfl (by decide) (fun _ => rfl) rfl ⟨by omega, by omega⟩ ?_
    refine e_callS1rz dX0_rings_33 md_J17_bitCount lk_X0_252 rfl q1254 rfl (Nat.le_of_ble_eq_true rfl) (C_J17_bitCount (by rw [n1]; exact x_bs_rg _)) ?_
    refine e_isub dX0_rings_36 ?_
    refine e_aload_n dX0_rings_37 rfl ?_
    refine e_iload_n dX0_rings_38 rfl ?_
    refine e_iconst dX0_rings_39 ?_
    refine e_bud (kc1 := 0 + 0) (ks1 := 0 + 0) (by decide) (by decide) ?_
    refine e_callV2 (M1 := mX0_partsOf) (kc := 0) (ks := 0) (mc := 0) (ms := 0) (ci := 0) dX0_rings_40 lk_X0_304 md_X0_partsOf rfl q1358 qs41 (x_o0 _ _) (by decide) rfl (Nat.le_of_ble_eq_true rfl) (C_X0_partsOf1 A1 hz F N ⟨by omega, by omega⟩) (fun a hh q => ?_) (fun i hh q => by cases q.1)
    obtain ⟨q1, χ2, w2, rfl⟩ := q
    cases q1
    show e_E _ _ _ (_ :: _) _ _ _ _ _
    refine e_iadd dX0_rings_43 ?_
    refine e_ireturn dX0_rings_44 rfl rfl ?_
    first
      | (refine x_pubi ?_ (x_f34w hfr w2) he1
         unfold v_rings
         (repeat' split) <;> first | rfl | omega | (rw [n1, x_rdm F ⟨by omega, by omega⟩]))
      | (refine x_pubi0 ?_
         unfold v_rings
         (repeat' split) <;> first | rfl | omega)
  · refine e_bipush dX0_rings_8 rfl ?_
    refine e_ireturn dX0_rings_10 rfl rfl ?_
    first
      | (refine x_pubi ?_ (x_f34w hfr w2) he1
         unfold v_rings
         (repeat' split) <;> first | rfl | omega | (rw [n1, x_rdm F ⟨by omega, by omega⟩]))
      | (refine x_pubi0 ?_
         unfold v_rings
         (repeat' split) <;> first | rfl | omega)
theorem C_X0_net {ρ χ : t_S} {h0 : e_A} {α : Nat → Nat} (q : x_Q ρ χ h0 α) {c : Int} (hc : e_rg c) {y : Int} (hy : e_rg y) : e_C mX0_net [.ref 350, e_i c, e_i y] (x_H χ h0) 3 12 7 (x_Pub (e_i (v_net ρ c y)) χ h0) := by
  obtain ⟨A, hz, hr, F, hIs, hI⟩ := q
  have s0 : 0 ≤ ρ 1 0 ∧ ρ 1 0 ≤ 12 := hz.1
  have s3 := hz.2.1
  have s4 := hz.2.2.1
  have s5 := hz.2.2.2.1
  have s6 := hz.2.2.2.2.1
  have s7 := hz.2.2.2.2.2.1
  have kc1 := hc.1
  have kc2 := hc.2
  have ky1 := hy.1
  have ky2 := hy.2
  refine e_enter (al0 := [.ref 350, e_i c, e_i y]) (by decide +kernel) rfl (Nat.le_of_ble_eq_true rfl) ?_
  refine e_aload_n dX0_net_0 rfl ?_
  refine e_iload_n dX0_net_1 rfl ?_
  refine e_iload_n dX0_net_2 rfl ?_
  refine e_callV2rz (ci := 0) dX0_net_3 md_X0_isThen lk_X0_272 rfl q1308 qs38 (x_o0 _ _) (by decide) rfl (Nat.le_of_ble_eq_true rfl) (C_X0_isThen A hz ⟨by omega, by omega⟩ ⟨by omega, by omega⟩) ?_
  refine e_bif_ne (tgt := 12) dX0_net_6 rfl (fun c1 => ?_) (fun c1 => ?_)
  · refine e_aload_n dX0_net_12 rfl ?_
    refine e_bud (kc1 := 0 + 3) (ks1 := 0 + 12) (by decide) (by decide) ?_
    refine e_callV0 (M1 := mX0_is) (kc := 0) (ks := 0) (mc := 3) (ms := 12) (ci := 0) dX0_net_13 lk_X0_194 md_X0_is rfl q1047 qs21 (x_o0 _ _) (by decide) rfl (Nat.le_of_ble_eq_true rfl) (hIs) (fun a hh q => ?_) (fun i hh q => by cases q.1)
    obtain ⟨q1, χ1, h1, N, hfr, he1, rfl⟩ := q
    cases q1
    show e_E _ _ _ (_ :: _) _ _ _ _ _
    have A1 := x_at_1 A hfr he1
    have h8 := x_ok8 hz (c := c) ⟨by omega, by omega, by omega, by omega⟩
    obtain ⟨b1, b2, b3, b4⟩ := x_rdb N F (y := y) ⟨by omega, by omega⟩ rfl h8
    have hD := z_lyf (y := y) hz h8
    refine e_getV (.ref (x_ai 18)) dX0_net_16 fl_X0_275 (x_o3 _ _) rfl ?_
    refine e_iload_n dX0_net_19 rfl ?_
    refine x_lld 13 dX0_net_20 rfl (by decide) (fun _ => rfl) rfl ⟨by omega, by omega⟩ ?_
    refine e_iload_n dX0_net_21 rfl ?_
    refine e_i2l dX0_net_22 ⟨by omega, by omega⟩ ?_
    refine e_callS1rz dX0_net_23 md_X0_spotOf lk_X0_213 rfl q1212 rfl (Nat.le_of_ble_eq_true rfl) (C_X0_spotOf8 h8) ?_
    refine e_callS2rz dX0_net_26 md_X0_isIn lk_X0_217 rfl q1188 rfl (Nat.le_of_ble_eq_true rfl) (C_X0_isIn b1 b2) ?_
    refine e_bif_eq (tgt := 51) dX0_net_29 rfl (fun k1 => ?_) (fun k1 => ?_)
    · refine e_iconst dX0_net_51 ?_
      refine e_ireturn dX0_net_52 rfl rfl ?_
      first
        | (refine x_pubi ?_ (x_f34w hfr w2) he1
           have k3 : t_rdo ρ c y = 1 := by rw [← b3]; exact k1
           unfold v_net
           rw [if_pos ⟨⟨by omega, by omega, by omega⟩, by omega, by omega, by omega, by omega⟩]
           unfold v_no
           rw [if_neg (by omega)]
           exact hDn.2.2.1)
        | (refine x_pubi ?_ (x_f34 hfr) he1
           have k3 : ¬ t_rdo ρ c y = 1 := by rw [← b3]; exact k1
           unfold v_net
           rw [if_pos ⟨⟨by omega, by omega, by omega⟩, by omega, by omega, by omega, by omega⟩]
           unfold v_no
           rw [if_pos (by omega)])
    · refine e_aload_n dX0_net_32 rfl ?_
      refine e_getV (.ref 379) dX0_net_33 fl_X0_75 (x_o0 _ _) rfl ?_
      refine e_iload_n dX0_net_36 rfl ?_
      refine e_i2l dX0_net_37 ⟨by omega, by omega⟩ ?_
      refine e_callS1rz dX0_net_38 md_X0_spotOf lk_X0_213 rfl q1212 rfl (Nat.le_of_ble_eq_true rfl) (C_X0_spotOf8 h8) ?_
      refine e_iload_n dX0_net_41 rfl ?_
      refine e_bud (kc1 := 0 + 0) (ks1 := 0 + 0) (by decide) (by decide) ?_
      refine e_callV2 (M1 := mX4_by) (kc := 0) (ks := 0) (mc := 0) (ms := 0) (ci := 4) dX0_net_42 lk_X0_293 md_X4_by rfl q1368 q1369 (x_o4 _ _) (by decide) rfl (Nat.le_of_ble_eq_true rfl) (C_X4_by A1 hz F N rfl h8 ⟨by omega, by omega⟩ hD.1 hD.2.1) (fun a hh q => ?_) (fun i hh q => by cases q.1)
      obtain ⟨q1, χ2, w2, hDn, rfl⟩ := q
      cases q1
      show e_E _ _ _ (_ :: _) _ _ _ _ _
      refine e_getV (e_i _) dX0_net_45 fl_X0_300 (x_o4 _ _) rfl ?_
      refine e_goto (tgt := 52) dX0_net_48 rfl ?_
      refine e_ireturn dX0_net_52 rfl rfl ?_
      first
        | (refine x_pubi ?_ (x_f34w hfr w2) he1
           have k3 : t_rdo ρ c y = 1 := by rw [← b3]; exact k1
           unfold v_net
           rw [if_pos ⟨⟨by omega, by omega, by omega⟩, by omega, by omega, by omega, by omega⟩]
           unfold v_no
           rw [if_neg (by omega)]
           exact hDn.2.2.1)
        | (refine x_pubi ?_ (x_f34 hfr) he1
           have k3 : ¬ t_rdo ρ c y = 1 := by rw [← b3]; exact k1
           unfold v_net
           rw [if_pos ⟨⟨by omega, by omega, by omega⟩, by omega, by omega, by omega, by omega⟩]
           unfold v_no
           rw [if_pos (by omega)])
  · refine e_bipush dX0_net_9 rfl ?_
    refine e_ireturn dX0_net_11 rfl rfl ?_
    first
      | (refine x_pubi ?_ (x_f34 hfr) he1
         unfold v_net
         (repeat' split) <;> first | rfl | omega | (omega))
      | (refine x_pubi0 ?_
         unfold v_net
         (repeat' split) <;> first | rfl | omega)
theorem C_X0_way {ρ χ : t_S} {h0 : e_A} {α : Nat → Nat} (q : x_Q ρ χ h0 α) {a : Int} (ha : e_rg a) {b : Int} (hb : e_rg b) {y : Int} (hy : e_rg y) : e_C mX0_way [.ref 350, e_i a, e_i b, e_i y] (x_H χ h0) 3 12 7 (x_Pub (e_i (v_way ρ a b y)) χ h0) := by
  obtain ⟨A, hz, hr, F, hIs, hI⟩ := q
  have s0 : 0 ≤ ρ 1 0 ∧ ρ 1 0 ≤ 12 := hz.1
  have s3 := hz.2.1
  have s4 := hz.2.2.1
  have s5 := hz.2.2.2.1
  have s6 := hz.2.2.2.2.1
  have s7 := hz.2.2.2.2.2.1
  have ka1 := ha.1
  have ka2 := ha.2
  have kb1 := hb.1
  have kb2 := hb.2
  have ky1 := hy.1
  have ky2 := hy.2
  refine e_enter (al0 := [.ref 350, e_i a, e_i b, e_i y]) (by decide +kernel) rfl (Nat.le_of_ble_eq_true rfl) ?_
  refine e_aload_n dX0_way_0 rfl ?_
  refine e_iload_n dX0_way_1 rfl ?_
  refine e_i2l dX0_way_2 ⟨by omega, by omega⟩ ?_
  refine e_callV1rz (ci := 0) dX0_way_3 md_X0_isCell lk_X0_206 rfl q1207 qs32 (x_o0 _ _) (by decide) rfl (Nat.le_of_ble_eq_true rfl) (C_X0_isCell A hz ⟨by omega, by omega⟩) ?_
  refine e_bif_eq (tgt := 18) dX0_way_6 rfl (fun c1 => ?_) (fun c1 => ?_)
  · refine e_bipush dX0_way_18 rfl ?_
    refine e_ireturn dX0_way_20 rfl rfl ?_
    first
      | (refine x_pubi ?_ (x_f34 hfr) he1
         unfold v_way
         (repeat' split) <;> first | rfl | omega | (omega))
      | (refine x_pubi0 ?_
         unfold v_way
         (repeat' split) <;> first | rfl | omega)
  · refine e_aload_n dX0_way_9 rfl ?_
    refine e_iload_n dX0_way_10 rfl ?_
    refine e_iload_n dX0_way_11 rfl ?_
    refine e_callV2rz (ci := 0) dX0_way_12 md_X0_isThen lk_X0_272 rfl q1308 qs38 (x_o0 _ _) (by decide) rfl (Nat.le_of_ble_eq_true rfl) (C_X0_isThen A hz ⟨by omega, by omega⟩ ⟨by omega, by omega⟩) ?_
    refine e_bif_ne (tgt := 21) dX0_way_15 rfl (fun c2 => ?_) (fun c2 => ?_)
    · refine e_aload_n dX0_way_21 rfl ?_
      refine e_bud (kc1 := 0 + 3) (ks1 := 0 + 12) (by decide) (by decide) ?_
      refine e_callV0 (M1 := mX0_is) (kc := 0) (ks := 0) (mc := 3) (ms := 12) (ci := 0) dX0_way_22 lk_X0_194 md_X0_is rfl q1047 qs21 (x_o0 _ _) (by decide) rfl (Nat.le_of_ble_eq_true rfl) (hIs) (fun a hh q => ?_) (fun i hh q => by cases q.1)
      obtain ⟨q1, χ1, h1, N, hfr, he1, rfl⟩ := q
      cases q1
      show e_E _ _ _ (_ :: _) _ _ _ _ _
      have A1 := x_at_1 A hfr he1
      have h8 := x_ok8 hz (c := a) ⟨by omega, by omega, by omega, by omega⟩
      have g8 := x_ok8 hz (c := b) ⟨by omega, by omega, by omega, by omega⟩
      obtain ⟨b1, b2, b3, b4⟩ := x_rdb N F (y := y) ⟨by omega, by omega⟩ rfl h8
      have hD := z_lyf (y := y) hz h8
      refine e_getV (.ref (x_ai 18)) dX0_way_25 fl_X0_275 (x_o3 _ _) rfl ?_
      refine e_iload_n dX0_way_28 rfl ?_
      refine x_lld 13 dX0_way_29 rfl (by decide) (fun _ => rfl) rfl ⟨by omega, by omega⟩ ?_
      refine e_iload_n dX0_way_30 rfl ?_
      refine e_i2l dX0_way_31 ⟨by omega, by omega⟩ ?_
      refine e_callS1rz dX0_way_32 md_X0_spotOf lk_X0_213 rfl q1212 rfl (Nat.le_of_ble_eq_true rfl) (C_X0_spotOf8 h8) ?_
      refine e_callS2rz dX0_way_35 md_X0_isIn lk_X0_217 rfl q1188 rfl (Nat.le_of_ble_eq_true rfl) (C_X0_isIn b1 b2) ?_
      refine e_bif_eq (tgt := 66) dX0_way_38 rfl (fun k1 => ?_) (fun k1 => ?_)
      · refine e_iconst dX0_way_66 ?_
        refine e_ireturn dX0_way_67 rfl rfl ?_
        first
          | (refine x_pubi ?_ (x_f34w hfr w2) he1
             have k3 : t_rdo ρ a y = 1 := by rw [← b3]; exact k1
             unfold v_way
             rw [if_pos ⟨⟨by omega, by omega, by omega⟩, ⟨by omega, by omega, by omega, by omega⟩, by omega, by omega, by omega, by omega⟩, if_neg (by omega)]
             exact hDn.1 b g8)
          | (refine x_pubi ?_ (x_f34 hfr) he1
             have k3 : ¬ t_rdo ρ a y = 1 := by rw [← b3]; exact k1
             unfold v_way
             rw [if_pos ⟨⟨by omega, by omega, by omega⟩, ⟨by omega, by omega, by omega, by omega⟩, by omega, by omega, by omega, by omega⟩, if_pos (by omega)])
      · refine e_aload_n dX0_way_41 rfl ?_
        refine e_getV (.ref 379) dX0_way_42 fl_X0_75 (x_o0 _ _) rfl ?_
        refine e_iload_n dX0_way_45 rfl ?_
        refine e_i2l dX0_way_46 ⟨by omega, by omega⟩ ?_
        refine e_callS1rz dX0_way_47 md_X0_spotOf lk_X0_213 rfl q1212 rfl (Nat.le_of_ble_eq_true rfl) (C_X0_spotOf8 h8) ?_
        refine e_iload_n dX0_way_50 rfl ?_
        refine e_bud (kc1 := 0 + 0) (ks1 := 0 + 0) (by decide) (by decide) ?_
        refine e_callV2 (M1 := mX4_by) (kc := 0) (ks := 0) (mc := 0) (ms := 0) (ci := 4) dX0_way_51 lk_X0_293 md_X4_by rfl q1368 q1369 (x_o4 _ _) (by decide) rfl (Nat.le_of_ble_eq_true rfl) (C_X4_by A1 hz F N rfl h8 ⟨by omega, by omega⟩ hD.1 hD.2.1) (fun a hh q => ?_) (fun i hh q => by cases q.1)
        obtain ⟨q1, χ2, w2, hDn, rfl⟩ := q
        cases q1
        show e_E _ _ _ (_ :: _) _ _ _ _ _
        refine e_getV (.ref (x_ai 28)) dX0_way_54 fl_X0_263 (x_o4 _ _) rfl ?_
        refine e_iload_n dX0_way_57 rfl ?_
        refine e_i2l dX0_way_58 ⟨by omega, by omega⟩ ?_
        refine e_callS1rz dX0_way_59 md_X0_spotOf lk_X0_213 rfl q1212 rfl (Nat.le_of_ble_eq_true rfl) (C_X0_spotOf8 g8) ?_
        have rg := x_sp_rg g8
        refine x_ild 64 dX0_way_62 rfl (by decide) (fun _ => rfl) rfl ⟨by omega, by omega⟩ ?_
        refine e_goto (tgt := 67) dX0_way_63 rfl ?_
        refine e_ireturn dX0_way_67 rfl rfl ?_
        first
          | (refine x_pubi ?_ (x_f34w hfr w2) he1
             have k3 : t_rdo ρ a y = 1 := by rw [← b3]; exact k1
             unfold v_way
             rw [if_pos ⟨⟨by omega, by omega, by omega⟩, ⟨by omega, by omega, by omega, by omega⟩, by omega, by omega, by omega, by omega⟩, if_neg (by omega)]
             exact hDn.1 b g8)
          | (refine x_pubi ?_ (x_f34 hfr) he1
             have k3 : ¬ t_rdo ρ a y = 1 := by rw [← b3]; exact k1
             unfold v_way
             rw [if_pos ⟨⟨by omega, by omega, by omega⟩, ⟨by omega, by omega, by omega, by omega⟩, by omega, by omega, by omega, by omega⟩, if_pos (by omega)])
    · refine e_bipush dX0_way_18 rfl ?_
      refine e_ireturn dX0_way_20 rfl rfl ?_
      first
        | (refine x_pubi ?_ (x_f34 hfr) he1
           unfold v_way
           (repeat' split) <;> first | rfl | omega | (omega))
        | (refine x_pubi0 ?_
           unfold v_way
           (repeat' split) <;> first | rfl | omega)
theorem C_X0_farthest {ρ χ : t_S} {h0 : e_A} {α : Nat → Nat} (q : x_Q ρ χ h0 α) {c : Int} (hc : e_rg c) {y : Int} (hy : e_rg y) : e_C mX0_farthest [.ref 350, e_i c, e_i y] (x_H χ h0) 3 12 7 (x_Pub (e_i (v_farthest ρ c y)) χ h0) := by
  obtain ⟨A, hz, hr, F, hIs, hI⟩ := q
  have s0 : 0 ≤ ρ 1 0 ∧ ρ 1 0 ≤ 12 := hz.1
  have s3 := hz.2.1
  have s4 := hz.2.2.1
  have s5 := hz.2.2.2.1
  have s6 := hz.2.2.2.2.1
  have s7 := hz.2.2.2.2.2.1
  have kc1 := hc.1
  have kc2 := hc.2
  have ky1 := hy.1
  have ky2 := hy.2
  refine e_enter (al0 := [.ref 350, e_i c, e_i y, .retAddr 0, .retAddr 0]) (by decide +kernel) rfl (Nat.le_of_ble_eq_true rfl) ?_
  refine e_aload_n dX0_farthest_0 rfl ?_
  refine e_iload_n dX0_farthest_1 rfl ?_
  refine e_iload_n dX0_farthest_2 rfl ?_
  refine e_callV2rz (ci := 0) dX0_farthest_3 md_X0_isThen lk_X0_272 rfl q1308 qs38 (x_o0 _ _) (by decide) rfl (Nat.le_of_ble_eq_true rfl) (C_X0_isThen A hz ⟨by omega, by omega⟩ ⟨by omega, by omega⟩) ?_
  refine e_bif_ne (tgt := 12) dX0_farthest_6 rfl (fun c1 => ?_) (fun c1 => ?_)
  · refine e_aload_n dX0_farthest_12 rfl ?_
    refine e_bud (kc1 := 0 + 3) (ks1 := 0 + 12) (by decide) (by decide) ?_
    refine e_callV0 (M1 := mX0_is) (kc := 0) (ks := 0) (mc := 3) (ms := 12) (ci := 0) dX0_farthest_13 lk_X0_194 md_X0_is rfl q1047 qs21 (x_o0 _ _) (by decide) rfl (Nat.le_of_ble_eq_true rfl) (hIs) (fun a hh q => ?_) (fun i hh q => by cases q.1)
    obtain ⟨q1, χ1, h1, N, hfr, he1, rfl⟩ := q
    cases q1
    show e_E _ _ _ (_ :: _) _ _ _ _ _
    have A1 := x_at_1 A hfr he1
    have h8 := x_ok8 hz (c := c) ⟨by omega, by omega, by omega, by omega⟩
    obtain ⟨b1, b2, b3, b4⟩ := x_rdb N F (y := y) ⟨by omega, by omega⟩ rfl h8
    have hD := z_lyf (y := y) hz h8
    have rcs := x_sp_rg h8
    refine e_getV (.ref (x_ai 18)) dX0_farthest_16 fl_X0_275 (x_o3 _ _) rfl ?_
    refine e_iload_n dX0_farthest_19 rfl ?_
    refine x_lld 13 dX0_farthest_20 rfl (by decide) (fun _ => rfl) rfl ⟨by omega, by omega⟩ ?_
    refine e_iload_n dX0_farthest_21 rfl ?_
    refine e_i2l dX0_farthest_22 ⟨by omega, by omega⟩ ?_
    refine e_callS1rz dX0_farthest_23 md_X0_spotOf lk_X0_213 rfl q1212 rfl (Nat.le_of_ble_eq_true rfl) (C_X0_spotOf8 h8) ?_
    refine e_callS2rz dX0_farthest_26 md_X0_isIn lk_X0_217 rfl q1188 rfl (Nat.le_of_ble_eq_true rfl) (C_X0_isIn b1 b2) ?_
    refine e_bif_ne (tgt := 34) dX0_farthest_29 rfl (fun k1 => ?_) (fun k1 => ?_)
    · refine e_aload_n dX0_farthest_34 rfl ?_
      refine e_getV (.ref 379) dX0_farthest_35 fl_X0_75 (x_o0 _ _) rfl ?_
      refine e_iload_n dX0_farthest_38 rfl ?_
      refine e_i2l dX0_farthest_39 ⟨by omega, by omega⟩ ?_
      refine e_callS1rz dX0_farthest_40 md_X0_spotOf lk_X0_213 rfl q1212 rfl (Nat.le_of_ble_eq_true rfl) (C_X0_spotOf8 h8) ?_
      refine e_iload_n dX0_farthest_43 rfl ?_
      refine e_bud (kc1 := 0 + 0) (ks1 := 0 + 0) (by decide) (by decide) ?_
      refine e_callV2 (M1 := mX4_by) (kc := 0) (ks := 0) (mc := 0) (ms := 0) (ci := 4) dX0_farthest_44 lk_X0_293 md_X4_by rfl q1368 q1369 (x_o4 _ _) (by decide) rfl (Nat.le_of_ble_eq_true rfl) (C_X4_by A1 hz F N rfl h8 ⟨by omega, by omega⟩ hD.1 hD.2.1) (fun a hh q => ?_) (fun i hh q => by cases q.1)
      obtain ⟨q1, χ2, w2, hDn, rfl⟩ := q
      cases q1
      show e_E _ _ _ (_ :: _) _ _ _ _ _
      refine e_pop dX0_farthest_47 rfl ?_
      refine e_iload_n dX0_farthest_48 rfl ?_
      refine e_i2l dX0_farthest_49 ⟨by omega, by omega⟩ ?_
      refine e_callS1rz dX0_farthest_50 md_X0_spotOf lk_X0_213 rfl q1212 rfl (Nat.le_of_ble_eq_true rfl) (C_X0_spotOf8 h8) ?_
      refine e_istore_n3 dX0_farthest_53 rfl ?_
      refine e_iconst dX0_farthest_54 ?_
      refine e_istore4 dX0_farthest_55 rfl ?_
      refine e_for (n := 64) (fun i => e_E mX0_farthest 57 [.ref 350, e_i c, e_i y, e_i (x_fb (fun s => t_lyf c y ρ 33 (x_ce s)) (x_sp c) i.toNat), e_i i] [] (x_H χ2 h1) _ _ _ _) (by omega) ?_ (fun i hi0 hi1 hF => ?_)
      · have hb := x_fb_rg (fun s => t_lyf c y ρ 33 (x_ce s)) (c := x_sp c) (m := 64) ⟨rcs.1, rcs.2.1⟩ (64 : Int).toNat (by decide)
        refine e_iload dX0_farthest_57 rfl ?_
        refine e_bipush dX0_farthest_59 rfl ?_
        refine e_icmp_ge (tgt := 123) dX0_farthest_61 rfl ⟨by omega, by omega⟩ ⟨by omega, by omega⟩ (fun c3 => ?_) (fun q => by exfalso; omega)
        refine e_iload_n dX0_farthest_123 rfl ?_
        refine e_callS1rz dX0_farthest_124 md_X0_cellOf lk_X0_226 rfl q1226 rfl (Nat.le_of_ble_eq_true rfl) (C_X0_cellOf ⟨by omega, by omega⟩) ?_
        refine e_ireturn dX0_farthest_127 rfl rfl ?_
        refine x_pubi ?_ (x_f34w hfr w2) he1
        have k3 : t_rdo ρ c y = 1 := by rw [← b3]; exact k1
        unfold v_farthest
        rw [if_pos ⟨⟨by omega, by omega, by omega⟩, by omega, by omega, by omega, by omega⟩, if_neg (by omega), x_fb_t]
        exact x_fb_ce h8 hD.1.1 hD.2.1
      · have hb := x_fb_rg (fun s => t_lyf c y ρ 33 (x_ce s)) (c := x_sp c) (m := 64) ⟨rcs.1, rcs.2.1⟩ i.toNat (by omega)
        rw [x_fb_s _ _ hi0] at hF
        obtain ⟨b, hbb⟩ : ∃ b, x_fb (fun s => t_lyf c y ρ 33 (x_ce s)) (x_sp c) i.toNat = b := ⟨_, rfl⟩
        rw [hbb] at hb hF
        rw [hbb]
        have s8 := (x_ce_rg (s := i) ⟨hi0, hi1⟩)
        have t8 := (x_ce_rg (s := b) hb)
        have u1 := hDn.1 _ s8.1
        have u2 := hDn.1 _ t8.1
        rw [s8.2] at u1
        rw [t8.2] at u2
        have v1 := hD.2.2.1 _ s8.1.1 s8.1.2.1
        have v2 := hD.2.2.1 _ t8.1.1 t8.1.2.1
        refine e_iload dX0_farthest_57 rfl ?_
        refine e_bipush dX0_farthest_59 rfl ?_
        refine e_icmp_ge (tgt := 123) dX0_farthest_61 rfl ⟨by omega, by omega⟩ ⟨by omega, by omega⟩ (fun q => by exfalso; omega) (fun c4 => ?_)
        refine e_aload_n dX0_farthest_64 rfl ?_
        refine e_getV (.ref 379) dX0_farthest_65 fl_X0_75 (x_o0 _ _) rfl ?_
        refine e_getV (.ref (x_ai 28)) dX0_farthest_68 fl_X0_263 (x_o4 _ _) rfl ?_
        refine e_iload dX0_farthest_71 rfl ?_
        refine x_ild 64 dX0_farthest_73 rfl (by decide) (fun _ => rfl) rfl ⟨by omega, by omega⟩ ?_
        refine e_aload_n dX0_farthest_74 rfl ?_
        refine e_getV (.ref 379) dX0_farthest_75 fl_X0_75 (x_o0 _ _) rfl ?_
        refine e_getV (.ref (x_ai 28)) dX0_farthest_78 fl_X0_263 (x_o4 _ _) rfl ?_
        refine e_iload_n dX0_farthest_81 rfl ?_
        refine x_ild 64 dX0_farthest_82 rfl (by decide) (fun _ => rfl) rfl ⟨by omega, by omega⟩ ?_
        refine e_icmp_gt (tgt := 114) dX0_farthest_83 rfl ⟨by omega, by omega⟩ ⟨by omega, by omega⟩ (fun c5 => ?_) (fun c5 => ?_)
        · refine e_iload dX0_farthest_114 rfl ?_
          refine e_istore_n3 dX0_farthest_116 rfl ?_
          refine e_iinc4 dX0_farthest_117 rfl ?_
          refine e_goto (tgt := 57) dX0_farthest_120 rfl ?_
          first
            | (rw [if_pos (show t_lyf c y ρ 33 (x_ce b) < t_lyf c y ρ 33 (x_ce i) ∨ (t_lyf c y ρ 33 (x_ce i) = t_lyf c y ρ 33 (x_ce b) ∧ i < b) by omega)] at hF; exact hF)
            | (rw [if_neg (show ¬ (t_lyf c y ρ 33 (x_ce b) < t_lyf c y ρ 33 (x_ce i) ∨ (t_lyf c y ρ 33 (x_ce i) = t_lyf c y ρ 33 (x_ce b) ∧ i < b)) by omega)] at hF; exact hF)
        · refine e_aload_n dX0_farthest_86 rfl ?_
          refine e_getV (.ref 379) dX0_farthest_87 fl_X0_75 (x_o0 _ _) rfl ?_
          refine e_getV (.ref (x_ai 28)) dX0_farthest_90 fl_X0_263 (x_o4 _ _) rfl ?_
          refine e_iload dX0_farthest_93 rfl ?_
          refine x_ild 64 dX0_farthest_95 rfl (by decide) (fun _ => rfl) rfl ⟨by omega, by omega⟩ ?_
          refine e_aload_n dX0_farthest_96 rfl ?_
          refine e_getV (.ref 379) dX0_farthest_97 fl_X0_75 (x_o0 _ _) rfl ?_
          refine e_getV (.ref (x_ai 28)) dX0_farthest_100 fl_X0_263 (x_o4 _ _) rfl ?_
          refine e_iload_n dX0_farthest_103 rfl ?_
          refine x_ild 64 dX0_farthest_104 rfl (by decide) (fun _ => rfl) rfl ⟨by omega, by omega⟩ ?_
          refine e_icmp_ne (tgt := 117) dX0_farthest_105 rfl ⟨by omega, by omega⟩ ⟨by omega, by omega⟩ (fun c6 => ?_) (fun c6 => ?_)
          · refine e_iinc4 dX0_farthest_117 rfl ?_
            refine e_goto (tgt := 57) dX0_farthest_120 rfl ?_
            first
              | (rw [if_pos (show t_lyf c y ρ 33 (x_ce b) < t_lyf c y ρ 33 (x_ce i) ∨ (t_lyf c y ρ 33 (x_ce i) = t_lyf c y ρ 33 (x_ce b) ∧ i < b) by omega)] at hF; exact hF)
              | (rw [if_neg (show ¬ (t_lyf c y ρ 33 (x_ce b) < t_lyf c y ρ 33 (x_ce i) ∨ (t_lyf c y ρ 33 (x_ce i) = t_lyf c y ρ 33 (x_ce b) ∧ i < b)) by omega)] at hF; exact hF)
          · refine e_iload dX0_farthest_108 rfl ?_
            refine e_iload_n dX0_farthest_110 rfl ?_
            refine e_icmp_ge (tgt := 117) dX0_farthest_111 rfl ⟨by omega, by omega⟩ ⟨by omega, by omega⟩ (fun c7 => ?_) (fun c7 => ?_)
            · refine e_iinc4 dX0_farthest_117 rfl ?_
              refine e_goto (tgt := 57) dX0_farthest_120 rfl ?_
              first
                | (rw [if_pos (show t_lyf c y ρ 33 (x_ce b) < t_lyf c y ρ 33 (x_ce i) ∨ (t_lyf c y ρ 33 (x_ce i) = t_lyf c y ρ 33 (x_ce b) ∧ i < b) by omega)] at hF; exact hF)
                | (rw [if_neg (show ¬ (t_lyf c y ρ 33 (x_ce b) < t_lyf c y ρ 33 (x_ce i) ∨ (t_lyf c y ρ 33 (x_ce i) = t_lyf c y ρ 33 (x_ce b) ∧ i < b)) by omega)] at hF; exact hF)
            · refine e_iload dX0_farthest_114 rfl ?_
              refine e_istore_n3 dX0_farthest_116 rfl ?_
              refine e_iinc4 dX0_farthest_117 rfl ?_
              refine e_goto (tgt := 57) dX0_farthest_120 rfl ?_
              first
                | (rw [if_pos (show t_lyf c y ρ 33 (x_ce b) < t_lyf c y ρ 33 (x_ce i) ∨ (t_lyf c y ρ 33 (x_ce i) = t_lyf c y ρ 33 (x_ce b) ∧ i < b) by omega)] at hF; exact hF)
                | (rw [if_neg (show ¬ (t_lyf c y ρ 33 (x_ce b) < t_lyf c y ρ 33 (x_ce i) ∨ (t_lyf c y ρ 33 (x_ce i) = t_lyf c y ρ 33 (x_ce b) ∧ i < b)) by omega)] at hF; exact hF)
    · refine e_iconst dX0_farthest_32 ?_
      refine e_ireturn dX0_farthest_33 rfl rfl ?_
      refine x_pubi ?_ (x_f34 hfr) he1
      have k3 : ¬ t_rdo ρ c y = 1 := by rw [← b3]; exact k1
      unfold v_farthest
      rw [if_pos ⟨⟨by omega, by omega, by omega⟩, by omega, by omega, by omega, by omega⟩, if_pos (by omega)]
  · refine e_bipush dX0_farthest_9 rfl ?_
    refine e_ireturn dX0_farthest_11 rfl rfl ?_
    first
      | (refine x_pubi ?_ (x_f34 hfr) he1
         unfold v_farthest
         (repeat' split) <;> first | rfl | omega | (omega))
      | (refine x_pubi0 ?_
         unfold v_farthest
         (repeat' split) <;> first | rfl | omega)
def x_PSt (V : Int) (χ : t_S) (h0 : e_A) : e_R → e_A → Prop := fun r h => r = .inl (some (e_i V)) ∧ ∃ χ1 h1, x_fW χ χ1 ∧ e_ext h0 h1 ∧ h = x_H χ1 h1
theorem C_X0_straightOf {ρ χ : t_S} {h0 : e_A} {α : Nat → Nat} (A : x_at χ h0 (ρ 1) α) (hz : t_sz ρ) (hr : t_okR (ρ 1)) (F : z_F ρ) (hI : ∀ c, x_c8 c → t_is ρ 15 c = ρ 15 c) {s t a b : Int} (hs : s = x_sp a) (a8 : x_c8 a) (ht : t = x_sp b) (b8 : x_c8 b) : e_C mX0_straightOf [.ref 350, e_i s, e_i t] (x_H χ h0) 2 8 3 (x_PSt (v_sb ρ a b) χ h0) := by
  refine e_enter (al0 := [.ref 350, e_i s, e_i t, .retAddr 0, .retAddr 0]) (by decide +kernel) rfl (Nat.le_of_ble_eq_true rfl) ?_
  refine e_aload_n dX0_straightOf_0 rfl ?_
  refine e_bud (kc1 := 0 + 2) (ks1 := 0 + 8) (by decide) (by decide) ?_
  refine e_callV0 (M1 := mX0_creeksNow) (kc := 0) (ks := 0) (mc := 2) (ms := 8) (ci := 0) dX0_straightOf_1 lk_X0_209 md_X0_creeksNow rfl q1055 qs22 (x_o0 _ _) (by decide) rfl (Nat.le_of_ble_eq_true rfl) (C_X0_creeksNow A hz hr) (fun a hh q => ?_) (fun i hh q => by cases q.1)
  obtain ⟨q1, h1, he1, rfl⟩ := q
  cases q1
  show e_E _ _ _ (_ :: _) _ _ _ _ _
  have ras := x_sp_rg a8
  have rbs := x_sp_rg b8
  have g01 : x_g01 (t_is ρ 15) := x_b01 (t_is_ask hz hr).2.2.1
  have ga := x_cn_bt g01 (Or.inr a8) (by have := a8.1; omega)
  have gb := x_cn_bt g01 (Or.inr b8) (by have := b8.1; omega)
  rw [← hs, hI a a8] at ga
  rw [← ht, hI b b8] at gb
  have hD := x_ov_D hz hI a8
  have hD0 := (z_lyf (y := -1) hz a8).2.1
  have hb9 := x_bs_rg (t_is ρ 15)
  refine e_lstore_n3 dX0_straightOf_4 rfl ?_
  refine e_lload_n dX0_straightOf_5 rfl ?_
  refine e_iload_n dX0_straightOf_6 rfl ?_
  refine e_callS2rz dX0_straightOf_7 md_X0_isIn lk_X0_217 rfl q1188 rfl (Nat.le_of_ble_eq_true rfl) (C_X0_isIn (x_bs_rg _) ⟨by omega, by omega⟩) ?_
  refine e_bif_ne (tgt := 21) dX0_straightOf_10 rfl (fun c1 => ?_) (fun c1 => ?_)
  · refine e_iconst dX0_straightOf_21 ?_
    refine e_goto (tgt := 39) dX0_straightOf_22 rfl ?_
    refine e_ireturn dX0_straightOf_39 rfl rfl ?_
    first
      | (refine ⟨?_, χ2, h1, w2, he1, rfl⟩
         unfold v_sb
         rw [if_pos ⟨by omega, by omega⟩, ht, hDn.1 b b8])
      | (refine ⟨?_, χ, h1, x_fW_rf χ, he1, rfl⟩
         unfold v_sb
         rw [if_neg (fun q => by omega)])
  · refine e_lload_n dX0_straightOf_13 rfl ?_
    refine e_iload_n dX0_straightOf_14 rfl ?_
    refine e_callS2rz dX0_straightOf_15 md_X0_isIn lk_X0_217 rfl q1188 rfl (Nat.le_of_ble_eq_true rfl) (C_X0_isIn (x_bs_rg _) ⟨by omega, by omega⟩) ?_
    refine e_bif_eq (tgt := 25) dX0_straightOf_18 rfl (fun c2 => ?_) (fun c2 => ?_)
    · refine e_aload_n dX0_straightOf_25 rfl ?_
      refine e_getV (.ref 379) dX0_straightOf_26 fl_X0_75 (x_o0 _ _) rfl ?_
      refine e_iload_n dX0_straightOf_29 rfl ?_
      refine e_lload_n dX0_straightOf_30 rfl ?_
      refine e_bud (kc1 := 0 + 0) (ks1 := 0 + 0) (by decide) (by decide) ?_
      refine e_callV2 (M1 := mX4_over) (kc := 0) (ks := 0) (mc := 0) (ms := 0) (ci := 4) dX0_straightOf_31 lk_X0_259 md_X4_over rfl q1284 q1285 (x_o4 _ _) (by decide) rfl (Nat.le_of_ble_eq_true rfl) (C_X4_over (x_at_ext he1 A) hz g01 hs a8 rfl hD hD0) (fun a hh q => ?_) (fun i hh q => by cases q.1)
      obtain ⟨q1, χ2, w2, hDn, rfl⟩ := q
      cases q1
      show e_E _ _ _ (_ :: _) _ _ _ _ _
      refine e_getV (.ref (x_ai 28)) dX0_straightOf_34 fl_X0_263 (x_o4 _ _) rfl ?_
      refine e_iload_n dX0_straightOf_37 rfl ?_
      refine x_ild 64 dX0_straightOf_38 rfl (by decide) (fun _ => rfl) rfl ⟨by omega, by omega⟩ ?_
      refine e_ireturn dX0_straightOf_39 rfl rfl ?_
      first
        | (refine ⟨?_, χ2, h1, w2, he1, rfl⟩
           unfold v_sb
           rw [if_pos ⟨by omega, by omega⟩, ht, hDn.1 b b8])
        | (refine ⟨?_, χ, h1, x_fW_rf χ, he1, rfl⟩
           unfold v_sb
           rw [if_neg (fun q => by omega)])
    · refine e_iconst dX0_straightOf_21 ?_
      refine e_goto (tgt := 39) dX0_straightOf_22 rfl ?_
      refine e_ireturn dX0_straightOf_39 rfl rfl ?_
      first
        | (refine ⟨?_, χ2, h1, w2, he1, rfl⟩
           unfold v_sb
           rw [if_pos ⟨by omega, by omega⟩, ht, hDn.1 b b8])
        | (refine ⟨?_, χ, h1, x_fW_rf χ, he1, rfl⟩
           unfold v_sb
           rw [if_neg (fun q => by omega)])
theorem C_X0_straight {ρ χ : t_S} {h0 : e_A} {α : Nat → Nat} (q : x_Q ρ χ h0 α) {w : Int} (hw : e_rg w) : e_C mX0_straight [.ref 350, e_i w] (x_H χ h0) 5 20 7 (x_Pub (e_i (v_straight ρ w)) χ h0) := by
  obtain ⟨A, hz, hr, F, hIs, hI⟩ := q
  have s0 : 0 ≤ ρ 1 0 ∧ ρ 1 0 ≤ 12 := hz.1
  have s3 := hz.2.1
  have s4 := hz.2.2.1
  have s5 := hz.2.2.2.1
  have s6 := hz.2.2.2.2.1
  have s7 := hz.2.2.2.2.2.1
  have kw1 := hw.1
  have kw2 := hw.2
  refine e_enter (al0 := [.ref 350, e_i w, .retAddr 0]) (by decide +kernel) rfl (Nat.le_of_ble_eq_true rfl) ?_
  refine e_aload_n dX0_straight_0 rfl ?_
  refine e_iload_n dX0_straight_1 rfl ?_
  refine e_i2l dX0_straight_2 ⟨by omega, by omega⟩ ?_
  refine e_callV1rz (ci := 0) dX0_straight_3 md_X0_isWidow lk_X0_138 rfl q1222 qs33 (x_o0 _ _) (by decide) rfl (Nat.le_of_ble_eq_true rfl) (C_X0_isWidow A hz ⟨by omega, by omega⟩) ?_
  refine e_bif_ne (tgt := 12) dX0_straight_6 rfl (fun c1 => ?_) (fun c1 => ?_)
  · refine e_aload_n dX0_straight_12 rfl ?_
    refine e_bud (kc1 := 2 + 3) (ks1 := 8 + 12) (by decide) (by decide) ?_
    refine e_callV0 (M1 := mX0_is) (kc := 2) (ks := 8) (mc := 3) (ms := 12) (ci := 0) dX0_straight_13 lk_X0_194 md_X0_is rfl q1047 qs21 (x_o0 _ _) (by decide) rfl (Nat.le_of_ble_eq_true rfl) (hIs) (fun a hh q => ?_) (fun i hh q => by cases q.1)
    obtain ⟨q1, χ1, h1, N, hfr, he1, rfl⟩ := q
    cases q1
    show e_E _ _ _ (_ :: _) _ _ _ _ _
    have A1 := x_at_1 A hfr he1
    have rc := N.1.2.2.2 w (by omega) (by omega)
    have rc1 := rc.2.1
    have rc0 := rc.1
    refine e_getV (.ref (x_ai 11)) dX0_straight_16 fl_X0_202 (x_o3 _ _) rfl ?_
    refine e_iload_n dX0_straight_19 rfl ?_
    refine x_ild 7 dX0_straight_20 rfl (by decide) (fun _ => rfl) rfl ⟨by omega, by omega⟩ ?_
    refine e_iconst dX0_straight_21 ?_
    refine e_icmp_ne (tgt := 27) dX0_straight_22 rfl ⟨by omega, by omega⟩ ⟨by omega, by omega⟩ (fun c2 => ?_) (fun c2 => ?_)
    · have p8 : ∀ k : Int, 0 ≤ k → k ≤ ρ 27 w → x_c8 (t_pth ρ w k) := fun k k0 k1 => by
        show x_c8 (if k ≤ ρ 27 w then ρ 26 (41 * w + k) else -1)
        rw [if_pos k1]; exact rc.2.2.2.2.2.2 k k0 k1
      refine e_aload_n dX0_straight_27 rfl ?_
      refine e_aload_n dX0_straight_28 rfl ?_
      refine e_getV (.ref 366) dX0_straight_29 fl_X0_68 (x_o0 _ _) rfl ?_
      refine e_iload_n dX0_straight_32 rfl ?_
      refine e_iconst dX0_straight_33 ?_
      refine e_callV2rz (ci := 3) dX0_straight_34 md_X3_at lk_X0_241 rfl q1238 q1239 (x_o3 _ _) (by decide) rfl (Nat.le_of_ble_eq_true rfl) (C_X3_at ⟨by omega, by omega⟩ ⟨by omega, by omega⟩ (rc.2.2.2.2.2.1 0 (by omega) (by omega))) ?_
      refine e_aload_n dX0_straight_37 rfl ?_
      refine e_getV (.ref 366) dX0_straight_38 fl_X0_68 (x_o0 _ _) rfl ?_
      refine e_iload_n dX0_straight_41 rfl ?_
      refine e_aload_n dX0_straight_42 rfl ?_
      refine e_getV (.ref 366) dX0_straight_43 fl_X0_68 (x_o0 _ _) rfl ?_
      refine e_getV (.ref (x_ai 11)) dX0_straight_46 fl_X0_202 (x_o3 _ _) rfl ?_
      refine e_iload_n dX0_straight_49 rfl ?_
      refine x_ild 7 dX0_straight_50 rfl (by decide) (fun _ => rfl) rfl ⟨by omega, by omega⟩ ?_
      refine e_callV2rz (ci := 3) dX0_straight_51 md_X3_at lk_X0_241 rfl q1238 q1239 (x_o3 _ _) (by decide) rfl (Nat.le_of_ble_eq_true rfl) (C_X3_at ⟨by omega, by omega⟩ ⟨by omega, by omega⟩ (by rw [rc1]; exact rc.2.2.2.2.2.1 (ρ 27 w) (by omega) (by omega))) ?_
      have pa := p8 0 (by omega) (by omega)
      have pb := p8 (χ1 11 w) (by omega) (by omega)
      have eV : v_sb ρ (t_pth ρ w 0) (t_pth ρ w (χ1 11 w)) = t_sbw ρ w := by rw [rc1]
      have hvr := v_sb_rg hz ⟨pa.1, pa.2.1⟩ ⟨pb.1, pb.2.1⟩
      refine e_bud (kc1 := 0 + 2) (ks1 := 0 + 8) (by decide) (by decide) ?_
      refine e_callV2 (M1 := mX0_straightOf) (kc := 0) (ks := 0) (mc := 2) (ms := 8) (ci := 0) dX0_straight_54 lk_X0_266 md_X0_straightOf rfl q1281 qs35 (x_o0 _ _) (by decide) rfl (Nat.le_of_ble_eq_true rfl) (C_X0_straightOf A1 hz hr F hI rfl pa rfl pb) (fun a hh q => ?_) (fun i hh q => by cases q.1)
      obtain ⟨q1, χ2, h2, w2, he2, rfl⟩ := q
      cases q1
      show e_E _ _ _ (_ :: _) _ _ _ _ _
      rw [eV] at hvr ⊢
      refine e_istore_n2 dX0_straight_57 rfl ?_
      refine e_iload_n dX0_straight_58 rfl ?_
      refine e_iconst dX0_straight_59 ?_
      refine e_icmp_ne (tgt := 68) dX0_straight_60 rfl ⟨by omega, by omega⟩ ⟨by omega, by omega⟩ (fun k2 => ?_) (fun k2 => ?_)
      · refine e_iload_n dX0_straight_68 rfl ?_
        refine e_ireturn dX0_straight_69 rfl rfl ?_
        refine x_pubi ?_ (x_f34w hfr w2) (e_ext_tr he1 he2)
        unfold v_straight
        rw [if_pos ⟨by omega, by omega⟩, if_neg (by omega)]
        first
          | (rw [if_pos k2])
          | (rw [if_neg k2])
      · refine e_bipush dX0_straight_63 rfl ?_
        refine e_goto (tgt := 69) dX0_straight_65 rfl ?_
        refine e_ireturn dX0_straight_69 rfl rfl ?_
        refine x_pubi ?_ (x_f34w hfr w2) (e_ext_tr he1 he2)
        unfold v_straight
        rw [if_pos ⟨by omega, by omega⟩, if_neg (by omega)]
        first
          | (rw [if_pos k2])
          | (rw [if_neg k2])
    · refine e_iconst dX0_straight_25 ?_
      refine e_ireturn dX0_straight_26 rfl rfl ?_
      first
        | (refine x_pubi ?_ (x_f34 hfr) he1
           unfold v_straight
           (repeat' split) <;> first | rfl | omega | (omega))
        | (refine x_pubi0 ?_
           unfold v_straight
           (repeat' split) <;> first | rfl | omega)
  · refine e_bipush dX0_straight_9 rfl ?_
    refine e_ireturn dX0_straight_11 rfl rfl ?_
    first
      | (refine x_pubi ?_ (x_f34 hfr) he1
         unfold v_straight
         (repeat' split) <;> first | rfl | omega | (omega))
      | (refine x_pubi0 ?_
         unfold v_straight
         (repeat' split) <;> first | rfl | omega)
theorem C_X0_beeline {ρ χ : t_S} {h0 : e_A} {α : Nat → Nat} (q : x_Q ρ χ h0 α) {a : Int} (ha : e_rg a) {b : Int} (hb : e_rg b) : e_C mX0_beeline [.ref 350, e_i a, e_i b] (x_H χ h0) 2 8 4 (x_Pub (e_i (v_beeline ρ a b)) χ h0) := by
  obtain ⟨A, hz, hr, F, hIs, hI⟩ := q
  have s0 : 0 ≤ ρ 1 0 ∧ ρ 1 0 ≤ 12 := hz.1
  have s3 := hz.2.1
  have s4 := hz.2.2.1
  have s5 := hz.2.2.2.1
  have s6 := hz.2.2.2.2.1
  have s7 := hz.2.2.2.2.2.1
  have ka1 := ha.1
  have ka2 := ha.2
  have kb1 := hb.1
  have kb2 := hb.2
  refine e_enter (al0 := [.ref 350, e_i a, e_i b]) (by decide +kernel) rfl (Nat.le_of_ble_eq_true rfl) ?_
  refine e_aload_n dX0_beeline_0 rfl ?_
  refine e_iload_n dX0_beeline_1 rfl ?_
  refine e_i2l dX0_beeline_2 ⟨by omega, by omega⟩ ?_
  refine e_callV1rz (ci := 0) dX0_beeline_3 md_X0_isCell lk_X0_206 rfl q1207 qs32 (x_o0 _ _) (by decide) rfl (Nat.le_of_ble_eq_true rfl) (C_X0_isCell A hz ⟨by omega, by omega⟩) ?_
  refine e_bif_eq (tgt := 35) dX0_beeline_6 rfl (fun c1 => ?_) (fun c1 => ?_)
  · refine e_bipush dX0_beeline_35 rfl ?_
    refine e_ireturn dX0_beeline_37 rfl rfl ?_
    first
      | (refine x_pubi ?_ (fun j hj => w2 j (by omega) (by omega) (by omega)) he2
         unfold v_beeline
         rw [if_pos ⟨⟨by omega, by omega, by omega, by omega⟩, by omega, by omega, by omega, by omega⟩])
      | (refine x_pubi0 ?_
         unfold v_beeline
         rw [if_neg (fun q => by omega)])
  · refine e_aload_n dX0_beeline_9 rfl ?_
    refine e_iload_n dX0_beeline_10 rfl ?_
    refine e_i2l dX0_beeline_11 ⟨by omega, by omega⟩ ?_
    refine e_callV1rz (ci := 0) dX0_beeline_12 md_X0_isCell lk_X0_206 rfl q1207 qs32 (x_o0 _ _) (by decide) rfl (Nat.le_of_ble_eq_true rfl) (C_X0_isCell A hz ⟨by omega, by omega⟩) ?_
    refine e_bif_eq (tgt := 35) dX0_beeline_15 rfl (fun c2 => ?_) (fun c2 => ?_)
    · refine e_bipush dX0_beeline_35 rfl ?_
      refine e_ireturn dX0_beeline_37 rfl rfl ?_
      first
        | (refine x_pubi ?_ (fun j hj => w2 j (by omega) (by omega) (by omega)) he2
           unfold v_beeline
           rw [if_pos ⟨⟨by omega, by omega, by omega, by omega⟩, by omega, by omega, by omega, by omega⟩])
        | (refine x_pubi0 ?_
           unfold v_beeline
           rw [if_neg (fun q => by omega)])
    · have a8 := x_ok8 hz (c := a) ⟨by omega, by omega, by omega, by omega⟩
      have b8 := x_ok8 hz (c := b) ⟨by omega, by omega, by omega, by omega⟩
      refine e_aload_n dX0_beeline_18 rfl ?_
      refine e_iload_n dX0_beeline_19 rfl ?_
      refine e_i2l dX0_beeline_20 ⟨by omega, by omega⟩ ?_
      refine e_callS1rz dX0_beeline_21 md_X0_spotOf lk_X0_213 rfl q1212 rfl (Nat.le_of_ble_eq_true rfl) (C_X0_spotOf8 a8) ?_
      refine e_iload_n dX0_beeline_24 rfl ?_
      refine e_i2l dX0_beeline_25 ⟨by omega, by omega⟩ ?_
      refine e_callS1rz dX0_beeline_26 md_X0_spotOf lk_X0_213 rfl q1212 rfl (Nat.le_of_ble_eq_true rfl) (C_X0_spotOf8 b8) ?_
      refine e_bud (kc1 := 0 + 2) (ks1 := 0 + 8) (by decide) (by decide) ?_
      refine e_callV2 (M1 := mX0_straightOf) (kc := 0) (ks := 0) (mc := 2) (ms := 8) (ci := 0) dX0_beeline_29 lk_X0_266 md_X0_straightOf rfl q1281 qs35 (x_o0 _ _) (by decide) rfl (Nat.le_of_ble_eq_true rfl) (C_X0_straightOf A hz hr F hI rfl a8 rfl b8) (fun a hh q => ?_) (fun i hh q => by cases q.1)
      obtain ⟨q1, χ2, h2, w2, he2, rfl⟩ := q
      cases q1
      show e_E _ _ _ (_ :: _) _ _ _ _ _
      refine e_goto (tgt := 37) dX0_beeline_32 rfl ?_
      refine e_ireturn dX0_beeline_37 rfl rfl ?_
      first
        | (refine x_pubi ?_ (fun j hj => w2 j (by omega) (by omega) (by omega)) he2
           unfold v_beeline
           rw [if_pos ⟨⟨by omega, by omega, by omega, by omega⟩, by omega, by omega, by omega, by omega⟩])
        | (refine x_pubi0 ?_
           unfold v_beeline
           rw [if_neg (fun q => by omega)])
