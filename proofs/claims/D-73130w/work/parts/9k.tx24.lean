/-! THE COMPONENT: two who stay in (printed by tx24.py) -/
set_option maxRecDepth 100000
theorem x_sh1 {x w : Int} (hx : 0 ≤ x ∧ x ≤ 1) (hw : 0 ≤ w ∧ w < 7) : 0 ≤ x * 2 ^ w.toNat ∧ x * 2 ^ w.toNat < 2 ^ 7 := by
  have h := x_pw7 hw
  have hx2 : x = 0 ∨ x = 1 := by omega
  rcases hx2 with rfl | rfl
  · rw [Int.zero_mul]; decide
  · rw [Int.one_mul]; exact h
theorem x_row {σ ρ : t_S} (e : ρ 1 = σ 1) (hz : t_sz σ) (hr : t_okR (σ 1)) (hC : t_isC σ ∨ σ 1 7 = 0) : t_sz ρ ∧ t_okR (ρ 1) ∧ (t_isC ρ ∨ ρ 1 7 = 0) := by
  unfold t_sz t_isC at *
  rw [e]
  exact ⟨hz, hr, hC⟩
theorem C_X0_getsOf {σ χ : t_S} {h0 : e_A} {α : Nat → Nat} (A : x_at χ h0 (σ 1) α) (hz : t_sz σ) (hr : t_okR (σ 1)) (hC : t_isC σ ∨ σ 1 7 = 0) {a w v x y : Int} (ha : 0 ≤ a ∧ a < σ 1 7) (hw : 0 ≤ w ∧ w < 7) (hv : 0 ≤ v ∧ v < 7) (hx : 0 ≤ x ∧ x ≤ 1) (hy : 0 ≤ y ∧ y ≤ 1) : e_C mX0_getsOf [.ref 350, e_i a, e_i w, e_i v, e_i x, e_i y] (x_H χ h0) 3 12 6 (x_Pub (e_i (t_gv a (t_gb w v x y σ))) χ h0) := by
  have s0 : 0 ≤ σ 1 0 ∧ σ 1 0 ≤ 12 := hz.1
  have s3 := hz.2.1
  have s4 := hz.2.2.1
  have s5 := hz.2.2.2.1
  have s6 := hz.2.2.2.2.1
  have s7 := hz.2.2.2.2.2.1
  have hx1 := x_sh1 hx hw
  have hy1 := x_sh1 hy hv
  have hgm := t_or_rg 7 hx1 hy1
  have hin := (t_gb_in (a := w) (b := v) (x := x) (y := y) hz hr).1
  have l1 : x_ls σ 18 (t_gb0 w v x y σ) := fun j hj hne => s_up_f hne
  have t1 := x_ls_1 (by decide) l1
  refine e_enter (al0 := [.ref 350, e_i a, e_i w, e_i v, e_i x, e_i y]) (by decide +kernel) rfl (Nat.le_of_ble_eq_true rfl) ?_
  refine e_aload_n dX0_getsOf_0 rfl ?_
  refine e_getV (.ref 366) dX0_getsOf_1 fl_X0_68 (x_o0 _ _) rfl ?_
  refine e_bud (kc1 := 0 + 3) (ks1 := 0 + 12) (by decide) (by decide) ?_
  refine e_callV0 (M1 := mX3_is) (kc := 0) (ks := 0) (mc := 3) (ms := 12) (ci := 3) dX0_getsOf_4 lk_X0_188 md_X3_is rfl q1050 q1051 (x_o3 _ _) (by decide) rfl (Nat.le_of_ble_eq_true rfl) (C_X3_is A hz hr) (fun a hh q => ?_) (fun i hh q => by cases q.1)
  obtain ⟨q1, χ1, h1, hk, hRq, he1, rfl⟩ := q
  cases q1
  show e_E _ _ _ (_ :: _) _ _ _ _ _
  have hst := x_sty_wk hz hr hRq
  have hsty : x_sty (σ 1 7) (t_or (χ1 27 0) (t_gbm w v x y)) ((t_gb0 w v x y σ) 18 0) := by
    unfold t_gb0
    rw [s_up_eq]
    exact x_sty_andn hst.1 hst.2 hgm
  refine e_dup dX0_getsOf_7 rfl ?_
  refine e_getV (e_i _) dX0_getsOf_8 fl_X0_348 (x_o3 _ _) rfl ?_
  refine e_iload dX0_getsOf_11 rfl ?_
  refine e_iload_n dX0_getsOf_13 rfl ?_
  refine e_ishl dX0_getsOf_14 (e_shl_law x ⟨by omega, by omega⟩) ?_
  refine e_iload dX0_getsOf_15 rfl ?_
  refine e_iload_n dX0_getsOf_17 rfl ?_
  refine e_ishl dX0_getsOf_18 (e_shl_law y ⟨by omega, by omega⟩) ?_
  refine e_ior dX0_getsOf_19 (x_or_law hx1.1 hy1.1) ?_
  refine e_ior dX0_getsOf_20 (x_or_law hst.1.1.1 hgm.1) ?_
  refine x_put_27 dX0_getsOf_21 fl_X0_348 ?_
  refine e_aload_n dX0_getsOf_24 rfl ?_
  refine e_getV (.ref 366) dX0_getsOf_25 fl_X0_68 (x_o0 _ _) rfl ?_
  refine e_bud (kc1 := 0 + 0) (ks1 := 0 + 0) (by decide) (by decide) ?_
  refine e_callV0 (M1 := mX3_goes) (kc := 0) (ks := 0) (mc := 0) (ms := 0) (ci := 3) dX0_getsOf_28 lk_X0_191 md_X3_goes rfl q1148 q1149 (x_o3 _ _) (by decide) rfl (Nat.le_of_ble_eq_true rfl) (C_X3_goes (x_at_2 A (by decide) l1 ((s_up_f (by decide)).trans (hk 1 (by decide))) he1) hin (x_ls_ask (by decide) l1 hin hC) (x_Rq_27 hRq l1 hsty)) (fun a hh q => ?_) (fun i hh q => by cases q.1)
  obtain ⟨q1, χ3, G, rfl⟩ := q
  cases q1
  show e_E _ _ _ (_ :: _) _ _ _ _ _
  have g3 := x_gone hin G
  have hf3 := x_gone_k hk (fun j hj => s_up_f (k1 := j) (by omega)) G
  have F := g3.2.1
  have N := g3.1
  have eT : t_gb w v x y σ = t_ga (t_gb0 w v x y σ) := rfl
  obtain ⟨ρ, hρ⟩ : ∃ ρ, t_ga (t_gb0 w v x y σ) = ρ := ⟨_, rfl⟩
  rw [hρ] at F N g3 eT
  rw [eT]
  have r1 : ρ 1 = σ 1 := g3.2.2.2.trans t1
  have rc := N.1.2.2.2 a (by omega) (by rw [r1]; omega)
  have rc1 := rc.2.1
  have rc0 := rc.1
  have rc3 := rc.2.2.2.1
  refine e_pop dX0_getsOf_31 rfl ?_
  refine e_aload_n dX0_getsOf_32 rfl ?_
  refine e_getV (.ref 366) dX0_getsOf_33 fl_X0_68 (x_o0 _ _) rfl ?_
  refine e_getV (.ref (x_ai 11)) dX0_getsOf_36 fl_X0_202 (x_o3 _ _) rfl ?_
  refine e_iload_n dX0_getsOf_39 rfl ?_
  refine x_ild 7 dX0_getsOf_40 rfl (by decide) (fun _ => rfl) rfl ⟨by omega, by omega⟩ ?_
  refine e_iconst dX0_getsOf_41 ?_
  refine e_icmp_ne (tgt := 49) dX0_getsOf_42 rfl ⟨by omega, by omega⟩ ⟨by omega, by omega⟩ (fun c1 => ?_) (fun c1 => ?_)
  · refine e_aload_n dX0_getsOf_49 rfl ?_
    refine e_getV (.ref 366) dX0_getsOf_50 fl_X0_68 (x_o0 _ _) rfl ?_
    refine e_getV (.ref (x_ai 21)) dX0_getsOf_53 fl_X0_248 (x_o3 _ _) rfl ?_
    refine e_iload_n dX0_getsOf_56 rfl ?_
    refine x_lld 7 dX0_getsOf_57 rfl (by decide) (fun _ => rfl) rfl ⟨by omega, by omega⟩ ?_
    refine e_callS1rz dX0_getsOf_58 md_J17_bitCount lk_X0_252 rfl q1254 rfl (Nat.le_of_ble_eq_true rfl) (C_J17_bitCount (by rw [rc.2.2.2.2.1]; exact x_bs_rg _)) ?_
    refine e_iconst dX0_getsOf_61 ?_
    refine e_aload_n dX0_getsOf_62 rfl ?_
    refine e_getV (.ref 366) dX0_getsOf_63 fl_X0_68 (x_o0 _ _) rfl ?_
    refine e_getV (.ref (x_ai 13)) dX0_getsOf_66 fl_X0_330 (x_o3 _ _) rfl ?_
    refine e_iload_n dX0_getsOf_69 rfl ?_
    refine x_ild 7 dX0_getsOf_70 rfl (by decide) (fun _ => rfl) rfl ⟨by omega, by omega⟩ ?_
    refine e_imul dX0_getsOf_71 ?_
    refine e_isub dX0_getsOf_72 ?_
    refine e_ireturn dX0_getsOf_73 rfl rfl ?_
    refine x_pubi ?_ (x_f34 hf3) he1
    unfold t_gv
    first
      | (rw [if_neg (by omega)]; done)
      | (rw [if_pos (by omega), rc.2.2.2.2.1, rc3, if_neg (by omega), x_grd F ⟨by omega, by omega⟩])
  · refine e_iconst dX0_getsOf_45 ?_
    refine e_goto (tgt := 73) dX0_getsOf_46 rfl ?_
    refine e_ireturn dX0_getsOf_73 rfl rfl ?_
    refine x_pubi ?_ (x_f34 hf3) he1
    unfold t_gv
    first
      | (rw [if_neg (by omega)]; done)
      | (rw [if_pos (by omega), rc.2.2.2.2.1, rc3, if_neg (by omega), x_grd F ⟨by omega, by omega⟩])
theorem C_X0_isRest {σ χ : t_S} {h0 : e_A} {α : Nat → Nat} (A : x_at χ h0 (σ 1) α) (hz : t_sz σ) (hr : t_okR (σ 1)) (hC : t_isC σ ∨ σ 1 7 = 0) {a b x y : Int} {X r1 r2 r3 r4 : t_S} (ha : 0 ≤ a ∧ a < σ 1 7) (hb : 0 ≤ b ∧ b < σ 1 7) (hx : 0 ≤ x ∧ x ≤ 1) (hy : 0 ≤ y ∧ y ≤ 1) (eX : X 1 = σ 1) (e1 : t_gb a b x y X = r1) (e2 : t_gb a b (1 - x) y r1 = r2) (e3 : t_gb a b x y r2 = r3) (e4 : t_gb a b x (1 - y) r3 = r4) : e_C mX0_isRest [.ref 350, e_i a, e_i b, e_i x, e_i y] (x_H χ h0) 12 48 7 (x_Pub (e_i (if ¬ t_gv a r1 < t_gv a r2 ∧ ¬ t_gv b r3 < t_gv b r4 then 1 else 0)) χ h0) := by
  have s0 : 0 ≤ σ 1 0 ∧ σ 1 0 ≤ 12 := hz.1
  have s3 := hz.2.1
  have s4 := hz.2.2.1
  have s5 := hz.2.2.2.1
  have s6 := hz.2.2.2.2.1
  have s7 := hz.2.2.2.2.2.1
  have s7p : σ 1 7 ≤ 7 := by omega
  have gX := x_row eX hz hr hC
  have k1 := t_gb_in (a := a) (b := b) (x := x) (y := y) gX.1 gX.2.1
  rw [e1] at k1
  have d1 : r1 1 = σ 1 := (k1.2.2.2 1 (by omega)).trans eX
  have g1 := x_row d1 hz hr hC
  have k2 := t_gb_in (a := a) (b := b) (x := 1 - x) (y := y) g1.1 g1.2.1
  rw [e2] at k2
  have d2 : r2 1 = σ 1 := (k2.2.2.2 1 (by omega)).trans d1
  have g2 := x_row d2 hz hr hC
  have k3 := t_gb_in (a := a) (b := b) (x := x) (y := y) g2.1 g2.2.1
  rw [e3] at k3
  have d3 : r3 1 = σ 1 := (k3.2.2.2 1 (by omega)).trans d2
  have g3 := x_row d3 hz hr hC
  have k4 := t_gb_in (a := a) (b := b) (x := x) (y := 1 - y) g3.1 g3.2.1
  rw [e4] at k4
  have v1 := t_gv_rg (w := a) k1.2.2.1 ⟨by omega, by omega⟩
  have v2 := t_gv_rg (w := a) k2.2.2.1 ⟨by omega, by omega⟩
  have v3 := t_gv_rg (w := b) k3.2.2.1 ⟨by omega, by omega⟩
  have v4 := t_gv_rg (w := b) k4.2.2.1 ⟨by omega, by omega⟩
  refine e_enter (al0 := [.ref 350, e_i a, e_i b, e_i x, e_i y]) (by decide +kernel) rfl (Nat.le_of_ble_eq_true rfl) ?_
  refine e_aload_n dX0_isRest_0 rfl ?_
  refine e_iload_n dX0_isRest_1 rfl ?_
  refine e_iload_n dX0_isRest_2 rfl ?_
  refine e_iload_n dX0_isRest_3 rfl ?_
  refine e_iconst dX0_isRest_4 ?_
  refine e_iload_n dX0_isRest_5 rfl ?_
  refine e_isub dX0_isRest_6 ?_
  refine e_iload dX0_isRest_7 rfl ?_
  refine e_bud (kc1 := 9 + 3) (ks1 := 36 + 12) (by decide) (by decide) ?_
  refine e_callV5 (M1 := mX0_getsOf) (kc := 9) (ks := 36) (mc := 3) (ms := 12) (ci := 0) dX0_isRest_9 lk_X0_422 md_X0_getsOf rfl q1609 qs57 (x_o0 _ _) (by decide) rfl (Nat.le_of_ble_eq_true rfl) (C_X0_getsOf (show x_at χ h0 (r1 1) α by rw [d1]; exact A) g1.1 g1.2.1 g1.2.2 (by rw [d1]; omega) ⟨by omega, by omega⟩ ⟨by omega, by omega⟩ ⟨by omega, by omega⟩ ⟨by omega, by omega⟩) (fun a hh q => ?_) (fun i hh q => by cases q.1)
  obtain ⟨q1, χ3, h3, hf3, he3, rfl⟩ := q
  cases q1
  show e_E _ _ _ (_ :: _) _ _ _ _ _
  rw [e2]
  refine e_aload_n dX0_isRest_12 rfl ?_
  refine e_iload_n dX0_isRest_13 rfl ?_
  refine e_iload_n dX0_isRest_14 rfl ?_
  refine e_iload_n dX0_isRest_15 rfl ?_
  refine e_iload_n dX0_isRest_16 rfl ?_
  refine e_iload dX0_isRest_17 rfl ?_
  refine e_bud (kc1 := 6 + 3) (ks1 := 24 + 12) (by decide) (by decide) ?_
  refine e_callV5 (M1 := mX0_getsOf) (kc := 6) (ks := 24) (mc := 3) (ms := 12) (ci := 0) dX0_isRest_19 lk_X0_422 md_X0_getsOf rfl q1609 qs57 (x_o0 _ _) (by decide) rfl (Nat.le_of_ble_eq_true rfl) (C_X0_getsOf (show x_at χ3 h3 (X 1) α by rw [eX]; exact x_at_p A hf3 he3) gX.1 gX.2.1 gX.2.2 (by rw [eX]; omega) ⟨by omega, by omega⟩ ⟨by omega, by omega⟩ ⟨by omega, by omega⟩ ⟨by omega, by omega⟩) (fun a hh q => ?_) (fun i hh q => by cases q.1)
  obtain ⟨q1, χ4, h4, hf4, he4, rfl⟩ := q
  cases q1
  show e_E _ _ _ (_ :: _) _ _ _ _ _
  rw [e1]
  refine e_icmp_gt (tgt := 54) dX0_isRest_22 rfl ⟨by omega, by omega⟩ ⟨by omega, by omega⟩ (fun c1 => ?_) (fun c1 => ?_)
  · refine e_iconst dX0_isRest_54 ?_
    refine e_ireturn dX0_isRest_55 rfl rfl ?_
    first
      | (refine x_pubi ?_ (x_p_tr (x_p_tr (x_p_tr hf3 hf4) hf5) hf6) (e_ext_tr (e_ext_tr (e_ext_tr he3 he4) he5) he6)
         (repeat' split) <;> first | rfl | omega)
      | (refine x_pubi ?_ (x_p_tr hf3 hf4) (e_ext_tr he3 he4)
         (repeat' split) <;> first | rfl | omega)
  · refine e_aload_n dX0_isRest_25 rfl ?_
    refine e_iload_n dX0_isRest_26 rfl ?_
    refine e_iload_n dX0_isRest_27 rfl ?_
    refine e_iload_n dX0_isRest_28 rfl ?_
    refine e_iload_n dX0_isRest_29 rfl ?_
    refine e_iconst dX0_isRest_30 ?_
    refine e_iload dX0_isRest_31 rfl ?_
    refine e_isub dX0_isRest_33 ?_
    refine e_bud (kc1 := 3 + 3) (ks1 := 12 + 12) (by decide) (by decide) ?_
    refine e_callV5 (M1 := mX0_getsOf) (kc := 3) (ks := 12) (mc := 3) (ms := 12) (ci := 0) dX0_isRest_34 lk_X0_422 md_X0_getsOf rfl q1609 qs57 (x_o0 _ _) (by decide) rfl (Nat.le_of_ble_eq_true rfl) (C_X0_getsOf (show x_at χ4 h4 (r3 1) α by rw [d3]; exact x_at_p A (x_p_tr hf3 hf4) (e_ext_tr he3 he4)) g3.1 g3.2.1 g3.2.2 (by rw [d3]; omega) ⟨by omega, by omega⟩ ⟨by omega, by omega⟩ ⟨by omega, by omega⟩ ⟨by omega, by omega⟩) (fun a hh q => ?_) (fun i hh q => by cases q.1)
    obtain ⟨q1, χ5, h5, hf5, he5, rfl⟩ := q
    cases q1
    show e_E _ _ _ (_ :: _) _ _ _ _ _
    rw [e4]
    refine e_aload_n dX0_isRest_37 rfl ?_
    refine e_iload_n dX0_isRest_38 rfl ?_
    refine e_iload_n dX0_isRest_39 rfl ?_
    refine e_iload_n dX0_isRest_40 rfl ?_
    refine e_iload_n dX0_isRest_41 rfl ?_
    refine e_iload dX0_isRest_42 rfl ?_
    refine e_bud (kc1 := 0 + 3) (ks1 := 0 + 12) (by decide) (by decide) ?_
    refine e_callV5 (M1 := mX0_getsOf) (kc := 0) (ks := 0) (mc := 3) (ms := 12) (ci := 0) dX0_isRest_44 lk_X0_422 md_X0_getsOf rfl q1609 qs57 (x_o0 _ _) (by decide) rfl (Nat.le_of_ble_eq_true rfl) (C_X0_getsOf (show x_at χ5 h5 (r2 1) α by rw [d2]; exact x_at_p A (x_p_tr (x_p_tr hf3 hf4) hf5) (e_ext_tr (e_ext_tr he3 he4) he5)) g2.1 g2.2.1 g2.2.2 (by rw [d2]; omega) ⟨by omega, by omega⟩ ⟨by omega, by omega⟩ ⟨by omega, by omega⟩ ⟨by omega, by omega⟩) (fun a hh q => ?_) (fun i hh q => by cases q.1)
    obtain ⟨q1, χ6, h6, hf6, he6, rfl⟩ := q
    cases q1
    show e_E _ _ _ (_ :: _) _ _ _ _ _
    rw [e3]
    refine e_icmp_gt (tgt := 54) dX0_isRest_47 rfl ⟨by omega, by omega⟩ ⟨by omega, by omega⟩ (fun c2 => ?_) (fun c2 => ?_)
    · refine e_iconst dX0_isRest_54 ?_
      refine e_ireturn dX0_isRest_55 rfl rfl ?_
      first
        | (refine x_pubi ?_ (x_p_tr (x_p_tr (x_p_tr hf3 hf4) hf5) hf6) (e_ext_tr (e_ext_tr (e_ext_tr he3 he4) he5) he6)
           (repeat' split) <;> first | rfl | omega)
        | (refine x_pubi ?_ (x_p_tr hf3 hf4) (e_ext_tr he3 he4)
           (repeat' split) <;> first | rfl | omega)
    · refine e_iconst dX0_isRest_50 ?_
      refine e_goto (tgt := 55) dX0_isRest_51 rfl ?_
      refine e_ireturn dX0_isRest_55 rfl rfl ?_
      first
        | (refine x_pubi ?_ (x_p_tr (x_p_tr (x_p_tr hf3 hf4) hf5) hf6) (e_ext_tr (e_ext_tr (e_ext_tr he3 he4) he5) he6)
           (repeat' split) <;> first | rfl | omega)
        | (refine x_pubi ?_ (x_p_tr hf3 hf4) (e_ext_tr he3 he4)
           (repeat' split) <;> first | rfl | omega)
theorem C_X0_rests {σ χ : t_S} {h0 : e_A} {α : Nat → Nat} (A : x_at χ h0 (σ 1) α) (hz : t_sz σ) (hr : t_okR (σ 1)) (hC : t_isC σ ∨ σ 1 7 = 0) {a b : Int} (ha : e_rg a) (hb : e_rg b) : e_C mX0_rests [.ref 350, e_i a, e_i b] (x_H χ h0) 48 192 8 (x_Pub (e_i (v_rests σ a b)) χ h0) := by
  have s0 : 0 ≤ σ 1 0 ∧ σ 1 0 ≤ 12 := hz.1
  have s3 := hz.2.1
  have s4 := hz.2.2.1
  have s5 := hz.2.2.2.1
  have s6 := hz.2.2.2.2.1
  have s7 := hz.2.2.2.2.2.1
  have ka1 := ha.1
  have ka2 := ha.2
  have kb1 := hb.1
  have kb2 := hb.2
  refine e_enter (al0 := [.ref 350, e_i a, e_i b, .retAddr 0, .retAddr 0]) (by decide +kernel) rfl (Nat.le_of_ble_eq_true rfl) ?_
  refine e_aload_n dX0_rests_0 rfl ?_
  refine e_iload_n dX0_rests_1 rfl ?_
  refine e_iload_n dX0_rests_2 rfl ?_
  refine e_callV2rz (ci := 0) dX0_rests_3 md_X0_areTwo lk_X0_426 rfl q1601 qs55 (x_o0 _ _) (by decide) rfl (Nat.le_of_ble_eq_true rfl) (C_X0_areTwo A hz ⟨by omega, by omega⟩ ⟨by omega, by omega⟩) ?_
  refine e_bif_ne (tgt := 12) dX0_rests_6 rfl (fun c1 => ?_) (fun c1 => ?_)
  · refine e_iconst dX0_rests_12 ?_
    refine e_istore_n3 dX0_rests_13 rfl ?_
    refine e_iconst dX0_rests_14 ?_
    refine e_istore4 dX0_rests_15 rfl ?_
    rw [show (Value.int (Int32.ofInt 0)) = e_i (t_it (t_rsf a b) (0 : Int).toNat (σ, (0 : Int))).2 from rfl]
    refine e_for (n := 4) (F := fun i => ∀ χ2 h2, (∀ j, (j < 10 ∨ 34 < j) → χ2 j = χ j) → e_ext h0 h2 → e_E mX0_rests 17 [.ref 350, e_i a, e_i b, e_i (t_it (t_rsf a b) i.toNat (σ, (0 : Int))).2, e_i i] [] (x_H χ2 h2) (12 * (4 - i).toNat) (48 * (4 - i).toNat) 8 (x_Pub (e_i (v_rests σ a b)) χ h0)) (by omega) (fun χ2 h2 hf he => ?_) (fun i hi0 hi1 hF χ2 h2 hf he => ?_) χ h0 (fun _ _ => rfl) (e_ext_rf _)
    · refine e_iload dX0_rests_17 rfl ?_
      refine e_iconst dX0_rests_19 ?_
      refine e_icmp_ge (tgt := 57) dX0_rests_20 rfl ⟨by omega, by omega⟩ ⟨by omega, by omega⟩ (fun c2 => ?_) (fun q => by exfalso; omega)
      refine e_iload_n dX0_rests_57 rfl ?_
      refine e_ireturn dX0_rests_58 rfl rfl ?_
      refine x_pubi ?_ hf he
      unfold v_rests t_rsl
      rw [if_pos (by assumption)]
      rfl
    · have hin := t_rsl_in (a := a) (b := b) hz hr i.toNat
      rw [t_it_s _ _ hi0, show (4 - (i + 1)).toNat = (3 - i).toNat by omega] at hF
      generalize t_it (t_rsf a b) i.toNat (σ, (0 : Int)) = x at hF hin ⊢
      rw [Int.toNat_of_nonneg hi0] at hin
      have hx1 := hin.1 1 (by omega)
      have hpw := e_pow_lt 4 (k := i) ⟨hi0, by omega⟩
      have hin2 := hin.2
      have p1 : (2 : Int) ^ (1 : Int).toNat = 2 := rfl
      have eF : t_rsf a b i x = if t_gv a (t_rs1 a b i x.1) < t_gv a (t_rs2 a b i x.1) then (t_rs2 a b i x.1, x.2) else if t_gv b (t_rs3 a b i x.1) < t_gv b (t_rs4 a b i x.1) then (t_rs4 a b i x.1, x.2) else (t_rs4 a b i x.1, x.2 + 2 ^ i.toNat) := rfl
      rw [eF] at hF
      clear eF
      have e4 : t_gb a b (i % 2) (1 - i / 2) (t_rs3 a b i x.1) = t_rs4 a b i x.1 := by unfold t_rs4; rw [p1]
      have e3 : t_gb a b (i % 2) (i / 2) (t_rs2 a b i x.1) = t_rs3 a b i x.1 := by unfold t_rs3; rw [p1]
      have e2 : t_gb a b (1 - i % 2) (i / 2) (t_rs1 a b i x.1) = t_rs2 a b i x.1 := by unfold t_rs2; rw [p1]
      have e1 : t_gb a b (i % 2) (i / 2) x.1 = t_rs1 a b i x.1 := by unfold t_rs1; rw [p1]
      generalize t_rs4 a b i x.1 = r4 at hF e4
      generalize t_rs3 a b i x.1 = r3 at hF e4 e3
      generalize t_rs2 a b i x.1 = r2 at hF e3 e2
      generalize t_rs1 a b i x.1 = r1 at hF e2 e1
      refine e_iload dX0_rests_17 rfl ?_
      refine e_iconst dX0_rests_19 ?_
      refine e_icmp_ge (tgt := 57) dX0_rests_20 rfl ⟨by omega, by omega⟩ ⟨by omega, by omega⟩ (fun q => by exfalso; omega) (fun c3 => ?_)
      refine e_iload_n dX0_rests_23 rfl ?_
      refine e_aload_n dX0_rests_24 rfl ?_
      refine e_iload_n dX0_rests_25 rfl ?_
      refine e_iload_n dX0_rests_26 rfl ?_
      refine e_iload dX0_rests_27 rfl ?_
      refine e_iconst dX0_rests_29 ?_
      refine e_irem dX0_rests_30 ⟨by omega, by omega⟩ ⟨by omega, by omega⟩ ?_
      refine e_iload dX0_rests_31 rfl ?_
      refine e_iconst dX0_rests_33 ?_
      refine e_idiv dX0_rests_34 ⟨by omega, by omega⟩ ⟨by omega, by omega⟩ ?_
      refine e_bud (kc1 := (12 * (3 - i).toNat) + 12) (ks1 := (48 * (3 - i).toNat) + 48) (by omega) (by omega) ?_
      refine e_callV4 (M1 := mX0_isRest) (kc := (12 * (3 - i).toNat)) (ks := (48 * (3 - i).toNat)) (mc := 12) (ms := 48) (ci := 0) dX0_rests_35 lk_X0_429 md_X0_isRest rfl q1605 qs56 (x_o0 _ _) (by decide) rfl (Nat.le_of_ble_eq_true rfl) (C_X0_isRest (x_at_p A hf he) hz hr hC ⟨by omega, by omega⟩ ⟨by omega, by omega⟩ ⟨by omega, by omega⟩ ⟨by omega, by omega⟩ hx1 e1 e2 e3 e4) (fun a hh q => ?_) (fun i hh q => by cases q.1)
      obtain ⟨q1, χ3, h3, hf3, he3, rfl⟩ := q
      cases q1
      show e_E _ _ _ (_ :: _) _ _ _ _ _
      refine e_bif_eq (tgt := 48) dX0_rests_38 rfl (fun c4 => ?_) (fun c4 => ?_)
      · refine e_iconst dX0_rests_48 ?_
        refine e_ior dX0_rests_49 (by first | exact e_or_0 _ | exact e_or_top ⟨by omega, by omega⟩ hin.2) ?_
        refine e_istore_n3 dX0_rests_50 rfl ?_
        refine e_iinc4 dX0_rests_51 rfl ?_
        refine e_goto (tgt := 17) dX0_rests_54 rfl ?_
        first
          | (rw [if_neg (by omega), if_neg (by omega)] at hF; exact hF χ3 h3 (x_p_tr hf hf3) (e_ext_tr he he3))
          | (by_cases c9 : t_gv a r1 < t_gv a r2
             · rw [if_pos c9] at hF; exact hF χ3 h3 (x_p_tr hf hf3) (e_ext_tr he he3)
             · rw [if_neg c9, if_pos (by omega)] at hF; exact hF χ3 h3 (x_p_tr hf hf3) (e_ext_tr he he3))
      · refine e_iconst dX0_rests_41 ?_
        refine e_iload dX0_rests_42 rfl ?_
        refine e_ishl dX0_rests_44 (t_shl1 ⟨by omega, by omega⟩) ?_
        refine e_goto (tgt := 49) dX0_rests_45 rfl ?_
        refine e_ior dX0_rests_49 (by first | exact e_or_0 _ | exact e_or_top ⟨by omega, by omega⟩ hin.2) ?_
        refine e_istore_n3 dX0_rests_50 rfl ?_
        refine e_iinc4 dX0_rests_51 rfl ?_
        refine e_goto (tgt := 17) dX0_rests_54 rfl ?_
        first
          | (rw [if_neg (by omega), if_neg (by omega)] at hF; exact hF χ3 h3 (x_p_tr hf hf3) (e_ext_tr he he3))
          | (by_cases c9 : t_gv a r1 < t_gv a r2
             · rw [if_pos c9] at hF; exact hF χ3 h3 (x_p_tr hf hf3) (e_ext_tr he he3)
             · rw [if_neg c9, if_pos (by omega)] at hF; exact hF χ3 h3 (x_p_tr hf hf3) (e_ext_tr he he3))
  · refine e_bipush dX0_rests_9 rfl ?_
    refine e_ireturn dX0_rests_11 rfl rfl ?_
    refine x_pubi0 ?_
    unfold v_rests
    rw [if_neg (by assumption)]
theorem C_X0_gets {σ χ : t_S} {h0 : e_A} {α : Nat → Nat} (A : x_at χ h0 (σ 1) α) (hz : t_sz σ) (hr : t_okR (σ 1)) (hC : t_isC σ ∨ σ 1 7 = 0) {a b x y : Int} (ha : e_rg a) (hb : e_rg b) (hx : e_rg x) (hy : e_rg y) : e_C mX0_gets [.ref 350, e_i a, e_i b, e_i x, e_i y] (x_H χ h0) 3 12 7 (x_Pub (e_i (v_gets σ a b x y)) χ h0) := by
  have s0 : 0 ≤ σ 1 0 ∧ σ 1 0 ≤ 12 := hz.1
  have s3 := hz.2.1
  have s4 := hz.2.2.1
  have s5 := hz.2.2.2.1
  have s6 := hz.2.2.2.2.1
  have s7 := hz.2.2.2.2.2.1
  have ka1 := ha.1
  have ka2 := ha.2
  have kb1 := hb.1
  have kb2 := hb.2
  have kx1 := hx.1
  have kx2 := hx.2
  have ky1 := hy.1
  have ky2 := hy.2
  refine e_enter (al0 := [.ref 350, e_i a, e_i b, e_i x, e_i y]) (by decide +kernel) rfl (Nat.le_of_ble_eq_true rfl) ?_
  refine e_aload_n dX0_gets_0 rfl ?_
  refine e_iload_n dX0_gets_1 rfl ?_
  refine e_iload_n dX0_gets_2 rfl ?_
  refine e_callV2rz (ci := 0) dX0_gets_3 md_X0_areTwo lk_X0_426 rfl q1601 qs55 (x_o0 _ _) (by decide) rfl (Nat.le_of_ble_eq_true rfl) (C_X0_areTwo A hz ⟨by omega, by omega⟩ ⟨by omega, by omega⟩) ?_
  refine e_bif_eq (tgt := 37) dX0_gets_6 rfl (fun c1 => ?_) (fun c1 => ?_)
  · refine e_sipush dX0_gets_37 rfl ?_
    refine e_ireturn dX0_gets_40 rfl rfl ?_
    first
      | (refine x_pubi ?_ hf3 he3
         unfold v_gets
         rw [if_pos ⟨by assumption, by omega, by omega⟩]
         done)
      | (refine x_pubi0 ?_
         unfold v_gets
         rw [if_neg (fun z => by have := z.1; omega)])
  · refine e_iload_n dX0_gets_9 rfl ?_
    refine e_callS1rz dX0_gets_10 md_X0_isBit lk_X0_414 rfl q1580 rfl (Nat.le_of_ble_eq_true rfl) (C_X0_isBit ⟨by omega, by omega⟩) ?_
    refine e_bif_eq (tgt := 37) dX0_gets_13 rfl (fun c2 => ?_) (fun c2 => ?_)
    · refine e_sipush dX0_gets_37 rfl ?_
      refine e_ireturn dX0_gets_40 rfl rfl ?_
      first
        | (refine x_pubi ?_ hf3 he3
           unfold v_gets
           rw [if_pos ⟨by assumption, by omega, by omega⟩]
           done)
        | (refine x_pubi0 ?_
           unfold v_gets
           rw [if_neg (fun z => by have := z.1; omega)])
    · refine e_iload dX0_gets_16 rfl ?_
      refine e_callS1rz dX0_gets_18 md_X0_isBit lk_X0_414 rfl q1580 rfl (Nat.le_of_ble_eq_true rfl) (C_X0_isBit ⟨by omega, by omega⟩) ?_
      refine e_bif_eq (tgt := 37) dX0_gets_21 rfl (fun c3 => ?_) (fun c3 => ?_)
      · refine e_sipush dX0_gets_37 rfl ?_
        refine e_ireturn dX0_gets_40 rfl rfl ?_
        first
          | (refine x_pubi ?_ hf3 he3
             unfold v_gets
             rw [if_pos ⟨by assumption, by omega, by omega⟩]
             done)
          | (refine x_pubi0 ?_
             unfold v_gets
             rw [if_neg (fun z => by have := z.1; omega)])
      · refine e_aload_n dX0_gets_24 rfl ?_
        refine e_iload_n dX0_gets_25 rfl ?_
        refine e_iload_n dX0_gets_26 rfl ?_
        refine e_iload_n dX0_gets_27 rfl ?_
        refine e_iload_n dX0_gets_28 rfl ?_
        refine e_iload dX0_gets_29 rfl ?_
        refine e_bud (kc1 := 0 + 3) (ks1 := 0 + 12) (by decide) (by decide) ?_
        refine e_callV5 (M1 := mX0_getsOf) (kc := 0) (ks := 0) (mc := 3) (ms := 12) (ci := 0) dX0_gets_31 lk_X0_422 md_X0_getsOf rfl q1609 qs57 (x_o0 _ _) (by decide) rfl (Nat.le_of_ble_eq_true rfl) (C_X0_getsOf A hz hr hC ⟨by omega, by omega⟩ ⟨by omega, by omega⟩ ⟨by omega, by omega⟩ ⟨by omega, by omega⟩ ⟨by omega, by omega⟩) (fun a hh q => ?_) (fun i hh q => by cases q.1)
        obtain ⟨q1, χ3, h3, hf3, he3, rfl⟩ := q
        cases q1
        show e_E _ _ _ (_ :: _) _ _ _ _ _
        refine e_goto (tgt := 40) dX0_gets_34 rfl ?_
        refine e_ireturn dX0_gets_40 rfl rfl ?_
        first
          | (refine x_pubi ?_ hf3 he3
             unfold v_gets
             rw [if_pos ⟨by assumption, by omega, by omega⟩]
             done)
          | (refine x_pubi0 ?_
             unfold v_gets
             rw [if_neg (fun z => by have := z.1; omega)])
