/-! THE COMPONENT: whom to blame, fords, sets (printed by tx21.py) -/
set_option maxRecDepth 100000
theorem x_or_law {a b : Int} (ha : 0 ≤ a) (hb : 0 ≤ b) : Int32.ofInt a ||| Int32.ofInt b = Int32.ofInt (t_or a b) := e_or_law ha hb
theorem x_af_18 {σ : t_S} (hz : t_sz σ) (hr : t_okR (σ 1)) {j : Nat} (h : 15 ≤ j ∧ j ≤ 20) : t_af σ j = t_is σ j := t_ga_k (t_is_ask hz hr) (by omega)
theorem x_pw7 {w : Int} (hw : 0 ≤ w ∧ w < 7) : 0 ≤ (2 : Int) ^ w.toNat ∧ (2 : Int) ^ w.toNat < 2 ^ 7 := by
  have := e_pow_lt 7 (k := w) ⟨hw.1, hw.2⟩
  omega
theorem C_X0_blame {σ χ : t_S} {h0 : e_A} {α : Nat → Nat} (A : x_at χ h0 (σ 1) α) (hz : t_sz σ) (hr : t_okR (σ 1)) (hC : t_isC σ ∨ σ 1 7 = 0) : e_C mX0_blame [.ref 350] (x_H χ h0) 24 96 7 (x_Pub (e_i (v_blame (t_af σ))) χ h0) := by
  have s0 : 0 ≤ σ 1 0 ∧ σ 1 0 ≤ 12 := hz.1
  have s3 := hz.2.1
  have s4 := hz.2.2.1
  have s5 := hz.2.2.2.1
  have s6 := hz.2.2.2.2.1
  have s7 := hz.2.2.2.2.2.1
  have e1 := x_af_1 hz hr
  have haf := (t_af_hist hz hr).1
  have hH := t_af_hist hz hr
  have F0 : z_F (t_af σ) := z_ga_F (t_is_ask hz hr)
  have e18 := x_af_18 hz hr (j := 18) (by decide)
  have hwk : 0 ≤ t_af σ 18 0 ∧ t_af σ 18 0 < 2 ^ 7 := haf.2.2.2.2.2.1
  refine e_enter (al0 := [.ref 350, .retAddr 0, .retAddr 0, .retAddr 0, .retAddr 0]) (by decide +kernel) rfl (Nat.le_of_ble_eq_true rfl) ?_
  refine e_aload_n dX0_blame_0 rfl ?_
  refine e_getV (.ref (α 0)) dX0_blame_1 fl_X0_47 (x_o0 _ _) (x_now A) ?_
  refine e_callV0rz (ci := 2) dX0_blame_4 md_X2_is lk_X0_98 rfl q1034 q1035 (x_aC A) (by decide) rfl (Nat.le_of_ble_eq_true rfl) (C_X2_is A hz) ?_
  refine e_bif_ne (tgt := 13) dX0_blame_7 rfl (fun c1 => ?_) (fun c1 => ?_)
  · refine e_aload_n dX0_blame_13 rfl ?_
    refine e_bud (kc1 := 21 + 3) (ks1 := 84 + 12) (by decide) (by decide) ?_
    refine e_callV0 (M1 := mX0_is) (kc := 21) (ks := 84) (mc := 3) (ms := 12) (ci := 0) dX0_blame_14 lk_X0_194 md_X0_is rfl q1047 qs21 (x_o0 _ _) (by decide) rfl (Nat.le_of_ble_eq_true rfl) (C_X0_is A hz hr hC) (fun a hh q => ?_) (fun i hh q => by cases q.1)
    obtain ⟨q1, χ1, h1, N, hfr, he1, rfl⟩ := q
    cases q1
    show e_E _ _ _ (_ :: _) _ _ _ _ _
    refine e_callV0rz (ci := 3) dX0_blame_17 md_X3_moved lk_X0_346 rfl q1481 q1482 (x_o3 _ _) (by decide) rfl (Nat.le_of_ble_eq_true rfl) (C_X3_moved (x_at_g A hfr he1 e1) F0.1.1 F0 N) ?_
    refine e_istore_n1 dX0_blame_20 rfl ?_
    refine e_iconst dX0_blame_21 ?_
    refine e_istore_n2 dX0_blame_22 rfl ?_
    refine e_iconst dX0_blame_23 ?_
    refine e_istore_n3 dX0_blame_24 rfl ?_
    rw [show (Value.int (Int32.ofInt (t_mva (t_ga (t_is σ))))) = e_i (t_it (t_blf (t_af σ 18 0)) (0 : Int).toNat (t_af σ, t_mva (t_af σ), (-1 : Int))).2.1 from rfl, show (Value.int (Int32.ofInt (-1))) = e_i (t_it (t_blf (t_af σ 18 0)) (0 : Int).toNat (t_af σ, t_mva (t_af σ), (-1 : Int))).2.2 from rfl]
    refine e_for (n := σ 1 7) (F := fun w => ∀ χ2 h2, (∀ j, (j < 10 ∨ 27 < j) → χ2 j = χ j) → e_ext h0 h2 → e_E mX0_blame 25 [.ref 350, e_i (t_it (t_blf (t_af σ 18 0)) w.toNat (t_af σ, t_mva (t_af σ), (-1 : Int))).2.1, e_i (t_it (t_blf (t_af σ 18 0)) w.toNat (t_af σ, t_mva (t_af σ), (-1 : Int))).2.2, e_i w, .retAddr 0] [] (x_H χ2 h2) (3 * (7 - w).toNat) (12 * (7 - w).toNat) 7 (x_Pub (e_i (v_blame (t_af σ))) χ h0)) (by omega) (fun χ2 h2 hf he => ?_) (fun w hw0 hw1 hF χ2 h2 hf he => ?_) χ1 h1 hfr he1
    · refine e_iload_n dX0_blame_25 rfl ?_
      refine e_aload_n dX0_blame_26 rfl ?_
      refine e_callV0rz (ci := 0) dX0_blame_27 md_X0_many lk_X0_126 rfl q1121 qs23 (x_o0 _ _) (by decide) rfl (Nat.le_of_ble_eq_true rfl) (C_X0_many (x_at_f A hf he) hz) ?_
      refine e_icmp_ge (tgt := 83) dX0_blame_30 rfl ⟨by omega, by omega⟩ ⟨by omega, by omega⟩ (fun c2 => ?_) (fun q => by exfalso; omega)
      refine e_iload_n dX0_blame_83 rfl ?_
      refine e_ireturn dX0_blame_84 rfl rfl ?_
      refine x_pubi ?_ (x_f34 hf) he
      unfold v_blame t_isC t_bl
      rw [e1, if_pos (by omega)]
    · rw [t_it_s _ _ hw0] at hF
      have hin := t_bll_in hH hwk w.toNat (by omega)
      generalize t_it (t_blf (t_af σ 18 0)) w.toNat (t_af σ, t_mva (t_af σ), (-1 : Int)) = x at hF hin ⊢
      obtain ⟨i1, i2, i3, i4, i5⟩ := hin
      have hpw := x_pw7 (w := w) ⟨hw0, by omega⟩
      have q1a : t_ask (s_up x.1 18 0 (t_andn (t_af σ 18 0) (2 ^ w.toNat))) := (t_bl1_in (w := w) haf hwk i1).2.2
      have l1 : x_ls σ 18 (s_up x.1 18 0 (t_andn (t_af σ 18 0) (2 ^ w.toNat))) := x_ls_of hz hr (fun j j1 j2 => (s_up_f j2).trans (i1 j j1 j2))
      have t1 : s_up x.1 18 0 (t_andn (t_af σ 18 0) (2 ^ w.toNat)) 1 = σ 1 := x_ls_1 (by decide) l1
      obtain ⟨M, hM⟩ : ∃ M, t_mva (t_ga (s_up x.1 18 0 (t_andn (t_af σ 18 0) (2 ^ w.toNat)))) = M := ⟨_, rfl⟩
      have rM : 0 ≤ M ∧ M ≤ 546 := by rw [← hM]; exact t_mva_rg (t_ga_hist q1a)
      have hw9 : t_blf (t_af σ 18 0) w x = if x.2.1 ≤ t_mva (t_ga (s_up x.1 18 0 (t_andn (t_af σ 18 0) (2 ^ w.toNat)))) then (t_ga (s_up x.1 18 0 (t_andn (t_af σ 18 0) (2 ^ w.toNat))), x.2.1, x.2.2) else (t_ga (s_up x.1 18 0 (t_andn (t_af σ 18 0) (2 ^ w.toNat))), t_mva (t_ga (s_up x.1 18 0 (t_andn (t_af σ 18 0) (2 ^ w.toNat)))), w) := rfl
      rw [hw9, hM] at hF
      refine e_iload_n dX0_blame_25 rfl ?_
      refine e_aload_n dX0_blame_26 rfl ?_
      refine e_callV0rz (ci := 0) dX0_blame_27 md_X0_many lk_X0_126 rfl q1121 qs23 (x_o0 _ _) (by decide) rfl (Nat.le_of_ble_eq_true rfl) (C_X0_many (x_at_f A hf he) hz) ?_
      refine e_icmp_ge (tgt := 83) dX0_blame_30 rfl ⟨by omega, by omega⟩ ⟨by omega, by omega⟩ (fun q => by exfalso; omega) (fun c3 => ?_)
      refine e_aload_n dX0_blame_33 rfl ?_
      refine e_getV (.ref 366) dX0_blame_34 fl_X0_68 (x_o0 _ _) rfl ?_
      refine e_bud (kc1 := (3 * (6 - w).toNat) + 3) (ks1 := (12 * (6 - w).toNat) + 12) (by omega) (by omega) ?_
      refine e_callV0 (M1 := mX3_is) (kc := (3 * (6 - w).toNat)) (ks := (12 * (6 - w).toNat)) (mc := 3) (ms := 12) (ci := 3) dX0_blame_37 lk_X0_188 md_X3_is rfl q1050 q1051 (x_o3 _ _) (by decide) rfl (Nat.le_of_ble_eq_true rfl) (C_X3_is (x_at_f A hf he) hz hr) (fun a hh q => ?_) (fun i hh q => by cases q.1)
      obtain ⟨q1, χ4, h4, hk4, hq4, he4, rfl⟩ := q
      cases q1
      show e_E _ _ _ (_ :: _) _ _ _ _ _
      refine e_dup dX0_blame_40 rfl ?_
      refine e_getV (e_i _) dX0_blame_41 fl_X0_348 (x_o3 _ _) rfl ?_
      have hst := x_sty_wk hz hr hq4
      have hsty : x_sty (σ 1 7) (t_or (χ4 27 0) (2 ^ w.toNat)) (s_up x.1 18 0 (t_andn (t_af σ 18 0) (2 ^ w.toNat)) 18 0) := by
        rw [s_up_eq, e18]
        exact x_sty_andn hst.1 hst.2 hpw
      refine e_iconst dX0_blame_44 ?_
      refine e_iload_n dX0_blame_45 rfl ?_
      refine e_ishl dX0_blame_46 (t_shl1 ⟨by omega, by omega⟩) ?_
      refine e_ior dX0_blame_47 (x_or_law hst.1.1.1 hpw.1) ?_
      refine x_put_27 dX0_blame_48 fl_X0_348 ?_
      refine e_aload_n dX0_blame_51 rfl ?_
      refine e_getV (.ref 366) dX0_blame_52 fl_X0_68 (x_o0 _ _) rfl ?_
      refine e_bud (kc1 := (3 * (6 - w).toNat) + 0) (ks1 := (12 * (6 - w).toNat) + 0) (Nat.le_refl _) (Nat.le_refl _) ?_
      refine e_callV0 (M1 := mX3_goes) (kc := (3 * (6 - w).toNat)) (ks := (12 * (6 - w).toNat)) (mc := 0) (ms := 0) (ci := 3) dX0_blame_55 lk_X0_191 md_X3_goes rfl q1148 q1149 (x_o3 _ _) (by decide) rfl (Nat.le_of_ble_eq_true rfl) (C_X3_goes (x_at_2 A (by decide) l1 ((s_up_f (by decide)).trans ((hk4 1 (by decide)).trans (hf 1 (by omega)))) (e_ext_tr he he4)) q1a (x_ls_ask (by decide) l1 q1a hC) (x_Rq_27 hq4 l1 hsty)) (fun a hh q => ?_) (fun i hh q => by cases q.1)
      obtain ⟨q1, χ5, G5, rfl⟩ := q
      cases q1
      show e_E _ _ _ (_ :: _) _ _ _ _ _
      have g5 := x_gone q1a G5
      have hf5 := x_gone_k hk4 (fun j hj => s_up_f (k1 := j) (by omega)) G5
      refine e_callV0rz (ci := 3) dX0_blame_58 md_X3_moved lk_X0_346 rfl q1481 q1482 (x_o3 _ _) (by decide) rfl (Nat.le_of_ble_eq_true rfl) (C_X3_moved (x_at_g A (x_f_tr hf hf5) (e_ext_tr he he4) (g5.2.2.2.trans t1)) g5.2.1.1.1 g5.2.1 g5.1) ?_
      rw [hM]
      refine e_istore4 dX0_blame_61 rfl ?_
      refine e_iload dX0_blame_63 rfl ?_
      refine e_iload_n dX0_blame_65 rfl ?_
      refine e_icmp_lt (tgt := 72) dX0_blame_66 rfl ⟨by omega, by omega⟩ ⟨by omega, by omega⟩ (fun c4 => ?_) (fun c4 => ?_)
      · refine e_iload_n dX0_blame_72 rfl ?_
        refine e_istore_n2 dX0_blame_73 rfl ?_
        refine e_iload dX0_blame_74 rfl ?_
        refine e_istore_n1 dX0_blame_76 rfl ?_
        refine e_iinc3 dX0_blame_77 rfl ?_
        refine e_goto (tgt := 25) dX0_blame_80 rfl ?_
        refine e_fgt 4 ?_
        rw [show (7 - (w + 1)).toNat = (6 - w).toNat by omega] at hF
        first
          | (rw [if_pos (by omega)] at hF; exact hF χ5 h4 (x_f_tr hf hf5) (e_ext_tr he he4))
          | (rw [if_neg (by omega)] at hF; exact hF χ5 h4 (x_f_tr hf hf5) (e_ext_tr he he4))
      · refine e_goto (tgt := 77) dX0_blame_69 rfl ?_
        refine e_iinc3 dX0_blame_77 rfl ?_
        refine e_goto (tgt := 25) dX0_blame_80 rfl ?_
        refine e_fgt 4 ?_
        rw [show (7 - (w + 1)).toNat = (6 - w).toNat by omega] at hF
        first
          | (rw [if_pos (by omega)] at hF; exact hF χ5 h4 (x_f_tr hf hf5) (e_ext_tr he he4))
          | (rw [if_neg (by omega)] at hF; exact hF χ5 h4 (x_f_tr hf hf5) (e_ext_tr he he4))
  · refine e_bipush dX0_blame_10 rfl ?_
    refine e_ireturn dX0_blame_12 rfl rfl ?_
    refine x_pubi0 ?_
    unfold v_blame t_isC
    rw [e1, if_neg (by omega)]
theorem x_fd1_p {k : Int} {τ : t_S} (h : t_ga (s_up τ 15 (τ 1 (10 + k)) 0) 1 = τ 1) : t_pgl (t_fd1 k τ) = t_pgl (t_ga (s_up τ 15 (τ 1 (10 + k)) 0)) := by
  have e1 : t_fd1 k τ 1 = t_ga (s_up τ 15 (τ 1 (10 + k)) 0) 1 := s_up_f (by decide)
  have e31 : t_fd1 k τ 31 = t_ga (s_up τ 15 (τ 1 (10 + k)) 0) 31 := s_up_f (by decide)
  show t_pgm (t_fd1 k τ) (t_fd1 k τ 1 0) = t_pgm (t_ga (s_up τ 15 (τ 1 (10 + k)) 0)) (t_ga (s_up τ 15 (τ 1 (10 + k)) 0) 1 0)
  unfold t_pgm t_pgg
  show t_sum (fun c => e_bsum (t_fd1 k τ 31 (80 * (t_fd1 k τ 1 0) + c)) 16) 80 / 2 = t_sum (fun c => e_bsum (t_ga (s_up τ 15 (τ 1 (10 + k)) 0) 31 (80 * (t_ga (s_up τ 15 (τ 1 (10 + k)) 0) 1 0) + c)) 16) 80 / 2
  rw [e1, e31]
theorem x_fd_b {σ : t_S} (hz : t_sz σ) (hr : t_okR (σ 1)) {x : t_S} {c : Int} (hc : x_c8 c) (hx : x 15 = t_is σ 15) : t_andn (x_bs (t_is σ 15)) (2 ^ (x_sp c).toNat) = x_bs (s_up x 15 c 0 15) :=
  x_bs_out (x_b01 (t_is_ask hz hr).2.2.1) hc (s_up_eq _ _ _ _) (fun e _ he => by rw [s_up_j he, hx])
theorem C_X0_ford {σ χ : t_S} {h0 : e_A} {α : Nat → Nat} (A : x_at χ h0 (σ 1) α) (hz : t_sz σ) (hr : t_okR (σ 1)) (hC : t_isC σ ∨ σ 1 7 = 0) : e_C mX0_ford [.ref 350] (x_H χ h0) 39 156 7 (x_Pub (e_i (v_ford (t_af σ))) χ h0) := by
  have s0 : 0 ≤ σ 1 0 ∧ σ 1 0 ≤ 12 := hz.1
  have s3 := hz.2.1
  have s4 := hz.2.2.1
  have s5 := hz.2.2.2.1
  have s6 := hz.2.2.2.2.1
  have s7 := hz.2.2.2.2.2.1
  have e1 := x_af_1 hz hr
  have haf := (t_af_hist hz hr).1
  have hH := t_af_hist hz hr
  have F0 : z_F (t_af σ) := z_ga_F (t_is_ask hz hr)
  have e15 := x_af_18 hz hr (j := 15) (by decide)
  refine e_enter (al0 := [.ref 350, .retAddr 0, .retAddr 0, .retAddr 0, .retAddr 0]) (by decide +kernel) rfl (Nat.le_of_ble_eq_true rfl) ?_
  have A2 := A
  refine e_aload_n dX0_ford_0 rfl ?_
  refine e_getV (.ref (α 0)) dX0_ford_1 fl_X0_47 (x_o0 _ _) (x_now A2) ?_
  refine e_callV0rz (ci := 2) dX0_ford_4 md_X2_is lk_X0_98 rfl q1034 q1035 (x_aC A2) (by decide) rfl (Nat.le_of_ble_eq_true rfl) (C_X2_is A hz) ?_
  refine e_bif_ne (tgt := 13) dX0_ford_7 rfl (fun c1 => ?_) (fun c1 => ?_)
  · refine e_aload_n dX0_ford_13 rfl ?_
    refine e_bud (kc1 := 36 + 3) (ks1 := 144 + 12) (by decide) (by decide) ?_
    refine e_callV0 (M1 := mX0_is) (kc := 36) (ks := 144) (mc := 3) (ms := 12) (ci := 0) dX0_ford_14 lk_X0_194 md_X0_is rfl q1047 qs21 (x_o0 _ _) (by decide) rfl (Nat.le_of_ble_eq_true rfl) (C_X0_is A hz hr hC) (fun a hh q => ?_) (fun i hh q => by cases q.1)
    obtain ⟨q1, χ1, h1, N, hfr, he1, rfl⟩ := q
    cases q1
    show e_E _ _ _ (_ :: _) _ _ _ _ _
    refine e_callV0rz (ci := 3) dX0_ford_17 md_X3_last lk_X0_351 rfl q1489 q1490 (x_o3 _ _) (by decide) rfl (Nat.le_of_ble_eq_true rfl) (C_X3_last (x_at_g A hfr he1 e1) F0.1.1 F0 N) ?_
    refine e_istore_n1 dX0_ford_20 rfl ?_
    refine e_iconst dX0_ford_21 ?_
    refine e_istore_n2 dX0_ford_22 rfl ?_
    refine e_iconst dX0_ford_23 ?_
    refine e_istore_n3 dX0_ford_24 rfl ?_
    rw [show (Value.int (Int32.ofInt (t_pgl (t_ga (t_is σ))))) = e_i (t_it t_fof (0 : Int).toNat (t_af σ, t_pgl (t_af σ), (-1 : Int))).2.1 from rfl, show (Value.int (Int32.ofInt (-1))) = e_i (t_it t_fof (0 : Int).toNat (t_af σ, t_pgl (t_af σ), (-1 : Int))).2.2 from rfl]
    refine e_for (n := σ 1 5) (F := fun k => ∀ χ2 h2, (∀ j, (j < 10 ∨ 27 < j) → χ2 j = χ j) → e_ext h0 h2 → e_E mX0_ford 25 [.ref 350, e_i (t_it t_fof k.toNat (t_af σ, t_pgl (t_af σ), (-1 : Int))).2.1, e_i (t_it t_fof k.toNat (t_af σ, t_pgl (t_af σ), (-1 : Int))).2.2, e_i k, .retAddr 0] [] (x_H χ2 h2) (3 * (12 - k).toNat) (12 * (12 - k).toNat) 7 (x_Pub (e_i (v_ford (t_af σ))) χ h0)) (by omega) (fun χ2 h2 hf he => ?_) (fun k hk0 hk1 hF χ2 h2 hf he => ?_) χ1 h1 hfr he1
    · have A2 := x_at_f A hf he
      obtain ⟨mc2, hl2⟩ := x_a1 A2
      refine e_iload_n dX0_ford_25 rfl ?_
      refine e_aload_n dX0_ford_26 rfl ?_
      refine e_getV (.ref (α 0)) dX0_ford_27 fl_X0_47 (x_o0 _ _) (x_now A2) ?_
      refine e_getV (.ref (α 1)) dX0_ford_30 fl_X0_155 (x_aC A2) rfl ?_
      refine e_callF0rz (ci := 11) dX0_ford_33 md_J2_size if_X0_120 rfl hl2.1 (by decide) rfl (Nat.le_of_ble_eq_true rfl) (C_J2_size hl2) ?_
      refine e_icmp_ge (tgt := 113) dX0_ford_38 rfl ⟨by omega, by omega⟩ ⟨by omega, by omega⟩ (fun c2 => ?_) (fun q => by exfalso; omega)
      refine e_iload_n dX0_ford_113 rfl ?_
      refine e_ireturn dX0_ford_114 rfl rfl ?_
      refine x_pubi ?_ (x_f34 hf) he
      unfold v_ford t_isC t_fo
      rw [e1, if_pos (by omega)]
    · have A2 := x_at_f A hf he
      obtain ⟨mc2, hl2⟩ := x_a1 A2
      rw [t_it_s _ _ hk0] at hF
      have hin := t_fol_in hH k.toNat (by rw [e1]; omega)
      generalize t_it t_fof k.toNat (t_af σ, t_pgl (t_af σ), (-1 : Int)) = x at hF hin ⊢
      obtain ⟨i1, i2, i3, i4, i5⟩ := hin
      obtain ⟨-, -, q1a, -, gg, -⟩ := t_fd1_in haf (k := k) ⟨hk0, by rw [e1]; exact hk1⟩ i1
      have ex1 : x.1 1 (10 + k) = σ 1 (10 + k) := by rw [i1 1 (by omega), e1]
      have l1 : x_ls σ 15 (s_up x.1 15 (x.1 1 (10 + k)) 0) := x_ls_of hz hr (fun j j1 j2 => (s_up_f j2).trans (i1 j j1))
      have t1 : (s_up x.1 15 (x.1 1 (10 + k)) 0) 1 = σ 1 := x_ls_1 (by decide) l1
      have hc8 := x_okc hz (hr.1 k hk0 hk1)
      obtain ⟨M, hM⟩ : ∃ M, t_pgl (t_ga (s_up x.1 15 (x.1 1 (10 + k)) 0)) = M := ⟨_, rfl⟩
      have rM : 0 ≤ M ∧ M ≤ 640 := by rw [← hM]; exact t_pgm_rg _ _
      have hw9 : t_fof k x = if x.2.1 < t_pgl (t_fd1 k x.1) then (t_fd1 k x.1, t_pgl (t_fd1 k x.1), k) else (t_fd1 k x.1, x.2.1, x.2.2) := rfl
      rw [hw9, x_fd1_p gg, hM] at hF
      refine e_iload_n dX0_ford_25 rfl ?_
      refine e_aload_n dX0_ford_26 rfl ?_
      refine e_getV (.ref (α 0)) dX0_ford_27 fl_X0_47 (x_o0 _ _) (x_now A2) ?_
      refine e_getV (.ref (α 1)) dX0_ford_30 fl_X0_155 (x_aC A2) rfl ?_
      refine e_callF0rz (ci := 11) dX0_ford_33 md_J2_size if_X0_120 rfl hl2.1 (by decide) rfl (Nat.le_of_ble_eq_true rfl) (C_J2_size hl2) ?_
      refine e_icmp_ge (tgt := 113) dX0_ford_38 rfl ⟨by omega, by omega⟩ ⟨by omega, by omega⟩ (fun q => by exfalso; omega) (fun c3 => ?_)
      refine e_aload_n dX0_ford_41 rfl ?_
      refine e_getV (.ref 366) dX0_ford_42 fl_X0_68 (x_o0 _ _) rfl ?_
      refine e_bud (kc1 := (3 * (11 - k).toNat) + 3) (ks1 := (12 * (11 - k).toNat) + 12) (by omega) (by omega) ?_
      refine e_callV0 (M1 := mX3_is) (kc := (3 * (11 - k).toNat)) (ks := (12 * (11 - k).toNat)) (mc := 3) (ms := 12) (ci := 3) dX0_ford_45 lk_X0_188 md_X3_is rfl q1050 q1051 (x_o3 _ _) (by decide) rfl (Nat.le_of_ble_eq_true rfl) (C_X3_is A2 hz hr) (fun a hh q => ?_) (fun i hh q => by cases q.1)
      obtain ⟨q1, χ4, h4, hk4, hq4, he4, rfl⟩ := q
      cases q1
      show e_E _ _ _ (_ :: _) _ _ _ _ _
      have A4 := x_at_up (congrFun (hk4 1 (by decide)) 0) (x_at_ext he4 A2)
      have A2 := A4
      obtain ⟨mc4, hl4⟩ := x_a1 A4
      have hig : (x_H χ4 h4).1 (x_ig (σ 1 (10 + k))) = (13, 1, fun _ => e_i (x_sp (σ 1 (10 + k)))) := e_igr (e_old_xH A4.2.2.1) hc8
      have hsp := x_sp_rg hc8
      have hbr0 := hq4.1
      have hbr : 0 ≤ χ4 22 0 ∧ χ4 22 0 < 2 ^ 64 := by rw [hbr0]; exact x_bs_rg _
      have hbb : t_andn (χ4 22 0) (2 ^ (x_sp (σ 1 (10 + k))).toNat) = x_bs ((s_up x.1 15 (x.1 1 (10 + k)) 0) 15) := by rw [hbr0, ex1]; exact x_fd_b hz hr hc8 ((i1 15 (by omega)).trans e15)
      refine e_dup dX0_ford_48 rfl ?_
      refine e_getV (e_j _) dX0_ford_49 fl_X0_354 (x_o3 _ _) rfl ?_
      refine e_lconst (z := 1) dX0_ford_52 rfl ?_
      refine e_aload_n dX0_ford_53 rfl ?_
      refine e_getV (.ref (α 0)) dX0_ford_54 fl_X0_47 (x_o0 _ _) (x_now A2) ?_
      refine e_getV (.ref (α 1)) dX0_ford_57 fl_X0_155 (x_aC A2) rfl ?_
      refine e_iload_n dX0_ford_60 rfl ?_
      refine e_callF1rz (ci := 11) dX0_ford_61 md_J2_get if_X0_129 rfl hl4.1 (by decide) rfl (Nat.le_of_ble_eq_true rfl) (C_J2_get hl4 ⟨by omega, by omega⟩) ?_
      refine e_castS (ci := 13) dX0_ford_66 hig (by decide) q1108 ?_
      refine e_callV0rz (ci := 13) dX0_ford_69 md_J12_intValue lk_X0_171 rfl q901 q902 hig (by decide) rfl (Nat.le_of_ble_eq_true rfl) (C_J12_intValue hig) ?_
      refine e_lshl dX0_ford_72 ((e_lshl_law 1 ⟨by omega, by omega⟩).trans (by rw [Int.one_mul])) ?_
      refine e_ldc2 (z := -1) dX0_ford_73 q1111 rfl ?_
      refine e_lxor dX0_ford_76 (e_lnot_law _) ?_
      refine e_land dX0_ford_77 (e_landn_law hbr.1 (Int.le_of_lt (Int.pow_pos (by decide)))) ?_
      refine x_put_22 dX0_ford_78 fl_X0_354 ?_
      refine e_aload_n dX0_ford_81 rfl ?_
      refine e_getV (.ref 366) dX0_ford_82 fl_X0_68 (x_o0 _ _) rfl ?_
      refine e_bud (kc1 := (3 * (11 - k).toNat) + 0) (ks1 := (12 * (11 - k).toNat) + 0) (Nat.le_refl _) (Nat.le_refl _) ?_
      refine e_callV0 (M1 := mX3_goes) (kc := (3 * (11 - k).toNat)) (ks := (12 * (11 - k).toNat)) (mc := 0) (ms := 0) (ci := 3) dX0_ford_85 lk_X0_191 md_X3_goes rfl q1148 q1149 (x_o3 _ _) (by decide) rfl (Nat.le_of_ble_eq_true rfl) (C_X3_goes (x_at_2 A (by decide) l1 ((s_up_f (by decide)).trans ((hk4 1 (by decide)).trans (hf 1 (by omega)))) (e_ext_tr he he4)) q1a (x_ls_ask (by decide) l1 q1a hC) (x_Rq_22 hq4 l1 hbb)) (fun a hh q => ?_) (fun i hh q => by cases q.1)
      obtain ⟨q1, χ5, G5, rfl⟩ := q
      cases q1
      show e_E _ _ _ (_ :: _) _ _ _ _ _
      have g5 := x_gone q1a G5
      have hf5 := x_gone_k hk4 (fun j hj => s_up_f (k1 := j) (by omega)) G5
      refine e_callV0rz (ci := 3) dX0_ford_88 md_X3_last lk_X0_351 rfl q1489 q1490 (x_o3 _ _) (by decide) rfl (Nat.le_of_ble_eq_true rfl) (C_X3_last (x_at_g A (x_f_tr hf hf5) (e_ext_tr he he4) (g5.2.2.2.trans t1)) g5.2.1.1.1 g5.2.1 g5.1) ?_
      rw [hM]
      refine e_istore4 dX0_ford_91 rfl ?_
      refine e_iload dX0_ford_93 rfl ?_
      refine e_iload_n dX0_ford_95 rfl ?_
      refine e_icmp_gt (tgt := 102) dX0_ford_96 rfl ⟨by omega, by omega⟩ ⟨by omega, by omega⟩ (fun c4 => ?_) (fun c4 => ?_)
      · refine e_iload_n dX0_ford_102 rfl ?_
        refine e_istore_n2 dX0_ford_103 rfl ?_
        refine e_iload dX0_ford_104 rfl ?_
        refine e_istore_n1 dX0_ford_106 rfl ?_
        refine e_iinc3 dX0_ford_107 rfl ?_
        refine e_goto (tgt := 25) dX0_ford_110 rfl ?_
        refine e_fgt 4 ?_
        rw [show (12 - (k + 1)).toNat = (11 - k).toNat by omega] at hF
        first
          | (rw [if_pos (by omega)] at hF; exact hF χ5 h4 (x_f_tr hf hf5) (e_ext_tr he he4))
          | (rw [if_neg (by omega)] at hF; exact hF χ5 h4 (x_f_tr hf hf5) (e_ext_tr he he4))
      · refine e_goto (tgt := 107) dX0_ford_99 rfl ?_
        refine e_iinc3 dX0_ford_107 rfl ?_
        refine e_goto (tgt := 25) dX0_ford_110 rfl ?_
        refine e_fgt 4 ?_
        rw [show (12 - (k + 1)).toNat = (11 - k).toNat by omega] at hF
        first
          | (rw [if_pos (by omega)] at hF; exact hF χ5 h4 (x_f_tr hf hf5) (e_ext_tr he he4))
          | (rw [if_neg (by omega)] at hF; exact hF χ5 h4 (x_f_tr hf hf5) (e_ext_tr he he4))
  · refine e_bipush dX0_ford_10 rfl ?_
    refine e_ireturn dX0_ford_12 rfl rfl ?_
    refine x_pubi0 ?_
    unfold v_ford t_isC
    rw [e1, if_neg (by omega)]
theorem C_X0_worthOf {σ χ : t_S} {h0 : e_A} {α : Nat → Nat} (A : x_at χ h0 (σ 1) α) (hz : t_sz σ) (hr : t_okR (σ 1)) (hC : t_isC σ ∨ σ 1 7 = 0) {τ : t_S} {set : Int} (ha : t_ask τ) (e : x_ls σ 18 τ) (h18 : τ 18 0 = t_and (t_is σ 18 0) set) (hs : 0 ≤ set ∧ set < 2 ^ 7) : e_C mX0_worthOf [.ref 350, e_i set] (x_H χ h0) 3 12 6 (x_Pub (e_i (t_pgl (t_ga τ))) χ h0) := by
  have s0 : 0 ≤ σ 1 0 ∧ σ 1 0 ≤ 12 := hz.1
  have s3 := hz.2.1
  have s4 := hz.2.2.1
  have s5 := hz.2.2.2.1
  have s6 := hz.2.2.2.2.1
  have s7 := hz.2.2.2.2.2.1
  have hev := b_ev_rg s7
  refine e_enter (al0 := [.ref 350, e_i set]) (by decide +kernel) rfl (Nat.le_of_ble_eq_true rfl) ?_
  refine e_aload_n dX0_worthOf_0 rfl ?_
  refine e_getV (.ref 366) dX0_worthOf_1 fl_X0_68 (x_o0 _ _) rfl ?_
  refine e_bud (kc1 := 0 + 3) (ks1 := 0 + 12) (by decide) (by decide) ?_
  refine e_callV0 (M1 := mX3_is) (kc := 0) (ks := 0) (mc := 3) (ms := 12) (ci := 3) dX0_worthOf_4 lk_X0_188 md_X3_is rfl q1050 q1051 (x_o3 _ _) (by decide) rfl (Nat.le_of_ble_eq_true rfl) (C_X3_is A hz hr) (fun a hh q => ?_) (fun i hh q => by cases q.1)
  obtain ⟨q1, χ1, h1, hk, hRq, he1, rfl⟩ := q
  cases q1
  show e_E _ _ _ (_ :: _) _ _ _ _ _
  have A1 := x_at_up (congrFun (hk 1 (by decide)) 0) (x_at_ext he1 A)
  have t1 := x_ls_1 (by decide) e
  have hst := x_sty_wk hz hr hRq
  have hrn := t_andn_rg 7 (a := 2 ^ (σ 1 7).toNat - 1) (b := set) hev
  have hsty : x_sty (σ 1 7) (t_or (χ1 27 0) (t_andn (2 ^ (σ 1 7).toNat - 1) set)) (τ 18 0) := by rw [h18]; exact x_sty_and s7 hst.1 hst.2 hs
  refine e_dup dX0_worthOf_7 rfl ?_
  refine e_getV (e_i _) dX0_worthOf_8 fl_X0_348 (x_o3 _ _) rfl ?_
  refine e_aload_n dX0_worthOf_11 rfl ?_
  refine e_callV0rz (ci := 0) dX0_worthOf_12 md_X0_every lk_X0_336 rfl q1465 qs46 (x_o0 _ _) (by decide) rfl (Nat.le_of_ble_eq_true rfl) (C_X0_every A1 hz) ?_
  refine e_iload_n dX0_worthOf_15 rfl ?_
  refine e_iconst dX0_worthOf_16 ?_
  refine e_ixor dX0_worthOf_17 (e_not_law set) ?_
  refine e_iand dX0_worthOf_18 (e_andn_law hev.1 hs.1) ?_
  refine e_ior dX0_worthOf_19 (x_or_law hst.1.1.1 hrn.1) ?_
  refine x_put_27 dX0_worthOf_20 fl_X0_348 ?_
  refine e_aload_n dX0_worthOf_23 rfl ?_
  refine e_getV (.ref 366) dX0_worthOf_24 fl_X0_68 (x_o0 _ _) rfl ?_
  refine e_bud (kc1 := 0 + 0) (ks1 := 0 + 0) (by decide) (by decide) ?_
  refine e_callV0 (M1 := mX3_goes) (kc := 0) (ks := 0) (mc := 0) (ms := 0) (ci := 3) dX0_worthOf_27 lk_X0_191 md_X3_goes rfl q1148 q1149 (x_o3 _ _) (by decide) rfl (Nat.le_of_ble_eq_true rfl) (C_X3_goes (x_at_2 A (by decide) e ((s_up_f (by decide)).trans (hk 1 (by decide))) he1) ha (x_ls_ask (by decide) e ha hC) (x_Rq_27 hRq e hsty)) (fun a hh q => ?_) (fun i hh q => by cases q.1)
  obtain ⟨q1, χ3, G, rfl⟩ := q
  cases q1
  show e_E _ _ _ (_ :: _) _ _ _ _ _
  have g3 := x_gone ha G
  have hf3 := x_gone_k hk (fun j hj => s_up_f (k1 := j) (by omega)) G
  refine e_callV0rz (ci := 3) dX0_worthOf_30 md_X3_last lk_X0_351 rfl q1489 q1490 (x_o3 _ _) (by decide) rfl (Nat.le_of_ble_eq_true rfl) (C_X3_last (x_at_g A hf3 he1 (g3.2.2.2.trans t1)) g3.2.1.1.1 g3.2.1 g3.1) ?_
  refine e_ireturn dX0_worthOf_33 rfl rfl ?_
  exact x_pub rfl (x_f34 hf3) he1
theorem x_bg_ls {σ ρ : t_S} {set : Int} (h : ∀ j, (j < 21 ∨ 32 < j) → j ≠ 18 → ρ j = t_bg σ j) : x_ls σ 18 (s_up ρ 18 0 (t_and (ρ 38 0) set)) ∧ s_up ρ 18 0 (t_and (ρ 38 0) set) 18 0 = t_and (t_is σ 18 0) set := by
  refine ⟨fun j hj hne => ?_, ?_⟩
  · rw [s_up_f hne, h j (by omega) hne]
    exact s_up_f (by omega)
  · rw [s_up_eq, h 38 (by omega) (by decide)]
    unfold t_bg
    rw [s_up_eq]
theorem C_X0_worth {σ χ : t_S} {h0 : e_A} {α : Nat → Nat} (A : x_at χ h0 (σ 1) α) (hz : t_sz σ) (hr : t_okR (σ 1)) (hC : t_isC σ ∨ σ 1 7 = 0) {set : Int} (hset : e_rg set) : e_C mX0_worth [.ref 350, e_i set] (x_H χ h0) 3 12 7 (x_Pub (e_i (v_worth (t_bg σ) set)) χ h0) := by
  have s0 : 0 ≤ σ 1 0 ∧ σ 1 0 ≤ 12 := hz.1
  have s3 := hz.2.1
  have s4 := hz.2.2.1
  have s5 := hz.2.2.2.1
  have s6 := hz.2.2.2.2.1
  have s7 := hz.2.2.2.2.2.1
  have hev := b_ev_rg s7
  have hbg := t_bg_in hz hr
  have e1 := hbg.2.2.2
  have kset1 := hset.1
  have kset2 := hset.2
  refine e_enter (al0 := [.ref 350, e_i set]) (by decide +kernel) rfl (Nat.le_of_ble_eq_true rfl) ?_
  refine e_aload_n dX0_worth_0 rfl ?_
  refine e_getV (.ref (α 0)) dX0_worth_1 fl_X0_47 (x_o0 _ _) (x_now A) ?_
  refine e_callV0rz (ci := 2) dX0_worth_4 md_X2_is lk_X0_98 rfl q1034 q1035 (x_aC A) (by decide) rfl (Nat.le_of_ble_eq_true rfl) (C_X2_is A hz) ?_
  refine e_bif_eq (tgt := 32) dX0_worth_7 rfl (fun c1 => ?_) (fun c1 => ?_)
  · refine e_bipush dX0_worth_32 rfl ?_
    refine e_ireturn dX0_worth_34 rfl rfl ?_
    first
      | (refine x_pubi ?_ hf3 he3
         unfold v_worth t_isC
         rw [e1, if_pos ⟨by omega, by omega, by omega⟩]
         rfl)
      | (refine x_pubi0 ?_
         unfold v_worth t_isC
         rw [e1, if_neg (fun z => by omega)])
  · refine e_iload_n dX0_worth_10 rfl ?_
    refine e_i2l dX0_worth_11 ⟨by omega, by omega⟩ ?_
    refine e_lconst (z := 0) dX0_worth_12 rfl ?_
    refine e_aload_n dX0_worth_13 rfl ?_
    refine e_callV0rz (ci := 0) dX0_worth_14 md_X0_every lk_X0_336 rfl q1465 qs46 (x_o0 _ _) (by decide) rfl (Nat.le_of_ble_eq_true rfl) (C_X0_every A hz) ?_
    refine e_i2l dX0_worth_17 ⟨by omega, by omega⟩ ?_
    refine e_callS3rz dX0_worth_18 md_X0_in lk_X0_11 rfl q186 rfl (Nat.le_of_ble_eq_true rfl) (C_X0_in ⟨by omega, by omega⟩ ⟨by omega, by omega⟩ ⟨by omega, by omega⟩) ?_
    refine e_bif_eq (tgt := 32) dX0_worth_21 rfl (fun c2 => ?_) (fun c2 => ?_)
    · refine e_bipush dX0_worth_32 rfl ?_
      refine e_ireturn dX0_worth_34 rfl rfl ?_
      first
        | (refine x_pubi ?_ hf3 he3
           unfold v_worth t_isC
           rw [e1, if_pos ⟨by omega, by omega, by omega⟩]
           rfl)
        | (refine x_pubi0 ?_
           unfold v_worth t_isC
           rw [e1, if_neg (fun z => by omega)])
    · have hl := x_bg_ls (σ := σ) (ρ := t_bg σ) (set := set) (fun _ _ _ => rfl)
      refine e_aload_n dX0_worth_24 rfl ?_
      refine e_iload_n dX0_worth_25 rfl ?_
      refine e_bud (kc1 := 0 + 3) (ks1 := 0 + 12) (by decide) (by decide) ?_
      refine e_callV1 (M1 := mX0_worthOf) (kc := 0) (ks := 0) (mc := 3) (ms := 12) (ci := 0) dX0_worth_26 lk_X0_400 md_X0_worthOf rfl q1573 qs54 (x_o0 _ _) (by decide) rfl (Nat.le_of_ble_eq_true rfl) (C_X0_worthOf A hz hr hC (t_wo_in hbg.1 hbg.2.1).2.2 hl.1 hl.2 ⟨by omega, by omega⟩) (fun a hh q => ?_) (fun i hh q => by cases q.1)
      obtain ⟨q1, χ3, h3, hf3, he3, rfl⟩ := q
      cases q1
      show e_E _ _ _ (_ :: _) _ _ _ _ _
      refine e_goto (tgt := 34) dX0_worth_29 rfl ?_
      refine e_ireturn dX0_worth_34 rfl rfl ?_
      first
        | (refine x_pubi ?_ hf3 he3
           unfold v_worth t_isC
           rw [e1, if_pos ⟨by omega, by omega, by omega⟩]
           rfl)
        | (refine x_pubi0 ?_
           unfold v_worth t_isC
           rw [e1, if_neg (fun z => by omega)])
