/-! THE COMPONENT: walks told otherwise (printed by tx20.py) -/
set_option maxRecDepth 100000
theorem C_X3_moved {ρ χ : t_S} {h0 : e_A} {α : Nat → Nat} (A : x_at χ h0 (ρ 1) α) (hz : t_sz ρ) (F : z_F ρ) (N : x_An ρ χ) : e_C mX3_moved [.ref 366] (x_H χ h0) 0 0 1 (e_ret (e_i (t_mva ρ)) (x_H χ h0)) := by
  have s0 : 0 ≤ ρ 1 0 ∧ ρ 1 0 ≤ 12 := hz.1
  have s3 := hz.2.1
  have s4 := hz.2.2.1
  have s7 := hz.2.2.2.2.2.1
  have s6 := hz.2.2.2.2.1
  obtain ⟨mc, hl⟩ := x_a3 A
  refine e_enter (al0 := [.ref 366, .retAddr 0, .retAddr 0]) (by decide +kernel) rfl (Nat.le_of_ble_eq_true rfl) ?_
  refine e_iconst dX3_moved_0 ?_
  refine e_istore_n1 dX3_moved_1 rfl ?_
  refine e_iconst dX3_moved_2 ?_
  refine e_istore_n2 dX3_moved_3 rfl ?_
  refine e_for (n := ρ 1 6) (fun i => e_E mX3_moved 4 [.ref 366, e_i (t_sum (ρ 29) i.toNat), e_i i] [] (x_H χ h0) _ _ _ _) (by omega) ?_ (fun i hi0 hi1 hF => ?_)
  · refine e_iload_n dX3_moved_4 rfl ?_
    refine e_aload_n dX3_moved_5 rfl ?_
    refine e_getV (.ref 350) dX3_moved_6 fl_X3_3 (x_o3 _ _) rfl ?_
    refine e_getV (.ref (α 0)) dX3_moved_9 fl_X3_53 (x_o0 _ _) (x_now A) ?_
    refine e_getV (.ref (α 3)) dX3_moved_12 fl_X3_134 (x_aC A) rfl ?_
    refine e_callF0rz (ci := 11) dX3_moved_15 md_J2_size if_X3_136 rfl hl.1 (by decide) rfl (Nat.le_of_ble_eq_true rfl) (C_J2_size hl) ?_
    refine e_icmp_ge (tgt := 38) dX3_moved_20 rfl ⟨by omega, by omega⟩ ⟨by omega, by omega⟩ (fun c1 => ?_) (fun q => by exfalso; omega)
    refine e_iload_n dX3_moved_38 rfl ?_
    refine e_ireturn dX3_moved_39 rfl rfl ?_
    exact ⟨rfl, rfl⟩
  · rw [t_sum_s (ρ 29) hi0] at hF
    have hh := (N.1.2.2.1 i hi0 hi1).2
    rw [← hh] at hF
    refine e_iload_n dX3_moved_4 rfl ?_
    refine e_aload_n dX3_moved_5 rfl ?_
    refine e_getV (.ref 350) dX3_moved_6 fl_X3_3 (x_o3 _ _) rfl ?_
    refine e_getV (.ref (α 0)) dX3_moved_9 fl_X3_53 (x_o0 _ _) (x_now A) ?_
    refine e_getV (.ref (α 3)) dX3_moved_12 fl_X3_134 (x_aC A) rfl ?_
    refine e_callF0rz (ci := 11) dX3_moved_15 md_J2_size if_X3_136 rfl hl.1 (by decide) rfl (Nat.le_of_ble_eq_true rfl) (C_J2_size hl) ?_
    refine e_icmp_ge (tgt := 38) dX3_moved_20 rfl ⟨by omega, by omega⟩ ⟨by omega, by omega⟩ (fun q => by exfalso; omega) (fun c2 => ?_)
    refine e_iload_n dX3_moved_23 rfl ?_
    refine e_aload_n dX3_moved_24 rfl ?_
    refine e_getV (.ref (x_ai 15)) dX3_moved_25 fl_X3_31 (x_o3 _ _) rfl ?_
    refine e_iload_n dX3_moved_28 rfl ?_
    refine x_ild 6 dX3_moved_29 rfl (by decide) (fun _ => rfl) rfl ⟨by omega, by omega⟩ ?_
    refine e_iadd dX3_moved_30 ?_
    refine e_istore_n1 dX3_moved_31 rfl ?_
    refine e_iinc2 dX3_moved_32 rfl ?_
    refine e_goto (tgt := 4) dX3_moved_35 rfl ?_
    exact hF
theorem x_at_g {σ χ χ3 τ : t_S} {h0 h3 : e_A} {α : Nat → Nat} (A : x_at χ h0 (σ 1) α) (hf : ∀ j, (j < 10 ∨ 27 < j) → χ3 j = χ j) (he : e_ext h0 h3) (e1 : t_ga τ 1 = σ 1) : x_at χ3 h3 (t_ga τ 1) α := by
  rw [e1]
  exact x_at_up (congrFun (hf 1 (by omega)) 0) (x_at_ext he A)
theorem x_at_f {σ χ χ3 : t_S} {h0 h3 : e_A} {α : Nat → Nat} (A : x_at χ h0 (σ 1) α) (hf : ∀ j, (j < 10 ∨ 27 < j) → χ3 j = χ j) (he : e_ext h0 h3) : x_at χ3 h3 (σ 1) α := x_at_up (congrFun (hf 1 (by omega)) 0) (x_at_ext he A)
theorem x_ls_of {σ τ : t_S} {k : Nat} (hz : t_sz σ) (hr : t_okR (σ 1)) (h : ∀ j, (j < 21 ∨ 32 < j) → j ≠ k → τ j = t_af σ j) : x_ls σ k τ := fun j hj hne => (h j (by omega) hne).trans (t_ga_k (t_is_ask hz hr) (by omega))
theorem x_f_tr {χ χ1 χ2 : t_S} (a : ∀ j, (j < 10 ∨ 27 < j) → χ1 j = χ j) (b : ∀ j, (j < 10 ∨ 27 < j) → χ2 j = χ1 j) : ∀ j, (j < 10 ∨ 27 < j) → χ2 j = χ j := fun j hj => (b j hj).trans (a j hj)
theorem C_X0_byLaw {σ χ : t_S} {h0 : e_A} {α : Nat → Nat} (A : x_at χ h0 (σ 1) α) (hz : t_sz σ) (hr : t_okR (σ 1)) (hC : t_isC σ ∨ σ 1 7 = 0) {τ : t_S} {l : Int} (ha : t_ask τ) (e : x_ls σ 17 τ) (hl : τ 17 0 = l) : e_C mX0_byLaw [.ref 350, e_i l] (x_H χ h0) 3 12 6 (x_PK τ χ h0) := by
  refine e_enter (al0 := [.ref 350, e_i l]) (by decide +kernel) rfl (Nat.le_of_ble_eq_true rfl) ?_
  refine e_aload_n dX0_byLaw_0 rfl ?_
  refine e_getV (.ref 366) dX0_byLaw_1 fl_X0_68 (x_o0 _ _) rfl ?_
  refine e_bud (kc1 := 0 + 3) (ks1 := 0 + 12) (by decide) (by decide) ?_
  refine e_callV0 (M1 := mX3_is) (kc := 0) (ks := 0) (mc := 3) (ms := 12) (ci := 3) dX0_byLaw_4 lk_X0_188 md_X3_is rfl q1050 q1051 (x_o3 _ _) (by decide) rfl (Nat.le_of_ble_eq_true rfl) (C_X3_is A hz hr) (fun a hh q => ?_) (fun i hh q => by cases q.1)
  obtain ⟨q1, χ1, h1, hk, hRq, he1, rfl⟩ := q
  cases q1
  show e_E _ _ _ (_ :: _) _ _ _ _ _
  refine e_iload_n dX0_byLaw_7 rfl ?_
  refine x_put_26 dX0_byLaw_8 fl_X0_390 ?_
  refine e_aload_n dX0_byLaw_11 rfl ?_
  refine e_getV (.ref 366) dX0_byLaw_12 fl_X0_68 (x_o0 _ _) rfl ?_
  refine e_bud (kc1 := 0 + 0) (ks1 := 0 + 0) (by decide) (by decide) ?_
  refine e_callV0 (M1 := mX3_goes) (kc := 0) (ks := 0) (mc := 0) (ms := 0) (ci := 3) dX0_byLaw_15 lk_X0_191 md_X3_goes rfl q1148 q1149 (x_o3 _ _) (by decide) rfl (Nat.le_of_ble_eq_true rfl) (C_X3_goes (x_at_2 A (by decide) e ((s_up_f (by decide)).trans (hk 1 (by decide))) he1) ha (x_ls_ask (by decide) e ha hC) (x_Rq_26 hRq e hl.symm)) (fun a hh q => ?_) (fun i hh q => by cases q.1)
  obtain ⟨q1, χ3, G, rfl⟩ := q
  cases q1
  show e_E _ _ _ (_ :: _) _ _ _ _ _
  refine e_areturn dX0_byLaw_18 rfl (Or.inl ⟨_, rfl⟩) ?_
  exact ⟨rfl, χ3, h1, (x_gone ha G).1, x_gone_k hk (fun j hj => s_up_f (by omega)) G, he1, rfl⟩
theorem x_gq {σ τ ρ : t_S} (ha : t_ask τ) (h : τ 1 = ρ 1) (e1 : ρ 1 = σ 1) : t_ga τ 1 = σ 1 := (z_h ha).2.trans (h.trans e1)
theorem C_X0_by {σ χ : t_S} {h0 : e_A} {α : Nat → Nat} (A : x_at χ h0 (σ 1) α) (hz : t_sz σ) (hr : t_okR (σ 1)) (hC : t_isC σ ∨ σ 1 7 = 0) {l : Int} (hl : e_rg l) : e_C mX0_by [.ref 350, e_i l] (x_H χ h0) 3 12 7 (x_Pub (e_i (v_by (t_af σ) l)) χ h0) := by
  have s0 : 0 ≤ σ 1 0 ∧ σ 1 0 ≤ 12 := hz.1
  have s3 := hz.2.1
  have s4 := hz.2.2.1
  have s5 := hz.2.2.2.1
  have s6 := hz.2.2.2.2.1
  have s7 := hz.2.2.2.2.2.1
  have e1 := x_af_1 hz hr
  have haf := (t_af_hist hz hr).1
  have kl1 := hl.1
  have kl2 := hl.2
  refine e_enter (al0 := [.ref 350, e_i l]) (by decide +kernel) rfl (Nat.le_of_ble_eq_true rfl) ?_
  refine e_aload_n dX0_by_0 rfl ?_
  refine e_getV (.ref (α 0)) dX0_by_1 fl_X0_47 (x_o0 _ _) (x_now A) ?_
  refine e_callV0rz (ci := 2) dX0_by_4 md_X2_is lk_X0_98 rfl q1034 q1035 (x_aC A) (by decide) rfl (Nat.le_of_ble_eq_true rfl) (C_X2_is A hz) ?_
  refine e_bif_eq (tgt := 28) dX0_by_7 rfl (fun c1 => ?_) (fun c1 => ?_)
  · refine e_bipush dX0_by_28 rfl ?_
    refine e_ireturn dX0_by_30 rfl rfl ?_
    first
      | (refine x_pubi ?_ (x_f34 hf3) he3
         unfold v_by t_isC
         rw [e1, if_pos ⟨by omega, by omega, by omega⟩]
         rfl)
      | (refine x_pubi0 ?_
         unfold v_by t_isC
         rw [e1, if_neg (fun z => by omega)])
  · refine e_iload_n dX0_by_10 rfl ?_
    refine e_callS1rz dX0_by_11 md_X0_isLaw lk_X0_397 rfl q1561 rfl (Nat.le_of_ble_eq_true rfl) (C_X0_isLaw ⟨by omega, by omega⟩) ?_
    refine e_bif_eq (tgt := 28) dX0_by_14 rfl (fun c2 => ?_) (fun c2 => ?_)
    · refine e_bipush dX0_by_28 rfl ?_
      refine e_ireturn dX0_by_30 rfl rfl ?_
      first
        | (refine x_pubi ?_ (x_f34 hf3) he3
           unfold v_by t_isC
           rw [e1, if_pos ⟨by omega, by omega, by omega⟩]
           rfl)
        | (refine x_pubi0 ?_
           unfold v_by t_isC
           rw [e1, if_neg (fun z => by omega)])
    · have hq : t_ask (s_up (t_af σ) 17 0 l) := t_ask17 haf ⟨by omega, by omega⟩
      refine e_aload_n dX0_by_17 rfl ?_
      refine e_iload_n dX0_by_18 rfl ?_
      refine e_bud (kc1 := 0 + 3) (ks1 := 0 + 12) (by decide) (by decide) ?_
      refine e_callV1 (M1 := mX0_byLaw) (kc := 0) (ks := 0) (mc := 3) (ms := 12) (ci := 0) dX0_by_19 lk_X0_393 md_X0_byLaw rfl q1554 qs53 (x_o0 _ _) (by decide) rfl (Nat.le_of_ble_eq_true rfl) (C_X0_byLaw A hz hr hC hq (x_af_ls hz hr (by decide)) (s_up_eq _ _ _ _)) (fun a hh q => ?_) (fun i hh q => by cases q.1)
      obtain ⟨q1, χ3, h3, N3, hf3, he3, rfl⟩ := q
      cases q1
      show e_E _ _ _ (_ :: _) _ _ _ _ _
      refine e_callV0rz (ci := 3) dX0_by_22 md_X3_last lk_X0_351 rfl q1489 q1490 (x_o3 _ _) (by decide) rfl (Nat.le_of_ble_eq_true rfl) (C_X3_last (x_at_g A hf3 he3 (x_gq hq (s_up_f (by decide)) e1)) (z_ga_F hq).1.1 (z_ga_F hq) N3) ?_
      refine e_goto (tgt := 30) dX0_by_25 rfl ?_
      refine e_ireturn dX0_by_30 rfl rfl ?_
      first
        | (refine x_pubi ?_ (x_f34 hf3) he3
           unfold v_by t_isC
           rw [e1, if_pos ⟨by omega, by omega, by omega⟩]
           rfl)
        | (refine x_pubi0 ?_
           unfold v_by t_isC
           rw [e1, if_neg (fun z => by omega)])
theorem C_X0_law {σ χ : t_S} {h0 : e_A} {α : Nat → Nat} (A : x_at χ h0 (σ 1) α) (hz : t_sz σ) (hr : t_okR (σ 1)) (hC : t_isC σ ∨ σ 1 7 = 0) : e_C mX0_law [.ref 350] (x_H χ h0) 18 72 7 (x_Pub (e_i (v_law (t_af σ))) χ h0) := by
  have s0 : 0 ≤ σ 1 0 ∧ σ 1 0 ≤ 12 := hz.1
  have s3 := hz.2.1
  have s4 := hz.2.2.1
  have s5 := hz.2.2.2.1
  have s6 := hz.2.2.2.2.1
  have s7 := hz.2.2.2.2.2.1
  have e1 := x_af_1 hz hr
  have haf := (t_af_hist hz hr).1
  refine e_enter (al0 := [.ref 350, .retAddr 0, .retAddr 0]) (by decide +kernel) rfl (Nat.le_of_ble_eq_true rfl) ?_
  refine e_aload_n dX0_law_0 rfl ?_
  refine e_getV (.ref (α 0)) dX0_law_1 fl_X0_47 (x_o0 _ _) (x_now A) ?_
  refine e_callV0rz (ci := 2) dX0_law_4 md_X2_is lk_X0_98 rfl q1034 q1035 (x_aC A) (by decide) rfl (Nat.le_of_ble_eq_true rfl) (C_X2_is A hz) ?_
  refine e_bif_ne (tgt := 13) dX0_law_7 rfl (fun c1 => ?_) (fun c1 => ?_)
  · refine e_iconst dX0_law_13 ?_
    refine e_istore_n1 dX0_law_14 rfl ?_
    refine e_iconst dX0_law_15 ?_
    refine e_istore_n2 dX0_law_16 rfl ?_
    rw [show (Value.int (Int32.ofInt 0)) = e_i (t_it (fun j x => t_lwf (j + 1) x) (1 - 1 : Int).toNat (t_af σ, (0 : Int))).2 from rfl]
    refine e_forA (a := 1) (n := 4) (F := fun k => ∀ χ2 h2, (∀ j, (j < 10 ∨ 27 < j) → χ2 j = χ j) → e_ext h0 h2 → e_E mX0_law 17 [.ref 350, e_i (t_it (fun j x => t_lwf (j + 1) x) (k - 1).toNat (t_af σ, (0 : Int))).2, e_i k] [] (x_H χ2 h2) (6 * (4 - k).toNat) (24 * (4 - k).toNat) 7 (x_Pub (e_i (v_law (t_af σ))) χ h0)) (by omega) (fun χ2 h2 hf he => ?_) (fun k hk0 hk1 hF χ2 h2 hf he => ?_) χ h0 (fun _ _ => rfl) (e_ext_rf h0)
    · refine e_iload_n dX0_law_17 rfl ?_
      refine e_iconst dX0_law_18 ?_
      refine e_icmp_ge (tgt := 49) dX0_law_19 rfl ⟨by omega, by omega⟩ ⟨by omega, by omega⟩ (fun c2 => ?_) (fun q => by exfalso; omega)
      refine e_iload_n dX0_law_49 rfl ?_
      refine e_ireturn dX0_law_50 rfl rfl ?_
      refine x_pubi ?_ (x_f34 hf) he
      unfold v_law t_isC
      rw [e1, if_pos (by omega)]
      rfl
    · have eX : t_it (fun j x => t_lwf (j + 1) x) (k + 1 - 1).toNat (t_af σ, (0 : Int)) = t_lwf k (t_it (fun j x => t_lwf (j + 1) x) (k - 1).toNat (t_af σ, (0 : Int))) := by
        rw [show k + 1 - 1 = (k - 1) + 1 by omega, t_it_s _ _ (by omega)]
        show t_lwf (k - 1 + 1) _ = _
        rw [Int.sub_add_cancel]
      rw [eX] at hF
      have hin := t_lwl_in haf (k - 1).toNat (by omega)
      generalize t_it (fun j x => t_lwf (j + 1) x) (k - 1).toNat (t_af σ, (0 : Int)) = x at hF hin ⊢
      obtain ⟨i1, i2, i3⟩ := hin
      have q1a : t_ask (s_up x.1 17 0 k) := t_ask17 i2 ⟨by omega, by omega⟩
      have l1a : x_ls σ 17 (s_up x.1 17 0 k) := x_ls_of hz hr (fun j j1 j2 => (s_up_f j2).trans (i1 j j1 j2))
      have g1a : t_ga (s_up x.1 17 0 k) 1 = σ 1 := x_gq q1a ((s_up_f (by decide)).trans (i1 1 (by omega) (by decide))) e1
      have hb := t_pb_in i2 (l := k) ⟨by omega, by omega⟩
      have q2a : t_ask (s_up (t_pb k x.1) 17 0 x.2) := t_ask17 hb.2.1 ⟨by omega, by omega⟩
      have l2a : x_ls σ 17 (s_up (t_pb k x.1) 17 0 x.2) := x_ls_of hz hr (fun j j1 j2 => (s_up_f j2).trans ((hb.1 j j1 j2).trans (i1 j j1 j2)))
      have g2a : t_ga (s_up (t_pb k x.1) 17 0 x.2) 1 = σ 1 := x_gq q2a ((s_up_f (by decide)).trans ((hb.1 1 (by omega) (by decide)).trans (i1 1 (by omega) (by decide)))) e1
      obtain ⟨P1, hP1⟩ : ∃ P1, t_pgl (t_ga (s_up x.1 17 0 k)) = P1 := ⟨_, rfl⟩
      obtain ⟨P2, hP2⟩ : ∃ P2, t_pgl (t_ga (s_up (t_pb k x.1) 17 0 x.2)) = P2 := ⟨_, rfl⟩
      have r1 : 0 ≤ P1 ∧ P1 ≤ 640 := by rw [← hP1]; exact t_pgm_rg _ _
      have r2 : 0 ≤ P2 ∧ P2 ≤ 640 := by rw [← hP2]; exact t_pgm_rg _ _
      have hw : t_lwf k x = (t_pb x.2 (t_pb k x.1), if t_pgl (t_ga (s_up (t_pb k x.1) 17 0 x.2)) < t_pgl (t_ga (s_up x.1 17 0 k)) then k else x.2) := rfl
      rw [hw, hP1, hP2] at hF
      refine e_iload_n dX0_law_17 rfl ?_
      refine e_iconst dX0_law_18 ?_
      refine e_icmp_ge (tgt := 49) dX0_law_19 rfl ⟨by omega, by omega⟩ ⟨by omega, by omega⟩ (fun q => by exfalso; omega) (fun c3 => ?_)
      refine e_aload_n dX0_law_22 rfl ?_
      refine e_iload_n dX0_law_23 rfl ?_
      refine e_bud (kc1 := ((6 * (4 - (k + 1)).toNat) + 3) + 3) (ks1 := ((24 * (4 - (k + 1)).toNat) + 12) + 12) (by omega) (by omega) ?_
      refine e_callV1 (M1 := mX0_byLaw) (kc := ((6 * (4 - (k + 1)).toNat) + 3)) (ks := ((24 * (4 - (k + 1)).toNat) + 12)) (mc := 3) (ms := 12) (ci := 0) dX0_law_24 lk_X0_393 md_X0_byLaw rfl q1554 qs53 (x_o0 _ _) (by decide) rfl (Nat.le_of_ble_eq_true rfl) (C_X0_byLaw (x_at_f A hf he) hz hr hC q1a l1a (s_up_eq _ _ _ _)) (fun a hh q => ?_) (fun i hh q => by cases q.1)
      obtain ⟨q1, χ4, h4, N4, hf4, he4, rfl⟩ := q
      cases q1
      show e_E _ _ _ (_ :: _) _ _ _ _ _
      refine e_callV0rz (ci := 3) dX0_law_27 md_X3_last lk_X0_351 rfl q1489 q1490 (x_o3 _ _) (by decide) rfl (Nat.le_of_ble_eq_true rfl) (C_X3_last (x_at_g (x_at_f A hf he) hf4 he4 g1a) (z_ga_F q1a).1.1 (z_ga_F q1a) N4) ?_
      rw [hP1]
      refine e_aload_n dX0_law_30 rfl ?_
      refine e_iload_n dX0_law_31 rfl ?_
      refine e_bud (kc1 := (6 * (4 - (k + 1)).toNat) + 3) (ks1 := (24 * (4 - (k + 1)).toNat) + 12) (Nat.le_refl _) (Nat.le_refl _) ?_
      refine e_callV1 (M1 := mX0_byLaw) (kc := (6 * (4 - (k + 1)).toNat)) (ks := (24 * (4 - (k + 1)).toNat)) (mc := 3) (ms := 12) (ci := 0) dX0_law_32 lk_X0_393 md_X0_byLaw rfl q1554 qs53 (x_o0 _ _) (by decide) rfl (Nat.le_of_ble_eq_true rfl) (C_X0_byLaw (x_at_f A (x_f_tr hf hf4) (e_ext_tr he he4)) hz hr hC q2a l2a (s_up_eq _ _ _ _)) (fun a hh q => ?_) (fun i hh q => by cases q.1)
      obtain ⟨q1, χ5, h5, N5, hf5, he5, rfl⟩ := q
      cases q1
      show e_E _ _ _ (_ :: _) _ _ _ _ _
      refine e_callV0rz (ci := 3) dX0_law_35 md_X3_last lk_X0_351 rfl q1489 q1490 (x_o3 _ _) (by decide) rfl (Nat.le_of_ble_eq_true rfl) (C_X3_last (x_at_g (x_at_f A (x_f_tr hf hf4) (e_ext_tr he he4)) hf5 he5 g2a) (z_ga_F q2a).1.1 (z_ga_F q2a) N5) ?_
      rw [hP2]
      refine e_icmp_le (tgt := 43) dX0_law_38 rfl ⟨by omega, by omega⟩ ⟨by omega, by omega⟩ (fun c4 => ?_) (fun c4 => ?_)
      · refine e_iinc2 dX0_law_43 rfl ?_
        refine e_goto (tgt := 17) dX0_law_46 rfl ?_
        first
          | (dsimp only at hF; rw [if_pos (by omega)] at hF; exact hF χ5 h5 (x_f_tr hf (x_f_tr hf4 hf5)) (e_ext_tr he (e_ext_tr he4 he5)))
          | (dsimp only at hF; rw [if_neg (by omega)] at hF; exact hF χ5 h5 (x_f_tr hf (x_f_tr hf4 hf5)) (e_ext_tr he (e_ext_tr he4 he5)))
      · refine e_iload_n dX0_law_41 rfl ?_
        refine e_istore_n1 dX0_law_42 rfl ?_
        refine e_iinc2 dX0_law_43 rfl ?_
        refine e_goto (tgt := 17) dX0_law_46 rfl ?_
        first
          | (dsimp only at hF; rw [if_pos (by omega)] at hF; exact hF χ5 h5 (x_f_tr hf (x_f_tr hf4 hf5)) (e_ext_tr he (e_ext_tr he4 he5)))
          | (dsimp only at hF; rw [if_neg (by omega)] at hF; exact hF χ5 h5 (x_f_tr hf (x_f_tr hf4 hf5)) (e_ext_tr he (e_ext_tr he4 he5)))
  · refine e_bipush dX0_law_10 rfl ?_
    refine e_ireturn dX0_law_12 rfl rfl ?_
    refine x_pubi0 ?_
    unfold v_law t_isC
    rw [e1, if_neg (by omega)]
