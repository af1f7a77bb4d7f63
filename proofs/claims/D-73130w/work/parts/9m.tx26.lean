/-! THE COMPONENT: decades drawn, luck (printed by tx26.py) -/
set_option maxRecDepth 100000
theorem x_gd_o {σ : t_S} (hz : t_sz σ) (hr : t_okR (σ 1)) (s : Int) : ∃ τ, t_ask τ ∧ x_ls σ 18 τ ∧ τ 18 0 = t_and (t_is σ 18 0) (t_andn (2 ^ (σ 1 7).toNat - 1) (t_fog (t_bg σ) s)) ∧ t_gd s σ = t_ga τ := by
  have hB := t_bg_in hz hr
  refine ⟨s_up (t_bg σ) 18 0 (t_and (t_bg σ 38 0) (t_andn (2 ^ (t_bg σ 1 7).toNat - 1) (t_fog (t_bg σ) s))), (t_wo_in hB.1 hB.2.1).2.2, fun j hj hne => ?_, ?_, rfl⟩
  · rw [s_up_f hne]
    exact s_up_f (by omega)
  · rw [s_up_eq, hB.2.2.2]
    unfold t_bg
    rw [s_up_eq]
theorem x_gd_F {σ : t_S} (hz : t_sz σ) (hr : t_okR (σ 1)) (s : Int) : z_F (t_gd s σ) ∧ t_gd s σ 1 = σ 1 := by
  obtain ⟨τ, ha, l1, h18, e⟩ := x_gd_o hz hr s
  rw [e]
  exact ⟨z_ga_F ha, (z_h ha).2.trans (x_ls_1 (by decide) l1)⟩
theorem x_fog_e {σ : t_S} (hz : t_sz σ) (hr : t_okR (σ 1)) (s : Int) : t_fog (t_bg σ) s = t_msk (t_fgg σ s) (σ 1 7).toNat := by
  have e1 := (t_bg_in hz hr).2.2.2
  unfold t_fog t_fgg
  rw [e1]
def x_PD (s : Int) (σ χ : t_S) (h0 : e_A) : e_R → e_A → Prop := fun r h => r = .inl (some (e_i (t_fog (t_bg σ) s))) ∧ ∃ χ1 h1, x_An (t_gd s σ) χ1 ∧ (∀ j, (j < 10 ∨ 27 < j) → χ1 j = χ j) ∧ e_ext h0 h1 ∧ h = x_H χ1 h1
theorem C_X0_draws {σ χ : t_S} {h0 : e_A} {α : Nat → Nat} (A : x_at χ h0 (σ 1) α) (hz : t_sz σ) (hr : t_okR (σ 1)) (hC : t_isC σ ∨ σ 1 7 = 0) {s : Int} (hs : 0 ≤ s ∧ s < 2147483648) : e_C mX0_draws [.ref 350, e_j s] (x_H χ h0) 3 12 6 (x_PD s σ χ h0) := by
  have s0 : 0 ≤ σ 1 0 ∧ σ 1 0 ≤ 12 := hz.1
  have s3 := hz.2.1
  have s4 := hz.2.2.1
  have s5 := hz.2.2.2.1
  have s6 := hz.2.2.2.2.1
  have s7 := hz.2.2.2.2.2.1
  have s2 : 0 ≤ σ 1 2 ∧ σ 1 2 ≤ 10 := hr.2.2.2.2.2.2.2
  refine e_enter (al0 := [.ref 350, e_j s, .retAddr 0, .retAddr 0, .retAddr 0, .retAddr 0, .retAddr 0]) (by decide +kernel) rfl (Nat.le_of_ble_eq_true rfl) ?_
  refine e_aload_n dX0_draws_0 rfl ?_
  refine e_getV (.ref 366) dX0_draws_1 fl_X0_68 (x_o0 _ _) rfl ?_
  refine e_bud (kc1 := 0 + 3) (ks1 := 0 + 12) (by decide) (by decide) ?_
  refine e_callV0 (M1 := mX3_is) (kc := 0) (ks := 0) (mc := 3) (ms := 12) (ci := 3) dX0_draws_4 lk_X0_188 md_X3_is rfl q1050 q1051 (x_o3 _ _) (by decide) rfl (Nat.le_of_ble_eq_true rfl) (C_X3_is A hz hr) (fun a hh q => ?_) (fun i hh q => by cases q.1)
  obtain ⟨q1, χ1, h1, hk, hRq, he1, rfl⟩ := q
  cases q1
  show e_E _ _ _ (_ :: _) _ _ _ _ _
  have A2 := x_at_up (congrFun (hk 1 (by decide)) 0) (x_at_ext he1 A)
  have hst := x_sty_wk hz hr hRq
  refine e_pop dX0_draws_7 rfl ?_
  refine e_iconst dX0_draws_8 ?_
  refine e_istore_n3 dX0_draws_9 rfl ?_
  refine e_lload_n dX0_draws_10 rfl ?_
  refine e_lstore4 dX0_draws_11 rfl ?_
  refine e_iconst dX0_draws_13 ?_
  refine e_istore6 dX0_draws_14 rfl ?_
  refine e_for (n := σ 1 7) (fun i => e_E mX0_draws 16 [.ref 350, e_j s, .retAddr 0, e_i (t_msk (t_fgg σ s) i.toNat), e_j (t_lcn s i.toNat), .retAddr 0, e_i i] [] (x_H χ1 h1) _ _ _ _) (by omega) ?_ (fun i hi0 hi1 hF => ?_)
  · refine e_iload dX0_draws_16 rfl ?_
    refine e_aload_n dX0_draws_18 rfl ?_
    refine e_callV0rz (ci := 0) dX0_draws_19 md_X0_many lk_X0_126 rfl q1121 qs23 (x_o0 _ _) (by decide) rfl (Nat.le_of_ble_eq_true rfl) (C_X0_many A2 hz) ?_
    refine e_icmp_ge (tgt := 80) dX0_draws_22 rfl ⟨by omega, by omega⟩ ⟨by omega, by omega⟩ (fun c1 => ?_) (fun q => by exfalso; omega)
    rw [← x_fog_e hz hr s]
    obtain ⟨τ, ha, l1, h18, hE⟩ := x_gd_o hz hr s
    have hfg : 0 ≤ t_fog (t_bg σ) s ∧ t_fog (t_bg σ) s < 2 ^ 7 := t_fog_rg (t_bg_in hz hr).1.1 s
    have hsty : x_sty (σ 1 7) (t_or (χ1 27 0) (t_fog (t_bg σ) s)) (τ 18 0) := by rw [h18]; exact x_sty_set s7 hst.1 hst.2 hfg
    refine e_aload_n dX0_draws_80 rfl ?_
    refine e_getV (.ref 366) dX0_draws_81 fl_X0_68 (x_o0 _ _) rfl ?_
    refine e_dup dX0_draws_84 rfl ?_
    refine e_getV (e_i _) dX0_draws_85 fl_X0_348 (x_o3 _ _) rfl ?_
    refine e_iload_n dX0_draws_88 rfl ?_
    refine e_ior dX0_draws_89 (x_or_law hst.1.1.1 hfg.1) ?_
    refine x_put_27 dX0_draws_90 fl_X0_348 ?_
    refine e_aload_n dX0_draws_93 rfl ?_
    refine e_getV (.ref 366) dX0_draws_94 fl_X0_68 (x_o0 _ _) rfl ?_
    refine e_bud (kc1 := 0 + 0) (ks1 := 0 + 0) (by decide) (by decide) ?_
    refine e_callV0 (M1 := mX3_goes) (kc := 0) (ks := 0) (mc := 0) (ms := 0) (ci := 3) dX0_draws_97 lk_X0_191 md_X3_goes rfl q1148 q1149 (x_o3 _ _) (by decide) rfl (Nat.le_of_ble_eq_true rfl) (C_X3_goes (x_at_2 A (by decide) l1 ((s_up_f (by decide)).trans (hk 1 (by decide))) he1) ha (x_ls_ask (by decide) l1 ha hC) (x_Rq_27 hRq l1 hsty)) (fun a hh q => ?_) (fun i hh q => by cases q.1)
    obtain ⟨q1, χ3, G, rfl⟩ := q
    cases q1
    show e_E _ _ _ (_ :: _) _ _ _ _ _
    refine e_pop dX0_draws_100 rfl ?_
    refine e_iload_n dX0_draws_101 rfl ?_
    refine e_ireturn dX0_draws_102 rfl rfl ?_
    refine ⟨rfl, χ3, h1, ?_, x_gone_k hk (fun j hj => s_up_f (k1 := j) (by omega)) G, he1, rfl⟩
    rw [hE]
    exact (x_gone ha G).1
  · have hm := t_msk_rg (t_fgg σ s) i.toNat
    have hx := t_lcn_rg hs i.toNat
    have e : t_lcn s (i + 1).toNat = (1103515245 * t_lcn s i.toNat + 12345) % 2147483648 := t_it_s t_lcf s hi0
    have hF9 := hF
    rw [e] at hF
    refine e_iload dX0_draws_16 rfl ?_
    refine e_aload_n dX0_draws_18 rfl ?_
    refine e_callV0rz (ci := 0) dX0_draws_19 md_X0_many lk_X0_126 rfl q1121 qs23 (x_o0 _ _) (by decide) rfl (Nat.le_of_ble_eq_true rfl) (C_X0_many A2 hz) ?_
    refine e_icmp_ge (tgt := 80) dX0_draws_22 rfl ⟨by omega, by omega⟩ ⟨by omega, by omega⟩ (fun q => by exfalso; omega) (fun c2 => ?_)
    refine e_ldc2 (z := 1103515245) dX0_draws_25 q1643 rfl ?_
    refine e_lload dX0_draws_28 rfl ?_
    refine e_lmul dX0_draws_30 ?_
    refine e_ldc2 (z := 12345) dX0_draws_31 q1644 rfl ?_
    refine e_ladd dX0_draws_34 ?_
    refine e_ldc2 (z := 2147483648) dX0_draws_35 q1645 rfl ?_
    refine e_lrem dX0_draws_38 ⟨by omega, by omega⟩ ⟨by omega, by omega⟩ ?_
    refine e_lstore4 dX0_draws_39 rfl ?_
    refine e_iload_n dX0_draws_41 rfl ?_
    refine e_lload dX0_draws_42 rfl ?_
    refine e_ldc2 (z := 65536) dX0_draws_44 q1646 rfl ?_
    refine e_ldiv dX0_draws_47 ⟨by omega, by omega⟩ ⟨by omega, by omega⟩ ?_
    refine e_ldc2 (z := 10) dX0_draws_48 q1209 rfl ?_
    refine e_lrem dX0_draws_51 ⟨by omega, by omega⟩ ⟨by omega, by omega⟩ ?_
    refine e_aload_n dX0_draws_52 rfl ?_
    refine e_getV (.ref (α 0)) dX0_draws_53 fl_X0_47 (x_o0 _ _) (x_now A2) ?_
    refine e_getV (e_i _) dX0_draws_56 fl_X0_437 (x_aC A2) rfl ?_
    refine e_i2l dX0_draws_59 ⟨by omega, by omega⟩ ?_
    refine e_lcmp_ge (tgt := 71) dX0_draws_60 dX0_draws_61 rfl ⟨by omega, by omega⟩ ⟨by omega, by omega⟩ (fun c3 => ?_) (fun c3 => ?_)
    · refine e_iconst dX0_draws_71 ?_
      refine e_ior dX0_draws_72 (by first | exact e_or_0 _ | exact e_or_top ⟨by omega, by omega⟩ hm) ?_
      refine e_istore_n3 dX0_draws_73 rfl ?_
      refine e_iinc6 dX0_draws_74 rfl ?_
      refine e_goto (tgt := 16) dX0_draws_77 rfl ?_
      first
        | (rw [t_msk_1 (g := t_fgg σ s) hi0 (if_pos (by rw [e]; omega))] at hF; exact hF)
        | (rw [t_msk_0 (g := t_fgg σ s) hi0 (if_neg (by rw [e]; omega))] at hF; exact hF)
    · refine e_iconst dX0_draws_64 ?_
      refine e_iload dX0_draws_65 rfl ?_
      refine e_ishl dX0_draws_67 (t_shl1 ⟨by omega, by omega⟩) ?_
      refine e_goto (tgt := 72) dX0_draws_68 rfl ?_
      refine e_ior dX0_draws_72 (by first | exact e_or_0 _ | exact e_or_top ⟨by omega, by omega⟩ hm) ?_
      refine e_istore_n3 dX0_draws_73 rfl ?_
      refine e_iinc6 dX0_draws_74 rfl ?_
      refine e_goto (tgt := 16) dX0_draws_77 rfl ?_
      first
        | (rw [t_msk_1 (g := t_fgg σ s) hi0 (if_pos (by rw [e]; omega))] at hF; exact hF)
        | (rw [t_msk_0 (g := t_fgg σ s) hi0 (if_neg (by rw [e]; omega))] at hF; exact hF)
theorem C_X0_drawn {σ χ : t_S} {h0 : e_A} {α : Nat → Nat} (A : x_at χ h0 (σ 1) α) (hz : t_sz σ) (hr : t_okR (σ 1)) (hC : t_isC σ ∨ σ 1 7 = 0) {s : Int} (hs : e_rg s) {w : Int} (hw : e_rg w) : e_C mX0_drawn [.ref 350, e_i s, e_i w] (x_H χ h0) 3 12 7 (x_Pub (e_i (v_drawn σ s w)) χ h0) := by
  have s0 : 0 ≤ σ 1 0 ∧ σ 1 0 ≤ 12 := hz.1
  have s3 := hz.2.1
  have s4 := hz.2.2.1
  have s5 := hz.2.2.2.1
  have s6 := hz.2.2.2.2.1
  have s7 := hz.2.2.2.2.2.1
  have ks1 := hs.1
  have ks2 := hs.2
  have kw1 := hw.1
  have kw2 := hw.2
  refine e_enter (al0 := [.ref 350, e_i s, e_i w, .retAddr 0]) (by decide +kernel) rfl (Nat.le_of_ble_eq_true rfl) ?_
  refine e_aload_n dX0_drawn_0 rfl ?_
  refine e_getV (.ref (α 0)) dX0_drawn_1 fl_X0_47 (x_o0 _ _) (x_now A) ?_
  refine e_callV0rz (ci := 2) dX0_drawn_4 md_X2_is lk_X0_98 rfl q1034 q1035 (x_aC A) (by decide) rfl (Nat.le_of_ble_eq_true rfl) (C_X2_is A hz) ?_
  refine e_bif_eq (tgt := 24) dX0_drawn_7 rfl (fun c1 => ?_) (fun c1 => ?_)
  · refine e_bipush dX0_drawn_24 rfl ?_
    refine e_ireturn dX0_drawn_26 rfl rfl ?_
    refine x_pubi0 ?_
    unfold v_drawn
    rw [if_neg (fun z => by have := z.1; omega)]
  · refine e_iload_n dX0_drawn_10 rfl ?_
    refine e_callS1rz dX0_drawn_11 md_X0_isSeed lk_X0_455 rfl q1636 rfl (Nat.le_of_ble_eq_true rfl) (C_X0_isSeed ⟨by omega, by omega⟩) ?_
    refine e_bif_eq (tgt := 24) dX0_drawn_14 rfl (fun c2 => ?_) (fun c2 => ?_)
    · refine e_bipush dX0_drawn_24 rfl ?_
      refine e_ireturn dX0_drawn_26 rfl rfl ?_
      refine x_pubi0 ?_
      unfold v_drawn
      rw [if_neg (fun z => by have := z.1; omega)]
    · refine e_iload_n dX0_drawn_17 rfl ?_
      refine e_callS1rz dX0_drawn_18 md_X0_isBit lk_X0_414 rfl q1580 rfl (Nat.le_of_ble_eq_true rfl) (C_X0_isBit ⟨by omega, by omega⟩) ?_
      refine e_bif_ne (tgt := 27) dX0_drawn_21 rfl (fun c3 => ?_) (fun c3 => ?_)
      · refine e_aload_n dX0_drawn_27 rfl ?_
        refine e_iload_n dX0_drawn_28 rfl ?_
        refine e_i2l dX0_drawn_29 ⟨by omega, by omega⟩ ?_
        refine e_bud (kc1 := 0 + 3) (ks1 := 0 + 12) (by decide) (by decide) ?_
        refine e_callV1 (M1 := mX0_draws) (kc := 0) (ks := 0) (mc := 3) (ms := 12) (ci := 0) dX0_drawn_30 lk_X0_458 md_X0_draws rfl q1641 qs59 (x_o0 _ _) (by decide) rfl (Nat.le_of_ble_eq_true rfl) (C_X0_draws A hz hr hC ⟨by omega, by omega⟩) (fun a hh q => ?_) (fun i hh q => by cases q.1)
        obtain ⟨q1, χ3, h3, N3, hf3, he3, rfl⟩ := q
        cases q1
        show e_E _ _ _ (_ :: _) _ _ _ _ _
        have g9 := x_gd_F hz hr s
        refine e_istore_n3 dX0_drawn_33 rfl ?_
        refine e_iload_n dX0_drawn_34 rfl ?_
        refine e_if_ne (tgt := 42) dX0_drawn_35 rfl ⟨by omega, by omega⟩ (fun c4 => ?_) (fun c4 => ?_)
        · refine e_aload_n dX0_drawn_42 rfl ?_
          refine e_getV (.ref 366) dX0_drawn_43 fl_X0_68 (x_o0 _ _) rfl ?_
          refine e_callV0rz (ci := 3) dX0_drawn_46 md_X3_last lk_X0_351 rfl q1489 q1490 (x_o3 _ _) (by decide) rfl (Nat.le_of_ble_eq_true rfl) (C_X3_last (show x_at χ3 h3 (t_gd s σ 1) α by rw [g9.2]; exact x_at_f A hf3 he3) g9.1.1.1 g9.1 N3) ?_
          refine e_ireturn dX0_drawn_49 rfl rfl ?_
          refine x_pubi ?_ (x_f34 hf3) he3
          unfold v_drawn
          rw [if_pos ⟨by assumption, by omega, by omega⟩]
          first
            | (rw [if_pos (by omega)]; done)
            | (rw [if_neg (by omega)]; done)
        · refine e_iload_n dX0_drawn_38 rfl ?_
          refine e_goto (tgt := 49) dX0_drawn_39 rfl ?_
          refine e_ireturn dX0_drawn_49 rfl rfl ?_
          refine x_pubi ?_ (x_f34 hf3) he3
          unfold v_drawn
          rw [if_pos ⟨by assumption, by omega, by omega⟩]
          first
            | (rw [if_pos (by omega)]; done)
            | (rw [if_neg (by omega)]; done)
      · refine e_bipush dX0_drawn_24 rfl ?_
        refine e_ireturn dX0_drawn_26 rfl rfl ?_
        refine x_pubi0 ?_
        unfold v_drawn
        rw [if_neg (fun z => by have := z.1; omega)]
theorem C_X0_luck {σ χ : t_S} {h0 : e_A} {α : Nat → Nat} (A : x_at χ h0 (σ 1) α) (hz : t_sz σ) (hr : t_okR (σ 1)) (hC : t_isC σ ∨ σ 1 7 = 0) {s : Int} (hs : e_rg s) {n : Int} (hn : e_rg n) {c : Int} (hc : e_rg c) : e_C mX0_luck [.ref 350, e_i s, e_i n, e_i c] (x_H χ h0) 60 240 7 (x_Pub (e_i (v_luck σ s n c)) χ h0) := by
  have s0 : 0 ≤ σ 1 0 ∧ σ 1 0 ≤ 12 := hz.1
  have s3 := hz.2.1
  have s4 := hz.2.2.1
  have s5 := hz.2.2.2.1
  have s6 := hz.2.2.2.2.1
  have s7 := hz.2.2.2.2.2.1
  have ks1 := hs.1
  have ks2 := hs.2
  have kn1 := hn.1
  have kn2 := hn.2
  have kc1 := hc.1
  have kc2 := hc.2
  refine e_enter (al0 := [.ref 350, e_i s, e_i n, e_i c, .retAddr 0, .retAddr 0]) (by decide +kernel) rfl (Nat.le_of_ble_eq_true rfl) ?_
  have A2 := A
  refine e_iload_n dX0_luck_0 rfl ?_
  refine e_callS1rz dX0_luck_1 md_X0_isSeed lk_X0_455 rfl q1636 rfl (Nat.le_of_ble_eq_true rfl) (C_X0_isSeed ⟨by omega, by omega⟩) ?_
  refine e_bif_eq (tgt := 28) dX0_luck_4 rfl (fun c1 => ?_) (fun c1 => ?_)
  · refine e_bipush dX0_luck_28 rfl ?_
    refine e_ireturn dX0_luck_30 rfl rfl ?_
    refine x_pubi0 ?_
    unfold v_luck
    rw [if_neg (fun z => by have := z.2.2; omega)]
  · refine e_iload_n dX0_luck_7 rfl ?_
    refine e_i2l dX0_luck_8 ⟨by omega, by omega⟩ ?_
    refine e_lconst (z := 1) dX0_luck_9 rfl ?_
    refine e_ldc2 (z := 20) dX0_luck_10 q1651 rfl ?_
    refine e_callS3rz dX0_luck_13 md_X0_in lk_X0_11 rfl q186 rfl (Nat.le_of_ble_eq_true rfl) (C_X0_in ⟨by omega, by omega⟩ ⟨by omega, by omega⟩ ⟨by omega, by omega⟩) ?_
    refine e_bif_eq (tgt := 28) dX0_luck_16 rfl (fun c2 => ?_) (fun c2 => ?_)
    · refine e_bipush dX0_luck_28 rfl ?_
      refine e_ireturn dX0_luck_30 rfl rfl ?_
      refine x_pubi0 ?_
      unfold v_luck
      rw [if_neg (fun z => by have := z.2.2; omega)]
    · refine e_aload_n dX0_luck_19 rfl ?_
      refine e_iload_n dX0_luck_20 rfl ?_
      refine e_i2l dX0_luck_21 ⟨by omega, by omega⟩ ?_
      refine e_callV1rz (ci := 0) dX0_luck_22 md_X0_isCell lk_X0_206 rfl q1207 qs32 (x_o0 _ _) (by decide) rfl (Nat.le_of_ble_eq_true rfl) (C_X0_isCell A2 hz ⟨by omega, by omega⟩) ?_
      refine e_bif_ne (tgt := 31) dX0_luck_25 rfl (fun c3 => ?_) (fun c3 => ?_)
      · refine e_iconst dX0_luck_31 ?_
        refine e_istore4 dX0_luck_32 rfl ?_
        refine e_iconst dX0_luck_34 ?_
        refine e_istore5 dX0_luck_35 rfl ?_
        have h8 := x_ok8 hz (c := c) ⟨by omega, by omega, by omega, by omega⟩
        rw [show (Value.int (Int32.ofInt 0)) = e_i (t_it (t_lkf s c) (0 : Int).toNat (σ, (0 : Int))).2 from rfl]
        refine e_bud (kc1 := 3 * (n - 0).toNat) (ks1 := 12 * (n - 0).toNat) (by omega) (by omega) ?_
        refine e_for (n := n) (F := fun i => ∀ χ2 h2, (∀ j, (j < 10 ∨ 34 < j) → χ2 j = χ j) → e_ext h0 h2 → e_E mX0_luck 37 [.ref 350, e_i s, e_i n, e_i c, e_i (t_it (t_lkf s c) i.toNat (σ, (0 : Int))).2, e_i i] [] (x_H χ2 h2) (3 * (n - i).toNat) (12 * (n - i).toNat) 7 (x_Pub (e_i (v_luck σ s n c)) χ h0)) (by omega) (fun χ2 h2 hf he => ?_) (fun i hi0 hi1 hF χ2 h2 hf he => ?_) χ h0 (fun _ _ => rfl) (e_ext_rf _)
        · refine e_iload dX0_luck_37 rfl ?_
          refine e_iload_n dX0_luck_39 rfl ?_
          refine e_icmp_ge (tgt := 96) dX0_luck_40 rfl ⟨by omega, by omega⟩ ⟨by omega, by omega⟩ (fun c4 => ?_) (fun q => by exfalso; omega)
          refine e_iload dX0_luck_96 rfl ?_
          refine e_ireturn dX0_luck_98 rfl rfl ?_
          refine x_pubi ?_ hf he
          unfold v_luck
          rw [if_pos ⟨by omega, by omega, by assumption⟩]
          rfl
        · have A2 := x_at_p A hf he
          have hin := t_lkl_in (s := s) (c := c) hz hr i.toNat
          rw [t_it_s _ _ hi0, show (n - (i + 1)).toNat = (n - 1 - i).toNat by omega] at hF
          generalize t_it (t_lkf s c) i.toNat (σ, (0 : Int)) = x at hF hin ⊢
          have ex1 := hin.1 1 (by omega) (by decide)
          have gx := x_row ex1 hz hr hC
          have g9 := x_gd_F gx.1 gx.2.1 (s + i)
          have eF : t_lkf s c i x = (t_gd (s + i) x.1, x.2 + (if t_rdo (t_gd (s + i) x.1) c (t_gd (s + i) x.1 1 0) = 0 then 0 else 1)) := rfl
          rw [eF] at hF
          refine e_iload dX0_luck_37 rfl ?_
          refine e_iload_n dX0_luck_39 rfl ?_
          refine e_icmp_ge (tgt := 96) dX0_luck_40 rfl ⟨by omega, by omega⟩ ⟨by omega, by omega⟩ (fun q => by exfalso; omega) (fun c5 => ?_)
          refine e_aload_n dX0_luck_43 rfl ?_
          refine e_iload_n dX0_luck_44 rfl ?_
          refine e_i2l dX0_luck_45 ⟨by omega, by omega⟩ ?_
          refine e_iload dX0_luck_46 rfl ?_
          refine e_i2l dX0_luck_48 ⟨by omega, by omega⟩ ?_
          refine e_ladd dX0_luck_49 ?_
          refine e_bud (kc1 := (3 * (n - 1 - i).toNat) + 3) (ks1 := (12 * (n - 1 - i).toNat) + 12) (by omega) (by omega) ?_
          refine e_callV1 (M1 := mX0_draws) (kc := (3 * (n - 1 - i).toNat)) (ks := (12 * (n - 1 - i).toNat)) (mc := 3) (ms := 12) (ci := 0) dX0_luck_50 lk_X0_458 md_X0_draws rfl q1641 qs59 (x_o0 _ _) (by decide) rfl (Nat.le_of_ble_eq_true rfl) (C_X0_draws (show x_at χ2 h2 (x.1 1) α by rw [ex1]; exact A2) gx.1 gx.2.1 gx.2.2 ⟨by omega, by omega⟩) (fun a hh q => ?_) (fun i hh q => by cases q.1)
          obtain ⟨q1, χ3, h3, N3, hf3, he3, rfl⟩ := q
          cases q1
          show e_E _ _ _ (_ :: _) _ _ _ _ _
          have A2 := x_at_f A2 hf3 he3
          obtain ⟨ρ, hρ⟩ : ∃ ρ, t_gd (s + i) x.1 = ρ := ⟨_, rfl⟩
          rw [hρ] at g9 hF N3
          have e10 : ρ 1 0 = σ 1 0 := (congrFun g9.2 0).trans (congrFun ex1 0)
          obtain ⟨b1, b2, b3, b4⟩ := x_rdb N3 g9.1 (y := ρ 1 0) ⟨by omega, Int.le_refl _⟩ rfl h8
          rw [e10] at b1 b3 b4 hF
          refine e_pop dX0_luck_53 rfl ?_
          refine e_iload dX0_luck_54 rfl ?_
          refine e_aload_n dX0_luck_56 rfl ?_
          refine e_getV (.ref 366) dX0_luck_57 fl_X0_68 (x_o0 _ _) rfl ?_
          refine e_getV (.ref (x_ai 18)) dX0_luck_60 fl_X0_275 (x_o3 _ _) rfl ?_
          refine e_aload_n dX0_luck_63 rfl ?_
          refine e_getV (.ref (α 0)) dX0_luck_64 fl_X0_47 (x_o0 _ _) (x_now A2) ?_
          refine e_getV (e_i _) dX0_luck_67 fl_X0_142 (x_aC A2) rfl ?_
          refine x_lld 13 dX0_luck_70 rfl (by decide) (fun _ => rfl) rfl ⟨by omega, by omega⟩ ?_
          refine e_iload_n dX0_luck_71 rfl ?_
          refine e_i2l dX0_luck_72 ⟨by omega, by omega⟩ ?_
          refine e_callS1rz dX0_luck_73 md_X0_spotOf lk_X0_213 rfl q1212 rfl (Nat.le_of_ble_eq_true rfl) (C_X0_spotOf8 h8) ?_
          refine e_callS2rz dX0_luck_76 md_X0_isIn lk_X0_217 rfl q1188 rfl (Nat.le_of_ble_eq_true rfl) (C_X0_isIn b1 b2) ?_
          refine e_bif_eq (tgt := 86) dX0_luck_79 rfl (fun c6 => ?_) (fun c6 => ?_)
          · refine e_iconst dX0_luck_86 ?_
            refine e_iadd dX0_luck_87 ?_
            refine e_istore4 dX0_luck_88 rfl ?_
            refine e_iinc5 dX0_luck_90 rfl ?_
            refine e_goto (tgt := 37) dX0_luck_93 rfl ?_
            first
              | (rw [if_pos (by omega)] at hF; exact hF χ3 h3 (x_p_tr hf (x_f34 hf3)) (e_ext_tr he he3))
              | (rw [if_neg (by omega)] at hF; exact hF χ3 h3 (x_p_tr hf (x_f34 hf3)) (e_ext_tr he he3))
          · refine e_iconst dX0_luck_82 ?_
            refine e_goto (tgt := 87) dX0_luck_83 rfl ?_
            refine e_iadd dX0_luck_87 ?_
            refine e_istore4 dX0_luck_88 rfl ?_
            refine e_iinc5 dX0_luck_90 rfl ?_
            refine e_goto (tgt := 37) dX0_luck_93 rfl ?_
            first
              | (rw [if_pos (by omega)] at hF; exact hF χ3 h3 (x_p_tr hf (x_f34 hf3)) (e_ext_tr he he3))
              | (rw [if_neg (by omega)] at hF; exact hF χ3 h3 (x_p_tr hf (x_f34 hf3)) (e_ext_tr he he3))
      · refine e_bipush dX0_luck_28 rfl ?_
        refine e_ireturn dX0_luck_30 rfl rfl ?_
        refine x_pubi0 ?_
        unfold v_luck
        rw [if_neg (fun z => by have := z.2.2; omega)]
