/-! THE COMPONENT: chances, means (printed by tx25.py) -/
set_option maxRecDepth 100000
theorem x_pv (a b s : Int) : ∀ n : Nat, t_pv a b s n = a ^ (e_bsum s n).toNat * b ^ (n - (e_bsum s n).toNat)
  | 0 => by
    show (1 : Int) = a ^ 0 * b ^ (0 - 0)
    rw [Int.pow_zero]
    show (1 : Int) = 1 * b ^ 0
    rw [Int.pow_zero]
    rfl
  | n + 1 => by
    have h1 := e_bsum_rg s n
    have h2 := e_bt01 s n
    have e : e_bsum s (n + 1) = e_bsum s n + e_bt s n := rfl
    rw [t_pv_s, x_pv a b s n, e]
    have h3 : e_bt s n = 0 ∨ e_bt s n = 1 := by omega
    rcases h3 with h2 | h2
    · rw [h2, if_neg (by decide), Int.add_zero, show n + 1 - (e_bsum s n).toNat = (n - (e_bsum s n).toNat) + 1 by omega, Int.pow_succ, Int.mul_assoc]
    · rw [h2, if_pos rfl, show (e_bsum s n + 1).toNat = (e_bsum s n).toNat + 1 by omega, show n + 1 - ((e_bsum s n).toNat + 1) = n - (e_bsum s n).toNat by omega, Int.pow_succ, Int.mul_assoc, Int.mul_assoc, Int.mul_comm a]
theorem x_bs16 {s n : Int} (hn : 0 ≤ n ∧ n ≤ 7) (hs : 0 ≤ s ∧ s < 2 ^ n.toNat) : e_bsum s 16 = e_bsum s n.toNat ∧ 0 ≤ e_bsum s 16 ∧ e_bsum s 16 ≤ n := by
  have h := e_bsum_hi (n := n.toNat) hs.1 hs.2 (16 - n.toNat)
  have h1 := e_bsum_rg s n.toNat
  rw [show n.toNat + (16 - n.toNat) = 16 by omega] at h
  rw [h]
  exact ⟨rfl, h1.1, by omega⟩
theorem x_pv16 {a b s n : Int} (hn : 0 ≤ n ∧ n ≤ 7) (hs : 0 ≤ s ∧ s < 2 ^ n.toNat) : a ^ (e_bsum s 16).toNat * b ^ (n - e_bsum s 16).toNat = t_pv a b s n.toNat := by
  have h := x_bs16 hn hs
  rw [x_pv, h.1, show (n - e_bsum s n.toNat).toNat = n.toNat - (e_bsum s n.toNat).toNat by have := e_bsum_rg s n.toNat; omega]
theorem x_fgf {ρ x : t_S} {c i : Int} (h38 : 0 ≤ ρ 38 0 ∧ ρ 38 0 < 2 ^ 7) (hx : t_ask x) (e38 : x 38 = ρ 38) (hb : t_rdo (t_fgw i x) c (t_fgw i x 1 0) = 0 ∨ t_rdo (t_fgw i x) c (t_fgw i x 1 0) = 1) : t_fgf c i x 40 0 = x 40 0 + t_fgv x i * t_rdo (t_fgw i x) c (t_fgw i x 1 0) ∧ t_fgf c i x 41 0 = x 41 0 + t_fgv x i * t_pgl (t_fgw i x) := by
  have hw := (t_fgw_in (set := i) h38 hx e38).1
  have g := t_fg3_v c (t_fgv x i) (t_pgl (t_fgw i x)) (t_fgw i x)
  rw [hw 40 (by omega) (by decide), hw 41 (by omega) (by decide)] at g
  unfold t_fgf
  by_cases q : t_fgv x i = 0
  · rw [if_pos q, q, Int.zero_mul, Int.zero_mul, Int.add_zero, Int.add_zero]
    exact ⟨rfl, rfl⟩
  · rw [if_neg q]
    refine ⟨g.2.1.trans ?_, g.2.2⟩
    rcases hb with hb | hb
    · rw [hb, if_pos rfl, Int.mul_zero]
    · rw [hb, if_neg (by decide), Int.mul_one]
theorem x_bg0 {σ : t_S} (hz : t_sz σ) (hr : t_okR (σ 1)) (h00 : σ 39 0 = 0 ∧ σ 40 0 = 0 ∧ σ 41 0 = 0) (c : Int) (n : Nat) : t_inFg (t_bg σ) n (t_it (t_fgf c) n (t_bg σ)) := by
  have hB := t_bg_in hz hr
  have e : ∀ j, (j = 39 ∨ j = 40 ∨ j = 41) → t_bg σ j = σ j := fun j hj => (s_up_f (by omega)).trans (t_is_k (by omega) (by omega) (by omega) (by omega) (by omega) σ)
  exact t_fgl_in hB.1 hB.2.1 ⟨by rw [e 39 (by decide)]; exact h00.1, by rw [e 40 (by decide)]; exact h00.2.1, by rw [e 41 (by decide)]; exact h00.2.2⟩ n
theorem x_fgw_o {σ x : t_S} {i : Int} {n : Nat} (hz : t_sz σ) (hr : t_okR (σ 1)) (h : t_inFg (t_bg σ) n x) : ∃ τ, t_ask τ ∧ x_ls σ 18 τ ∧ τ 18 0 = t_and (t_is σ 18 0) (t_andn (2 ^ (σ 1 7).toNat - 1) i) ∧ t_fgw i x = t_ga τ := by
  have hB := t_bg_in hz hr
  have e38 := h.1 38 (by omega) (by decide) (by decide) (by decide) (by decide)
  have e1 := (h.1 1 (by omega) (by decide) (by decide) (by decide) (by decide)).trans hB.2.2.2
  refine ⟨s_up x 18 0 (t_and (x 38 0) (t_andn (2 ^ (x 1 7).toNat - 1) i)), (t_wo_in h.2.1 (by rw [e38]; exact hB.2.1)).2.2, fun j hj hne => ?_, ?_, rfl⟩
  · rw [s_up_f hne, h.1 j (by omega) hne (by omega) (by omega) (by omega)]
    exact s_up_f (by omega)
  · rw [s_up_eq, e38, e1]
    unfold t_bg
    rw [s_up_eq]
theorem C_X0_sum1 {σ χ : t_S} {h0 : e_A} {α : Nat → Nat} (A : x_at χ h0 (σ 1) α) (hz : t_sz σ) (hr : t_okR (σ 1)) (hC : t_isC σ ∨ σ 1 7 = 0) {c : Int} (hc : x_c8 c) (h00 : σ 39 0 = 0 ∧ σ 40 0 = 0 ∧ σ 41 0 = 0) : e_C mX0_sum [.ref 350, e_i (x_sp c)] (x_H χ h0) 384 1536 8 (x_Pub (e_j (t_it (t_fgf c) ((2 : Int) ^ (σ 1 7).toNat).toNat (t_bg σ) 40 0)) χ h0) := by
  have s0 : 0 ≤ σ 1 0 ∧ σ 1 0 ≤ 12 := hz.1
  have s3 := hz.2.1
  have s4 := hz.2.2.1
  have s5 := hz.2.2.2.1
  have s6 := hz.2.2.2.2.1
  have s7 := hz.2.2.2.2.2.1
  have hp7 := t_p7 hz
  have s2 : 0 ≤ σ 1 2 ∧ σ 1 2 ≤ 10 := hr.2.2.2.2.2.2.2
  refine e_enter (al0 := [.ref 350, e_i (x_sp c), .retAddr 0, .retAddr 0, .retAddr 0]) (by decide +kernel) rfl (Nat.le_of_ble_eq_true rfl) ?_
  refine e_lconst (z := 0) dX0_sum_0 rfl ?_
  refine e_lstore_n2 dX0_sum_1 rfl ?_
  refine e_iconst dX0_sum_2 ?_
  refine e_istore4 dX0_sum_3 rfl ?_
  obtain ⟨NN, hN⟩ : ∃ NN : Int, (2 : Int) ^ (σ 1 7).toNat = NN := ⟨_, rfl⟩
  have hNr : 1 ≤ NN ∧ NN ≤ 128 := by rw [← hN]; exact hp7
  have hB := t_bg_in hz hr
  rw [hN, show (Value.long (Int64.ofInt 0)) = e_j (t_it (t_fgf c) (0 : Int).toNat (t_bg σ) 40 0) from by
    show e_j 0 = e_j (t_bg σ 40 0)
    rw [show t_bg σ 40 0 = σ 40 0 from congrFun ((s_up_f (by decide)).trans (t_is_k (by decide) (by decide) (by decide) (by decide) (by decide) σ)) 0, h00.2.1]]
  refine e_bud (kc1 := 3 * (NN - 0).toNat) (ks1 := 12 * (NN - 0).toNat) (by omega) (by omega) ?_
  refine e_for (n := NN) (F := fun i => ∀ χ2 h2, (∀ j, (j < 10 ∨ 34 < j) → χ2 j = χ j) → e_ext h0 h2 → e_E mX0_sum 5 [.ref 350, e_i (x_sp c), e_j (t_it (t_fgf c) i.toNat (t_bg σ) 40 0), .retAddr 0, e_i i] [] (x_H χ2 h2) (3 * (NN - i).toNat) (12 * (NN - i).toNat) 8 (x_Pub (e_j (t_it (t_fgf c) NN.toNat (t_bg σ) 40 0)) χ h0)) (by omega) (fun χ2 h2 hf he => ?_) (fun i hi0 hi1 hF χ2 h2 hf he => ?_) χ h0 (fun _ _ => rfl) (e_ext_rf _)
  · have A2 := x_at_p A hf he
    refine e_iload dX0_sum_5 rfl ?_
    refine e_aload_n dX0_sum_7 rfl ?_
    refine e_callV0rz (ci := 0) dX0_sum_8 md_X0_every lk_X0_336 rfl q1465 qs46 (x_o0 _ _) (by decide) rfl (Nat.le_of_ble_eq_true rfl) (C_X0_every A2 hz) ?_
    rw [hN]
    refine e_icmp_gt (tgt := 125) dX0_sum_11 rfl ⟨by omega, by omega⟩ ⟨by omega, by omega⟩ (fun c1 => ?_) (fun q => by exfalso; omega)
    refine e_lload_n dX0_sum_125 rfl ?_
    refine e_lreturn dX0_sum_126 rfl ?_
    exact x_pub rfl hf he
  · have A2 := x_at_p A hf he
    have hin := x_bg0 hz hr h00 (c) i.toNat
    rw [t_it_s _ _ hi0, show (NN - (i + 1)).toNat = (NN - 1 - i).toNat by omega] at hF
    generalize t_it (t_fgf c) i.toNat (t_bg σ) = x at hF hin ⊢
    have e38 := hin.1 38 (by omega) (by decide) (by decide) (by decide) (by decide)
    have ex1 : x 1 = σ 1 := (hin.1 1 (by omega) (by decide) (by decide) (by decide) (by decide)).trans hB.2.2.2
    have hvv : t_fgv x i = t_pv (σ 1 2) (10 - σ 1 2) i (σ 1 7).toNat := by unfold t_fgv; rw [ex1]
    have hb16 := x_bs16 s7 (s := i) ⟨hi0, by omega⟩
    obtain ⟨τ, ha, l1, h18, hw9⟩ := x_fgw_o (i := i) hz hr hin
    refine e_iload dX0_sum_5 rfl ?_
    refine e_aload_n dX0_sum_7 rfl ?_
    refine e_callV0rz (ci := 0) dX0_sum_8 md_X0_every lk_X0_336 rfl q1465 qs46 (x_o0 _ _) (by decide) rfl (Nat.le_of_ble_eq_true rfl) (C_X0_every A2 hz) ?_
    rw [hN]
    refine e_icmp_gt (tgt := 125) dX0_sum_11 rfl ⟨by omega, by omega⟩ ⟨by omega, by omega⟩ (fun q => by exfalso; omega) (fun c2 => ?_)
    refine e_aload_n dX0_sum_14 rfl ?_
    refine e_getV (.ref 366) dX0_sum_15 fl_X0_68 (x_o0 _ _) rfl ?_
    refine e_bud (kc1 := (3 * (NN - 1 - i).toNat) + 3) (ks1 := (12 * (NN - 1 - i).toNat) + 12) (by omega) (by omega) ?_
    refine e_callV0 (M1 := mX3_is) (kc := (3 * (NN - 1 - i).toNat)) (ks := (12 * (NN - 1 - i).toNat)) (mc := 3) (ms := 12) (ci := 3) dX0_sum_18 lk_X0_188 md_X3_is rfl q1050 q1051 (x_o3 _ _) (by decide) rfl (Nat.le_of_ble_eq_true rfl) (C_X3_is A2 hz hr) (fun a hh q => ?_) (fun i hh q => by cases q.1)
    obtain ⟨q1, χ3, h3, hk, hRq, he3, rfl⟩ := q
    cases q1
    show e_E _ _ _ (_ :: _) _ _ _ _ _
    have hst := x_sty_wk hz hr hRq
    have hsty : x_sty (σ 1 7) (t_or (χ3 27 0) i) (τ 18 0) := by rw [h18]; exact x_sty_set s7 hst.1 hst.2 ⟨hi0, by omega⟩
    refine e_dup dX0_sum_21 rfl ?_
    refine e_getV (e_i _) dX0_sum_22 fl_X0_348 (x_o3 _ _) rfl ?_
    refine e_iload dX0_sum_25 rfl ?_
    refine e_ior dX0_sum_27 (x_or_law hst.1.1.1 hi0) ?_
    refine x_put_27 dX0_sum_28 fl_X0_348 ?_
    refine e_aload_n dX0_sum_31 rfl ?_
    refine e_getV (.ref 366) dX0_sum_32 fl_X0_68 (x_o0 _ _) rfl ?_
    refine e_bud (kc1 := (3 * (NN - 1 - i).toNat) + 0) (ks1 := (12 * (NN - 1 - i).toNat) + 0) (Nat.le_refl _) (Nat.le_refl _) ?_
    refine e_callV0 (M1 := mX3_goes) (kc := (3 * (NN - 1 - i).toNat)) (ks := (12 * (NN - 1 - i).toNat)) (mc := 0) (ms := 0) (ci := 3) dX0_sum_35 lk_X0_191 md_X3_goes rfl q1148 q1149 (x_o3 _ _) (by decide) rfl (Nat.le_of_ble_eq_true rfl) (C_X3_goes (x_at_2 A2 (by decide) l1 ((s_up_f (by decide)).trans (hk 1 (by decide))) he3) ha (x_ls_ask (by decide) l1 ha hC) (x_Rq_27 hRq l1 hsty)) (fun a hh q => ?_) (fun i hh q => by cases q.1)
    obtain ⟨q1, χ4, G, rfl⟩ := q
    cases q1
    show e_E _ _ _ (_ :: _) _ _ _ _ _
    have g3 := x_gone ha G
    have hf4 := x_gone_k hk (fun j hj => s_up_f (k1 := j) (by omega)) G
    have eT : t_ga τ 1 = σ 1 := g3.2.2.2.trans (x_ls_1 (by decide) l1)
    have A2 := x_at_g A2 hf4 he3 eT
    obtain ⟨ρ, hρ⟩ : ∃ ρ, t_ga τ = ρ := ⟨_, rfl⟩
    rw [hρ] at g3 eT A2 hw9
    have F := g3.2.1
    have N := g3.1
    have z9 := F.1.1
    have e20 : ρ 1 2 = σ 1 2 := congrFun eT 2
    have e27 : ρ 1 7 = σ 1 7 := congrFun eT 7
    have e10 : ρ 1 0 = σ 1 0 := congrFun eT 0
    have hb9 : t_rdo ρ c (ρ 1 0) = 0 ∨ t_rdo ρ c (ρ 1 0) = 1 := (x_rdb N F (y := ρ 1 0) ⟨by omega, Int.le_refl _⟩ rfl hc).2.2.2
    have hV := x_fgf (c := c) (i := i) hB.2.1 hin.2.1 e38 (by rw [hw9]; exact hb9)
    rw [hw9, hvv] at hV
    obtain ⟨b1, b2, b3, b4⟩ := x_rdb N F (y := ρ 1 0) ⟨by omega, Int.le_refl _⟩ rfl hc
    refine e_pop dX0_sum_38 rfl ?_
    refine e_lload_n dX0_sum_39 rfl ?_
    refine e_aload_n dX0_sum_40 rfl ?_
    refine e_getV (.ref (α 0)) dX0_sum_41 fl_X0_47 (x_o0 _ _) (x_now A2) ?_
    refine e_getV (e_i _) dX0_sum_44 fl_X0_437 (x_aC A2) rfl ?_
    refine e_i2l dX0_sum_47 ⟨by omega, by omega⟩ ?_
    refine e_iload dX0_sum_48 rfl ?_
    refine e_callS1rz dX0_sum_50 md_X0_size lk_X0_288 rfl q1344 rfl (Nat.le_of_ble_eq_true rfl) (C_X0_size ⟨by omega, by omega⟩) ?_
    refine e_callS2rz dX0_sum_53 md_X0_power lk_X0_433 rfl q1624 rfl (Nat.le_of_ble_eq_true rfl) (C_X0_pow ⟨by omega, by omega⟩) ?_
    refine e_bipush dX0_sum_56 rfl ?_
    refine e_aload_n dX0_sum_58 rfl ?_
    refine e_getV (.ref (α 0)) dX0_sum_59 fl_X0_47 (x_o0 _ _) (x_now A2) ?_
    refine e_getV (e_i _) dX0_sum_62 fl_X0_437 (x_aC A2) rfl ?_
    refine e_isub dX0_sum_65 ?_
    refine e_i2l dX0_sum_66 ⟨by omega, by omega⟩ ?_
    refine e_aload_n dX0_sum_67 rfl ?_
    refine e_callV0rz (ci := 0) dX0_sum_68 md_X0_many lk_X0_126 rfl q1121 qs23 (x_o0 _ _) (by decide) rfl (Nat.le_of_ble_eq_true rfl) (C_X0_many A2 z9) ?_
    refine e_iload dX0_sum_71 rfl ?_
    refine e_callS1rz dX0_sum_73 md_X0_size lk_X0_288 rfl q1344 rfl (Nat.le_of_ble_eq_true rfl) (C_X0_size ⟨by omega, by omega⟩) ?_
    refine e_isub dX0_sum_76 ?_
    refine e_callS2rz dX0_sum_77 md_X0_power lk_X0_433 rfl q1624 rfl (Nat.le_of_ble_eq_true rfl) (C_X0_pow ⟨by omega, by omega⟩) ?_
    rw [e20, e27]
    refine e_lmul dX0_sum_80 ?_
    rw [x_pv16 s7 ⟨hi0, by omega⟩]
    refine e_iload_n dX0_sum_81 rfl ?_
    refine e_iconst dX0_sum_82 ?_
    refine e_icmp_ne (tgt := 97) dX0_sum_83 rfl ⟨by omega, by omega⟩ ⟨by omega, by omega⟩ (fun c3 => ?_) (fun q => by exfalso; omega)
    refine e_aload_n dX0_sum_97 rfl ?_
    refine e_getV (.ref 366) dX0_sum_98 fl_X0_68 (x_o0 _ _) rfl ?_
    refine e_getV (.ref (x_ai 18)) dX0_sum_101 fl_X0_275 (x_o3 _ _) rfl ?_
    refine e_aload_n dX0_sum_104 rfl ?_
    refine e_getV (.ref (α 0)) dX0_sum_105 fl_X0_47 (x_o0 _ _) (x_now A2) ?_
    refine e_getV (e_i _) dX0_sum_108 fl_X0_142 (x_aC A2) rfl ?_
    refine x_lld 13 dX0_sum_111 rfl (by decide) (fun _ => rfl) rfl ⟨by omega, by omega⟩ ?_
    refine e_iload_n dX0_sum_112 rfl ?_
    refine e_lshr dX0_sum_113 (e_lshr_law _ b2) ?_
    refine e_lconst (z := 1) dX0_sum_114 rfl ?_
    refine e_land dX0_sum_115 (e_lbit_law b1 b2) ?_
    refine e_lmul dX0_sum_116 ?_
    refine e_ladd dX0_sum_117 ?_
    refine e_lstore_n2 dX0_sum_118 rfl ?_
    refine e_iinc4 dX0_sum_119 rfl ?_
    refine e_goto (tgt := 5) dX0_sum_122 rfl ?_
    rw [hV.1, ← b3] at hF
    exact hF χ4 h3 (x_p_tr hf (x_f34 hf4)) (e_ext_tr he he3)
theorem C_X0_sum0 {σ χ : t_S} {h0 : e_A} {α : Nat → Nat} (A : x_at χ h0 (σ 1) α) (hz : t_sz σ) (hr : t_okR (σ 1)) (hC : t_isC σ ∨ σ 1 7 = 0) (h00 : σ 39 0 = 0 ∧ σ 40 0 = 0 ∧ σ 41 0 = 0) : e_C mX0_sum [.ref 350, e_i (-1)] (x_H χ h0) 384 1536 8 (x_Pub (e_j (t_it (t_fgf 0) ((2 : Int) ^ (σ 1 7).toNat).toNat (t_bg σ) 41 0)) χ h0) := by
  have s0 : 0 ≤ σ 1 0 ∧ σ 1 0 ≤ 12 := hz.1
  have s3 := hz.2.1
  have s4 := hz.2.2.1
  have s5 := hz.2.2.2.1
  have s6 := hz.2.2.2.2.1
  have s7 := hz.2.2.2.2.2.1
  have hp7 := t_p7 hz
  have s2 : 0 ≤ σ 1 2 ∧ σ 1 2 ≤ 10 := hr.2.2.2.2.2.2.2
  refine e_enter (al0 := [.ref 350, e_i (-1), .retAddr 0, .retAddr 0, .retAddr 0]) (by decide +kernel) rfl (Nat.le_of_ble_eq_true rfl) ?_
  refine e_lconst (z := 0) dX0_sum_0 rfl ?_
  refine e_lstore_n2 dX0_sum_1 rfl ?_
  refine e_iconst dX0_sum_2 ?_
  refine e_istore4 dX0_sum_3 rfl ?_
  obtain ⟨NN, hN⟩ : ∃ NN : Int, (2 : Int) ^ (σ 1 7).toNat = NN := ⟨_, rfl⟩
  have hNr : 1 ≤ NN ∧ NN ≤ 128 := by rw [← hN]; exact hp7
  have hB := t_bg_in hz hr
  rw [hN, show (Value.long (Int64.ofInt 0)) = e_j (t_it (t_fgf 0) (0 : Int).toNat (t_bg σ) 41 0) from by
    show e_j 0 = e_j (t_bg σ 41 0)
    rw [show t_bg σ 41 0 = σ 41 0 from congrFun ((s_up_f (by decide)).trans (t_is_k (by decide) (by decide) (by decide) (by decide) (by decide) σ)) 0, h00.2.2]]
  refine e_bud (kc1 := 3 * (NN - 0).toNat) (ks1 := 12 * (NN - 0).toNat) (by omega) (by omega) ?_
  refine e_for (n := NN) (F := fun i => ∀ χ2 h2, (∀ j, (j < 10 ∨ 34 < j) → χ2 j = χ j) → e_ext h0 h2 → e_E mX0_sum 5 [.ref 350, e_i (-1), e_j (t_it (t_fgf 0) i.toNat (t_bg σ) 41 0), .retAddr 0, e_i i] [] (x_H χ2 h2) (3 * (NN - i).toNat) (12 * (NN - i).toNat) 8 (x_Pub (e_j (t_it (t_fgf 0) NN.toNat (t_bg σ) 41 0)) χ h0)) (by omega) (fun χ2 h2 hf he => ?_) (fun i hi0 hi1 hF χ2 h2 hf he => ?_) χ h0 (fun _ _ => rfl) (e_ext_rf _)
  · have A2 := x_at_p A hf he
    refine e_iload dX0_sum_5 rfl ?_
    refine e_aload_n dX0_sum_7 rfl ?_
    refine e_callV0rz (ci := 0) dX0_sum_8 md_X0_every lk_X0_336 rfl q1465 qs46 (x_o0 _ _) (by decide) rfl (Nat.le_of_ble_eq_true rfl) (C_X0_every A2 hz) ?_
    rw [hN]
    refine e_icmp_gt (tgt := 125) dX0_sum_11 rfl ⟨by omega, by omega⟩ ⟨by omega, by omega⟩ (fun c1 => ?_) (fun q => by exfalso; omega)
    refine e_lload_n dX0_sum_125 rfl ?_
    refine e_lreturn dX0_sum_126 rfl ?_
    exact x_pub rfl hf he
  · have A2 := x_at_p A hf he
    have hin := x_bg0 hz hr h00 (0) i.toNat
    rw [t_it_s _ _ hi0, show (NN - (i + 1)).toNat = (NN - 1 - i).toNat by omega] at hF
    generalize t_it (t_fgf 0) i.toNat (t_bg σ) = x at hF hin ⊢
    have e38 := hin.1 38 (by omega) (by decide) (by decide) (by decide) (by decide)
    have ex1 : x 1 = σ 1 := (hin.1 1 (by omega) (by decide) (by decide) (by decide) (by decide)).trans hB.2.2.2
    have hvv : t_fgv x i = t_pv (σ 1 2) (10 - σ 1 2) i (σ 1 7).toNat := by unfold t_fgv; rw [ex1]
    have hb16 := x_bs16 s7 (s := i) ⟨hi0, by omega⟩
    obtain ⟨τ, ha, l1, h18, hw9⟩ := x_fgw_o (i := i) hz hr hin
    refine e_iload dX0_sum_5 rfl ?_
    refine e_aload_n dX0_sum_7 rfl ?_
    refine e_callV0rz (ci := 0) dX0_sum_8 md_X0_every lk_X0_336 rfl q1465 qs46 (x_o0 _ _) (by decide) rfl (Nat.le_of_ble_eq_true rfl) (C_X0_every A2 hz) ?_
    rw [hN]
    refine e_icmp_gt (tgt := 125) dX0_sum_11 rfl ⟨by omega, by omega⟩ ⟨by omega, by omega⟩ (fun q => by exfalso; omega) (fun c2 => ?_)
    refine e_aload_n dX0_sum_14 rfl ?_
    refine e_getV (.ref 366) dX0_sum_15 fl_X0_68 (x_o0 _ _) rfl ?_
    refine e_bud (kc1 := (3 * (NN - 1 - i).toNat) + 3) (ks1 := (12 * (NN - 1 - i).toNat) + 12) (by omega) (by omega) ?_
    refine e_callV0 (M1 := mX3_is) (kc := (3 * (NN - 1 - i).toNat)) (ks := (12 * (NN - 1 - i).toNat)) (mc := 3) (ms := 12) (ci := 3) dX0_sum_18 lk_X0_188 md_X3_is rfl q1050 q1051 (x_o3 _ _) (by decide) rfl (Nat.le_of_ble_eq_true rfl) (C_X3_is A2 hz hr) (fun a hh q => ?_) (fun i hh q => by cases q.1)
    obtain ⟨q1, χ3, h3, hk, hRq, he3, rfl⟩ := q
    cases q1
    show e_E _ _ _ (_ :: _) _ _ _ _ _
    have hst := x_sty_wk hz hr hRq
    have hsty : x_sty (σ 1 7) (t_or (χ3 27 0) i) (τ 18 0) := by rw [h18]; exact x_sty_set s7 hst.1 hst.2 ⟨hi0, by omega⟩
    refine e_dup dX0_sum_21 rfl ?_
    refine e_getV (e_i _) dX0_sum_22 fl_X0_348 (x_o3 _ _) rfl ?_
    refine e_iload dX0_sum_25 rfl ?_
    refine e_ior dX0_sum_27 (x_or_law hst.1.1.1 hi0) ?_
    refine x_put_27 dX0_sum_28 fl_X0_348 ?_
    refine e_aload_n dX0_sum_31 rfl ?_
    refine e_getV (.ref 366) dX0_sum_32 fl_X0_68 (x_o0 _ _) rfl ?_
    refine e_bud (kc1 := (3 * (NN - 1 - i).toNat) + 0) (ks1 := (12 * (NN - 1 - i).toNat) + 0) (Nat.le_refl _) (Nat.le_refl _) ?_
    refine e_callV0 (M1 := mX3_goes) (kc := (3 * (NN - 1 - i).toNat)) (ks := (12 * (NN - 1 - i).toNat)) (mc := 0) (ms := 0) (ci := 3) dX0_sum_35 lk_X0_191 md_X3_goes rfl q1148 q1149 (x_o3 _ _) (by decide) rfl (Nat.le_of_ble_eq_true rfl) (C_X3_goes (x_at_2 A2 (by decide) l1 ((s_up_f (by decide)).trans (hk 1 (by decide))) he3) ha (x_ls_ask (by decide) l1 ha hC) (x_Rq_27 hRq l1 hsty)) (fun a hh q => ?_) (fun i hh q => by cases q.1)
    obtain ⟨q1, χ4, G, rfl⟩ := q
    cases q1
    show e_E _ _ _ (_ :: _) _ _ _ _ _
    have g3 := x_gone ha G
    have hf4 := x_gone_k hk (fun j hj => s_up_f (k1 := j) (by omega)) G
    have eT : t_ga τ 1 = σ 1 := g3.2.2.2.trans (x_ls_1 (by decide) l1)
    have A2 := x_at_g A2 hf4 he3 eT
    obtain ⟨ρ, hρ⟩ : ∃ ρ, t_ga τ = ρ := ⟨_, rfl⟩
    rw [hρ] at g3 eT A2 hw9
    have F := g3.2.1
    have N := g3.1
    have z9 := F.1.1
    have e20 : ρ 1 2 = σ 1 2 := congrFun eT 2
    have e27 : ρ 1 7 = σ 1 7 := congrFun eT 7
    have e10 : ρ 1 0 = σ 1 0 := congrFun eT 0
    have hb9 : t_rdo ρ 0 (ρ 1 0) = 0 ∨ t_rdo ρ 0 (ρ 1 0) = 1 := (F.2.2.2.1.1 (ρ 1 0) 0 (by omega) (by omega) (by decide) (by decide)).1
    have hpg : 0 ≤ t_pgl ρ ∧ t_pgl ρ ≤ 640 := t_pgm_rg _ _
    have hV := x_fgf (c := 0) (i := i) hB.2.1 hin.2.1 e38 (by rw [hw9]; exact hb9)
    rw [hw9, hvv] at hV
    refine e_pop dX0_sum_38 rfl ?_
    refine e_lload_n dX0_sum_39 rfl ?_
    refine e_aload_n dX0_sum_40 rfl ?_
    refine e_getV (.ref (α 0)) dX0_sum_41 fl_X0_47 (x_o0 _ _) (x_now A2) ?_
    refine e_getV (e_i _) dX0_sum_44 fl_X0_437 (x_aC A2) rfl ?_
    refine e_i2l dX0_sum_47 ⟨by omega, by omega⟩ ?_
    refine e_iload dX0_sum_48 rfl ?_
    refine e_callS1rz dX0_sum_50 md_X0_size lk_X0_288 rfl q1344 rfl (Nat.le_of_ble_eq_true rfl) (C_X0_size ⟨by omega, by omega⟩) ?_
    refine e_callS2rz dX0_sum_53 md_X0_power lk_X0_433 rfl q1624 rfl (Nat.le_of_ble_eq_true rfl) (C_X0_pow ⟨by omega, by omega⟩) ?_
    refine e_bipush dX0_sum_56 rfl ?_
    refine e_aload_n dX0_sum_58 rfl ?_
    refine e_getV (.ref (α 0)) dX0_sum_59 fl_X0_47 (x_o0 _ _) (x_now A2) ?_
    refine e_getV (e_i _) dX0_sum_62 fl_X0_437 (x_aC A2) rfl ?_
    refine e_isub dX0_sum_65 ?_
    refine e_i2l dX0_sum_66 ⟨by omega, by omega⟩ ?_
    refine e_aload_n dX0_sum_67 rfl ?_
    refine e_callV0rz (ci := 0) dX0_sum_68 md_X0_many lk_X0_126 rfl q1121 qs23 (x_o0 _ _) (by decide) rfl (Nat.le_of_ble_eq_true rfl) (C_X0_many A2 z9) ?_
    refine e_iload dX0_sum_71 rfl ?_
    refine e_callS1rz dX0_sum_73 md_X0_size lk_X0_288 rfl q1344 rfl (Nat.le_of_ble_eq_true rfl) (C_X0_size ⟨by omega, by omega⟩) ?_
    refine e_isub dX0_sum_76 ?_
    refine e_callS2rz dX0_sum_77 md_X0_power lk_X0_433 rfl q1624 rfl (Nat.le_of_ble_eq_true rfl) (C_X0_pow ⟨by omega, by omega⟩) ?_
    rw [e20, e27]
    refine e_lmul dX0_sum_80 ?_
    rw [x_pv16 s7 ⟨hi0, by omega⟩]
    refine e_iload_n dX0_sum_81 rfl ?_
    refine e_iconst dX0_sum_82 ?_
    refine e_icmp_ne (tgt := 97) dX0_sum_83 rfl ⟨by omega, by omega⟩ ⟨by omega, by omega⟩ (fun q => by exfalso; omega) (fun c3 => ?_)
    refine e_aload_n dX0_sum_86 rfl ?_
    refine e_getV (.ref 366) dX0_sum_87 fl_X0_68 (x_o0 _ _) rfl ?_
    refine e_callV0rz (ci := 3) dX0_sum_90 md_X3_last lk_X0_351 rfl q1489 q1490 (x_o3 _ _) (by decide) rfl (Nat.le_of_ble_eq_true rfl) (C_X3_last A2 g3.2.1.1.1 g3.2.1 g3.1) ?_
    refine e_i2l dX0_sum_93 ⟨by omega, by omega⟩ ?_
    refine e_goto (tgt := 116) dX0_sum_94 rfl ?_
    refine e_lmul dX0_sum_116 ?_
    refine e_ladd dX0_sum_117 ?_
    refine e_lstore_n2 dX0_sum_118 rfl ?_
    refine e_iinc4 dX0_sum_119 rfl ?_
    refine e_goto (tgt := 5) dX0_sum_122 rfl ?_
    rw [hV.2] at hF
    exact hF χ4 h3 (x_p_tr hf (x_f34 hf4)) (e_ext_tr he he3)
def x_s9 (σ : t_S) : t_S := s_up (s_up (s_up σ 39 0 0) 40 0 0) 41 0 0
theorem x_s9_1 (σ : t_S) : x_s9 σ 1 = σ 1 := (s_up_f (by decide)).trans ((s_up_f (by decide)).trans (s_up_f (by decide)))
theorem x_s9_0 (σ : t_S) : x_s9 σ 39 0 = 0 ∧ x_s9 σ 40 0 = 0 ∧ x_s9 σ 41 0 = 0 := by
  unfold x_s9
  refine ⟨?_, ?_, ?_⟩
  · rw [s_up_k (by decide), s_up_k (by decide), s_up_eq]
  · rw [s_up_k (by decide), s_up_eq]
  · rw [s_up_eq]
theorem x_fg9 (σ : t_S) (c : Int) : t_it (t_fgf c) ((2 : Int) ^ (x_s9 σ 1 7).toNat).toNat (t_bg (x_s9 σ)) = t_fg c σ := by
  rw [x_s9_1]
  rfl
theorem x_p10 {n : Int} (hn : 0 ≤ n ∧ n ≤ 7) : 0 < (10 : Int) ^ n.toNat ∧ (10 : Int) ^ n.toNat ≤ 10000000 := by
  refine ⟨Int.pow_pos (by decide), ?_⟩
  have h3 := Nat.pow_le_pow_right (n := 10) (by decide) (show n.toNat ≤ 7 by omega)
  have e : ((10 ^ n.toNat : Nat) : Int) = 10 ^ n.toNat := by simp
  omega
theorem C_X0_chance {σ χ : t_S} {h0 : e_A} {α : Nat → Nat} (A : x_at χ h0 (σ 1) α) (hz : t_sz σ) (hr : t_okR (σ 1)) (hC : t_isC σ ∨ σ 1 7 = 0) {c : Int} (hc : e_rg c) {w : Int} (hw : e_rg w) : e_C mX0_chance [.ref 350, e_i c, e_i w] (x_H χ h0) 384 1536 51 (x_Pub (e_j (v_chance σ c w)) χ h0) := by
  have s0 : 0 ≤ σ 1 0 ∧ σ 1 0 ≤ 12 := hz.1
  have s3 := hz.2.1
  have s4 := hz.2.2.1
  have s5 := hz.2.2.2.1
  have s6 := hz.2.2.2.2.1
  have s7 := hz.2.2.2.2.2.1
  have g9 := x_row (x_s9_1 σ) hz hr hC
  have A9 : x_at χ h0 (x_s9 σ 1) α := by rw [x_s9_1]; exact A
  have hp10 := x_p10 s7
  have kc1 := hc.1
  have kc2 := hc.2
  have kw1 := hw.1
  have kw2 := hw.2
  refine e_enter (al0 := [.ref 350, e_i c, e_i w]) (by decide +kernel) rfl (Nat.le_of_ble_eq_true rfl) ?_
  refine e_aload_n dX0_chance_0 rfl ?_
  refine e_iload_n dX0_chance_1 rfl ?_
  refine e_i2l dX0_chance_2 ⟨by omega, by omega⟩ ?_
  refine e_callV1rz (ci := 0) dX0_chance_3 md_X0_isCell lk_X0_206 rfl q1207 qs32 (x_o0 _ _) (by decide) rfl (Nat.le_of_ble_eq_true rfl) (C_X0_isCell A hz ⟨by omega, by omega⟩) ?_
  refine e_bif_eq (tgt := 42) dX0_chance_6 rfl (fun c1 => ?_) (fun c1 => ?_)
  · refine e_ldc2 (z := -2) dX0_chance_42 q1626 rfl ?_
    refine e_lreturn dX0_chance_45 rfl ?_
    first
      | (refine x_pub ?_ hf3 he3
         unfold v_chance
         rw [if_pos ⟨by assumption, by omega, by omega⟩, hx])
      | (refine x_pub0 ?_
         unfold v_chance
         rw [if_neg (fun z => by have := z.1; omega)])
  · refine e_iload_n dX0_chance_9 rfl ?_
    refine e_callS1rz dX0_chance_10 md_X0_isBit lk_X0_414 rfl q1580 rfl (Nat.le_of_ble_eq_true rfl) (C_X0_isBit ⟨by omega, by omega⟩) ?_
    refine e_bif_eq (tgt := 42) dX0_chance_13 rfl (fun c2 => ?_) (fun c2 => ?_)
    · refine e_ldc2 (z := -2) dX0_chance_42 q1626 rfl ?_
      refine e_lreturn dX0_chance_45 rfl ?_
      first
        | (refine x_pub ?_ hf3 he3
           unfold v_chance
           rw [if_pos ⟨by assumption, by omega, by omega⟩, hx])
        | (refine x_pub0 ?_
           unfold v_chance
           rw [if_neg (fun z => by have := z.1; omega)])
    · refine e_aload_n dX0_chance_16 rfl ?_
      refine e_iload_n dX0_chance_17 rfl ?_
      refine e_i2l dX0_chance_18 ⟨by omega, by omega⟩ ?_
      have h8 := x_ok8 hz (c := c) ⟨by omega, by omega, by omega, by omega⟩
      refine e_callS1rz dX0_chance_19 md_X0_spotOf lk_X0_213 rfl q1212 rfl (Nat.le_of_ble_eq_true rfl) (C_X0_spotOf8 h8) ?_
      refine e_bud (kc1 := 0 + 384) (ks1 := 0 + 1536) (by decide) (by decide) ?_
      refine e_callV1 (M1 := mX0_sum) (kc := 0) (ks := 0) (mc := 384) (ms := 1536) (ci := 0) dX0_chance_22 lk_X0_440 md_X0_sum rfl q1621 qs58 (x_o0 _ _) (by decide) rfl (Nat.le_of_ble_eq_true rfl) (C_X0_sum1 A9 g9.1 g9.2.1 g9.2.2 h8 (x_s9_0 σ)) (fun a hh q => ?_) (fun i hh q => by cases q.1)
      obtain ⟨q1, χ3, h3, hf3, he3, rfl⟩ := q
      cases q1
      show e_E _ _ _ (_ :: _) _ _ _ _ _
      rw [x_fg9]
      have A3 := x_at_p A hf3 he3
      have hb := t_fg_b hz hr c
      have h39 := (t_fg_in hz hr c).2.2
      obtain ⟨x, hx⟩ : ∃ x, t_fg c σ = x := ⟨_, rfl⟩
      rw [hx] at hb h39 ⊢
      rw [← h39] at hp10
      refine e_ldc2 (z := 10) dX0_chance_25 q1209 rfl ?_
      refine e_aload_n dX0_chance_28 rfl ?_
      refine e_callV0rz (ci := 0) dX0_chance_29 md_X0_many lk_X0_126 rfl q1121 qs23 (x_o0 _ _) (by decide) rfl (Nat.le_of_ble_eq_true rfl) (C_X0_many A3 hz) ?_
      refine e_callS2rz dX0_chance_32 md_X0_power lk_X0_433 rfl q1624 rfl (Nat.le_of_ble_eq_true rfl) (C_X0_pow ⟨by omega, by omega⟩) ?_
      rw [← h39]
      refine e_iload_n dX0_chance_35 rfl ?_
      refine e_callS3rz dX0_chance_36 md_X0_part lk_X0_418 rfl q1587 rfl (Nat.le_of_ble_eq_true rfl) (C_X0_part ⟨by omega, by omega⟩ ⟨by omega, by omega⟩ ⟨by omega, by omega⟩) ?_
      refine e_goto (tgt := 45) dX0_chance_39 rfl ?_
      refine e_lreturn dX0_chance_45 rfl ?_
      first
        | (refine x_pub ?_ hf3 he3
           unfold v_chance
           rw [if_pos ⟨by assumption, by omega, by omega⟩, hx])
        | (refine x_pub0 ?_
           unfold v_chance
           rw [if_neg (fun z => by have := z.1; omega)])
theorem C_X0_mean {σ χ : t_S} {h0 : e_A} {α : Nat → Nat} (A : x_at χ h0 (σ 1) α) (hz : t_sz σ) (hr : t_okR (σ 1)) (hC : t_isC σ ∨ σ 1 7 = 0) {w : Int} (hw : e_rg w) : e_C mX0_mean [.ref 350, e_i w] (x_H χ h0) 384 1536 51 (x_Pub (e_j (v_mean σ w)) χ h0) := by
  have s0 : 0 ≤ σ 1 0 ∧ σ 1 0 ≤ 12 := hz.1
  have s3 := hz.2.1
  have s4 := hz.2.2.1
  have s5 := hz.2.2.2.1
  have s6 := hz.2.2.2.2.1
  have s7 := hz.2.2.2.2.2.1
  have g9 := x_row (x_s9_1 σ) hz hr hC
  have A9 : x_at χ h0 (x_s9 σ 1) α := by rw [x_s9_1]; exact A
  have hp10 := x_p10 s7
  have kw1 := hw.1
  have kw2 := hw.2
  refine e_enter (al0 := [.ref 350, e_i w]) (by decide +kernel) rfl (Nat.le_of_ble_eq_true rfl) ?_
  refine e_aload_n dX0_mean_0 rfl ?_
  refine e_getV (.ref (α 0)) dX0_mean_1 fl_X0_47 (x_o0 _ _) (x_now A) ?_
  refine e_callV0rz (ci := 2) dX0_mean_4 md_X2_is lk_X0_98 rfl q1034 q1035 (x_aC A) (by decide) rfl (Nat.le_of_ble_eq_true rfl) (C_X2_is A hz) ?_
  refine e_bif_eq (tgt := 39) dX0_mean_7 rfl (fun c1 => ?_) (fun c1 => ?_)
  · refine e_ldc2 (z := -2) dX0_mean_39 q1626 rfl ?_
    refine e_lreturn dX0_mean_42 rfl ?_
    first
      | (refine x_pub ?_ hf3 he3
         unfold v_mean
         rw [if_pos ⟨by assumption, by omega, by omega⟩, hx])
      | (refine x_pub0 ?_
         unfold v_mean
         rw [if_neg (fun z => by have := z.1; omega)])
  · refine e_iload_n dX0_mean_10 rfl ?_
    refine e_callS1rz dX0_mean_11 md_X0_isBit lk_X0_414 rfl q1580 rfl (Nat.le_of_ble_eq_true rfl) (C_X0_isBit ⟨by omega, by omega⟩) ?_
    refine e_bif_eq (tgt := 39) dX0_mean_14 rfl (fun c2 => ?_) (fun c2 => ?_)
    · refine e_ldc2 (z := -2) dX0_mean_39 q1626 rfl ?_
      refine e_lreturn dX0_mean_42 rfl ?_
      first
        | (refine x_pub ?_ hf3 he3
           unfold v_mean
           rw [if_pos ⟨by assumption, by omega, by omega⟩, hx])
        | (refine x_pub0 ?_
           unfold v_mean
           rw [if_neg (fun z => by have := z.1; omega)])
    · refine e_aload_n dX0_mean_17 rfl ?_
      refine e_iconst dX0_mean_18 ?_
      refine e_bud (kc1 := 0 + 384) (ks1 := 0 + 1536) (by decide) (by decide) ?_
      refine e_callV1 (M1 := mX0_sum) (kc := 0) (ks := 0) (mc := 384) (ms := 1536) (ci := 0) dX0_mean_19 lk_X0_440 md_X0_sum rfl q1621 qs58 (x_o0 _ _) (by decide) rfl (Nat.le_of_ble_eq_true rfl) (C_X0_sum0 A9 g9.1 g9.2.1 g9.2.2 (x_s9_0 σ)) (fun a hh q => ?_) (fun i hh q => by cases q.1)
      obtain ⟨q1, χ3, h3, hf3, he3, rfl⟩ := q
      cases q1
      show e_E _ _ _ (_ :: _) _ _ _ _ _
      rw [x_fg9]
      have A3 := x_at_p A hf3 he3
      have hb := t_fg_b hz hr 0
      have h39 := (t_fg_in hz hr 0).2.2
      obtain ⟨x, hx⟩ : ∃ x, t_fg 0 σ = x := ⟨_, rfl⟩
      rw [hx] at hb h39 ⊢
      rw [← h39] at hp10
      refine e_ldc2 (z := 10) dX0_mean_22 q1209 rfl ?_
      refine e_aload_n dX0_mean_25 rfl ?_
      refine e_callV0rz (ci := 0) dX0_mean_26 md_X0_many lk_X0_126 rfl q1121 qs23 (x_o0 _ _) (by decide) rfl (Nat.le_of_ble_eq_true rfl) (C_X0_many A3 hz) ?_
      refine e_callS2rz dX0_mean_29 md_X0_power lk_X0_433 rfl q1624 rfl (Nat.le_of_ble_eq_true rfl) (C_X0_pow ⟨by omega, by omega⟩) ?_
      rw [← h39]
      refine e_iload_n dX0_mean_32 rfl ?_
      refine e_callS3rz dX0_mean_33 md_X0_part lk_X0_418 rfl q1587 rfl (Nat.le_of_ble_eq_true rfl) (C_X0_part ⟨by omega, by omega⟩ ⟨by omega, by omega⟩ ⟨by omega, by omega⟩) ?_
      refine e_goto (tgt := 42) dX0_mean_36 rfl ?_
      refine e_lreturn dX0_mean_42 rfl ?_
      first
        | (refine x_pub ?_ hf3 he3
           unfold v_mean
           rw [if_pos ⟨by assumption, by omega, by omega⟩, hx])
        | (refine x_pub0 ?_
           unfold v_mean
           rw [if_neg (fun z => by have := z.1; omega)])
