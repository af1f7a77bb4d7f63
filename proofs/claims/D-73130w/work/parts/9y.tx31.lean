/-! THE COMPONENT: faced (printed by tx31.py) -/
set_option maxRecDepth 100000
theorem x_fc2 {w d : Int} (ρ : t_S) (n : Nat) : (∀ j, j ≠ 35 → t_it (t_fc2f w d) n ρ j = ρ j) ∧ ∀ k : Int, 0 ≤ k → k < n → t_it (t_fc2f w d) n ρ 35 (41 * d + k) = t_pth ρ w k := by
  refine t_it_P (fun (m : Int) (x : t_S) => (∀ j, j ≠ 35 → x j = ρ j) ∧ ∀ k : Int, 0 ≤ k → k < m → x 35 (41 * d + k) = t_pth ρ w k) ⟨fun _ _ => rfl, fun k a b => by omega⟩ n (fun m x m0 m1 h => ⟨fun j hj => (s_up_f hj).trans (h.1 j hj), fun k k0 k1 => ?_⟩)
  show s_up x 35 (41 * d + m) (t_pth x w m) 35 (41 * d + k) = _
  by_cases q : k = m
  · rw [q, s_up_eq]
    show (if m ≤ x 27 w then x 26 (41 * w + m) else -1) = if m ≤ ρ 27 w then ρ 26 (41 * w + m) else -1
    rw [h.1 27 (by decide), h.1 26 (by decide)]
  · rw [s_up_j (by omega)]
    exact h.2 k k0 (by omega)
theorem x_fc16 {s w : Int} {σ : t_S} (h : t_ask σ) (hw : 0 ≤ w ∧ w < 7) (n : Nat) (hn : n ≤ 4) : ∀ v : Int, v ≠ w → (t_it (t_fcf s w) n (σ, 0)).1 16 v = σ 16 v := by
  have key := t_it_P (f := t_fcf s w) (x := (σ, (0 : Int))) (fun (d : Int) (x : t_S × Int) => t_inD σ d x ∧ ∀ v : Int, v ≠ w → x.1 16 v = σ 16 v) ⟨t_fcl_in (s := s) hw h 0 (by omega), fun _ _ => rfl⟩ n (fun d x d0 d1 hx => ⟨t_fcf_in hw ⟨by omega, by omega⟩ hx.1, fun v hv => ?_⟩)
  · exact key.2
  · have h1 := t_fc1_in (w := w) hx.1.2.1 (d := d) ⟨by omega, by omega⟩
    show t_it (t_fc2f w d) 41 (t_fc1 w d x.1) 16 v = _
    rw [(x_fc2 (t_fc1 w d x.1) 41).1 16 (by decide)]
    show t_ga (s_up x.1 16 w d) 16 v = _
    rw [t_ga_k h1.2.2 (by omega), s_up_j hv]
    exact hx.2 v hv
def x_PF (X : t_S × Int) (χ : t_S) (h0 : e_A) : e_R → e_A → Prop := fun r h => r = .inl (some (.ref 382)) ∧ ∃ χ1 h1, (∀ j, (j < 10 ∨ 34 < j) → χ1 j = χ j) ∧ e_ext h0 h1 ∧ χ1 32 0 = X.2 ∧ χ1 33 0 = (t_ak X.1 X.2).2 ∧ χ1 34 0 = (t_ak X.1 X.2).1 ∧ h = x_H χ1 h1
theorem C_X5_of {σ χ : t_S} {h0 : e_A} {α : Nat → Nat} (A : x_at χ h0 (σ 1) α) (hz : t_sz σ) (hr : t_okR (σ 1)) (hC : t_isC σ ∨ σ 1 7 = 0) (S : x_sl χ h0 σ) (ht : t_slt σ) {s w : Int} (hs : 0 ≤ s ∧ s < 4) (hg : t_sgd σ s) (hw : 0 ≤ w ∧ w < σ 1 7) : e_C mX5_of [.ref 382, .ref (352 + s.toNat), e_i w] (x_H χ h0) 12 48 7 (x_PF (t_fc s w (t_is σ)) χ h0) := by
  have s0 : 0 ≤ σ 1 0 ∧ σ 1 0 ≤ 12 := hz.1
  have s3 := hz.2.1
  have s4 := hz.2.2.1
  have s5 := hz.2.2.2.1
  have s6 := hz.2.2.2.2.1
  have s7 := hz.2.2.2.2.2.1
  have hask := t_is_ask hz hr
  have eis : ∀ j, (j < 15 ∨ 20 < j) → t_is σ j = σ j := fun j hj => t_is_k (by omega) (by omega) (by omega) (by omega) (by omega) σ
  have h42 := hg.2.1
  obtain ⟨a, hχ, H⟩ : ∃ a : Nat, χ 35 s = (a : Int) ∧ x_ar h0 (σ 43 s) (σ 42 s) (fun j => σ 44 (60 * s + j)) a := by
    rcases S.1 s hs.1 hs.2 with ⟨q1, q2⟩ | q
    · exfalso; omega
    · exact q
  refine e_enter (al0 := [.ref 382, .ref (352 + s.toNat), e_i w, .retAddr 0, .retAddr 0]) (by decide +kernel) rfl (Nat.le_of_ble_eq_true rfl) ?_
  refine e_aload_n dX5_of_0 rfl ?_
  refine e_iconst dX5_of_1 ?_
  refine x_put_32 dX5_of_2 fl_X5_19 ?_
  refine e_iconst dX5_of_5 ?_
  refine e_istore_n3 dX5_of_6 rfl ?_
  refine e_for (n := 4) (F := fun d => ∀ χ2 h2, (∀ j, (j < 10 ∨ 34 < j) → χ2 j = χ j) → e_ext h0 h2 → χ2 32 0 = (t_it (t_fcf s w) d.toNat (t_is σ, (0 : Int))).2 → (∀ e k : Int, 0 ≤ e → e < d → 0 ≤ k → k ≤ 40 → χ2 31 (4 * k + e) = x_sp ((t_it (t_fcf s w) d.toNat (t_is σ, (0 : Int))).1 35 (41 * e + k)) ∧ x_cn ((t_it (t_fcf s w) d.toNat (t_is σ, (0 : Int))).1 35 (41 * e + k))) → e_E mX5_of 7 [.ref 382, .ref (352 + s.toNat), e_i w, e_i d, .retAddr 0] [] (x_H χ2 h2) (3 * (4 - d).toNat) (12 * (4 - d).toNat) 7 (x_PF (t_fc s w (t_is σ)) χ h0)) (by omega) (fun χ2 h2 hf he h32 h31 => ?_) (fun d hd0 hd1 hF χ2 h2 hf he h32 h31 => ?_) _ h0 (fun j hj => s_up_f (by omega)) (e_ext_rf _) (by rw [s_up_eq]; rfl) (fun e k a b c d => by omega)
  · have hin := t_fcl_in (s := s) (w := w) ⟨hw.1, by omega⟩ hask 4 (Nat.le_refl _)
    have hX2 : 0 ≤ (t_it (t_fcf s w) (4 : Int).toNat (t_is σ, (0 : Int))).2 ∧ (t_it (t_fcf s w) (4 : Int).toNat (t_is σ, (0 : Int))).2 < 16 := hin.2.2.1
    refine e_iload_n dX5_of_7 rfl ?_
    refine e_iconst dX5_of_8 ?_
    refine e_icmp_ge (tgt := 112) dX5_of_9 rfl ⟨by omega, by omega⟩ ⟨by omega, by omega⟩ (fun c1 => ?_) (fun q => by exfalso; omega)
    refine e_aload_n dX5_of_112 rfl ?_
    refine e_bud (kc1 := 0 + 0) (ks1 := 0 + 0) (by omega) (by omega) ?_
    refine e_callV0 (M1 := mX5_asks) (kc := 0) (ks := 0) (mc := 0) (ms := 0) (ci := 5) dX5_of_113 lk_X5_46 md_X5_asks rfl q1526 qs51 (x_o5 _ _) (by decide) rfl (Nat.le_of_ble_eq_true rfl) (C_X5_asks h32 hX2 h31) (fun a hh q => ?_) (fun i hh q => by cases q.1)
    obtain ⟨q1, χ7, k1, k2, k3, rfl⟩ := q
    cases q1
    show e_E _ _ _ _ _ _ _ _ _
    refine e_aload_n dX5_of_116 rfl ?_
    refine e_areturn dX5_of_117 rfl (Or.inl ⟨_, rfl⟩) ?_
    exact ⟨rfl, χ7, h2, fun j hj => (k1 j (by omega) (by omega)).trans (hf j hj), he, (congrFun (k1 32 (by decide) (by decide)) 0).trans h32, k2, k3, rfl⟩
  · have hin := t_fcl_in (s := s) (w := w) ⟨hw.1, by omega⟩ hask d.toNat (by omega)
    have h16 := x_fc16 (s := s) hask (w := w) ⟨hw.1, by omega⟩ d.toNat (by omega)
    rw [t_it_s _ _ hd0, show (4 - (d + 1)).toNat = (3 - d).toNat by omega] at hF
    generalize t_it (t_fcf s w) d.toNat (t_is σ, (0 : Int)) = x at hF hin h16 h32 h31 ⊢
    rw [Int.toNat_of_nonneg hd0] at hin
    have A2 := x_at_p A hf he
    have ha : t_ask (s_up x.1 16 w d) := (t_fc1_in (w := w) hin.2.1 ⟨hd0, hd1⟩).2.2
    have l1 : x_ls σ 16 (s_up x.1 16 w d) := fun j hj hne => (s_up_f hne).trans (hin.1 j (by omega) hne (by omega))
    have hd16 : ∀ v : Int, 0 ≤ v → v < σ 1 7 → (s_up x.1 16 w d) 16 v = if v = w then d else t_is σ 16 v := fun v v0 v1 => by
      by_cases q : v = w
      · rw [if_pos q, q, s_up_eq]
      · rw [if_neg q, s_up_j q]
        exact h16 v q
    have t1 := x_ls_1 (by decide) l1
    refine e_iload_n dX5_of_7 rfl ?_
    refine e_iconst dX5_of_8 ?_
    refine e_icmp_ge (tgt := 112) dX5_of_9 rfl ⟨by omega, by omega⟩ ⟨by omega, by omega⟩ (fun q => by exfalso; omega) (fun c2 => ?_)
    refine e_aload_n dX5_of_12 rfl ?_
    refine e_getV (.ref 350) dX5_of_13 fl_X5_3 (x_o5 _ _) rfl ?_
    refine e_getV (.ref 366) dX5_of_16 fl_X5_23 (x_o0 _ _) rfl ?_
    refine e_bud (kc1 := (3 * (3 - d).toNat) + 3) (ks1 := (12 * (3 - d).toNat) + 12) (by omega) (by omega) ?_
    refine e_callV0 (M1 := mX3_is) (kc := (3 * (3 - d).toNat)) (ks := (12 * (3 - d).toNat)) (mc := 3) (ms := 12) (ci := 3) dX5_of_19 lk_X5_27 md_X3_is rfl q1050 q1051 (x_o3 _ _) (by decide) rfl (Nat.le_of_ble_eq_true rfl) (C_X3_is A2 hz hr) (fun a hh q => ?_) (fun i hh q => by cases q.1)
    obtain ⟨q1, χ3, h3, hk, hRq, he3, rfl⟩ := q
    cases q1
    show e_E _ _ _ (_ :: _) _ _ _ _ _
    refine e_getV (.ref (x_ai 16)) dX5_of_22 fl_X5_33 (x_o3 _ _) rfl ?_
    refine e_iload_n dX5_of_25 rfl ?_
    refine e_iload_n dX5_of_26 rfl ?_
    refine x_ist 7 dX5_of_27 rfl (by decide) rfl rfl ⟨by omega, by omega⟩ ?_
    refine e_aload_n dX5_of_28 rfl ?_
    refine e_getV (.ref 350) dX5_of_29 fl_X5_3 (x_o5 _ _) rfl ?_
    refine e_getV (.ref 366) dX5_of_32 fl_X5_23 (x_o0 _ _) rfl ?_
    refine e_bud (kc1 := (3 * (3 - d).toNat) + 0) (ks1 := (12 * (3 - d).toNat) + 0) (Nat.le_refl _) (Nat.le_refl _) ?_
    refine e_callV0 (M1 := mX3_goes) (kc := (3 * (3 - d).toNat)) (ks := (12 * (3 - d).toNat)) (mc := 0) (ms := 0) (ci := 3) dX5_of_35 lk_X5_36 md_X3_goes rfl q1148 q1149 (x_o3 _ _) (by decide) rfl (Nat.le_of_ble_eq_true rfl) (C_X3_goes (x_at_2 A2 (by decide) l1 ((s_up_f (by decide)).trans (hk 1 (by decide))) he3) ha (x_ls_ask (by decide) l1 ha hC) (x_Rq_16 hRq l1 hd16)) (fun a hh q => ?_) (fun i hh q => by cases q.1)
    obtain ⟨q1, χ4, G, rfl⟩ := q
    cases q1
    show e_E _ _ _ (_ :: _) _ _ _ _ _
    have g3 := x_gone ha G
    have hf4 := x_gone_k hk (fun j hj => s_up_f (k1 := j) (by omega)) G
    have e4 : ∀ j, (j < 15 ∨ 32 < j) → j ≠ 35 → t_ga (s_up x.1 16 w d) j = σ j := fun j j1 j2 => (t_ga_k ha (by omega)).trans ((s_up_f (by omega)).trans ((hin.1 j (by omega) (by omega) (by omega)).trans (eis j (by omega))))
    have e35 : t_ga (s_up x.1 16 w d) 35 = x.1 35 := (t_ga_k ha (by omega)).trans (s_up_f (by decide))
    have hH := t_ga_hist ha
    have eF : t_fcf s w d x = (t_it (t_fc2f w d) 41 (t_ga (s_up x.1 16 w d)), x.2 + (if t_see (t_ga (s_up x.1 16 w d)) s then 2 ^ d.toNat else 0)) := rfl
    rw [eF] at hF
    obtain ⟨ρ, hρ⟩ : ∃ ρ, t_ga (s_up x.1 16 w d) = ρ := ⟨_, rfl⟩
    rw [hρ] at g3 e4 e35 hH hF
    have F := g3.2.1
    have N := g3.1
    have rc := N.1.2.2.2 w hw.1 (by have := congrFun (e4 1 (by omega) (by decide)) 7; omega)
    have A4 : x_at χ4 h3 (ρ 1) α := by rw [e4 1 (by omega) (by decide)]; exact x_at_p A (x_p_tr hf (x_f34 hf4)) (e_ext_tr he he3)
    have H4 : x_ar h3 (ρ 43 s) (ρ 42 s) (fun j => ρ 44 (60 * s + j)) a := by
      rw [e4 43 (by omega) (by decide), e4 42 (by omega) (by decide), e4 44 (by omega) (by decide)]
      have hex := e_ext_tr he he3
      exact x_ar_of H hex.1 (hex.2 a H.2.2.1.2) (fun _ _ _ => rfl)
    have hg4 : t_sgd ρ s := t_sgd_of hg (e4 1 (by omega) (by decide)) (e4 42 (by omega) (by decide)) (e4 44 (by omega) (by decide))
    have hl4 : t_slt ρ := t_slt_of ht (e4 42 (by omega) (by decide)) (e4 43 (by omega) (by decide)) (e4 44 (by omega) (by decide))
    have b32 : χ4 32 0 = x.2 := (congrFun (hf4 32 (by omega)) 0).trans h32
    have hm := hin.2.2.1
    refine e_pop dX5_of_38 rfl ?_
    refine e_aload_n dX5_of_39 rfl ?_
    refine e_dup dX5_of_40 rfl ?_
    refine e_getV (e_i _) dX5_of_41 fl_X5_19 (x_o5 _ _) rfl ?_
    rw [b32]
    refine e_aload_n dX5_of_44 rfl ?_
    refine e_getV (.ref 350) dX5_of_45 fl_X5_3 (x_o5 _ _) rfl ?_
    refine e_aload_n dX5_of_48 rfl ?_
    refine e_callV1rz (ci := 0) dX5_of_49 md_X0_isSo lk_X5_39 rfl q1521 qs50 (x_o0 _ _) (by decide) rfl (Nat.le_of_ble_eq_true rfl) (C_X0_isSo A4 F.1.1 F N hs (show χ4 35 s = (a : Int) from ((congrFun (hf4 35 (by omega)) s).trans (congrFun (hf 35 (by omega)) s)).trans hχ) H4 hg4 hl4) ?_
    refine e_bif_eq (tgt := 61) dX5_of_52 rfl (fun c3 => ?_) (fun c3 => ?_)
    · refine e_iconst dX5_of_61 ?_
      refine e_ior dX5_of_62 (show Int32.ofInt x.2 ||| Int32.ofInt _ = Int32.ofInt (x.2 + (if t_see ρ s then 2 ^ d.toNat else 0)) from by first | (rw [if_pos (by assumption)]; exact e_or_top ⟨by omega, by omega⟩ hm) | (rw [if_neg (by assumption), Int.add_zero]; exact e_or_0 _)) ?_
      refine x_put_32 dX5_of_63 fl_X5_19 ?_
      refine e_iconst dX5_of_66 ?_
      refine e_istore4 dX5_of_67 rfl ?_
      refine e_for (n := 41) (F := fun k => ∀ χ6 : t_S, (∀ j, j ≠ 31 → χ6 j = s_up χ4 32 0 (x.2 + (if t_see ρ s then 2 ^ d.toNat else 0)) j) → (∀ q : Int, (q % 4 ≠ d ∨ 4 * k ≤ q) → χ6 31 q = χ4 31 q) → (∀ c : Int, 0 ≤ c → c < k → χ6 31 (4 * c + d) = x_sp (t_pth ρ w c)) → e_E mX5_of 69 [.ref 382, .ref (352 + s.toNat), e_i w, e_i d, e_i k] [] (x_H χ6 h3) (3 * (3 - d).toNat) (12 * (3 - d).toNat) 7 (x_PF (t_fc s w (t_is σ)) χ h0)) (by omega) (fun χ6 q31 o31 p31 => ?_) (fun k hk0 hk1 hG χ6 q31 o31 p31 => ?_) _ (fun j hj => rfl) (fun q hq => congrFun (s_up_f (by decide)) q) (fun c a b => by omega)
      · refine e_iload dX5_of_69 rfl ?_
        refine e_bipush dX5_of_71 rfl ?_
        refine e_icmp_gt (tgt := 106) dX5_of_73 rfl ⟨by omega, by omega⟩ ⟨by omega, by omega⟩ (fun c4 => ?_) (fun q => by exfalso; omega)
        refine e_iinc3 dX5_of_106 rfl ?_
        refine e_goto (tgt := 7) dX5_of_109 rfl ?_
        refine e_fgt 4 ?_
        refine hF χ6 h3 (fun j hj => (q31 j (by omega)).trans ((s_up_f (by omega)).trans ((hf4 j (by omega)).trans (hf j hj)))) (e_ext_tr he he3) (by rw [q31 32 (by decide), s_up_eq]) (fun e c e0 e1 c0 c1 => ?_)
        show χ6 31 (4 * c + e) = x_sp (t_it (t_fc2f w d) 41 ρ 35 (41 * e + c)) ∧ x_cn (t_it (t_fc2f w d) 41 ρ 35 (41 * e + c))
        by_cases q : e = d
        · subst q
          rw [(x_fc2 ρ 41).2 c c0 (by omega)]
          exact ⟨p31 c c0 (by omega), x_pth_cn F ⟨hw.1, by omega⟩ c0⟩
        · rw [(t_fc2_in (w := w) (d := d) hH ⟨hw.1, by omega⟩ 41 (Nat.le_refl _)).2.2 _ (Or.inl (by omega)), e35, o31 (4 * c + e) (Or.inl (by omega)), hf4 31 (by omega)]
          exact h31 e c e0 (by omega) c0 c1
      · refine e_iload dX5_of_69 rfl ?_
        refine e_bipush dX5_of_71 rfl ?_
        refine e_icmp_gt (tgt := 106) dX5_of_73 rfl ⟨by omega, by omega⟩ ⟨by omega, by omega⟩ (fun q => by exfalso; omega) (fun c5 => ?_)
        refine e_aload_n dX5_of_76 rfl ?_
        refine e_getV (.ref (x_ai 31)) dX5_of_77 fl_X5_15 (x_o5 _ _) rfl ?_
        refine e_iconst dX5_of_80 ?_
        refine e_iload dX5_of_81 rfl ?_
        refine e_imul dX5_of_83 ?_
        refine e_iload_n dX5_of_84 rfl ?_
        refine e_iadd dX5_of_85 ?_
        refine e_aload_n dX5_of_86 rfl ?_
        refine e_getV (.ref 350) dX5_of_87 fl_X5_3 (x_o5 _ _) rfl ?_
        refine e_getV (.ref 366) dX5_of_90 fl_X5_23 (x_o0 _ _) rfl ?_
        refine e_iload_n dX5_of_93 rfl ?_
        refine e_iload dX5_of_94 rfl ?_
        refine e_callV2rz (ci := 3) dX5_of_96 md_X3_at lk_X5_43 rfl q1238 q1239 (x_o3 _ _) (by decide) rfl (Nat.le_of_ble_eq_true rfl) (C_X3_at ⟨by omega, by omega⟩ ⟨by omega, by omega⟩ (by rw [q31 10 (by decide), s_up_f (by decide)]; exact rc.2.2.2.2.2.1 k (by omega) (by omega))) ?_
        refine x_ist 164 dX5_of_99 rfl (by decide) rfl rfl ⟨by omega, by omega⟩ ?_
        refine e_iinc4 dX5_of_100 rfl ?_
        refine e_goto (tgt := 69) dX5_of_103 rfl ?_
        refine hG _ (fun j hj => (s_up_f hj).trans (q31 j hj)) (fun q hq => (s_up_j (by omega)).trans (o31 q (by omega))) (fun c c0 c1 => ?_)
        by_cases q : c = k
        · subst q; rw [s_up_eq]
        · rw [s_up_j (by omega)]
          exact p31 c c0 (by omega)
    · refine e_iconst dX5_of_55 ?_
      refine e_iload_n dX5_of_56 rfl ?_
      refine e_ishl dX5_of_57 (t_shl1 ⟨by omega, by omega⟩) ?_
      refine e_goto (tgt := 62) dX5_of_58 rfl ?_
      refine e_ior dX5_of_62 (show Int32.ofInt x.2 ||| Int32.ofInt _ = Int32.ofInt (x.2 + (if t_see ρ s then 2 ^ d.toNat else 0)) from by first | (rw [if_pos (by assumption)]; exact e_or_top ⟨by omega, by omega⟩ hm) | (rw [if_neg (by assumption), Int.add_zero]; exact e_or_0 _)) ?_
      refine x_put_32 dX5_of_63 fl_X5_19 ?_
      refine e_iconst dX5_of_66 ?_
      refine e_istore4 dX5_of_67 rfl ?_
      refine e_for (n := 41) (F := fun k => ∀ χ6 : t_S, (∀ j, j ≠ 31 → χ6 j = s_up χ4 32 0 (x.2 + (if t_see ρ s then 2 ^ d.toNat else 0)) j) → (∀ q : Int, (q % 4 ≠ d ∨ 4 * k ≤ q) → χ6 31 q = χ4 31 q) → (∀ c : Int, 0 ≤ c → c < k → χ6 31 (4 * c + d) = x_sp (t_pth ρ w c)) → e_E mX5_of 69 [.ref 382, .ref (352 + s.toNat), e_i w, e_i d, e_i k] [] (x_H χ6 h3) (3 * (3 - d).toNat) (12 * (3 - d).toNat) 7 (x_PF (t_fc s w (t_is σ)) χ h0)) (by omega) (fun χ6 q31 o31 p31 => ?_) (fun k hk0 hk1 hG χ6 q31 o31 p31 => ?_) _ (fun j hj => rfl) (fun q hq => congrFun (s_up_f (by decide)) q) (fun c a b => by omega)
      · refine e_iload dX5_of_69 rfl ?_
        refine e_bipush dX5_of_71 rfl ?_
        refine e_icmp_gt (tgt := 106) dX5_of_73 rfl ⟨by omega, by omega⟩ ⟨by omega, by omega⟩ (fun c6 => ?_) (fun q => by exfalso; omega)
        refine e_iinc3 dX5_of_106 rfl ?_
        refine e_goto (tgt := 7) dX5_of_109 rfl ?_
        refine e_fgt 4 ?_
        refine hF χ6 h3 (fun j hj => (q31 j (by omega)).trans ((s_up_f (by omega)).trans ((hf4 j (by omega)).trans (hf j hj)))) (e_ext_tr he he3) (by rw [q31 32 (by decide), s_up_eq]) (fun e c e0 e1 c0 c1 => ?_)
        show χ6 31 (4 * c + e) = x_sp (t_it (t_fc2f w d) 41 ρ 35 (41 * e + c)) ∧ x_cn (t_it (t_fc2f w d) 41 ρ 35 (41 * e + c))
        by_cases q : e = d
        · subst q
          rw [(x_fc2 ρ 41).2 c c0 (by omega)]
          exact ⟨p31 c c0 (by omega), x_pth_cn F ⟨hw.1, by omega⟩ c0⟩
        · rw [(t_fc2_in (w := w) (d := d) hH ⟨hw.1, by omega⟩ 41 (Nat.le_refl _)).2.2 _ (Or.inl (by omega)), e35, o31 (4 * c + e) (Or.inl (by omega)), hf4 31 (by omega)]
          exact h31 e c e0 (by omega) c0 c1
      · refine e_iload dX5_of_69 rfl ?_
        refine e_bipush dX5_of_71 rfl ?_
        refine e_icmp_gt (tgt := 106) dX5_of_73 rfl ⟨by omega, by omega⟩ ⟨by omega, by omega⟩ (fun q => by exfalso; omega) (fun c7 => ?_)
        refine e_aload_n dX5_of_76 rfl ?_
        refine e_getV (.ref (x_ai 31)) dX5_of_77 fl_X5_15 (x_o5 _ _) rfl ?_
        refine e_iconst dX5_of_80 ?_
        refine e_iload dX5_of_81 rfl ?_
        refine e_imul dX5_of_83 ?_
        refine e_iload_n dX5_of_84 rfl ?_
        refine e_iadd dX5_of_85 ?_
        refine e_aload_n dX5_of_86 rfl ?_
        refine e_getV (.ref 350) dX5_of_87 fl_X5_3 (x_o5 _ _) rfl ?_
        refine e_getV (.ref 366) dX5_of_90 fl_X5_23 (x_o0 _ _) rfl ?_
        refine e_iload_n dX5_of_93 rfl ?_
        refine e_iload dX5_of_94 rfl ?_
        refine e_callV2rz (ci := 3) dX5_of_96 md_X3_at lk_X5_43 rfl q1238 q1239 (x_o3 _ _) (by decide) rfl (Nat.le_of_ble_eq_true rfl) (C_X3_at ⟨by omega, by omega⟩ ⟨by omega, by omega⟩ (by rw [q31 10 (by decide), s_up_f (by decide)]; exact rc.2.2.2.2.2.1 k (by omega) (by omega))) ?_
        refine x_ist 164 dX5_of_99 rfl (by decide) rfl rfl ⟨by omega, by omega⟩ ?_
        refine e_iinc4 dX5_of_100 rfl ?_
        refine e_goto (tgt := 69) dX5_of_103 rfl ?_
        refine hG _ (fun j hj => (s_up_f hj).trans (q31 j hj)) (fun q hq => (s_up_j (by omega)).trans (o31 q (by omega))) (fun c c0 c1 => ?_)
        by_cases q : c = k
        · subst q; rw [s_up_eq]
        · rw [s_up_j (by omega)]
          exact p31 c c0 (by omega)
theorem C_X0_faced {σ χ : t_S} {h0 : e_A} {α : Nat → Nat} (A : x_at χ h0 (σ 1) α) (hz : t_sz σ) (hr : t_okR (σ 1)) (hC : t_isC σ ∨ σ 1 7 = 0) (S : x_sl χ h0 σ) (ht : t_slt σ) {s : Int} (hs : e_rg s) {w : Int} (hw : e_rg w) : e_C mX0_faced [.ref 350, e_i s, e_i w] (x_H χ h0) 12 48 8 (x_Pub (e_i (v_faced σ s w)) χ h0) := by
  have hwr := t_wnw_rg σ s w
  refine e_enter (al0 := [.ref 350, e_i s, e_i w, .retAddr 0]) (by decide +kernel) rfl (Nat.le_of_ble_eq_true rfl) ?_
  refine e_aload_n dX0_faced_0 rfl ?_
  refine e_iload_n dX0_faced_1 rfl ?_
  refine e_iload_n dX0_faced_2 rfl ?_
  refine e_callV2rz (ci := 0) dX0_faced_3 md_X0_whyNotOf lk_X0_368 rfl q1499 qs48 (x_o0 _ _) (by decide) rfl (Nat.le_of_ble_eq_true rfl) (C_X0_whyNotOf A hz ht S hs hw) ?_
  refine e_istore_n3 dX0_faced_6 rfl ?_
  refine e_iload_n dX0_faced_7 rfl ?_
  refine e_if_eq (tgt := 15) dX0_faced_8 rfl ⟨by omega, by omega⟩ (fun c1 => ?_) (fun c1 => ?_)
  · obtain ⟨gw, gg⟩ := t_wnw_gd ht (show ¬ t_wnw σ s w < 0 by omega)
    have gs := gg.1
    refine e_aload_n dX0_faced_15 rfl ?_
    refine e_getV (.ref 382) dX0_faced_16 fl_X0_82 (x_o0 _ _) rfl ?_
    refine e_aload_n dX0_faced_19 rfl ?_
    refine e_getV (.ref 351) dX0_faced_20 fl_X0_19 (x_o0 _ _) rfl ?_
    refine e_iload_n dX0_faced_23 rfl ?_
    refine e_aald s.toNat dX0_faced_24 (x_oS _ _) (Or.inl (by omega)) (Int.toNat_of_nonneg (by omega)).symm (by omega) (by omega) ?_
    refine e_iload_n dX0_faced_25 rfl ?_
    refine e_bud (kc1 := 0 + 12) (ks1 := 0 + 48) (by decide) (by decide) ?_
    refine e_callV2 (M1 := mX5_of) (kc := 0) (ks := 0) (mc := 12) (ms := 48) (ci := 5) dX0_faced_26 lk_X0_371 md_X5_of rfl q1514 q1515 (x_o5 _ _) (by decide) rfl (Nat.le_of_ble_eq_true rfl) (C_X5_of A hz hr hC S ht gg.1 gg ⟨by omega, by omega⟩) (fun a hh q => ?_) (fun i hh q => by cases q.1)
    obtain ⟨q1, χ3, h3, hf3, he3, b1, b2, b3, rfl⟩ := q
    cases q1
    show e_E _ _ _ (_ :: _) _ _ _ _ _
    refine e_getV (e_i _) dX0_faced_29 fl_X0_374 (x_o5 _ _) rfl ?_
    refine e_ireturn dX0_faced_32 rfl rfl ?_
    first
      | (refine x_pubi0 ?_
         unfold v_faced
         rw [if_pos (show t_wnw σ s w < 0 by omega)]
         done)
      | (refine x_pubi ?_ hf3 he3
         unfold v_faced
         rw [if_neg (show ¬ t_wnw σ s w < 0 by omega), b1])
  · refine e_iload_n dX0_faced_11 rfl ?_
    refine e_goto (tgt := 32) dX0_faced_12 rfl ?_
    refine e_ireturn dX0_faced_32 rfl rfl ?_
    first
      | (refine x_pubi0 ?_
         unfold v_faced
         rw [if_pos (show t_wnw σ s w < 0 by omega)]
         done)
      | (refine x_pubi ?_ hf3 he3
         unfold v_faced
         rw [if_neg (show ¬ t_wnw σ s w < 0 by omega), b1])
theorem C_X0_ask {σ χ : t_S} {h0 : e_A} {α : Nat → Nat} (A : x_at χ h0 (σ 1) α) (hz : t_sz σ) (hr : t_okR (σ 1)) (hC : t_isC σ ∨ σ 1 7 = 0) (S : x_sl χ h0 σ) (ht : t_slt σ) {s : Int} (hs : e_rg s) {w : Int} (hw : e_rg w) : e_C mX0_ask [.ref 350, e_i s, e_i w] (x_H χ h0) 12 48 8 (x_Pub (e_i (v_ask σ s w)) χ h0) := by
  have hwr := t_wnw_rg σ s w
  refine e_enter (al0 := [.ref 350, e_i s, e_i w, .retAddr 0]) (by decide +kernel) rfl (Nat.le_of_ble_eq_true rfl) ?_
  refine e_aload_n dX0_ask_0 rfl ?_
  refine e_iload_n dX0_ask_1 rfl ?_
  refine e_iload_n dX0_ask_2 rfl ?_
  refine e_callV2rz (ci := 0) dX0_ask_3 md_X0_whyNotOf lk_X0_368 rfl q1499 qs48 (x_o0 _ _) (by decide) rfl (Nat.le_of_ble_eq_true rfl) (C_X0_whyNotOf A hz ht S hs hw) ?_
  refine e_istore_n3 dX0_ask_6 rfl ?_
  refine e_iload_n dX0_ask_7 rfl ?_
  refine e_if_eq (tgt := 15) dX0_ask_8 rfl ⟨by omega, by omega⟩ (fun c1 => ?_) (fun c1 => ?_)
  · obtain ⟨gw, gg⟩ := t_wnw_gd ht (show ¬ t_wnw σ s w < 0 by omega)
    have gs := gg.1
    refine e_aload_n dX0_ask_15 rfl ?_
    refine e_getV (.ref 382) dX0_ask_16 fl_X0_82 (x_o0 _ _) rfl ?_
    refine e_aload_n dX0_ask_19 rfl ?_
    refine e_getV (.ref 351) dX0_ask_20 fl_X0_19 (x_o0 _ _) rfl ?_
    refine e_iload_n dX0_ask_23 rfl ?_
    refine e_aald s.toNat dX0_ask_24 (x_oS _ _) (Or.inl (by omega)) (Int.toNat_of_nonneg (by omega)).symm (by omega) (by omega) ?_
    refine e_iload_n dX0_ask_25 rfl ?_
    refine e_bud (kc1 := 0 + 12) (ks1 := 0 + 48) (by decide) (by decide) ?_
    refine e_callV2 (M1 := mX5_of) (kc := 0) (ks := 0) (mc := 12) (ms := 48) (ci := 5) dX0_ask_26 lk_X0_371 md_X5_of rfl q1514 q1515 (x_o5 _ _) (by decide) rfl (Nat.le_of_ble_eq_true rfl) (C_X5_of A hz hr hC S ht gg.1 gg ⟨by omega, by omega⟩) (fun a hh q => ?_) (fun i hh q => by cases q.1)
    obtain ⟨q1, χ3, h3, hf3, he3, b1, b2, b3, rfl⟩ := q
    cases q1
    show e_E _ _ _ (_ :: _) _ _ _ _ _
    refine e_getV (e_i _) dX0_ask_29 fl_X0_377 (x_o5 _ _) rfl ?_
    refine e_ireturn dX0_ask_32 rfl rfl ?_
    first
      | (refine x_pubi0 ?_
         unfold v_ask
         rw [if_pos (show t_wnw σ s w < 0 by omega)]
         done)
      | (refine x_pubi ?_ hf3 he3
         unfold v_ask
         rw [if_neg (show ¬ t_wnw σ s w < 0 by omega), b2])
  · refine e_iload_n dX0_ask_11 rfl ?_
    refine e_goto (tgt := 32) dX0_ask_12 rfl ?_
    refine e_ireturn dX0_ask_32 rfl rfl ?_
    first
      | (refine x_pubi0 ?_
         unfold v_ask
         rw [if_pos (show t_wnw σ s w < 0 by omega)]
         done)
      | (refine x_pubi ?_ hf3 he3
         unfold v_ask
         rw [if_neg (show ¬ t_wnw σ s w < 0 by omega), b2])
theorem C_X0_leaves {σ χ : t_S} {h0 : e_A} {α : Nat → Nat} (A : x_at χ h0 (σ 1) α) (hz : t_sz σ) (hr : t_okR (σ 1)) (hC : t_isC σ ∨ σ 1 7 = 0) (S : x_sl χ h0 σ) (ht : t_slt σ) {s : Int} (hs : e_rg s) {w : Int} (hw : e_rg w) : e_C mX0_leaves [.ref 350, e_i s, e_i w] (x_H χ h0) 12 48 8 (x_Pub (e_i (v_leaves σ s w)) χ h0) := by
  have hwr := t_wnw_rg σ s w
  refine e_enter (al0 := [.ref 350, e_i s, e_i w, .retAddr 0]) (by decide +kernel) rfl (Nat.le_of_ble_eq_true rfl) ?_
  refine e_aload_n dX0_leaves_0 rfl ?_
  refine e_iload_n dX0_leaves_1 rfl ?_
  refine e_iload_n dX0_leaves_2 rfl ?_
  refine e_callV2rz (ci := 0) dX0_leaves_3 md_X0_whyNotOf lk_X0_368 rfl q1499 qs48 (x_o0 _ _) (by decide) rfl (Nat.le_of_ble_eq_true rfl) (C_X0_whyNotOf A hz ht S hs hw) ?_
  refine e_istore_n3 dX0_leaves_6 rfl ?_
  refine e_iload_n dX0_leaves_7 rfl ?_
  refine e_if_eq (tgt := 15) dX0_leaves_8 rfl ⟨by omega, by omega⟩ (fun c1 => ?_) (fun c1 => ?_)
  · obtain ⟨gw, gg⟩ := t_wnw_gd ht (show ¬ t_wnw σ s w < 0 by omega)
    have gs := gg.1
    refine e_aload_n dX0_leaves_15 rfl ?_
    refine e_getV (.ref 382) dX0_leaves_16 fl_X0_82 (x_o0 _ _) rfl ?_
    refine e_aload_n dX0_leaves_19 rfl ?_
    refine e_getV (.ref 351) dX0_leaves_20 fl_X0_19 (x_o0 _ _) rfl ?_
    refine e_iload_n dX0_leaves_23 rfl ?_
    refine e_aald s.toNat dX0_leaves_24 (x_oS _ _) (Or.inl (by omega)) (Int.toNat_of_nonneg (by omega)).symm (by omega) (by omega) ?_
    refine e_iload_n dX0_leaves_25 rfl ?_
    refine e_bud (kc1 := 0 + 12) (ks1 := 0 + 48) (by decide) (by decide) ?_
    refine e_callV2 (M1 := mX5_of) (kc := 0) (ks := 0) (mc := 12) (ms := 48) (ci := 5) dX0_leaves_26 lk_X0_371 md_X5_of rfl q1514 q1515 (x_o5 _ _) (by decide) rfl (Nat.le_of_ble_eq_true rfl) (C_X5_of A hz hr hC S ht gg.1 gg ⟨by omega, by omega⟩) (fun a hh q => ?_) (fun i hh q => by cases q.1)
    obtain ⟨q1, χ3, h3, hf3, he3, b1, b2, b3, rfl⟩ := q
    cases q1
    show e_E _ _ _ (_ :: _) _ _ _ _ _
    refine e_getV (e_i _) dX0_leaves_29 fl_X0_380 (x_o5 _ _) rfl ?_
    refine e_ireturn dX0_leaves_32 rfl rfl ?_
    first
      | (refine x_pubi0 ?_
         unfold v_leaves
         rw [if_pos (show t_wnw σ s w < 0 by omega)]
         done)
      | (refine x_pubi ?_ hf3 he3
         unfold v_leaves
         rw [if_neg (show ¬ t_wnw σ s w < 0 by omega), b3])
  · refine e_iload_n dX0_leaves_11 rfl ?_
    refine e_goto (tgt := 32) dX0_leaves_12 rfl ?_
    refine e_ireturn dX0_leaves_32 rfl rfl ?_
    first
      | (refine x_pubi0 ?_
         unfold v_leaves
         rw [if_pos (show t_wnw σ s w < 0 by omega)]
         done)
      | (refine x_pubi ?_ hf3 he3
         unfold v_leaves
         rw [if_neg (show ¬ t_wnw σ s w < 0 by omega), b3])
theorem C_X0_griefs {σ χ : t_S} {h0 : e_A} {α : Nat → Nat} (A : x_at χ h0 (σ 1) α) (hz : t_sz σ) (hr : t_okR (σ 1)) (hC : t_isC σ ∨ σ 1 7 = 0) (S : x_sl χ h0 σ) (ht : t_slt σ) {s : Int} (hs : e_rg s) {w : Int} (hw : e_rg w) : e_C mX0_griefs [.ref 350, e_i s, e_i w] (x_H χ h0) 12 48 7 (x_Pub (e_i (v_griefs σ s w)) χ h0) := by
  have s0 : 0 ≤ σ 1 0 ∧ σ 1 0 ≤ 12 := hz.1
  have s3 := hz.2.1
  have s4 := hz.2.2.1
  have s5 := hz.2.2.2.1
  have s6 := hz.2.2.2.2.1
  have s7 := hz.2.2.2.2.2.1
  have hwr := t_wnw_rg σ s w
  refine e_enter (al0 := [.ref 350, e_i s, e_i w, .retAddr 0, .retAddr 0, .retAddr 0]) (by decide +kernel) rfl (Nat.le_of_ble_eq_true rfl) ?_
  refine e_aload_n dX0_griefs_0 rfl ?_
  refine e_iload_n dX0_griefs_1 rfl ?_
  refine e_iload_n dX0_griefs_2 rfl ?_
  refine e_callV2rz (ci := 0) dX0_griefs_3 md_X0_whyNotOf lk_X0_368 rfl q1499 qs48 (x_o0 _ _) (by decide) rfl (Nat.le_of_ble_eq_true rfl) (C_X0_whyNotOf A hz ht S hs hw) ?_
  refine e_istore_n3 dX0_griefs_6 rfl ?_
  refine e_iload_n dX0_griefs_7 rfl ?_
  refine e_if_eq (tgt := 13) dX0_griefs_8 rfl ⟨by omega, by omega⟩ (fun c1 => ?_) (fun c1 => ?_)
  · obtain ⟨gw, gg⟩ := t_wnw_gd ht (show ¬ t_wnw σ s w < 0 by omega)
    have gs := gg.1
    have hask := t_is_ask hz hr
    have eis : ∀ j, (j < 15 ∨ 20 < j) → t_is σ j = σ j := fun j hj => t_is_k (by omega) (by omega) (by omega) (by omega) (by omega) σ
    have h42 := gg.2.1
    obtain ⟨a, hχ, H⟩ : ∃ a : Nat, χ 35 s = (a : Int) ∧ x_ar h0 (σ 43 s) (σ 42 s) (fun j => σ 44 (60 * s + j)) a := by
      rcases S.1 s gg.1.1 gg.1.2 with ⟨q1, q2⟩ | q
      · exfalso; omega
      · exact q
    refine e_iconst dX0_griefs_13 ?_
    refine e_istore4 dX0_griefs_14 rfl ?_
    refine e_iconst dX0_griefs_16 ?_
    refine e_istore5 dX0_griefs_17 rfl ?_
    refine e_fgt 3 ?_
    rw [show (Value.int (Int32.ofInt 0)) = e_i (t_it (t_grf s) (0 : Int).toNat (t_gr0 w (t_is σ), (0 : Int))).2 from rfl]
    refine e_for (n := 4) (F := fun i => ∀ χ2 h2, (∀ j, (j < 10 ∨ 34 < j) → χ2 j = χ j) → e_ext h0 h2 → e_E mX0_griefs 19 [.ref 350, e_i s, e_i w, .retAddr 0, e_i (t_it (t_grf s) i.toNat (t_gr0 w (t_is σ), (0 : Int))).2, e_i i] [] (x_H χ2 h2) (3 * (4 - i).toNat) (12 * (4 - i).toNat) 7 (x_Pub (e_i (v_griefs σ s w)) χ h0)) (by omega) (fun χ2 h2 hf he => ?_) (fun i hi0 hi1 hF χ2 h2 hf he => ?_) χ h0 (fun _ _ => rfl) (e_ext_rf _)
    · refine e_iload dX0_griefs_19 rfl ?_
      refine e_iconst dX0_griefs_21 ?_
      refine e_icmp_ge (tgt := 79) dX0_griefs_22 rfl ⟨by omega, by omega⟩ ⟨by omega, by omega⟩ (fun c2 => ?_) (fun q => by exfalso; omega)
      refine e_iload dX0_griefs_79 rfl ?_
      refine e_ireturn dX0_griefs_81 rfl rfl ?_
      refine x_pubi ?_ hf he
      unfold v_griefs t_gr
      rw [if_neg (show ¬ t_wnw σ s w < 0 by omega)]
      rfl
    · have A2 := x_at_p A hf he
      have hin := t_grl_in (s := s) (w := w) hask (by omega) i.toNat (by omega)
      rw [t_it_s _ _ hi0, show (4 - (i + 1)).toNat = (3 - i).toNat by omega] at hF
      generalize t_it (t_grf s) i.toNat (t_gr0 w (t_is σ), (0 : Int)) = x at hF hin ⊢
      rw [Int.toNat_of_nonneg hi0] at hin
      have ha : t_ask x.1 := t_gr_ask hask (by omega) ⟨hi0, hi1⟩ hin
      have ek : ∀ j, (j < 19 ∨ 32 < j) → x.1 j = t_is σ j := fun j hj => (hin.1 j (by omega) (by omega)).trans ((s_up_f (by omega)).trans (s_up_f (by omega)))
      have t1 : x.1 1 = σ 1 := (ek 1 (by omega)).trans (eis 1 (by omega))
      have h19 : x.1 19 0 = w := by
        rw [hin.1 19 (by omega) (by decide)]
        unfold t_gr0
        rw [s_up_k (by decide), s_up_eq]
      refine e_iload dX0_griefs_19 rfl ?_
      refine e_iconst dX0_griefs_21 ?_
      refine e_icmp_ge (tgt := 79) dX0_griefs_22 rfl ⟨by omega, by omega⟩ ⟨by omega, by omega⟩ (fun q => by exfalso; omega) (fun c3 => ?_)
      refine e_aload_n dX0_griefs_25 rfl ?_
      refine e_getV (.ref 366) dX0_griefs_26 fl_X0_68 (x_o0 _ _) rfl ?_
      refine e_bud (kc1 := (3 * (3 - i).toNat) + 3) (ks1 := (12 * (3 - i).toNat) + 12) (by omega) (by omega) ?_
      refine e_callV0 (M1 := mX3_is) (kc := (3 * (3 - i).toNat)) (ks := (12 * (3 - i).toNat)) (mc := 3) (ms := 12) (ci := 3) dX0_griefs_29 lk_X0_188 md_X3_is rfl q1050 q1051 (x_o3 _ _) (by decide) rfl (Nat.le_of_ble_eq_true rfl) (C_X3_is A2 hz hr) (fun a hh q => ?_) (fun i hh q => by cases q.1)
      obtain ⟨q1, χ3, h3, hk, hRq, he3, rfl⟩ := q
      cases q1
      show e_E _ _ _ (_ :: _) _ _ _ _ _
      refine e_getV (.ref (x_ai 17)) dX0_griefs_32 fl_X0_383 (x_o3 _ _) rfl ?_
      refine e_iload_n dX0_griefs_35 rfl ?_
      refine e_iload dX0_griefs_36 rfl ?_
      refine x_ist 7 dX0_griefs_38 rfl (by decide) rfl rfl ⟨by omega, by omega⟩ ?_
      refine e_aload_n dX0_griefs_39 rfl ?_
      refine e_getV (.ref 366) dX0_griefs_40 fl_X0_68 (x_o0 _ _) rfl ?_
      refine e_bud (kc1 := (3 * (3 - i).toNat) + 0) (ks1 := (12 * (3 - i).toNat) + 0) (Nat.le_refl _) (Nat.le_refl _) ?_
      refine e_callV0 (M1 := mX3_goes) (kc := (3 * (3 - i).toNat)) (ks := (12 * (3 - i).toNat)) (mc := 0) (ms := 0) (ci := 3) dX0_griefs_43 lk_X0_191 md_X3_goes rfl q1148 q1149 (x_o3 _ _) (by decide) rfl (Nat.le_of_ble_eq_true rfl) (C_X3_goes (show x_at (s_up χ3 17 w i) h3 (x.1 1) α by rw [t1]; exact x_at_up (congrFun ((s_up_f (by decide)).trans (hk 1 (by decide))) 0) (x_at_ext he3 A2)) ha (x_row t1 hz hr hC).2.2 (x_Rq_17 hRq (fun j hj => ek j (by omega)) h19 hin.2.1)) (fun a hh q => ?_) (fun i hh q => by cases q.1)
      obtain ⟨q1, χ4, G, rfl⟩ := q
      cases q1
      show e_E _ _ _ (_ :: _) _ _ _ _ _
      have g3 := x_gone ha G
      have hf4 := x_gone_k hk (fun j hj => s_up_f (k1 := j) (by omega)) G
      have N := g3.1
      have eF : t_grf s i x = (s_up (t_ga x.1) 20 0 (t_ga x.1 20 0 + 1), x.2 + (if t_see (t_ga x.1) s then 2 ^ i.toNat else 0)) := rfl
      rw [eF] at hF
      obtain ⟨ρ, hρ⟩ : ∃ ρ, t_ga x.1 = ρ := ⟨_, rfl⟩
      have e4 : ∀ j, (j < 15 ∨ 32 < j) → ρ j = σ j := fun j hj => by rw [← hρ]; exact (t_ga_k ha (by omega)).trans ((ek j (by omega)).trans (eis j (by omega)))
      have F := z_ga_F ha
      rw [hρ] at F hF
      have A4 : x_at χ4 h3 (ρ 1) α := by rw [e4 1 (by omega)]; exact x_at_p A (x_p_tr hf (x_f34 hf4)) (e_ext_tr he he3)
      have H4 : x_ar h3 (ρ 43 s) (ρ 42 s) (fun j => ρ 44 (60 * s + j)) a := by
        rw [e4 43 (by omega), e4 42 (by omega), e4 44 (by omega)]
        exact x_ar_of H ((e_ext_tr he he3)).1 (((e_ext_tr he he3)).2 a H.2.2.1.2) (fun _ _ _ => rfl)
      have hg4 : t_sgd ρ s := t_sgd_of gg (e4 1 (by omega)) (e4 42 (by omega)) (e4 44 (by omega))
      have hl4 : t_slt ρ := t_slt_of ht (e4 42 (by omega)) (e4 43 (by omega)) (e4 44 (by omega))
      have hm := hin.2.2
      rw [hρ] at N
      refine e_pop dX0_griefs_46 rfl ?_
      refine e_iload dX0_griefs_47 rfl ?_
      refine e_aload_n dX0_griefs_49 rfl ?_
      refine e_aload_n dX0_griefs_50 rfl ?_
      refine e_getV (.ref 351) dX0_griefs_51 fl_X0_19 (x_o0 _ _) rfl ?_
      refine e_iload_n dX0_griefs_54 rfl ?_
      refine e_aald s.toNat dX0_griefs_55 (x_oS _ _) (Or.inl (by omega)) (Int.toNat_of_nonneg (by omega)).symm (by omega) (by omega) ?_
      refine e_callV1rz (ci := 0) dX0_griefs_56 md_X0_isSo lk_X0_386 rfl q1521 qs50 (x_o0 _ _) (by decide) rfl (Nat.le_of_ble_eq_true rfl) (C_X0_isSo A4 F.1.1 F N gs (show χ4 35 s = (a : Int) from (congrFun ((x_p_tr hf (x_f34 hf4)) 35 (by omega)) s).trans hχ) H4 hg4 hl4) ?_
      refine e_bif_eq (tgt := 69) dX0_griefs_59 rfl (fun c4 => ?_) (fun c4 => ?_)
      · refine e_iconst dX0_griefs_69 ?_
        refine e_ior dX0_griefs_70 (show Int32.ofInt x.2 ||| Int32.ofInt _ = Int32.ofInt (x.2 + (if t_see ρ s then 2 ^ i.toNat else 0)) from by first | (rw [if_pos (by assumption)]; exact e_or_top ⟨by omega, by omega⟩ hm) | (rw [if_neg (by assumption), Int.add_zero]; exact e_or_0 _)) ?_
        refine e_istore4 dX0_griefs_71 rfl ?_
        refine e_iinc5 dX0_griefs_73 rfl ?_
        refine e_goto (tgt := 19) dX0_griefs_76 rfl ?_
        first
          | (rw [if_pos (by assumption)] at hF; exact hF χ4 h3 (x_p_tr hf (x_f34 hf4)) (e_ext_tr he he3))
          | (rw [if_neg (by assumption)] at hF; exact hF χ4 h3 (x_p_tr hf (x_f34 hf4)) (e_ext_tr he he3))
          | exact hF χ4 h3 (x_p_tr hf (x_f34 hf4)) (e_ext_tr he he3)
      · refine e_iconst dX0_griefs_62 ?_
        refine e_iload dX0_griefs_63 rfl ?_
        refine e_ishl dX0_griefs_65 (t_shl1 ⟨by omega, by omega⟩) ?_
        refine e_goto (tgt := 70) dX0_griefs_66 rfl ?_
        refine e_ior dX0_griefs_70 (show Int32.ofInt x.2 ||| Int32.ofInt _ = Int32.ofInt (x.2 + (if t_see ρ s then 2 ^ i.toNat else 0)) from by first | (rw [if_pos (by assumption)]; exact e_or_top ⟨by omega, by omega⟩ hm) | (rw [if_neg (by assumption), Int.add_zero]; exact e_or_0 _)) ?_
        refine e_istore4 dX0_griefs_71 rfl ?_
        refine e_iinc5 dX0_griefs_73 rfl ?_
        refine e_goto (tgt := 19) dX0_griefs_76 rfl ?_
        first
          | (rw [if_pos (by assumption)] at hF; exact hF χ4 h3 (x_p_tr hf (x_f34 hf4)) (e_ext_tr he he3))
          | (rw [if_neg (by assumption)] at hF; exact hF χ4 h3 (x_p_tr hf (x_f34 hf4)) (e_ext_tr he he3))
          | exact hF χ4 h3 (x_p_tr hf (x_f34 hf4)) (e_ext_tr he he3)
  · refine e_iload_n dX0_griefs_11 rfl ?_
    refine e_ireturn dX0_griefs_12 rfl rfl ?_
    refine x_pubi0 ?_
    unfold v_griefs
    rw [if_pos (show t_wnw σ s w < 0 by omega)]
theorem C_X0_laws {σ χ : t_S} {h0 : e_A} {α : Nat → Nat} (A : x_at χ h0 (σ 1) α) (hz : t_sz σ) (hr : t_okR (σ 1)) (hC : t_isC σ ∨ σ 1 7 = 0) (S : x_sl χ h0 σ) (ht : t_slt σ) {s : Int} (hs : e_rg s) : e_C mX0_laws [.ref 350, e_i s] (x_H χ h0) 12 48 7 (x_Pub (e_i (v_laws σ s)) χ h0) := by
  have s0 : 0 ≤ σ 1 0 ∧ σ 1 0 ≤ 12 := hz.1
  have s3 := hz.2.1
  have s4 := hz.2.2.1
  have s5 := hz.2.2.2.1
  have s6 := hz.2.2.2.2.1
  have s7 := hz.2.2.2.2.2.1
  have hwr := t_wny_rg σ s
  refine e_enter (al0 := [.ref 350, e_i s, .retAddr 0, .retAddr 0, .retAddr 0]) (by decide +kernel) rfl (Nat.le_of_ble_eq_true rfl) ?_
  refine e_aload_n dX0_laws_0 rfl ?_
  refine e_iload_n dX0_laws_1 rfl ?_
  refine e_callV1rz (ci := 0) dX0_laws_2 md_X0_whyNot lk_X0_365 rfl q1503 qs49 (x_o0 _ _) (by decide) rfl (Nat.le_of_ble_eq_true rfl) (C_X0_whyNot A hz ht S hs) ?_
  refine e_istore_n2 dX0_laws_5 rfl ?_
  refine e_iload_n dX0_laws_6 rfl ?_
  refine e_if_eq (tgt := 12) dX0_laws_7 rfl ⟨by omega, by omega⟩ (fun c1 => ?_) (fun c1 => ?_)
  · have gg := t_wny_gd ht (show ¬ t_wny σ s < 0 by omega)
    have gs := gg.1
    have hask := t_is_ask hz hr
    have eis : ∀ j, (j < 15 ∨ 20 < j) → t_is σ j = σ j := fun j hj => t_is_k (by omega) (by omega) (by omega) (by omega) (by omega) σ
    have h42 := gg.2.1
    obtain ⟨a, hχ, H⟩ : ∃ a : Nat, χ 35 s = (a : Int) ∧ x_ar h0 (σ 43 s) (σ 42 s) (fun j => σ 44 (60 * s + j)) a := by
      rcases S.1 s gg.1.1 gg.1.2 with ⟨q1, q2⟩ | q
      · exfalso; omega
      · exact q
    refine e_iconst dX0_laws_12 ?_
    refine e_istore_n3 dX0_laws_13 rfl ?_
    refine e_iconst dX0_laws_14 ?_
    refine e_istore4 dX0_laws_15 rfl ?_
    refine e_fgt 2 ?_
    rw [show (Value.int (Int32.ofInt 0)) = e_i (t_it (t_lsf s) (0 : Int).toNat (t_ls0 (t_is σ), (0 : Int))).2 from rfl]
    refine e_for (n := 4) (F := fun i => ∀ χ2 h2, (∀ j, (j < 10 ∨ 34 < j) → χ2 j = χ j) → e_ext h0 h2 → e_E mX0_laws 17 [.ref 350, e_i s, .retAddr 0, e_i (t_it (t_lsf s) i.toNat (t_ls0 (t_is σ), (0 : Int))).2, e_i i] [] (x_H χ2 h2) (3 * (4 - i).toNat) (12 * (4 - i).toNat) 7 (x_Pub (e_i (v_laws σ s)) χ h0)) (by omega) (fun χ2 h2 hf he => ?_) (fun i hi0 hi1 hF χ2 h2 hf he => ?_) χ h0 (fun _ _ => rfl) (e_ext_rf _)
    · refine e_iload dX0_laws_17 rfl ?_
      refine e_iconst dX0_laws_19 ?_
      refine e_icmp_ge (tgt := 60) dX0_laws_20 rfl ⟨by omega, by omega⟩ ⟨by omega, by omega⟩ (fun c2 => ?_) (fun q => by exfalso; omega)
      refine e_iload_n dX0_laws_60 rfl ?_
      refine e_ireturn dX0_laws_61 rfl rfl ?_
      refine x_pubi ?_ hf he
      unfold v_laws t_ls
      rw [if_neg (show ¬ t_wny σ s < 0 by omega)]
      rfl
    · have A2 := x_at_p A hf he
      have hin := t_lsl_in (s := s) hask i.toNat (by omega)
      rw [t_it_s _ _ hi0, show (4 - (i + 1)).toNat = (3 - i).toNat by omega] at hF
      generalize t_it (t_lsf s) i.toNat (t_ls0 (t_is σ), (0 : Int)) = x at hF hin ⊢
      rw [Int.toNat_of_nonneg hi0] at hin
      have ha : t_ask x.1 := t_ls_ask hask ⟨hi0, hi1⟩ hin
      have ek : ∀ j, (j < 17 ∨ 32 < j) → x.1 j = t_is σ j := fun j hj => (hin.1 j (by omega) (by omega)).trans (s_up_f (by omega))
      have l1 : x_ls σ 17 x.1 := fun j hj hne => (hin.1 j (by omega) hne).trans (s_up_f hne)
      refine e_iload dX0_laws_17 rfl ?_
      refine e_iconst dX0_laws_19 ?_
      refine e_icmp_ge (tgt := 60) dX0_laws_20 rfl ⟨by omega, by omega⟩ ⟨by omega, by omega⟩ (fun q => by exfalso; omega) (fun c3 => ?_)
      refine e_aload_n dX0_laws_23 rfl ?_
      refine e_iload dX0_laws_24 rfl ?_
      refine e_bud (kc1 := (3 * (3 - i).toNat) + 3) (ks1 := (12 * (3 - i).toNat) + 12) (by omega) (by omega) ?_
      refine e_callV1 (M1 := mX0_byLaw) (kc := (3 * (3 - i).toNat)) (ks := (12 * (3 - i).toNat)) (mc := 3) (ms := 12) (ci := 0) dX0_laws_26 lk_X0_393 md_X0_byLaw rfl q1554 qs53 (x_o0 _ _) (by decide) rfl (Nat.le_of_ble_eq_true rfl) (C_X0_byLaw A2 hz hr hC ha l1 hin.2.1) (fun a hh q => ?_) (fun i hh q => by cases q.1)
      obtain ⟨q1, χ3, h3, N3, hf3, he3, rfl⟩ := q
      cases q1
      show e_E _ _ _ (_ :: _) _ _ _ _ _
      have N := N3
      have eF : t_lsf s i x = (s_up (t_ga x.1) 17 0 (t_ga x.1 17 0 + 1), x.2 + (if t_see (t_ga x.1) s then 2 ^ i.toNat else 0)) := rfl
      rw [eF] at hF
      obtain ⟨ρ, hρ⟩ : ∃ ρ, t_ga x.1 = ρ := ⟨_, rfl⟩
      have e4 : ∀ j, (j < 15 ∨ 32 < j) → ρ j = σ j := fun j hj => by rw [← hρ]; exact (t_ga_k ha (by omega)).trans ((ek j (by omega)).trans (eis j (by omega)))
      have F := z_ga_F ha
      rw [hρ] at F hF
      have A4 : x_at χ3 h3 (ρ 1) α := by rw [e4 1 (by omega)]; exact x_at_p A (x_p_tr hf (x_f34 hf3)) (e_ext_tr he he3)
      have H4 : x_ar h3 (ρ 43 s) (ρ 42 s) (fun j => ρ 44 (60 * s + j)) a := by
        rw [e4 43 (by omega), e4 42 (by omega), e4 44 (by omega)]
        exact x_ar_of H ((e_ext_tr he he3)).1 (((e_ext_tr he he3)).2 a H.2.2.1.2) (fun _ _ _ => rfl)
      have hg4 : t_sgd ρ s := t_sgd_of gg (e4 1 (by omega)) (e4 42 (by omega)) (e4 44 (by omega))
      have hl4 : t_slt ρ := t_slt_of ht (e4 42 (by omega)) (e4 43 (by omega)) (e4 44 (by omega))
      have hm := hin.2.2
      rw [hρ] at N
      refine e_pop dX0_laws_29 rfl ?_
      refine e_iload_n dX0_laws_30 rfl ?_
      refine e_aload_n dX0_laws_31 rfl ?_
      refine e_aload_n dX0_laws_32 rfl ?_
      refine e_getV (.ref 351) dX0_laws_33 fl_X0_19 (x_o0 _ _) rfl ?_
      refine e_iload_n dX0_laws_36 rfl ?_
      refine e_aald s.toNat dX0_laws_37 (x_oS _ _) (Or.inl (by omega)) (Int.toNat_of_nonneg (by omega)).symm (by omega) (by omega) ?_
      refine e_callV1rz (ci := 0) dX0_laws_38 md_X0_isSo lk_X0_386 rfl q1521 qs50 (x_o0 _ _) (by decide) rfl (Nat.le_of_ble_eq_true rfl) (C_X0_isSo A4 F.1.1 F N gs (show χ3 35 s = (a : Int) from (congrFun ((x_p_tr hf (x_f34 hf3)) 35 (by omega)) s).trans hχ) H4 hg4 hl4) ?_
      refine e_bif_eq (tgt := 51) dX0_laws_41 rfl (fun c4 => ?_) (fun c4 => ?_)
      · refine e_iconst dX0_laws_51 ?_
        refine e_ior dX0_laws_52 (show Int32.ofInt x.2 ||| Int32.ofInt _ = Int32.ofInt (x.2 + (if t_see ρ s then 2 ^ i.toNat else 0)) from by first | (rw [if_pos (by assumption)]; exact e_or_top ⟨by omega, by omega⟩ hm) | (rw [if_neg (by assumption), Int.add_zero]; exact e_or_0 _)) ?_
        refine e_istore_n3 dX0_laws_53 rfl ?_
        refine e_iinc4 dX0_laws_54 rfl ?_
        refine e_goto (tgt := 17) dX0_laws_57 rfl ?_
        exact hF χ3 h3 (x_p_tr hf (x_f34 hf3)) (e_ext_tr he he3)
      · refine e_iconst dX0_laws_44 ?_
        refine e_iload dX0_laws_45 rfl ?_
        refine e_ishl dX0_laws_47 (t_shl1 ⟨by omega, by omega⟩) ?_
        refine e_goto (tgt := 52) dX0_laws_48 rfl ?_
        refine e_ior dX0_laws_52 (show Int32.ofInt x.2 ||| Int32.ofInt _ = Int32.ofInt (x.2 + (if t_see ρ s then 2 ^ i.toNat else 0)) from by first | (rw [if_pos (by assumption)]; exact e_or_top ⟨by omega, by omega⟩ hm) | (rw [if_neg (by assumption), Int.add_zero]; exact e_or_0 _)) ?_
        refine e_istore_n3 dX0_laws_53 rfl ?_
        refine e_iinc4 dX0_laws_54 rfl ?_
        refine e_goto (tgt := 17) dX0_laws_57 rfl ?_
        exact hF χ3 h3 (x_p_tr hf (x_f34 hf3)) (e_ext_tr he he3)
  · refine e_iload_n dX0_laws_10 rfl ?_
    refine e_ireturn dX0_laws_11 rfl rfl ?_
    refine x_pubi0 ?_
    unfold v_laws
    rw [if_pos (show t_wny σ s < 0 by omega)]
