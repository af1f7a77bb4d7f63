/-! THE COMPONENT: the tape, faults, counts (printed by tx32.py) -/
set_option maxRecDepth 100000
def x_tp (χ σ : t_S) : Prop := (∀ j : Int, 0 ≤ j → j < 900 → χ 3 j = σ 4 j) ∧ χ 4 0 = σ 5 0 ∧ (0 ≤ σ 5 0 ∧ σ 5 0 ≤ 900)
def x_PT (V : Int) (σ1 χ : t_S) (h0 : e_A) : e_R → e_A → Prop := fun r h => r = .inl (some (e_i V)) ∧ ∃ χ1 h1, (∀ j, j ≠ 3 → j ≠ 4 → χ1 j = χ j) ∧ e_ext h0 h1 ∧ x_tp χ1 σ1 ∧ h = x_H χ1 h1
theorem x_six {σ : t_S} {a b c d e : Int} (j : Int) (h : 0 ≤ j ∧ j < 5) : updV (updV (updV (updV (updV (fun _ => .int 0) 0 (e_i a)) 1 (e_i b)) 2 (e_i c)) 3 (e_i d)) 4 (e_i e) j.toNat = e_i (s_fd0 σ a b c d e 6 j) := by
  have hj : j = 0 ∨ j = 1 ∨ j = 2 ∨ j = 3 ∨ j = 4 := by omega
  rcases hj with rfl | rfl | rfl | rfl | rfl <;> rfl
theorem C_X0_fault {σ χ : t_S} {h0 : e_A} (h5 : χ 5 0 = σ 12 0) (h6 : χ 6 0 = σ 13 0) {k : Int} (hk : e_rg k) : e_C mX0_fault [.ref 350, e_i k] (x_H χ h0) 0 0 0 (e_ret (e_i (v_fault σ k)) (x_H χ h0)) := by
  refine e_enter (al0 := [.ref 350, e_i k]) (by decide +kernel) rfl (Nat.le_of_ble_eq_true rfl) ?_
  refine e_iload_n dX0_fault_0 rfl ?_
  refine e_if_ne (tgt := 11) dX0_fault_1 rfl ⟨by omega, by omega⟩ (fun c1 => ?_) (fun c1 => ?_)
  · refine e_iload_n dX0_fault_11 rfl ?_
    refine e_iconst dX0_fault_12 ?_
    refine e_icmp_ne (tgt := 23) dX0_fault_13 rfl ⟨by omega, by omega⟩ ⟨by omega, by omega⟩ (fun c2 => ?_) (fun c2 => ?_)
    · refine e_iconst dX0_fault_23 ?_
      refine e_ireturn dX0_fault_24 rfl rfl ?_
      first
        | (rw [h5]
           refine e_rv ?_ rfl
           unfold v_fault
           (repeat' split) <;> first | rfl | (exfalso; omega))
        | (rw [h6]
           refine e_rv ?_ rfl
           unfold v_fault
           (repeat' split) <;> first | rfl | (exfalso; omega))
        | (refine e_rv ?_ rfl
           unfold v_fault
           (repeat' split) <;> first | rfl | (exfalso; omega))
    · refine e_aload_n dX0_fault_16 rfl ?_
      refine e_getV (e_i _) dX0_fault_17 fl_X0_59 (x_o0 _ _) rfl ?_
      refine e_goto (tgt := 24) dX0_fault_20 rfl ?_
      refine e_ireturn dX0_fault_24 rfl rfl ?_
      first
        | (rw [h5]
           refine e_rv ?_ rfl
           unfold v_fault
           (repeat' split) <;> first | rfl | (exfalso; omega))
        | (rw [h6]
           refine e_rv ?_ rfl
           unfold v_fault
           (repeat' split) <;> first | rfl | (exfalso; omega))
        | (refine e_rv ?_ rfl
           unfold v_fault
           (repeat' split) <;> first | rfl | (exfalso; omega))
  · refine e_aload_n dX0_fault_4 rfl ?_
    refine e_getV (e_i _) dX0_fault_5 fl_X0_102 (x_o0 _ _) rfl ?_
    refine e_goto (tgt := 24) dX0_fault_8 rfl ?_
    refine e_ireturn dX0_fault_24 rfl rfl ?_
    first
      | (rw [h5]
         refine e_rv ?_ rfl
         unfold v_fault
         (repeat' split) <;> first | rfl | (exfalso; omega))
      | (rw [h6]
         refine e_rv ?_ rfl
         unfold v_fault
         (repeat' split) <;> first | rfl | (exfalso; omega))
      | (refine e_rv ?_ rfl
         unfold v_fault
         (repeat' split) <;> first | rfl | (exfalso; omega))
theorem C_X0_end {σ χ : t_S} {h0 : e_A} (P : x_tp χ σ) {n : Int} (hn : e_rg n) : e_C mX0_end [.ref 350, e_i n] (x_H χ h0) 0 0 1 (x_PT (v_end σ n) (s_end σ n) χ h0) := by
  obtain ⟨t3, t4, t5⟩ := P
  refine e_enter (al0 := [.ref 350, e_i n]) (by decide +kernel) rfl (Nat.le_of_ble_eq_true rfl) ?_
  refine e_iload_n dX0_end_0 rfl ?_
  refine e_i2l dX0_end_1 ⟨by omega, by omega⟩ ?_
  refine e_lconst (z := 0) dX0_end_2 rfl ?_
  refine e_aload_n dX0_end_3 rfl ?_
  refine e_getV (e_i _) dX0_end_4 fl_X0_86 (x_o0 _ _) rfl ?_
  rw [t4]
  refine e_i2l dX0_end_7 ⟨by omega, by omega⟩ ?_
  refine e_callS3rz dX0_end_8 md_X0_in lk_X0_11 rfl q186 rfl (Nat.le_of_ble_eq_true rfl) (C_X0_in ⟨by omega, by omega⟩ ⟨by omega, by omega⟩ ⟨by omega, by omega⟩) ?_
  refine e_bif_ne (tgt := 16) dX0_end_11 rfl (fun c1 => ?_) (fun c1 => ?_)
  · refine e_aload_n dX0_end_16 rfl ?_
    refine e_iload_n dX0_end_17 rfl ?_
    refine x_put_4 dX0_end_18 fl_X0_86 ?_
    refine e_iload_n dX0_end_21 rfl ?_
    refine e_ireturn dX0_end_22 rfl rfl ?_
    have hv : v_end σ n = n := if_pos (by omega)
    have hs : s_end σ n = s_up σ 5 0 n := if_pos (by omega)
    rw [hv, hs]
    exact ⟨rfl, s_up χ 4 0 n, h0, fun j j3 j4 => s_up_f j4, e_ext_rf _, ⟨fun j j0 j1 => by rw [s_up_f (by decide), s_up_f (by decide)]; exact t3 j j0 j1, by rw [s_up_eq, s_up_eq], by rw [s_up_eq]; omega⟩, rfl⟩
  · refine e_iconst dX0_end_14 ?_
    refine e_ireturn dX0_end_15 rfl rfl ?_
    have hv : v_end σ n = -1 := if_neg (by omega)
    have hs : s_end σ n = σ := if_neg (by omega)
    rw [hv, hs]
    exact ⟨rfl, χ, h0, fun _ _ _ => rfl, e_ext_rf _, ⟨t3, t4, t5⟩, rfl⟩
theorem C_X0_feed {σ χ : t_S} {h0 : e_A} (h4 : 413 ≤ h0.2) (P : x_tp χ σ) {a b c d e : Int} (ha : e_rg a) (hb : e_rg b) (hc : e_rg c) (hd : e_rg d) (he : e_rg e) : e_C mX0_feed [.ref 350, e_i a, e_i b, e_i c, e_i d, e_i e] (x_H χ h0) 1 5 0 (x_PT (v_feed σ) (s_feed σ a b c d e) χ h0) := by
  obtain ⟨t3, t4, t5⟩ := P
  refine e_enter (al0 := [.ref 350, e_i a, e_i b, e_i c, e_i d, e_i e, .retAddr 0, .retAddr 0]) (by decide +kernel) rfl (Nat.le_of_ble_eq_true rfl) ?_
  refine e_aload_n dX0_feed_0 rfl ?_
  refine e_getV (e_i _) dX0_feed_1 fl_X0_86 (x_o0 _ _) rfl ?_
  rw [t4]
  refine e_bipush dX0_feed_4 rfl ?_
  refine e_iadd dX0_feed_6 ?_
  refine e_sipush dX0_feed_7 rfl ?_
  refine e_icmp_le (tgt := 15) dX0_feed_10 rfl ⟨by omega, by omega⟩ ⟨by omega, by omega⟩ (fun c1 => ?_) (fun c1 => ?_)
  · refine e_iconst dX0_feed_15 ?_
    refine e_bud (kc1 := 0 + 1) (ks1 := 0 + 5) (by omega) (by omega) ?_
    refine e_newarr_int (kc := 0) (ks := 0) (5) dX0_feed_16 rfl (by decide) ?_
    refine e_dup dX0_feed_18 rfl ?_
    refine e_iconst dX0_feed_19 ?_
    refine e_iload_n dX0_feed_20 rfl ?_
    refine e_iast 0 dX0_feed_21 (e_push_at _ _) (by show 350 ≤ h0.2; omega) rfl rfl (by decide) (by decide) ?_
    rw [e_push_set]
    refine e_dup dX0_feed_22 rfl ?_
    refine e_iconst dX0_feed_23 ?_
    refine e_iload_n dX0_feed_24 rfl ?_
    refine e_iast 1 dX0_feed_25 (e_push_at _ _) (by show 350 ≤ h0.2; omega) rfl rfl (by decide) (by decide) ?_
    rw [e_push_set]
    refine e_dup dX0_feed_26 rfl ?_
    refine e_iconst dX0_feed_27 ?_
    refine e_iload_n dX0_feed_28 rfl ?_
    refine e_iast 2 dX0_feed_29 (e_push_at _ _) (by show 350 ≤ h0.2; omega) rfl rfl (by decide) (by decide) ?_
    rw [e_push_set]
    refine e_dup dX0_feed_30 rfl ?_
    refine e_iconst dX0_feed_31 ?_
    refine e_iload dX0_feed_32 rfl ?_
    refine e_iast 3 dX0_feed_34 (e_push_at _ _) (by show 350 ≤ h0.2; omega) rfl rfl (by decide) (by decide) ?_
    rw [e_push_set]
    refine e_dup dX0_feed_35 rfl ?_
    refine e_iconst dX0_feed_36 ?_
    refine e_iload dX0_feed_37 rfl ?_
    refine e_iast 4 dX0_feed_39 (e_push_at _ _) (by show 350 ≤ h0.2; omega) rfl rfl (by decide) (by decide) ?_
    rw [e_push_set, x_push (by omega)]
    refine e_astore6 dX0_feed_40 rfl ?_
    refine e_iconst dX0_feed_42 ?_
    refine e_istore7 dX0_feed_43 rfl ?_
    have hex : e_ext h0 (e_push h0 (50, 5, updV (updV (updV (updV (updV (fun _ => .int 0) 0 (e_i a)) 1 (e_i b)) 2 (e_i c)) 3 (e_i d)) 4 (e_i e))) := e_ext_push _ _
    refine e_for (n := 20) (F := fun i => ∀ χ2 : t_S, (∀ j, j ≠ 3 → χ2 j = χ j) → (∀ j : Int, 0 ≤ j → j < 900 → χ2 3 j = t_it t_fdf i.toNat (s_fd0 σ a b c d e) 4 j) → e_E mX0_feed 45 [.ref 350, e_i a, e_i b, e_i c, e_i d, e_i e, .ref h0.2, e_i i] [] (x_H χ2 (e_push h0 (50, 5, updV (updV (updV (updV (updV (fun _ => .int 0) 0 (e_i a)) 1 (e_i b)) 2 (e_i c)) 3 (e_i d)) 4 (e_i e)))) 0 0 0 (x_PT (v_feed σ) (s_feed σ a b c d e) χ h0)) (by omega) (fun χ2 q3 p3 => ?_) (fun i hi0 hi1 hF χ2 q3 p3 => ?_) χ (fun _ _ => rfl) (fun j j0 j1 => (t3 j j0 j1).trans (congrFun (s_fd0_k (by decide)) j).symm)
    · have e5 : t_it t_fdf 20 (s_fd0 σ a b c d e) 5 = σ 5 := (t_it_k (f := t_fdf) (fun _ _ => s_up_f (by decide)) _ _).trans (s_fd0_k (by decide))
      refine e_iload dX0_feed_45 rfl ?_
      refine e_bipush dX0_feed_47 rfl ?_
      refine e_icmp_ge (tgt := 89) dX0_feed_49 rfl ⟨by omega, by omega⟩ ⟨by omega, by omega⟩ (fun c2 => ?_) (fun q => by exfalso; omega)
      refine e_aload_n dX0_feed_89 rfl ?_
      refine e_dup dX0_feed_90 rfl ?_
      refine e_getV (e_i _) dX0_feed_91 fl_X0_86 (x_o0 _ _) rfl ?_
      rw [q3 4 (by decide), t4]
      refine e_bipush dX0_feed_94 rfl ?_
      refine e_iadd dX0_feed_96 ?_
      refine x_put_4 dX0_feed_97 fl_X0_86 ?_
      refine e_aload_n dX0_feed_100 rfl ?_
      refine e_getV (e_i _) dX0_feed_101 fl_X0_86 (x_o0 _ _) rfl ?_
      rw [s_up_eq]
      refine e_ireturn dX0_feed_104 rfl rfl ?_
      have hv : v_feed σ = σ 5 0 + 20 := if_neg (by omega)
      have hs : s_feed σ a b c d e = s_fd σ a b c d e := if_neg (by omega)
      rw [hv, hs]
      have e50 := congrFun e5 0
      refine ⟨rfl, _, _, fun j j3 j4 => (s_up_f j4).trans (q3 j j3), hex, ⟨fun j j0 j1 => ?_, ?_, ?_⟩, rfl⟩
      · show s_up χ2 4 0 _ 3 j = s_up (s_fd1 σ a b c d e) 5 0 _ 4 j
        rw [s_up_f (by decide), s_up_f (by decide)]
        exact p3 j j0 j1
      · show s_up χ2 4 0 _ 4 0 = s_up (s_fd1 σ a b c d e) 5 0 (s_fd1 σ a b c d e 5 0 + 20) 5 0
        rw [s_up_eq, s_up_eq]
        show _ = t_it t_fdf 20 (s_fd0 σ a b c d e) 5 0 + 20
        rw [e50]
      · show 0 ≤ s_up (s_fd1 σ a b c d e) 5 0 (s_fd1 σ a b c d e 5 0 + 20) 5 0 ∧ s_up (s_fd1 σ a b c d e) 5 0 (s_fd1 σ a b c d e 5 0 + 20) 5 0 ≤ 900
        rw [s_up_eq]
        show 0 ≤ t_it t_fdf 20 (s_fd0 σ a b c d e) 5 0 + 20 ∧ t_it t_fdf 20 (s_fd0 σ a b c d e) 5 0 + 20 ≤ 900
        rw [e50]
        omega
    · rw [t_it_s _ _ hi0] at hF
      have k5 : t_it t_fdf i.toNat (s_fd0 σ a b c d e) 5 = σ 5 := (t_it_k (f := t_fdf) (fun _ _ => s_up_f (by decide)) _ _).trans (s_fd0_k (by decide))
      have k6 : t_it t_fdf i.toNat (s_fd0 σ a b c d e) 6 = s_fd0 σ a b c d e 6 := t_it_k (f := t_fdf) (fun _ _ => s_up_f (by decide)) _ _
      generalize t_it t_fdf i.toNat (s_fd0 σ a b c d e) = τ at hF p3 k5 k6
      have t6e : τ 6 (i / 4) = s_fd0 σ a b c d e 6 (i / 4) := congrFun k6 _
      have t6 : e_rg (τ 6 (i / 4)) := by rw [t6e]; exact s_fd0_rg ha hb hc hd he _ (by omega) (by omega)
      have t50 : τ 5 0 = σ 5 0 := congrFun k5 0
      have ho6 : (x_H χ2 (e_push h0 (50, 5, updV (updV (updV (updV (updV (fun _ => .int 0) 0 (e_i a)) 1 (e_i b)) 2 (e_i c)) 3 (e_i d)) 4 (e_i e)))).1 h0.2 = (50, 5, updV (updV (updV (updV (updV (fun _ => .int 0) 0 (e_i a)) 1 (e_i b)) 2 (e_i c)) 3 (e_i d)) 4 (e_i e)) := by rw [x_H_fr (Or.inr (Or.inr (by omega))), e_push_at]
      refine e_iload dX0_feed_45 rfl ?_
      refine e_bipush dX0_feed_47 rfl ?_
      refine e_icmp_ge (tgt := 89) dX0_feed_49 rfl ⟨by omega, by omega⟩ ⟨by omega, by omega⟩ (fun q => by exfalso; omega) (fun c3 => ?_)
      refine e_aload_n dX0_feed_52 rfl ?_
      refine e_getV (.ref (x_ai 3)) dX0_feed_53 fl_X0_55 (x_o0 _ _) rfl ?_
      refine e_aload_n dX0_feed_56 rfl ?_
      refine e_getV (e_i _) dX0_feed_57 fl_X0_86 (x_o0 _ _) rfl ?_
      rw [q3 4 (by decide), t4]
      refine e_iload dX0_feed_60 rfl ?_
      refine e_iadd dX0_feed_62 ?_
      refine e_aload dX0_feed_63 rfl ?_
      refine e_iload dX0_feed_65 rfl ?_
      refine e_iconst dX0_feed_67 ?_
      refine e_idiv dX0_feed_68 ⟨by omega, by omega⟩ ⟨by omega, by omega⟩ ?_
      refine e_iald (i / 4).toNat dX0_feed_69 ho6 (Or.inl rfl) (Int.toNat_of_nonneg (by omega)).symm (by omega) (by omega) ?_
      rw [x_six (σ := σ) (i / 4) ⟨by omega, by omega⟩, ← t6e]
      refine e_bipush dX0_feed_70 rfl ?_
      refine e_bipush dX0_feed_72 rfl ?_
      refine e_iload dX0_feed_74 rfl ?_
      refine e_iconst dX0_feed_76 ?_
      refine e_irem dX0_feed_77 ⟨by omega, by omega⟩ ⟨by omega, by omega⟩ ?_
      refine e_imul dX0_feed_78 ?_
      refine e_isub dX0_feed_79 ?_
      refine e_ishr dX0_feed_80 (e_shr_law t6 ⟨by omega, by omega⟩) ?_
      refine e_i2b dX0_feed_81 (t_i8_law _) ?_
      refine x_bst 900 dX0_feed_82 rfl (by decide) rfl (t_i8_self (t_i8_rg _)) rfl ⟨by omega, by omega⟩ ?_
      refine e_iinc7 dX0_feed_83 rfl ?_
      refine e_goto (tgt := 45) dX0_feed_86 rfl ?_
      refine hF _ (fun j hj => (s_up_f hj).trans (q3 j hj)) (fun j j0 j1 => ?_)
      show s_up χ2 3 (σ 5 0 + i) _ 3 j = s_up τ 4 (τ 5 0 + i) (t_i8 (τ 6 (i / 4) / 2 ^ (24 - 8 * (i % 4)).toNat)) 4 j
      rw [t50]
      by_cases q : j = σ 5 0 + i
      · rw [q, s_up_eq, s_up_eq]
      · rw [s_up_j q, s_up_j q]
        exact p3 j j0 j1
  · refine e_iconst dX0_feed_13 ?_
    refine e_ireturn dX0_feed_14 rfl rfl ?_
    have hv : v_feed σ = -1 := if_pos (by omega)
    have hs : s_feed σ a b c d e = σ := if_pos (by omega)
    rw [hv, hs]
    exact ⟨rfl, χ, h0, fun _ _ _ => rfl, e_ext_rf _, ⟨t3, t4, t5⟩, rfl⟩
theorem C_X0_count {σ χ : t_S} {h0 : e_A} {α : Nat → Nat} (A : x_at χ h0 (σ 1) α) (hz : t_sz σ) (S : x_sl χ h0 σ) (h4 : χ 4 0 = σ 5 0) {k : Int} (hk : e_rg k) : e_C mX0_count [.ref 350, e_i k] (x_H χ h0) 0 0 2 (e_ret (e_i (v_count σ k)) (x_H χ h0)) := by
  obtain ⟨mc1, hl1⟩ := x_a1 A
  obtain ⟨mc3, hl3⟩ := x_a3 A
  obtain ⟨mc7, hl7⟩ := x_a7 A
  have kk1 := hk.1
  have kk2 := hk.2
  refine e_enter (al0 := [.ref 350, e_i k, .retAddr 0, .retAddr 0, .retAddr 0, .retAddr 0, .retAddr 0]) (by decide +kernel) rfl (Nat.le_of_ble_eq_true rfl) ?_
  refine e_iload_n dX0_count_0 rfl ?_
  by_cases w1 : k = 0
  · subst w1
    refine e_tsw (off := 63) (tgt := 64) dX0_count_1 (by decide) (by decide) rfl rfl ?_
    refine e_aload_n dX0_count_64 rfl ?_
    refine e_getV (.ref (α 0)) dX0_count_65 fl_X0_47 (x_o0 _ _) (x_now A) ?_
    refine e_getV (e_i _) dX0_count_68 fl_X0_142 (x_aC A) rfl ?_
    refine e_ireturn dX0_count_71 rfl rfl ?_
    exact ⟨rfl, rfl⟩
  by_cases w2 : k = 1
  · subst w2
    refine e_tsw (off := 71) (tgt := 72) dX0_count_1 (by decide) (by decide) rfl rfl ?_
    refine e_aload_n dX0_count_72 rfl ?_
    refine e_getV (.ref (α 0)) dX0_count_73 fl_X0_47 (x_o0 _ _) (x_now A) ?_
    refine e_getV (e_i _) dX0_count_76 fl_X0_483 (x_aC A) rfl ?_
    refine e_ireturn dX0_count_79 rfl rfl ?_
    exact ⟨rfl, rfl⟩
  by_cases w3 : k = 2
  · subst w3
    refine e_tsw (off := 79) (tgt := 80) dX0_count_1 (by decide) (by decide) rfl rfl ?_
    refine e_aload_n dX0_count_80 rfl ?_
    refine e_getV (.ref (α 0)) dX0_count_81 fl_X0_47 (x_o0 _ _) (x_now A) ?_
    refine e_getV (e_i _) dX0_count_84 fl_X0_437 (x_aC A) rfl ?_
    refine e_ireturn dX0_count_87 rfl rfl ?_
    exact ⟨rfl, rfl⟩
  by_cases w4 : k = 3
  · subst w4
    refine e_tsw (off := 87) (tgt := 88) dX0_count_1 (by decide) (by decide) rfl rfl ?_
    refine e_aload_n dX0_count_88 rfl ?_
    refine e_getV (.ref (α 0)) dX0_count_89 fl_X0_47 (x_o0 _ _) (x_now A) ?_
    refine e_getV (e_i _) dX0_count_92 fl_X0_147 (x_aC A) rfl ?_
    refine e_ireturn dX0_count_95 rfl rfl ?_
    exact ⟨rfl, rfl⟩
  by_cases w5 : k = 4
  · subst w5
    refine e_tsw (off := 95) (tgt := 96) dX0_count_1 (by decide) (by decide) rfl rfl ?_
    refine e_aload_n dX0_count_96 rfl ?_
    refine e_getV (.ref (α 0)) dX0_count_97 fl_X0_47 (x_o0 _ _) (x_now A) ?_
    refine e_getV (e_i _) dX0_count_100 fl_X0_150 (x_aC A) rfl ?_
    refine e_ireturn dX0_count_103 rfl rfl ?_
    exact ⟨rfl, rfl⟩
  by_cases w6 : k = 5
  · subst w6
    refine e_tsw (off := 103) (tgt := 104) dX0_count_1 (by decide) (by decide) rfl rfl ?_
    refine e_aload_n dX0_count_104 rfl ?_
    refine e_getV (.ref (α 0)) dX0_count_105 fl_X0_47 (x_o0 _ _) (x_now A) ?_
    refine e_getV (.ref (α 1)) dX0_count_108 fl_X0_155 (x_aC A) rfl ?_
    refine e_callF0rz (ci := 11) dX0_count_111 md_J2_size if_X0_120 rfl hl1.1 (by decide) rfl (Nat.le_of_ble_eq_true rfl) (C_J2_size hl1) ?_
    refine e_ireturn dX0_count_116 rfl rfl ?_
    exact ⟨rfl, rfl⟩
  by_cases w7 : k = 6
  · subst w7
    refine e_tsw (off := 116) (tgt := 117) dX0_count_1 (by decide) (by decide) rfl rfl ?_
    refine e_aload_n dX0_count_117 rfl ?_
    refine e_getV (.ref (α 0)) dX0_count_118 fl_X0_47 (x_o0 _ _) (x_now A) ?_
    refine e_getV (.ref (α 3)) dX0_count_121 fl_X0_135 (x_aC A) rfl ?_
    refine e_callF0rz (ci := 11) dX0_count_124 md_J2_size if_X0_120 rfl hl3.1 (by decide) rfl (Nat.le_of_ble_eq_true rfl) (C_J2_size hl3) ?_
    refine e_ireturn dX0_count_129 rfl rfl ?_
    exact ⟨rfl, rfl⟩
  by_cases w8 : k = 7
  · subst w8
    refine e_tsw (off := 129) (tgt := 130) dX0_count_1 (by decide) (by decide) rfl rfl ?_
    refine e_aload_n dX0_count_130 rfl ?_
    refine e_callV0rz (ci := 0) dX0_count_131 md_X0_many lk_X0_126 rfl q1121 qs23 (x_o0 _ _) (by decide) rfl (Nat.le_of_ble_eq_true rfl) (C_X0_many A hz) ?_
    refine e_ireturn dX0_count_134 rfl rfl ?_
    exact ⟨rfl, rfl⟩
  by_cases w9 : k = 8
  · subst w9
    refine e_tsw (off := 134) (tgt := 135) dX0_count_1 (by decide) (by decide) rfl rfl ?_
    refine e_aload_n dX0_count_135 rfl ?_
    refine e_getV (.ref (α 0)) dX0_count_136 fl_X0_47 (x_o0 _ _) (x_now A) ?_
    refine e_getV (.ref (α 7)) dX0_count_139 fl_X0_174 (x_aC A) rfl ?_
    refine e_callF0rz (ci := 11) dX0_count_142 md_J2_size if_X0_120 rfl hl7.1 (by decide) rfl (Nat.le_of_ble_eq_true rfl) (C_J2_size hl7) ?_
    refine e_ireturn dX0_count_147 rfl rfl ?_
    exact ⟨rfl, rfl⟩
  by_cases w10 : k = 9
  · subst w10
    refine e_tsw (off := 147) (tgt := 148) dX0_count_1 (by decide) (by decide) rfl rfl ?_
    refine e_aload_n dX0_count_148 rfl ?_
    refine e_getV (.ref (α 0)) dX0_count_149 fl_X0_47 (x_o0 _ _) (x_now A) ?_
    refine e_getV (e_i _) dX0_count_152 fl_X0_105 (x_aC A) rfl ?_
    refine e_ireturn dX0_count_155 rfl rfl ?_
    exact ⟨rfl, rfl⟩
  by_cases w11 : k = 10
  · subst w11
    refine e_tsw (off := 155) (tgt := 156) dX0_count_1 (by decide) (by decide) rfl rfl ?_
    refine e_aload_n dX0_count_156 rfl ?_
    refine e_getV (e_i _) dX0_count_157 fl_X0_86 (x_o0 _ _) rfl ?_
    rw [h4]
    refine e_ireturn dX0_count_160 rfl rfl ?_
    exact ⟨rfl, rfl⟩
  by_cases w12 : k = 11
  · subst w12
    refine e_tsw (off := 160) (tgt := 161) dX0_count_1 (by decide) (by decide) rfl rfl ?_
    refine e_iconst dX0_count_161 ?_
    refine e_istore_n2 dX0_count_162 rfl ?_
    refine e_aload_n dX0_count_163 rfl ?_
    refine e_getV (.ref 351) dX0_count_164 fl_X0_19 (x_o0 _ _) rfl ?_
    refine e_astore_n3 dX0_count_167 rfl ?_
    refine e_aload_n dX0_count_168 rfl ?_
    refine e_alen dX0_count_169 (x_oS _ _) (by decide) ?_
    refine e_istore4 dX0_count_170 rfl ?_
    refine e_iconst dX0_count_172 ?_
    refine e_istore5 dX0_count_173 rfl ?_
    rw [show (Value.int (Int32.ofInt 0)) = e_i (t_sum (t_cng σ) (0 : Int).toNat) from rfl]
    refine e_for (n := 4) (fun i => e_E mX0_count 175 [.ref 350, e_i 11, e_i (t_sum (t_cng σ) i.toNat), .ref 351, e_i 4, e_i i, .retAddr 0] [] (x_H χ h0) _ _ _ _) (by omega) ?_ (fun i hi0 hi1 hF => ?_)
    · refine e_iload dX0_count_175 rfl ?_
      refine e_iload dX0_count_177 rfl ?_
      refine e_icmp_ge (tgt := 210) dX0_count_179 rfl ⟨by omega, by omega⟩ ⟨by omega, by omega⟩ (fun c13 => ?_) (fun q => by exfalso; omega)
      refine e_iload_n dX0_count_210 rfl ?_
      refine e_ireturn dX0_count_211 rfl rfl ?_
      exact ⟨rfl, rfl⟩
    · rw [t_sum_s _ hi0] at hF
      refine e_iload dX0_count_175 rfl ?_
      refine e_iload dX0_count_177 rfl ?_
      refine e_icmp_ge (tgt := 210) dX0_count_179 rfl ⟨by omega, by omega⟩ ⟨by omega, by omega⟩ (fun q => by exfalso; omega) (fun c14 => ?_)
      rcases S.1 i hi0 hi1 with ⟨q1, q2⟩ | ⟨b, q1, q2⟩
      · refine e_aload_n dX0_count_182 rfl ?_
        refine e_iload dX0_count_183 rfl ?_
        refine e_aald i.toNat dX0_count_185 (x_oS _ _) (Or.inl (by omega)) (Int.toNat_of_nonneg hi0).symm (by omega) (by omega) ?_
        refine e_astore6 dX0_count_186 rfl ?_
        refine e_iload_n dX0_count_188 rfl ?_
        refine e_aload dX0_count_189 rfl ?_
        refine x_getH .null dX0_count_191 fl_X0_357 ⟨hi0, hi1⟩ (by rw [q2]; rfl) ?_
        refine e_ifnonnullN dX0_count_194 ?_
        refine e_iconst dX0_count_197 ?_
        refine e_goto (tgt := 202) dX0_count_198 rfl ?_
        refine e_iadd dX0_count_202 ?_
        refine e_istore_n2 dX0_count_203 rfl ?_
        refine e_iinc5 dX0_count_204 rfl ?_
        refine e_goto (tgt := 175) dX0_count_207 rfl ?_
        first
          | (rw [show t_cng σ i = 0 from if_pos q1] at hF; exact e_fgt 6 hF)
          | (rw [show t_cng σ i = 1 from if_neg (by omega)] at hF; exact e_fgt 6 hF)
      · refine e_aload_n dX0_count_182 rfl ?_
        refine e_iload dX0_count_183 rfl ?_
        refine e_aald i.toNat dX0_count_185 (x_oS _ _) (Or.inl (by omega)) (Int.toNat_of_nonneg hi0).symm (by omega) (by omega) ?_
        refine e_astore6 dX0_count_186 rfl ?_
        refine e_iload_n dX0_count_188 rfl ?_
        refine e_aload dX0_count_189 rfl ?_
        refine x_getH (.ref b) dX0_count_191 fl_X0_357 ⟨hi0, hi1⟩ (x_v35 q1) ?_
        refine e_ifnonnull (tgt := 201) dX0_count_194 rfl (by rw [x_H_fr (Or.inr (Or.inr (by have := q2.2.2.1; omega)))]; obtain ⟨f, f1, -⟩ := q2.2.2.2; rw [f1]; show x_hk _ < 80; have := x_hk_rg (σ 43 i); omega) ?_
        refine e_iconst dX0_count_201 ?_
        refine e_iadd dX0_count_202 ?_
        refine e_istore_n2 dX0_count_203 rfl ?_
        refine e_iinc5 dX0_count_204 rfl ?_
        refine e_goto (tgt := 175) dX0_count_207 rfl ?_
        first
          | (rw [show t_cng σ i = 0 from if_pos q1] at hF; exact e_fgt 6 hF)
          | (rw [show t_cng σ i = 1 from if_neg (by have := q2.2.1; omega)] at hF; exact e_fgt 6 hF)
  refine e_tswD (tgt := 212) dX0_count_1 ⟨by omega, by omega⟩ (by omega) rfl ?_
  refine e_iconst dX0_count_212 ?_
  refine e_ireturn dX0_count_213 rfl rfl ?_
  refine e_rv ?_ rfl
  unfold v_count
  rw [if_neg (by omega), if_neg (by omega), if_neg (by omega)]
