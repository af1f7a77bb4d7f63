/-! TEXTS; THE TWIN READS (printed by tw16.py) -/
set_option maxRecDepth 100000
theorem C_J4_coder {h : e_A} (ho : e_old h) {p : Nat} (hp : p < 34) : e_C mJ4_coder [.ref (270 + p)] (h) 0 0 0 (e_ret (e_i 0) (h)) := by
  refine e_enterF (al0 := [.ref (270 + p)]) (by decide +kernel) rfl rfl (Nat.le_of_ble_eq_true rfl) ?_
  refine e_getstatic (i := 2) dJ4_coder_0 rfl q732 ?_
  refine e_top (e_i 1) rfl ?_
  refine e_if_eq (tgt := 13) dJ4_coder_3 rfl ⟨by omega, by omega⟩ (fun q => by exfalso; omega) (fun c1 => ?_)
  refine e_aload_n dJ4_coder_6 rfl ?_
  refine e_getfield dJ4_coder_7 fl_J4_15 (ho.1 p hp).1 ?_
  refine e_top (e_i 0) rfl ?_
  refine e_goto (tgt := 14) dJ4_coder_10 rfl ?_
  refine e_ireturn dJ4_coder_14 rfl rfl ?_
  exact ⟨rfl, rfl⟩
theorem C_J4_isLatin1 {h : e_A} (ho : e_old h) {p : Nat} (hp : p < 34) : e_C mJ4_isLatin1 [.ref (270 + p)] (h) 0 0 0 (e_ret (e_i 1) (h)) := by
  refine e_enterF (al0 := [.ref (270 + p)]) (by decide +kernel) rfl rfl (Nat.le_of_ble_eq_true rfl) ?_
  refine e_getstatic (i := 2) dJ4_isLatin1_0 rfl q732 ?_
  refine e_top (e_i 1) rfl ?_
  refine e_if_eq (tgt := 17) dJ4_isLatin1_3 rfl ⟨by omega, by omega⟩ (fun q => by exfalso; omega) (fun c1 => ?_)
  refine e_aload_n dJ4_isLatin1_6 rfl ?_
  refine e_getfield dJ4_isLatin1_7 fl_J4_15 (ho.1 p hp).1 ?_
  refine e_top (e_i 0) rfl ?_
  refine e_if_ne (tgt := 17) dJ4_isLatin1_10 rfl ⟨by omega, by omega⟩ (fun q => by exfalso; omega) (fun c2 => ?_)
  refine e_iconst dJ4_isLatin1_13 ?_
  refine e_goto (tgt := 18) dJ4_isLatin1_14 rfl ?_
  refine e_ireturn dJ4_isLatin1_18 rfl rfl ?_
  exact ⟨rfl, rfl⟩
theorem C_J4_length {h : e_A} (ho : e_old h) {p : Nat} (hp : p < 34) : e_C mJ4_length [.ref (270 + p)] (h) 0 0 1 (e_ret (e_i (e_tn p)) (h)) := by
  obtain ⟨htn, htc⟩ := e_tx_rg hp
  refine e_enterF (al0 := [.ref (270 + p)]) (by decide +kernel) rfl rfl (Nat.le_of_ble_eq_true rfl) ?_
  refine e_aload_n dJ4_length_0 rfl ?_
  refine e_getfield dJ4_length_1 fl_J4_9 (ho.1 p hp).1 ?_
  refine e_top (.ref (310 + p)) rfl ?_
  refine e_alen dJ4_length_4 (ho.1 p hp).2 ⟨by decide, by decide⟩ ?_
  refine e_aload_n dJ4_length_5 rfl ?_
  refine e_callV0rz (ci := 14) dJ4_length_6 md_J4_coder lk_J4_335 rfl q729 q730 (ho.1 p hp).1 (by decide) rfl (Nat.le_of_ble_eq_true rfl) (C_J4_coder ho hp) ?_
  refine e_ishr dJ4_length_9 (show Int32.ofInt (e_tn p) >>> (Int32.ofInt 0 &&& 31) = Int32.ofInt (e_tn p) from by have h9 := e_shr_law (a := e_tn p) (k := 0) ⟨by omega, by omega⟩ ⟨by decide, by decide⟩; rw [h9]; congr 1; show e_tn p / 1 = e_tn p; omega) ?_
  refine e_ireturn dJ4_length_10 rfl rfl ?_
  exact ⟨rfl, rfl⟩
theorem C_J6_checkIndex {h : e_A} {k n : Int} {i : Nat} (hk : 0 ≤ k ∧ k < n) (hn : n < 2147483648) : e_C mJ6_checkIndex [e_i k, e_i n, .ref i] (h) 0 0 0 (e_ret (e_i k) (h)) := by
  refine e_enter (al0 := [e_i k, e_i n, .ref i]) (by decide +kernel) rfl (Nat.le_of_ble_eq_true rfl) ?_
  refine e_iload_n dJ6_checkIndex_0 rfl ?_
  refine e_if_lt (tgt := 9) dJ6_checkIndex_1 rfl ⟨by omega, by omega⟩ (fun q => by exfalso; omega) (fun c1 => ?_)
  refine e_iload_n dJ6_checkIndex_4 rfl ?_
  refine e_iload_n dJ6_checkIndex_5 rfl ?_
  refine e_icmp_lt (tgt := 16) dJ6_checkIndex_6 rfl ⟨by omega, by omega⟩ ⟨by omega, by omega⟩ (fun c2 => ?_) (fun q => by exfalso; omega)
  refine e_iload_n dJ6_checkIndex_16 rfl ?_
  refine e_ireturn dJ6_checkIndex_17 rfl rfl ?_
  exact ⟨rfl, rfl⟩
theorem C_J6_checkIndexN {h : e_A} {k n : Int} (hk : 0 ≤ k ∧ k < n) (hn : n < 2147483648) : e_C mJ6_checkIndex [e_i k, e_i n, .null] (h) 0 0 0 (e_ret (e_i k) (h)) := by
  refine e_enter (al0 := [e_i k, e_i n, .null]) (by decide +kernel) rfl (Nat.le_of_ble_eq_true rfl) ?_
  refine e_iload_n dJ6_checkIndex_0 rfl ?_
  refine e_if_lt (tgt := 9) dJ6_checkIndex_1 rfl ⟨by omega, by omega⟩ (fun q => by exfalso; omega) (fun c1 => ?_)
  refine e_iload_n dJ6_checkIndex_4 rfl ?_
  refine e_iload_n dJ6_checkIndex_5 rfl ?_
  refine e_icmp_lt (tgt := 16) dJ6_checkIndex_6 rfl ⟨by omega, by omega⟩ ⟨by omega, by omega⟩ (fun c2 => ?_) (fun q => by exfalso; omega)
  refine e_iload_n dJ6_checkIndex_16 rfl ?_
  refine e_ireturn dJ6_checkIndex_17 rfl rfl ?_
  exact ⟨rfl, rfl⟩
theorem C_J4_checkIndex {h : e_A} {k n : Int} (hk : 0 ≤ k ∧ k < n) (hn : n < 2147483648) : e_C mJ4_checkIndex [e_i k, e_i n] (h) 0 0 1 (e_rev (h)) := by
  refine e_enterF (al0 := [e_i k, e_i n]) (by decide +kernel) rfl rfl (Nat.le_of_ble_eq_true rfl) ?_
  refine e_iload_n dJ4_checkIndex_0 rfl ?_
  refine e_iload_n dJ4_checkIndex_1 rfl ?_
  refine e_getstatic (i := 5) dJ4_checkIndex_2 rfl q748 ?_
  refine e_callS3rz dJ4_checkIndex_5 md_J6_checkIndex lk_J4_1059 rfl q751 rfl (Nat.le_of_ble_eq_true rfl) (C_J6_checkIndex ⟨by omega, by omega⟩ (by omega)) ?_
  refine e_pop dJ4_checkIndex_8 rfl ?_
  refine e_return dJ4_checkIndex_9 rfl ?_
  exact ⟨rfl, rfl⟩
theorem C_J16_checkIndex {h : e_A} {k n : Int} (hk : 0 ≤ k ∧ k < n) (hn : n < 2147483648) : e_C mJ16_checkIndex [e_i k, e_i n] (h) 0 0 1 (e_ret (e_i k) (h)) := by
  refine e_enter (al0 := [e_i k, e_i n]) (by decide +kernel) rfl (Nat.le_of_ble_eq_true rfl) ?_
  refine e_iload_n dJ16_checkIndex_0 rfl ?_
  refine e_iload_n dJ16_checkIndex_1 rfl ?_
  refine e_null dJ16_checkIndex_2 ?_
  refine e_callS3rz dJ16_checkIndex_3 md_J6_checkIndex lk_J16_105 rfl q751 rfl (Nat.le_of_ble_eq_true rfl) (C_J6_checkIndexN ⟨by omega, by omega⟩ (by omega)) ?_
  refine e_ireturn dJ16_checkIndex_6 rfl rfl ?_
  exact ⟨rfl, rfl⟩
theorem C_J5_charAt {h : e_A} (ho : e_old h) {p : Nat} (hp : p < 34) {k : Int} (hk : 0 ≤ k ∧ k < e_tn p) : e_C mJ5_charAt [.ref (310 + p), e_i k] (h) 0 0 2 (e_ret (e_i (e_tc p k)) (h)) := by
  obtain ⟨htn, htc⟩ := e_tx_rg hp
  have hc := htc k hk.1 hk.2
  refine e_enter (al0 := [.ref (310 + p), e_i k]) (by decide +kernel) rfl (Nat.le_of_ble_eq_true rfl) ?_
  refine e_iload_n dJ5_charAt_0 rfl ?_
  refine e_aload_n dJ5_charAt_1 rfl ?_
  refine e_alen dJ5_charAt_2 (ho.1 p hp).2 ⟨by decide, by decide⟩ ?_
  refine e_callS2vz dJ5_charAt_3 md_J4_checkIndex lk_J5_9 rfl q746 rfl (Nat.le_of_ble_eq_true rfl) (C_J4_checkIndex hk (show ((e_tx p).length : Int) < 2147483648 from by have h9 : ((e_tx p).length : Int) ≤ 6 := htn.2; omega)) ?_
  refine e_aload_n dJ5_charAt_6 rfl ?_
  refine e_iload_n dJ5_charAt_7 rfl ?_
  refine e_bald k.toNat dJ5_charAt_8 (ho.1 p hp).2 (Or.inr rfl) (Int.toNat_of_nonneg hk.1).symm (show k.toNat < (e_tx p).length from by have h9 : k < ((e_tx p).length : Int) := hk.2; omega) (by omega) ?_
  refine e_top (e_i (e_tc p k)) rfl ?_
  refine e_sipush dJ5_charAt_9 rfl ?_
  refine e_iand dJ5_charAt_12 (show Int32.ofInt (e_tc p k) &&& Int32.ofInt 255 = Int32.ofInt (e_tc p k) from by rw [e_and255_law]; congr 1; omega) ?_
  refine e_i2c dJ5_charAt_13 (e_i2c_law ⟨by omega, by omega⟩) ?_
  refine e_ireturn dJ5_charAt_14 rfl (e_nC ⟨by omega, by omega⟩) ?_
  exact ⟨rfl, rfl⟩
theorem C_J4_charAt {h : e_A} (ho : e_old h) {p : Nat} (hp : p < 34) {k : Int} (hk : 0 ≤ k ∧ k < e_tn p) : e_C mJ4_charAt [.ref (270 + p), e_i k] (h) 0 0 3 (e_ret (e_i (e_tc p k)) (h)) := by
  obtain ⟨htn, htc⟩ := e_tx_rg hp
  have hc := htc k hk.1 hk.2
  refine e_enterF (al0 := [.ref (270 + p), e_i k]) (by decide +kernel) rfl rfl (Nat.le_of_ble_eq_true rfl) ?_
  refine e_aload_n dJ4_charAt_0 rfl ?_
  refine e_callV0rz (ci := 14) dJ4_charAt_1 md_J4_isLatin1 lk_J4_492 rfl q739 q740 (ho.1 p hp).1 (by decide) rfl (Nat.le_of_ble_eq_true rfl) (C_J4_isLatin1 ho hp) ?_
  refine e_if_eq (tgt := 16) dJ4_charAt_4 rfl ⟨by omega, by omega⟩ (fun q => by exfalso; omega) (fun c1 => ?_)
  refine e_aload_n dJ4_charAt_7 rfl ?_
  refine e_getfield dJ4_charAt_8 fl_J4_9 (ho.1 p hp).1 ?_
  refine e_top (.ref (310 + p)) rfl ?_
  refine e_iload_n dJ4_charAt_11 rfl ?_
  refine e_callS2rz dJ4_charAt_12 md_J5_charAt lk_J4_495 rfl q743 rfl (Nat.le_of_ble_eq_true rfl) (C_J5_charAt ho hp hk) ?_
  refine e_ireturn dJ4_charAt_15 rfl (e_nC ⟨by omega, by omega⟩) ?_
  exact ⟨rfl, rfl⟩
theorem C_J3_min {h : e_A} {a b : Int} (ha : e_rg a) (hb : e_rg b) : e_C mJ3_min [e_i a, e_i b] (h) 0 0 0 (e_ret (e_i (t_mn a b)) (h)) := by
  refine e_enterF (al0 := [e_i a, e_i b]) (by decide +kernel) rfl rfl (Nat.le_of_ble_eq_true rfl) ?_
  refine e_iload_n dJ3_min_0 rfl ?_
  refine e_iload_n dJ3_min_1 rfl ?_
  refine e_icmp_gt (tgt := 9) dJ3_min_2 rfl ⟨by omega, by omega⟩ ⟨by omega, by omega⟩ (fun c1 => ?_) (fun c1 => ?_)
  · refine e_iload_n dJ3_min_9 rfl ?_
    refine e_ireturn dJ3_min_10 rfl rfl ?_
    refine e_rv ?_ rfl
    unfold t_mn
    split <;> omega
  · refine e_iload_n dJ3_min_5 rfl ?_
    refine e_goto (tgt := 10) dJ3_min_6 rfl ?_
    refine e_ireturn dJ3_min_10 rfl rfl ?_
    refine e_rv ?_ rfl
    unfold t_mn
    split <;> omega
theorem C_X6_see {σ : t_S} {h0 : e_A} {k : Int} (hk : 0 ≤ k ∧ k ≤ 900) (hs : 0 ≤ σ 7 0 ∧ σ 7 0 ≤ 900) : e_C mX6_see [.ref 384, e_i k] (t_H σ h0) 0 0 0 (e_ret (e_i (t_chr σ k)) (t_H σ h0)) := by
  refine e_enter (al0 := [.ref 384, e_i k]) (by decide +kernel) rfl (Nat.le_of_ble_eq_true rfl) ?_
  refine e_iload_n dX6_see_0 rfl ?_
  refine e_aload_n dX6_see_1 rfl ?_
  refine t_geti (k := 7) dX6_see_2 fl_X6_126 rfl ?_
  refine e_icmp_ge (tgt := 21) dX6_see_5 rfl ⟨by omega, by omega⟩ ⟨by omega, by omega⟩ (fun c1 => ?_) (fun c1 => ?_)
  · refine e_iconst dX6_see_21 ?_
    refine e_ireturn dX6_see_22 rfl rfl ?_
    refine e_rv ?_ rfl
    unfold t_chr
    first | rw [if_pos (by omega)] | rw [if_neg (by omega)]
  · refine e_aload_n dX6_see_8 rfl ?_
    refine t_geta (k := 4) dX6_see_9 fl_X6_20 rfl ?_
    refine e_iload_n dX6_see_12 rfl ?_
    refine t_bld 900 dX6_see_13 rfl (by decide) (fun _ => rfl) rfl ⟨by omega, by omega⟩ ?_
    refine e_sipush dX6_see_14 rfl ?_
    refine e_iand dX6_see_17 (e_and255_law _) ?_
    refine e_goto (tgt := 22) dX6_see_18 rfl ?_
    refine e_ireturn dX6_see_22 rfl rfl ?_
    refine e_rv ?_ rfl
    unfold t_chr
    first | rw [if_pos (by omega)] | rw [if_neg (by omega)]
theorem C_X6_good {σ : t_S} {h0 : e_A} (h12 : 0 ≤ σ 12 0 ∧ σ 12 0 ≤ 3) : e_C mX6_good [.ref 384] (t_H σ h0) 0 0 0 (e_ret (e_i (if σ 12 0 = 0 then 1 else 0)) (t_H σ h0)) := by
  refine e_enter (al0 := [.ref 384]) (by decide +kernel) rfl (Nat.le_of_ble_eq_true rfl) ?_
  refine e_aload_n dX6_good_0 rfl ?_
  refine t_geti (k := 12) dX6_good_1 fl_X6_160 rfl ?_
  refine e_if_ne (tgt := 11) dX6_good_4 rfl ⟨by omega, by omega⟩ (fun c1 => ?_) (fun c1 => ?_)
  · refine e_iconst dX6_good_11 ?_
    refine e_ireturn dX6_good_12 rfl rfl ?_
    refine e_rv ?_ rfl
    (try split) <;> omega
  · refine e_iconst dX6_good_7 ?_
    refine e_goto (tgt := 12) dX6_good_8 rfl ?_
    refine e_ireturn dX6_good_12 rfl rfl ?_
    refine e_rv ?_ rfl
    (try split) <;> omega
theorem C_X6_errs {σ : t_S} {h0 : e_A} (h12 : 0 ≤ σ 12 0 ∧ σ 12 0 ≤ 3) {k : Int} (hk : 1 ≤ k ∧ k ≤ 3) : e_C mX6_errs [.ref 384, e_i k] (t_H σ h0) 0 0 1 (e_rev (t_H (t_er k σ) h0)) := by
  refine e_enter (al0 := [.ref 384, e_i k]) (by decide +kernel) rfl (Nat.le_of_ble_eq_true rfl) ?_
  refine e_aload_n dX6_errs_0 rfl ?_
  refine e_callV0rz (ci := 6) dX6_errs_1 md_X6_good lk_X6_163 rfl q1968 qs64 (t_obj _ _) (by decide) rfl (Nat.le_of_ble_eq_true rfl) (C_X6_good h12) ?_
  refine e_bif_ne (tgt := 8) dX6_errs_4 rfl (fun c1 => ?_) (fun c1 => ?_)
  · refine e_aload_n dX6_errs_8 rfl ?_
    refine e_iload_n dX6_errs_9 rfl ?_
    refine t_puti (k := 12) dX6_errs_10 fl_X6_160 rfl rfl ?_
    refine e_aload_n dX6_errs_13 rfl ?_
    refine e_aload_n dX6_errs_14 rfl ?_
    refine t_geti (k := 9) dX6_errs_15 fl_X6_136 rfl ?_
    refine t_puti (k := 13) dX6_errs_18 fl_X6_27 rfl rfl ?_
    refine e_return dX6_errs_21 rfl ?_
    refine ⟨rfl, ?_⟩
    unfold t_er
    rw [if_pos (by assumption)]
    rfl
  · refine e_return dX6_errs_7 rfl ?_
    refine ⟨rfl, ?_⟩
    unfold t_er
    rw [if_neg (by assumption)]
theorem P_adv_0 {σ : t_S} {h0 : e_A} {Q : e_R → e_A → Prop} (hs : 0 ≤ σ 7 0 ∧ σ 7 0 ≤ 900) : ∀ (f : Nat) (i : Int), (0 ≤ i ∧ i ≤ σ 7 0) → σ 7 0 - i < f → e_E mX6_advance 39 [.ref 384, .retAddr 0] [] (t_H (s_up σ 8 0 (t_to (σ 7 0) (t_gW σ) i)) h0) 0 0 3 Q → e_E mX6_advance 0 [.ref 384, .retAddr 0] [] (t_H (s_up σ 8 0 i) h0) 0 0 3 Q
  | 0, i, hi, hf, hX => by exfalso; omega
  | f + 1, i, hi, hf, hX => by
    refine e_aload_n dX6_advance_0 rfl ?_
    refine e_aload_n dX6_advance_1 rfl ?_
    refine t_geti (k := 8) dX6_advance_2 fl_X6_129 rfl ?_
    rw [s_up_eq]
    refine e_callV1rz (ci := 6) dX6_advance_5 md_X6_see lk_X6_132 rfl q1958 qs63 (t_obj _ _) (by decide) rfl (Nat.le_of_ble_eq_true rfl) (C_X6_see ⟨by omega, by omega⟩ (by rw [s_up_k (by decide)]; exact hs)) ?_
    rw [show t_chr (s_up σ 8 0 i) = t_chr σ from t_chr_of (s_up_f (by decide)) (s_up_f (by decide))]
    have hc := t_chr_rg σ i
    refine e_bipush dX6_advance_8 rfl ?_
    refine e_icmp_eq (tgt := 26) dX6_advance_10 rfl ⟨by omega, by omega⟩ ⟨by omega, by omega⟩ (fun c1 => ?_) (fun c1 => ?_)
    · refine e_aload_n dX6_advance_26 rfl ?_
      refine e_dup dX6_advance_27 rfl ?_
      refine t_geti (k := 8) dX6_advance_28 fl_X6_129 rfl ?_
      rw [s_up_eq]
      refine e_iconst dX6_advance_31 ?_
      refine e_iadd dX6_advance_32 ?_
      refine t_puti (k := 8) dX6_advance_33 fl_X6_129 rfl rfl ?_
      rw [s_up_up]
      refine e_goto (tgt := 0) dX6_advance_36 rfl ?_
      have hg : t_gW σ i = 1 := if_pos (by omega)
      have hlt := t_chr_in (σ := σ) (k := i) (by omega)
      rw [t_to_s hlt hg] at hX
      exact P_adv_0 hs f (i + 1) ⟨by omega, by omega⟩ (by omega) hX
    · refine e_aload_n dX6_advance_13 rfl ?_
      refine e_aload_n dX6_advance_14 rfl ?_
      refine t_geti (k := 8) dX6_advance_15 fl_X6_129 rfl ?_
      rw [s_up_eq]
      refine e_callV1rz (ci := 6) dX6_advance_18 md_X6_see lk_X6_132 rfl q1958 qs63 (t_obj _ _) (by decide) rfl (Nat.le_of_ble_eq_true rfl) (C_X6_see ⟨by omega, by omega⟩ (by rw [s_up_k (by decide)]; exact hs)) ?_
      rw [show t_chr (s_up σ 8 0 i) = t_chr σ from t_chr_of (s_up_f (by decide)) (s_up_f (by decide))]
      refine e_bipush dX6_advance_21 rfl ?_
      refine e_icmp_ne (tgt := 39) dX6_advance_23 rfl ⟨by omega, by omega⟩ ⟨by omega, by omega⟩ (fun c2 => ?_) (fun c2 => ?_)
      · rw [t_to_e (show t_gW σ i ≠ 1 from by unfold t_gW; rw [if_neg (by omega)]; decide)] at hX
        exact hX
      · refine e_aload_n dX6_advance_26 rfl ?_
        refine e_dup dX6_advance_27 rfl ?_
        refine t_geti (k := 8) dX6_advance_28 fl_X6_129 rfl ?_
        rw [s_up_eq]
        refine e_iconst dX6_advance_31 ?_
        refine e_iadd dX6_advance_32 ?_
        refine t_puti (k := 8) dX6_advance_33 fl_X6_129 rfl rfl ?_
        rw [s_up_up]
        refine e_goto (tgt := 0) dX6_advance_36 rfl ?_
        have hg : t_gW σ i = 1 := if_pos (by omega)
        have hlt := t_chr_in (σ := σ) (k := i) (by omega)
        rw [t_to_s hlt hg] at hX
        exact P_adv_0 hs f (i + 1) ⟨by omega, by omega⟩ (by omega) hX
theorem P_adv_83 {σ : t_S} {h0 : e_A} {c : Int} {Q : e_R → e_A → Prop} (hs : 0 ≤ σ 7 0 ∧ σ 7 0 ≤ 900) : ∀ (f : Nat) (i : Int), (0 ≤ i ∧ i ≤ σ 7 0) → σ 7 0 - i < f → e_E mX6_advance 117 [.ref 384, e_i c] [] (t_H (s_up σ 8 0 (t_to (σ 7 0) (t_gL σ) i)) h0) 0 0 3 Q → e_E mX6_advance 83 [.ref 384, e_i c] [] (t_H (s_up σ 8 0 i) h0) 0 0 3 Q
  | 0, i, hi, hf, hX => by exfalso; omega
  | f + 1, i, hi, hf, hX => by
    refine e_aload_n dX6_advance_83 rfl ?_
    refine e_aload_n dX6_advance_84 rfl ?_
    refine t_geti (k := 8) dX6_advance_85 fl_X6_129 rfl ?_
    rw [s_up_eq]
    refine e_callV1rz (ci := 6) dX6_advance_88 md_X6_see lk_X6_132 rfl q1958 qs63 (t_obj _ _) (by decide) rfl (Nat.le_of_ble_eq_true rfl) (C_X6_see ⟨by omega, by omega⟩ (by rw [s_up_k (by decide)]; exact hs)) ?_
    rw [show t_chr (s_up σ 8 0 i) = t_chr σ from t_chr_of (s_up_f (by decide)) (s_up_f (by decide))]
    have hc := t_chr_rg σ i
    refine e_i2l dX6_advance_91 ⟨by omega, by omega⟩ ?_
    refine e_ldc2 (z := 97) dX6_advance_92 q1960 rfl ?_
    refine e_ldc2 (z := 122) dX6_advance_95 q1961 rfl ?_
    refine e_callS3rz dX6_advance_98 md_X6_in lk_X6_106 rfl q1930 rfl (Nat.le_of_ble_eq_true rfl) (C_X6_in ⟨by omega, by omega⟩ ⟨by omega, by omega⟩ ⟨by omega, by omega⟩) ?_
    refine e_bif_eq (tgt := 117) dX6_advance_101 rfl (fun c1 => ?_) (fun c1 => ?_)
    · rw [t_to_e (show t_gL σ i ≠ 1 from by unfold t_gL; rw [if_neg (by assumption)]; decide)] at hX
      exact hX
    · refine e_aload_n dX6_advance_104 rfl ?_
      refine e_dup dX6_advance_105 rfl ?_
      refine t_geti (k := 8) dX6_advance_106 fl_X6_129 rfl ?_
      rw [s_up_eq]
      refine e_iconst dX6_advance_109 ?_
      refine e_iadd dX6_advance_110 ?_
      refine t_puti (k := 8) dX6_advance_111 fl_X6_129 rfl rfl ?_
      rw [s_up_up]
      refine e_goto (tgt := 83) dX6_advance_114 rfl ?_
      have hg : t_gL σ i = 1 := if_pos (by assumption)
      have hlt := t_chr_in (σ := σ) (k := i) (by omega)
      rw [t_to_s hlt hg] at hX
      exact P_adv_83 hs f (i + 1) ⟨by omega, by omega⟩ (by omega) hX
theorem P_adv_144 {σ : t_S} {h0 : e_A} {c : Int} {Q : e_R → e_A → Prop} (hs : 0 ≤ σ 7 0 ∧ σ 7 0 ≤ 900) : ∀ (f : Nat) (i v : Int), (0 ≤ i ∧ i ≤ σ 7 0) → (0 ≤ v ∧ v ≤ 99999) → σ 7 0 - i < f → e_E mX6_advance 206 [.ref 384, e_i c] [] (t_H (s_up (s_up σ 11 0 (t_vlo σ i v)) 8 0 (t_to (σ 7 0) (t_gD σ) i)) h0) 0 0 3 Q → e_E mX6_advance 144 [.ref 384, e_i c] [] (t_H (s_up (s_up σ 11 0 v) 8 0 i) h0) 0 0 3 Q
  | 0, i, v, hi, hv, hf, hX => by exfalso; omega
  | f + 1, i, v, hi, hv, hf, hX => by
    refine e_aload_n dX6_advance_144 rfl ?_
    refine e_aload_n dX6_advance_145 rfl ?_
    refine t_geti (k := 8) dX6_advance_146 fl_X6_129 rfl ?_
    rw [s_up_eq]
    refine e_callV1rz (ci := 6) dX6_advance_149 md_X6_see lk_X6_132 rfl q1958 qs63 (t_obj _ _) (by decide) rfl (Nat.le_of_ble_eq_true rfl) (C_X6_see ⟨by omega, by omega⟩ (by rw [s_up_k (by decide), s_up_k (by decide)]; exact hs)) ?_
    rw [show t_chr (s_up (s_up σ 11 0 v) 8 0 i) = t_chr σ from t_chr_of ((s_up_f (by decide)).trans (s_up_f (by decide))) ((s_up_f (by decide)).trans (s_up_f (by decide)))]
    have hc := t_chr_rg σ i
    refine e_i2l dX6_advance_152 ⟨by omega, by omega⟩ ?_
    refine e_ldc2 (z := 48) dX6_advance_153 q1962 rfl ?_
    refine e_ldc2 (z := 57) dX6_advance_156 q1963 rfl ?_
    refine e_callS3rz dX6_advance_159 md_X6_in lk_X6_106 rfl q1930 rfl (Nat.le_of_ble_eq_true rfl) (C_X6_in ⟨by omega, by omega⟩ ⟨by omega, by omega⟩ ⟨by omega, by omega⟩) ?_
    refine e_bif_eq (tgt := 206) dX6_advance_162 rfl (fun c1 => ?_) (fun c1 => ?_)
    · have hg : t_gD σ i ≠ 1 := by unfold t_gD; rw [if_neg (by assumption)]; decide
      rw [t_to_e hg, t_vlo_e hg] at hX
      exact hX
    · refine e_aload_n dX6_advance_165 rfl ?_
      refine e_ldc (z := 99999) dX6_advance_166 q1964 rfl ?_
      refine e_bipush dX6_advance_168 rfl ?_
      refine e_aload_n dX6_advance_170 rfl ?_
      refine t_geti (k := 11) dX6_advance_171 fl_X6_150 rfl ?_
      rw [s_up_k (by decide), s_up_eq]
      refine e_imul dX6_advance_174 ?_
      refine e_aload_n dX6_advance_175 rfl ?_
      refine e_aload_n dX6_advance_176 rfl ?_
      refine t_geti (k := 8) dX6_advance_177 fl_X6_129 rfl ?_
      rw [s_up_eq]
      refine e_callV1rz (ci := 6) dX6_advance_180 md_X6_see lk_X6_132 rfl q1958 qs63 (t_obj _ _) (by decide) rfl (Nat.le_of_ble_eq_true rfl) (C_X6_see ⟨by omega, by omega⟩ (by rw [s_up_k (by decide), s_up_k (by decide)]; exact hs)) ?_
      rw [show t_chr (s_up (s_up σ 11 0 v) 8 0 i) = t_chr σ from t_chr_of ((s_up_f (by decide)).trans (s_up_f (by decide))) ((s_up_f (by decide)).trans (s_up_f (by decide)))]
      refine e_iadd dX6_advance_183 ?_
      refine e_bipush dX6_advance_184 rfl ?_
      refine e_isub dX6_advance_186 ?_
      refine e_callS2rz dX6_advance_187 md_J3_min lk_X6_154 rfl q683 rfl (Nat.le_of_ble_eq_true rfl) (C_J3_min ⟨by omega, by omega⟩ ⟨by omega, by omega⟩) ?_
      refine t_puti (k := 11) dX6_advance_190 fl_X6_150 rfl rfl ?_
      refine e_aload_n dX6_advance_193 rfl ?_
      refine e_dup dX6_advance_194 rfl ?_
      refine t_geti (k := 8) dX6_advance_195 fl_X6_129 rfl ?_
      rw [s_up_k (by decide), s_up_eq]
      refine e_iconst dX6_advance_198 ?_
      refine e_iadd dX6_advance_199 ?_
      refine t_puti (k := 8) dX6_advance_200 fl_X6_129 rfl rfl ?_
      rw [t_adv_sw]
      refine e_goto (tgt := 144) dX6_advance_203 rfl ?_
      have hg : t_gD σ i = 1 := if_pos (by assumption)
      have hlt := t_chr_in (σ := σ) (k := i) (by omega)
      rw [t_to_s hlt hg, t_vlo_s hlt hg] at hX
      exact P_adv_144 hs f (i + 1) _ ⟨by omega, by omega⟩ (by unfold t_mn; split <;> omega) (by omega) hX
theorem t_vl_of {σ τ : t_S} (h : t_chr τ = t_chr σ) : ∀ (m : Nat) (i v : Int), t_vl τ m i v = t_vl σ m i v
  | 0, _, _ => rfl
  | m + 1, i, v => by
    have e : t_gD τ i = t_gD σ i := by unfold t_gD; rw [h]
    show (if t_gD τ i = 1 then t_vl τ m (i + 1) (t_mn 99999 (10 * v + t_chr τ i - 48)) else v) = (if t_gD σ i = 1 then t_vl σ m (i + 1) (t_mn 99999 (10 * v + t_chr σ i - 48)) else v)
    rw [e, h, t_vl_of h m]
theorem t_vlo_of {σ τ : t_S} (h : t_chr τ = t_chr σ) (h7 : τ 7 0 = σ 7 0) {i v : Int} : t_vlo τ i v = t_vlo σ i v := by
  unfold t_vlo
  rw [h7, t_vl_of h]
theorem C_X6_advance0 {σ : t_S} {h0 : e_A} (i1 : 0 ≤ σ 8 0 ∧ σ 8 0 ≤ σ 7 0 ∧ σ 7 0 ≤ 900) : e_C mX6_advance [.ref 384] (t_H σ h0) 0 0 3 (e_rev (t_H (t_adv σ) h0)) := by
  have hs : 0 ≤ σ 7 0 ∧ σ 7 0 ≤ 900 := ⟨by omega, by omega⟩
  refine e_enter (al0 := [.ref 384, .retAddr 0]) (by decide +kernel) rfl (Nat.le_of_ble_eq_true rfl) ?_
  rw [show t_H σ h0 = t_H (s_up σ 8 0 (σ 8 0)) h0 from by rw [s_up_self]]
  refine P_adv_0 hs 902 (σ 8 0) ⟨by omega, by omega⟩ (by omega) ?_
  refine e_aload_n dX6_advance_39 rfl ?_
  refine e_aload_n dX6_advance_40 rfl ?_
  refine t_geti (k := 8) dX6_advance_41 fl_X6_129 rfl ?_
  rw [s_up_eq]
  refine t_puti (k := 9) dX6_advance_44 fl_X6_136 rfl rfl ?_
  show e_E _ _ _ _ (t_H (t_ad1 σ) h0) _ _ _ _
  have e8 : t_ad1 σ 8 0 = t_ad0 σ := by unfold t_ad1; rw [s_up_k (by decide), s_up_eq]
  have ec : t_chr (t_ad1 σ) = t_chr σ := t_chr_of ((s_up_f (by decide)).trans (s_up_f (by decide))) ((s_up_f (by decide)).trans (s_up_f (by decide)))
  have e7 : t_ad1 σ 7 0 = σ 7 0 := congrFun ((s_up_f (by decide)).trans (s_up_f (by decide))) 0
  have eL : t_gL (t_ad1 σ) = t_gL σ := by unfold t_gL; rw [ec]
  have eD : t_gD (t_ad1 σ) = t_gD σ := by unfold t_gD; rw [ec]
  have hc := t_chr_rg σ (t_ad0 σ)
  have h0r := t_ad0_rg i1.2.1
  refine e_aload_n dX6_advance_47 rfl ?_
  refine e_aload_n dX6_advance_48 rfl ?_
  refine t_geti (k := 8) dX6_advance_49 fl_X6_129 rfl ?_
  rw [e8]
  refine e_callV1rz (ci := 6) dX6_advance_52 md_X6_see lk_X6_132 rfl q1958 qs63 (t_obj _ _) (by decide) rfl (Nat.le_of_ble_eq_true rfl) (C_X6_see ⟨by omega, by omega⟩ (by rw [e7]; exact hs)) ?_
  rw [ec]
  refine e_istore_n1 dX6_advance_55 rfl ?_
  refine e_iload_n dX6_advance_56 rfl ?_
  refine e_iconst dX6_advance_57 ?_
  refine e_icmp_ne (tgt := 69) dX6_advance_58 rfl ⟨by omega, by omega⟩ ⟨by omega, by omega⟩ (fun c1 => ?_) (fun c1 => ?_)
  · refine e_iload_n dX6_advance_69 rfl ?_
    refine e_i2l dX6_advance_70 ⟨by omega, by omega⟩ ?_
    refine e_ldc2 (z := 97) dX6_advance_71 q1960 rfl ?_
    refine e_ldc2 (z := 122) dX6_advance_74 q1961 rfl ?_
    refine e_callS3rz dX6_advance_77 md_X6_in lk_X6_106 rfl q1930 rfl (Nat.le_of_ble_eq_true rfl) (C_X6_in ⟨by omega, by omega⟩ ⟨by omega, by omega⟩ ⟨by omega, by omega⟩) ?_
    refine e_bif_eq (tgt := 125) dX6_advance_80 rfl (fun c2 => ?_) (fun c2 => ?_)
    · refine e_iload_n dX6_advance_125 rfl ?_
      refine e_i2l dX6_advance_126 ⟨by omega, by omega⟩ ?_
      refine e_ldc2 (z := 48) dX6_advance_127 q1962 rfl ?_
      refine e_ldc2 (z := 57) dX6_advance_130 q1963 rfl ?_
      refine e_callS3rz dX6_advance_133 md_X6_in lk_X6_106 rfl q1930 rfl (Nat.le_of_ble_eq_true rfl) (C_X6_in ⟨by omega, by omega⟩ ⟨by omega, by omega⟩ ⟨by omega, by omega⟩) ?_
      refine e_bif_eq (tgt := 214) dX6_advance_136 rfl (fun c3 => ?_) (fun c3 => ?_)
      · refine e_aload_n dX6_advance_214 rfl ?_
        refine e_iload_n dX6_advance_215 rfl ?_
        refine e_bipush dX6_advance_216 rfl ?_
        refine e_icmp_ne (tgt := 225) dX6_advance_218 rfl ⟨by omega, by omega⟩ ⟨by omega, by omega⟩ (fun c4 => ?_) (fun c4 => ?_)
        · refine e_iconst dX6_advance_225 ?_
          refine t_puti (k := 10) dX6_advance_226 fl_X6_139 rfl rfl ?_
          refine e_aload_n dX6_advance_229 rfl ?_
          refine e_dup dX6_advance_230 rfl ?_
          refine t_geti (k := 8) dX6_advance_231 fl_X6_129 rfl ?_
          rw [s_up_k (by decide), e8]
          refine e_iconst dX6_advance_234 ?_
          refine e_iadd dX6_advance_235 ?_
          refine t_puti (k := 8) dX6_advance_236 fl_X6_129 rfl rfl ?_
          refine e_return dX6_advance_239 rfl ?_
          refine ⟨rfl, ?_⟩
          unfold t_adv
          first
            | (rw [if_pos (by omega)]; done)
            | (rw [if_neg (by omega), if_pos (by omega)]; done)
            | (rw [if_neg (by omega), if_neg (by omega), if_pos (by omega)]; done)
            | (rw [if_neg (by omega), if_neg (by omega), if_neg (by omega), if_pos (by omega)]; done)
            | (rw [if_neg (by omega), if_neg (by omega), if_neg (by omega), if_neg (by omega)]; done)
        · refine e_iconst dX6_advance_221 ?_
          refine e_goto (tgt := 226) dX6_advance_222 rfl ?_
          refine t_puti (k := 10) dX6_advance_226 fl_X6_139 rfl rfl ?_
          refine e_aload_n dX6_advance_229 rfl ?_
          refine e_dup dX6_advance_230 rfl ?_
          refine t_geti (k := 8) dX6_advance_231 fl_X6_129 rfl ?_
          rw [s_up_k (by decide), e8]
          refine e_iconst dX6_advance_234 ?_
          refine e_iadd dX6_advance_235 ?_
          refine t_puti (k := 8) dX6_advance_236 fl_X6_129 rfl rfl ?_
          refine e_return dX6_advance_239 rfl ?_
          refine ⟨rfl, ?_⟩
          unfold t_adv
          first
            | (rw [if_pos (by omega)]; done)
            | (rw [if_neg (by omega), if_pos (by omega)]; done)
            | (rw [if_neg (by omega), if_neg (by omega), if_pos (by omega)]; done)
            | (rw [if_neg (by omega), if_neg (by omega), if_neg (by omega), if_pos (by omega)]; done)
            | (rw [if_neg (by omega), if_neg (by omega), if_neg (by omega), if_neg (by omega)]; done)
      · refine e_aload_n dX6_advance_139 rfl ?_
        refine e_iconst dX6_advance_140 ?_
        refine t_puti (k := 11) dX6_advance_141 fl_X6_150 rfl rfl ?_
        rw [show t_H (s_up (t_ad1 σ) 11 0 0) h0 = t_H (s_up (s_up (t_ad1 σ) 11 0 0) 8 0 (t_ad0 σ)) h0 from by rw [show t_ad0 σ = s_up (t_ad1 σ) 11 0 0 8 0 from by rw [s_up_k (by decide), e8], s_up_self]]
        refine P_adv_144 (by rw [e7]; exact hs) 902 (t_ad0 σ) 0 ⟨by omega, by omega⟩ (by decide) (by omega) ?_
        rw [e7, eD, show t_vlo (t_ad1 σ) (t_ad0 σ) 0 = t_vlo σ (t_ad0 σ) 0 from t_vlo_of ec e7]
        refine e_aload_n dX6_advance_206 rfl ?_
        refine e_iconst dX6_advance_207 ?_
        refine t_puti (k := 10) dX6_advance_208 fl_X6_139 rfl rfl ?_
        refine e_goto (tgt := 239) dX6_advance_211 rfl ?_
        refine e_return dX6_advance_239 rfl ?_
        refine ⟨rfl, ?_⟩
        unfold t_adv
        first
          | (rw [if_pos (by omega)]; done)
          | (rw [if_neg (by omega), if_pos (by omega)]; done)
          | (rw [if_neg (by omega), if_neg (by omega), if_pos (by omega)]; done)
          | (rw [if_neg (by omega), if_neg (by omega), if_neg (by omega), if_pos (by omega)]; done)
          | (rw [if_neg (by omega), if_neg (by omega), if_neg (by omega), if_neg (by omega)]; done)
    · rw [show t_H (t_ad1 σ) h0 = t_H (s_up (t_ad1 σ) 8 0 (t_ad0 σ)) h0 from by rw [← e8, s_up_self]]
      refine P_adv_83 (by rw [e7]; exact hs) 902 (t_ad0 σ) ⟨by omega, by omega⟩ (by omega) ?_
      rw [e7, eL]
      refine e_aload_n dX6_advance_117 rfl ?_
      refine e_iconst dX6_advance_118 ?_
      refine t_puti (k := 10) dX6_advance_119 fl_X6_139 rfl rfl ?_
      refine e_goto (tgt := 239) dX6_advance_122 rfl ?_
      refine e_return dX6_advance_239 rfl ?_
      refine ⟨rfl, ?_⟩
      unfold t_adv
      first
        | (rw [if_pos (by omega)]; done)
        | (rw [if_neg (by omega), if_pos (by omega)]; done)
        | (rw [if_neg (by omega), if_neg (by omega), if_pos (by omega)]; done)
        | (rw [if_neg (by omega), if_neg (by omega), if_neg (by omega), if_pos (by omega)]; done)
        | (rw [if_neg (by omega), if_neg (by omega), if_neg (by omega), if_neg (by omega)]; done)
  · refine e_aload_n dX6_advance_61 rfl ?_
    refine e_iconst dX6_advance_62 ?_
    refine t_puti (k := 10) dX6_advance_63 fl_X6_139 rfl rfl ?_
    refine e_goto (tgt := 239) dX6_advance_66 rfl ?_
    refine e_return dX6_advance_239 rfl ?_
    refine ⟨rfl, ?_⟩
    unfold t_adv
    first
      | (rw [if_pos (by omega)]; done)
      | (rw [if_neg (by omega), if_pos (by omega)]; done)
      | (rw [if_neg (by omega), if_neg (by omega), if_pos (by omega)]; done)
      | (rw [if_neg (by omega), if_neg (by omega), if_neg (by omega), if_pos (by omega)]; done)
      | (rw [if_neg (by omega), if_neg (by omega), if_neg (by omega), if_neg (by omega)]; done)
theorem C_X6_advance {σ : t_S} {h0 : e_A} (hI : t_rdI σ) : e_C mX6_advance [.ref 384] (t_H σ h0) 0 0 3 (e_rev (t_H (t_adv σ) h0)) :=
  C_X6_advance0 ⟨by have := hI.1; omega, hI.1.2.2⟩
