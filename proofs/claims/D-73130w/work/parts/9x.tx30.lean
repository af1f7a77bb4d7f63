/-! THE COMPONENT: what was seen (printed by tx30.py) -/
set_option maxRecDepth 100000
theorem C_X1_manyS {σ χ : t_S} {h0 : e_A} {s : Int} (hs : 0 ≤ s ∧ s < 4) {a : Nat} (hχ : χ 35 s = (a : Int)) (H : x_ar h0 (σ 43 s) (σ 42 s) (fun j => σ 44 (60 * s + j)) a) : e_C mX1_many [.ref (352 + s.toNat)] (x_H χ h0) 0 0 0 (e_ret (e_i (σ 42 s)) (x_H χ h0)) := C_X1_many hs hχ H
theorem C_X1_numS {σ χ : t_S} {h0 : e_A} {s : Int} (hs : 0 ≤ s ∧ s < 4) {a : Nat} (hχ : χ 35 s = (a : Int)) (H : x_ar h0 (σ 43 s) (σ 42 s) (fun j => σ 44 (60 * s + j)) a) {i : Int} (hi : 0 ≤ i ∧ i < σ 42 s) : e_C mX1_number [.ref (352 + s.toNat), e_i i] (x_H χ h0) 0 0 0 (e_ret (e_j (t_nu σ s i)) (x_H χ h0)) := C_X1_number hs hχ H hi
theorem C_X0_whyNotB {σ χ : t_S} {h0 : e_A} {α : Nat → Nat} (A : x_at χ h0 (σ 1) α) (hz : t_sz σ) (ht : t_slt σ) {s : Int} (hs : e_rg s) (hb : ¬ (0 ≤ s ∧ s ≤ 3)) : e_C mX0_whyNot [.ref 350, e_i s] (x_H χ h0) 0 0 3 (e_ret (e_i (t_wny σ s)) (x_H χ h0)) := by
  have ks1 := hs.1
  have ks2 := hs.2
  refine e_enter (al0 := [.ref 350, e_i s, .retAddr 0, .retAddr 0]) (by decide +kernel) rfl (Nat.le_of_ble_eq_true rfl) ?_
  refine e_iload_n dX0_whyNot_0 rfl ?_
  refine e_callS1rz dX0_whyNot_1 md_X0_isSlot lk_X0_15 rfl q182 rfl (Nat.le_of_ble_eq_true rfl) (C_X0_isSlot ⟨by omega, by omega⟩) ?_
  refine e_bif_eq (tgt := 17) dX0_whyNot_4 rfl (fun c1 => ?_) (fun q => by exfalso; omega)
  refine e_bipush dX0_whyNot_17 rfl ?_
  refine e_ireturn dX0_whyNot_19 rfl rfl ?_
  refine e_rv ?_ rfl
  unfold t_wny
  rw [if_neg (by omega)]
theorem C_X0_whyNotN {σ χ : t_S} {h0 : e_A} {α : Nat → Nat} (A : x_at χ h0 (σ 1) α) (hz : t_sz σ) (ht : t_slt σ) {s : Int} (hs : e_rg s) (hb : 0 ≤ s ∧ s ≤ 3) (hm : σ 42 s = -1) (hχ : χ 35 s = -1) : e_C mX0_whyNot [.ref 350, e_i s] (x_H χ h0) 0 0 3 (e_ret (e_i (t_wny σ s)) (x_H χ h0)) := by
  have ks1 := hs.1
  have ks2 := hs.2
  refine e_enter (al0 := [.ref 350, e_i s, .retAddr 0, .retAddr 0]) (by decide +kernel) rfl (Nat.le_of_ble_eq_true rfl) ?_
  refine e_iload_n dX0_whyNot_0 rfl ?_
  refine e_callS1rz dX0_whyNot_1 md_X0_isSlot lk_X0_15 rfl q182 rfl (Nat.le_of_ble_eq_true rfl) (C_X0_isSlot ⟨by omega, by omega⟩) ?_
  refine e_bif_eq (tgt := 17) dX0_whyNot_4 rfl (fun q => by exfalso; omega) (fun c1 => ?_)
  refine e_aload_n dX0_whyNot_7 rfl ?_
  refine e_getV (.ref (α 0)) dX0_whyNot_8 fl_X0_47 (x_o0 _ _) (x_now A) ?_
  refine e_callV0rz (ci := 2) dX0_whyNot_11 md_X2_is lk_X0_98 rfl q1034 q1035 (x_aC A) (by decide) rfl (Nat.le_of_ble_eq_true rfl) (C_X2_is A hz) ?_
  refine e_bif_ne (tgt := 20) dX0_whyNot_14 rfl (fun c2 => ?_) (fun c2 => ?_)
  · refine e_aload_n dX0_whyNot_20 rfl ?_
    refine e_getV (.ref 351) dX0_whyNot_21 fl_X0_19 (x_o0 _ _) rfl ?_
    refine e_iload_n dX0_whyNot_24 rfl ?_
    refine e_aald s.toNat dX0_whyNot_25 (x_oS _ _) (Or.inl (by omega)) (Int.toNat_of_nonneg (by omega)).symm (by omega) (by omega) ?_
    refine e_astore_n2 dX0_whyNot_26 rfl ?_
    refine e_aload_n dX0_whyNot_27 rfl ?_
    refine x_getH .null dX0_whyNot_28 fl_X0_357 ⟨hb.1, by omega⟩ (by rw [hχ]; rfl) ?_
    refine e_ifnonnullN dX0_whyNot_31 ?_
    refine e_bipush dX0_whyNot_34 rfl ?_
    refine e_ireturn dX0_whyNot_36 rfl rfl ?_
    refine e_rv ?_ rfl
    unfold t_wny
    rw [if_pos ⟨hb, by assumption⟩, if_pos hm]
  · refine e_bipush dX0_whyNot_17 rfl ?_
    refine e_ireturn dX0_whyNot_19 rfl rfl ?_
    refine e_rv ?_ rfl
    unfold t_wny
    rw [if_neg (by omega)]
theorem C_X0_whyNotA {σ χ : t_S} {h0 : e_A} {α : Nat → Nat} (A : x_at χ h0 (σ 1) α) (hz : t_sz σ) (ht : t_slt σ) {s : Int} (hs : e_rg s) (hb : 0 ≤ s ∧ s ≤ 3) {a : Nat} (hχ : χ 35 s = (a : Int)) (H : x_ar h0 (σ 43 s) (σ 42 s) (fun j => σ 44 (60 * s + j)) a) : e_C mX0_whyNot [.ref 350, e_i s] (x_H χ h0) 0 0 3 (e_ret (e_i (t_wny σ s)) (x_H χ h0)) := by
  have ks1 := hs.1
  have ks2 := hs.2
  have hm := H.2.1
  have ha := H.2.2.1
  refine e_enter (al0 := [.ref 350, e_i s, .retAddr 0, .retAddr 0]) (by decide +kernel) rfl (Nat.le_of_ble_eq_true rfl) ?_
  refine e_iload_n dX0_whyNot_0 rfl ?_
  refine e_callS1rz dX0_whyNot_1 md_X0_isSlot lk_X0_15 rfl q182 rfl (Nat.le_of_ble_eq_true rfl) (C_X0_isSlot ⟨by omega, by omega⟩) ?_
  refine e_bif_eq (tgt := 17) dX0_whyNot_4 rfl (fun q => by exfalso; omega) (fun c1 => ?_)
  refine e_aload_n dX0_whyNot_7 rfl ?_
  refine e_getV (.ref (α 0)) dX0_whyNot_8 fl_X0_47 (x_o0 _ _) (x_now A) ?_
  refine e_callV0rz (ci := 2) dX0_whyNot_11 md_X2_is lk_X0_98 rfl q1034 q1035 (x_aC A) (by decide) rfl (Nat.le_of_ble_eq_true rfl) (C_X2_is A hz) ?_
  refine e_bif_ne (tgt := 20) dX0_whyNot_14 rfl (fun c2 => ?_) (fun c2 => ?_)
  · refine e_aload_n dX0_whyNot_20 rfl ?_
    refine e_getV (.ref 351) dX0_whyNot_21 fl_X0_19 (x_o0 _ _) rfl ?_
    refine e_iload_n dX0_whyNot_24 rfl ?_
    refine e_aald s.toNat dX0_whyNot_25 (x_oS _ _) (Or.inl (by omega)) (Int.toNat_of_nonneg (by omega)).symm (by omega) (by omega) ?_
    refine e_astore_n2 dX0_whyNot_26 rfl ?_
    refine e_aload_n dX0_whyNot_27 rfl ?_
    refine x_getH (.ref a) dX0_whyNot_28 fl_X0_357 ⟨hb.1, by omega⟩ (x_v35 hχ) ?_
    refine e_ifnonnull (tgt := 37) dX0_whyNot_31 rfl (by rw [x_H_fr (Or.inr (Or.inr (by omega)))]; obtain ⟨f, f1, -⟩ := H.2.2.2; rw [f1]; show x_hk _ < 80; have := x_hk_rg (σ 43 s); omega) ?_
    refine e_aload_n dX0_whyNot_37 rfl ?_
    refine e_callV0rz (ci := 1) dX0_whyNot_38 md_X1_many lk_X0_361 rfl q1506 q1507 (x_o1 χ h0 ⟨hb.1, by omega⟩) (by decide) rfl (Nat.le_of_ble_eq_true rfl) (C_X1_manyS ⟨hb.1, by omega⟩ hχ H) ?_
    refine e_iconst dX0_whyNot_41 ?_
    refine e_irem dX0_whyNot_42 ⟨by omega, by omega⟩ ⟨by omega, by omega⟩ ?_
    refine e_if_eq (tgt := 49) dX0_whyNot_43 rfl ⟨by omega, by omega⟩ (fun c3 => ?_) (fun c3 => ?_)
    · refine e_iconst dX0_whyNot_49 ?_
      refine e_istore_n3 dX0_whyNot_50 rfl ?_
      refine e_for (n := σ 42 s / 3) (fun k => t_fnd (t_bad σ s) (σ 42 s / 3).toNat 0 = t_fnd (t_bad σ s) (σ 42 s / 3 - k).toNat k → e_E mX0_whyNot 51 [.ref 350, e_i s, .ref (352 + s.toNat), e_i (3 * k)] [] (x_H χ h0) _ _ _ _) (by omega) (fun hV => ?_) (fun k hk0 hk1 hF hV => ?_) (by rw [Int.sub_zero])
      · rw [Int.sub_self] at hV
        replace hV : t_fnd (t_bad σ s) (σ 42 s / 3).toNat 0 = -1 := hV
        refine e_iload_n dX0_whyNot_51 rfl ?_
        refine e_aload_n dX0_whyNot_52 rfl ?_
        refine e_callV0rz (ci := 1) dX0_whyNot_53 md_X1_many lk_X0_361 rfl q1506 q1507 (x_o1 χ h0 ⟨hb.1, by omega⟩) (by decide) rfl (Nat.le_of_ble_eq_true rfl) (C_X1_manyS ⟨hb.1, by omega⟩ hχ H) ?_
        refine e_icmp_ge (tgt := 111) dX0_whyNot_56 rfl ⟨by omega, by omega⟩ ⟨by omega, by omega⟩ (fun c4 => ?_) (fun q => by exfalso; omega)
        refine e_iconst dX0_whyNot_111 ?_
        refine e_ireturn dX0_whyNot_112 rfl rfl ?_
        refine e_rv ?_ rfl
        unfold t_wny
        rw [if_pos ⟨hb, by assumption⟩, if_neg (by omega), if_neg (by omega), if_pos hV]
      · rw [t_fnd_s _ hk1] at hV
        have n1 : e_rl (t_nu σ s (3 * k)) := ht.2.2 _
        have n2 : e_rl (t_nu σ s (3 * k + 1)) := ht.2.2 _
        have n3 : e_rl (t_nu σ s (3 * k + 2)) := ht.2.2 _
        refine e_iload_n dX0_whyNot_51 rfl ?_
        refine e_aload_n dX0_whyNot_52 rfl ?_
        refine e_callV0rz (ci := 1) dX0_whyNot_53 md_X1_many lk_X0_361 rfl q1506 q1507 (x_o1 χ h0 ⟨hb.1, by omega⟩) (by decide) rfl (Nat.le_of_ble_eq_true rfl) (C_X1_manyS ⟨hb.1, by omega⟩ hχ H) ?_
        refine e_icmp_ge (tgt := 111) dX0_whyNot_56 rfl ⟨by omega, by omega⟩ ⟨by omega, by omega⟩ (fun q => by exfalso; omega) (fun c5 => ?_)
        refine e_aload_n dX0_whyNot_59 rfl ?_
        refine e_aload_n dX0_whyNot_60 rfl ?_
        refine e_iload_n dX0_whyNot_61 rfl ?_
        refine e_callV1rz (ci := 1) dX0_whyNot_62 md_X1_number lk_X0_362 rfl q1510 q1511 (x_o1 χ h0 ⟨hb.1, by omega⟩) (by decide) rfl (Nat.le_of_ble_eq_true rfl) (C_X1_numS ⟨hb.1, by omega⟩ hχ H ⟨by omega, by omega⟩) ?_
        refine e_callV1rz (ci := 0) dX0_whyNot_65 md_X0_isWidow lk_X0_138 rfl q1222 qs33 (x_o0 _ _) (by decide) rfl (Nat.le_of_ble_eq_true rfl) (C_X0_isWidow A hz (ht.2.2 _)) ?_
        refine e_bif_eq (tgt := 102) dX0_whyNot_68 rfl (fun c6 => ?_) (fun c6 => ?_)
        · refine e_bipush dX0_whyNot_102 rfl ?_
          refine e_ireturn dX0_whyNot_104 rfl rfl ?_
          have e9 : t_bad σ s k = 1 := if_neg (fun q => by obtain ⟨q1, q2, q3⟩ := q; omega)
          rw [if_pos e9] at hV
          refine e_rv ?_ rfl
          unfold t_wny
          rw [if_pos ⟨hb, by assumption⟩, if_neg (by omega), if_neg (by omega), if_neg (by omega)]
        · refine e_aload_n dX0_whyNot_71 rfl ?_
          refine e_iload_n dX0_whyNot_72 rfl ?_
          refine e_iconst dX0_whyNot_73 ?_
          refine e_iadd dX0_whyNot_74 ?_
          refine e_callV1rz (ci := 1) dX0_whyNot_75 md_X1_number lk_X0_362 rfl q1510 q1511 (x_o1 χ h0 ⟨hb.1, by omega⟩) (by decide) rfl (Nat.le_of_ble_eq_true rfl) (C_X1_numS ⟨hb.1, by omega⟩ hχ H ⟨by omega, by omega⟩) ?_
          refine e_lconst (z := 0) dX0_whyNot_78 rfl ?_
          refine e_ldc2 (z := 40) dX0_whyNot_79 q1236 rfl ?_
          refine e_callS3rz dX0_whyNot_82 md_X0_in lk_X0_11 rfl q186 rfl (Nat.le_of_ble_eq_true rfl) (C_X0_in (ht.2.2 _) ⟨by omega, by omega⟩ ⟨by omega, by omega⟩) ?_
          refine e_bif_eq (tgt := 102) dX0_whyNot_85 rfl (fun c7 => ?_) (fun c7 => ?_)
          · refine e_bipush dX0_whyNot_102 rfl ?_
            refine e_ireturn dX0_whyNot_104 rfl rfl ?_
            have e9 : t_bad σ s k = 1 := if_neg (fun q => by obtain ⟨q1, q2, q3⟩ := q; omega)
            rw [if_pos e9] at hV
            refine e_rv ?_ rfl
            unfold t_wny
            rw [if_pos ⟨hb, by assumption⟩, if_neg (by omega), if_neg (by omega), if_neg (by omega)]
          · refine e_aload_n dX0_whyNot_88 rfl ?_
            refine e_aload_n dX0_whyNot_89 rfl ?_
            refine e_iload_n dX0_whyNot_90 rfl ?_
            refine e_iconst dX0_whyNot_91 ?_
            refine e_iadd dX0_whyNot_92 ?_
            refine e_callV1rz (ci := 1) dX0_whyNot_93 md_X1_number lk_X0_362 rfl q1510 q1511 (x_o1 χ h0 ⟨hb.1, by omega⟩) (by decide) rfl (Nat.le_of_ble_eq_true rfl) (C_X1_numS ⟨hb.1, by omega⟩ hχ H ⟨by omega, by omega⟩) ?_
            refine e_callV1rz (ci := 0) dX0_whyNot_96 md_X0_isCell lk_X0_206 rfl q1207 qs32 (x_o0 _ _) (by decide) rfl (Nat.le_of_ble_eq_true rfl) (C_X0_isCell A hz (ht.2.2 _)) ?_
            refine e_bif_ne (tgt := 105) dX0_whyNot_99 rfl (fun c8 => ?_) (fun c8 => ?_)
            · refine e_iinc3 dX0_whyNot_105 rfl ?_
              refine e_goto (tgt := 51) dX0_whyNot_108 rfl ?_
              have e9 : t_bad σ s k = 0 := if_pos ⟨by assumption, by assumption, by assumption⟩
              rw [if_neg (by rw [e9]; decide)] at hV
              have hF2 := hF hV
              rw [show 3 * (k + 1) = 3 * k + 3 by omega] at hF2
              exact hF2
            · refine e_bipush dX0_whyNot_102 rfl ?_
              refine e_ireturn dX0_whyNot_104 rfl rfl ?_
              have e9 : t_bad σ s k = 1 := if_neg (fun q => by obtain ⟨q1, q2, q3⟩ := q; omega)
              rw [if_pos e9] at hV
              refine e_rv ?_ rfl
              unfold t_wny
              rw [if_pos ⟨hb, by assumption⟩, if_neg (by omega), if_neg (by omega), if_neg (by omega)]
    · refine e_bipush dX0_whyNot_46 rfl ?_
      refine e_ireturn dX0_whyNot_48 rfl rfl ?_
      refine e_rv ?_ rfl
      unfold t_wny
      rw [if_pos ⟨hb, by assumption⟩, if_neg (by omega), if_pos (by omega)]
  · refine e_bipush dX0_whyNot_17 rfl ?_
    refine e_ireturn dX0_whyNot_19 rfl rfl ?_
    refine e_rv ?_ rfl
    unfold t_wny
    rw [if_neg (by omega)]
theorem C_X0_whyNot {σ χ : t_S} {h0 : e_A} {α : Nat → Nat} (A : x_at χ h0 (σ 1) α) (hz : t_sz σ) (ht : t_slt σ) (S : x_sl χ h0 σ) {s : Int} (hs : e_rg s) : e_C mX0_whyNot [.ref 350, e_i s] (x_H χ h0) 0 0 3 (e_ret (e_i (t_wny σ s)) (x_H χ h0)) := by
  by_cases hb : 0 ≤ s ∧ s ≤ 3
  · rcases S.1 s hb.1 (by omega) with ⟨q1, q2⟩ | ⟨a, q1, q2⟩
    · exact C_X0_whyNotN A hz ht hs hb q1 q2
    · exact C_X0_whyNotA A hz ht hs hb q1 q2
  · exact C_X0_whyNotB A hz ht hs hb
theorem C_X0_whyNotOf {σ χ : t_S} {h0 : e_A} {α : Nat → Nat} (A : x_at χ h0 (σ 1) α) (hz : t_sz σ) (ht : t_slt σ) (S : x_sl χ h0 σ) {s : Int} (hs : e_rg s) {w : Int} (hw : e_rg w) : e_C mX0_whyNotOf [.ref 350, e_i s, e_i w] (x_H χ h0) 0 0 4 (e_ret (e_i (t_wnw σ s w)) (x_H χ h0)) := by
  have ks1 := hs.1
  have ks2 := hs.2
  have kw1 := hw.1
  have kw2 := hw.2
  refine e_enter (al0 := [.ref 350, e_i s, e_i w]) (by decide +kernel) rfl (Nat.le_of_ble_eq_true rfl) ?_
  refine e_aload_n dX0_whyNotOf_0 rfl ?_
  refine e_iload_n dX0_whyNotOf_1 rfl ?_
  refine e_i2l dX0_whyNotOf_2 ⟨by omega, by omega⟩ ?_
  refine e_callV1rz (ci := 0) dX0_whyNotOf_3 md_X0_isWidow lk_X0_138 rfl q1222 qs33 (x_o0 _ _) (by decide) rfl (Nat.le_of_ble_eq_true rfl) (C_X0_isWidow A hz ⟨by omega, by omega⟩) ?_
  refine e_bif_eq (tgt := 17) dX0_whyNotOf_6 rfl (fun c1 => ?_) (fun c1 => ?_)
  · refine e_bipush dX0_whyNotOf_17 rfl ?_
    refine e_ireturn dX0_whyNotOf_19 rfl rfl ?_
    refine e_rv ?_ rfl
    unfold t_wnw
    first
      | (rw [if_pos (by assumption)]; done)
      | (rw [if_neg (by assumption)]; done)
  · refine e_aload_n dX0_whyNotOf_9 rfl ?_
    refine e_iload_n dX0_whyNotOf_10 rfl ?_
    refine e_callV1rz (ci := 0) dX0_whyNotOf_11 md_X0_whyNot lk_X0_365 rfl q1503 qs49 (x_o0 _ _) (by decide) rfl (Nat.le_of_ble_eq_true rfl) (C_X0_whyNot A hz ht S hs) ?_
    refine e_goto (tgt := 19) dX0_whyNotOf_14 rfl ?_
    refine e_ireturn dX0_whyNotOf_19 rfl rfl ?_
    refine e_rv ?_ rfl
    unfold t_wnw
    first
      | (rw [if_pos (by assumption)]; done)
      | (rw [if_neg (by assumption)]; done)
theorem x_sl_cg {χ σ ρ : t_S} {h : e_A} (S : x_sl χ h σ) (e42 : ρ 42 = σ 42) (e43 : ρ 43 = σ 43) (e44 : ρ 44 = σ 44) : x_sl χ h ρ := by
  unfold x_sl x_s1 at *
  rw [e42, e43, e44]
  exact S
theorem C_X0_isSo {ρ χ : t_S} {h0 : e_A} {α : Nat → Nat} (A : x_at χ h0 (ρ 1) α) (hz : t_sz ρ) (F : z_F ρ) (N : x_An ρ χ) {s : Int} (hs : 0 ≤ s ∧ s < 4) {a : Nat} (hχ : χ 35 s = (a : Int)) (H : x_ar h0 (ρ 43 s) (ρ 42 s) (fun j => ρ 44 (60 * s + j)) a) (hg : t_sgd ρ s) (hl : t_slt ρ) : e_C mX0_isSo [.ref 350, .ref (352 + s.toNat)] (x_H χ h0) 0 0 1 (e_ret (e_i (if t_see ρ s then 1 else 0)) (x_H χ h0)) := by
  have s0 : 0 ≤ ρ 1 0 ∧ ρ 1 0 ≤ 12 := hz.1
  have s3 := hz.2.1
  have s4 := hz.2.2.1
  have s7 := hz.2.2.2.2.2.1
  obtain ⟨g1, g2, g3⟩ := hg
  refine e_enter (al0 := [.ref 350, .ref (352 + s.toNat), .retAddr 0]) (by decide +kernel) rfl (Nat.le_of_ble_eq_true rfl) ?_
  refine e_iconst dX0_isSo_0 ?_
  refine e_istore_n2 dX0_isSo_1 rfl ?_
  refine e_for (n := ρ 42 s / 3) (fun k => t_fnd (t_seg ρ s) (ρ 42 s / 3).toNat 0 = t_fnd (t_seg ρ s) (ρ 42 s / 3 - k).toNat k → e_E mX0_isSo 2 [.ref 350, .ref (352 + s.toNat), e_i (3 * k)] [] (x_H χ h0) _ _ _ _) (by omega) (fun hV => ?_) (fun k hk0 hk1 hF hV => ?_) (by rw [Int.sub_zero])
  · rw [Int.sub_self] at hV
    replace hV : t_fnd (t_seg ρ s) (ρ 42 s / 3).toNat 0 = -1 := hV
    refine e_iload_n dX0_isSo_2 rfl ?_
    refine e_aload_n dX0_isSo_3 rfl ?_
    refine e_callV0rz (ci := 1) dX0_isSo_4 md_X1_many lk_X0_361 rfl q1506 q1507 (x_o1 χ h0 hs) (by decide) rfl (Nat.le_of_ble_eq_true rfl) (C_X1_manyS hs hχ H) ?_
    refine e_icmp_ge (tgt := 52) dX0_isSo_7 rfl ⟨by omega, by omega⟩ ⟨by omega, by omega⟩ (fun c1 => ?_) (fun q => by exfalso; omega)
    refine e_iconst dX0_isSo_52 ?_
    refine e_ireturn dX0_isSo_53 rfl rfl ?_
    refine e_rv ?_ rfl
    rw [if_pos (show t_see ρ s from hV)]
  · rw [t_fnd_s _ hk1] at hV
    obtain ⟨k1, k2, k3⟩ := g3 k hk0 hk1
    have n3 : e_rl (t_nu ρ s (3 * k + 2)) := hl.2.2 _
    have h8 := x_ok8 hz k3
    have rc := N.1.2.2.2 (t_nu ρ s (3 * k)) (by omega) (by omega)
    have pc1 := x_pth_cn F (w := t_nu ρ s (3 * k)) (k := t_nu ρ s (3 * k + 1)) ⟨by omega, by omega⟩ (by omega)
    have pr1 := (x_cn_sp pc1).1
    have pr2 := x_sp_rg h8
    have hij := x_cn_inj pc1 (Or.inr h8)
    refine e_iload_n dX0_isSo_2 rfl ?_
    refine e_aload_n dX0_isSo_3 rfl ?_
    refine e_callV0rz (ci := 1) dX0_isSo_4 md_X1_many lk_X0_361 rfl q1506 q1507 (x_o1 χ h0 hs) (by decide) rfl (Nat.le_of_ble_eq_true rfl) (C_X1_manyS hs hχ H) ?_
    refine e_icmp_ge (tgt := 52) dX0_isSo_7 rfl ⟨by omega, by omega⟩ ⟨by omega, by omega⟩ (fun q => by exfalso; omega) (fun c2 => ?_)
    refine e_aload_n dX0_isSo_10 rfl ?_
    refine e_getV (.ref 366) dX0_isSo_11 fl_X0_68 (x_o0 _ _) rfl ?_
    refine e_aload_n dX0_isSo_14 rfl ?_
    refine e_iload_n dX0_isSo_15 rfl ?_
    refine e_callV1rz (ci := 1) dX0_isSo_16 md_X1_number lk_X0_362 rfl q1510 q1511 (x_o1 χ h0 hs) (by decide) rfl (Nat.le_of_ble_eq_true rfl) (C_X1_numS hs hχ H ⟨by omega, by omega⟩) ?_
    refine e_l2i dX0_isSo_19 ?_
    refine e_aload_n dX0_isSo_20 rfl ?_
    refine e_iload_n dX0_isSo_21 rfl ?_
    refine e_iconst dX0_isSo_22 ?_
    refine e_iadd dX0_isSo_23 ?_
    refine e_callV1rz (ci := 1) dX0_isSo_24 md_X1_number lk_X0_362 rfl q1510 q1511 (x_o1 χ h0 hs) (by decide) rfl (Nat.le_of_ble_eq_true rfl) (C_X1_numS hs hχ H ⟨by omega, by omega⟩) ?_
    refine e_l2i dX0_isSo_27 ?_
    refine e_callV2rz (ci := 3) dX0_isSo_28 md_X3_at lk_X0_241 rfl q1238 q1239 (x_o3 _ _) (by decide) rfl (Nat.le_of_ble_eq_true rfl) (C_X3_at ⟨by omega, by omega⟩ ⟨by omega, by omega⟩ (rc.2.2.2.2.2.1 (t_nu ρ s (3 * k + 1)) (by omega) (by omega))) ?_
    refine e_aload_n dX0_isSo_31 rfl ?_
    refine e_iload_n dX0_isSo_32 rfl ?_
    refine e_iconst dX0_isSo_33 ?_
    refine e_iadd dX0_isSo_34 ?_
    refine e_callV1rz (ci := 1) dX0_isSo_35 md_X1_number lk_X0_362 rfl q1510 q1511 (x_o1 χ h0 hs) (by decide) rfl (Nat.le_of_ble_eq_true rfl) (C_X1_numS hs hχ H ⟨by omega, by omega⟩) ?_
    refine e_callS1rz dX0_isSo_38 md_X0_spotOf lk_X0_213 rfl q1212 rfl (Nat.le_of_ble_eq_true rfl) (C_X0_spotOf8 h8) ?_
    refine e_icmp_eq (tgt := 46) dX0_isSo_41 rfl ⟨by omega, by omega⟩ ⟨by omega, by omega⟩ (fun c3 => ?_) (fun c3 => ?_)
    · refine e_iinc2 dX0_isSo_46 rfl ?_
      refine e_goto (tgt := 2) dX0_isSo_49 rfl ?_
      have e9 : t_seg ρ s k = 0 := if_pos (by omega)
      rw [if_neg (by rw [e9]; decide)] at hV
      have hF2 := hF hV
      rw [show 3 * (k + 1) = 3 * k + 3 by omega] at hF2
      exact hF2
    · refine e_iconst dX0_isSo_44 ?_
      refine e_ireturn dX0_isSo_45 rfl rfl ?_
      have e9 : t_seg ρ s k = 1 := if_neg (by omega)
      rw [if_pos e9] at hV
      refine e_rv ?_ rfl
      rw [if_neg (show ¬ t_see ρ s by show ¬ (t_fnd _ _ _ = -1); omega)]
theorem x_wog0 {σ : t_S} {S k a : Int} (h : e_bt S a ≠ 1) : ∀ n : Nat, t_sum (t_wog σ S k a) n = 0
  | 0 => rfl
  | n + 1 => by
    show t_sum (t_wog σ S k a) n + t_wog σ S k a n = 0
    rw [x_wog0 h n]
    unfold t_wog
    rw [if_neg (fun q => h q.1)]
    rfl
theorem P_worst_12 {σ χ : t_S} {h0 : e_A} {S k : Int} (hb : χ 32 0 = S) (hS : 0 ≤ S ∧ S < 16) (hk : 0 ≤ k ∧ k ≤ 40) (rel : ∀ e k : Int, 0 ≤ e → e < 4 → 0 ≤ k → k ≤ 40 → χ 31 (4 * k + e) = x_sp (σ 35 (41 * e + k)) ∧ x_cn (σ 35 (41 * e + k))) {m a : Int} (ha : 0 ≤ a ∧ a < 4) {Q : e_R → e_A → Prop} (hX : e_E mX5_worstAt 84 [.ref 382, e_i k, e_i m, e_i a, e_i (t_sum (t_wog σ S k a) 4), .retAddr 0] [] (x_H χ h0) 0 0 2 Q) : e_E mX5_worstAt 12 [.ref 382, e_i k, e_i m, e_i a, e_i 0, .retAddr 0] [] (x_H χ h0) 0 0 2 (Q) := by
  have hba := e_bt01 S a
  refine e_iconst dX5_worstAt_12 ?_
  refine e_istore5 dX5_worstAt_13 rfl ?_
  refine e_for (n := 4) (fun i => e_E mX5_worstAt 15 [.ref 382, e_i k, e_i m, e_i a, e_i (t_sum (t_wog σ S k a) i.toNat), e_i i] [] (x_H χ h0) 0 0 2 Q) (by omega) ?_ (fun i hi0 hi1 hF => ?_)
  · refine e_iload dX5_worstAt_15 rfl ?_
    refine e_iconst dX5_worstAt_17 ?_
    refine e_icmp_ge (tgt := 84) dX5_worstAt_18 rfl ⟨by omega, by omega⟩ ⟨by omega, by omega⟩ (fun c1 => ?_) (fun q => by exfalso; omega)
    exact e_fgt 5 hX
  · have hbb := e_bt01 S i
    obtain ⟨q1, c1⟩ := rel a k ha.1 ha.2 hk.1 hk.2
    obtain ⟨q2, c2⟩ := rel i k hi0 hi1 hk.1 hk.2
    have r1 := (x_cn_sp c1).1
    have r2 := (x_cn_sp c2).1
    have hij := x_cn_inj c1 c2
    have hsr := t_wog_rg σ S k a i.toNat
    have hgi : t_wog σ S k a i = if e_bt S a = 1 ∧ e_bt S i = 1 ∧ σ 35 (41 * a + k) = σ 35 (41 * i + k) then 1 else 0 := rfl
    rw [t_sum_s _ hi0, hgi] at hF
    refine e_iload dX5_worstAt_15 rfl ?_
    refine e_iconst dX5_worstAt_17 ?_
    refine e_icmp_ge (tgt := 84) dX5_worstAt_18 rfl ⟨by omega, by omega⟩ ⟨by omega, by omega⟩ (fun q => by exfalso; omega) (fun c2 => ?_)
    refine e_aload_n dX5_worstAt_21 rfl ?_
    refine e_getV (e_i _) dX5_worstAt_22 fl_X5_19 (x_o5 _ _) rfl ?_
    rw [hb]
    refine e_iload_n dX5_worstAt_25 rfl ?_
    refine e_callS2rz dX5_worstAt_26 md_X0_isOn lk_X5_49 rfl q1165 rfl (Nat.le_of_ble_eq_true rfl) (C_X0_isOn ⟨by omega, by omega⟩ ⟨by omega, by omega⟩) ?_
    refine e_bif_eq (tgt := 84) dX5_worstAt_29 rfl (fun c3 => ?_) (fun c3 => ?_)
    · rw [x_wog0 (by omega)] at hX ⊢
      exact e_fgt 5 hX
    · refine e_iload dX5_worstAt_32 rfl ?_
      refine e_aload_n dX5_worstAt_34 rfl ?_
      refine e_getV (e_i _) dX5_worstAt_35 fl_X5_19 (x_o5 _ _) rfl ?_
      rw [hb]
      refine e_iload dX5_worstAt_38 rfl ?_
      refine e_callS2rz dX5_worstAt_40 md_X0_isOn lk_X5_49 rfl q1165 rfl (Nat.le_of_ble_eq_true rfl) (C_X0_isOn ⟨by omega, by omega⟩ ⟨by omega, by omega⟩) ?_
      refine e_bif_eq (tgt := 74) dX5_worstAt_43 rfl (fun c4 => ?_) (fun c4 => ?_)
      · refine e_iconst dX5_worstAt_74 ?_
        refine e_iadd dX5_worstAt_75 ?_
        refine e_istore4 dX5_worstAt_76 rfl ?_
        refine e_iinc5 dX5_worstAt_78 rfl ?_
        refine e_goto (tgt := 15) dX5_worstAt_81 rfl ?_
        first
          | (rw [if_pos (by omega)] at hF; exact hF)
          | (rw [if_neg (by omega)] at hF; exact hF)
      · refine e_aload_n dX5_worstAt_46 rfl ?_
        refine e_getV (.ref (x_ai 31)) dX5_worstAt_47 fl_X5_15 (x_o5 _ _) rfl ?_
        refine e_iconst dX5_worstAt_50 ?_
        refine e_iload_n dX5_worstAt_51 rfl ?_
        refine e_imul dX5_worstAt_52 ?_
        refine e_iload dX5_worstAt_53 rfl ?_
        refine e_iadd dX5_worstAt_55 ?_
        refine x_ild 164 dX5_worstAt_56 rfl (by decide) (fun _ => rfl) rfl ⟨by omega, by omega⟩ ?_
        refine e_aload_n dX5_worstAt_57 rfl ?_
        refine e_getV (.ref (x_ai 31)) dX5_worstAt_58 fl_X5_15 (x_o5 _ _) rfl ?_
        refine e_iconst dX5_worstAt_61 ?_
        refine e_iload_n dX5_worstAt_62 rfl ?_
        refine e_imul dX5_worstAt_63 ?_
        refine e_iload_n dX5_worstAt_64 rfl ?_
        refine e_iadd dX5_worstAt_65 ?_
        refine x_ild 164 dX5_worstAt_66 rfl (by decide) (fun _ => rfl) rfl ⟨by omega, by omega⟩ ?_
        refine e_icmp_ne (tgt := 74) dX5_worstAt_67 rfl ⟨by omega, by omega⟩ ⟨by omega, by omega⟩ (fun c5 => ?_) (fun c5 => ?_)
        · refine e_iconst dX5_worstAt_74 ?_
          refine e_iadd dX5_worstAt_75 ?_
          refine e_istore4 dX5_worstAt_76 rfl ?_
          refine e_iinc5 dX5_worstAt_78 rfl ?_
          refine e_goto (tgt := 15) dX5_worstAt_81 rfl ?_
          first
            | (rw [if_pos (by omega)] at hF; exact hF)
            | (rw [if_neg (by omega)] at hF; exact hF)
        · refine e_iconst dX5_worstAt_70 ?_
          refine e_goto (tgt := 75) dX5_worstAt_71 rfl ?_
          refine e_iadd dX5_worstAt_75 ?_
          refine e_istore4 dX5_worstAt_76 rfl ?_
          refine e_iinc5 dX5_worstAt_78 rfl ?_
          refine e_goto (tgt := 15) dX5_worstAt_81 rfl ?_
          first
            | (rw [if_pos (by omega)] at hF; exact hF)
            | (rw [if_neg (by omega)] at hF; exact hF)
theorem C_X5_worstAt {σ χ : t_S} {h0 : e_A} {S k : Int} (hb : χ 32 0 = S) (hS : 0 ≤ S ∧ S < 16) (hk : 0 ≤ k ∧ k ≤ 40) (rel : ∀ e k : Int, 0 ≤ e → e < 4 → 0 ≤ k → k ≤ 40 → χ 31 (4 * k + e) = x_sp (σ 35 (41 * e + k)) ∧ x_cn (σ 35 (41 * e + k))) : e_C mX5_worstAt [.ref 382, e_i k] (x_H χ h0) 0 0 2 (e_ret (e_i (t_wst σ S k)) (x_H χ h0)) := by
  refine e_enter (al0 := [.ref 382, e_i k, .retAddr 0, .retAddr 0, .retAddr 0, .retAddr 0]) (by decide +kernel) rfl (Nat.le_of_ble_eq_true rfl) ?_
  refine e_iconst dX5_worstAt_0 ?_
  refine e_istore_n2 dX5_worstAt_1 rfl ?_
  refine e_iconst dX5_worstAt_2 ?_
  refine e_istore_n3 dX5_worstAt_3 rfl ?_
  refine e_for (n := 4) (fun a => e_E mX5_worstAt 4 [.ref 382, e_i k, e_i (t_it (t_wsf σ S k) a.toNat 0), e_i a, .retAddr 0, .retAddr 0] [] (x_H χ h0) _ _ _ _) (by omega) ?_ (fun a ha0 ha1 hF => ?_)
  · refine e_iload_n dX5_worstAt_4 rfl ?_
    refine e_iconst dX5_worstAt_5 ?_
    refine e_icmp_ge (tgt := 97) dX5_worstAt_6 rfl ⟨by omega, by omega⟩ ⟨by omega, by omega⟩ (fun c1 => ?_) (fun q => by exfalso; omega)
    refine e_iload_n dX5_worstAt_97 rfl ?_
    refine e_ireturn dX5_worstAt_98 rfl rfl ?_
    exact ⟨rfl, rfl⟩
  · have hmx := t_wst_rg σ S k a.toNat
    have hsm := t_wog_rg σ S k a 4
    rw [t_it_s _ _ ha0] at hF
    generalize t_it (t_wsf σ S k) a.toNat 0 = m at hF hmx ⊢
    refine e_iload_n dX5_worstAt_4 rfl ?_
    refine e_iconst dX5_worstAt_5 ?_
    refine e_icmp_ge (tgt := 97) dX5_worstAt_6 rfl ⟨by omega, by omega⟩ ⟨by omega, by omega⟩ (fun q => by exfalso; omega) (fun c2 => ?_)
    refine e_iconst dX5_worstAt_9 ?_
    refine e_istore4 dX5_worstAt_10 rfl ?_
    refine P_worst_12 hb hS hk rel ⟨ha0, ha1⟩ ?_
    refine e_iload_n dX5_worstAt_84 rfl ?_
    refine e_iload dX5_worstAt_85 rfl ?_
    refine e_callS2rz dX5_worstAt_87 md_J3_max lk_X5_53 rfl q939 rfl (Nat.le_of_ble_eq_true rfl) (C_J3_max ⟨by omega, by omega⟩ ⟨by omega, by omega⟩) ?_
    refine e_istore_n2 dX5_worstAt_90 rfl ?_
    refine e_iinc3 dX5_worstAt_91 rfl ?_
    refine e_goto (tgt := 4) dX5_worstAt_94 rfl ?_
    exact e_fgs [4, 5] hF
def x_PAk (σ : t_S) (S : Int) (χ : t_S) (h0 : e_A) : e_R → e_A → Prop := fun r h => r = .inl none ∧ ∃ χ1, (∀ j, j ≠ 33 → j ≠ 34 → χ1 j = χ j) ∧ χ1 33 0 = (t_ak σ S).2 ∧ χ1 34 0 = (t_ak σ S).1 ∧ h = x_H χ1 h0
theorem x_rel_cg {σ χ χ1 : t_S} (rel : ∀ e k : Int, 0 ≤ e → e < 4 → 0 ≤ k → k ≤ 40 → χ 31 (4 * k + e) = x_sp (σ 35 (41 * e + k)) ∧ x_cn (σ 35 (41 * e + k))) (h : χ1 31 = χ 31) : ∀ e k : Int, 0 ≤ e → e < 4 → 0 ≤ k → k ≤ 40 → χ1 31 (4 * k + e) = x_sp (σ 35 (41 * e + k)) ∧ x_cn (σ 35 (41 * e + k)) := fun e k a b c d => by rw [h]; exact rel e k a b c d
theorem C_X5_asks {σ χ : t_S} {h0 : e_A} {S : Int} (hb : χ 32 0 = S) (hS : 0 ≤ S ∧ S < 16) (rel : ∀ e k : Int, 0 ≤ e → e < 4 → 0 ≤ k → k ≤ 40 → χ 31 (4 * k + e) = x_sp (σ 35 (41 * e + k)) ∧ x_cn (σ 35 (41 * e + k))) : e_C mX5_asks [.ref 382] (x_H χ h0) 0 0 3 (x_PAk σ S χ h0) := by
  refine e_enter (al0 := [.ref 382, .retAddr 0]) (by decide +kernel) rfl (Nat.le_of_ble_eq_true rfl) ?_
  refine e_aload_n dX5_asks_0 rfl ?_
  refine e_iconst dX5_asks_1 ?_
  refine x_put_33 dX5_asks_2 fl_X5_58 ?_
  refine e_aload_n dX5_asks_5 rfl ?_
  refine e_aload_n dX5_asks_6 rfl ?_
  refine e_getV (e_i _) dX5_asks_7 fl_X5_19 (x_o5 _ _) rfl ?_
  rw [show s_up χ 33 0 (-1) 32 = χ 32 from s_up_f (by decide), hb]
  refine e_callS1rz dX5_asks_10 md_X0_size lk_X5_61 rfl q1344 rfl (Nat.le_of_ble_eq_true rfl) (C_X0_size ⟨by omega, by omega⟩) ?_
  refine x_put_34 dX5_asks_13 fl_X5_65 ?_
  refine e_iconst dX5_asks_16 ?_
  refine e_istore_n1 dX5_asks_17 rfl ?_
  have e0 := e_bsum_rg S 16
  refine e_for (n := 41) (F := fun k => ∀ χ2 : t_S, (∀ j, j ≠ 33 → j ≠ 34 → χ2 j = χ j) → χ2 33 0 = (t_it (t_akf σ S) k.toNat (e_bsum S 16, (-1 : Int))).2 → χ2 34 0 = (t_it (t_akf σ S) k.toNat (e_bsum S 16, (-1 : Int))).1 → e_E mX5_asks 18 [.ref 382, e_i k] [] (x_H χ2 h0) 0 0 3 (x_PAk σ S χ h0)) (by omega) (fun χ2 hf h33 h34 => ?_) (fun k hk0 hk1 hF χ2 hf h33 h34 => ?_) _ (fun j j1 j2 => (s_up_f j2).trans (s_up_f j1)) (by rw [s_up_k (by decide), s_up_eq]; rfl) (by rw [s_up_eq]; rfl)
  · refine e_iload_n dX5_asks_18 rfl ?_
    refine e_bipush dX5_asks_19 rfl ?_
    refine e_icmp_gt (tgt := 59) dX5_asks_21 rfl ⟨by omega, by omega⟩ ⟨by omega, by omega⟩ (fun c1 => ?_) (fun q => by exfalso; omega)
    refine e_return dX5_asks_59 rfl ?_
    exact ⟨rfl, χ2, hf, h33, h34, rfl⟩
  · have hr9 := t_ak_rg σ S k.toNat
    rw [t_it_s _ _ hk0] at hF
    generalize t_it (t_akf σ S) k.toNat (e_bsum S 16, (-1 : Int)) = x at hF hr9 h33 h34 ⊢
    refine e_iload_n dX5_asks_18 rfl ?_
    refine e_bipush dX5_asks_19 rfl ?_
    refine e_icmp_gt (tgt := 59) dX5_asks_21 rfl ⟨by omega, by omega⟩ ⟨by omega, by omega⟩ (fun q => by exfalso; omega) (fun c2 => ?_)
    refine e_aload_n dX5_asks_24 rfl ?_
    refine e_iload_n dX5_asks_25 rfl ?_
    refine e_callV1rz (ci := 5) dX5_asks_26 md_X5_worstAt lk_X5_68 rfl q1531 qs52 (x_o5 _ _) (by decide) rfl (Nat.le_of_ble_eq_true rfl) (C_X5_worstAt (show χ2 32 0 = S from (hf 32 (by decide) (by decide) ▸ hb)) hS ⟨by omega, by omega⟩ (x_rel_cg rel (hf 31 (by decide) (by decide)))) ?_
    refine e_aload_n dX5_asks_29 rfl ?_
    refine e_getV (e_i _) dX5_asks_30 fl_X5_65 (x_o5 _ _) rfl ?_
    rw [h34]
    have hw : 0 ≤ t_wst σ S k ∧ t_wst σ S k ≤ 4 := t_wst_rg σ S k 4
    refine e_icmp_lt (tgt := 39) dX5_asks_33 rfl ⟨by omega, by omega⟩ ⟨by omega, by omega⟩ (fun c3 => ?_) (fun c3 => ?_)
    · refine e_aload_n dX5_asks_39 rfl ?_
      refine e_iload_n dX5_asks_40 rfl ?_
      refine x_put_33 dX5_asks_41 fl_X5_58 ?_
      refine e_aload_n dX5_asks_44 rfl ?_
      refine e_aload_n dX5_asks_45 rfl ?_
      refine e_iload_n dX5_asks_46 rfl ?_
      refine e_callV1rz (ci := 5) dX5_asks_47 md_X5_worstAt lk_X5_68 rfl q1531 qs52 (x_o5 _ _) (by decide) rfl (Nat.le_of_ble_eq_true rfl) (C_X5_worstAt (show s_up χ2 33 0 k 32 0 = S from by rw [s_up_f (by decide), hf 32 (by decide) (by decide)]; exact hb) hS ⟨by omega, by omega⟩ (x_rel_cg rel ((s_up_f (by decide)).trans (hf 31 (by decide) (by decide))))) ?_
      refine x_put_34 dX5_asks_50 fl_X5_65 ?_
      refine e_iinc1 dX5_asks_53 rfl ?_
      refine e_goto (tgt := 18) dX5_asks_56 rfl ?_
      unfold t_akf at hF
      first
        | (rw [if_pos (by omega)] at hF; exact hF χ2 hf h33 h34)
        | (rw [if_neg (by omega)] at hF; exact hF _ (fun j j1 j2 => (s_up_f j2).trans ((s_up_f j1).trans (hf j j1 j2))) (by rw [s_up_k (by decide), s_up_eq]) (by rw [s_up_eq]))
    · refine e_goto (tgt := 53) dX5_asks_36 rfl ?_
      refine e_iinc1 dX5_asks_53 rfl ?_
      refine e_goto (tgt := 18) dX5_asks_56 rfl ?_
      unfold t_akf at hF
      first
        | (rw [if_pos (by omega)] at hF; exact hF χ2 hf h33 h34)
        | (rw [if_neg (by omega)] at hF; exact hF _ (fun j j1 j2 => (s_up_f j2).trans ((s_up_f j1).trans (hf j j1 j2))) (by rw [s_up_k (by decide), s_up_eq]) (by rw [s_up_eq]))
