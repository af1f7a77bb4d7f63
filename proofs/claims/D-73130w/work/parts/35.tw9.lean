/-! THE TWIN: laws, sets (printed by tw9.py) -/
set_option maxRecDepth 100000
theorem C_X6_pegsBy {σ : t_S} {h0 : e_A} (ha : t_ask σ) {l : Int} (hl : 0 ≤ l ∧ l < 4) : e_C mX6_pegsBy [.ref 384, e_i l] (t_H σ h0) 0 0 6 (e_ret (e_i (t_pgl (t_pb l σ))) (t_H (t_pb l σ) h0)) := by
  refine e_enter (al0 := [.ref 384, e_i l]) (by decide +kernel) rfl (Nat.le_of_ble_eq_true rfl) ?_
  refine e_aload_n dX6_pegsBy_0 rfl ?_
  refine e_iload_n dX6_pegsBy_1 rfl ?_
  refine t_puti (k := 17) dX6_pegsBy_2 fl_X6_270 rfl rfl ?_
  refine e_aload_n dX6_pegsBy_5 rfl ?_
  refine e_callV0vz (ci := 6) dX6_pegsBy_6 md_X6_goAll lk_X6_332 rfl q2092 qs87 (t_obj _ _) (by decide) rfl (Nat.le_of_ble_eq_true rfl) (C_X6_goAll (t_ask17 ha hl)) ?_
  refine e_aload_n dX6_pegsBy_9 rfl ?_
  refine e_callV0rz (ci := 6) dX6_pegsBy_10 md_X6_pegsLast lk_X6_419 rfl q2395 qs124 (t_obj _ _) (by decide) rfl (Nat.le_of_ble_eq_true rfl) (C_X6_pegsLast (t_pb_in ha hl).2) ?_
  refine e_ireturn dX6_pegsBy_13 rfl rfl ?_
  exact ⟨rfl, rfl⟩
theorem C_X6_by {σ : t_S} {h0 : e_A} (hz : t_sz σ) (hr : t_okR (σ 1)) {l : Int} (hl : e_rg l) : e_C mX6_by [.ref 384, e_i l] (t_H σ h0) 0 0 7 (t_Pub (v_by (t_af σ) l) σ h0) := by
  refine e_enter (al0 := [.ref 384, e_i l]) (by decide +kernel) rfl (Nat.le_of_ble_eq_true rfl) ?_
  refine e_aload_n dX6_by_0 rfl ?_
  refine e_callV0rz (ci := 6) dX6_by_1 md_X6_asksColony lk_X6_335 rfl q2080 qs84 (t_obj _ _) (by decide) rfl (Nat.le_of_ble_eq_true rfl) (C_X6_asksColony hz hr) ?_
  have H := t_af_hist hz hr
  have hpk := t_af_pk hz hr
  generalize t_af σ = ρ at H hpk ⊢
  replace hz : t_sz ρ := H.1.1
  have s0 := H.1.1.1
  have s3 := H.1.1.2.1
  have s4 := H.1.1.2.2.1
  have s6 := H.1.1.2.2.2.2.1
  have s7 := H.1.1.2.2.2.2.2.1
  
  refine e_bif_eq (tgt := 27) dX6_by_4 rfl (fun c1 => ?_) (fun c1 => ?_)
  · refine e_bipush dX6_by_27 rfl ?_
    refine e_ireturn dX6_by_29 rfl rfl ?_
    first
      | exact t_pub (by unfold v_by; rw [if_pos ⟨by assumption, by omega⟩]) hpk2
      | exact t_pub (by unfold v_by; rw [if_neg (by omega)]) hpk
  · refine e_iload_n dX6_by_7 rfl ?_
    refine e_i2l dX6_by_8 ⟨by omega, by omega⟩ ?_
    refine e_lconst (z := 0) dX6_by_9 rfl ?_
    refine e_ldc2 (z := 3) dX6_by_10 q2412 rfl ?_
    refine e_callS3rz dX6_by_13 md_X6_in lk_X6_106 rfl q1930 rfl (Nat.le_of_ble_eq_true rfl) (C_X6_in ⟨by omega, by omega⟩ ⟨by omega, by omega⟩ ⟨by omega, by omega⟩) ?_
    refine e_bif_eq (tgt := 27) dX6_by_16 rfl (fun c2 => ?_) (fun c2 => ?_)
    · refine e_bipush dX6_by_27 rfl ?_
      refine e_ireturn dX6_by_29 rfl rfl ?_
      first
        | exact t_pub (by unfold v_by; rw [if_pos ⟨by assumption, by omega⟩]) hpk2
        | exact t_pub (by unfold v_by; rw [if_neg (by omega)]) hpk
    · have h17 := t_pb_in (l := l) H.1 ⟨by omega, by omega⟩
      have hpk2 := t_pk17 hpk h17.1
      refine e_aload_n dX6_by_19 rfl ?_
      refine e_iload_n dX6_by_20 rfl ?_
      refine e_callV1rz (ci := 6) dX6_by_21 md_X6_pegsBy lk_X6_451 rfl q2455 qs132 (t_obj _ _) (by decide) rfl (Nat.le_of_ble_eq_true rfl) (C_X6_pegsBy H.1 ⟨by omega, by omega⟩) ?_
      refine e_goto (tgt := 29) dX6_by_24 rfl ?_
      refine e_ireturn dX6_by_29 rfl rfl ?_
      first
        | exact t_pub (by unfold v_by; rw [if_pos ⟨by assumption, by omega⟩]) hpk2
        | exact t_pub (by unfold v_by; rw [if_neg (by omega)]) hpk
theorem C_X6_law {σ : t_S} {h0 : e_A} (hz : t_sz σ) (hr : t_okR (σ 1)) : e_C mX6_law [.ref 384] (t_H σ h0) 0 0 7 (t_Pub (v_law (t_af σ)) σ h0) := by
  refine e_enter (al0 := [.ref 384, .retAddr 0, .retAddr 0]) (by decide +kernel) rfl (Nat.le_of_ble_eq_true rfl) ?_
  refine e_aload_n dX6_law_0 rfl ?_
  refine e_callV0rz (ci := 6) dX6_law_1 md_X6_asksColony lk_X6_335 rfl q2080 qs84 (t_obj _ _) (by decide) rfl (Nat.le_of_ble_eq_true rfl) (C_X6_asksColony hz hr) ?_
  have H := t_af_hist hz hr
  have hpk := t_af_pk hz hr
  generalize t_af σ = ρ at H hpk ⊢
  replace hz : t_sz ρ := H.1.1
  have s0 := H.1.1.1
  have s3 := H.1.1.2.1
  have s4 := H.1.1.2.2.1
  have s6 := H.1.1.2.2.2.2.1
  have s7 := H.1.1.2.2.2.2.2.1
  
  refine e_bif_ne (tgt := 10) dX6_law_4 rfl (fun c1 => ?_) (fun c1 => ?_)
  · refine e_iconst dX6_law_10 ?_
    refine e_istore_n1 dX6_law_11 rfl ?_
    refine e_iconst dX6_law_12 ?_
    refine e_istore_n2 dX6_law_13 rfl ?_
    refine e_forA (a := 1) (n := 4) (fun k => e_E mX6_law 14 [.ref 384, e_i (t_it (fun j x => t_lwf (j + 1) x) (k - 1).toNat (ρ, (0 : Int))).2, e_i k] [] (t_H (t_it (fun j x => t_lwf (j + 1) x) (k - 1).toNat (ρ, (0 : Int))).1 h0) _ _ _ _) (by omega) ?_ (fun k hk0 hk1 hG => ?_)
    · have zin := t_lwl_in H.1 3 (Nat.le_refl _)
      obtain ⟨x, hx⟩ : ∃ x, t_it (fun j x => t_lwf (j + 1) x) 3 (ρ, (0 : Int)) = x := ⟨_, rfl⟩
      rw [show t_it (fun j x => t_lwf (j + 1) x) ((4 : Int) - 1).toNat (ρ, (0 : Int)) = t_it (fun j x => t_lwf (j + 1) x) 3 (ρ, (0 : Int)) from rfl]
      rw [hx] at zin ⊢
      refine e_iload_n dX6_law_14 rfl ?_
      refine e_iconst dX6_law_15 ?_
      refine e_icmp_ge (tgt := 44) dX6_law_16 rfl ⟨by omega, by omega⟩ ⟨by omega, by omega⟩ (fun c2 => ?_) (fun q => by exfalso; omega)
      refine e_iload_n dX6_law_44 rfl ?_
      refine e_ireturn dX6_law_45 rfl rfl ?_
      refine t_pub ?_ (t_pk17 hpk zin.1)
      unfold v_law
      rw [hx, if_pos (by assumption)]
    · have e : t_it (fun j x => t_lwf (j + 1) x) (k + 1 - 1).toNat (ρ, (0 : Int)) = t_lwf k (t_it (fun j x => t_lwf (j + 1) x) (k - 1).toNat (ρ, (0 : Int))) := by
        rw [show k + 1 - 1 = (k - 1) + 1 by omega, t_it_s _ _ (by omega)]
        show t_lwf (k - 1 + 1) _ = _
        rw [Int.sub_add_cancel]
      rw [e] at hG
      clear e
      have zin := t_lwl_in H.1 (k - 1).toNat (by omega)
      generalize t_it (fun j x => t_lwf (j + 1) x) (k - 1).toNat (ρ, (0 : Int)) = z at hG zin ⊢
      refine e_iload_n dX6_law_14 rfl ?_
      refine e_iconst dX6_law_15 ?_
      refine e_icmp_ge (tgt := 44) dX6_law_16 rfl ⟨by omega, by omega⟩ ⟨by omega, by omega⟩ (fun q => by exfalso; omega) (fun c3 => ?_)
      refine e_aload_n dX6_law_19 rfl ?_
      refine e_iload_n dX6_law_20 rfl ?_
      refine e_callV1rz (ci := 6) dX6_law_21 md_X6_pegsBy lk_X6_451 rfl q2455 qs132 (t_obj _ _) (by decide) rfl (Nat.le_of_ble_eq_true rfl) (C_X6_pegsBy zin.2.1 ⟨by omega, by omega⟩) ?_
      have b1 := t_pb_in (l := k) zin.2.1 ⟨by omega, by omega⟩
      have b2 := t_pb_in (l := z.2) b1.2.1 zin.2.2
      refine e_aload_n dX6_law_24 rfl ?_
      refine e_iload_n dX6_law_25 rfl ?_
      refine e_callV1rz (ci := 6) dX6_law_26 md_X6_pegsBy lk_X6_451 rfl q2455 qs132 (t_obj _ _) (by decide) rfl (Nat.le_of_ble_eq_true rfl) (C_X6_pegsBy b1.2.1 zin.2.2) ?_
      have m1 : 0 ≤ t_pgl (t_pb k z.1) ∧ t_pgl (t_pb k z.1) ≤ 640 := t_pgm_rg _ _
      have m2 : 0 ≤ t_pgl (t_pb z.2 (t_pb k z.1)) ∧ t_pgl (t_pb z.2 (t_pb k z.1)) ≤ 640 := t_pgm_rg _ _
      refine e_icmp_le (tgt := 36) dX6_law_29 rfl ⟨by omega, by omega⟩ ⟨by omega, by omega⟩ (fun c4 => ?_) (fun c4 => ?_)
      · refine e_iload_n dX6_law_36 rfl ?_
        refine e_istore_n1 dX6_law_37 rfl ?_
        refine e_iinc2 dX6_law_38 rfl ?_
        refine e_goto (tgt := 14) dX6_law_41 rfl ?_
        unfold t_lwf at hG
        dsimp only at hG
        first
          | (rw [if_pos (by omega)] at hG; exact hG)
          | (rw [if_neg (by omega)] at hG; exact hG)
      · refine e_iload_n dX6_law_32 rfl ?_
        refine e_goto (tgt := 37) dX6_law_33 rfl ?_
        refine e_istore_n1 dX6_law_37 rfl ?_
        refine e_iinc2 dX6_law_38 rfl ?_
        refine e_goto (tgt := 14) dX6_law_41 rfl ?_
        unfold t_lwf at hG
        dsimp only at hG
        first
          | (rw [if_pos (by omega)] at hG; exact hG)
          | (rw [if_neg (by omega)] at hG; exact hG)
  · refine e_bipush dX6_law_7 rfl ?_
    refine e_ireturn dX6_law_9 rfl rfl ?_
    refine t_pub ?_ hpk
    unfold v_law
    (repeat' split) <;> first | rfl | omega
theorem C_X6_beginSets {σ : t_S} {h0 : e_A} (hz : t_sz σ) (hr : t_okR (σ 1)) : e_C mX6_beginSets [.ref 384] (t_H σ h0) 0 0 3 (e_rev (t_H (t_bg σ) h0)) := by
  refine e_enter (al0 := [.ref 384]) (by decide +kernel) rfl (Nat.le_of_ble_eq_true rfl) ?_
  refine e_aload_n dX6_beginSets_0 rfl ?_
  refine e_callV0vz (ci := 6) dX6_beginSets_1 md_X6_asItIs lk_X6_329 rfl q2084 qs85 (t_obj _ _) (by decide) rfl (Nat.le_of_ble_eq_true rfl) (C_X6_asItIs hz hr) ?_
  refine e_aload_n dX6_beginSets_4 rfl ?_
  refine e_aload_n dX6_beginSets_5 rfl ?_
  refine t_geti (k := 18) dX6_beginSets_6 fl_X6_276 rfl ?_
  refine t_puti (k := 38) dX6_beginSets_9 fl_X6_454 rfl rfl ?_
  refine e_return dX6_beginSets_12 rfl ?_
  exact ⟨rfl, rfl⟩
theorem C_X6_worthOf {σ : t_S} {h0 : e_A} (ha : t_ask σ) {s : Int} (h38 : 0 ≤ σ 38 0 ∧ σ 38 0 < 2 ^ 7) (hs : 0 ≤ s) : e_C mX6_worthOf [.ref 384, e_i s] (t_H σ h0) 0 0 6 (e_ret (e_i (t_pgl (t_wo s σ))) (t_H (t_wo s σ) h0)) := by
  refine e_enter (al0 := [.ref 384, e_i s]) (by decide +kernel) rfl (Nat.le_of_ble_eq_true rfl) ?_
  refine e_aload_n dX6_worthOf_0 rfl ?_
  refine e_aload_n dX6_worthOf_1 rfl ?_
  refine t_geti (k := 38) dX6_worthOf_2 fl_X6_454 rfl ?_
  refine e_iload_n dX6_worthOf_5 rfl ?_
  refine e_iand dX6_worthOf_6 (t_and_law h38.1 hs) ?_
  refine t_puti (k := 18) dX6_worthOf_7 fl_X6_276 rfl rfl ?_
  refine e_aload_n dX6_worthOf_10 rfl ?_
  refine e_callV0vz (ci := 6) dX6_worthOf_11 md_X6_goAll lk_X6_332 rfl q2092 qs87 (t_obj _ _) (by decide) rfl (Nat.le_of_ble_eq_true rfl) (C_X6_goAll (t_wo_in ha h38).2.2) ?_
  refine e_aload_n dX6_worthOf_14 rfl ?_
  refine e_callV0rz (ci := 6) dX6_worthOf_15 md_X6_pegsLast lk_X6_419 rfl q2395 qs124 (t_obj _ _) (by decide) rfl (Nat.le_of_ble_eq_true rfl) (C_X6_pegsLast (t_wo_in (set := s) ha h38).2.1) ?_
  refine e_ireturn dX6_worthOf_18 rfl rfl ?_
  exact ⟨rfl, rfl⟩
theorem C_X6_worth {σ : t_S} {h0 : e_A} (hz : t_sz σ) (hr : t_okR (σ 1)) {s : Int} (hs : e_rg s) : e_C mX6_worth [.ref 384, e_i s] (t_H σ h0) 0 0 7 (t_Pub (v_worth (t_bg σ) s) σ h0) := by
  refine e_enter (al0 := [.ref 384, e_i s]) (by decide +kernel) rfl (Nat.le_of_ble_eq_true rfl) ?_
  refine e_aload_n dX6_worth_0 rfl ?_
  refine e_callV0vz (ci := 6) dX6_worth_1 md_X6_beginSets lk_X6_457 rfl q2467 qs133 (t_obj _ _) (by decide) rfl (Nat.le_of_ble_eq_true rfl) (C_X6_beginSets hz hr) ?_
  have hB := t_bg_in hz hr
  generalize t_bg σ = ρ at hB ⊢
  have bz := hB.1.1
  have s7 := bz.2.2.2.2.2.1
  have hp7 : (2 : Int) ^ (ρ 1 7).toNat ≤ 2 ^ 7 := by
    have := Nat.pow_le_pow_right (n := 2) (by decide) (show (ρ 1 7).toNat ≤ 7 by omega)
    have e2 : ((2 ^ (ρ 1 7).toNat : Nat) : Int) = 2 ^ (ρ 1 7).toNat := by simp
    omega
  have hp0 := t_p2 (ρ 1 7).toNat
  refine e_aload_n dX6_worth_4 rfl ?_
  refine e_callV0rz (ci := 6) dX6_worth_5 md_X6_isColony lk_X6_114 rfl q2149 qs99 (t_obj _ _) (by decide) rfl (Nat.le_of_ble_eq_true rfl) (C_X6_isColony bz) ?_
  refine e_bif_eq (tgt := 33) dX6_worth_8 rfl (fun c1 => ?_) (fun c1 => ?_)
  · refine e_bipush dX6_worth_33 rfl ?_
    refine e_ireturn dX6_worth_35 rfl rfl ?_
    first
      | exact t_pub (by unfold v_worth; rw [if_pos ⟨by assumption, by omega⟩]) hpk2
      | exact t_pub (by unfold v_worth; rw [if_neg (by omega)]) hB.2.2.1
  · refine e_iload_n dX6_worth_11 rfl ?_
    refine e_i2l dX6_worth_12 ⟨by omega, by omega⟩ ?_
    refine e_lconst (z := 0) dX6_worth_13 rfl ?_
    refine e_aload_n dX6_worth_14 rfl ?_
    refine e_callV0rz (ci := 6) dX6_worth_15 md_X6_allWidows lk_X6_273 rfl q2088 qs86 (t_obj _ _) (by decide) rfl (Nat.le_of_ble_eq_true rfl) (C_X6_allWidows bz) ?_
    refine e_i2l dX6_worth_18 ⟨by omega, by omega⟩ ?_
    refine e_callS3rz dX6_worth_19 md_X6_in lk_X6_106 rfl q1930 rfl (Nat.le_of_ble_eq_true rfl) (C_X6_in ⟨by omega, by omega⟩ ⟨by omega, by omega⟩ ⟨by omega, by omega⟩) ?_
    refine e_bif_eq (tgt := 33) dX6_worth_22 rfl (fun c2 => ?_) (fun c2 => ?_)
    · refine e_bipush dX6_worth_33 rfl ?_
      refine e_ireturn dX6_worth_35 rfl rfl ?_
      first
        | exact t_pub (by unfold v_worth; rw [if_pos ⟨by assumption, by omega⟩]) hpk2
        | exact t_pub (by unfold v_worth; rw [if_neg (by omega)]) hB.2.2.1
    · have hw := t_wo_in (set := s) hB.1 hB.2.1
      have hpk2 := t_pkG hB.2.2.1 hw.1
      refine e_aload_n dX6_worth_25 rfl ?_
      refine e_iload_n dX6_worth_26 rfl ?_
      refine e_callV1rz (ci := 6) dX6_worth_27 md_X6_worthOf lk_X6_460 rfl q2471 qs134 (t_obj _ _) (by decide) rfl (Nat.le_of_ble_eq_true rfl) (C_X6_worthOf hB.1 hB.2.1 (by omega)) ?_
      refine e_goto (tgt := 35) dX6_worth_30 rfl ?_
      refine e_ireturn dX6_worth_35 rfl rfl ?_
      first
        | exact t_pub (by unfold v_worth; rw [if_pos ⟨by assumption, by omega⟩]) hpk2
        | exact t_pub (by unfold v_worth; rw [if_neg (by omega)]) hB.2.2.1
