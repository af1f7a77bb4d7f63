/-! THE COMPONENT: shares (printed by tx23.py) -/
set_option maxRecDepth 100000
theorem x_at_p {σ χ χ3 : t_S} {h0 h3 : e_A} {α : Nat → Nat} (A : x_at χ h0 (σ 1) α) (hf : ∀ j, (j < 10 ∨ 34 < j) → χ3 j = χ j) (he : e_ext h0 h3) : x_at χ3 h3 (σ 1) α := x_at_up (congrFun (hf 1 (by omega)) 0) (x_at_ext he A)
theorem x_p_tr {χ χ1 χ2 : t_S} (a : ∀ j, (j < 10 ∨ 34 < j) → χ1 j = χ j) (b : ∀ j, (j < 10 ∨ 34 < j) → χ2 j = χ1 j) : ∀ j, (j < 10 ∨ 34 < j) → χ2 j = χ j := fun j hj => (b j hj).trans (a j hj)
/-- the worth of a set that walks -/
def x_wS (σ : t_S) (s p : Int) : Prop := ∃ τ, t_ask τ ∧ x_ls σ 18 τ ∧ τ 18 0 = t_and (t_is σ 18 0) s ∧ p = t_pgl (t_ga τ)
theorem x_wS_of {σ x : t_S} {s : Int} (ha : t_ask x) (h38 : 0 ≤ x 38 0 ∧ x 38 0 < 2 ^ 7) (h : ∀ j, (j < 21 ∨ 32 < j) → j ≠ 18 → j ≠ 37 → x j = t_bg σ j) : x_wS σ s (t_pgl (t_wo s x)) := by
  refine ⟨s_up x 18 0 (t_and (x 38 0) s), (t_wo_in ha h38).2.2, fun j hj hne => ?_, ?_, rfl⟩
  · rw [s_up_f hne, h j (by omega) hne (by omega)]
    exact s_up_f (by omega)
  · rw [s_up_eq, h 38 (by omega) (by decide) (by decide)]
    unfold t_bg
    rw [s_up_eq]
theorem x_sh_37 {σ : t_S} (hz : t_sz σ) (hr : t_okR (σ 1)) (n : Nat) : t_inS (t_bg σ) n (t_it t_shf n (t_bg σ)) ∧ ∀ j : Int, 0 ≤ j → j < n → x_wS σ j (t_it t_shf n (t_bg σ) 37 j) := by
  have hb := t_bg_in hz hr
  refine t_it_P (fun i x => t_inS (t_bg σ) i x ∧ ∀ j : Int, 0 ≤ j → j < i → x_wS σ j (x 37 j)) ⟨⟨fun _ _ _ _ => rfl, hb.1, fun j a b => by omega⟩, fun j a b => by omega⟩ n (fun i x i0 i1 hx => ⟨t_shf_in hb.2.1 hx.1, fun j j0 j1 => ?_⟩)
  have h38 : x 38 0 = t_bg σ 38 0 := congrFun (hx.1.1 38 (by omega) (by decide) (by decide)) 0
  unfold t_shf
  by_cases q : j = i
  · subst q
    rw [s_up_eq]
    exact x_wS_of hx.1.2.1 (by rw [h38]; exact hb.2.1) hx.1.1
  · rw [s_up_j q, (t_wo_in (ρ := x) (set := i) hx.1.2.1 (by rw [h38]; exact hb.2.1)).1 37 (by omega) (by decide)]
    exact hx.2 j j0 (by omega)
theorem C_X0_share {σ χ : t_S} {h0 : e_A} {α : Nat → Nat} (A : x_at χ h0 (σ 1) α) (hz : t_sz σ) (hr : t_okR (σ 1)) (hC : t_isC σ ∨ σ 1 7 = 0) {w k : Int} (hw : e_rg w) (hk : e_rg k) : e_C mX0_share [.ref 350, e_i w, e_i k] (x_H χ h0) 768 3072 51 (x_Pub (e_i (v_share σ w k)) χ h0) := by
  have s0 : 0 ≤ σ 1 0 ∧ σ 1 0 ≤ 12 := hz.1
  have s3 := hz.2.1
  have s4 := hz.2.2.1
  have s5 := hz.2.2.2.1
  have s6 := hz.2.2.2.2.1
  have s7 := hz.2.2.2.2.2.1
  have hw1 := hw.1
  have hw2 := hw.2
  have hk1 := hk.1
  have hk2 := hk.2
  have hp7 := t_p7 hz
  refine e_enter (al0 := [.ref 350, e_i w, e_i k, .retAddr 0, .retAddr 0, .retAddr 0, .retAddr 0]) (by decide +kernel) rfl (Nat.le_of_ble_eq_true rfl) ?_
  have A2 := A
  refine e_aload_n dX0_share_0 rfl ?_
  refine e_iload_n dX0_share_1 rfl ?_
  refine e_i2l dX0_share_2 ⟨by omega, by omega⟩ ?_
  refine e_callV1rz (ci := 0) dX0_share_3 md_X0_isWidow lk_X0_138 rfl q1222 qs33 (x_o0 _ _) (by decide) rfl (Nat.le_of_ble_eq_true rfl) (C_X0_isWidow A hz ⟨by omega, by omega⟩) ?_
  refine e_bif_eq (tgt := 16) dX0_share_6 rfl (fun c1 => ?_) (fun c1 => ?_)
  · refine e_ldcw (z := -1000000) dX0_share_16 q1582 rfl ?_
    refine e_ireturn dX0_share_19 rfl rfl ?_
    refine x_pubi0 ?_
    unfold v_share
    rw [if_neg (by omega)]
  · refine e_iload_n dX0_share_9 rfl ?_
    refine e_callS1rz dX0_share_10 md_X0_isBit lk_X0_414 rfl q1580 rfl (Nat.le_of_ble_eq_true rfl) (C_X0_isBit ⟨by omega, by omega⟩) ?_
    refine e_bif_ne (tgt := 20) dX0_share_13 rfl (fun c2 => ?_) (fun c2 => ?_)
    · have s7p : 1 ≤ σ 1 7 := by omega
      refine e_lconst (z := 0) dX0_share_20 rfl ?_
      refine e_lstore_n3 dX0_share_21 rfl ?_
      refine e_iconst dX0_share_22 ?_
      refine e_istore5 dX0_share_23 rfl ?_
      obtain ⟨N, hN⟩ : ∃ N : Int, (2 : Int) ^ (σ 1 7).toNat = N := ⟨_, rfl⟩
      have hNr : 1 ≤ N ∧ N ≤ 128 := by rw [← hN]; exact hp7
      have hsh := x_sh_37 hz hr N.toNat
      obtain ⟨x, hx⟩ : ∃ x, t_it t_shf N.toNat (t_bg σ) = x := ⟨_, rfl⟩
      rw [hx, Int.toNat_of_nonneg (show 0 ≤ N by omega)] at hsh
      obtain ⟨hin, hxw⟩ := hsh
      have hx37 := hin.2.2
      have hV : 0 ≤ k → k ≤ 1 → t_isW σ w → v_share σ w k = t_part (t_sum (t_smg x (σ 1 7) w) N.toNat) (t_fac (σ 1 7)) k := fun a b c => by
        have e7 : t_bg σ 1 7 = σ 1 7 := congrFun (t_bg_in hz hr).2.2.2 7
        unfold v_share t_sh
        rw [if_pos ⟨c, a, b⟩, e7, hN, hx]
      rw [show (Value.long (Int64.ofInt 0)) = e_j (t_sum (t_smg x (σ 1 7) w) (0 : Int).toNat) from rfl]
      refine e_bud (kc1 := 6 * (N - 0).toNat) (ks1 := 24 * (N - 0).toNat) (by omega) (by omega) ?_
      refine e_for (n := N) (F := fun s => ∀ χ2 h2, (∀ j, (j < 10 ∨ 34 < j) → χ2 j = χ j) → e_ext h0 h2 → e_E mX0_share 25 [.ref 350, e_i w, e_i k, e_j (t_sum (t_smg x (σ 1 7) w) s.toNat), .retAddr 0, e_i s, .retAddr 0] [] (x_H χ2 h2) (6 * (N - s).toNat) (24 * (N - s).toNat) 51 (x_Pub (e_i (v_share σ w k)) χ h0)) (by omega) (fun χ2 h2 hf he => ?_) (fun s hs0 hs1 hF χ2 h2 hf he => ?_) χ h0 (fun _ _ => rfl) (e_ext_rf _)
      · have A2 := x_at_p A hf he
        have hsr := t_sum_rg2 (g := t_smg x (σ 1 7) w) (b := 16257024000) N.toNat (fun i i0 i1 => t_smg_rg ⟨by omega, by omega⟩ ⟨by omega, by omega⟩ ⟨i0, by omega⟩ (fun j j0 j1 => hx37 j j0 (by omega)))
        have f3 := t_fac_rg (σ 1 7) (by omega) (by omega)
        obtain ⟨SS, hSS⟩ : ∃ SS, t_sum (t_smg x (σ 1 7) w) N.toNat = SS := ⟨_, rfl⟩
        rw [hSS] at hsr ⊢
        refine e_iload dX0_share_25 rfl ?_
        refine e_aload_n dX0_share_27 rfl ?_
        refine e_callV0rz (ci := 0) dX0_share_28 md_X0_every lk_X0_336 rfl q1465 qs46 (x_o0 _ _) (by decide) rfl (Nat.le_of_ble_eq_true rfl) (C_X0_every A2 hz) ?_
        rw [hN]
        refine e_icmp_gt (tgt := 99) dX0_share_31 rfl ⟨by omega, by omega⟩ ⟨by omega, by omega⟩ (fun c3 => ?_) (fun q => by exfalso; omega)
        refine e_lload_n dX0_share_99 rfl ?_
        refine e_aload_n dX0_share_100 rfl ?_
        refine e_callV0rz (ci := 0) dX0_share_101 md_X0_many lk_X0_126 rfl q1121 qs23 (x_o0 _ _) (by decide) rfl (Nat.le_of_ble_eq_true rfl) (C_X0_many A2 hz) ?_
        refine e_callS1rz dX0_share_104 md_X0_factorial lk_X0_403 rfl q1584 rfl (Nat.le_of_ble_eq_true rfl) (C_X0_fac ⟨by omega, by omega⟩) ?_
        refine e_iload_n dX0_share_107 rfl ?_
        refine e_callS3rz dX0_share_108 md_X0_part lk_X0_418 rfl q1587 rfl (Nat.le_of_ble_eq_true rfl) (C_X0_part ⟨by omega, by omega⟩ ⟨by omega, by omega⟩ ⟨by omega, by omega⟩) ?_
        refine e_l2i dX0_share_111 ?_
        refine e_ireturn dX0_share_112 rfl rfl ?_
        refine x_pubi ?_ hf he
        rw [hV (by omega) (by omega) (by omega), hSS]
      · have A2 := x_at_p A hf he
        have hbs := e_bt01 s w
        rw [show t_sum (t_smg x (σ 1 7) w) (s + 1).toNat = t_sum (t_smg x (σ 1 7) w) s.toNat + t_smg x (σ 1 7) w s from t_sum_s _ hs0, show (N - (s + 1)).toNat = (N - 1 - s).toNat by omega] at hF
        refine e_iload dX0_share_25 rfl ?_
        refine e_aload_n dX0_share_27 rfl ?_
        refine e_callV0rz (ci := 0) dX0_share_28 md_X0_every lk_X0_336 rfl q1465 qs46 (x_o0 _ _) (by decide) rfl (Nat.le_of_ble_eq_true rfl) (C_X0_every A2 hz) ?_
        rw [hN]
        refine e_icmp_gt (tgt := 99) dX0_share_31 rfl ⟨by omega, by omega⟩ ⟨by omega, by omega⟩ (fun q => by exfalso; omega) (fun c4 => ?_)
        refine e_iload dX0_share_34 rfl ?_
        refine e_iload_n dX0_share_36 rfl ?_
        refine e_callS2rz dX0_share_37 md_X0_isOn lk_X0_333 rfl q1165 rfl (Nat.le_of_ble_eq_true rfl) (C_X0_isOn ⟨by omega, by omega⟩ ⟨by omega, by omega⟩) ?_
        refine e_bif_eq (tgt := 46) dX0_share_40 rfl (fun c5 => ?_) (fun c5 => ?_)
        · have hbt := e_bt01 s w
          have hbl := e_bsum_le (n := (σ 1 7).toNat) (s := s) (by omega) (by omega) (by omega) (w := w) ⟨by omega, by omega⟩ (by omega)
          have hpw := e_pow_lt (σ 1 7).toNat (k := w) ⟨by omega, by omega⟩
          have hor := t_or_rg (σ 1 7).toNat (a := s) (b := 2 ^ w.toNat) ⟨by omega, by omega⟩ ⟨by omega, hpw.2⟩
          obtain ⟨τ1, g1a, g1b, g1c, g1d⟩ := hxw _ hor.1 (by omega)
          obtain ⟨τ2, g2a, g2b, g2c, g2d⟩ := hxw s (by omega) (by omega)
          have hgE : t_smg x (σ 1 7) w s = t_fac (e_bsum s 16) * t_fac (σ 1 7 - e_bsum s 16 - 1) * (x 37 (t_or s (2 ^ w.toNat)) - x 37 s) := (if_pos (by omega)).trans (by rw [show σ 1 7 - 1 - e_bsum s 16 = σ 1 7 - e_bsum s 16 - 1 by omega])
          have v1 := hx37 _ hor.1 (by omega)
          have v2 := hx37 s (by omega) (by omega)
          refine e_iload dX0_share_46 rfl ?_
          refine e_callS1rz dX0_share_48 md_X0_size lk_X0_288 rfl q1344 rfl (Nat.le_of_ble_eq_true rfl) (C_X0_size ⟨by omega, by omega⟩) ?_
          refine e_istore6 dX0_share_51 rfl ?_
          refine e_lload_n dX0_share_53 rfl ?_
          refine e_iload dX0_share_54 rfl ?_
          refine e_callS1rz dX0_share_56 md_X0_factorial lk_X0_403 rfl q1584 rfl (Nat.le_of_ble_eq_true rfl) (C_X0_fac ⟨by omega, by omega⟩) ?_
          refine e_aload_n dX0_share_59 rfl ?_
          refine e_callV0rz (ci := 0) dX0_share_60 md_X0_many lk_X0_126 rfl q1121 qs23 (x_o0 _ _) (by decide) rfl (Nat.le_of_ble_eq_true rfl) (C_X0_many A2 hz) ?_
          refine e_iload dX0_share_63 rfl ?_
          refine e_isub dX0_share_65 ?_
          refine e_iconst dX0_share_66 ?_
          refine e_isub dX0_share_67 ?_
          refine e_callS1rz dX0_share_68 md_X0_factorial lk_X0_403 rfl q1584 rfl (Nat.le_of_ble_eq_true rfl) (C_X0_fac ⟨by omega, by omega⟩) ?_
          refine e_lmul dX0_share_71 ?_
          refine e_aload_n dX0_share_72 rfl ?_
          refine e_iload dX0_share_73 rfl ?_
          refine e_iconst dX0_share_75 ?_
          refine e_iload_n dX0_share_76 rfl ?_
          refine e_ishl dX0_share_77 (t_shl1 ⟨by omega, by omega⟩) ?_
          refine e_ior dX0_share_78 (x_or_law (by omega) (Int.le_of_lt hpw.1)) ?_
          refine e_bud (kc1 := (6 * (N - 1 - s).toNat + 3) + 3) (ks1 := (24 * (N - 1 - s).toNat + 12) + 12) (by omega) (by omega) ?_
          refine e_callV1 (M1 := mX0_worthOf) (kc := (6 * (N - 1 - s).toNat + 3)) (ks := (24 * (N - 1 - s).toNat + 12)) (mc := 3) (ms := 12) (ci := 0) dX0_share_79 lk_X0_400 md_X0_worthOf rfl q1573 qs54 (x_o0 _ _) (by decide) rfl (Nat.le_of_ble_eq_true rfl) (C_X0_worthOf A2 hz hr hC g1a g1b g1c ⟨by omega, by omega⟩) (fun a hh q => ?_) (fun i hh q => by cases q.1)
          obtain ⟨q1, χ4, h4, hf4, he4, rfl⟩ := q
          cases q1
          show e_E _ _ _ (_ :: _) _ _ _ _ _
          have A4 := x_at_p A (x_p_tr hf hf4) (e_ext_tr he he4)
          refine e_aload_n dX0_share_82 rfl ?_
          refine e_iload dX0_share_83 rfl ?_
          refine e_bud (kc1 := (6 * (N - 1 - s).toNat) + 3) (ks1 := (24 * (N - 1 - s).toNat) + 12) (Nat.le_refl _) (Nat.le_refl _) ?_
          refine e_callV1 (M1 := mX0_worthOf) (kc := (6 * (N - 1 - s).toNat)) (ks := (24 * (N - 1 - s).toNat)) (mc := 3) (ms := 12) (ci := 0) dX0_share_85 lk_X0_400 md_X0_worthOf rfl q1573 qs54 (x_o0 _ _) (by decide) rfl (Nat.le_of_ble_eq_true rfl) (C_X0_worthOf A4 hz hr hC g2a g2b g2c ⟨by omega, by omega⟩) (fun a hh q => ?_) (fun i hh q => by cases q.1)
          obtain ⟨q1, χ5, h5, hf5, he5, rfl⟩ := q
          cases q1
          show e_E _ _ _ (_ :: _) _ _ _ _ _
          rw [← g1d, ← g2d]
          refine e_isub dX0_share_88 ?_
          refine e_i2l dX0_share_89 ⟨by omega, by omega⟩ ?_
          refine e_lmul dX0_share_90 ?_
          refine e_ladd dX0_share_91 ?_
          refine e_lstore_n3 dX0_share_92 rfl ?_
          refine e_iinc5 dX0_share_93 rfl ?_
          refine e_goto (tgt := 25) dX0_share_96 rfl ?_
          first
            | (rw [hgE] at hF; exact e_fgs [6] (hF χ5 h5 (x_p_tr (x_p_tr hf hf4) hf5) (e_ext_tr (e_ext_tr he he4) he5)))
            | (rw [show t_smg x (σ 1 7) w s = 0 from if_neg (by omega), Int.add_zero] at hF; exact e_bud (by omega) (by omega) (hF χ2 h2 hf he))
        · refine e_goto (tgt := 93) dX0_share_43 rfl ?_
          refine e_iinc5 dX0_share_93 rfl ?_
          refine e_goto (tgt := 25) dX0_share_96 rfl ?_
          first
            | (rw [hgE] at hF; exact e_fgs [6] (hF χ5 h5 (x_p_tr (x_p_tr hf hf4) hf5) (e_ext_tr (e_ext_tr he he4) he5)))
            | (rw [show t_smg x (σ 1 7) w s = 0 from if_neg (by omega), Int.add_zero] at hF; exact e_bud (by omega) (by omega) (hF χ2 h2 hf he))
    · refine e_ldcw (z := -1000000) dX0_share_16 q1582 rfl ?_
      refine e_ireturn dX0_share_19 rfl rfl ?_
      refine x_pubi0 ?_
      unfold v_share
      rw [if_neg (by omega)]
