/-! THE COMPONENT: bridges, lines, served, covers (printed by tx19.py) -/
set_option maxRecDepth 100000
theorem C_X0_bridges {ρ χ : t_S} {h0 : e_A} {α : Nat → Nat} (q : x_Q ρ χ h0 α) {y : Int} (hy : e_rg y) : e_C mX0_bridges [.ref 350, e_i y] (x_H χ h0) 3 12 7 (x_Pub (e_i (v_bridges ρ y)) χ h0) := by
  obtain ⟨A, hz, hr, F, hIs, hI⟩ := q
  have s0 : 0 ≤ ρ 1 0 ∧ ρ 1 0 ≤ 12 := hz.1
  have s3 := hz.2.1
  have s4 := hz.2.2.1
  have s5 := hz.2.2.2.1
  have s6 := hz.2.2.2.2.1
  have s7 := hz.2.2.2.2.2.1
  have ky1 := hy.1
  have ky2 := hy.2
  refine e_enter (al0 := [.ref 350, e_i y, .retAddr 0, .retAddr 0, .retAddr 0]) (by decide +kernel) rfl (Nat.le_of_ble_eq_true rfl) ?_
  refine e_aload_n dX0_bridges_0 rfl ?_
  refine e_iload_n dX0_bridges_1 rfl ?_
  refine e_callV1rz (ci := 0) dX0_bridges_2 md_X0_isYear lk_X0_269 rfl q1312 qs39 (x_o0 _ _) (by decide) rfl (Nat.le_of_ble_eq_true rfl) (C_X0_isYear A hz ⟨by omega, by omega⟩) ?_
  refine e_bif_ne (tgt := 11) dX0_bridges_5 rfl (fun c1 => ?_) (fun c1 => ?_)
  · refine e_aload_n dX0_bridges_11 rfl ?_
    refine e_bud (kc1 := 0 + 3) (ks1 := 0 + 12) (by decide) (by decide) ?_
    refine e_callV0 (M1 := mX0_is) (kc := 0) (ks := 0) (mc := 3) (ms := 12) (ci := 0) dX0_bridges_12 lk_X0_194 md_X0_is rfl q1047 qs21 (x_o0 _ _) (by decide) rfl (Nat.le_of_ble_eq_true rfl) (hIs) (fun a hh q => ?_) (fun i hh q => by cases q.1)
    obtain ⟨q1, χ1, h1, N, hfr, he1, rfl⟩ := q
    cases q1
    show e_E _ _ _ (_ :: _) _ _ _ _ _
    have A1 := x_at_1 A hfr he1
    refine e_pop dX0_bridges_15 rfl ?_
    refine e_iconst dX0_bridges_16 ?_
    refine e_istore_n2 dX0_bridges_17 rfl ?_
    refine e_iconst dX0_bridges_18 ?_
    refine e_istore_n3 dX0_bridges_19 rfl ?_
    rw [show (Value.int (Int32.ofInt 0)) = e_i (t_sum (fun s => x_bg1 ρ y (x_ce s) 1 + x_bg1 ρ y (x_ce s) 2) (0 : Int).toNat) from rfl]
    refine e_for (n := 64) (F := fun s => ∀ χ3, x_fW χ1 χ3 → e_E mX0_bridges 20 [.ref 350, e_i y, e_i (t_sum (fun s => x_bg1 ρ y (x_ce s) 1 + x_bg1 ρ y (x_ce s) 2) s.toNat), e_i s, .retAddr 0] [] (x_H χ3 h1) _ _ _ _) (by omega) (fun χ3 w => ?_) (fun s hs0 hs1 hF χ3 w => ?_) χ1 (x_fW_rf χ1)
    · refine e_iload_n dX0_bridges_20 rfl ?_
      refine e_bipush dX0_bridges_21 rfl ?_
      refine e_icmp_ge (tgt := 91) dX0_bridges_23 rfl ⟨by omega, by omega⟩ ⟨by omega, by omega⟩ (fun c2 => ?_) (fun q => by exfalso; omega)
      refine e_iload_n dX0_bridges_91 rfl ?_
      refine e_ireturn dX0_bridges_92 rfl rfl ?_
      refine x_pubi ?_ (x_f34w hfr w) he1
      unfold v_bridges
      rw [if_pos ⟨by omega, by omega, by omega⟩, x_br F ⟨by omega, by omega⟩]
      exact (x_sum_ce (g := fun c => x_bg1 ρ y c 1 + x_bg1 ρ y c 2) (fun c c0 c1 hc => by show x_bg1 ρ y c 1 + x_bg1 ρ y c 2 = 0; rw [x_bg10 F ⟨by omega, by omega⟩ ⟨c0, c1⟩ hc, x_bg10 F ⟨by omega, by omega⟩ ⟨c0, c1⟩ hc]; rfl) 8 (Nat.le_refl _)).symm
    · rw [t_sum_s (fun s => x_bg1 ρ y (x_ce s) 1 + x_bg1 ρ y (x_ce s) 2) hs0] at hF
      obtain ⟨c, c8, hs, hsc⟩ : ∃ c, x_c8 c ∧ s = x_sp c ∧ x_ce s = c := ⟨x_ce s, (x_ce_rg ⟨hs0, hs1⟩).1, x_spce ⟨hs0, hs1⟩, rfl⟩
      subst hs
      rw [hsc] at hF
      obtain ⟨B, hB⟩ : ∃ B, t_sum (fun s => x_bg1 ρ y (x_ce s) 1 + x_bg1 ρ y (x_ce s) 2) (x_sp c).toNat = B := ⟨_, rfl⟩
      rw [hB] at hF ⊢
      refine e_iload_n dX0_bridges_20 rfl ?_
      refine e_bipush dX0_bridges_21 rfl ?_
      refine e_icmp_ge (tgt := 91) dX0_bridges_23 rfl ⟨by omega, by omega⟩ ⟨by omega, by omega⟩ (fun q => by exfalso; omega) (fun c3 => ?_)
      refine e_iconst dX0_bridges_26 ?_
      refine e_istore4 dX0_bridges_27 rfl ?_
      rw [show e_i B = e_i (B + t_sum (fun j => x_bg1 ρ y c (j + 1)) (1 - 1 : Int).toNat) from by rw [show t_sum (fun j => x_bg1 ρ y c (j + 1)) (1 - 1 : Int).toNat = 0 from rfl, Int.add_zero]]
      refine e_forA (a := 1) (n := 3) (F := fun d => ∀ χ3, x_fW χ1 χ3 → e_E mX0_bridges 29 [.ref 350, e_i y, e_i (B + t_sum (fun j => x_bg1 ρ y c (j + 1)) (d - 1).toNat), e_i (x_sp c), e_i d] [] (x_H χ3 h1) _ _ _ _) (by omega) (fun χ3 w => ?_) (fun d hd0 hd1 hG χ3 w => ?_) χ3 w
      · rw [show t_sum (fun j => x_bg1 ρ y c (j + 1)) (3 - 1 : Int).toNat = x_bg1 ρ y c 1 + x_bg1 ρ y c 2 from by show 0 + x_bg1 ρ y c (0 + 1) + x_bg1 ρ y c (1 + 1) = _; rw [Int.zero_add]; rfl]
        refine e_iload dX0_bridges_29 rfl ?_
        refine e_iconst dX0_bridges_31 ?_
        refine e_icmp_ge (tgt := 85) dX0_bridges_32 rfl ⟨by omega, by omega⟩ ⟨by omega, by omega⟩ (fun c4 => ?_) (fun q => by exfalso; omega)
        refine e_iinc3 dX0_bridges_85 rfl ?_
        refine e_goto (tgt := 20) dX0_bridges_88 rfl ?_
        exact e_fgt 4 (hF χ3 w)
      · have hgd : t_sum (fun j => x_bg1 ρ y c (j + 1)) (d + 1 - 1).toNat = t_sum (fun j => x_bg1 ρ y c (j + 1)) (d - 1).toNat + x_bg1 ρ y c d := by
          rw [show d + 1 - 1 = (d - 1) + 1 by omega, t_sum_s _ (by omega)]
          show _ + x_bg1 ρ y c (d - 1 + 1) = _
          rw [Int.sub_add_cancel]
        rw [hgd] at hG
        have h01 := e_bt01 (ρ 31 (80 * y + c)) d
        have hbg : x_bg1 ρ y c d = if e_bt (ρ 31 (80 * y + c)) d = 0 then 0 else if x_bq ρ y c d (t_bes ρ c d) = -1 then 1 else 0 := rfl
        obtain ⟨Z, hZ⟩ : ∃ Z, t_sum (fun j => x_bg1 ρ y c (j + 1)) (d - 1).toNat = Z := ⟨_, rfl⟩
        rw [hZ] at hG ⊢
        refine e_iload dX0_bridges_29 rfl ?_
        refine e_iconst dX0_bridges_31 ?_
        refine e_icmp_ge (tgt := 85) dX0_bridges_32 rfl ⟨by omega, by omega⟩ ⟨by omega, by omega⟩ (fun q => by exfalso; omega) (fun c5 => ?_)
        refine e_aload_n dX0_bridges_35 rfl ?_
        refine e_getV (.ref 366) dX0_bridges_36 fl_X0_68 (x_o0 _ _) rfl ?_
        refine e_iload_n dX0_bridges_39 rfl ?_
        refine e_iload dX0_bridges_40 rfl ?_
        refine e_iload_n dX0_bridges_42 rfl ?_
        refine e_callV3rz (ci := 3) dX0_bridges_43 md_X3_isPeg lk_X0_281 rfl q1336 q1337 (x_o3 _ _) (by decide) rfl (Nat.le_of_ble_eq_true rfl) (C_X3_isPeg (x_at_fW w A1) hz F (x_An_fW w N) rfl c8 ⟨by omega, by omega⟩ ⟨by omega, by omega⟩) ?_
        refine e_bif_eq (tgt := 79) dX0_bridges_46 rfl (fun kp => ?_) (fun kp => ?_)
        · refine e_iinc4 dX0_bridges_79 rfl ?_
          refine e_goto (tgt := 29) dX0_bridges_82 rfl ?_
          first
            | (rw [hbg, if_pos (by omega), Int.add_zero] at hG; exact hG χ3 w)
            | (rw [hbg, if_neg (by omega), if_pos (by omega), ← Int.add_assoc] at hG; exact hG χ4 (x_fW_tr w w4))
            | (rw [hbg, if_neg (by omega), if_neg (by omega), Int.add_zero] at hG; exact hG χ4 (x_fW_tr w w4))
        · have hD := x_bq_D F (y := y) (c := c) (d := d) ⟨by omega, by omega⟩ c8 (by omega) kp
          have hpp := (x_pgF F (y := y) ⟨by omega, by omega⟩ (c := c) ⟨c8.1, c8.2.1⟩).2.1 d (by omega) (by omega) kp
          have b8 : x_c8 (t_bes ρ c d) := (x_bes_cn hz c d).elim (fun z => absurd z hpp.1) id
          have rb := x_sp_rg b8
          refine e_aload_n dX0_bridges_49 rfl ?_
          refine e_getV (.ref 379) dX0_bridges_50 fl_X0_75 (x_o0 _ _) rfl ?_
          refine e_iload_n dX0_bridges_53 rfl ?_
          refine e_iload_n dX0_bridges_54 rfl ?_
          refine e_iload_n dX0_bridges_55 rfl ?_
          refine e_iload dX0_bridges_56 rfl ?_
          refine e_bud (kc1 := 0 + 0) (ks1 := 0 + 0) (by decide) (by decide) ?_
          refine e_callV4 (M1 := mX4_by_2) (kc := 0) (ks := 0) (mc := 0) (ms := 0) (ci := 4) dX0_bridges_58 lk_X0_308 md_X4_by_2 rfl q1372 q1373 (x_o4 _ _) (by decide) rfl (Nat.le_of_ble_eq_true rfl) (C_X4_by_2 (x_at_fW w A1) hz F (x_An_fW w N) rfl c8 ⟨by omega, by omega⟩ rfl (Or.inr c8) ⟨by omega, by omega⟩ hD.1 hD.2.1) (fun a hh q => ?_) (fun i hh q => by cases q.1)
          obtain ⟨q1, χ4, w4, hDn, rfl⟩ := q
          cases q1
          show e_E _ _ _ (_ :: _) _ _ _ _ _
          refine e_getV (.ref (x_ai 28)) dX0_bridges_61 fl_X0_263 (x_o4 _ _) rfl ?_
          refine e_aload_n dX0_bridges_64 rfl ?_
          refine e_iload_n dX0_bridges_65 rfl ?_
          refine e_iload dX0_bridges_66 rfl ?_
          refine e_callV2rz (ci := 0) dX0_bridges_68 md_X0_beside lk_X0_311 rfl q1177 qs27 (x_o0 _ _) (by decide) rfl (Nat.le_of_ble_eq_true rfl) (C_X0_beside (x_at_fW w4 (x_at_fW w A1)) hz c8 ⟨by omega, by omega⟩) ?_
          have u1 := hDn.1 _ b8
          have u2 := hD.2.2 _ b8.1 b8.2.1
          refine x_ild 64 dX0_bridges_71 rfl (by decide) (fun _ => rfl) rfl ⟨by omega, by omega⟩ ?_
          refine e_iconst dX0_bridges_72 ?_
          refine e_icmp_ne (tgt := 79) dX0_bridges_73 rfl ⟨by omega, by omega⟩ ⟨by omega, by omega⟩ (fun kn => ?_) (fun kn => ?_)
          · refine e_iinc4 dX0_bridges_79 rfl ?_
            refine e_goto (tgt := 29) dX0_bridges_82 rfl ?_
            first
              | (rw [hbg, if_pos (by omega), Int.add_zero] at hG; exact hG χ3 w)
              | (rw [hbg, if_neg (by omega), if_pos (by omega), ← Int.add_assoc] at hG; exact hG χ4 (x_fW_tr w w4))
              | (rw [hbg, if_neg (by omega), if_neg (by omega), Int.add_zero] at hG; exact hG χ4 (x_fW_tr w w4))
          · refine e_iinc2 dX0_bridges_76 rfl ?_
            refine e_iinc4 dX0_bridges_79 rfl ?_
            refine e_goto (tgt := 29) dX0_bridges_82 rfl ?_
            first
              | (rw [hbg, if_pos (by omega), Int.add_zero] at hG; exact hG χ3 w)
              | (rw [hbg, if_neg (by omega), if_pos (by omega), ← Int.add_assoc] at hG; exact hG χ4 (x_fW_tr w w4))
              | (rw [hbg, if_neg (by omega), if_neg (by omega), Int.add_zero] at hG; exact hG χ4 (x_fW_tr w w4))
  · refine e_bipush dX0_bridges_8 rfl ?_
    refine e_ireturn dX0_bridges_10 rfl rfl ?_
    first
      | (refine x_pubi ?_ (x_f34 hfr) he1
         unfold v_bridges
         (repeat' split) <;> first | rfl | omega | (omega))
      | (refine x_pubi0 ?_
         unfold v_bridges
         (repeat' split) <;> first | rfl | omega)
theorem P_xline_41 {ρ χ : t_S} {h0 : e_A} {α : Nat → Nat} (A : x_at χ h0 (ρ 1) α) (hz : t_sz ρ) (F : z_F ρ) (N : x_An ρ χ) {y m s0 d : Int} {Q : e_R → e_A → Prop} (hy : 0 ≤ y ∧ y ≤ ρ 1 0) (hd : d = 1 ∨ d = 2) : ∀ (f : Nat) (k n : Int), x_c8 k → ((d = 1 ∧ 7 - k / 10 < f) ∨ (d = 2 ∧ 9 - k % 10 < f)) → (0 ≤ n ∧ n + f ≤ 20) → e_E mX0_line 72 [.ref 350, e_i y, e_i m, e_i s0, e_i d, e_i (t_lne ρ y d f k n), .retAddr 0] [] (x_H χ h0) 0 0 7 Q → e_E mX0_line 41 [.ref 350, e_i y, e_i m, e_i s0, e_i d, e_i n, e_i (x_sp k)] [] (x_H χ h0) 0 0 7 Q
  | 0, k, n, hk, hm, hn, hX => by exfalso; have := hk.1; have := hk.2.1; have := hk.2.2; omega
  | f + 1, k, n, hk, hm, hn, hX => by
    have b1 := hk.1
    have b2 := hk.2.1
    have b3 := hk.2.2
    have rk := x_sp_rg hk
    refine e_aload_n dX0_line_41 rfl ?_
    refine e_getV (.ref 366) dX0_line_42 fl_X0_68 (x_o0 _ _) rfl ?_
    refine e_iload dX0_line_45 rfl ?_
    refine e_iload dX0_line_47 rfl ?_
    refine e_iload_n dX0_line_49 rfl ?_
    refine e_callV3rz (ci := 3) dX0_line_50 md_X3_isPeg lk_X0_281 rfl q1336 q1337 (x_o3 _ _) (by decide) rfl (Nat.le_of_ble_eq_true rfl) (C_X3_isPeg A hz F N rfl hk ⟨by omega, by omega⟩ hy) ?_
    refine e_bif_eq (tgt := 72) dX0_line_53 rfl (fun kb => ?_) (fun kb => ?_)
    · have e : t_lne ρ y d (f + 1) k n = n := if_neg kb
      rw [e] at hX
      exact e_fgt 6 hX
    · have hbb := (x_pgF F hy (c := k) ⟨hk.1, hk.2.1⟩).2.1 d (by omega) (by omega) kb
      have b8 : x_c8 (t_bes ρ k d) := (x_bes_cn hz k d).elim (fun z => absurd z hbb.1) id
      have b9 := x_bes4 ρ k
      have hst := hbb.1
      have bb : (d = 1 ∧ t_bes ρ k d = k + 10) ∨ (d = 2 ∧ t_bes ρ k d = k + 1 ∧ k % 10 + 1 ≤ ρ 1 4 - 1) := by
        rcases hd with z | z
        · rw [z] at hst ⊢; exact Or.inl ⟨rfl, b9.2.1 hst⟩
        · rw [z] at hst ⊢; exact Or.inr ⟨rfl, b9.2.2.1 hst⟩
      have e1 := b8.1
      have e2 := b8.2.1
      have e3 := b8.2.2
      have s4 := hz.2.2.1
      have e : t_lne ρ y d (f + 1) k n = t_lne ρ y d f (t_bes ρ k d) (n + 1) := if_pos kb
      rw [e] at hX
      refine e_iinc5 dX0_line_56 rfl ?_
      refine e_aload_n dX0_line_59 rfl ?_
      refine e_iload dX0_line_60 rfl ?_
      refine e_iload dX0_line_62 rfl ?_
      refine e_callV2rz (ci := 0) dX0_line_64 md_X0_beside lk_X0_311 rfl q1177 qs27 (x_o0 _ _) (by decide) rfl (Nat.le_of_ble_eq_true rfl) (C_X0_beside A hz hk ⟨by omega, by omega⟩) ?_
      refine e_istore6 dX0_line_67 rfl ?_
      refine e_goto (tgt := 41) dX0_line_69 rfl ?_
      exact P_xline_41 A hz F N hy hd f (t_bes ρ k d) (n + 1) b8 (by omega) ⟨by omega, by omega⟩ hX
theorem C_X0_line {ρ χ : t_S} {h0 : e_A} {α : Nat → Nat} (q : x_Q ρ χ h0 α) {y : Int} (hy : e_rg y) : e_C mX0_line [.ref 350, e_i y] (x_H χ h0) 3 12 7 (x_Pub (e_i (v_line ρ y)) χ h0) := by
  obtain ⟨A, hz, hr, F, hIs, hI⟩ := q
  have s0 : 0 ≤ ρ 1 0 ∧ ρ 1 0 ≤ 12 := hz.1
  have s3 := hz.2.1
  have s4 := hz.2.2.1
  have s5 := hz.2.2.2.1
  have s6 := hz.2.2.2.2.1
  have s7 := hz.2.2.2.2.2.1
  have ky1 := hy.1
  have ky2 := hy.2
  refine e_enter (al0 := [.ref 350, e_i y, .retAddr 0, .retAddr 0, .retAddr 0, .retAddr 0, .retAddr 0]) (by decide +kernel) rfl (Nat.le_of_ble_eq_true rfl) ?_
  refine e_aload_n dX0_line_0 rfl ?_
  refine e_iload_n dX0_line_1 rfl ?_
  refine e_callV1rz (ci := 0) dX0_line_2 md_X0_isYear lk_X0_269 rfl q1312 qs39 (x_o0 _ _) (by decide) rfl (Nat.le_of_ble_eq_true rfl) (C_X0_isYear A hz ⟨by omega, by omega⟩) ?_
  refine e_bif_ne (tgt := 11) dX0_line_5 rfl (fun c1 => ?_) (fun c1 => ?_)
  · refine e_aload_n dX0_line_11 rfl ?_
    refine e_bud (kc1 := 0 + 3) (ks1 := 0 + 12) (by decide) (by decide) ?_
    refine e_callV0 (M1 := mX0_is) (kc := 0) (ks := 0) (mc := 3) (ms := 12) (ci := 0) dX0_line_12 lk_X0_194 md_X0_is rfl q1047 qs21 (x_o0 _ _) (by decide) rfl (Nat.le_of_ble_eq_true rfl) (hIs) (fun a hh q => ?_) (fun i hh q => by cases q.1)
    obtain ⟨q1, χ1, h1, N, hfr, he1, rfl⟩ := q
    cases q1
    show e_E _ _ _ (_ :: _) _ _ _ _ _
    have A1 := x_at_1 A hfr he1
    refine e_pop dX0_line_15 rfl ?_
    refine e_iconst dX0_line_16 ?_
    refine e_istore_n2 dX0_line_17 rfl ?_
    refine e_iconst dX0_line_18 ?_
    refine e_istore_n3 dX0_line_19 rfl ?_
    rw [show (Value.int (Int32.ofInt 0)) = e_i (t_it (fun s => t_lnf ρ y (x_ce s)) (0 : Int).toNat (0 : Int)) from rfl]
    refine e_for (n := 64) (fun s => e_E mX0_line 20 [.ref 350, e_i y, e_i (t_it (fun s => t_lnf ρ y (x_ce s)) s.toNat (0 : Int)), e_i s, .retAddr 0, .retAddr 0, .retAddr 0] [] (x_H χ1 h1) _ _ _ _) (by omega) ?_ (fun s hs0 hs1 hF => ?_)
    · refine e_iload_n dX0_line_20 rfl ?_
      refine e_bipush dX0_line_21 rfl ?_
      refine e_icmp_ge (tgt := 91) dX0_line_23 rfl ⟨by omega, by omega⟩ ⟨by omega, by omega⟩ (fun c2 => ?_) (fun q => by exfalso; omega)
      refine e_iload_n dX0_line_91 rfl ?_
      refine e_ireturn dX0_line_92 rfl rfl ?_
      refine x_pubi ?_ (x_f34 hfr) he1
      unfold v_line
      rw [if_pos ⟨by omega, by omega, by omega⟩]
      exact x_line F ⟨by omega, by omega⟩
    · rw [t_it_s _ _ hs0] at hF
      have hr : 0 ≤ t_it (fun s => t_lnf ρ y (x_ce s)) s.toNat (0 : Int) ∧ t_it (fun s => t_lnf ρ y (x_ce s)) s.toNat (0 : Int) ≤ 11 := t_it_P (fun _ m => 0 ≤ m ∧ m ≤ 11) (by decide) s.toNat (fun i m _ _ h => by
        have h1 := t_lne_rg ρ y 1 11 (x_ce i) 0
        have h2 := t_lne_rg ρ y 2 11 (x_ce i) 0
        exact t_mx_rg (t_mx_rg h ⟨by omega, by omega⟩) ⟨by omega, by omega⟩)
      generalize t_it (fun s => t_lnf ρ y (x_ce s)) s.toNat (0 : Int) = m at hF hr ⊢
      obtain ⟨c, c8, hs, hsc⟩ : ∃ c, x_c8 c ∧ s = x_sp c ∧ x_ce s = c := ⟨x_ce s, (x_ce_rg ⟨hs0, hs1⟩).1, x_spce ⟨hs0, hs1⟩, rfl⟩
      subst hs
      rw [hsc] at hF
      have c81 := c8.1
      have c82 := c8.2.1
      have c83 := c8.2.2
      have l1 := t_lne_rg ρ y 1 11 c 0
      have l2 := t_lne_rg ρ y 2 11 c 0
      have m1 := t_mx_rg (m := 11) (a := m) (b := t_lne ρ y 1 11 c 0) hr ⟨by omega, by omega⟩
      refine e_iload_n dX0_line_20 rfl ?_
      refine e_bipush dX0_line_21 rfl ?_
      refine e_icmp_ge (tgt := 91) dX0_line_23 rfl ⟨by omega, by omega⟩ ⟨by omega, by omega⟩ (fun q => by exfalso; omega) (fun c3 => ?_)
      refine e_iconst dX0_line_26 ?_
      refine e_istore4 dX0_line_27 rfl ?_
      rw [show e_i m = e_i (t_it (fun j m => t_mx m (t_lne ρ y (j + 1) 11 c 0)) (1 - 1 : Int).toNat m) from rfl]
      refine e_forA (a := 1) (n := 3) (fun d => e_E mX0_line 29 [.ref 350, e_i y, e_i (t_it (fun j m => t_mx m (t_lne ρ y (j + 1) 11 c 0)) (d - 1).toNat m), e_i (x_sp c), e_i d, .retAddr 0, .retAddr 0] [] (x_H χ1 h1) _ _ _ _) (by omega) ?_ (fun d hd0 hd1 hG => ?_)
      · show e_E _ _ [_, _, e_i (t_lnf ρ y c m), _, _, _, _] _ _ _ _ _ _
        refine e_iload dX0_line_29 rfl ?_
        refine e_iconst dX0_line_31 ?_
        refine e_icmp_ge (tgt := 85) dX0_line_32 rfl ⟨by omega, by omega⟩ ⟨by omega, by omega⟩ (fun c4 => ?_) (fun q => by exfalso; omega)
        refine e_iinc3 dX0_line_85 rfl ?_
        refine e_goto (tgt := 20) dX0_line_88 rfl ?_
        exact e_fgs [4, 5] hF
      · have e : t_it (fun j m => t_mx m (t_lne ρ y (j + 1) 11 c 0)) (d + 1 - 1).toNat m = t_mx (t_it (fun j m => t_mx m (t_lne ρ y (j + 1) 11 c 0)) (d - 1).toNat m) (t_lne ρ y d 11 c 0) := by
          rw [show d + 1 - 1 = (d - 1) + 1 by omega, t_it_s _ _ (by omega)]
          show t_mx _ (t_lne ρ y (d - 1 + 1) 11 c 0) = _
          rw [Int.sub_add_cancel]
        rw [e] at hG
        have hq : 0 ≤ t_it (fun j m => t_mx m (t_lne ρ y (j + 1) 11 c 0)) (d - 1).toNat m ∧ t_it (fun j m => t_mx m (t_lne ρ y (j + 1) 11 c 0)) (d - 1).toNat m ≤ 11 := by
          have hd : d = 1 ∨ d = 2 := by omega
          rcases hd with rfl | rfl
          · exact hr
          · exact m1
        generalize t_it (fun j m => t_mx m (t_lne ρ y (j + 1) 11 c 0)) (d - 1).toNat m = mm at hG hq ⊢
        have l3 := t_lne_rg ρ y d 11 c 0
        refine e_iload dX0_line_29 rfl ?_
        refine e_iconst dX0_line_31 ?_
        refine e_icmp_ge (tgt := 85) dX0_line_32 rfl ⟨by omega, by omega⟩ ⟨by omega, by omega⟩ (fun q => by exfalso; omega) (fun c5 => ?_)
        refine e_iconst dX0_line_35 ?_
        refine e_istore5 dX0_line_36 rfl ?_
        refine e_iload_n dX0_line_38 rfl ?_
        refine e_istore6 dX0_line_39 rfl ?_
        refine P_xline_41 (y := y) (m := mm) (s0 := x_sp c) (d := d) A1 hz F N ⟨by omega, by omega⟩ (by omega) 11 c 0 c8 (by omega) ⟨by omega, by omega⟩ ?_
        refine e_iload_n dX0_line_72 rfl ?_
        refine e_iload dX0_line_73 rfl ?_
        refine e_callS2rz dX0_line_75 md_J3_max lk_X0_317 rfl q939 rfl (Nat.le_of_ble_eq_true rfl) (C_J3_max ⟨by omega, by omega⟩ ⟨by omega, by omega⟩) ?_
        refine e_istore_n2 dX0_line_78 rfl ?_
        refine e_iinc4 dX0_line_79 rfl ?_
        refine e_goto (tgt := 29) dX0_line_82 rfl ?_
        exact e_fgt 5 hG
  · refine e_bipush dX0_line_8 rfl ?_
    refine e_ireturn dX0_line_10 rfl rfl ?_
    first
      | (refine x_pubi ?_ (x_f34 hfr) he1
         unfold v_line
         (repeat' split) <;> first | rfl | omega | (omega))
      | (refine x_pubi0 ?_
         unfold v_line
         (repeat' split) <;> first | rfl | omega)
theorem C_X0_served {ρ χ : t_S} {h0 : e_A} {α : Nat → Nat} (q : x_Q ρ χ h0 α) {y : Int} (hy : e_rg y) : e_C mX0_served [.ref 350, e_i y] (x_H χ h0) 3 12 7 (x_Pub (e_i (v_served ρ y)) χ h0) := by
  obtain ⟨A, hz, hr, F, hIs, hI⟩ := q
  have s0 : 0 ≤ ρ 1 0 ∧ ρ 1 0 ≤ 12 := hz.1
  have s3 := hz.2.1
  have s4 := hz.2.2.1
  have s5 := hz.2.2.2.1
  have s6 := hz.2.2.2.2.1
  have s7 := hz.2.2.2.2.2.1
  have ky1 := hy.1
  have ky2 := hy.2
  refine e_enter (al0 := [.ref 350, e_i y, .retAddr 0, .retAddr 0, .retAddr 0, .retAddr 0, .retAddr 0]) (by decide +kernel) rfl (Nat.le_of_ble_eq_true rfl) ?_
  refine e_aload_n dX0_served_0 rfl ?_
  refine e_iload_n dX0_served_1 rfl ?_
  refine e_callV1rz (ci := 0) dX0_served_2 md_X0_isYear lk_X0_269 rfl q1312 qs39 (x_o0 _ _) (by decide) rfl (Nat.le_of_ble_eq_true rfl) (C_X0_isYear A hz ⟨by omega, by omega⟩) ?_
  refine e_bif_ne (tgt := 11) dX0_served_5 rfl (fun c1 => ?_) (fun c1 => ?_)
  · refine e_aload_n dX0_served_11 rfl ?_
    refine e_bud (kc1 := 0 + 3) (ks1 := 0 + 12) (by decide) (by decide) ?_
    refine e_callV0 (M1 := mX0_is) (kc := 0) (ks := 0) (mc := 3) (ms := 12) (ci := 0) dX0_served_12 lk_X0_194 md_X0_is rfl q1047 qs21 (x_o0 _ _) (by decide) rfl (Nat.le_of_ble_eq_true rfl) (hIs) (fun a hh q => ?_) (fun i hh q => by cases q.1)
    obtain ⟨q1, χ1, h1, N, hfr, he1, rfl⟩ := q
    cases q1
    show e_E _ _ _ (_ :: _) _ _ _ _ _
    have A1 := x_at_1 A hfr he1
    obtain ⟨mc, hl⟩ := x_a3 A1
    refine e_pop dX0_served_15 rfl ?_
    refine e_iconst dX0_served_16 ?_
    refine e_istore_n2 dX0_served_17 rfl ?_
    refine e_iconst dX0_served_18 ?_
    refine e_istore_n3 dX0_served_19 rfl ?_
    refine e_for (n := ρ 1 6) (fun i => e_E mX0_served 20 [.ref 350, e_i y, e_i (t_sum (t_sdg ρ y) i.toNat), e_i i, .retAddr 0, .retAddr 0, .retAddr 0] [] (x_H χ1 h1) _ _ _ _) (by omega) ?_ (fun i hi0 hi1 hF => ?_)
    · refine e_iload_n dX0_served_20 rfl ?_
      refine e_aload_n dX0_served_21 rfl ?_
      refine e_getV (.ref (α 0)) dX0_served_22 fl_X0_47 (x_o0 _ _) (x_now A1) ?_
      refine e_getV (.ref (α 3)) dX0_served_25 fl_X0_135 (x_aC A1) rfl ?_
      refine e_callF0rz (ci := 11) dX0_served_28 md_J2_size if_X0_120 rfl hl.1 (by decide) rfl (Nat.le_of_ble_eq_true rfl) (C_J2_size hl) ?_
      refine e_icmp_ge (tgt := 140) dX0_served_33 rfl ⟨by omega, by omega⟩ ⟨by omega, by omega⟩ (fun c2 => ?_) (fun q => by exfalso; omega)
      refine e_iload_n dX0_served_140 rfl ?_
      refine e_ireturn dX0_served_141 rfl rfl ?_
      first
        | (refine x_pubi ?_ (x_f34 hfr) he1
           unfold v_served
           (repeat' split) <;> first | rfl | omega | (omega))
        | (refine x_pubi0 ?_
           unfold v_served
           (repeat' split) <;> first | rfl | omega)
    · rw [t_sum_s (t_sdg ρ y) hi0] at hF
      have hh := (N.2 y (by omega) (by omega)).2.2.2 i hi0 hi1
      have hgs : t_sdg ρ y i = t_srv ρ (ρ 32 (6 * y + i)) y := rfl
      obtain ⟨c, hc9⟩ : ∃ c, ρ 32 (6 * y + i) = c := ⟨_, rfl⟩
      rw [hc9] at hh hgs
      obtain ⟨hh1, hh2⟩ := hh
      have hcs := x_cn_sp hh2
      obtain ⟨n4, hn4⟩ : ∃ n4 : Int, (c = -1 ∧ n4 = 0) ∨ (c ≠ -1 ∧ n4 = 4) := by
        by_cases z : c = -1
        · exact ⟨0, Or.inl ⟨z, rfl⟩⟩
        · exact ⟨4, Or.inr ⟨z, rfl⟩⟩
      have hv : t_anyg (t_svg ρ c y) n4.toNat = t_srv ρ c y := by
        unfold t_srv
        rcases hn4 with ⟨z, rfl⟩ | ⟨z, rfl⟩
        · rw [if_pos z]; rfl
        · rw [if_neg z]; rfl
      have hv01 := t_svg01 ρ c y n4.toNat
      refine e_iload_n dX0_served_20 rfl ?_
      refine e_aload_n dX0_served_21 rfl ?_
      refine e_getV (.ref (α 0)) dX0_served_22 fl_X0_47 (x_o0 _ _) (x_now A1) ?_
      refine e_getV (.ref (α 3)) dX0_served_25 fl_X0_135 (x_aC A1) rfl ?_
      refine e_callF0rz (ci := 11) dX0_served_28 md_J2_size if_X0_120 rfl hl.1 (by decide) rfl (Nat.le_of_ble_eq_true rfl) (C_J2_size hl) ?_
      refine e_icmp_ge (tgt := 140) dX0_served_33 rfl ⟨by omega, by omega⟩ ⟨by omega, by omega⟩ (fun q => by exfalso; omega) (fun c3 => ?_)
      refine e_aload_n dX0_served_36 rfl ?_
      refine e_getV (.ref 366) dX0_served_37 fl_X0_68 (x_o0 _ _) rfl ?_
      refine e_getV (.ref (x_ai 14)) dX0_served_40 fl_X0_325 (x_o3 _ _) rfl ?_
      refine e_bipush dX0_served_43 rfl ?_
      refine e_iload_n dX0_served_45 rfl ?_
      refine e_imul dX0_served_46 ?_
      refine e_iload_n dX0_served_47 rfl ?_
      refine e_iadd dX0_served_48 ?_
      refine x_ild 78 dX0_served_49 rfl (by decide) (fun _ => rfl) rfl ⟨by omega, by omega⟩ ?_
      refine e_istore4 dX0_served_50 rfl ?_
      refine e_iconst dX0_served_52 ?_
      refine e_istore5 dX0_served_53 rfl ?_
      refine e_iconst dX0_served_55 ?_
      refine e_istore6 dX0_served_56 rfl ?_
      rw [show (Value.int (Int32.ofInt 0)) = e_i (t_anyg (t_svg ρ c y) (0 : Int).toNat) from rfl]
      show e_E _ _ [_, _, _, _, _, _, e_i 0] _ _ _ _ _ _
      refine e_for (n := n4) (fun d => e_E mX0_served 58 [.ref 350, e_i y, e_i (t_sum (t_sdg ρ y) i.toNat), e_i i, e_i (χ1 14 (6 * y + i)), e_i (t_anyg (t_svg ρ c y) d.toNat), e_i d] [] (x_H χ1 h1) _ _ _ _) (by omega) ?_ (fun d hd0 hd1 hG => ?_)
      · refine e_iload dX0_served_58 rfl ?_
        refine e_iconst dX0_served_60 ?_
        refine e_icmp_ge (tgt := 121) dX0_served_61 rfl ⟨by omega, by omega⟩ ⟨by omega, by omega⟩ (fun c4 => ?_) (fun c4 => ?_)
        · refine e_iload_n dX0_served_121 rfl ?_
          refine e_iload dX0_served_122 rfl ?_
          refine e_if_eq (tgt := 131) dX0_served_124 rfl ⟨by omega, by omega⟩ (fun c5 => ?_) (fun c5 => ?_)
          · refine e_iconst dX0_served_131 ?_
            refine e_iadd dX0_served_132 ?_
            refine e_istore_n2 dX0_served_133 rfl ?_
            refine e_iinc3 dX0_served_134 rfl ?_
            refine e_goto (tgt := 20) dX0_served_137 rfl ?_
            first
              | (rw [hgs, ← hv, show t_anyg (t_svg ρ c y) n4.toNat = 1 by omega] at hF; exact e_fgs [4, 5, 6] hF)
              | (rw [hgs, ← hv, show t_anyg (t_svg ρ c y) n4.toNat = 0 by omega] at hF; exact e_fgs [4, 5, 6] hF)
          · refine e_iconst dX0_served_127 ?_
            refine e_goto (tgt := 132) dX0_served_128 rfl ?_
            refine e_iadd dX0_served_132 ?_
            refine e_istore_n2 dX0_served_133 rfl ?_
            refine e_iinc3 dX0_served_134 rfl ?_
            refine e_goto (tgt := 20) dX0_served_137 rfl ?_
            first
              | (rw [hgs, ← hv, show t_anyg (t_svg ρ c y) n4.toNat = 1 by omega] at hF; exact e_fgs [4, 5, 6] hF)
              | (rw [hgs, ← hv, show t_anyg (t_svg ρ c y) n4.toNat = 0 by omega] at hF; exact e_fgs [4, 5, 6] hF)
        · refine e_iload dX0_served_64 rfl ?_
          refine e_iconst dX0_served_66 ?_
          refine e_icmp_eq (tgt := 121) dX0_served_67 rfl ⟨by omega, by omega⟩ ⟨by omega, by omega⟩ (fun c6 => ?_) (fun c6 => ?_)
          · refine e_iload_n dX0_served_121 rfl ?_
            refine e_iload dX0_served_122 rfl ?_
            refine e_if_eq (tgt := 131) dX0_served_124 rfl ⟨by omega, by omega⟩ (fun c7 => ?_) (fun c7 => ?_)
            · refine e_iconst dX0_served_131 ?_
              refine e_iadd dX0_served_132 ?_
              refine e_istore_n2 dX0_served_133 rfl ?_
              refine e_iinc3 dX0_served_134 rfl ?_
              refine e_goto (tgt := 20) dX0_served_137 rfl ?_
              first
                | (rw [hgs, ← hv, show t_anyg (t_svg ρ c y) n4.toNat = 1 by omega] at hF; exact e_fgs [4, 5, 6] hF)
                | (rw [hgs, ← hv, show t_anyg (t_svg ρ c y) n4.toNat = 0 by omega] at hF; exact e_fgs [4, 5, 6] hF)
            · refine e_iconst dX0_served_127 ?_
              refine e_goto (tgt := 132) dX0_served_128 rfl ?_
              refine e_iadd dX0_served_132 ?_
              refine e_istore_n2 dX0_served_133 rfl ?_
              refine e_iinc3 dX0_served_134 rfl ?_
              refine e_goto (tgt := 20) dX0_served_137 rfl ?_
              first
                | (rw [hgs, ← hv, show t_anyg (t_svg ρ c y) n4.toNat = 1 by omega] at hF; exact e_fgs [4, 5, 6] hF)
                | (rw [hgs, ← hv, show t_anyg (t_svg ρ c y) n4.toNat = 0 by omega] at hF; exact e_fgs [4, 5, 6] hF)
          · exfalso; omega
      · have k8 : x_c8 c := hh2.elim (fun z => absurd z (by omega)) id
        have hsp : χ1 14 (6 * y + i) = x_sp c := hh1
        have hsr := x_sp_rg k8
        rw [hsp] at hG ⊢
        have hbn := x_bes_cn hz c d
        have hbs := x_cn_sp hbn
        have h01 := t_svg01 ρ c y d.toNat
        have hg : t_svg ρ c y d = if t_bes ρ c d ≠ -1 ∧ t_rdo ρ (t_bes ρ c d) y = 1 then 1 else 0 := rfl
        refine e_iload dX0_served_58 rfl ?_
        refine e_iconst dX0_served_60 ?_
        refine e_icmp_ge (tgt := 121) dX0_served_61 rfl ⟨by omega, by omega⟩ ⟨by omega, by omega⟩ (fun q => by exfalso; omega) (fun c8 => ?_)
        refine e_iload dX0_served_64 rfl ?_
        refine e_iconst dX0_served_66 ?_
        refine e_icmp_eq (tgt := 121) dX0_served_67 rfl ⟨by omega, by omega⟩ ⟨by omega, by omega⟩ (fun q => by exfalso; omega) (fun c9 => ?_)
        refine e_iload dX0_served_70 rfl ?_
        refine e_aload_n dX0_served_72 rfl ?_
        refine e_iload dX0_served_73 rfl ?_
        refine e_iload dX0_served_75 rfl ?_
        refine e_callV2rz (ci := 0) dX0_served_77 md_X0_beside lk_X0_311 rfl q1177 qs27 (x_o0 _ _) (by decide) rfl (Nat.le_of_ble_eq_true rfl) (C_X0_beside A1 hz k8 ⟨by omega, by omega⟩) ?_
        refine e_iconst dX0_served_80 ?_
        refine e_icmp_eq (tgt := 111) dX0_served_81 rfl ⟨by omega, by omega⟩ ⟨by omega, by omega⟩ (fun c10 => ?_) (fun c10 => ?_)
        · refine e_iconst dX0_served_111 ?_
          refine e_ior dX0_served_112 (by first | exact e_or_0 _ | exact x_or_1 h01) ?_
          refine e_istore5 dX0_served_113 rfl ?_
          refine e_iinc6 dX0_served_115 rfl ?_
          refine e_goto (tgt := 58) dX0_served_118 rfl ?_
          first
            | (rw [x_an1 hd0 (by rw [hg, if_pos ⟨by omega, by omega⟩])] at hG; exact hG)
            | (rw [x_an0 hd0 h01 (by rw [hg, if_neg (fun z => by have := z.1; have := z.2; omega)])] at hG; exact hG)
        · refine e_aload_n dX0_served_84 rfl ?_
          refine e_getV (.ref 366) dX0_served_85 fl_X0_68 (x_o0 _ _) rfl ?_
          refine e_getV (.ref (x_ai 18)) dX0_served_88 fl_X0_275 (x_o3 _ _) rfl ?_
          refine e_iload_n dX0_served_91 rfl ?_
          refine x_lld 13 dX0_served_92 rfl (by decide) (fun _ => rfl) rfl ⟨by omega, by omega⟩ ?_
          refine e_aload_n dX0_served_93 rfl ?_
          refine e_iload dX0_served_94 rfl ?_
          refine e_iload dX0_served_96 rfl ?_
          refine e_callV2rz (ci := 0) dX0_served_98 md_X0_beside lk_X0_311 rfl q1177 qs27 (x_o0 _ _) (by decide) rfl (Nat.le_of_ble_eq_true rfl) (C_X0_beside A1 hz k8 ⟨by omega, by omega⟩) ?_
          have d8 : x_c8 (t_bes ρ c d) := hbn.elim (fun z => absurd z (by omega)) id
          obtain ⟨b1, b2, b3, b4⟩ := x_rdb N F (y := y) ⟨by omega, by omega⟩ rfl d8
          refine e_callS2rz dX0_served_101 md_X0_isIn lk_X0_217 rfl q1188 rfl (Nat.le_of_ble_eq_true rfl) (C_X0_isIn b1 b2) ?_
          refine e_bif_eq (tgt := 111) dX0_served_104 rfl (fun c11 => ?_) (fun c11 => ?_)
          · refine e_iconst dX0_served_111 ?_
            refine e_ior dX0_served_112 (by first | exact e_or_0 _ | exact x_or_1 h01) ?_
            refine e_istore5 dX0_served_113 rfl ?_
            refine e_iinc6 dX0_served_115 rfl ?_
            refine e_goto (tgt := 58) dX0_served_118 rfl ?_
            first
              | (rw [x_an1 hd0 (by rw [hg, if_pos ⟨by omega, by omega⟩])] at hG; exact hG)
              | (rw [x_an0 hd0 h01 (by rw [hg, if_neg (fun z => by have := z.1; have := z.2; omega)])] at hG; exact hG)
          · refine e_iconst dX0_served_107 ?_
            refine e_goto (tgt := 112) dX0_served_108 rfl ?_
            refine e_ior dX0_served_112 (by first | exact e_or_0 _ | exact x_or_1 h01) ?_
            refine e_istore5 dX0_served_113 rfl ?_
            refine e_iinc6 dX0_served_115 rfl ?_
            refine e_goto (tgt := 58) dX0_served_118 rfl ?_
            first
              | (rw [x_an1 hd0 (by rw [hg, if_pos ⟨by omega, by omega⟩])] at hG; exact hG)
              | (rw [x_an0 hd0 h01 (by rw [hg, if_neg (fun z => by have := z.1; have := z.2; omega)])] at hG; exact hG)
  · refine e_bipush dX0_served_8 rfl ?_
    refine e_ireturn dX0_served_10 rfl rfl ?_
    first
      | (refine x_pubi ?_ (x_f34 hfr) he1
         unfold v_served
         (repeat' split) <;> first | rfl | omega | (omega))
      | (refine x_pubi0 ?_
         unfold v_served
         (repeat' split) <;> first | rfl | omega)
theorem C_X0_beenOf {ρ χ : t_S} {h0 : e_A} {α : Nat → Nat} (A : x_at χ h0 (ρ 1) α) (hz : t_sz ρ) (F : z_F ρ) (N : x_An ρ χ) {set : Int} (hs : 0 ≤ set ∧ set < 2 ^ 7) : e_C mX0_beenOf [.ref 350, e_i set] (x_H χ h0) 0 0 2 (e_ret (e_j (x_bs (x_un ρ set (ρ 1 7)))) (x_H χ h0)) := by
  have s0 : 0 ≤ ρ 1 0 ∧ ρ 1 0 ≤ 12 := hz.1
  have s3 := hz.2.1
  have s4 := hz.2.2.1
  have s7 := hz.2.2.2.2.2.1
  refine e_enter (al0 := [.ref 350, e_i set, .retAddr 0, .retAddr 0, .retAddr 0]) (by decide +kernel) rfl (Nat.le_of_ble_eq_true rfl) ?_
  refine e_lconst (z := 0) dX0_beenOf_0 rfl ?_
  refine e_lstore_n2 dX0_beenOf_1 rfl ?_
  refine e_iconst dX0_beenOf_2 ?_
  refine e_istore4 dX0_beenOf_3 rfl ?_
  rw [show (Value.long (Int64.ofInt 0)) = e_j (x_bs (x_un ρ set 0)) from congrArg e_j (x_un_0 ρ set)]
  refine e_for (n := ρ 1 7) (fun w => e_E mX0_beenOf 5 [.ref 350, e_i set, e_j (x_bs (x_un ρ set w)), .retAddr 0, e_i w] [] (x_H χ h0) _ _ _ _) (by omega) ?_ (fun w hw0 hw1 hF => ?_)
  · refine e_iload dX0_beenOf_5 rfl ?_
    refine e_aload_n dX0_beenOf_7 rfl ?_
    refine e_callV0rz (ci := 0) dX0_beenOf_8 md_X0_many lk_X0_126 rfl q1121 qs23 (x_o0 _ _) (by decide) rfl (Nat.le_of_ble_eq_true rfl) (C_X0_many A hz) ?_
    refine e_icmp_ge (tgt := 46) dX0_beenOf_11 rfl ⟨by omega, by omega⟩ ⟨by omega, by omega⟩ (fun c1 => ?_) (fun q => by exfalso; omega)
    refine e_lload_n dX0_beenOf_46 rfl ?_
    refine e_lreturn dX0_beenOf_47 rfl ?_
    exact ⟨rfl, rfl⟩
  · have hb9 := (N.1.2.2.2 w hw0 hw1).2.2.2.2.1
    have hb : 0 ≤ χ 21 w ∧ χ 21 w < 2 ^ 64 := by rw [hb9]; exact x_bs_rg _
    refine e_iload dX0_beenOf_5 rfl ?_
    refine e_aload_n dX0_beenOf_7 rfl ?_
    refine e_callV0rz (ci := 0) dX0_beenOf_8 md_X0_many lk_X0_126 rfl q1121 qs23 (x_o0 _ _) (by decide) rfl (Nat.le_of_ble_eq_true rfl) (C_X0_many A hz) ?_
    refine e_icmp_ge (tgt := 46) dX0_beenOf_11 rfl ⟨by omega, by omega⟩ ⟨by omega, by omega⟩ (fun q => by exfalso; omega) (fun c2 => ?_)
    refine e_lload_n dX0_beenOf_14 rfl ?_
    refine e_iload_n dX0_beenOf_15 rfl ?_
    refine e_iload dX0_beenOf_16 rfl ?_
    refine e_callS2rz dX0_beenOf_18 md_X0_isOn lk_X0_333 rfl q1165 rfl (Nat.le_of_ble_eq_true rfl) (C_X0_isOn ⟨by omega, by omega⟩ ⟨by omega, by omega⟩) ?_
    refine e_bif_eq (tgt := 37) dX0_beenOf_21 rfl (fun kb => ?_) (fun kb => ?_)
    · refine e_lconst (z := 0) dX0_beenOf_37 rfl ?_
      refine e_lor dX0_beenOf_38 (by first | exact e_lor_law (x_bs_rg _).1 hb.1 | exact e_lor_law (x_bs_rg _).1 (Int.le_refl 0)) ?_
      refine e_lstore_n2 dX0_beenOf_39 rfl ?_
      refine e_iinc4 dX0_beenOf_40 rfl ?_
      refine e_goto (tgt := 5) dX0_beenOf_43 rfl ?_
      first
        | (rw [← x_un_s0 hw0 (by assumption)] at hF; exact hF)
        | (rw [← x_un_s1 hw0 (by assumption), ← hb9] at hF; exact hF)
    · refine e_aload_n dX0_beenOf_24 rfl ?_
      refine e_getV (.ref 366) dX0_beenOf_25 fl_X0_68 (x_o0 _ _) rfl ?_
      refine e_getV (.ref (x_ai 21)) dX0_beenOf_28 fl_X0_248 (x_o3 _ _) rfl ?_
      refine e_iload dX0_beenOf_31 rfl ?_
      refine x_lld 7 dX0_beenOf_33 rfl (by decide) (fun _ => rfl) rfl ⟨by omega, by omega⟩ ?_
      refine e_goto (tgt := 38) dX0_beenOf_34 rfl ?_
      refine e_lor dX0_beenOf_38 (by first | exact e_lor_law (x_bs_rg _).1 hb.1 | exact e_lor_law (x_bs_rg _).1 (Int.le_refl 0)) ?_
      refine e_lstore_n2 dX0_beenOf_39 rfl ?_
      refine e_iinc4 dX0_beenOf_40 rfl ?_
      refine e_goto (tgt := 5) dX0_beenOf_43 rfl ?_
      first
        | (rw [← x_un_s0 hw0 (by assumption)] at hF; exact hF)
        | (rw [← x_un_s1 hw0 (by assumption), ← hb9] at hF; exact hF)
theorem C_X0_coverOf {ρ χ : t_S} {h0 : e_A} {α : Nat → Nat} (q : x_Q ρ χ h0 α) : e_C mX0_coverOf [.ref 350] (x_H χ h0) 3 12 7 (x_Pub (e_i (t_cov ρ)) χ h0) := by
  obtain ⟨A, hz, hr, F, hIs, hI⟩ := q
  have s0 : 0 ≤ ρ 1 0 ∧ ρ 1 0 ≤ 12 := hz.1
  have s3 := hz.2.1
  have s4 := hz.2.2.1
  have s5 := hz.2.2.2.1
  have s6 := hz.2.2.2.2.1
  have s7 := hz.2.2.2.2.2.1
  have hev := b_ev_rg s7
  refine e_enter (al0 := [.ref 350, .retAddr 0, .retAddr 0]) (by decide +kernel) rfl (Nat.le_of_ble_eq_true rfl) ?_
  refine e_aload_n dX0_coverOf_0 rfl ?_
  refine e_bud (kc1 := 0 + 3) (ks1 := 0 + 12) (by decide) (by decide) ?_
  refine e_callV0 (M1 := mX0_is) (kc := 0) (ks := 0) (mc := 3) (ms := 12) (ci := 0) dX0_coverOf_1 lk_X0_194 md_X0_is rfl q1047 qs21 (x_o0 _ _) (by decide) rfl (Nat.le_of_ble_eq_true rfl) (hIs) (fun a hh q => ?_) (fun i hh q => by cases q.1)
  obtain ⟨q1, χ1, h1, N, hfr, he1, rfl⟩ := q
  cases q1
  show e_E _ _ _ (_ :: _) _ _ _ _ _
  have A1 := x_at_1 A hfr he1
  refine e_pop dX0_coverOf_4 rfl ?_
  refine e_aload_n dX0_coverOf_5 rfl ?_
  refine e_callV0rz (ci := 0) dX0_coverOf_6 md_X0_every lk_X0_336 rfl q1465 qs46 (x_o0 _ _) (by decide) rfl (Nat.le_of_ble_eq_true rfl) (C_X0_every A1 hz) ?_
  refine e_istore_n1 dX0_coverOf_9 rfl ?_
  refine e_iconst dX0_coverOf_10 ?_
  refine e_istore_n2 dX0_coverOf_11 rfl ?_
  rw [show (Value.int (Int32.ofInt (2 ^ (ρ 1 7).toNat - 1))) = e_i (x_cb (ρ 1 7) (t_it (t_cvf ρ) (0 : Int).toNat (-1 : Int))) from rfl]
  show e_E _ _ [_, _, e_i 0] _ _ _ _ _ _
  refine e_for (n := 2 ^ (ρ 1 7).toNat - 1) (fun set => e_E mX0_coverOf 12 [.ref 350, e_i (x_cb (ρ 1 7) (t_it (t_cvf ρ) set.toNat (-1 : Int))), e_i set] [] (x_H χ1 h1) _ _ _ _) (by omega) ?_ (fun set hs0 hs1 hF => ?_)
  · refine e_iload_n dX0_coverOf_12 rfl ?_
    refine e_aload_n dX0_coverOf_13 rfl ?_
    refine e_callV0rz (ci := 0) dX0_coverOf_14 md_X0_every lk_X0_336 rfl q1465 qs46 (x_o0 _ _) (by decide) rfl (Nat.le_of_ble_eq_true rfl) (C_X0_every A1 hz) ?_
    refine e_icmp_ge (tgt := 56) dX0_coverOf_17 rfl ⟨by omega, by omega⟩ ⟨by omega, by omega⟩ (fun c1 => ?_) (fun q => by exfalso; omega)
    refine e_iload_n dX0_coverOf_56 rfl ?_
    refine e_ireturn dX0_coverOf_57 rfl rfl ?_
    refine x_pubi ?_ (x_f34 hfr) he1
    exact x_cov_end F
  · rw [t_it_s _ _ hs0, x_cv F ⟨hs0, by omega⟩] at hF
    have hbr := t_cvl_rg ρ set.toNat
    generalize t_it (t_cvf ρ) set.toNat (-1 : Int) = t at hF hbr ⊢
    have hcb : x_cb (ρ 1 7) t = if t = -1 then 2 ^ (ρ 1 7).toNat - 1 else t := rfl
    have hcr : 0 ≤ x_cb (ρ 1 7) t ∧ x_cb (ρ 1 7) t < 2 ^ 7 := by rw [hcb]; split <;> omega
    have hsz := b_ev_sz s7 (set := set) ⟨hs0, hs1⟩
    have hst : e_bsum set 16 < e_bsum (x_cb (ρ 1 7) t) 16 ↔ (t = -1 ∨ e_bsum set 16 < e_bsum t 16) := by
      rw [hcb]
      by_cases z : t = -1
      · rw [if_pos z]; exact ⟨fun _ => Or.inl z, fun _ => hsz⟩
      · rw [if_neg z]; exact ⟨Or.inr, fun u => u.elim (fun v => absurd v z) id⟩
    have hsc : x_cb (ρ 1 7) set = set := if_neg (by omega)
    refine e_iload_n dX0_coverOf_12 rfl ?_
    refine e_aload_n dX0_coverOf_13 rfl ?_
    refine e_callV0rz (ci := 0) dX0_coverOf_14 md_X0_every lk_X0_336 rfl q1465 qs46 (x_o0 _ _) (by decide) rfl (Nat.le_of_ble_eq_true rfl) (C_X0_every A1 hz) ?_
    refine e_icmp_ge (tgt := 56) dX0_coverOf_17 rfl ⟨by omega, by omega⟩ ⟨by omega, by omega⟩ (fun q => by exfalso; omega) (fun c2 => ?_)
    refine e_iload_n dX0_coverOf_20 rfl ?_
    refine e_callS1rz dX0_coverOf_21 md_X0_size lk_X0_288 rfl q1344 rfl (Nat.le_of_ble_eq_true rfl) (C_X0_size ⟨by omega, by omega⟩) ?_
    refine e_iload_n dX0_coverOf_24 rfl ?_
    refine e_callS1rz dX0_coverOf_25 md_X0_size lk_X0_288 rfl q1344 rfl (Nat.le_of_ble_eq_true rfl) (C_X0_size ⟨by omega, by omega⟩) ?_
    have z1 := e_bsum_rg set 16
    have z2 := e_bsum_rg (x_cb (ρ 1 7) t) 16
    refine e_icmp_ge (tgt := 50) dX0_coverOf_28 rfl ⟨by omega, by omega⟩ ⟨by omega, by omega⟩ (fun k1 => ?_) (fun k1 => ?_)
    · refine e_iinc2 dX0_coverOf_50 rfl ?_
      refine e_goto (tgt := 12) dX0_coverOf_53 rfl ?_
      first
        | (rw [if_pos ⟨hst.mp (by omega), by assumption⟩, hsc] at hF; exact hF)
        | (rw [if_neg (fun z => absurd (hst.mpr z.1) (by omega))] at hF; exact hF)
        | (rw [if_neg (fun z => absurd z.2 (by assumption))] at hF; exact hF)
    · refine e_aload_n dX0_coverOf_31 rfl ?_
      refine e_iload_n dX0_coverOf_32 rfl ?_
      refine e_callV1rz (ci := 0) dX0_coverOf_33 md_X0_beenOf lk_X0_339 rfl q1469 qs47 (x_o0 _ _) (by decide) rfl (Nat.le_of_ble_eq_true rfl) (C_X0_beenOf A1 hz F N ⟨by omega, by omega⟩) ?_
      refine e_aload_n dX0_coverOf_36 rfl ?_
      refine e_aload_n dX0_coverOf_37 rfl ?_
      refine e_callV0rz (ci := 0) dX0_coverOf_38 md_X0_every lk_X0_336 rfl q1465 qs46 (x_o0 _ _) (by decide) rfl (Nat.le_of_ble_eq_true rfl) (C_X0_every A1 hz) ?_
      refine e_callV1rz (ci := 0) dX0_coverOf_41 md_X0_beenOf lk_X0_339 rfl q1469 qs47 (x_o0 _ _) (by decide) rfl (Nat.le_of_ble_eq_true rfl) (C_X0_beenOf A1 hz F N ⟨by omega, by omega⟩) ?_
      refine e_lcmpU_ne (tgt := 50) dX0_coverOf_44 dX0_coverOf_45 rfl (x_bs_rg _) (x_bs_rg _) (fun c4 => ?_) (fun c4 => ?_)
      · refine e_iinc2 dX0_coverOf_50 rfl ?_
        refine e_goto (tgt := 12) dX0_coverOf_53 rfl ?_
        first
          | (rw [if_pos ⟨hst.mp (by omega), by assumption⟩, hsc] at hF; exact hF)
          | (rw [if_neg (fun z => absurd (hst.mpr z.1) (by omega))] at hF; exact hF)
          | (rw [if_neg (fun z => absurd z.2 (by assumption))] at hF; exact hF)
      · refine e_iload_n dX0_coverOf_48 rfl ?_
        refine e_istore_n1 dX0_coverOf_49 rfl ?_
        refine e_iinc2 dX0_coverOf_50 rfl ?_
        refine e_goto (tgt := 12) dX0_coverOf_53 rfl ?_
        first
          | (rw [if_pos ⟨hst.mp (by omega), by assumption⟩, hsc] at hF; exact hF)
          | (rw [if_neg (fun z => absurd (hst.mpr z.1) (by omega))] at hF; exact hF)
          | (rw [if_neg (fun z => absurd z.2 (by assumption))] at hF; exact hF)
theorem x_cov_ge {ρ : t_S} (F : z_F ρ) : 0 ≤ t_cov ρ := by
  have hb := b_ev_rg F.1.1.2.2.2.2.2.1
  rw [← x_cov_end F]
  have h := t_cvl_rg ρ (2 ^ (ρ 1 7).toNat - 1 : Int).toNat
  unfold x_cb
  split <;> omega
theorem C_X0_cover {ρ χ : t_S} {h0 : e_A} {α : Nat → Nat} (q : x_Q ρ χ h0 α) : e_C mX0_cover [.ref 350] (x_H χ h0) 3 12 8 (x_Pub (e_i (v_cover ρ)) χ h0) := by
  have q0 := q
  obtain ⟨A, hz, hr, F, hIs, hI⟩ := q
  have s0 : 0 ≤ ρ 1 0 ∧ ρ 1 0 ≤ 12 := hz.1
  have s3 := hz.2.1
  have s4 := hz.2.2.1
  have s5 := hz.2.2.2.1
  have s6 := hz.2.2.2.2.1
  have s7 := hz.2.2.2.2.2.1
  refine e_enter (al0 := [.ref 350]) (by decide +kernel) rfl (Nat.le_of_ble_eq_true rfl) ?_
  refine e_aload_n dX0_cover_0 rfl ?_
  refine e_getV (.ref (α 0)) dX0_cover_1 fl_X0_47 (x_o0 _ _) (x_now A) ?_
  refine e_callV0rz (ci := 2) dX0_cover_4 md_X2_is lk_X0_98 rfl q1034 q1035 (x_aC A) (by decide) rfl (Nat.le_of_ble_eq_true rfl) (C_X2_is A hz) ?_
  refine e_bif_eq (tgt := 20) dX0_cover_7 rfl (fun c1 => ?_) (fun c1 => ?_)
  · refine e_bipush dX0_cover_20 rfl ?_
    refine e_ireturn dX0_cover_22 rfl rfl ?_
    first
      | (refine x_pubi ?_ hfr he1
         unfold v_cover
         rw [if_pos (by assumption)])
      | (refine x_pubi0 ?_
         unfold v_cover
         rw [if_neg (by assumption)])
  · refine e_aload_n dX0_cover_10 rfl ?_
    refine e_bud (kc1 := 0 + 3) (ks1 := 0 + 12) (by decide) (by decide) ?_
    refine e_callV0 (M1 := mX0_coverOf) (kc := 0) (ks := 0) (mc := 3) (ms := 12) (ci := 0) dX0_cover_11 lk_X0_343 md_X0_coverOf rfl q1461 qs45 (x_o0 _ _) (by decide) rfl (Nat.le_of_ble_eq_true rfl) (C_X0_coverOf q0) (fun a hh q => ?_) (fun i hh q => by cases q.1)
    obtain ⟨q1, χ1, h1, hfr, he1, rfl⟩ := q
    cases q1
    show e_E _ _ _ (_ :: _) _ _ _ _ _
    have hcr := t_cov_rg hz
    have hc0 := x_cov_ge F
    refine e_callS1rz dX0_cover_14 md_X0_size lk_X0_288 rfl q1344 rfl (Nat.le_of_ble_eq_true rfl) (C_X0_size ⟨by omega, by omega⟩) ?_
    refine e_goto (tgt := 22) dX0_cover_17 rfl ?_
    refine e_ireturn dX0_cover_22 rfl rfl ?_
    first
      | (refine x_pubi ?_ hfr he1
         unfold v_cover
         rw [if_pos (by assumption)])
      | (refine x_pubi0 ?_
         unfold v_cover
         rw [if_neg (by assumption)])
theorem C_X0_covers {ρ χ : t_S} {h0 : e_A} {α : Nat → Nat} (q : x_Q ρ χ h0 α) : e_C mX0_covers [.ref 350] (x_H χ h0) 3 12 8 (x_Pub (e_i (v_covers ρ)) χ h0) := by
  have q0 := q
  obtain ⟨A, hz, hr, F, hIs, hI⟩ := q
  have s0 : 0 ≤ ρ 1 0 ∧ ρ 1 0 ≤ 12 := hz.1
  have s3 := hz.2.1
  have s4 := hz.2.2.1
  have s5 := hz.2.2.2.1
  have s6 := hz.2.2.2.2.1
  have s7 := hz.2.2.2.2.2.1
  refine e_enter (al0 := [.ref 350]) (by decide +kernel) rfl (Nat.le_of_ble_eq_true rfl) ?_
  refine e_aload_n dX0_covers_0 rfl ?_
  refine e_getV (.ref (α 0)) dX0_covers_1 fl_X0_47 (x_o0 _ _) (x_now A) ?_
  refine e_callV0rz (ci := 2) dX0_covers_4 md_X2_is lk_X0_98 rfl q1034 q1035 (x_aC A) (by decide) rfl (Nat.le_of_ble_eq_true rfl) (C_X2_is A hz) ?_
  refine e_bif_eq (tgt := 17) dX0_covers_7 rfl (fun c1 => ?_) (fun c1 => ?_)
  · refine e_bipush dX0_covers_17 rfl ?_
    refine e_ireturn dX0_covers_19 rfl rfl ?_
    first
      | (refine x_pubi ?_ hfr he1
         unfold v_covers
         rw [if_pos (by assumption)])
      | (refine x_pubi0 ?_
         unfold v_covers
         rw [if_neg (by assumption)])
  · refine e_aload_n dX0_covers_10 rfl ?_
    refine e_bud (kc1 := 0 + 3) (ks1 := 0 + 12) (by decide) (by decide) ?_
    refine e_callV0 (M1 := mX0_coverOf) (kc := 0) (ks := 0) (mc := 3) (ms := 12) (ci := 0) dX0_covers_11 lk_X0_343 md_X0_coverOf rfl q1461 qs45 (x_o0 _ _) (by decide) rfl (Nat.le_of_ble_eq_true rfl) (C_X0_coverOf q0) (fun a hh q => ?_) (fun i hh q => by cases q.1)
    obtain ⟨q1, χ1, h1, hfr, he1, rfl⟩ := q
    cases q1
    show e_E _ _ _ (_ :: _) _ _ _ _ _
    refine e_goto (tgt := 19) dX0_covers_14 rfl ?_
    refine e_ireturn dX0_covers_19 rfl rfl ?_
    first
      | (refine x_pubi ?_ hfr he1
         unfold v_covers
         rw [if_pos (by assumption)])
      | (refine x_pubi0 ?_
         unfold v_covers
         rw [if_neg (by assumption)])
