/-! THE COMPONENT: nets, ways (printed by tx17.py) -/
set_option maxRecDepth 100000
def x_PN (V : Int) (χ : t_S) (h0 : e_A) : e_R → e_A → Prop := fun r h => r = .inl (some (e_i V)) ∧ ∃ χ1, x_fW χ χ1 ∧ h = x_H χ1 h0
theorem x_fW_rf (χ : t_S) : x_fW χ χ := fun _ _ _ _ => rfl
theorem x_fW_tr {χ χ1 χ2 : t_S} (a : x_fW χ χ1) (b : x_fW χ1 χ2) : x_fW χ χ2 := fun j p q r => (b j p q r).trans (a j p q r)
theorem x_f34w {χ χ1 χ2 : t_S} (h : ∀ j, (j < 10 ∨ 27 < j) → χ1 j = χ j) (w : x_fW χ1 χ2) : ∀ j, (j < 10 ∨ 34 < j) → χ2 j = χ j := fun j hj => (w j (by omega) (by omega) (by omega)).trans (h j (by omega))
/-- the lowest bit of road left -/
theorem x_lf_low {g : Int → Int} (hg : x_g01 g) {c : Int} (h8 : x_c8 c) (h1 : g c = 1) (h0 : ∀ e, x_c8 e → e < c → g e = 0) : e_bt (x_bs g) (x_sp c) = 1 ∧ (∀ k : Int, 0 ≤ k → k < x_sp c → e_bt (x_bs g) k = 0) ∧ x_bs g ≠ 0 := by
  have r := x_sp_rg h8
  have b := (x_cn_bt hg (Or.inr h8) (by have := h8.1; omega)).1
  rw [h1] at b
  refine ⟨b, fun k k0 k1 => ?_, b_bt_z b⟩
  have rk := x_ce_rg (s := k) ⟨k0, by omega⟩
  rw [x_bs_bt hg ⟨k0, by omega⟩]
  refine h0 _ rk.1 ((x_sp_lt rk.1 h8).mp ?_)
  rw [rk.2]; exact k1
theorem x_T_80 (ρ : t_S) (y : Int) : x_T ρ y 80 = t_nm y ρ := rfl
theorem x_T_00 (ρ : t_S) (y : Int) : (x_T ρ y 0).2 = 0 := rfl
theorem C_X0_partsOf1 {ρ χ : t_S} {h0 : e_A} {α : Nat → Nat} (A : x_at χ h0 (ρ 1) α) (hz : t_sz ρ) (F : z_F ρ) (N : x_An ρ χ) {y : Int} (hy : 0 ≤ y ∧ y ≤ ρ 1 0) : e_C mX0_partsOf [.ref 350, e_i y, e_i 1] (x_H χ h0) 0 0 6 (x_PN (t_nm y ρ).2 χ h0) := by
  have s0 : 0 ≤ ρ 1 0 ∧ ρ 1 0 ≤ 12 := hz.1
  have s3 := hz.2.1
  have s4 := hz.2.2.1
  have s7 := hz.2.2.2.2.2.1
  have n1 := (N.2 y hy.1 (by omega)).1
  have A0 := A
  have N0 := N
  refine e_enter (al0 := [.ref 350, e_i y, e_i 1, .retAddr 0, .retAddr 0, .retAddr 0, .retAddr 0, .retAddr 0]) (by decide +kernel) rfl (Nat.le_of_ble_eq_true rfl) ?_
  refine e_aload_n dX0_partsOf_0 rfl ?_
  refine e_getV (.ref 366) dX0_partsOf_1 fl_X0_68 (x_o0 _ _) rfl ?_
  refine e_getV (.ref (x_ai 18)) dX0_partsOf_4 fl_X0_275 (x_o3 _ _) rfl ?_
  refine e_iload_n dX0_partsOf_7 rfl ?_
  refine x_lld 13 dX0_partsOf_8 rfl (by decide) (fun _ => rfl) rfl ⟨by omega, by omega⟩ ?_
  rw [n1, x_lf_00 F hy]
  refine e_lstore_n3 dX0_partsOf_9 rfl ?_
  refine e_iconst dX0_partsOf_10 ?_
  refine e_istore5 dX0_partsOf_11 rfl ?_
  rw [show (Value.int (Int32.ofInt 0)) = e_i (x_T ρ y 0).2 from by rw [x_T_00]]
  refine e_for (n := 80) (F := fun c => ∀ χ3, x_fW χ χ3 → e_E mX0_partsOf 13 [.ref 350, e_i y, e_i 1, e_j (x_bs (x_lf ρ y (x_T ρ y c).1)), .retAddr 0, e_i ((x_T ρ y c).2), .retAddr 0, .retAddr 0] [] (x_H χ3 h0) 0 0 6 (x_PN (t_nm y ρ).2 χ h0)) (by omega) (fun χ3 w => ?_) (fun c hc0 hc1 hF χ3 w => ?_) χ (x_fW_rf χ)
  · rw [x_lf_80 F hy]
    have z0 : (0 : Int) ≤ 0 ∧ (0 : Int) < 2 ^ 64 := by decide
    refine e_lload_n dX0_partsOf_13 rfl ?_
    refine e_lconst (z := 0) dX0_partsOf_14 rfl ?_
    refine e_lcmpU_eq (tgt := 108) dX0_partsOf_15 dX0_partsOf_16 rfl (by first | exact x_bs_rg _ | decide) ⟨by decide, by decide⟩ (fun c1 => ?_) (fun q => by first | exact absurd rfl q | exact absurd q lw.2.2)
    refine e_iload dX0_partsOf_108 rfl ?_
    refine e_ireturn dX0_partsOf_110 rfl rfl ?_
    rw [x_T_80]
    exact ⟨rfl, χ3, w, rfl⟩
  · by_cases q9 : x_lf ρ y (x_T ρ y c).1 c = 1
    rotate_left
    · have q0 : x_T ρ y (c + 1) = x_T ρ y c := by
        by_cases q8 : x_c8 c
        · refine x_lf_no hz ⟨hc0, hc1⟩ ?_ (x_rd01 F hy c q8)
          rcases x_lf01 ρ y (x_T ρ y c).1 c q8 with z | z
          · exact z
          · exact absurd z q9
        · exact x_T_no hz ⟨hc0, hc1⟩ (Or.inl (x_rd0 F hy c hc0 hc1 q8))
      rw [q0] at hF
      exact hF χ3 w
    have h8 : x_c8 c := by
      by_cases q8 : x_c8 c
      · exact q8
      · exfalso
        have z := x_rd0 F hy c hc0 hc1 q8
        unfold x_lf at q9
        rw [if_neg (fun u => by have := u.1; omega)] at q9
        exact absurd q9 (by decide)
    have rcs := x_sp_rg h8
    have hg01 := x_lf01 ρ y (x_T ρ y c).1
    have lw := x_lf_low hg01 h8 q9 (fun e e8 el => x_lf_lo F hy ⟨hc0, by omega⟩ e e8.1 el)
    have hD := z_lyf (y := y) hz h8
    have hgo : ∀ χ4, x_Dn (t_lyf c y ρ 33) χ4 → _ := fun χ4 h => x_lf_go F hy ⟨hc0, hc1⟩ h8 q9 h
    obtain ⟨g, hg⟩ : ∃ g, x_lf ρ y (x_T ρ y c).1 = g := ⟨_, rfl⟩
    obtain ⟨n, hn⟩ : ∃ n, (x_T ρ y c).2 = n := ⟨_, rfl⟩
    rw [hg, hn] at hgo
    rw [hg] at hg01 lw
    rw [hg, hn]
    refine e_lload_n dX0_partsOf_13 rfl ?_
    refine e_lconst (z := 0) dX0_partsOf_14 rfl ?_
    refine e_lcmpU_eq (tgt := 108) dX0_partsOf_15 dX0_partsOf_16 rfl (by first | exact x_bs_rg _ | decide) ⟨by decide, by decide⟩ (fun q => by first | exact absurd rfl q | exact absurd q lw.2.2) (fun c2 => ?_)
    refine e_lload_n dX0_partsOf_19 rfl ?_
    refine e_callS1rz dX0_partsOf_20 md_J17_numberOfTrailingZeros lk_X0_290 rfl q1361 rfl (Nat.le_of_ble_eq_true rfl) (C_J17_numberOfTrailingZeros (x_bs_rg _) ⟨rcs.1, rcs.2.1⟩ lw.1 lw.2.1) ?_
    refine e_istore6 dX0_partsOf_23 rfl ?_
    refine e_iload_n dX0_partsOf_25 rfl ?_
    refine e_if_eq (tgt := 43) dX0_partsOf_26 rfl ⟨by omega, by omega⟩ (fun q => by exfalso; omega) (fun c3 => ?_)
    refine e_aload_n dX0_partsOf_29 rfl ?_
    refine e_getV (.ref 379) dX0_partsOf_30 fl_X0_75 (x_o0 _ _) rfl ?_
    refine e_iload dX0_partsOf_33 rfl ?_
    refine e_iload_n dX0_partsOf_35 rfl ?_
    refine e_bud (kc1 := 0 + 0) (ks1 := 0 + 0) (by decide) (by decide) ?_
    refine e_callV2 (M1 := mX4_by) (kc := 0) (ks := 0) (mc := 0) (ms := 0) (ci := 4) dX0_partsOf_36 lk_X0_293 md_X4_by rfl q1368 q1369 (x_o4 _ _) (by decide) rfl (Nat.le_of_ble_eq_true rfl) (C_X4_by (x_at_fW w A0) hz F (x_An_fW w N0) rfl h8 hy hD.1 hD.2.1) (fun a hh q => ?_) (fun i hh q => by cases q.1)
    obtain ⟨q1, χ4, w4, hDn, rfl⟩ := q
    cases q1
    show e_E _ _ _ (_ :: _) _ _ _ _ _
    refine e_pop dX0_partsOf_39 rfl ?_
    refine e_goto (tgt := 62) dX0_partsOf_40 rfl ?_
    refine e_iconst dX0_partsOf_62 ?_
    refine e_istore7 dX0_partsOf_63 rfl ?_
    have hm := hDn.2.1
    rw [x_lq_0 (g := g) hg01 χ4]
    refine e_for (n := χ4 30 0) (F := fun k => e_E mX0_partsOf 65 [.ref 350, e_i y, e_i 1, e_j (x_bs (x_lq (g) χ4 k)), .retAddr 0, e_i (n), e_i (x_sp c), e_i k] [] (x_H χ4 h0) 0 0 6 (x_PN (t_nm y ρ).2 χ h0)) (by omega) ?_ (fun k hk0 hk1 hK => ?_)
    · refine e_iload dX0_partsOf_65 rfl ?_
      refine e_aload_n dX0_partsOf_67 rfl ?_
      refine e_getV (.ref 379) dX0_partsOf_68 fl_X0_75 (x_o0 _ _) rfl ?_
      refine e_getV (e_i _) dX0_partsOf_71 fl_X0_300 (x_o4 _ _) rfl ?_
      refine e_icmp_ge (tgt := 102) dX0_partsOf_74 rfl ⟨by omega, by omega⟩ ⟨by omega, by omega⟩ (fun c4 => ?_) (fun q => by exfalso; omega)
      refine e_iinc5 dX0_partsOf_102 rfl ?_
      refine e_goto (tgt := 13) dX0_partsOf_105 rfl ?_
      have hg4 := hgo χ4 hDn
      rw [hg4.1, ← hg4.2]
      exact e_fgs [6, 7] (hF χ4 (x_fW_tr w w4))
    · have hq := (hDn.2.2.2.1 k hk0 hk1).1
      have hbr := x_bs_rg (x_lq (g) χ4 k)
      refine e_iload dX0_partsOf_65 rfl ?_
      refine e_aload_n dX0_partsOf_67 rfl ?_
      refine e_getV (.ref 379) dX0_partsOf_68 fl_X0_75 (x_o0 _ _) rfl ?_
      refine e_getV (e_i _) dX0_partsOf_71 fl_X0_300 (x_o4 _ _) rfl ?_
      refine e_icmp_ge (tgt := 102) dX0_partsOf_74 rfl ⟨by omega, by omega⟩ ⟨by omega, by omega⟩ (fun q => by exfalso; omega) (fun c5 => ?_)
      refine e_lload_n dX0_partsOf_77 rfl ?_
      refine e_lconst (z := 1) dX0_partsOf_78 rfl ?_
      refine e_aload_n dX0_partsOf_79 rfl ?_
      refine e_getV (.ref 379) dX0_partsOf_80 fl_X0_75 (x_o0 _ _) rfl ?_
      refine e_getV (.ref (x_ai 29)) dX0_partsOf_83 fl_X0_301 (x_o4 _ _) rfl ?_
      refine e_iload dX0_partsOf_86 rfl ?_
      refine x_ild 64 dX0_partsOf_88 rfl (by decide) (fun _ => rfl) rfl ⟨by omega, by omega⟩ ?_
      refine e_lshl dX0_partsOf_89 ((e_lshl_law 1 ⟨by omega, by omega⟩).trans (by rw [Int.one_mul])) ?_
      refine e_ldc2 (z := -1) dX0_partsOf_90 q1111 rfl ?_
      refine e_lxor dX0_partsOf_93 (e_lnot_law _) ?_
      refine e_land dX0_partsOf_94 (e_landn_law hbr.1 (Int.le_of_lt (Int.pow_pos (by decide)))) ?_
      refine e_lstore_n3 dX0_partsOf_95 rfl ?_
      refine e_iinc7 dX0_partsOf_96 rfl ?_
      refine e_goto (tgt := 65) dX0_partsOf_99 rfl ?_
      rw [x_lq_s hk0 hq]
      exact hK
/-- n parts taken, g left -/
def x_J (ρ : t_S) (y f n : Int) (g : Int → Int) : Prop := (n = 0 ∧ ∀ e, x_c8 e → g e = ρ 30 (80 * y + e)) ∨ (n = 1 ∧ ∀ e, x_c8 e → g e = if ρ 30 (80 * y + e) = 1 ∧ x_Dal ρ y f e = -1 then 1 else 0) ∨ (2 ≤ n ∧ ∃ e, x_c8 e ∧ ρ 30 (80 * y + e) = 1 ∧ x_Dal ρ y f e = -1)
def x_J1 (ρ : t_S) (y f N : Int) : Prop := (0 ≤ N ∧ N ≤ 80) ∧ (N = 1 ↔ ∀ e, x_c8 e → ρ 30 (80 * y + e) = 1 → x_Dal ρ y f e ≠ -1)
theorem x_J_end {ρ : t_S} {y f n : Int} {g : Int → Int} (h : x_J ρ y f n g) (h0 : ∀ e, x_c8 e → g e = 0) (hn : 0 ≤ n ∧ n ≤ 80) (f8 : x_c8 f) (f1 : ρ 30 (80 * y + f) = 1) : x_J1 ρ y f n := by
  refine ⟨hn, ?_⟩
  rcases h with ⟨a, b⟩ | ⟨a, b⟩ | ⟨a, e, e8, e1, e2⟩
  · have := b f f8
    rw [h0 f f8] at this
    omega
  · refine ⟨fun _ e e8 e1 e2 => ?_, fun _ => a⟩
    have := b e e8
    rw [h0 e e8, if_pos ⟨e1, e2⟩] at this
    exact absurd this (by decide)
  · exact ⟨fun z => by omega, fun z => absurd e2 (z e e8 e1)⟩
theorem x_J_go {ρ χ : t_S} {y f n c : Int} {g : Int → Int} (h : x_J ρ y f n g) (hg : x_g01 g) (c8 : x_c8 c) (gc : g c = 1) (hlo : ∀ e, x_c8 e → e < c → g e = 0) (f8 : x_c8 f) (f1 : ρ 30 (80 * y + f) = 1) (f0 : ∀ e : Int, 0 ≤ e → e < f → ρ 30 (80 * y + e) = 0) (hn : 0 ≤ n) (hr : ∀ e, x_c8 e → ρ 30 (80 * y + e) = 0 ∨ ρ 30 (80 * y + e) = 1) (hD : x_Dn (x_Dal ρ y c) χ) (hDc : x_Dal ρ y c c = 0) : x_J ρ y f (n + 1) (x_lq g χ (χ 30 0)) ∧ ∀ e, x_c8 e → e < c + 1 → x_lq g χ (χ 30 0) e = 0 := by
  have hl := x_lq_e (g := g) hD
  refine ⟨?_, fun e e8 he => ?_⟩
  · rcases h with ⟨a, b⟩ | ⟨a, b⟩ | ⟨a, r⟩
    · have hcf : c = f := by
        have b1 := b c c8
        have b2 := b f f8
        rw [gc] at b1
        rw [f1] at b2
        rcases Int.lt_trichotomy c f with q | q | q
        · have := f0 c c8.1 q; omega
        · exact q
        · have := hlo f f8 q; omega
      refine Or.inr (Or.inl ⟨by omega, fun e e8 => ?_⟩)
      rw [hl e e8, b e e8, hcf]
    · refine Or.inr (Or.inr ⟨by omega, c, c8, ?_⟩)
      have b1 := b c c8
      rw [gc] at b1
      by_cases q : ρ 30 (80 * y + c) = 1 ∧ x_Dal ρ y f c = -1
      · exact q
      · rw [if_neg q] at b1; exact absurd b1 (by decide)
    · exact Or.inr (Or.inr ⟨by omega, r⟩)
  · rw [hl e e8]
    by_cases q : e = c
    · rw [q, hDc, if_neg (fun z => absurd z.2 (by decide))]
    · rw [hlo e e8 (by omega), if_neg (fun z => absurd z.1 (by decide))]
def x_PJ (ρ : t_S) (y f : Int) (χ : t_S) (h0 : e_A) : e_R → e_A → Prop := fun r h => ∃ N, r = .inl (some (e_i N)) ∧ x_J1 ρ y f N ∧ ∃ χ1, x_fW χ χ1 ∧ h = x_H χ1 h0
theorem C_X0_partsOf0 {ρ χ : t_S} {h0 : e_A} {α : Nat → Nat} (A : x_at χ h0 (ρ 1) α) (hz : t_sz ρ) (F : z_F ρ) (N : x_An ρ χ) {y f : Int} (hy : 0 ≤ y ∧ y ≤ ρ 1 0) (f8 : x_c8 f) (f1 : ρ 30 (80 * y + f) = 1) (f0 : ∀ e : Int, 0 ≤ e → e < f → ρ 30 (80 * y + e) = 0) : e_C mX0_partsOf [.ref 350, e_i y, e_i 0] (x_H χ h0) 0 0 6 (x_PJ ρ y f χ h0) := by
  have s0 : 0 ≤ ρ 1 0 ∧ ρ 1 0 ≤ 12 := hz.1
  have s3 := hz.2.1
  have s4 := hz.2.2.1
  have s7 := hz.2.2.2.2.2.1
  have n1 := (N.2 y hy.1 (by omega)).1
  have A0 := A
  have N0 := N
  have r01 := x_rd01 F hy
  refine e_enter (al0 := [.ref 350, e_i y, e_i 0, .retAddr 0, .retAddr 0, .retAddr 0, .retAddr 0, .retAddr 0]) (by decide +kernel) rfl (Nat.le_of_ble_eq_true rfl) ?_
  refine e_aload_n dX0_partsOf_0 rfl ?_
  refine e_getV (.ref 366) dX0_partsOf_1 fl_X0_68 (x_o0 _ _) rfl ?_
  refine e_getV (.ref (x_ai 18)) dX0_partsOf_4 fl_X0_275 (x_o3 _ _) rfl ?_
  refine e_iload_n dX0_partsOf_7 rfl ?_
  refine x_lld 13 dX0_partsOf_8 rfl (by decide) (fun _ => rfl) rfl ⟨by omega, by omega⟩ ?_
  rw [n1]
  refine e_lstore_n3 dX0_partsOf_9 rfl ?_
  refine e_iconst dX0_partsOf_10 ?_
  refine e_istore5 dX0_partsOf_11 rfl ?_
  refine e_for (n := 80) (F := fun c => ∀ χ3 g n, x_fW χ χ3 → x_g01 g → (∀ e, x_c8 e → e < c → g e = 0) → x_J ρ y f n g → (0 ≤ n ∧ n ≤ c) → e_E mX0_partsOf 13 [.ref 350, e_i y, e_i 0, e_j (x_bs (g)), .retAddr 0, e_i (n), .retAddr 0, .retAddr 0] [] (x_H χ3 h0) 0 0 6 (x_PJ ρ y f χ h0)) (by omega) (fun χ3 g n w hg01 hlo hJ hn => ?_) (fun c hc0 hc1 hF χ3 g n w hg01 hlo hJ hn => ?_) χ (fun c => ρ 30 (80 * y + c)) 0 (x_fW_rf χ) r01 (fun e e8 el => by have := e8.1; omega) (Or.inl ⟨rfl, fun _ _ => rfl⟩) ⟨by omega, by omega⟩
  · rw [show x_bs g = 0 from (x_bs_0 (fun e e8 => hlo e e8 e8.2.1)).symm]
    refine e_lload_n dX0_partsOf_13 rfl ?_
    refine e_lconst (z := 0) dX0_partsOf_14 rfl ?_
    refine e_lcmpU_eq (tgt := 108) dX0_partsOf_15 dX0_partsOf_16 rfl (by first | exact x_bs_rg _ | decide) ⟨by decide, by decide⟩ (fun c1 => ?_) (fun q => by first | exact absurd rfl q | exact absurd q lw.2.2)
    refine e_iload dX0_partsOf_108 rfl ?_
    refine e_ireturn dX0_partsOf_110 rfl rfl ?_
    exact ⟨n, rfl, x_J_end hJ (fun e e8 => hlo e e8 e8.2.1) hn f8 f1, χ3, w, rfl⟩
  · by_cases q9 : x_c8 c ∧ g c = 1
    rotate_left
    · refine hF χ3 g n w hg01 (fun e e8 el => ?_) hJ ⟨hn.1, by omega⟩
      by_cases q8 : e = c
      · rcases hg01 e e8 with z | z
        · exact z
        · exact absurd ⟨by rw [← q8]; exact e8, by rw [← q8]; exact z⟩ q9
      · exact hlo e e8 (by omega)
    obtain ⟨h8, q9⟩ := q9
    have rcs := x_sp_rg h8
    have lw := x_lf_low hg01 h8 q9 hlo
    have hD := x_Dal_D hz (y := y) h8
    refine e_lload_n dX0_partsOf_13 rfl ?_
    refine e_lconst (z := 0) dX0_partsOf_14 rfl ?_
    refine e_lcmpU_eq (tgt := 108) dX0_partsOf_15 dX0_partsOf_16 rfl (by first | exact x_bs_rg _ | decide) ⟨by decide, by decide⟩ (fun q => by first | exact absurd rfl q | exact absurd q lw.2.2) (fun c2 => ?_)
    refine e_lload_n dX0_partsOf_19 rfl ?_
    refine e_callS1rz dX0_partsOf_20 md_J17_numberOfTrailingZeros lk_X0_290 rfl q1361 rfl (Nat.le_of_ble_eq_true rfl) (C_J17_numberOfTrailingZeros (x_bs_rg _) ⟨rcs.1, rcs.2.1⟩ lw.1 lw.2.1) ?_
    refine e_istore6 dX0_partsOf_23 rfl ?_
    refine e_iload_n dX0_partsOf_25 rfl ?_
    refine e_if_eq (tgt := 43) dX0_partsOf_26 rfl ⟨by omega, by omega⟩ (fun c3 => ?_) (fun q => by exfalso; omega)
    refine e_aload_n dX0_partsOf_43 rfl ?_
    refine e_getV (.ref 379) dX0_partsOf_44 fl_X0_75 (x_o0 _ _) rfl ?_
    refine e_iload dX0_partsOf_47 rfl ?_
    refine e_aload_n dX0_partsOf_49 rfl ?_
    refine e_getV (.ref 366) dX0_partsOf_50 fl_X0_68 (x_o0 _ _) rfl ?_
    refine e_getV (.ref (x_ai 18)) dX0_partsOf_53 fl_X0_275 (x_o3 _ _) rfl ?_
    refine e_iload_n dX0_partsOf_56 rfl ?_
    refine x_lld 13 dX0_partsOf_57 rfl (by decide) (fun _ => rfl) rfl ⟨by omega, by omega⟩ ?_
    have n4 : χ3 18 y = x_bs (fun c => ρ 30 (80 * y + c)) := by rw [w 18 (by decide) (by decide) (by decide)]; exact n1
    refine e_bud (kc1 := 0 + 0) (ks1 := 0 + 0) (by decide) (by decide) ?_
    refine e_callV2 (M1 := mX4_along) (kc := 0) (ks := 0) (mc := 0) (ms := 0) (ci := 4) dX0_partsOf_58 lk_X0_297 md_X4_along rfl q1381 q1382 (x_o4 _ _) (by decide) rfl (Nat.le_of_ble_eq_true rfl) (C_X4_along (x_at_fW w A0) hz (g := fun c => ρ 30 (80 * y + c)) r01 rfl h8 n4 hD.1 hD.2.1) (fun a hh q => ?_) (fun i hh q => by cases q.1)
    obtain ⟨q1, χ4, w4, hDn, rfl⟩ := q
    cases q1
    show e_E _ _ _ (_ :: _) _ _ _ _ _
    refine e_pop dX0_partsOf_61 rfl ?_
    refine e_iconst dX0_partsOf_62 ?_
    refine e_istore7 dX0_partsOf_63 rfl ?_
    have hm := hDn.2.1
    rw [x_lq_0 (g := g) hg01 χ4]
    refine e_for (n := χ4 30 0) (F := fun k => e_E mX0_partsOf 65 [.ref 350, e_i y, e_i 0, e_j (x_bs (x_lq (g) χ4 k)), .retAddr 0, e_i (n), e_i (x_sp c), e_i k] [] (x_H χ4 h0) 0 0 6 (x_PJ ρ y f χ h0)) (by omega) ?_ (fun k hk0 hk1 hK => ?_)
    · refine e_iload dX0_partsOf_65 rfl ?_
      refine e_aload_n dX0_partsOf_67 rfl ?_
      refine e_getV (.ref 379) dX0_partsOf_68 fl_X0_75 (x_o0 _ _) rfl ?_
      refine e_getV (e_i _) dX0_partsOf_71 fl_X0_300 (x_o4 _ _) rfl ?_
      refine e_icmp_ge (tgt := 102) dX0_partsOf_74 rfl ⟨by omega, by omega⟩ ⟨by omega, by omega⟩ (fun c4 => ?_) (fun q => by exfalso; omega)
      refine e_iinc5 dX0_partsOf_102 rfl ?_
      refine e_goto (tgt := 13) dX0_partsOf_105 rfl ?_
      have hg4 := x_J_go hJ hg01 h8 q9 hlo f8 f1 f0 hn.1 r01 hDn hD.1.1
      exact e_fgs [6, 7] (hF χ4 _ _ (x_fW_tr w w4) (x_lq01 _ _ _) hg4.2 hg4.1 ⟨by omega, by omega⟩)
    · have hq := (hDn.2.2.2.1 k hk0 hk1).1
      have hbr := x_bs_rg (x_lq (g) χ4 k)
      refine e_iload dX0_partsOf_65 rfl ?_
      refine e_aload_n dX0_partsOf_67 rfl ?_
      refine e_getV (.ref 379) dX0_partsOf_68 fl_X0_75 (x_o0 _ _) rfl ?_
      refine e_getV (e_i _) dX0_partsOf_71 fl_X0_300 (x_o4 _ _) rfl ?_
      refine e_icmp_ge (tgt := 102) dX0_partsOf_74 rfl ⟨by omega, by omega⟩ ⟨by omega, by omega⟩ (fun q => by exfalso; omega) (fun c5 => ?_)
      refine e_lload_n dX0_partsOf_77 rfl ?_
      refine e_lconst (z := 1) dX0_partsOf_78 rfl ?_
      refine e_aload_n dX0_partsOf_79 rfl ?_
      refine e_getV (.ref 379) dX0_partsOf_80 fl_X0_75 (x_o0 _ _) rfl ?_
      refine e_getV (.ref (x_ai 29)) dX0_partsOf_83 fl_X0_301 (x_o4 _ _) rfl ?_
      refine e_iload dX0_partsOf_86 rfl ?_
      refine x_ild 64 dX0_partsOf_88 rfl (by decide) (fun _ => rfl) rfl ⟨by omega, by omega⟩ ?_
      refine e_lshl dX0_partsOf_89 ((e_lshl_law 1 ⟨by omega, by omega⟩).trans (by rw [Int.one_mul])) ?_
      refine e_ldc2 (z := -1) dX0_partsOf_90 q1111 rfl ?_
      refine e_lxor dX0_partsOf_93 (e_lnot_law _) ?_
      refine e_land dX0_partsOf_94 (e_landn_law hbr.1 (Int.le_of_lt (Int.pow_pos (by decide)))) ?_
      refine e_lstore_n3 dX0_partsOf_95 rfl ?_
      refine e_iinc7 dX0_partsOf_96 rfl ?_
      refine e_goto (tgt := 65) dX0_partsOf_99 rfl ?_
      rw [x_lq_s hk0 hq]
      exact hK
