/-! THE COMPONENT'S WALKS: a walk (printed by tx9.py) -/
set_option maxRecDepth 100000
def x_PW (y : Int) (χ μ : t_S) (h0 : e_A) : e_R → e_A → Prop := fun r h => r = .inl none ∧ ∃ χ1, x_Rm y χ1 μ ∧ x_f9 y χ χ1 ∧ h = x_H χ1 h0
theorem P_walks_x64 {Q : e_R → e_A → Prop} {χ : t_S} {h0 : e_A} {α : Nat → Nat} {w y : Int} {τ : t_S} (A : x_at χ h0 (τ 1) α) (hz : t_sz τ) {c f R D k : Int} (hw : 0 ≤ w ∧ w < τ 1 7) (hW : t_okW (τ 1) w) (hk : k = τ 1 (28 + 13 * w + 2)) (kk : e_E mX3_walks 401 [.ref 366, e_i w, e_i y, .ref (α (10 + w.toNat)), e_i c, e_i f, e_j R, .retAddr 0, e_j D, .retAddr 0, e_i k, .retAddr 0, .retAddr 0, .retAddr 0, .retAddr 0] [] (x_H χ h0) 0 0 4 Q) : e_E mX3_walks 64 [.ref 366, e_i w, e_i y, .ref (α (10 + w.toNat)), e_i c, e_i f, e_j R, .retAddr 0, e_j D, .retAddr 0, e_i k, .retAddr 0, .retAddr 0, .retAddr 0, .retAddr 0] [] (x_H χ h0) 0 0 4 (Q) := by
  obtain ⟨w0, w1, w2, w3, w4, w5⟩ := hW
  refine e_iload dX3_walks_64 rfl ?_
  refine e_aload_n dX3_walks_66 rfl ?_
  refine e_getV (e_i (τ 1 (28 + 13 * w + 2))) dX3_walks_67 fl_X3_187 (x_aW A hw.1 hw.2) rfl ?_
  refine e_icmp_ge (tgt := 401) dX3_walks_70 rfl ⟨by omega, by omega⟩ ⟨by omega, by omega⟩ (fun c1 => ?_) (fun q => by exfalso; omega)
  exact kk
theorem P_walks_401 {χ : t_S} {h0 : e_A} {α : Nat → Nat} {w y : Int} {ρ : t_S} (A0 : x_at χ h0 (ρ 1) α) (hz : t_sz ρ) (hC : t_isC ρ) (hw : 0 ≤ w ∧ w < ρ 1 7) (hy : 0 ≤ y ∧ y ≤ 12) (h15 : x_g01 (ρ 15)) (h21 : x_g01 (ρ 21)) (hR : x_Rm y χ ρ) {τ χ1 : t_S} {s c f k kk : Int} {r d : Int → Int} (hk : 0 ≤ k ∧ k ≤ 40) (hT : x_WT w k ρ τ c) (hX : x_WX w k χ τ χ1) (hP : x_WP ρ τ r d) : e_E mX3_walks 401 [.ref 366, e_i w, e_i y, .ref (α (10 + w.toNat)), e_i s, e_i f, e_j (x_bs r), .retAddr 0, e_j (x_bs d), .retAddr 0, e_i kk, .retAddr 0, .retAddr 0, .retAddr 0, .retAddr 0] [] (x_H χ1 h0) 0 0 4 (x_PW y χ (t_mh w (t_it t_wk3f 80 τ)) h0) := by
  have s7 := hz.2.2.2.2.2.1
  have e : ∀ j, j ≠ 21 → j ≠ 22 → j ≠ 23 → j ≠ 24 → j ≠ 26 → j ≠ 27 → t_it t_wk3f 80 τ j = ρ j := fun j a b c d f g => (x_wk3_k τ j a).trans (hT.1 j b c d f g)
  have e1 := e 1 (by decide) (by decide) (by decide) (by decide) (by decide) (by decide)
  have e15 := e 15 (by decide) (by decide) (by decide) (by decide) (by decide) (by decide)
  have e23 := x_wk3_k τ 23 (by decide)
  have A1 : x_at χ1 h0 (ρ 1) α := x_at_up (congrFun (hX.1 1 (by decide) (by decide) (by decide) (by decide)) 0) A0
  have A : x_at (x_c3 χ1 (t_it t_wk3f 80 τ)) h0 (t_it t_wk3f 80 τ 1) α := by rw [e1]; exact x_at_up (congrFun (x_c3_k _ _ 1 (by decide) (by decide) (by decide)) 0) A1
  have hz9 : t_sz (t_it t_wk3f 80 τ) := t_sz_of e1 hz
  have hC9 : t_isC (t_it t_wk3f 80 τ) := by unfold t_isC; rw [e1]; exact hC
  have hq9 : x_c3 χ1 (t_it t_wk3f 80 τ) 22 0 = x_bs (t_it t_wk3f 80 τ 15) := by rw [x_c3_k _ _ 22 (by decide) (by decide) (by decide), hX.1 22 (by decide) (by decide) (by decide) (by decide), e15]; exact hR.1.1
  have hg9 : x_g01 (t_it t_wk3f 80 τ 15) := by rw [e15]; exact h15
  have hb9 : x_c3 χ1 (t_it t_wk3f 80 τ) 21 w = x_bs (t_it t_wk3f 80 τ 23) := by rw [x_c3_k _ _ 21 (by decide) (by decide) (by decide), e23]; exact hX.2.2.2.2.2.1
  have hg39 : x_g01 (t_it t_wk3f 80 τ 23) := by rw [e23]; exact x_WT_23 hT
  refine e_aload_n dX3_walks_401 rfl ?_
  refine e_dup dX3_walks_402 rfl ?_
  refine e_getV (e_j _) dX3_walks_403 fl_X3_116 (x_o3 _ _) rfl ?_
  refine e_aload_n dX3_walks_406 rfl ?_
  refine e_getV (.ref (x_ai 21)) dX3_walks_407 fl_X3_50 (x_o3 _ _) rfl ?_
  refine e_iload_n dX3_walks_410 rfl ?_
  refine x_lld 7 dX3_walks_411 rfl (by decide) (fun _ => rfl) rfl ⟨by omega, by omega⟩ ?_
  refine e_lor dX3_walks_412 ((e_lor_law (by rw [hX.1 23 (by decide) (by decide) (by decide) (by decide), hR.2.1.1]; exact (x_bs_rg _).1) (by rw [hX.2.2.2.2.2.1]; exact (x_bs_rg _).1)).trans (by rw [x_we_a hT hX hR h21])) ?_
  refine x_put_23 dX3_walks_413 fl_X3_116 ?_
  refine e_aload_n dX3_walks_416 rfl ?_
  refine e_dup dX3_walks_417 rfl ?_
  refine e_getV (e_j _) dX3_walks_418 fl_X3_119 (x_o3 _ _) rfl ?_
  rw [show s_up χ1 23 0 (x_bs (t_it t_wk3f 80 τ 21)) 24 0 = χ1 24 0 from congrFun (s_up_f (by decide)) 0]
  refine e_lload dX3_walks_421 rfl ?_
  refine e_lor dX3_walks_423 ((e_lor_law (by rw [hX.1 24 (by decide) (by decide) (by decide) (by decide), hR.2.1.2.1]; exact (x_bs_rg _).1) (x_bs_rg _).1).trans (by rw [x_we_b hX hP hR])) ?_
  refine x_put_24 dX3_walks_424 fl_X3_119 ?_
  refine e_aload_n dX3_walks_427 rfl ?_
  refine e_dup dX3_walks_428 rfl ?_
  refine e_getV (e_j _) dX3_walks_429 fl_X3_122 (x_o3 _ _) rfl ?_
  rw [show s_up (s_up χ1 23 0 (x_bs (t_it t_wk3f 80 τ 21))) 24 0 (x_bs (x_rt (t_it t_wk3f 80 τ) 1)) 25 0 = χ1 25 0 from congrFun ((s_up_f (by decide)).trans (s_up_f (by decide))) 0]
  refine e_lload dX3_walks_432 rfl ?_
  refine e_lor dX3_walks_434 ((e_lor_law (by rw [hX.1 25 (by decide) (by decide) (by decide) (by decide), hR.2.1.2.2]; exact (x_bs_rg _).1) (x_bs_rg _).1).trans (by rw [x_we_c hX hP hR])) ?_
  refine x_put_25 dX3_walks_435 fl_X3_122 ?_
  show e_E _ _ _ _ (x_H (x_c3 χ1 (t_it t_wk3f 80 τ)) h0) _ _ _ _
  refine e_aload_n dX3_walks_438 rfl ?_
  refine e_iload_n dX3_walks_439 rfl ?_
  refine e_iload_n dX3_walks_440 rfl ?_
  refine e_bud (kc1 := 0 + 0) (ks1 := 0 + 0) (by decide) (by decide) ?_
  refine e_callV2 (M1 := mX3_shifts) (kc := 0) (ks := 0) (mc := 0) (ms := 0) (ci := 3) dX3_walks_441 lk_X3_202 md_X3_shifts rfl q1193 qs30 (x_o3 _ _) (by decide) rfl (Nat.le_of_ble_eq_true rfl) (C_X3_shifts A hz9 hC9 hq9 hg9 (x_c3_23 _ _) (x_wk3_g τ) ⟨hw.1, by omega⟩ hy hb9 hg39 (x_we_d hT hX hR)) (fun a hh q => ?_) (fun i hh q => by cases q.1)
  obtain ⟨q1, χ4, hS, rfl⟩ := q
  cases q1
  show e_E _ _ _ _ _ _ _ _ _
  refine e_return dX3_walks_444 rfl ?_
  exact ⟨rfl, χ4, (x_we_e ⟨hw.1, by omega⟩ hk s7.2 hT hX hR hS).1, (x_we_e ⟨hw.1, by omega⟩ hk s7.2 hT hX hR hS).2, rfl⟩
theorem P_walks_loop {Q : e_R → e_A → Prop} {χ : t_S} {h0 : e_A} {α : Nat → Nat} {w y : Int} {ρ : t_S} (A0 : x_at χ h0 (ρ 1) α) (hz : t_sz ρ) (hw : 0 ≤ w ∧ w < ρ 1 7) (hW : t_okW (ρ 1) w) (hRq : x_Rq χ ρ) (h15 : x_g01 (ρ 15)) (hL : 0 ≤ ρ 17 0 ∧ ρ 17 0 < 4) (h1 : t_oneR ρ) (h23 : χ 23 0 = x_bs (ρ 21)) (h21 : x_g01 (ρ 21))
    (hend : ∀ (x : t_X) (χ1 : t_S) (r d : Int → Int) (k kk : Int), t_wkX w ρ = x → (0 ≤ k ∧ k ≤ 40) → x_WT w k ρ x.1 x.2.2.1 → x_WX w k χ x.1 χ1 → x_WP ρ x.1 r d → e_E mX3_walks 401 [.ref 366, e_i w, e_i y, .ref (α (10 + w.toNat)), e_i (x_sp x.2.2.1), e_i x.2.1, e_j (x_bs r), .retAddr 0, e_j (x_bs d), .retAddr 0, e_i kk, .retAddr 0, .retAddr 0, .retAddr 0, .retAddr 0] [] (x_H χ1 h0) 0 0 4 Q) :
    ∀ (n : Nat) (k : Int) (x : t_X) (χ1 : t_S) (r d : Int → Int), k + n = ρ 1 (28 + 13 * w + 2) → 0 ≤ k → t_it (t_stp w) k.toNat (t_wkx w ρ) = x → x.2.2.2 = 1 → (0 ≤ x.2.1 ∧ x.2.1 < 4) → x_c8 x.2.2.1 → x_WT w k ρ x.1 x.2.2.1 → x_WX w k χ x.1 χ1 → x_WP ρ x.1 r d → e_E mX3_walks 64 [.ref 366, e_i w, e_i y, .ref (α (10 + w.toNat)), e_i (x_sp x.2.2.1), e_i x.2.1, e_j (x_bs r), .retAddr 0, e_j (x_bs d), .retAddr 0, e_i k, .retAddr 0, .retAddr 0, .retAddr 0, .retAddr 0] [] (x_H χ1 h0) 0 0 4 Q := by
  intro n
  have hst := hW.2.2.1
  induction n with
  | zero =>
    intro k x χ1 r d hk k0 hx hg hf hc hT hX hP
    have t1 := hT.1 1 (by decide) (by decide) (by decide) (by decide) (by decide)
    have A : x_at χ1 h0 (x.1 1) α := by rw [t1]; exact x_at_up (congrFun (hX.1 1 (by decide) (by decide) (by decide) (by decide)) 0) A0
    refine P_walks_x64 A (t_sz_of t1 hz) ⟨hw.1, by rw [t1]; exact hw.2⟩ (by rw [t1]; exact hW) (by rw [t1]; omega) ?_
    refine hend x χ1 r d k k ?_ ⟨by omega, by omega⟩ hT hX hP
    rw [← hx]
    show t_it (t_stp w) (ρ 1 (28 + 13 * w + 2)).toNat _ = _
    rw [show k = ρ 1 (28 + 13 * w + 2) by omega]
  | succ n ih =>
    intro k x χ1 r d hk k0 hx hg hf hc hT hX hP
    obtain ⟨τ, f, c, g⟩ := x
    have hg1 : g = 1 := hg
    subst hg1
    refine P_walks_step A0 hz hw hW hRq h15 hL h1 h23 h21 ⟨k0, by omega⟩ hf hc hT hX hP (fun x' χ' r' d' e1 e2 e3 e4 e5 e6 e7 => ?_) (fun x' χ' r' d' e1 e2 e3 e4 e5 e6 e7 => ?_)
    · exact ih (k + 1) x' χ' r' d' (by omega) (by omega) (by rw [t_it_s _ _ k0, hx]; exact e1) e2 e3 e4 e5 e6 e7
    · refine hend x' χ' r' d' (k + 1) k ?_ ⟨by omega, by omega⟩ e5 e6 e7
      have h9 : t_it (t_stp w) (k + 1).toNat (t_wkx w ρ) = x' := by rw [t_it_s _ _ k0, hx]; exact e1
      rw [← h9]
      exact t_stp_stop (by show (k + 1).toNat ≤ (ρ 1 (28 + 13 * w + 2)).toNat; omega) (by rw [h9]; exact e2)
theorem C_X3_walks {ρ χ : t_S} {h0 : e_A} {α : Nat → Nat} {w y : Int} (A : x_at χ h0 (ρ 1) α) (hz : t_sz ρ) (hC : t_isC ρ) (hw : 0 ≤ w ∧ w < ρ 1 7) (hW : t_okW (ρ 1) w) (hy : 0 ≤ y ∧ y ≤ 12) (h15 : x_g01 (ρ 15)) (hL : 0 ≤ ρ 17 0 ∧ ρ 17 0 < 4) (h1 : t_oneR ρ) (h16 : 0 ≤ ρ 16 w ∧ ρ 16 w < 4) (h21 : x_g01 (ρ 21)) (hp : ∀ e, x_c8 e → 0 ≤ ρ 24 e) (hn : ρ 27 w = -1) (hR : x_Rm y χ ρ) : e_C mX3_walks [.ref 366, e_i w, e_i y] (x_H χ h0) 0 0 4 (x_PW y χ (t_wk w ρ) h0) := by
  have s7 := hz.2.2.2.2.2.1
  have A0 := A
  have hs8 := x_okc hz hW.1
  have hs := x_sp_rg hs8
  refine e_enter (al0 := [.ref 366, e_i w, e_i y, .retAddr 0, .retAddr 0, .retAddr 0, .retAddr 0, .retAddr 0, .retAddr 0, .retAddr 0, .retAddr 0, .retAddr 0, .retAddr 0, .retAddr 0, .retAddr 0]) (by decide +kernel) rfl (Nat.le_of_ble_eq_true rfl) ?_
  refine e_aload_n dX3_walks_0 rfl ?_
  refine e_getV (.ref 350) dX3_walks_1 fl_X3_3 (x_o3 _ _) rfl ?_
  refine e_iload_n dX3_walks_4 rfl ?_
  refine e_callV1rz (ci := 0) dX3_walks_5 md_X0_widowOf lk_X3_108 rfl q1127 qs24 (x_o0 _ _) (by decide) rfl (Nat.le_of_ble_eq_true rfl) (C_X0_widowOf A hz hw) ?_
  refine e_astore_n3 dX3_walks_8 rfl ?_
  refine e_aload_n dX3_walks_9 rfl ?_
  refine e_getV (e_i (x_sp (ρ 1 (28 + 13 * w)))) dX3_walks_10 fl_X3_184 (x_aW A hw.1 hw.2) rfl ?_
  refine e_istore4 dX3_walks_13 rfl ?_
  refine e_aload_n dX3_walks_15 rfl ?_
  refine e_getV (.ref (x_ai 16)) dX3_walks_16 fl_X3_34 (x_o3 _ _) rfl ?_
  refine e_iload_n dX3_walks_19 rfl ?_
  refine x_ild 7 dX3_walks_20 rfl (by decide) (fun _ => rfl) rfl ⟨by omega, by omega⟩ ?_
  refine e_istore5 dX3_walks_21 rfl ?_
  refine e_aload_n dX3_walks_23 rfl ?_
  refine e_getV (.ref (x_ai 10)) dX3_walks_24 fl_X3_15 (x_o3 _ _) rfl ?_
  refine e_iload_n dX3_walks_27 rfl ?_
  refine e_iload dX3_walks_28 rfl ?_
  refine x_ist 287 dX3_walks_30 rfl (by decide) rfl rfl ⟨by omega, by omega⟩ ?_
  refine e_aload_n dX3_walks_31 rfl ?_
  refine e_getV (.ref (x_ai 21)) dX3_walks_32 fl_X3_50 (x_o3 _ _) rfl ?_
  refine e_iload_n dX3_walks_35 rfl ?_
  refine e_lconst (z := 1) dX3_walks_36 rfl ?_
  refine e_iload dX3_walks_37 rfl ?_
  refine e_lshl dX3_walks_39 ((e_lshl_law 1 ⟨by omega, by omega⟩).trans (by rw [Int.one_mul])) ?_
  refine x_lst 7 dX3_walks_40 rfl (by decide) rfl rfl ⟨by omega, by omega⟩ ?_
  refine e_aload_n dX3_walks_41 rfl ?_
  refine e_getV (.ref (x_ai 11)) dX3_walks_42 fl_X3_19 (x_o3 _ _) rfl ?_
  refine e_iload_n dX3_walks_45 rfl ?_
  refine e_iconst dX3_walks_46 ?_
  refine x_ist 7 dX3_walks_47 rfl (by decide) rfl rfl ⟨by omega, by omega⟩ ?_
  refine e_aload_n dX3_walks_48 rfl ?_
  refine e_getV (.ref (x_ai 12)) dX3_walks_49 fl_X3_22 (x_o3 _ _) rfl ?_
  refine e_iload_n dX3_walks_52 rfl ?_
  refine e_iconst dX3_walks_53 ?_
  refine x_ist 7 dX3_walks_54 rfl (by decide) rfl rfl ⟨by omega, by omega⟩ ?_
  refine e_lconst (z := 0) dX3_walks_55 rfl ?_
  refine e_lstore6 dX3_walks_56 rfl ?_
  refine e_lconst (z := 0) dX3_walks_58 rfl ?_
  refine e_lstore8 dX3_walks_59 rfl ?_
  refine e_iconst dX3_walks_61 ?_
  refine e_istore10 dX3_walks_62 rfl ?_
  have s3 := hz.2.1
  have hst := hW.2.2.1
  have hrec := hR.2.2.2 w hw.1 hw.2
  have h10 : ∀ j : Int, 0 ≤ j → j ≤ 40 → χ 10 (7 * j + w) = -1 := fun j j0 j1 => by
    rw [hrec.2.2.2.2.2.1 j j0 j1]
    show x_sp (if j ≤ ρ 27 w then ρ 26 (41 * w + j) else -1) = -1
    rw [hn, if_neg (by omega)]
    rfl
  obtain ⟨x0, hx0⟩ : ∃ x0, t_wkx w ρ = x0 := ⟨_, rfl⟩
  have f1 : x0.1 = t_wk1 w (t_wk0 ρ) := by rw [← hx0]; rfl
  have f2 : x0.2.1 = ρ 16 w := by
    rw [← hx0]
    show t_wk0 ρ 16 w = _
    rw [x_wk0_k ρ 16 (by decide) (by decide)]
  have f3 : x0.2.2.1 = ρ 1 (28 + 13 * w) := by
    rw [← hx0]
    show t_wk0 ρ 1 (28 + 13 * w + 0) = _
    rw [x_wk0_k ρ 1 (by decide) (by decide), Int.add_zero]
  have f4 : x0.2.2.2 = 1 := by rw [← hx0]; rfl
  have hfin := P_walks_loop (Q := x_PW y χ (t_wk w ρ) h0) (y := y) A0 hz hw hW hR.1 h15 hL h1 hR.2.1.1 h21 (fun x χ1 r d k kk hx hk hT hX hP => by
    have h9 := P_walks_401 A0 hz hC hw hy h15 h21 hR hk hT hX hP (s := x_sp x.2.2.1) (f := x.2.1) (kk := kk)
    have e9 : t_wk w ρ = t_mh w (t_it t_wk3f 80 x.1) := by unfold t_wk; rw [hx]
    rw [e9]
    exact h9) (ρ 1 (28 + 13 * w + 2)).toNat 0 x0 _ (fun _ => 0) (fun _ => 0) (by omega) (Int.le_refl 0) (by rw [hx0]; rfl) f4 (by rw [f2]; exact h16) (by rw [f3]; exact hs8) (by rw [f1, f3]; exact x_WT0 hs8 hp) (by rw [f1]; exact x_WX0 (sp := x_sp (ρ 1 (28 + 13 * w))) ⟨hw.1, by omega⟩ hs8 rfl hp h10) (by rw [f1]; exact x_WP0 ρ)
  rw [f2, f3] at hfin
  rw [show χ 16 w = ρ 16 w from hR.1.2.2.2.1 w hw.1 hw.2, show (.long (Int64.ofInt 0) : Value) = e_j (x_bs (fun _ => 0)) from congrArg e_j x_bs_00]
  exact hfin
