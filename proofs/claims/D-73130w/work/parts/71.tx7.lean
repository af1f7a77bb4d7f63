/-! THE COMPONENT'S WALKS: a step (printed by tx7.py) -/
set_option maxRecDepth 100000
theorem P_walks_308 {Q : e_R → e_A → Prop} {χ : t_S} {h0 : e_A} {α : Nat → Nat} {w y : Int} {s0 s1 f R D k : Int} (hw : 0 ≤ w ∧ w < 7) (h26 : e_rg (χ 26 0)) (h23 : 0 ≤ χ 23 0 ∧ χ 23 0 < 2 ^ 64) (h21 : 0 ≤ χ 21 w) (h11 : 0 ≤ χ 11 w ∧ χ 11 w < 40) (hs0 : 0 ≤ s0 ∧ s0 < 64) (hs1 : 0 ≤ s1 ∧ s1 < 64) (k1 : ¬ (χ 26 0 = 3 ∧ s1 ≠ s0 ∧ e_bt (χ 23 0) s1 = 1) → e_E mX3_walks 64 [.ref 366, e_i w, e_i y, .ref (α (10 + w.toNat)), e_i s1, e_i f, e_j R, .retAddr 0, e_j D, .retAddr 0, e_i (k + 1), .retAddr 0, .retAddr 0, .retAddr 0, .retAddr 0] [] (x_H (s_up (s_up (s_up χ 21 w (t_or (χ 21 w) (2 ^ s1.toNat))) 11 w (χ 11 w + 1)) 10 (7 * (χ 11 w + 1) + w) s1) h0) 0 0 4 Q) (k2 : χ 26 0 = 3 ∧ s1 ≠ s0 ∧ e_bt (χ 23 0) s1 = 1 → e_E mX3_walks 401 [.ref 366, e_i w, e_i y, .ref (α (10 + w.toNat)), e_i s1, e_i f, e_j R, .retAddr 0, e_j D, .retAddr 0, e_i k, .retAddr 0, .retAddr 0, .retAddr 0, .retAddr 0] [] (x_H (s_up (s_up (s_up χ 21 w (t_or (χ 21 w) (2 ^ s1.toNat))) 11 w (χ 11 w + 1)) 10 (7 * (χ 11 w + 1) + w) s1) h0) 0 0 4 Q) : e_E mX3_walks 308 [.ref 366, e_i w, e_i y, .ref (α (10 + w.toNat)), e_i s0, e_i f, e_j R, .retAddr 0, e_j D, .retAddr 0, e_i k, .retAddr 0, .retAddr 0, e_i s1, .retAddr 0] [] (x_H χ h0) 0 0 4 (Q) := by
  have r1 := h26.1
  have r2 := h26.2
  refine e_aload_n dX3_walks_308 rfl ?_
  refine e_getV (e_i _) dX3_walks_309 fl_X3_63 (x_o3 _ _) rfl ?_
  refine e_iconst dX3_walks_312 ?_
  refine e_icmp_ne (tgt := 339) dX3_walks_313 rfl ⟨by omega, by omega⟩ ⟨by omega, by omega⟩ (fun c1 => ?_) (fun c1 => ?_)
  · refine e_iconst dX3_walks_339 ?_
    refine e_istore14 dX3_walks_340 rfl ?_
    refine e_iload dX3_walks_342 rfl ?_
    refine e_istore4 dX3_walks_344 rfl ?_
    refine e_aload_n dX3_walks_346 rfl ?_
    refine e_getV (.ref (x_ai 21)) dX3_walks_347 fl_X3_50 (x_o3 _ _) rfl ?_
    refine e_iload_n dX3_walks_350 rfl ?_
    refine e_dup2 dX3_walks_351 rfl rfl ?_
    refine x_lld 7 dX3_walks_352 rfl (by decide) (fun _ => rfl) rfl ⟨by omega, by omega⟩ ?_
    refine e_lconst (z := 1) dX3_walks_353 rfl ?_
    refine e_iload dX3_walks_354 rfl ?_
    refine e_lshl dX3_walks_356 ((e_lshl_law 1 ⟨by omega, by omega⟩).trans (by rw [Int.one_mul])) ?_
    refine e_lor dX3_walks_357 (e_lor_law h21 (Int.le_of_lt (Int.pow_pos (by decide)))) ?_
    refine x_lst 7 dX3_walks_358 rfl (by decide) rfl rfl ⟨by omega, by omega⟩ ?_
    refine e_aload_n dX3_walks_359 rfl ?_
    refine e_getV (.ref (x_ai 11)) dX3_walks_360 fl_X3_19 (x_o3 _ _) rfl ?_
    refine e_iload_n dX3_walks_363 rfl ?_
    refine e_dup2 dX3_walks_364 rfl rfl ?_
    refine x_ild 7 dX3_walks_365 rfl (by decide) (fun _ => rfl) rfl ⟨by omega, by omega⟩ ?_
    refine e_iconst dX3_walks_366 ?_
    refine e_iadd dX3_walks_367 ?_
    refine x_ist 7 dX3_walks_368 rfl (by decide) rfl rfl ⟨by omega, by omega⟩ ?_
    refine e_aload_n dX3_walks_369 rfl ?_
    refine e_getV (.ref (x_ai 10)) dX3_walks_370 fl_X3_15 (x_o3 _ _) rfl ?_
    refine e_bipush dX3_walks_373 rfl ?_
    rw [show s_up (s_up χ 21 w (t_or (χ 21 w) (2 ^ s1.toNat))) 11 w (s_up χ 21 w (t_or (χ 21 w) (2 ^ s1.toNat)) 11 w + 1) = s_up (s_up χ 21 w (t_or (χ 21 w) (2 ^ s1.toNat))) 11 w (χ 11 w + 1) from by rw [show s_up χ 21 w (t_or (χ 21 w) (2 ^ s1.toNat)) 11 w = χ 11 w from congrFun (s_up_f (by decide)) w]]
    refine e_aload_n dX3_walks_375 rfl ?_
    refine e_getV (.ref (x_ai 11)) dX3_walks_376 fl_X3_19 (x_o3 _ _) rfl ?_
    refine e_iload_n dX3_walks_379 rfl ?_
    refine x_ild 7 dX3_walks_380 rfl (by decide) (fun _ => rfl) rfl ⟨by omega, by omega⟩ ?_
    rw [s_up_eq]
    refine e_imul dX3_walks_381 ?_
    refine e_iload_n dX3_walks_382 rfl ?_
    refine e_iadd dX3_walks_383 ?_
    refine e_iload dX3_walks_384 rfl ?_
    refine x_ist 287 dX3_walks_386 rfl (by decide) rfl rfl ⟨by omega, by omega⟩ ?_
    refine e_iload dX3_walks_387 rfl ?_
    refine e_if_eq (tgt := 395) dX3_walks_389 rfl ⟨by omega, by omega⟩ (fun c2 => ?_) (fun c2 => ?_)
    · refine e_iinc10 dX3_walks_395 rfl ?_
      refine e_goto (tgt := 64) dX3_walks_398 rfl ?_
      refine e_fgt 14 (e_fgt 13 ?_)
      exact k1 (fun q => by omega)
    · refine e_goto (tgt := 401) dX3_walks_392 rfl ?_
      refine e_fgt 14 (e_fgt 13 ?_)
      exact k2 ⟨by omega, by omega, by omega⟩
  · refine e_iload dX3_walks_316 rfl ?_
    refine e_iload dX3_walks_318 rfl ?_
    refine e_icmp_eq (tgt := 339) dX3_walks_320 rfl ⟨by omega, by omega⟩ ⟨by omega, by omega⟩ (fun c3 => ?_) (fun c3 => ?_)
    · refine e_iconst dX3_walks_339 ?_
      refine e_istore14 dX3_walks_340 rfl ?_
      refine e_iload dX3_walks_342 rfl ?_
      refine e_istore4 dX3_walks_344 rfl ?_
      refine e_aload_n dX3_walks_346 rfl ?_
      refine e_getV (.ref (x_ai 21)) dX3_walks_347 fl_X3_50 (x_o3 _ _) rfl ?_
      refine e_iload_n dX3_walks_350 rfl ?_
      refine e_dup2 dX3_walks_351 rfl rfl ?_
      refine x_lld 7 dX3_walks_352 rfl (by decide) (fun _ => rfl) rfl ⟨by omega, by omega⟩ ?_
      refine e_lconst (z := 1) dX3_walks_353 rfl ?_
      refine e_iload dX3_walks_354 rfl ?_
      refine e_lshl dX3_walks_356 ((e_lshl_law 1 ⟨by omega, by omega⟩).trans (by rw [Int.one_mul])) ?_
      refine e_lor dX3_walks_357 (e_lor_law h21 (Int.le_of_lt (Int.pow_pos (by decide)))) ?_
      refine x_lst 7 dX3_walks_358 rfl (by decide) rfl rfl ⟨by omega, by omega⟩ ?_
      refine e_aload_n dX3_walks_359 rfl ?_
      refine e_getV (.ref (x_ai 11)) dX3_walks_360 fl_X3_19 (x_o3 _ _) rfl ?_
      refine e_iload_n dX3_walks_363 rfl ?_
      refine e_dup2 dX3_walks_364 rfl rfl ?_
      refine x_ild 7 dX3_walks_365 rfl (by decide) (fun _ => rfl) rfl ⟨by omega, by omega⟩ ?_
      refine e_iconst dX3_walks_366 ?_
      refine e_iadd dX3_walks_367 ?_
      refine x_ist 7 dX3_walks_368 rfl (by decide) rfl rfl ⟨by omega, by omega⟩ ?_
      refine e_aload_n dX3_walks_369 rfl ?_
      refine e_getV (.ref (x_ai 10)) dX3_walks_370 fl_X3_15 (x_o3 _ _) rfl ?_
      refine e_bipush dX3_walks_373 rfl ?_
      rw [show s_up (s_up χ 21 w (t_or (χ 21 w) (2 ^ s1.toNat))) 11 w (s_up χ 21 w (t_or (χ 21 w) (2 ^ s1.toNat)) 11 w + 1) = s_up (s_up χ 21 w (t_or (χ 21 w) (2 ^ s1.toNat))) 11 w (χ 11 w + 1) from by rw [show s_up χ 21 w (t_or (χ 21 w) (2 ^ s1.toNat)) 11 w = χ 11 w from congrFun (s_up_f (by decide)) w]]
      refine e_aload_n dX3_walks_375 rfl ?_
      refine e_getV (.ref (x_ai 11)) dX3_walks_376 fl_X3_19 (x_o3 _ _) rfl ?_
      refine e_iload_n dX3_walks_379 rfl ?_
      refine x_ild 7 dX3_walks_380 rfl (by decide) (fun _ => rfl) rfl ⟨by omega, by omega⟩ ?_
      rw [s_up_eq]
      refine e_imul dX3_walks_381 ?_
      refine e_iload_n dX3_walks_382 rfl ?_
      refine e_iadd dX3_walks_383 ?_
      refine e_iload dX3_walks_384 rfl ?_
      refine x_ist 287 dX3_walks_386 rfl (by decide) rfl rfl ⟨by omega, by omega⟩ ?_
      refine e_iload dX3_walks_387 rfl ?_
      refine e_if_eq (tgt := 395) dX3_walks_389 rfl ⟨by omega, by omega⟩ (fun c4 => ?_) (fun c4 => ?_)
      · refine e_iinc10 dX3_walks_395 rfl ?_
        refine e_goto (tgt := 64) dX3_walks_398 rfl ?_
        refine e_fgt 14 (e_fgt 13 ?_)
        exact k1 (fun q => by omega)
      · refine e_goto (tgt := 401) dX3_walks_392 rfl ?_
        refine e_fgt 14 (e_fgt 13 ?_)
        exact k2 ⟨by omega, by omega, by omega⟩
    · refine e_aload_n dX3_walks_323 rfl ?_
      refine e_getV (e_j _) dX3_walks_324 fl_X3_116 (x_o3 _ _) rfl ?_
      refine e_iload dX3_walks_327 rfl ?_
      refine e_callS2rz dX3_walks_329 md_X0_isIn lk_X3_168 rfl q1188 rfl (Nat.le_of_ble_eq_true rfl) (C_X0_isIn h23 hs1) ?_
      refine e_bif_eq (tgt := 339) dX3_walks_332 rfl (fun c5 => ?_) (fun c5 => ?_)
      · refine e_iconst dX3_walks_339 ?_
        refine e_istore14 dX3_walks_340 rfl ?_
        refine e_iload dX3_walks_342 rfl ?_
        refine e_istore4 dX3_walks_344 rfl ?_
        refine e_aload_n dX3_walks_346 rfl ?_
        refine e_getV (.ref (x_ai 21)) dX3_walks_347 fl_X3_50 (x_o3 _ _) rfl ?_
        refine e_iload_n dX3_walks_350 rfl ?_
        refine e_dup2 dX3_walks_351 rfl rfl ?_
        refine x_lld 7 dX3_walks_352 rfl (by decide) (fun _ => rfl) rfl ⟨by omega, by omega⟩ ?_
        refine e_lconst (z := 1) dX3_walks_353 rfl ?_
        refine e_iload dX3_walks_354 rfl ?_
        refine e_lshl dX3_walks_356 ((e_lshl_law 1 ⟨by omega, by omega⟩).trans (by rw [Int.one_mul])) ?_
        refine e_lor dX3_walks_357 (e_lor_law h21 (Int.le_of_lt (Int.pow_pos (by decide)))) ?_
        refine x_lst 7 dX3_walks_358 rfl (by decide) rfl rfl ⟨by omega, by omega⟩ ?_
        refine e_aload_n dX3_walks_359 rfl ?_
        refine e_getV (.ref (x_ai 11)) dX3_walks_360 fl_X3_19 (x_o3 _ _) rfl ?_
        refine e_iload_n dX3_walks_363 rfl ?_
        refine e_dup2 dX3_walks_364 rfl rfl ?_
        refine x_ild 7 dX3_walks_365 rfl (by decide) (fun _ => rfl) rfl ⟨by omega, by omega⟩ ?_
        refine e_iconst dX3_walks_366 ?_
        refine e_iadd dX3_walks_367 ?_
        refine x_ist 7 dX3_walks_368 rfl (by decide) rfl rfl ⟨by omega, by omega⟩ ?_
        refine e_aload_n dX3_walks_369 rfl ?_
        refine e_getV (.ref (x_ai 10)) dX3_walks_370 fl_X3_15 (x_o3 _ _) rfl ?_
        refine e_bipush dX3_walks_373 rfl ?_
        rw [show s_up (s_up χ 21 w (t_or (χ 21 w) (2 ^ s1.toNat))) 11 w (s_up χ 21 w (t_or (χ 21 w) (2 ^ s1.toNat)) 11 w + 1) = s_up (s_up χ 21 w (t_or (χ 21 w) (2 ^ s1.toNat))) 11 w (χ 11 w + 1) from by rw [show s_up χ 21 w (t_or (χ 21 w) (2 ^ s1.toNat)) 11 w = χ 11 w from congrFun (s_up_f (by decide)) w]]
        refine e_aload_n dX3_walks_375 rfl ?_
        refine e_getV (.ref (x_ai 11)) dX3_walks_376 fl_X3_19 (x_o3 _ _) rfl ?_
        refine e_iload_n dX3_walks_379 rfl ?_
        refine x_ild 7 dX3_walks_380 rfl (by decide) (fun _ => rfl) rfl ⟨by omega, by omega⟩ ?_
        rw [s_up_eq]
        refine e_imul dX3_walks_381 ?_
        refine e_iload_n dX3_walks_382 rfl ?_
        refine e_iadd dX3_walks_383 ?_
        refine e_iload dX3_walks_384 rfl ?_
        refine x_ist 287 dX3_walks_386 rfl (by decide) rfl rfl ⟨by omega, by omega⟩ ?_
        refine e_iload dX3_walks_387 rfl ?_
        refine e_if_eq (tgt := 395) dX3_walks_389 rfl ⟨by omega, by omega⟩ (fun c6 => ?_) (fun c6 => ?_)
        · refine e_iinc10 dX3_walks_395 rfl ?_
          refine e_goto (tgt := 64) dX3_walks_398 rfl ?_
          refine e_fgt 14 (e_fgt 13 ?_)
          exact k1 (fun q => by omega)
        · refine e_goto (tgt := 401) dX3_walks_392 rfl ?_
          refine e_fgt 14 (e_fgt 13 ?_)
          exact k2 ⟨by omega, by omega, by omega⟩
      · refine e_iconst dX3_walks_335 ?_
        refine e_goto (tgt := 340) dX3_walks_336 rfl ?_
        refine e_istore14 dX3_walks_340 rfl ?_
        refine e_iload dX3_walks_342 rfl ?_
        refine e_istore4 dX3_walks_344 rfl ?_
        refine e_aload_n dX3_walks_346 rfl ?_
        refine e_getV (.ref (x_ai 21)) dX3_walks_347 fl_X3_50 (x_o3 _ _) rfl ?_
        refine e_iload_n dX3_walks_350 rfl ?_
        refine e_dup2 dX3_walks_351 rfl rfl ?_
        refine x_lld 7 dX3_walks_352 rfl (by decide) (fun _ => rfl) rfl ⟨by omega, by omega⟩ ?_
        refine e_lconst (z := 1) dX3_walks_353 rfl ?_
        refine e_iload dX3_walks_354 rfl ?_
        refine e_lshl dX3_walks_356 ((e_lshl_law 1 ⟨by omega, by omega⟩).trans (by rw [Int.one_mul])) ?_
        refine e_lor dX3_walks_357 (e_lor_law h21 (Int.le_of_lt (Int.pow_pos (by decide)))) ?_
        refine x_lst 7 dX3_walks_358 rfl (by decide) rfl rfl ⟨by omega, by omega⟩ ?_
        refine e_aload_n dX3_walks_359 rfl ?_
        refine e_getV (.ref (x_ai 11)) dX3_walks_360 fl_X3_19 (x_o3 _ _) rfl ?_
        refine e_iload_n dX3_walks_363 rfl ?_
        refine e_dup2 dX3_walks_364 rfl rfl ?_
        refine x_ild 7 dX3_walks_365 rfl (by decide) (fun _ => rfl) rfl ⟨by omega, by omega⟩ ?_
        refine e_iconst dX3_walks_366 ?_
        refine e_iadd dX3_walks_367 ?_
        refine x_ist 7 dX3_walks_368 rfl (by decide) rfl rfl ⟨by omega, by omega⟩ ?_
        refine e_aload_n dX3_walks_369 rfl ?_
        refine e_getV (.ref (x_ai 10)) dX3_walks_370 fl_X3_15 (x_o3 _ _) rfl ?_
        refine e_bipush dX3_walks_373 rfl ?_
        rw [show s_up (s_up χ 21 w (t_or (χ 21 w) (2 ^ s1.toNat))) 11 w (s_up χ 21 w (t_or (χ 21 w) (2 ^ s1.toNat)) 11 w + 1) = s_up (s_up χ 21 w (t_or (χ 21 w) (2 ^ s1.toNat))) 11 w (χ 11 w + 1) from by rw [show s_up χ 21 w (t_or (χ 21 w) (2 ^ s1.toNat)) 11 w = χ 11 w from congrFun (s_up_f (by decide)) w]]
        refine e_aload_n dX3_walks_375 rfl ?_
        refine e_getV (.ref (x_ai 11)) dX3_walks_376 fl_X3_19 (x_o3 _ _) rfl ?_
        refine e_iload_n dX3_walks_379 rfl ?_
        refine x_ild 7 dX3_walks_380 rfl (by decide) (fun _ => rfl) rfl ⟨by omega, by omega⟩ ?_
        rw [s_up_eq]
        refine e_imul dX3_walks_381 ?_
        refine e_iload_n dX3_walks_382 rfl ?_
        refine e_iadd dX3_walks_383 ?_
        refine e_iload dX3_walks_384 rfl ?_
        refine x_ist 287 dX3_walks_386 rfl (by decide) rfl rfl ⟨by omega, by omega⟩ ?_
        refine e_iload dX3_walks_387 rfl ?_
        refine e_if_eq (tgt := 395) dX3_walks_389 rfl ⟨by omega, by omega⟩ (fun c7 => ?_) (fun c7 => ?_)
        · refine e_iinc10 dX3_walks_395 rfl ?_
          refine e_goto (tgt := 64) dX3_walks_398 rfl ?_
          refine e_fgt 14 (e_fgt 13 ?_)
          exact k1 (fun q => by omega)
        · refine e_goto (tgt := 401) dX3_walks_392 rfl ?_
          refine e_fgt 14 (e_fgt 13 ?_)
          exact k2 ⟨by omega, by omega, by omega⟩
theorem P_walks_203 {Q : e_R → e_A → Prop} {χ : t_S} {h0 : e_A} {α : Nat → Nat} {w y : Int} {τ : t_S} (A : x_at χ h0 (τ 1) α) (hz : t_sz τ) (hq : χ 22 0 = x_bs (τ 15)) (hg : x_g01 (τ 15)) {o : Int → Int} (ho : x_g01 o) {c f R D k : Int} (hw : 0 ≤ w ∧ w < 7) (hc : x_c8 c) (hf : 0 ≤ f ∧ f < 4) (hR : 0 ≤ R) (hD : 0 ≤ D) (kS : ¬ x_free τ o (t_bes τ c f) → e_E mX3_walks 308 [.ref 366, e_i w, e_i y, .ref (α (10 + w.toNat)), e_i (x_sp c), e_i ((f + 1) % 4), e_j R, .retAddr 0, e_j D, .retAddr 0, e_i k, .retAddr 0, .retAddr 0, e_i (x_sp c), .retAddr 0] [] (x_H (s_up χ 12 w (χ 12 w + 1)) h0) 0 0 4 Q) (kR : x_free τ o (t_bes τ c f) → f % 2 = 1 → e_E mX3_walks 308 [.ref 366, e_i w, e_i y, .ref (α (10 + w.toNat)), e_i (x_sp c), e_i f, e_j (t_or R (2 ^ (t_mn (x_sp c) (x_sp (t_bes τ c f))).toNat)), .retAddr 0, e_j D, .retAddr 0, e_i k, .retAddr 0, .retAddr 0, e_i (x_sp (t_bes τ c f)), .retAddr 0] [] (x_H χ h0) 0 0 4 Q) (kD : x_free τ o (t_bes τ c f) → ¬ f % 2 = 1 → e_E mX3_walks 308 [.ref 366, e_i w, e_i y, .ref (α (10 + w.toNat)), e_i (x_sp c), e_i f, e_j R, .retAddr 0, e_j (t_or D (2 ^ (t_mn (x_sp c) (x_sp (t_bes τ c f))).toNat)), .retAddr 0, e_i k, .retAddr 0, .retAddr 0, e_i (x_sp (t_bes τ c f)), .retAddr 0] [] (x_H χ h0) 0 0 4 Q) : e_E mX3_walks 203 [.ref 366, e_i w, e_i y, .ref (α (10 + w.toNat)), e_i (x_sp c), e_i f, e_j R, .retAddr 0, e_j D, .retAddr 0, e_i k, e_j (x_bs o), .retAddr 0, .retAddr 0, .retAddr 0] [] (x_H χ h0) 0 0 4 (Q) := by
  have hs := x_sp_rg hc
  have hb := x_cn_sp (x_bes_cn hz c f)
  have hne := x_bes_sp hz hc hf
  have hmn : t_bes τ c f ≠ -1 → 0 ≤ t_mn (x_sp c) (x_sp (t_bes τ c f)) ∧ t_mn (x_sp c) (x_sp (t_bes τ c f)) < 64 := fun q => t_mn_rg ⟨hs.1, hs.2.1⟩ ⟨(x_sp_rg (hne q).1).1, (x_sp_rg (hne q).1).2.1⟩
  refine e_aload_n dX3_walks_203 rfl ?_
  refine e_aload_n dX3_walks_204 rfl ?_
  refine e_getV (.ref 350) dX3_walks_205 fl_X3_3 (x_o3 _ _) rfl ?_
  refine e_iload dX3_walks_208 rfl ?_
  refine e_iload dX3_walks_210 rfl ?_
  refine e_callV2rz (ci := 0) dX3_walks_212 md_X0_beside lk_X3_176 rfl q1177 qs27 (x_o0 _ _) (by decide) rfl (Nat.le_of_ble_eq_true rfl) (C_X0_beside A hz hc hf) ?_
  refine e_lload dX3_walks_215 rfl ?_
  refine e_callV2rz (ci := 3) dX3_walks_217 md_X3_isFree lk_X3_180 rfl q1181 qs28 (x_o3 _ _) (by decide) rfl (Nat.le_of_ble_eq_true rfl) (C_X3_isFree hq hg ho (x_bes_cn hz c f)) ?_
  refine e_bif_eq (tgt := 237) dX3_walks_220 rfl (fun cf => ?_) (fun cf => ?_)
  · refine e_iload dX3_walks_237 rfl ?_
    refine e_istore13 dX3_walks_239 rfl ?_
    refine e_iload dX3_walks_241 rfl ?_
    refine e_iload dX3_walks_243 rfl ?_
    refine e_icmp_ne (tgt := 269) dX3_walks_245 rfl ⟨by omega, by omega⟩ ⟨by omega, by omega⟩ (fun cg => ?_) (fun cg => ?_)
    · refine e_iload dX3_walks_269 rfl ?_
      refine e_iconst dX3_walks_271 ?_
      refine e_irem dX3_walks_272 ⟨by omega, by omega⟩ ⟨by omega, by omega⟩ ?_
      refine e_iconst dX3_walks_273 ?_
      refine e_icmp_ne (tgt := 294) dX3_walks_274 rfl ⟨by omega, by omega⟩ ⟨by omega, by omega⟩ (fun ch => ?_) (fun ch => ?_)
      · refine e_lload dX3_walks_294 rfl ?_
        refine e_lconst (z := 1) dX3_walks_296 rfl ?_
        refine e_iload dX3_walks_297 rfl ?_
        refine e_iload dX3_walks_299 rfl ?_
        refine e_callS2rz dX3_walks_301 md_J3_min lk_X3_197 rfl q683 rfl (Nat.le_of_ble_eq_true rfl) (C_J3_min ⟨by omega, by omega⟩ ⟨by omega, by omega⟩) ?_
        refine e_lshl dX3_walks_304 ((e_lshl_law 1 (by first | exact hmn cf.1 | (exfalso; omega))).trans (by rw [Int.one_mul])) ?_
        refine e_lor dX3_walks_305 (e_lor_law hD (Int.le_of_lt (Int.pow_pos (by decide)))) ?_
        refine e_lstore8 dX3_walks_306 rfl ?_
        refine e_fgt 11 ?_
        first
          | (exfalso; have hn := (hne cf.1).2; omega)
          | (exfalso; omega)
          | exact kS cf
          | exact kR cf ch
          | exact kD cf ch
      · refine e_lload dX3_walks_277 rfl ?_
        refine e_lconst (z := 1) dX3_walks_279 rfl ?_
        refine e_iload dX3_walks_280 rfl ?_
        refine e_iload dX3_walks_282 rfl ?_
        refine e_callS2rz dX3_walks_284 md_J3_min lk_X3_197 rfl q683 rfl (Nat.le_of_ble_eq_true rfl) (C_J3_min ⟨by omega, by omega⟩ ⟨by omega, by omega⟩) ?_
        refine e_lshl dX3_walks_287 ((e_lshl_law 1 (by first | exact hmn cf.1 | (exfalso; omega))).trans (by rw [Int.one_mul])) ?_
        refine e_lor dX3_walks_288 (e_lor_law hR (Int.le_of_lt (Int.pow_pos (by decide)))) ?_
        refine e_lstore6 dX3_walks_289 rfl ?_
        refine e_goto (tgt := 308) dX3_walks_291 rfl ?_
        refine e_fgt 11 ?_
        first
          | (exfalso; have hn := (hne cf.1).2; omega)
          | (exfalso; omega)
          | exact kS cf
          | exact kR cf ch
          | exact kD cf ch
    · refine e_aload_n dX3_walks_248 rfl ?_
      refine e_getV (.ref (x_ai 12)) dX3_walks_249 fl_X3_22 (x_o3 _ _) rfl ?_
      refine e_iload_n dX3_walks_252 rfl ?_
      refine e_dup2 dX3_walks_253 rfl rfl ?_
      refine x_ild 7 dX3_walks_254 rfl (by decide) (fun _ => rfl) rfl ⟨by omega, by omega⟩ ?_
      refine e_iconst dX3_walks_255 ?_
      refine e_iadd dX3_walks_256 ?_
      refine x_ist 7 dX3_walks_257 rfl (by decide) rfl rfl ⟨by omega, by omega⟩ ?_
      refine e_iload dX3_walks_258 rfl ?_
      refine e_iconst dX3_walks_260 ?_
      refine e_iadd dX3_walks_261 ?_
      refine e_iconst dX3_walks_262 ?_
      refine e_irem dX3_walks_263 ⟨by omega, by omega⟩ ⟨by omega, by omega⟩ ?_
      refine e_istore5 dX3_walks_264 rfl ?_
      refine e_goto (tgt := 308) dX3_walks_266 rfl ?_
      refine e_fgt 11 ?_
      first
        | (exfalso; have hn := (hne cf.1).2; omega)
        | (exfalso; omega)
        | exact kS cf
        | exact kR cf ch
        | exact kD cf ch
  · refine e_aload_n dX3_walks_223 rfl ?_
    refine e_getV (.ref 350) dX3_walks_224 fl_X3_3 (x_o3 _ _) rfl ?_
    refine e_iload dX3_walks_227 rfl ?_
    refine e_iload dX3_walks_229 rfl ?_
    refine e_callV2rz (ci := 0) dX3_walks_231 md_X0_beside lk_X3_176 rfl q1177 qs27 (x_o0 _ _) (by decide) rfl (Nat.le_of_ble_eq_true rfl) (C_X0_beside A hz hc hf) ?_
    refine e_goto (tgt := 239) dX3_walks_234 rfl ?_
    refine e_istore13 dX3_walks_239 rfl ?_
    refine e_iload dX3_walks_241 rfl ?_
    refine e_iload dX3_walks_243 rfl ?_
    refine e_icmp_ne (tgt := 269) dX3_walks_245 rfl ⟨by omega, by omega⟩ ⟨by omega, by omega⟩ (fun cg => ?_) (fun cg => ?_)
    · refine e_iload dX3_walks_269 rfl ?_
      refine e_iconst dX3_walks_271 ?_
      refine e_irem dX3_walks_272 ⟨by omega, by omega⟩ ⟨by omega, by omega⟩ ?_
      refine e_iconst dX3_walks_273 ?_
      refine e_icmp_ne (tgt := 294) dX3_walks_274 rfl ⟨by omega, by omega⟩ ⟨by omega, by omega⟩ (fun ch => ?_) (fun ch => ?_)
      · refine e_lload dX3_walks_294 rfl ?_
        refine e_lconst (z := 1) dX3_walks_296 rfl ?_
        refine e_iload dX3_walks_297 rfl ?_
        refine e_iload dX3_walks_299 rfl ?_
        refine e_callS2rz dX3_walks_301 md_J3_min lk_X3_197 rfl q683 rfl (Nat.le_of_ble_eq_true rfl) (C_J3_min ⟨by omega, by omega⟩ ⟨by omega, by omega⟩) ?_
        refine e_lshl dX3_walks_304 ((e_lshl_law 1 (by first | exact hmn cf.1 | (exfalso; omega))).trans (by rw [Int.one_mul])) ?_
        refine e_lor dX3_walks_305 (e_lor_law hD (Int.le_of_lt (Int.pow_pos (by decide)))) ?_
        refine e_lstore8 dX3_walks_306 rfl ?_
        refine e_fgt 11 ?_
        first
          | (exfalso; have hn := (hne cf.1).2; omega)
          | (exfalso; omega)
          | exact kS cf
          | exact kR cf ch
          | exact kD cf ch
      · refine e_lload dX3_walks_277 rfl ?_
        refine e_lconst (z := 1) dX3_walks_279 rfl ?_
        refine e_iload dX3_walks_280 rfl ?_
        refine e_iload dX3_walks_282 rfl ?_
        refine e_callS2rz dX3_walks_284 md_J3_min lk_X3_197 rfl q683 rfl (Nat.le_of_ble_eq_true rfl) (C_J3_min ⟨by omega, by omega⟩ ⟨by omega, by omega⟩) ?_
        refine e_lshl dX3_walks_287 ((e_lshl_law 1 (by first | exact hmn cf.1 | (exfalso; omega))).trans (by rw [Int.one_mul])) ?_
        refine e_lor dX3_walks_288 (e_lor_law hR (Int.le_of_lt (Int.pow_pos (by decide)))) ?_
        refine e_lstore6 dX3_walks_289 rfl ?_
        refine e_goto (tgt := 308) dX3_walks_291 rfl ?_
        refine e_fgt 11 ?_
        first
          | (exfalso; have hn := (hne cf.1).2; omega)
          | (exfalso; omega)
          | exact kS cf
          | exact kR cf ch
          | exact kD cf ch
    · refine e_aload_n dX3_walks_248 rfl ?_
      refine e_getV (.ref (x_ai 12)) dX3_walks_249 fl_X3_22 (x_o3 _ _) rfl ?_
      refine e_iload_n dX3_walks_252 rfl ?_
      refine e_dup2 dX3_walks_253 rfl rfl ?_
      refine x_ild 7 dX3_walks_254 rfl (by decide) (fun _ => rfl) rfl ⟨by omega, by omega⟩ ?_
      refine e_iconst dX3_walks_255 ?_
      refine e_iadd dX3_walks_256 ?_
      refine x_ist 7 dX3_walks_257 rfl (by decide) rfl rfl ⟨by omega, by omega⟩ ?_
      refine e_iload dX3_walks_258 rfl ?_
      refine e_iconst dX3_walks_260 ?_
      refine e_iadd dX3_walks_261 ?_
      refine e_iconst dX3_walks_262 ?_
      refine e_irem dX3_walks_263 ⟨by omega, by omega⟩ ⟨by omega, by omega⟩ ?_
      refine e_istore5 dX3_walks_264 rfl ?_
      refine e_goto (tgt := 308) dX3_walks_266 rfl ?_
      refine e_fgt 11 ?_
      first
        | (exfalso; have hn := (hne cf.1).2; omega)
        | (exfalso; omega)
        | exact kS cf
        | exact kR cf ch
        | exact kD cf ch
theorem P_walks_64 {Q : e_R → e_A → Prop} {χ : t_S} {h0 : e_A} {α : Nat → Nat} {w y : Int} {τ : t_S} (A : x_at χ h0 (τ 1) α) (hz : t_sz τ) {c f R D k : Int} (hw : 0 ≤ w ∧ w < τ 1 7) (hW : t_okW (τ 1) w) (hk : 0 ≤ k ∧ k < τ 1 (28 + 13 * w + 2)) (hso : χ 17 w = if w = τ 19 0 then τ 20 0 else -1) (h1 : t_oneR τ) (kk : e_E mX3_walks 106 [.ref 366, e_i w, e_i y, .ref (α (10 + w.toNat)), e_i c, e_i f, e_j R, .retAddr 0, e_j D, .retAddr 0, e_i k, .retAddr 0, .retAddr 0, .retAddr 0, .retAddr 0] [e_i (t_turn τ w k), e_i f] (x_H χ h0) 0 0 4 Q) : e_E mX3_walks 64 [.ref 366, e_i w, e_i y, .ref (α (10 + w.toNat)), e_i c, e_i f, e_j R, .retAddr 0, e_j D, .retAddr 0, e_i k, .retAddr 0, .retAddr 0, .retAddr 0, .retAddr 0] [] (x_H χ h0) 0 0 4 (Q) := by
  have s7 := hz.2.2.2.2.2.1
  obtain ⟨w0, w1, w2, w3, w4, w5⟩ := hW
  obtain ⟨gg, hgg, hgv⟩ := x_aG A hw.1 hw.2
  obtain ⟨m, hm⟩ : ∃ m, τ 1 (28 + 13 * w + 4) = m := ⟨_, rfl⟩
  have g3 := Int.emod_nonneg k (b := m) (by omega)
  have g4 := Int.emod_lt_of_pos k (b := m) (by omega)
  have s19 := h1.1
  have h20 := h1.2
  have hs9 : χ 17 w = -1 ∨ (w = τ 19 0 ∧ χ 17 w = τ 20 0 ∧ 0 ≤ τ 20 0 ∧ τ 20 0 < 4) := by
    by_cases q : w = τ 19 0
    · rw [if_pos q] at hso; right; omega
    · rw [if_neg q] at hso; exact Or.inl hso
  refine e_iload dX3_walks_64 rfl ?_
  refine e_aload_n dX3_walks_66 rfl ?_
  refine e_getV (e_i (τ 1 (28 + 13 * w + 2))) dX3_walks_67 fl_X3_187 (x_aW A hw.1 hw.2) rfl ?_
  refine e_icmp_ge (tgt := 401) dX3_walks_70 rfl ⟨by omega, by omega⟩ ⟨by omega, by omega⟩ (fun q => by exfalso; omega) (fun c1 => ?_)
  refine e_iload dX3_walks_73 rfl ?_
  refine e_aload_n dX3_walks_75 rfl ?_
  refine e_getV (.ref (x_ai 17)) dX3_walks_76 fl_X3_37 (x_o3 _ _) rfl ?_
  refine e_iload_n dX3_walks_79 rfl ?_
  refine x_ild 7 dX3_walks_80 rfl (by decide) (fun _ => rfl) rfl ⟨by omega, by omega⟩ ?_
  refine e_iconst dX3_walks_81 ?_
  refine e_icmp_ne (tgt := 100) dX3_walks_82 rfl ⟨by omega, by omega⟩ ⟨by omega, by omega⟩ (fun c2 => ?_) (fun c2 => ?_)
  · refine e_aload_n dX3_walks_100 rfl ?_
    refine e_getV (.ref (x_ai 17)) dX3_walks_101 fl_X3_37 (x_o3 _ _) rfl ?_
    refine e_iload_n dX3_walks_104 rfl ?_
    refine x_ild 7 dX3_walks_105 rfl (by decide) (fun _ => rfl) rfl ⟨by omega, by omega⟩ ?_
    first
      | (rw [show χ 17 w = t_turn τ w k from by unfold t_turn; rw [if_pos (by omega)]; omega]; exact kk)
      | (rw [show τ 1 (28 + 13 * w + (5 + k % m)) = t_turn τ w k from by unfold t_turn; rw [if_neg (fun q => by rw [if_pos q] at hso; omega)]; show _ = τ 1 (28 + 13 * w + (5 + k % τ 1 (28 + 13 * w + 4))); rw [hm]]; exact kk)
  · refine e_aload_n dX3_walks_85 rfl ?_
    refine e_getV (.ref (α (20 + w.toNat))) dX3_walks_86 fl_X3_189 (x_aW A hw.1 hw.2) rfl ?_
    refine e_iload dX3_walks_89 rfl ?_
    refine e_aload_n dX3_walks_91 rfl ?_
    refine e_getV (e_i (τ 1 (28 + 13 * w + 4))) dX3_walks_92 fl_X3_192 (x_aW A hw.1 hw.2) rfl ?_
    rw [hm]
    refine e_irem dX3_walks_95 ⟨by omega, by omega⟩ ⟨by omega, by omega⟩ ?_
    refine e_iald ((k % m).toNat) dX3_walks_96 hgg (Or.inl rfl) (by omega) (by omega) (by omega) ?_
    rw [hgv _ g3 (by omega)]
    refine e_goto (tgt := 106) dX3_walks_97 rfl ?_
    first
      | (rw [show χ 17 w = t_turn τ w k from by unfold t_turn; rw [if_pos (by omega)]; omega]; exact kk)
      | (rw [show τ 1 (28 + 13 * w + (5 + k % m)) = t_turn τ w k from by unfold t_turn; rw [if_neg (fun q => by rw [if_pos q] at hso; omega)]; show _ = τ 1 (28 + 13 * w + (5 + k % τ 1 (28 + 13 * w + 4))); rw [hm]]; exact kk)
theorem P_walks_106 {Q : e_R → e_A → Prop} {χ : t_S} {h0 : e_A} {α : Nat → Nat} {w y : Int} {τ : t_S} {c f T R D k : Int} (hw : 0 ≤ w ∧ w < 7) (hf : 0 ≤ f ∧ f < 4) (hT : 0 ≤ T ∧ T < 4) (h26 : χ 26 0 = τ 17 0) (hL : 0 ≤ τ 17 0 ∧ τ 17 0 < 4) (h23 : χ 23 0 = x_bs (τ 22)) (h21 : χ 21 w = x_bs (τ 23)) (kk : e_E mX3_walks 144 [.ref 366, e_i w, e_i y, .ref (α (10 + w.toNat)), e_i c, e_i ((f + T) % 4), e_j R, .retAddr 0, e_j D, .retAddr 0, e_i k, .retAddr 0, .retAddr 0, .retAddr 0, .retAddr 0] [e_j (x_bs (x_of τ (τ 17 0)))] (x_H χ h0) 0 0 4 Q) : e_E mX3_walks 106 [.ref 366, e_i w, e_i y, .ref (α (10 + w.toNat)), e_i c, e_i f, e_j R, .retAddr 0, e_j D, .retAddr 0, e_i k, .retAddr 0, .retAddr 0, .retAddr 0, .retAddr 0] [e_i T, e_i f] (x_H χ h0) 0 0 4 (Q) := by
  refine e_iadd dX3_walks_106 ?_
  refine e_iconst dX3_walks_107 ?_
  refine e_irem dX3_walks_108 ⟨by omega, by omega⟩ ⟨by omega, by omega⟩ ?_
  refine e_istore5 dX3_walks_109 rfl ?_
  refine e_aload_n dX3_walks_111 rfl ?_
  refine e_getV (e_i _) dX3_walks_112 fl_X3_63 (x_o3 _ _) rfl ?_
  refine e_iconst dX3_walks_115 ?_
  refine e_icmp_ne (tgt := 126) dX3_walks_116 rfl ⟨by omega, by omega⟩ ⟨by omega, by omega⟩ (fun c1 => ?_) (fun c1 => ?_)
  · refine e_aload_n dX3_walks_126 rfl ?_
    refine e_getV (e_i _) dX3_walks_127 fl_X3_63 (x_o3 _ _) rfl ?_
    refine e_iconst dX3_walks_130 ?_
    refine e_icmp_ne (tgt := 143) dX3_walks_131 rfl ⟨by omega, by omega⟩ ⟨by omega, by omega⟩ (fun c2 => ?_) (fun c2 => ?_)
    · refine e_lconst (z := 0) dX3_walks_143 rfl ?_
      first
        | (rw [h23, ← x_of_1 (τ := τ) (L := τ 17 0) (by omega)]; exact kk)
        | (rw [h21, ← x_of_2 (τ := τ) (L := τ 17 0) (by omega)]; exact kk)
        | (rw [show e_j 0 = e_j (x_bs (x_of τ (τ 17 0))) from congrArg e_j (x_of_0 (by omega) (by omega))]; exact kk)
    · refine e_aload_n dX3_walks_134 rfl ?_
      refine e_getV (.ref (x_ai 21)) dX3_walks_135 fl_X3_50 (x_o3 _ _) rfl ?_
      refine e_iload_n dX3_walks_138 rfl ?_
      refine x_lld 7 dX3_walks_139 rfl (by decide) (fun _ => rfl) rfl ⟨by omega, by omega⟩ ?_
      refine e_goto (tgt := 144) dX3_walks_140 rfl ?_
      first
        | (rw [h23, ← x_of_1 (τ := τ) (L := τ 17 0) (by omega)]; exact kk)
        | (rw [h21, ← x_of_2 (τ := τ) (L := τ 17 0) (by omega)]; exact kk)
        | (rw [show e_j 0 = e_j (x_bs (x_of τ (τ 17 0))) from congrArg e_j (x_of_0 (by omega) (by omega))]; exact kk)
  · refine e_aload_n dX3_walks_119 rfl ?_
    refine e_getV (e_j _) dX3_walks_120 fl_X3_116 (x_o3 _ _) rfl ?_
    refine e_goto (tgt := 144) dX3_walks_123 rfl ?_
    first
      | (rw [h23, ← x_of_1 (τ := τ) (L := τ 17 0) (by omega)]; exact kk)
      | (rw [h21, ← x_of_2 (τ := τ) (L := τ 17 0) (by omega)]; exact kk)
      | (rw [show e_j 0 = e_j (x_bs (x_of τ (τ 17 0))) from congrArg e_j (x_of_0 (by omega) (by omega))]; exact kk)
theorem P_walks_144 {Q : e_R → e_A → Prop} {χ : t_S} {h0 : e_A} {α : Nat → Nat} {w y : Int} {τ : t_S} (A : x_at χ h0 (τ 1) α) (hz : t_sz τ) (hq : χ 22 0 = x_bs (τ 15)) (hg : x_g01 (τ 15)) (h22g : x_g01 (τ 22)) (h23g : x_g01 (τ 23)) {c f R D k : Int} (hc : x_c8 c) (kk : e_E mX3_walks 160 [.ref 366, e_i w, e_i y, .ref (α (10 + w.toNat)), e_i (x_sp c), e_i f, e_j R, .retAddr 0, e_j D, .retAddr 0, e_i k, e_j (x_bs (x_of τ (t_law τ c))), .retAddr 0, .retAddr 0, .retAddr 0] [] (x_H χ h0) 0 0 4 Q) : e_E mX3_walks 144 [.ref 366, e_i w, e_i y, .ref (α (10 + w.toNat)), e_i (x_sp c), e_i f, e_j R, .retAddr 0, e_j D, .retAddr 0, e_i k, .retAddr 0, .retAddr 0, .retAddr 0, .retAddr 0] [e_j (x_bs (x_of τ (τ 17 0)))] (x_H χ h0) 0 0 4 (Q) := by
  have hi := x_anyI_iff h22g h23g hz (τ 17 0) c
  have hL1 : t_anyg (x_fg τ (x_of τ (τ 17 0)) c) 4 = 1 → τ 17 0 = t_law τ c := fun q => by show _ = if t_anyI τ c (τ 17 0) 4 = 1 then τ 17 0 else 0; rw [if_pos (hi.mp q)]
  have hL0 : ¬ t_anyg (x_fg τ (x_of τ (τ 17 0)) c) 4 = 1 → t_law τ c = 0 := fun q => by show (if t_anyI τ c (τ 17 0) 4 = 1 then τ 17 0 else 0) = 0; rw [if_neg (fun w => q (hi.mpr w))]
  have h01 := t_anyg01 (g := x_fg τ (x_of τ (τ 17 0)) c) (fun i => by show (if _ then (1 : Int) else 0) = 0 ∨ (if _ then (1 : Int) else 0) = 1; split <;> simp) 4
  refine e_lstore11 dX3_walks_144 rfl ?_
  refine e_aload_n dX3_walks_146 rfl ?_
  refine e_iload dX3_walks_147 rfl ?_
  refine e_lload dX3_walks_149 rfl ?_
  refine e_callV2rz (ci := 3) dX3_walks_151 md_X3_isAny lk_X3_194 rfl q1173 qs26 (x_o3 _ _) (by decide) rfl (Nat.le_of_ble_eq_true rfl) (C_X3_isAny hq hg (x_of01 h22g h23g _) A hz hc) ?_
  refine e_if_ne (tgt := 160) dX3_walks_154 rfl ⟨by omega, by omega⟩ (fun c1 => ?_) (fun c1 => ?_)
  · first
      | (have hl := hL1 (by omega); rw [show x_of τ (τ 17 0) = x_of τ (t_law τ c) from congrArg (x_of τ) hl]; exact kk)
      | (have hl := hL0 (by omega); rw [show (.long (Int64.ofInt 0) : Value) = e_j (x_bs (x_of τ (t_law τ c))) from congrArg e_j (x_of_0 (by rw [hl]; decide) (by rw [hl]; decide))]; exact kk)
  · refine e_lconst (z := 0) dX3_walks_157 rfl ?_
    refine e_lstore11 dX3_walks_158 rfl ?_
    first
      | (have hl := hL1 (by omega); rw [show x_of τ (τ 17 0) = x_of τ (t_law τ c) from congrArg (x_of τ) hl]; exact kk)
      | (have hl := hL0 (by omega); rw [show (.long (Int64.ofInt 0) : Value) = e_j (x_bs (x_of τ (t_law τ c))) from congrArg e_j (x_of_0 (by rw [hl]; decide) (by rw [hl]; decide))]; exact kk)
theorem P_walks_160 {Q : e_R → e_A → Prop} {χ : t_S} {h0 : e_A} {α : Nat → Nat} {w y : Int} {τ : t_S} (A : x_at χ h0 (τ 1) α) (hz : t_sz τ) (hq : χ 22 0 = x_bs (τ 15)) (hg : x_g01 (τ 15)) {o : Int → Int} (ho : x_g01 o) {c f R D k : Int} (hc : x_c8 c) (hf : 0 ≤ f ∧ f < 4) (kk : ∀ t : Int, (0 ≤ t ∧ t ≤ 3) → (∀ j, 0 ≤ j → j < t → ¬ x_free τ o (t_bes τ c ((f + j) % 4))) → (t = 3 ∨ x_free τ o (t_bes τ c ((f + t) % 4))) → e_E mX3_walks 203 [.ref 366, e_i w, e_i y, .ref (α (10 + w.toNat)), e_i (x_sp c), e_i ((f + t) % 4), e_j R, .retAddr 0, e_j D, .retAddr 0, e_i k, e_j (x_bs o), .retAddr 0, .retAddr 0, .retAddr 0] [] (x_H χ h0) 0 0 4 Q) : e_E mX3_walks 160 [.ref 366, e_i w, e_i y, .ref (α (10 + w.toNat)), e_i (x_sp c), e_i f, e_j R, .retAddr 0, e_j D, .retAddr 0, e_i k, e_j (x_bs o), .retAddr 0, .retAddr 0, .retAddr 0] [] (x_H χ h0) 0 0 4 (Q) := by
  refine e_iconst dX3_walks_160 ?_
  refine e_istore13 dX3_walks_161 rfl ?_
  rw [show f = (f + 0) % 4 by omega]
  refine e_for (n := 3) (F := fun t => (∀ j, 0 ≤ j → j < t → ¬ x_free τ o (t_bes τ c ((f + j) % 4))) → e_E mX3_walks 163 [.ref 366, e_i w, e_i y, .ref (α (10 + w.toNat)), e_i (x_sp c), e_i ((f + t) % 4), e_j R, .retAddr 0, e_j D, .retAddr 0, e_i k, e_j (x_bs o), .retAddr 0, e_i t, .retAddr 0] [] (x_H χ h0) 0 0 4 Q) (by omega) (fun hb => ?_) (fun t ht0 ht1 hF hb => ?_) (fun j a b => by omega)
  · refine e_iload dX3_walks_163 rfl ?_
    refine e_iconst dX3_walks_165 ?_
    refine e_icmp_ge (tgt := 203) dX3_walks_166 rfl ⟨by omega, by omega⟩ ⟨by omega, by omega⟩ (fun c1 => ?_) (fun q => by exfalso; omega)
    refine e_fgt 13 ?_
    exact kk 3 ⟨by omega, by omega⟩ hb (Or.inl rfl)
  · refine e_iload dX3_walks_163 rfl ?_
    refine e_iconst dX3_walks_165 ?_
    refine e_icmp_ge (tgt := 203) dX3_walks_166 rfl ⟨by omega, by omega⟩ ⟨by omega, by omega⟩ (fun q => by exfalso; omega) (fun c2 => ?_)
    refine e_aload_n dX3_walks_169 rfl ?_
    refine e_aload_n dX3_walks_170 rfl ?_
    refine e_getV (.ref 350) dX3_walks_171 fl_X3_3 (x_o3 _ _) rfl ?_
    refine e_iload dX3_walks_174 rfl ?_
    refine e_iload dX3_walks_176 rfl ?_
    refine e_callV2rz (ci := 0) dX3_walks_178 md_X0_beside lk_X3_176 rfl q1177 qs27 (x_o0 _ _) (by decide) rfl (Nat.le_of_ble_eq_true rfl) (C_X0_beside A hz hc ⟨by omega, by omega⟩) ?_
    refine e_lload dX3_walks_181 rfl ?_
    refine e_callV2rz (ci := 3) dX3_walks_183 md_X3_isFree lk_X3_180 rfl q1181 qs28 (x_o3 _ _) (by decide) rfl (Nat.le_of_ble_eq_true rfl) (C_X3_isFree hq hg ho (x_bes_cn hz c ((f + t) % 4))) ?_
    refine e_bif_ne (tgt := 203) dX3_walks_186 rfl (fun cf => ?_) (fun cf => ?_)
    · refine e_fgt 13 ?_
      exact kk t ⟨by omega, by omega⟩ hb (Or.inr cf)
    · refine e_iload dX3_walks_189 rfl ?_
      refine e_iconst dX3_walks_191 ?_
      refine e_iadd dX3_walks_192 ?_
      refine e_iconst dX3_walks_193 ?_
      refine e_irem dX3_walks_194 ⟨by omega, by omega⟩ ⟨by omega, by omega⟩ ?_
      refine e_istore5 dX3_walks_195 rfl ?_
      refine e_iinc13 dX3_walks_197 rfl ?_
      refine e_goto (tgt := 163) dX3_walks_200 rfl ?_
      rw [show ((f + t) % 4 + 1) % 4 = (f + (t + 1)) % 4 by omega]
      exact hF (fun j a b => by
        by_cases q : j = t
        · rw [q]; exact cf
        · exact hb j a (by omega))
