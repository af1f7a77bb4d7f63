/-! THE TWIN'S HEAP: object 384, its arrays 385..412, as a function of a pure state σ : field → place → number (printed by gen_twin.py) -/
set_option maxRecDepth 100000
abbrev t_S : Type := Nat → Int → Int
def t_ix (k : Nat) : Nat := match k with
  | 1 => 385
  | 2 => 386
  | 3 => 387
  | 4 => 388
  | 6 => 389
  | 14 => 390
  | 15 => 391
  | 16 => 392
  | 21 => 393
  | 22 => 394
  | 23 => 395
  | 24 => 396
  | 25 => 397
  | 26 => 398
  | 27 => 399
  | 28 => 400
  | 29 => 401
  | 30 => 402
  | 31 => 403
  | 32 => 404
  | 33 => 405
  | 34 => 406
  | 35 => 407
  | 37 => 408
  | 42 => 409
  | 43 => 410
  | 44 => 411
  | 45 => 412
  | _ => 0
def t_fd (i : Nat) : Nat := match i with
  | 385 => 1
  | 386 => 2
  | 387 => 3
  | 388 => 4
  | 389 => 6
  | 390 => 14
  | 391 => 15
  | 392 => 16
  | 393 => 21
  | 394 => 22
  | 395 => 23
  | 396 => 24
  | 397 => 25
  | 398 => 26
  | 399 => 27
  | 400 => 28
  | 401 => 29
  | 402 => 30
  | 403 => 31
  | 404 => 32
  | 405 => 33
  | 406 => 34
  | 407 => 35
  | 408 => 37
  | 409 => 42
  | 410 => 43
  | 411 => 44
  | 412 => 45
  | _ => 0
def t_kd (k : Nat) : Nat := match k with
  | 1 => 50
  | 2 => 50
  | 3 => 51
  | 4 => 52
  | 6 => 50
  | 14 => 50
  | 15 => 51
  | 16 => 50
  | 21 => 51
  | 22 => 51
  | 23 => 51
  | 24 => 50
  | 25 => 50
  | 26 => 50
  | 27 => 50
  | 28 => 50
  | 29 => 50
  | 30 => 51
  | 31 => 50
  | 32 => 50
  | 33 => 50
  | 34 => 51
  | 35 => 50
  | 37 => 50
  | 42 => 50
  | 43 => 50
  | 44 => 54
  | 45 => 54
  | _ => 0
def t_ln (k : Nat) : Nat := match k with
  | 1 => 149
  | 2 => 447
  | 3 => 3
  | 4 => 900
  | 6 => 5
  | 14 => 149
  | 15 => 80
  | 16 => 7
  | 21 => 80
  | 22 => 80
  | 23 => 80
  | 24 => 80
  | 25 => 6
  | 26 => 287
  | 27 => 7
  | 28 => 7
  | 29 => 6
  | 30 => 1040
  | 31 => 1040
  | 32 => 78
  | 33 => 80
  | 34 => 80
  | 35 => 164
  | 37 => 128
  | 42 => 4
  | 43 => 4
  | 44 => 240
  | 45 => 60
  | _ => 0
def t_v (k : Nat) (z : Int) : Value := match k with
  | 39 => e_j z
  | 40 => e_j z
  | 41 => e_j z
  | 44 => e_j z
  | 45 => e_j z
  | _ => e_i z
def t_F (σ : t_S) (k : Nat) : Value := if t_ix k = 0 then t_v k (σ k 0) else .ref (t_ix k)
def t_H (σ : t_S) (h0 : e_A) : e_A := (fun i => if i = 384 then (6, 46, t_F σ) else if 385 ≤ i ∧ i ≤ 412 then (t_kd (t_fd i), t_ln (t_fd i), fun j : Nat => t_v (t_fd i) (σ (t_fd i) (j : Int))) else h0.1 i, h0.2)
def s_up (σ : t_S) (k : Nat) (j : Int) (z : Int) : t_S := fun k1 j1 => if k1 = k ∧ j1 = j then z else σ k1 j1
theorem s_up_eq (σ : t_S) (k : Nat) (j z : Int) : s_up σ k j z k j = z := by simp [s_up]
theorem s_up_ne {σ : t_S} {k k1 : Nat} {j j1 z : Int} (h : ¬ (k1 = k ∧ j1 = j)) : s_up σ k j z k1 j1 = σ k1 j1 := by simp only [s_up, if_neg h]
theorem s_up_k {σ : t_S} {k k1 : Nat} {j j1 z : Int} (h : k1 ≠ k) : s_up σ k j z k1 j1 = σ k1 j1 := by simp only [s_up]; rw [if_neg (fun q => h q.1)]
theorem t_obj (σ : t_S) (h0 : e_A) : (t_H σ h0).1 384 = (6, 46, t_F σ) := rfl
theorem t_lt (k : Nat) (h : t_ix k ≠ 0) : k < 46 := by
  rcases Nat.lt_or_ge k 46 with q | q
  · exact q
  · exfalso
    apply h
    unfold t_ix
    split <;> first | rfl | omega
theorem t_all (k : Nat) (h : t_ix k ≠ 0) : 385 ≤ t_ix k ∧ t_ix k ≤ 412 ∧ t_fd (t_ix k) = k := by
  have h1 := of_decide_eq_true (List.all_eq_true.mp (show (List.range 46).all (fun k => decide (t_ix k ≠ 0 → 385 ≤ t_ix k ∧ t_ix k ≤ 412 ∧ t_fd (t_ix k) = k)) = true from by decide +kernel) k (List.mem_range.mpr (t_lt k h)))
  exact h1 h
theorem t_ln_le (k : Nat) : t_ln k ≤ 1040 := by
  unfold t_ln
  split <;> decide
theorem t_rng (k : Nat) (h : t_ix k ≠ 0) : 385 ≤ t_ix k ∧ t_ix k ≤ 412 := ⟨(t_all k h).1, (t_all k h).2.1⟩
theorem t_inv (k : Nat) (h : t_ix k ≠ 0) : t_fd (t_ix k) = k := (t_all k h).2.2
theorem t_ob (σ : t_S) (h0 : e_A) (k : Nat) (h : t_ix k ≠ 0) : (t_H σ h0).1 (t_ix k) = (t_kd k, t_ln k, fun j : Nat => t_v k (σ k (j : Int))) := by
  obtain ⟨h1, h2⟩ := t_rng k h
  show (if t_ix k = 384 then _ else if 385 ≤ t_ix k ∧ t_ix k ≤ 412 then _ else h0.1 (t_ix k)) = _
  rw [if_neg (by omega), if_pos ⟨h1, h2⟩, t_inv k h]
theorem t_set_a (σ : t_S) (h0 : e_A) (k j : Nat) (z : Int) (h : t_ix k ≠ 0) : e_set (t_H σ h0) (t_ix k) (t_kd k, t_ln k, updV (fun j : Nat => t_v k (σ k (j : Int))) j (t_v k z)) = t_H (s_up σ k j z) h0 := by
  obtain ⟨h1, h2⟩ := t_rng k h
  unfold e_set
  refine Prod.ext (funext fun i => ?_) rfl
  show (if i = t_ix k then _ else (t_H σ h0).1 i) = (t_H (s_up σ k j z) h0).1 i
  by_cases hi : i = t_ix k
  · subst hi
    rw [if_pos rfl, t_ob _ _ k h]
    refine Prod.ext rfl (Prod.ext rfl (funext fun q => ?_))
    show updV (fun j : Nat => t_v k (σ k (j : Int))) j (t_v k z) q = t_v k (s_up σ k j z k (q : Int))
    unfold updV s_up
    by_cases hq : q = j
    · subst hq; simp
    · rw [if_neg hq, if_neg (fun w => hq (by omega))]
  · rw [if_neg hi]
    show (if i = 384 then (6, 46, t_F σ) else if 385 ≤ i ∧ i ≤ 412 then (t_kd (t_fd i), t_ln (t_fd i), fun j : Nat => t_v (t_fd i) (σ (t_fd i) (j : Int))) else h0.1 i) = (if i = 384 then (6, 46, t_F (s_up σ k j z)) else if 385 ≤ i ∧ i ≤ 412 then (t_kd (t_fd i), t_ln (t_fd i), fun q : Nat => t_v (t_fd i) (s_up σ k j z (t_fd i) (q : Int))) else h0.1 i)
    by_cases h3 : i = 384
    · rw [if_pos h3, if_pos h3]
      refine Prod.ext rfl (Prod.ext rfl (funext fun q => ?_))
      show t_F σ q = t_F (s_up σ k j z) q
      unfold t_F
      by_cases hq : t_ix q = 0
      · rw [if_pos hq, if_pos hq, s_up_k (fun w => h (by rw [← w]; exact hq))]
      · rw [if_neg hq, if_neg hq]
    · rw [if_neg h3, if_neg h3]
      by_cases h4 : 385 ≤ i ∧ i ≤ 412
      · rw [if_pos h4, if_pos h4]
        have h5 : t_fd i ≠ k := by
          intro w
          apply hi
          rw [← w]
          obtain ⟨a, b⟩ := h4
          have : i ∈ List.range' 385 28 := List.mem_range'_1.mpr ⟨a, by omega⟩
          revert this
          exact (fun x hx => (List.all_eq_true.mp (show (List.range' 385 28).all (fun x => decide (x = t_ix (t_fd x))) = true from by decide +kernel) x hx) |> of_decide_eq_true) i
        refine Prod.ext rfl (Prod.ext rfl (funext fun q => ?_))
        show t_v (t_fd i) (σ (t_fd i) (q : Int)) = t_v (t_fd i) (s_up σ k j z (t_fd i) (q : Int))
        rw [s_up_k h5]
      · rw [if_neg h4, if_neg h4]
theorem t_set_s (σ : t_S) (h0 : e_A) (k : Nat) (z : Int) (h : t_ix k = 0) : e_set (t_H σ h0) 384 (6, 46, updV (t_F σ) k (t_v k z)) = t_H (s_up σ k 0 z) h0 := by
  unfold e_set
  refine Prod.ext (funext fun i => ?_) rfl
  show (if i = 384 then _ else (t_H σ h0).1 i) = (t_H (s_up σ k 0 z) h0).1 i
  show _ = (if i = 384 then (6, 46, t_F (s_up σ k 0 z)) else if 385 ≤ i ∧ i ≤ 412 then (t_kd (t_fd i), t_ln (t_fd i), fun q : Nat => t_v (t_fd i) (s_up σ k 0 z (t_fd i) (q : Int))) else h0.1 i)
  by_cases hi : i = 384
  · rw [if_pos hi, if_pos hi]
    refine Prod.ext rfl (Prod.ext rfl (funext fun q => ?_))
    show updV (t_F σ) k (t_v k z) q = t_F (s_up σ k 0 z) q
    unfold updV t_F
    by_cases hq : q = k
    · subst hq
      rw [if_pos rfl, if_pos h, s_up_eq]
    · rw [if_neg hq]
      by_cases h2 : t_ix q = 0
      · rw [if_pos h2, if_pos h2, s_up_k hq]
      · rw [if_neg h2, if_neg h2]
  · rw [if_neg hi, if_neg hi]
    show (if i = 384 then _ else if 385 ≤ i ∧ i ≤ 412 then _ else h0.1 i) = _
    rw [if_neg hi]
    by_cases h4 : 385 ≤ i ∧ i ≤ 412
    · rw [if_pos h4, if_pos h4]
      have h5 : t_fd i ≠ k := by
        intro w
        have h6 : t_ix (t_fd i) = 0 := by rw [w]; exact h
        obtain ⟨a, b⟩ := h4
        have : i ∈ List.range' 385 28 := List.mem_range'_1.mpr ⟨a, by omega⟩
        have h7 : i = t_ix (t_fd i) := of_decide_eq_true (List.all_eq_true.mp (show (List.range' 385 28).all (fun x => decide (x = t_ix (t_fd x))) = true from by decide +kernel) i this)
        omega
      refine Prod.ext rfl (Prod.ext rfl (funext fun q => ?_))
      show t_v (t_fd i) (σ (t_fd i) (q : Int)) = t_v (t_fd i) (s_up σ k 0 z (t_fd i) (q : Int))
      rw [s_up_k h5]
    · rw [if_neg h4, if_neg h4]
section TROWS
variable {M : e_M} {pc : Nat} {al st : List Value} {σ : t_S} {h0 : e_A} {kc ks d : Nat} {Q : e_R → e_A → Prop}
theorem t_geti {k idx : Nat} {ty : FieldType} {fin : Bool} (hd : decode M.2.1 pc = .ok (.getfield idx, 3)) (hf : e_fl M.1.cls idx 6 k ty fin) (hk : t_F σ k = e_i (σ k 0)) (kk : e_E M (pc + 3) al (e_i (σ k 0) :: st) (t_H σ h0) kc ks d Q) : e_E M pc al (.ref 384 :: st) (t_H σ h0) kc ks d Q :=
  e_getfield hd hf (t_obj σ h0) (by rw [hk]; exact kk)
theorem t_getj {k idx : Nat} {ty : FieldType} {fin : Bool} (hd : decode M.2.1 pc = .ok (.getfield idx, 3)) (hf : e_fl M.1.cls idx 6 k ty fin) (hk : t_F σ k = e_j (σ k 0)) (kk : e_E M (pc + 3) al (e_j (σ k 0) :: st) (t_H σ h0) kc ks d Q) : e_E M pc al (.ref 384 :: st) (t_H σ h0) kc ks d Q :=
  e_getfield hd hf (t_obj σ h0) (by rw [hk]; exact kk)
theorem t_geta {k idx : Nat} {ty : FieldType} {fin : Bool} (hd : decode M.2.1 pc = .ok (.getfield idx, 3)) (hf : e_fl M.1.cls idx 6 k ty fin) (hk : t_F σ k = .ref (t_ix k)) (kk : e_E M (pc + 3) al (.ref (t_ix k) :: st) (t_H σ h0) kc ks d Q) : e_E M pc al (.ref 384 :: st) (t_H σ h0) kc ks d Q :=
  e_getfield hd hf (t_obj σ h0) (by rw [hk]; exact kk)
theorem t_puti {k idx : Nat} {z : Int} (hd : decode M.2.1 pc = .ok (.putfield idx, 3)) (hf : e_fl M.1.cls idx 6 k .int false) (hk : t_ix k = 0) (hv : t_v k z = e_i z) (kk : e_E M (pc + 3) al st (t_H (s_up σ k 0 z) h0) kc ks d Q) : e_E M pc al (e_i z :: .ref 384 :: st) (t_H σ h0) kc ks d Q :=
  e_putfield hd hf (t_obj σ h0) (Or.inl rfl) (by omega) (by omega) (e_fit_int _) (by rw [← hv, t_set_s _ _ _ _ hk]; exact kk)
theorem t_putj {k idx : Nat} {z : Int} (hd : decode M.2.1 pc = .ok (.putfield idx, 3)) (hf : e_fl M.1.cls idx 6 k .long false) (hk : t_ix k = 0) (hv : t_v k z = e_j z) (kk : e_E M (pc + 3) al st (t_H (s_up σ k 0 z) h0) kc ks d Q) : e_E M pc al (e_j z :: .ref 384 :: st) (t_H σ h0) kc ks d Q :=
  e_putfield hd hf (t_obj σ h0) (Or.inl rfl) (by omega) (by omega) (e_fit_long _) (by rw [← hv, t_set_s _ _ _ _ hk]; exact kk)
theorem t_ix350 {k : Nat} (h : t_ix k ≠ 0) : 350 ≤ t_ix k := by have := (t_rng k h).1; omega
theorem t_ild {k : Nat} {j : Int} (L : Int) (hd : decode M.2.1 pc = .ok (.iaload, 1)) (hkd : t_kd k = 50) (hk : t_ix k ≠ 0) (hv : ∀ z, t_v k z = e_i z) (hL : (t_ln k : Int) = L) (hj : 0 ≤ j ∧ j < L) (kk : e_E M (pc + 1) al (e_i (σ k j) :: st) (t_H σ h0) kc ks d Q) : e_E M pc al (e_i j :: .ref (t_ix k) :: st) (t_H σ h0) kc ks d Q := by
  have e1 : ((j.toNat : Nat) : Int) = j := Int.toNat_of_nonneg hj.1
  have e2 : t_ln k ≤ 1040 := t_ln_le k
  exact e_iald j.toNat hd (t_ob σ h0 k hk) (Or.inl hkd) e1.symm (by omega) (by omega) (by show e_E M (pc + 1) al (t_v k (σ k ((j.toNat : Nat) : Int)) :: st) _ kc ks d Q; rw [e1, hv]; exact kk)
theorem t_zld {k : Nat} {j : Int} (L : Int) (hd : decode M.2.1 pc = .ok (.baload, 1)) (hkd : t_kd k = 51) (hk : t_ix k ≠ 0) (hv : ∀ z, t_v k z = e_i z) (hL : (t_ln k : Int) = L) (hj : 0 ≤ j ∧ j < L) (kk : e_E M (pc + 1) al (e_i (σ k j) :: st) (t_H σ h0) kc ks d Q) : e_E M pc al (e_i j :: .ref (t_ix k) :: st) (t_H σ h0) kc ks d Q := by
  have e1 : ((j.toNat : Nat) : Int) = j := Int.toNat_of_nonneg hj.1
  have e2 : t_ln k ≤ 1040 := t_ln_le k
  exact e_zald j.toNat hd (t_ob σ h0 k hk) (hkd) e1.symm (by omega) (by omega) (by show e_E M (pc + 1) al (t_v k (σ k ((j.toNat : Nat) : Int)) :: st) _ kc ks d Q; rw [e1, hv]; exact kk)
theorem t_bld {k : Nat} {j : Int} (L : Int) (hd : decode M.2.1 pc = .ok (.baload, 1)) (hkd : t_kd k = 52) (hk : t_ix k ≠ 0) (hv : ∀ z, t_v k z = e_i z) (hL : (t_ln k : Int) = L) (hj : 0 ≤ j ∧ j < L) (kk : e_E M (pc + 1) al (e_i (σ k j) :: st) (t_H σ h0) kc ks d Q) : e_E M pc al (e_i j :: .ref (t_ix k) :: st) (t_H σ h0) kc ks d Q := by
  have e1 : ((j.toNat : Nat) : Int) = j := Int.toNat_of_nonneg hj.1
  have e2 : t_ln k ≤ 1040 := t_ln_le k
  exact e_bald j.toNat hd (t_ob σ h0 k hk) (Or.inl hkd) e1.symm (by omega) (by omega) (by show e_E M (pc + 1) al (t_v k (σ k ((j.toNat : Nat) : Int)) :: st) _ kc ks d Q; rw [e1, hv]; exact kk)
theorem t_lld {k : Nat} {j : Int} (L : Int) (hd : decode M.2.1 pc = .ok (.laload, 1)) (hkd : t_kd k = 54) (hk : t_ix k ≠ 0) (hv : ∀ z, t_v k z = e_j z) (hL : (t_ln k : Int) = L) (hj : 0 ≤ j ∧ j < L) (kk : e_E M (pc + 1) al (e_j (σ k j) :: st) (t_H σ h0) kc ks d Q) : e_E M pc al (e_i j :: .ref (t_ix k) :: st) (t_H σ h0) kc ks d Q := by
  have e1 : ((j.toNat : Nat) : Int) = j := Int.toNat_of_nonneg hj.1
  have e2 : t_ln k ≤ 1040 := t_ln_le k
  exact e_lald j.toNat hd (t_ob σ h0 k hk) (hkd) e1.symm (by omega) (by omega) (by show e_E M (pc + 1) al (t_v k (σ k ((j.toNat : Nat) : Int)) :: st) _ kc ks d Q; rw [e1, hv]; exact kk)
theorem t_ist {k : Nat} {j z : Int} (L : Int) (hd : decode M.2.1 pc = .ok (.iastore, 1)) (hkd : t_kd k = 50) (hk : t_ix k ≠ 0) (hv : t_v k z = e_i z) (hL : (t_ln k : Int) = L) (hj : 0 ≤ j ∧ j < L) (kk : e_E M (pc + 1) al st (t_H (s_up σ k j z) h0) kc ks d Q) : e_E M pc al (e_i z :: e_i j :: .ref (t_ix k) :: st) (t_H σ h0) kc ks d Q := by
  have e1 : ((j.toNat : Nat) : Int) = j := Int.toNat_of_nonneg hj.1
  have e2 : t_ln k ≤ 1040 := t_ln_le k
  exact e_iast (v := e_i z) j.toNat hd (by rw [t_ob σ h0 k hk, hkd]) (t_ix350 hk) (rfl) e1.symm (by omega) (by omega) (by rw [← hv, ← hkd, t_set_a _ _ _ _ _ hk, e1]; exact kk)
theorem t_lst {k : Nat} {j z : Int} (L : Int) (hd : decode M.2.1 pc = .ok (.lastore, 1)) (hkd : t_kd k = 54) (hk : t_ix k ≠ 0) (hv : t_v k z = e_j z) (hL : (t_ln k : Int) = L) (hj : 0 ≤ j ∧ j < L) (kk : e_E M (pc + 1) al st (t_H (s_up σ k j z) h0) kc ks d Q) : e_E M pc al (e_j z :: e_i j :: .ref (t_ix k) :: st) (t_H σ h0) kc ks d Q := by
  have e1 : ((j.toNat : Nat) : Int) = j := Int.toNat_of_nonneg hj.1
  have e2 : t_ln k ≤ 1040 := t_ln_le k
  exact e_last (v := e_j z) j.toNat hd (by rw [t_ob σ h0 k hk, hkd]) (t_ix350 hk) (rfl) e1.symm (by omega) (by omega) (by rw [← hv, ← hkd, t_set_a _ _ _ _ _ hk, e1]; exact kk)
theorem t_zst {k : Nat} {j z : Int} (L : Int) (hd : decode M.2.1 pc = .ok (.bastore, 1)) (hkd : t_kd k = 51) (hk : t_ix k ≠ 0) (hv : t_v k z = e_i z) (hz : z = 0 ∨ z = 1) (hL : (t_ln k : Int) = L) (hj : 0 ≤ j ∧ j < L) (kk : e_E M (pc + 1) al st (t_H (s_up σ k j z) h0) kc ks d Q) : e_E M pc al (e_i z :: e_i j :: .ref (t_ix k) :: st) (t_H σ h0) kc ks d Q := by
  have e1 : ((j.toNat : Nat) : Int) = j := Int.toNat_of_nonneg hj.1
  have e2 : t_ln k ≤ 1040 := t_ln_le k
  exact e_zast (v := e_i z) j.toNat hd (by rw [t_ob σ h0 k hk, hkd]) (t_ix350 hk) (by rcases hz with rfl | rfl <;> rfl) e1.symm (by omega) (by omega) (by rw [← hv, ← hkd, t_set_a _ _ _ _ _ hk, e1]; exact kk)
theorem t_bst {k : Nat} {j z : Int} (L : Int) (hd : decode M.2.1 pc = .ok (.bastore, 1)) (hkd : t_kd k = 52) (hk : t_ix k ≠ 0) (hv : t_v k z = e_i z) (hz : (Int32.ofInt z).toInt8.toInt32 = Int32.ofInt z) (hL : (t_ln k : Int) = L) (hj : 0 ≤ j ∧ j < L) (kk : e_E M (pc + 1) al st (t_H (s_up σ k j z) h0) kc ks d Q) : e_E M pc al (e_i z :: e_i j :: .ref (t_ix k) :: st) (t_H σ h0) kc ks d Q := by
  have e1 : ((j.toNat : Nat) : Int) = j := Int.toNat_of_nonneg hj.1
  have e2 : t_ln k ≤ 1040 := t_ln_le k
  exact e_bast (v := e_i z) j.toNat hd (by rw [t_ob σ h0 k hk, hkd]) (t_ix350 hk) (by show Value.int _ = Value.int _; rw [hz]) e1.symm (by omega) (by omega) (by rw [← hv, ← hkd, t_set_a _ _ _ _ _ hk, e1]; exact kk)
end TROWS
/-- loops -/
theorem e_for {n : Int} (F : Int → Prop) (hn : 0 ≤ n) (hx : F n) (hs : ∀ i : Int, 0 ≤ i → i < n → F (i + 1) → F i) : F 0 := by
  have key : ∀ k : Nat, ∀ i : Int, 0 ≤ i → i + k = n → F i := by
    intro k
    induction k with
    | zero => intro i _ h; rw [show i = n by omega]; exact hx
    | succ k ih => intro i h0 h; exact hs i h0 (by omega) (ih (i + 1) (by omega) (by omega))
  exact key n.toNat 0 (Int.le_refl 0) (by omega)
theorem e_forA {n a : Int} (F : Int → Prop) (hn : a ≤ n) (hx : F n) (hs : ∀ i : Int, a ≤ i → i < n → F (i + 1) → F i) : F a := by
  have key : ∀ k : Nat, ∀ i : Int, a ≤ i → i + k = n → F i := by
    intro k
    induction k with
    | zero => intro i _ h; rw [show i = n by omega]; exact hx
    | succ k ih => intro i h0 h; exact hs i h0 (by omega) (ih (i + 1) (by omega) (by omega))
  exact key (n - a).toNat a (Int.le_refl a) (by omega)
/-- the first n places of field k filled by g -/
def s_fl (σ : t_S) (k : Nat) (n : Int) (g : Int → Int) : t_S := fun k1 j => if k1 = k ∧ 0 ≤ j ∧ j < n then g j else σ k1 j
theorem s_fl_0 (σ : t_S) (k : Nat) (g : Int → Int) : s_fl σ k 0 g = σ := by
  funext k1 j
  unfold s_fl
  rw [if_neg (fun h => by omega)]
theorem s_fl_1 (σ : t_S) (k : Nat) (g : Int → Int) {n : Int} (hn : 0 ≤ n) : s_up (s_fl σ k n g) k n (g n) = s_fl σ k (n + 1) g := by
  funext k1 j
  unfold s_up s_fl
  by_cases h1 : k1 = k ∧ j = n
  · rw [if_pos h1, if_pos ⟨h1.1, by omega, by omega⟩, h1.2]
  · rw [if_neg h1]
    by_cases h2 : k1 = k ∧ 0 ≤ j ∧ j < n
    · rw [if_pos h2, if_pos ⟨h2.1, by omega, by omega⟩]
    · rw [if_neg h2, if_neg (fun q => by
        by_cases h3 : j = n
        · exact h1 ⟨q.1, h3⟩
        · exact h2 ⟨q.1, q.2.1, by omega⟩)]
theorem s_fl_k {σ : t_S} {k k1 : Nat} {n j : Int} {g : Int → Int} (h : k1 ≠ k) : s_fl σ k n g k1 j = σ k1 j := by
  unfold s_fl
  rw [if_neg (fun q => h q.1)]
theorem s_fl_in {σ : t_S} {k : Nat} {n j : Int} {g : Int → Int} (h : 0 ≤ j ∧ j < n) : s_fl σ k n g k j = g j := by
  unfold s_fl
  rw [if_pos ⟨rfl, h⟩]
