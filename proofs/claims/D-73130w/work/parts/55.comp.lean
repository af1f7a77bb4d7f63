/-! THE COMPONENT'S HEAP: objects 350..355, 364..383, as a function of a pure state χ : key → place → number (printed by gen_comp.py) -/
set_option maxRecDepth 100000
def x_ai (k : Nat) : Nat := match k with
  | 2 => 364
  | 3 => 365
  | 10 => 367
  | 11 => 368
  | 12 => 369
  | 13 => 370
  | 14 => 371
  | 15 => 372
  | 16 => 373
  | 17 => 374
  | 18 => 375
  | 19 => 376
  | 20 => 377
  | 21 => 378
  | 28 => 380
  | 29 => 381
  | 31 => 383
  | _ => 0
def x_fd (k : Nat) : Nat := match k with
  | 364 => 2
  | 365 => 3
  | 367 => 10
  | 368 => 11
  | 369 => 12
  | 370 => 13
  | 371 => 14
  | 372 => 15
  | 373 => 16
  | 374 => 17
  | 375 => 18
  | 376 => 19
  | 377 => 20
  | 378 => 21
  | 380 => 28
  | 381 => 29
  | 383 => 31
  | _ => 0
def x_kd (k : Nat) : Nat := match k with
  | 2 => 57
  | 3 => 52
  | 10 => 50
  | 11 => 50
  | 12 => 50
  | 13 => 50
  | 14 => 50
  | 15 => 50
  | 16 => 50
  | 17 => 50
  | 18 => 54
  | 19 => 54
  | 20 => 54
  | 21 => 54
  | 28 => 50
  | 29 => 50
  | 31 => 50
  | _ => 0
def x_ln (k : Nat) : Nat := match k with
  | 2 => 3
  | 3 => 900
  | 10 => 287
  | 11 => 7
  | 12 => 7
  | 13 => 7
  | 14 => 78
  | 15 => 6
  | 16 => 7
  | 17 => 7
  | 18 => 13
  | 19 => 13
  | 20 => 13
  | 21 => 7
  | 28 => 64
  | 29 => 64
  | 31 => 164
  | _ => 0
def x_v (k : Nat) (z : Int) : Value := match k with
  | 1 => .ref z.toNat
  | 2 => if z = -1 then .null else .ref z.toNat
  | 18 => e_j z
  | 19 => e_j z
  | 20 => e_j z
  | 21 => e_j z
  | 22 => e_j z
  | 23 => e_j z
  | 24 => e_j z
  | 25 => e_j z
  | 35 => if z = -1 then .null else .ref z.toNat
  | _ => e_i z
def x_F0 (χ : t_S) : Nat → Value := fun k => match k with
  | 0 => .ref 351
  | 1 => x_v 1 (χ 1 0)
  | 2 => .ref 364
  | 3 => .ref 365
  | 4 => x_v 4 (χ 4 0)
  | 5 => x_v 5 (χ 5 0)
  | 6 => x_v 6 (χ 6 0)
  | 7 => .ref 366
  | 8 => .ref 379
  | _ => .ref 382
def x_F3 (χ : t_S) : Nat → Value := fun k => match k with
  | 0 => .ref 367
  | 1 => .ref 368
  | 2 => .ref 369
  | 3 => .ref 370
  | 4 => .ref 371
  | 5 => .ref 372
  | 6 => .ref 373
  | 7 => .ref 374
  | 8 => .ref 375
  | 9 => .ref 376
  | 10 => .ref 377
  | 11 => .ref 378
  | 12 => x_v 22 (χ 22 0)
  | 13 => x_v 23 (χ 23 0)
  | 14 => x_v 24 (χ 24 0)
  | 15 => x_v 25 (χ 25 0)
  | 16 => x_v 26 (χ 26 0)
  | 17 => x_v 27 (χ 27 0)
  | _ => .ref 350
def x_F4 (χ : t_S) : Nat → Value := fun k => match k with
  | 0 => .ref 380
  | 1 => .ref 381
  | 2 => x_v 30 (χ 30 0)
  | _ => .ref 350
def x_F5 (χ : t_S) : Nat → Value := fun k => match k with
  | 0 => .ref 383
  | 1 => x_v 32 (χ 32 0)
  | 2 => x_v 33 (χ 33 0)
  | 3 => x_v 34 (χ 34 0)
  | _ => .ref 350
def x_ob (χ : t_S) (i : Nat) : Option e_O :=
  if i = 350 then some (0, 10, x_F0 χ) else if i = 351 then some (56, 4, fun j => .ref (352 + j)) else if i < 352 then none else if i ≤ 355 then some (1, 1, fun _ => x_v 35 (χ 35 ((i : Int) - 352))) else
  if i = 366 then some (3, 19, x_F3 χ) else if i = 379 then some (4, 4, x_F4 χ) else if i = 382 then some (5, 5, x_F5 χ) else
  if x_fd i = 0 then none else some (x_kd (x_fd i), x_ln (x_fd i), fun j : Nat => x_v (x_fd i) (χ (x_fd i) (j : Int)))
def x_H (χ : t_S) (h0 : e_A) : e_A := (fun i => (x_ob χ i).getD (h0.1 i), h0.2)
theorem x_set_of {χ χ1 : t_S} {h0 : e_A} {i : Nat} {o : e_O} (h : x_ob χ1 i = some o) (h2 : ∀ j, j ≠ i → x_ob χ1 j = x_ob χ j) : e_set (x_H χ h0) i o = x_H χ1 h0 := by
  unfold e_set
  refine Prod.ext (funext fun j => ?_) rfl
  show (if j = i then o else (x_ob χ j).getD (h0.1 j)) = (x_ob χ1 j).getD (h0.1 j)
  by_cases q : j = i
  · rw [if_pos q, q, h]; rfl
  · rw [if_neg q, h2 j q]
/-- numbers that aren't of these objects -/
def x_fr (i : Nat) : Prop := i < 350 ∨ (356 ≤ i ∧ i ≤ 363) ∨ 384 ≤ i
theorem x_fd_rg (i : Nat) (h : x_fd i ≠ 0) : (i = 364 ∨ i = 365 ∨ (367 ≤ i ∧ i ≤ 383)) := by
  unfold x_fd at h
  split at h <;> first | omega | exact absurd rfl h
theorem x_ob_fr {χ : t_S} {i : Nat} (h : x_fr i) : x_ob χ i = none := by
  unfold x_fr at h
  have h9 : x_fd i = 0 := by
    by_cases q : x_fd i = 0
    · exact q
    · have := x_fd_rg i q; omega
  unfold x_ob
  rw [if_neg (by omega), if_neg (by omega)]
  by_cases q : i < 352
  · rw [if_pos q]
  · rw [if_neg q, if_neg (by omega), if_neg (by omega), if_neg (by omega), if_neg (by omega), if_pos h9]
theorem x_H_fr {χ : t_S} {h0 : e_A} {i : Nat} (h : x_fr i) : (x_H χ h0).1 i = h0.1 i := by
  show (x_ob χ i).getD (h0.1 i) = _
  rw [x_ob_fr h]
  rfl
theorem x_set_fr {χ : t_S} {h0 : e_A} {i : Nat} {o : e_O} (h : x_fr i) : e_set (x_H χ h0) i o = x_H χ (e_set h0 i o) := by
  unfold e_set
  refine Prod.ext (funext fun j => ?_) rfl
  show (if j = i then o else (x_ob χ j).getD (h0.1 j)) = (x_ob χ j).getD (if j = i then o else h0.1 j)
  by_cases q : j = i
  · rw [if_pos q, if_pos q, q, x_ob_fr h]; rfl
  · rw [if_neg q, if_neg q]
theorem x_push {χ : t_S} {h0 : e_A} {o : e_O} (h : 384 ≤ h0.2) : e_push (x_H χ h0) o = x_H χ (e_push h0 o) := by
  unfold e_push
  refine Prod.ext (funext fun j => ?_) rfl
  show (if j = h0.2 then o else (x_ob χ j).getD (h0.1 j)) = (x_ob χ j).getD (if j = h0.2 then o else h0.1 j)
  by_cases q : j = h0.2
  · rw [if_pos q, if_pos q, q, x_ob_fr (Or.inr (Or.inr h))]; rfl
  · rw [if_neg q, if_neg q]
theorem x_o0 (χ : t_S) (h0 : e_A) : (x_H χ h0).1 350 = (0, 10, x_F0 χ) := rfl
theorem x_oS (χ : t_S) (h0 : e_A) : (x_H χ h0).1 351 = (56, 4, fun j => .ref (352 + j)) := rfl
theorem x_o3 (χ : t_S) (h0 : e_A) : (x_H χ h0).1 366 = (3, 19, x_F3 χ) := rfl
theorem x_o4 (χ : t_S) (h0 : e_A) : (x_H χ h0).1 379 = (4, 4, x_F4 χ) := rfl
theorem x_o5 (χ : t_S) (h0 : e_A) : (x_H χ h0).1 382 = (5, 5, x_F5 χ) := rfl
theorem x_o1 (χ : t_S) (h0 : e_A) {s : Int} (hs : 0 ≤ s ∧ s < 4) : (x_H χ h0).1 (352 + s.toNat) = (1, 1, fun _ => x_v 35 (χ 35 s)) := by
  have h : s = 0 ∨ s = 1 ∨ s = 2 ∨ s = 3 := by omega
  rcases h with rfl | rfl | rfl | rfl <;> rfl
/-- tables of arrays -/
theorem x_ai_all : (List.range 36).all (fun k => decide (x_ai k ≠ 0 → x_fd (x_ai k) = k ∧ (x_ai k = 364 ∨ x_ai k = 365 ∨ 367 ≤ x_ai k ∧ x_ai k ≤ 378 ∨ x_ai k = 380 ∨ x_ai k = 381 ∨ x_ai k = 383) ∧ k ≠ 1 ∧ k ≠ 4 ∧ k ≠ 5 ∧ k ≠ 6 ∧ k ≠ 30 ∧ k ≠ 35 ∧ (k < 22 ∨ 27 < k) ∧ (k < 32 ∨ 34 < k))) = true := by decide +kernel
theorem x_ai_lt (k : Nat) (h : x_ai k ≠ 0) : k < 36 := by
  rcases Nat.lt_or_ge k 36 with q | q
  · exact q
  · exfalso
    apply h
    unfold x_ai
    split <;> first | rfl | omega
theorem x_ai_k (k : Nat) (h : x_ai k ≠ 0) : x_fd (x_ai k) = k ∧ (x_ai k = 364 ∨ x_ai k = 365 ∨ 367 ≤ x_ai k ∧ x_ai k ≤ 378 ∨ x_ai k = 380 ∨ x_ai k = 381 ∨ x_ai k = 383) ∧ k ≠ 1 ∧ k ≠ 4 ∧ k ≠ 5 ∧ k ≠ 6 ∧ k ≠ 30 ∧ k ≠ 35 ∧ (k < 22 ∨ 27 < k) ∧ (k < 32 ∨ 34 < k) :=
  of_decide_eq_true (List.all_eq_true.mp x_ai_all k (List.mem_range.mpr (x_ai_lt k h))) h
theorem x_fd_inv (i : Nat) (h : x_fd i ≠ 0) : i = x_ai (x_fd i) := by
  have h1 := x_fd_rg i h
  have h2 : i ∈ List.range' 364 20 := List.mem_range'_1.mpr ⟨by omega, by omega⟩
  have h3 := of_decide_eq_true (List.all_eq_true.mp (show (List.range' 364 20).all (fun i => decide (x_fd i ≠ 0 → i = x_ai (x_fd i))) = true from by decide +kernel) i h2)
  exact h3 h
theorem x_ln_le (k : Nat) : x_ln k ≤ 900 := by
  unfold x_ln
  split <;> decide
theorem x_oA (χ : t_S) (h0 : e_A) (k : Nat) (h : x_ai k ≠ 0) : x_ob χ (x_ai k) = some (x_kd k, x_ln k, fun j : Nat => x_v k (χ k (j : Int))) := by
  obtain ⟨h1, h2, -⟩ := x_ai_k k h
  unfold x_ob
  have h3 : k ≠ 0 := fun q => h (by rw [q]; rfl)
  rw [if_neg (by omega), if_neg (by omega), if_neg (by omega), if_neg (by omega), if_neg (by omega), if_neg (by omega), if_neg (by omega), h1, if_neg h3]
theorem x_ob_A (χ : t_S) (h0 : e_A) (k : Nat) (h : x_ai k ≠ 0) : (x_H χ h0).1 (x_ai k) = (x_kd k, x_ln k, fun j : Nat => x_v k (χ k (j : Int))) := by
  show (x_ob χ (x_ai k)).getD _ = _
  rw [x_oA χ h0 k h]
  rfl
theorem x_F0_k {χ : t_S} {k : Nat} {j z : Int} (h : k ≠ 1 ∧ k ≠ 4 ∧ k ≠ 5 ∧ k ≠ 6) : x_F0 (s_up χ k j z) = x_F0 χ := by
  funext q
  unfold x_F0
  rw [s_up_f (k := k) (k1 := 1) (by omega), s_up_f (k := k) (k1 := 4) (by omega), s_up_f (k := k) (k1 := 5) (by omega), s_up_f (k := k) (k1 := 6) (by omega)]
theorem x_F3_k {χ : t_S} {k : Nat} {j z : Int} (h : k < 22 ∨ 27 < k) : x_F3 (s_up χ k j z) = x_F3 χ := by
  funext q
  unfold x_F3
  rw [s_up_f (k := k) (k1 := 22) (by omega), s_up_f (k := k) (k1 := 23) (by omega), s_up_f (k := k) (k1 := 24) (by omega), s_up_f (k := k) (k1 := 25) (by omega), s_up_f (k := k) (k1 := 26) (by omega), s_up_f (k := k) (k1 := 27) (by omega)]
theorem x_F4_k {χ : t_S} {k : Nat} {j z : Int} (h : k ≠ 30) : x_F4 (s_up χ k j z) = x_F4 χ := by
  funext q
  unfold x_F4
  rw [s_up_f (k := k) (k1 := 30) (by omega)]
theorem x_F5_k {χ : t_S} {k : Nat} {j z : Int} (h : k < 32 ∨ 34 < k) : x_F5 (s_up χ k j z) = x_F5 χ := by
  funext q
  unfold x_F5
  rw [s_up_f (k := k) (k1 := 32) (by omega), s_up_f (k := k) (k1 := 33) (by omega), s_up_f (k := k) (k1 := 34) (by omega)]
/-- what one number changes: the object of its key alone -/
theorem x_ob_up {χ : t_S} {k : Nat} {p z : Int} {i : Nat} (h0 : i = 350 → k ≠ 1 ∧ k ≠ 4 ∧ k ≠ 5 ∧ k ≠ 6) (h3 : i = 366 → k < 22 ∨ 27 < k) (h4 : i = 379 → k ≠ 30) (h5 : i = 382 → k < 32 ∨ 34 < k) (h1 : 352 ≤ i → i ≤ 355 → k ≠ 35 ∨ p ≠ (i : Int) - 352) (ha : x_fd i ≠ k ∨ k = 0) : x_ob (s_up χ k p z) i = x_ob χ i := by
  unfold x_ob
  by_cases q0 : i = 350
  · rw [if_pos q0, if_pos q0, x_F0_k (h0 q0)]
  · rw [if_neg q0, if_neg q0]
    by_cases q1 : i = 351
    · rw [if_pos q1, if_pos q1]
    · rw [if_neg q1, if_neg q1]
      by_cases q2 : i < 352
      · rw [if_pos q2, if_pos q2]
      · rw [if_neg q2, if_neg q2]
        by_cases q3 : i ≤ 355
        · rw [if_pos q3, if_pos q3, s_up_ne (fun w => by rcases h1 (by omega) q3 with u | u <;> omega)]
        · rw [if_neg q3, if_neg q3]
          by_cases q4 : i = 366
          · rw [if_pos q4, if_pos q4, x_F3_k (h3 q4)]
          · rw [if_neg q4, if_neg q4]
            by_cases q5 : i = 379
            · rw [if_pos q5, if_pos q5, x_F4_k (h4 q5)]
            · rw [if_neg q5, if_neg q5]
              by_cases q6 : i = 382
              · rw [if_pos q6, if_pos q6, x_F5_k (h5 q6)]
              · rw [if_neg q6, if_neg q6]
                by_cases q7 : x_fd i = 0
                · rw [if_pos q7, if_pos q7]
                · rw [if_neg q7, if_neg q7, s_up_f (k := k) (k1 := x_fd i) (by omega)]
theorem x_set_a (χ : t_S) (h0 : e_A) (k j : Nat) (z : Int) (h : x_ai k ≠ 0) : e_set (x_H χ h0) (x_ai k) (x_kd k, x_ln k, updV (fun j : Nat => x_v k (χ k (j : Int))) j (x_v k z)) = x_H (s_up χ k j z) h0 := by
  obtain ⟨h1, h2, a1, a2, a3, a4, a5, a6, a7, a8⟩ := x_ai_k k h
  refine x_set_of ?_ (fun i hi => x_ob_up (fun _ => ⟨a1, a2, a3, a4⟩) (fun _ => a7) (fun _ => a5) (fun _ => a8) (fun _ _ => Or.inl a6) ?_)
  · rw [x_oA _ h0 k h]
    refine congrArg some (Prod.ext rfl (Prod.ext rfl (funext fun q => ?_)))
    show x_v k (s_up χ k j z k (q : Int)) = updV (fun j : Nat => x_v k (χ k (j : Int))) j (x_v k z) q
    unfold updV s_up
    by_cases hq : q = j
    · subst hq; simp
    · rw [if_neg hq, if_neg (fun w => hq (by omega))]
  · by_cases q : x_fd i = 0
    · by_cases q2 : k = 0
      · exact Or.inr q2
      · exact Or.inl (by omega)
    · refine Or.inl (fun w => hi ?_)
      have := x_fd_inv i q
      rw [w] at this
      exact this
section XROWS
variable {M : e_M} {pc : Nat} {al st : List Value} {χ : t_S} {h0 : e_A} {kc ks d : Nat} {Q : e_R → e_A → Prop}
theorem e_getV {h : e_A} {idx ci k i n : Nat} {ty : FieldType} {fin : Bool} {f : Nat → Value} (v : Value) (hd : decode M.2.1 pc = .ok (.getfield idx, 3)) (hf : e_fl M.1.cls idx ci k ty fin) (ho : h.1 i = (ci, n, f)) (hv : f k = v) (kk : e_E M (pc + 3) al (v :: st) h kc ks d Q) : e_E M pc al (.ref i :: st) h kc ks d Q :=
  e_getfield hd hf ho (by rw [hv]; exact kk)
theorem x_ai350 {k : Nat} (h : x_ai k ≠ 0) : 350 ≤ x_ai k := by have := (x_ai_k k h).2.1; omega
theorem x_set_1 (χ : t_S) (h0 : e_A) (z : Int) : e_set (x_H χ h0) 350 (0, 10, updV (x_F0 χ) 1 (.ref z.toNat)) = x_H (s_up χ 1 0 z) h0 := by
  refine x_set_of ?_ (fun i hi => x_ob_up (fun q => by first | omega | exact absurd q hi) (fun q => by first | omega | exact absurd q hi) (fun q => by first | omega | exact absurd q hi) (fun q => by first | omega | exact absurd q hi) (fun _ _ => Or.inl (by decide)) (Or.inl (fun w => ?_)))
  · show some (0, 10, x_F0 (s_up χ 1 0 z)) = _
    refine congrArg some (Prod.ext rfl (Prod.ext rfl (funext fun q => ?_)))
    show x_F0 (s_up χ 1 0 z) q = updV (x_F0 χ) 1 (.ref z.toNat) q
    unfold updV
    by_cases hq : q = 1
    · subst hq; rw [if_pos rfl]; rfl
    · rw [if_neg hq]
      unfold x_F0
      split <;> first | rfl | (rw [s_up_f (by decide)]; done) | omega
  · have := x_fd_inv i (by omega)
    rw [w] at this
    exact absurd (x_fd_rg i (by omega)) (by have e : x_ai 1 = 0 := rfl; omega)
theorem x_put_1 {idx : Nat} {z : Int} (hd : decode M.2.1 pc = .ok (.putfield idx, 3)) (hf : e_fl M.1.cls idx 0 1 (.object "WidowRoads$Colony") false) (kk : e_E M (pc + 3) al st (x_H (s_up χ 1 0 z) h0) kc ks d Q) : e_E M pc al (.ref z.toNat :: .ref 350 :: st) (x_H χ h0) kc ks d Q :=
  e_putfield hd hf (x_o0 χ h0) (Or.inl rfl) (by omega) (by omega) (e_fit_ref _) (by rw [x_set_1]; exact kk)
theorem x_set_4 (χ : t_S) (h0 : e_A) (z : Int) : e_set (x_H χ h0) 350 (0, 10, updV (x_F0 χ) 4 (e_i z)) = x_H (s_up χ 4 0 z) h0 := by
  refine x_set_of ?_ (fun i hi => x_ob_up (fun q => by first | omega | exact absurd q hi) (fun q => by first | omega | exact absurd q hi) (fun q => by first | omega | exact absurd q hi) (fun q => by first | omega | exact absurd q hi) (fun _ _ => Or.inl (by decide)) (Or.inl (fun w => ?_)))
  · show some (0, 10, x_F0 (s_up χ 4 0 z)) = _
    refine congrArg some (Prod.ext rfl (Prod.ext rfl (funext fun q => ?_)))
    show x_F0 (s_up χ 4 0 z) q = updV (x_F0 χ) 4 (e_i z) q
    unfold updV
    by_cases hq : q = 4
    · subst hq; rw [if_pos rfl]; rfl
    · rw [if_neg hq]
      unfold x_F0
      split <;> first | rfl | (rw [s_up_f (by decide)]; done) | omega
  · have := x_fd_inv i (by omega)
    rw [w] at this
    exact absurd (x_fd_rg i (by omega)) (by have e : x_ai 4 = 0 := rfl; omega)
theorem x_put_4 {idx : Nat} {z : Int} (hd : decode M.2.1 pc = .ok (.putfield idx, 3)) (hf : e_fl M.1.cls idx 0 4 .int false) (kk : e_E M (pc + 3) al st (x_H (s_up χ 4 0 z) h0) kc ks d Q) : e_E M pc al (e_i z :: .ref 350 :: st) (x_H χ h0) kc ks d Q :=
  e_putfield hd hf (x_o0 χ h0) (Or.inl rfl) (by omega) (by omega) (e_fit_int _) (by rw [x_set_4]; exact kk)
theorem x_set_5 (χ : t_S) (h0 : e_A) (z : Int) : e_set (x_H χ h0) 350 (0, 10, updV (x_F0 χ) 5 (e_i z)) = x_H (s_up χ 5 0 z) h0 := by
  refine x_set_of ?_ (fun i hi => x_ob_up (fun q => by first | omega | exact absurd q hi) (fun q => by first | omega | exact absurd q hi) (fun q => by first | omega | exact absurd q hi) (fun q => by first | omega | exact absurd q hi) (fun _ _ => Or.inl (by decide)) (Or.inl (fun w => ?_)))
  · show some (0, 10, x_F0 (s_up χ 5 0 z)) = _
    refine congrArg some (Prod.ext rfl (Prod.ext rfl (funext fun q => ?_)))
    show x_F0 (s_up χ 5 0 z) q = updV (x_F0 χ) 5 (e_i z) q
    unfold updV
    by_cases hq : q = 5
    · subst hq; rw [if_pos rfl]; rfl
    · rw [if_neg hq]
      unfold x_F0
      split <;> first | rfl | (rw [s_up_f (by decide)]; done) | omega
  · have := x_fd_inv i (by omega)
    rw [w] at this
    exact absurd (x_fd_rg i (by omega)) (by have e : x_ai 5 = 0 := rfl; omega)
theorem x_put_5 {idx : Nat} {z : Int} (hd : decode M.2.1 pc = .ok (.putfield idx, 3)) (hf : e_fl M.1.cls idx 0 5 .int false) (kk : e_E M (pc + 3) al st (x_H (s_up χ 5 0 z) h0) kc ks d Q) : e_E M pc al (e_i z :: .ref 350 :: st) (x_H χ h0) kc ks d Q :=
  e_putfield hd hf (x_o0 χ h0) (Or.inl rfl) (by omega) (by omega) (e_fit_int _) (by rw [x_set_5]; exact kk)
theorem x_set_6 (χ : t_S) (h0 : e_A) (z : Int) : e_set (x_H χ h0) 350 (0, 10, updV (x_F0 χ) 6 (e_i z)) = x_H (s_up χ 6 0 z) h0 := by
  refine x_set_of ?_ (fun i hi => x_ob_up (fun q => by first | omega | exact absurd q hi) (fun q => by first | omega | exact absurd q hi) (fun q => by first | omega | exact absurd q hi) (fun q => by first | omega | exact absurd q hi) (fun _ _ => Or.inl (by decide)) (Or.inl (fun w => ?_)))
  · show some (0, 10, x_F0 (s_up χ 6 0 z)) = _
    refine congrArg some (Prod.ext rfl (Prod.ext rfl (funext fun q => ?_)))
    show x_F0 (s_up χ 6 0 z) q = updV (x_F0 χ) 6 (e_i z) q
    unfold updV
    by_cases hq : q = 6
    · subst hq; rw [if_pos rfl]; rfl
    · rw [if_neg hq]
      unfold x_F0
      split <;> first | rfl | (rw [s_up_f (by decide)]; done) | omega
  · have := x_fd_inv i (by omega)
    rw [w] at this
    exact absurd (x_fd_rg i (by omega)) (by have e : x_ai 6 = 0 := rfl; omega)
theorem x_put_6 {idx : Nat} {z : Int} (hd : decode M.2.1 pc = .ok (.putfield idx, 3)) (hf : e_fl M.1.cls idx 0 6 .int false) (kk : e_E M (pc + 3) al st (x_H (s_up χ 6 0 z) h0) kc ks d Q) : e_E M pc al (e_i z :: .ref 350 :: st) (x_H χ h0) kc ks d Q :=
  e_putfield hd hf (x_o0 χ h0) (Or.inl rfl) (by omega) (by omega) (e_fit_int _) (by rw [x_set_6]; exact kk)
theorem x_set_22 (χ : t_S) (h0 : e_A) (z : Int) : e_set (x_H χ h0) 366 (3, 19, updV (x_F3 χ) 12 (e_j z)) = x_H (s_up χ 22 0 z) h0 := by
  refine x_set_of ?_ (fun i hi => x_ob_up (fun q => by first | omega | exact absurd q hi) (fun q => by first | omega | exact absurd q hi) (fun q => by first | omega | exact absurd q hi) (fun q => by first | omega | exact absurd q hi) (fun _ _ => Or.inl (by decide)) (Or.inl (fun w => ?_)))
  · show some (3, 19, x_F3 (s_up χ 22 0 z)) = _
    refine congrArg some (Prod.ext rfl (Prod.ext rfl (funext fun q => ?_)))
    show x_F3 (s_up χ 22 0 z) q = updV (x_F3 χ) 12 (e_j z) q
    unfold updV
    by_cases hq : q = 12
    · subst hq; rw [if_pos rfl]; rfl
    · rw [if_neg hq]
      unfold x_F3
      split <;> first | rfl | (rw [s_up_f (by decide)]; done) | omega
  · have := x_fd_inv i (by omega)
    rw [w] at this
    exact absurd (x_fd_rg i (by omega)) (by have e : x_ai 22 = 0 := rfl; omega)
theorem x_put_22 {idx : Nat} {z : Int} (hd : decode M.2.1 pc = .ok (.putfield idx, 3)) (hf : e_fl M.1.cls idx 3 12 .long false) (kk : e_E M (pc + 3) al st (x_H (s_up χ 22 0 z) h0) kc ks d Q) : e_E M pc al (e_j z :: .ref 366 :: st) (x_H χ h0) kc ks d Q :=
  e_putfield hd hf (x_o3 χ h0) (Or.inl rfl) (by omega) (by omega) (e_fit_long _) (by rw [x_set_22]; exact kk)
theorem x_set_23 (χ : t_S) (h0 : e_A) (z : Int) : e_set (x_H χ h0) 366 (3, 19, updV (x_F3 χ) 13 (e_j z)) = x_H (s_up χ 23 0 z) h0 := by
  refine x_set_of ?_ (fun i hi => x_ob_up (fun q => by first | omega | exact absurd q hi) (fun q => by first | omega | exact absurd q hi) (fun q => by first | omega | exact absurd q hi) (fun q => by first | omega | exact absurd q hi) (fun _ _ => Or.inl (by decide)) (Or.inl (fun w => ?_)))
  · show some (3, 19, x_F3 (s_up χ 23 0 z)) = _
    refine congrArg some (Prod.ext rfl (Prod.ext rfl (funext fun q => ?_)))
    show x_F3 (s_up χ 23 0 z) q = updV (x_F3 χ) 13 (e_j z) q
    unfold updV
    by_cases hq : q = 13
    · subst hq; rw [if_pos rfl]; rfl
    · rw [if_neg hq]
      unfold x_F3
      split <;> first | rfl | (rw [s_up_f (by decide)]; done) | omega
  · have := x_fd_inv i (by omega)
    rw [w] at this
    exact absurd (x_fd_rg i (by omega)) (by have e : x_ai 23 = 0 := rfl; omega)
theorem x_put_23 {idx : Nat} {z : Int} (hd : decode M.2.1 pc = .ok (.putfield idx, 3)) (hf : e_fl M.1.cls idx 3 13 .long false) (kk : e_E M (pc + 3) al st (x_H (s_up χ 23 0 z) h0) kc ks d Q) : e_E M pc al (e_j z :: .ref 366 :: st) (x_H χ h0) kc ks d Q :=
  e_putfield hd hf (x_o3 χ h0) (Or.inl rfl) (by omega) (by omega) (e_fit_long _) (by rw [x_set_23]; exact kk)
theorem x_set_24 (χ : t_S) (h0 : e_A) (z : Int) : e_set (x_H χ h0) 366 (3, 19, updV (x_F3 χ) 14 (e_j z)) = x_H (s_up χ 24 0 z) h0 := by
  refine x_set_of ?_ (fun i hi => x_ob_up (fun q => by first | omega | exact absurd q hi) (fun q => by first | omega | exact absurd q hi) (fun q => by first | omega | exact absurd q hi) (fun q => by first | omega | exact absurd q hi) (fun _ _ => Or.inl (by decide)) (Or.inl (fun w => ?_)))
  · show some (3, 19, x_F3 (s_up χ 24 0 z)) = _
    refine congrArg some (Prod.ext rfl (Prod.ext rfl (funext fun q => ?_)))
    show x_F3 (s_up χ 24 0 z) q = updV (x_F3 χ) 14 (e_j z) q
    unfold updV
    by_cases hq : q = 14
    · subst hq; rw [if_pos rfl]; rfl
    · rw [if_neg hq]
      unfold x_F3
      split <;> first | rfl | (rw [s_up_f (by decide)]; done) | omega
  · have := x_fd_inv i (by omega)
    rw [w] at this
    exact absurd (x_fd_rg i (by omega)) (by have e : x_ai 24 = 0 := rfl; omega)
theorem x_put_24 {idx : Nat} {z : Int} (hd : decode M.2.1 pc = .ok (.putfield idx, 3)) (hf : e_fl M.1.cls idx 3 14 .long false) (kk : e_E M (pc + 3) al st (x_H (s_up χ 24 0 z) h0) kc ks d Q) : e_E M pc al (e_j z :: .ref 366 :: st) (x_H χ h0) kc ks d Q :=
  e_putfield hd hf (x_o3 χ h0) (Or.inl rfl) (by omega) (by omega) (e_fit_long _) (by rw [x_set_24]; exact kk)
theorem x_set_25 (χ : t_S) (h0 : e_A) (z : Int) : e_set (x_H χ h0) 366 (3, 19, updV (x_F3 χ) 15 (e_j z)) = x_H (s_up χ 25 0 z) h0 := by
  refine x_set_of ?_ (fun i hi => x_ob_up (fun q => by first | omega | exact absurd q hi) (fun q => by first | omega | exact absurd q hi) (fun q => by first | omega | exact absurd q hi) (fun q => by first | omega | exact absurd q hi) (fun _ _ => Or.inl (by decide)) (Or.inl (fun w => ?_)))
  · show some (3, 19, x_F3 (s_up χ 25 0 z)) = _
    refine congrArg some (Prod.ext rfl (Prod.ext rfl (funext fun q => ?_)))
    show x_F3 (s_up χ 25 0 z) q = updV (x_F3 χ) 15 (e_j z) q
    unfold updV
    by_cases hq : q = 15
    · subst hq; rw [if_pos rfl]; rfl
    · rw [if_neg hq]
      unfold x_F3
      split <;> first | rfl | (rw [s_up_f (by decide)]; done) | omega
  · have := x_fd_inv i (by omega)
    rw [w] at this
    exact absurd (x_fd_rg i (by omega)) (by have e : x_ai 25 = 0 := rfl; omega)
theorem x_put_25 {idx : Nat} {z : Int} (hd : decode M.2.1 pc = .ok (.putfield idx, 3)) (hf : e_fl M.1.cls idx 3 15 .long false) (kk : e_E M (pc + 3) al st (x_H (s_up χ 25 0 z) h0) kc ks d Q) : e_E M pc al (e_j z :: .ref 366 :: st) (x_H χ h0) kc ks d Q :=
  e_putfield hd hf (x_o3 χ h0) (Or.inl rfl) (by omega) (by omega) (e_fit_long _) (by rw [x_set_25]; exact kk)
theorem x_set_26 (χ : t_S) (h0 : e_A) (z : Int) : e_set (x_H χ h0) 366 (3, 19, updV (x_F3 χ) 16 (e_i z)) = x_H (s_up χ 26 0 z) h0 := by
  refine x_set_of ?_ (fun i hi => x_ob_up (fun q => by first | omega | exact absurd q hi) (fun q => by first | omega | exact absurd q hi) (fun q => by first | omega | exact absurd q hi) (fun q => by first | omega | exact absurd q hi) (fun _ _ => Or.inl (by decide)) (Or.inl (fun w => ?_)))
  · show some (3, 19, x_F3 (s_up χ 26 0 z)) = _
    refine congrArg some (Prod.ext rfl (Prod.ext rfl (funext fun q => ?_)))
    show x_F3 (s_up χ 26 0 z) q = updV (x_F3 χ) 16 (e_i z) q
    unfold updV
    by_cases hq : q = 16
    · subst hq; rw [if_pos rfl]; rfl
    · rw [if_neg hq]
      unfold x_F3
      split <;> first | rfl | (rw [s_up_f (by decide)]; done) | omega
  · have := x_fd_inv i (by omega)
    rw [w] at this
    exact absurd (x_fd_rg i (by omega)) (by have e : x_ai 26 = 0 := rfl; omega)
theorem x_put_26 {idx : Nat} {z : Int} (hd : decode M.2.1 pc = .ok (.putfield idx, 3)) (hf : e_fl M.1.cls idx 3 16 .int false) (kk : e_E M (pc + 3) al st (x_H (s_up χ 26 0 z) h0) kc ks d Q) : e_E M pc al (e_i z :: .ref 366 :: st) (x_H χ h0) kc ks d Q :=
  e_putfield hd hf (x_o3 χ h0) (Or.inl rfl) (by omega) (by omega) (e_fit_int _) (by rw [x_set_26]; exact kk)
theorem x_set_27 (χ : t_S) (h0 : e_A) (z : Int) : e_set (x_H χ h0) 366 (3, 19, updV (x_F3 χ) 17 (e_i z)) = x_H (s_up χ 27 0 z) h0 := by
  refine x_set_of ?_ (fun i hi => x_ob_up (fun q => by first | omega | exact absurd q hi) (fun q => by first | omega | exact absurd q hi) (fun q => by first | omega | exact absurd q hi) (fun q => by first | omega | exact absurd q hi) (fun _ _ => Or.inl (by decide)) (Or.inl (fun w => ?_)))
  · show some (3, 19, x_F3 (s_up χ 27 0 z)) = _
    refine congrArg some (Prod.ext rfl (Prod.ext rfl (funext fun q => ?_)))
    show x_F3 (s_up χ 27 0 z) q = updV (x_F3 χ) 17 (e_i z) q
    unfold updV
    by_cases hq : q = 17
    · subst hq; rw [if_pos rfl]; rfl
    · rw [if_neg hq]
      unfold x_F3
      split <;> first | rfl | (rw [s_up_f (by decide)]; done) | omega
  · have := x_fd_inv i (by omega)
    rw [w] at this
    exact absurd (x_fd_rg i (by omega)) (by have e : x_ai 27 = 0 := rfl; omega)
theorem x_put_27 {idx : Nat} {z : Int} (hd : decode M.2.1 pc = .ok (.putfield idx, 3)) (hf : e_fl M.1.cls idx 3 17 .int false) (kk : e_E M (pc + 3) al st (x_H (s_up χ 27 0 z) h0) kc ks d Q) : e_E M pc al (e_i z :: .ref 366 :: st) (x_H χ h0) kc ks d Q :=
  e_putfield hd hf (x_o3 χ h0) (Or.inl rfl) (by omega) (by omega) (e_fit_int _) (by rw [x_set_27]; exact kk)
theorem x_set_30 (χ : t_S) (h0 : e_A) (z : Int) : e_set (x_H χ h0) 379 (4, 4, updV (x_F4 χ) 2 (e_i z)) = x_H (s_up χ 30 0 z) h0 := by
  refine x_set_of ?_ (fun i hi => x_ob_up (fun q => by first | omega | exact absurd q hi) (fun q => by first | omega | exact absurd q hi) (fun q => by first | omega | exact absurd q hi) (fun q => by first | omega | exact absurd q hi) (fun _ _ => Or.inl (by decide)) (Or.inl (fun w => ?_)))
  · show some (4, 4, x_F4 (s_up χ 30 0 z)) = _
    refine congrArg some (Prod.ext rfl (Prod.ext rfl (funext fun q => ?_)))
    show x_F4 (s_up χ 30 0 z) q = updV (x_F4 χ) 2 (e_i z) q
    unfold updV
    by_cases hq : q = 2
    · subst hq; rw [if_pos rfl]; rfl
    · rw [if_neg hq]
      unfold x_F4
      split <;> first | rfl | (rw [s_up_f (by decide)]; done) | omega
  · have := x_fd_inv i (by omega)
    rw [w] at this
    exact absurd (x_fd_rg i (by omega)) (by have e : x_ai 30 = 0 := rfl; omega)
theorem x_put_30 {idx : Nat} {z : Int} (hd : decode M.2.1 pc = .ok (.putfield idx, 3)) (hf : e_fl M.1.cls idx 4 2 .int false) (kk : e_E M (pc + 3) al st (x_H (s_up χ 30 0 z) h0) kc ks d Q) : e_E M pc al (e_i z :: .ref 379 :: st) (x_H χ h0) kc ks d Q :=
  e_putfield hd hf (x_o4 χ h0) (Or.inl rfl) (by omega) (by omega) (e_fit_int _) (by rw [x_set_30]; exact kk)
theorem x_set_32 (χ : t_S) (h0 : e_A) (z : Int) : e_set (x_H χ h0) 382 (5, 5, updV (x_F5 χ) 1 (e_i z)) = x_H (s_up χ 32 0 z) h0 := by
  refine x_set_of ?_ (fun i hi => x_ob_up (fun q => by first | omega | exact absurd q hi) (fun q => by first | omega | exact absurd q hi) (fun q => by first | omega | exact absurd q hi) (fun q => by first | omega | exact absurd q hi) (fun _ _ => Or.inl (by decide)) (Or.inl (fun w => ?_)))
  · show some (5, 5, x_F5 (s_up χ 32 0 z)) = _
    refine congrArg some (Prod.ext rfl (Prod.ext rfl (funext fun q => ?_)))
    show x_F5 (s_up χ 32 0 z) q = updV (x_F5 χ) 1 (e_i z) q
    unfold updV
    by_cases hq : q = 1
    · subst hq; rw [if_pos rfl]; rfl
    · rw [if_neg hq]
      unfold x_F5
      split <;> first | rfl | (rw [s_up_f (by decide)]; done) | omega
  · have := x_fd_inv i (by omega)
    rw [w] at this
    exact absurd (x_fd_rg i (by omega)) (by have e : x_ai 32 = 0 := rfl; omega)
theorem x_put_32 {idx : Nat} {z : Int} (hd : decode M.2.1 pc = .ok (.putfield idx, 3)) (hf : e_fl M.1.cls idx 5 1 .int false) (kk : e_E M (pc + 3) al st (x_H (s_up χ 32 0 z) h0) kc ks d Q) : e_E M pc al (e_i z :: .ref 382 :: st) (x_H χ h0) kc ks d Q :=
  e_putfield hd hf (x_o5 χ h0) (Or.inl rfl) (by omega) (by omega) (e_fit_int _) (by rw [x_set_32]; exact kk)
theorem x_set_33 (χ : t_S) (h0 : e_A) (z : Int) : e_set (x_H χ h0) 382 (5, 5, updV (x_F5 χ) 2 (e_i z)) = x_H (s_up χ 33 0 z) h0 := by
  refine x_set_of ?_ (fun i hi => x_ob_up (fun q => by first | omega | exact absurd q hi) (fun q => by first | omega | exact absurd q hi) (fun q => by first | omega | exact absurd q hi) (fun q => by first | omega | exact absurd q hi) (fun _ _ => Or.inl (by decide)) (Or.inl (fun w => ?_)))
  · show some (5, 5, x_F5 (s_up χ 33 0 z)) = _
    refine congrArg some (Prod.ext rfl (Prod.ext rfl (funext fun q => ?_)))
    show x_F5 (s_up χ 33 0 z) q = updV (x_F5 χ) 2 (e_i z) q
    unfold updV
    by_cases hq : q = 2
    · subst hq; rw [if_pos rfl]; rfl
    · rw [if_neg hq]
      unfold x_F5
      split <;> first | rfl | (rw [s_up_f (by decide)]; done) | omega
  · have := x_fd_inv i (by omega)
    rw [w] at this
    exact absurd (x_fd_rg i (by omega)) (by have e : x_ai 33 = 0 := rfl; omega)
theorem x_put_33 {idx : Nat} {z : Int} (hd : decode M.2.1 pc = .ok (.putfield idx, 3)) (hf : e_fl M.1.cls idx 5 2 .int false) (kk : e_E M (pc + 3) al st (x_H (s_up χ 33 0 z) h0) kc ks d Q) : e_E M pc al (e_i z :: .ref 382 :: st) (x_H χ h0) kc ks d Q :=
  e_putfield hd hf (x_o5 χ h0) (Or.inl rfl) (by omega) (by omega) (e_fit_int _) (by rw [x_set_33]; exact kk)
theorem x_set_34 (χ : t_S) (h0 : e_A) (z : Int) : e_set (x_H χ h0) 382 (5, 5, updV (x_F5 χ) 3 (e_i z)) = x_H (s_up χ 34 0 z) h0 := by
  refine x_set_of ?_ (fun i hi => x_ob_up (fun q => by first | omega | exact absurd q hi) (fun q => by first | omega | exact absurd q hi) (fun q => by first | omega | exact absurd q hi) (fun q => by first | omega | exact absurd q hi) (fun _ _ => Or.inl (by decide)) (Or.inl (fun w => ?_)))
  · show some (5, 5, x_F5 (s_up χ 34 0 z)) = _
    refine congrArg some (Prod.ext rfl (Prod.ext rfl (funext fun q => ?_)))
    show x_F5 (s_up χ 34 0 z) q = updV (x_F5 χ) 3 (e_i z) q
    unfold updV
    by_cases hq : q = 3
    · subst hq; rw [if_pos rfl]; rfl
    · rw [if_neg hq]
      unfold x_F5
      split <;> first | rfl | (rw [s_up_f (by decide)]; done) | omega
  · have := x_fd_inv i (by omega)
    rw [w] at this
    exact absurd (x_fd_rg i (by omega)) (by have e : x_ai 34 = 0 := rfl; omega)
theorem x_put_34 {idx : Nat} {z : Int} (hd : decode M.2.1 pc = .ok (.putfield idx, 3)) (hf : e_fl M.1.cls idx 5 3 .int false) (kk : e_E M (pc + 3) al st (x_H (s_up χ 34 0 z) h0) kc ks d Q) : e_E M pc al (e_i z :: .ref 382 :: st) (x_H χ h0) kc ks d Q :=
  e_putfield hd hf (x_o5 χ h0) (Or.inl rfl) (by omega) (by omega) (e_fit_int _) (by rw [x_set_34]; exact kk)
theorem x_ild {k : Nat} {j : Int} (L : Int) (hd : decode M.2.1 pc = .ok (.iaload, 1)) (hkd : x_kd k = 50) (hk : x_ai k ≠ 0) (hv : ∀ z, x_v k z = e_i z) (hL : (x_ln k : Int) = L) (hj : 0 ≤ j ∧ j < L) (kk : e_E M (pc + 1) al (e_i (χ k j) :: st) (x_H χ h0) kc ks d Q) : e_E M pc al (e_i j :: .ref (x_ai k) :: st) (x_H χ h0) kc ks d Q := by
  have e1 : ((j.toNat : Nat) : Int) = j := Int.toNat_of_nonneg hj.1
  have e2 : x_ln k ≤ 900 := x_ln_le k
  exact e_iald j.toNat hd (x_ob_A χ h0 k hk) (Or.inl hkd) e1.symm (by omega) (by omega) (by show e_E M (pc + 1) al (x_v k (χ k ((j.toNat : Nat) : Int)) :: st) _ kc ks d Q; rw [e1, hv]; exact kk)
theorem x_bld {k : Nat} {j : Int} (L : Int) (hd : decode M.2.1 pc = .ok (.baload, 1)) (hkd : x_kd k = 52) (hk : x_ai k ≠ 0) (hv : ∀ z, x_v k z = e_i z) (hL : (x_ln k : Int) = L) (hj : 0 ≤ j ∧ j < L) (kk : e_E M (pc + 1) al (e_i (χ k j) :: st) (x_H χ h0) kc ks d Q) : e_E M pc al (e_i j :: .ref (x_ai k) :: st) (x_H χ h0) kc ks d Q := by
  have e1 : ((j.toNat : Nat) : Int) = j := Int.toNat_of_nonneg hj.1
  have e2 : x_ln k ≤ 900 := x_ln_le k
  exact e_bald j.toNat hd (x_ob_A χ h0 k hk) (Or.inl hkd) e1.symm (by omega) (by omega) (by show e_E M (pc + 1) al (x_v k (χ k ((j.toNat : Nat) : Int)) :: st) _ kc ks d Q; rw [e1, hv]; exact kk)
theorem x_lld {k : Nat} {j : Int} (L : Int) (hd : decode M.2.1 pc = .ok (.laload, 1)) (hkd : x_kd k = 54) (hk : x_ai k ≠ 0) (hv : ∀ z, x_v k z = e_j z) (hL : (x_ln k : Int) = L) (hj : 0 ≤ j ∧ j < L) (kk : e_E M (pc + 1) al (e_j (χ k j) :: st) (x_H χ h0) kc ks d Q) : e_E M pc al (e_i j :: .ref (x_ai k) :: st) (x_H χ h0) kc ks d Q := by
  have e1 : ((j.toNat : Nat) : Int) = j := Int.toNat_of_nonneg hj.1
  have e2 : x_ln k ≤ 900 := x_ln_le k
  exact e_lald j.toNat hd (x_ob_A χ h0 k hk) (hkd) e1.symm (by omega) (by omega) (by show e_E M (pc + 1) al (x_v k (χ k ((j.toNat : Nat) : Int)) :: st) _ kc ks d Q; rw [e1, hv]; exact kk)
theorem x_ist {k : Nat} {j z : Int} (L : Int) (hd : decode M.2.1 pc = .ok (.iastore, 1)) (hkd : x_kd k = 50) (hk : x_ai k ≠ 0) (hv : x_v k z = e_i z) (hL : (x_ln k : Int) = L) (hj : 0 ≤ j ∧ j < L) (kk : e_E M (pc + 1) al st (x_H (s_up χ k j z) h0) kc ks d Q) : e_E M pc al (e_i z :: e_i j :: .ref (x_ai k) :: st) (x_H χ h0) kc ks d Q := by
  have e1 : ((j.toNat : Nat) : Int) = j := Int.toNat_of_nonneg hj.1
  have e2 : x_ln k ≤ 900 := x_ln_le k
  exact e_iast (v := e_i z) j.toNat hd (by rw [x_ob_A χ h0 k hk, hkd]) (x_ai350 hk) (rfl) e1.symm (by omega) (by omega) (by rw [← hv, ← hkd, x_set_a _ _ _ _ _ hk, e1]; exact kk)
theorem x_lst {k : Nat} {j z : Int} (L : Int) (hd : decode M.2.1 pc = .ok (.lastore, 1)) (hkd : x_kd k = 54) (hk : x_ai k ≠ 0) (hv : x_v k z = e_j z) (hL : (x_ln k : Int) = L) (hj : 0 ≤ j ∧ j < L) (kk : e_E M (pc + 1) al st (x_H (s_up χ k j z) h0) kc ks d Q) : e_E M pc al (e_j z :: e_i j :: .ref (x_ai k) :: st) (x_H χ h0) kc ks d Q := by
  have e1 : ((j.toNat : Nat) : Int) = j := Int.toNat_of_nonneg hj.1
  have e2 : x_ln k ≤ 900 := x_ln_le k
  exact e_last (v := e_j z) j.toNat hd (by rw [x_ob_A χ h0 k hk, hkd]) (x_ai350 hk) (rfl) e1.symm (by omega) (by omega) (by rw [← hv, ← hkd, x_set_a _ _ _ _ _ hk, e1]; exact kk)
theorem x_bst {k : Nat} {j z : Int} (L : Int) (hd : decode M.2.1 pc = .ok (.bastore, 1)) (hkd : x_kd k = 52) (hk : x_ai k ≠ 0) (hv : x_v k z = e_i z) (hz : (Int32.ofInt z).toInt8.toInt32 = Int32.ofInt z) (hL : (x_ln k : Int) = L) (hj : 0 ≤ j ∧ j < L) (kk : e_E M (pc + 1) al st (x_H (s_up χ k j z) h0) kc ks d Q) : e_E M pc al (e_i z :: e_i j :: .ref (x_ai k) :: st) (x_H χ h0) kc ks d Q := by
  have e1 : ((j.toNat : Nat) : Int) = j := Int.toNat_of_nonneg hj.1
  have e2 : x_ln k ≤ 900 := x_ln_le k
  exact e_bast (v := e_i z) j.toNat hd (by rw [x_ob_A χ h0 k hk, hkd]) (x_ai350 hk) (by show Value.int _ = Value.int _; rw [hz]) e1.symm (by omega) (by omega) (by rw [← hv, ← hkd, x_set_a _ _ _ _ _ hk, e1]; exact kk)
theorem x_alen {k : Nat} (L : Int) (hd : decode M.2.1 pc = .ok (.arraylength, 1)) (hk : x_ai k ≠ 0) (hkd : 50 ≤ x_kd k ∧ x_kd k < 70) (hL : (x_ln k : Int) = L) (kk : e_E M (pc + 1) al (e_i L :: st) (x_H χ h0) kc ks d Q) : e_E M pc al (.ref (x_ai k) :: st) (x_H χ h0) kc ks d Q :=
  e_alen hd (x_ob_A χ h0 k hk) hkd (by rw [hL]; exact kk)
end XROWS
/-- more objects, the rest as it was -/
def e_ext (h h1 : e_A) : Prop := h.2 ≤ h1.2 ∧ ∀ i, i < h.2 → h1.1 i = h.1 i
theorem e_ext_rf (h : e_A) : e_ext h h := ⟨Nat.le_refl _, fun _ _ => rfl⟩
theorem e_ext_tr {h h1 h2 : e_A} (a : e_ext h h1) (b : e_ext h1 h2) : e_ext h h2 := ⟨Nat.le_trans a.1 b.1, fun i hi => (b.2 i (by have := a.1; omega)).trans (a.2 i hi)⟩
theorem e_ext_push (h : e_A) (o : e_O) : e_ext h (e_push h o) := ⟨Nat.le_succ _, fun i hi => by show (if i = h.2 then o else h.1 i) = _; rw [if_neg (by omega)]⟩
theorem e_ext_set {h h1 : e_A} {i : Nat} {o : e_O} (a : e_ext h h1) (hi : h.2 ≤ i) : e_ext h (e_set h1 i o) := ⟨a.1, fun j hj => by show (if j = i then o else h1.1 j) = _; rw [if_neg (by omega)]; exact a.2 j hj⟩
theorem e_old_ext {h h1 : e_A} (a : e_ext h h1) (ho : e_old h) : e_old h1 := by
  obtain ⟨h1', h2, h3, h4, h5, h6⟩ := ho
  refine ⟨fun p hp => ?_, fun k hk => ?_, ?_, ?_, ?_, Nat.le_trans h6 a.1⟩
  · rw [a.2 _ (by omega), a.2 _ (by omega)]; exact h1' p hp
  · rw [a.2 _ (by omega)]; exact h2 k hk
  · rw [a.2 _ (by omega)]; exact h3
  · rw [a.2 _ (by omega)]; exact h4
  · rw [a.2 _ (by omega)]; exact h5
theorem e_old_xH {χ : t_S} {h0 : e_A} (h : e_old h0) : e_old (x_H χ h0) := by
  obtain ⟨h1, h2, h3, h4, h5, h6⟩ := h
  refine ⟨fun p hp => ?_, fun k hk => ?_, ?_, ?_, ?_, h6⟩
  · rw [x_H_fr (Or.inl (by omega)), x_H_fr (Or.inl (by omega))]; exact h1 p hp
  · rw [x_H_fr (Or.inl (by omega))]; exact h2 k hk
  · rw [x_H_fr (Or.inl (by omega))]; exact h3
  · rw [x_H_fr (Or.inl (by omega))]; exact h4
  · rw [x_H_fr (Or.inl (by omega))]; exact h5
