/-! THE COMPONENT'S WALKS: all of them, pure -/
set_option maxRecDepth 100000
theorem e_set_self (h : e_A) (i : Nat) : e_set h i (h.1 i) = h := by
  unfold e_set
  refine Prod.ext (funext fun j => ?_) rfl
  show (if j = i then h.1 i else h.1 j) = h.1 j
  by_cases q : j = i
  · rw [if_pos q, q]
  · rw [if_neg q]
theorem e_set_at1 (h : e_A) (i : Nat) (o : e_O) : (e_set h i o).1 i = o := if_pos rfl
theorem x_oAH (χ : t_S) (h0 : e_A) : (x_H χ h0).1 (x_ai 14) = (x_kd 14, x_ln 14, fun j : Nat => x_v 14 (χ 14 (j : Int))) := rfl
def x_cpf (χ : t_S) (sp dp : Nat) : Int → t_S → t_S := fun i τ => s_up τ 14 (dp + i) (χ 14 (sp + i))
theorem x_cpy (χ : t_S) (h0 : e_A) (sp dp : Nat) : ∀ n : Nat, e_set (x_H χ h0) (x_ai 14) (x_kd 14, x_ln 14, e_cpy (fun j : Nat => x_v 14 (χ 14 (j : Int))) (fun j : Nat => x_v 14 (χ 14 (j : Int))) sp dp n) = x_H (t_it (x_cpf χ sp dp) n χ) h0 := by
  intro n
  induction n with
  | zero =>
    have e : e_cpy (fun j : Nat => x_v 14 (χ 14 (j : Int))) (fun j : Nat => x_v 14 (χ 14 (j : Int))) sp dp 0 = fun j : Nat => x_v 14 (χ 14 (j : Int)) := by
      funext k
      unfold e_cpy
      rw [if_neg (by omega)]
    rw [e]
    have h1 : (x_H χ h0).1 (x_ai 14) = (x_kd 14, x_ln 14, fun j : Nat => x_v 14 (χ 14 (j : Int))) := x_oAH χ h0
    rw [← h1, e_set_self]
    rfl
  | succ n ih =>
    have e : e_cpy (fun j : Nat => x_v 14 (χ 14 (j : Int))) (fun j : Nat => x_v 14 (χ 14 (j : Int))) sp dp (n + 1) = updV (e_cpy (fun j : Nat => x_v 14 (χ 14 (j : Int))) (fun j : Nat => x_v 14 (χ 14 (j : Int))) sp dp n) (dp + n) (x_v 14 (χ 14 ((sp + n : Nat) : Int))) := by
      funext k
      unfold e_cpy updV
      by_cases q : k = dp + n
      · rw [if_pos q, if_pos (by omega), q, show sp + (dp + n - dp) = sp + n by omega]
      · rw [if_neg q]
        show (if dp ≤ k ∧ k < dp + (n + 1) then x_v 14 (χ 14 ((sp + (k - dp) : Nat) : Int)) else x_v 14 (χ 14 (k : Int))) = (if dp ≤ k ∧ k < dp + n then x_v 14 (χ 14 ((sp + (k - dp) : Nat) : Int)) else x_v 14 (χ 14 (k : Int)))
        by_cases p : dp ≤ k ∧ k < dp + n
        · rw [if_pos p, if_pos (by omega)]
        · rw [if_neg p, if_neg (by omega)]
    have g : (x_H (t_it (x_cpf χ sp dp) n χ) h0).1 (x_ai 14) = (x_kd 14, x_ln 14, fun j : Nat => x_v 14 (t_it (x_cpf χ sp dp) n χ 14 (j : Int))) := x_oAH _ h0
    rw [e, ← e_set_set (x_H χ h0) (x_ai 14) (x_kd 14, x_ln 14, e_cpy (fun j : Nat => x_v 14 (χ 14 (j : Int))) (fun j : Nat => x_v 14 (χ 14 (j : Int))) sp dp n), ih]
    have g2 := congrArg (fun h : e_A => h.1 (x_ai 14)) ih
    simp only [e_set_at1] at g2
    rw [g] at g2
    have g3 := congrArg (fun o : e_O => o.2.2) g2
    simp only at g3
    rw [g3]
    have a := x_set_a (t_it (x_cpf χ sp dp) n χ) h0 14 (dp + n) (χ 14 ((sp + n : Nat) : Int)) (by decide)
    rw [a]
    show x_H (s_up (t_it (x_cpf χ sp dp) n χ) 14 ((dp + n : Nat) : Int) (χ 14 ((sp + n : Nat) : Int))) h0 = x_H (s_up (t_it (x_cpf χ sp dp) n χ) 14 ((dp : Int) + (n : Int)) (χ 14 ((sp : Int) + (n : Int)))) h0
    rw [Int.natCast_add, Int.natCast_add]
theorem x_cp_k (χ : t_S) (sp dp n : Nat) : (∀ j, j ≠ 14 → t_it (x_cpf χ sp dp) n χ j = χ j) ∧ (∀ i : Int, 0 ≤ i → i < n → t_it (x_cpf χ sp dp) n χ 14 (dp + i) = χ 14 (sp + i)) ∧ ∀ j : Int, ¬ ((dp : Int) ≤ j ∧ j < dp + n) → t_it (x_cpf χ sp dp) n χ 14 j = χ 14 j := by
  induction n with
  | zero => exact ⟨fun _ _ => rfl, fun i a b => by omega, fun _ _ => rfl⟩
  | succ n ih =>
    have e : t_it (x_cpf χ sp dp) (n + 1) χ = s_up (t_it (x_cpf χ sp dp) n χ) 14 (dp + (n : Int)) (χ 14 (sp + (n : Int))) := rfl
    rw [e]
    generalize t_it (x_cpf χ sp dp) n χ = μ at ih ⊢
    refine ⟨fun j hj => (s_up_f hj).trans (ih.1 j hj), fun i a b => ?_, fun j hj => ?_⟩
    · by_cases q : i = n
      · rw [q, s_up_eq]
      · rw [s_up_j (by omega)]; exact ih.2.1 i a (by omega)
    · rw [s_up_j (by omega)]; exact ih.2.2 j (by omega)
