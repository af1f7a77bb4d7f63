/-! THE TWIN: factorials, divisors (printed by tw10.py) -/
set_option maxRecDepth 100000
theorem C_X6_factorial {h : e_A} {n : Int} (hn : 0 ≤ n ∧ n ≤ 7) : e_C mX6_factorial [e_i n] (h) 0 0 0 (e_ret (e_i (t_fac n)) (h)) := by
  obtain ⟨N, hN⟩ : ∃ N : Int, (n < 2 ∧ N = 2) ∨ (2 ≤ n ∧ N = n + 1) := by
    by_cases q : n < 2
    · exact ⟨2, Or.inl ⟨q, rfl⟩⟩
    · exact ⟨n + 1, Or.inr ⟨by omega, rfl⟩⟩
  refine e_enter (al0 := [e_i n, .retAddr 0, .retAddr 0]) (by decide +kernel) rfl (Nat.le_of_ble_eq_true rfl) ?_
  refine e_iconst dX6_factorial_0 ?_
  refine e_istore_n1 dX6_factorial_1 rfl ?_
  refine e_iconst dX6_factorial_2 ?_
  refine e_istore_n2 dX6_factorial_3 rfl ?_
  refine e_forA (a := 2) (n := N) (fun k => e_E mX6_factorial 4 [e_i n, e_i (t_it t_facf (k - 2).toNat 1), e_i k] [] h _ _ _ _) (by omega) ?_ (fun k hk0 hk1 hF => ?_)
  · rw [show (N - 2).toNat = (n - 1).toNat by omega]
    refine e_iload_n dX6_factorial_4 rfl ?_
    refine e_iload_n dX6_factorial_5 rfl ?_
    refine e_icmp_gt (tgt := 19) dX6_factorial_6 rfl ⟨by omega, by omega⟩ ⟨by omega, by omega⟩ (fun c1 => ?_) (fun q => by exfalso; omega)
    refine e_iload_n dX6_factorial_19 rfl ?_
    refine e_ireturn dX6_factorial_20 rfl rfl ?_
    exact ⟨rfl, rfl⟩
  · have e : t_it t_facf (k + 1 - 2).toNat 1 = t_it t_facf (k - 2).toNat 1 * k := by
      rw [show k + 1 - 2 = (k - 2) + 1 by omega, t_it_s _ _ (by omega)]
      show _ * (k - 2 + 2) = _
      rw [Int.sub_add_cancel]
    rw [e] at hF
    refine e_iload_n dX6_factorial_4 rfl ?_
    refine e_iload_n dX6_factorial_5 rfl ?_
    refine e_icmp_gt (tgt := 19) dX6_factorial_6 rfl ⟨by omega, by omega⟩ ⟨by omega, by omega⟩ (fun q => by exfalso; omega) (fun c2 => ?_)
    refine e_iload_n dX6_factorial_9 rfl ?_
    refine e_iload_n dX6_factorial_10 rfl ?_
    refine e_imul dX6_factorial_11 ?_
    refine e_istore_n1 dX6_factorial_12 rfl ?_
    refine e_iinc2 dX6_factorial_13 rfl ?_
    refine e_goto (tgt := 4) dX6_factorial_16 rfl ?_
    exact hF
theorem C_J3_abs {h : e_A} {a : Int} (ha : e_rl a) : e_C mJ3_abs [e_j a] (h) 0 0 0 (e_ret (e_j (t_abs a)) (h)) := by
  refine e_enterF (al0 := [e_j a, .retAddr 0]) (by decide +kernel) rfl rfl (Nat.le_of_ble_eq_true rfl) ?_
  refine e_lload_n dJ3_abs_0 rfl ?_
  refine e_lconst (z := 0) dJ3_abs_1 rfl ?_
  refine e_lcmp_ge (tgt := 11) dJ3_abs_2 dJ3_abs_3 rfl ⟨by omega, by omega⟩ ⟨by omega, by omega⟩ (fun c1 => ?_) (fun c1 => ?_)
  · refine e_lload_n dJ3_abs_11 rfl ?_
    refine e_lreturn dJ3_abs_12 rfl ?_
    refine e_rvj ?_ rfl
    unfold t_abs
    split <;> omega
  · refine e_lload_n dJ3_abs_6 rfl ?_
    refine e_lneg dJ3_abs_7 ?_
    refine e_goto (tgt := 12) dJ3_abs_8 rfl ?_
    refine e_lreturn dJ3_abs_12 rfl ?_
    refine e_rvj ?_ rfl
    unfold t_abs
    split <;> omega
theorem P_divisor_9 {h : e_A} {a b : Int} {Q : e_R → e_A → Prop} : ∀ (f : Nat) (x y : Int), (0 ≤ x ∧ x < 9223372036854775808) → (0 ≤ y ∧ y < 9223372036854775808) → y < f → e_E mX6_divisor 34 [e_j a, .retAddr 0, e_j b, .retAddr 0, e_j (t_gcd x y), .retAddr 0, .retAddr 0, .retAddr 0, .retAddr 0, .retAddr 0] [] h 0 0 1 Q → e_E mX6_divisor 9 [e_j a, .retAddr 0, e_j b, .retAddr 0, e_j x, .retAddr 0, e_j y, .retAddr 0, .retAddr 0, .retAddr 0] [] h 0 0 1 Q
  | 0, x, y, hx, hy, hf, hX => by exfalso; omega
  | f + 1, x, y, hx, hy, hf, hX => by
    refine e_lload dX6_divisor_9 rfl ?_
    refine e_lconst (z := 0) dX6_divisor_11 rfl ?_
    refine e_lcmp_eq (tgt := 34) dX6_divisor_12 dX6_divisor_13 rfl ⟨by omega, by omega⟩ ⟨by omega, by omega⟩ (fun c1 => ?_) (fun c1 => ?_)
    · have e : y = 0 := by omega
      rw [e, t_gcd_0 hx.1] at hX
      exact e_fgs [6, 7, 8, 9] hX
    · refine e_lload dX6_divisor_16 rfl ?_
      refine e_lload dX6_divisor_18 rfl ?_
      refine e_lrem dX6_divisor_20 ⟨by omega, by omega⟩ ⟨by omega, by omega⟩ ?_
      refine e_lstore8 dX6_divisor_21 rfl ?_
      refine e_lload dX6_divisor_23 rfl ?_
      refine e_lstore4 dX6_divisor_25 rfl ?_
      refine e_lload dX6_divisor_27 rfl ?_
      refine e_lstore6 dX6_divisor_29 rfl ?_
      refine e_goto (tgt := 9) dX6_divisor_31 rfl ?_
      rw [t_gcd_s hx.1 (by omega)] at hX
      have q1 := Int.emod_nonneg x (b := y) (by omega)
      have q2 := Int.emod_lt_of_pos x (b := y) (by omega)
      exact e_fgs [8, 9] (P_divisor_9 f y (x % y) ⟨hy.1, hy.2⟩ ⟨q1, by omega⟩ (by omega) hX)
theorem C_X6_divisor {h : e_A} {a b : Int} (ha : -9223372036854775807 ≤ a ∧ a < 9223372036854775808) (hb : 0 ≤ b ∧ b < 9223372036854775808) : e_C mX6_divisor [e_j a, e_j b] (h) 0 0 1 (e_ret (e_j (t_gcd a b)) (h)) := by
  refine e_enter (al0 := [e_j a, .retAddr 0, e_j b, .retAddr 0, .retAddr 0, .retAddr 0, .retAddr 0, .retAddr 0, .retAddr 0, .retAddr 0]) (by decide +kernel) rfl (Nat.le_of_ble_eq_true rfl) ?_
  refine e_lload_n dX6_divisor_0 rfl ?_
  refine e_callS1rz dX6_divisor_1 md_J3_abs lk_X6_463 rfl q1593 rfl (Nat.le_of_ble_eq_true rfl) (C_J3_abs ⟨by omega, by omega⟩) ?_
  refine e_lstore4 dX6_divisor_4 rfl ?_
  refine e_lload_n dX6_divisor_6 rfl ?_
  refine e_lstore6 dX6_divisor_7 rfl ?_
  have h1 : 0 ≤ t_abs a ∧ t_abs a < 9223372036854775808 := by unfold t_abs; split <;> omega
  refine P_divisor_9 (b.toNat + 1) (t_abs a) b h1 hb (by omega) ?_
  rw [t_gcd_abs]
  refine e_lload dX6_divisor_34 rfl ?_
  refine e_lreturn dX6_divisor_36 rfl ?_
  exact ⟨rfl, rfl⟩
theorem C_X6_part {h : e_A} {a b w : Int} (ha : -9223372036854775807 ≤ a ∧ a < 9223372036854775808) (hb : 0 < b ∧ b < 9223372036854775808) (hw : e_rg w) : e_C mX6_part [e_j a, e_j b, e_i w] (h) 0 0 2 (e_ret (e_j (t_part a b w)) (h)) := by
  refine e_enter (al0 := [e_j a, .retAddr 0, e_j b, .retAddr 0, e_i w]) (by decide +kernel) rfl (Nat.le_of_ble_eq_true rfl) ?_
  refine e_iload dX6_part_0 rfl ?_
  refine e_if_ne (tgt := 9) dX6_part_2 rfl ⟨by omega, by omega⟩ (fun c1 => ?_) (fun c1 => ?_)
  · refine e_lload_n dX6_part_9 rfl ?_
    refine e_lload_n dX6_part_10 rfl ?_
    refine e_lload_n dX6_part_11 rfl ?_
    refine e_callS2rz dX6_part_12 md_X6_divisor lk_X6_467 rfl q2485 rfl (Nat.le_of_ble_eq_true rfl) (C_X6_divisor ⟨by omega, by omega⟩ ⟨by omega, by omega⟩) ?_
    have g1 : 0 < t_gcd a b ∧ t_gcd a b ≤ b := t_gcd_b hb.1
    refine e_ldivT dX6_part_15 ⟨by omega, by omega⟩ ⟨by omega, by omega⟩ (by omega) ?_
    refine e_lreturn dX6_part_16 rfl ?_
    refine e_rvj ?_ rfl
    unfold t_part
    first
      | rw [if_pos (by omega)]
      | rw [if_neg (by omega)]
  · refine e_lload_n dX6_part_5 rfl ?_
    refine e_goto (tgt := 10) dX6_part_6 rfl ?_
    refine e_lload_n dX6_part_10 rfl ?_
    refine e_lload_n dX6_part_11 rfl ?_
    refine e_callS2rz dX6_part_12 md_X6_divisor lk_X6_467 rfl q2485 rfl (Nat.le_of_ble_eq_true rfl) (C_X6_divisor ⟨by omega, by omega⟩ ⟨by omega, by omega⟩) ?_
    have g1 : 0 < t_gcd a b ∧ t_gcd a b ≤ b := t_gcd_b hb.1
    refine e_ldivT dX6_part_15 ⟨by omega, by omega⟩ ⟨by omega, by omega⟩ (by omega) ?_
    refine e_lreturn dX6_part_16 rfl ?_
    refine e_rvj ?_ rfl
    unfold t_part
    first
      | rw [if_pos (by omega)]
      | rw [if_neg (by omega)]
