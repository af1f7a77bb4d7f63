/-! THE COMPONENT: factorials, divisors, powers (printed by tx22.py) -/
set_option maxRecDepth 100000
theorem P_factorial {h : e_A} {n : Int} (hn : -1000 ≤ n ∧ n ≤ 7) {d : Nat} (hrec : 2 ≤ n → ∃ d1, d1 + 1 = d ∧ e_C mX0_factorial [e_i (n - 1)] h 0 0 d1 (e_ret (e_j (t_fac (n - 1))) h)) : e_C mX0_factorial [e_i n] (h) 0 0 d (e_ret (e_j (t_fac n)) (h)) := by
  refine e_enter (al0 := [e_i n]) (by decide +kernel) rfl (Nat.le_of_ble_eq_true rfl) ?_
  refine e_iload_n dX0_factorial_0 rfl ?_
  refine e_iconst dX0_factorial_1 ?_
  refine e_icmp_ge (tgt := 9) dX0_factorial_2 rfl ⟨by omega, by omega⟩ ⟨by omega, by omega⟩ (fun c1 => ?_) (fun c1 => ?_)
  · obtain ⟨d1, hd1, hC1⟩ := hrec (by omega)
    refine e_iload_n dX0_factorial_9 rfl ?_
    refine e_i2l dX0_factorial_10 ⟨by omega, by omega⟩ ?_
    refine e_iload_n dX0_factorial_11 rfl ?_
    refine e_iconst dX0_factorial_12 ?_
    refine e_isub dX0_factorial_13 ?_
    refine e_callS1rz dX0_factorial_14 md_X0_factorial lk_X0_403 rfl q1584 rfl (Nat.le_of_eq hd1) (hC1) ?_
    refine e_lmul dX0_factorial_17 ?_
    refine e_lreturn dX0_factorial_18 rfl ?_
    refine e_rvj ?_ rfl
    first
      | exact t_fac_s (by omega)
      | exact (t_fac_1 (by omega)).symm
  · refine e_lconst (z := 1) dX0_factorial_5 rfl ?_
    refine e_goto (tgt := 18) dX0_factorial_6 rfl ?_
    refine e_lreturn dX0_factorial_18 rfl ?_
    refine e_rvj ?_ rfl
    first
      | exact t_fac_s (by omega)
      | exact (t_fac_1 (by omega)).symm
theorem C_X0_factorial : ∀ (m : Nat) {h : e_A} {n : Int}, (-1000 ≤ n ∧ n ≤ 7) → n ≤ m + 1 → e_C mX0_factorial [e_i n] h 0 0 m (e_ret (e_j (t_fac n)) h)
  | 0, h, n, hn, hm => P_factorial hn (fun q => by exfalso; omega)
  | m + 1, h, n, hn, hm => P_factorial hn (fun q => ⟨m, rfl, C_X0_factorial m ⟨by omega, by omega⟩ (by omega)⟩)
theorem C_X0_fac {h : e_A} {n : Int} (hn : -1000 ≤ n ∧ n ≤ 7) : e_C mX0_factorial [e_i n] h 0 0 6 (e_ret (e_j (t_fac n)) h) := C_X0_factorial 6 hn (by omega)
theorem t_gcd_a (a : Int) : t_gcd a 0 = t_abs a := by
  unfold t_gcd t_abs
  rw [Int.natAbs_zero, Nat.gcd_zero_right]
  split <;> omega
theorem t_gcd_t {a b : Int} : t_gcd b (a.tmod b) = t_gcd a b := by
  unfold t_gcd
  rw [Int.natAbs_tmod, Nat.gcd_comm b.natAbs, ← Nat.gcd_rec, Nat.gcd_comm]
theorem t_tmod_lt {a b : Int} (hb : b ≠ 0) : (a.tmod b).natAbs < b.natAbs := by
  rw [Int.natAbs_tmod]
  exact Nat.mod_lt _ (by omega)
theorem t_tmod_half {b r : Int} (hr : r ≠ 0) (h : r.natAbs < b.natAbs) : 2 * (b.tmod r).natAbs < b.natAbs := by
  rw [Int.natAbs_tmod]
  have h1 := Nat.mod_lt b.natAbs (show 0 < r.natAbs by omega)
  have h2 := Nat.div_add_mod b.natAbs r.natAbs
  have h3 : 1 ≤ b.natAbs / r.natAbs := (Nat.le_div_iff_mul_le (by omega)).mpr (by omega)
  have h4 : r.natAbs * 1 ≤ r.natAbs * (b.natAbs / r.natAbs) := Nat.mul_le_mul_left _ h3
  omega
theorem P_common {h : e_A} {a b : Int} (ha : -9223372036854775807 ≤ a ∧ a < 9223372036854775808) (hb : -9223372036854775807 ≤ b ∧ b < 9223372036854775808) {d1 : Nat} (hrec : b ≠ 0 → e_C mX0_common [e_j b, e_j (a.tmod b)] h 0 0 d1 (e_ret (e_j (t_gcd b (a.tmod b))) h)) : e_C mX0_common [e_j a, e_j b] (h) 0 0 (d1 + 1) (e_ret (e_j (t_gcd a b)) (h)) := by
  refine e_enter (al0 := [e_j a, .retAddr 0, e_j b, .retAddr 0]) (by decide +kernel) rfl (Nat.le_of_ble_eq_true rfl) ?_
  refine e_lload_n dX0_common_0 rfl ?_
  refine e_lconst (z := 0) dX0_common_1 rfl ?_
  refine e_lcmp_ne (tgt := 13) dX0_common_2 dX0_common_3 rfl ⟨by omega, by omega⟩ ⟨by omega, by omega⟩ (fun c1 => ?_) (fun c1 => ?_)
  · refine e_lload_n dX0_common_13 rfl ?_
    refine e_lload_n dX0_common_14 rfl ?_
    refine e_lload_n dX0_common_15 rfl ?_
    refine e_lremT dX0_common_16 ⟨by omega, by omega⟩ ⟨by omega, by omega⟩ (by omega) ?_
    refine e_callS2rz dX0_common_17 md_X0_common lk_X0_410 rfl q1590 rfl (by omega) ((hrec (by omega))) ?_
    refine e_lreturn dX0_common_20 rfl ?_
    refine e_rvj ?_ rfl
    first
      | exact t_gcd_t
      | (rw [show b = 0 by omega]; exact (t_gcd_a a).symm)
  · refine e_lload_n dX0_common_6 rfl ?_
    refine e_callS1rz dX0_common_7 md_J3_abs lk_X0_406 rfl q1593 rfl (by omega) (C_J3_abs ⟨by omega, by omega⟩) ?_
    refine e_goto (tgt := 20) dX0_common_10 rfl ?_
    refine e_lreturn dX0_common_20 rfl ?_
    refine e_rvj ?_ rfl
    first
      | exact t_gcd_t
      | (rw [show b = 0 by omega]; exact (t_gcd_a a).symm)
theorem C_X0_common : ∀ (k : Nat) {h : e_A} {a b : Int}, (-9223372036854775807 ≤ a ∧ a < 9223372036854775808) → (-9223372036854775807 ≤ b ∧ b < 9223372036854775808) → b.natAbs < 2 ^ k → e_C mX0_common [e_j a, e_j b] h 0 0 (2 * k + 1) (e_ret (e_j (t_gcd a b)) h)
  | 0, h, a, b, ha, hb, hk => P_common (d1 := 0) ha hb (fun q => by exfalso; have := Int.natAbs_pos.mpr q; omega)
  | k + 1, h, a, b, ha, hb, hk => P_common (d1 := 2 * k + 2) ha hb (fun q => by
      have h1 := t_tmod_lt (a := a) q
      exact P_common (d1 := 2 * k + 1) hb ⟨by omega, by omega⟩ (fun q2 => by
        have h2 := t_tmod_half q2 h1
        have h3 := t_tmod_lt (a := b) q2
        rw [Nat.pow_succ] at hk
        exact C_X0_common k ⟨by omega, by omega⟩ ⟨by omega, by omega⟩ (by omega)))
theorem C_X0_com {h : e_A} {a b : Int} (ha : -9223372036854775807 ≤ a ∧ a < 9223372036854775808) (hb : 0 < b ∧ b ≤ 10000000) : e_C mX0_common [e_j a, e_j b] h 0 0 49 (e_ret (e_j (t_gcd a b)) h) := C_X0_common 24 ha ⟨by omega, by omega⟩ (by omega)
theorem C_X0_part {h : e_A} {a b w : Int} (ha : -9223372036854775807 ≤ a ∧ a < 9223372036854775808) (hb : 0 < b ∧ b ≤ 10000000) (hw : e_rg w) : e_C mX0_part [e_j a, e_j b, e_i w] (h) 0 0 50 (e_ret (e_j (t_part a b w)) (h)) := by
  refine e_enter (al0 := [e_j a, .retAddr 0, e_j b, .retAddr 0, e_i w]) (by decide +kernel) rfl (Nat.le_of_ble_eq_true rfl) ?_
  refine e_iload dX0_part_0 rfl ?_
  refine e_if_ne (tgt := 9) dX0_part_2 rfl ⟨by omega, by omega⟩ (fun c1 => ?_) (fun c1 => ?_)
  · refine e_lload_n dX0_part_9 rfl ?_
    refine e_lload_n dX0_part_10 rfl ?_
    refine e_lload_n dX0_part_11 rfl ?_
    refine e_callS2rz dX0_part_12 md_X0_common lk_X0_410 rfl q1590 rfl (Nat.le_of_ble_eq_true rfl) (C_X0_com ⟨by omega, by omega⟩ ⟨by omega, by omega⟩) ?_
    have g1 : 0 < t_gcd a b ∧ t_gcd a b ≤ b := t_gcd_b hb.1
    refine e_ldivT dX0_part_15 ⟨by omega, by omega⟩ ⟨by omega, by omega⟩ (by omega) ?_
    refine e_lreturn dX0_part_16 rfl ?_
    refine e_rvj ?_ rfl
    unfold t_part
    first
      | rw [if_pos (by omega)]
      | rw [if_neg (by omega)]
  · refine e_lload_n dX0_part_5 rfl ?_
    refine e_goto (tgt := 10) dX0_part_6 rfl ?_
    refine e_lload_n dX0_part_10 rfl ?_
    refine e_lload_n dX0_part_11 rfl ?_
    refine e_callS2rz dX0_part_12 md_X0_common lk_X0_410 rfl q1590 rfl (Nat.le_of_ble_eq_true rfl) (C_X0_com ⟨by omega, by omega⟩ ⟨by omega, by omega⟩) ?_
    have g1 : 0 < t_gcd a b ∧ t_gcd a b ≤ b := t_gcd_b hb.1
    refine e_ldivT dX0_part_15 ⟨by omega, by omega⟩ ⟨by omega, by omega⟩ (by omega) ?_
    refine e_lreturn dX0_part_16 rfl ?_
    refine e_rvj ?_ rfl
    unfold t_part
    first
      | rw [if_pos (by omega)]
      | rw [if_neg (by omega)]
theorem P_power {h : e_A} {a n : Int} (hn : 0 ≤ n ∧ n ≤ 1000) {d : Nat} (hrec : 1 ≤ n → ∃ d1, d1 + 1 = d ∧ e_C mX0_power [e_j a, e_i (n - 1)] h 0 0 d1 (e_ret (e_j (a ^ (n - 1).toNat)) h)) : e_C mX0_power [e_j a, e_i n] (h) 0 0 d (e_ret (e_j (a ^ n.toNat)) (h)) := by
  refine e_enter (al0 := [e_j a, .retAddr 0, e_i n]) (by decide +kernel) rfl (Nat.le_of_ble_eq_true rfl) ?_
  refine e_iload_n dX0_power_0 rfl ?_
  refine e_if_ne (tgt := 8) dX0_power_1 rfl ⟨by omega, by omega⟩ (fun c1 => ?_) (fun c1 => ?_)
  · obtain ⟨d1, hd1, hC1⟩ := hrec (by omega)
    refine e_lload_n dX0_power_8 rfl ?_
    refine e_lload_n dX0_power_9 rfl ?_
    refine e_iload_n dX0_power_10 rfl ?_
    refine e_iconst dX0_power_11 ?_
    refine e_isub dX0_power_12 ?_
    refine e_callS2rz dX0_power_13 md_X0_power lk_X0_433 rfl q1624 rfl (Nat.le_of_eq hd1) (hC1) ?_
    refine e_lmul dX0_power_16 ?_
    refine e_lreturn dX0_power_17 rfl ?_
    refine e_rvj ?_ rfl
    first
      | (rw [show n.toNat = 0 by omega, Int.pow_zero])
      | (rw [show n.toNat = (n - 1).toNat + 1 by omega, Int.pow_succ, Int.mul_comm])
  · refine e_lconst (z := 1) dX0_power_4 rfl ?_
    refine e_goto (tgt := 17) dX0_power_5 rfl ?_
    refine e_lreturn dX0_power_17 rfl ?_
    refine e_rvj ?_ rfl
    first
      | (rw [show n.toNat = 0 by omega, Int.pow_zero])
      | (rw [show n.toNat = (n - 1).toNat + 1 by omega, Int.pow_succ, Int.mul_comm])
theorem C_X0_power : ∀ (m : Nat) {h : e_A} {a n : Int}, (0 ≤ n ∧ n ≤ 1000) → n ≤ m → e_C mX0_power [e_j a, e_i n] h 0 0 m (e_ret (e_j (a ^ n.toNat)) h)
  | 0, h, a, n, hn, hm => P_power hn (fun q => by exfalso; omega)
  | m + 1, h, a, n, hn, hm => P_power hn (fun q => ⟨m, rfl, C_X0_power m ⟨by omega, by omega⟩ (by omega)⟩)
theorem C_X0_pow {h : e_A} {a n : Int} (hn : 0 ≤ n ∧ n ≤ 7) : e_C mX0_power [e_j a, e_i n] h 0 0 7 (e_ret (e_j (a ^ n.toNat)) h) := C_X0_power 7 ⟨by omega, by omega⟩ (by omega)
