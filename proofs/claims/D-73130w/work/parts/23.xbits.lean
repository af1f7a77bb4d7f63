/-! BITS: sets of numbers as numbers -/
set_option maxRecDepth 100000
theorem b_tb (a k : Int) (ha : 0 ≤ a) (hk : 0 ≤ k) : e_bt a k = if a.toNat.testBit k.toNat then 1 else 0 := by
  unfold e_bt
  have e1 : a = ((a.toNat : Nat) : Int) := (Int.toNat_of_nonneg ha).symm
  rw [e1, show ((2 : Int) ^ k.toNat) = ((2 ^ k.toNat : Nat) : Int) by rw [Int.natCast_pow]; rfl, ← Int.natCast_ediv, show (2 : Int) = ((2 : Nat) : Int) from rfl, ← Int.natCast_emod, Int.toNat_natCast]
  rw [Nat.testBit_eq_decide_div_mod_eq]
  by_cases q : a.toNat / 2 ^ k.toNat % 2 = 1
  · rw [q, if_pos (by simp)]; rfl
  · have : a.toNat / 2 ^ k.toNat % 2 = 0 := by omega
    rw [this, if_neg (by simp)]; rfl
theorem b_ext {a b : Int} (ha : 0 ≤ a) (hb : 0 ≤ b) (n : Nat) (ha2 : a < 2 ^ n) (hb2 : b < 2 ^ n) (h : ∀ k : Int, 0 ≤ k → k < n → e_bt a k = e_bt b k) : a = b := by
  have h1 : a.toNat = b.toNat := by
    apply Nat.eq_of_testBit_eq
    intro i
    have ea : ((2 ^ n : Nat) : Int) = 2 ^ n := by simp
    by_cases q : i < n
    · have h2 := h (i : Int) (by omega) (by omega)
      rw [b_tb a i ha (by omega), b_tb b i hb (by omega), Int.toNat_natCast] at h2
      cases h3 : a.toNat.testBit i <;> cases h4 : b.toNat.testBit i <;> rw [h3, h4] at h2 <;> first | rfl | exact absurd h2 (by decide)
    · have hle := Nat.pow_le_pow_right (n := 2) (by decide) (show n ≤ i by omega)
      rw [Nat.testBit_lt_two_pow (x := a.toNat) (by omega), Nat.testBit_lt_two_pow (x := b.toNat) (by omega)]
  omega
theorem b_or {a b k : Int} (ha : 0 ≤ a) (hb : 0 ≤ b) (hk : 0 ≤ k) : e_bt (t_or a b) k = if e_bt a k = 1 ∨ e_bt b k = 1 then 1 else 0 := by
  rw [b_tb (t_or a b) k (Int.natCast_nonneg _) hk, b_tb a k ha hk, b_tb b k hb hk]
  unfold t_or
  rw [Int.toNat_natCast, Nat.testBit_or]
  cases a.toNat.testBit k.toNat <;> cases b.toNat.testBit k.toNat <;> simp
theorem b_and {a b k : Int} (ha : 0 ≤ a) (hb : 0 ≤ b) (hk : 0 ≤ k) : e_bt (t_and a b) k = if e_bt a k = 1 ∧ e_bt b k = 1 then 1 else 0 := by
  rw [b_tb (t_and a b) k (Int.natCast_nonneg _) hk, b_tb a k ha hk, b_tb b k hb hk]
  unfold t_and
  rw [Int.toNat_natCast, Nat.testBit_and]
  cases a.toNat.testBit k.toNat <;> cases b.toNat.testBit k.toNat <;> simp
theorem b_andn {a b k : Int} (ha : 0 ≤ a) (hb : 0 ≤ b) (hk : 0 ≤ k) : e_bt (t_andn a b) k = if e_bt a k = 1 ∧ e_bt b k ≠ 1 then 1 else 0 := by
  rw [b_tb (t_andn a b) k (Int.natCast_nonneg _) hk, b_tb a k ha hk, b_tb b k hb hk]
  unfold t_andn
  rw [Int.toNat_natCast, Nat.testBit_xor, Nat.testBit_and]
  cases a.toNat.testBit k.toNat <;> cases b.toNat.testBit k.toNat <;> simp
theorem b_pow {j k : Int} (hj : 0 ≤ j) (hk : 0 ≤ k) : e_bt (2 ^ j.toNat) k = if k = j then 1 else 0 := by
  have e : (2 : Int) ^ j.toNat = ((2 ^ j.toNat : Nat) : Int) := by rw [Int.natCast_pow]; rfl
  rw [e, b_tb _ _ (Int.natCast_nonneg _) hk, Int.toNat_natCast, Nat.testBit_two_pow]
  by_cases q : k = j
  · rw [if_pos q, q]; simp
  · rw [if_neg q, if_neg (by simp; omega)]
theorem b_0 (k : Int) : e_bt 0 k = 0 := by unfold e_bt; simp
