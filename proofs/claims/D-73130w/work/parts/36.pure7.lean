/-! THE TWIN'S PURE FORM, SEVEN: factorials, divisors -/
set_option maxRecDepth 100000
def t_facf : Int → Int → Int := fun j v => v * (j + 2)
def t_fac (n : Int) : Int := t_it t_facf (n - 1).toNat 1
theorem t_fac_rg : ∀ n : Int, 0 ≤ n → n ≤ 7 → 1 ≤ t_fac n ∧ t_fac n ≤ 5040 := by
  intro n h0 h1
  have h : n = 0 ∨ n = 1 ∨ n = 2 ∨ n = 3 ∨ n = 4 ∨ n = 5 ∨ n = 6 ∨ n = 7 := by omega
  rcases h with rfl | rfl | rfl | rfl | rfl | rfl | rfl | rfl <;> decide
def t_gcd (a b : Int) : Int := ((Nat.gcd a.natAbs b.natAbs : Nat) : Int)
theorem t_gcd_s {x y : Int} (hx : 0 ≤ x) (hy : 0 < y) : t_gcd x y = t_gcd y (x % y) := by
  unfold t_gcd
  have e : (x % y).natAbs = x.natAbs % y.natAbs := by
    have h1 : x = (x.natAbs : Int) := by omega
    have h2 : y = (y.natAbs : Int) := by omega
    rw [h1, h2]
    simp only [Int.natAbs_natCast]
    rw [← Int.natCast_emod, Int.natAbs_natCast]
  rw [e, Nat.gcd_comm x.natAbs, Nat.gcd_rec, Nat.gcd_comm]
theorem t_gcd_0 {x : Int} (hx : 0 ≤ x) : t_gcd x 0 = x := by
  unfold t_gcd
  simp
  omega
def t_abs (a : Int) : Int := if a < 0 then -a else a
theorem t_gcd_abs (a b : Int) : t_gcd (t_abs a) b = t_gcd a b := by
  unfold t_gcd t_abs
  split
  · rw [Int.natAbs_neg]
  · rfl
def t_part (a b w : Int) : Int := Int.tdiv (if w = 0 then a else b) (t_gcd a b)
theorem t_gcd_b {a b : Int} (hb : 0 < b) : 0 < t_gcd a b ∧ t_gcd a b ≤ b := by
  unfold t_gcd
  have h1 := Nat.gcd_pos_of_pos_right a.natAbs (show 0 < b.natAbs by omega)
  have h2 := Nat.gcd_le_right a.natAbs (show 0 < b.natAbs by omega)
  omega
