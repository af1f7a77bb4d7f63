/-! THE COMPONENT: counting cells -/
set_option maxRecDepth 100000
theorem x_sum_ce {g : Int → Int} (h : ∀ c : Int, 0 ≤ c → c < 80 → ¬ x_c8 c → g c = 0) : ∀ a : Nat, a ≤ 8 → t_sum g (10 * a) = t_sum (fun s => g (x_ce s)) (8 * a)
  | 0, _ => rfl
  | a + 1, ha => by
    have ih := x_sum_ce h a (by omega)
    have s10 : t_sum g (10 * (a + 1)) = t_sum g (10 * a) + g (10 * a) + g (10 * a + 1) + g (10 * a + 2) + g (10 * a + 3) + g (10 * a + 4) + g (10 * a + 5) + g (10 * a + 6) + g (10 * a + 7) + g (10 * a + 8) + g (10 * a + 9) := rfl
    have s8 : ∀ u : Int → Int, t_sum u (8 * (a + 1)) = t_sum u (8 * a) + u (8 * a) + u (8 * a + 1) + u (8 * a + 2) + u (8 * a + 3) + u (8 * a + 4) + u (8 * a + 5) + u (8 * a + 6) + u (8 * a + 7) := fun u => rfl
    have c : ∀ d : Int, 0 ≤ d → d < 8 → x_ce (8 * a + d) = 10 * a + d := fun d d0 d1 => by unfold x_ce; rw [if_neg (by omega)]; omega
    have c0 := c 0 (by omega) (by omega)
    rw [Int.add_zero, Int.add_zero] at c0
    rw [s10, s8, ih, h (10 * a + 8) (by omega) (by omega) (fun q => by have := q.2.2; omega), h (10 * a + 9) (by omega) (by omega) (fun q => by have := q.2.2; omega), c0, c 1 (by omega) (by omega), c 2 (by omega) (by omega), c 3 (by omega) (by omega), c 4 (by omega) (by omega), c 5 (by omega) (by omega), c 6 (by omega) (by omega), c 7 (by omega) (by omega), Int.add_zero, Int.add_zero]
theorem x_bsum_s (s : Int) : ∀ n : Nat, e_bsum s n = t_sum (e_bt s) n
  | 0 => rfl
  | n + 1 => by
    show e_bsum s n + _ = t_sum (e_bt s) n + _
    rw [x_bsum_s s n]
theorem x_bsum_bs {g : Int → Int} (hg : x_g01 g) (h : ∀ c : Int, 0 ≤ c → c < 80 → ¬ x_c8 c → g c = 0) : e_bsum (x_bs g) 64 = t_sum g 80 := by
  rw [x_bsum_s, show (80 : Nat) = 10 * 8 from rfl, x_sum_ce h 8 (Nat.le_refl _)]
  exact x_sum_cg _ (fun i i0 i1 => x_bs_bt hg ⟨i0, by omega⟩)
