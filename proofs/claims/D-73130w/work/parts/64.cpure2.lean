/-! THE COMPONENT'S WALKS: free cells -/
set_option maxRecDepth 100000
abbrev x_free (ρ : t_S) (o : Int → Int) (e : Int) : Prop := e ≠ -1 ∧ ρ 15 e = 0 ∧ o e = 0
abbrev x_fg (ρ : t_S) (o : Int → Int) (c : Int) : Int → Int := fun d => if x_free ρ o (t_bes ρ c d) then 1 else 0
theorem x_anyg_1 {g : Int → Int} {i : Int} (h0 : 0 ≤ i) (h1 : g i = 1) : ∀ n : Nat, i < n → t_anyg g n = 1
  | 0, h => by omega
  | n + 1, h => by
    show (if t_anyg g n = 1 then 1 else g (n : Int)) = 1
    by_cases q : i = n
    · rw [← q, h1]; split <;> rfl
    · rw [if_pos (x_anyg_1 h0 h1 n (by omega))]
theorem x_anyg_0 {g : Int → Int} {i : Int} (h0 : 0 ≤ i) (h : t_anyg g i.toNat = 0) (h1 : g i = 0) : t_anyg g (i + 1).toNat = 0 := by
  rw [t_anyg_s g h0, if_neg (by omega), h1]
theorem x_fg_1 {ρ : t_S} {o : Int → Int} {c d : Int} (h : x_free ρ o (t_bes ρ c d)) : x_fg ρ o c d = 1 := if_pos h
theorem x_fg_0 {ρ : t_S} {o : Int → Int} {c d : Int} (h : ¬ x_free ρ o (t_bes ρ c d)) : x_fg ρ o c d = 0 := if_neg h
/-- a cell or none -/
def x_cn (c : Int) : Prop := c = -1 ∨ x_c8 c
theorem x_cn_sp {c : Int} (h : x_cn c) : (-1 ≤ x_sp c ∧ x_sp c < 64) ∧ (x_sp c = -1 ↔ c = -1) := by
  rcases h with q | q
  · subst q; exact ⟨by decide, by decide⟩
  · have := x_sp_rg q
    have := q.1
    constructor <;> omega
theorem x_cn_bt {g : Int → Int} {c : Int} (hg : x_g01 g) (h : x_cn c) (h1 : c ≠ -1) : e_bt (x_bs g) (x_sp c) = g c ∧ (g c = 0 ∨ g c = 1) := by
  rcases h with q | q
  · exact absurd q h1
  · have hs := x_sp_rg q
    rw [x_bs_bt hg ⟨hs.1, hs.2.1⟩, hs.2.2]
    exact ⟨rfl, hg c q⟩
theorem x_bes_cn {σ : t_S} (hz : t_sz σ) (c d : Int) : x_cn (t_bes σ c d) := by
  obtain ⟨-, h3, h4, -⟩ := hz
  unfold x_cn x_c8 t_bes
  split
  · right; omega
  · left; rfl
