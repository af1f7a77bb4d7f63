/-! THE TWIN'S PURE FORM, TEN: decades drawn -/
set_option maxRecDepth 100000
def t_lcf : Int → Int → Int := fun _ x => (1103515245 * x + 12345) % 2147483648
def t_lcn (seed : Int) (n : Nat) : Int := t_it t_lcf n seed
theorem t_lcn_rg {seed : Int} (hs : 0 ≤ seed ∧ seed < 2147483648) (n : Nat) : 0 ≤ t_lcn seed n ∧ t_lcn seed n < 2147483648 :=
  t_it_P (fun _ x => 0 ≤ x ∧ x < 2147483648) hs n (fun i x _ _ _ => by unfold t_lcf; omega)
def t_fgg (σ : t_S) (seed : Int) : Int → Int := fun w => if t_lcn seed (w + 1).toNat / 65536 % 10 < σ 1 2 then 1 else 0
def t_fog (σ : t_S) (seed : Int) : Int := t_msk (t_fgg σ seed) (σ 1 7).toNat
def t_gd (seed : Int) (σ : t_S) : t_S := t_wo (t_andn (2 ^ (t_bg σ 1 7).toNat - 1) (t_fog (t_bg σ) seed)) (t_bg σ)
