/-! THE TWIN'S PURE FORM, NINE: who rests -/
set_option maxRecDepth 100000
def t_rs1 (a b k : Int) (τ : t_S) : t_S := t_gb a b (k % 2) (k / 2 ^ (1 : Int).toNat) τ
def t_rs2 (a b k : Int) (τ : t_S) : t_S := t_gb a b (1 - k % 2) (k / 2 ^ (1 : Int).toNat) (t_rs1 a b k τ)
def t_rs3 (a b k : Int) (τ : t_S) : t_S := t_gb a b (k % 2) (k / 2 ^ (1 : Int).toNat) (t_rs2 a b k τ)
def t_rs4 (a b k : Int) (τ : t_S) : t_S := t_gb a b (k % 2) (1 - k / 2 ^ (1 : Int).toNat) (t_rs3 a b k τ)
def t_rsf (a b : Int) : Int → t_S × Int → t_S × Int := fun k x =>
  if t_gv a (t_rs1 a b k x.1) < t_gv a (t_rs2 a b k x.1) then (t_rs2 a b k x.1, x.2)
  else if t_gv b (t_rs3 a b k x.1) < t_gv b (t_rs4 a b k x.1) then (t_rs4 a b k x.1, x.2) else (t_rs4 a b k x.1, x.2 + 2 ^ k.toNat)
def t_rsl (a b : Int) (σ : t_S) : t_S × Int := t_it (t_rsf a b) 4 (σ, 0)
def v_rests (σ : t_S) (a b : Int) : Int := if t_two σ a b then (t_rsl a b σ).2 else -2
theorem t_rs_in {σ : t_S} (a b k : Int) (hz : t_sz σ) (hr : t_okR (σ 1)) : (t_h5 (t_rs1 a b k σ) ∧ t_h5 (t_rs2 a b k σ) ∧ t_h5 (t_rs3 a b k σ) ∧ t_h5 (t_rs4 a b k σ)) ∧ ((t_sz (t_rs1 a b k σ) ∧ t_okR (t_rs1 a b k σ 1)) ∧ (t_sz (t_rs2 a b k σ) ∧ t_okR (t_rs2 a b k σ 1)) ∧ t_sz (t_rs3 a b k σ) ∧ t_okR (t_rs3 a b k σ 1)) ∧ (∀ j, (j < 15 ∨ 32 < j) → t_rs2 a b k σ j = σ j) ∧ ∀ j, (j < 15 ∨ 32 < j) → t_rs4 a b k σ j = σ j := by
  have step : ∀ {ρ : t_S} (x y : Int), t_sz ρ → t_okR (ρ 1) → t_h5 (t_gb a b x y ρ) ∧ (t_sz (t_gb a b x y ρ) ∧ t_okR (t_gb a b x y ρ 1)) ∧ ∀ j, (j < 15 ∨ 32 < j) → t_gb a b x y ρ j = ρ j := by
    intro ρ x y h1 h2
    have h := t_gb_in (a := a) (b := b) (x := x) (y := y) h1 h2
    have e1 := h.2.2.2 1 (by omega)
    exact ⟨h.2.2.1, ⟨by unfold t_sz; rw [e1]; exact h1, by rw [e1]; exact h2⟩, h.2.2.2⟩
  have s1 := step (ρ := σ) (k % 2) (k / 2 ^ (1 : Int).toNat) hz hr
  have s2 := step (ρ := t_rs1 a b k σ) (1 - k % 2) (k / 2 ^ (1 : Int).toNat) s1.2.1.1 s1.2.1.2
  have s3 := step (ρ := t_rs2 a b k σ) (k % 2) (k / 2 ^ (1 : Int).toNat) s2.2.1.1 s2.2.1.2
  have s4 := step (ρ := t_rs3 a b k σ) (k % 2) (1 - k / 2 ^ (1 : Int).toNat) s3.2.1.1 s3.2.1.2
  exact ⟨⟨s1.1, s2.1, s3.1, s4.1⟩, ⟨s1.2.1, s2.2.1, s3.2.1⟩, fun j hj => (s2.2.2 j hj).trans (s1.2.2 j hj), fun j hj => (s4.2.2 j hj).trans ((s3.2.2 j hj).trans ((s2.2.2 j hj).trans (s1.2.2 j hj)))⟩
def t_inR (σ : t_S) (i : Int) (x : t_S × Int) : Prop := (∀ j, (j < 15 ∨ 32 < j) → x.1 j = σ j) ∧ 0 ≤ x.2 ∧ x.2 < 2 ^ i.toNat
theorem t_rsf_in {σ : t_S} {a b k : Int} {x : t_S × Int} (hz : t_sz σ) (hr : t_okR (σ 1)) (hk : 0 ≤ k) (h : t_inR σ k x) : t_inR σ (k + 1) (t_rsf a b k x) := by
  have e1 := h.1 1 (by omega)
  have hi := t_rs_in (σ := x.1) a b k (by unfold t_sz; rw [e1]; exact hz) (by rw [e1]; exact hr)
  have hp := e_pow_s hk
  have h2 := h.2
  unfold t_rsf
  split
  · exact ⟨fun j hj => (hi.2.2.1 j hj).trans (h.1 j hj), by show 0 ≤ x.2; omega, by show x.2 < _; omega⟩
  · split
    · exact ⟨fun j hj => (hi.2.2.2 j hj).trans (h.1 j hj), by show 0 ≤ x.2; omega, by show x.2 < _; omega⟩
    · exact ⟨fun j hj => (hi.2.2.2 j hj).trans (h.1 j hj), by show 0 ≤ x.2 + _; omega, by show x.2 + _ < _; omega⟩
theorem t_rsl_in {σ : t_S} {a b : Int} (hz : t_sz σ) (hr : t_okR (σ 1)) (n : Nat) : t_inR σ n (t_it (t_rsf a b) n (σ, 0)) :=
  t_it_P (fun i z => t_inR σ i z) ⟨fun _ _ => rfl, Int.le_refl 0, (by decide : (0 : Int) < 2 ^ (0 : Int).toNat)⟩ n (fun i z _ _ hz2 => t_rsf_in hz hr (by omega) hz2)
