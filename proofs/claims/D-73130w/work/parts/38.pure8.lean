/-! THE TWIN'S PURE FORM, EIGHT: two who stay in -/
set_option maxRecDepth 100000
def t_h5 (σ : t_S) : Prop := ∀ w, 0 ≤ w → w < 7 → σ 27 w ≠ -1 → 0 ≤ σ 28 w ∧ σ 28 w ≤ 6
theorem t_ga_h5 {σ : t_S} (ha : t_ask σ) : t_h5 (t_ga σ) := fun w w0 w1 h => ((z_ga ha).1.2.1.2.1 w w0 w1).2.2 h
abbrev t_gbm (a b x y : Int) : Int := t_or (x * 2 ^ a.toNat) (y * 2 ^ b.toNat)
def t_gb0 (a b x y : Int) (σ : t_S) : t_S := s_up (t_is σ) 18 0 (t_andn (t_is σ 18 0) (t_gbm a b x y))
def t_gb (a b x y : Int) (σ : t_S) : t_S := t_ga (t_gb0 a b x y σ)
def t_gv (w : Int) (τ : t_S) : Int := if τ 27 w ≠ -1 then t_grd τ w - 2 * τ 28 w else 0
theorem t_gb_in {σ : t_S} {a b x y : Int} (hz : t_sz σ) (hr : t_okR (σ 1)) : t_ask (t_gb0 a b x y σ) ∧ t_hist (t_gb a b x y σ) ∧ t_h5 (t_gb a b x y σ) ∧ (∀ j, (j < 15 ∨ 32 < j) → t_gb a b x y σ j = σ j) := by
  have h := t_is_ask hz hr
  have ha : t_ask (t_gb0 a b x y σ) := t_ask18 (τ := t_is σ) h (fun _ _ _ => rfl) (t_andn_rg 7 h.2.2.2.2.2.1)
  exact ⟨ha, t_ga_hist ha, t_ga_h5 ha, fun j hj => (t_ga_k ha (by omega)).trans ((s_up_f (by omega)).trans (t_is_k (by omega) (by omega) (by omega) (by omega) (by omega) σ))⟩
theorem t_grd_rg (σ : t_S) (w : Int) : 0 ≤ t_grd σ w ∧ t_grd σ w ≤ 80 := by
  have h := t_sum_rg (g := t_in σ w) (b := 1) 80 (fun i _ _ => by
    have : t_in σ w i = 0 ∨ t_in σ w i = 1 := t_in01 σ w i _
    omega)
  unfold t_grd
  omega
theorem t_gv_rg {σ : t_S} (h : t_h5 σ) {w : Int} (hw : 0 ≤ w ∧ w < 7) : -12 ≤ t_gv w σ ∧ t_gv w σ ≤ 80 := by
  have h1 := t_grd_rg σ w
  unfold t_gv
  split
  · rename_i q
    have := h w hw.1 hw.2 q
    omega
  · omega
abbrev t_two (σ : t_S) (a b : Int) : Prop := t_isW σ a ∧ t_isW σ b ∧ a ≠ b
def v_gets (σ : t_S) (a b x y : Int) : Int := if t_two σ a b ∧ (0 ≤ x ∧ x ≤ 1) ∧ 0 ≤ y ∧ y ≤ 1 then t_gv a (t_gb a b x y σ) else -1000
