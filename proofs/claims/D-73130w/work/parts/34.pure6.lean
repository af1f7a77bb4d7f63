/-! THE TWIN'S PURE FORM, SIX: laws, sets -/
set_option maxRecDepth 100000
def t_pb (l : Int) (σ : t_S) : t_S := t_ga (s_up σ 17 0 l)
theorem t_ask17 {ρ : t_S} {z : Int} (h : t_ask ρ) (hz : 0 ≤ z ∧ z < 4) : t_ask (s_up ρ 17 0 z) := by
  unfold t_ask t_sz t_b01 t_oneR at *
  rw [s_up_eq, s_up_f (k := 17) (k1 := 1) (by decide), s_up_f (k := 17) (k1 := 15) (by decide), s_up_f (k := 17) (k1 := 16) (by decide), s_up_f (k := 17) (k1 := 18) (by decide), s_up_f (k := 17) (k1 := 19) (by decide), s_up_f (k := 17) (k1 := 20) (by decide)]
  obtain ⟨a, b, c, d, -, g⟩ := h
  exact ⟨a, b, c, d, hz, g⟩
theorem t_pb_in {ρ : t_S} {l : Int} (h : t_ask ρ) (hl : 0 ≤ l ∧ l < 4) : (∀ j, (j < 21 ∨ 32 < j) → j ≠ 17 → t_pb l ρ j = ρ j) ∧ t_hist (t_pb l ρ) :=
  ⟨fun j j1 j2 => (t_ga_k (t_ask17 h hl) j1).trans (s_up_f j2), t_ga_hist (t_ask17 h hl)⟩
def v_by (ρ : t_S) (l : Int) : Int := if t_isC ρ ∧ 0 ≤ l ∧ l ≤ 3 then t_pgl (t_pb l ρ) else -2
theorem t_pk17 {σ ρ τ : t_S} (h : t_pk ρ σ) (e : ∀ j, (j < 21 ∨ 32 < j) → j ≠ 17 → τ j = ρ j) : t_pk τ σ := fun k hk => (e k (by unfold t_per at hk; omega) (by unfold t_per at hk; omega)).trans (h k hk)
def t_lwf : Int → t_S × Int → t_S × Int := fun k x => (t_pb x.2 (t_pb k x.1), if t_pgl (t_pb x.2 (t_pb k x.1)) < t_pgl (t_pb k x.1) then k else x.2)
def v_law (ρ : t_S) : Int := if t_isC ρ then (t_it (fun j x => t_lwf (j + 1) x) 3 (ρ, 0)).2 else -2
def t_inW (ρ : t_S) (x : t_S × Int) : Prop := (∀ j, (j < 21 ∨ 32 < j) → j ≠ 17 → x.1 j = ρ j) ∧ t_ask x.1 ∧ 0 ≤ x.2 ∧ x.2 < 4
theorem t_lwf_in {ρ : t_S} {k : Int} {x : t_S × Int} (hk : 0 ≤ k ∧ k < 4) (h : t_inW ρ x) : t_inW ρ (t_lwf k x) := by
  have h1 := t_pb_in h.2.1 hk
  have h2 := t_pb_in h1.2.1 h.2.2
  refine ⟨fun j j1 j2 => (h2.1 j j1 j2).trans ((h1.1 j j1 j2).trans (h.1 j j1 j2)), h2.2.1, ?_⟩
  show 0 ≤ (if _ then k else x.2) ∧ (if _ then k else x.2) < 4
  split
  · exact hk
  · exact h.2.2
theorem t_lwl_in {ρ : t_S} (h : t_ask ρ) (n : Nat) (hn : n ≤ 3) : t_inW ρ (t_it (fun j x => t_lwf (j + 1) x) n (ρ, 0)) :=
  t_it_P (fun _ z => t_inW ρ z) ⟨fun _ _ _ => rfl, h, Int.le_refl 0, (by decide : (0 : Int) < 4)⟩ n (fun i z _ _ hz => t_lwf_in ⟨by omega, by omega⟩ hz)
def t_bg (σ : t_S) : t_S := s_up (t_is σ) 38 0 (t_is σ 18 0)
def t_wo (set : Int) (σ : t_S) : t_S := t_ga (s_up σ 18 0 (t_and (σ 38 0) set))
theorem t_bg_in {σ : t_S} (hz : t_sz σ) (hr : t_okR (σ 1)) : t_ask (t_bg σ) ∧ (0 ≤ t_bg σ 38 0 ∧ t_bg σ 38 0 < 2 ^ 7) ∧ t_pk (t_bg σ) σ ∧ t_bg σ 1 = σ 1 := by
  have h := t_is_ask hz hr
  refine ⟨t_ask_of h (fun j hj => s_up_f (by omega)), ?_, fun k hk => ?_, ?_⟩
  · unfold t_bg; rw [s_up_eq]; exact h.2.2.2.2.2.1
  · unfold t_per at hk
    exact (s_up_f (by omega)).trans (t_is_k (by omega) (by omega) (by omega) (by omega) (by omega) σ)
  · exact (s_up_f (by decide)).trans (t_is_k (by decide) (by decide) (by decide) (by decide) (by decide) σ)
theorem t_wo_in {ρ : t_S} {set : Int} (h : t_ask ρ) (h38 : 0 ≤ ρ 38 0 ∧ ρ 38 0 < 2 ^ 7) : (∀ j, (j < 21 ∨ 32 < j) → j ≠ 18 → t_wo set ρ j = ρ j) ∧ t_hist (t_wo set ρ) ∧ t_ask (s_up ρ 18 0 (t_and (ρ 38 0) set)) := by
  have hr := t_and_rg (a := ρ 38 0) (b := set) h38.1
  have ha := t_ask18 (τ := ρ) (z := t_and (ρ 38 0) set) h (fun _ _ _ => rfl) ⟨hr.1, by omega⟩
  exact ⟨fun j j1 j2 => (t_ga_k ha j1).trans (s_up_f j2), t_ga_hist ha, ha⟩
def v_worth (ρ : t_S) (set : Int) : Int := if t_isC ρ ∧ 0 ≤ set ∧ set ≤ 2 ^ (ρ 1 7).toNat - 1 then t_pgl (t_wo set ρ) else -2
