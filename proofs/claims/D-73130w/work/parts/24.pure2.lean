/-! THE TWIN'S PURE FORM, TWO: what the questions stand on -/
set_option maxRecDepth 100000
def t_af (σ : t_S) : t_S := t_ga (t_is σ)
def t_h1 (σ : t_S) : Prop := ∀ y c, 0 ≤ y → y ≤ σ 1 0 → 0 ≤ c → c < 80 → (σ 30 (80 * y + c) = 0 ∨ σ 30 (80 * y + c) = 1) ∧ (0 ≤ σ 31 (80 * y + c) ∧ σ 31 (80 * y + c) < 2 ^ 4) ∧ (∀ d, 0 ≤ d → d < 4 → e_bt (σ 31 (80 * y + c)) d = 1 → t_bes σ c d ≠ -1 ∧ e_bt (σ 31 (80 * y + t_bes σ c d)) ((d + 2) % 4) = 1 ∧ σ 30 (80 * y + c) = 1)
def t_h2 (σ : t_S) : Prop := ∀ y h, 0 ≤ y → y ≤ σ 1 0 → 0 ≤ h → h < 6 → -1 ≤ σ 32 (6 * y + h) ∧ σ 32 (6 * y + h) < 80
def t_h3 (σ : t_S) : Prop := ∀ w, 0 ≤ w → w < 7 → (-1 ≤ σ 27 w ∧ σ 27 w ≤ 40) ∧ ∀ k, 0 ≤ k → k ≤ σ 27 w → 0 ≤ σ 26 (41 * w + k) ∧ σ 26 (41 * w + k) < 80
def t_h4 (σ : t_S) : Prop := ∀ h, 0 ≤ h → h < 6 → 0 ≤ σ 29 h ∧ σ 29 h ≤ 91
def t_hist (σ : t_S) : Prop := t_ask σ ∧ t_h1 σ ∧ t_h2 σ ∧ t_h3 σ ∧ t_h4 σ
/-- what stays -/
def t_per (k : Nat) : Prop := k < 6 ∨ k = 12 ∨ k = 13 ∨ k = 42 ∨ k = 43 ∨ k = 44
def t_pk (σ' σ : t_S) : Prop := ∀ k, t_per k → σ' k = σ k
theorem t_is_ask {σ : t_S} (hz : t_sz σ) (hr : t_okR (σ 1)) : t_ask (t_is σ) := by
  have h7 := hz.2.2.2.2.2.1
  have e1 : t_is σ 1 = σ 1 := t_is_k (by decide) (by decide) (by decide) (by decide) (by decide) σ
  have n4 : ∀ {k : Nat} (n : Nat) (τ : t_S), k ≠ 16 → t_it t_is4f n τ k = τ k := fun n τ h => t_it_k (f := t_is4f) (fun _ _ => s_up_f h) _ _
  have n3 : ∀ {k : Nat} (n : Nat) (τ : t_S), k ≠ 15 → k ≠ 18 → t_it t_is3f n τ k = τ k := fun n τ h h2 => t_it_k (f := t_is3f) (t_is3f_k h h2) _ _
  have n2 : ∀ {k : Nat} (n : Nat) (τ : t_S), k ≠ 15 → t_it t_is2f n τ k = τ k := fun n τ h => t_it_k (f := t_is2f) (fun _ _ => s_up_f h) _ _
  have n1 : ∀ {k : Nat} (n : Nat) (τ : t_S), k ≠ 15 → t_it t_is1f n τ k = τ k := fun n τ h => t_it_k (f := t_is1f) (fun _ _ => s_up_f h) _ _
  have b1 : t_b01 (t_is1 σ) 15 := by
    have key : ∀ n : Nat, ∀ c : Int, 0 ≤ c → c < n → t_it t_is1f n (t_is0 σ) 15 c = 0 := by
      intro n
      refine t_it_P (fun n (τ : t_S) => ∀ c : Int, 0 ≤ c → c < n → τ 15 c = 0) (fun c a b => by omega) n (fun i y i0 _ hy => ?_)
      intro c c0 c1
      unfold t_is1f
      by_cases q : c = i
      · subst q; rw [s_up_eq]
      · rw [s_up_j q]; exact hy c c0 (by omega)
    intro c c0 c1
    exact Or.inl (key 80 c c0 c1)
  have up01 : ∀ (τ : t_S) (j z : Int), (z = 0 ∨ z = 1) → t_b01 τ 15 → t_b01 (s_up τ 15 j z) 15 := by
    intro τ j z hz h c c0 c1
    unfold s_up
    split
    · exact hz
    · exact h c c0 c1
  have b2 : t_b01 (t_is2 σ) 15 := t_it_P (fun _ (τ : t_S) => t_b01 τ 15) b1 _ (fun i y _ _ h => up01 y _ 1 (Or.inr rfl) h)
  have b3 : t_b01 (t_is3 σ) 15 := t_it_P (fun _ (τ : t_S) => t_b01 τ 15) b2 _ (fun i y _ _ h => by
    unfold t_is3f
    split
    · exact up01 y _ 0 (Or.inl rfl) h
    · unfold t_b01; rw [s_up_f (by decide)]; exact h)
  refine ⟨by unfold t_sz; rw [e1]; exact hz, by rw [e1]; exact hr, ?_, ?_, ?_, ?_, ?_, ?_⟩
  · unfold t_is t_b01; rw [n4 _ _ (by decide)]; exact b3
  · have e3 : t_is3 σ 1 = σ 1 := t_is3_k (by decide) (by decide) (by decide) (by decide) σ
    have key : ∀ n : Nat, ∀ c : Int, 0 ≤ c → c < n → t_it t_is4f n (t_is3 σ) 16 c = σ 1 (28 + 13 * c + 1) := by
      intro n
      refine (t_it_P (f := t_is4f) (x := t_is3 σ) (fun n (τ : t_S) => (∀ c : Int, 0 ≤ c → c < n → τ 16 c = σ 1 (28 + 13 * c + 1)) ∧ τ 1 = σ 1) ⟨fun c a b => by omega, e3⟩ n (fun i y i0 _ hy => ?_)).1
      refine ⟨fun c c0 c1 => ?_, (s_up_f (by decide)).trans hy.2⟩
      unfold t_is4f
      by_cases q : c = i
      · subst q; rw [s_up_eq]; exact congrFun hy.2 _
      · rw [s_up_j q]; exact hy.1 c c0 (by omega)
    intro w w0 w1
    unfold t_is
    rw [key 7 w w0 w1]
    exact hr.2.2.2.2.2.1 w w0 w1
  · have e : t_is σ 17 0 = σ 1 1 := by
      unfold t_is t_is3 t_is2 t_is1
      rw [n4 _ _ (by decide), n3 _ _ (by decide) (by decide), n2 _ _ (by decide), n1 _ _ (by decide)]
      unfold t_is0
      rw [s_up_k (by decide), s_up_k (by decide), s_up_eq]
    rw [e]
    exact hr.2.2.2.2.2.2.1
  · unfold t_is
    rw [n4 _ _ (by decide)]
    exact t_is3_18 h7 _
  · have e : t_is σ 19 0 = -1 := by
      unfold t_is t_is3 t_is2 t_is1
      rw [n4 _ _ (by decide), n3 _ _ (by decide) (by decide), n2 _ _ (by decide), n1 _ _ (by decide)]
      unfold t_is0
      rw [s_up_eq]
    rw [e]
    exact ⟨by decide, by decide⟩
  · left
    unfold t_is t_is3 t_is2 t_is1
    rw [n4 _ _ (by decide), n3 _ _ (by decide) (by decide), n2 _ _ (by decide), n1 _ _ (by decide)]
    unfold t_is0
    rw [s_up_eq]
theorem t_ga_k {σ : t_S} (ha : t_ask σ) {j : Nat} (h : j < 21 ∨ 32 < j) : t_ga σ j = σ j := (t_ga_in ha _).1 j h
theorem t_af_k {σ : t_S} (hz : t_sz σ) (hr : t_okR (σ 1)) {j : Nat} (h : j < 15 ∨ 32 < j) : t_af σ j = σ j :=
  (t_ga_k (t_is_ask hz hr) (by omega)).trans (t_is_k (by omega) (by omega) (by omega) (by omega) (by omega) σ)
theorem t_af_pk {σ : t_S} (hz : t_sz σ) (hr : t_okR (σ 1)) : t_pk (t_af σ) σ := fun k hk => t_af_k hz hr (by unfold t_per at hk; omega)
theorem t_ga_hist {σ : t_S} (ha : t_ask σ) : t_hist (t_ga σ) := by
  have h := (z_ga ha).1
  have e := z_h ha
  obtain ⟨hi, hg, hu, hn, hh⟩ := h
  have h0 := ha.1.1
  refine ⟨e.1, fun y c y0 y1 c0 c1 => ?_, fun y h y0 y1 a b => ?_, fun w w0 w1 => ?_, fun h a b => ?_⟩
  · rw [e.2] at y1
    obtain ⟨p, q, r, -⟩ := hh.1 y c y0 (by omega) c0 c1
    exact ⟨p, q, r⟩
  · rw [e.2] at y1
    exact hh.2 y h y0 (by omega) a b
  · obtain ⟨p, q, -⟩ := hg.2.1 w w0 w1
    refine ⟨p, fun k k0 k1 => ?_⟩
    have := z_okC_rg e.1.1 (q k k0 k1)
    exact ⟨this.1, this.2.1⟩
  · have := hg.2.2 h a b
    exact ⟨this.1, by omega⟩
theorem t_af_hist {σ : t_S} (hz : t_sz σ) (hr : t_okR (σ 1)) : t_hist (t_af σ) := t_ga_hist (t_is_ask hz hr)
def t_Pub (V : Int) (σ : t_S) (h0 : e_A) : e_R → e_A → Prop := fun r h => r = .inl (some (e_i V)) ∧ ∃ σ', h = t_H σ' h0 ∧ t_pk σ' σ
theorem t_pub {V z : Int} {σ σ' : t_S} {h0 : e_A} (h : z = V) (hp : t_pk σ' σ) : t_Pub V σ h0 (.inl (some (e_i z))) (t_H σ' h0) := by
  subst h; exact ⟨rfl, _, rfl, hp⟩
def t_PubJ (V : Int) (σ : t_S) (h0 : e_A) : e_R → e_A → Prop := fun r h => r = .inl (some (e_j V)) ∧ ∃ σ', h = t_H σ' h0 ∧ t_pk σ' σ
theorem t_pubJ {V z : Int} {σ σ' : t_S} {h0 : e_A} (h : z = V) (hp : t_pk σ' σ) : t_PubJ V σ h0 (.inl (some (e_j z))) (t_H σ' h0) := by
  subst h; exact ⟨rfl, _, rfl, hp⟩
theorem t_msk_1 {g : Int → Int} {i : Int} (hi : 0 ≤ i) (h : g i = 1) : t_msk g (i + 1).toNat = t_msk g i.toNat + 2 ^ i.toNat := by rw [t_msk_s g hi, if_pos h]
theorem t_msk_0 {g : Int → Int} {i : Int} (hi : 0 ≤ i) (h : g i = 0) : t_msk g (i + 1).toNat = t_msk g i.toNat := by rw [t_msk_s g hi, if_neg (by omega), Int.add_zero]
/-- the first with the most -/
def t_best (v : Int → Int) : Nat → Int
  | 0 => -1
  | n + 1 => if (if t_best v n = -1 then 0 else v (t_best v n)) < v n then n else t_best v n
theorem t_best_s (v : Int → Int) {i : Int} (hi : 0 ≤ i) : t_best v (i + 1).toNat = if (if t_best v i.toNat = -1 then 0 else v (t_best v i.toNat)) < v i then i else t_best v i.toNat := by
  rw [show (i + 1).toNat = i.toNat + 1 by omega]
  show (if (if t_best v i.toNat = -1 then 0 else v (t_best v i.toNat)) < v ((i.toNat : Nat) : Int) then ((i.toNat : Nat) : Int) else t_best v i.toNat) = _
  rw [Int.toNat_of_nonneg hi]
theorem t_best_rg (v : Int → Int) : ∀ n : Nat, -1 ≤ t_best v n ∧ t_best v n < n
  | 0 => ⟨Int.le_refl _, (by decide : (-1 : Int) < 0)⟩
  | n + 1 => by
    have h := t_best_rg v n
    unfold t_best
    split <;> omega
abbrev t_pth (σ : t_S) (w k : Int) : Int := if k ≤ σ 27 w then σ 26 (41 * w + k) else -1
theorem t_pth_rg {σ : t_S} (h : t_h3 σ) {w k : Int} (hw : 0 ≤ w ∧ w < 7) (hk : 0 ≤ k) : -1 ≤ t_pth σ w k ∧ t_pth σ w k < 80 := by
  unfold t_pth
  split
  · rename_i q
    have := (h w hw.1 hw.2).2 k hk q
    omega
  · omega
abbrev t_ing (σ : t_S) (w c : Int) : Int → Int := fun k => if t_pth σ w k = c then 1 else 0
def t_in (σ : t_S) (w c : Int) : Int := t_anyg (t_ing σ w c) (σ 27 w + 1).toNat
theorem t_in01 (σ : t_S) (w c : Int) (n : Nat) : t_anyg (t_ing σ w c) n = 0 ∨ t_anyg (t_ing σ w c) n = 1 := t_anyg01 (fun i => by show (if _ then (1 : Int) else 0) = 0 ∨ (if _ then (1 : Int) else 0) = 1; split <;> simp) n
abbrev t_pgs (σ : t_S) (c y : Int) : Int := σ 31 (80 * y + c)
abbrev t_rdo (σ : t_S) (c y : Int) : Int := σ 30 (80 * y + c)
def t_pgg (σ : t_S) (y : Int) : Int → Int := fun c => e_bsum (t_pgs σ c y) 16
def t_pgm (σ : t_S) (y : Int) : Int := t_sum (t_pgg σ y) 80 / 2
def t_vis (σ : t_S) (w c : Int) : Int := t_sum (t_ing σ w c) (σ 27 w + 1).toNat
def t_rdg (σ : t_S) (y : Int) : Int → Int := fun c => t_rdo σ c y
def t_rdm (σ : t_S) (y : Int) : Int := t_sum (t_rdg σ y) 80
def t_grd (σ : t_S) (w : Int) : Int := t_sum (t_in σ w) 80
def t_wdg (σ : t_S) (c : Int) : Int → Int := fun w => t_in σ w c
def t_wdo (σ : t_S) (c : Int) : Int := t_msk (t_wdg σ c) (σ 1 7).toNat
def t_mva (σ : t_S) : Int := t_sum (σ 29) (σ 1 6).toNat
theorem t_ing_rg (σ : t_S) (w c k : Int) : 0 ≤ t_ing σ w c k ∧ t_ing σ w c k ≤ 1 := by
  show 0 ≤ (if _ then (1 : Int) else 0) ∧ (if _ then (1 : Int) else 0) ≤ 1
  split <;> omega
theorem t_vis_rg {σ : t_S} (h : t_h3 σ) {w : Int} (hw : 0 ≤ w ∧ w < 7) (c : Int) : 0 ≤ t_vis σ w c ∧ t_vis σ w c ≤ 41 := by
  have h1 := t_sum_rg (g := t_ing σ w c) (b := 1) (σ 27 w + 1).toNat (fun i _ _ => t_ing_rg σ w c i)
  have h2 := (h w hw.1 hw.2).1
  unfold t_vis
  omega
theorem t_wdo_rg {σ : t_S} (hz : t_sz σ) (c : Int) : 0 ≤ t_wdo σ c ∧ t_wdo σ c < 2 ^ 7 := by
  have h1 := t_msk_rg (t_wdg σ c) (σ 1 7).toNat
  have h7 := hz.2.2.2.2.2.1
  have h2 : (2 : Int) ^ (σ 1 7).toNat ≤ 2 ^ 7 := by
    have := Nat.pow_le_pow_right (n := 2) (by decide) (show (σ 1 7).toNat ≤ 7 by omega)
    have e2 : ((2 ^ (σ 1 7).toNat : Nat) : Int) = 2 ^ (σ 1 7).toNat := by simp
    omega
  unfold t_wdo
  omega
theorem t_stN (a : Int) : ∃ N : Int, (a < 0 ∧ N = 1) ∨ (0 ≤ a ∧ N = a + 1) := by
  rcases Int.lt_or_le a 0 with q | q
  · exact ⟨1, Or.inl ⟨q, rfl⟩⟩
  · exact ⟨_, Or.inr ⟨q, rfl⟩⟩
/-! values -/
def v_creek (ρ : t_S) (c : Int) : Int := if t_isCell ρ c then ρ 15 c else -2
def v_at (ρ : t_S) (w k : Int) : Int := if t_isW ρ w ∧ 0 ≤ k ∧ k ≤ 40 then t_pth ρ w k else -2
def v_steps (ρ : t_S) (w : Int) : Int := if t_isW ρ w then ρ 27 w else -2
def t_stg (ρ : t_S) (w : Int) : Int → Int := fun j => if t_pth ρ w (j + 1) = t_pth ρ w j then 1 else 0
def v_stands (ρ : t_S) (w : Int) : Int := if t_isW ρ w then (if ρ 27 w = -1 then -1 else t_sum (t_stg ρ w) (ρ 27 w).toNat) else -2
def v_ground (ρ : t_S) (w : Int) : Int := if t_isW ρ w then (if ρ 27 w = -1 then -1 else t_grd ρ w) else -2
def t_lpg (ρ : t_S) (w : Int) : Int → Int := fun k => if t_pth ρ w k = t_pth ρ w 0 ∧ t_pth ρ w (k - 1) ≠ t_pth ρ w 0 then 1 else 0
def v_loop (ρ : t_S) (w : Int) : Int := if t_isW ρ w then t_fnd (t_lpg ρ w) (ρ 27 w).toNat 1 else -2
def v_haunt (ρ : t_S) (w : Int) : Int := if t_isW ρ w then t_best (t_vis ρ w) 80 else -2
def v_visits (ρ : t_S) (w c : Int) : Int := if t_isW ρ w ∧ t_isCell ρ c then t_vis ρ w c else -2
def t_evg (ρ : t_S) (y : Int) : Int → Int := fun w => if ρ 27 w ≠ -1 ∧ t_wd ρ w 3 = y then 1 else 0
def v_evening (ρ : t_S) (y : Int) : Int := if t_isY ρ y ∧ y ≠ ρ 1 0 then t_msk (t_evg ρ y) (ρ 1 7).toNat else -2
def v_road (ρ : t_S) (c y : Int) : Int := if t_isY ρ y ∧ t_isCell ρ c then t_rdo ρ c y else -2
def v_roads (ρ : t_S) (y : Int) : Int := if t_isY ρ y then t_rdm ρ y else -2
def v_pegs (ρ : t_S) (y : Int) : Int := if t_isY ρ y then t_pgm ρ y else -2
def v_joins (ρ : t_S) (c y : Int) : Int := if t_isY ρ y ∧ t_isCell ρ c then t_pgs ρ c y else -2
def t_cog (ρ : t_S) (n y : Int) : Int → Int := fun c => if t_rdo ρ c y = 1 ∧ e_bsum (t_pgs ρ c y) 16 = n then 1 else 0
def v_corners (ρ : t_S) (n y : Int) : Int := if t_isY ρ y ∧ 0 ≤ n ∧ n ≤ 4 then t_sum (t_cog ρ n y) 80 else -2
def v_first (ρ : t_S) (c : Int) : Int := if t_isCell ρ c then t_fnd (t_rdo ρ c) (ρ 1 0 + 1).toNat 0 else -2
def v_walked (ρ : t_S) (c : Int) : Int := if t_isCell ρ c then t_wdo ρ c else -2
def t_crg (ρ : t_S) : Int → Int := fun c => e_bsum (t_wdo ρ c) 16
def v_crossing (ρ : t_S) : Int := if t_isC ρ then t_best (t_crg ρ) 80 else -2
def t_shg (ρ : t_S) (a b : Int) : Int → Int := fun c => if t_in ρ a c = 1 ∧ t_in ρ b c = 1 then 1 else 0
def v_shared (ρ : t_S) (a b : Int) : Int := if t_isW ρ a ∧ t_isW ρ b then t_sum (t_shg ρ a b) 80 else -2
abbrev t_isH (ρ : t_S) (h : Int) : Prop := 0 ≤ h ∧ h ≤ ρ 1 6 - 1
def v_house (ρ : t_S) (h y : Int) : Int := if t_isY ρ y ∧ t_isH ρ h then ρ 32 (6 * y + h) else -2
def v_moved (ρ : t_S) (h : Int) : Int := if t_isH ρ h then ρ 29 h else -2
def v_moves (ρ : t_S) (w : Int) : Int := if t_isW ρ w then (if ρ 27 w = -1 then -1 else ρ 28 w) else -2
