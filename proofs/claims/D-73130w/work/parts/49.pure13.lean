/-! THE TWIN'S PURE FORM, THIRTEEN: reading -/
set_option maxRecDepth 100000
def t_chr (σ : t_S) (k : Int) : Int := if k < σ 7 0 then σ 4 k % 256 else -1
theorem t_chr_rg (σ : t_S) (k : Int) : -1 ≤ t_chr σ k ∧ t_chr σ k < 256 := by unfold t_chr; split <;> omega
theorem t_chr_in {σ : t_S} {k : Int} (h : t_chr σ k ≠ -1) : k < σ 7 0 := by
  unfold t_chr at h
  by_cases q : k < σ 7 0
  · exact q
  · rw [if_neg q] at h; exact absurd rfl h
theorem t_chr_of {σ τ : t_S} (h4 : τ 4 = σ 4) (h7 : τ 7 = σ 7) : t_chr τ = t_chr σ := by
  funext k
  unfold t_chr
  rw [h4, h7]
/-- on while g -/
def t_wh (g : Int → Int) : Nat → Int → Int
  | 0, i => i
  | m + 1, i => if g i = 1 then t_wh g m (i + 1) else i
def t_to (n : Int) (g : Int → Int) (i : Int) : Int := t_wh g (n - i).toNat i
theorem t_to_s {n : Int} {g : Int → Int} {i : Int} (hi : i < n) (h : g i = 1) : t_to n g i = t_to n g (i + 1) := by
  unfold t_to
  rw [show (n - i).toNat = (n - (i + 1)).toNat + 1 by omega]
  show (if g i = 1 then _ else _) = _
  rw [if_pos h]
theorem t_to_e {n : Int} {g : Int → Int} {i : Int} (h : g i ≠ 1) : t_to n g i = i := by
  unfold t_to
  cases (n - i).toNat with
  | zero => rfl
  | succ m =>
    show (if g i = 1 then _ else _) = _
    rw [if_neg h]
theorem t_wh_rg (g : Int → Int) : ∀ (m : Nat) (i : Int), i ≤ t_wh g m i ∧ t_wh g m i ≤ i + m
  | 0, i => ⟨Int.le_refl _, by show i ≤ i + ((0 : Nat) : Int); omega⟩
  | m + 1, i => by
    unfold t_wh
    split
    · have := t_wh_rg g m (i + 1)
      omega
    · omega
theorem t_to_rg {n : Int} {g : Int → Int} {i : Int} (h : i ≤ n) : i ≤ t_to n g i ∧ t_to n g i ≤ n := by
  have := t_wh_rg g (n - i).toNat i
  unfold t_to
  omega
theorem t_wh_stop (g : Int → Int) : ∀ (m : Nat) (i : Int), t_wh g m i < i + m → g (t_wh g m i) ≠ 1
  | 0, i, h => by
    have : t_wh g 0 i = i := rfl
    omega
  | m + 1, i, h => by
    unfold t_wh at h ⊢
    by_cases q : g i = 1
    · rw [if_pos q] at h ⊢
      exact t_wh_stop g m (i + 1) (by omega)
    · rw [if_neg q]; exact q
def t_gW (σ : t_S) : Int → Int := fun k => if t_chr σ k = 32 ∨ t_chr σ k = 10 then 1 else 0
def t_gL (σ : t_S) : Int → Int := fun k => if 97 ≤ t_chr σ k ∧ t_chr σ k ≤ 122 then 1 else 0
def t_gD (σ : t_S) : Int → Int := fun k => if 48 ≤ t_chr σ k ∧ t_chr σ k ≤ 57 then 1 else 0
theorem t_to_stop {σ : t_S} {g : Int → Int} {i : Int} (h : i ≤ σ 7 0) (hg : ∀ k, σ 7 0 ≤ k → g k ≠ 1) : g (t_to (σ 7 0) g i) ≠ 1 := by
  by_cases q : t_to (σ 7 0) g i < σ 7 0
  · refine t_wh_stop g _ i ?_
    unfold t_to at q
    omega
  · exact hg _ (by omega)
theorem t_chr_no {σ : t_S} {k : Int} (h : σ 7 0 ≤ k) : t_chr σ k = -1 := by
  unfold t_chr
  rw [if_neg (by omega)]
def t_mn (a b : Int) : Int := if a ≤ b then a else b
/-- a number's value -/
def t_vl (σ : t_S) : Nat → Int → Int → Int
  | 0, _, v => v
  | m + 1, i, v => if t_gD σ i = 1 then t_vl σ m (i + 1) (t_mn 99999 (10 * v + t_chr σ i - 48)) else v
def t_vlo (σ : t_S) (i v : Int) : Int := t_vl σ (σ 7 0 - i).toNat i v
theorem t_vlo_s {σ : t_S} {i v : Int} (hi : i < σ 7 0) (h : t_gD σ i = 1) : t_vlo σ i v = t_vlo σ (i + 1) (t_mn 99999 (10 * v + t_chr σ i - 48)) := by
  unfold t_vlo
  rw [show (σ 7 0 - i).toNat = (σ 7 0 - (i + 1)).toNat + 1 by omega]
  show (if t_gD σ i = 1 then _ else _) = _
  rw [if_pos h]
theorem t_vlo_e {σ : t_S} {i v : Int} (h : t_gD σ i ≠ 1) : t_vlo σ i v = v := by
  unfold t_vlo
  cases (σ 7 0 - i).toNat with
  | zero => rfl
  | succ m =>
    show (if t_gD σ i = 1 then _ else _) = _
    rw [if_neg h]
theorem t_vl_rg (σ : t_S) : ∀ (m : Nat) (i v : Int), (0 ≤ v ∧ v ≤ 99999) → 0 ≤ t_vl σ m i v ∧ t_vl σ m i v ≤ 99999
  | 0, _, v, h => h
  | m + 1, i, v, h => by
    unfold t_vl
    split
    · rename_i q
      refine t_vl_rg σ m (i + 1) _ ?_
      have h2 : 48 ≤ t_chr σ i := by
        unfold t_gD at q
        by_cases e : 48 ≤ t_chr σ i ∧ t_chr σ i ≤ 57
        · exact e.1
        · rw [if_neg e] at q; exact absurd q (by decide)
      unfold t_mn
      split <;> omega
    · exact h
/-- the next token -/
def t_ad0 (σ : t_S) : Int := t_to (σ 7 0) (t_gW σ) (σ 8 0)
def t_ad1 (σ : t_S) : t_S := s_up (s_up σ 8 0 (t_ad0 σ)) 9 0 (t_ad0 σ)
def t_adv (σ : t_S) : t_S :=
  if t_chr σ (t_ad0 σ) = -1 then s_up (t_ad1 σ) 10 0 0
  else if 97 ≤ t_chr σ (t_ad0 σ) ∧ t_chr σ (t_ad0 σ) ≤ 122 then s_up (s_up (t_ad1 σ) 8 0 (t_to (σ 7 0) (t_gL σ) (t_ad0 σ))) 10 0 1
  else if 48 ≤ t_chr σ (t_ad0 σ) ∧ t_chr σ (t_ad0 σ) ≤ 57 then s_up (s_up (s_up (t_ad1 σ) 11 0 (t_vlo σ (t_ad0 σ) 0)) 8 0 (t_to (σ 7 0) (t_gD σ) (t_ad0 σ))) 10 0 2
  else s_up (s_up (t_ad1 σ) 10 0 (if t_chr σ (t_ad0 σ) = 59 then 3 else 4)) 8 0 (t_ad0 σ + 1)
theorem t_adv_k {σ : t_S} {k : Nat} (h8 : k ≠ 8) (h9 : k ≠ 9) (h10 : k ≠ 10) (h11 : k ≠ 11) : t_adv σ k = σ k := by
  have e1 : t_ad1 σ k = σ k := (s_up_f h9).trans (s_up_f h8)
  unfold t_adv
  split
  · exact (s_up_f h10).trans e1
  · split
    · exact (s_up_f h10).trans ((s_up_f h8).trans e1)
    · split
      · exact (s_up_f h10).trans ((s_up_f h8).trans ((s_up_f h11).trans e1))
      · exact (s_up_f h8).trans ((s_up_f h10).trans e1)
/-- where the reading stands -/
def t_rdI (σ : t_S) : Prop := (0 ≤ σ 9 0 ∧ σ 9 0 ≤ σ 8 0 ∧ σ 8 0 ≤ σ 7 0 ∧ σ 7 0 ≤ 900) ∧ (0 ≤ σ 10 0 ∧ σ 10 0 ≤ 4) ∧ (σ 10 0 ≠ 0 → σ 9 0 < σ 8 0) ∧ (σ 10 0 = 2 → 0 ≤ σ 11 0 ∧ σ 11 0 ≤ 99999) ∧ (∀ k, 0 ≤ k → k < 900 → -128 ≤ σ 4 k ∧ σ 4 k < 128) ∧ 0 ≤ σ 12 0 ∧ σ 12 0 ≤ 3
theorem t_ad0_rg {σ : t_S} (h : σ 8 0 ≤ σ 7 0) : σ 8 0 ≤ t_ad0 σ ∧ t_ad0 σ ≤ σ 7 0 := t_to_rg h
theorem t_adv_v {σ : t_S} (h : 0 ≤ σ 8 0 ∧ σ 8 0 ≤ σ 7 0) : t_adv σ 9 0 = t_ad0 σ ∧ (t_ad0 σ ≤ t_adv σ 8 0 ∧ t_adv σ 8 0 ≤ σ 7 0) ∧ (0 ≤ t_adv σ 10 0 ∧ t_adv σ 10 0 ≤ 4) ∧ (t_adv σ 10 0 ≠ 0 → t_ad0 σ < t_adv σ 8 0) ∧ (t_adv σ 10 0 = 2 → 0 ≤ t_adv σ 11 0 ∧ t_adv σ 11 0 ≤ 99999) := by
  have h0 := t_ad0_rg h.2
  unfold t_adv
  split
  · rename_i q
    rw [s_up_k (by decide), s_up_k (by decide), s_up_eq]
    unfold t_ad1
    rw [s_up_eq, s_up_k (by decide), s_up_eq]
    exact ⟨rfl, ⟨Int.le_refl _, h0.2⟩, by decide, fun w => absurd rfl w, fun w => absurd w (by decide)⟩
  · rename_i q0
    have hlt := t_chr_in q0
    split
    · rename_i q
      have hg : t_gL σ (t_ad0 σ) = 1 := if_pos q
      have h1 := t_to_rg (n := σ 7 0) (g := t_gL σ) (i := t_ad0 σ + 1) (by omega)
      rw [s_up_k (by decide), s_up_k (by decide), s_up_k (by decide), s_up_eq, s_up_eq]
      rw [t_to_s hlt hg]
      unfold t_ad1
      rw [s_up_eq]
      exact ⟨rfl, ⟨by omega, h1.2⟩, by decide, fun _ => by omega, fun w => absurd w (by decide)⟩
    · split
      · rename_i q
        have hg : t_gD σ (t_ad0 σ) = 1 := if_pos q
        have h1 := t_to_rg (n := σ 7 0) (g := t_gD σ) (i := t_ad0 σ + 1) (by omega)
        have hv := t_vl_rg σ (σ 7 0 - t_ad0 σ).toNat (t_ad0 σ) 0 (by decide)
        rw [s_up_k (k := 10) (k1 := 9) (by decide), s_up_k (k := 8) (k1 := 9) (by decide), s_up_k (k := 11) (k1 := 9) (by decide), s_up_k (k := 10) (k1 := 8) (by decide), s_up_eq, s_up_eq, s_up_k (k := 10) (k1 := 11) (by decide), s_up_k (k := 8) (k1 := 11) (by decide), s_up_eq]
        rw [t_to_s hlt hg]
        unfold t_ad1
        rw [s_up_eq]
        exact ⟨rfl, ⟨by omega, h1.2⟩, by decide, fun _ => by omega, fun _ => hv⟩
      · rw [s_up_k (k := 8) (k1 := 9) (by decide), s_up_k (k := 10) (k1 := 9) (by decide), s_up_eq, s_up_k (k := 8) (k1 := 10) (by decide), s_up_eq]
        unfold t_ad1
        rw [s_up_eq]
        refine ⟨rfl, ⟨by omega, by omega⟩, ?_, fun _ => by omega, fun w => ?_⟩
        · split <;> decide
        · exfalso
          revert w
          split <;> decide
theorem t_adv_I {σ : t_S} (h : t_rdI σ) : t_rdI (t_adv σ) ∧ σ 8 0 ≤ t_adv σ 9 0 := by
  have h1 := t_adv_v (σ := σ) ⟨by have := h.1; omega, h.1.2.2.1⟩
  have h0 := t_ad0_rg h.1.2.2.1
  have e7 : t_adv σ 7 = σ 7 := t_adv_k (by decide) (by decide) (by decide) (by decide)
  have e4 : t_adv σ 4 = σ 4 := t_adv_k (by decide) (by decide) (by decide) (by decide)
  have h2 := h.1
  have e12 : t_adv σ 12 = σ 12 := t_adv_k (by decide) (by decide) (by decide) (by decide)
  unfold t_rdI
  rw [e7, e4, h1.1, e12]
  exact ⟨⟨⟨by omega, h1.2.1.1, h1.2.1.2, h2.2.2.2⟩, h1.2.2.1, h1.2.2.2.1, h1.2.2.2.2, h.2.2.2.2⟩, h0.1⟩
/-- a word -/
def t_isg (σ : t_S) (p : Nat) : Int → Int := fun k => if σ 4 (σ 9 0 + k) = e_tc p k then 1 else 0
def t_isb (σ : t_S) (p : Nat) : Int := if σ 12 0 = 0 ∧ σ 10 0 = 1 ∧ σ 8 0 - σ 9 0 = e_tn p then 1 else 0
def t_isv (σ : t_S) (p : Nat) : Int := t_alg (t_isb σ p) (t_isg σ p) (e_tn p).toNat
theorem t_isb01 (σ : t_S) (p : Nat) : t_isb σ p = 0 ∨ t_isb σ p = 1 := by unfold t_isb; split <;> simp
theorem t_isg01 (σ : t_S) (p : Nat) (k : Int) : t_isg σ p k = 0 ∨ t_isg σ p k = 1 := by unfold t_isg; split <;> simp
theorem t_isv01 (σ : t_S) (p : Nat) (n : Nat) : t_alg (t_isb σ p) (t_isg σ p) n = 0 ∨ t_alg (t_isb σ p) (t_isg σ p) n = 1 := t_alg01 (t_isb01 σ p) (t_isg01 σ p) n
theorem t_alg_b {b : Int} {g : Int → Int} (hb : b = 0) : ∀ n, t_alg b g n = 0 := fun n => t_alg_stop (i := 0) hb n (Nat.zero_le _)
theorem t_isv_t {σ : t_S} {p : Nat} (h : t_isv σ p = 1) : σ 12 0 = 0 ∧ σ 10 0 = 1 ∧ σ 8 0 - σ 9 0 = e_tn p := by
  by_cases q : σ 12 0 = 0 ∧ σ 10 0 = 1 ∧ σ 8 0 - σ 9 0 = e_tn p
  · exact q
  · have : t_isv σ p = 0 := t_alg_b (by unfold t_isb; rw [if_neg q]) _
    omega
def t_er (k : Int) (σ : t_S) : t_S := if σ 12 0 = 0 then s_up (s_up σ 12 0 k) 13 0 (σ 9 0) else σ
def t_ex (p : Nat) (σ : t_S) : t_S := if t_isv σ p = 1 then t_adv σ else t_er 1 σ
def t_tk (p : Nat) (σ : t_S) : t_S := if t_isv σ p = 1 then t_adv σ else σ
def t_nbS (lo hi : Int) (σ : t_S) : t_S := if σ 12 0 ≠ 0 then σ else if σ 10 0 ≠ 2 then t_er 1 σ else if ¬ (lo ≤ σ 11 0 ∧ σ 11 0 ≤ hi) then t_er 2 σ else t_adv σ
def t_nbV (lo hi : Int) (σ : t_S) : Int := if σ 12 0 = 0 ∧ σ 10 0 = 2 ∧ lo ≤ σ 11 0 ∧ σ 11 0 ≤ hi then σ 11 0 else 0
def t_rf1 (p : Nat) (lo hi k : Int) (σ : t_S) : t_S := s_up (t_nbS lo hi (t_ex p σ)) 14 k (t_nbV lo hi (t_ex p σ))
def t_rf (σ : t_S) : t_S := t_rf1 22 2 8 4 (t_rf1 21 2 8 3 (t_rf1 20 0 10 2 (t_rf1 19 0 3 1 (t_rf1 18 1 12 0 (t_ex 17 σ)))))
def t_itg (σ : t_S) (c f : Int) : Int → Int := fun k => if σ 14 (f + k) = c then 1 else 0
def t_itk (σ : t_S) (c f n : Int) : Int := t_anyg (t_itg σ c f) n.toNat
theorem t_itk01 (σ : t_S) (c f : Int) (n : Nat) : t_anyg (t_itg σ c f) n = 0 ∨ t_anyg (t_itg σ c f) n = 1 := t_anyg01 (fun i => by unfold t_itg; split <;> simp) n
abbrev t_rcX (σ : t_S) : Int := t_nbV 0 (σ 14 3 - 1) σ
abbrev t_rcC (τ : t_S) (x : Int) : Int := 10 * x + τ 11 0
abbrev t_rcT (h : Int) (τ : t_S) (x : Int) : Prop := τ 12 0 = 0 ∧ τ 10 0 = 2 ∧ (0 ≤ τ 11 0 ∧ τ 11 0 ≤ τ 14 4 - 1) ∧ (t_itk τ (t_rcC τ x) 10 (τ 14 5) = 1 ∨ h ≠ 0 ∧ t_itk τ (t_rcC τ x) 22 (τ 14 6) = 1)
def t_rc1 (h x : Int) (τ : t_S) : t_S := if t_rcT h τ x then t_er 2 τ else τ
def t_rc2 (h : Int) (σ : t_S) : t_S := t_rc1 h (t_rcX σ) (t_nbS 0 (σ 14 3 - 1) σ)
def t_rcS (h : Int) (σ : t_S) : t_S := t_nbS 0 (t_rc2 h σ 14 4 - 1) (t_rc2 h σ)
def t_rcV (h : Int) (σ : t_S) : Int := 10 * t_rcX σ + t_nbV 0 (t_rc2 h σ 14 4 - 1) (t_rc2 h σ)
def t_tw (σ : t_S) : Int := if t_isv σ 30 = 1 then 0 else if t_isv σ 31 = 1 then 1 else if t_isv σ 32 = 1 then 2 else if t_isv σ 33 = 1 then 3 else -1
theorem t_tw_rg (σ : t_S) : -1 ≤ t_tw σ ∧ t_tw σ < 4 := by unfold t_tw; (repeat' split) <;> decide
def t_rt1 (σ : t_S) : t_S := if t_tw σ = -1 then t_er 1 σ else σ
def t_rt2 (k : Int) (σ : t_S) : t_S := if t_rt1 σ 14 (k + 4) = 8 then t_er 3 (t_rt1 σ) else t_rt1 σ
def t_rt3 (k t : Int) (τ : t_S) : t_S := s_up (s_up τ 14 (k + 5 + τ 14 (k + 4)) t) 14 (k + 4) (s_up τ 14 (k + 5 + τ 14 (k + 4)) t 14 (k + 4) + 1)
def t_rt (k : Int) (σ : t_S) : t_S := if t_rt2 k σ 12 0 ≠ 0 then t_rt2 k σ else t_adv (t_rt3 k (t_tw σ) (t_rt2 k σ))
def t_rtl (k : Int) : Nat → t_S → t_S
  | 0, σ => σ
  | f + 1, σ => if σ 12 0 = 0 ∧ σ 10 0 ≠ 3 then t_rtl k f (t_rt k σ) else σ
def t_rwk (σ : t_S) : Int := 28 + 13 * σ 14 7
def t_rw1 (k : Int) (σ : t_S) : t_S := s_up (t_rcS 0 σ) 14 k (t_rcV 0 σ)
def t_rw2 (k : Int) (σ : t_S) : t_S := t_ex 29 (t_rf1 28 0 11 (k + 3) (t_rf1 27 1 40 (k + 2) (t_rf1 26 0 3 (k + 1) (t_rw1 k σ))))
def t_rw3 (k : Int) (σ : t_S) : t_S := t_rtl k 10 (t_rt k (t_rw2 k σ))
def t_up1 (j : Int) (σ : t_S) : t_S := s_up σ 14 j (σ 14 j + 1)
def t_rw (σ : t_S) : t_S := t_up1 7 (t_rw3 (t_rwk σ) σ)
abbrev t_ful (σ : t_S) : Prop := (t_isv σ 23 = 1 ∧ σ 14 5 = 12) ∨ (t_isv σ 24 = 1 ∧ σ 14 6 = 6) ∨ (t_isv σ 25 = 1 ∧ σ 14 7 = 7)
def t_rn1 (σ : t_S) : t_S := if t_isv σ 23 = 1 ∨ t_isv σ 24 = 1 ∨ t_isv σ 25 = 1 then σ else t_er 1 σ
def t_rn2 (σ : t_S) : t_S := if t_ful (t_rn1 σ) then t_er 3 (t_rn1 σ) else t_rn1 σ
def t_rnC (h f n : Int) (σ : t_S) : t_S := t_up1 n (s_up (t_rcS h σ) 14 (f + t_rcS h σ 14 n) (t_rcV h σ))
def t_rn (σ : t_S) : t_S := if t_rn2 σ 12 0 ≠ 0 then t_rn2 σ else if t_isv (t_rn2 σ) 23 = 1 then t_rnC 0 10 5 (t_adv (t_rn2 σ)) else if t_isv (t_rn2 σ) 24 = 1 then t_rnC 1 22 6 (t_adv (t_rn2 σ)) else t_rw (t_adv (t_rn2 σ))
def t_rl1 (σ : t_S) : t_S := if σ 14 9 = 0 then t_rf σ else t_rn σ
def t_rl2 (σ : t_S) : t_S := if t_rl1 σ 12 0 = 0 ∧ t_rl1 σ 10 0 ≠ 3 then t_er 1 (t_rl1 σ) else t_rl1 σ
def t_rl3 (σ : t_S) : t_S := if t_rl2 σ 12 0 = 0 then t_adv (t_rl2 σ) else t_rl2 σ
def t_rl (σ : t_S) : t_S := t_up1 9 (t_rl3 σ)
def t_rds : Nat → t_S → t_S
  | 0, σ => σ
  | f + 1, σ => if σ 12 0 = 0 ∧ σ 10 0 ≠ 0 then t_rds f (t_rl σ) else σ
def t_co1f : Int → t_S → t_S := fun k τ => s_up τ 14 k 0
def t_co0 (σ : t_S) : t_S := s_up (s_up (s_up (s_up (s_up σ 7 0 (σ 5 0)) 5 0 0) 8 0 0) 12 0 0) 13 0 (-1)
def t_co1 (σ : t_S) : t_S := t_adv (t_it t_co1f 149 (t_co0 σ))
def t_co2 (σ : t_S) : t_S := t_rds 901 (t_co1 σ)
def t_co3f : Int → t_S → t_S := fun k τ => s_up τ 1 k (τ 14 k)
def t_co (σ : t_S) : t_S := if t_co2 σ 12 0 ≠ 0 then t_co2 σ else t_it t_co3f 149 (t_co2 σ)
def v_colony (σ : t_S) : Int := if t_co2 σ 12 0 ≠ 0 then -4 else t_co σ 1 9
/-! rows for signs -/
theorem e_and255_law (a : Int) : Int32.ofInt a &&& Int32.ofInt 255 = Int32.ofInt (a % 256) := by
  have h1 := pk_and (Int32.ofInt a) (m := Int32.ofInt 255) 8 (by decide)
  rw [h1, e_bvN]
  show Int32.ofNat _ = _
  rw [← e_ofN]
  congr 1
  have e1 : ((a % 4294967296).toNat : Int) = a % 4294967296 := Int.toNat_of_nonneg (Int.emod_nonneg _ (by decide))
  rw [Int.natCast_emod, e1]
  show a % 4294967296 % 256 = a % 256
  omega
theorem e_i2c_law {a : Int} (h : 0 ≤ a ∧ a < 65536) : ((Int32.ofInt a).toUInt32 % 65536).toInt32 = Int32.ofInt a := by
  apply e_i32_ext
  show ((Int32.ofInt a).toBitVec % 65536#32).toNat = _
  rw [BitVec.toNat_umod, e_bvN]
  show (a % 4294967296).toNat % 65536 = _
  omega
theorem e_nC {a : Int} (h : 0 ≤ a ∧ a < 65536) : narrow .char (e_i a) = e_i a := by
  show Value.int _ = Value.int _
  congr 1
  apply e_i32_ext
  show ((Int32.ofInt a).toUInt32.toUInt16.toUInt32).toNat = _
  rw [UInt16.toNat_toUInt32, UInt32.toNat_toUInt16]
  show (Int32.ofInt a).toBitVec.toNat % 2 ^ 16 = (Int32.ofInt a).toBitVec.toNat
  rw [e_bvN]
  omega
theorem s_up_self (σ : t_S) (k : Nat) (j : Int) : s_up σ k j (σ k j) = σ := by
  funext k1 j1
  unfold s_up
  by_cases h : k1 = k ∧ j1 = j
  · rw [if_pos h, h.1, h.2]
  · rw [if_neg h]
theorem t_adv_sw (τ : t_S) (v i v1 i1 : Int) : s_up (s_up (s_up (s_up τ 11 0 v) 8 0 i) 11 0 v1) 8 0 i1 = s_up (s_up τ 11 0 v1) 8 0 i1 := by
  funext k j
  unfold s_up
  by_cases h8 : k = 8 ∧ j = 0
  · rw [if_pos h8, if_pos h8]
  · rw [if_neg h8, if_neg h8]
    by_cases h11 : k = 11 ∧ j = 0
    · rw [if_pos h11, if_neg h8, if_pos h11]
    · rw [if_neg h11, if_neg h8, if_neg h11, if_neg h11]
theorem e_hp {M : e_M} {pc : Nat} {al st : List Value} {h0 : e_A} {kc ks d : Nat} {Q : e_R → e_A → Prop} {σ : t_S} (τ : t_S) (e : σ = τ) (k : e_E M pc al st (t_H τ h0) kc ks d Q) : e_E M pc al st (t_H σ h0) kc ks d Q := by
  rw [e]
  exact k
theorem t_er_0 {k : Int} {σ : t_S} (h : σ 12 0 = 0) : t_er k σ 12 0 = k := by
  unfold t_er
  rw [if_pos h, s_up_k (by decide), s_up_eq]
theorem t_er_n {k : Int} {σ : t_S} (h : σ 12 0 ≠ 0) : t_er k σ = σ := if_neg h
theorem t_er_k {j : Int} {σ : t_S} {k : Nat} (h12 : k ≠ 12) (h13 : k ≠ 13) : t_er j σ k = σ k := by
  unfold t_er
  split
  · exact (s_up_f h13).trans (s_up_f h12)
  · rfl
theorem t_er_I {k : Int} {σ : t_S} (h : t_rdI σ) (hk : 1 ≤ k ∧ k ≤ 3) : t_rdI (t_er k σ) := by
  have e12 : 0 ≤ t_er k σ 12 0 ∧ t_er k σ 12 0 ≤ 3 := by
    by_cases q : σ 12 0 = 0
    · rw [t_er_0 q]; omega
    · rw [t_er_n q]; exact h.2.2.2.2.2
  obtain ⟨a, b, c, d, e, f⟩ := h
  unfold t_rdI
  rw [t_er_k (k := 4) (by decide) (by decide), t_er_k (k := 7) (by decide) (by decide), t_er_k (k := 8) (by decide) (by decide), t_er_k (k := 9) (by decide) (by decide), t_er_k (k := 10) (by decide) (by decide), t_er_k (k := 11) (by decide) (by decide)]
  exact ⟨a, b, c, d, e, e12⟩
/-- reading goes on: only the reader's own fields change, and it goes forward -/
def t_mo (σ τ : t_S) : Prop := t_rdI τ ∧ σ 9 0 ≤ τ 9 0 ∧ ∀ k, (k < 8 ∨ 14 < k) → τ k = σ k
theorem t_mo_rf {σ : t_S} (h : t_rdI σ) : t_mo σ σ := ⟨h, Int.le_refl _, fun _ _ => rfl⟩
theorem t_mo_tr {σ τ υ : t_S} (h : t_mo σ τ) (h2 : t_mo τ υ) : t_mo σ υ := ⟨h2.1, Int.le_trans h.2.1 h2.2.1, fun k hk => (h2.2.2 k hk).trans (h.2.2 k hk)⟩
theorem t_mo_adv {σ : t_S} (h : t_rdI σ) : t_mo σ (t_adv σ) := ⟨(t_adv_I h).1, by have := (t_adv_I h).2; have := h.1; omega, fun k hk => t_adv_k (by omega) (by omega) (by omega) (by omega)⟩
theorem t_mo_er {σ : t_S} {k : Int} (h : t_rdI σ) (hk : 1 ≤ k ∧ k ≤ 3) : t_mo σ (t_er k σ) := ⟨t_er_I h hk, by rw [t_er_k (by decide) (by decide)]; exact Int.le_refl _, fun j hj => t_er_k (by omega) (by omega)⟩
theorem t_mo_ex {σ : t_S} {p : Nat} (h : t_rdI σ) : t_mo σ (t_ex p σ) := by
  unfold t_ex
  split
  · exact t_mo_adv h
  · exact t_mo_er h ⟨by decide, by decide⟩
theorem t_mo_tk {σ : t_S} {p : Nat} (h : t_rdI σ) : t_mo σ (t_tk p σ) := by
  unfold t_tk
  split
  · exact t_mo_adv h
  · exact t_mo_rf h
theorem t_mo_nb {σ : t_S} {lo hi : Int} (h : t_rdI σ) : t_mo σ (t_nbS lo hi σ) := by
  unfold t_nbS
  split
  · exact t_mo_rf h
  · split
    · exact t_mo_er h ⟨by decide, by decide⟩
    · split
      · exact t_mo_er h ⟨by decide, by decide⟩
      · exact t_mo_adv h
theorem t_mo_14 {σ τ : t_S} {j z : Int} (h : t_mo σ τ) : t_mo σ (s_up τ 14 j z) := by
  refine ⟨?_, ?_, fun k hk => (s_up_f (by omega)).trans (h.2.2 k hk)⟩
  · have h1 := h.1
    unfold t_rdI at *
    rw [s_up_f (k := 14) (k1 := 4) (by decide), s_up_f (k := 14) (k1 := 7) (by decide), s_up_f (k := 14) (k1 := 8) (by decide), s_up_f (k := 14) (k1 := 9) (by decide), s_up_f (k := 14) (k1 := 10) (by decide), s_up_f (k := 14) (k1 := 11) (by decide), s_up_f (k := 14) (k1 := 12) (by decide)]
    exact h1
  · rw [s_up_k (by decide)]; exact h.2.1
theorem t_adv_14 (σ : t_S) : t_adv σ 14 = σ 14 := t_adv_k (by decide) (by decide) (by decide) (by decide)
theorem t_er_14 (k : Int) (σ : t_S) : t_er k σ 14 = σ 14 := t_er_k (by decide) (by decide)
theorem t_ex_14 (p : Nat) (σ : t_S) : t_ex p σ 14 = σ 14 := by
  unfold t_ex
  split
  · exact t_adv_14 σ
  · exact t_er_14 1 σ
theorem t_nb_14 (lo hi : Int) (σ : t_S) : t_nbS lo hi σ 14 = σ 14 := by
  unfold t_nbS
  (repeat' split)
  · rfl
  · exact t_er_14 1 σ
  · exact t_er_14 2 σ
  · exact t_adv_14 σ
theorem t_nbV_rg {lo hi : Int} {σ : t_S} (h : t_rdI σ) : 0 ≤ t_nbV lo hi σ ∧ t_nbV lo hi σ ≤ 99999 := by
  unfold t_nbV
  split
  · rename_i q
    exact h.2.2.2.1 q.2.1
  · decide
theorem t_mo_rf1 {σ : t_S} {p : Nat} {lo hi k : Int} (h : t_rdI σ) : t_mo σ (t_rf1 p lo hi k σ) := t_mo_14 (t_mo_tr (t_mo_ex h) (t_mo_nb (t_mo_ex h).1))
theorem t_rf1_14 (p : Nat) (lo hi k : Int) (σ : t_S) (j : Int) (hj : j ≠ k) : t_rf1 p lo hi k σ 14 j = σ 14 j := by
  unfold t_rf1
  rw [s_up_j hj, t_nb_14, t_ex_14]
theorem t_rf1_14k (p : Nat) (lo hi k : Int) (σ : t_S) : t_rf1 p lo hi k σ 14 k = t_nbV lo hi (t_ex p σ) := s_up_eq _ _ _ _
theorem t_mo_rf0 {σ : t_S} (h : t_rdI σ) : t_mo σ (t_rf σ) := by
  have h0 := t_mo_ex (p := 17) h
  have h1 := t_mo_tr h0 (t_mo_rf1 (p := 18) (lo := 1) (hi := 12) (k := 0) h0.1)
  have h2 := t_mo_tr h1 (t_mo_rf1 (p := 19) (lo := 0) (hi := 3) (k := 1) h1.1)
  have h3 := t_mo_tr h2 (t_mo_rf1 (p := 20) (lo := 0) (hi := 10) (k := 2) h2.1)
  have h4 := t_mo_tr h3 (t_mo_rf1 (p := 21) (lo := 2) (hi := 8) (k := 3) h3.1)
  exact t_mo_tr h4 (t_mo_rf1 (p := 22) (lo := 2) (hi := 8) (k := 4) h4.1)
theorem t_mo_rc1 {σ : t_S} {h x : Int} (hI : t_rdI σ) : t_mo σ (t_rc1 h x σ) := by
  unfold t_rc1
  split
  · exact t_mo_er hI ⟨by decide, by decide⟩
  · exact t_mo_rf hI
theorem t_rc1_14 (h x : Int) (σ : t_S) : t_rc1 h x σ 14 = σ 14 := by
  unfold t_rc1
  split
  · exact t_er_14 2 σ
  · rfl
theorem t_mo_rc2 {σ : t_S} {h : Int} (hI : t_rdI σ) : t_mo σ (t_rc2 h σ) := t_mo_tr (t_mo_nb hI) (t_mo_rc1 (t_mo_nb hI).1)
theorem t_rc2_14 (h : Int) (σ : t_S) : t_rc2 h σ 14 = σ 14 := (t_rc1_14 _ _ _).trans (t_nb_14 _ _ _)
theorem t_mo_rc {σ : t_S} {h : Int} (hI : t_rdI σ) : t_mo σ (t_rcS h σ) := t_mo_tr (t_mo_rc2 hI) (t_mo_nb (t_mo_rc2 hI).1)
theorem t_rc_14 (h : Int) (σ : t_S) : t_rcS h σ 14 = σ 14 := (t_nb_14 _ _ _).trans (t_rc2_14 _ _)
theorem t_rcV_rg {σ : t_S} {h : Int} (hI : t_rdI σ) : 0 ≤ t_rcV h σ ∧ t_rcV h σ ≤ 1099989 := by
  have h1 : 0 ≤ t_rcX σ ∧ t_rcX σ ≤ 99999 := t_nbV_rg (lo := 0) (hi := σ 14 3 - 1) hI
  have h2 := t_nbV_rg (lo := 0) (hi := t_rc2 h σ 14 4 - 1) (t_mo_rc2 (h := h) hI).1
  unfold t_rcV
  omega
theorem t_mo_rt1 {σ : t_S} (hI : t_rdI σ) : t_mo σ (t_rt1 σ) := by
  unfold t_rt1
  split
  · exact t_mo_er hI ⟨by decide, by decide⟩
  · exact t_mo_rf hI
theorem t_rt1_14 (σ : t_S) : t_rt1 σ 14 = σ 14 := by
  unfold t_rt1
  split
  · exact t_er_14 1 σ
  · rfl
theorem t_mo_rt2 {σ : t_S} {k : Int} (hI : t_rdI σ) : t_mo σ (t_rt2 k σ) := by
  have h := t_mo_rt1 hI
  unfold t_rt2
  split
  · exact t_mo_tr h (t_mo_er h.1 ⟨by decide, by decide⟩)
  · exact h
theorem t_rt2_14 (k : Int) (σ : t_S) : t_rt2 k σ 14 = σ 14 := by
  unfold t_rt2
  split
  · exact (t_er_14 3 _).trans (t_rt1_14 σ)
  · exact t_rt1_14 σ
theorem t_mo_rt {σ : t_S} {k : Int} (hI : t_rdI σ) : t_mo σ (t_rt k σ) := by
  have h := t_mo_rt2 (k := k) hI
  unfold t_rt
  split
  · exact h
  · have h2 : t_mo σ (t_rt3 k (t_tw σ) (t_rt2 k σ)) := t_mo_14 (t_mo_14 h)
    exact t_mo_tr h2 (t_mo_adv h2.1)
/-- a turn is told: the count, the others -/
theorem t_rt_14 {k : Int} {σ : t_S} (h8 : 0 ≤ σ 14 (k + 4) ∧ σ 14 (k + 4) ≤ 8) : (t_rt k σ 12 0 = 0 → t_rt k σ 14 (k + 4) = σ 14 (k + 4) + 1 ∧ σ 14 (k + 4) < 8 ∧ t_rt k σ 14 (k + 5 + σ 14 (k + 4)) = t_tw σ ∧ 0 ≤ t_tw σ) ∧ (t_rt k σ 12 0 ≠ 0 → t_rt k σ 14 = σ 14) ∧ ∀ j, j ≠ k + 4 → j ≠ k + 5 + σ 14 (k + 4) → t_rt k σ 14 j = σ 14 j := by
  by_cases q : t_rt2 k σ 12 0 = 0
  · have e : t_rt k σ = t_adv (t_rt3 k (t_tw σ) (t_rt2 k σ)) := if_neg (fun w => w q)
    have e12 : t_rt k σ 12 0 = 0 := by
      rw [e, t_adv_k (by decide) (by decide) (by decide) (by decide)]
      unfold t_rt3
      rw [s_up_k (by decide), s_up_k (by decide)]
      exact q
    have h7 : σ 14 (k + 4) ≠ 8 := by
      intro w
      have h2 : t_rt2 k σ = t_er 3 (t_rt1 σ) := if_pos (by rw [t_rt1_14]; exact w)
      rw [h2] at q
      by_cases w2 : t_rt1 σ 12 0 = 0
      · rw [t_er_0 w2] at q; exact absurd q (by decide)
      · rw [t_er_n w2] at q; exact w2 q
    have ht : t_tw σ ≠ -1 := by
      intro w
      have h1 : t_rt1 σ = t_er 1 σ := if_pos w
      have h2 : t_rt2 k σ = t_rt1 σ := if_neg (by rw [t_rt1_14]; exact h7)
      rw [h2, h1] at q
      by_cases w2 : σ 12 0 = 0
      · rw [t_er_0 w2] at q; exact absurd q (by decide)
      · rw [t_er_n w2] at q; exact w2 q
    have hr := t_tw_rg σ
    have e14 : ∀ j, t_rt k σ 14 j = t_rt3 k (t_tw σ) (t_rt2 k σ) 14 j := fun j => by rw [e, t_adv_14]
    have ec : t_rt2 k σ 14 (k + 4) = σ 14 (k + 4) := by rw [t_rt2_14]
    refine ⟨fun _ => ⟨?_, by omega, ?_, by omega⟩, fun w => absurd e12 w, fun j j1 j2 => ?_⟩
    · rw [e14]
      unfold t_rt3
      rw [s_up_eq, s_up_j (by omega), ec]
    · rw [e14]
      unfold t_rt3
      rw [ec, s_up_j (by omega), s_up_eq]
    · rw [e14]
      unfold t_rt3
      rw [s_up_j j1, ec, s_up_j j2, t_rt2_14]
  · have e : t_rt k σ = t_rt2 k σ := if_pos q
    refine ⟨fun w => absurd (by rw [← e]; exact w) q, fun _ => by rw [e, t_rt2_14], fun j _ _ => by rw [e, t_rt2_14]⟩
theorem t_rtl_s (k : Int) (f : Nat) (σ : t_S) : t_rtl k (f + 1) σ = if σ 12 0 = 0 ∧ σ 10 0 ≠ 3 then t_rtl k f (t_rt k σ) else σ := rfl
theorem t_rt_8 {k : Int} {σ : t_S} (h8 : 0 ≤ σ 14 (k + 4) ∧ σ 14 (k + 4) ≤ 8) : 0 ≤ t_rt k σ 14 (k + 4) ∧ t_rt k σ 14 (k + 4) ≤ 8 := by
  have h := t_rt_14 h8
  by_cases q : t_rt k σ 12 0 = 0
  · have := h.1 q; omega
  · rw [h.2.1 q]; exact h8
theorem t_mo_rtl {k : Int} : ∀ (f : Nat) {σ : t_S}, t_rdI σ → t_mo σ (t_rtl k f σ)
  | 0, _, h => t_mo_rf h
  | f + 1, σ, h => by
    rw [t_rtl_s]
    split
    · exact t_mo_tr (t_mo_rt h) (t_mo_rtl f (t_mo_rt h).1)
    · exact t_mo_rf h
theorem t_mo_rw1 {k : Int} {σ : t_S} (h : t_rdI σ) : t_mo σ (t_rw1 k σ) := t_mo_14 (t_mo_rc h)
theorem t_mo_rw2 {k : Int} {σ : t_S} (h : t_rdI σ) : t_mo σ (t_rw2 k σ) := by
  have h0 := t_mo_rw1 (k := k) h
  have h1 := t_mo_tr h0 (t_mo_rf1 (p := 26) (lo := 0) (hi := 3) (k := k + 1) h0.1)
  have h2 := t_mo_tr h1 (t_mo_rf1 (p := 27) (lo := 1) (hi := 40) (k := k + 2) h1.1)
  have h3 := t_mo_tr h2 (t_mo_rf1 (p := 28) (lo := 0) (hi := 11) (k := k + 3) h2.1)
  exact t_mo_tr h3 (t_mo_ex h3.1)
theorem t_mo_rw3 {k : Int} {σ : t_S} (h : t_rdI σ) : t_mo σ (t_rw3 k σ) := by
  have h0 := t_mo_rw2 (k := k) h
  have h1 := t_mo_tr h0 (t_mo_rt (k := k) h0.1)
  exact t_mo_tr h1 (t_mo_rtl 10 h1.1)
theorem t_mo_rw {σ : t_S} (h : t_rdI σ) : t_mo σ (t_rw σ) := t_mo_14 (t_mo_rw3 h)
theorem t_mo_rn2 {σ : t_S} (h : t_rdI σ) : t_mo σ (t_rn2 σ) := by
  have h0 : t_mo σ (t_rn1 σ) := by
    unfold t_rn1
    split
    · exact t_mo_rf h
    · exact t_mo_er h ⟨by decide, by decide⟩
  unfold t_rn2
  split
  · exact t_mo_tr h0 (t_mo_er h0.1 ⟨by decide, by decide⟩)
  · exact h0
theorem t_mo_rnC {h f n : Int} {σ : t_S} (hI : t_rdI σ) : t_mo σ (t_rnC h f n σ) := t_mo_14 (t_mo_14 (t_mo_rc hI))
theorem t_mo_rn {σ : t_S} (h : t_rdI σ) : t_mo σ (t_rn σ) := by
  have h0 := t_mo_rn2 h
  have h1 := t_mo_tr h0 (t_mo_adv h0.1)
  unfold t_rn
  split
  · exact h0
  · split
    · exact t_mo_tr h1 (t_mo_rnC h1.1)
    · split
      · exact t_mo_tr h1 (t_mo_rnC h1.1)
      · exact t_mo_tr h1 (t_mo_rw h1.1)
theorem t_mo_rl2 {σ : t_S} (h : t_rdI σ) : t_mo σ (t_rl2 σ) := by
  have h0 : t_mo σ (t_rl1 σ) := by
    unfold t_rl1
    split
    · exact t_mo_rf0 h
    · exact t_mo_rn h
  unfold t_rl2
  split
  · exact t_mo_tr h0 (t_mo_er h0.1 ⟨by decide, by decide⟩)
  · exact h0
theorem t_mo_rl {σ : t_S} (h : t_rdI σ) : t_mo σ (t_rl σ) := by
  have h0 := t_mo_rl2 h
  refine t_mo_14 ?_
  unfold t_rl3
  split
  · exact t_mo_tr h0 (t_mo_adv h0.1)
  · exact h0
/-- a line is read: it went on -/
theorem t_rl_on {σ : t_S} (h : t_rdI σ) (hg : t_rl σ 12 0 = 0) : σ 9 0 < t_rl σ 9 0 := by
  have h0 := t_mo_rl2 h
  have e : ∀ k, k ≠ 14 → t_rl σ k = t_rl3 σ k := fun k hk => s_up_f hk
  rw [e 12 (by decide)] at hg
  rw [e 9 (by decide)]
  unfold t_rl3 at hg ⊢
  by_cases q : t_rl2 σ 12 0 = 0
  · rw [if_pos q]
    have h1 := (t_adv_I h0.1).2
    have h3 : t_rl2 σ 10 0 = 3 := by
      by_cases w : t_rl1 σ 12 0 = 0 ∧ t_rl1 σ 10 0 ≠ 3
      · have e2 : t_rl2 σ = t_er 1 (t_rl1 σ) := if_pos w
        rw [e2, t_er_0 w.1] at q
        exact absurd q (by decide)
      · have e2 : t_rl2 σ = t_rl1 σ := if_neg w
        rw [e2] at q ⊢
        by_cases w2 : t_rl1 σ 10 0 = 3
        · exact w2
        · exact absurd ⟨q, w2⟩ w
    have h4 := h0.1.2.2.1 (by rw [h3]; decide)
    have h5 := h0.2.1
    omega
  · rw [if_neg q] at hg
    exact absurd hg q
