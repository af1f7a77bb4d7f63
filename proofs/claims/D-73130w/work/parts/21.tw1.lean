/-! THE TWIN, FIRST METHODS (printed by tw1.py) -/
set_option maxRecDepth 100000
theorem e_rv {z w : Int} {h1 h2 : e_A} (h : z = w) (hh : h1 = h2) : e_ret (e_i w) h2 (.inl (some (e_i z))) h1 := by
  subst h; subst hh; exact ⟨rfl, rfl⟩
theorem e_rvj {z w : Int} {h1 h2 : e_A} (h : z = w) (hh : h1 = h2) : e_ret (e_j w) h2 (.inl (some (e_j z))) h1 := by
  subst h; subst hh; exact ⟨rfl, rfl⟩
/-- how many of the first n bits are set -/
def e_bsum (s : Int) : Nat → Int
  | 0 => 0
  | n + 1 => e_bsum s n + e_bt s n
theorem e_bsum_s (s : Int) {i : Int} (h : 0 ≤ i) : e_bsum s (i + 1).toNat = e_bsum s i.toNat + e_bt s i := by
  rw [show (i + 1).toNat = i.toNat + 1 by omega]
  show e_bsum s i.toNat + e_bt s ((i.toNat : Nat) : Int) = _
  rw [Int.toNat_of_nonneg h]
theorem e_bsum_rg (s : Int) : ∀ n : Nat, 0 ≤ e_bsum s n ∧ e_bsum s n ≤ n
  | 0 => ⟨Int.le_refl _, Int.le_refl _⟩
  | n + 1 => by
    have h1 := e_bsum_rg s n
    have h2 := e_bt01 s n
    have h3 : e_bsum s (n + 1) = e_bsum s n + e_bt s n := rfl
    omega
abbrev t_isC (σ : t_S) : Prop := 0 < σ 1 9
abbrev t_isY (σ : t_S) (y : Int) : Prop := t_isC σ ∧ 0 ≤ y ∧ y ≤ σ 1 0
abbrev t_isCell (σ : t_S) (c : Int) : Prop := t_isC σ ∧ 0 ≤ c ∧ c / 10 ≤ σ 1 3 - 1 ∧ c % 10 ≤ σ 1 4 - 1
abbrev t_isW (σ : t_S) (w : Int) : Prop := 0 ≤ w ∧ w ≤ σ 1 7 - 1
abbrev t_wd (σ : t_S) (w k : Int) : Int := σ 1 (28 + 13 * w + k)
/-- the sizes of what is told -/
def t_sz (σ : t_S) : Prop := (0 ≤ σ 1 0 ∧ σ 1 0 ≤ 12) ∧ (0 ≤ σ 1 3 ∧ σ 1 3 ≤ 8) ∧ (0 ≤ σ 1 4 ∧ σ 1 4 ≤ 8) ∧ (0 ≤ σ 1 5 ∧ σ 1 5 ≤ 12) ∧ (0 ≤ σ 1 6 ∧ σ 1 6 ≤ 6) ∧ (0 ≤ σ 1 7 ∧ σ 1 7 ≤ 7) ∧ (0 ≤ σ 1 8 ∧ σ 1 8 ≤ 30) ∧ (0 ≤ σ 1 9 ∧ σ 1 9 ≤ 900)
def t_acr (d : Int) : Int := if d = 1 then 1 else if d = 3 then -1 else 0
def t_dwn (d : Int) : Int := if d = 2 then 1 else if d = 0 then -1 else 0
theorem t_acr_rg (d : Int) : -1 ≤ t_acr d ∧ t_acr d ≤ 1 := by unfold t_acr; (repeat split) <;> omega
theorem t_dwn_rg (d : Int) : -1 ≤ t_dwn d ∧ t_dwn d ≤ 1 := by unfold t_dwn; (repeat split) <;> omega
/-- the cell beside one -/
def t_bes (σ : t_S) (c d : Int) : Int := if (0 ≤ c / 10 + t_acr d ∧ c / 10 + t_acr d ≤ σ 1 3 - 1) ∧ 0 ≤ c % 10 + t_dwn d ∧ c % 10 + t_dwn d ≤ σ 1 4 - 1 then 10 * (c / 10 + t_acr d) + (c % 10 + t_dwn d) else -1
theorem t_bes_rg {σ : t_S} (hz : t_sz σ) (c d : Int) : -1 ≤ t_bes σ c d ∧ t_bes σ c d < 80 := by
  obtain ⟨-, h3, h4, -⟩ := hz
  unfold t_bes
  split <;> omega
abbrev t_free (σ : t_S) (c law : Int) : Prop := c ≠ -1 ∧ σ 15 c = 0 ∧ ¬ (law = 1 ∧ σ 22 c = 1) ∧ ¬ (law = 2 ∧ σ 23 c = 1)
/-- the first n directions: whether one is free -/
def t_any (σ : t_S) (c law : Int) : Nat → Prop
  | 0 => False
  | n + 1 => t_any σ c law n ∨ t_free σ (t_bes σ c n) law
def t_anyD (σ : t_S) (c law : Int) : (n : Nat) → Decidable (t_any σ c law n)
  | 0 => isFalse (fun h => h)
  | n + 1 => match t_anyD σ c law n with
    | isTrue h => isTrue (Or.inl h)
    | isFalse h => if q : t_free σ (t_bes σ c n) law then isTrue (Or.inr q) else isFalse (fun w => w.elim h q)
abbrev t_anyI (σ : t_S) (c law : Int) (n : Nat) : Int := @ite _ (t_any σ c law n) (t_anyD σ c law n) 1 0
def t_b01 (σ : t_S) (k : Nat) : Prop := ∀ c, 0 ≤ c → c < 80 → σ k c = 0 ∨ σ k c = 1
def t_turn (σ : t_S) (w k : Int) : Int := if w = σ 19 0 then σ 20 0 else t_wd σ w (5 + k % t_wd σ w 4)
theorem C_X6_in {h : e_A} {v lo hi : Int} (hv : e_rl v) (hlo : e_rl lo) (hhi : e_rl hi) : e_C mX6_in [e_j v, e_j lo, e_j hi] (h) 0 0 0 (e_ret (e_i (if lo ≤ v ∧ v ≤ hi then 1 else 0)) (h)) := by
  refine e_enter (al0 := [e_j v, .retAddr 0, e_j lo, .retAddr 0, e_j hi, .retAddr 0]) (by decide +kernel) rfl (Nat.le_of_ble_eq_true rfl) ?_
  refine e_lload_n dX6_in_0 rfl ?_
  refine e_lload_n dX6_in_1 rfl ?_
  refine e_lcmp_lt (tgt := 17) dX6_in_2 dX6_in_3 rfl ⟨by omega, by omega⟩ ⟨by omega, by omega⟩ (fun c1 => ?_) (fun c1 => ?_)
  · refine e_iconst dX6_in_17 ?_
    refine e_ireturn dX6_in_18 rfl rfl ?_
    refine e_rv ?_ rfl
    (try split) <;> omega
  · refine e_lload_n dX6_in_6 rfl ?_
    refine e_lload dX6_in_7 rfl ?_
    refine e_lcmp_gt (tgt := 17) dX6_in_9 dX6_in_10 rfl ⟨by omega, by omega⟩ ⟨by omega, by omega⟩ (fun c2 => ?_) (fun c2 => ?_)
    · refine e_iconst dX6_in_17 ?_
      refine e_ireturn dX6_in_18 rfl rfl ?_
      refine e_rv ?_ rfl
      (try split) <;> omega
    · refine e_iconst dX6_in_13 ?_
      refine e_goto (tgt := 18) dX6_in_14 rfl ?_
      refine e_ireturn dX6_in_18 rfl rfl ?_
      refine e_rv ?_ rfl
      (try split) <;> omega
theorem C_X6_isColony {σ : t_S} {h0 : e_A} (hz : t_sz σ) : e_C mX6_isColony [.ref 384] (t_H σ h0) 0 0 0 (e_ret (e_i (if t_isC σ then 1 else 0)) (t_H σ h0)) := by
  have h9 := hz.2.2.2.2.2.2.2
  refine e_enter (al0 := [.ref 384]) (by decide +kernel) rfl (Nat.le_of_ble_eq_true rfl) ?_
  refine e_aload_n dX6_isColony_0 rfl ?_
  refine t_geta (k := 1) dX6_isColony_1 fl_X6_9 rfl ?_
  refine e_bipush dX6_isColony_4 rfl ?_
  refine t_ild 149 dX6_isColony_6 rfl (by decide) (fun _ => rfl) rfl ⟨by omega, by omega⟩ ?_
  refine e_if_le (tgt := 14) dX6_isColony_7 rfl ⟨by omega, by omega⟩ (fun c1 => ?_) (fun c1 => ?_)
  · refine e_iconst dX6_isColony_14 ?_
    refine e_ireturn dX6_isColony_15 rfl rfl ?_
    refine e_rv ?_ rfl
    (try split) <;> omega
  · refine e_iconst dX6_isColony_10 ?_
    refine e_goto (tgt := 15) dX6_isColony_11 rfl ?_
    refine e_ireturn dX6_isColony_15 rfl rfl ?_
    refine e_rv ?_ rfl
    (try split) <;> omega
theorem C_X6_years {σ : t_S} {h0 : e_A} : e_C mX6_years [.ref 384] (t_H σ h0) 0 0 0 (e_ret (e_i (σ 1 0)) (t_H σ h0)) := by
  refine e_enter (al0 := [.ref 384]) (by decide +kernel) rfl (Nat.le_of_ble_eq_true rfl) ?_
  refine e_aload_n dX6_years_0 rfl ?_
  refine t_geta (k := 1) dX6_years_1 fl_X6_9 rfl ?_
  refine e_iconst dX6_years_4 ?_
  refine t_ild 149 dX6_years_5 rfl (by decide) (fun _ => rfl) rfl ⟨by omega, by omega⟩ ?_
  refine e_ireturn dX6_years_6 rfl rfl ?_
  exact ⟨rfl, rfl⟩
theorem C_X6_widows {σ : t_S} {h0 : e_A} : e_C mX6_widows [.ref 384] (t_H σ h0) 0 0 0 (e_ret (e_i (σ 1 7)) (t_H σ h0)) := by
  refine e_enter (al0 := [.ref 384]) (by decide +kernel) rfl (Nat.le_of_ble_eq_true rfl) ?_
  refine e_aload_n dX6_widows_0 rfl ?_
  refine t_geta (k := 1) dX6_widows_1 fl_X6_9 rfl ?_
  refine e_bipush dX6_widows_4 rfl ?_
  refine t_ild 149 dX6_widows_6 rfl (by decide) (fun _ => rfl) rfl ⟨by omega, by omega⟩ ?_
  refine e_ireturn dX6_widows_7 rfl rfl ?_
  exact ⟨rfl, rfl⟩
theorem C_X6_houses {σ : t_S} {h0 : e_A} : e_C mX6_houses [.ref 384] (t_H σ h0) 0 0 0 (e_ret (e_i (σ 1 6)) (t_H σ h0)) := by
  refine e_enter (al0 := [.ref 384]) (by decide +kernel) rfl (Nat.le_of_ble_eq_true rfl) ?_
  refine e_aload_n dX6_houses_0 rfl ?_
  refine t_geta (k := 1) dX6_houses_1 fl_X6_9 rfl ?_
  refine e_bipush dX6_houses_4 rfl ?_
  refine t_ild 149 dX6_houses_6 rfl (by decide) (fun _ => rfl) rfl ⟨by omega, by omega⟩ ?_
  refine e_ireturn dX6_houses_7 rfl rfl ?_
  exact ⟨rfl, rfl⟩
theorem C_X6_acrossOf {h : e_A} {d : Int} (hd : e_rg d) : e_C mX6_acrossOf [e_i d] (h) 0 0 0 (e_ret (e_i (t_acr d)) (h)) := by
  refine e_enter (al0 := [e_i d]) (by decide +kernel) rfl (Nat.le_of_ble_eq_true rfl) ?_
  refine e_iload_n dX6_acrossOf_0 rfl ?_
  refine e_iconst dX6_acrossOf_1 ?_
  refine e_icmp_ne (tgt := 9) dX6_acrossOf_2 rfl ⟨by omega, by omega⟩ ⟨by omega, by omega⟩ (fun c1 => ?_) (fun c1 => ?_)
  · refine e_iload_n dX6_acrossOf_9 rfl ?_
    refine e_iconst dX6_acrossOf_10 ?_
    refine e_icmp_ne (tgt := 18) dX6_acrossOf_11 rfl ⟨by omega, by omega⟩ ⟨by omega, by omega⟩ (fun c2 => ?_) (fun c2 => ?_)
    · refine e_iconst dX6_acrossOf_18 ?_
      refine e_ireturn dX6_acrossOf_19 rfl rfl ?_
      refine e_rv ?_ rfl
      unfold t_acr
      (repeat split) <;> omega
    · refine e_iconst dX6_acrossOf_14 ?_
      refine e_goto (tgt := 19) dX6_acrossOf_15 rfl ?_
      refine e_ireturn dX6_acrossOf_19 rfl rfl ?_
      refine e_rv ?_ rfl
      unfold t_acr
      (repeat split) <;> omega
  · refine e_iconst dX6_acrossOf_5 ?_
    refine e_goto (tgt := 19) dX6_acrossOf_6 rfl ?_
    refine e_ireturn dX6_acrossOf_19 rfl rfl ?_
    refine e_rv ?_ rfl
    unfold t_acr
    (repeat split) <;> omega
theorem C_X6_downOf {h : e_A} {d : Int} (hd : e_rg d) : e_C mX6_downOf [e_i d] (h) 0 0 0 (e_ret (e_i (t_dwn d)) (h)) := by
  refine e_enter (al0 := [e_i d]) (by decide +kernel) rfl (Nat.le_of_ble_eq_true rfl) ?_
  refine e_iload_n dX6_downOf_0 rfl ?_
  refine e_iconst dX6_downOf_1 ?_
  refine e_icmp_ne (tgt := 9) dX6_downOf_2 rfl ⟨by omega, by omega⟩ ⟨by omega, by omega⟩ (fun c1 => ?_) (fun c1 => ?_)
  · refine e_iload_n dX6_downOf_9 rfl ?_
    refine e_if_ne (tgt := 17) dX6_downOf_10 rfl ⟨by omega, by omega⟩ (fun c2 => ?_) (fun c2 => ?_)
    · refine e_iconst dX6_downOf_17 ?_
      refine e_ireturn dX6_downOf_18 rfl rfl ?_
      refine e_rv ?_ rfl
      unfold t_dwn
      (repeat split) <;> omega
    · refine e_iconst dX6_downOf_13 ?_
      refine e_goto (tgt := 18) dX6_downOf_14 rfl ?_
      refine e_ireturn dX6_downOf_18 rfl rfl ?_
      refine e_rv ?_ rfl
      unfold t_dwn
      (repeat split) <;> omega
  · refine e_iconst dX6_downOf_5 ?_
    refine e_goto (tgt := 18) dX6_downOf_6 rfl ?_
    refine e_ireturn dX6_downOf_18 rfl rfl ?_
    refine e_rv ?_ rfl
    unfold t_dwn
    (repeat split) <;> omega
theorem C_X6_bit {h : e_A} {s k : Int} (hs : e_rg s) (hk : 0 ≤ k ∧ k < 32) : e_C mX6_bit [e_i s, e_i k] (h) 0 0 0 (e_ret (e_i (e_bt s k)) (h)) := by
  refine e_enter (al0 := [e_i s, e_i k]) (by decide +kernel) rfl (Nat.le_of_ble_eq_true rfl) ?_
  refine e_iload_n dX6_bit_0 rfl ?_
  refine e_iload_n dX6_bit_1 rfl ?_
  refine e_ishr dX6_bit_2 (e_shr_law hs hk) ?_
  refine e_iconst dX6_bit_3 ?_
  refine e_iand dX6_bit_4 (e_and1_law _) ?_
  refine e_ireturn dX6_bit_5 rfl rfl ?_
  exact ⟨rfl, rfl⟩
theorem C_X6_bits {h : e_A} {s : Int} (hs : e_rg s) : e_C mX6_bits [e_i s] (h) 0 0 0 (e_ret (e_i (e_bsum s 16)) (h)) := by
  refine e_enter (al0 := [e_i s, .retAddr 0, .retAddr 0]) (by decide +kernel) rfl (Nat.le_of_ble_eq_true rfl) ?_
  refine e_iconst dX6_bits_0 ?_
  refine e_istore_n1 dX6_bits_1 rfl ?_
  refine e_iconst dX6_bits_2 ?_
  refine e_istore_n2 dX6_bits_3 rfl ?_
  refine e_for (n := 16) (fun i => e_E mX6_bits 4 [e_i s, e_i (e_bsum s i.toNat), e_i i] [] h 0 0 0 _) (by omega) ?_ (fun i hi0 hi1 hF => ?_)
  · refine e_iload_n dX6_bits_4 rfl ?_
    refine e_bipush dX6_bits_5 rfl ?_
    refine e_icmp_ge (tgt := 24) dX6_bits_7 rfl ⟨by omega, by omega⟩ ⟨by omega, by omega⟩ (fun c1 => ?_) (fun q => by exfalso; omega)
    refine e_iload_n dX6_bits_24 rfl ?_
    refine e_ireturn dX6_bits_25 rfl rfl ?_
    exact ⟨rfl, rfl⟩
  · refine e_iload_n dX6_bits_4 rfl ?_
    refine e_bipush dX6_bits_5 rfl ?_
    refine e_icmp_ge (tgt := 24) dX6_bits_7 rfl ⟨by omega, by omega⟩ ⟨by omega, by omega⟩ (fun q => by exfalso; omega) (fun c2 => ?_)
    refine e_iload_n dX6_bits_10 rfl ?_
    refine e_iload_n dX6_bits_11 rfl ?_
    refine e_iload_n dX6_bits_12 rfl ?_
    refine e_ishr dX6_bits_13 (e_shr_law hs ⟨by omega, by omega⟩) ?_
    refine e_iconst dX6_bits_14 ?_
    refine e_iand dX6_bits_15 (e_and1_law _) ?_
    refine e_iadd dX6_bits_16 ?_
    refine e_istore_n1 dX6_bits_17 rfl ?_
    refine e_iinc2 dX6_bits_18 rfl ?_
    refine e_goto (tgt := 4) dX6_bits_21 rfl ?_
    rw [e_bsum_s s hi0] at hF
    exact hF
theorem C_X6_isYear {σ : t_S} {h0 : e_A} {y : Int} (hz : t_sz σ) (hy : e_rl y) : e_C mX6_isYear [.ref 384, e_j y] (t_H σ h0) 0 0 1 (e_ret (e_i (if t_isY σ y then 1 else 0)) (t_H σ h0)) := by
  have h0 := hz.1
  refine e_enter (al0 := [.ref 384, e_j y, .retAddr 0]) (by decide +kernel) rfl (Nat.le_of_ble_eq_true rfl) ?_
  refine e_aload_n dX6_isYear_0 rfl ?_
  refine e_callV0rz (ci := 6) dX6_isYear_1 md_X6_isColony lk_X6_114 rfl q2149 qs99 (t_obj _ _) (by decide) rfl (Nat.le_of_ble_eq_true rfl) (C_X6_isColony hz) ?_
  refine e_bif_eq (tgt := 24) dX6_isYear_4 rfl (fun c1 => ?_) (fun c1 => ?_)
  · refine e_iconst dX6_isYear_24 ?_
    refine e_ireturn dX6_isYear_25 rfl rfl ?_
    refine e_rv ?_ rfl
    (try split) <;> omega
  · refine e_lload_n dX6_isYear_7 rfl ?_
    refine e_lconst (z := 0) dX6_isYear_8 rfl ?_
    refine e_aload_n dX6_isYear_9 rfl ?_
    refine e_callV0rz (ci := 6) dX6_isYear_10 md_X6_years lk_X6_118 rfl q2096 qs88 (t_obj _ _) (by decide) rfl (Nat.le_of_ble_eq_true rfl) (C_X6_years) ?_
    refine e_i2l dX6_isYear_13 ⟨by omega, by omega⟩ ?_
    refine e_callS3rz dX6_isYear_14 md_X6_in lk_X6_106 rfl q1930 rfl (Nat.le_of_ble_eq_true rfl) (C_X6_in ⟨by omega, by omega⟩ ⟨by omega, by omega⟩ ⟨by omega, by omega⟩) ?_
    refine e_bif_eq (tgt := 24) dX6_isYear_17 rfl (fun c2 => ?_) (fun c2 => ?_)
    · refine e_iconst dX6_isYear_24 ?_
      refine e_ireturn dX6_isYear_25 rfl rfl ?_
      refine e_rv ?_ rfl
      (try split) <;> omega
    · refine e_iconst dX6_isYear_20 ?_
      refine e_goto (tgt := 25) dX6_isYear_21 rfl ?_
      refine e_ireturn dX6_isYear_25 rfl rfl ?_
      refine e_rv ?_ rfl
      (try split) <;> omega
theorem C_X6_isCell {σ : t_S} {h0 : e_A} {c : Int} (hz : t_sz σ) (hc : e_rl c) : e_C mX6_isCell [.ref 384, e_j c] (t_H σ h0) 0 0 1 (e_ret (e_i (if t_isCell σ c then 1 else 0)) (t_H σ h0)) := by
  have h3 := hz.2.1
  have h4 := hz.2.2.1
  refine e_enter (al0 := [.ref 384, e_j c, .retAddr 0]) (by decide +kernel) rfl (Nat.le_of_ble_eq_true rfl) ?_
  refine e_aload_n dX6_isCell_0 rfl ?_
  refine e_callV0rz (ci := 6) dX6_isCell_1 md_X6_isColony lk_X6_114 rfl q2149 qs99 (t_obj _ _) (by decide) rfl (Nat.le_of_ble_eq_true rfl) (C_X6_isColony hz) ?_
  refine e_bif_eq (tgt := 59) dX6_isCell_4 rfl (fun c1 => ?_) (fun c1 => ?_)
  · refine e_iconst dX6_isCell_59 ?_
    refine e_ireturn dX6_isCell_60 rfl rfl ?_
    refine e_rv ?_ rfl
    (try split) <;> omega
  · refine e_lload_n dX6_isCell_7 rfl ?_
    refine e_lconst (z := 0) dX6_isCell_8 rfl ?_
    refine e_lcmp_lt (tgt := 59) dX6_isCell_9 dX6_isCell_10 rfl ⟨by omega, by omega⟩ ⟨by omega, by omega⟩ (fun c2 => ?_) (fun c2 => ?_)
    · refine e_iconst dX6_isCell_59 ?_
      refine e_ireturn dX6_isCell_60 rfl rfl ?_
      refine e_rv ?_ rfl
      (try split) <;> omega
    · refine e_lload_n dX6_isCell_13 rfl ?_
      refine e_ldc2 (z := 10) dX6_isCell_14 q2151 rfl ?_
      refine e_ldiv dX6_isCell_17 ⟨by omega, by omega⟩ ⟨by omega, by omega⟩ ?_
      refine e_lconst (z := 0) dX6_isCell_18 rfl ?_
      refine e_aload_n dX6_isCell_19 rfl ?_
      refine t_geta (k := 1) dX6_isCell_20 fl_X6_9 rfl ?_
      refine e_iconst dX6_isCell_23 ?_
      refine t_ild 149 dX6_isCell_24 rfl (by decide) (fun _ => rfl) rfl ⟨by omega, by omega⟩ ?_
      refine e_iconst dX6_isCell_25 ?_
      refine e_isub dX6_isCell_26 ?_
      refine e_i2l dX6_isCell_27 ⟨by omega, by omega⟩ ?_
      refine e_callS3rz dX6_isCell_28 md_X6_in lk_X6_106 rfl q1930 rfl (Nat.le_of_ble_eq_true rfl) (C_X6_in ⟨by omega, by omega⟩ ⟨by omega, by omega⟩ ⟨by omega, by omega⟩) ?_
      refine e_bif_eq (tgt := 59) dX6_isCell_31 rfl (fun c3 => ?_) (fun c3 => ?_)
      · refine e_iconst dX6_isCell_59 ?_
        refine e_ireturn dX6_isCell_60 rfl rfl ?_
        refine e_rv ?_ rfl
        (try split) <;> omega
      · refine e_lload_n dX6_isCell_34 rfl ?_
        refine e_ldc2 (z := 10) dX6_isCell_35 q2151 rfl ?_
        refine e_lrem dX6_isCell_38 ⟨by omega, by omega⟩ ⟨by omega, by omega⟩ ?_
        refine e_lconst (z := 0) dX6_isCell_39 rfl ?_
        refine e_aload_n dX6_isCell_40 rfl ?_
        refine t_geta (k := 1) dX6_isCell_41 fl_X6_9 rfl ?_
        refine e_iconst dX6_isCell_44 ?_
        refine t_ild 149 dX6_isCell_45 rfl (by decide) (fun _ => rfl) rfl ⟨by omega, by omega⟩ ?_
        refine e_iconst dX6_isCell_46 ?_
        refine e_isub dX6_isCell_47 ?_
        refine e_i2l dX6_isCell_48 ⟨by omega, by omega⟩ ?_
        refine e_callS3rz dX6_isCell_49 md_X6_in lk_X6_106 rfl q1930 rfl (Nat.le_of_ble_eq_true rfl) (C_X6_in ⟨by omega, by omega⟩ ⟨by omega, by omega⟩ ⟨by omega, by omega⟩) ?_
        refine e_bif_eq (tgt := 59) dX6_isCell_52 rfl (fun c4 => ?_) (fun c4 => ?_)
        · refine e_iconst dX6_isCell_59 ?_
          refine e_ireturn dX6_isCell_60 rfl rfl ?_
          refine e_rv ?_ rfl
          (try split) <;> omega
        · refine e_iconst dX6_isCell_55 ?_
          refine e_goto (tgt := 60) dX6_isCell_56 rfl ?_
          refine e_ireturn dX6_isCell_60 rfl rfl ?_
          refine e_rv ?_ rfl
          (try split) <;> omega
theorem C_X6_isWidow {σ : t_S} {h0 : e_A} {w : Int} (hz : t_sz σ) (hw : e_rl w) : e_C mX6_isWidow [.ref 384, e_j w] (t_H σ h0) 0 0 1 (e_ret (e_i (if t_isW σ w then 1 else 0)) (t_H σ h0)) := by
  have h7 := hz.2.2.2.2.2.1
  refine e_enter (al0 := [.ref 384, e_j w, .retAddr 0]) (by decide +kernel) rfl (Nat.le_of_ble_eq_true rfl) ?_
  refine e_lload_n dX6_isWidow_0 rfl ?_
  refine e_lconst (z := 0) dX6_isWidow_1 rfl ?_
  refine e_aload_n dX6_isWidow_2 rfl ?_
  refine e_callV0rz (ci := 6) dX6_isWidow_3 md_X6_widows lk_X6_110 rfl q2059 qs81 (t_obj _ _) (by decide) rfl (Nat.le_of_ble_eq_true rfl) (C_X6_widows) ?_
  refine e_iconst dX6_isWidow_6 ?_
  refine e_isub dX6_isWidow_7 ?_
  refine e_i2l dX6_isWidow_8 ⟨by omega, by omega⟩ ?_
  refine e_callS3rz dX6_isWidow_9 md_X6_in lk_X6_106 rfl q1930 rfl (Nat.le_of_ble_eq_true rfl) (C_X6_in ⟨by omega, by omega⟩ ⟨by omega, by omega⟩ ⟨by omega, by omega⟩) ?_
  refine e_ireturn dX6_isWidow_12 rfl e_nB ?_
  exact ⟨rfl, rfl⟩
theorem C_X6_widowOf {σ : t_S} {h0 : e_A} {w k : Int} (hw : 0 ≤ w ∧ w ≤ 6) (hk : 0 ≤ k ∧ k ≤ 12) : e_C mX6_widowOf [.ref 384, e_i w, e_i k] (t_H σ h0) 0 0 0 (e_ret (e_i (t_wd σ w k)) (t_H σ h0)) := by
  refine e_enter (al0 := [.ref 384, e_i w, e_i k]) (by decide +kernel) rfl (Nat.le_of_ble_eq_true rfl) ?_
  refine e_aload_n dX6_widowOf_0 rfl ?_
  refine t_geta (k := 1) dX6_widowOf_1 fl_X6_9 rfl ?_
  refine e_bipush dX6_widowOf_4 rfl ?_
  refine e_bipush dX6_widowOf_6 rfl ?_
  refine e_iload_n dX6_widowOf_8 rfl ?_
  refine e_imul dX6_widowOf_9 ?_
  refine e_iadd dX6_widowOf_10 ?_
  refine e_iload_n dX6_widowOf_11 rfl ?_
  refine e_iadd dX6_widowOf_12 ?_
  refine t_ild 149 dX6_widowOf_13 rfl (by decide) (fun _ => rfl) rfl ⟨by omega, by omega⟩ ?_
  refine e_ireturn dX6_widowOf_14 rfl rfl ?_
  exact ⟨rfl, rfl⟩
theorem C_X6_allWidows {σ : t_S} {h0 : e_A} (hz : t_sz σ) : e_C mX6_allWidows [.ref 384] (t_H σ h0) 0 0 1 (e_ret (e_i (2 ^ (σ 1 7).toNat - 1)) (t_H σ h0)) := by
  have h7 := hz.2.2.2.2.2.1
  refine e_enter (al0 := [.ref 384]) (by decide +kernel) rfl (Nat.le_of_ble_eq_true rfl) ?_
  refine e_iconst dX6_allWidows_0 ?_
  refine e_aload_n dX6_allWidows_1 rfl ?_
  refine e_callV0rz (ci := 6) dX6_allWidows_2 md_X6_widows lk_X6_110 rfl q2059 qs81 (t_obj _ _) (by decide) rfl (Nat.le_of_ble_eq_true rfl) (C_X6_widows) ?_
  refine e_ishl dX6_allWidows_5 ((e_shl_law 1 ⟨by omega, by omega⟩).trans (by rw [Int.one_mul])) ?_
  refine e_iconst dX6_allWidows_6 ?_
  refine e_isub dX6_allWidows_7 ?_
  refine e_ireturn dX6_allWidows_8 rfl rfl ?_
  exact ⟨rfl, rfl⟩
theorem C_X6_beside {σ : t_S} {h0 : e_A} {c d : Int} (hz : t_sz σ) (hc : 0 ≤ c ∧ c < 80) (hd : 0 ≤ d ∧ d < 4) : e_C mX6_beside [.ref 384, e_i c, e_i d] (t_H σ h0) 0 0 1 (e_ret (e_i (t_bes σ c d)) (t_H σ h0)) := by
  have h3 := hz.2.1
  have h4 := hz.2.2.1
  have ha := t_acr_rg d
  have hb := t_dwn_rg d
  refine e_enter (al0 := [.ref 384, e_i c, e_i d, .retAddr 0, .retAddr 0]) (by decide +kernel) rfl (Nat.le_of_ble_eq_true rfl) ?_
  refine e_iload_n dX6_beside_0 rfl ?_
  refine e_bipush dX6_beside_1 rfl ?_
  refine e_idiv dX6_beside_3 ⟨by omega, by omega⟩ ⟨by omega, by omega⟩ ?_
  refine e_iload_n dX6_beside_4 rfl ?_
  refine e_callS1rz dX6_beside_5 md_X6_acrossOf lk_X6_282 rfl q2122 rfl (Nat.le_of_ble_eq_true rfl) (C_X6_acrossOf ⟨by omega, by omega⟩) ?_
  refine e_iadd dX6_beside_8 ?_
  refine e_istore_n3 dX6_beside_9 rfl ?_
  refine e_iload_n dX6_beside_10 rfl ?_
  refine e_bipush dX6_beside_11 rfl ?_
  refine e_irem dX6_beside_13 ⟨by omega, by omega⟩ ⟨by omega, by omega⟩ ?_
  refine e_iload_n dX6_beside_14 rfl ?_
  refine e_callS1rz dX6_beside_15 md_X6_downOf lk_X6_285 rfl q2125 rfl (Nat.le_of_ble_eq_true rfl) (C_X6_downOf ⟨by omega, by omega⟩) ?_
  refine e_iadd dX6_beside_18 ?_
  refine e_istore4 dX6_beside_19 rfl ?_
  refine e_iload_n dX6_beside_21 rfl ?_
  refine e_i2l dX6_beside_22 ⟨by omega, by omega⟩ ?_
  refine e_lconst (z := 0) dX6_beside_23 rfl ?_
  refine e_aload_n dX6_beside_24 rfl ?_
  refine t_geta (k := 1) dX6_beside_25 fl_X6_9 rfl ?_
  refine e_iconst dX6_beside_28 ?_
  refine t_ild 149 dX6_beside_29 rfl (by decide) (fun _ => rfl) rfl ⟨by omega, by omega⟩ ?_
  refine e_iconst dX6_beside_30 ?_
  refine e_isub dX6_beside_31 ?_
  refine e_i2l dX6_beside_32 ⟨by omega, by omega⟩ ?_
  refine e_callS3rz dX6_beside_33 md_X6_in lk_X6_106 rfl q1930 rfl (Nat.le_of_ble_eq_true rfl) (C_X6_in ⟨by omega, by omega⟩ ⟨by omega, by omega⟩ ⟨by omega, by omega⟩) ?_
  refine e_bif_eq (tgt := 68) dX6_beside_36 rfl (fun c1 => ?_) (fun c1 => ?_)
  · refine e_iconst dX6_beside_68 ?_
    refine e_ireturn dX6_beside_69 rfl rfl ?_
    refine e_rv ?_ rfl
    unfold t_bes
    split <;> omega
  · refine e_iload dX6_beside_39 rfl ?_
    refine e_i2l dX6_beside_41 ⟨by omega, by omega⟩ ?_
    refine e_lconst (z := 0) dX6_beside_42 rfl ?_
    refine e_aload_n dX6_beside_43 rfl ?_
    refine t_geta (k := 1) dX6_beside_44 fl_X6_9 rfl ?_
    refine e_iconst dX6_beside_47 ?_
    refine t_ild 149 dX6_beside_48 rfl (by decide) (fun _ => rfl) rfl ⟨by omega, by omega⟩ ?_
    refine e_iconst dX6_beside_49 ?_
    refine e_isub dX6_beside_50 ?_
    refine e_i2l dX6_beside_51 ⟨by omega, by omega⟩ ?_
    refine e_callS3rz dX6_beside_52 md_X6_in lk_X6_106 rfl q1930 rfl (Nat.le_of_ble_eq_true rfl) (C_X6_in ⟨by omega, by omega⟩ ⟨by omega, by omega⟩ ⟨by omega, by omega⟩) ?_
    refine e_bif_eq (tgt := 68) dX6_beside_55 rfl (fun c2 => ?_) (fun c2 => ?_)
    · refine e_iconst dX6_beside_68 ?_
      refine e_ireturn dX6_beside_69 rfl rfl ?_
      refine e_rv ?_ rfl
      unfold t_bes
      split <;> omega
    · refine e_bipush dX6_beside_58 rfl ?_
      refine e_iload_n dX6_beside_60 rfl ?_
      refine e_imul dX6_beside_61 ?_
      refine e_iload dX6_beside_62 rfl ?_
      refine e_iadd dX6_beside_64 ?_
      refine e_goto (tgt := 69) dX6_beside_65 rfl ?_
      refine e_ireturn dX6_beside_69 rfl rfl ?_
      refine e_rv ?_ rfl
      unfold t_bes
      split <;> omega
theorem C_X6_isFree {σ : t_S} {h0 : e_A} {c law : Int} (h1 : t_b01 σ 15) (h2 : t_b01 σ 22) (h3 : t_b01 σ 23) (hc : -1 ≤ c ∧ c < 80) (hl : 0 ≤ law ∧ law < 4) : e_C mX6_isFree [.ref 384, e_i c, e_i law] (t_H σ h0) 0 0 0 (e_ret (e_i (if t_free σ c law then 1 else 0)) (t_H σ h0)) := by
  have g1 := h1 c
  have g2 := h2 c
  have g3 := h3 c
  refine e_enter (al0 := [.ref 384, e_i c, e_i law]) (by decide +kernel) rfl (Nat.le_of_ble_eq_true rfl) ?_
  refine e_iload_n dX6_isFree_0 rfl ?_
  refine e_iconst dX6_isFree_1 ?_
  refine e_icmp_eq (tgt := 14) dX6_isFree_2 rfl ⟨by omega, by omega⟩ ⟨by omega, by omega⟩ (fun c1 => ?_) (fun c1 => ?_)
  · refine e_iconst dX6_isFree_14 ?_
    refine e_ireturn dX6_isFree_15 rfl rfl ?_
    refine e_rv ?_ rfl
    (try split) <;> omega
  · refine e_aload_n dX6_isFree_5 rfl ?_
    refine t_geta (k := 15) dX6_isFree_6 fl_X6_34 rfl ?_
    refine e_iload_n dX6_isFree_9 rfl ?_
    refine t_zld 80 dX6_isFree_10 rfl (by decide) (fun _ => rfl) rfl ⟨by omega, by omega⟩ ?_
    refine e_if_eq (tgt := 16) dX6_isFree_11 rfl ⟨by omega, by omega⟩ (fun c2 => ?_) (fun c2 => ?_)
    · refine e_iload_n dX6_isFree_16 rfl ?_
      refine e_iconst dX6_isFree_17 ?_
      refine e_icmp_ne (tgt := 30) dX6_isFree_18 rfl ⟨by omega, by omega⟩ ⟨by omega, by omega⟩ (fun c3 => ?_) (fun c3 => ?_)
      · refine e_iload_n dX6_isFree_30 rfl ?_
        refine e_iconst dX6_isFree_31 ?_
        refine e_icmp_ne (tgt := 44) dX6_isFree_32 rfl ⟨by omega, by omega⟩ ⟨by omega, by omega⟩ (fun c4 => ?_) (fun c4 => ?_)
        · refine e_iconst dX6_isFree_44 ?_
          refine e_goto (tgt := 49) dX6_isFree_45 rfl ?_
          refine e_ireturn dX6_isFree_49 rfl rfl ?_
          refine e_rv ?_ rfl
          (try split) <;> omega
        · refine e_aload_n dX6_isFree_35 rfl ?_
          refine t_geta (k := 23) dX6_isFree_36 fl_X6_46 rfl ?_
          refine e_iload_n dX6_isFree_39 rfl ?_
          refine t_zld 80 dX6_isFree_40 rfl (by decide) (fun _ => rfl) rfl ⟨by omega, by omega⟩ ?_
          refine e_if_ne (tgt := 48) dX6_isFree_41 rfl ⟨by omega, by omega⟩ (fun c5 => ?_) (fun c5 => ?_)
          · refine e_iconst dX6_isFree_48 ?_
            refine e_ireturn dX6_isFree_49 rfl rfl ?_
            refine e_rv ?_ rfl
            (try split) <;> omega
          · refine e_iconst dX6_isFree_44 ?_
            refine e_goto (tgt := 49) dX6_isFree_45 rfl ?_
            refine e_ireturn dX6_isFree_49 rfl rfl ?_
            refine e_rv ?_ rfl
            (try split) <;> omega
      · refine e_aload_n dX6_isFree_21 rfl ?_
        refine t_geta (k := 22) dX6_isFree_22 fl_X6_43 rfl ?_
        refine e_iload_n dX6_isFree_25 rfl ?_
        refine t_zld 80 dX6_isFree_26 rfl (by decide) (fun _ => rfl) rfl ⟨by omega, by omega⟩ ?_
        refine e_if_ne (tgt := 48) dX6_isFree_27 rfl ⟨by omega, by omega⟩ (fun c6 => ?_) (fun c6 => ?_)
        · refine e_iconst dX6_isFree_48 ?_
          refine e_ireturn dX6_isFree_49 rfl rfl ?_
          refine e_rv ?_ rfl
          (try split) <;> omega
        · refine e_iload_n dX6_isFree_30 rfl ?_
          refine e_iconst dX6_isFree_31 ?_
          refine e_icmp_ne (tgt := 44) dX6_isFree_32 rfl ⟨by omega, by omega⟩ ⟨by omega, by omega⟩ (fun c7 => ?_) (fun c7 => ?_)
          · refine e_iconst dX6_isFree_44 ?_
            refine e_goto (tgt := 49) dX6_isFree_45 rfl ?_
            refine e_ireturn dX6_isFree_49 rfl rfl ?_
            refine e_rv ?_ rfl
            (try split) <;> omega
          · refine e_aload_n dX6_isFree_35 rfl ?_
            refine t_geta (k := 23) dX6_isFree_36 fl_X6_46 rfl ?_
            refine e_iload_n dX6_isFree_39 rfl ?_
            refine t_zld 80 dX6_isFree_40 rfl (by decide) (fun _ => rfl) rfl ⟨by omega, by omega⟩ ?_
            refine e_if_ne (tgt := 48) dX6_isFree_41 rfl ⟨by omega, by omega⟩ (fun c8 => ?_) (fun c8 => ?_)
            · refine e_iconst dX6_isFree_48 ?_
              refine e_ireturn dX6_isFree_49 rfl rfl ?_
              refine e_rv ?_ rfl
              (try split) <;> omega
            · refine e_iconst dX6_isFree_44 ?_
              refine e_goto (tgt := 49) dX6_isFree_45 rfl ?_
              refine e_ireturn dX6_isFree_49 rfl rfl ?_
              refine e_rv ?_ rfl
              (try split) <;> omega
    · refine e_iconst dX6_isFree_14 ?_
      refine e_ireturn dX6_isFree_15 rfl rfl ?_
      refine e_rv ?_ rfl
      (try split) <;> omega
theorem t_any_0 (σ : t_S) (c law : Int) : t_anyI σ c law 0 = 0 := rfl
theorem t_any_s {σ : t_S} {c law i : Int} (hi : 0 ≤ i) : t_any σ c law (i + 1).toNat ↔ t_any σ c law i.toNat ∨ t_free σ (t_bes σ c i) law := by
  rw [show (i + 1).toNat = i.toNat + 1 by omega]
  show _ ∨ t_free σ (t_bes σ c ((i.toNat : Nat) : Int)) law ↔ _
  rw [Int.toNat_of_nonneg hi]
theorem t_anyI_t {σ : t_S} {c law : Int} {n : Nat} (h : t_any σ c law n) : t_anyI σ c law n = 1 := @if_pos _ (t_anyD σ c law n) h _ _ _
theorem t_anyI_f {σ : t_S} {c law : Int} {n : Nat} (h : ¬ t_any σ c law n) : t_anyI σ c law n = 0 := @if_neg _ (t_anyD σ c law n) h _ _ _
theorem t_anyI_01 (σ : t_S) (c law : Int) (n : Nat) : t_anyI σ c law n = 0 ∨ t_anyI σ c law n = 1 := by
  by_cases h : t_any σ c law n
  · exact Or.inr (t_anyI_t h)
  · exact Or.inl (t_anyI_f h)
theorem C_X6_isAnyFree {σ : t_S} {h0 : e_A} {c law : Int} (hz : t_sz σ) (h1 : t_b01 σ 15) (h2 : t_b01 σ 22) (h3 : t_b01 σ 23) (hc : 0 ≤ c ∧ c < 80) (hl : 0 ≤ law ∧ law < 4) : e_C mX6_isAnyFree [.ref 384, e_i c, e_i law] (t_H σ h0) 0 0 2 (e_ret (e_i (t_anyI σ c law 4)) (t_H σ h0)) := by
  have hb := t_bes_rg hz c
  refine e_enter (al0 := [.ref 384, e_i c, e_i law, .retAddr 0, .retAddr 0]) (by decide +kernel) rfl (Nat.le_of_ble_eq_true rfl) ?_
  refine e_iconst dX6_isAnyFree_0 ?_
  refine e_istore_n3 dX6_isAnyFree_1 rfl ?_
  refine e_iconst dX6_isAnyFree_2 ?_
  refine e_istore4 dX6_isAnyFree_3 rfl ?_
  refine e_for (n := 4) (fun i => e_E mX6_isAnyFree 5 [.ref 384, e_i c, e_i law, e_i (t_anyI σ c law i.toNat), e_i i] [] (t_H σ h0) 0 0 2 _) (by omega) ?_ (fun i hi0 hi1 hF => ?_)
  · refine e_iload dX6_isAnyFree_5 rfl ?_
    refine e_iconst dX6_isAnyFree_7 ?_
    refine e_icmp_ge (tgt := 42) dX6_isAnyFree_8 rfl ⟨by omega, by omega⟩ ⟨by omega, by omega⟩ (fun c1 => ?_) (fun q => by exfalso; omega)
    refine e_iload_n dX6_isAnyFree_42 rfl ?_
    refine e_ireturn dX6_isAnyFree_43 rfl (by rcases t_anyI_01 σ c law 4 with q | q <;> (show narrow .boolean (e_i (t_anyI σ c law 4)) = e_i (t_anyI σ c law 4); rw [q]; rfl)) ?_
    exact ⟨rfl, rfl⟩
  · have h01 := t_anyI_01 σ c law i.toNat
    have hs := t_any_s hi0 (σ := σ) (c := c) (law := law)
    refine e_iload dX6_isAnyFree_5 rfl ?_
    refine e_iconst dX6_isAnyFree_7 ?_
    refine e_icmp_ge (tgt := 42) dX6_isAnyFree_8 rfl ⟨by omega, by omega⟩ ⟨by omega, by omega⟩ (fun q => by exfalso; omega) (fun c2 => ?_)
    refine e_iload_n dX6_isAnyFree_11 rfl ?_
    refine e_if_ne (tgt := 30) dX6_isAnyFree_12 rfl ⟨by omega, by omega⟩ (fun ca => ?_) (fun ca => ?_)
    · refine e_iconst dX6_isAnyFree_30 ?_
      refine e_goto (tgt := 35) dX6_isAnyFree_31 rfl ?_
      refine e_istore_n3 dX6_isAnyFree_35 rfl ?_
      refine e_iinc4 dX6_isAnyFree_36 rfl ?_
      refine e_goto (tgt := 5) dX6_isAnyFree_39 rfl ?_
      first
        | (rw [t_anyI_t (hs.mpr (Or.inr cf))] at hF; exact hF)
        | (rw [t_anyI_f (fun q => (hs.mp q).elim (fun z => by rw [t_anyI_t z] at ca; omega) cf)] at hF; exact hF)
        | (rw [t_anyI_t (hs.mpr (Or.inl (Classical.byContradiction fun z => ca (t_anyI_f z))))] at hF; exact hF)
    · refine e_aload_n dX6_isAnyFree_15 rfl ?_
      refine e_aload_n dX6_isAnyFree_16 rfl ?_
      refine e_iload_n dX6_isAnyFree_17 rfl ?_
      refine e_iload dX6_isAnyFree_18 rfl ?_
      refine e_callV2rz (ci := 6) dX6_isAnyFree_20 md_X6_beside lk_X6_288 rfl q2119 qs93 (t_obj _ _) (by decide) rfl (Nat.le_of_ble_eq_true rfl) (C_X6_beside hz ⟨by omega, by omega⟩ ⟨by omega, by omega⟩) ?_
      refine e_iload_n dX6_isAnyFree_23 rfl ?_
      refine e_callV2rz (ci := 6) dX6_isAnyFree_24 md_X6_isFree lk_X6_291 rfl q2129 qs94 (t_obj _ _) (by decide) rfl (Nat.le_of_ble_eq_true rfl) (C_X6_isFree h1 h2 h3 ⟨(hb i).1, (hb i).2⟩ ⟨by omega, by omega⟩) ?_
      refine e_bif_eq (tgt := 34) dX6_isAnyFree_27 rfl (fun cf => ?_) (fun cf => ?_)
      · refine e_iconst dX6_isAnyFree_34 ?_
        refine e_istore_n3 dX6_isAnyFree_35 rfl ?_
        refine e_iinc4 dX6_isAnyFree_36 rfl ?_
        refine e_goto (tgt := 5) dX6_isAnyFree_39 rfl ?_
        first
          | (rw [t_anyI_t (hs.mpr (Or.inr cf))] at hF; exact hF)
          | (rw [t_anyI_f (fun q => (hs.mp q).elim (fun z => by rw [t_anyI_t z] at ca; omega) cf)] at hF; exact hF)
          | (rw [t_anyI_t (hs.mpr (Or.inl (Classical.byContradiction fun z => ca (t_anyI_f z))))] at hF; exact hF)
      · refine e_iconst dX6_isAnyFree_30 ?_
        refine e_goto (tgt := 35) dX6_isAnyFree_31 rfl ?_
        refine e_istore_n3 dX6_isAnyFree_35 rfl ?_
        refine e_iinc4 dX6_isAnyFree_36 rfl ?_
        refine e_goto (tgt := 5) dX6_isAnyFree_39 rfl ?_
        first
          | (rw [t_anyI_t (hs.mpr (Or.inr cf))] at hF; exact hF)
          | (rw [t_anyI_f (fun q => (hs.mp q).elim (fun z => by rw [t_anyI_t z] at ca; omega) cf)] at hF; exact hF)
          | (rw [t_anyI_t (hs.mpr (Or.inl (Classical.byContradiction fun z => ca (t_anyI_f z))))] at hF; exact hF)
theorem C_X6_turnAt {σ : t_S} {h0 : e_A} {w k : Int} (hw : 0 ≤ w ∧ w ≤ 6) (hk : 0 ≤ k ∧ k < 100) (h4 : 1 ≤ t_wd σ w 4 ∧ t_wd σ w 4 ≤ 8) (ho : e_rg (σ 19 0)) : e_C mX6_turnAt [.ref 384, e_i w, e_i k] (t_H σ h0) 0 0 1 (e_ret (e_i (t_turn σ w k)) (t_H σ h0)) := by
  have g1 := ho.1
  have g2 := ho.2
  have g3 := Int.emod_nonneg k (b := t_wd σ w 4) (by omega)
  have g4 := Int.emod_lt_of_pos k (b := t_wd σ w 4) (by omega)
  refine e_enter (al0 := [.ref 384, e_i w, e_i k]) (by decide +kernel) rfl (Nat.le_of_ble_eq_true rfl) ?_
  refine e_iload_n dX6_turnAt_0 rfl ?_
  refine e_aload_n dX6_turnAt_1 rfl ?_
  refine t_geti (k := 19) dX6_turnAt_2 fl_X6_279 rfl ?_
  refine e_icmp_ne (tgt := 13) dX6_turnAt_5 rfl ⟨by omega, by omega⟩ ⟨by omega, by omega⟩ (fun c1 => ?_) (fun c1 => ?_)
  · refine e_aload_n dX6_turnAt_13 rfl ?_
    refine e_iload_n dX6_turnAt_14 rfl ?_
    refine e_iconst dX6_turnAt_15 ?_
    refine e_iload_n dX6_turnAt_16 rfl ?_
    refine e_aload_n dX6_turnAt_17 rfl ?_
    refine e_iload_n dX6_turnAt_18 rfl ?_
    refine e_iconst dX6_turnAt_19 ?_
    refine e_callV2rz (ci := 6) dX6_turnAt_20 md_X6_widowOf lk_X6_267 rfl q2064 qs82 (t_obj _ _) (by decide) rfl (Nat.le_of_ble_eq_true rfl) (C_X6_widowOf ⟨by omega, by omega⟩ ⟨by omega, by omega⟩) ?_
    refine e_irem dX6_turnAt_23 ⟨by omega, by omega⟩ ⟨by omega, by omega⟩ ?_
    refine e_iadd dX6_turnAt_24 ?_
    refine e_callV2rz (ci := 6) dX6_turnAt_25 md_X6_widowOf lk_X6_267 rfl q2064 qs82 (t_obj _ _) (by decide) rfl (Nat.le_of_ble_eq_true rfl) (C_X6_widowOf ⟨by omega, by omega⟩ ⟨by omega, by omega⟩) ?_
    refine e_ireturn dX6_turnAt_28 rfl rfl ?_
    refine e_rv ?_ rfl
    unfold t_turn
    first | rw [if_pos (by omega)] | rw [if_neg (by omega)]
  · refine e_aload_n dX6_turnAt_8 rfl ?_
    refine t_geti (k := 20) dX6_turnAt_9 fl_X6_295 rfl ?_
    refine e_ireturn dX6_turnAt_12 rfl rfl ?_
    refine e_rv ?_ rfl
    unfold t_turn
    first | rw [if_pos (by omega)] | rw [if_neg (by omega)]
