/-! BITS: sets of numbers as numbers; counting bits -/
set_option maxRecDepth 100000
/-- a mask's bits -/
theorem b_msk {g : Int → Int} (hg : ∀ i, 0 ≤ i → g i = 0 ∨ g i = 1) : ∀ (n : Nat) {k : Int}, 0 ≤ k → e_bt (t_msk g n) k = if k < n then g k else 0
  | 0, k, hk => by
    rw [if_neg (by omega)]
    exact b_0 k
  | n + 1, k, hk => by
    have hr := t_msk_rg g n
    show e_bt (t_msk g n + (if g n = 1 then 2 ^ n else 0)) k = _
    have ih := b_msk hg n hk
    by_cases q : g n = 1
    · rw [if_pos q, show t_msk g n + 2 ^ n = 2 ^ n + t_msk g n by omega]
      by_cases h1 : k < n
      · rw [e_bt_low _ hk h1, ih, if_pos h1, if_pos (by omega)]
      · by_cases h2 : k = n
        · rw [h2, (e_bt_hi hr.1 hr.2).2, if_pos (by omega), q]
        · rw [if_neg (by omega)]
          have h3 : (2 : Int) ^ n + t_msk g n < 2 ^ k.toNat := by
            have h4 := Nat.pow_le_pow_right (n := 2) (by decide) (show n + 1 ≤ k.toNat by omega)
            have e1 : ((2 ^ k.toNat : Nat) : Int) = 2 ^ k.toNat := by simp
            have e2 : ((2 ^ (n + 1) : Nat) : Int) = 2 ^ (n + 1) := by simp
            have e3 : (2 : Int) ^ (n + 1) = 2 ^ n + 2 ^ n := by rw [Int.pow_succ]; omega
            omega
          unfold e_bt
          rw [Int.ediv_eq_zero_of_lt (by have : (0 : Int) < 2 ^ n := Int.pow_pos (by decide); omega) h3]
          rfl
    · rw [if_neg q, Int.add_zero, ih]
      by_cases h1 : k < n
      · rw [if_pos h1, if_pos (by omega)]
      · by_cases h2 : k = n
        · rw [if_neg h1, if_pos (by omega), h2]
          rcases hg n (by omega) with w | w
          · exact w.symm
          · exact absurd w q
        · rw [if_neg h1, if_neg (by omega)]
/-- spots and cells -/
def x_sp (c : Int) : Int := if c = -1 then -1 else 8 * (c / 10) + c % 10
def x_ce (s : Int) : Int := if s = -1 then -1 else 10 * (s / 8) + s % 8
/-- cells of the widest colony -/
def x_c8 (c : Int) : Prop := 0 ≤ c ∧ c < 80 ∧ c % 10 < 8
theorem x_sp_rg {c : Int} (h : x_c8 c) : 0 ≤ x_sp c ∧ x_sp c < 64 ∧ x_ce (x_sp c) = c := by
  obtain ⟨h0, h1, h2⟩ := h
  have e : x_sp c = 8 * (c / 10) + c % 10 := by unfold x_sp; rw [if_neg (by omega)]
  rw [e]
  refine ⟨by omega, by omega, ?_⟩
  unfold x_ce
  rw [if_neg (by omega)]
  omega
theorem x_ce_rg {s : Int} (h : 0 ≤ s ∧ s < 64) : x_c8 (x_ce s) ∧ x_sp (x_ce s) = s := by
  have e : x_ce s = 10 * (s / 8) + s % 8 := by unfold x_ce; rw [if_neg (by omega)]
  rw [e]
  refine ⟨⟨by omega, by omega, by omega⟩, ?_⟩
  unfold x_sp
  rw [if_neg (by omega)]
  omega
theorem x_sp_inj {c e : Int} (hc : x_c8 c) (he : x_c8 e) (h : x_sp c = x_sp e) : c = e := by
  rw [← (x_sp_rg hc).2.2, h, (x_sp_rg he).2.2]
/-- a set of cells, as bits -/
def x_bs (g : Int → Int) : Int := t_msk (fun s => g (x_ce s)) 64
theorem x_bs_rg (g : Int → Int) : 0 ≤ x_bs g ∧ x_bs g < 2 ^ 64 := t_msk_rg _ 64
def x_g01 (g : Int → Int) : Prop := ∀ c, x_c8 c → g c = 0 ∨ g c = 1
theorem x_ce01 {g : Int → Int} (hg : x_g01 g) : ∀ i, 0 ≤ i → i < 64 → g (x_ce i) = 0 ∨ g (x_ce i) = 1 := fun i h0 h1 => hg _ (x_ce_rg ⟨h0, h1⟩).1
theorem t_msk_cg {g k : Int → Int} : ∀ n : Nat, (∀ i : Int, 0 ≤ i → i < n → g i = k i) → t_msk g n = t_msk k n
  | 0, _ => rfl
  | n + 1, h => by
    show t_msk g n + _ = t_msk k n + _
    rw [t_msk_cg n (fun i a b => h i a (by omega)), h n (by omega) (by omega)]
theorem x_bs_cg {g k : Int → Int} (h : ∀ c, x_c8 c → g c = k c) : x_bs g = x_bs k := t_msk_cg 64 (fun i h0 h1 => h _ (x_ce_rg ⟨h0, h1⟩).1)
theorem x_bs_bt {g : Int → Int} (hg : x_g01 g) {s : Int} (hs : 0 ≤ s ∧ s < 64) : e_bt (x_bs g) s = g (x_ce s) := by
  have h := b_msk (g := fun i => if i < 64 then g (x_ce i) else 0) (fun i h0 => by
    show (if i < 64 then _ else (0 : Int)) = 0 ∨ (if i < 64 then _ else (0 : Int)) = 1
    by_cases q : i < 64
    · rw [if_pos q]; exact x_ce01 hg i h0 q
    · rw [if_neg q]; exact Or.inl rfl) 64 hs.1
  have e : x_bs g = t_msk (fun i => if i < 64 then g (x_ce i) else 0) 64 := t_msk_cg 64 (fun i h0 h1 => by
    show _ = if i < 64 then g (x_ce i) else 0
    rw [if_pos (by omega)])
  rw [e, h, if_pos (by omega)]
  show (if s < 64 then g (x_ce s) else 0) = _
  rw [if_pos hs.2]
/-- a number is a set's bits -/
theorem x_bs_of {g : Int → Int} (hg : x_g01 g) {a : Int} (ha : 0 ≤ a ∧ a < 2 ^ 64) (h : ∀ s, 0 ≤ s → s < 64 → e_bt a s = g (x_ce s)) : a = x_bs g :=
  b_ext ha.1 (x_bs_rg g).1 64 ha.2 (x_bs_rg g).2 (fun k k0 k1 => by rw [h k k0 k1, x_bs_bt hg ⟨k0, k1⟩])
theorem x_bs_or {g k u : Int → Int} (hg : x_g01 g) (hk : x_g01 k) (hu : x_g01 u) (h : ∀ c, x_c8 c → u c = if g c = 1 ∨ k c = 1 then 1 else 0) : t_or (x_bs g) (x_bs k) = x_bs u :=
  x_bs_of hu (t_or_rg 64 (x_bs_rg g) (x_bs_rg k)) (fun s s0 s1 => by
    rw [b_or (x_bs_rg g).1 (x_bs_rg k).1 s0, x_bs_bt hg ⟨s0, s1⟩, x_bs_bt hk ⟨s0, s1⟩, h _ (x_ce_rg ⟨s0, s1⟩).1])
theorem x_bs_and {g k u : Int → Int} (hg : x_g01 g) (hk : x_g01 k) (hu : x_g01 u) (h : ∀ c, x_c8 c → u c = if g c = 1 ∧ k c = 1 then 1 else 0) : t_and (x_bs g) (x_bs k) = x_bs u :=
  x_bs_of hu ⟨(t_and_rg (x_bs_rg g).1).1, Int.lt_of_le_of_lt (t_and_rg (x_bs_rg g).1).2 (x_bs_rg g).2⟩ (fun s s0 s1 => by
    rw [b_and (x_bs_rg g).1 (x_bs_rg k).1 s0, x_bs_bt hg ⟨s0, s1⟩, x_bs_bt hk ⟨s0, s1⟩, h _ (x_ce_rg ⟨s0, s1⟩).1])
theorem x_pow_rg {c : Int} (hc : x_c8 c) : 0 ≤ (2 : Int) ^ (x_sp c).toNat ∧ (2 : Int) ^ (x_sp c).toNat < 2 ^ 64 := by
  have h := x_sp_rg hc
  have := e_pow_lt 64 (k := x_sp c) ⟨h.1, h.2.1⟩
  omega
theorem x_ce_eq {c s : Int} (hc : x_c8 c) (hs : 0 ≤ s ∧ s < 64) : s = x_sp c ↔ x_ce s = c := by
  constructor
  · intro h; rw [h]; exact (x_sp_rg hc).2.2
  · intro h; rw [← h]; exact (x_ce_rg hs).2.symm
/-- one cell more -/
theorem x_bs_in {g u : Int → Int} {c : Int} (hg : x_g01 g) (hc : x_c8 c) (h1 : u c = 1) (h : ∀ e, x_c8 e → e ≠ c → u e = g e) : t_or (x_bs g) (2 ^ (x_sp c).toNat) = x_bs u := by
  have hu : x_g01 u := fun e he => by
    by_cases q : e = c
    · rw [q, h1]; exact Or.inr rfl
    · rw [h e he q]; exact hg e he
  refine x_bs_of hu (t_or_rg 64 (x_bs_rg g) (x_pow_rg hc)) (fun s s0 s1 => ?_)
  rw [b_or (x_bs_rg g).1 (x_pow_rg hc).1 s0, x_bs_bt hg ⟨s0, s1⟩, b_pow (x_sp_rg hc).1 s0]
  by_cases q : s = x_sp c
  · rw [if_pos q, if_pos (Or.inr rfl), (x_ce_eq hc ⟨s0, s1⟩).mp q, h1]
  · rw [if_neg q, h _ (x_ce_rg ⟨s0, s1⟩).1 (fun w => q ((x_ce_eq hc ⟨s0, s1⟩).mpr w))]
    rcases hg _ (x_ce_rg ⟨s0, s1⟩).1 with w | w <;> rw [w] <;> simp
/-- one cell less -/
theorem x_bs_out {g u : Int → Int} {c : Int} (hg : x_g01 g) (hc : x_c8 c) (h1 : u c = 0) (h : ∀ e, x_c8 e → e ≠ c → u e = g e) : t_andn (x_bs g) (2 ^ (x_sp c).toNat) = x_bs u := by
  have hu : x_g01 u := fun e he => by
    by_cases q : e = c
    · rw [q, h1]; exact Or.inl rfl
    · rw [h e he q]; exact hg e he
  refine x_bs_of hu (t_andn_rg 64 (x_bs_rg g)) (fun s s0 s1 => ?_)
  rw [b_andn (x_bs_rg g).1 (x_pow_rg hc).1 s0, x_bs_bt hg ⟨s0, s1⟩, b_pow (x_sp_rg hc).1 s0]
  by_cases q : s = x_sp c
  · rw [if_pos q, if_neg (fun w => w.2 rfl), (x_ce_eq hc ⟨s0, s1⟩).mp q, h1]
  · rw [if_neg q, h _ (x_ce_rg ⟨s0, s1⟩).1 (fun w => q ((x_ce_eq hc ⟨s0, s1⟩).mpr w))]
    rcases hg _ (x_ce_rg ⟨s0, s1⟩).1 with w | w <;> rw [w] <;> simp
theorem x_bs_1 {u : Int → Int} {c : Int} (hc : x_c8 c) (h1 : u c = 1) (h : ∀ e, x_c8 e → e ≠ c → u e = 0) : (2 : Int) ^ (x_sp c).toNat = x_bs u := by
  have hu : x_g01 u := fun e he => by
    by_cases q : e = c
    · rw [q, h1]; exact Or.inr rfl
    · rw [h e he q]; exact Or.inl rfl
  refine x_bs_of hu (x_pow_rg hc) (fun s s0 s1 => ?_)
  rw [b_pow (x_sp_rg hc).1 s0]
  by_cases q : s = x_sp c
  · rw [if_pos q, (x_ce_eq hc ⟨s0, s1⟩).mp q, h1]
  · rw [if_neg q, h _ (x_ce_rg ⟨s0, s1⟩).1 (fun w => q ((x_ce_eq hc ⟨s0, s1⟩).mpr w))]
theorem x_bs_0 {u : Int → Int} (h : ∀ e, x_c8 e → u e = 0) : (0 : Int) = x_bs u :=
  x_bs_of (fun e he => Or.inl (h e he)) (by decide) (fun s s0 s1 => by rw [b_0, h _ (x_ce_rg ⟨s0, s1⟩).1])
