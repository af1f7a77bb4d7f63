/-! THE TWIN'S PURE FORM: loops, bits; as it is, walks, all of them -/
set_option maxRecDepth 100000
def t_it {α : Type} (f : Int → α → α) : Nat → α → α
  | 0, x => x
  | n + 1, x => f (n : Int) (t_it f n x)
theorem t_it_s {α : Type} (f : Int → α → α) (x : α) {i : Int} (hi : 0 ≤ i) : t_it f (i + 1).toNat x = f i (t_it f i.toNat x) := by
  rw [show (i + 1).toNat = i.toNat + 1 by omega]
  show f ((i.toNat : Nat) : Int) _ = _
  rw [Int.toNat_of_nonneg hi]
/-- what a loop keeps -/
theorem t_it_P {α : Type} {f : Int → α → α} {x : α} (P : Int → α → Prop) (h0 : P 0 x) : ∀ n : Nat, (∀ i y, 0 ≤ i → i < n → P i y → P (i + 1) (f i y)) → P n (t_it f n x)
  | 0, _ => h0
  | n + 1, h => h n _ (by omega) (by omega) (t_it_P P h0 n (fun i y a b c => h i y a (by omega) c))
theorem t_it_k {f : Int → t_S → t_S} {k : Nat} (h : ∀ i τ, f i τ k = τ k) (n : Nat) (σ : t_S) : t_it f n σ k = σ k :=
  t_it_P (fun _ τ => τ k = σ k) rfl n (fun i y _ _ e => (h i y).trans e)
theorem s_up_f {σ : t_S} {k k1 : Nat} {j z : Int} (h : k1 ≠ k) : s_up σ k j z k1 = σ k1 := funext fun _ => s_up_k h
theorem s_fl_f {σ : t_S} {k k1 : Nat} {n : Int} {g : Int → Int} (h : k1 ≠ k) : s_fl σ k n g k1 = σ k1 := funext fun _ => s_fl_k h
theorem s_up_j {σ : t_S} {k : Nat} {j j1 z : Int} (h : j1 ≠ j) : s_up σ k j z k j1 = σ k j1 := s_up_ne (fun q => h q.2)
def t_or (a b : Int) : Int := ((a.toNat ||| b.toNat : Nat) : Int)
def t_and (a b : Int) : Int := ((a.toNat &&& b.toNat : Nat) : Int)
def t_xor (a b : Int) : Int := ((a.toNat ^^^ b.toNat : Nat) : Int)
def t_andn (a b : Int) : Int := ((a.toNat ^^^ (a.toNat &&& b.toNat) : Nat) : Int)
theorem t_or_rg (n : Nat) {a b : Int} (ha : 0 ≤ a ∧ a < 2 ^ n) (hb : 0 ≤ b ∧ b < 2 ^ n) : 0 ≤ t_or a b ∧ t_or a b < 2 ^ n := by
  unfold t_or
  have h1 : a.toNat < 2 ^ n := by have := ha.2; have e : ((2 ^ n : Nat) : Int) = 2 ^ n := by simp
                                  omega
  have h2 : b.toNat < 2 ^ n := by have := hb.2; have e : ((2 ^ n : Nat) : Int) = 2 ^ n := by simp
                                  omega
  have h3 := Nat.or_lt_two_pow h1 h2
  have e : ((2 ^ n : Nat) : Int) = 2 ^ n := by simp
  omega
theorem t_and_rg {a b : Int} (ha : 0 ≤ a) : 0 ≤ t_and a b ∧ t_and a b ≤ a := by
  unfold t_and
  have := @Nat.and_le_left a.toNat b.toNat
  omega
theorem t_andn_rg (n : Nat) {a b : Int} (ha : 0 ≤ a ∧ a < 2 ^ n) : 0 ≤ t_andn a b ∧ t_andn a b < 2 ^ n := by
  unfold t_andn
  have e : ((2 ^ n : Nat) : Int) = 2 ^ n := by simp
  have h1 : a.toNat < 2 ^ n := by have := ha.2; omega
  have h2 : a.toNat &&& b.toNat < 2 ^ n := Nat.lt_of_le_of_lt Nat.and_le_left h1
  have h3 := Nat.xor_lt_two_pow h1 h2
  omega
theorem e_not_law (b : Int) : Int32.ofInt b ^^^ Int32.ofInt (-1) = Int32.ofInt (-1 - b) := by
  apply Int32.toBitVec_inj.mp
  show BitVec.ofInt 32 b ^^^ BitVec.ofInt 32 (-1) = BitVec.ofInt 32 (-1 - b)
  rw [show BitVec.ofInt 32 (-1) = BitVec.allOnes 32 from rfl, BitVec.xor_allOnes]
  have h1 : ~~~(BitVec.ofInt 32 b) = -(BitVec.ofInt 32 b) - 1#32 := by
    rw [BitVec.neg_eq_not_add, BitVec.add_sub_cancel]
  rw [h1, ← BitVec.ofInt_neg]
  apply BitVec.eq_of_toInt_eq
  rw [BitVec.toInt_sub]
  simp only [BitVec.toInt_ofInt]
  simp
  congr 1
  omega
theorem e_andn_law {a b : Int} (ha : 0 ≤ a) (hb : 0 ≤ b) : Int32.ofInt a &&& Int32.ofInt (-1 - b) = Int32.ofInt (t_andn a b) := by
  unfold t_andn
  rw [← e_xor_nat, ← e_and_nat, Int.toNat_of_nonneg ha, Int.toNat_of_nonneg hb, ← e_not_law]
  apply Int32.toBitVec_inj.mp
  show BitVec.ofInt 32 a &&& (BitVec.ofInt 32 b ^^^ BitVec.ofInt 32 (-1)) = BitVec.ofInt 32 a ^^^ (BitVec.ofInt 32 a &&& BitVec.ofInt 32 b)
  rw [show BitVec.ofInt 32 (-1) = BitVec.allOnes 32 from rfl, BitVec.xor_allOnes]
  apply BitVec.eq_of_getLsbD_eq
  intro i hi
  simp only [BitVec.getLsbD_and, BitVec.getLsbD_not, BitVec.getLsbD_xor, hi, decide_true, Bool.true_and]
  cases BitVec.getLsbD (BitVec.ofInt 32 a) i <;> cases BitVec.getLsbD (BitVec.ofInt 32 b) i <;> rfl
/-- any of the first n -/
def t_anyg (g : Int → Int) : Nat → Int
  | 0 => 0
  | n + 1 => if t_anyg g n = 1 then 1 else g n
theorem t_anyg_s (g : Int → Int) {i : Int} (hi : 0 ≤ i) : t_anyg g (i + 1).toNat = if t_anyg g i.toNat = 1 then 1 else g i := by
  rw [show (i + 1).toNat = i.toNat + 1 by omega]
  show (if t_anyg g i.toNat = 1 then 1 else g ((i.toNat : Nat) : Int)) = _
  rw [Int.toNat_of_nonneg hi]
theorem t_anyg01 {g : Int → Int} (hg : ∀ i, g i = 0 ∨ g i = 1) : ∀ n, t_anyg g n = 0 ∨ t_anyg g n = 1
  | 0 => Or.inl rfl
  | n + 1 => by
    unfold t_anyg
    split
    · exact Or.inr rfl
    · exact hg n
/-- the first from i, m at most, or none -/
def t_fnd (g : Int → Int) : Nat → Int → Int
  | 0, _ => -1
  | m + 1, i => if g i = 1 then i else t_fnd g m (i + 1)
theorem t_fnd_s (g : Int → Int) {i n : Int} (hi : i < n) : t_fnd g (n - i).toNat i = if g i = 1 then i else t_fnd g (n - (i + 1)).toNat (i + 1) := by
  rw [show (n - i).toNat = (n - (i + 1)).toNat + 1 by omega]
  rfl
theorem t_fnd_rg (g : Int → Int) : ∀ (m : Nat) (i : Int), 0 ≤ i → -1 ≤ t_fnd g m i ∧ t_fnd g m i < i + m ∨ t_fnd g m i = -1
  | 0, i, h => Or.inr rfl
  | m + 1, i, h => by
    unfold t_fnd
    split
    · left; omega
    · rcases t_fnd_rg g m (i + 1) (by omega) with q | q
      · left; omega
      · right; exact q
/-- the sum of the first n -/
def t_sum (g : Int → Int) : Nat → Int
  | 0 => 0
  | n + 1 => t_sum g n + g n
theorem t_sum_s (g : Int → Int) {i : Int} (hi : 0 ≤ i) : t_sum g (i + 1).toNat = t_sum g i.toNat + g i := by
  rw [show (i + 1).toNat = i.toNat + 1 by omega]
  show t_sum g i.toNat + g ((i.toNat : Nat) : Int) = _
  rw [Int.toNat_of_nonneg hi]
theorem t_sum_rg {g : Int → Int} {b : Int} : ∀ n : Nat, (∀ i : Int, 0 ≤ i → i < n → 0 ≤ g i ∧ g i ≤ b) → 0 ≤ t_sum g n ∧ t_sum g n ≤ n * b
  | 0, _ => ⟨Int.le_refl _, by simp [t_sum]⟩
  | n + 1, h => by
    have h1 := t_sum_rg n (fun i a c => h i a (by omega))
    have h2 := h n (by omega) (by omega)
    have h3 : t_sum g (n + 1) = t_sum g n + g n := rfl
    have h4 : ((n + 1 : Nat) : Int) * b = n * b + b := by rw [Int.natCast_add, Int.add_mul]; simp
    omega
/-- a mask out of 0/1 -/
def t_msk (g : Int → Int) : Nat → Int
  | 0 => 0
  | n + 1 => t_msk g n + (if g n = 1 then 2 ^ n else 0)
theorem t_msk_rg (g : Int → Int) : ∀ n : Nat, 0 ≤ t_msk g n ∧ t_msk g n < 2 ^ n
  | 0 => ⟨Int.le_refl _, (by decide : (0 : Int) < 2 ^ 0)⟩
  | n + 1 => by
    have h1 := t_msk_rg g n
    have h3 : t_msk g (n + 1) = t_msk g n + (if g n = 1 then 2 ^ n else 0) := rfl
    have h4 : (2 : Int) ^ (n + 1) = 2 ^ n + 2 ^ n := by rw [Int.pow_succ]; omega
    rw [h3, h4]
    split <;> omega
theorem t_msk_s (g : Int → Int) {i : Int} (hi : 0 ≤ i) : t_msk g (i + 1).toNat = t_msk g i.toNat + (if g i = 1 then 2 ^ i.toNat else 0) := by
  rw [show (i + 1).toNat = i.toNat + 1 by omega]
  show t_msk g i.toNat + (if g ((i.toNat : Nat) : Int) = 1 then 2 ^ i.toNat else 0) = _
  rw [Int.toNat_of_nonneg hi]
/-- the row is sound -/
def t_okC (r : Int → Int) (c : Int) : Prop := 0 ≤ c ∧ c / 10 ≤ r 3 - 1 ∧ c % 10 ≤ r 4 - 1
def t_okW (r : Int → Int) (w : Int) : Prop := t_okC r (r (28 + 13 * w)) ∧ (0 ≤ r (28 + 13 * w + 1) ∧ r (28 + 13 * w + 1) < 4) ∧ (1 ≤ r (28 + 13 * w + 2) ∧ r (28 + 13 * w + 2) ≤ 40) ∧ (0 ≤ r (28 + 13 * w + 3) ∧ r (28 + 13 * w + 3) < 12) ∧ (1 ≤ r (28 + 13 * w + 4) ∧ r (28 + 13 * w + 4) ≤ 8) ∧ ∀ k, 0 ≤ k → k < r (28 + 13 * w + 4) → 0 ≤ r (28 + 13 * w + (5 + k)) ∧ r (28 + 13 * w + (5 + k)) < 4
def t_okR (r : Int → Int) : Prop := (∀ k, 0 ≤ k → k < r 5 → t_okC r (r (10 + k))) ∧ (∀ k, 0 ≤ k → k < r 6 → t_okC r (r (22 + k))) ∧ (∀ w, 0 ≤ w → w < r 7 → t_okW r w) ∧ (∀ i, 0 ≤ i → i < r 8 → t_okC r (r (119 + i)) ∨ (1000 ≤ r (119 + i) ∧ r (119 + i) < 1000 + r 7)) ∧ (∀ h, 0 ≤ h → h < 6 → 0 ≤ r (22 + h) ∧ r (22 + h) < 80) ∧ (∀ w, 0 ≤ w → w < 7 → 0 ≤ r (28 + 13 * w + 1) ∧ r (28 + 13 * w + 1) < 4) ∧ (0 ≤ r 1 ∧ r 1 < 4) ∧ (0 ≤ r 2 ∧ r 2 ≤ 10)
/-- as it is -/
def t_is0 (σ : t_S) : t_S := s_up (s_up (s_up σ 17 0 (σ 1 1)) 18 0 (2 ^ (s_up σ 17 0 (σ 1 1) 1 7).toNat - 1)) 19 0 (-1)
def t_is1f : Int → t_S → t_S := fun c τ => s_up τ 15 c 0
def t_is2f : Int → t_S → t_S := fun k τ => s_up τ 15 (τ 1 (10 + k)) 1
def t_is3f : Int → t_S → t_S := fun i τ => if τ 1 (119 + i) < 1000 then s_up τ 15 (τ 1 (119 + i)) 0 else s_up τ 18 0 (t_andn (τ 18 0) (2 ^ (τ 1 (119 + i) - 1000).toNat))
def t_is4f : Int → t_S → t_S := fun w τ => s_up τ 16 w (t_wd τ w 1)
def t_is1 (σ : t_S) : t_S := t_it t_is1f 80 (t_is0 σ)
def t_is2 (σ : t_S) : t_S := t_it t_is2f (σ 1 5).toNat (t_is1 σ)
def t_is3 (σ : t_S) : t_S := t_it t_is3f (σ 1 8).toNat (t_is2 σ)
def t_is (σ : t_S) : t_S := t_it t_is4f 7 (t_is3 σ)
theorem t_is3f_k {k : Nat} (h1 : k ≠ 15) (h2 : k ≠ 18) (i : Int) (τ : t_S) : t_is3f i τ k = τ k := by
  unfold t_is3f
  split
  · exact s_up_f h1
  · exact s_up_f h2
theorem t_is0_k {k : Nat} (h1 : k ≠ 17) (h2 : k ≠ 18) (h3 : k ≠ 19) (σ : t_S) : t_is0 σ k = σ k := (s_up_f h3).trans ((s_up_f h2).trans (s_up_f h1))
theorem t_is1_k {k : Nat} (h0 : k ≠ 15) (h1 : k ≠ 17) (h2 : k ≠ 18) (h3 : k ≠ 19) (σ : t_S) : t_is1 σ k = σ k := (t_it_k (fun _ _ => s_up_f h0) _ _).trans (t_is0_k h1 h2 h3 σ)
theorem t_is2_k {k : Nat} (h0 : k ≠ 15) (h1 : k ≠ 17) (h2 : k ≠ 18) (h3 : k ≠ 19) (σ : t_S) : t_is2 σ k = σ k := (t_it_k (fun _ _ => s_up_f h0) _ _).trans (t_is1_k h0 h1 h2 h3 σ)
theorem t_is3_k {k : Nat} (h0 : k ≠ 15) (h1 : k ≠ 17) (h2 : k ≠ 18) (h3 : k ≠ 19) (σ : t_S) : t_is3 σ k = σ k := (t_it_k (fun _ _ => t_is3f_k h0 h2 _ _) _ _).trans (t_is2_k h0 h1 h2 h3 σ)
theorem t_is_k {k : Nat} (h0 : k ≠ 15) (h4 : k ≠ 16) (h1 : k ≠ 17) (h2 : k ≠ 18) (h3 : k ≠ 19) (σ : t_S) : t_is σ k = σ k := (t_it_k (fun _ _ => s_up_f h4) _ _).trans (t_is3_k h0 h1 h2 h3 σ)
/-- a year is kept -/
def t_kp1f (y : Int) : Int → t_S → t_S := fun c τ => s_up (s_up τ 30 (80 * y + c) (τ 21 c)) 31 (80 * y + c) (s_up τ 30 (80 * y + c) (τ 21 c) 24 c)
def t_kp2f (y : Int) : Int → t_S → t_S := fun h τ => s_up τ 32 (6 * y + h) (τ 25 h)
def t_kp (y : Int) (σ : t_S) : t_S := t_it (t_kp2f y) 6 (t_it (t_kp1f y) 80 σ)
theorem t_kp1f_k {y : Int} {k : Nat} (h1 : k ≠ 30) (h2 : k ≠ 31) (i : Int) (τ : t_S) : t_kp1f y i τ k = τ k := (s_up_f h2).trans (s_up_f h1)
theorem t_kp_k {y : Int} {k : Nat} (h1 : k ≠ 30) (h2 : k ≠ 31) (h3 : k ≠ 32) (σ : t_S) : t_kp y σ k = σ k := (t_it_k (fun _ _ => s_up_f h3) _ _).trans (t_it_k (t_kp1f_k h1 h2) _ _)
/-- houses -/
abbrev t_hsg (σ : t_S) (c : Int) : Int → Int := fun h => if σ 25 h = c then 1 else 0
abbrev t_hs (σ : t_S) (c : Int) : Int := t_anyg (t_hsg σ c) (σ 1 6).toNat
def t_emg (σ : t_S) : Int → Int := fun c => if t_isCell σ c ∧ σ 15 c = 0 ∧ σ 21 c = 0 ∧ t_hs σ c = 0 then 1 else 0
def t_emp (σ : t_S) : Int := t_fnd (t_emg σ) 80 0
def t_mhf (w : Int) : Int → t_S → t_S := fun h τ => if τ 25 h = -1 ∨ τ 23 (τ 25 h) = 0 then τ else s_up (s_up (s_up τ 25 h (t_emp τ)) 28 w (s_up τ 25 h (t_emp τ) 28 w + 1)) 29 h (s_up (s_up τ 25 h (t_emp τ)) 28 w (s_up τ 25 h (t_emp τ) 28 w + 1) 29 h + 1)
def t_mh (w : Int) (σ : t_S) : t_S := t_it (t_mhf w) (σ 1 6).toNat (s_up σ 28 w 0)
theorem t_mhf_k {w : Int} {k : Nat} (h1 : k ≠ 25) (h2 : k ≠ 28) (h3 : k ≠ 29) (i : Int) (τ : t_S) : t_mhf w i τ k = τ k := by
  unfold t_mhf
  split
  · rfl
  · exact (s_up_f h3).trans ((s_up_f h2).trans (s_up_f h1))
theorem t_mh_k {w : Int} {k : Nat} (h1 : k ≠ 25) (h2 : k ≠ 28) (h3 : k ≠ 29) (σ : t_S) : t_mh w σ k = σ k := (t_it_k (t_mhf_k h1 h2 h3) _ _).trans (s_up_f h2)
/-- a walk -/
def t_trn (σ : t_S) (c f law : Int) : Nat → Int → Int
  | 0, t => t
  | m + 1, t => if t_free σ (t_bes σ c ((f + t) % 4)) law then t else t_trn σ c f law m (t + 1)
theorem t_trn_s (σ : t_S) (c f law : Int) {t : Int} (ht : t < 4) : t_trn σ c f law (4 - t).toNat t = if t_free σ (t_bes σ c ((f + t) % 4)) law then t else t_trn σ c f law (4 - (t + 1)).toNat (t + 1) := by
  rw [show (4 - t).toNat = (4 - (t + 1)).toNat + 1 by omega]
  rfl
abbrev t_law (σ : t_S) (c : Int) : Int := if t_anyI σ c (σ 17 0) 4 = 1 then σ 17 0 else 0
abbrev t_X : Type := t_S × Int × Int × Int
def t_go1 (w c to f : Int) (σ : t_S) : t_S := s_up (s_up (s_up σ 24 c (t_or (σ 24 c) (2 ^ f.toNat))) 24 to (t_or (s_up σ 24 c (t_or (σ 24 c) (2 ^ f.toNat)) 24 to) (2 ^ ((f + 2) % 4).toNat))) 23 to 1
def t_go2 (w c : Int) (σ : t_S) : t_S := s_up (s_up σ 27 w (σ 27 w + 1)) 26 (41 * w + s_up σ 27 w (σ 27 w + 1) 27 w) c
def t_stpA (w k : Int) (x : t_X) (f1 n : Int) : t_X :=
  if n < 4 then (t_go2 w (t_bes x.1 x.2.2.1 ((f1 + n) % 4)) (t_go1 w x.2.2.1 (t_bes x.1 x.2.2.1 ((f1 + n) % 4)) ((f1 + n) % 4) x.1), (f1 + n) % 4, t_bes x.1 x.2.2.1 ((f1 + n) % 4), if x.1 17 0 = 3 ∧ x.1 22 (t_bes x.1 x.2.2.1 ((f1 + n) % 4)) = 1 then 0 else 1)
  else (t_go2 w x.2.2.1 x.1, f1, x.2.2.1, 1)
def t_stp (w : Int) : Int → t_X → t_X := fun k x => if x.2.2.2 = 1 then t_stpA w k x ((x.2.1 + t_turn x.1 w k) % 4) (t_trn x.1 x.2.2.1 ((x.2.1 + t_turn x.1 w k) % 4) (t_law x.1 x.2.2.1) 4 0) else x
def t_wk1f : Int → t_S → t_S := fun c τ => s_up (s_up τ 22 c (τ 21 c)) 23 c 0
def t_wk1 (w : Int) (σ : t_S) : t_S := s_up (s_up (s_up σ 26 (41 * w) (t_wd σ w 0)) 23 (t_wd σ w 0) 1) 27 w 0
def t_wk3f : Int → t_S → t_S := fun c τ => s_up τ 21 c (if τ 21 c = 1 ∨ τ 23 c = 1 then 1 else 0)
def t_wk0 (σ : t_S) : t_S := t_it t_wk1f 80 σ
def t_wkx (w : Int) (σ : t_S) : t_X := (t_wk1 w (t_wk0 σ), t_wk0 σ 16 w, t_wd (t_wk0 σ) w 0, 1)
def t_wkX (w : Int) (σ : t_S) : t_X := t_it (t_stp w) (t_wd σ w 2).toNat (t_wkx w σ)
def t_wk (w : Int) (σ : t_S) : t_S := t_mh w (t_it t_wk3f 80 (t_wkX w σ).1)
/-- all walks -/
def t_ga1f : Int → t_S → t_S := fun c τ => s_up (s_up τ 21 c 0) 24 c 0
def t_ga2f : Int → t_S → t_S := fun h τ => s_up (s_up τ 25 h (τ 1 (22 + h))) 29 h 0
def t_ga3f : Int → t_S → t_S := fun w τ => s_up τ 27 w (-1)
def t_ga0 (σ : t_S) : t_S := t_it t_ga3f 7 (t_it t_ga2f 6 (t_it t_ga1f 80 σ))
def t_yrf (y : Int) : Int → t_S → t_S := fun w τ => if t_wd τ w 3 = y ∧ e_bt (τ 18 0) w = 1 then t_wk w τ else τ
def t_yr : Int → t_S → t_S := fun y τ => t_it (t_yrf y) (if y < τ 1 0 then (τ 1 7).toNat else 0) (t_kp y τ)
def t_ga (σ : t_S) : t_S := t_it t_yr (σ 1 0 + 1).toNat (t_ga0 σ)
/-- a local is forgotten -/
theorem e_fgt {M : e_M} {pc : Nat} {al st : List Value} {h : e_A} {kc ks d : Nat} {Q : e_R → e_A → Prop} (i : Nat) (k : e_E M pc (al.set i (.retAddr 0)) st h kc ks d Q) : e_E M pc al st h kc ks d Q := by
  intro g p e R s m args below meth c R0 hA Rf H locs cells slots ls sr hS hl hv
  refine k g p e R s m args below meth c R0 hA Rf H locs cells slots ls sr hS ⟨by rw [List.length_set]; exact hl.1, hl.2.1, hl.2.2.1, fun j v hj hn => ?_⟩ hv
  by_cases hij : i = j
  · subst hij
    rw [List.getElem?_set_self' ] at hj
    cases hq : al[i]? with
    | none => rw [hq] at hj; cases hj
    | some w => rw [hq] at hj; cases hj; exact absurd rfl hn
  · rw [List.getElem?_set_ne hij] at hj
    exact hl.2.2.2 j v hj hn
theorem e_fgs {M : e_M} {pc : Nat} {st : List Value} {h : e_A} {kc ks d : Nat} {Q : e_R → e_A → Prop} : ∀ (is : List Nat) {al : List Value}, e_E M pc (is.foldl (fun a i => a.set i (.retAddr 0)) al) st h kc ks d Q → e_E M pc al st h kc ks d Q
  | [], _, k => k
  | i :: is, _, k => e_fgt i (e_fgs is k)
theorem t_or_law {a b : Int} (ha : 0 ≤ a) (hb : 0 ≤ b) : Int32.ofInt a ||| Int32.ofInt b = Int32.ofInt (t_or a b) := e_or_law ha hb
theorem t_and_law {a b : Int} (ha : 0 ≤ a) (hb : 0 ≤ b) : Int32.ofInt a &&& Int32.ofInt b = Int32.ofInt (t_and a b) := e_and_law ha hb
theorem t_xor_law {a b : Int} (ha : 0 ≤ a) (hb : 0 ≤ b) : Int32.ofInt a ^^^ Int32.ofInt b = Int32.ofInt (t_xor a b) := e_xor_law ha hb
theorem t_p2 (n : Nat) : (0 : Int) ≤ 2 ^ n := by
  have e : ((2 ^ n : Nat) : Int) = 2 ^ n := by simp
  rw [← e]; exact Int.natCast_nonneg _
theorem t_shl1 {k : Int} (hk : 0 ≤ k ∧ k < 32) : Int32.ofInt 1 <<< (Int32.ofInt k &&& 31) = Int32.ofInt (2 ^ k.toNat) := (e_shl_law 1 hk).trans (by rw [Int.one_mul])
theorem t_p16 {f : Int} (h : 0 ≤ f ∧ f < 4) : (0 : Int) ≤ 2 ^ f.toNat ∧ (2 : Int) ^ f.toNat < 2 ^ 4 := ⟨t_p2 _, (e_pow_lt 4 ⟨h.1, by omega⟩).2⟩
def t_hrg (σ : t_S) : Prop := ∀ h, 0 ≤ h → h < 6 → -1 ≤ σ 25 h ∧ σ 25 h < 80
def t_prg (σ : t_S) : Prop := ∀ c, 0 ≤ c → c < 80 → 0 ≤ σ 24 c ∧ σ 24 c < 2 ^ 4
theorem t_hs01 (σ : t_S) (c : Int) (n : Nat) : t_anyg (t_hsg σ c) n = 0 ∨ t_anyg (t_hsg σ c) n = 1 := t_anyg01 (fun i => by show (if _ then (1 : Int) else 0) = 0 ∨ (if _ then (1 : Int) else 0) = 1; split <;> simp) n
theorem t_emp_rg (σ : t_S) : -1 ≤ t_emp σ ∧ t_emp σ < 80 := by
  have := t_fnd_rg (t_emg σ) 80 0 (Int.le_refl 0)
  unfold t_emp
  omega
theorem t_mh_25 {w : Int} {σ : t_S} (hh : t_hrg σ) (n : Nat) : t_hrg (t_it (t_mhf w) n σ) := by
  refine t_it_P (fun _ τ => t_hrg τ) hh n (fun i y _ _ h => ?_)
  unfold t_mhf
  split
  · exact h
  · intro k k0 k1
    rw [s_up_k (by decide), s_up_k (by decide)]
    unfold s_up
    split
    · exact t_emp_rg y
    · exact h k k0 k1
theorem t_trn_P (σ : t_S) (c f law : Int) : ∀ (m : Nat) (t : Int), (t ≤ t_trn σ c f law m t ∧ t_trn σ c f law m t ≤ t + m) ∧ (t_trn σ c f law m t < t + m → t_free σ (t_bes σ c ((f + t_trn σ c f law m t) % 4)) law)
  | 0, t => ⟨⟨Int.le_refl _, by show t ≤ t + 0; omega⟩, fun h => by exfalso; have : t_trn σ c f law 0 t = t := rfl; omega⟩
  | m + 1, t => by
    unfold t_trn
    split
    · rename_i q
      exact ⟨⟨Int.le_refl _, by omega⟩, fun _ => q⟩
    · obtain ⟨⟨h1, h2⟩, h3⟩ := t_trn_P σ c f law m (t + 1)
      exact ⟨⟨by omega, by omega⟩, fun h => h3 (by omega)⟩
def t_oneR (σ : t_S) : Prop := (-1 ≤ σ 19 0 ∧ σ 19 0 < 7) ∧ (σ 19 0 = -1 ∨ (0 ≤ σ 20 0 ∧ σ 20 0 < 4))
theorem t_turn_rg {σ : t_S} {w k : Int} (hw : t_okW (σ 1) w) (h0 : 0 ≤ w) (ho : t_oneR σ) : 0 ≤ t_turn σ w k ∧ t_turn σ w k < 4 := by
  unfold t_turn
  obtain ⟨-, -, -, -, h4, h5⟩ := hw
  split
  · rcases ho.2 with q | q <;> omega
  · exact h5 _ (Int.emod_nonneg _ (by show σ 1 (28 + 13 * w + 4) ≠ 0; omega)) (Int.emod_lt_of_pos _ (by show 0 < σ 1 (28 + 13 * w + 4); omega))
/-- what holds in a walk -/
def t_inX (w : Int) (τ : t_S) (k : Int) (x : t_X) : Prop := (∀ j, j ≠ 23 → j ≠ 24 → j ≠ 26 → j ≠ 27 → x.1 j = τ j) ∧ t_b01 x.1 23 ∧ t_prg x.1 ∧ (0 ≤ x.2.1 ∧ x.2.1 < 4) ∧ (0 ≤ x.2.2.1 ∧ x.2.2.1 < 80) ∧ (x.2.2.2 = 0 ∨ x.2.2.2 = 1) ∧ 0 ≤ x.1 27 w ∧ x.1 27 w ≤ k
theorem t_go1_k {w c to f : Int} {σ : t_S} {j : Nat} (h1 : j ≠ 23) (h2 : j ≠ 24) : t_go1 w c to f σ j = σ j := (s_up_f h1).trans ((s_up_f h2).trans (s_up_f h2))
theorem t_go2_k {w c : Int} {σ : t_S} {j : Nat} (h1 : j ≠ 26) (h2 : j ≠ 27) : t_go2 w c σ j = σ j := (s_up_f h1).trans (s_up_f h2)
theorem t_go1_p {w c to f : Int} {σ : t_S} (h : t_prg σ) (hc : 0 ≤ c ∧ c < 80) (ht : 0 ≤ to ∧ to < 80) (hf : 0 ≤ f ∧ f < 4) : t_prg (t_go1 w c to f σ) := by
  have h1 : t_prg (s_up σ 24 c (t_or (σ 24 c) (2 ^ f.toNat))) := by
    intro a a0 a1
    unfold s_up
    split
    · exact t_or_rg 4 (h c hc.1 hc.2) (t_p16 hf)
    · exact h a a0 a1
  intro a a0 a1
  unfold t_go1
  rw [s_up_k (by decide)]
  by_cases q : a = to
  · subst q
    rw [s_up_eq]
    exact t_or_rg 4 (h1 a a0 a1) (t_p16 ⟨by omega, by omega⟩)
  · rw [s_up_j q]
    exact h1 a a0 a1
theorem t_stp_in {w : Int} {τ : t_S} {k : Int} {x : t_X} (hz : t_sz τ) (h : t_inX w τ k x) : t_inX w τ (k + 1) (t_stp w k x) := by
  obtain ⟨h1, h2, h3, h4, h5, h6, h7, h8⟩ := h
  unfold t_stp
  split
  · have hf : 0 ≤ (x.2.1 + t_turn x.1 w k) % 4 ∧ (x.2.1 + t_turn x.1 w k) % 4 < 4 := ⟨by omega, by omega⟩
    generalize (x.2.1 + t_turn x.1 w k) % 4 = f1 at hf
    have hb := t_trn_P x.1 x.2.2.1 f1 (t_law x.1 x.2.2.1) 4 0
    generalize t_trn x.1 x.2.2.1 f1 (t_law x.1 x.2.2.1) 4 0 = n at hb
    obtain ⟨⟨b1, b2⟩, b3⟩ := hb
    have hz1 : t_sz x.1 := by unfold t_sz; rw [h1 1 (by decide) (by decide) (by decide) (by decide)]; exact hz
    have g2 : ∀ (c : Int) (σ : t_S), t_go2 w c σ 27 w = σ 27 w + 1 := fun c σ => by unfold t_go2; rw [s_up_k (by decide), s_up_eq]
    unfold t_stpA
    split
    · rename_i q
      have hfr := b3 (by omega)
      have hr := t_bes_rg hz1 x.2.2.1 ((f1 + n) % 4)
      have hne : t_bes x.1 x.2.2.1 ((f1 + n) % 4) ≠ -1 := hfr.1
      have hf2 : 0 ≤ (f1 + n) % 4 ∧ (f1 + n) % 4 < 4 := ⟨by omega, by omega⟩
      generalize t_bes x.1 x.2.2.1 ((f1 + n) % 4) = to at hr hne
      generalize (f1 + n) % 4 = f2 at hf2
      refine ⟨fun j j1 j2 j3 j4 => (t_go2_k j3 j4).trans ((t_go1_k j1 j2).trans (h1 j j1 j2 j3 j4)), fun a a0 a1 => ?_, fun a a0 a1 => ?_, hf2, ⟨by show 0 ≤ to; omega, hr.2⟩, ?_, ?_⟩
      · dsimp only; rw [t_go2_k (by decide) (by decide)]
        unfold t_go1
        by_cases qa : a = to
        · subst qa; rw [s_up_eq]; exact Or.inr rfl
        · rw [s_up_j qa, s_up_k (by decide), s_up_k (by decide)]; exact h2 a a0 a1
      · dsimp only; rw [t_go2_k (by decide) (by decide)]
        exact t_go1_p h3 h5 ⟨by omega, hr.2⟩ hf2 a a0 a1
      · show (if _ then (0 : Int) else 1) = 0 ∨ (if _ then (0 : Int) else 1) = 1
        split <;> simp
      · dsimp only; rw [g2, t_go1_k (by decide) (by decide)]; omega
    · refine ⟨fun j j1 j2 j3 j4 => (t_go2_k j3 j4).trans (h1 j j1 j2 j3 j4), fun a a0 a1 => ?_, fun a a0 a1 => ?_, hf, h5, Or.inr rfl, ?_⟩
      · dsimp only; rw [t_go2_k (by decide) (by decide)]; exact h2 a a0 a1
      · dsimp only; rw [t_go2_k (by decide) (by decide)]; exact h3 a a0 a1
      · dsimp only; rw [g2]; omega
  · exact ⟨h1, h2, h3, h4, h5, h6, h7, by omega⟩
theorem t_stp_stop {w : Int} {x0 : t_X} {i : Nat} : ∀ {n : Nat}, i ≤ n → (t_it (t_stp w) i x0).2.2.2 = 0 → t_it (t_stp w) n x0 = t_it (t_stp w) i x0
  | 0, h, _ => by rw [show i = 0 by omega]
  | n + 1, h, hg => by
    by_cases q : i = n + 1
    · rw [q]
    · have h2 := t_stp_stop (n := n) (by omega) hg
      show t_stp w (n : Int) (t_it (t_stp w) n x0) = _
      rw [h2]
      generalize t_it (t_stp w) i x0 = y at hg
      show (if y.2.2.2 = 1 then _ else y) = y
      rw [if_neg (by rw [hg]; decide)]
theorem t_wk0_s {σ : t_S} {i : Nat} (h : t_b01 σ 21) : t_b01 (t_it t_wk1f i σ) 21 := by
  rw [show t_b01 (t_it t_wk1f i σ) 21 = t_b01 σ 21 by unfold t_b01; rw [t_it_k (f := t_wk1f) (fun _ _ => (s_up_f (by decide)).trans (s_up_f (by decide)))]]
  exact h
theorem t_wk0_k {σ : t_S} {k : Nat} (h1 : k ≠ 22) (h2 : k ≠ 23) (n : Nat) : t_it t_wk1f n σ k = σ k := t_it_k (f := t_wk1f) (fun _ _ => (s_up_f h2).trans (s_up_f h1)) n σ
/-- behind the first loop -/
theorem t_wk0_b {σ : t_S} (h : t_b01 σ 21) : t_b01 (t_wk0 σ) 22 ∧ t_b01 (t_wk0 σ) 23 := by
  have key : ∀ n : Nat, ∀ c : Int, 0 ≤ c → c < n → (t_it t_wk1f n σ 22 c = σ 21 c ∧ t_it t_wk1f n σ 23 c = 0) := by
    intro n
    refine t_it_P (f := t_wk1f) (x := σ) (fun n τ => (∀ c : Int, 0 ≤ c → c < n → (τ 22 c = σ 21 c ∧ τ 23 c = 0)) ∧ τ 21 = σ 21) ⟨fun c a b => by omega, rfl⟩ n (fun i y i0 _ hy => ?_) |>.1
    refine ⟨fun c c0 c1 => ?_, ?_⟩
    · unfold t_wk1f
      by_cases q : c = i
      · subst q
        rw [s_up_eq, s_up_k (by decide), s_up_eq, hy.2]
        exact ⟨rfl, rfl⟩
      · rw [s_up_j q, s_up_k (by decide), s_up_j q, s_up_k (by decide)]
        exact hy.1 c c0 (by omega)
    · exact (s_up_f (by decide)).trans ((s_up_f (by decide)).trans hy.2)
  refine ⟨fun c c0 c1 => ?_, fun c c0 c1 => ?_⟩
  · rw [show t_wk0 σ 22 c = σ 21 c from (key 80 c c0 c1).1]; exact h c c0 c1
  · exact Or.inl (key 80 c c0 c1).2
theorem t_wk1_k {w : Int} {σ : t_S} {k : Nat} (h1 : k ≠ 23) (h2 : k ≠ 26) (h3 : k ≠ 27) : t_wk1 w σ k = σ k := (s_up_f h3).trans ((s_up_f h1).trans (s_up_f h2))
theorem t_wkX_in {w : Int} {σ : t_S} (hz : t_sz σ) (hw : t_okW (σ 1) w) (hb : t_b01 σ 21) (hp : t_prg σ) (hf : 0 ≤ σ 16 w ∧ σ 16 w < 4) (n : Nat) : t_inX w (t_wk0 σ) n (t_it (t_stp w) n (t_wkx w σ)) := by
  have e1 : t_wk0 σ 1 = σ 1 := t_wk0_k (by decide) (by decide) 80
  have hz0 : t_sz (t_wk0 σ) := by unfold t_sz; rw [e1]; exact hz
  refine t_it_P (t_inX w (t_wk0 σ)) ?_ n (fun i y _ _ h => t_stp_in hz0 h)
  obtain ⟨h0, h2⟩ := hw
  have hc : 0 ≤ σ 1 (28 + 13 * w + 0) ∧ σ 1 (28 + 13 * w + 0) < 80 := by
    rw [Int.add_zero]
    obtain ⟨a, b, c⟩ := h0
    have := hz.2.1
    have := hz.2.2.1
    omega
  refine ⟨fun j j1 j2 j3 j4 => t_wk1_k j1 j3 j4, fun a a0 a1 => ?_, fun a a0 a1 => ?_, by show 0 ≤ t_wk0 σ 16 w ∧ t_wk0 σ 16 w < 4; rw [show t_wk0 σ 16 = σ 16 from t_wk0_k (by decide) (by decide) 80]; exact hf, by show 0 ≤ t_wk0 σ 1 (28 + 13 * w + 0) ∧ t_wk0 σ 1 (28 + 13 * w + 0) < 80; rw [e1]; exact hc, Or.inr rfl, ?_, ?_⟩
  · show t_wk1 w (t_wk0 σ) 23 a = 0 ∨ t_wk1 w (t_wk0 σ) 23 a = 1
    unfold t_wk1
    rw [s_up_k (by decide)]
    unfold s_up
    split
    · exact Or.inr rfl
    · rw [if_neg (fun q => absurd q.1 (by decide))]
      exact (t_wk0_b hb).2 a a0 a1
  · show 0 ≤ t_wk1 w (t_wk0 σ) 24 a ∧ t_wk1 w (t_wk0 σ) 24 a < 2 ^ 4
    rw [t_wk1_k (by decide) (by decide) (by decide), show t_wk0 σ 24 = σ 24 from t_wk0_k (by decide) (by decide) 80]
    exact hp a a0 a1
  · show 0 ≤ t_wk1 w (t_wk0 σ) 27 w
    unfold t_wk1
    rw [s_up_eq]
    exact Int.le_refl 0
  · show t_wk1 w (t_wk0 σ) 27 w ≤ 0
    unfold t_wk1
    rw [s_up_eq]
    exact Int.le_refl 0
theorem t_wk3_b {σ : t_S} (h : t_b01 σ 21) {n : Nat} : t_b01 (t_it t_wk3f n σ) 21 := by
  refine t_it_P (fun _ (τ : t_S) => t_b01 τ 21) h n (fun i y _ _ hy => ?_)
  intro c c0 c1
  unfold t_wk3f s_up
  split
  · split <;> simp
  · exact hy c c0 c1
theorem t_pr1 {c f : Int} {σ : t_S} (h : t_prg σ) (hc : 0 ≤ c ∧ c < 80) (hf : 0 ≤ f ∧ f < 4) : t_prg (s_up σ 24 c (t_or (σ 24 c) (2 ^ f.toNat))) := by
  intro a a0 a1
  unfold s_up
  split
  · exact t_or_rg 4 (h c hc.1 hc.2) (t_p16 hf)
  · exact h a a0 a1
/-- what holds between walks -/
def t_inG (σ τ : t_S) : Prop := (∀ j, (j < 21 ∨ 32 < j) → τ j = σ j) ∧ t_b01 τ 21 ∧ t_prg τ ∧ t_hrg τ
/-- what a question stands on -/
def t_ask (σ : t_S) : Prop := t_sz σ ∧ t_okR (σ 1) ∧ t_b01 σ 15 ∧ (∀ w, 0 ≤ w → w < 7 → 0 ≤ σ 16 w ∧ σ 16 w < 4) ∧ (0 ≤ σ 17 0 ∧ σ 17 0 < 4) ∧ (0 ≤ σ 18 0 ∧ σ 18 0 < 2 ^ 7) ∧ t_oneR σ
theorem t_ask_of {σ τ : t_S} (h : t_ask σ) (e : ∀ j, j = 1 ∨ (15 ≤ j ∧ j ≤ 20) → τ j = σ j) : t_ask τ := by
  unfold t_ask t_sz t_b01 t_oneR at *
  rw [e 1 (by omega), e 15 (by omega), e 16 (by omega), e 17 (by omega), e 18 (by omega), e 19 (by omega), e 20 (by omega)]
  exact h
theorem t_inG_ask {σ τ : t_S} (h : t_ask σ) (hi : t_inG σ τ) : t_ask τ := t_ask_of h (fun j hj => hi.1 j (by omega))
theorem t_kp_in {σ τ : t_S} {y : Int} (h : t_inG σ τ) : t_inG σ (t_kp y τ) := by
  refine ⟨fun j hj => (t_kp_k (by omega) (by omega) (by omega) τ).trans (h.1 j hj), ?_, ?_, ?_⟩
  · unfold t_b01; rw [t_kp_k (by decide) (by decide) (by decide)]; exact h.2.1
  · unfold t_prg; rw [t_kp_k (by decide) (by decide) (by decide)]; exact h.2.2.1
  · unfold t_hrg; rw [t_kp_k (by decide) (by decide) (by decide)]; exact h.2.2.2
theorem t_wk_in {σ τ : t_S} {w : Int} (ha : t_ask τ) (hw0 : 0 ≤ w ∧ w < 7) (hw : t_okW (τ 1) w) (h : t_inG σ τ) : t_inG σ (t_wk w τ) := by
  have hX := t_wkX_in ha.1 hw h.2.1 h.2.2.1 (ha.2.2.2.1 w hw0.1 hw0.2) (t_wd τ w 2).toNat
  have e1 : ∀ j, j ≠ 22 → j ≠ 23 → j ≠ 24 → j ≠ 26 → j ≠ 27 → (t_wkX w τ).1 j = τ j := fun j a b c d e => (hX.1 j b c d e).trans (t_wk0_k a b 80)
  have e2 : ∀ {k : Nat}, k ≠ 21 → t_it t_wk3f 80 (t_wkX w τ).1 k = (t_wkX w τ).1 k := fun h => t_it_k (f := t_wk3f) (fun _ _ => s_up_f h) _ _
  unfold t_wk
  refine ⟨fun j hj => ?_, ?_, ?_, ?_⟩
  · rw [t_mh_k (by omega) (by omega) (by omega), e2 (by omega), e1 j (by omega) (by omega) (by omega) (by omega) (by omega)]
    exact h.1 j hj
  · unfold t_b01
    rw [t_mh_k (by decide) (by decide) (by decide)]
    exact t_wk3_b (by unfold t_b01; rw [e1 21 (by decide) (by decide) (by decide) (by decide) (by decide)]; exact h.2.1)
  · unfold t_prg
    rw [t_mh_k (by decide) (by decide) (by decide), e2 (by decide)]
    exact hX.2.2.1
  · unfold t_mh
    refine t_mh_25 (fun k k0 k1 => ?_) _
    rw [s_up_k (by decide), e2 (by decide), e1 25 (by decide) (by decide) (by decide) (by decide) (by decide)]
    exact h.2.2.2 k k0 k1
theorem t_yrf_in {σ τ : t_S} {y w : Int} (ha : t_ask σ) (hw0 : 0 ≤ w) (hw1 : w < σ 1 7) (h : t_inG σ τ) : t_inG σ (t_yrf y w τ) := by
  unfold t_yrf
  split
  · have e := h.1 1 (by omega)
    exact t_wk_in (t_inG_ask ha h) ⟨hw0, by have := ha.1.2.2.2.2.2.1; omega⟩ (by rw [e]; exact ha.2.1.2.2.1 w hw0 hw1) h
  · exact h
theorem t_yrl_in {σ τ : t_S} {y : Int} (ha : t_ask σ) (h : t_inG σ τ) {n : Nat} (hn : (n : Int) ≤ σ 1 7) : t_inG σ (t_it (t_yrf y) n (t_kp y τ)) :=
  t_it_P (fun _ (x : t_S) => t_inG σ x) (t_kp_in h) n (fun _ _ _ i1 hx => t_yrf_in ha (by omega) (by omega) hx)
theorem t_yr_in {σ τ : t_S} {y : Int} (ha : t_ask σ) (h : t_inG σ τ) : t_inG σ (t_yr y τ) := by
  unfold t_yr
  have e := h.1 1 (by omega)
  refine t_yrl_in ha h ?_
  rw [e]
  have := ha.1.2.2.2.2.2.1
  split <;> omega
theorem t_ga0_in {σ : t_S} (ha : t_ask σ) : t_inG σ (t_ga0 σ) := by
  have e3 : ∀ {k : Nat} (τ : t_S), k ≠ 27 → t_it t_ga3f 7 τ k = τ k := fun τ h => t_it_k (f := t_ga3f) (fun _ _ => s_up_f h) _ _
  have e2 : ∀ {k : Nat} (n : Nat) (τ : t_S), k ≠ 25 → k ≠ 29 → t_it t_ga2f n τ k = τ k := fun n τ h h2 => t_it_k (f := t_ga2f) (fun _ _ => (s_up_f h2).trans (s_up_f h)) _ _
  have e1 : ∀ {k : Nat} (τ : t_S), k ≠ 21 → k ≠ 24 → t_it t_ga1f 80 τ k = τ k := fun τ h h2 => t_it_k (f := t_ga1f) (fun _ _ => (s_up_f h2).trans (s_up_f h)) _ _
  have k1 : ∀ n : Nat, ∀ c : Int, 0 ≤ c → c < n → t_it t_ga1f n σ 21 c = 0 ∧ t_it t_ga1f n σ 24 c = 0 := by
    intro n
    refine t_it_P (fun n (τ : t_S) => ∀ c : Int, 0 ≤ c → c < n → τ 21 c = 0 ∧ τ 24 c = 0) (fun c a b => by omega) n (fun i y i0 _ hy => ?_)
    intro c c0 c1
    unfold t_ga1f
    by_cases q : c = i
    · subst q; rw [s_up_k (by decide), s_up_eq, s_up_eq]; exact ⟨rfl, rfl⟩
    · rw [s_up_k (by decide), s_up_j q, s_up_j q, s_up_k (by decide)]; exact hy c c0 (by omega)
  have k2 : ∀ n : Nat, ∀ c : Int, 0 ≤ c → c < n → t_it t_ga2f n (t_it t_ga1f 80 σ) 25 c = σ 1 (22 + c) := by
    intro n
    refine (t_it_P (f := t_ga2f) (x := t_it t_ga1f 80 σ) (fun n (τ : t_S) => (∀ c : Int, 0 ≤ c → c < n → τ 25 c = σ 1 (22 + c)) ∧ τ 1 = σ 1) ⟨fun c a b => by omega, e1 σ (by decide) (by decide)⟩ n (fun i y i0 _ hy => ?_)).1
    refine ⟨fun c c0 c1 => ?_, ?_⟩
    · unfold t_ga2f
      rw [s_up_k (by decide)]
      by_cases q : c = i
      · subst q; rw [s_up_eq, hy.2]
      · rw [s_up_j q]; exact hy.1 c c0 (by omega)
    · unfold t_ga2f
      exact (s_up_f (by decide)).trans ((s_up_f (by decide)).trans hy.2)
  unfold t_ga0
  refine ⟨fun j hj => ?_, fun c c0 c1 => ?_, fun c c0 c1 => ?_, fun c c0 c1 => ?_⟩
  · rw [e3 _ (by omega), e2 _ _ (by omega) (by omega), e1 _ (by omega) (by omega)]
  · rw [e3 _ (by decide), e2 _ _ (by decide) (by decide), (k1 80 c c0 c1).1]; exact Or.inl rfl
  · rw [e3 _ (by decide), e2 _ _ (by decide) (by decide), (k1 80 c c0 c1).2]; exact ⟨Int.le_refl 0, by decide⟩
  · rw [e3 _ (by decide), k2 6 c c0 c1]
    have := ha.2.1.2.2.2.2.1 c c0 c1
    omega
theorem t_ga_in {σ : t_S} (ha : t_ask σ) (n : Nat) : t_inG σ (t_it t_yr n (t_ga0 σ)) := t_it_P (fun _ (x : t_S) => t_inG σ x) (t_ga0_in ha) n (fun _ _ _ _ hx => t_yr_in ha hx)
