/-! THE LEAST BIT -/
set_option maxRecDepth 100000
theorem b_low {Z r : Int} (hZ : 0 ≤ Z) (hr : 0 ≤ r) (h1 : e_bt Z r = 1) (h0 : ∀ k : Int, 0 ≤ k → k < r → e_bt Z k = 0) : ∃ m : Nat, Z.toNat = 2 ^ r.toNat * (2 * m + 1) := by
  have hm : Z.toNat % 2 ^ r.toNat = 0 := by
    apply Nat.eq_of_testBit_eq
    intro i
    rw [Nat.testBit_mod_two_pow, Nat.zero_testBit]
    by_cases q : i < r.toNat
    · have := h0 (i : Int) (by omega) (by omega)
      rw [b_tb Z i hZ (by omega), Int.toNat_natCast] at this
      cases h : Z.toNat.testBit i
      · simp
      · rw [h] at this; exact absurd this (by decide)
    · simp [q]
  have h2 : Z.toNat.testBit r.toNat = true := by
    rw [b_tb Z r hZ hr] at h1
    cases h : Z.toNat.testBit r.toNat
    · rw [h] at h1; exact absurd h1 (by decide)
    · rfl
  have h3 : Z.toNat / 2 ^ r.toNat % 2 = 1 := by
    rw [Nat.testBit_eq_decide_div_mod_eq] at h2
    exact of_decide_eq_true h2
  refine ⟨Z.toNat / 2 ^ r.toNat / 2, ?_⟩
  have h5 := Nat.div_add_mod Z.toNat (2 ^ r.toNat)
  have h4 : 2 * (Z.toNat / 2 ^ r.toNat / 2) + 1 = Z.toNat / 2 ^ r.toNat := by omega
  rw [h4]
  omega
theorem b_ntz {r m : Nat} (hr : r < 32) (h : 2 ^ r * (2 * m + 1) < 2 ^ 32) : (2 ^ 32 - (2 ^ r * (2 * m + 1) + 1)) &&& (2 ^ r * (2 * m + 1) - 1) = 2 ^ r - 1 := by
  have hp : 0 < 2 ^ r := Nat.two_pow_pos r
  have e : 2 ^ r * (2 * m + 1) - 1 = 2 ^ r * (2 * m) + (2 ^ r - 1) := by
    rw [Nat.mul_add, Nat.mul_one]
    omega
  apply Nat.eq_of_testBit_eq
  intro i
  rw [Nat.testBit_and, Nat.testBit_two_pow_sub_succ h, e, Nat.testBit_two_pow_mul_add _ (by omega), Nat.testBit_two_pow_mul, Nat.testBit_two_pow_sub_one]
  by_cases q : i < r
  · rw [if_pos q]
    have q2 : i < 32 := by omega
    have q3 : ¬ i ≥ r := by omega
    simp [q, q2, q3]
  · rw [if_neg q]
    have q3 : i ≥ r := by omega
    have e2 : (2 * m + 1).testBit (i - r) = !(2 * m).testBit (i - r) ∨ (2 * m).testBit (i - r) = (2 * m + 1).testBit (i - r) ∧ i ≠ r := by
      rcases Nat.eq_zero_or_pos (i - r) with z | z
      · left
        rw [z]
        simp [Nat.testBit_zero]
      · right
        obtain ⟨k, hk⟩ : ∃ k, i - r = k + 1 := ⟨i - r - 1, by omega⟩
        rw [hk, Nat.testBit_succ, Nat.testBit_succ, show 2 * m / 2 = m by omega, show (2 * m + 1) / 2 = m by omega]
        exact ⟨rfl, by omega⟩
    rcases e2 with z | ⟨z, z2⟩
    · by_cases w : i - r = 0
      · have : (2 * m).testBit (i - r) = false := by rw [w]; simp [Nat.testBit_zero]
        rw [z, this]
        simp [q]
      · obtain ⟨k, hk⟩ : ∃ k, i - r = k + 1 := ⟨i - r - 1, by omega⟩
        rw [hk, Nat.testBit_succ, Nat.testBit_succ, show 2 * m / 2 = m by omega, show (2 * m + 1) / 2 = m by omega] at z
        cases hh : m.testBit k <;> rw [hh] at z <;> exact absurd z (by decide)
    · rw [z]
      cases (2 * m + 1).testBit (i - r) <;> simp [q, q3]
/-- all ones below -/
def b_P (k : Int) : Int := 2 ^ k.toNat - 1
theorem b_Pa (k s : Nat) (h : s ≤ k) : b_P (k : Int) / 2 ^ s = b_P ((k : Int) - s) := by
  unfold b_P
  rw [Int.toNat_natCast, show ((k : Int) - s).toNat = k - s by omega]
  have e : (2 : Int) ^ k = 2 ^ (k - s) * 2 ^ s := by rw [← Int.pow_add, Nat.sub_add_cancel h]
  have hp : (0 : Int) < 2 ^ s := Int.pow_pos (by decide)
  have hq : (0 : Int) < 2 ^ (k - s) := Int.pow_pos (by decide)
  rw [e]
  have e2 : (2 : Int) ^ (k - s) * 2 ^ s - 1 = (2 ^ s - 1) + (2 ^ (k - s) - 1) * 2 ^ s := by rw [Int.sub_mul]; omega
  rw [e2, Int.add_mul_ediv_right _ _ (by omega), Int.ediv_eq_zero_of_lt (by omega) (by omega)]
  omega
theorem b_Pb {k : Int} (n : Nat) (hk : 0 ≤ k ∧ k < 32) (hn : n < 32) : (2 : Int) ^ n ≤ b_P k ↔ (n : Int) < k := by
  unfold b_P
  obtain ⟨j, hj⟩ : ∃ j : Nat, k = j := ⟨k.toNat, by omega⟩
  subst hj
  rw [Int.toNat_natCast]
  constructor
  · intro h
    by_cases q : n < j
    · omega
    · exfalso
      have := Nat.pow_le_pow_right (n := 2) (by decide) (show j ≤ n by omega)
      have e1 : ((2 ^ j : Nat) : Int) = 2 ^ j := by simp
      have e2 : ((2 ^ n : Nat) : Int) = 2 ^ n := by simp
      omega
  · intro h
    have := Nat.pow_lt_pow_right (a := 2) (by decide) (show n < j by omega)
    have e1 : ((2 ^ j : Nat) : Int) = 2 ^ j := by simp
    have e2 : ((2 ^ n : Nat) : Int) = 2 ^ n := by simp
    omega
theorem b_Pr {k : Int} (hk : 0 ≤ k ∧ k < 32) : 0 ≤ b_P k ∧ b_P k < 2147483648 := by
  unfold b_P
  have h1 : (0 : Int) < 2 ^ k.toNat := Int.pow_pos (by decide)
  have := Nat.pow_le_pow_right (n := 2) (by decide) (show k.toNat ≤ 31 by omega)
  have e1 : ((2 ^ k.toNat : Nat) : Int) = 2 ^ k.toNat := by simp
  omega
/-- unsigned numbers compared -/
theorem e_j_sg {z : Int} (h : 0 ≤ z ∧ z < 2 ^ 64) : e_j z = e_j (if z < 2 ^ 63 then z else z - 2 ^ 64) := by
  by_cases q : z < 2 ^ 63
  · rw [if_pos q]
  · rw [if_neg q]
    refine congrArg Value.long (e_i64_ext ?_)
    rw [e_lbvN, e_lbvN]
    omega
theorem e_i_sg {z w : Int} (h : z % 4294967296 = w % 4294967296) : e_i z = e_i w := by
  refine congrArg Value.int (e_i32_ext ?_)
  rw [e_bvN, e_bvN, h]
theorem e_lcmpU_eq {M : e_M} {pc : Nat} {al st : List Value} {h : e_A} {kc ks d : Nat} {Q : e_R → e_A → Prop} {a b off : Int} {tgt : Nat} (hd : decode M.2.1 pc = .ok (.lcmp, 1)) (hd2 : decode M.2.1 (pc + 1) = .ok (.ifCond .eq off, 3)) (ht : ((pc + 1 : Nat) : Int) + off = (tgt : Int)) (ha : 0 ≤ a ∧ a < 2 ^ 64) (hb0 : 0 ≤ b ∧ b < 2 ^ 64) (k1 : a = b → e_E M tgt al st h kc ks d Q) (k2 : ¬ a = b → e_E M (pc + 4) al st h kc ks d Q) : e_E M pc al (e_j b :: e_j a :: st) h kc ks d Q := by
  rw [e_j_sg ha, e_j_sg hb0]
  refine e_lcmp_eq hd hd2 ht ?_ ?_ (fun q => k1 ?_) (fun q => k2 (fun z => q (by rw [z])))
  · constructor <;> split <;> omega
  · constructor <;> split <;> omega
  · split at q <;> split at q <;> omega
theorem e_lcmpU_ne {M : e_M} {pc : Nat} {al st : List Value} {h : e_A} {kc ks d : Nat} {Q : e_R → e_A → Prop} {a b off : Int} {tgt : Nat} (hd : decode M.2.1 pc = .ok (.lcmp, 1)) (hd2 : decode M.2.1 (pc + 1) = .ok (.ifCond .ne off, 3)) (ht : ((pc + 1 : Nat) : Int) + off = (tgt : Int)) (ha : 0 ≤ a ∧ a < 2 ^ 64) (hb0 : 0 ≤ b ∧ b < 2 ^ 64) (k1 : ¬ a = b → e_E M tgt al st h kc ks d Q) (k2 : a = b → e_E M (pc + 4) al st h kc ks d Q) : e_E M pc al (e_j b :: e_j a :: st) h kc ks d Q := by
  rw [e_j_sg ha, e_j_sg hb0]
  refine e_lcmp_ne hd hd2 ht ?_ ?_ (fun q => k1 (fun z => q (by rw [z]))) (fun q => k2 ?_)
  · constructor <;> split <;> omega
  · constructor <;> split <;> omega
  · split at q <;> split at q <;> omega
theorem b_Pt {k : Int} (hk : 0 ≤ k ∧ k < 32) : (0 < b_P k ↔ 0 < k) ∧ (65536 < b_P k ↔ 16 < k) ∧ (256 < b_P k ↔ 8 < k) ∧ (16 < b_P k ↔ 4 < k) ∧ (4 < b_P k ↔ 2 < k) := by
  have h := of_decide_eq_true (List.all_eq_true.mp (show (List.range 32).all (fun n => decide ((0 < b_P (n : Int) ↔ 0 < (n : Int)) ∧ (65536 < b_P (n : Int) ↔ 16 < (n : Int)) ∧ (256 < b_P (n : Int) ↔ 8 < (n : Int)) ∧ (16 < b_P (n : Int) ↔ 4 < (n : Int)) ∧ (4 < b_P (n : Int) ↔ 2 < (n : Int)))) = true from by decide +kernel) k.toNat (List.mem_range.mpr (by omega)))
  rw [Int.toNat_of_nonneg hk.1] at h
  exact h
theorem b_Ps {k s : Int} (hk : 0 ≤ k ∧ k < 32) (hs : 0 ≤ s ∧ s ≤ k) : ((Int32.ofInt (b_P k)).toUInt32 >>> ((Int32.ofInt s).toUInt32 &&& Int32.toUInt32 31)).toInt32 = Int32.ofInt (b_P (k - s)) := by
  rw [e_iushr_law (b_Pr hk) ⟨by omega, by omega⟩]
  have h := b_Pa k.toNat s.toNat (by omega)
  rw [Int.toNat_of_nonneg hk.1, Int.toNat_of_nonneg hs.1] at h
  rw [h]
theorem b_Pl {k : Int} (hk : 1 ≤ k ∧ k ≤ 2) : b_P (k - 1) = k - 1 := by
  have : k = 1 ∨ k = 2 := by omega
  rcases this with r | r <;> subst r <;> rfl
theorem b_bt_mod {z k : Int} (hz : 0 ≤ z) (hk : 0 ≤ k ∧ k < 32) : e_bt (z % 4294967296) k = e_bt z k := by
  rw [b_tb _ k (by omega) hk.1, b_tb z k hz hk.1]
  have e : (z % 4294967296).toNat = z.toNat % 2 ^ 32 := by omega
  rw [e, Nat.testBit_mod_two_pow]
  have : k.toNat < 32 := by omega
  simp [this]
theorem b_bt_div {z k : Int} (hz : 0 ≤ z) (hk : 0 ≤ k) : e_bt (z / 4294967296) k = e_bt z (k + 32) := by
  unfold e_bt
  rw [show (k + 32).toNat = 32 + k.toNat by omega, Int.pow_add, ← Int.ediv_ediv_of_nonneg (show (0 : Int) ≤ 2 ^ 32 by decide)]
  rfl
theorem b_bt_z {z k : Int} (h : e_bt z k = 1) : z ≠ 0 := fun q => by rw [q, b_0] at h; exact absurd h (by decide)
/-- the halves of a number with its least bit at r -/
theorem b_half {z r : Int} (hz : 0 ≤ z ∧ z < 2 ^ 64) (hr : 0 ≤ r ∧ r < 64) (h1 : e_bt z r = 1) (h0 : ∀ k : Int, 0 ≤ k → k < r → e_bt z k = 0) : (r < 32 ∧ 0 < z % 4294967296 ∧ ∃ m : Nat, (z % 4294967296).toNat = 2 ^ r.toNat * (2 * m + 1)) ∨ (32 ≤ r ∧ z % 4294967296 = 0 ∧ (0 < z / 4294967296 ∧ z / 4294967296 < 4294967296) ∧ ∃ m : Nat, (z / 4294967296).toNat = 2 ^ (r - 32).toNat * (2 * m + 1)) := by
  by_cases q : r < 32
  · have g1 : e_bt (z % 4294967296) r = 1 := by rw [b_bt_mod hz.1 ⟨hr.1, q⟩]; exact h1
    have g2 := b_bt_z g1
    exact Or.inl ⟨q, by omega, b_low (by omega) hr.1 g1 (fun k k0 k1 => by rw [b_bt_mod hz.1 ⟨k0, by omega⟩]; exact h0 k k0 k1)⟩
  · have g1 : e_bt (z / 4294967296) (r - 32) = 1 := by rw [b_bt_div hz.1 (by omega), Int.sub_add_cancel]; exact h1
    have g2 := b_bt_z g1
    refine Or.inr ⟨by omega, ?_, ⟨by omega, by omega⟩, b_low (by omega) (by omega) g1 (fun k k0 k1 => by rw [b_bt_div hz.1 k0]; exact h0 _ (by omega) (by omega))⟩
    exact b_ext (by omega) (Int.le_refl 0) 32 (by omega) (by decide) (fun k k0 k1 => by rw [b_bt_mod hz.1 ⟨k0, by omega⟩, b_0]; exact h0 k k0 (by omega))
/-- its signed reading -/
theorem e_i_lo (z : Int) : ∃ lo : Int, e_rg lo ∧ (lo = z % 4294967296 ∨ lo = z % 4294967296 - 4294967296) ∧ e_i z = e_i lo := by
  by_cases q : z % 4294967296 < 2147483648
  · exact ⟨z % 4294967296, ⟨by omega, by omega⟩, Or.inl rfl, e_i_sg (by omega)⟩
  · exact ⟨z % 4294967296 - 4294967296, ⟨by omega, by omega⟩, Or.inr rfl, e_i_sg (by omega)⟩
theorem b_nt_and {z Z r : Int} {m : Nat} (hzz : z = Z ∨ z = Z - 4294967296) (hZ : 0 < Z ∧ Z < 4294967296) (hr : 0 ≤ r ∧ r < 32) (hm : Z.toNat = 2 ^ r.toNat * (2 * m + 1)) : Int32.ofInt (-1 - z) &&& Int32.ofInt (z - 1) = Int32.ofInt (b_P r) := by
  have e1 : Int32.ofInt (-1 - z) = Int32.ofInt ((2 ^ 32 - (Z.toNat + 1) : Nat) : Int) := e_i32_ext (by rw [e_bvN, e_bvN]; omega)
  have e2 : Int32.ofInt (z - 1) = Int32.ofInt ((Z.toNat - 1 : Nat) : Int) := e_i32_ext (by rw [e_bvN, e_bvN]; omega)
  rw [e1, e2, e_and_nat, hm, b_ntz (by omega) (by rw [← hm]; omega)]
  unfold b_P
  congr 1
  have := Nat.two_pow_pos r.toNat
  have e : ((2 ^ r.toNat : Nat) : Int) = 2 ^ r.toNat := by simp
  omega
