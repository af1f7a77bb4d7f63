/-! SHIFTS AND BITS IN Int -/
set_option maxRecDepth 100000
theorem e_bvI (z : Int) : (Int32.ofInt z).toBitVec = BitVec.ofInt 32 z := rfl
theorem e_bvN (z : Int) : (Int32.ofInt z).toBitVec.toNat = (z % 4294967296).toNat := by
  rw [e_bvI, BitVec.toNat_ofInt]
  rfl
theorem e_i32_ext {x y : Int32} (h : x.toBitVec.toNat = y.toBitVec.toNat) : x = y := Int32.toBitVec_inj.mp (BitVec.eq_of_toNat_eq h)
theorem e_sc : ∀ n : Nat, n < 32 → (((Int32.ofInt (n : Int)) &&& 31).toBitVec.smod 32).toNat = n := by decide +kernel
theorem e_shr_law {a k : Int} (ha : e_rg a) (hk : 0 ≤ k ∧ k < 32) : Int32.ofInt a >>> (Int32.ofInt k &&& 31) = Int32.ofInt (a / 2 ^ k.toNat) := by
  have h1 := e_sc k.toNat (by omega)
  rw [Int.toNat_of_nonneg hk.1] at h1
  have h2 := pk_shr (Int32.ofInt a) (Int32.ofInt k &&& 31) k.toNat h1
  rw [← Int32.toInt_inj, h2, e_ti ha, Int.shiftRight_eq_div_pow]
  have hp : (0 : Int) < 2 ^ k.toNat := Int.pow_pos (by decide)
  rw [e_ti]
  · rfl
  · refine ⟨?_, ?_⟩
    · refine Int.le_trans ?_ (Int.ediv_le_ediv hp ha.1)
      exact (Int.le_ediv_iff_mul_le hp).mpr (by
        have : (1 : Int) ≤ 2 ^ k.toNat := hp
        have h9 : (-2147483648 : Int) * 2 ^ k.toNat ≤ -2147483648 * 1 := Int.mul_le_mul_of_nonpos_left (by decide) this
        omega)
    · rcases Int.lt_or_le a 0 with q | q
      · have := Int.ediv_neg_of_neg_of_pos q hp
        show a / 2 ^ k.toNat < _
        omega
      · have := Int.ediv_le_self (2 ^ k.toNat) q
        have := ha.2
        show a / 2 ^ k.toNat < _
        omega
theorem e_shl_law (a : Int) {k : Int} (hk : 0 ≤ k ∧ k < 32) : Int32.ofInt a <<< (Int32.ofInt k &&& 31) = Int32.ofInt (a * 2 ^ k.toNat) := by
  have h1 := e_sc k.toNat (by omega)
  rw [Int.toNat_of_nonneg hk.1] at h1
  have h2 := pk_shl (Int32.ofInt a) (Int32.ofInt k &&& 31) k.toNat h1
  refine e_i32_ext ?_
  rw [h2, e_bvN, e_bvN]
  have e1 : ((a % 4294967296).toNat : Int) = a % 4294967296 := Int.toNat_of_nonneg (Int.emod_nonneg _ (by decide))
  have e2 : (((a * 2 ^ k.toNat) % 4294967296).toNat : Int) = (a * 2 ^ k.toNat) % 4294967296 := Int.toNat_of_nonneg (Int.emod_nonneg _ (by decide))
  have e3 : (((a % 4294967296).toNat * 2 ^ k.toNat % 2 ^ 32 : Nat) : Int) = (a * 2 ^ k.toNat) % 4294967296 := by
    rw [Int.natCast_emod, Int.natCast_mul, e1, Int.natCast_pow]
    show (a % 4294967296 * 2 ^ k.toNat) % 4294967296 = _
    rw [Int.mul_emod, Int.emod_emod, ← Int.mul_emod]
  omega
theorem e_and1_law (a : Int) : Int32.ofInt a &&& Int32.ofInt 1 = Int32.ofInt (a % 2) := by
  have h1 := pk_and (Int32.ofInt a) (m := Int32.ofInt 1) 1 (by decide)
  rw [h1, e_bvN]
  show Int32.ofNat _ = _
  rw [← e_ofN]
  congr 1
  have e1 : ((a % 4294967296).toNat : Int) = a % 4294967296 := Int.toNat_of_nonneg (Int.emod_nonneg _ (by decide))
  rw [Int.natCast_emod, e1]
  show a % 4294967296 % 2 = a % 2
  omega
/-- bit k of a set -/
abbrev e_bt (s k : Int) : Int := s / 2 ^ k.toNat % 2
theorem e_bt01 (s k : Int) : 0 ≤ e_bt s k ∧ e_bt s k < 2 := ⟨Int.emod_nonneg _ (by decide), Int.emod_lt_of_pos _ (by decide)⟩
theorem e_and_nat (a b : Nat) : Int32.ofInt (a : Int) &&& Int32.ofInt (b : Int) = Int32.ofInt ((a &&& b : Nat) : Int) := by
  rw [← Int32.toBitVec_inj]
  show BitVec.ofInt 32 _ &&& BitVec.ofInt 32 _ = BitVec.ofInt 32 _
  rw [BitVec.ofInt_natCast, BitVec.ofInt_natCast, BitVec.ofInt_natCast]
  ext i hi
  simp
theorem e_or_nat (a b : Nat) : Int32.ofInt (a : Int) ||| Int32.ofInt (b : Int) = Int32.ofInt ((a ||| b : Nat) : Int) := by
  rw [← Int32.toBitVec_inj]
  show BitVec.ofInt 32 _ ||| BitVec.ofInt 32 _ = BitVec.ofInt 32 _
  rw [BitVec.ofInt_natCast, BitVec.ofInt_natCast, BitVec.ofInt_natCast]
  ext i hi
  simp
theorem e_xor_nat (a b : Nat) : Int32.ofInt (a : Int) ^^^ Int32.ofInt (b : Int) = Int32.ofInt ((a ^^^ b : Nat) : Int) := by
  rw [← Int32.toBitVec_inj]
  show BitVec.ofInt 32 _ ^^^ BitVec.ofInt 32 _ = BitVec.ofInt 32 _
  rw [BitVec.ofInt_natCast, BitVec.ofInt_natCast, BitVec.ofInt_natCast]
  ext i hi
  simp
theorem e_and_law {a b : Int} (ha : 0 ≤ a) (hb : 0 ≤ b) : Int32.ofInt a &&& Int32.ofInt b = Int32.ofInt ((a.toNat &&& b.toNat : Nat) : Int) := by
  rw [← e_and_nat, Int.toNat_of_nonneg ha, Int.toNat_of_nonneg hb]
theorem e_or_law {a b : Int} (ha : 0 ≤ a) (hb : 0 ≤ b) : Int32.ofInt a ||| Int32.ofInt b = Int32.ofInt ((a.toNat ||| b.toNat : Nat) : Int) := by
  rw [← e_or_nat, Int.toNat_of_nonneg ha, Int.toNat_of_nonneg hb]
theorem e_xor_law {a b : Int} (ha : 0 ≤ a) (hb : 0 ≤ b) : Int32.ofInt a ^^^ Int32.ofInt b = Int32.ofInt ((a.toNat ^^^ b.toNat : Nat) : Int) := by
  rw [← e_xor_nat, Int.toNat_of_nonneg ha, Int.toNat_of_nonneg hb]
/-- one bit more, above those that are there -/
theorem e_or_top {a k : Int} (hk : 0 ≤ k ∧ k < 31) (ha : 0 ≤ a ∧ a < 2 ^ k.toNat) : Int32.ofInt a ||| Int32.ofInt (2 ^ k.toNat) = Int32.ofInt (a + 2 ^ k.toNat) := by
  have e0 : ((2 : Int) ^ k.toNat) = ((2 ^ k.toNat : Nat) : Int) := by rw [Int.natCast_pow]; rfl
  have e1 : (a.toNat : Int) = a := Int.toNat_of_nonneg ha.1
  have hlt : a.toNat < 2 ^ k.toNat := by
    have := ha.2
    rw [e0] at this
    omega
  rw [e0, ← e1, e_or_nat, ← Int.natCast_add]
  congr 2
  have h1 := Nat.two_pow_add_eq_or_of_lt (i := k.toNat) hlt 1
  rw [Nat.mul_one] at h1
  rw [Nat.or_comm, ← h1, Nat.add_comm]
theorem e_or_0 (a : Int) : Int32.ofInt a ||| Int32.ofInt 0 = Int32.ofInt a := by
  show Int32.ofInt a ||| 0 = _
  simp
theorem e_pow_lt {k : Int} (n : Nat) (hk : 0 ≤ k ∧ k < n) : 0 < (2 : Int) ^ k.toNat ∧ (2 : Int) ^ k.toNat < 2 ^ n := by
  refine ⟨Int.pow_pos (by decide), ?_⟩
  have h : 2 ^ k.toNat < 2 ^ n := Nat.pow_lt_pow_right (by decide) (by omega)
  have e0 : ((2 : Int) ^ k.toNat) = ((2 ^ k.toNat : Nat) : Int) := by rw [Int.natCast_pow]; rfl
  have e1 : ((2 : Int) ^ n) = ((2 ^ n : Nat) : Int) := by rw [Int.natCast_pow]; rfl
  rw [e0, e1]
  omega
theorem e_pow_s {k : Int} (hk : 0 ≤ k) : (2 : Int) ^ (k + 1).toNat = 2 * 2 ^ k.toNat := by
  rw [show (k + 1).toNat = k.toNat + 1 by omega, Int.pow_succ, Int.mul_comm]
section EB
/-! branches on what a method answered: 0 or 1 -/
variable {M : e_M} {pc : Nat} {al st : List Value} {h : e_A} {kc ks d : Nat} {Q : e_R → e_A → Prop}
theorem e_bif_eq {P : Prop} [Decidable P] {off : Int} {tgt : Nat} (hd : decode M.2.1 pc = .ok (.ifCond .eq off, 3)) (ht : (pc : Int) + off = (tgt : Int)) (k1 : ¬ P → e_E M tgt al st h kc ks d Q) (k2 : P → e_E M (pc + 3) al st h kc ks d Q) : e_E M pc al (e_i (if P then 1 else 0) :: st) h kc ks d Q := by
  refine e_if_eq hd ht (by split <;> (constructor <;> decide)) (fun c => k1 (fun p => ?_)) (fun c => ?_)
  · rw [if_pos p] at c
    cases c
  · by_cases p : P
    · exact k2 p
    · rw [if_neg p] at c
      exact absurd rfl c
theorem e_bif_ne {P : Prop} [Decidable P] {off : Int} {tgt : Nat} (hd : decode M.2.1 pc = .ok (.ifCond .ne off, 3)) (ht : (pc : Int) + off = (tgt : Int)) (k1 : P → e_E M tgt al st h kc ks d Q) (k2 : ¬ P → e_E M (pc + 3) al st h kc ks d Q) : e_E M pc al (e_i (if P then 1 else 0) :: st) h kc ks d Q := by
  refine e_if_ne hd ht (by split <;> (constructor <;> decide)) (fun c => ?_) (fun c => k2 (fun p => ?_))
  · by_cases p : P
    · exact k1 p
    · rw [if_neg p] at c
      exact absurd rfl c
  · rw [if_pos p] at c
    cases c
theorem e_nB {P : Prop} [Decidable P] : narrow .boolean (e_i (if P then 1 else 0)) = e_i (if P then 1 else 0) := by
  split <;> rfl
end EB
