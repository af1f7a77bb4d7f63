/-! COUNTING BITS, SHIFTS OF LONGS -/
set_option maxRecDepth 100000
def b_m (c : Nat) : Nat → Nat
  | 0 => 0
  | n + 1 => c + 256 * b_m c n
def b_s1 (n x : Nat) : Nat := x - (x / 2 &&& b_m 85 n)
def b_s2 (n x : Nat) : Nat := (x &&& b_m 51 n) + (x / 4 &&& b_m 51 n)
def b_s3 (n x : Nat) : Nat := (x + x / 16) &&& b_m 15 n
def b_p (a : Nat) : Nat := b_s3 1 (b_s2 1 (b_s1 1 a))
theorem b_land {a y m M : Nat} (ha : a < 256) (hm : m < 256) : (a + 256 * y) &&& (m + 256 * M) = (a &&& m) + 256 * (y &&& M) := by
  have h1 := Nat.and_mod_two_pow (a := a + 256 * y) (b := m + 256 * M) (n := 8)
  have h2 := Nat.and_div_two_pow (a := a + 256 * y) (b := m + 256 * M) (n := 8)
  rw [show (2 : Nat) ^ 8 = 256 from rfl] at h1 h2
  rw [show (a + 256 * y) % 256 = a by omega, show (m + 256 * M) % 256 = m by omega] at h1
  rw [show (a + 256 * y) / 256 = y by omega, show (m + 256 * M) / 256 = M by omega] at h2
  generalize (a + 256 * y) &&& (m + 256 * M) = z at h1 h2
  omega
theorem b_t1 : (List.range 256).all (fun a => (List.range 2).all (fun t => decide ((a / 2 + 128 * t) &&& 85 = a / 2 &&& 85))) = true := by decide +kernel
theorem b_t2 : (List.range 256).all (fun a => (List.range 4).all (fun t => decide ((a / 4 + 64 * t) &&& 51 = a / 4 &&& 51))) = true := by decide +kernel
theorem b_t3 : (List.range 256).all (fun a => decide (b_s1 1 a < 256 ∧ b_s2 1 (b_s1 1 a) < 103 ∧ b_s2 1 (b_s1 1 a) % 16 ≤ 4 ∧ b_p a ≤ 8)) = true := by decide +kernel
theorem b_t4 : (List.range 103).all (fun a => (List.range 5).all (fun t => decide ((a + a / 16 + 16 * t) &&& 15 = (a + a / 16) &&& 15))) = true := by decide +kernel
theorem b_all2 {n m : Nat} {P : Nat → Nat → Prop} [∀ a t, Decidable (P a t)] (h : (List.range n).all (fun a => (List.range m).all (fun t => decide (P a t))) = true) {a t : Nat} (ha : a < n) (ht : t < m) : P a t :=
  of_decide_eq_true (List.all_eq_true.mp (List.all_eq_true.mp h a (List.mem_range.mpr ha)) t (List.mem_range.mpr ht))
theorem b_all1 {n : Nat} {P : Nat → Prop} [∀ a, Decidable (P a)] (h : (List.range n).all (fun a => decide (P a)) = true) {a : Nat} (ha : a < n) : P a :=
  of_decide_eq_true (List.all_eq_true.mp h a (List.mem_range.mpr ha))
theorem b_s1_s {n a y : Nat} (ha : a < 256) : b_s1 (n + 1) (a + 256 * y) = b_s1 1 a + 256 * b_s1 n y := by
  unfold b_s1
  have e : (a + 256 * y) / 2 = (a / 2 + 128 * (y % 2)) + 256 * (y / 2) := by omega
  rw [e, show b_m 85 (n + 1) = 85 + 256 * b_m 85 n from rfl, b_land (by omega) (by decide), b_all2 b_t1 ha (Nat.mod_lt y (by decide)), show b_m 85 1 = 85 from rfl]
  have h1 : a / 2 &&& 85 ≤ a / 2 := Nat.and_le_left
  have h2 : y / 2 &&& b_m 85 n ≤ y / 2 := Nat.and_le_left
  omega
theorem b_s2_s {n a y : Nat} (ha : a < 256) : b_s2 (n + 1) (a + 256 * y) = b_s2 1 a + 256 * b_s2 n y := by
  unfold b_s2
  have e : (a + 256 * y) / 4 = (a / 4 + 64 * (y % 4)) + 256 * (y / 4) := by omega
  rw [e, show b_m 51 (n + 1) = 51 + 256 * b_m 51 n from rfl, b_land ha (by decide), b_land (by omega) (by decide), b_all2 b_t2 ha (Nat.mod_lt y (by decide)), show b_m 51 1 = 51 from rfl]
  omega
theorem b_s3_s {n a y : Nat} (ha : a < 103) (hy : y % 16 ≤ 4) : b_s3 (n + 1) (a + 256 * y) = b_s3 1 a + 256 * b_s3 n y := by
  unfold b_s3
  have e : a + 256 * y + (a + 256 * y) / 16 = (a + a / 16 + 16 * (y % 16)) + 256 * (y + y / 16) := by omega
  rw [e, show b_m 15 (n + 1) = 15 + 256 * b_m 15 n from rfl, b_land (by omega) (by decide), b_all2 b_t4 ha (show y % 16 < 5 by omega), show b_m 15 1 = 15 from rfl]
theorem b_nib : ∀ (n x : Nat), b_s2 n (b_s1 n x) % 16 ≤ 4
  | 0, x => by
    unfold b_s2 b_s1
    rw [show b_m 85 0 = 0 from rfl, show b_m 51 0 = 0 from rfl]
    simp
  | n + 1, x => by
    have h := b_all1 b_t3 (Nat.mod_lt x (show 0 < 256 by decide))
    rw [show x = x % 256 + 256 * (x / 256) by omega, b_s1_s (Nat.mod_lt x (by decide)), b_s2_s h.1]
    have := h.2.2.1
    omega
theorem b_all_s (n x : Nat) : b_s3 (n + 1) (b_s2 (n + 1) (b_s1 (n + 1) x)) = b_p (x % 256) + 256 * b_s3 n (b_s2 n (b_s1 n (x / 256))) := by
  have h := b_all1 b_t3 (Nat.mod_lt x (show 0 < 256 by decide))
  rw [show b_s1 (n + 1) x = b_s1 1 (x % 256) + 256 * b_s1 n (x / 256) by rw [← b_s1_s (Nat.mod_lt x (by decide))]; congr 1; omega, b_s2_s h.1, b_s3_s h.2.1 (b_nib n _)]
  rfl
/-- how many of the first n bits -/
def b_c : Nat → Nat → Nat
  | _, 0 => 0
  | x, n + 1 => x % 2 + b_c (x / 2) n
theorem b_c_add : ∀ (n x m : Nat), b_c x (n + m) = b_c x n + b_c (x / 2 ^ n) m
  | 0, x, m => by simp [b_c]
  | n + 1, x, m => by
    rw [show n + 1 + m = (n + m) + 1 by omega]
    show x % 2 + b_c (x / 2) (n + m) = x % 2 + b_c (x / 2) n + _
    rw [b_c_add n (x / 2) m, Nat.div_div_eq_div_mul, show 2 * 2 ^ n = 2 ^ (n + 1) by rw [Nat.pow_succ]; omega]
    omega
theorem b_c_mod : ∀ (n x : Nat), b_c (x % 2 ^ n) n = b_c x n
  | 0, x => rfl
  | n + 1, x => by
    show x % 2 ^ (n + 1) % 2 + b_c (x % 2 ^ (n + 1) / 2) n = x % 2 + b_c (x / 2) n
    rw [show x % 2 ^ (n + 1) % 2 = x % 2 from Nat.mod_mod_of_dvd x (by rw [Nat.pow_succ]; exact Nat.dvd_mul_left 2 _)]
    have e : x % 2 ^ (n + 1) / 2 = x / 2 % 2 ^ n := by
      rw [Nat.pow_succ, Nat.mul_comm, Nat.mod_mul_right_div_self]
    rw [e, b_c_mod n (x / 2)]
theorem b_t5 : (List.range 256).all (fun a => decide (b_p a = b_c a 8)) = true := by decide +kernel
theorem b_p_c (x : Nat) : b_p (x % 256) = b_c x 8 := by
  rw [b_all1 b_t5 (Nat.mod_lt x (show 0 < 256 by decide))]
  exact b_c_mod 8 x
theorem b_p8 (x : Nat) : b_p (x % 256) ≤ 8 := (b_all1 b_t3 (Nat.mod_lt x (show 0 < 256 by decide))).2.2.2
theorem b_c8 (x n : Nat) : b_c x (8 + n) = b_p (x % 256) + b_c (x / 256) n := by
  rw [b_c_add 8 x n, b_p_c]
theorem b_fin0 (x : Nat) : b_s3 0 (b_s2 0 (b_s1 0 x)) = 0 := by
  unfold b_s3
  rw [show b_m 15 0 = 0 from rfl]
  simp
theorem b_fin {s0 s1 s2 s3 s4 s5 s6 s7 : Nat} (h0 : s0 ≤ 16) (h1 : s1 ≤ 16) (h2 : s2 ≤ 16) (h3 : s3 ≤ 16) (h4 : s4 ≤ 16) (h5 : s5 ≤ 16) (h6 : s6 ≤ 16) (h7 : s7 ≤ 16) : ((s0 + 256 * (s1 + 256 * (s2 + 256 * (s3 + 256 * (s4 + 256 * (s5 + 256 * (s6 + 256 * s7)))))) + (s0 + 256 * (s1 + 256 * (s2 + 256 * (s3 + 256 * (s4 + 256 * (s5 + 256 * (s6 + 256 * s7))))))) / 65536) + (s0 + 256 * (s1 + 256 * (s2 + 256 * (s3 + 256 * (s4 + 256 * (s5 + 256 * (s6 + 256 * s7)))))) + (s0 + 256 * (s1 + 256 * (s2 + 256 * (s3 + 256 * (s4 + 256 * (s5 + 256 * (s6 + 256 * s7))))))) / 65536) / 4294967296) % 128 = s0 + s2 + s4 + s6 ∧ s0 + 256 * (s1 + 256 * (s2 + 256 * (s3 + 256 * (s4 + 256 * (s5 + 256 * (s6 + 256 * s7)))))) < 2 ^ 62 ∧ s0 + 256 * (s1 + 256 * (s2 + 256 * (s3 + 256 * (s4 + 256 * (s5 + 256 * (s6 + 256 * s7)))))) + (s0 + 256 * (s1 + 256 * (s2 + 256 * (s3 + 256 * (s4 + 256 * (s5 + 256 * (s6 + 256 * s7))))))) / 65536 < 2 ^ 62 ∧ (s0 + 256 * (s1 + 256 * (s2 + 256 * (s3 + 256 * (s4 + 256 * (s5 + 256 * (s6 + 256 * s7)))))) + (s0 + 256 * (s1 + 256 * (s2 + 256 * (s3 + 256 * (s4 + 256 * (s5 + 256 * (s6 + 256 * s7))))))) / 65536) + (s0 + 256 * (s1 + 256 * (s2 + 256 * (s3 + 256 * (s4 + 256 * (s5 + 256 * (s6 + 256 * s7)))))) + (s0 + 256 * (s1 + 256 * (s2 + 256 * (s3 + 256 * (s4 + 256 * (s5 + 256 * (s6 + 256 * s7))))))) / 65536) / 4294967296 < 2 ^ 62 := by
  obtain ⟨t, ht⟩ : ∃ t, s6 + 256 * s7 = t := ⟨_, rfl⟩
  obtain ⟨u, hu⟩ : ∃ u, s4 + 256 * (s5 + 256 * t) = u := ⟨_, rfl⟩
  obtain ⟨v, hv⟩ : ∃ v, s2 + 256 * (s3 + 256 * u) = v := ⟨_, rfl⟩
  have bt : t ≤ 5000 := by omega
  have bu : u ≤ 400000000 := by omega
  have bv : v ≤ 40000000000000 := by omega
  rw [ht, hu, hv]
  have d4 : (s0 + 256 * (s1 + 256 * v)) / 65536 = v := by omega
  rw [d4]
  have d5 : (s0 + 256 * (s1 + 256 * v) + v) / 4294967296 = u + t := by
    have : s0 + 256 * (s1 + 256 * v) + v = (s0 + s2 + 256 * (s1 + s3) + 65536 * (s2 + s4) + 16777216 * (s3 + s5)) + 4294967296 * (u + t) := by omega
    rw [this]
    omega
  rw [d5]
  clear d4 d5
  refine ⟨by omega, by omega, by omega, by omega⟩
/-- eight bytes -/
theorem b_64 (x : Nat) : ∃ i4 i5 i6 : Nat, i4 = b_s3 8 (b_s2 8 (b_s1 8 x)) + b_s3 8 (b_s2 8 (b_s1 8 x)) / 256 ∧ i5 = i4 + i4 / 65536 ∧ i6 = i5 + i5 / 4294967296 ∧ i6 % 128 = b_c x 64 ∧ i4 < 2 ^ 62 ∧ i5 < 2 ^ 62 ∧ i6 < 2 ^ 62 ∧ b_s3 8 (b_s2 8 (b_s1 8 x)) < 2 ^ 60 := by
  refine ⟨_, _, _, rfl, rfl, rfl, ?_⟩
  rw [show (64 : Nat) = 8 + (8 + (8 + (8 + (8 + (8 + (8 + (8 + 0))))))) from rfl, b_c8, b_c8, b_c8, b_c8, b_c8, b_c8, b_c8, b_c8, show b_c (x / 256 / 256 / 256 / 256 / 256 / 256 / 256 / 256) 0 = 0 from rfl]
  rw [b_all_s 7, b_all_s 6, b_all_s 5, b_all_s 4, b_all_s 3, b_all_s 2, b_all_s 1, b_all_s 0, b_fin0]
  have h0 := b_p8 x
  have h1 := b_p8 (x / 256)
  have h2 := b_p8 (x / 256 / 256)
  have h3 := b_p8 (x / 256 / 256 / 256)
  have h4 := b_p8 (x / 256 / 256 / 256 / 256)
  have h5 := b_p8 (x / 256 / 256 / 256 / 256 / 256)
  have h6 := b_p8 (x / 256 / 256 / 256 / 256 / 256 / 256)
  have h7 := b_p8 (x / 256 / 256 / 256 / 256 / 256 / 256 / 256)
  generalize b_p (x % 256) = p0 at *
  generalize b_p (x / 256 % 256) = p1 at *
  generalize b_p (x / 256 / 256 % 256) = p2 at *
  generalize b_p (x / 256 / 256 / 256 % 256) = p3 at *
  generalize b_p (x / 256 / 256 / 256 / 256 % 256) = p4 at *
  generalize b_p (x / 256 / 256 / 256 / 256 / 256 % 256) = p5 at *
  generalize b_p (x / 256 / 256 / 256 / 256 / 256 / 256 % 256) = p6 at *
  generalize b_p (x / 256 / 256 / 256 / 256 / 256 / 256 / 256 % 256) = p7 at *
  have e3 : p0 + 256 * (p1 + 256 * (p2 + 256 * (p3 + 256 * (p4 + 256 * (p5 + 256 * (p6 + 256 * (p7 + 256 * 0))))))) = p0 + 256 * (p1 + 256 * (p2 + 256 * (p3 + 256 * (p4 + 256 * (p5 + 256 * (p6 + 256 * p7)))))) := by omega
  rw [e3]
  have e4 : p0 + 256 * (p1 + 256 * (p2 + 256 * (p3 + 256 * (p4 + 256 * (p5 + 256 * (p6 + 256 * p7)))))) + (p0 + 256 * (p1 + 256 * (p2 + 256 * (p3 + 256 * (p4 + 256 * (p5 + 256 * (p6 + 256 * p7))))))) / 256 = (p0 + p1) + 256 * ((p1 + p2) + 256 * ((p2 + p3) + 256 * ((p3 + p4) + 256 * ((p4 + p5) + 256 * ((p5 + p6) + 256 * ((p6 + p7) + 256 * p7)))))) := by
    rw [show (p0 + 256 * (p1 + 256 * (p2 + 256 * (p3 + 256 * (p4 + 256 * (p5 + 256 * (p6 + 256 * p7))))))) / 256 = p1 + 256 * (p2 + 256 * (p3 + 256 * (p4 + 256 * (p5 + 256 * (p6 + 256 * p7))))) by omega]
    omega
  rw [e4]
  have h := b_fin (s0 := p0 + p1) (s1 := p1 + p2) (s2 := p2 + p3) (s3 := p3 + p4) (s4 := p4 + p5) (s5 := p5 + p6) (s6 := p6 + p7) (s7 := p7) (by omega) (by omega) (by omega) (by omega) (by omega) (by omega) (by omega) (by omega)
  refine ⟨?_, h.2.1, h.2.2.1, h.2.2.2, by omega⟩
  rw [h.1]
  omega
theorem b_32 (x : Nat) : ∃ i4 i5 : Nat, i4 = b_s3 4 (b_s2 4 (b_s1 4 x)) + b_s3 4 (b_s2 4 (b_s1 4 x)) / 256 ∧ i5 = i4 + i4 / 65536 ∧ i5 % 64 = b_c x 32 % 64 ∧ i4 < 2 ^ 30 ∧ i5 < 2 ^ 30 ∧ b_s3 4 (b_s2 4 (b_s1 4 x)) < 2 ^ 28 := by
  refine ⟨_, _, rfl, rfl, ?_⟩
  rw [show (32 : Nat) = 8 + (8 + (8 + (8 + 0))) from rfl, b_c8, b_c8, b_c8, b_c8, show b_c (x / 256 / 256 / 256 / 256) 0 = 0 from rfl]
  rw [b_all_s 3, b_all_s 2, b_all_s 1, b_all_s 0, b_fin0]
  have h0 := b_p8 x
  have h1 := b_p8 (x / 256)
  have h2 := b_p8 (x / 256 / 256)
  have h3 := b_p8 (x / 256 / 256 / 256)
  generalize b_p (x % 256) = p0 at *
  generalize b_p (x / 256 % 256) = p1 at *
  generalize b_p (x / 256 / 256 % 256) = p2 at *
  generalize b_p (x / 256 / 256 / 256 % 256) = p3 at *
  have e3 : (p0 + 256 * (p1 + 256 * (p2 + 256 * (p3 + 256 * 0)))) / 256 = p1 + 256 * (p2 + 256 * p3) := by omega
  rw [e3]
  have e4 : p0 + 256 * (p1 + 256 * (p2 + 256 * (p3 + 256 * 0))) + (p1 + 256 * (p2 + 256 * p3)) = (p0 + p1) + 256 * (p1 + p2) + 65536 * (p2 + p3 + 256 * p3) := by omega
  rw [e4]
  have e5 : ((p0 + p1) + 256 * (p1 + p2) + 65536 * (p2 + p3 + 256 * p3)) / 65536 = p2 + p3 + 256 * p3 := by omega
  rw [e5]
  refine ⟨by omega, by omega, by omega, by omega⟩
theorem b_c_le : ∀ (n x : Nat), b_c x n ≤ n
  | 0, _ => Nat.le_refl _
  | n + 1, x => by
    have := b_c_le n (x / 2)
    show x % 2 + b_c (x / 2) n ≤ n + 1
    omega
theorem b_bsum {a : Int} (ha : 0 ≤ a) : ∀ n : Nat, e_bsum a n = (b_c a.toNat n : Int)
  | 0 => rfl
  | n + 1 => by
    show e_bsum a n + e_bt a n = _
    rw [b_bsum ha n, b_c_add n a.toNat 1, Int.natCast_add]
    congr 1
    show e_bt a n = ((a.toNat / 2 ^ n % 2 + 0 : Nat) : Int)
    rw [b_tb a n ha (by omega), Int.toNat_natCast, Nat.testBit_eq_decide_div_mod_eq]
    by_cases q : a.toNat / 2 ^ n % 2 = 1
    · rw [q]; rfl
    · have : a.toNat / 2 ^ n % 2 = 0 := by omega
      rw [this]; rfl
/-! longs -/
theorem e_lbvN (z : Int) : (Int64.ofInt z).toBitVec.toNat = (z % 18446744073709551616).toNat := by
  show (BitVec.ofInt 64 z).toNat = _
  rw [BitVec.toNat_ofInt]
  rfl
theorem e_i64_ext {x y : Int64} (h : x.toBitVec.toNat = y.toBitVec.toNat) : x = y := Int64.toBitVec_inj.mp (BitVec.eq_of_toNat_eq h)
theorem e_land_nat (a b : Nat) : Int64.ofInt (a : Int) &&& Int64.ofInt (b : Int) = Int64.ofInt ((a &&& b : Nat) : Int) := by
  rw [← Int64.toBitVec_inj]
  show BitVec.ofInt 64 _ &&& BitVec.ofInt 64 _ = BitVec.ofInt 64 _
  rw [BitVec.ofInt_natCast, BitVec.ofInt_natCast, BitVec.ofInt_natCast]
  ext i hi
  simp
theorem e_lor_nat (a b : Nat) : Int64.ofInt (a : Int) ||| Int64.ofInt (b : Int) = Int64.ofInt ((a ||| b : Nat) : Int) := by
  rw [← Int64.toBitVec_inj]
  show BitVec.ofInt 64 _ ||| BitVec.ofInt 64 _ = BitVec.ofInt 64 _
  rw [BitVec.ofInt_natCast, BitVec.ofInt_natCast, BitVec.ofInt_natCast]
  ext i hi
  simp
theorem e_land_law {a b : Int} (ha : 0 ≤ a) (hb : 0 ≤ b) : Int64.ofInt a &&& Int64.ofInt b = Int64.ofInt (t_and a b) := by
  unfold t_and
  rw [← e_land_nat, Int.toNat_of_nonneg ha, Int.toNat_of_nonneg hb]
theorem e_lor_law {a b : Int} (ha : 0 ≤ a) (hb : 0 ≤ b) : Int64.ofInt a ||| Int64.ofInt b = Int64.ofInt (t_or a b) := by
  unfold t_or
  rw [← e_lor_nat, Int.toNat_of_nonneg ha, Int.toNat_of_nonneg hb]
theorem e_lnot_law (b : Int) : Int64.ofInt b ^^^ Int64.ofInt (-1) = Int64.ofInt (-1 - b) := by
  apply Int64.toBitVec_inj.mp
  show BitVec.ofInt 64 b ^^^ BitVec.ofInt 64 (-1) = BitVec.ofInt 64 (-1 - b)
  rw [show BitVec.ofInt 64 (-1) = BitVec.allOnes 64 from rfl, BitVec.xor_allOnes]
  have h1 : ~~~(BitVec.ofInt 64 b) = -(BitVec.ofInt 64 b) - 1#64 := by
    rw [BitVec.neg_eq_not_add, BitVec.add_sub_cancel]
  rw [h1, ← BitVec.ofInt_neg]
  apply BitVec.eq_of_toInt_eq
  rw [BitVec.toInt_sub]
  simp only [BitVec.toInt_ofInt]
  simp
  congr 1
  omega
theorem e_landn_law {a b : Int} (ha : 0 ≤ a) (hb : 0 ≤ b) : Int64.ofInt a &&& Int64.ofInt (-1 - b) = Int64.ofInt (t_andn a b) := by
  have hx : ∀ x y : Nat, Int64.ofInt (x : Int) ^^^ Int64.ofInt (y : Int) = Int64.ofInt ((x ^^^ y : Nat) : Int) := by
    intro x y
    rw [← Int64.toBitVec_inj]
    show BitVec.ofInt 64 _ ^^^ BitVec.ofInt 64 _ = BitVec.ofInt 64 _
    rw [BitVec.ofInt_natCast, BitVec.ofInt_natCast, BitVec.ofInt_natCast]
    ext i hi
    simp
  unfold t_andn
  rw [← hx, ← e_land_nat, Int.toNat_of_nonneg ha, Int.toNat_of_nonneg hb, ← e_lnot_law]
  apply Int64.toBitVec_inj.mp
  show BitVec.ofInt 64 a &&& (BitVec.ofInt 64 b ^^^ BitVec.ofInt 64 (-1)) = BitVec.ofInt 64 a ^^^ (BitVec.ofInt 64 a &&& BitVec.ofInt 64 b)
  rw [show BitVec.ofInt 64 (-1) = BitVec.allOnes 64 from rfl, BitVec.xor_allOnes]
  apply BitVec.eq_of_getLsbD_eq
  intro i hi
  simp only [BitVec.getLsbD_and, BitVec.getLsbD_not, BitVec.getLsbD_xor, hi, decide_true, Bool.true_and]
  cases BitVec.getLsbD (BitVec.ofInt 64 a) i <;> cases BitVec.getLsbD (BitVec.ofInt 64 b) i <;> rfl
theorem e_sc64u : ∀ n : Nat, n < 64 → (((Int32.ofInt (n : Int)).toInt64.toUInt64 &&& Int64.toUInt64 63).toNat % 64) = n := by decide +kernel
theorem e_lushr_law {a k : Int} (ha : 0 ≤ a ∧ a < 2 ^ 64) (hk : 0 ≤ k ∧ k < 64) : ((Int64.ofInt a).toUInt64 >>> ((Int32.ofInt k).toInt64.toUInt64 &&& Int64.toUInt64 63)).toInt64 = Int64.ofInt (a / 2 ^ k.toNat) := by
  have h1 := e_sc64u k.toNat (by omega)
  rw [Int.toNat_of_nonneg hk.1] at h1
  apply e_i64_ext
  show ((Int64.ofInt a).toUInt64 >>> ((Int32.ofInt k).toInt64.toUInt64 &&& Int64.toUInt64 63)).toNat = _
  rw [UInt64.toNat_shiftRight, h1, Nat.shiftRight_eq_div_pow]
  show (Int64.ofInt a).toBitVec.toNat / 2 ^ k.toNat = _
  rw [e_lbvN, e_lbvN]
  have hp : (0 : Int) < 2 ^ k.toNat := Int.pow_pos (by decide)
  have h2 : 0 ≤ a / 2 ^ k.toNat := Int.ediv_nonneg ha.1 (by omega)
  have h3 : a / 2 ^ k.toNat ≤ a := Int.ediv_le_self _ ha.1
  have e : ((2 : Int) ^ k.toNat) = ((2 ^ k.toNat : Nat) : Int) := by rw [Int.natCast_pow]; rfl
  have h4 : (a % 18446744073709551616).toNat = a.toNat := by omega
  have h5 : (a / 2 ^ k.toNat % 18446744073709551616).toNat = (a / 2 ^ k.toNat).toNat := by omega
  rw [h4, h5]
  have h6 : ((a.toNat / 2 ^ k.toNat : Nat) : Int) = a / 2 ^ k.toNat := by
    rw [Int.natCast_ediv, ← e, Int.toNat_of_nonneg ha.1]
  omega
/-- bit s of a set -/
theorem e_lbit_law {z s : Int} (hz : 0 ≤ z ∧ z < 2 ^ 64) (hs : 0 ≤ s ∧ s < 64) : Int64.ofInt (z.bmod (2 ^ 64) / 2 ^ s.toNat) &&& Int64.ofInt 1 = Int64.ofInt (e_bt z s) := by
  have hp : (0 : Int) < 2 ^ s.toNat := Int.pow_pos (by decide)
  have h1 : ∀ w : Int, Int64.ofInt w &&& Int64.ofInt 1 = Int64.ofInt (w % 2) := by
    intro w
    apply e_i64_ext
    show (BitVec.ofInt 64 w &&& 1#64).toNat = _
    rw [BitVec.toNat_and, e_lbvN]
    show (BitVec.ofInt 64 w).toNat &&& 1 = _
    rw [Nat.and_one_is_mod]
    show (Int64.ofInt w).toBitVec.toNat % 2 = _
    rw [e_lbvN]
    omega
  rw [h1]
  congr 1
  unfold e_bt
  by_cases q : z < 2 ^ 63
  · rw [show z.bmod (2 ^ 64) = z by unfold Int.bmod; simp only []; omega]
  · rw [show z.bmod (2 ^ 64) = z + (-2 ^ 64) by unfold Int.bmod; simp only []; omega]
    have e : (-2 ^ 64 : Int) = 2 ^ s.toNat * (-(2 * 2 ^ (63 - s.toNat))) := by
      have : (2 : Int) ^ 64 = 2 ^ s.toNat * (2 * 2 ^ (63 - s.toNat)) := by
        rw [← Int.pow_succ', ← Int.pow_add]
        congr 1
        omega
      rw [this, Int.mul_neg]
    rw [e, Int.add_mul_ediv_left _ _ (by omega)]
    omega
