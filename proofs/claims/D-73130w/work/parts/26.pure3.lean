/-! THE TWIN'S PURE FORM, THREE: bytes, longs, what is kept -/
set_option maxRecDepth 100000
def t_i8 (z : Int) : Int := (z + 128) % 256 - 128
def t_i16 (z : Int) : Int := (z + 32768) % 65536 - 32768
def t_i32 (z : Int) : Int := (z + 2147483648) % 4294967296 - 2147483648
theorem t_i8_rg (z : Int) : -128 ≤ t_i8 z ∧ t_i8 z < 128 := by unfold t_i8; omega
theorem t_i8_law (z : Int) : (Int32.ofInt z).toInt8.toInt32 = Int32.ofInt (t_i8 z) := by
  have hr := t_i8_rg z
  rw [← Int32.toInt_inj, e_ti (z := t_i8 z) ⟨by omega, by omega⟩]
  rw [Int8.toInt_toInt32, Int32.toInt_toInt8, Int32.toInt_ofInt]
  show (z.bmod 4294967296).bmod 256 = _
  unfold t_i8 Int.bmod
  simp only []
  omega
theorem t_i8_self {z : Int} (h : -128 ≤ z ∧ z < 128) : (Int32.ofInt z).toInt8.toInt32 = Int32.ofInt z := by
  rw [t_i8_law]
  congr 1
  unfold t_i8
  omega
/-- clipped to a width -/
def t_clip (v w : Int) : Int := if w = 0 then t_i8 v else if w = 1 then t_i16 v else if w = 2 then t_i32 v else v
theorem e_sc64 : ∀ n : Nat, n < 64 → (((Int32.ofInt (n : Int)).toInt64 &&& 63).toBitVec.smod 64).toNat = n := by decide +kernel
theorem e_lshl_law (a : Int) {k : Int} (hk : 0 ≤ k ∧ k < 64) : Int64.ofInt a <<< ((Int32.ofInt k).toInt64 &&& 63) = Int64.ofInt (a * 2 ^ k.toNat) := by
  have h1 := e_sc64 k.toNat (by omega)
  rw [Int.toNat_of_nonneg hk.1] at h1
  apply Int64.toBitVec_inj.mp
  show BitVec.ofInt 64 a <<< ((Int32.ofInt k).toInt64 &&& 63).toBitVec.smod 64 = BitVec.ofInt 64 (a * 2 ^ k.toNat)
  rw [BitVec.shiftLeft_eq', h1]
  apply BitVec.eq_of_toNat_eq
  rw [BitVec.toNat_shiftLeft, BitVec.toNat_ofInt, BitVec.toNat_ofInt, Nat.shiftLeft_eq]
  have e1 : ((a % ((2 ^ 64 : Nat) : Int)).toNat : Int) = a % ((2 ^ 64 : Nat) : Int) := Int.toNat_of_nonneg (Int.emod_nonneg _ (by decide))
  have e2 : (((a * 2 ^ k.toNat) % ((2 ^ 64 : Nat) : Int)).toNat : Int) = (a * 2 ^ k.toNat) % ((2 ^ 64 : Nat) : Int) := Int.toNat_of_nonneg (Int.emod_nonneg _ (by decide))
  have e3 : (((a % ((2 ^ 64 : Nat) : Int)).toNat * 2 ^ k.toNat % 2 ^ 64 : Nat) : Int) = (a * 2 ^ k.toNat) % ((2 ^ 64 : Nat) : Int) := by
    rw [Int.natCast_emod, Int.natCast_mul, e1, Int.natCast_pow]
    show (a % ((2 ^ 64 : Nat) : Int) * 2 ^ k.toNat) % ((2 ^ 64 : Nat) : Int) = _
    rw [Int.mul_emod, Int.emod_emod, ← Int.mul_emod]
    rfl
  omega
theorem e_lshr_law (a : Int) {k : Int} (hk : 0 ≤ k ∧ k < 64) : Int64.ofInt a >>> ((Int32.ofInt k).toInt64 &&& 63) = Int64.ofInt (a.bmod (2 ^ 64) / 2 ^ k.toNat) := by
  have h1 := e_sc64 k.toNat (by omega)
  rw [Int.toNat_of_nonneg hk.1] at h1
  apply Int64.toBitVec_inj.mp
  show BitVec.sshiftRight' (BitVec.ofInt 64 a) (((Int32.ofInt k).toInt64 &&& 63).toBitVec.smod 64) = BitVec.ofInt 64 (a.bmod (2 ^ 64) / 2 ^ k.toNat)
  rw [BitVec.sshiftRight_eq', h1]
  apply BitVec.eq_of_toInt_eq
  rw [BitVec.toInt_sshiftRight, BitVec.toInt_ofInt, BitVec.toInt_ofInt, Int.shiftRight_eq_div_pow]
  have hp : (0 : Int) < 2 ^ k.toNat := Int.pow_pos (by decide)
  have hb : -9223372036854775808 ≤ a.bmod (2 ^ 64) ∧ a.bmod (2 ^ 64) < 9223372036854775808 := by
    unfold Int.bmod
    simp only []
    omega
  generalize a.bmod (2 ^ 64) = b at hb
  have hc : -9223372036854775808 ≤ b / 2 ^ k.toNat ∧ b / 2 ^ k.toNat < 9223372036854775808 := by
    refine ⟨?_, ?_⟩
    · refine (Int.le_ediv_iff_mul_le hp).mpr ?_
      have : (1 : Int) ≤ 2 ^ k.toNat := hp
      have h9 : (-9223372036854775808 : Int) * 2 ^ k.toNat ≤ -9223372036854775808 * 1 := Int.mul_le_mul_of_nonpos_left (by decide) this
      omega
    · rcases Int.lt_or_le b 0 with q | q
      · have := Int.ediv_neg_of_neg_of_pos q hp
        omega
      · have := Int.ediv_le_self (2 ^ k.toNat) q
        omega
  have e9 : (b / 2 ^ k.toNat).bmod (2 ^ 64) = b / 2 ^ k.toNat := by
    unfold Int.bmod
    simp only []
    omega
  rw [e9]
  norm_cast
theorem t_clip_law (v : Int) {w : Int} (hv : e_rl v) (hw : 0 ≤ w ∧ w < 4) : (v * 2 ^ ((64 - 8 * 2 ^ w.toNat : Int)).toNat).bmod (2 ^ 64) / 2 ^ ((64 - 8 * 2 ^ w.toNat : Int)).toNat = t_clip v w := by
  have hw4 : w = 0 ∨ w = 1 ∨ w = 2 ∨ w = 3 := by omega
  rcases hw4 with rfl | rfl | rfl | rfl
  · show (v * 72057594037927936).bmod 18446744073709551616 / 72057594037927936 = (v + 128) % 256 - 128
    unfold Int.bmod
    simp only []
    omega
  · show (v * 281474976710656).bmod 18446744073709551616 / 281474976710656 = (v + 32768) % 65536 - 32768
    unfold Int.bmod
    simp only []
    omega
  · show (v * 4294967296).bmod 18446744073709551616 / 4294967296 = (v + 2147483648) % 4294967296 - 2147483648
    unfold Int.bmod
    simp only []
    omega
  · show (v * 1).bmod 18446744073709551616 / 1 = v
    unfold Int.bmod
    simp only []
    omega
theorem t_pk_rf (σ : t_S) : t_pk σ σ := fun _ _ => rfl
/-! values and what is kept of the simple questions -/
def v_widow (σ : t_S) (w k : Int) : Int := if t_isW σ w ∧ 0 ≤ k ∧ k ≤ 4 then t_wd σ w k else -2
def v_grief (σ : t_S) (w i : Int) : Int := if t_isW σ w ∧ 0 ≤ i then (if i < t_wd σ w 4 then t_wd σ w (5 + i) else -1) else -2
def v_fault (σ : t_S) (k : Int) : Int := if k = 0 then σ 12 0 else if k = 1 then σ 13 0 else -1
def v_end (σ : t_S) (n : Int) : Int := if 0 ≤ n ∧ n ≤ σ 5 0 then n else -1
def s_end (σ : t_S) (n : Int) : t_S := if 0 ≤ n ∧ n ≤ σ 5 0 then s_up σ 5 0 n else σ
def s_fd0 (σ : t_S) (a b c d e : Int) : t_S := s_up (s_up (s_up (s_up (s_up σ 6 0 a) 6 1 b) 6 2 c) 6 3 d) 6 4 e
def t_fdf : Int → t_S → t_S := fun k τ => s_up τ 4 (τ 5 0 + k) (t_i8 (τ 6 (k / 4) / 2 ^ (24 - 8 * (k % 4)).toNat))
def s_fd1 (σ : t_S) (a b c d e : Int) : t_S := t_it t_fdf 20 (s_fd0 σ a b c d e)
def s_fd (σ : t_S) (a b c d e : Int) : t_S := s_up (s_fd1 σ a b c d e) 5 0 (s_fd1 σ a b c d e 5 0 + 20)
def v_feed (σ : t_S) : Int := if 900 < σ 5 0 + 20 then -1 else σ 5 0 + 20
def s_feed (σ : t_S) (a b c d e : Int) : t_S := if 900 < σ 5 0 + 20 then σ else s_fd σ a b c d e
theorem s_fd0_rg {σ : t_S} {a b c d e : Int} (ha : e_rg a) (hb : e_rg b) (hc : e_rg c) (hd : e_rg d) (he : e_rg e) (j : Int) (h0 : 0 ≤ j) (h1 : j < 5) : e_rg (s_fd0 σ a b c d e 6 j) := by
  have hj : j = 0 ∨ j = 1 ∨ j = 2 ∨ j = 3 ∨ j = 4 := by omega
  rcases hj with rfl | rfl | rfl | rfl | rfl
  · exact ha
  · exact hb
  · exact hc
  · exact hd
  · exact he
theorem s_fd0_k {σ : t_S} {a b c d e : Int} {k : Nat} (h : k ≠ 6) : s_fd0 σ a b c d e k = σ k := (s_up_f h).trans ((s_up_f h).trans ((s_up_f h).trans ((s_up_f h).trans (s_up_f h))))
def t_imf (k : Int) : Int → t_S → t_S := fun i τ => s_up τ 2 (149 * k + i) (τ 1 i)
def v_image (k : Int) : Int := if 0 ≤ k ∧ k ≤ 2 then 0 else -2
def s_image (σ : t_S) (k : Int) : t_S := if 0 ≤ k ∧ k ≤ 2 then s_up (t_it (t_imf k) 149 σ) 3 k 1 else σ
def t_bkf (k : Int) : Int → t_S → t_S := fun i τ => s_up τ 1 i (τ 2 (149 * k + i))
def v_back (σ : t_S) (k : Int) : Int := if 0 ≤ k ∧ k ≤ 2 then (if σ 3 k = 0 then -6 else 0) else -2
def s_back (σ : t_S) (k : Int) : t_S := if (0 ≤ k ∧ k ≤ 2) ∧ σ 3 k ≠ 0 then t_it (t_bkf k) 149 σ else σ
def v_undo (σ : t_S) : Int := if t_isC σ then (if σ 1 8 = 0 then -5 else σ 1 8 - 1) else -2
def s_undo (σ : t_S) : t_S := if t_isC σ ∧ σ 1 8 ≠ 0 then s_up σ 1 8 (σ 1 8 - 1) else σ
def v_anew (σ : t_S) : Int := if t_isC σ then σ 1 8 else -2
def s_anew (σ : t_S) : t_S := if t_isC σ then s_up σ 1 8 0 else σ
def v_rate (σ : t_S) (w n : Int) : Int := if t_isW σ w ∧ 1 ≤ n ∧ n ≤ 40 then (if 0 < σ 1 8 then -5 else t_wd σ w 2) else -2
def s_rate (σ : t_S) (w n : Int) : t_S := if (t_isW σ w ∧ 1 ≤ n ∧ n ≤ 40) ∧ ¬ 0 < σ 1 8 then s_up σ 1 (28 + 13 * w + 2) n else σ
def t_cng (σ : t_S) : Int → Int := fun s => if σ 42 s = -1 then 0 else 1
def v_count (σ : t_S) (k : Int) : Int := if 0 ≤ k ∧ k ≤ 9 then σ 1 k else if k = 10 then σ 5 0 else if k = 11 then t_sum (t_cng σ) 4 else -1
def s_ka0 (σ : t_S) (a : Int) : t_S := s_up (s_up σ 1 (119 + σ 1 8) a) 1 8 (s_up σ 1 (119 + σ 1 8) a 1 8 + 1)
def v_ka (σ : t_S) (a : Int) : Int := if σ 1 8 = 30 then -5 else t_pgm (t_af (s_ka0 σ a)) (t_af (s_ka0 σ a) 1 0)
def s_ka (σ : t_S) (a : Int) : t_S := if σ 1 8 = 30 then σ else s_ka0 σ a
def v_bridge (σ : t_S) (c : Int) : Int := if t_isCell σ c then v_ka σ c else -2
def s_bridge (σ : t_S) (c : Int) : t_S := if t_isCell σ c then s_ka σ c else σ
def v_keeps (σ : t_S) (w : Int) : Int := if t_isW σ w then v_ka σ (1000 + w) else -2
def s_keeps (σ : t_S) (w : Int) : t_S := if t_isW σ w then s_ka σ (1000 + w) else σ
theorem s_ka0_1 {σ : t_S} {a j : Int} (h8 : 0 ≤ σ 1 8) (h : j ≠ 8) (h2 : j ≠ 119 + σ 1 8) : s_ka0 σ a 1 j = σ 1 j := by
  unfold s_ka0
  rw [s_up_j h, s_up_j h2]
theorem s_ka0_8 {σ : t_S} {a : Int} (h8 : 0 ≤ σ 1 8) : s_ka0 σ a 1 8 = σ 1 8 + 1 := by
  unfold s_ka0
  rw [s_up_eq, s_up_j (by omega)]
theorem s_ka0_a {σ : t_S} {a : Int} (h8 : 0 ≤ σ 1 8) : s_ka0 σ a 1 (119 + σ 1 8) = a := by
  unfold s_ka0
  rw [s_up_j (by omega), s_up_eq]
theorem s_ka0_ok {σ : t_S} {a : Int} (hz : t_sz σ) (hr : t_okR (σ 1)) (h : σ 1 8 ≠ 30) (ha : t_okC (σ 1) a ∨ (1000 ≤ a ∧ a < 1000 + σ 1 7)) : t_sz (s_ka0 σ a) ∧ t_okR (s_ka0 σ a 1) := by
  have h8 := hz.2.2.2.2.2.2.1
  have h7 := hz.2.2.2.2.2.1
  have h6 := hz.2.2.2.2.1
  have h5 := hz.2.2.2.1
  have e : ∀ j, j < 119 → j ≠ 8 → s_ka0 σ a 1 j = σ 1 j := fun j h1 h2 => s_ka0_1 h8.1 h2 (by omega)
  have eC : ∀ c, t_okC (s_ka0 σ a 1) c ↔ t_okC (σ 1) c := fun c => by unfold t_okC; rw [e 3 (by omega) (by omega), e 4 (by omega) (by omega)]
  refine ⟨?_, ?_⟩
  · unfold t_sz
    rw [e 0 (by omega) (by omega), e 3 (by omega) (by omega), e 4 (by omega) (by omega), e 5 (by omega) (by omega), e 6 (by omega) (by omega), e 7 (by omega) (by omega), e 9 (by omega) (by omega), s_ka0_8 h8.1]
    obtain ⟨z0, z3, z4, z5, z6, z7, z8, z9⟩ := hz
    exact ⟨z0, z3, z4, z5, z6, z7, ⟨by omega, by omega⟩, z9⟩
  · obtain ⟨r1, r2, r3, r4, r5, r6, r7, r8⟩ := hr
    refine ⟨fun k k0 k1 => ?_, fun k k0 k1 => ?_, fun w w0 w1 => ?_, fun i i0 i1 => ?_, fun k k0 k1 => ?_, fun w w0 w1 => ?_, ?_, ?_⟩
    · rw [e 5 (by omega) (by omega)] at k1
      rw [eC, e (10 + k) (by omega) (by omega)]
      exact r1 k k0 k1
    · rw [e 6 (by omega) (by omega)] at k1
      rw [eC, e (22 + k) (by omega) (by omega)]
      exact r2 k k0 k1
    · rw [e 7 (by omega) (by omega)] at w1
      have hw := r3 w w0 w1
      obtain ⟨a1, a2, a3, a4, a5, a6⟩ := hw
      unfold t_okW
      rw [eC, e (28 + 13 * w) (by omega) (by omega), e (28 + 13 * w + 1) (by omega) (by omega), e (28 + 13 * w + 2) (by omega) (by omega), e (28 + 13 * w + 3) (by omega) (by omega), e (28 + 13 * w + 4) (by omega) (by omega)]
      refine ⟨a1, a2, a3, a4, a5, fun k k0 k1 => ?_⟩
      rw [e (28 + 13 * w + (5 + k)) (by omega) (by omega)]
      exact a6 k k0 k1
    · rw [s_ka0_8 h8.1] at i1
      rw [eC, e 7 (by omega) (by omega)]
      by_cases q : i = σ 1 8
      · subst q; rw [s_ka0_a h8.1]; exact ha
      · rw [s_ka0_1 h8.1 (by omega) (by omega)]; exact r4 i i0 (by omega)
    · rw [e (22 + k) (by omega) (by omega)]; exact r5 k k0 k1
    · rw [e (28 + 13 * w + 1) (by omega) (by omega)]; exact r6 w w0 w1
    · rw [e 1 (by omega) (by omega)]; exact r7
    · rw [e 2 (by omega) (by omega)]; exact r8
def t_rwf (s : Int) : Int → t_S → t_S := fun i τ => s_up τ 44 (60 * s + i) 0
def v_row (s w n : Int) : Int := if (0 ≤ s ∧ s ≤ 3) ∧ (0 ≤ w ∧ w ≤ 3) ∧ n ≤ 60 then (if n < 0 then -3 else 0) else -2
def s_row (σ : t_S) (s w n : Int) : t_S := if ((0 ≤ s ∧ s ≤ 3) ∧ (0 ≤ w ∧ w ≤ 3) ∧ n ≤ 60) ∧ 0 ≤ n then t_it (t_rwf s) 60 (s_up (s_up σ 42 s n) 43 s w) else σ
def v_write (σ : t_S) (s i : Int) : Int := if 0 ≤ s ∧ s ≤ 3 then (if σ 42 s = -1 then -6 else if 0 ≤ i ∧ i ≤ σ 42 s - 1 then 0 else -7) else -2
def s_write (σ : t_S) (s i v : Int) : t_S := if (0 ≤ s ∧ s ≤ 3) ∧ σ 42 s ≠ -1 ∧ 0 ≤ i ∧ i ≤ σ 42 s - 1 then s_up σ 44 (60 * s + i) (t_clip v (σ 43 s)) else σ
def t_psf (s i : Int) : Int → t_S → t_S := fun x τ => s_up τ 45 x (τ 44 (60 * s + i + x))
def t_psg (t k : Int) : Int → t_S → t_S := fun x τ => s_up τ 44 (60 * t + k + x) (τ 45 x)
def v_paste (σ : t_S) (s i t k n : Int) : Int := if (0 ≤ s ∧ s ≤ 3) ∧ 0 ≤ t ∧ t ≤ 3 then (if σ 42 s = -1 ∨ σ 42 t = -1 then -6 else if σ 43 s ≠ σ 43 t then -8 else if i < 0 ∨ k < 0 ∨ n < 0 ∨ σ 42 s < i + n ∨ σ 42 t < k + n then -7 else 0) else -2
def s_paste (σ : t_S) (s i t k n : Int) : t_S := if ((0 ≤ s ∧ s ≤ 3) ∧ 0 ≤ t ∧ t ≤ 3) ∧ ¬ (σ 42 s = -1 ∨ σ 42 t = -1) ∧ σ 43 s = σ 43 t ∧ ¬ (i < 0 ∨ k < 0 ∨ n < 0 ∨ σ 42 s < i + n ∨ σ 42 t < k + n) then t_it (t_psg t k) n.toNat (t_it (t_psf s i) n.toNat σ) else σ
