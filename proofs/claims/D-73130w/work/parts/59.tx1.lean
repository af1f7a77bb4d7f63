/-! THE COMPONENT: small methods, the JDK's own (printed by tx1.py) -/
set_option maxRecDepth 100000
theorem C_X0_in {h : e_A} {v lo hi : Int} (hv : e_rl v) (hlo : e_rl lo) (hhi : e_rl hi) : e_C mX0_in [e_j v, e_j lo, e_j hi] (h) 0 0 0 (e_ret (e_i (if lo ≤ v ∧ v ≤ hi then 1 else 0)) (h)) := by
  refine e_enter (al0 := [e_j v, .retAddr 0, e_j lo, .retAddr 0, e_j hi, .retAddr 0]) (by decide +kernel) rfl (Nat.le_of_ble_eq_true rfl) ?_
  refine e_lload_n dX0_in_0 rfl ?_
  refine e_lload_n dX0_in_1 rfl ?_
  refine e_lcmp_lt (tgt := 17) dX0_in_2 dX0_in_3 rfl ⟨by omega, by omega⟩ ⟨by omega, by omega⟩ (fun c1 => ?_) (fun c1 => ?_)
  · refine e_iconst dX0_in_17 ?_
    refine e_ireturn dX0_in_18 rfl rfl ?_
    refine e_rv ?_ rfl
    (try split) <;> omega
  · refine e_lload_n dX0_in_6 rfl ?_
    refine e_lload dX0_in_7 rfl ?_
    refine e_lcmp_gt (tgt := 17) dX0_in_9 dX0_in_10 rfl ⟨by omega, by omega⟩ ⟨by omega, by omega⟩ (fun c2 => ?_) (fun c2 => ?_)
    · refine e_iconst dX0_in_17 ?_
      refine e_ireturn dX0_in_18 rfl rfl ?_
      refine e_rv ?_ rfl
      (try split) <;> omega
    · refine e_iconst dX0_in_13 ?_
      refine e_goto (tgt := 18) dX0_in_14 rfl ?_
      refine e_ireturn dX0_in_18 rfl rfl ?_
      refine e_rv ?_ rfl
      (try split) <;> omega
theorem C_X0_isOn {h : e_A} {s k : Int} (hs : e_rg s) (hk : 0 ≤ k ∧ k < 32) : e_C mX0_isOn [e_i s, e_i k] (h) 0 0 0 (e_ret (e_i (if e_bt s k = 1 then 1 else 0)) (h)) := by
  have hb := e_bt01 s k
  refine e_enter (al0 := [e_i s, e_i k]) (by decide +kernel) rfl (Nat.le_of_ble_eq_true rfl) ?_
  refine e_iload_n dX0_isOn_0 rfl ?_
  refine e_iload_n dX0_isOn_1 rfl ?_
  refine e_ishr dX0_isOn_2 (e_shr_law hs hk) ?_
  refine e_iconst dX0_isOn_3 ?_
  refine e_iand dX0_isOn_4 (e_and1_law _) ?_
  refine e_iconst dX0_isOn_5 ?_
  refine e_icmp_ne (tgt := 13) dX0_isOn_6 rfl ⟨by omega, by omega⟩ ⟨by omega, by omega⟩ (fun c1 => ?_) (fun c1 => ?_)
  · refine e_iconst dX0_isOn_13 ?_
    refine e_ireturn dX0_isOn_14 rfl rfl ?_
    refine e_rv ?_ rfl
    unfold e_bt
    first | (rw [if_pos (by assumption)]; done) | (rw [if_neg (by assumption)]; done)
  · refine e_iconst dX0_isOn_9 ?_
    refine e_goto (tgt := 14) dX0_isOn_10 rfl ?_
    refine e_ireturn dX0_isOn_14 rfl rfl ?_
    refine e_rv ?_ rfl
    unfold e_bt
    first | (rw [if_pos (by assumption)]; done) | (rw [if_neg (by assumption)]; done)
theorem C_X0_isSlot {h : e_A} {s : Int} (hs : e_rg s) : e_C mX0_isSlot [e_i s] (h) 0 0 1 (e_ret (e_i (if 0 ≤ s ∧ s ≤ 3 then 1 else 0)) (h)) := by
  refine e_enter (al0 := [e_i s]) (by decide +kernel) rfl (Nat.le_of_ble_eq_true rfl) ?_
  refine e_iload_n dX0_isSlot_0 rfl ?_
  refine e_i2l dX0_isSlot_1 ⟨by omega, by omega⟩ ?_
  refine e_lconst (z := 0) dX0_isSlot_2 rfl ?_
  refine e_ldc2 (z := 3) dX0_isSlot_3 q184 rfl ?_
  refine e_callS3rz dX0_isSlot_6 md_X0_in lk_X0_11 rfl q186 rfl (Nat.le_of_ble_eq_true rfl) (C_X0_in ⟨by omega, by omega⟩ ⟨by omega, by omega⟩ ⟨by omega, by omega⟩) ?_
  refine e_ireturn dX0_isSlot_9 rfl e_nB ?_
  exact ⟨rfl, rfl⟩
theorem C_X0_isLaw {h : e_A} {s : Int} (hs : e_rg s) : e_C mX0_isLaw [e_i s] (h) 0 0 1 (e_ret (e_i (if 0 ≤ s ∧ s ≤ 3 then 1 else 0)) (h)) := by
  refine e_enter (al0 := [e_i s]) (by decide +kernel) rfl (Nat.le_of_ble_eq_true rfl) ?_
  refine e_iload_n dX0_isLaw_0 rfl ?_
  refine e_i2l dX0_isLaw_1 ⟨by omega, by omega⟩ ?_
  refine e_lconst (z := 0) dX0_isLaw_2 rfl ?_
  refine e_ldc2 (z := 3) dX0_isLaw_3 q184 rfl ?_
  refine e_callS3rz dX0_isLaw_6 md_X0_in lk_X0_11 rfl q186 rfl (Nat.le_of_ble_eq_true rfl) (C_X0_in ⟨by omega, by omega⟩ ⟨by omega, by omega⟩ ⟨by omega, by omega⟩) ?_
  refine e_ireturn dX0_isLaw_9 rfl e_nB ?_
  exact ⟨rfl, rfl⟩
theorem C_X0_isSeed {h : e_A} {s : Int} (hs : e_rg s) : e_C mX0_isSeed [e_i s] (h) 0 0 1 (e_ret (e_i (if 0 ≤ s ∧ s ≤ 2000000000 then 1 else 0)) (h)) := by
  refine e_enter (al0 := [e_i s]) (by decide +kernel) rfl (Nat.le_of_ble_eq_true rfl) ?_
  refine e_iload_n dX0_isSeed_0 rfl ?_
  refine e_i2l dX0_isSeed_1 ⟨by omega, by omega⟩ ?_
  refine e_lconst (z := 0) dX0_isSeed_2 rfl ?_
  refine e_ldc2 (z := 2000000000) dX0_isSeed_3 q1638 rfl ?_
  refine e_callS3rz dX0_isSeed_6 md_X0_in lk_X0_11 rfl q186 rfl (Nat.le_of_ble_eq_true rfl) (C_X0_in ⟨by omega, by omega⟩ ⟨by omega, by omega⟩ ⟨by omega, by omega⟩) ?_
  refine e_ireturn dX0_isSeed_9 rfl e_nB ?_
  exact ⟨rfl, rfl⟩
theorem C_X0_isBit {h : e_A} {s : Int} (hs : e_rg s) : e_C mX0_isBit [e_i s] (h) 0 0 1 (e_ret (e_i (if 0 ≤ s ∧ s ≤ 1 then 1 else 0)) (h)) := by
  refine e_enter (al0 := [e_i s]) (by decide +kernel) rfl (Nat.le_of_ble_eq_true rfl) ?_
  refine e_iload_n dX0_isBit_0 rfl ?_
  refine e_i2l dX0_isBit_1 ⟨by omega, by omega⟩ ?_
  refine e_lconst (z := 0) dX0_isBit_2 rfl ?_
  refine e_lconst (z := 1) dX0_isBit_3 rfl ?_
  refine e_callS3rz dX0_isBit_4 md_X0_in lk_X0_11 rfl q186 rfl (Nat.le_of_ble_eq_true rfl) (C_X0_in ⟨by omega, by omega⟩ ⟨by omega, by omega⟩ ⟨by omega, by omega⟩) ?_
  refine e_ireturn dX0_isBit_7 rfl e_nB ?_
  exact ⟨rfl, rfl⟩
theorem e_iushr_law {a k : Int} (ha : 0 ≤ a ∧ a < 2147483648) (hk : 0 ≤ k ∧ k < 32) : ((Int32.ofInt a).toUInt32 >>> ((Int32.ofInt k).toUInt32 &&& Int32.toUInt32 31)).toInt32 = Int32.ofInt (a / 2 ^ k.toNat) := by
  have hs : ∀ n : Nat, n < 32 → (((Int32.ofInt (n : Int)).toUInt32 &&& Int32.toUInt32 31).toNat % 32) = n := by decide +kernel
  have h1 := hs k.toNat (by omega)
  rw [Int.toNat_of_nonneg hk.1] at h1
  apply e_i32_ext
  show ((Int32.ofInt a).toUInt32 >>> ((Int32.ofInt k).toUInt32 &&& Int32.toUInt32 31)).toNat = _
  rw [UInt32.toNat_shiftRight, h1, Nat.shiftRight_eq_div_pow]
  show (Int32.ofInt a).toBitVec.toNat / 2 ^ k.toNat = _
  rw [e_bvN, e_bvN]
  have hp : (0 : Int) < 2 ^ k.toNat := Int.pow_pos (by decide)
  have h2 : 0 ≤ a / 2 ^ k.toNat := Int.ediv_nonneg ha.1 (by omega)
  have h3 : a / 2 ^ k.toNat ≤ a := Int.ediv_le_self _ ha.1
  have e : ((2 : Int) ^ k.toNat) = ((2 ^ k.toNat : Nat) : Int) := by rw [Int.natCast_pow]; rfl
  have h4 : (a % 4294967296).toNat = a.toNat := by omega
  have h5 : (a / 2 ^ k.toNat % 4294967296).toNat = (a / 2 ^ k.toNat).toNat := by omega
  rw [h4, h5]
  have h6 : ((a.toNat / 2 ^ k.toNat : Nat) : Int) = a / 2 ^ k.toNat := by
    rw [Int.natCast_ediv, ← e, Int.toNat_of_nonneg ha.1]
  omega
theorem b_u {x : Nat} (n : Nat) {k : Int} (hx : x < 2 ^ 64) (hk : 0 ≤ k ∧ k < 64) (e : k.toNat = n) : ((Int64.ofInt (x : Int)).toUInt64 >>> ((Int32.ofInt k).toInt64.toUInt64 &&& Int64.toUInt64 63)).toInt64 = Int64.ofInt ((x / 2 ^ n : Nat) : Int) := by
  have e2 : ((2 ^ 64 : Nat) : Int) = 2 ^ 64 := by simp
  rw [e_lushr_law ⟨Int.natCast_nonneg _, by omega⟩ hk, e, Int.natCast_ediv, Int.natCast_pow]
  rfl
theorem b_ui {x : Nat} (n : Nat) {k : Int} (hx : x < 2 ^ 31) (hk : 0 ≤ k ∧ k < 32) (e : k.toNat = n) : ((Int32.ofInt (x : Int)).toUInt32 >>> ((Int32.ofInt k).toUInt32 &&& Int32.toUInt32 31)).toInt32 = Int32.ofInt ((x / 2 ^ n : Nat) : Int) := by
  rw [e_iushr_law ⟨Int.natCast_nonneg _, by omega⟩ hk, e, Int.natCast_ediv, Int.natCast_pow]
  rfl
theorem b_s1_le (n x : Nat) : (x / 2 &&& b_m 85 n) ≤ x := Nat.le_trans Nat.and_le_left (Nat.div_le_self x 2)
theorem C_J17_bitCount {h : e_A} {a : Int} (ha : 0 ≤ a ∧ a < 2 ^ 64) : e_C mJ17_bitCount [e_j a] (h) 0 0 0 (e_ret (e_i (e_bsum a 64)) (h)) := by
  refine e_enter (al0 := [e_j a, .retAddr 0]) (by decide +kernel) rfl (Nat.le_of_ble_eq_true rfl) ?_
  obtain ⟨x, rfl⟩ : ∃ x : Nat, a = (x : Int) := ⟨a.toNat, (Int.toNat_of_nonneg ha.1).symm⟩
  have hx : x < 18446744073709551616 := by omega
  rw [b_bsum ha.1 64, Int.toNat_natCast]
  obtain ⟨i4, i5, i6, e4, e5, e6, ec, l4, l5, l6, l3⟩ := b_64 x
  have m5 : b_m 85 8 = 6148914691236517205 := by decide
  have m3 : b_m 51 8 = 3689348814741910323 := by decide
  have mf : b_m 15 8 = 1085102592571150095 := by decide
  have z1 : (x / 2 &&& 6148914691236517205) ≤ x := Nat.le_trans Nat.and_le_left (Nat.div_le_self x 2)
  have d1 : b_s1 8 x = x - (x / 2 &&& 6148914691236517205) := by unfold b_s1; rw [m5]
  have y1 : b_s1 8 x < 2 ^ 64 := by omega
  obtain ⟨i1, h1⟩ : ∃ i1, b_s1 8 x = i1 := ⟨_, rfl⟩
  rw [h1] at e4 l3 d1 y1
  have d2 : b_s2 8 i1 = (i1 &&& 3689348814741910323) + (i1 / 4 &&& 3689348814741910323) := by unfold b_s2; rw [m3]
  have y2 : b_s2 8 i1 < 2 ^ 63 := by
    have q1 : i1 &&& 3689348814741910323 ≤ 3689348814741910323 := Nat.and_le_right
    have q2 : i1 / 4 &&& 3689348814741910323 ≤ 3689348814741910323 := Nat.and_le_right
    omega
  obtain ⟨i2, h2⟩ : ∃ i2, b_s2 8 i1 = i2 := ⟨_, rfl⟩
  rw [h2] at e4 l3 d2 y2
  have d3 : b_s3 8 i2 = (i2 + i2 / 16) &&& 1085102592571150095 := by unfold b_s3; rw [mf]
  obtain ⟨i3, h3⟩ : ∃ i3, b_s3 8 i2 = i3 := ⟨_, rfl⟩
  rw [h3] at e4 l3 d3
  refine e_lload_n dJ17_bitCount_0 rfl ?_
  refine e_lload_n dJ17_bitCount_1 rfl ?_
  refine e_iconst dJ17_bitCount_2 ?_
  refine e_lushr dJ17_bitCount_3 (b_u 1 hx ⟨by decide, by decide⟩ rfl) ?_
  refine e_ldc2 (z := 6148914691236517205) dJ17_bitCount_4 q1256 rfl ?_
  refine e_land dJ17_bitCount_7 (e_land_nat (x / 2 ^ 1) 6148914691236517205) ?_
  refine e_lsub dJ17_bitCount_8 ?_
  refine e_top (e_j (i1 : Int)) (by rw [d1, Int.natCast_sub z1]) ?_
  refine e_lstore_n0 dJ17_bitCount_9 ?_
  refine e_lload_n dJ17_bitCount_10 rfl ?_
  refine e_ldc2 (z := 3689348814741910323) dJ17_bitCount_11 q1257 rfl ?_
  refine e_land dJ17_bitCount_14 (e_land_nat i1 3689348814741910323) ?_
  refine e_lload_n dJ17_bitCount_15 rfl ?_
  refine e_iconst dJ17_bitCount_16 ?_
  refine e_lushr dJ17_bitCount_17 (b_u 2 y1 ⟨by decide, by decide⟩ rfl) ?_
  refine e_ldc2 (z := 3689348814741910323) dJ17_bitCount_18 q1257 rfl ?_
  refine e_land dJ17_bitCount_21 (e_land_nat (i1 / 2 ^ 2) 3689348814741910323) ?_
  refine e_ladd dJ17_bitCount_22 ?_
  refine e_top (e_j (i2 : Int)) (by rw [d2, Int.natCast_add]) ?_
  refine e_lstore_n0 dJ17_bitCount_23 ?_
  refine e_lload_n dJ17_bitCount_24 rfl ?_
  refine e_lload_n dJ17_bitCount_25 rfl ?_
  refine e_iconst dJ17_bitCount_26 ?_
  refine e_lushr dJ17_bitCount_27 (b_u 4 (by omega) ⟨by decide, by decide⟩ rfl) ?_
  refine e_ladd dJ17_bitCount_28 ?_
  refine e_top (e_j ((i2 + i2 / 2 ^ 4 : Nat) : Int)) (by rw [Int.natCast_add]) ?_
  refine e_ldc2 (z := 1085102592571150095) dJ17_bitCount_29 q1258 rfl ?_
  refine e_land dJ17_bitCount_32 (e_land_nat (i2 + i2 / 2 ^ 4) 1085102592571150095) ?_
  refine e_top (e_j (i3 : Int)) (by rw [d3]) ?_
  refine e_lstore_n0 dJ17_bitCount_33 ?_
  refine e_lload_n dJ17_bitCount_34 rfl ?_
  refine e_lload_n dJ17_bitCount_35 rfl ?_
  refine e_bipush dJ17_bitCount_36 rfl ?_
  refine e_lushr dJ17_bitCount_38 (b_u 8 (by omega) ⟨by decide, by decide⟩ rfl) ?_
  refine e_ladd dJ17_bitCount_39 ?_
  refine e_top (e_j (i4 : Int)) (by rw [e4, Int.natCast_add]) ?_
  refine e_lstore_n0 dJ17_bitCount_40 ?_
  refine e_lload_n dJ17_bitCount_41 rfl ?_
  refine e_lload_n dJ17_bitCount_42 rfl ?_
  refine e_bipush dJ17_bitCount_43 rfl ?_
  refine e_lushr dJ17_bitCount_45 (b_u 16 (by omega) ⟨by decide, by decide⟩ rfl) ?_
  refine e_ladd dJ17_bitCount_46 ?_
  refine e_top (e_j (i5 : Int)) (by rw [e5, Int.natCast_add]) ?_
  refine e_lstore_n0 dJ17_bitCount_47 ?_
  refine e_lload_n dJ17_bitCount_48 rfl ?_
  refine e_lload_n dJ17_bitCount_49 rfl ?_
  refine e_bipush dJ17_bitCount_50 rfl ?_
  refine e_lushr dJ17_bitCount_52 (b_u 32 (by omega) ⟨by decide, by decide⟩ rfl) ?_
  refine e_ladd dJ17_bitCount_53 ?_
  refine e_top (e_j (i6 : Int)) (by rw [e6, Int.natCast_add]) ?_
  refine e_lstore_n0 dJ17_bitCount_54 ?_
  refine e_lload_n dJ17_bitCount_55 rfl ?_
  refine e_l2i dJ17_bitCount_56 ?_
  refine e_bipush dJ17_bitCount_57 rfl ?_
  refine e_iand dJ17_bitCount_59 (show Int32.ofInt (i6 : Int) &&& Int32.ofInt 127 = Int32.ofInt ((b_c x 64 : Nat) : Int) from by rw [← ec, show (127 : Int) = ((127 : Nat) : Int) from rfl, e_and_nat, show i6 &&& 127 = i6 % 2 ^ 7 from Nat.and_two_pow_sub_one_eq_mod i6 7]) ?_
  refine e_ireturn dJ17_bitCount_60 rfl rfl ?_
  exact ⟨rfl, rfl⟩
theorem C_J12_bitCount {h : e_A} {a : Int} (ha : 0 ≤ a ∧ a < 2 ^ 16) : e_C mJ12_bitCount [e_i a] (h) 0 0 0 (e_ret (e_i (e_bsum a 16)) (h)) := by
  refine e_enterF (al0 := [e_i a]) (by decide +kernel) rfl rfl (Nat.le_of_ble_eq_true rfl) ?_
  obtain ⟨x, rfl⟩ : ∃ x : Nat, a = (x : Int) := ⟨a.toNat, (Int.toNat_of_nonneg ha.1).symm⟩
  have hx : x < 65536 := by omega
  have e16 := e_bsum_hi (s := (x : Int)) (n := 16) ha.1 ha.2 16
  rw [← e16, b_bsum ha.1 (16 + 16), Int.toNat_natCast]
  obtain ⟨i4, i5, e4, e5, ec, l4, l5, l3⟩ := b_32 x
  have hc16 : b_c x (16 + 16) = b_c x 32 := rfl
  have hc17 : b_c x 32 ≤ 16 := by
    have h1 := b_bsum (a := (x : Int)) ha.1 32
    have h2 := b_bsum (a := (x : Int)) ha.1 16
    rw [Int.toNat_natCast] at h1 h2
    have h3 := b_c_le 16 x
    have h4 : e_bsum (x : Int) 32 = e_bsum (x : Int) 16 := e16
    omega
  rw [hc16]
  have m5 : b_m 85 4 = 1431655765 := by decide
  have m3 : b_m 51 4 = 858993459 := by decide
  have mf : b_m 15 4 = 252645135 := by decide
  have z1 : (x / 2 &&& 1431655765) ≤ x := Nat.le_trans Nat.and_le_left (Nat.div_le_self x 2)
  have d1 : b_s1 4 x = x - (x / 2 &&& 1431655765) := by unfold b_s1; rw [m5]
  have y1 : b_s1 4 x < 65536 := by omega
  obtain ⟨i1, h1⟩ : ∃ i1, b_s1 4 x = i1 := ⟨_, rfl⟩
  rw [h1] at e4 l3 d1 y1
  have d2 : b_s2 4 i1 = (i1 &&& 858993459) + (i1 / 4 &&& 858993459) := by unfold b_s2; rw [m3]
  have y2 : b_s2 4 i1 < 131072 := by
    have q1 : i1 &&& 858993459 ≤ i1 := Nat.and_le_left
    have q2 : i1 / 4 &&& 858993459 ≤ i1 / 4 := Nat.and_le_left
    omega
  obtain ⟨i2, h2⟩ : ∃ i2, b_s2 4 i1 = i2 := ⟨_, rfl⟩
  rw [h2] at e4 l3 d2 y2
  have d3 : b_s3 4 i2 = (i2 + i2 / 16) &&& 252645135 := by unfold b_s3; rw [mf]
  obtain ⟨i3, h3⟩ : ∃ i3, b_s3 4 i2 = i3 := ⟨_, rfl⟩
  rw [h3] at e4 l3 d3
  refine e_iload_n dJ12_bitCount_0 rfl ?_
  refine e_iload_n dJ12_bitCount_1 rfl ?_
  refine e_iconst dJ12_bitCount_2 ?_
  refine e_iushr dJ12_bitCount_3 (b_ui 1 (by omega) ⟨by decide, by decide⟩ rfl) ?_
  refine e_ldcw (z := 1431655765) dJ12_bitCount_4 q1349 rfl ?_
  refine e_iand dJ12_bitCount_7 (e_and_nat (x / 2 ^ 1) 1431655765) ?_
  refine e_isub dJ12_bitCount_8 ?_
  refine e_top (e_i (i1 : Int)) (by rw [d1, Int.natCast_sub z1]) ?_
  refine e_istore_n0 dJ12_bitCount_9 ?_
  refine e_iload_n dJ12_bitCount_10 rfl ?_
  refine e_ldcw (z := 858993459) dJ12_bitCount_11 q1350 rfl ?_
  refine e_iand dJ12_bitCount_14 (e_and_nat i1 858993459) ?_
  refine e_iload_n dJ12_bitCount_15 rfl ?_
  refine e_iconst dJ12_bitCount_16 ?_
  refine e_iushr dJ12_bitCount_17 (b_ui 2 (by omega) ⟨by decide, by decide⟩ rfl) ?_
  refine e_ldcw (z := 858993459) dJ12_bitCount_18 q1350 rfl ?_
  refine e_iand dJ12_bitCount_21 (e_and_nat (i1 / 2 ^ 2) 858993459) ?_
  refine e_iadd dJ12_bitCount_22 ?_
  refine e_top (e_i (i2 : Int)) (by rw [d2, Int.natCast_add]) ?_
  refine e_istore_n0 dJ12_bitCount_23 ?_
  refine e_iload_n dJ12_bitCount_24 rfl ?_
  refine e_iload_n dJ12_bitCount_25 rfl ?_
  refine e_iconst dJ12_bitCount_26 ?_
  refine e_iushr dJ12_bitCount_27 (b_ui 4 (by omega) ⟨by decide, by decide⟩ rfl) ?_
  refine e_iadd dJ12_bitCount_28 ?_
  refine e_top (e_i ((i2 + i2 / 2 ^ 4 : Nat) : Int)) (by rw [Int.natCast_add]) ?_
  refine e_ldcw (z := 252645135) dJ12_bitCount_29 q1351 rfl ?_
  refine e_iand dJ12_bitCount_32 (e_and_nat (i2 + i2 / 2 ^ 4) 252645135) ?_
  refine e_top (e_i (i3 : Int)) (by rw [d3]) ?_
  refine e_istore_n0 dJ12_bitCount_33 ?_
  refine e_iload_n dJ12_bitCount_34 rfl ?_
  refine e_iload_n dJ12_bitCount_35 rfl ?_
  refine e_bipush dJ12_bitCount_36 rfl ?_
  refine e_iushr dJ12_bitCount_38 (b_ui 8 (by omega) ⟨by decide, by decide⟩ rfl) ?_
  refine e_iadd dJ12_bitCount_39 ?_
  refine e_top (e_i (i4 : Int)) (by rw [e4, Int.natCast_add]) ?_
  refine e_istore_n0 dJ12_bitCount_40 ?_
  refine e_iload_n dJ12_bitCount_41 rfl ?_
  refine e_iload_n dJ12_bitCount_42 rfl ?_
  refine e_bipush dJ12_bitCount_43 rfl ?_
  refine e_iushr dJ12_bitCount_45 (b_ui 16 (by omega) ⟨by decide, by decide⟩ rfl) ?_
  refine e_iadd dJ12_bitCount_46 ?_
  refine e_top (e_i (i5 : Int)) (by rw [e5, Int.natCast_add]) ?_
  refine e_istore_n0 dJ12_bitCount_47 ?_
  refine e_iload_n dJ12_bitCount_48 rfl ?_
  refine e_bipush dJ12_bitCount_49 rfl ?_
  refine e_iand dJ12_bitCount_51 (show Int32.ofInt (i5 : Int) &&& Int32.ofInt 63 = Int32.ofInt ((b_c x 32 : Nat) : Int) from by rw [show (63 : Int) = ((63 : Nat) : Int) from rfl, e_and_nat, show i5 &&& 63 = i5 % 2 ^ 6 from Nat.and_two_pow_sub_one_eq_mod i5 6, show i5 % 2 ^ 6 = b_c x 32 from by omega]) ?_
  refine e_ireturn dJ12_bitCount_52 rfl rfl ?_
  exact ⟨rfl, rfl⟩
theorem C_X0_size {h : e_A} {a : Int} (ha : 0 ≤ a ∧ a < 2 ^ 16) : e_C mX0_size [e_i a] (h) 0 0 1 (e_ret (e_i (e_bsum a 16)) (h)) := by
  refine e_enter (al0 := [e_i a]) (by decide +kernel) rfl (Nat.le_of_ble_eq_true rfl) ?_
  refine e_iload_n dX0_size_0 rfl ?_
  refine e_callS1rz dX0_size_1 md_J12_bitCount lk_X0_1 rfl q1347 rfl (Nat.le_of_ble_eq_true rfl) (C_J12_bitCount ⟨by omega, by omega⟩) ?_
  refine e_ireturn dX0_size_4 rfl rfl ?_
  exact ⟨rfl, rfl⟩
theorem C_X0_isIn {h : e_A} {z s : Int} (hz : 0 ≤ z ∧ z < 2 ^ 64) (hs : 0 ≤ s ∧ s < 64) : e_C mX0_isIn [e_j z, e_i s] (h) 0 0 0 (e_ret (e_i (if e_bt z s = 1 then 1 else 0)) (h)) := by
  have hb := e_bt01 z s
  refine e_enter (al0 := [e_j z, .retAddr 0, e_i s]) (by decide +kernel) rfl (Nat.le_of_ble_eq_true rfl) ?_
  refine e_lload_n dX0_isIn_0 rfl ?_
  refine e_iload_n dX0_isIn_1 rfl ?_
  refine e_lshr dX0_isIn_2 (e_lshr_law z hs) ?_
  refine e_lconst (z := 1) dX0_isIn_3 rfl ?_
  refine e_land dX0_isIn_4 (e_lbit_law hz hs) ?_
  refine e_lconst (z := 1) dX0_isIn_5 rfl ?_
  refine e_lcmp_ne (tgt := 14) dX0_isIn_6 dX0_isIn_7 rfl ⟨by omega, by omega⟩ ⟨by omega, by omega⟩ (fun c1 => ?_) (fun c1 => ?_)
  · refine e_iconst dX0_isIn_14 ?_
    refine e_ireturn dX0_isIn_15 rfl rfl ?_
    refine e_rv ?_ rfl
    first | (rw [if_pos (by assumption)]; done) | (rw [if_neg (by assumption)]; done)
  · refine e_iconst dX0_isIn_10 ?_
    refine e_goto (tgt := 15) dX0_isIn_11 rfl ?_
    refine e_ireturn dX0_isIn_15 rfl rfl ?_
    refine e_rv ?_ rfl
    first | (rw [if_pos (by assumption)]; done) | (rw [if_neg (by assumption)]; done)
theorem C_X0_spotOf {h : e_A} {c : Int} (hc : 0 ≤ c ∧ c < 1000) : e_C mX0_spotOf [e_j c] (h) 0 0 0 (e_ret (e_i (8 * (c / 10) + c % 10)) (h)) := by
  refine e_enter (al0 := [e_j c, .retAddr 0]) (by decide +kernel) rfl (Nat.le_of_ble_eq_true rfl) ?_
  refine e_lload_n dX0_spotOf_0 rfl ?_
  refine e_ldc2 (z := 10) dX0_spotOf_1 q1209 rfl ?_
  refine e_ldiv dX0_spotOf_4 ⟨by omega, by omega⟩ ⟨by omega, by omega⟩ ?_
  refine e_ldc2 (z := 8) dX0_spotOf_5 q1214 rfl ?_
  refine e_lmul dX0_spotOf_8 ?_
  refine e_lload_n dX0_spotOf_9 rfl ?_
  refine e_ldc2 (z := 10) dX0_spotOf_10 q1209 rfl ?_
  refine e_lrem dX0_spotOf_13 ⟨by omega, by omega⟩ ⟨by omega, by omega⟩ ?_
  refine e_ladd dX0_spotOf_14 ?_
  refine e_top (e_j (8 * (c / 10) + c % 10)) (by rw [Int.mul_comm]) ?_
  refine e_l2i dX0_spotOf_15 ?_
  refine e_ireturn dX0_spotOf_16 rfl rfl ?_
  exact ⟨rfl, rfl⟩
theorem C_X0_cellOf {h : e_A} {s : Int} (hs : -1 ≤ s ∧ s < 64) : e_C mX0_cellOf [e_i s] (h) 0 0 0 (e_ret (e_i (x_ce s)) (h)) := by
  refine e_enter (al0 := [e_i s]) (by decide +kernel) rfl (Nat.le_of_ble_eq_true rfl) ?_
  refine e_iload_n dX0_cellOf_0 rfl ?_
  refine e_iconst dX0_cellOf_1 ?_
  refine e_icmp_ne (tgt := 9) dX0_cellOf_2 rfl ⟨by omega, by omega⟩ ⟨by omega, by omega⟩ (fun c1 => ?_) (fun c1 => ?_)
  · refine e_iload_n dX0_cellOf_9 rfl ?_
    refine e_bipush dX0_cellOf_10 rfl ?_
    refine e_idiv dX0_cellOf_12 ⟨by omega, by omega⟩ ⟨by omega, by omega⟩ ?_
    refine e_bipush dX0_cellOf_13 rfl ?_
    refine e_imul dX0_cellOf_15 ?_
    refine e_iload_n dX0_cellOf_16 rfl ?_
    refine e_bipush dX0_cellOf_17 rfl ?_
    refine e_irem dX0_cellOf_19 ⟨by omega, by omega⟩ ⟨by omega, by omega⟩ ?_
    refine e_iadd dX0_cellOf_20 ?_
    refine e_ireturn dX0_cellOf_21 rfl rfl ?_
    refine e_rv ?_ rfl
    unfold x_ce
    first | (rw [if_pos (by omega)]; done) | (rw [if_neg (by omega), Int.mul_comm]; done)
  · refine e_iconst dX0_cellOf_5 ?_
    refine e_goto (tgt := 21) dX0_cellOf_6 rfl ?_
    refine e_ireturn dX0_cellOf_21 rfl rfl ?_
    refine e_rv ?_ rfl
    unfold x_ce
    first | (rw [if_pos (by omega)]; done) | (rw [if_neg (by omega), Int.mul_comm]; done)
theorem C_J14_fill {χ : t_S} {h0 : e_A} {k : Nat} {z : Int} (L : Int) (hL : (x_ln k : Int) = L) (hk : x_ai k ≠ 0) (hkd : x_kd k = 50) (hv : ∀ z, x_v k z = e_i z) : e_C mJ14_fill [.ref (x_ai k), e_i z] (x_H χ h0) 0 0 0 (e_rev (x_H (s_fl χ k L (fun _ => z)) h0)) := by
  have hl9 := x_ln_le k
  refine e_enter (al0 := [.ref (x_ai k), e_i z, .retAddr 0, .retAddr 0]) (by decide +kernel) rfl (Nat.le_of_ble_eq_true rfl) ?_
  refine e_iconst dJ14_fill_0 ?_
  refine e_istore_n2 dJ14_fill_1 rfl ?_
  refine e_aload_n dJ14_fill_2 rfl ?_
  refine x_alen L dJ14_fill_3 hk ⟨by rw [hkd]; decide, by rw [hkd]; decide⟩ hL ?_
  refine e_istore_n3 dJ14_fill_4 rfl ?_
  rw [show x_H χ h0 = x_H (s_fl χ k 0 (fun _ => z)) h0 from by rw [s_fl_0]]
  refine e_for (n := L) (fun i => e_E mJ14_fill 5 [.ref (x_ai k), e_i z, e_i i, e_i L] [] (x_H (s_fl χ k i (fun _ => z)) h0) _ _ _ _) (by omega) ?_ (fun i hi0 hi1 hF => ?_)
  · refine e_iload_n dJ14_fill_5 rfl ?_
    refine e_iload_n dJ14_fill_6 rfl ?_
    refine e_icmp_ge (tgt := 20) dJ14_fill_7 rfl ⟨by omega, by omega⟩ ⟨by omega, by omega⟩ (fun c1 => ?_) (fun q => by exfalso; omega)
    refine e_return dJ14_fill_20 rfl ?_
    exact ⟨rfl, rfl⟩
  · refine e_iload_n dJ14_fill_5 rfl ?_
    refine e_iload_n dJ14_fill_6 rfl ?_
    refine e_icmp_ge (tgt := 20) dJ14_fill_7 rfl ⟨by omega, by omega⟩ ⟨by omega, by omega⟩ (fun q => by exfalso; omega) (fun c2 => ?_)
    refine e_aload_n dJ14_fill_10 rfl ?_
    refine e_iload_n dJ14_fill_11 rfl ?_
    refine e_iload_n dJ14_fill_12 rfl ?_
    refine x_ist L dJ14_fill_13 hkd hk (hv z) hL ⟨by omega, by omega⟩ ?_
    refine e_iinc2 dJ14_fill_14 rfl ?_
    refine e_goto (tgt := 5) dJ14_fill_17 rfl ?_
    rw [s_fl_1 χ k (fun _ => z) hi0]
    exact hF
theorem C_J14_fill_2 {χ : t_S} {h0 : e_A} {k : Nat} {z : Int} (L : Int) (hL : (x_ln k : Int) = L) (hk : x_ai k ≠ 0) (hkd : x_kd k = 54) (hv : ∀ z, x_v k z = e_j z) : e_C mJ14_fill_2 [.ref (x_ai k), e_j z] (x_H χ h0) 0 0 0 (e_rev (x_H (s_fl χ k L (fun _ => z)) h0)) := by
  have hl9 := x_ln_le k
  refine e_enter (al0 := [.ref (x_ai k), e_j z, .retAddr 0, .retAddr 0, .retAddr 0]) (by decide +kernel) rfl (Nat.le_of_ble_eq_true rfl) ?_
  refine e_iconst dJ14_fill_2_0 ?_
  refine e_istore_n3 dJ14_fill_2_1 rfl ?_
  refine e_aload_n dJ14_fill_2_2 rfl ?_
  refine x_alen L dJ14_fill_2_3 hk ⟨by rw [hkd]; decide, by rw [hkd]; decide⟩ hL ?_
  refine e_istore4 dJ14_fill_2_4 rfl ?_
  rw [show x_H χ h0 = x_H (s_fl χ k 0 (fun _ => z)) h0 from by rw [s_fl_0]]
  refine e_for (n := L) (fun i => e_E mJ14_fill_2 6 [.ref (x_ai k), e_j z, .retAddr 0, e_i i, e_i L] [] (x_H (s_fl χ k i (fun _ => z)) h0) _ _ _ _) (by omega) ?_ (fun i hi0 hi1 hF => ?_)
  · refine e_iload_n dJ14_fill_2_6 rfl ?_
    refine e_iload dJ14_fill_2_7 rfl ?_
    refine e_icmp_ge (tgt := 22) dJ14_fill_2_9 rfl ⟨by omega, by omega⟩ ⟨by omega, by omega⟩ (fun c1 => ?_) (fun q => by exfalso; omega)
    refine e_return dJ14_fill_2_22 rfl ?_
    exact ⟨rfl, rfl⟩
  · refine e_iload_n dJ14_fill_2_6 rfl ?_
    refine e_iload dJ14_fill_2_7 rfl ?_
    refine e_icmp_ge (tgt := 22) dJ14_fill_2_9 rfl ⟨by omega, by omega⟩ ⟨by omega, by omega⟩ (fun q => by exfalso; omega) (fun c2 => ?_)
    refine e_aload_n dJ14_fill_2_12 rfl ?_
    refine e_iload_n dJ14_fill_2_13 rfl ?_
    refine e_lload_n dJ14_fill_2_14 rfl ?_
    refine x_lst L dJ14_fill_2_15 hkd hk (hv z) hL ⟨by omega, by omega⟩ ?_
    refine e_iinc3 dJ14_fill_2_16 rfl ?_
    refine e_goto (tgt := 6) dJ14_fill_2_19 rfl ?_
    rw [s_fl_1 χ k (fun _ => z) hi0]
    exact hF
theorem C_J2_size {h : e_A} {a b : Nat} {mc n : Int} {it : Int → Nat} (hl : x_li h a b mc n it) : e_C mJ2_size [.ref a] (h) 0 0 0 (e_ret (e_i n) (h)) := by
  refine e_enter (al0 := [.ref a]) (by decide +kernel) rfl (Nat.le_of_ble_eq_true rfl) ?_
  refine e_aload_n dJ2_size_0 rfl ?_
  refine e_getV (e_i n) dJ2_size_1 fl_J2_48 (hl.1) rfl ?_
  refine e_ireturn dJ2_size_4 rfl rfl ?_
  exact ⟨rfl, rfl⟩
theorem C_J2_isEmpty {h : e_A} {a b : Nat} {mc n : Int} {it : Int → Nat} (hl : x_li h a b mc n it) (hr : e_rg n) : e_C mJ2_isEmpty [.ref a] (h) 0 0 0 (e_ret (e_i (if n = 0 then 1 else 0)) (h)) := by
  refine e_enter (al0 := [.ref a]) (by decide +kernel) rfl (Nat.le_of_ble_eq_true rfl) ?_
  refine e_aload_n dJ2_isEmpty_0 rfl ?_
  refine e_getV (e_i n) dJ2_isEmpty_1 fl_J2_48 (hl.1) rfl ?_
  refine e_if_ne (tgt := 11) dJ2_isEmpty_4 rfl ⟨by omega, by omega⟩ (fun c1 => ?_) (fun c1 => ?_)
  · refine e_iconst dJ2_isEmpty_11 ?_
    refine e_ireturn dJ2_isEmpty_12 rfl rfl ?_
    refine e_rv ?_ rfl
    (try split) <;> omega
  · refine e_iconst dJ2_isEmpty_7 ?_
    refine e_goto (tgt := 12) dJ2_isEmpty_8 rfl ?_
    refine e_ireturn dJ2_isEmpty_12 rfl rfl ?_
    refine e_rv ?_ rfl
    (try split) <;> omega
theorem C_J2_elementData {h : e_A} {a b : Nat} {mc n : Int} {it : Int → Nat} (hl : x_li h a b mc n it) {k : Int} (hk : 0 ≤ k ∧ k < n) : e_C mJ2_elementData [.ref a, e_i k] (h) 0 0 0 (e_ret (.ref (it k)) (h)) := by
  obtain ⟨kd, cap, g, hb, hkd, hn, hcap, hit⟩ := hl.2
  refine e_enter (al0 := [.ref a, e_i k]) (by decide +kernel) rfl (Nat.le_of_ble_eq_true rfl) ?_
  refine e_aload_n dJ2_elementData_0 rfl ?_
  refine e_getV (.ref b) dJ2_elementData_1 fl_J2_9 (hl.1) rfl ?_
  refine e_iload_n dJ2_elementData_4 rfl ?_
  refine e_aald k.toNat dJ2_elementData_5 hb (by rcases hkd with q | q <;> omega) (Int.toNat_of_nonneg hk.1).symm (by omega) (by omega) ?_
  rw [hit k hk.1 hk.2]
  refine e_areturn dJ2_elementData_6 rfl (Or.inl ⟨_, rfl⟩) ?_
  exact ⟨rfl, rfl⟩
theorem C_J2_get {h : e_A} {a b : Nat} {mc n : Int} {it : Int → Nat} (hl : x_li h a b mc n it) {k : Int} (hk : 0 ≤ k ∧ k < n) : e_C mJ2_get [.ref a, e_i k] (h) 0 0 2 (e_ret (.ref (it k)) (h)) := by
  obtain ⟨kd, cap, g, hb, hkd, hn, hcap, hit⟩ := hl.2
  refine e_enter (al0 := [.ref a, e_i k]) (by decide +kernel) rfl (Nat.le_of_ble_eq_true rfl) ?_
  refine e_iload_n dJ2_get_0 rfl ?_
  refine e_aload_n dJ2_get_1 rfl ?_
  refine e_getV (e_i n) dJ2_get_2 fl_J2_48 (hl.1) rfl ?_
  refine e_callS2rz dJ2_get_5 md_J16_checkIndex lk_J2_118 rfl q1139 rfl (Nat.le_of_ble_eq_true rfl) (C_J16_checkIndex hk (by omega)) ?_
  refine e_pop dJ2_get_8 rfl ?_
  refine e_aload_n dJ2_get_9 rfl ?_
  refine e_iload_n dJ2_get_10 rfl ?_
  refine e_callV1rz (ci := 11) dJ2_get_11 md_J2_elementData lk_J2_123 rfl q1143 q1144 hl.1 (by decide) rfl (Nat.le_of_ble_eq_true rfl) (C_J2_elementData hl hk) ?_
  refine e_areturn dJ2_get_14 rfl (Or.inl ⟨_, rfl⟩) ?_
  exact ⟨rfl, rfl⟩
theorem C_J12_intValue {h : e_A} {i : Nat} {z : Int} (hi : h.1 i = (13, 1, fun _ => e_i z)) : e_C mJ12_intValue [.ref i] (h) 0 0 0 (e_ret (e_i z) (h)) := by
  refine e_enterF (al0 := [.ref i]) (by decide +kernel) rfl rfl (Nat.le_of_ble_eq_true rfl) ?_
  refine e_aload_n dJ12_intValue_0 rfl ?_
  refine e_getV (e_i z) dJ12_intValue_1 fl_J12_205 hi rfl ?_
  refine e_ireturn dJ12_intValue_4 rfl rfl ?_
  exact ⟨rfl, rfl⟩
theorem C_J15_hasNext {h : e_A} {i a b : Nat} {cur last mc n : Int} {it : Int → Nat} (hi : h.1 i = (12, 4, x_iF cur last mc a)) (hl : x_li h a b mc n it) (hc : e_rg cur) (hn9 : e_rg n) : e_C mJ15_hasNext [.ref i] (h) 0 0 0 (e_ret (e_i (if cur ≠ n then 1 else 0)) (h)) := by
  refine e_enter (al0 := [.ref i]) (by decide +kernel) rfl (Nat.le_of_ble_eq_true rfl) ?_
  refine e_aload_n dJ15_hasNext_0 rfl ?_
  refine e_getV (e_i cur) dJ15_hasNext_1 fl_J15_25 hi rfl ?_
  refine e_aload_n dJ15_hasNext_4 rfl ?_
  refine e_getV (.ref a) dJ15_hasNext_5 fl_J15_1 hi rfl ?_
  refine e_getV (e_i n) dJ15_hasNext_8 fl_J15_28 (hl.1) rfl ?_
  refine e_icmp_eq (tgt := 18) dJ15_hasNext_11 rfl ⟨by omega, by omega⟩ ⟨by omega, by omega⟩ (fun c1 => ?_) (fun c1 => ?_)
  · refine e_iconst dJ15_hasNext_18 ?_
    refine e_ireturn dJ15_hasNext_19 rfl rfl ?_
    refine e_rv ?_ rfl
    (try split) <;> omega
  · refine e_iconst dJ15_hasNext_14 ?_
    refine e_goto (tgt := 19) dJ15_hasNext_15 rfl ?_
    refine e_ireturn dJ15_hasNext_19 rfl rfl ?_
    refine e_rv ?_ rfl
    (try split) <;> omega
theorem C_J15_checkForComodification {h : e_A} {i a b : Nat} {cur last mc n : Int} {it : Int → Nat} (hi : h.1 i = (12, 4, x_iF cur last mc a)) (hl : x_li h a b mc n it) : e_C mJ15_checkForComodification [.ref i] (h) 0 0 0 (e_rev (h)) := by
  refine e_enter (al0 := [.ref i]) (by decide +kernel) rfl (Nat.le_of_ble_eq_true rfl) ?_
  refine e_aload_n dJ15_checkForComodification_0 rfl ?_
  refine e_getV (.ref a) dJ15_checkForComodification_1 fl_J15_1 hi rfl ?_
  refine e_getV (e_i mc) dJ15_checkForComodification_4 fl_J15_17 hl.1 rfl ?_
  refine e_aload_n dJ15_checkForComodification_7 rfl ?_
  refine e_getV (e_i mc) dJ15_checkForComodification_8 fl_J15_22 hi rfl ?_
  refine e_icmp_eq_rf (tgt := 22) dJ15_checkForComodification_11 rfl ?_
  refine e_return dJ15_checkForComodification_22 rfl ?_
  exact ⟨rfl, rfl⟩
theorem C_J15_next {h : e_A} {i a b : Nat} {cur last mc n : Int} {it : Int → Nat} (hi : h.1 i = (12, 4, x_iF cur last mc a)) (hl : x_li h a b mc n it) (hc : 0 ≤ cur ∧ cur < n) (hia : i ≠ a ∧ i ≠ b ∧ 350 ≤ i) : e_C mJ15_next [.ref i] (h) 0 0 1 (e_ret (.ref (it cur)) (e_set h i (12, 4, x_iF (cur + 1) cur mc a))) := by
  obtain ⟨kd, cap, g, hb, hkd, hn, hcap, hit⟩ := hl.2
  refine e_enter (al0 := [.ref i, .retAddr 0, .retAddr 0]) (by decide +kernel) rfl (Nat.le_of_ble_eq_true rfl) ?_
  refine e_aload_n dJ15_next_0 rfl ?_
  refine e_callV0vz (ci := 12) dJ15_next_1 md_J15_checkForComodification lk_J15_31 rfl q1105 q1106 hi (by decide) rfl (Nat.le_of_ble_eq_true rfl) (C_J15_checkForComodification hi hl) ?_
  refine e_aload_n dJ15_next_4 rfl ?_
  refine e_getV (e_i cur) dJ15_next_5 fl_J15_25 hi rfl ?_
  refine e_istore_n1 dJ15_next_8 rfl ?_
  refine e_iload_n dJ15_next_9 rfl ?_
  refine e_aload_n dJ15_next_10 rfl ?_
  refine e_getV (.ref a) dJ15_next_11 fl_J15_1 hi rfl ?_
  refine e_getV (e_i n) dJ15_next_14 fl_J15_28 (hl.1) rfl ?_
  refine e_icmp_lt (tgt := 28) dJ15_next_17 rfl ⟨by omega, by omega⟩ ⟨by omega, by omega⟩ (fun c1 => ?_) (fun q => by exfalso; omega)
  refine e_aload_n dJ15_next_28 rfl ?_
  refine e_getV (.ref a) dJ15_next_29 fl_J15_1 hi rfl ?_
  refine e_getV (.ref b) dJ15_next_32 fl_J15_37 (hl.1) rfl ?_
  refine e_astore_n2 dJ15_next_35 rfl ?_
  refine e_iload_n dJ15_next_36 rfl ?_
  refine e_aload_n dJ15_next_37 rfl ?_
  refine e_alen dJ15_next_38 hb ⟨by rcases hkd with q | q <;> omega, by rcases hkd with q | q <;> omega⟩ ?_
  refine e_icmp_lt (tgt := 50) dJ15_next_39 rfl ⟨by omega, by omega⟩ ⟨by omega, by omega⟩ (fun c2 => ?_) (fun q => by exfalso; omega)
  refine e_aload_n dJ15_next_50 rfl ?_
  refine e_iload_n dJ15_next_51 rfl ?_
  refine e_iconst dJ15_next_52 ?_
  refine e_iadd dJ15_next_53 ?_
  refine e_putfield dJ15_next_54 fl_J15_25 hi (Or.inl rfl) hia.2.2 (by decide) (e_fit_int _) ?_
  refine e_aload_n dJ15_next_57 rfl ?_
  refine e_aload_n dJ15_next_58 rfl ?_
  refine e_iload_n dJ15_next_59 rfl ?_
  refine e_dup_x1 dJ15_next_60 rfl rfl ?_
  refine e_putfield dJ15_next_61 fl_J15_13 (e_set_at _ _ _) (Or.inl rfl) hia.2.2 (by decide) (e_fit_int _) ?_
  rw [e_set_set, show updV (updV (x_iF cur last mc a) 0 (e_i (cur + 1))) 1 (e_i cur) = x_iF (cur + 1) cur mc a from by
    funext k
    unfold updV x_iF
    match k with
    | 0 => rfl
    | 1 => rfl
    | 2 => rfl
    | 3 => rfl
    | k + 4 => rfl]
  refine e_aald cur.toNat dJ15_next_64 ((e_set_ne (Ne.symm hia.2.1)).trans hb) (by rcases hkd with q | q <;> omega) (Int.toNat_of_nonneg hc.1).symm (by omega) (by omega) ?_
  rw [hit cur hc.1 hc.2]
  refine e_areturn dJ15_next_65 rfl (Or.inl ⟨_, rfl⟩) ?_
  exact ⟨rfl, rfl⟩
