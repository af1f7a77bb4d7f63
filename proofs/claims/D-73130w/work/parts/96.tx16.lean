/-! THE LEAST BIT, walked (printed by tx16.py) -/
set_option maxRecDepth 100000
theorem P_ntz_74 {h : e_A} {k n V : Int} (hk : 1 ≤ k ∧ k ≤ 2) (hn : 0 ≤ n ∧ n + k ≤ 40) (hV : n + k - 1 = V) : e_E mJ12_numberOfTrailingZeros 74 [e_i (b_P k), e_i n] [] (h) 0 0 0 (e_ret (e_i V) h) := by
  have t := b_Pt (k := k) ⟨by omega, by omega⟩
  have tr := b_Pr (k := k) ⟨by omega, by omega⟩
  have t2 := t.2
  refine e_iload_n dJ12_numberOfTrailingZeros_74 rfl ?_
  refine e_iload_n dJ12_numberOfTrailingZeros_75 rfl ?_
  refine e_iconst dJ12_numberOfTrailingZeros_76 ?_
  refine e_iushr dJ12_numberOfTrailingZeros_77 (b_Ps ⟨by omega, by omega⟩ ⟨by omega, by omega⟩) ?_
  refine e_iadd dJ12_numberOfTrailingZeros_78 ?_
  refine e_ireturn dJ12_numberOfTrailingZeros_79 rfl rfl ?_
  refine e_rv ?_ rfl
  rw [b_Pl ⟨by omega, by omega⟩]
  omega
theorem P_ntz_62 {h : e_A} {k n V : Int} (hk : 1 ≤ k ∧ k ≤ 4) (hn : 0 ≤ n ∧ n + k ≤ 40) (hV : n + k - 1 = V) : e_E mJ12_numberOfTrailingZeros 62 [e_i (b_P k), e_i n] [] (h) 0 0 0 (e_ret (e_i V) h) := by
  have t := b_Pt (k := k) ⟨by omega, by omega⟩
  have tr := b_Pr (k := k) ⟨by omega, by omega⟩
  have t2 := t.2
  refine e_iload_n dJ12_numberOfTrailingZeros_62 rfl ?_
  refine e_iconst dJ12_numberOfTrailingZeros_63 ?_
  refine e_icmp_le (tgt := 74) dJ12_numberOfTrailingZeros_64 rfl ⟨by omega, by omega⟩ ⟨by omega, by omega⟩ (fun c1 => ?_) (fun c1 => ?_)
  · exact P_ntz_74 ⟨by omega, by omega⟩ ⟨by omega, by omega⟩ (by omega)
  · refine e_iinc1 dJ12_numberOfTrailingZeros_67 rfl ?_
    refine e_iload_n dJ12_numberOfTrailingZeros_70 rfl ?_
    refine e_iconst dJ12_numberOfTrailingZeros_71 ?_
    refine e_iushr dJ12_numberOfTrailingZeros_72 (b_Ps ⟨by omega, by omega⟩ ⟨by omega, by omega⟩) ?_
    refine e_istore_n0 dJ12_numberOfTrailingZeros_73 ?_
    exact P_ntz_74 ⟨by omega, by omega⟩ ⟨by omega, by omega⟩ (by omega)
theorem P_ntz_49 {h : e_A} {k n V : Int} (hk : 1 ≤ k ∧ k ≤ 8) (hn : 0 ≤ n ∧ n + k ≤ 40) (hV : n + k - 1 = V) : e_E mJ12_numberOfTrailingZeros 49 [e_i (b_P k), e_i n] [] (h) 0 0 0 (e_ret (e_i V) h) := by
  have t := b_Pt (k := k) ⟨by omega, by omega⟩
  have tr := b_Pr (k := k) ⟨by omega, by omega⟩
  have t2 := t.2
  refine e_iload_n dJ12_numberOfTrailingZeros_49 rfl ?_
  refine e_bipush dJ12_numberOfTrailingZeros_50 rfl ?_
  refine e_icmp_le (tgt := 62) dJ12_numberOfTrailingZeros_52 rfl ⟨by omega, by omega⟩ ⟨by omega, by omega⟩ (fun c1 => ?_) (fun c1 => ?_)
  · exact P_ntz_62 ⟨by omega, by omega⟩ ⟨by omega, by omega⟩ (by omega)
  · refine e_iinc1 dJ12_numberOfTrailingZeros_55 rfl ?_
    refine e_iload_n dJ12_numberOfTrailingZeros_58 rfl ?_
    refine e_iconst dJ12_numberOfTrailingZeros_59 ?_
    refine e_iushr dJ12_numberOfTrailingZeros_60 (b_Ps ⟨by omega, by omega⟩ ⟨by omega, by omega⟩) ?_
    refine e_istore_n0 dJ12_numberOfTrailingZeros_61 ?_
    exact P_ntz_62 ⟨by omega, by omega⟩ ⟨by omega, by omega⟩ (by omega)
theorem P_ntz_34 {h : e_A} {k n V : Int} (hk : 1 ≤ k ∧ k ≤ 16) (hn : 0 ≤ n ∧ n + k ≤ 40) (hV : n + k - 1 = V) : e_E mJ12_numberOfTrailingZeros 34 [e_i (b_P k), e_i n] [] (h) 0 0 0 (e_ret (e_i V) h) := by
  have t := b_Pt (k := k) ⟨by omega, by omega⟩
  have tr := b_Pr (k := k) ⟨by omega, by omega⟩
  have t2 := t.2
  refine e_iload_n dJ12_numberOfTrailingZeros_34 rfl ?_
  refine e_sipush dJ12_numberOfTrailingZeros_35 rfl ?_
  refine e_icmp_le (tgt := 49) dJ12_numberOfTrailingZeros_38 rfl ⟨by omega, by omega⟩ ⟨by omega, by omega⟩ (fun c1 => ?_) (fun c1 => ?_)
  · exact P_ntz_49 ⟨by omega, by omega⟩ ⟨by omega, by omega⟩ (by omega)
  · refine e_iinc1 dJ12_numberOfTrailingZeros_41 rfl ?_
    refine e_iload_n dJ12_numberOfTrailingZeros_44 rfl ?_
    refine e_bipush dJ12_numberOfTrailingZeros_45 rfl ?_
    refine e_iushr dJ12_numberOfTrailingZeros_47 (b_Ps ⟨by omega, by omega⟩ ⟨by omega, by omega⟩) ?_
    refine e_istore_n0 dJ12_numberOfTrailingZeros_48 ?_
    exact P_ntz_49 ⟨by omega, by omega⟩ ⟨by omega, by omega⟩ (by omega)
theorem C_J12_numberOfTrailingZeros {h : e_A} {z Z r : Int} {m : Nat} (hz : e_rg z) (hzz : z = Z ∨ z = Z - 4294967296) (hZ : 0 < Z ∧ Z < 4294967296) (hr : 0 ≤ r ∧ r < 32) (hm : Z.toNat = 2 ^ r.toNat * (2 * m + 1)) : e_C mJ12_numberOfTrailingZeros [e_i z] (h) 0 0 0 (e_ret (e_i r) (h)) := by
  have hand := b_nt_and hzz hZ hr hm
  have t := b_Pt hr
  have tr := b_Pr hr
  have t1 := t.2.1
  refine e_enterF (al0 := [e_i z, .retAddr 0]) (by decide +kernel) rfl rfl (Nat.le_of_ble_eq_true rfl) ?_
  refine e_iload_n dJ12_numberOfTrailingZeros_0 rfl ?_
  refine e_iconst dJ12_numberOfTrailingZeros_1 ?_
  refine e_ixor dJ12_numberOfTrailingZeros_2 (e_not_law z) ?_
  refine e_iload_n dJ12_numberOfTrailingZeros_3 rfl ?_
  refine e_iconst dJ12_numberOfTrailingZeros_4 ?_
  refine e_isub dJ12_numberOfTrailingZeros_5 ?_
  refine e_iand dJ12_numberOfTrailingZeros_6 (hand) ?_
  refine e_istore_n0 dJ12_numberOfTrailingZeros_7 ?_
  refine e_iload_n dJ12_numberOfTrailingZeros_8 rfl ?_
  refine e_if_gt (tgt := 17) dJ12_numberOfTrailingZeros_9 rfl ⟨by omega, by omega⟩ (fun c1 => ?_) (fun c1 => ?_)
  · refine e_iconst dJ12_numberOfTrailingZeros_17 ?_
    refine e_istore_n1 dJ12_numberOfTrailingZeros_18 rfl ?_
    refine e_iload_n dJ12_numberOfTrailingZeros_19 rfl ?_
    refine e_ldcw (z := 65536) dJ12_numberOfTrailingZeros_20 q1366 rfl ?_
    refine e_icmp_le (tgt := 34) dJ12_numberOfTrailingZeros_23 rfl ⟨by omega, by omega⟩ ⟨by omega, by omega⟩ (fun c2 => ?_) (fun c2 => ?_)
    · exact P_ntz_34 ⟨by omega, by omega⟩ ⟨by omega, by omega⟩ (by omega)
    · refine e_iinc1 dJ12_numberOfTrailingZeros_26 rfl ?_
      refine e_iload_n dJ12_numberOfTrailingZeros_29 rfl ?_
      refine e_bipush dJ12_numberOfTrailingZeros_30 rfl ?_
      refine e_iushr dJ12_numberOfTrailingZeros_32 (b_Ps ⟨by omega, by omega⟩ ⟨by omega, by omega⟩) ?_
      refine e_istore_n0 dJ12_numberOfTrailingZeros_33 ?_
      exact P_ntz_34 ⟨by omega, by omega⟩ ⟨by omega, by omega⟩ (by omega)
  · refine e_iload_n dJ12_numberOfTrailingZeros_12 rfl ?_
    refine e_bipush dJ12_numberOfTrailingZeros_13 rfl ?_
    refine e_iand dJ12_numberOfTrailingZeros_15 (e_and_law tr.1 (by decide)) ?_
    refine e_ireturn dJ12_numberOfTrailingZeros_16 rfl rfl ?_
    have r0 : r = 0 := by omega
    subst r0
    exact e_rv rfl rfl
theorem C_J17_numberOfTrailingZeros {h : e_A} {z r : Int} (hz : 0 ≤ z ∧ z < 2 ^ 64) (hr : 0 ≤ r ∧ r < 64) (h1 : e_bt z r = 1) (h0 : ∀ k : Int, 0 ≤ k → k < r → e_bt z k = 0) : e_C mJ17_numberOfTrailingZeros [e_j z] (h) 0 0 1 (e_ret (e_i r) (h)) := by
  obtain ⟨lo, l1, l2, l3⟩ := e_i_lo z
  have hh := b_half hz hr h1 h0
  have l4 := l1.1
  have l5 := l1.2
  refine e_enterF (al0 := [e_j z, .retAddr 0, .retAddr 0]) (by decide +kernel) rfl rfl (Nat.le_of_ble_eq_true rfl) ?_
  refine e_lload_n dJ17_numberOfTrailingZeros_0 rfl ?_
  refine e_l2i dJ17_numberOfTrailingZeros_1 ?_
  rw [l3]
  refine e_istore_n2 dJ17_numberOfTrailingZeros_2 rfl ?_
  refine e_iload_n dJ17_numberOfTrailingZeros_3 rfl ?_
  refine e_if_ne (tgt := 21) dJ17_numberOfTrailingZeros_4 rfl ⟨by omega, by omega⟩ (fun c1 => ?_) (fun c1 => ?_)
  · refine e_iload_n dJ17_numberOfTrailingZeros_21 rfl ?_
    obtain ⟨hr2, hz2, m, hm⟩ := hh.elim id (fun q => by exfalso; omega)
    refine e_callS1rz dJ17_numberOfTrailingZeros_22 md_J12_numberOfTrailingZeros lk_J17_311 rfl q1364 rfl (Nat.le_of_ble_eq_true rfl) (C_J12_numberOfTrailingZeros ⟨by omega, by omega⟩ (Z := z % 4294967296) (by omega) ⟨by omega, by omega⟩ ⟨by omega, by omega⟩ hm) ?_
    refine e_ireturn dJ17_numberOfTrailingZeros_25 rfl rfl ?_
    first
      | exact ⟨rfl, rfl⟩
      | exact e_rv (by omega) rfl
  · obtain ⟨hr2, -, hz2, m, hm⟩ : 32 ≤ r ∧ _ := hh.elim (fun q => by exfalso; omega) id
    refine e_bipush dJ17_numberOfTrailingZeros_7 rfl ?_
    refine e_lload_n dJ17_numberOfTrailingZeros_9 rfl ?_
    refine e_bipush dJ17_numberOfTrailingZeros_10 rfl ?_
    refine e_lushr dJ17_numberOfTrailingZeros_12 (e_lushr_law hz ⟨by omega, by omega⟩) ?_
    refine e_l2i dJ17_numberOfTrailingZeros_13 ?_
    obtain ⟨hi, i1, i2, i3⟩ := e_i_lo (z / 4294967296)
    have i4 := i1.1
    have i5 := i1.2
    rw [show z / 2 ^ (32 : Int).toNat = z / 4294967296 from rfl, i3]
    refine e_callS1rz dJ17_numberOfTrailingZeros_14 md_J12_numberOfTrailingZeros lk_J17_311 rfl q1364 rfl (Nat.le_of_ble_eq_true rfl) (C_J12_numberOfTrailingZeros ⟨by omega, by omega⟩ (Z := z / 4294967296) (by omega) hz2 (r := r - 32) ⟨by omega, by omega⟩ hm) ?_
    refine e_iadd dJ17_numberOfTrailingZeros_17 ?_
    refine e_goto (tgt := 25) dJ17_numberOfTrailingZeros_18 rfl ?_
    refine e_ireturn dJ17_numberOfTrailingZeros_25 rfl rfl ?_
    first
      | exact ⟨rfl, rfl⟩
      | exact e_rv (by omega) rfl
