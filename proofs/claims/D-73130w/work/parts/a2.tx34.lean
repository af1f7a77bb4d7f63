/-! LISTS CHANGED (printed by tx34.py) -/
set_option maxRecDepth 100000
theorem x_lF_0 (mc : Int) (b : Nat) (n z : Int) : updV (x_lF mc b n) 0 (e_i z) = x_lF z b n := by
  funext k
  match k with
  | 0 => rfl
  | 1 => rfl
  | 2 => rfl
  | _ + 3 => rfl
theorem x_lF_1 (mc : Int) (b b1 : Nat) (n : Int) : updV (x_lF mc b n) 1 (.ref b1) = x_lF mc b1 n := by
  funext k
  match k with
  | 0 => rfl
  | 1 => rfl
  | 2 => rfl
  | _ + 3 => rfl
theorem x_lF_2 (mc : Int) (b : Nat) (n z : Int) : updV (x_lF mc b n) 2 (e_i z) = x_lF mc b z := by
  funext k
  match k with
  | 0 => rfl
  | 1 => rfl
  | 2 => rfl
  | _ + 3 => rfl
/-- a list changed in place: its object a, its array b -/
def x_LP (A : Option Value) (h : e_A) (a b : Nat) (mc n : Int) (it : Int → Nat) : e_R → e_A → Prop := fun r h1 => r = .inl A ∧ h1.2 = h.2 ∧ (∀ i, i ≠ a → i ≠ b → h1.1 i = h.1 i) ∧ x_li h1 a b mc n it
theorem x_li_ne {h : e_A} {a b : Nat} {mc n : Int} {it : Int → Nat} (hl : x_li h a b mc n it) : b ≠ a := by
  have k := x_li_kd hl
  rcases k.2 with q | q
  · exact x_nek q k.1 (by decide)
  · exact x_nek q k.1 (by decide)
theorem C_J2_clear {h : e_A} {a b : Nat} {mc n : Int} {it : Int → Nat} (hl : x_li h a b mc n it) (ha : 350 ≤ a) (hb3 : 350 ≤ b ∨ n = 0) : e_C mJ2_clear [.ref a] (h) 0 0 0 (x_LP none h a b (mc + 1) 0 it) := by
  have hba := x_li_ne hl
  obtain ⟨ha0, kd, cap, g, hb, hkd, hn, hcap, hit⟩ := hl
  refine e_enter (al0 := [.ref a, .retAddr 0, .retAddr 0, .retAddr 0]) (by decide +kernel) rfl (Nat.le_of_ble_eq_true rfl) ?_
  refine e_aload_n dJ2_clear_0 rfl ?_
  refine e_dup dJ2_clear_1 rfl ?_
  refine e_getV (e_i mc) dJ2_clear_2 fl_J2_63 (ha0) rfl ?_
  refine e_iconst dJ2_clear_5 ?_
  refine e_iadd dJ2_clear_6 ?_
  refine e_putfield dJ2_clear_7 fl_J2_63 (ha0) (Or.inl rfl) ha (by omega) (e_fit_int _) ?_
  rw [x_lF_0]
  refine e_aload_n dJ2_clear_10 rfl ?_
  refine e_getV (.ref b) dJ2_clear_11 fl_J2_9 (e_set_at _ _ _) rfl ?_
  refine e_astore_n1 dJ2_clear_14 rfl ?_
  refine e_aload_n dJ2_clear_15 rfl ?_
  refine e_getV (e_i n) dJ2_clear_16 fl_J2_48 (e_set_at _ _ _) rfl ?_
  refine e_istore_n2 dJ2_clear_19 rfl ?_
  refine e_aload_n dJ2_clear_20 rfl ?_
  refine e_iconst dJ2_clear_21 ?_
  refine e_dup_x1 dJ2_clear_22 rfl rfl ?_
  refine e_putfield dJ2_clear_23 fl_J2_48 (e_set_at _ _ _) (Or.inl rfl) ha (by omega) (e_fit_int _) ?_
  rw [e_set_set, x_lF_2]
  have hbb : (e_set h a (11, 3, x_lF (mc + 1) b 0)).1 b = (kd, cap, g) := (if_neg hba).trans hb
  refine e_istore_n3 dJ2_clear_26 rfl ?_
  rw [show e_set h a (11, 3, x_lF (mc + 1) b 0) = e_set (e_set h a (11, 3, x_lF (mc + 1) b 0)) b (kd, cap, g) from by rw [← hbb, e_set_self]]
  refine e_for (n := n) (F := fun i => ∀ g1 : Nat → Value, e_E mJ2_clear 27 [.ref a, .ref b, e_i n, e_i i] [] (e_set (e_set h a (11, 3, x_lF (mc + 1) b 0)) b (kd, cap, g1)) 0 0 0 (x_LP none h a b (mc + 1) 0 it)) (by omega) (fun g1 => ?_) (fun i hi0 hi1 hF g1 => ?_) g
  · refine e_iload_n dJ2_clear_27 rfl ?_
    refine e_iload_n dJ2_clear_28 rfl ?_
    refine e_icmp_ge (tgt := 42) dJ2_clear_29 rfl ⟨by omega, by omega⟩ ⟨by omega, by omega⟩ (fun c1 => ?_) (fun q => by exfalso; omega)
    refine e_return dJ2_clear_42 rfl ?_
    refine ⟨rfl, rfl, fun i h1 h2 => ?_, ?_, kd, cap, g1, e_set_at _ _ _, hkd, ⟨by omega, by omega⟩, hcap, fun j j0 j1 => by omega⟩
    · show (if i = b then _ else if i = a then _ else h.1 i) = _
      rw [if_neg h2, if_neg h1]
    · show (if a = b then _ else if a = a then _ else h.1 a) = _
      rw [if_neg (Ne.symm hba), if_pos rfl]
  · refine e_iload_n dJ2_clear_27 rfl ?_
    refine e_iload_n dJ2_clear_28 rfl ?_
    refine e_icmp_ge (tgt := 42) dJ2_clear_29 rfl ⟨by omega, by omega⟩ ⟨by omega, by omega⟩ (fun q => by exfalso; omega) (fun c2 => ?_)
    refine e_aload_n dJ2_clear_32 rfl ?_
    refine e_iload_n dJ2_clear_33 rfl ?_
    refine e_null dJ2_clear_34 ?_
    refine e_aastN i.toNat dJ2_clear_35 (e_set_at _ _ _) (by omega) (by omega) (Int.toNat_of_nonneg hi0).symm (by omega) (by omega) ?_
    refine e_iinc3 dJ2_clear_36 rfl ?_
    refine e_goto (tgt := 27) dJ2_clear_39 rfl ?_
    rw [e_set_set]
    exact hF _
theorem C_J2_fastRemove {h : e_A} {a b : Nat} {mc n : Int} {it : Int → Nat} (hl : x_li h a b mc n it) (ha : 350 ≤ a) (hb3 : 350 ≤ b) {i : Int} (hi : i = n - 1) (h1 : 1 ≤ n) : e_C mJ2_fastRemove [.ref a, .ref b, e_i i] (h) 0 0 0 (x_LP none h a b (mc + 1) (n - 1) it) := by
  have hba := x_li_ne hl
  obtain ⟨ha0, kd, cap, g, hb, hkd, hn, hcap, hit⟩ := hl
  refine e_enter (al0 := [.ref a, .ref b, e_i i, .retAddr 0]) (by decide +kernel) rfl (Nat.le_of_ble_eq_true rfl) ?_
  refine e_aload_n dJ2_fastRemove_0 rfl ?_
  refine e_dup dJ2_fastRemove_1 rfl ?_
  refine e_getV (e_i mc) dJ2_fastRemove_2 fl_J2_63 (ha0) rfl ?_
  refine e_iconst dJ2_fastRemove_5 ?_
  refine e_iadd dJ2_fastRemove_6 ?_
  refine e_putfield dJ2_fastRemove_7 fl_J2_63 (ha0) (Or.inl rfl) ha (by omega) (e_fit_int _) ?_
  rw [x_lF_0]
  refine e_aload_n dJ2_fastRemove_10 rfl ?_
  refine e_getV (e_i n) dJ2_fastRemove_11 fl_J2_48 (e_set_at _ _ _) rfl ?_
  refine e_iconst dJ2_fastRemove_14 ?_
  refine e_isub dJ2_fastRemove_15 ?_
  refine e_dup dJ2_fastRemove_16 rfl ?_
  refine e_istore_n3 dJ2_fastRemove_17 rfl ?_
  refine e_iload_n dJ2_fastRemove_18 rfl ?_
  refine e_icmp_le (tgt := 34) dJ2_fastRemove_19 rfl ⟨by omega, by omega⟩ ⟨by omega, by omega⟩ (fun c1 => ?_) (fun q => by exfalso; omega)
  refine e_aload_n dJ2_fastRemove_34 rfl ?_
  refine e_aload_n dJ2_fastRemove_35 rfl ?_
  refine e_iload_n dJ2_fastRemove_36 rfl ?_
  refine e_dup_x1 dJ2_fastRemove_37 rfl rfl ?_
  refine e_putfield dJ2_fastRemove_38 fl_J2_48 (e_set_at _ _ _) (Or.inl rfl) ha (by omega) (e_fit_int _) ?_
  rw [e_set_set, x_lF_2]
  have hbb : (e_set h a (11, 3, x_lF (mc + 1) b (n - 1))).1 b = (kd, cap, g) := (if_neg hba).trans hb
  refine e_null dJ2_fastRemove_41 ?_
  refine e_aastN (n - 1).toNat dJ2_fastRemove_42 hbb (by omega) hb3 (Int.toNat_of_nonneg (by omega)).symm (by omega) (by omega) ?_
  refine e_return dJ2_fastRemove_43 rfl ?_
  refine ⟨rfl, rfl, fun i h1 h2 => ?_, ?_, kd, cap, _, e_set_at _ _ _, hkd, ⟨by omega, by omega⟩, hcap, fun j j0 j1 => ?_⟩
  · show (if i = b then _ else if i = a then _ else h.1 i) = _
    rw [if_neg h2, if_neg h1]
  · show (if a = b then _ else if a = a then _ else h.1 a) = _
    rw [if_neg (Ne.symm hba), if_pos rfl]
  · show (if j.toNat = (n - 1).toNat then _ else g j.toNat) = _
    rw [if_neg (by omega)]
    exact hit j j0 (by omega)
theorem C_J2_remove {h : e_A} {a b : Nat} {mc n : Int} {it : Int → Nat} (hl : x_li h a b mc n it) (ha : 350 ≤ a) (hb3 : 350 ≤ b) {i : Int} (hi : i = n - 1) (h1 : 1 ≤ n) : e_C mJ2_remove [.ref a, e_i i] (h) 0 0 2 (x_LP (some (.ref (it i))) h a b (mc + 1) (n - 1) it) := by
  have hl0 := hl
  have hba := x_li_ne hl
  obtain ⟨ha0, kd, cap, g, hb, hkd, hn, hcap, hit⟩ := hl
  refine e_enter (al0 := [.ref a, e_i i, .retAddr 0, .retAddr 0]) (by decide +kernel) rfl (Nat.le_of_ble_eq_true rfl) ?_
  refine e_iload_n dJ2_remove_0 rfl ?_
  refine e_aload_n dJ2_remove_1 rfl ?_
  refine e_getV (e_i n) dJ2_remove_2 fl_J2_48 (ha0) rfl ?_
  refine e_callS2rz dJ2_remove_5 md_J16_checkIndex lk_J2_118 rfl q1139 rfl (Nat.le_of_ble_eq_true rfl) (C_J16_checkIndex ⟨by omega, by omega⟩ (by omega)) ?_
  refine e_pop dJ2_remove_8 rfl ?_
  refine e_aload_n dJ2_remove_9 rfl ?_
  refine e_getV (.ref b) dJ2_remove_10 fl_J2_9 (ha0) rfl ?_
  refine e_astore_n2 dJ2_remove_13 rfl ?_
  refine e_aload_n dJ2_remove_14 rfl ?_
  refine e_iload_n dJ2_remove_15 rfl ?_
  refine e_aald i.toNat dJ2_remove_16 hb (by omega) (Int.toNat_of_nonneg (by omega)).symm (by omega) (by omega) ?_
  rw [hit i (by omega) (by omega)]
  refine e_astore_n3 dJ2_remove_17 rfl ?_
  refine e_aload_n dJ2_remove_18 rfl ?_
  refine e_aload_n dJ2_remove_19 rfl ?_
  refine e_iload_n dJ2_remove_20 rfl ?_
  refine e_bud (kc1 := 0 + 0) (ks1 := 0 + 0) (by decide) (by decide) ?_
  refine e_callV2 (M1 := mJ2_fastRemove) (kc := 0) (ks := 0) (mc := 0) (ms := 0) (ci := 11) dJ2_remove_21 lk_J2_144 md_J2_fastRemove rfl q1706 qs61 ha0 (by decide) rfl (Nat.le_of_ble_eq_true rfl) (C_J2_fastRemove hl0 ha hb3 hi h1) (fun a hh q => ?_) (fun i hh q => by cases q.1)
  obtain ⟨q1, q2⟩ := q
  cases q1
  show e_E _ _ _ _ _ _ _ _ _
  refine e_aload_n dJ2_remove_24 rfl ?_
  refine e_areturn dJ2_remove_25 rfl (Or.inl ⟨_, rfl⟩) ?_
  exact ⟨rfl, q2⟩
