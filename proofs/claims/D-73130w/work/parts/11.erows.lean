/-! ROWS OF E (printed by gen_rows.py): numbers, locals, branches, answers -/
set_option maxRecDepth 100000
abbrev e_i (z : Int) : Value := .int (Int32.ofInt z)
abbrev e_j (z : Int) : Value := .long (Int64.ofInt z)
abbrev e_rg (z : Int) : Prop := -2147483648 ≤ z ∧ z < 2147483648
abbrev e_rl (z : Int) : Prop := -9223372036854775808 ≤ z ∧ z < 9223372036854775808
theorem e_ti {z : Int} (h : e_rg z) : (Int32.ofInt z).toInt = z := by
  rw [Int32.toInt_ofInt]
  exact Int.bmod_eq_of_le (m := 4294967296) (by have := h.1; omega) (by have := h.2; omega)
theorem e_tl {z : Int} (h : e_rl z) : (Int64.ofInt z).toInt = z := by
  rw [Int64.toInt_ofInt]
  exact Int.bmod_eq_of_le (m := 18446744073709551616) (by have := h.1; omega) (by have := h.2; omega)
theorem e_of (x : Int32) : Int32.ofInt x.toInt = x := Int32.ofInt_toInt x
theorem e_ofl (x : Int64) : Int64.ofInt x.toInt = x := Int64.ofInt_toInt x
theorem e_of_rg (x : Int32) : e_rg x.toInt := ⟨Int32.le_toInt x, Int32.toInt_lt x⟩
theorem e_of_rl (x : Int64) : e_rl x.toInt := ⟨Int64.le_toInt x, Int64.toInt_lt x⟩
theorem e_ieq {a b : Int} (ha : e_rg a) (hb : e_rg b) : Int32.ofInt a = Int32.ofInt b ↔ a = b := by
  rw [← Int32.toInt_inj, e_ti ha, e_ti hb]
theorem e_ile {a b : Int} (ha : e_rg a) (hb : e_rg b) : Int32.ofInt a ≤ Int32.ofInt b ↔ a ≤ b := by
  rw [Int32.le_iff_toInt_le, e_ti ha, e_ti hb]
theorem e_ilt {a b : Int} (ha : e_rg a) (hb : e_rg b) : Int32.ofInt a < Int32.ofInt b ↔ a < b := by
  rw [Int32.lt_iff_toInt_lt, e_ti ha, e_ti hb]
theorem e_leq {a b : Int} (ha : e_rl a) (hb : e_rl b) : Int64.ofInt a = Int64.ofInt b ↔ a = b := by
  rw [← Int64.toInt_inj, e_tl ha, e_tl hb]
theorem e_llt {a b : Int} (ha : e_rl a) (hb : e_rl b) : Int64.ofInt a < Int64.ofInt b ↔ a < b := by
  rw [Int64.lt_iff_toInt_lt, e_tl ha, e_tl hb]
theorem e_rg0 : e_rg 0 := ⟨by decide, by decide⟩
section EROWS
variable {M : e_M} {pc : Nat} {al st : List Value} {h : e_A} {kc ks d : Nat} {Q : e_R → e_A → Prop}
theorem e_iconst {n : Int} (hd : decode M.2.1 pc = .ok (.iconst n, 1)) (k : e_E M (pc + 1) al (e_i n :: st) h kc ks d Q) : e_E M pc al (st) h kc ks d Q :=
  e_num [] [e_i n] rfl rfl (fun hx hb k => lv_iconst hx hb hd rfl k) k
theorem e_bipush {n : Int} (hd : decode M.2.1 pc = .ok (.bipush n, 2)) (hv : (Int8.ofInt n).toInt32 = Int32.ofInt n) (k : e_E M (pc + 2) al (e_i n :: st) h kc ks d Q) : e_E M pc al (st) h kc ks d Q :=
  e_num [] [e_i n] rfl rfl (fun hx hb k => lv_bipush hx hb hd hv k) k
theorem e_sipush {n : Int} (hd : decode M.2.1 pc = .ok (.sipush n, 3)) (hv : (Int16.ofInt n).toInt32 = Int32.ofInt n) (k : e_E M (pc + 3) al (e_i n :: st) h kc ks d Q) : e_E M pc al (st) h kc ks d Q :=
  e_num [] [e_i n] rfl rfl (fun hx hb k => lv_sipush hx hb hd hv k) k
theorem e_lconst {n : Fin 2} {z : Int} (hd : decode M.2.1 pc = .ok (.lconst n, 1)) (hv : Int64.ofNat (n : Nat) = Int64.ofInt z) (k : e_E M (pc + 1) al (e_j z :: st) h kc ks d Q) : e_E M pc al (st) h kc ks d Q :=
  e_num [] [e_j z] rfl rfl (fun hx hb k => lv_lconst hx hb hd hv k) k
theorem e_null (hd : decode M.2.1 pc = .ok (.aconst_null, 1)) (k : e_E M (pc + 1) al (.null :: st) h kc ks d Q) : e_E M pc al (st) h kc ks d Q :=
  e_num [] [.null] rfl rfl (fun hx hb k => lv_null hx hb hd k) k
theorem e_iadd {a b : Int} (hd : decode M.2.1 pc = .ok (.iadd, 1)) (k : e_E M (pc + 1) al (e_i (a + b) :: st) h kc ks d Q) : e_E M pc al (e_i b :: e_i a :: st) h kc ks d Q :=
  e_num [e_i b, e_i a] [e_i (a + b)] rfl rfl (fun hx hb k => lv_iadd hx hb hd (by rw [← Int32.ofInt_add]; exact k)) k
theorem e_ladd {a b : Int} (hd : decode M.2.1 pc = .ok (.ladd, 1)) (k : e_E M (pc + 1) al (e_j (a + b) :: st) h kc ks d Q) : e_E M pc al (e_j b :: e_j a :: st) h kc ks d Q :=
  e_num [e_j b, e_j a] [e_j (a + b)] rfl rfl (fun hx hb k => lv_ladd hx hb hd (by rw [← Int64.ofInt_add]; exact k)) k
theorem e_isub {a b : Int} (hd : decode M.2.1 pc = .ok (.isub, 1)) (k : e_E M (pc + 1) al (e_i (a - b) :: st) h kc ks d Q) : e_E M pc al (e_i b :: e_i a :: st) h kc ks d Q :=
  e_num [e_i b, e_i a] [e_i (a - b)] rfl rfl (fun hx hb k => lv_isub hx hb hd (by rw [← Int32.ofInt_sub]; exact k)) k
theorem e_lsub {a b : Int} (hd : decode M.2.1 pc = .ok (.lsub, 1)) (k : e_E M (pc + 1) al (e_j (a - b) :: st) h kc ks d Q) : e_E M pc al (e_j b :: e_j a :: st) h kc ks d Q :=
  e_num [e_j b, e_j a] [e_j (a - b)] rfl rfl (fun hx hb k => lv_lsub hx hb hd (by rw [← Int64.ofInt_sub]; exact k)) k
theorem e_imul {a b : Int} (hd : decode M.2.1 pc = .ok (.imul, 1)) (k : e_E M (pc + 1) al (e_i (a * b) :: st) h kc ks d Q) : e_E M pc al (e_i b :: e_i a :: st) h kc ks d Q :=
  e_num [e_i b, e_i a] [e_i (a * b)] rfl rfl (fun hx hb k => lv_imul hx hb hd (by rw [← Int32.ofInt_mul]; exact k)) k
theorem e_lmul {a b : Int} (hd : decode M.2.1 pc = .ok (.lmul, 1)) (k : e_E M (pc + 1) al (e_j (a * b) :: st) h kc ks d Q) : e_E M pc al (e_j b :: e_j a :: st) h kc ks d Q :=
  e_num [e_j b, e_j a] [e_j (a * b)] rfl rfl (fun hx hb k => lv_lmul hx hb hd (by rw [← Int64.ofInt_mul]; exact k)) k
theorem e_ineg {a : Int} (hd : decode M.2.1 pc = .ok (.ineg, 1)) (k : e_E M (pc + 1) al (e_i (-a) :: st) h kc ks d Q) : e_E M pc al (e_i a :: st) h kc ks d Q :=
  e_num [e_i a] [e_i (-a)] rfl rfl (fun hx hb k => lv_ineg hx hb hd (by rw [← Int32.ofInt_neg]; exact k)) k
theorem e_lneg {a : Int} (hd : decode M.2.1 pc = .ok (.lneg, 1)) (k : e_E M (pc + 1) al (e_j (-a) :: st) h kc ks d Q) : e_E M pc al (e_j a :: st) h kc ks d Q :=
  e_num [e_j a] [e_j (-a)] rfl rfl (fun hx hb k => lv_lneg hx hb hd (by rw [← Int64.ofInt_neg]; exact k)) k
theorem e_tdiv32 {a b : Int} (ha : e_rg a) (hb : e_rg b) : Int32.ofInt a / Int32.ofInt b = Int32.ofInt (a.tdiv b) := by
  rw [← Int32.toInt_inj, Int32.toInt_div, e_ti ha, e_ti hb, Int32.toInt_ofInt]
theorem e_tdiv64 {a b : Int} (ha : e_rl a) (hb : e_rl b) : Int64.ofInt a / Int64.ofInt b = Int64.ofInt (a.tdiv b) := by
  rw [← Int64.toInt_inj, Int64.toInt_div, e_tl ha, e_tl hb, Int64.toInt_ofInt]
theorem e_tmod32 {a b : Int} (ha : e_rg a) (hb : e_rg b) : Int32.ofInt a - Int32.ofInt a / Int32.ofInt b * Int32.ofInt b = Int32.ofInt (a.tmod b) := by
  rw [e_tdiv32 ha hb, ← Int32.ofInt_mul, ← Int32.ofInt_sub]
  congr 1
  have := Int.tmod_add_mul_tdiv a b
  rw [Int.mul_comm] at this
  omega
theorem e_tmod64 {a b : Int} (ha : e_rl a) (hb : e_rl b) : Int64.ofInt a - Int64.ofInt a / Int64.ofInt b * Int64.ofInt b = Int64.ofInt (a.tmod b) := by
  rw [e_tdiv64 ha hb, ← Int64.ofInt_mul, ← Int64.ofInt_sub]
  congr 1
  have := Int.tmod_add_mul_tdiv a b
  rw [Int.mul_comm] at this
  omega
theorem e_idivT {a b : Int} (hd : decode M.2.1 pc = .ok (.idiv, 1)) (ha : e_rg a) (hb0 : e_rg b) (hne : ¬ b = 0) (k : e_E M (pc + 1) al (e_i (a.tdiv b) :: st) h kc ks d Q) : e_E M pc al (e_i b :: e_i a :: st) h kc ks d Q :=
  e_num [e_i b, e_i a] [e_i (a.tdiv b)] rfl rfl (fun hx hb k => lv_idiv hx hb hd (fun q => hne ((e_ieq hb0 e_rg0).mp q)) (by rw [e_tdiv32 ha hb0]; exact k)) k
theorem e_iremT {a b : Int} (hd : decode M.2.1 pc = .ok (.irem, 1)) (ha : e_rg a) (hb0 : e_rg b) (hne : ¬ b = 0) (k : e_E M (pc + 1) al (e_i (a.tmod b) :: st) h kc ks d Q) : e_E M pc al (e_i b :: e_i a :: st) h kc ks d Q :=
  e_num [e_i b, e_i a] [e_i (a.tmod b)] rfl rfl (fun hx hb k => lv_irem hx hb hd (fun q => hne ((e_ieq hb0 e_rg0).mp q)) (by rw [e_tmod32 ha hb0]; exact k)) k
theorem e_rl0 : e_rl 0 := ⟨by decide, by decide⟩
theorem e_ldivT {a b : Int} (hd : decode M.2.1 pc = .ok (.ldiv, 1)) (ha : e_rl a) (hb0 : e_rl b) (hne : ¬ b = 0) (k : e_E M (pc + 1) al (e_j (a.tdiv b) :: st) h kc ks d Q) : e_E M pc al (e_j b :: e_j a :: st) h kc ks d Q :=
  e_num [e_j b, e_j a] [e_j (a.tdiv b)] rfl rfl (fun hx hb k => lv_ldiv hx hb hd (fun q => hne ((e_leq hb0 e_rl0).mp q)) (by rw [e_tdiv64 ha hb0]; exact k)) k
theorem e_lremT {a b : Int} (hd : decode M.2.1 pc = .ok (.lrem, 1)) (ha : e_rl a) (hb0 : e_rl b) (hne : ¬ b = 0) (k : e_E M (pc + 1) al (e_j (a.tmod b) :: st) h kc ks d Q) : e_E M pc al (e_j b :: e_j a :: st) h kc ks d Q :=
  e_num [e_j b, e_j a] [e_j (a.tmod b)] rfl rfl (fun hx hb k => lv_lrem hx hb hd (fun q => hne ((e_leq hb0 e_rl0).mp q)) (by rw [e_tmod64 ha hb0]; exact k)) k
theorem e_idiv {a b : Int} (hd : decode M.2.1 pc = .ok (.idiv, 1)) (ha : 0 ≤ a ∧ a < 2147483648) (hb0 : 0 < b ∧ b < 2147483648) (k : e_E M (pc + 1) al (e_i (a / b) :: st) h kc ks d Q) : e_E M pc al (e_i b :: e_i a :: st) h kc ks d Q :=
  e_idivT hd ⟨by omega, ha.2⟩ ⟨by omega, hb0.2⟩ (by omega) (by rw [Int.tdiv_eq_ediv_of_nonneg ha.1]; exact k)
theorem e_irem {a b : Int} (hd : decode M.2.1 pc = .ok (.irem, 1)) (ha : 0 ≤ a ∧ a < 2147483648) (hb0 : 0 < b ∧ b < 2147483648) (k : e_E M (pc + 1) al (e_i (a % b) :: st) h kc ks d Q) : e_E M pc al (e_i b :: e_i a :: st) h kc ks d Q :=
  e_iremT hd ⟨by omega, ha.2⟩ ⟨by omega, hb0.2⟩ (by omega) (by rw [Int.tmod_eq_emod_of_nonneg ha.1]; exact k)
theorem e_ldiv {a b : Int} (hd : decode M.2.1 pc = .ok (.ldiv, 1)) (ha : 0 ≤ a ∧ a < 9223372036854775808) (hb0 : 0 < b ∧ b < 9223372036854775808) (k : e_E M (pc + 1) al (e_j (a / b) :: st) h kc ks d Q) : e_E M pc al (e_j b :: e_j a :: st) h kc ks d Q :=
  e_ldivT hd ⟨by omega, ha.2⟩ ⟨by omega, hb0.2⟩ (by omega) (by rw [Int.tdiv_eq_ediv_of_nonneg ha.1]; exact k)
theorem e_lrem {a b : Int} (hd : decode M.2.1 pc = .ok (.lrem, 1)) (ha : 0 ≤ a ∧ a < 9223372036854775808) (hb0 : 0 < b ∧ b < 9223372036854775808) (k : e_E M (pc + 1) al (e_j (a % b) :: st) h kc ks d Q) : e_E M pc al (e_j b :: e_j a :: st) h kc ks d Q :=
  e_lremT hd ⟨by omega, ha.2⟩ ⟨by omega, hb0.2⟩ (by omega) (by rw [Int.tmod_eq_emod_of_nonneg ha.1]; exact k)
theorem e_iand {a b z : Int} (hd : decode M.2.1 pc = .ok (.iand, 1)) (hv : Int32.ofInt a &&& Int32.ofInt b = Int32.ofInt z) (k : e_E M (pc + 1) al (e_i z :: st) h kc ks d Q) : e_E M pc al (e_i b :: e_i a :: st) h kc ks d Q :=
  e_num [e_i b, e_i a] [e_i z] rfl rfl (fun hx hb k => lv_iand hx hb hd (by rw [hv]; exact k)) k
theorem e_land {a b z : Int} (hd : decode M.2.1 pc = .ok (.land, 1)) (hv : Int64.ofInt a &&& Int64.ofInt b = Int64.ofInt z) (k : e_E M (pc + 1) al (e_j z :: st) h kc ks d Q) : e_E M pc al (e_j b :: e_j a :: st) h kc ks d Q :=
  e_num [e_j b, e_j a] [e_j z] rfl rfl (fun hx hb k => lv_land hx hb hd (by rw [hv]; exact k)) k
theorem e_ior {a b z : Int} (hd : decode M.2.1 pc = .ok (.ior, 1)) (hv : Int32.ofInt a ||| Int32.ofInt b = Int32.ofInt z) (k : e_E M (pc + 1) al (e_i z :: st) h kc ks d Q) : e_E M pc al (e_i b :: e_i a :: st) h kc ks d Q :=
  e_num [e_i b, e_i a] [e_i z] rfl rfl (fun hx hb k => lv_ior hx hb hd (by rw [hv]; exact k)) k
theorem e_lor {a b z : Int} (hd : decode M.2.1 pc = .ok (.lor, 1)) (hv : Int64.ofInt a ||| Int64.ofInt b = Int64.ofInt z) (k : e_E M (pc + 1) al (e_j z :: st) h kc ks d Q) : e_E M pc al (e_j b :: e_j a :: st) h kc ks d Q :=
  e_num [e_j b, e_j a] [e_j z] rfl rfl (fun hx hb k => lv_lor hx hb hd (by rw [hv]; exact k)) k
theorem e_ixor {a b z : Int} (hd : decode M.2.1 pc = .ok (.ixor, 1)) (hv : Int32.ofInt a ^^^ Int32.ofInt b = Int32.ofInt z) (k : e_E M (pc + 1) al (e_i z :: st) h kc ks d Q) : e_E M pc al (e_i b :: e_i a :: st) h kc ks d Q :=
  e_num [e_i b, e_i a] [e_i z] rfl rfl (fun hx hb k => lv_ixor hx hb hd (by rw [hv]; exact k)) k
theorem e_lxor {a b z : Int} (hd : decode M.2.1 pc = .ok (.lxor, 1)) (hv : Int64.ofInt a ^^^ Int64.ofInt b = Int64.ofInt z) (k : e_E M (pc + 1) al (e_j z :: st) h kc ks d Q) : e_E M pc al (e_j b :: e_j a :: st) h kc ks d Q :=
  e_num [e_j b, e_j a] [e_j z] rfl rfl (fun hx hb k => lv_lxor hx hb hd (by rw [hv]; exact k)) k
theorem e_ishl {a b z : Int} (hd : decode M.2.1 pc = .ok (.ishl, 1)) (hv : Int32.ofInt a <<< (Int32.ofInt b &&& 31) = Int32.ofInt z) (k : e_E M (pc + 1) al (e_i z :: st) h kc ks d Q) : e_E M pc al (e_i b :: e_i a :: st) h kc ks d Q :=
  e_num [e_i b, e_i a] [e_i z] rfl rfl (fun hx hb k => lv_ishl hx hb hd (by rw [hv]; exact k)) k
theorem e_lshl {a b z : Int} (hd : decode M.2.1 pc = .ok (.lshl, 1)) (hv : Int64.ofInt a <<< ((Int32.ofInt b).toInt64 &&& 63) = Int64.ofInt z) (k : e_E M (pc + 1) al (e_j z :: st) h kc ks d Q) : e_E M pc al (e_i b :: e_j a :: st) h kc ks d Q :=
  e_num [e_i b, e_j a] [e_j z] rfl rfl (fun hx hb k => lv_lshl hx hb hd hv k) k
theorem e_ishr {a b z : Int} (hd : decode M.2.1 pc = .ok (.ishr, 1)) (hv : Int32.ofInt a >>> (Int32.ofInt b &&& 31) = Int32.ofInt z) (k : e_E M (pc + 1) al (e_i z :: st) h kc ks d Q) : e_E M pc al (e_i b :: e_i a :: st) h kc ks d Q :=
  e_num [e_i b, e_i a] [e_i z] rfl rfl (fun hx hb k => lv_ishr hx hb hd (by rw [hv]; exact k)) k
theorem e_lshr {a b z : Int} (hd : decode M.2.1 pc = .ok (.lshr, 1)) (hv : Int64.ofInt a >>> ((Int32.ofInt b).toInt64 &&& 63) = Int64.ofInt z) (k : e_E M (pc + 1) al (e_j z :: st) h kc ks d Q) : e_E M pc al (e_i b :: e_j a :: st) h kc ks d Q :=
  e_num [e_i b, e_j a] [e_j z] rfl rfl (fun hx hb k => lv_lshr hx hb hd hv k) k
theorem e_iushr {a b z : Int} (hd : decode M.2.1 pc = .ok (.iushr, 1)) (hv : ((Int32.ofInt a).toUInt32 >>> ((Int32.ofInt b).toUInt32 &&& Int32.toUInt32 31)).toInt32 = Int32.ofInt z) (k : e_E M (pc + 1) al (e_i z :: st) h kc ks d Q) : e_E M pc al (e_i b :: e_i a :: st) h kc ks d Q :=
  e_num [e_i b, e_i a] [e_i z] rfl rfl (fun hx hb k => lv_iushr hx hb hd hv k) k
theorem e_lushr {a b z : Int} (hd : decode M.2.1 pc = .ok (.lushr, 1)) (hv : ((Int64.ofInt a).toUInt64 >>> ((Int32.ofInt b).toInt64.toUInt64 &&& Int64.toUInt64 63)).toInt64 = Int64.ofInt z) (k : e_E M (pc + 1) al (e_j z :: st) h kc ks d Q) : e_E M pc al (e_i b :: e_j a :: st) h kc ks d Q :=
  e_num [e_i b, e_j a] [e_j z] rfl rfl (fun hx hb k => lv_lushr hx hb hd hv k) k
theorem e_i2l_law {a : Int} (ha : e_rg a) : (Int32.ofInt a).toInt64 = Int64.ofInt a := by
  rw [← Int64.toInt_inj, Int32.toInt_toInt64, e_ti ha, e_tl ⟨by have := ha.1; omega, by have := ha.2; omega⟩]
theorem e_l2i_law (a : Int) : (Int64.ofInt a).toInt32 = Int32.ofInt a := by
  rw [← Int32.toInt_inj, Int64.toInt_toInt32, Int64.toInt_ofInt, Int32.toInt_ofInt]
  exact Int.bmod_bmod_of_dvd (by decide)
theorem e_i2l {a : Int} (hd : decode M.2.1 pc = .ok (.i2l, 1)) (ha : e_rg a) (k : e_E M (pc + 1) al (e_j a :: st) h kc ks d Q) : e_E M pc al (e_i a :: st) h kc ks d Q :=
  e_num [e_i a] [e_j a] rfl rfl (fun hx hb k => lv_i2l hx hb hd (e_i2l_law ha) k) k
theorem e_l2i {a : Int} (hd : decode M.2.1 pc = .ok (.l2i, 1)) (k : e_E M (pc + 1) al (e_i a :: st) h kc ks d Q) : e_E M pc al (e_j a :: st) h kc ks d Q :=
  e_num [e_j a] [e_i a] rfl rfl (fun hx hb k => lv_l2i hx hb hd (e_l2i_law a) k) k
theorem e_i2b {a z : Int} (hd : decode M.2.1 pc = .ok (.i2b, 1)) (hv : (Int32.ofInt a).toInt8.toInt32 = Int32.ofInt z) (k : e_E M (pc + 1) al (e_i z :: st) h kc ks d Q) : e_E M pc al (e_i a :: st) h kc ks d Q :=
  e_num [e_i a] [e_i z] rfl rfl (fun hx hb k => lv_i2b hx hb hd hv k) k
theorem e_i2s {a z : Int} (hd : decode M.2.1 pc = .ok (.i2s, 1)) (hv : (Int32.ofInt a).toInt16.toInt32 = Int32.ofInt z) (k : e_E M (pc + 1) al (e_i z :: st) h kc ks d Q) : e_E M pc al (e_i a :: st) h kc ks d Q :=
  e_num [e_i a] [e_i z] rfl rfl (fun hx hb k => lv_i2s hx hb hd hv k) k
theorem e_i2c {a z : Int} (hd : decode M.2.1 pc = .ok (.i2c, 1)) (hv : ((Int32.ofInt a).toUInt32 % 65536).toInt32 = Int32.ofInt z) (k : e_E M (pc + 1) al (e_i z :: st) h kc ks d Q) : e_E M pc al (e_i a :: st) h kc ks d Q :=
  e_num [e_i a] [e_i z] rfl rfl (fun hx hb k => lv_i2c hx hb hd hv k) k
theorem e_if_eq {a off : Int} {tgt : Nat} (hd : decode M.2.1 pc = .ok (.ifCond .eq off, 3)) (ht : (pc : Int) + off = (tgt : Int)) (ha : e_rg a) (k1 : a = 0 → e_E M tgt al st h kc ks d Q) (k2 : ¬ a = 0 → e_E M (pc + 3) al st h kc ks d Q) : e_E M pc al (e_i a :: st) h kc ks d Q :=
  e_num2 [e_i a] rfl (fun hx hb k1 k2 => lv_if_eq hx hb hd ht (fun q => k1 ((e_ieq ha e_rg0).mp q)) (fun q => k2 (fun z => q ((e_ieq ha e_rg0).mpr z)))) k1 k2
theorem e_icmp_eq {a b off : Int} {tgt : Nat} (hd : decode M.2.1 pc = .ok (.if_icmp .eq off, 3)) (ht : (pc : Int) + off = (tgt : Int)) (ha : e_rg a) (hb0 : e_rg b) (k1 : a = b → e_E M tgt al st h kc ks d Q) (k2 : ¬ a = b → e_E M (pc + 3) al st h kc ks d Q) : e_E M pc al (e_i b :: e_i a :: st) h kc ks d Q :=
  e_num2 [e_i b, e_i a] rfl (fun hx hb k1 k2 => lv_icmp_eq hx hb hd ht (fun q => k1 ((e_ieq ha hb0).mp q)) (fun q => k2 (fun z => q ((e_ieq ha hb0).mpr z)))) k1 k2
theorem e_if_ne {a off : Int} {tgt : Nat} (hd : decode M.2.1 pc = .ok (.ifCond .ne off, 3)) (ht : (pc : Int) + off = (tgt : Int)) (ha : e_rg a) (k1 : ¬ a = 0 → e_E M tgt al st h kc ks d Q) (k2 : a = 0 → e_E M (pc + 3) al st h kc ks d Q) : e_E M pc al (e_i a :: st) h kc ks d Q :=
  e_num2 [e_i a] rfl (fun hx hb k1 k2 => lv_if_ne hx hb hd ht (fun q => k1 (fun z => q ((e_ieq ha e_rg0).mpr z))) (fun q => k2 ((e_ieq ha e_rg0).mp q))) k1 k2
theorem e_icmp_ne {a b off : Int} {tgt : Nat} (hd : decode M.2.1 pc = .ok (.if_icmp .ne off, 3)) (ht : (pc : Int) + off = (tgt : Int)) (ha : e_rg a) (hb0 : e_rg b) (k1 : ¬ a = b → e_E M tgt al st h kc ks d Q) (k2 : a = b → e_E M (pc + 3) al st h kc ks d Q) : e_E M pc al (e_i b :: e_i a :: st) h kc ks d Q :=
  e_num2 [e_i b, e_i a] rfl (fun hx hb k1 k2 => lv_icmp_ne hx hb hd ht (fun q => k1 (fun z => q ((e_ieq ha hb0).mpr z))) (fun q => k2 ((e_ieq ha hb0).mp q))) k1 k2
theorem e_if_lt {a off : Int} {tgt : Nat} (hd : decode M.2.1 pc = .ok (.ifCond .lt off, 3)) (ht : (pc : Int) + off = (tgt : Int)) (ha : e_rg a) (k1 : a < 0 → e_E M tgt al st h kc ks d Q) (k2 : 0 ≤ a → e_E M (pc + 3) al st h kc ks d Q) : e_E M pc al (e_i a :: st) h kc ks d Q :=
  e_num2 [e_i a] rfl (fun hx hb k1 k2 => lv_if_lt hx hb hd ht (fun q => k1 ((e_ilt ha e_rg0).mp q)) (fun q => k2 (Int.not_lt.mp (fun z => q ((e_ilt ha e_rg0).mpr z))))) k1 k2
theorem e_icmp_lt {a b off : Int} {tgt : Nat} (hd : decode M.2.1 pc = .ok (.if_icmp .lt off, 3)) (ht : (pc : Int) + off = (tgt : Int)) (ha : e_rg a) (hb0 : e_rg b) (k1 : a < b → e_E M tgt al st h kc ks d Q) (k2 : b ≤ a → e_E M (pc + 3) al st h kc ks d Q) : e_E M pc al (e_i b :: e_i a :: st) h kc ks d Q :=
  e_num2 [e_i b, e_i a] rfl (fun hx hb k1 k2 => lv_icmp_lt hx hb hd ht (fun q => k1 ((e_ilt ha hb0).mp q)) (fun q => k2 (Int.not_lt.mp (fun z => q ((e_ilt ha hb0).mpr z))))) k1 k2
theorem e_if_ge {a off : Int} {tgt : Nat} (hd : decode M.2.1 pc = .ok (.ifCond .ge off, 3)) (ht : (pc : Int) + off = (tgt : Int)) (ha : e_rg a) (k1 : 0 ≤ a → e_E M tgt al st h kc ks d Q) (k2 : a < 0 → e_E M (pc + 3) al st h kc ks d Q) : e_E M pc al (e_i a :: st) h kc ks d Q :=
  e_num2 [e_i a] rfl (fun hx hb k1 k2 => lv_if_ge hx hb hd ht (fun q => k1 ((e_ile e_rg0 ha).mp q)) (fun q => k2 (Int.not_le.mp (fun z => q ((e_ile e_rg0 ha).mpr z))))) k1 k2
theorem e_icmp_ge {a b off : Int} {tgt : Nat} (hd : decode M.2.1 pc = .ok (.if_icmp .ge off, 3)) (ht : (pc : Int) + off = (tgt : Int)) (ha : e_rg a) (hb0 : e_rg b) (k1 : b ≤ a → e_E M tgt al st h kc ks d Q) (k2 : a < b → e_E M (pc + 3) al st h kc ks d Q) : e_E M pc al (e_i b :: e_i a :: st) h kc ks d Q :=
  e_num2 [e_i b, e_i a] rfl (fun hx hb k1 k2 => lv_icmp_ge hx hb hd ht (fun q => k1 ((e_ile hb0 ha).mp q)) (fun q => k2 (Int.not_le.mp (fun z => q ((e_ile hb0 ha).mpr z))))) k1 k2
theorem e_if_gt {a off : Int} {tgt : Nat} (hd : decode M.2.1 pc = .ok (.ifCond .gt off, 3)) (ht : (pc : Int) + off = (tgt : Int)) (ha : e_rg a) (k1 : 0 < a → e_E M tgt al st h kc ks d Q) (k2 : a ≤ 0 → e_E M (pc + 3) al st h kc ks d Q) : e_E M pc al (e_i a :: st) h kc ks d Q :=
  e_num2 [e_i a] rfl (fun hx hb k1 k2 => lv_if_gt hx hb hd ht (fun q => k1 ((e_ilt e_rg0 ha).mp q)) (fun q => k2 (Int.not_lt.mp (fun z => q ((e_ilt e_rg0 ha).mpr z))))) k1 k2
theorem e_icmp_gt {a b off : Int} {tgt : Nat} (hd : decode M.2.1 pc = .ok (.if_icmp .gt off, 3)) (ht : (pc : Int) + off = (tgt : Int)) (ha : e_rg a) (hb0 : e_rg b) (k1 : b < a → e_E M tgt al st h kc ks d Q) (k2 : a ≤ b → e_E M (pc + 3) al st h kc ks d Q) : e_E M pc al (e_i b :: e_i a :: st) h kc ks d Q :=
  e_num2 [e_i b, e_i a] rfl (fun hx hb k1 k2 => lv_icmp_gt hx hb hd ht (fun q => k1 ((e_ilt hb0 ha).mp q)) (fun q => k2 (Int.not_lt.mp (fun z => q ((e_ilt hb0 ha).mpr z))))) k1 k2
theorem e_if_le {a off : Int} {tgt : Nat} (hd : decode M.2.1 pc = .ok (.ifCond .le off, 3)) (ht : (pc : Int) + off = (tgt : Int)) (ha : e_rg a) (k1 : a ≤ 0 → e_E M tgt al st h kc ks d Q) (k2 : 0 < a → e_E M (pc + 3) al st h kc ks d Q) : e_E M pc al (e_i a :: st) h kc ks d Q :=
  e_num2 [e_i a] rfl (fun hx hb k1 k2 => lv_if_le hx hb hd ht (fun q => k1 ((e_ile ha e_rg0).mp q)) (fun q => k2 (Int.not_le.mp (fun z => q ((e_ile ha e_rg0).mpr z))))) k1 k2
theorem e_icmp_le {a b off : Int} {tgt : Nat} (hd : decode M.2.1 pc = .ok (.if_icmp .le off, 3)) (ht : (pc : Int) + off = (tgt : Int)) (ha : e_rg a) (hb0 : e_rg b) (k1 : a ≤ b → e_E M tgt al st h kc ks d Q) (k2 : b < a → e_E M (pc + 3) al st h kc ks d Q) : e_E M pc al (e_i b :: e_i a :: st) h kc ks d Q :=
  e_num2 [e_i b, e_i a] rfl (fun hx hb k1 k2 => lv_icmp_le hx hb hd ht (fun q => k1 ((e_ile ha hb0).mp q)) (fun q => k2 (Int.not_le.mp (fun z => q ((e_ile ha hb0).mpr z))))) k1 k2
theorem e_goto {off : Int} {tgt : Nat} (hd : decode M.2.1 pc = .ok (.goto off, 3)) (ht : (pc : Int) + off = (tgt : Int)) (k : e_E M tgt al st h kc ks d Q) : e_E M pc al st h kc ks d Q := by
  intro g p e R s m args below meth c R0 hA Rf H locs cells slots ls sr hS hl hv
  exact lv_goto hA.2.1 hA.2.2.1 hd ht (k g p e R s m args below meth c R0 hA Rf H locs cells slots ls sr hS hl hv)
theorem e_cmp_law {a b : Int} (ha : e_rl a) (hb : e_rl b) : lg_cmp (Int64.ofInt a) (Int64.ofInt b) = Int32.ofInt (if b < a then 1 else if a = b then 0 else -1) := by
  unfold lg_cmp
  simp only [e_llt hb ha, e_leq ha hb]
  by_cases h1 : b < a
  · rw [if_pos h1, if_pos h1]; rfl
  · rw [if_neg h1, if_neg h1]
    by_cases h2 : a = b
    · rw [if_pos h2, if_pos h2]; rfl
    · rw [if_neg h2, if_neg h2]; rfl
theorem e_lcmp {a b : Int} (hd : decode M.2.1 pc = .ok (.lcmp, 1)) (ha : e_rl a) (hb0 : e_rl b) (k : e_E M (pc + 1) al (e_i (if b < a then 1 else if a = b then 0 else -1) :: st) h kc ks d Q) : e_E M pc al (e_j b :: e_j a :: st) h kc ks d Q :=
  e_num [e_j b, e_j a] [e_i (if b < a then 1 else if a = b then 0 else -1)] rfl rfl (fun hx hb k => W.lcmp hx hb hd (by rw [e_cmp_law ha hb0]; exact k)) k
theorem e_lcmp_eq {a b off : Int} {tgt : Nat} (hd : decode M.2.1 pc = .ok (.lcmp, 1)) (hd2 : decode M.2.1 (pc + 1) = .ok (.ifCond .eq off, 3)) (ht : ((pc + 1 : Nat) : Int) + off = (tgt : Int)) (ha : e_rl a) (hb0 : e_rl b) (k1 : a = b → e_E M tgt al st h kc ks d Q) (k2 : ¬ a = b → e_E M (pc + 4) al st h kc ks d Q) : e_E M pc al (e_j b :: e_j a :: st) h kc ks d Q := by
  refine e_lcmp hd ha hb0 (e_if_eq hd2 ht ?_ (fun q => k1 ?_) (fun q => k2 ?_))
  · constructor <;> split <;> (try split) <;> decide
  · by_cases h1 : b < a
    · rw [if_pos h1] at q; omega
    · rw [if_neg h1] at q
      by_cases h2 : a = b
      · rw [if_pos h2] at q; omega
      · rw [if_neg h2] at q; omega
  · by_cases h1 : b < a
    · rw [if_pos h1] at q; omega
    · rw [if_neg h1] at q
      by_cases h2 : a = b
      · rw [if_pos h2] at q; omega
      · rw [if_neg h2] at q; omega
theorem e_lcmp_ne {a b off : Int} {tgt : Nat} (hd : decode M.2.1 pc = .ok (.lcmp, 1)) (hd2 : decode M.2.1 (pc + 1) = .ok (.ifCond .ne off, 3)) (ht : ((pc + 1 : Nat) : Int) + off = (tgt : Int)) (ha : e_rl a) (hb0 : e_rl b) (k1 : ¬ a = b → e_E M tgt al st h kc ks d Q) (k2 : a = b → e_E M (pc + 4) al st h kc ks d Q) : e_E M pc al (e_j b :: e_j a :: st) h kc ks d Q := by
  refine e_lcmp hd ha hb0 (e_if_ne hd2 ht ?_ (fun q => k1 ?_) (fun q => k2 ?_))
  · constructor <;> split <;> (try split) <;> decide
  · by_cases h1 : b < a
    · rw [if_pos h1] at q; omega
    · rw [if_neg h1] at q
      by_cases h2 : a = b
      · rw [if_pos h2] at q; omega
      · rw [if_neg h2] at q; omega
  · by_cases h1 : b < a
    · rw [if_pos h1] at q; omega
    · rw [if_neg h1] at q
      by_cases h2 : a = b
      · rw [if_pos h2] at q; omega
      · rw [if_neg h2] at q; omega
theorem e_lcmp_lt {a b off : Int} {tgt : Nat} (hd : decode M.2.1 pc = .ok (.lcmp, 1)) (hd2 : decode M.2.1 (pc + 1) = .ok (.ifCond .lt off, 3)) (ht : ((pc + 1 : Nat) : Int) + off = (tgt : Int)) (ha : e_rl a) (hb0 : e_rl b) (k1 : a < b → e_E M tgt al st h kc ks d Q) (k2 : b ≤ a → e_E M (pc + 4) al st h kc ks d Q) : e_E M pc al (e_j b :: e_j a :: st) h kc ks d Q := by
  refine e_lcmp hd ha hb0 (e_if_lt hd2 ht ?_ (fun q => k1 ?_) (fun q => k2 ?_))
  · constructor <;> split <;> (try split) <;> decide
  · by_cases h1 : b < a
    · rw [if_pos h1] at q; omega
    · rw [if_neg h1] at q
      by_cases h2 : a = b
      · rw [if_pos h2] at q; omega
      · rw [if_neg h2] at q; omega
  · by_cases h1 : b < a
    · rw [if_pos h1] at q; omega
    · rw [if_neg h1] at q
      by_cases h2 : a = b
      · rw [if_pos h2] at q; omega
      · rw [if_neg h2] at q; omega
theorem e_lcmp_ge {a b off : Int} {tgt : Nat} (hd : decode M.2.1 pc = .ok (.lcmp, 1)) (hd2 : decode M.2.1 (pc + 1) = .ok (.ifCond .ge off, 3)) (ht : ((pc + 1 : Nat) : Int) + off = (tgt : Int)) (ha : e_rl a) (hb0 : e_rl b) (k1 : b ≤ a → e_E M tgt al st h kc ks d Q) (k2 : a < b → e_E M (pc + 4) al st h kc ks d Q) : e_E M pc al (e_j b :: e_j a :: st) h kc ks d Q := by
  refine e_lcmp hd ha hb0 (e_if_ge hd2 ht ?_ (fun q => k1 ?_) (fun q => k2 ?_))
  · constructor <;> split <;> (try split) <;> decide
  · by_cases h1 : b < a
    · rw [if_pos h1] at q; omega
    · rw [if_neg h1] at q
      by_cases h2 : a = b
      · rw [if_pos h2] at q; omega
      · rw [if_neg h2] at q; omega
  · by_cases h1 : b < a
    · rw [if_pos h1] at q; omega
    · rw [if_neg h1] at q
      by_cases h2 : a = b
      · rw [if_pos h2] at q; omega
      · rw [if_neg h2] at q; omega
theorem e_lcmp_gt {a b off : Int} {tgt : Nat} (hd : decode M.2.1 pc = .ok (.lcmp, 1)) (hd2 : decode M.2.1 (pc + 1) = .ok (.ifCond .gt off, 3)) (ht : ((pc + 1 : Nat) : Int) + off = (tgt : Int)) (ha : e_rl a) (hb0 : e_rl b) (k1 : b < a → e_E M tgt al st h kc ks d Q) (k2 : a ≤ b → e_E M (pc + 4) al st h kc ks d Q) : e_E M pc al (e_j b :: e_j a :: st) h kc ks d Q := by
  refine e_lcmp hd ha hb0 (e_if_gt hd2 ht ?_ (fun q => k1 ?_) (fun q => k2 ?_))
  · constructor <;> split <;> (try split) <;> decide
  · by_cases h1 : b < a
    · rw [if_pos h1] at q; omega
    · rw [if_neg h1] at q
      by_cases h2 : a = b
      · rw [if_pos h2] at q; omega
      · rw [if_neg h2] at q; omega
  · by_cases h1 : b < a
    · rw [if_pos h1] at q; omega
    · rw [if_neg h1] at q
      by_cases h2 : a = b
      · rw [if_pos h2] at q; omega
      · rw [if_neg h2] at q; omega
theorem e_lcmp_le {a b off : Int} {tgt : Nat} (hd : decode M.2.1 pc = .ok (.lcmp, 1)) (hd2 : decode M.2.1 (pc + 1) = .ok (.ifCond .le off, 3)) (ht : ((pc + 1 : Nat) : Int) + off = (tgt : Int)) (ha : e_rl a) (hb0 : e_rl b) (k1 : a ≤ b → e_E M tgt al st h kc ks d Q) (k2 : b < a → e_E M (pc + 4) al st h kc ks d Q) : e_E M pc al (e_j b :: e_j a :: st) h kc ks d Q := by
  refine e_lcmp hd ha hb0 (e_if_le hd2 ht ?_ (fun q => k1 ?_) (fun q => k2 ?_))
  · constructor <;> split <;> (try split) <;> decide
  · by_cases h1 : b < a
    · rw [if_pos h1] at q; omega
    · rw [if_neg h1] at q
      by_cases h2 : a = b
      · rw [if_pos h2] at q; omega
      · rw [if_neg h2] at q; omega
  · by_cases h1 : b < a
    · rw [if_pos h1] at q; omega
    · rw [if_neg h1] at q
      by_cases h2 : a = b
      · rw [if_pos h2] at q; omega
      · rw [if_neg h2] at q; omega
/-- the stack's own rows -/
def e_c1 (v : Value) : Bool := match v with
  | .long _ => false
  | .double _ => false
  | _ => true
theorem e_c1_cat {v : Value} (hv : e_c1 v = true) : v.category = 1 := by
  cases v <;> first | rfl | exact absurd hv (by simp [e_c1])
theorem e_c1_of {g : e_G} {Rf : List Value} {H : Heap} {v w : Value} (hv : e_c1 v = true) (hH : e_H g Rf h H) (h1 : e_v Rf v w) : w.category = 1 := (e_v_cat (e_H_cat hH) h1).trans (e_c1_cat hv)
theorem e_dup {v : Value} (hd : decode M.2.1 pc = .ok (.dup, 1)) (hc : e_c1 v = true) (k : e_E M (pc + 1) al (v :: v :: st) h kc ks d Q) : e_E M pc al (v :: st) h kc ks d Q := by
  intro g p e R s m args below meth c R0 hA Rf H locs cells slots ls sr hS hl hv
  obtain ⟨b, bs, rfl, h1, h2⟩ := e_vs_c hv
  exact lv_dup hA.2.1 hA.2.2.1 hd (e_c1_of hc hS.2.1 h1) (k g p e R s m args below meth c R0 hA Rf H locs cells slots ls _ hS hl ⟨h1, h1, h2⟩)
theorem e_pop {v : Value} (hd : decode M.2.1 pc = .ok (.pop, 1)) (hc : e_c1 v = true) (k : e_E M (pc + 1) al st h kc ks d Q) : e_E M pc al (v :: st) h kc ks d Q := by
  intro g p e R s m args below meth c R0 hA Rf H locs cells slots ls sr hS hl hv
  obtain ⟨b, bs, rfl, h1, h2⟩ := e_vs_c hv
  exact lv_pop hA.2.1 hA.2.2.1 hd (e_c1_of hc hS.2.1 h1) (k g p e R s m args below meth c R0 hA Rf H locs cells slots ls _ hS hl h2)
theorem e_dup_x1 {v w : Value} (hd : decode M.2.1 pc = .ok (.dup_x1, 1)) (hc : e_c1 v = true) (hc2 : e_c1 w = true) (k : e_E M (pc + 1) al (v :: w :: v :: st) h kc ks d Q) : e_E M pc al (v :: w :: st) h kc ks d Q := by
  intro g p e R s m args below meth c R0 hA Rf H locs cells slots ls sr hS hl hv
  obtain ⟨b, bs, rfl, h1, h2⟩ := e_vs_c hv
  obtain ⟨b2, bs2, rfl, h3, h4⟩ := e_vs_c h2
  exact lv_dup_x1 hA.2.1 hA.2.2.1 hd (e_c1_of hc hS.2.1 h1) (e_c1_of hc2 hS.2.1 h3) (k g p e R s m args below meth c R0 hA Rf H locs cells slots ls _ hS hl ⟨h1, h3, h1, h4⟩)
theorem e_dup2 {v w : Value} (hd : decode M.2.1 pc = .ok (.dup2, 1)) (hc : e_c1 v = true) (hc2 : e_c1 w = true) (k : e_E M (pc + 1) al (v :: w :: v :: w :: st) h kc ks d Q) : e_E M pc al (v :: w :: st) h kc ks d Q := by
  intro g p e R s m args below meth c R0 hA Rf H locs cells slots ls sr hS hl hv
  obtain ⟨b, bs, rfl, h1, h2⟩ := e_vs_c hv
  obtain ⟨b2, bs2, rfl, h3, h4⟩ := e_vs_c h2
  exact lv_dup2_11 hA.2.1 hA.2.2.1 hd (e_c1_of hc hS.2.1 h1) (e_c1_of hc2 hS.2.1 h3) (k g p e R s m args below meth c R0 hA Rf H locs cells slots ls _ hS hl ⟨h1, h3, h1, h3, h4⟩)
/-- loads -/
theorem e_ls_at {g : e_G} {Rf : List Value} {n i : Nat} {ls : Array Slot} {v : Value} (hl : e_ls Rf n al ls) (hi : al[i]? = some v) (hv : v ≠ .retAddr 0) : ∃ w, ls[i]? = some (.val w) ∧ e_v Rf v w := hl.2.2.2 i v hi hv
theorem e_iload_n {k0 : Fin 4} {x : Int32} (hd : decode M.2.1 pc = .ok (.iload_n k0, 1)) (hi : al[(k0 : Nat)]? = some (.int x)) (k : e_E M (pc + 1) al (.int x :: st) h kc ks d Q) : e_E M pc al st h kc ks d Q := by
  intro g p e R s m args below meth c R0 hA Rf H locs cells slots ls sr hS hl hv
  obtain ⟨w, h1, h2⟩ := hl.2.2.2 _ _ hi (by intro q; cases q)
  cases h2
  exact lv_iload_n hA.2.1 hA.2.2.1 hd rfl h1 (k g p e R s m args below meth c R0 hA Rf H locs cells slots ls _ hS hl ⟨rfl, hv⟩)
theorem e_iload {i : Nat} {x : Int32} (hd : decode M.2.1 pc = .ok (.iload i, 2)) (hi : al[i]? = some (.int x)) (k : e_E M (pc + 2) al (.int x :: st) h kc ks d Q) : e_E M pc al st h kc ks d Q := by
  intro g p e R s m args below meth c R0 hA Rf H locs cells slots ls sr hS hl hv
  obtain ⟨w, h1, h2⟩ := hl.2.2.2 _ _ hi (by intro q; cases q)
  cases h2
  exact lv_iload hA.2.1 hA.2.2.1 hd h1 (k g p e R s m args below meth c R0 hA Rf H locs cells slots ls _ hS hl ⟨rfl, hv⟩)
theorem e_lload_n {k0 : Fin 4} {x : Int64} (hd : decode M.2.1 pc = .ok (.lload_n k0, 1)) (hi : al[(k0 : Nat)]? = some (.long x)) (k : e_E M (pc + 1) al (.long x :: st) h kc ks d Q) : e_E M pc al st h kc ks d Q := by
  intro g p e R s m args below meth c R0 hA Rf H locs cells slots ls sr hS hl hv
  obtain ⟨w, h1, h2⟩ := hl.2.2.2 _ _ hi (by intro q; cases q)
  cases h2
  exact lv_lload_n hA.2.1 hA.2.2.1 hd rfl h1 (k g p e R s m args below meth c R0 hA Rf H locs cells slots ls _ hS hl ⟨rfl, hv⟩)
theorem e_lload {i : Nat} {x : Int64} (hd : decode M.2.1 pc = .ok (.lload i, 2)) (hi : al[i]? = some (.long x)) (k : e_E M (pc + 2) al (.long x :: st) h kc ks d Q) : e_E M pc al st h kc ks d Q := by
  intro g p e R s m args below meth c R0 hA Rf H locs cells slots ls sr hS hl hv
  obtain ⟨w, h1, h2⟩ := hl.2.2.2 _ _ hi (by intro q; cases q)
  cases h2
  exact lv_lload hA.2.1 hA.2.2.1 hd h1 (k g p e R s m args below meth c R0 hA Rf H locs cells slots ls _ hS hl ⟨rfl, hv⟩)
theorem e_aload_n {k0 : Fin 4} {x : Nat} (hd : decode M.2.1 pc = .ok (.aload_n k0, 1)) (hi : al[(k0 : Nat)]? = some (.ref x)) (k : e_E M (pc + 1) al (.ref x :: st) h kc ks d Q) : e_E M pc al st h kc ks d Q := by
  intro g p e R s m args below meth c R0 hA Rf H locs cells slots ls sr hS hl hv
  obtain ⟨w, h1, h2⟩ := hl.2.2.2 _ _ hi (by intro q; cases q)
  have h3 := (e_o_cases (hS.2.1.2.2.2.2.2.1 x w h2))
  rcases h3 with rfl | ⟨a, rfl⟩
  · exact lv_aload_nN hA.2.1 hA.2.2.1 hd rfl h1 (k g p e R s m args below meth c R0 hA Rf H locs cells slots ls _ hS hl ⟨h2, hv⟩)
  · exact lv_aload_n hA.2.1 hA.2.2.1 hd rfl h1 (k g p e R s m args below meth c R0 hA Rf H locs cells slots ls _ hS hl ⟨h2, hv⟩)
theorem e_aload_nN {k0 : Fin 4} (hd : decode M.2.1 pc = .ok (.aload_n k0, 1)) (hi : al[(k0 : Nat)]? = some .null) (k : e_E M (pc + 1) al (.null :: st) h kc ks d Q) : e_E M pc al st h kc ks d Q := by
  intro g p e R s m args below meth c R0 hA Rf H locs cells slots ls sr hS hl hv
  obtain ⟨w, h1, h2⟩ := hl.2.2.2 _ _ hi (by intro q; cases q)
  cases h2
  exact lv_aload_nN hA.2.1 hA.2.2.1 hd rfl h1 (k g p e R s m args below meth c R0 hA Rf H locs cells slots ls _ hS hl ⟨rfl, hv⟩)
theorem e_aload {i : Nat} {x : Nat} (hd : decode M.2.1 pc = .ok (.aload i, 2)) (hi : al[i]? = some (.ref x)) (k : e_E M (pc + 2) al (.ref x :: st) h kc ks d Q) : e_E M pc al st h kc ks d Q := by
  intro g p e R s m args below meth c R0 hA Rf H locs cells slots ls sr hS hl hv
  obtain ⟨w, h1, h2⟩ := hl.2.2.2 _ _ hi (by intro q; cases q)
  have h3 := (e_o_cases (hS.2.1.2.2.2.2.2.1 x w h2))
  rcases h3 with rfl | ⟨a, rfl⟩
  · exact lv_aloadN hA.2.1 hA.2.2.1 hd h1 (k g p e R s m args below meth c R0 hA Rf H locs cells slots ls _ hS hl ⟨h2, hv⟩)
  · exact lv_aload hA.2.1 hA.2.2.1 hd h1 (k g p e R s m args below meth c R0 hA Rf H locs cells slots ls _ hS hl ⟨h2, hv⟩)
theorem e_aloadN {i : Nat} (hd : decode M.2.1 pc = .ok (.aload i, 2)) (hi : al[i]? = some .null) (k : e_E M (pc + 2) al (.null :: st) h kc ks d Q) : e_E M pc al st h kc ks d Q := by
  intro g p e R s m args below meth c R0 hA Rf H locs cells slots ls sr hS hl hv
  obtain ⟨w, h1, h2⟩ := hl.2.2.2 _ _ hi (by intro q; cases q)
  cases h2
  exact lv_aloadN hA.2.1 hA.2.2.1 hd h1 (k g p e R s m args below meth c R0 hA Rf H locs cells slots ls _ hS hl ⟨rfl, hv⟩)
/-- stores: the locals as the kit lists them -/
def e_lv (n : Nat) (ls : Array Slot) : List (Nat × Value) := (List.range n).filterMap (fun i => match (ls[i]? : Option Slot) with
  | some (Slot.val w) => some (i, w)
  | _ => none)
theorem e_lv_mem {n i : Nat} {ls : Array Slot} {w : Value} : (i, w) ∈ e_lv n ls ↔ i < n ∧ ls[i]? = some (.val w) := by
  unfold e_lv
  rw [List.mem_filterMap]
  constructor
  · rintro ⟨j, hj, h1⟩
    have hj := List.mem_range.mp hj
    split at h1
    · rename_i z hz
      cases h1
      exact ⟨hj, hz⟩
    · cases h1
  · rintro ⟨h1, h2⟩
    exact ⟨i, List.mem_range.mpr h1, by rw [h2]⟩
theorem e_lv_has {n : Nat} {ls : Array Slot} (hs : ls.size = n) (hw : lv_wf ls) : lv_has ls n (e_lv n ls) := ⟨hs, hw, fun q hq => (e_lv_mem.mp (show (q.1, q.2) ∈ e_lv n ls from hq)).2⟩
/-- the locals behind a store of one word at i -/
theorem e_ls_st1 {g : e_G} {Rf : List Value} {H : Heap} {n i : Nat} {v w : Value} {ls ls1 : Array Slot} (hH : e_H g Rf h H) (hl : e_ls Rf n al ls) (hc : ∀ j z, j + 1 = i → al[j]? = some z → e_c1 z = true) (hv : e_v Rf v w) (hh : lv_has ls1 n ((i, w) :: (e_lv n ls).filter (fun q => !(q.1 == i) && !(q.1 + 1 == i && q.2.category == 2)))) : e_ls Rf n (al.set i v) ls1 := by
  refine ⟨by simpa using hl.1, hh.1, hh.2.1, fun j z hj hz => ?_⟩
  by_cases hij : i = j
  · subst hij
    have hlt : i < al.length := by simpa using (List.getElem?_eq_some_iff.mp hj).1
    rw [List.getElem?_set_self hlt] at hj
    cases hj
    exact ⟨w, hh.2.2 _ List.mem_cons_self, hv⟩
  · rw [List.getElem?_set_ne hij] at hj
    obtain ⟨y, h1, h2⟩ := hl.2.2.2 j z hj hz
    refine ⟨y, hh.2.2 (j, y) (List.mem_cons_of_mem _ (List.mem_filter.mpr ⟨e_lv_mem.mpr ⟨by rw [← hl.1]; exact (List.getElem?_eq_some_iff.mp hj).1, h1⟩, ?_⟩)), h2⟩
    have h3 : (j == i) = false := by simpa using fun q => hij q.symm
    by_cases hji : j + 1 = i
    · have h4 := e_c1_of (hc j z hji hj) hH h2
      simp [h3, h4]
    · have h5 : (j + 1 == i) = false := by simpa using hji
      simp [h3, h5]
/-- .. of two words -/
theorem e_ls_st2 {g : e_G} {Rf : List Value} {H : Heap} {n i : Nat} {x : Int64} {ls ls1 : Array Slot} (hH : e_H g Rf h H) (hl : e_ls Rf n al ls) (hc : ∀ j z, j + 1 = i → al[j]? = some z → e_c1 z = true) (hh : lv_has ls1 n ((i, Value.long x) :: (e_lv n ls).filter (fun q => !(q.1 == i) && (!(q.1 == i + 1) && !(q.1 + 1 == i && q.2.category == 2))))) : e_ls Rf n ((al.set i (.long x)).set (i + 1) (.retAddr 0)) ls1 := by
  refine ⟨by simpa using hl.1, hh.1, hh.2.1, fun j z hj hz => ?_⟩
  by_cases hij1 : i + 1 = j
  · subst hij1
    have hlt : i + 1 < (al.set i (.long x)).length := by simpa using (List.getElem?_eq_some_iff.mp hj).1
    rw [List.getElem?_set_self hlt] at hj
    cases hj
    exact absurd rfl hz
  · rw [List.getElem?_set_ne hij1] at hj
    by_cases hij : i = j
    · subst hij
      have hlt : i < al.length := by simpa using (List.getElem?_eq_some_iff.mp hj).1
      rw [List.getElem?_set_self hlt] at hj
      cases hj
      exact ⟨.long x, hh.2.2 _ List.mem_cons_self, rfl⟩
    · rw [List.getElem?_set_ne hij] at hj
      obtain ⟨y, h1, h2⟩ := hl.2.2.2 j z hj hz
      refine ⟨y, hh.2.2 (j, y) (List.mem_cons_of_mem _ (List.mem_filter.mpr ⟨e_lv_mem.mpr ⟨by rw [← hl.1]; exact (List.getElem?_eq_some_iff.mp hj).1, h1⟩, ?_⟩)), h2⟩
      have h3 : (j == i) = false := by simpa using fun q => hij q.symm
      have h6 : (j == i + 1) = false := by simpa using fun q => hij1 q.symm
      by_cases hji : j + 1 = i
      · have h4 := e_c1_of (hc j z hji hj) hH h2
        simp [h3, h4, h6]
      · have h5 : (j + 1 == i) = false := by simpa using hji
        simp [h3, h5, h6]
theorem e_istore_nG {k0 : Fin 4} {x : Int32} (hd : decode M.2.1 pc = .ok (.istore_n k0, 1)) (hi : (k0 : Nat) < al.length) (hc : ∀ j z, j + 1 = (k0 : Nat) → al[j]? = some z → e_c1 z = true) (k : e_E M (pc + 1) (al.set (k0 : Nat) (.int x)) st h kc ks d Q) : e_E M pc al (.int x :: st) h kc ks d Q := by
  intro g p e R s m args below meth c R0 hA Rf H locs cells slots ls sr hS hl hv
  obtain ⟨b, bs, rfl, h1, h2⟩ := e_vs_c hv
  cases h1
  exact lv_istore_n hA.2.1 hA.2.2.1 hd rfl (e_lv_has hl.2.1 hl.2.2.1) (by rw [← hl.1]; exact hi) rfl (fun ls1 hh => k g p e R s m args below meth c R0 hA Rf H locs cells slots ls1 _ hS (e_ls_st1 hS.2.1 hl hc rfl hh) h2)
theorem e_istoreG {i : Nat} {x : Int32} (hd : decode M.2.1 pc = .ok (.istore i, 2)) (hi : i < al.length) (hc : ∀ j z, j + 1 = i → al[j]? = some z → e_c1 z = true) (k : e_E M (pc + 2) (al.set i (.int x)) st h kc ks d Q) : e_E M pc al (.int x :: st) h kc ks d Q := by
  intro g p e R s m args below meth c R0 hA Rf H locs cells slots ls sr hS hl hv
  obtain ⟨b, bs, rfl, h1, h2⟩ := e_vs_c hv
  cases h1
  exact lv_istore hA.2.1 hA.2.2.1 hd (e_lv_has hl.2.1 hl.2.2.1) (by rw [← hl.1]; exact hi) rfl (fun ls1 hh => k g p e R s m args below meth c R0 hA Rf H locs cells slots ls1 _ hS (e_ls_st1 hS.2.1 hl hc rfl hh) h2)
theorem e_astore_nG {k0 : Fin 4} {v : Value} (hd : decode M.2.1 pc = .ok (.astore_n k0, 1)) (hv9 : v = .null ∨ ∃ x, v = .ref x) (hi : (k0 : Nat) < al.length) (hc : ∀ j z, j + 1 = (k0 : Nat) → al[j]? = some z → e_c1 z = true) (k : e_E M (pc + 1) (al.set (k0 : Nat) v) st h kc ks d Q) : e_E M pc al (v :: st) h kc ks d Q := by
  intro g p e R s m args below meth c R0 hA Rf H locs cells slots ls sr hS hl hv
  obtain ⟨b, bs, rfl, h1, h2⟩ := e_vs_c hv
  have hb9 : b = .null ∨ ∃ a, b = .ref a := by
    rcases hv9 with rfl | ⟨x, rfl⟩
    · exact Or.inl h1
    · exact e_o_cases (hS.2.1.2.2.2.2.2.1 x b h1)
  rcases hb9 with rfl | ⟨a, rfl⟩
  · exact lv_astore_nN hA.2.1 hA.2.2.1 hd rfl (e_lv_has hl.2.1 hl.2.2.1) (by rw [← hl.1]; exact hi) rfl (fun ls1 hh => k g p e R s m args below meth c R0 hA Rf H locs cells slots ls1 _ hS (e_ls_st1 hS.2.1 hl hc h1 hh) h2)
  · exact lv_astore_n hA.2.1 hA.2.2.1 hd rfl (e_lv_has hl.2.1 hl.2.2.1) (by rw [← hl.1]; exact hi) rfl (fun ls1 hh => k g p e R s m args below meth c R0 hA Rf H locs cells slots ls1 _ hS (e_ls_st1 hS.2.1 hl hc h1 hh) h2)
theorem e_astoreG {i : Nat} {v : Value} (hd : decode M.2.1 pc = .ok (.astore i, 2)) (hv9 : v = .null ∨ ∃ x, v = .ref x) (hi : i < al.length) (hc : ∀ j z, j + 1 = i → al[j]? = some z → e_c1 z = true) (k : e_E M (pc + 2) (al.set i v) st h kc ks d Q) : e_E M pc al (v :: st) h kc ks d Q := by
  intro g p e R s m args below meth c R0 hA Rf H locs cells slots ls sr hS hl hv
  obtain ⟨b, bs, rfl, h1, h2⟩ := e_vs_c hv
  have hb9 : b = .null ∨ ∃ a, b = .ref a := by
    rcases hv9 with rfl | ⟨x, rfl⟩
    · exact Or.inl h1
    · exact e_o_cases (hS.2.1.2.2.2.2.2.1 x b h1)
  rcases hb9 with rfl | ⟨a, rfl⟩
  · exact lv_astoreN hA.2.1 hA.2.2.1 hd (e_lv_has hl.2.1 hl.2.2.1) (by rw [← hl.1]; exact hi) rfl (fun ls1 hh => k g p e R s m args below meth c R0 hA Rf H locs cells slots ls1 _ hS (e_ls_st1 hS.2.1 hl hc h1 hh) h2)
  · exact lv_astore hA.2.1 hA.2.2.1 hd (e_lv_has hl.2.1 hl.2.2.1) (by rw [← hl.1]; exact hi) rfl (fun ls1 hh => k g p e R s m args below meth c R0 hA Rf H locs cells slots ls1 _ hS (e_ls_st1 hS.2.1 hl hc h1 hh) h2)
theorem e_lstore_nG {k0 : Fin 4} {x : Int64} (hd : decode M.2.1 pc = .ok (.lstore_n k0, 1)) (hi : (k0 : Nat) + 1 < al.length) (hc : ∀ j z, j + 1 = (k0 : Nat) → al[j]? = some z → e_c1 z = true) (k : e_E M (pc + 1) ((al.set (k0 : Nat) (.long x)).set ((k0 : Nat) + 1) (.retAddr 0)) st h kc ks d Q) : e_E M pc al (.long x :: st) h kc ks d Q := by
  intro g p e R s m args below meth c R0 hA Rf H locs cells slots ls sr hS hl hv
  obtain ⟨b, bs, rfl, h1, h2⟩ := e_vs_c hv
  cases h1
  exact lv_lstore_n hA.2.1 hA.2.2.1 hd rfl (e_lv_has hl.2.1 hl.2.2.1) (by rw [← hl.1]; exact hi) rfl (fun ls1 hh => k g p e R s m args below meth c R0 hA Rf H locs cells slots ls1 _ hS (e_ls_st2 hS.2.1 hl hc hh) h2)
theorem e_lstoreG {i : Nat} {x : Int64} (hd : decode M.2.1 pc = .ok (.lstore i, 2)) (hi : i + 1 < al.length) (hc : ∀ j z, j + 1 = i → al[j]? = some z → e_c1 z = true) (k : e_E M (pc + 2) ((al.set i (.long x)).set (i + 1) (.retAddr 0)) st h kc ks d Q) : e_E M pc al (.long x :: st) h kc ks d Q := by
  intro g p e R s m args below meth c R0 hA Rf H locs cells slots ls sr hS hl hv
  obtain ⟨b, bs, rfl, h1, h2⟩ := e_vs_c hv
  cases h1
  exact lv_lstore hA.2.1 hA.2.2.1 hd (e_lv_has hl.2.1 hl.2.2.1) (by rw [← hl.1]; exact hi) rfl (fun ls1 hh => k g p e R s m args below meth c R0 hA Rf H locs cells slots ls1 _ hS (e_ls_st2 hS.2.1 hl hc hh) h2)
theorem e_iincG {i : Nat} {n a : Int} (hd : decode M.2.1 pc = .ok (.iinc i n, 3)) (hi : al[i]? = some (e_i a)) (hc : ∀ j z, j + 1 = i → al[j]? = some z → e_c1 z = true) (k : e_E M (pc + 3) (al.set i (e_i (a + n))) st h kc ks d Q) : e_E M pc al st h kc ks d Q := by
  intro g p e R s m args below meth c R0 hA Rf H locs cells slots ls sr hS hl hv
  obtain ⟨w, h1, h2⟩ := hl.2.2.2 _ _ hi (by intro q; cases q)
  cases h2
  have hlt : i < M.2.2.1 := by rw [← hl.1]; exact (List.getElem?_eq_some_iff.mp hi).1
  obtain ⟨k9, hk9⟩ := List.getElem?_of_mem (e_lv_mem.mpr ⟨hlt, h1⟩)
  exact lv_iinc hA.2.1 hA.2.2.1 hd (e_lv_has hl.2.1 hl.2.2.1) hk9 (Int32.ofInt_add a n).symm hlt rfl (fun ls1 hh => k g p e R s m args below meth c R0 hA Rf H locs cells slots ls1 _ hS (e_ls_st1 hS.2.1 hl hc rfl hh) hv)
theorem e_istore_n0 {a0 : Value} {t : List Value} {x : Int32} (hd : decode M.2.1 pc = .ok (.istore_n 0, 1)) (k : e_E M (pc + 1) (.int x :: t) st h kc ks d Q) : e_E M pc (a0 :: t) (.int x :: st) h kc ks d Q :=
  e_istore_nG hd (show 0 < (a0 :: t).length by simp only [List.length_cons]; omega) (fun j z hj _ => absurd (show j + 1 = 0 from hj) (by omega)) k
theorem e_astore_n0 {a0 : Value} {t : List Value} {x : Nat} (hd : decode M.2.1 pc = .ok (.astore_n 0, 1)) (k : e_E M (pc + 1) (.ref x :: t) st h kc ks d Q) : e_E M pc (a0 :: t) (.ref x :: st) h kc ks d Q :=
  e_astore_nG hd (Or.inr ⟨_, rfl⟩) (show 0 < (a0 :: t).length by simp only [List.length_cons]; omega) (fun j z hj _ => absurd (show j + 1 = 0 from hj) (by omega)) k
theorem e_astore_n0N {a0 : Value} {t : List Value} (hd : decode M.2.1 pc = .ok (.astore_n 0, 1)) (k : e_E M (pc + 1) (.null :: t) st h kc ks d Q) : e_E M pc (a0 :: t) (.null :: st) h kc ks d Q :=
  e_astore_nG hd (Or.inl rfl) (show 0 < (a0 :: t).length by simp only [List.length_cons]; omega) (fun j z hj _ => absurd (show j + 1 = 0 from hj) (by omega)) k
theorem e_lstore_n0 {a0 a1 : Value} {t : List Value} {x : Int64} (hd : decode M.2.1 pc = .ok (.lstore_n 0, 1)) (k : e_E M (pc + 1) (.long x :: .retAddr 0 :: t) st h kc ks d Q) : e_E M pc (a0 :: a1 :: t) (.long x :: st) h kc ks d Q :=
  e_lstore_nG hd (show 0 + 1 < (a0 :: a1 :: t).length by simp only [List.length_cons]; omega) (fun j z hj _ => absurd (show j + 1 = 0 from hj) (by omega)) k
theorem e_istore0 {a0 : Value} {t : List Value} {x : Int32} (hd : decode M.2.1 pc = .ok (.istore 0, 2)) (k : e_E M (pc + 2) (.int x :: t) st h kc ks d Q) : e_E M pc (a0 :: t) (.int x :: st) h kc ks d Q :=
  e_istoreG hd (show 0 < (a0 :: t).length by simp only [List.length_cons]; omega) (fun j z hj _ => absurd (show j + 1 = 0 from hj) (by omega)) k
theorem e_astore0 {a0 : Value} {t : List Value} {x : Nat} (hd : decode M.2.1 pc = .ok (.astore 0, 2)) (k : e_E M (pc + 2) (.ref x :: t) st h kc ks d Q) : e_E M pc (a0 :: t) (.ref x :: st) h kc ks d Q :=
  e_astoreG hd (Or.inr ⟨_, rfl⟩) (show 0 < (a0 :: t).length by simp only [List.length_cons]; omega) (fun j z hj _ => absurd (show j + 1 = 0 from hj) (by omega)) k
theorem e_astore0N {a0 : Value} {t : List Value} (hd : decode M.2.1 pc = .ok (.astore 0, 2)) (k : e_E M (pc + 2) (.null :: t) st h kc ks d Q) : e_E M pc (a0 :: t) (.null :: st) h kc ks d Q :=
  e_astoreG hd (Or.inl rfl) (show 0 < (a0 :: t).length by simp only [List.length_cons]; omega) (fun j z hj _ => absurd (show j + 1 = 0 from hj) (by omega)) k
theorem e_lstore0 {a0 a1 : Value} {t : List Value} {x : Int64} (hd : decode M.2.1 pc = .ok (.lstore 0, 2)) (k : e_E M (pc + 2) (.long x :: .retAddr 0 :: t) st h kc ks d Q) : e_E M pc (a0 :: a1 :: t) (.long x :: st) h kc ks d Q :=
  e_lstoreG hd (show 0 + 1 < (a0 :: a1 :: t).length by simp only [List.length_cons]; omega) (fun j z hj _ => absurd (show j + 1 = 0 from hj) (by omega)) k
theorem e_iinc0 {t : List Value} {a n : Int} (hd : decode M.2.1 pc = .ok (.iinc 0 n, 3)) (k : e_E M (pc + 3) (e_i (a + n) :: t) st h kc ks d Q) : e_E M pc (e_i a :: t) st h kc ks d Q :=
  e_iincG hd rfl (fun j z hj _ => absurd (show j + 1 = 0 from hj) (by omega)) k
theorem e_istore_n1 {a0 a1 : Value} {t : List Value} {x : Int32} (hd : decode M.2.1 pc = .ok (.istore_n 1, 1)) (hc : e_c1 a0 = true) (k : e_E M (pc + 1) (a0 :: .int x :: t) st h kc ks d Q) : e_E M pc (a0 :: a1 :: t) (.int x :: st) h kc ks d Q :=
  e_istore_nG hd (show 1 < (a0 :: a1 :: t).length by simp only [List.length_cons]; omega) (fun j z hj hz => by have hj2 : j + 1 = 1 := hj; have hj3 : j = 0 := (by omega); subst hj3; cases hz; exact hc) k
theorem e_astore_n1 {a0 a1 : Value} {t : List Value} {x : Nat} (hd : decode M.2.1 pc = .ok (.astore_n 1, 1)) (hc : e_c1 a0 = true) (k : e_E M (pc + 1) (a0 :: .ref x :: t) st h kc ks d Q) : e_E M pc (a0 :: a1 :: t) (.ref x :: st) h kc ks d Q :=
  e_astore_nG hd (Or.inr ⟨_, rfl⟩) (show 1 < (a0 :: a1 :: t).length by simp only [List.length_cons]; omega) (fun j z hj hz => by have hj2 : j + 1 = 1 := hj; have hj3 : j = 0 := (by omega); subst hj3; cases hz; exact hc) k
theorem e_astore_n1N {a0 a1 : Value} {t : List Value} (hd : decode M.2.1 pc = .ok (.astore_n 1, 1)) (hc : e_c1 a0 = true) (k : e_E M (pc + 1) (a0 :: .null :: t) st h kc ks d Q) : e_E M pc (a0 :: a1 :: t) (.null :: st) h kc ks d Q :=
  e_astore_nG hd (Or.inl rfl) (show 1 < (a0 :: a1 :: t).length by simp only [List.length_cons]; omega) (fun j z hj hz => by have hj2 : j + 1 = 1 := hj; have hj3 : j = 0 := (by omega); subst hj3; cases hz; exact hc) k
theorem e_lstore_n1 {a0 a1 a2 : Value} {t : List Value} {x : Int64} (hd : decode M.2.1 pc = .ok (.lstore_n 1, 1)) (hc : e_c1 a0 = true) (k : e_E M (pc + 1) (a0 :: .long x :: .retAddr 0 :: t) st h kc ks d Q) : e_E M pc (a0 :: a1 :: a2 :: t) (.long x :: st) h kc ks d Q :=
  e_lstore_nG hd (show 1 + 1 < (a0 :: a1 :: a2 :: t).length by simp only [List.length_cons]; omega) (fun j z hj hz => by have hj2 : j + 1 = 1 := hj; have hj3 : j = 0 := (by omega); subst hj3; cases hz; exact hc) k
theorem e_istore1 {a0 a1 : Value} {t : List Value} {x : Int32} (hd : decode M.2.1 pc = .ok (.istore 1, 2)) (hc : e_c1 a0 = true) (k : e_E M (pc + 2) (a0 :: .int x :: t) st h kc ks d Q) : e_E M pc (a0 :: a1 :: t) (.int x :: st) h kc ks d Q :=
  e_istoreG hd (show 1 < (a0 :: a1 :: t).length by simp only [List.length_cons]; omega) (fun j z hj hz => by have hj2 : j + 1 = 1 := hj; have hj3 : j = 0 := (by omega); subst hj3; cases hz; exact hc) k
theorem e_astore1 {a0 a1 : Value} {t : List Value} {x : Nat} (hd : decode M.2.1 pc = .ok (.astore 1, 2)) (hc : e_c1 a0 = true) (k : e_E M (pc + 2) (a0 :: .ref x :: t) st h kc ks d Q) : e_E M pc (a0 :: a1 :: t) (.ref x :: st) h kc ks d Q :=
  e_astoreG hd (Or.inr ⟨_, rfl⟩) (show 1 < (a0 :: a1 :: t).length by simp only [List.length_cons]; omega) (fun j z hj hz => by have hj2 : j + 1 = 1 := hj; have hj3 : j = 0 := (by omega); subst hj3; cases hz; exact hc) k
theorem e_astore1N {a0 a1 : Value} {t : List Value} (hd : decode M.2.1 pc = .ok (.astore 1, 2)) (hc : e_c1 a0 = true) (k : e_E M (pc + 2) (a0 :: .null :: t) st h kc ks d Q) : e_E M pc (a0 :: a1 :: t) (.null :: st) h kc ks d Q :=
  e_astoreG hd (Or.inl rfl) (show 1 < (a0 :: a1 :: t).length by simp only [List.length_cons]; omega) (fun j z hj hz => by have hj2 : j + 1 = 1 := hj; have hj3 : j = 0 := (by omega); subst hj3; cases hz; exact hc) k
theorem e_lstore1 {a0 a1 a2 : Value} {t : List Value} {x : Int64} (hd : decode M.2.1 pc = .ok (.lstore 1, 2)) (hc : e_c1 a0 = true) (k : e_E M (pc + 2) (a0 :: .long x :: .retAddr 0 :: t) st h kc ks d Q) : e_E M pc (a0 :: a1 :: a2 :: t) (.long x :: st) h kc ks d Q :=
  e_lstoreG hd (show 1 + 1 < (a0 :: a1 :: a2 :: t).length by simp only [List.length_cons]; omega) (fun j z hj hz => by have hj2 : j + 1 = 1 := hj; have hj3 : j = 0 := (by omega); subst hj3; cases hz; exact hc) k
theorem e_iinc1 {a0 : Value} {t : List Value} {a n : Int} (hd : decode M.2.1 pc = .ok (.iinc 1 n, 3)) (hc : e_c1 a0 = true) (k : e_E M (pc + 3) (a0 :: e_i (a + n) :: t) st h kc ks d Q) : e_E M pc (a0 :: e_i a :: t) st h kc ks d Q :=
  e_iincG hd rfl (fun j z hj hz => by have hj2 : j + 1 = 1 := hj; have hj3 : j = 0 := (by omega); subst hj3; cases hz; exact hc) k
theorem e_istore_n2 {a0 a1 a2 : Value} {t : List Value} {x : Int32} (hd : decode M.2.1 pc = .ok (.istore_n 2, 1)) (hc : e_c1 a1 = true) (k : e_E M (pc + 1) (a0 :: a1 :: .int x :: t) st h kc ks d Q) : e_E M pc (a0 :: a1 :: a2 :: t) (.int x :: st) h kc ks d Q :=
  e_istore_nG hd (show 2 < (a0 :: a1 :: a2 :: t).length by simp only [List.length_cons]; omega) (fun j z hj hz => by have hj2 : j + 1 = 2 := hj; have hj3 : j = 1 := (by omega); subst hj3; cases hz; exact hc) k
theorem e_astore_n2 {a0 a1 a2 : Value} {t : List Value} {x : Nat} (hd : decode M.2.1 pc = .ok (.astore_n 2, 1)) (hc : e_c1 a1 = true) (k : e_E M (pc + 1) (a0 :: a1 :: .ref x :: t) st h kc ks d Q) : e_E M pc (a0 :: a1 :: a2 :: t) (.ref x :: st) h kc ks d Q :=
  e_astore_nG hd (Or.inr ⟨_, rfl⟩) (show 2 < (a0 :: a1 :: a2 :: t).length by simp only [List.length_cons]; omega) (fun j z hj hz => by have hj2 : j + 1 = 2 := hj; have hj3 : j = 1 := (by omega); subst hj3; cases hz; exact hc) k
theorem e_astore_n2N {a0 a1 a2 : Value} {t : List Value} (hd : decode M.2.1 pc = .ok (.astore_n 2, 1)) (hc : e_c1 a1 = true) (k : e_E M (pc + 1) (a0 :: a1 :: .null :: t) st h kc ks d Q) : e_E M pc (a0 :: a1 :: a2 :: t) (.null :: st) h kc ks d Q :=
  e_astore_nG hd (Or.inl rfl) (show 2 < (a0 :: a1 :: a2 :: t).length by simp only [List.length_cons]; omega) (fun j z hj hz => by have hj2 : j + 1 = 2 := hj; have hj3 : j = 1 := (by omega); subst hj3; cases hz; exact hc) k
theorem e_lstore_n2 {a0 a1 a2 a3 : Value} {t : List Value} {x : Int64} (hd : decode M.2.1 pc = .ok (.lstore_n 2, 1)) (hc : e_c1 a1 = true) (k : e_E M (pc + 1) (a0 :: a1 :: .long x :: .retAddr 0 :: t) st h kc ks d Q) : e_E M pc (a0 :: a1 :: a2 :: a3 :: t) (.long x :: st) h kc ks d Q :=
  e_lstore_nG hd (show 2 + 1 < (a0 :: a1 :: a2 :: a3 :: t).length by simp only [List.length_cons]; omega) (fun j z hj hz => by have hj2 : j + 1 = 2 := hj; have hj3 : j = 1 := (by omega); subst hj3; cases hz; exact hc) k
theorem e_istore2 {a0 a1 a2 : Value} {t : List Value} {x : Int32} (hd : decode M.2.1 pc = .ok (.istore 2, 2)) (hc : e_c1 a1 = true) (k : e_E M (pc + 2) (a0 :: a1 :: .int x :: t) st h kc ks d Q) : e_E M pc (a0 :: a1 :: a2 :: t) (.int x :: st) h kc ks d Q :=
  e_istoreG hd (show 2 < (a0 :: a1 :: a2 :: t).length by simp only [List.length_cons]; omega) (fun j z hj hz => by have hj2 : j + 1 = 2 := hj; have hj3 : j = 1 := (by omega); subst hj3; cases hz; exact hc) k
theorem e_astore2 {a0 a1 a2 : Value} {t : List Value} {x : Nat} (hd : decode M.2.1 pc = .ok (.astore 2, 2)) (hc : e_c1 a1 = true) (k : e_E M (pc + 2) (a0 :: a1 :: .ref x :: t) st h kc ks d Q) : e_E M pc (a0 :: a1 :: a2 :: t) (.ref x :: st) h kc ks d Q :=
  e_astoreG hd (Or.inr ⟨_, rfl⟩) (show 2 < (a0 :: a1 :: a2 :: t).length by simp only [List.length_cons]; omega) (fun j z hj hz => by have hj2 : j + 1 = 2 := hj; have hj3 : j = 1 := (by omega); subst hj3; cases hz; exact hc) k
theorem e_astore2N {a0 a1 a2 : Value} {t : List Value} (hd : decode M.2.1 pc = .ok (.astore 2, 2)) (hc : e_c1 a1 = true) (k : e_E M (pc + 2) (a0 :: a1 :: .null :: t) st h kc ks d Q) : e_E M pc (a0 :: a1 :: a2 :: t) (.null :: st) h kc ks d Q :=
  e_astoreG hd (Or.inl rfl) (show 2 < (a0 :: a1 :: a2 :: t).length by simp only [List.length_cons]; omega) (fun j z hj hz => by have hj2 : j + 1 = 2 := hj; have hj3 : j = 1 := (by omega); subst hj3; cases hz; exact hc) k
theorem e_lstore2 {a0 a1 a2 a3 : Value} {t : List Value} {x : Int64} (hd : decode M.2.1 pc = .ok (.lstore 2, 2)) (hc : e_c1 a1 = true) (k : e_E M (pc + 2) (a0 :: a1 :: .long x :: .retAddr 0 :: t) st h kc ks d Q) : e_E M pc (a0 :: a1 :: a2 :: a3 :: t) (.long x :: st) h kc ks d Q :=
  e_lstoreG hd (show 2 + 1 < (a0 :: a1 :: a2 :: a3 :: t).length by simp only [List.length_cons]; omega) (fun j z hj hz => by have hj2 : j + 1 = 2 := hj; have hj3 : j = 1 := (by omega); subst hj3; cases hz; exact hc) k
theorem e_iinc2 {a0 a1 : Value} {t : List Value} {a n : Int} (hd : decode M.2.1 pc = .ok (.iinc 2 n, 3)) (hc : e_c1 a1 = true) (k : e_E M (pc + 3) (a0 :: a1 :: e_i (a + n) :: t) st h kc ks d Q) : e_E M pc (a0 :: a1 :: e_i a :: t) st h kc ks d Q :=
  e_iincG hd rfl (fun j z hj hz => by have hj2 : j + 1 = 2 := hj; have hj3 : j = 1 := (by omega); subst hj3; cases hz; exact hc) k
theorem e_istore_n3 {a0 a1 a2 a3 : Value} {t : List Value} {x : Int32} (hd : decode M.2.1 pc = .ok (.istore_n 3, 1)) (hc : e_c1 a2 = true) (k : e_E M (pc + 1) (a0 :: a1 :: a2 :: .int x :: t) st h kc ks d Q) : e_E M pc (a0 :: a1 :: a2 :: a3 :: t) (.int x :: st) h kc ks d Q :=
  e_istore_nG hd (show 3 < (a0 :: a1 :: a2 :: a3 :: t).length by simp only [List.length_cons]; omega) (fun j z hj hz => by have hj2 : j + 1 = 3 := hj; have hj3 : j = 2 := (by omega); subst hj3; cases hz; exact hc) k
theorem e_astore_n3 {a0 a1 a2 a3 : Value} {t : List Value} {x : Nat} (hd : decode M.2.1 pc = .ok (.astore_n 3, 1)) (hc : e_c1 a2 = true) (k : e_E M (pc + 1) (a0 :: a1 :: a2 :: .ref x :: t) st h kc ks d Q) : e_E M pc (a0 :: a1 :: a2 :: a3 :: t) (.ref x :: st) h kc ks d Q :=
  e_astore_nG hd (Or.inr ⟨_, rfl⟩) (show 3 < (a0 :: a1 :: a2 :: a3 :: t).length by simp only [List.length_cons]; omega) (fun j z hj hz => by have hj2 : j + 1 = 3 := hj; have hj3 : j = 2 := (by omega); subst hj3; cases hz; exact hc) k
theorem e_astore_n3N {a0 a1 a2 a3 : Value} {t : List Value} (hd : decode M.2.1 pc = .ok (.astore_n 3, 1)) (hc : e_c1 a2 = true) (k : e_E M (pc + 1) (a0 :: a1 :: a2 :: .null :: t) st h kc ks d Q) : e_E M pc (a0 :: a1 :: a2 :: a3 :: t) (.null :: st) h kc ks d Q :=
  e_astore_nG hd (Or.inl rfl) (show 3 < (a0 :: a1 :: a2 :: a3 :: t).length by simp only [List.length_cons]; omega) (fun j z hj hz => by have hj2 : j + 1 = 3 := hj; have hj3 : j = 2 := (by omega); subst hj3; cases hz; exact hc) k
theorem e_lstore_n3 {a0 a1 a2 a3 a4 : Value} {t : List Value} {x : Int64} (hd : decode M.2.1 pc = .ok (.lstore_n 3, 1)) (hc : e_c1 a2 = true) (k : e_E M (pc + 1) (a0 :: a1 :: a2 :: .long x :: .retAddr 0 :: t) st h kc ks d Q) : e_E M pc (a0 :: a1 :: a2 :: a3 :: a4 :: t) (.long x :: st) h kc ks d Q :=
  e_lstore_nG hd (show 3 + 1 < (a0 :: a1 :: a2 :: a3 :: a4 :: t).length by simp only [List.length_cons]; omega) (fun j z hj hz => by have hj2 : j + 1 = 3 := hj; have hj3 : j = 2 := (by omega); subst hj3; cases hz; exact hc) k
theorem e_istore3 {a0 a1 a2 a3 : Value} {t : List Value} {x : Int32} (hd : decode M.2.1 pc = .ok (.istore 3, 2)) (hc : e_c1 a2 = true) (k : e_E M (pc + 2) (a0 :: a1 :: a2 :: .int x :: t) st h kc ks d Q) : e_E M pc (a0 :: a1 :: a2 :: a3 :: t) (.int x :: st) h kc ks d Q :=
  e_istoreG hd (show 3 < (a0 :: a1 :: a2 :: a3 :: t).length by simp only [List.length_cons]; omega) (fun j z hj hz => by have hj2 : j + 1 = 3 := hj; have hj3 : j = 2 := (by omega); subst hj3; cases hz; exact hc) k
theorem e_astore3 {a0 a1 a2 a3 : Value} {t : List Value} {x : Nat} (hd : decode M.2.1 pc = .ok (.astore 3, 2)) (hc : e_c1 a2 = true) (k : e_E M (pc + 2) (a0 :: a1 :: a2 :: .ref x :: t) st h kc ks d Q) : e_E M pc (a0 :: a1 :: a2 :: a3 :: t) (.ref x :: st) h kc ks d Q :=
  e_astoreG hd (Or.inr ⟨_, rfl⟩) (show 3 < (a0 :: a1 :: a2 :: a3 :: t).length by simp only [List.length_cons]; omega) (fun j z hj hz => by have hj2 : j + 1 = 3 := hj; have hj3 : j = 2 := (by omega); subst hj3; cases hz; exact hc) k
theorem e_astore3N {a0 a1 a2 a3 : Value} {t : List Value} (hd : decode M.2.1 pc = .ok (.astore 3, 2)) (hc : e_c1 a2 = true) (k : e_E M (pc + 2) (a0 :: a1 :: a2 :: .null :: t) st h kc ks d Q) : e_E M pc (a0 :: a1 :: a2 :: a3 :: t) (.null :: st) h kc ks d Q :=
  e_astoreG hd (Or.inl rfl) (show 3 < (a0 :: a1 :: a2 :: a3 :: t).length by simp only [List.length_cons]; omega) (fun j z hj hz => by have hj2 : j + 1 = 3 := hj; have hj3 : j = 2 := (by omega); subst hj3; cases hz; exact hc) k
theorem e_lstore3 {a0 a1 a2 a3 a4 : Value} {t : List Value} {x : Int64} (hd : decode M.2.1 pc = .ok (.lstore 3, 2)) (hc : e_c1 a2 = true) (k : e_E M (pc + 2) (a0 :: a1 :: a2 :: .long x :: .retAddr 0 :: t) st h kc ks d Q) : e_E M pc (a0 :: a1 :: a2 :: a3 :: a4 :: t) (.long x :: st) h kc ks d Q :=
  e_lstoreG hd (show 3 + 1 < (a0 :: a1 :: a2 :: a3 :: a4 :: t).length by simp only [List.length_cons]; omega) (fun j z hj hz => by have hj2 : j + 1 = 3 := hj; have hj3 : j = 2 := (by omega); subst hj3; cases hz; exact hc) k
theorem e_iinc3 {a0 a1 a2 : Value} {t : List Value} {a n : Int} (hd : decode M.2.1 pc = .ok (.iinc 3 n, 3)) (hc : e_c1 a2 = true) (k : e_E M (pc + 3) (a0 :: a1 :: a2 :: e_i (a + n) :: t) st h kc ks d Q) : e_E M pc (a0 :: a1 :: a2 :: e_i a :: t) st h kc ks d Q :=
  e_iincG hd rfl (fun j z hj hz => by have hj2 : j + 1 = 3 := hj; have hj3 : j = 2 := (by omega); subst hj3; cases hz; exact hc) k
theorem e_istore4 {a0 a1 a2 a3 a4 : Value} {t : List Value} {x : Int32} (hd : decode M.2.1 pc = .ok (.istore 4, 2)) (hc : e_c1 a3 = true) (k : e_E M (pc + 2) (a0 :: a1 :: a2 :: a3 :: .int x :: t) st h kc ks d Q) : e_E M pc (a0 :: a1 :: a2 :: a3 :: a4 :: t) (.int x :: st) h kc ks d Q :=
  e_istoreG hd (show 4 < (a0 :: a1 :: a2 :: a3 :: a4 :: t).length by simp only [List.length_cons]; omega) (fun j z hj hz => by have hj2 : j + 1 = 4 := hj; have hj3 : j = 3 := (by omega); subst hj3; cases hz; exact hc) k
theorem e_astore4 {a0 a1 a2 a3 a4 : Value} {t : List Value} {x : Nat} (hd : decode M.2.1 pc = .ok (.astore 4, 2)) (hc : e_c1 a3 = true) (k : e_E M (pc + 2) (a0 :: a1 :: a2 :: a3 :: .ref x :: t) st h kc ks d Q) : e_E M pc (a0 :: a1 :: a2 :: a3 :: a4 :: t) (.ref x :: st) h kc ks d Q :=
  e_astoreG hd (Or.inr ⟨_, rfl⟩) (show 4 < (a0 :: a1 :: a2 :: a3 :: a4 :: t).length by simp only [List.length_cons]; omega) (fun j z hj hz => by have hj2 : j + 1 = 4 := hj; have hj3 : j = 3 := (by omega); subst hj3; cases hz; exact hc) k
theorem e_astore4N {a0 a1 a2 a3 a4 : Value} {t : List Value} (hd : decode M.2.1 pc = .ok (.astore 4, 2)) (hc : e_c1 a3 = true) (k : e_E M (pc + 2) (a0 :: a1 :: a2 :: a3 :: .null :: t) st h kc ks d Q) : e_E M pc (a0 :: a1 :: a2 :: a3 :: a4 :: t) (.null :: st) h kc ks d Q :=
  e_astoreG hd (Or.inl rfl) (show 4 < (a0 :: a1 :: a2 :: a3 :: a4 :: t).length by simp only [List.length_cons]; omega) (fun j z hj hz => by have hj2 : j + 1 = 4 := hj; have hj3 : j = 3 := (by omega); subst hj3; cases hz; exact hc) k
theorem e_lstore4 {a0 a1 a2 a3 a4 a5 : Value} {t : List Value} {x : Int64} (hd : decode M.2.1 pc = .ok (.lstore 4, 2)) (hc : e_c1 a3 = true) (k : e_E M (pc + 2) (a0 :: a1 :: a2 :: a3 :: .long x :: .retAddr 0 :: t) st h kc ks d Q) : e_E M pc (a0 :: a1 :: a2 :: a3 :: a4 :: a5 :: t) (.long x :: st) h kc ks d Q :=
  e_lstoreG hd (show 4 + 1 < (a0 :: a1 :: a2 :: a3 :: a4 :: a5 :: t).length by simp only [List.length_cons]; omega) (fun j z hj hz => by have hj2 : j + 1 = 4 := hj; have hj3 : j = 3 := (by omega); subst hj3; cases hz; exact hc) k
theorem e_iinc4 {a0 a1 a2 a3 : Value} {t : List Value} {a n : Int} (hd : decode M.2.1 pc = .ok (.iinc 4 n, 3)) (hc : e_c1 a3 = true) (k : e_E M (pc + 3) (a0 :: a1 :: a2 :: a3 :: e_i (a + n) :: t) st h kc ks d Q) : e_E M pc (a0 :: a1 :: a2 :: a3 :: e_i a :: t) st h kc ks d Q :=
  e_iincG hd rfl (fun j z hj hz => by have hj2 : j + 1 = 4 := hj; have hj3 : j = 3 := (by omega); subst hj3; cases hz; exact hc) k
theorem e_istore5 {a0 a1 a2 a3 a4 a5 : Value} {t : List Value} {x : Int32} (hd : decode M.2.1 pc = .ok (.istore 5, 2)) (hc : e_c1 a4 = true) (k : e_E M (pc + 2) (a0 :: a1 :: a2 :: a3 :: a4 :: .int x :: t) st h kc ks d Q) : e_E M pc (a0 :: a1 :: a2 :: a3 :: a4 :: a5 :: t) (.int x :: st) h kc ks d Q :=
  e_istoreG hd (show 5 < (a0 :: a1 :: a2 :: a3 :: a4 :: a5 :: t).length by simp only [List.length_cons]; omega) (fun j z hj hz => by have hj2 : j + 1 = 5 := hj; have hj3 : j = 4 := (by omega); subst hj3; cases hz; exact hc) k
theorem e_astore5 {a0 a1 a2 a3 a4 a5 : Value} {t : List Value} {x : Nat} (hd : decode M.2.1 pc = .ok (.astore 5, 2)) (hc : e_c1 a4 = true) (k : e_E M (pc + 2) (a0 :: a1 :: a2 :: a3 :: a4 :: .ref x :: t) st h kc ks d Q) : e_E M pc (a0 :: a1 :: a2 :: a3 :: a4 :: a5 :: t) (.ref x :: st) h kc ks d Q :=
  e_astoreG hd (Or.inr ⟨_, rfl⟩) (show 5 < (a0 :: a1 :: a2 :: a3 :: a4 :: a5 :: t).length by simp only [List.length_cons]; omega) (fun j z hj hz => by have hj2 : j + 1 = 5 := hj; have hj3 : j = 4 := (by omega); subst hj3; cases hz; exact hc) k
theorem e_astore5N {a0 a1 a2 a3 a4 a5 : Value} {t : List Value} (hd : decode M.2.1 pc = .ok (.astore 5, 2)) (hc : e_c1 a4 = true) (k : e_E M (pc + 2) (a0 :: a1 :: a2 :: a3 :: a4 :: .null :: t) st h kc ks d Q) : e_E M pc (a0 :: a1 :: a2 :: a3 :: a4 :: a5 :: t) (.null :: st) h kc ks d Q :=
  e_astoreG hd (Or.inl rfl) (show 5 < (a0 :: a1 :: a2 :: a3 :: a4 :: a5 :: t).length by simp only [List.length_cons]; omega) (fun j z hj hz => by have hj2 : j + 1 = 5 := hj; have hj3 : j = 4 := (by omega); subst hj3; cases hz; exact hc) k
theorem e_lstore5 {a0 a1 a2 a3 a4 a5 a6 : Value} {t : List Value} {x : Int64} (hd : decode M.2.1 pc = .ok (.lstore 5, 2)) (hc : e_c1 a4 = true) (k : e_E M (pc + 2) (a0 :: a1 :: a2 :: a3 :: a4 :: .long x :: .retAddr 0 :: t) st h kc ks d Q) : e_E M pc (a0 :: a1 :: a2 :: a3 :: a4 :: a5 :: a6 :: t) (.long x :: st) h kc ks d Q :=
  e_lstoreG hd (show 5 + 1 < (a0 :: a1 :: a2 :: a3 :: a4 :: a5 :: a6 :: t).length by simp only [List.length_cons]; omega) (fun j z hj hz => by have hj2 : j + 1 = 5 := hj; have hj3 : j = 4 := (by omega); subst hj3; cases hz; exact hc) k
theorem e_iinc5 {a0 a1 a2 a3 a4 : Value} {t : List Value} {a n : Int} (hd : decode M.2.1 pc = .ok (.iinc 5 n, 3)) (hc : e_c1 a4 = true) (k : e_E M (pc + 3) (a0 :: a1 :: a2 :: a3 :: a4 :: e_i (a + n) :: t) st h kc ks d Q) : e_E M pc (a0 :: a1 :: a2 :: a3 :: a4 :: e_i a :: t) st h kc ks d Q :=
  e_iincG hd rfl (fun j z hj hz => by have hj2 : j + 1 = 5 := hj; have hj3 : j = 4 := (by omega); subst hj3; cases hz; exact hc) k
theorem e_istore6 {a0 a1 a2 a3 a4 a5 a6 : Value} {t : List Value} {x : Int32} (hd : decode M.2.1 pc = .ok (.istore 6, 2)) (hc : e_c1 a5 = true) (k : e_E M (pc + 2) (a0 :: a1 :: a2 :: a3 :: a4 :: a5 :: .int x :: t) st h kc ks d Q) : e_E M pc (a0 :: a1 :: a2 :: a3 :: a4 :: a5 :: a6 :: t) (.int x :: st) h kc ks d Q :=
  e_istoreG hd (show 6 < (a0 :: a1 :: a2 :: a3 :: a4 :: a5 :: a6 :: t).length by simp only [List.length_cons]; omega) (fun j z hj hz => by have hj2 : j + 1 = 6 := hj; have hj3 : j = 5 := (by omega); subst hj3; cases hz; exact hc) k
theorem e_astore6 {a0 a1 a2 a3 a4 a5 a6 : Value} {t : List Value} {x : Nat} (hd : decode M.2.1 pc = .ok (.astore 6, 2)) (hc : e_c1 a5 = true) (k : e_E M (pc + 2) (a0 :: a1 :: a2 :: a3 :: a4 :: a5 :: .ref x :: t) st h kc ks d Q) : e_E M pc (a0 :: a1 :: a2 :: a3 :: a4 :: a5 :: a6 :: t) (.ref x :: st) h kc ks d Q :=
  e_astoreG hd (Or.inr ⟨_, rfl⟩) (show 6 < (a0 :: a1 :: a2 :: a3 :: a4 :: a5 :: a6 :: t).length by simp only [List.length_cons]; omega) (fun j z hj hz => by have hj2 : j + 1 = 6 := hj; have hj3 : j = 5 := (by omega); subst hj3; cases hz; exact hc) k
theorem e_astore6N {a0 a1 a2 a3 a4 a5 a6 : Value} {t : List Value} (hd : decode M.2.1 pc = .ok (.astore 6, 2)) (hc : e_c1 a5 = true) (k : e_E M (pc + 2) (a0 :: a1 :: a2 :: a3 :: a4 :: a5 :: .null :: t) st h kc ks d Q) : e_E M pc (a0 :: a1 :: a2 :: a3 :: a4 :: a5 :: a6 :: t) (.null :: st) h kc ks d Q :=
  e_astoreG hd (Or.inl rfl) (show 6 < (a0 :: a1 :: a2 :: a3 :: a4 :: a5 :: a6 :: t).length by simp only [List.length_cons]; omega) (fun j z hj hz => by have hj2 : j + 1 = 6 := hj; have hj3 : j = 5 := (by omega); subst hj3; cases hz; exact hc) k
theorem e_lstore6 {a0 a1 a2 a3 a4 a5 a6 a7 : Value} {t : List Value} {x : Int64} (hd : decode M.2.1 pc = .ok (.lstore 6, 2)) (hc : e_c1 a5 = true) (k : e_E M (pc + 2) (a0 :: a1 :: a2 :: a3 :: a4 :: a5 :: .long x :: .retAddr 0 :: t) st h kc ks d Q) : e_E M pc (a0 :: a1 :: a2 :: a3 :: a4 :: a5 :: a6 :: a7 :: t) (.long x :: st) h kc ks d Q :=
  e_lstoreG hd (show 6 + 1 < (a0 :: a1 :: a2 :: a3 :: a4 :: a5 :: a6 :: a7 :: t).length by simp only [List.length_cons]; omega) (fun j z hj hz => by have hj2 : j + 1 = 6 := hj; have hj3 : j = 5 := (by omega); subst hj3; cases hz; exact hc) k
theorem e_iinc6 {a0 a1 a2 a3 a4 a5 : Value} {t : List Value} {a n : Int} (hd : decode M.2.1 pc = .ok (.iinc 6 n, 3)) (hc : e_c1 a5 = true) (k : e_E M (pc + 3) (a0 :: a1 :: a2 :: a3 :: a4 :: a5 :: e_i (a + n) :: t) st h kc ks d Q) : e_E M pc (a0 :: a1 :: a2 :: a3 :: a4 :: a5 :: e_i a :: t) st h kc ks d Q :=
  e_iincG hd rfl (fun j z hj hz => by have hj2 : j + 1 = 6 := hj; have hj3 : j = 5 := (by omega); subst hj3; cases hz; exact hc) k
theorem e_istore7 {a0 a1 a2 a3 a4 a5 a6 a7 : Value} {t : List Value} {x : Int32} (hd : decode M.2.1 pc = .ok (.istore 7, 2)) (hc : e_c1 a6 = true) (k : e_E M (pc + 2) (a0 :: a1 :: a2 :: a3 :: a4 :: a5 :: a6 :: .int x :: t) st h kc ks d Q) : e_E M pc (a0 :: a1 :: a2 :: a3 :: a4 :: a5 :: a6 :: a7 :: t) (.int x :: st) h kc ks d Q :=
  e_istoreG hd (show 7 < (a0 :: a1 :: a2 :: a3 :: a4 :: a5 :: a6 :: a7 :: t).length by simp only [List.length_cons]; omega) (fun j z hj hz => by have hj2 : j + 1 = 7 := hj; have hj3 : j = 6 := (by omega); subst hj3; cases hz; exact hc) k
theorem e_astore7 {a0 a1 a2 a3 a4 a5 a6 a7 : Value} {t : List Value} {x : Nat} (hd : decode M.2.1 pc = .ok (.astore 7, 2)) (hc : e_c1 a6 = true) (k : e_E M (pc + 2) (a0 :: a1 :: a2 :: a3 :: a4 :: a5 :: a6 :: .ref x :: t) st h kc ks d Q) : e_E M pc (a0 :: a1 :: a2 :: a3 :: a4 :: a5 :: a6 :: a7 :: t) (.ref x :: st) h kc ks d Q :=
  e_astoreG hd (Or.inr ⟨_, rfl⟩) (show 7 < (a0 :: a1 :: a2 :: a3 :: a4 :: a5 :: a6 :: a7 :: t).length by simp only [List.length_cons]; omega) (fun j z hj hz => by have hj2 : j + 1 = 7 := hj; have hj3 : j = 6 := (by omega); subst hj3; cases hz; exact hc) k
theorem e_astore7N {a0 a1 a2 a3 a4 a5 a6 a7 : Value} {t : List Value} (hd : decode M.2.1 pc = .ok (.astore 7, 2)) (hc : e_c1 a6 = true) (k : e_E M (pc + 2) (a0 :: a1 :: a2 :: a3 :: a4 :: a5 :: a6 :: .null :: t) st h kc ks d Q) : e_E M pc (a0 :: a1 :: a2 :: a3 :: a4 :: a5 :: a6 :: a7 :: t) (.null :: st) h kc ks d Q :=
  e_astoreG hd (Or.inl rfl) (show 7 < (a0 :: a1 :: a2 :: a3 :: a4 :: a5 :: a6 :: a7 :: t).length by simp only [List.length_cons]; omega) (fun j z hj hz => by have hj2 : j + 1 = 7 := hj; have hj3 : j = 6 := (by omega); subst hj3; cases hz; exact hc) k
theorem e_lstore7 {a0 a1 a2 a3 a4 a5 a6 a7 a8 : Value} {t : List Value} {x : Int64} (hd : decode M.2.1 pc = .ok (.lstore 7, 2)) (hc : e_c1 a6 = true) (k : e_E M (pc + 2) (a0 :: a1 :: a2 :: a3 :: a4 :: a5 :: a6 :: .long x :: .retAddr 0 :: t) st h kc ks d Q) : e_E M pc (a0 :: a1 :: a2 :: a3 :: a4 :: a5 :: a6 :: a7 :: a8 :: t) (.long x :: st) h kc ks d Q :=
  e_lstoreG hd (show 7 + 1 < (a0 :: a1 :: a2 :: a3 :: a4 :: a5 :: a6 :: a7 :: a8 :: t).length by simp only [List.length_cons]; omega) (fun j z hj hz => by have hj2 : j + 1 = 7 := hj; have hj3 : j = 6 := (by omega); subst hj3; cases hz; exact hc) k
theorem e_iinc7 {a0 a1 a2 a3 a4 a5 a6 : Value} {t : List Value} {a n : Int} (hd : decode M.2.1 pc = .ok (.iinc 7 n, 3)) (hc : e_c1 a6 = true) (k : e_E M (pc + 3) (a0 :: a1 :: a2 :: a3 :: a4 :: a5 :: a6 :: e_i (a + n) :: t) st h kc ks d Q) : e_E M pc (a0 :: a1 :: a2 :: a3 :: a4 :: a5 :: a6 :: e_i a :: t) st h kc ks d Q :=
  e_iincG hd rfl (fun j z hj hz => by have hj2 : j + 1 = 7 := hj; have hj3 : j = 6 := (by omega); subst hj3; cases hz; exact hc) k
theorem e_istore8 {a0 a1 a2 a3 a4 a5 a6 a7 a8 : Value} {t : List Value} {x : Int32} (hd : decode M.2.1 pc = .ok (.istore 8, 2)) (hc : e_c1 a7 = true) (k : e_E M (pc + 2) (a0 :: a1 :: a2 :: a3 :: a4 :: a5 :: a6 :: a7 :: .int x :: t) st h kc ks d Q) : e_E M pc (a0 :: a1 :: a2 :: a3 :: a4 :: a5 :: a6 :: a7 :: a8 :: t) (.int x :: st) h kc ks d Q :=
  e_istoreG hd (show 8 < (a0 :: a1 :: a2 :: a3 :: a4 :: a5 :: a6 :: a7 :: a8 :: t).length by simp only [List.length_cons]; omega) (fun j z hj hz => by have hj2 : j + 1 = 8 := hj; have hj3 : j = 7 := (by omega); subst hj3; cases hz; exact hc) k
theorem e_astore8 {a0 a1 a2 a3 a4 a5 a6 a7 a8 : Value} {t : List Value} {x : Nat} (hd : decode M.2.1 pc = .ok (.astore 8, 2)) (hc : e_c1 a7 = true) (k : e_E M (pc + 2) (a0 :: a1 :: a2 :: a3 :: a4 :: a5 :: a6 :: a7 :: .ref x :: t) st h kc ks d Q) : e_E M pc (a0 :: a1 :: a2 :: a3 :: a4 :: a5 :: a6 :: a7 :: a8 :: t) (.ref x :: st) h kc ks d Q :=
  e_astoreG hd (Or.inr ⟨_, rfl⟩) (show 8 < (a0 :: a1 :: a2 :: a3 :: a4 :: a5 :: a6 :: a7 :: a8 :: t).length by simp only [List.length_cons]; omega) (fun j z hj hz => by have hj2 : j + 1 = 8 := hj; have hj3 : j = 7 := (by omega); subst hj3; cases hz; exact hc) k
theorem e_astore8N {a0 a1 a2 a3 a4 a5 a6 a7 a8 : Value} {t : List Value} (hd : decode M.2.1 pc = .ok (.astore 8, 2)) (hc : e_c1 a7 = true) (k : e_E M (pc + 2) (a0 :: a1 :: a2 :: a3 :: a4 :: a5 :: a6 :: a7 :: .null :: t) st h kc ks d Q) : e_E M pc (a0 :: a1 :: a2 :: a3 :: a4 :: a5 :: a6 :: a7 :: a8 :: t) (.null :: st) h kc ks d Q :=
  e_astoreG hd (Or.inl rfl) (show 8 < (a0 :: a1 :: a2 :: a3 :: a4 :: a5 :: a6 :: a7 :: a8 :: t).length by simp only [List.length_cons]; omega) (fun j z hj hz => by have hj2 : j + 1 = 8 := hj; have hj3 : j = 7 := (by omega); subst hj3; cases hz; exact hc) k
theorem e_lstore8 {a0 a1 a2 a3 a4 a5 a6 a7 a8 a9 : Value} {t : List Value} {x : Int64} (hd : decode M.2.1 pc = .ok (.lstore 8, 2)) (hc : e_c1 a7 = true) (k : e_E M (pc + 2) (a0 :: a1 :: a2 :: a3 :: a4 :: a5 :: a6 :: a7 :: .long x :: .retAddr 0 :: t) st h kc ks d Q) : e_E M pc (a0 :: a1 :: a2 :: a3 :: a4 :: a5 :: a6 :: a7 :: a8 :: a9 :: t) (.long x :: st) h kc ks d Q :=
  e_lstoreG hd (show 8 + 1 < (a0 :: a1 :: a2 :: a3 :: a4 :: a5 :: a6 :: a7 :: a8 :: a9 :: t).length by simp only [List.length_cons]; omega) (fun j z hj hz => by have hj2 : j + 1 = 8 := hj; have hj3 : j = 7 := (by omega); subst hj3; cases hz; exact hc) k
theorem e_iinc8 {a0 a1 a2 a3 a4 a5 a6 a7 : Value} {t : List Value} {a n : Int} (hd : decode M.2.1 pc = .ok (.iinc 8 n, 3)) (hc : e_c1 a7 = true) (k : e_E M (pc + 3) (a0 :: a1 :: a2 :: a3 :: a4 :: a5 :: a6 :: a7 :: e_i (a + n) :: t) st h kc ks d Q) : e_E M pc (a0 :: a1 :: a2 :: a3 :: a4 :: a5 :: a6 :: a7 :: e_i a :: t) st h kc ks d Q :=
  e_iincG hd rfl (fun j z hj hz => by have hj2 : j + 1 = 8 := hj; have hj3 : j = 7 := (by omega); subst hj3; cases hz; exact hc) k
theorem e_istore9 {a0 a1 a2 a3 a4 a5 a6 a7 a8 a9 : Value} {t : List Value} {x : Int32} (hd : decode M.2.1 pc = .ok (.istore 9, 2)) (hc : e_c1 a8 = true) (k : e_E M (pc + 2) (a0 :: a1 :: a2 :: a3 :: a4 :: a5 :: a6 :: a7 :: a8 :: .int x :: t) st h kc ks d Q) : e_E M pc (a0 :: a1 :: a2 :: a3 :: a4 :: a5 :: a6 :: a7 :: a8 :: a9 :: t) (.int x :: st) h kc ks d Q :=
  e_istoreG hd (show 9 < (a0 :: a1 :: a2 :: a3 :: a4 :: a5 :: a6 :: a7 :: a8 :: a9 :: t).length by simp only [List.length_cons]; omega) (fun j z hj hz => by have hj2 : j + 1 = 9 := hj; have hj3 : j = 8 := (by omega); subst hj3; cases hz; exact hc) k
theorem e_astore9 {a0 a1 a2 a3 a4 a5 a6 a7 a8 a9 : Value} {t : List Value} {x : Nat} (hd : decode M.2.1 pc = .ok (.astore 9, 2)) (hc : e_c1 a8 = true) (k : e_E M (pc + 2) (a0 :: a1 :: a2 :: a3 :: a4 :: a5 :: a6 :: a7 :: a8 :: .ref x :: t) st h kc ks d Q) : e_E M pc (a0 :: a1 :: a2 :: a3 :: a4 :: a5 :: a6 :: a7 :: a8 :: a9 :: t) (.ref x :: st) h kc ks d Q :=
  e_astoreG hd (Or.inr ⟨_, rfl⟩) (show 9 < (a0 :: a1 :: a2 :: a3 :: a4 :: a5 :: a6 :: a7 :: a8 :: a9 :: t).length by simp only [List.length_cons]; omega) (fun j z hj hz => by have hj2 : j + 1 = 9 := hj; have hj3 : j = 8 := (by omega); subst hj3; cases hz; exact hc) k
theorem e_astore9N {a0 a1 a2 a3 a4 a5 a6 a7 a8 a9 : Value} {t : List Value} (hd : decode M.2.1 pc = .ok (.astore 9, 2)) (hc : e_c1 a8 = true) (k : e_E M (pc + 2) (a0 :: a1 :: a2 :: a3 :: a4 :: a5 :: a6 :: a7 :: a8 :: .null :: t) st h kc ks d Q) : e_E M pc (a0 :: a1 :: a2 :: a3 :: a4 :: a5 :: a6 :: a7 :: a8 :: a9 :: t) (.null :: st) h kc ks d Q :=
  e_astoreG hd (Or.inl rfl) (show 9 < (a0 :: a1 :: a2 :: a3 :: a4 :: a5 :: a6 :: a7 :: a8 :: a9 :: t).length by simp only [List.length_cons]; omega) (fun j z hj hz => by have hj2 : j + 1 = 9 := hj; have hj3 : j = 8 := (by omega); subst hj3; cases hz; exact hc) k
theorem e_lstore9 {a0 a1 a2 a3 a4 a5 a6 a7 a8 a9 a10 : Value} {t : List Value} {x : Int64} (hd : decode M.2.1 pc = .ok (.lstore 9, 2)) (hc : e_c1 a8 = true) (k : e_E M (pc + 2) (a0 :: a1 :: a2 :: a3 :: a4 :: a5 :: a6 :: a7 :: a8 :: .long x :: .retAddr 0 :: t) st h kc ks d Q) : e_E M pc (a0 :: a1 :: a2 :: a3 :: a4 :: a5 :: a6 :: a7 :: a8 :: a9 :: a10 :: t) (.long x :: st) h kc ks d Q :=
  e_lstoreG hd (show 9 + 1 < (a0 :: a1 :: a2 :: a3 :: a4 :: a5 :: a6 :: a7 :: a8 :: a9 :: a10 :: t).length by simp only [List.length_cons]; omega) (fun j z hj hz => by have hj2 : j + 1 = 9 := hj; have hj3 : j = 8 := (by omega); subst hj3; cases hz; exact hc) k
theorem e_iinc9 {a0 a1 a2 a3 a4 a5 a6 a7 a8 : Value} {t : List Value} {a n : Int} (hd : decode M.2.1 pc = .ok (.iinc 9 n, 3)) (hc : e_c1 a8 = true) (k : e_E M (pc + 3) (a0 :: a1 :: a2 :: a3 :: a4 :: a5 :: a6 :: a7 :: a8 :: e_i (a + n) :: t) st h kc ks d Q) : e_E M pc (a0 :: a1 :: a2 :: a3 :: a4 :: a5 :: a6 :: a7 :: a8 :: e_i a :: t) st h kc ks d Q :=
  e_iincG hd rfl (fun j z hj hz => by have hj2 : j + 1 = 9 := hj; have hj3 : j = 8 := (by omega); subst hj3; cases hz; exact hc) k
theorem e_istore10 {a0 a1 a2 a3 a4 a5 a6 a7 a8 a9 a10 : Value} {t : List Value} {x : Int32} (hd : decode M.2.1 pc = .ok (.istore 10, 2)) (hc : e_c1 a9 = true) (k : e_E M (pc + 2) (a0 :: a1 :: a2 :: a3 :: a4 :: a5 :: a6 :: a7 :: a8 :: a9 :: .int x :: t) st h kc ks d Q) : e_E M pc (a0 :: a1 :: a2 :: a3 :: a4 :: a5 :: a6 :: a7 :: a8 :: a9 :: a10 :: t) (.int x :: st) h kc ks d Q :=
  e_istoreG hd (show 10 < (a0 :: a1 :: a2 :: a3 :: a4 :: a5 :: a6 :: a7 :: a8 :: a9 :: a10 :: t).length by simp only [List.length_cons]; omega) (fun j z hj hz => by have hj2 : j + 1 = 10 := hj; have hj3 : j = 9 := (by omega); subst hj3; cases hz; exact hc) k
theorem e_astore10 {a0 a1 a2 a3 a4 a5 a6 a7 a8 a9 a10 : Value} {t : List Value} {x : Nat} (hd : decode M.2.1 pc = .ok (.astore 10, 2)) (hc : e_c1 a9 = true) (k : e_E M (pc + 2) (a0 :: a1 :: a2 :: a3 :: a4 :: a5 :: a6 :: a7 :: a8 :: a9 :: .ref x :: t) st h kc ks d Q) : e_E M pc (a0 :: a1 :: a2 :: a3 :: a4 :: a5 :: a6 :: a7 :: a8 :: a9 :: a10 :: t) (.ref x :: st) h kc ks d Q :=
  e_astoreG hd (Or.inr ⟨_, rfl⟩) (show 10 < (a0 :: a1 :: a2 :: a3 :: a4 :: a5 :: a6 :: a7 :: a8 :: a9 :: a10 :: t).length by simp only [List.length_cons]; omega) (fun j z hj hz => by have hj2 : j + 1 = 10 := hj; have hj3 : j = 9 := (by omega); subst hj3; cases hz; exact hc) k
theorem e_astore10N {a0 a1 a2 a3 a4 a5 a6 a7 a8 a9 a10 : Value} {t : List Value} (hd : decode M.2.1 pc = .ok (.astore 10, 2)) (hc : e_c1 a9 = true) (k : e_E M (pc + 2) (a0 :: a1 :: a2 :: a3 :: a4 :: a5 :: a6 :: a7 :: a8 :: a9 :: .null :: t) st h kc ks d Q) : e_E M pc (a0 :: a1 :: a2 :: a3 :: a4 :: a5 :: a6 :: a7 :: a8 :: a9 :: a10 :: t) (.null :: st) h kc ks d Q :=
  e_astoreG hd (Or.inl rfl) (show 10 < (a0 :: a1 :: a2 :: a3 :: a4 :: a5 :: a6 :: a7 :: a8 :: a9 :: a10 :: t).length by simp only [List.length_cons]; omega) (fun j z hj hz => by have hj2 : j + 1 = 10 := hj; have hj3 : j = 9 := (by omega); subst hj3; cases hz; exact hc) k
theorem e_lstore10 {a0 a1 a2 a3 a4 a5 a6 a7 a8 a9 a10 a11 : Value} {t : List Value} {x : Int64} (hd : decode M.2.1 pc = .ok (.lstore 10, 2)) (hc : e_c1 a9 = true) (k : e_E M (pc + 2) (a0 :: a1 :: a2 :: a3 :: a4 :: a5 :: a6 :: a7 :: a8 :: a9 :: .long x :: .retAddr 0 :: t) st h kc ks d Q) : e_E M pc (a0 :: a1 :: a2 :: a3 :: a4 :: a5 :: a6 :: a7 :: a8 :: a9 :: a10 :: a11 :: t) (.long x :: st) h kc ks d Q :=
  e_lstoreG hd (show 10 + 1 < (a0 :: a1 :: a2 :: a3 :: a4 :: a5 :: a6 :: a7 :: a8 :: a9 :: a10 :: a11 :: t).length by simp only [List.length_cons]; omega) (fun j z hj hz => by have hj2 : j + 1 = 10 := hj; have hj3 : j = 9 := (by omega); subst hj3; cases hz; exact hc) k
theorem e_iinc10 {a0 a1 a2 a3 a4 a5 a6 a7 a8 a9 : Value} {t : List Value} {a n : Int} (hd : decode M.2.1 pc = .ok (.iinc 10 n, 3)) (hc : e_c1 a9 = true) (k : e_E M (pc + 3) (a0 :: a1 :: a2 :: a3 :: a4 :: a5 :: a6 :: a7 :: a8 :: a9 :: e_i (a + n) :: t) st h kc ks d Q) : e_E M pc (a0 :: a1 :: a2 :: a3 :: a4 :: a5 :: a6 :: a7 :: a8 :: a9 :: e_i a :: t) st h kc ks d Q :=
  e_iincG hd rfl (fun j z hj hz => by have hj2 : j + 1 = 10 := hj; have hj3 : j = 9 := (by omega); subst hj3; cases hz; exact hc) k
theorem e_istore11 {a0 a1 a2 a3 a4 a5 a6 a7 a8 a9 a10 a11 : Value} {t : List Value} {x : Int32} (hd : decode M.2.1 pc = .ok (.istore 11, 2)) (hc : e_c1 a10 = true) (k : e_E M (pc + 2) (a0 :: a1 :: a2 :: a3 :: a4 :: a5 :: a6 :: a7 :: a8 :: a9 :: a10 :: .int x :: t) st h kc ks d Q) : e_E M pc (a0 :: a1 :: a2 :: a3 :: a4 :: a5 :: a6 :: a7 :: a8 :: a9 :: a10 :: a11 :: t) (.int x :: st) h kc ks d Q :=
  e_istoreG hd (show 11 < (a0 :: a1 :: a2 :: a3 :: a4 :: a5 :: a6 :: a7 :: a8 :: a9 :: a10 :: a11 :: t).length by simp only [List.length_cons]; omega) (fun j z hj hz => by have hj2 : j + 1 = 11 := hj; have hj3 : j = 10 := (by omega); subst hj3; cases hz; exact hc) k
theorem e_astore11 {a0 a1 a2 a3 a4 a5 a6 a7 a8 a9 a10 a11 : Value} {t : List Value} {x : Nat} (hd : decode M.2.1 pc = .ok (.astore 11, 2)) (hc : e_c1 a10 = true) (k : e_E M (pc + 2) (a0 :: a1 :: a2 :: a3 :: a4 :: a5 :: a6 :: a7 :: a8 :: a9 :: a10 :: .ref x :: t) st h kc ks d Q) : e_E M pc (a0 :: a1 :: a2 :: a3 :: a4 :: a5 :: a6 :: a7 :: a8 :: a9 :: a10 :: a11 :: t) (.ref x :: st) h kc ks d Q :=
  e_astoreG hd (Or.inr ⟨_, rfl⟩) (show 11 < (a0 :: a1 :: a2 :: a3 :: a4 :: a5 :: a6 :: a7 :: a8 :: a9 :: a10 :: a11 :: t).length by simp only [List.length_cons]; omega) (fun j z hj hz => by have hj2 : j + 1 = 11 := hj; have hj3 : j = 10 := (by omega); subst hj3; cases hz; exact hc) k
theorem e_astore11N {a0 a1 a2 a3 a4 a5 a6 a7 a8 a9 a10 a11 : Value} {t : List Value} (hd : decode M.2.1 pc = .ok (.astore 11, 2)) (hc : e_c1 a10 = true) (k : e_E M (pc + 2) (a0 :: a1 :: a2 :: a3 :: a4 :: a5 :: a6 :: a7 :: a8 :: a9 :: a10 :: .null :: t) st h kc ks d Q) : e_E M pc (a0 :: a1 :: a2 :: a3 :: a4 :: a5 :: a6 :: a7 :: a8 :: a9 :: a10 :: a11 :: t) (.null :: st) h kc ks d Q :=
  e_astoreG hd (Or.inl rfl) (show 11 < (a0 :: a1 :: a2 :: a3 :: a4 :: a5 :: a6 :: a7 :: a8 :: a9 :: a10 :: a11 :: t).length by simp only [List.length_cons]; omega) (fun j z hj hz => by have hj2 : j + 1 = 11 := hj; have hj3 : j = 10 := (by omega); subst hj3; cases hz; exact hc) k
theorem e_lstore11 {a0 a1 a2 a3 a4 a5 a6 a7 a8 a9 a10 a11 a12 : Value} {t : List Value} {x : Int64} (hd : decode M.2.1 pc = .ok (.lstore 11, 2)) (hc : e_c1 a10 = true) (k : e_E M (pc + 2) (a0 :: a1 :: a2 :: a3 :: a4 :: a5 :: a6 :: a7 :: a8 :: a9 :: a10 :: .long x :: .retAddr 0 :: t) st h kc ks d Q) : e_E M pc (a0 :: a1 :: a2 :: a3 :: a4 :: a5 :: a6 :: a7 :: a8 :: a9 :: a10 :: a11 :: a12 :: t) (.long x :: st) h kc ks d Q :=
  e_lstoreG hd (show 11 + 1 < (a0 :: a1 :: a2 :: a3 :: a4 :: a5 :: a6 :: a7 :: a8 :: a9 :: a10 :: a11 :: a12 :: t).length by simp only [List.length_cons]; omega) (fun j z hj hz => by have hj2 : j + 1 = 11 := hj; have hj3 : j = 10 := (by omega); subst hj3; cases hz; exact hc) k
theorem e_iinc11 {a0 a1 a2 a3 a4 a5 a6 a7 a8 a9 a10 : Value} {t : List Value} {a n : Int} (hd : decode M.2.1 pc = .ok (.iinc 11 n, 3)) (hc : e_c1 a10 = true) (k : e_E M (pc + 3) (a0 :: a1 :: a2 :: a3 :: a4 :: a5 :: a6 :: a7 :: a8 :: a9 :: a10 :: e_i (a + n) :: t) st h kc ks d Q) : e_E M pc (a0 :: a1 :: a2 :: a3 :: a4 :: a5 :: a6 :: a7 :: a8 :: a9 :: a10 :: e_i a :: t) st h kc ks d Q :=
  e_iincG hd rfl (fun j z hj hz => by have hj2 : j + 1 = 11 := hj; have hj3 : j = 10 := (by omega); subst hj3; cases hz; exact hc) k
theorem e_istore12 {a0 a1 a2 a3 a4 a5 a6 a7 a8 a9 a10 a11 a12 : Value} {t : List Value} {x : Int32} (hd : decode M.2.1 pc = .ok (.istore 12, 2)) (hc : e_c1 a11 = true) (k : e_E M (pc + 2) (a0 :: a1 :: a2 :: a3 :: a4 :: a5 :: a6 :: a7 :: a8 :: a9 :: a10 :: a11 :: .int x :: t) st h kc ks d Q) : e_E M pc (a0 :: a1 :: a2 :: a3 :: a4 :: a5 :: a6 :: a7 :: a8 :: a9 :: a10 :: a11 :: a12 :: t) (.int x :: st) h kc ks d Q :=
  e_istoreG hd (show 12 < (a0 :: a1 :: a2 :: a3 :: a4 :: a5 :: a6 :: a7 :: a8 :: a9 :: a10 :: a11 :: a12 :: t).length by simp only [List.length_cons]; omega) (fun j z hj hz => by have hj2 : j + 1 = 12 := hj; have hj3 : j = 11 := (by omega); subst hj3; cases hz; exact hc) k
theorem e_astore12 {a0 a1 a2 a3 a4 a5 a6 a7 a8 a9 a10 a11 a12 : Value} {t : List Value} {x : Nat} (hd : decode M.2.1 pc = .ok (.astore 12, 2)) (hc : e_c1 a11 = true) (k : e_E M (pc + 2) (a0 :: a1 :: a2 :: a3 :: a4 :: a5 :: a6 :: a7 :: a8 :: a9 :: a10 :: a11 :: .ref x :: t) st h kc ks d Q) : e_E M pc (a0 :: a1 :: a2 :: a3 :: a4 :: a5 :: a6 :: a7 :: a8 :: a9 :: a10 :: a11 :: a12 :: t) (.ref x :: st) h kc ks d Q :=
  e_astoreG hd (Or.inr ⟨_, rfl⟩) (show 12 < (a0 :: a1 :: a2 :: a3 :: a4 :: a5 :: a6 :: a7 :: a8 :: a9 :: a10 :: a11 :: a12 :: t).length by simp only [List.length_cons]; omega) (fun j z hj hz => by have hj2 : j + 1 = 12 := hj; have hj3 : j = 11 := (by omega); subst hj3; cases hz; exact hc) k
theorem e_astore12N {a0 a1 a2 a3 a4 a5 a6 a7 a8 a9 a10 a11 a12 : Value} {t : List Value} (hd : decode M.2.1 pc = .ok (.astore 12, 2)) (hc : e_c1 a11 = true) (k : e_E M (pc + 2) (a0 :: a1 :: a2 :: a3 :: a4 :: a5 :: a6 :: a7 :: a8 :: a9 :: a10 :: a11 :: .null :: t) st h kc ks d Q) : e_E M pc (a0 :: a1 :: a2 :: a3 :: a4 :: a5 :: a6 :: a7 :: a8 :: a9 :: a10 :: a11 :: a12 :: t) (.null :: st) h kc ks d Q :=
  e_astoreG hd (Or.inl rfl) (show 12 < (a0 :: a1 :: a2 :: a3 :: a4 :: a5 :: a6 :: a7 :: a8 :: a9 :: a10 :: a11 :: a12 :: t).length by simp only [List.length_cons]; omega) (fun j z hj hz => by have hj2 : j + 1 = 12 := hj; have hj3 : j = 11 := (by omega); subst hj3; cases hz; exact hc) k
theorem e_lstore12 {a0 a1 a2 a3 a4 a5 a6 a7 a8 a9 a10 a11 a12 a13 : Value} {t : List Value} {x : Int64} (hd : decode M.2.1 pc = .ok (.lstore 12, 2)) (hc : e_c1 a11 = true) (k : e_E M (pc + 2) (a0 :: a1 :: a2 :: a3 :: a4 :: a5 :: a6 :: a7 :: a8 :: a9 :: a10 :: a11 :: .long x :: .retAddr 0 :: t) st h kc ks d Q) : e_E M pc (a0 :: a1 :: a2 :: a3 :: a4 :: a5 :: a6 :: a7 :: a8 :: a9 :: a10 :: a11 :: a12 :: a13 :: t) (.long x :: st) h kc ks d Q :=
  e_lstoreG hd (show 12 + 1 < (a0 :: a1 :: a2 :: a3 :: a4 :: a5 :: a6 :: a7 :: a8 :: a9 :: a10 :: a11 :: a12 :: a13 :: t).length by simp only [List.length_cons]; omega) (fun j z hj hz => by have hj2 : j + 1 = 12 := hj; have hj3 : j = 11 := (by omega); subst hj3; cases hz; exact hc) k
theorem e_iinc12 {a0 a1 a2 a3 a4 a5 a6 a7 a8 a9 a10 a11 : Value} {t : List Value} {a n : Int} (hd : decode M.2.1 pc = .ok (.iinc 12 n, 3)) (hc : e_c1 a11 = true) (k : e_E M (pc + 3) (a0 :: a1 :: a2 :: a3 :: a4 :: a5 :: a6 :: a7 :: a8 :: a9 :: a10 :: a11 :: e_i (a + n) :: t) st h kc ks d Q) : e_E M pc (a0 :: a1 :: a2 :: a3 :: a4 :: a5 :: a6 :: a7 :: a8 :: a9 :: a10 :: a11 :: e_i a :: t) st h kc ks d Q :=
  e_iincG hd rfl (fun j z hj hz => by have hj2 : j + 1 = 12 := hj; have hj3 : j = 11 := (by omega); subst hj3; cases hz; exact hc) k
theorem e_istore13 {a0 a1 a2 a3 a4 a5 a6 a7 a8 a9 a10 a11 a12 a13 : Value} {t : List Value} {x : Int32} (hd : decode M.2.1 pc = .ok (.istore 13, 2)) (hc : e_c1 a12 = true) (k : e_E M (pc + 2) (a0 :: a1 :: a2 :: a3 :: a4 :: a5 :: a6 :: a7 :: a8 :: a9 :: a10 :: a11 :: a12 :: .int x :: t) st h kc ks d Q) : e_E M pc (a0 :: a1 :: a2 :: a3 :: a4 :: a5 :: a6 :: a7 :: a8 :: a9 :: a10 :: a11 :: a12 :: a13 :: t) (.int x :: st) h kc ks d Q :=
  e_istoreG hd (show 13 < (a0 :: a1 :: a2 :: a3 :: a4 :: a5 :: a6 :: a7 :: a8 :: a9 :: a10 :: a11 :: a12 :: a13 :: t).length by simp only [List.length_cons]; omega) (fun j z hj hz => by have hj2 : j + 1 = 13 := hj; have hj3 : j = 12 := (by omega); subst hj3; cases hz; exact hc) k
theorem e_astore13 {a0 a1 a2 a3 a4 a5 a6 a7 a8 a9 a10 a11 a12 a13 : Value} {t : List Value} {x : Nat} (hd : decode M.2.1 pc = .ok (.astore 13, 2)) (hc : e_c1 a12 = true) (k : e_E M (pc + 2) (a0 :: a1 :: a2 :: a3 :: a4 :: a5 :: a6 :: a7 :: a8 :: a9 :: a10 :: a11 :: a12 :: .ref x :: t) st h kc ks d Q) : e_E M pc (a0 :: a1 :: a2 :: a3 :: a4 :: a5 :: a6 :: a7 :: a8 :: a9 :: a10 :: a11 :: a12 :: a13 :: t) (.ref x :: st) h kc ks d Q :=
  e_astoreG hd (Or.inr ⟨_, rfl⟩) (show 13 < (a0 :: a1 :: a2 :: a3 :: a4 :: a5 :: a6 :: a7 :: a8 :: a9 :: a10 :: a11 :: a12 :: a13 :: t).length by simp only [List.length_cons]; omega) (fun j z hj hz => by have hj2 : j + 1 = 13 := hj; have hj3 : j = 12 := (by omega); subst hj3; cases hz; exact hc) k
theorem e_astore13N {a0 a1 a2 a3 a4 a5 a6 a7 a8 a9 a10 a11 a12 a13 : Value} {t : List Value} (hd : decode M.2.1 pc = .ok (.astore 13, 2)) (hc : e_c1 a12 = true) (k : e_E M (pc + 2) (a0 :: a1 :: a2 :: a3 :: a4 :: a5 :: a6 :: a7 :: a8 :: a9 :: a10 :: a11 :: a12 :: .null :: t) st h kc ks d Q) : e_E M pc (a0 :: a1 :: a2 :: a3 :: a4 :: a5 :: a6 :: a7 :: a8 :: a9 :: a10 :: a11 :: a12 :: a13 :: t) (.null :: st) h kc ks d Q :=
  e_astoreG hd (Or.inl rfl) (show 13 < (a0 :: a1 :: a2 :: a3 :: a4 :: a5 :: a6 :: a7 :: a8 :: a9 :: a10 :: a11 :: a12 :: a13 :: t).length by simp only [List.length_cons]; omega) (fun j z hj hz => by have hj2 : j + 1 = 13 := hj; have hj3 : j = 12 := (by omega); subst hj3; cases hz; exact hc) k
theorem e_lstore13 {a0 a1 a2 a3 a4 a5 a6 a7 a8 a9 a10 a11 a12 a13 a14 : Value} {t : List Value} {x : Int64} (hd : decode M.2.1 pc = .ok (.lstore 13, 2)) (hc : e_c1 a12 = true) (k : e_E M (pc + 2) (a0 :: a1 :: a2 :: a3 :: a4 :: a5 :: a6 :: a7 :: a8 :: a9 :: a10 :: a11 :: a12 :: .long x :: .retAddr 0 :: t) st h kc ks d Q) : e_E M pc (a0 :: a1 :: a2 :: a3 :: a4 :: a5 :: a6 :: a7 :: a8 :: a9 :: a10 :: a11 :: a12 :: a13 :: a14 :: t) (.long x :: st) h kc ks d Q :=
  e_lstoreG hd (show 13 + 1 < (a0 :: a1 :: a2 :: a3 :: a4 :: a5 :: a6 :: a7 :: a8 :: a9 :: a10 :: a11 :: a12 :: a13 :: a14 :: t).length by simp only [List.length_cons]; omega) (fun j z hj hz => by have hj2 : j + 1 = 13 := hj; have hj3 : j = 12 := (by omega); subst hj3; cases hz; exact hc) k
theorem e_iinc13 {a0 a1 a2 a3 a4 a5 a6 a7 a8 a9 a10 a11 a12 : Value} {t : List Value} {a n : Int} (hd : decode M.2.1 pc = .ok (.iinc 13 n, 3)) (hc : e_c1 a12 = true) (k : e_E M (pc + 3) (a0 :: a1 :: a2 :: a3 :: a4 :: a5 :: a6 :: a7 :: a8 :: a9 :: a10 :: a11 :: a12 :: e_i (a + n) :: t) st h kc ks d Q) : e_E M pc (a0 :: a1 :: a2 :: a3 :: a4 :: a5 :: a6 :: a7 :: a8 :: a9 :: a10 :: a11 :: a12 :: e_i a :: t) st h kc ks d Q :=
  e_iincG hd rfl (fun j z hj hz => by have hj2 : j + 1 = 13 := hj; have hj3 : j = 12 := (by omega); subst hj3; cases hz; exact hc) k
theorem e_istore14 {a0 a1 a2 a3 a4 a5 a6 a7 a8 a9 a10 a11 a12 a13 a14 : Value} {t : List Value} {x : Int32} (hd : decode M.2.1 pc = .ok (.istore 14, 2)) (hc : e_c1 a13 = true) (k : e_E M (pc + 2) (a0 :: a1 :: a2 :: a3 :: a4 :: a5 :: a6 :: a7 :: a8 :: a9 :: a10 :: a11 :: a12 :: a13 :: .int x :: t) st h kc ks d Q) : e_E M pc (a0 :: a1 :: a2 :: a3 :: a4 :: a5 :: a6 :: a7 :: a8 :: a9 :: a10 :: a11 :: a12 :: a13 :: a14 :: t) (.int x :: st) h kc ks d Q :=
  e_istoreG hd (show 14 < (a0 :: a1 :: a2 :: a3 :: a4 :: a5 :: a6 :: a7 :: a8 :: a9 :: a10 :: a11 :: a12 :: a13 :: a14 :: t).length by simp only [List.length_cons]; omega) (fun j z hj hz => by have hj2 : j + 1 = 14 := hj; have hj3 : j = 13 := (by omega); subst hj3; cases hz; exact hc) k
theorem e_astore14 {a0 a1 a2 a3 a4 a5 a6 a7 a8 a9 a10 a11 a12 a13 a14 : Value} {t : List Value} {x : Nat} (hd : decode M.2.1 pc = .ok (.astore 14, 2)) (hc : e_c1 a13 = true) (k : e_E M (pc + 2) (a0 :: a1 :: a2 :: a3 :: a4 :: a5 :: a6 :: a7 :: a8 :: a9 :: a10 :: a11 :: a12 :: a13 :: .ref x :: t) st h kc ks d Q) : e_E M pc (a0 :: a1 :: a2 :: a3 :: a4 :: a5 :: a6 :: a7 :: a8 :: a9 :: a10 :: a11 :: a12 :: a13 :: a14 :: t) (.ref x :: st) h kc ks d Q :=
  e_astoreG hd (Or.inr ⟨_, rfl⟩) (show 14 < (a0 :: a1 :: a2 :: a3 :: a4 :: a5 :: a6 :: a7 :: a8 :: a9 :: a10 :: a11 :: a12 :: a13 :: a14 :: t).length by simp only [List.length_cons]; omega) (fun j z hj hz => by have hj2 : j + 1 = 14 := hj; have hj3 : j = 13 := (by omega); subst hj3; cases hz; exact hc) k
theorem e_astore14N {a0 a1 a2 a3 a4 a5 a6 a7 a8 a9 a10 a11 a12 a13 a14 : Value} {t : List Value} (hd : decode M.2.1 pc = .ok (.astore 14, 2)) (hc : e_c1 a13 = true) (k : e_E M (pc + 2) (a0 :: a1 :: a2 :: a3 :: a4 :: a5 :: a6 :: a7 :: a8 :: a9 :: a10 :: a11 :: a12 :: a13 :: .null :: t) st h kc ks d Q) : e_E M pc (a0 :: a1 :: a2 :: a3 :: a4 :: a5 :: a6 :: a7 :: a8 :: a9 :: a10 :: a11 :: a12 :: a13 :: a14 :: t) (.null :: st) h kc ks d Q :=
  e_astoreG hd (Or.inl rfl) (show 14 < (a0 :: a1 :: a2 :: a3 :: a4 :: a5 :: a6 :: a7 :: a8 :: a9 :: a10 :: a11 :: a12 :: a13 :: a14 :: t).length by simp only [List.length_cons]; omega) (fun j z hj hz => by have hj2 : j + 1 = 14 := hj; have hj3 : j = 13 := (by omega); subst hj3; cases hz; exact hc) k
theorem e_lstore14 {a0 a1 a2 a3 a4 a5 a6 a7 a8 a9 a10 a11 a12 a13 a14 a15 : Value} {t : List Value} {x : Int64} (hd : decode M.2.1 pc = .ok (.lstore 14, 2)) (hc : e_c1 a13 = true) (k : e_E M (pc + 2) (a0 :: a1 :: a2 :: a3 :: a4 :: a5 :: a6 :: a7 :: a8 :: a9 :: a10 :: a11 :: a12 :: a13 :: .long x :: .retAddr 0 :: t) st h kc ks d Q) : e_E M pc (a0 :: a1 :: a2 :: a3 :: a4 :: a5 :: a6 :: a7 :: a8 :: a9 :: a10 :: a11 :: a12 :: a13 :: a14 :: a15 :: t) (.long x :: st) h kc ks d Q :=
  e_lstoreG hd (show 14 + 1 < (a0 :: a1 :: a2 :: a3 :: a4 :: a5 :: a6 :: a7 :: a8 :: a9 :: a10 :: a11 :: a12 :: a13 :: a14 :: a15 :: t).length by simp only [List.length_cons]; omega) (fun j z hj hz => by have hj2 : j + 1 = 14 := hj; have hj3 : j = 13 := (by omega); subst hj3; cases hz; exact hc) k
theorem e_iinc14 {a0 a1 a2 a3 a4 a5 a6 a7 a8 a9 a10 a11 a12 a13 : Value} {t : List Value} {a n : Int} (hd : decode M.2.1 pc = .ok (.iinc 14 n, 3)) (hc : e_c1 a13 = true) (k : e_E M (pc + 3) (a0 :: a1 :: a2 :: a3 :: a4 :: a5 :: a6 :: a7 :: a8 :: a9 :: a10 :: a11 :: a12 :: a13 :: e_i (a + n) :: t) st h kc ks d Q) : e_E M pc (a0 :: a1 :: a2 :: a3 :: a4 :: a5 :: a6 :: a7 :: a8 :: a9 :: a10 :: a11 :: a12 :: a13 :: e_i a :: t) st h kc ks d Q :=
  e_iincG hd rfl (fun j z hj hz => by have hj2 : j + 1 = 14 := hj; have hj3 : j = 13 := (by omega); subst hj3; cases hz; exact hc) k
theorem e_istore15 {a0 a1 a2 a3 a4 a5 a6 a7 a8 a9 a10 a11 a12 a13 a14 a15 : Value} {t : List Value} {x : Int32} (hd : decode M.2.1 pc = .ok (.istore 15, 2)) (hc : e_c1 a14 = true) (k : e_E M (pc + 2) (a0 :: a1 :: a2 :: a3 :: a4 :: a5 :: a6 :: a7 :: a8 :: a9 :: a10 :: a11 :: a12 :: a13 :: a14 :: .int x :: t) st h kc ks d Q) : e_E M pc (a0 :: a1 :: a2 :: a3 :: a4 :: a5 :: a6 :: a7 :: a8 :: a9 :: a10 :: a11 :: a12 :: a13 :: a14 :: a15 :: t) (.int x :: st) h kc ks d Q :=
  e_istoreG hd (show 15 < (a0 :: a1 :: a2 :: a3 :: a4 :: a5 :: a6 :: a7 :: a8 :: a9 :: a10 :: a11 :: a12 :: a13 :: a14 :: a15 :: t).length by simp only [List.length_cons]; omega) (fun j z hj hz => by have hj2 : j + 1 = 15 := hj; have hj3 : j = 14 := (by omega); subst hj3; cases hz; exact hc) k
theorem e_astore15 {a0 a1 a2 a3 a4 a5 a6 a7 a8 a9 a10 a11 a12 a13 a14 a15 : Value} {t : List Value} {x : Nat} (hd : decode M.2.1 pc = .ok (.astore 15, 2)) (hc : e_c1 a14 = true) (k : e_E M (pc + 2) (a0 :: a1 :: a2 :: a3 :: a4 :: a5 :: a6 :: a7 :: a8 :: a9 :: a10 :: a11 :: a12 :: a13 :: a14 :: .ref x :: t) st h kc ks d Q) : e_E M pc (a0 :: a1 :: a2 :: a3 :: a4 :: a5 :: a6 :: a7 :: a8 :: a9 :: a10 :: a11 :: a12 :: a13 :: a14 :: a15 :: t) (.ref x :: st) h kc ks d Q :=
  e_astoreG hd (Or.inr ⟨_, rfl⟩) (show 15 < (a0 :: a1 :: a2 :: a3 :: a4 :: a5 :: a6 :: a7 :: a8 :: a9 :: a10 :: a11 :: a12 :: a13 :: a14 :: a15 :: t).length by simp only [List.length_cons]; omega) (fun j z hj hz => by have hj2 : j + 1 = 15 := hj; have hj3 : j = 14 := (by omega); subst hj3; cases hz; exact hc) k
theorem e_astore15N {a0 a1 a2 a3 a4 a5 a6 a7 a8 a9 a10 a11 a12 a13 a14 a15 : Value} {t : List Value} (hd : decode M.2.1 pc = .ok (.astore 15, 2)) (hc : e_c1 a14 = true) (k : e_E M (pc + 2) (a0 :: a1 :: a2 :: a3 :: a4 :: a5 :: a6 :: a7 :: a8 :: a9 :: a10 :: a11 :: a12 :: a13 :: a14 :: .null :: t) st h kc ks d Q) : e_E M pc (a0 :: a1 :: a2 :: a3 :: a4 :: a5 :: a6 :: a7 :: a8 :: a9 :: a10 :: a11 :: a12 :: a13 :: a14 :: a15 :: t) (.null :: st) h kc ks d Q :=
  e_astoreG hd (Or.inl rfl) (show 15 < (a0 :: a1 :: a2 :: a3 :: a4 :: a5 :: a6 :: a7 :: a8 :: a9 :: a10 :: a11 :: a12 :: a13 :: a14 :: a15 :: t).length by simp only [List.length_cons]; omega) (fun j z hj hz => by have hj2 : j + 1 = 15 := hj; have hj3 : j = 14 := (by omega); subst hj3; cases hz; exact hc) k
theorem e_lstore15 {a0 a1 a2 a3 a4 a5 a6 a7 a8 a9 a10 a11 a12 a13 a14 a15 a16 : Value} {t : List Value} {x : Int64} (hd : decode M.2.1 pc = .ok (.lstore 15, 2)) (hc : e_c1 a14 = true) (k : e_E M (pc + 2) (a0 :: a1 :: a2 :: a3 :: a4 :: a5 :: a6 :: a7 :: a8 :: a9 :: a10 :: a11 :: a12 :: a13 :: a14 :: .long x :: .retAddr 0 :: t) st h kc ks d Q) : e_E M pc (a0 :: a1 :: a2 :: a3 :: a4 :: a5 :: a6 :: a7 :: a8 :: a9 :: a10 :: a11 :: a12 :: a13 :: a14 :: a15 :: a16 :: t) (.long x :: st) h kc ks d Q :=
  e_lstoreG hd (show 15 + 1 < (a0 :: a1 :: a2 :: a3 :: a4 :: a5 :: a6 :: a7 :: a8 :: a9 :: a10 :: a11 :: a12 :: a13 :: a14 :: a15 :: a16 :: t).length by simp only [List.length_cons]; omega) (fun j z hj hz => by have hj2 : j + 1 = 15 := hj; have hj3 : j = 14 := (by omega); subst hj3; cases hz; exact hc) k
theorem e_iinc15 {a0 a1 a2 a3 a4 a5 a6 a7 a8 a9 a10 a11 a12 a13 a14 : Value} {t : List Value} {a n : Int} (hd : decode M.2.1 pc = .ok (.iinc 15 n, 3)) (hc : e_c1 a14 = true) (k : e_E M (pc + 3) (a0 :: a1 :: a2 :: a3 :: a4 :: a5 :: a6 :: a7 :: a8 :: a9 :: a10 :: a11 :: a12 :: a13 :: a14 :: e_i (a + n) :: t) st h kc ks d Q) : e_E M pc (a0 :: a1 :: a2 :: a3 :: a4 :: a5 :: a6 :: a7 :: a8 :: a9 :: a10 :: a11 :: a12 :: a13 :: a14 :: e_i a :: t) st h kc ks d Q :=
  e_iincG hd rfl (fun j z hj hz => by have hj2 : j + 1 = 15 := hj; have hj3 : j = 14 := (by omega); subst hj3; cases hz; exact hc) k
theorem e_istore16 {a0 a1 a2 a3 a4 a5 a6 a7 a8 a9 a10 a11 a12 a13 a14 a15 a16 : Value} {t : List Value} {x : Int32} (hd : decode M.2.1 pc = .ok (.istore 16, 2)) (hc : e_c1 a15 = true) (k : e_E M (pc + 2) (a0 :: a1 :: a2 :: a3 :: a4 :: a5 :: a6 :: a7 :: a8 :: a9 :: a10 :: a11 :: a12 :: a13 :: a14 :: a15 :: .int x :: t) st h kc ks d Q) : e_E M pc (a0 :: a1 :: a2 :: a3 :: a4 :: a5 :: a6 :: a7 :: a8 :: a9 :: a10 :: a11 :: a12 :: a13 :: a14 :: a15 :: a16 :: t) (.int x :: st) h kc ks d Q :=
  e_istoreG hd (show 16 < (a0 :: a1 :: a2 :: a3 :: a4 :: a5 :: a6 :: a7 :: a8 :: a9 :: a10 :: a11 :: a12 :: a13 :: a14 :: a15 :: a16 :: t).length by simp only [List.length_cons]; omega) (fun j z hj hz => by have hj2 : j + 1 = 16 := hj; have hj3 : j = 15 := (by omega); subst hj3; cases hz; exact hc) k
theorem e_astore16 {a0 a1 a2 a3 a4 a5 a6 a7 a8 a9 a10 a11 a12 a13 a14 a15 a16 : Value} {t : List Value} {x : Nat} (hd : decode M.2.1 pc = .ok (.astore 16, 2)) (hc : e_c1 a15 = true) (k : e_E M (pc + 2) (a0 :: a1 :: a2 :: a3 :: a4 :: a5 :: a6 :: a7 :: a8 :: a9 :: a10 :: a11 :: a12 :: a13 :: a14 :: a15 :: .ref x :: t) st h kc ks d Q) : e_E M pc (a0 :: a1 :: a2 :: a3 :: a4 :: a5 :: a6 :: a7 :: a8 :: a9 :: a10 :: a11 :: a12 :: a13 :: a14 :: a15 :: a16 :: t) (.ref x :: st) h kc ks d Q :=
  e_astoreG hd (Or.inr ⟨_, rfl⟩) (show 16 < (a0 :: a1 :: a2 :: a3 :: a4 :: a5 :: a6 :: a7 :: a8 :: a9 :: a10 :: a11 :: a12 :: a13 :: a14 :: a15 :: a16 :: t).length by simp only [List.length_cons]; omega) (fun j z hj hz => by have hj2 : j + 1 = 16 := hj; have hj3 : j = 15 := (by omega); subst hj3; cases hz; exact hc) k
theorem e_astore16N {a0 a1 a2 a3 a4 a5 a6 a7 a8 a9 a10 a11 a12 a13 a14 a15 a16 : Value} {t : List Value} (hd : decode M.2.1 pc = .ok (.astore 16, 2)) (hc : e_c1 a15 = true) (k : e_E M (pc + 2) (a0 :: a1 :: a2 :: a3 :: a4 :: a5 :: a6 :: a7 :: a8 :: a9 :: a10 :: a11 :: a12 :: a13 :: a14 :: a15 :: .null :: t) st h kc ks d Q) : e_E M pc (a0 :: a1 :: a2 :: a3 :: a4 :: a5 :: a6 :: a7 :: a8 :: a9 :: a10 :: a11 :: a12 :: a13 :: a14 :: a15 :: a16 :: t) (.null :: st) h kc ks d Q :=
  e_astoreG hd (Or.inl rfl) (show 16 < (a0 :: a1 :: a2 :: a3 :: a4 :: a5 :: a6 :: a7 :: a8 :: a9 :: a10 :: a11 :: a12 :: a13 :: a14 :: a15 :: a16 :: t).length by simp only [List.length_cons]; omega) (fun j z hj hz => by have hj2 : j + 1 = 16 := hj; have hj3 : j = 15 := (by omega); subst hj3; cases hz; exact hc) k
theorem e_lstore16 {a0 a1 a2 a3 a4 a5 a6 a7 a8 a9 a10 a11 a12 a13 a14 a15 a16 a17 : Value} {t : List Value} {x : Int64} (hd : decode M.2.1 pc = .ok (.lstore 16, 2)) (hc : e_c1 a15 = true) (k : e_E M (pc + 2) (a0 :: a1 :: a2 :: a3 :: a4 :: a5 :: a6 :: a7 :: a8 :: a9 :: a10 :: a11 :: a12 :: a13 :: a14 :: a15 :: .long x :: .retAddr 0 :: t) st h kc ks d Q) : e_E M pc (a0 :: a1 :: a2 :: a3 :: a4 :: a5 :: a6 :: a7 :: a8 :: a9 :: a10 :: a11 :: a12 :: a13 :: a14 :: a15 :: a16 :: a17 :: t) (.long x :: st) h kc ks d Q :=
  e_lstoreG hd (show 16 + 1 < (a0 :: a1 :: a2 :: a3 :: a4 :: a5 :: a6 :: a7 :: a8 :: a9 :: a10 :: a11 :: a12 :: a13 :: a14 :: a15 :: a16 :: a17 :: t).length by simp only [List.length_cons]; omega) (fun j z hj hz => by have hj2 : j + 1 = 16 := hj; have hj3 : j = 15 := (by omega); subst hj3; cases hz; exact hc) k
theorem e_iinc16 {a0 a1 a2 a3 a4 a5 a6 a7 a8 a9 a10 a11 a12 a13 a14 a15 : Value} {t : List Value} {a n : Int} (hd : decode M.2.1 pc = .ok (.iinc 16 n, 3)) (hc : e_c1 a15 = true) (k : e_E M (pc + 3) (a0 :: a1 :: a2 :: a3 :: a4 :: a5 :: a6 :: a7 :: a8 :: a9 :: a10 :: a11 :: a12 :: a13 :: a14 :: a15 :: e_i (a + n) :: t) st h kc ks d Q) : e_E M pc (a0 :: a1 :: a2 :: a3 :: a4 :: a5 :: a6 :: a7 :: a8 :: a9 :: a10 :: a11 :: a12 :: a13 :: a14 :: a15 :: e_i a :: t) st h kc ks d Q :=
  e_iincG hd rfl (fun j z hj hz => by have hj2 : j + 1 = 16 := hj; have hj3 : j = 15 := (by omega); subst hj3; cases hz; exact hc) k
theorem e_istore17 {a0 a1 a2 a3 a4 a5 a6 a7 a8 a9 a10 a11 a12 a13 a14 a15 a16 a17 : Value} {t : List Value} {x : Int32} (hd : decode M.2.1 pc = .ok (.istore 17, 2)) (hc : e_c1 a16 = true) (k : e_E M (pc + 2) (a0 :: a1 :: a2 :: a3 :: a4 :: a5 :: a6 :: a7 :: a8 :: a9 :: a10 :: a11 :: a12 :: a13 :: a14 :: a15 :: a16 :: .int x :: t) st h kc ks d Q) : e_E M pc (a0 :: a1 :: a2 :: a3 :: a4 :: a5 :: a6 :: a7 :: a8 :: a9 :: a10 :: a11 :: a12 :: a13 :: a14 :: a15 :: a16 :: a17 :: t) (.int x :: st) h kc ks d Q :=
  e_istoreG hd (show 17 < (a0 :: a1 :: a2 :: a3 :: a4 :: a5 :: a6 :: a7 :: a8 :: a9 :: a10 :: a11 :: a12 :: a13 :: a14 :: a15 :: a16 :: a17 :: t).length by simp only [List.length_cons]; omega) (fun j z hj hz => by have hj2 : j + 1 = 17 := hj; have hj3 : j = 16 := (by omega); subst hj3; cases hz; exact hc) k
theorem e_astore17 {a0 a1 a2 a3 a4 a5 a6 a7 a8 a9 a10 a11 a12 a13 a14 a15 a16 a17 : Value} {t : List Value} {x : Nat} (hd : decode M.2.1 pc = .ok (.astore 17, 2)) (hc : e_c1 a16 = true) (k : e_E M (pc + 2) (a0 :: a1 :: a2 :: a3 :: a4 :: a5 :: a6 :: a7 :: a8 :: a9 :: a10 :: a11 :: a12 :: a13 :: a14 :: a15 :: a16 :: .ref x :: t) st h kc ks d Q) : e_E M pc (a0 :: a1 :: a2 :: a3 :: a4 :: a5 :: a6 :: a7 :: a8 :: a9 :: a10 :: a11 :: a12 :: a13 :: a14 :: a15 :: a16 :: a17 :: t) (.ref x :: st) h kc ks d Q :=
  e_astoreG hd (Or.inr ⟨_, rfl⟩) (show 17 < (a0 :: a1 :: a2 :: a3 :: a4 :: a5 :: a6 :: a7 :: a8 :: a9 :: a10 :: a11 :: a12 :: a13 :: a14 :: a15 :: a16 :: a17 :: t).length by simp only [List.length_cons]; omega) (fun j z hj hz => by have hj2 : j + 1 = 17 := hj; have hj3 : j = 16 := (by omega); subst hj3; cases hz; exact hc) k
theorem e_astore17N {a0 a1 a2 a3 a4 a5 a6 a7 a8 a9 a10 a11 a12 a13 a14 a15 a16 a17 : Value} {t : List Value} (hd : decode M.2.1 pc = .ok (.astore 17, 2)) (hc : e_c1 a16 = true) (k : e_E M (pc + 2) (a0 :: a1 :: a2 :: a3 :: a4 :: a5 :: a6 :: a7 :: a8 :: a9 :: a10 :: a11 :: a12 :: a13 :: a14 :: a15 :: a16 :: .null :: t) st h kc ks d Q) : e_E M pc (a0 :: a1 :: a2 :: a3 :: a4 :: a5 :: a6 :: a7 :: a8 :: a9 :: a10 :: a11 :: a12 :: a13 :: a14 :: a15 :: a16 :: a17 :: t) (.null :: st) h kc ks d Q :=
  e_astoreG hd (Or.inl rfl) (show 17 < (a0 :: a1 :: a2 :: a3 :: a4 :: a5 :: a6 :: a7 :: a8 :: a9 :: a10 :: a11 :: a12 :: a13 :: a14 :: a15 :: a16 :: a17 :: t).length by simp only [List.length_cons]; omega) (fun j z hj hz => by have hj2 : j + 1 = 17 := hj; have hj3 : j = 16 := (by omega); subst hj3; cases hz; exact hc) k
theorem e_lstore17 {a0 a1 a2 a3 a4 a5 a6 a7 a8 a9 a10 a11 a12 a13 a14 a15 a16 a17 a18 : Value} {t : List Value} {x : Int64} (hd : decode M.2.1 pc = .ok (.lstore 17, 2)) (hc : e_c1 a16 = true) (k : e_E M (pc + 2) (a0 :: a1 :: a2 :: a3 :: a4 :: a5 :: a6 :: a7 :: a8 :: a9 :: a10 :: a11 :: a12 :: a13 :: a14 :: a15 :: a16 :: .long x :: .retAddr 0 :: t) st h kc ks d Q) : e_E M pc (a0 :: a1 :: a2 :: a3 :: a4 :: a5 :: a6 :: a7 :: a8 :: a9 :: a10 :: a11 :: a12 :: a13 :: a14 :: a15 :: a16 :: a17 :: a18 :: t) (.long x :: st) h kc ks d Q :=
  e_lstoreG hd (show 17 + 1 < (a0 :: a1 :: a2 :: a3 :: a4 :: a5 :: a6 :: a7 :: a8 :: a9 :: a10 :: a11 :: a12 :: a13 :: a14 :: a15 :: a16 :: a17 :: a18 :: t).length by simp only [List.length_cons]; omega) (fun j z hj hz => by have hj2 : j + 1 = 17 := hj; have hj3 : j = 16 := (by omega); subst hj3; cases hz; exact hc) k
theorem e_iinc17 {a0 a1 a2 a3 a4 a5 a6 a7 a8 a9 a10 a11 a12 a13 a14 a15 a16 : Value} {t : List Value} {a n : Int} (hd : decode M.2.1 pc = .ok (.iinc 17 n, 3)) (hc : e_c1 a16 = true) (k : e_E M (pc + 3) (a0 :: a1 :: a2 :: a3 :: a4 :: a5 :: a6 :: a7 :: a8 :: a9 :: a10 :: a11 :: a12 :: a13 :: a14 :: a15 :: a16 :: e_i (a + n) :: t) st h kc ks d Q) : e_E M pc (a0 :: a1 :: a2 :: a3 :: a4 :: a5 :: a6 :: a7 :: a8 :: a9 :: a10 :: a11 :: a12 :: a13 :: a14 :: a15 :: a16 :: e_i a :: t) st h kc ks d Q :=
  e_iincG hd rfl (fun j z hj hz => by have hj2 : j + 1 = 17 := hj; have hj3 : j = 16 := (by omega); subst hj3; cases hz; exact hc) k
theorem e_istore18 {a0 a1 a2 a3 a4 a5 a6 a7 a8 a9 a10 a11 a12 a13 a14 a15 a16 a17 a18 : Value} {t : List Value} {x : Int32} (hd : decode M.2.1 pc = .ok (.istore 18, 2)) (hc : e_c1 a17 = true) (k : e_E M (pc + 2) (a0 :: a1 :: a2 :: a3 :: a4 :: a5 :: a6 :: a7 :: a8 :: a9 :: a10 :: a11 :: a12 :: a13 :: a14 :: a15 :: a16 :: a17 :: .int x :: t) st h kc ks d Q) : e_E M pc (a0 :: a1 :: a2 :: a3 :: a4 :: a5 :: a6 :: a7 :: a8 :: a9 :: a10 :: a11 :: a12 :: a13 :: a14 :: a15 :: a16 :: a17 :: a18 :: t) (.int x :: st) h kc ks d Q :=
  e_istoreG hd (show 18 < (a0 :: a1 :: a2 :: a3 :: a4 :: a5 :: a6 :: a7 :: a8 :: a9 :: a10 :: a11 :: a12 :: a13 :: a14 :: a15 :: a16 :: a17 :: a18 :: t).length by simp only [List.length_cons]; omega) (fun j z hj hz => by have hj2 : j + 1 = 18 := hj; have hj3 : j = 17 := (by omega); subst hj3; cases hz; exact hc) k
theorem e_astore18 {a0 a1 a2 a3 a4 a5 a6 a7 a8 a9 a10 a11 a12 a13 a14 a15 a16 a17 a18 : Value} {t : List Value} {x : Nat} (hd : decode M.2.1 pc = .ok (.astore 18, 2)) (hc : e_c1 a17 = true) (k : e_E M (pc + 2) (a0 :: a1 :: a2 :: a3 :: a4 :: a5 :: a6 :: a7 :: a8 :: a9 :: a10 :: a11 :: a12 :: a13 :: a14 :: a15 :: a16 :: a17 :: .ref x :: t) st h kc ks d Q) : e_E M pc (a0 :: a1 :: a2 :: a3 :: a4 :: a5 :: a6 :: a7 :: a8 :: a9 :: a10 :: a11 :: a12 :: a13 :: a14 :: a15 :: a16 :: a17 :: a18 :: t) (.ref x :: st) h kc ks d Q :=
  e_astoreG hd (Or.inr ⟨_, rfl⟩) (show 18 < (a0 :: a1 :: a2 :: a3 :: a4 :: a5 :: a6 :: a7 :: a8 :: a9 :: a10 :: a11 :: a12 :: a13 :: a14 :: a15 :: a16 :: a17 :: a18 :: t).length by simp only [List.length_cons]; omega) (fun j z hj hz => by have hj2 : j + 1 = 18 := hj; have hj3 : j = 17 := (by omega); subst hj3; cases hz; exact hc) k
theorem e_astore18N {a0 a1 a2 a3 a4 a5 a6 a7 a8 a9 a10 a11 a12 a13 a14 a15 a16 a17 a18 : Value} {t : List Value} (hd : decode M.2.1 pc = .ok (.astore 18, 2)) (hc : e_c1 a17 = true) (k : e_E M (pc + 2) (a0 :: a1 :: a2 :: a3 :: a4 :: a5 :: a6 :: a7 :: a8 :: a9 :: a10 :: a11 :: a12 :: a13 :: a14 :: a15 :: a16 :: a17 :: .null :: t) st h kc ks d Q) : e_E M pc (a0 :: a1 :: a2 :: a3 :: a4 :: a5 :: a6 :: a7 :: a8 :: a9 :: a10 :: a11 :: a12 :: a13 :: a14 :: a15 :: a16 :: a17 :: a18 :: t) (.null :: st) h kc ks d Q :=
  e_astoreG hd (Or.inl rfl) (show 18 < (a0 :: a1 :: a2 :: a3 :: a4 :: a5 :: a6 :: a7 :: a8 :: a9 :: a10 :: a11 :: a12 :: a13 :: a14 :: a15 :: a16 :: a17 :: a18 :: t).length by simp only [List.length_cons]; omega) (fun j z hj hz => by have hj2 : j + 1 = 18 := hj; have hj3 : j = 17 := (by omega); subst hj3; cases hz; exact hc) k
theorem e_lstore18 {a0 a1 a2 a3 a4 a5 a6 a7 a8 a9 a10 a11 a12 a13 a14 a15 a16 a17 a18 a19 : Value} {t : List Value} {x : Int64} (hd : decode M.2.1 pc = .ok (.lstore 18, 2)) (hc : e_c1 a17 = true) (k : e_E M (pc + 2) (a0 :: a1 :: a2 :: a3 :: a4 :: a5 :: a6 :: a7 :: a8 :: a9 :: a10 :: a11 :: a12 :: a13 :: a14 :: a15 :: a16 :: a17 :: .long x :: .retAddr 0 :: t) st h kc ks d Q) : e_E M pc (a0 :: a1 :: a2 :: a3 :: a4 :: a5 :: a6 :: a7 :: a8 :: a9 :: a10 :: a11 :: a12 :: a13 :: a14 :: a15 :: a16 :: a17 :: a18 :: a19 :: t) (.long x :: st) h kc ks d Q :=
  e_lstoreG hd (show 18 + 1 < (a0 :: a1 :: a2 :: a3 :: a4 :: a5 :: a6 :: a7 :: a8 :: a9 :: a10 :: a11 :: a12 :: a13 :: a14 :: a15 :: a16 :: a17 :: a18 :: a19 :: t).length by simp only [List.length_cons]; omega) (fun j z hj hz => by have hj2 : j + 1 = 18 := hj; have hj3 : j = 17 := (by omega); subst hj3; cases hz; exact hc) k
theorem e_iinc18 {a0 a1 a2 a3 a4 a5 a6 a7 a8 a9 a10 a11 a12 a13 a14 a15 a16 a17 : Value} {t : List Value} {a n : Int} (hd : decode M.2.1 pc = .ok (.iinc 18 n, 3)) (hc : e_c1 a17 = true) (k : e_E M (pc + 3) (a0 :: a1 :: a2 :: a3 :: a4 :: a5 :: a6 :: a7 :: a8 :: a9 :: a10 :: a11 :: a12 :: a13 :: a14 :: a15 :: a16 :: a17 :: e_i (a + n) :: t) st h kc ks d Q) : e_E M pc (a0 :: a1 :: a2 :: a3 :: a4 :: a5 :: a6 :: a7 :: a8 :: a9 :: a10 :: a11 :: a12 :: a13 :: a14 :: a15 :: a16 :: a17 :: e_i a :: t) st h kc ks d Q :=
  e_iincG hd rfl (fun j z hj hz => by have hj2 : j + 1 = 18 := hj; have hj3 : j = 17 := (by omega); subst hj3; cases hz; exact hc) k
theorem e_istore19 {a0 a1 a2 a3 a4 a5 a6 a7 a8 a9 a10 a11 a12 a13 a14 a15 a16 a17 a18 a19 : Value} {t : List Value} {x : Int32} (hd : decode M.2.1 pc = .ok (.istore 19, 2)) (hc : e_c1 a18 = true) (k : e_E M (pc + 2) (a0 :: a1 :: a2 :: a3 :: a4 :: a5 :: a6 :: a7 :: a8 :: a9 :: a10 :: a11 :: a12 :: a13 :: a14 :: a15 :: a16 :: a17 :: a18 :: .int x :: t) st h kc ks d Q) : e_E M pc (a0 :: a1 :: a2 :: a3 :: a4 :: a5 :: a6 :: a7 :: a8 :: a9 :: a10 :: a11 :: a12 :: a13 :: a14 :: a15 :: a16 :: a17 :: a18 :: a19 :: t) (.int x :: st) h kc ks d Q :=
  e_istoreG hd (show 19 < (a0 :: a1 :: a2 :: a3 :: a4 :: a5 :: a6 :: a7 :: a8 :: a9 :: a10 :: a11 :: a12 :: a13 :: a14 :: a15 :: a16 :: a17 :: a18 :: a19 :: t).length by simp only [List.length_cons]; omega) (fun j z hj hz => by have hj2 : j + 1 = 19 := hj; have hj3 : j = 18 := (by omega); subst hj3; cases hz; exact hc) k
theorem e_astore19 {a0 a1 a2 a3 a4 a5 a6 a7 a8 a9 a10 a11 a12 a13 a14 a15 a16 a17 a18 a19 : Value} {t : List Value} {x : Nat} (hd : decode M.2.1 pc = .ok (.astore 19, 2)) (hc : e_c1 a18 = true) (k : e_E M (pc + 2) (a0 :: a1 :: a2 :: a3 :: a4 :: a5 :: a6 :: a7 :: a8 :: a9 :: a10 :: a11 :: a12 :: a13 :: a14 :: a15 :: a16 :: a17 :: a18 :: .ref x :: t) st h kc ks d Q) : e_E M pc (a0 :: a1 :: a2 :: a3 :: a4 :: a5 :: a6 :: a7 :: a8 :: a9 :: a10 :: a11 :: a12 :: a13 :: a14 :: a15 :: a16 :: a17 :: a18 :: a19 :: t) (.ref x :: st) h kc ks d Q :=
  e_astoreG hd (Or.inr ⟨_, rfl⟩) (show 19 < (a0 :: a1 :: a2 :: a3 :: a4 :: a5 :: a6 :: a7 :: a8 :: a9 :: a10 :: a11 :: a12 :: a13 :: a14 :: a15 :: a16 :: a17 :: a18 :: a19 :: t).length by simp only [List.length_cons]; omega) (fun j z hj hz => by have hj2 : j + 1 = 19 := hj; have hj3 : j = 18 := (by omega); subst hj3; cases hz; exact hc) k
theorem e_astore19N {a0 a1 a2 a3 a4 a5 a6 a7 a8 a9 a10 a11 a12 a13 a14 a15 a16 a17 a18 a19 : Value} {t : List Value} (hd : decode M.2.1 pc = .ok (.astore 19, 2)) (hc : e_c1 a18 = true) (k : e_E M (pc + 2) (a0 :: a1 :: a2 :: a3 :: a4 :: a5 :: a6 :: a7 :: a8 :: a9 :: a10 :: a11 :: a12 :: a13 :: a14 :: a15 :: a16 :: a17 :: a18 :: .null :: t) st h kc ks d Q) : e_E M pc (a0 :: a1 :: a2 :: a3 :: a4 :: a5 :: a6 :: a7 :: a8 :: a9 :: a10 :: a11 :: a12 :: a13 :: a14 :: a15 :: a16 :: a17 :: a18 :: a19 :: t) (.null :: st) h kc ks d Q :=
  e_astoreG hd (Or.inl rfl) (show 19 < (a0 :: a1 :: a2 :: a3 :: a4 :: a5 :: a6 :: a7 :: a8 :: a9 :: a10 :: a11 :: a12 :: a13 :: a14 :: a15 :: a16 :: a17 :: a18 :: a19 :: t).length by simp only [List.length_cons]; omega) (fun j z hj hz => by have hj2 : j + 1 = 19 := hj; have hj3 : j = 18 := (by omega); subst hj3; cases hz; exact hc) k
theorem e_lstore19 {a0 a1 a2 a3 a4 a5 a6 a7 a8 a9 a10 a11 a12 a13 a14 a15 a16 a17 a18 a19 a20 : Value} {t : List Value} {x : Int64} (hd : decode M.2.1 pc = .ok (.lstore 19, 2)) (hc : e_c1 a18 = true) (k : e_E M (pc + 2) (a0 :: a1 :: a2 :: a3 :: a4 :: a5 :: a6 :: a7 :: a8 :: a9 :: a10 :: a11 :: a12 :: a13 :: a14 :: a15 :: a16 :: a17 :: a18 :: .long x :: .retAddr 0 :: t) st h kc ks d Q) : e_E M pc (a0 :: a1 :: a2 :: a3 :: a4 :: a5 :: a6 :: a7 :: a8 :: a9 :: a10 :: a11 :: a12 :: a13 :: a14 :: a15 :: a16 :: a17 :: a18 :: a19 :: a20 :: t) (.long x :: st) h kc ks d Q :=
  e_lstoreG hd (show 19 + 1 < (a0 :: a1 :: a2 :: a3 :: a4 :: a5 :: a6 :: a7 :: a8 :: a9 :: a10 :: a11 :: a12 :: a13 :: a14 :: a15 :: a16 :: a17 :: a18 :: a19 :: a20 :: t).length by simp only [List.length_cons]; omega) (fun j z hj hz => by have hj2 : j + 1 = 19 := hj; have hj3 : j = 18 := (by omega); subst hj3; cases hz; exact hc) k
theorem e_iinc19 {a0 a1 a2 a3 a4 a5 a6 a7 a8 a9 a10 a11 a12 a13 a14 a15 a16 a17 a18 : Value} {t : List Value} {a n : Int} (hd : decode M.2.1 pc = .ok (.iinc 19 n, 3)) (hc : e_c1 a18 = true) (k : e_E M (pc + 3) (a0 :: a1 :: a2 :: a3 :: a4 :: a5 :: a6 :: a7 :: a8 :: a9 :: a10 :: a11 :: a12 :: a13 :: a14 :: a15 :: a16 :: a17 :: a18 :: e_i (a + n) :: t) st h kc ks d Q) : e_E M pc (a0 :: a1 :: a2 :: a3 :: a4 :: a5 :: a6 :: a7 :: a8 :: a9 :: a10 :: a11 :: a12 :: a13 :: a14 :: a15 :: a16 :: a17 :: a18 :: e_i a :: t) st h kc ks d Q :=
  e_iincG hd rfl (fun j z hj hz => by have hj2 : j + 1 = 19 := hj; have hj3 : j = 18 := (by omega); subst hj3; cases hz; exact hc) k
theorem e_istore20 {a0 a1 a2 a3 a4 a5 a6 a7 a8 a9 a10 a11 a12 a13 a14 a15 a16 a17 a18 a19 a20 : Value} {t : List Value} {x : Int32} (hd : decode M.2.1 pc = .ok (.istore 20, 2)) (hc : e_c1 a19 = true) (k : e_E M (pc + 2) (a0 :: a1 :: a2 :: a3 :: a4 :: a5 :: a6 :: a7 :: a8 :: a9 :: a10 :: a11 :: a12 :: a13 :: a14 :: a15 :: a16 :: a17 :: a18 :: a19 :: .int x :: t) st h kc ks d Q) : e_E M pc (a0 :: a1 :: a2 :: a3 :: a4 :: a5 :: a6 :: a7 :: a8 :: a9 :: a10 :: a11 :: a12 :: a13 :: a14 :: a15 :: a16 :: a17 :: a18 :: a19 :: a20 :: t) (.int x :: st) h kc ks d Q :=
  e_istoreG hd (show 20 < (a0 :: a1 :: a2 :: a3 :: a4 :: a5 :: a6 :: a7 :: a8 :: a9 :: a10 :: a11 :: a12 :: a13 :: a14 :: a15 :: a16 :: a17 :: a18 :: a19 :: a20 :: t).length by simp only [List.length_cons]; omega) (fun j z hj hz => by have hj2 : j + 1 = 20 := hj; have hj3 : j = 19 := (by omega); subst hj3; cases hz; exact hc) k
theorem e_astore20 {a0 a1 a2 a3 a4 a5 a6 a7 a8 a9 a10 a11 a12 a13 a14 a15 a16 a17 a18 a19 a20 : Value} {t : List Value} {x : Nat} (hd : decode M.2.1 pc = .ok (.astore 20, 2)) (hc : e_c1 a19 = true) (k : e_E M (pc + 2) (a0 :: a1 :: a2 :: a3 :: a4 :: a5 :: a6 :: a7 :: a8 :: a9 :: a10 :: a11 :: a12 :: a13 :: a14 :: a15 :: a16 :: a17 :: a18 :: a19 :: .ref x :: t) st h kc ks d Q) : e_E M pc (a0 :: a1 :: a2 :: a3 :: a4 :: a5 :: a6 :: a7 :: a8 :: a9 :: a10 :: a11 :: a12 :: a13 :: a14 :: a15 :: a16 :: a17 :: a18 :: a19 :: a20 :: t) (.ref x :: st) h kc ks d Q :=
  e_astoreG hd (Or.inr ⟨_, rfl⟩) (show 20 < (a0 :: a1 :: a2 :: a3 :: a4 :: a5 :: a6 :: a7 :: a8 :: a9 :: a10 :: a11 :: a12 :: a13 :: a14 :: a15 :: a16 :: a17 :: a18 :: a19 :: a20 :: t).length by simp only [List.length_cons]; omega) (fun j z hj hz => by have hj2 : j + 1 = 20 := hj; have hj3 : j = 19 := (by omega); subst hj3; cases hz; exact hc) k
theorem e_astore20N {a0 a1 a2 a3 a4 a5 a6 a7 a8 a9 a10 a11 a12 a13 a14 a15 a16 a17 a18 a19 a20 : Value} {t : List Value} (hd : decode M.2.1 pc = .ok (.astore 20, 2)) (hc : e_c1 a19 = true) (k : e_E M (pc + 2) (a0 :: a1 :: a2 :: a3 :: a4 :: a5 :: a6 :: a7 :: a8 :: a9 :: a10 :: a11 :: a12 :: a13 :: a14 :: a15 :: a16 :: a17 :: a18 :: a19 :: .null :: t) st h kc ks d Q) : e_E M pc (a0 :: a1 :: a2 :: a3 :: a4 :: a5 :: a6 :: a7 :: a8 :: a9 :: a10 :: a11 :: a12 :: a13 :: a14 :: a15 :: a16 :: a17 :: a18 :: a19 :: a20 :: t) (.null :: st) h kc ks d Q :=
  e_astoreG hd (Or.inl rfl) (show 20 < (a0 :: a1 :: a2 :: a3 :: a4 :: a5 :: a6 :: a7 :: a8 :: a9 :: a10 :: a11 :: a12 :: a13 :: a14 :: a15 :: a16 :: a17 :: a18 :: a19 :: a20 :: t).length by simp only [List.length_cons]; omega) (fun j z hj hz => by have hj2 : j + 1 = 20 := hj; have hj3 : j = 19 := (by omega); subst hj3; cases hz; exact hc) k
theorem e_lstore20 {a0 a1 a2 a3 a4 a5 a6 a7 a8 a9 a10 a11 a12 a13 a14 a15 a16 a17 a18 a19 a20 a21 : Value} {t : List Value} {x : Int64} (hd : decode M.2.1 pc = .ok (.lstore 20, 2)) (hc : e_c1 a19 = true) (k : e_E M (pc + 2) (a0 :: a1 :: a2 :: a3 :: a4 :: a5 :: a6 :: a7 :: a8 :: a9 :: a10 :: a11 :: a12 :: a13 :: a14 :: a15 :: a16 :: a17 :: a18 :: a19 :: .long x :: .retAddr 0 :: t) st h kc ks d Q) : e_E M pc (a0 :: a1 :: a2 :: a3 :: a4 :: a5 :: a6 :: a7 :: a8 :: a9 :: a10 :: a11 :: a12 :: a13 :: a14 :: a15 :: a16 :: a17 :: a18 :: a19 :: a20 :: a21 :: t) (.long x :: st) h kc ks d Q :=
  e_lstoreG hd (show 20 + 1 < (a0 :: a1 :: a2 :: a3 :: a4 :: a5 :: a6 :: a7 :: a8 :: a9 :: a10 :: a11 :: a12 :: a13 :: a14 :: a15 :: a16 :: a17 :: a18 :: a19 :: a20 :: a21 :: t).length by simp only [List.length_cons]; omega) (fun j z hj hz => by have hj2 : j + 1 = 20 := hj; have hj3 : j = 19 := (by omega); subst hj3; cases hz; exact hc) k
theorem e_iinc20 {a0 a1 a2 a3 a4 a5 a6 a7 a8 a9 a10 a11 a12 a13 a14 a15 a16 a17 a18 a19 : Value} {t : List Value} {a n : Int} (hd : decode M.2.1 pc = .ok (.iinc 20 n, 3)) (hc : e_c1 a19 = true) (k : e_E M (pc + 3) (a0 :: a1 :: a2 :: a3 :: a4 :: a5 :: a6 :: a7 :: a8 :: a9 :: a10 :: a11 :: a12 :: a13 :: a14 :: a15 :: a16 :: a17 :: a18 :: a19 :: e_i (a + n) :: t) st h kc ks d Q) : e_E M pc (a0 :: a1 :: a2 :: a3 :: a4 :: a5 :: a6 :: a7 :: a8 :: a9 :: a10 :: a11 :: a12 :: a13 :: a14 :: a15 :: a16 :: a17 :: a18 :: a19 :: e_i a :: t) st h kc ks d Q :=
  e_iincG hd rfl (fun j z hj hz => by have hj2 : j + 1 = 20 := hj; have hj3 : j = 19 := (by omega); subst hj3; cases hz; exact hc) k
theorem e_istore21 {a0 a1 a2 a3 a4 a5 a6 a7 a8 a9 a10 a11 a12 a13 a14 a15 a16 a17 a18 a19 a20 a21 : Value} {t : List Value} {x : Int32} (hd : decode M.2.1 pc = .ok (.istore 21, 2)) (hc : e_c1 a20 = true) (k : e_E M (pc + 2) (a0 :: a1 :: a2 :: a3 :: a4 :: a5 :: a6 :: a7 :: a8 :: a9 :: a10 :: a11 :: a12 :: a13 :: a14 :: a15 :: a16 :: a17 :: a18 :: a19 :: a20 :: .int x :: t) st h kc ks d Q) : e_E M pc (a0 :: a1 :: a2 :: a3 :: a4 :: a5 :: a6 :: a7 :: a8 :: a9 :: a10 :: a11 :: a12 :: a13 :: a14 :: a15 :: a16 :: a17 :: a18 :: a19 :: a20 :: a21 :: t) (.int x :: st) h kc ks d Q :=
  e_istoreG hd (show 21 < (a0 :: a1 :: a2 :: a3 :: a4 :: a5 :: a6 :: a7 :: a8 :: a9 :: a10 :: a11 :: a12 :: a13 :: a14 :: a15 :: a16 :: a17 :: a18 :: a19 :: a20 :: a21 :: t).length by simp only [List.length_cons]; omega) (fun j z hj hz => by have hj2 : j + 1 = 21 := hj; have hj3 : j = 20 := (by omega); subst hj3; cases hz; exact hc) k
theorem e_astore21 {a0 a1 a2 a3 a4 a5 a6 a7 a8 a9 a10 a11 a12 a13 a14 a15 a16 a17 a18 a19 a20 a21 : Value} {t : List Value} {x : Nat} (hd : decode M.2.1 pc = .ok (.astore 21, 2)) (hc : e_c1 a20 = true) (k : e_E M (pc + 2) (a0 :: a1 :: a2 :: a3 :: a4 :: a5 :: a6 :: a7 :: a8 :: a9 :: a10 :: a11 :: a12 :: a13 :: a14 :: a15 :: a16 :: a17 :: a18 :: a19 :: a20 :: .ref x :: t) st h kc ks d Q) : e_E M pc (a0 :: a1 :: a2 :: a3 :: a4 :: a5 :: a6 :: a7 :: a8 :: a9 :: a10 :: a11 :: a12 :: a13 :: a14 :: a15 :: a16 :: a17 :: a18 :: a19 :: a20 :: a21 :: t) (.ref x :: st) h kc ks d Q :=
  e_astoreG hd (Or.inr ⟨_, rfl⟩) (show 21 < (a0 :: a1 :: a2 :: a3 :: a4 :: a5 :: a6 :: a7 :: a8 :: a9 :: a10 :: a11 :: a12 :: a13 :: a14 :: a15 :: a16 :: a17 :: a18 :: a19 :: a20 :: a21 :: t).length by simp only [List.length_cons]; omega) (fun j z hj hz => by have hj2 : j + 1 = 21 := hj; have hj3 : j = 20 := (by omega); subst hj3; cases hz; exact hc) k
theorem e_astore21N {a0 a1 a2 a3 a4 a5 a6 a7 a8 a9 a10 a11 a12 a13 a14 a15 a16 a17 a18 a19 a20 a21 : Value} {t : List Value} (hd : decode M.2.1 pc = .ok (.astore 21, 2)) (hc : e_c1 a20 = true) (k : e_E M (pc + 2) (a0 :: a1 :: a2 :: a3 :: a4 :: a5 :: a6 :: a7 :: a8 :: a9 :: a10 :: a11 :: a12 :: a13 :: a14 :: a15 :: a16 :: a17 :: a18 :: a19 :: a20 :: .null :: t) st h kc ks d Q) : e_E M pc (a0 :: a1 :: a2 :: a3 :: a4 :: a5 :: a6 :: a7 :: a8 :: a9 :: a10 :: a11 :: a12 :: a13 :: a14 :: a15 :: a16 :: a17 :: a18 :: a19 :: a20 :: a21 :: t) (.null :: st) h kc ks d Q :=
  e_astoreG hd (Or.inl rfl) (show 21 < (a0 :: a1 :: a2 :: a3 :: a4 :: a5 :: a6 :: a7 :: a8 :: a9 :: a10 :: a11 :: a12 :: a13 :: a14 :: a15 :: a16 :: a17 :: a18 :: a19 :: a20 :: a21 :: t).length by simp only [List.length_cons]; omega) (fun j z hj hz => by have hj2 : j + 1 = 21 := hj; have hj3 : j = 20 := (by omega); subst hj3; cases hz; exact hc) k
theorem e_lstore21 {a0 a1 a2 a3 a4 a5 a6 a7 a8 a9 a10 a11 a12 a13 a14 a15 a16 a17 a18 a19 a20 a21 a22 : Value} {t : List Value} {x : Int64} (hd : decode M.2.1 pc = .ok (.lstore 21, 2)) (hc : e_c1 a20 = true) (k : e_E M (pc + 2) (a0 :: a1 :: a2 :: a3 :: a4 :: a5 :: a6 :: a7 :: a8 :: a9 :: a10 :: a11 :: a12 :: a13 :: a14 :: a15 :: a16 :: a17 :: a18 :: a19 :: a20 :: .long x :: .retAddr 0 :: t) st h kc ks d Q) : e_E M pc (a0 :: a1 :: a2 :: a3 :: a4 :: a5 :: a6 :: a7 :: a8 :: a9 :: a10 :: a11 :: a12 :: a13 :: a14 :: a15 :: a16 :: a17 :: a18 :: a19 :: a20 :: a21 :: a22 :: t) (.long x :: st) h kc ks d Q :=
  e_lstoreG hd (show 21 + 1 < (a0 :: a1 :: a2 :: a3 :: a4 :: a5 :: a6 :: a7 :: a8 :: a9 :: a10 :: a11 :: a12 :: a13 :: a14 :: a15 :: a16 :: a17 :: a18 :: a19 :: a20 :: a21 :: a22 :: t).length by simp only [List.length_cons]; omega) (fun j z hj hz => by have hj2 : j + 1 = 21 := hj; have hj3 : j = 20 := (by omega); subst hj3; cases hz; exact hc) k
theorem e_iinc21 {a0 a1 a2 a3 a4 a5 a6 a7 a8 a9 a10 a11 a12 a13 a14 a15 a16 a17 a18 a19 a20 : Value} {t : List Value} {a n : Int} (hd : decode M.2.1 pc = .ok (.iinc 21 n, 3)) (hc : e_c1 a20 = true) (k : e_E M (pc + 3) (a0 :: a1 :: a2 :: a3 :: a4 :: a5 :: a6 :: a7 :: a8 :: a9 :: a10 :: a11 :: a12 :: a13 :: a14 :: a15 :: a16 :: a17 :: a18 :: a19 :: a20 :: e_i (a + n) :: t) st h kc ks d Q) : e_E M pc (a0 :: a1 :: a2 :: a3 :: a4 :: a5 :: a6 :: a7 :: a8 :: a9 :: a10 :: a11 :: a12 :: a13 :: a14 :: a15 :: a16 :: a17 :: a18 :: a19 :: a20 :: e_i a :: t) st h kc ks d Q :=
  e_iincG hd rfl (fun j z hj hz => by have hj2 : j + 1 = 21 := hj; have hj3 : j = 20 := (by omega); subst hj3; cases hz; exact hc) k
theorem e_istore22 {a0 a1 a2 a3 a4 a5 a6 a7 a8 a9 a10 a11 a12 a13 a14 a15 a16 a17 a18 a19 a20 a21 a22 : Value} {t : List Value} {x : Int32} (hd : decode M.2.1 pc = .ok (.istore 22, 2)) (hc : e_c1 a21 = true) (k : e_E M (pc + 2) (a0 :: a1 :: a2 :: a3 :: a4 :: a5 :: a6 :: a7 :: a8 :: a9 :: a10 :: a11 :: a12 :: a13 :: a14 :: a15 :: a16 :: a17 :: a18 :: a19 :: a20 :: a21 :: .int x :: t) st h kc ks d Q) : e_E M pc (a0 :: a1 :: a2 :: a3 :: a4 :: a5 :: a6 :: a7 :: a8 :: a9 :: a10 :: a11 :: a12 :: a13 :: a14 :: a15 :: a16 :: a17 :: a18 :: a19 :: a20 :: a21 :: a22 :: t) (.int x :: st) h kc ks d Q :=
  e_istoreG hd (show 22 < (a0 :: a1 :: a2 :: a3 :: a4 :: a5 :: a6 :: a7 :: a8 :: a9 :: a10 :: a11 :: a12 :: a13 :: a14 :: a15 :: a16 :: a17 :: a18 :: a19 :: a20 :: a21 :: a22 :: t).length by simp only [List.length_cons]; omega) (fun j z hj hz => by have hj2 : j + 1 = 22 := hj; have hj3 : j = 21 := (by omega); subst hj3; cases hz; exact hc) k
theorem e_astore22 {a0 a1 a2 a3 a4 a5 a6 a7 a8 a9 a10 a11 a12 a13 a14 a15 a16 a17 a18 a19 a20 a21 a22 : Value} {t : List Value} {x : Nat} (hd : decode M.2.1 pc = .ok (.astore 22, 2)) (hc : e_c1 a21 = true) (k : e_E M (pc + 2) (a0 :: a1 :: a2 :: a3 :: a4 :: a5 :: a6 :: a7 :: a8 :: a9 :: a10 :: a11 :: a12 :: a13 :: a14 :: a15 :: a16 :: a17 :: a18 :: a19 :: a20 :: a21 :: .ref x :: t) st h kc ks d Q) : e_E M pc (a0 :: a1 :: a2 :: a3 :: a4 :: a5 :: a6 :: a7 :: a8 :: a9 :: a10 :: a11 :: a12 :: a13 :: a14 :: a15 :: a16 :: a17 :: a18 :: a19 :: a20 :: a21 :: a22 :: t) (.ref x :: st) h kc ks d Q :=
  e_astoreG hd (Or.inr ⟨_, rfl⟩) (show 22 < (a0 :: a1 :: a2 :: a3 :: a4 :: a5 :: a6 :: a7 :: a8 :: a9 :: a10 :: a11 :: a12 :: a13 :: a14 :: a15 :: a16 :: a17 :: a18 :: a19 :: a20 :: a21 :: a22 :: t).length by simp only [List.length_cons]; omega) (fun j z hj hz => by have hj2 : j + 1 = 22 := hj; have hj3 : j = 21 := (by omega); subst hj3; cases hz; exact hc) k
theorem e_astore22N {a0 a1 a2 a3 a4 a5 a6 a7 a8 a9 a10 a11 a12 a13 a14 a15 a16 a17 a18 a19 a20 a21 a22 : Value} {t : List Value} (hd : decode M.2.1 pc = .ok (.astore 22, 2)) (hc : e_c1 a21 = true) (k : e_E M (pc + 2) (a0 :: a1 :: a2 :: a3 :: a4 :: a5 :: a6 :: a7 :: a8 :: a9 :: a10 :: a11 :: a12 :: a13 :: a14 :: a15 :: a16 :: a17 :: a18 :: a19 :: a20 :: a21 :: .null :: t) st h kc ks d Q) : e_E M pc (a0 :: a1 :: a2 :: a3 :: a4 :: a5 :: a6 :: a7 :: a8 :: a9 :: a10 :: a11 :: a12 :: a13 :: a14 :: a15 :: a16 :: a17 :: a18 :: a19 :: a20 :: a21 :: a22 :: t) (.null :: st) h kc ks d Q :=
  e_astoreG hd (Or.inl rfl) (show 22 < (a0 :: a1 :: a2 :: a3 :: a4 :: a5 :: a6 :: a7 :: a8 :: a9 :: a10 :: a11 :: a12 :: a13 :: a14 :: a15 :: a16 :: a17 :: a18 :: a19 :: a20 :: a21 :: a22 :: t).length by simp only [List.length_cons]; omega) (fun j z hj hz => by have hj2 : j + 1 = 22 := hj; have hj3 : j = 21 := (by omega); subst hj3; cases hz; exact hc) k
theorem e_lstore22 {a0 a1 a2 a3 a4 a5 a6 a7 a8 a9 a10 a11 a12 a13 a14 a15 a16 a17 a18 a19 a20 a21 a22 a23 : Value} {t : List Value} {x : Int64} (hd : decode M.2.1 pc = .ok (.lstore 22, 2)) (hc : e_c1 a21 = true) (k : e_E M (pc + 2) (a0 :: a1 :: a2 :: a3 :: a4 :: a5 :: a6 :: a7 :: a8 :: a9 :: a10 :: a11 :: a12 :: a13 :: a14 :: a15 :: a16 :: a17 :: a18 :: a19 :: a20 :: a21 :: .long x :: .retAddr 0 :: t) st h kc ks d Q) : e_E M pc (a0 :: a1 :: a2 :: a3 :: a4 :: a5 :: a6 :: a7 :: a8 :: a9 :: a10 :: a11 :: a12 :: a13 :: a14 :: a15 :: a16 :: a17 :: a18 :: a19 :: a20 :: a21 :: a22 :: a23 :: t) (.long x :: st) h kc ks d Q :=
  e_lstoreG hd (show 22 + 1 < (a0 :: a1 :: a2 :: a3 :: a4 :: a5 :: a6 :: a7 :: a8 :: a9 :: a10 :: a11 :: a12 :: a13 :: a14 :: a15 :: a16 :: a17 :: a18 :: a19 :: a20 :: a21 :: a22 :: a23 :: t).length by simp only [List.length_cons]; omega) (fun j z hj hz => by have hj2 : j + 1 = 22 := hj; have hj3 : j = 21 := (by omega); subst hj3; cases hz; exact hc) k
theorem e_iinc22 {a0 a1 a2 a3 a4 a5 a6 a7 a8 a9 a10 a11 a12 a13 a14 a15 a16 a17 a18 a19 a20 a21 : Value} {t : List Value} {a n : Int} (hd : decode M.2.1 pc = .ok (.iinc 22 n, 3)) (hc : e_c1 a21 = true) (k : e_E M (pc + 3) (a0 :: a1 :: a2 :: a3 :: a4 :: a5 :: a6 :: a7 :: a8 :: a9 :: a10 :: a11 :: a12 :: a13 :: a14 :: a15 :: a16 :: a17 :: a18 :: a19 :: a20 :: a21 :: e_i (a + n) :: t) st h kc ks d Q) : e_E M pc (a0 :: a1 :: a2 :: a3 :: a4 :: a5 :: a6 :: a7 :: a8 :: a9 :: a10 :: a11 :: a12 :: a13 :: a14 :: a15 :: a16 :: a17 :: a18 :: a19 :: a20 :: a21 :: e_i a :: t) st h kc ks d Q :=
  e_iincG hd rfl (fun j z hj hz => by have hj2 : j + 1 = 22 := hj; have hj3 : j = 21 := (by omega); subst hj3; cases hz; exact hc) k
theorem e_istore23 {a0 a1 a2 a3 a4 a5 a6 a7 a8 a9 a10 a11 a12 a13 a14 a15 a16 a17 a18 a19 a20 a21 a22 a23 : Value} {t : List Value} {x : Int32} (hd : decode M.2.1 pc = .ok (.istore 23, 2)) (hc : e_c1 a22 = true) (k : e_E M (pc + 2) (a0 :: a1 :: a2 :: a3 :: a4 :: a5 :: a6 :: a7 :: a8 :: a9 :: a10 :: a11 :: a12 :: a13 :: a14 :: a15 :: a16 :: a17 :: a18 :: a19 :: a20 :: a21 :: a22 :: .int x :: t) st h kc ks d Q) : e_E M pc (a0 :: a1 :: a2 :: a3 :: a4 :: a5 :: a6 :: a7 :: a8 :: a9 :: a10 :: a11 :: a12 :: a13 :: a14 :: a15 :: a16 :: a17 :: a18 :: a19 :: a20 :: a21 :: a22 :: a23 :: t) (.int x :: st) h kc ks d Q :=
  e_istoreG hd (show 23 < (a0 :: a1 :: a2 :: a3 :: a4 :: a5 :: a6 :: a7 :: a8 :: a9 :: a10 :: a11 :: a12 :: a13 :: a14 :: a15 :: a16 :: a17 :: a18 :: a19 :: a20 :: a21 :: a22 :: a23 :: t).length by simp only [List.length_cons]; omega) (fun j z hj hz => by have hj2 : j + 1 = 23 := hj; have hj3 : j = 22 := (by omega); subst hj3; cases hz; exact hc) k
theorem e_astore23 {a0 a1 a2 a3 a4 a5 a6 a7 a8 a9 a10 a11 a12 a13 a14 a15 a16 a17 a18 a19 a20 a21 a22 a23 : Value} {t : List Value} {x : Nat} (hd : decode M.2.1 pc = .ok (.astore 23, 2)) (hc : e_c1 a22 = true) (k : e_E M (pc + 2) (a0 :: a1 :: a2 :: a3 :: a4 :: a5 :: a6 :: a7 :: a8 :: a9 :: a10 :: a11 :: a12 :: a13 :: a14 :: a15 :: a16 :: a17 :: a18 :: a19 :: a20 :: a21 :: a22 :: .ref x :: t) st h kc ks d Q) : e_E M pc (a0 :: a1 :: a2 :: a3 :: a4 :: a5 :: a6 :: a7 :: a8 :: a9 :: a10 :: a11 :: a12 :: a13 :: a14 :: a15 :: a16 :: a17 :: a18 :: a19 :: a20 :: a21 :: a22 :: a23 :: t) (.ref x :: st) h kc ks d Q :=
  e_astoreG hd (Or.inr ⟨_, rfl⟩) (show 23 < (a0 :: a1 :: a2 :: a3 :: a4 :: a5 :: a6 :: a7 :: a8 :: a9 :: a10 :: a11 :: a12 :: a13 :: a14 :: a15 :: a16 :: a17 :: a18 :: a19 :: a20 :: a21 :: a22 :: a23 :: t).length by simp only [List.length_cons]; omega) (fun j z hj hz => by have hj2 : j + 1 = 23 := hj; have hj3 : j = 22 := (by omega); subst hj3; cases hz; exact hc) k
theorem e_astore23N {a0 a1 a2 a3 a4 a5 a6 a7 a8 a9 a10 a11 a12 a13 a14 a15 a16 a17 a18 a19 a20 a21 a22 a23 : Value} {t : List Value} (hd : decode M.2.1 pc = .ok (.astore 23, 2)) (hc : e_c1 a22 = true) (k : e_E M (pc + 2) (a0 :: a1 :: a2 :: a3 :: a4 :: a5 :: a6 :: a7 :: a8 :: a9 :: a10 :: a11 :: a12 :: a13 :: a14 :: a15 :: a16 :: a17 :: a18 :: a19 :: a20 :: a21 :: a22 :: .null :: t) st h kc ks d Q) : e_E M pc (a0 :: a1 :: a2 :: a3 :: a4 :: a5 :: a6 :: a7 :: a8 :: a9 :: a10 :: a11 :: a12 :: a13 :: a14 :: a15 :: a16 :: a17 :: a18 :: a19 :: a20 :: a21 :: a22 :: a23 :: t) (.null :: st) h kc ks d Q :=
  e_astoreG hd (Or.inl rfl) (show 23 < (a0 :: a1 :: a2 :: a3 :: a4 :: a5 :: a6 :: a7 :: a8 :: a9 :: a10 :: a11 :: a12 :: a13 :: a14 :: a15 :: a16 :: a17 :: a18 :: a19 :: a20 :: a21 :: a22 :: a23 :: t).length by simp only [List.length_cons]; omega) (fun j z hj hz => by have hj2 : j + 1 = 23 := hj; have hj3 : j = 22 := (by omega); subst hj3; cases hz; exact hc) k
theorem e_lstore23 {a0 a1 a2 a3 a4 a5 a6 a7 a8 a9 a10 a11 a12 a13 a14 a15 a16 a17 a18 a19 a20 a21 a22 a23 a24 : Value} {t : List Value} {x : Int64} (hd : decode M.2.1 pc = .ok (.lstore 23, 2)) (hc : e_c1 a22 = true) (k : e_E M (pc + 2) (a0 :: a1 :: a2 :: a3 :: a4 :: a5 :: a6 :: a7 :: a8 :: a9 :: a10 :: a11 :: a12 :: a13 :: a14 :: a15 :: a16 :: a17 :: a18 :: a19 :: a20 :: a21 :: a22 :: .long x :: .retAddr 0 :: t) st h kc ks d Q) : e_E M pc (a0 :: a1 :: a2 :: a3 :: a4 :: a5 :: a6 :: a7 :: a8 :: a9 :: a10 :: a11 :: a12 :: a13 :: a14 :: a15 :: a16 :: a17 :: a18 :: a19 :: a20 :: a21 :: a22 :: a23 :: a24 :: t) (.long x :: st) h kc ks d Q :=
  e_lstoreG hd (show 23 + 1 < (a0 :: a1 :: a2 :: a3 :: a4 :: a5 :: a6 :: a7 :: a8 :: a9 :: a10 :: a11 :: a12 :: a13 :: a14 :: a15 :: a16 :: a17 :: a18 :: a19 :: a20 :: a21 :: a22 :: a23 :: a24 :: t).length by simp only [List.length_cons]; omega) (fun j z hj hz => by have hj2 : j + 1 = 23 := hj; have hj3 : j = 22 := (by omega); subst hj3; cases hz; exact hc) k
theorem e_iinc23 {a0 a1 a2 a3 a4 a5 a6 a7 a8 a9 a10 a11 a12 a13 a14 a15 a16 a17 a18 a19 a20 a21 a22 : Value} {t : List Value} {a n : Int} (hd : decode M.2.1 pc = .ok (.iinc 23 n, 3)) (hc : e_c1 a22 = true) (k : e_E M (pc + 3) (a0 :: a1 :: a2 :: a3 :: a4 :: a5 :: a6 :: a7 :: a8 :: a9 :: a10 :: a11 :: a12 :: a13 :: a14 :: a15 :: a16 :: a17 :: a18 :: a19 :: a20 :: a21 :: a22 :: e_i (a + n) :: t) st h kc ks d Q) : e_E M pc (a0 :: a1 :: a2 :: a3 :: a4 :: a5 :: a6 :: a7 :: a8 :: a9 :: a10 :: a11 :: a12 :: a13 :: a14 :: a15 :: a16 :: a17 :: a18 :: a19 :: a20 :: a21 :: a22 :: e_i a :: t) st h kc ks d Q :=
  e_iincG hd rfl (fun j z hj hz => by have hj2 : j + 1 = 23 := hj; have hj3 : j = 22 := (by omega); subst hj3; cases hz; exact hc) k
end EROWS
