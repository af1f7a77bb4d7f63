/-! THE COMPONENT: slots written (printed by tx28.py) -/
set_option maxRecDepth 100000
theorem t_i16_rg (z : Int) : -32768 ≤ t_i16 z ∧ t_i16 z < 32768 := by unfold t_i16; omega
theorem t_i32_rg (z : Int) : e_rg (t_i32 z) := by unfold t_i32; constructor <;> omega
theorem t_i16_law (z : Int) : (Int32.ofInt z).toInt16.toInt32 = Int32.ofInt (t_i16 z) := by
  have hr := t_i16_rg z
  rw [← Int32.toInt_inj, e_ti (z := t_i16 z) ⟨by omega, by omega⟩]
  rw [Int16.toInt_toInt32, Int32.toInt_toInt16, Int32.toInt_ofInt]
  show (z.bmod 4294967296).bmod 65536 = _
  unfold t_i16 Int.bmod
  simp only []
  omega
theorem t_i32_law (z : Int) : Int32.ofInt z = Int32.ofInt (t_i32 z) := by
  rw [← Int32.toInt_inj, e_ti (t_i32_rg z), Int32.toInt_ofInt]
  show z.bmod 4294967296 = _
  unfold t_i32 Int.bmod
  simp only []
  omega
theorem x_nb (v : Int) : narrow .byte (e_i (t_i8 v)) = e_i (t_i8 v) := congrArg Value.int (t_i8_self (t_i8_rg v))
theorem x_ns (v : Int) : narrow .short (e_i (t_i16 v)) = e_i (t_i16 v) := by
  refine congrArg Value.int ?_
  rw [t_i16_law]
  congr 1
  have := t_i16_rg v
  unfold t_i16 at *
  omega
theorem x_wr_clip (v w : Int) : x_wr w (t_clip v w) := by
  unfold t_clip
  refine ⟨fun q => ?_, fun q => ?_, fun q => ?_⟩
  · rw [if_pos q]; exact t_i8_rg v
  · rw [if_neg (by omega), if_pos q]; exact t_i16_rg v
  · rw [if_neg (by omega), if_neg (by omega), if_pos q]; exact t_i32_rg v
/-- thrown: an object of the kind -/
def x_PX (kd : Nat) (χ : t_S) (h0 : e_A) : e_R → e_A → Prop := fun r h => (∃ i, r = .inr i ∧ (h.1 i).1 = kd) ∧ ∃ h1, e_ext h0 h1 ∧ h = x_H χ h1
/-- one place of the array at a written -/
def x_PI (w n i v : Int) (num : Int → Int) (a : Nat) (χ : t_S) (h0 : e_A) (A : Option Value) : e_R → e_A → Prop := fun r h => r = .inl A ∧ ∃ h1, h = x_H χ h1 ∧ h0.2 ≤ h1.2 ∧ (∀ j, j < h0.2 → j ≠ a → h1.1 j = h0.1 j) ∧ ∃ f : Nat → Value, h1.1 a = (x_hk w, n.toNat, f) ∧ ∀ j : Int, 0 ≤ j → j < n → f j.toNat = x_hv w (if j = i then t_clip v w else num j) ∧ x_wr w (if j = i then t_clip v w else num j)
theorem x_px {kd n : Nat} {f : Nat → Value} {χ : t_S} {h0 h9 : e_A} (h4 : 413 ≤ h9.2) (he : e_ext h0 h9) : x_PX kd χ h0 (.inr (x_H χ h9).2) (e_push (x_H χ h9) (kd, n, f)) := by
  refine ⟨⟨_, rfl, ?_⟩, e_push h9 (kd, n, f), e_ext_tr he (e_ext_push _ _), x_push (by omega)⟩
  rw [e_push_at]
theorem x_pi {w n i v : Int} {num : Int → Int} {a kd : Nat} {f : Nat → Value} {x : Value} {χ : t_S} {h0 h9 : e_A} {A : Option Value} (H : x_ar h0 w n num a) (hk : kd = x_hk w) (he : e_ext h0 h9) (hi : 0 ≤ i ∧ i < n) (hx : x = x_hv w (t_clip v w)) (hf : ∀ j : Int, 0 ≤ j → j < n → f j.toNat = x_hv w (num j) ∧ x_wr w (num j)) : x_PI w n i v num a χ h0 A (.inl A) (e_set (x_H χ h9) a (kd, n.toNat, updV f i.toNat x)) := by
  obtain ⟨a1, a2, a3, -⟩ := H
  refine ⟨rfl, e_set h9 a (kd, n.toNat, updV f i.toNat x), x_set_fr (Or.inr (Or.inr (by omega))), he.1, fun j hj hne => ?_, updV f i.toNat x, ?_, fun j j0 j1 => ?_⟩
  · show (if j = a then _ else h9.1 j) = _
    rw [if_neg hne]
    exact he.2 j hj
  · rw [e_set_at, hk]
  · show (if j.toNat = i.toNat then x else f j.toNat) = _ ∧ _
    by_cases q : j = i
    · rw [if_pos (by rw [q]), if_pos q]
      exact ⟨hx, x_wr_clip v w⟩
    · rw [if_neg (by omega), if_neg q]
      exact hf j j0 j1
theorem z_72_cc : Cond.not (.castable (e_cn 72) "java/lang/ClassCastException") ∈ flatC (Jvm.Cond.and given_1 narrow_1) := by decide +kernel
theorem z_71_cc : Cond.not (.castable (e_cn 71) "java/lang/ClassCastException") ∈ flatC (Jvm.Cond.and given_1 narrow_1) := by decide +kernel
theorem z_72_np : Cond.not (.castable (e_cn 72) "java/lang/NullPointerException") ∈ flatC (Jvm.Cond.and given_1 narrow_1) := by decide +kernel
theorem C_X1_putWiderN {χ : t_S} {h0 : e_A} {s : Int} (hs : 0 ≤ s ∧ s < 4) (hχ : χ 35 s = -1) (h4 : 413 ≤ h0.2) {i v : Int} : e_C mX1_putWider [.ref (352 + s.toNat), e_i i, e_j v] (x_H χ h0) 1 8 0 (x_PX 71 χ h0) := by
  refine e_enter (al0 := [.ref (352 + s.toNat), e_i i, e_j v, .retAddr 0, .retAddr 0, .retAddr 0]) (by decide +kernel) rfl (Nat.le_of_ble_eq_true rfl) ?_
  refine e_aload_n dX1_putWider_0 rfl ?_
  refine x_getH .null dX1_putWider_1 fl_X1_9 hs (by rw [hχ]; rfl) ?_
  refine e_castN dX1_putWider_4 ?_
  refine e_astore4N dX1_putWider_7 rfl ?_
  refine e_aloadN dX1_putWider_9 rfl ?_
  refine e_iload_n dX1_putWider_11 rfl ?_
  refine e_lload_n dX1_putWider_12 rfl ?_
  refine e_l2i dX1_putWider_13 ?_
  refine e_bud (kc1 := 0 + 1) (ks1 := 0 + 8) (by decide) (by decide) ?_
  refine e_iastN dX1_putWider_14 rfl ?_
  refine e_outX (fun z hz => ?_) ?_
  · rcases List.mem_singleton.mp hz with rfl
    exact Or.inr ⟨by decide, "java/lang/ClassCastException", q346, by rw [e_push_at]; exact z_71_cc⟩
  · exact x_px (by omega) ⟨Nat.le_refl _, fun _ _ => rfl⟩
theorem C_X1_putWider2 {χ : t_S} {h0 : e_A} {s : Int} (hs : 0 ≤ s ∧ s < 4) {n : Int} {num : Int → Int} {a : Nat} (hχ : χ 35 s = (a : Int)) (H : x_ar h0 2 n num a) {i v : Int} (hi : 0 ≤ i ∧ i < n) : e_C mX1_putWider [.ref (352 + s.toNat), e_i i, e_j v] (x_H χ h0) 0 0 0 (x_PI 2 n i v num a χ h0 none) := by
  obtain ⟨f, ho, hf⟩ := x_arH (χ := χ) H
  have ho : (x_H χ h0).1 a = (50, n.toNat, f) := ho
  have hn := H.2.1
  have ha := H.2.2.1
  refine e_enter (al0 := [.ref (352 + s.toNat), e_i i, e_j v, .retAddr 0, .retAddr 0, .retAddr 0]) (by decide +kernel) rfl (Nat.le_of_ble_eq_true rfl) ?_
  refine e_aload_n dX1_putWider_0 rfl ?_
  refine x_getH (.ref a) dX1_putWider_1 fl_X1_9 hs (x_v35 hχ) ?_
  refine e_castA dX1_putWider_4 ho (by decide) q360 ?_
  refine e_astore4 dX1_putWider_7 rfl ?_
  refine e_aload dX1_putWider_9 rfl ?_
  refine e_iload_n dX1_putWider_11 rfl ?_
  refine e_lload_n dX1_putWider_12 rfl ?_
  refine e_l2i dX1_putWider_13 ?_
  refine e_iast i.toNat dX1_putWider_14 ho (by omega) rfl (Int.toNat_of_nonneg hi.1).symm (by omega) (by omega) ?_
  refine e_goto (tgt := 34) dX1_putWider_15 rfl ?_
  refine e_return dX1_putWider_34 rfl ?_
  exact x_pi H rfl ⟨Nat.le_refl _, fun _ _ => rfl⟩ hi (congrArg Value.int (t_i32_law v)) hf
theorem C_X1_putWider2Z {χ : t_S} {h0 : e_A} {s : Int} (hs : 0 ≤ s ∧ s < 4) {n : Int} {num : Int → Int} {a : Nat} (hχ : χ 35 s = (a : Int)) (H : x_ar h0 2 n num a) {i v : Int} (hr : e_rg i) (hi : i < 0 ∨ n ≤ i) : e_C mX1_putWider [.ref (352 + s.toNat), e_i i, e_j v] (x_H χ h0) 3 222 0 (x_PX 72 χ h0) := by
  obtain ⟨f, ho, hf⟩ := x_arH (χ := χ) H
  have ho : (x_H χ h0).1 a = (50, n.toNat, f) := ho
  have hn := H.2.1
  have ha := H.2.2.1
  refine e_enter (al0 := [.ref (352 + s.toNat), e_i i, e_j v, .retAddr 0, .retAddr 0, .retAddr 0]) (by decide +kernel) rfl (Nat.le_of_ble_eq_true rfl) ?_
  refine e_aload_n dX1_putWider_0 rfl ?_
  refine x_getH (.ref a) dX1_putWider_1 fl_X1_9 hs (x_v35 hχ) ?_
  refine e_castA dX1_putWider_4 ho (by decide) q360 ?_
  refine e_astore4 dX1_putWider_7 rfl ?_
  refine e_aload dX1_putWider_9 rfl ?_
  refine e_iload_n dX1_putWider_11 rfl ?_
  refine e_lload_n dX1_putWider_12 rfl ?_
  refine e_l2i dX1_putWider_13 ?_
  refine e_bud (kc1 := 0 + 3) (ks1 := 0 + 222) (by decide) (by decide) ?_
  refine e_iastZ dX1_putWider_14 ho hr (by omega) (by omega) rfl ?_
  refine e_outX (fun z hz => ?_) ?_
  · rcases List.mem_singleton.mp hz with rfl
    exact Or.inr ⟨by decide, "java/lang/ClassCastException", q346, by rw [e_push_at]; exact z_72_cc⟩
  · exact x_px (by omega) ⟨Nat.le_refl _, fun _ _ => rfl⟩
theorem C_X1_putWider3 {χ : t_S} {h0 : e_A} {s : Int} (hs : 0 ≤ s ∧ s < 4) {n : Int} {num : Int → Int} {a : Nat} (hχ : χ 35 s = (a : Int)) (H : x_ar h0 3 n num a) {i v : Int} (hi : 0 ≤ i ∧ i < n) : e_C mX1_putWider [.ref (352 + s.toNat), e_i i, e_j v] (x_H χ h0) 3 310 0 (x_PI 3 n i v num a χ h0 none) := by
  obtain ⟨f, ho, hf⟩ := x_arH (χ := χ) H
  have ho : (x_H χ h0).1 a = (54, n.toNat, f) := ho
  have hn := H.2.1
  have ha := H.2.2.1
  refine e_enter (al0 := [.ref (352 + s.toNat), e_i i, e_j v, .retAddr 0, .retAddr 0, .retAddr 0]) (by decide +kernel) rfl (Nat.le_of_ble_eq_true rfl) ?_
  refine e_aload_n dX1_putWider_0 rfl ?_
  refine x_getH (.ref a) dX1_putWider_1 fl_X1_9 hs (x_v35 hχ) ?_
  refine e_bud (kc1 := 0 + 3) (ks1 := 0 + 310) (by decide) (by decide) ?_
  refine e_castZ dX1_putWider_4 ho q360 z_n54_50 rfl ?_
  refine e_catch [] (0, 15, 18, 36) [] rfl (fun z hz => by cases hz) ⟨by decide, by decide⟩ (by decide) q346 (by rw [e_push_at]; exact q358) ?_
  rw [x_push (by omega)]
  have he : e_ext h0 (e_push h0 (73, 0, fun _ => .null)) := e_ext_push _ _
  have ho : (x_H χ (e_push h0 (73, 0, fun _ => .null))).1 a = (54, n.toNat, f) := by
    rw [x_H_fr (Or.inr (Or.inr (by omega))), he.2 a (by omega), ← x_H_fr (χ := χ) (h0 := h0) (Or.inr (Or.inr (by omega)))]
    exact ho
  refine e_astore4 dX1_putWider_18 rfl ?_
  refine e_aload_n dX1_putWider_20 rfl ?_
  refine x_getH (.ref a) dX1_putWider_21 fl_X1_9 hs (x_v35 hχ) ?_
  refine e_castA dX1_putWider_24 ho (by decide) q361 ?_
  refine e_astore5 dX1_putWider_27 rfl ?_
  refine e_aload dX1_putWider_29 rfl ?_
  refine e_iload_n dX1_putWider_31 rfl ?_
  refine e_lload_n dX1_putWider_32 rfl ?_
  refine e_last i.toNat dX1_putWider_33 ho (by omega) rfl (Int.toNat_of_nonneg hi.1).symm (by omega) (by omega) ?_
  refine e_return dX1_putWider_34 rfl ?_
  exact x_pi H rfl he hi rfl hf
theorem C_X1_putWider3Z {χ : t_S} {h0 : e_A} {s : Int} (hs : 0 ≤ s ∧ s < 4) {n : Int} {num : Int → Int} {a : Nat} (hχ : χ 35 s = (a : Int)) (H : x_ar h0 3 n num a) {i v : Int} (hr : e_rg i) (hi : i < 0 ∨ n ≤ i) : e_C mX1_putWider [.ref (352 + s.toNat), e_i i, e_j v] (x_H χ h0) 6 532 0 (x_PX 72 χ h0) := by
  obtain ⟨f, ho, hf⟩ := x_arH (χ := χ) H
  have ho : (x_H χ h0).1 a = (54, n.toNat, f) := ho
  have hn := H.2.1
  have ha := H.2.2.1
  refine e_enter (al0 := [.ref (352 + s.toNat), e_i i, e_j v, .retAddr 0, .retAddr 0, .retAddr 0]) (by decide +kernel) rfl (Nat.le_of_ble_eq_true rfl) ?_
  refine e_aload_n dX1_putWider_0 rfl ?_
  refine x_getH (.ref a) dX1_putWider_1 fl_X1_9 hs (x_v35 hχ) ?_
  refine e_bud (kc1 := 3 + 3) (ks1 := 222 + 310) (by decide) (by decide) ?_
  refine e_castZ dX1_putWider_4 ho q360 z_n54_50 rfl ?_
  refine e_catch [] (0, 15, 18, 36) [] rfl (fun z hz => by cases hz) ⟨by decide, by decide⟩ (by decide) q346 (by rw [e_push_at]; exact q358) ?_
  rw [x_push (by omega)]
  have he : e_ext h0 (e_push h0 (73, 0, fun _ => .null)) := e_ext_push _ _
  have ho : (x_H χ (e_push h0 (73, 0, fun _ => .null))).1 a = (54, n.toNat, f) := by
    rw [x_H_fr (Or.inr (Or.inr (by omega))), he.2 a (by omega), ← x_H_fr (χ := χ) (h0 := h0) (Or.inr (Or.inr (by omega)))]
    exact ho
  refine e_astore4 dX1_putWider_18 rfl ?_
  refine e_aload_n dX1_putWider_20 rfl ?_
  refine x_getH (.ref a) dX1_putWider_21 fl_X1_9 hs (x_v35 hχ) ?_
  refine e_castA dX1_putWider_24 ho (by decide) q361 ?_
  refine e_astore5 dX1_putWider_27 rfl ?_
  refine e_aload dX1_putWider_29 rfl ?_
  refine e_iload_n dX1_putWider_31 rfl ?_
  refine e_lload_n dX1_putWider_32 rfl ?_
  refine e_bud (kc1 := 0 + 3) (ks1 := 0 + 222) (by decide) (by decide) ?_
  refine e_lastZ dX1_putWider_33 ho hr (by omega) (by omega) rfl ?_
  refine e_outX (fun z hz => ?_) ?_
  · rcases List.mem_singleton.mp hz with rfl
    exact Or.inl (by decide)
  · exact x_px (by show 413 ≤ h0.2 + 1; omega) he
theorem C_X1_putN {χ : t_S} {h0 : e_A} {s : Int} (hs : 0 ≤ s ∧ s < 4) (hχ : χ 35 s = -1) (h4 : 413 ≤ h0.2) {i v : Int} : e_C mX1_put [.ref (352 + s.toNat), e_i i, e_j v] (x_H χ h0) 1 8 1 (x_PX 71 χ h0) := by
  refine e_enter (al0 := [.ref (352 + s.toNat), e_i i, e_j v, .retAddr 0, .retAddr 0]) (by decide +kernel) rfl (Nat.le_of_ble_eq_true rfl) ?_
  refine e_aload_n dX1_put_0 rfl ?_
  refine x_getH .null dX1_put_1 fl_X1_9 hs (by rw [hχ]; rfl) ?_
  refine e_instN dX1_put_4 ?_
  refine e_if_eq (tgt := 29) dX1_put_7 rfl ⟨by omega, by omega⟩ (fun c1 => ?_) (fun q => by exfalso; omega)
  refine e_aload_n dX1_put_29 rfl ?_
  refine x_getH .null dX1_put_30 fl_X1_9 hs (by rw [hχ]; rfl) ?_
  refine e_instN dX1_put_33 ?_
  refine e_if_eq (tgt := 58) dX1_put_36 rfl ⟨by omega, by omega⟩ (fun c2 => ?_) (fun q => by exfalso; omega)
  refine e_aload_n dX1_put_58 rfl ?_
  refine e_iload_n dX1_put_59 rfl ?_
  refine e_lload_n dX1_put_60 rfl ?_
  refine e_bud (kc1 := 0 + 1) (ks1 := 0 + 8) (by decide) (by decide) ?_
  refine e_callW2 (M1 := mX1_putWider) (kc := 0) (ks := 0) (mc := 1) (ms := 8) (ci := 1) dX1_put_61 q342 md_X1_putWider (by decide) q344 qs3 (x_o1 χ h0 hs) (by decide) rfl (Nat.le_of_ble_eq_true rfl) (C_X1_putWiderN hs hχ h4) (fun a hh q => by obtain ⟨⟨i1, e1, e2⟩, -⟩ := q; cases e1) (fun i hh q => ?_)
  
  exact e_out rfl q
theorem C_X1_put0 {χ : t_S} {h0 : e_A} {s : Int} (hs : 0 ≤ s ∧ s < 4) {n : Int} {num : Int → Int} {a : Nat} (hχ : χ 35 s = (a : Int)) (H : x_ar h0 0 n num a) {i v : Int} (hi : 0 ≤ i ∧ i < n) : e_C mX1_put [.ref (352 + s.toNat), e_i i, e_j v] (x_H χ h0) 3 310 1 (x_PI 0 n i v num a χ h0 none) := by
  obtain ⟨f, ho, hf⟩ := x_arH (χ := χ) H
  have ho : (x_H χ h0).1 a = (52, n.toNat, f) := ho
  have hn := H.2.1
  have ha := H.2.2.1
  refine e_enter (al0 := [.ref (352 + s.toNat), e_i i, e_j v, .retAddr 0, .retAddr 0]) (by decide +kernel) rfl (Nat.le_of_ble_eq_true rfl) ?_
  refine e_aload_n dX1_put_0 rfl ?_
  refine x_getH (.ref a) dX1_put_1 fl_X1_9 hs (x_v35 hχ) ?_
  refine e_instA dX1_put_4 ho (by decide) q340 ?_
  refine e_if_eq (tgt := 29) dX1_put_7 rfl ⟨by omega, by omega⟩ (fun q => by exfalso; omega) (fun c1 => ?_)
  refine e_aload_n dX1_put_10 rfl ?_
  refine x_getH (.ref a) dX1_put_11 fl_X1_9 hs (x_v35 hχ) ?_
  refine e_castA dX1_put_14 ho (by decide) q340 ?_
  refine e_astore4 dX1_put_17 rfl ?_
  refine e_aload dX1_put_19 rfl ?_
  refine e_iload_n dX1_put_21 rfl ?_
  refine e_lload_n dX1_put_22 rfl ?_
  refine e_l2i dX1_put_23 ?_
  refine e_i2b dX1_put_24 (t_i8_law v) ?_
  refine e_bast i.toNat dX1_put_25 ho (by omega) (x_nb v) (Int.toNat_of_nonneg hi.1).symm (by omega) (by omega) ?_
  refine e_goto (tgt := 64) dX1_put_26 rfl ?_
  refine e_return dX1_put_64 rfl ?_
  have hrg := t_i8_rg v
  exact x_pi H rfl ⟨Nat.le_refl _, fun _ _ => rfl⟩ hi rfl hf
theorem C_X1_put0Z {χ : t_S} {h0 : e_A} {s : Int} (hs : 0 ≤ s ∧ s < 4) {n : Int} {num : Int → Int} {a : Nat} (hχ : χ 35 s = (a : Int)) (H : x_ar h0 0 n num a) {i v : Int} (hr : e_rg i) (hi : i < 0 ∨ n ≤ i) : e_C mX1_put [.ref (352 + s.toNat), e_i i, e_j v] (x_H χ h0) 6 532 1 (x_PX 72 χ h0) := by
  obtain ⟨f, ho, hf⟩ := x_arH (χ := χ) H
  have ho : (x_H χ h0).1 a = (52, n.toNat, f) := ho
  have hn := H.2.1
  have ha := H.2.2.1
  refine e_enter (al0 := [.ref (352 + s.toNat), e_i i, e_j v, .retAddr 0, .retAddr 0]) (by decide +kernel) rfl (Nat.le_of_ble_eq_true rfl) ?_
  refine e_aload_n dX1_put_0 rfl ?_
  refine x_getH (.ref a) dX1_put_1 fl_X1_9 hs (x_v35 hχ) ?_
  refine e_instA dX1_put_4 ho (by decide) q340 ?_
  refine e_if_eq (tgt := 29) dX1_put_7 rfl ⟨by omega, by omega⟩ (fun q => by exfalso; omega) (fun c1 => ?_)
  refine e_aload_n dX1_put_10 rfl ?_
  refine x_getH (.ref a) dX1_put_11 fl_X1_9 hs (x_v35 hχ) ?_
  refine e_castA dX1_put_14 ho (by decide) q340 ?_
  refine e_astore4 dX1_put_17 rfl ?_
  refine e_aload dX1_put_19 rfl ?_
  refine e_iload_n dX1_put_21 rfl ?_
  refine e_lload_n dX1_put_22 rfl ?_
  refine e_l2i dX1_put_23 ?_
  refine e_i2b dX1_put_24 (t_i8_law v) ?_
  refine e_bud (kc1 := 0 + 3) (ks1 := 0 + 222) (by decide) (by decide) ?_
  refine e_bastZ dX1_put_25 ho hr (by omega) (by omega) rfl ?_
  exact e_out rfl (x_px (by omega) ⟨Nat.le_refl _, fun _ _ => rfl⟩)
theorem C_X1_put1 {χ : t_S} {h0 : e_A} {s : Int} (hs : 0 ≤ s ∧ s < 4) {n : Int} {num : Int → Int} {a : Nat} (hχ : χ 35 s = (a : Int)) (H : x_ar h0 1 n num a) {i v : Int} (hi : 0 ≤ i ∧ i < n) : e_C mX1_put [.ref (352 + s.toNat), e_i i, e_j v] (x_H χ h0) 3 310 1 (x_PI 1 n i v num a χ h0 none) := by
  obtain ⟨f, ho, hf⟩ := x_arH (χ := χ) H
  have ho : (x_H χ h0).1 a = (53, n.toNat, f) := ho
  have hn := H.2.1
  have ha := H.2.2.1
  refine e_enter (al0 := [.ref (352 + s.toNat), e_i i, e_j v, .retAddr 0, .retAddr 0]) (by decide +kernel) rfl (Nat.le_of_ble_eq_true rfl) ?_
  refine e_aload_n dX1_put_0 rfl ?_
  refine x_getH (.ref a) dX1_put_1 fl_X1_9 hs (x_v35 hχ) ?_
  refine e_instNA dX1_put_4 ho (by decide) q340 z_n53_52 ?_
  refine e_if_eq (tgt := 29) dX1_put_7 rfl ⟨by omega, by omega⟩ (fun c1 => ?_) (fun q => by exfalso; omega)
  refine e_aload_n dX1_put_29 rfl ?_
  refine x_getH (.ref a) dX1_put_30 fl_X1_9 hs (x_v35 hχ) ?_
  refine e_instA dX1_put_33 ho (by decide) q341 ?_
  refine e_if_eq (tgt := 58) dX1_put_36 rfl ⟨by omega, by omega⟩ (fun q => by exfalso; omega) (fun c2 => ?_)
  refine e_aload_n dX1_put_39 rfl ?_
  refine x_getH (.ref a) dX1_put_40 fl_X1_9 hs (x_v35 hχ) ?_
  refine e_castA dX1_put_43 ho (by decide) q341 ?_
  refine e_astore4 dX1_put_46 rfl ?_
  refine e_aload dX1_put_48 rfl ?_
  refine e_iload_n dX1_put_50 rfl ?_
  refine e_lload_n dX1_put_51 rfl ?_
  refine e_l2i dX1_put_52 ?_
  refine e_i2s dX1_put_53 (t_i16_law v) ?_
  refine e_sast i.toNat dX1_put_54 ho (by omega) (x_ns v) (Int.toNat_of_nonneg hi.1).symm (by omega) (by omega) ?_
  refine e_goto (tgt := 64) dX1_put_55 rfl ?_
  refine e_return dX1_put_64 rfl ?_
  have hrg := t_i16_rg v
  exact x_pi H rfl ⟨Nat.le_refl _, fun _ _ => rfl⟩ hi rfl hf
theorem C_X1_put1Z {χ : t_S} {h0 : e_A} {s : Int} (hs : 0 ≤ s ∧ s < 4) {n : Int} {num : Int → Int} {a : Nat} (hχ : χ 35 s = (a : Int)) (H : x_ar h0 1 n num a) {i v : Int} (hr : e_rg i) (hi : i < 0 ∨ n ≤ i) : e_C mX1_put [.ref (352 + s.toNat), e_i i, e_j v] (x_H χ h0) 6 532 1 (x_PX 72 χ h0) := by
  obtain ⟨f, ho, hf⟩ := x_arH (χ := χ) H
  have ho : (x_H χ h0).1 a = (53, n.toNat, f) := ho
  have hn := H.2.1
  have ha := H.2.2.1
  refine e_enter (al0 := [.ref (352 + s.toNat), e_i i, e_j v, .retAddr 0, .retAddr 0]) (by decide +kernel) rfl (Nat.le_of_ble_eq_true rfl) ?_
  refine e_aload_n dX1_put_0 rfl ?_
  refine x_getH (.ref a) dX1_put_1 fl_X1_9 hs (x_v35 hχ) ?_
  refine e_instNA dX1_put_4 ho (by decide) q340 z_n53_52 ?_
  refine e_if_eq (tgt := 29) dX1_put_7 rfl ⟨by omega, by omega⟩ (fun c1 => ?_) (fun q => by exfalso; omega)
  refine e_aload_n dX1_put_29 rfl ?_
  refine x_getH (.ref a) dX1_put_30 fl_X1_9 hs (x_v35 hχ) ?_
  refine e_instA dX1_put_33 ho (by decide) q341 ?_
  refine e_if_eq (tgt := 58) dX1_put_36 rfl ⟨by omega, by omega⟩ (fun q => by exfalso; omega) (fun c2 => ?_)
  refine e_aload_n dX1_put_39 rfl ?_
  refine x_getH (.ref a) dX1_put_40 fl_X1_9 hs (x_v35 hχ) ?_
  refine e_castA dX1_put_43 ho (by decide) q341 ?_
  refine e_astore4 dX1_put_46 rfl ?_
  refine e_aload dX1_put_48 rfl ?_
  refine e_iload_n dX1_put_50 rfl ?_
  refine e_lload_n dX1_put_51 rfl ?_
  refine e_l2i dX1_put_52 ?_
  refine e_i2s dX1_put_53 (t_i16_law v) ?_
  refine e_bud (kc1 := 0 + 3) (ks1 := 0 + 222) (by decide) (by decide) ?_
  refine e_sastZ dX1_put_54 ho hr (by omega) (by omega) rfl ?_
  exact e_out rfl (x_px (by omega) ⟨Nat.le_refl _, fun _ _ => rfl⟩)
theorem C_X1_put2 {χ : t_S} {h0 : e_A} {s : Int} (hs : 0 ≤ s ∧ s < 4) {n : Int} {num : Int → Int} {a : Nat} (hχ : χ 35 s = (a : Int)) (H : x_ar h0 2 n num a) {i v : Int} (hi : 0 ≤ i ∧ i < n) : e_C mX1_put [.ref (352 + s.toNat), e_i i, e_j v] (x_H χ h0) 3 310 1 (x_PI 2 n i v num a χ h0 none) := by
  obtain ⟨f, ho, hf⟩ := x_arH (χ := χ) H
  have ho : (x_H χ h0).1 a = (50, n.toNat, f) := ho
  have hn := H.2.1
  have ha := H.2.2.1
  refine e_enter (al0 := [.ref (352 + s.toNat), e_i i, e_j v, .retAddr 0, .retAddr 0]) (by decide +kernel) rfl (Nat.le_of_ble_eq_true rfl) ?_
  refine e_aload_n dX1_put_0 rfl ?_
  refine x_getH (.ref a) dX1_put_1 fl_X1_9 hs (x_v35 hχ) ?_
  refine e_instNA dX1_put_4 ho (by decide) q340 z_n50_52 ?_
  refine e_if_eq (tgt := 29) dX1_put_7 rfl ⟨by omega, by omega⟩ (fun c1 => ?_) (fun q => by exfalso; omega)
  refine e_aload_n dX1_put_29 rfl ?_
  refine x_getH (.ref a) dX1_put_30 fl_X1_9 hs (x_v35 hχ) ?_
  refine e_instNA dX1_put_33 ho (by decide) q341 z_n50_53 ?_
  refine e_if_eq (tgt := 58) dX1_put_36 rfl ⟨by omega, by omega⟩ (fun c2 => ?_) (fun q => by exfalso; omega)
  refine e_aload_n dX1_put_58 rfl ?_
  refine e_iload_n dX1_put_59 rfl ?_
  refine e_lload_n dX1_put_60 rfl ?_
  refine e_bud (kc1 := 3 + 0) (ks1 := 310 + 0) (by decide) (by decide) ?_
  refine e_callW2 (M1 := mX1_putWider) (kc := 3) (ks := 310) (mc := 0) (ms := 0) (ci := 1) dX1_put_61 q342 md_X1_putWider (by decide) q344 qs3 (x_o1 χ h0 hs) (by decide) rfl (Nat.le_of_ble_eq_true rfl) (C_X1_putWider2 hs hχ H hi) (fun a hh q => ?_) (fun i hh q => by cases q.1)
  obtain ⟨q1, q2⟩ := q
  cases q1
  show e_E _ _ _ _ _ _ _ _ _
  refine e_return dX1_put_64 rfl ?_
  exact ⟨rfl, q2⟩
theorem C_X1_put2Z {χ : t_S} {h0 : e_A} {s : Int} (hs : 0 ≤ s ∧ s < 4) {n : Int} {num : Int → Int} {a : Nat} (hχ : χ 35 s = (a : Int)) (H : x_ar h0 2 n num a) {i v : Int} (hr : e_rg i) (hi : i < 0 ∨ n ≤ i) : e_C mX1_put [.ref (352 + s.toNat), e_i i, e_j v] (x_H χ h0) 6 532 1 (x_PX 72 χ h0) := by
  obtain ⟨f, ho, hf⟩ := x_arH (χ := χ) H
  have ho : (x_H χ h0).1 a = (50, n.toNat, f) := ho
  have hn := H.2.1
  have ha := H.2.2.1
  refine e_enter (al0 := [.ref (352 + s.toNat), e_i i, e_j v, .retAddr 0, .retAddr 0]) (by decide +kernel) rfl (Nat.le_of_ble_eq_true rfl) ?_
  refine e_aload_n dX1_put_0 rfl ?_
  refine x_getH (.ref a) dX1_put_1 fl_X1_9 hs (x_v35 hχ) ?_
  refine e_instNA dX1_put_4 ho (by decide) q340 z_n50_52 ?_
  refine e_if_eq (tgt := 29) dX1_put_7 rfl ⟨by omega, by omega⟩ (fun c1 => ?_) (fun q => by exfalso; omega)
  refine e_aload_n dX1_put_29 rfl ?_
  refine x_getH (.ref a) dX1_put_30 fl_X1_9 hs (x_v35 hχ) ?_
  refine e_instNA dX1_put_33 ho (by decide) q341 z_n50_53 ?_
  refine e_if_eq (tgt := 58) dX1_put_36 rfl ⟨by omega, by omega⟩ (fun c2 => ?_) (fun q => by exfalso; omega)
  refine e_aload_n dX1_put_58 rfl ?_
  refine e_iload_n dX1_put_59 rfl ?_
  refine e_lload_n dX1_put_60 rfl ?_
  refine e_bud (kc1 := 3 + 3) (ks1 := 310 + 222) (by decide) (by decide) ?_
  refine e_callW2 (M1 := mX1_putWider) (kc := 3) (ks := 310) (mc := 3) (ms := 222) (ci := 1) dX1_put_61 q342 md_X1_putWider (by decide) q344 qs3 (x_o1 χ h0 hs) (by decide) rfl (Nat.le_of_ble_eq_true rfl) (C_X1_putWider2Z hs hχ H hr hi) (fun a hh q => by obtain ⟨⟨i1, e1, e2⟩, -⟩ := q; cases e1) (fun i hh q => ?_)
  
  exact e_out rfl q
theorem C_X1_put3 {χ : t_S} {h0 : e_A} {s : Int} (hs : 0 ≤ s ∧ s < 4) {n : Int} {num : Int → Int} {a : Nat} (hχ : χ 35 s = (a : Int)) (H : x_ar h0 3 n num a) {i v : Int} (hi : 0 ≤ i ∧ i < n) : e_C mX1_put [.ref (352 + s.toNat), e_i i, e_j v] (x_H χ h0) 3 310 1 (x_PI 3 n i v num a χ h0 none) := by
  obtain ⟨f, ho, hf⟩ := x_arH (χ := χ) H
  have ho : (x_H χ h0).1 a = (54, n.toNat, f) := ho
  have hn := H.2.1
  have ha := H.2.2.1
  refine e_enter (al0 := [.ref (352 + s.toNat), e_i i, e_j v, .retAddr 0, .retAddr 0]) (by decide +kernel) rfl (Nat.le_of_ble_eq_true rfl) ?_
  refine e_aload_n dX1_put_0 rfl ?_
  refine x_getH (.ref a) dX1_put_1 fl_X1_9 hs (x_v35 hχ) ?_
  refine e_instNA dX1_put_4 ho (by decide) q340 z_n54_52 ?_
  refine e_if_eq (tgt := 29) dX1_put_7 rfl ⟨by omega, by omega⟩ (fun c1 => ?_) (fun q => by exfalso; omega)
  refine e_aload_n dX1_put_29 rfl ?_
  refine x_getH (.ref a) dX1_put_30 fl_X1_9 hs (x_v35 hχ) ?_
  refine e_instNA dX1_put_33 ho (by decide) q341 z_n54_53 ?_
  refine e_if_eq (tgt := 58) dX1_put_36 rfl ⟨by omega, by omega⟩ (fun c2 => ?_) (fun q => by exfalso; omega)
  refine e_aload_n dX1_put_58 rfl ?_
  refine e_iload_n dX1_put_59 rfl ?_
  refine e_lload_n dX1_put_60 rfl ?_
  refine e_bud (kc1 := 0 + 3) (ks1 := 0 + 310) (by decide) (by decide) ?_
  refine e_callW2 (M1 := mX1_putWider) (kc := 0) (ks := 0) (mc := 3) (ms := 310) (ci := 1) dX1_put_61 q342 md_X1_putWider (by decide) q344 qs3 (x_o1 χ h0 hs) (by decide) rfl (Nat.le_of_ble_eq_true rfl) (C_X1_putWider3 hs hχ H hi) (fun a hh q => ?_) (fun i hh q => by cases q.1)
  obtain ⟨q1, q2⟩ := q
  cases q1
  show e_E _ _ _ _ _ _ _ _ _
  refine e_return dX1_put_64 rfl ?_
  exact ⟨rfl, q2⟩
theorem C_X1_put3Z {χ : t_S} {h0 : e_A} {s : Int} (hs : 0 ≤ s ∧ s < 4) {n : Int} {num : Int → Int} {a : Nat} (hχ : χ 35 s = (a : Int)) (H : x_ar h0 3 n num a) {i v : Int} (hr : e_rg i) (hi : i < 0 ∨ n ≤ i) : e_C mX1_put [.ref (352 + s.toNat), e_i i, e_j v] (x_H χ h0) 6 532 1 (x_PX 72 χ h0) := by
  obtain ⟨f, ho, hf⟩ := x_arH (χ := χ) H
  have ho : (x_H χ h0).1 a = (54, n.toNat, f) := ho
  have hn := H.2.1
  have ha := H.2.2.1
  refine e_enter (al0 := [.ref (352 + s.toNat), e_i i, e_j v, .retAddr 0, .retAddr 0]) (by decide +kernel) rfl (Nat.le_of_ble_eq_true rfl) ?_
  refine e_aload_n dX1_put_0 rfl ?_
  refine x_getH (.ref a) dX1_put_1 fl_X1_9 hs (x_v35 hχ) ?_
  refine e_instNA dX1_put_4 ho (by decide) q340 z_n54_52 ?_
  refine e_if_eq (tgt := 29) dX1_put_7 rfl ⟨by omega, by omega⟩ (fun c1 => ?_) (fun q => by exfalso; omega)
  refine e_aload_n dX1_put_29 rfl ?_
  refine x_getH (.ref a) dX1_put_30 fl_X1_9 hs (x_v35 hχ) ?_
  refine e_instNA dX1_put_33 ho (by decide) q341 z_n54_53 ?_
  refine e_if_eq (tgt := 58) dX1_put_36 rfl ⟨by omega, by omega⟩ (fun c2 => ?_) (fun q => by exfalso; omega)
  refine e_aload_n dX1_put_58 rfl ?_
  refine e_iload_n dX1_put_59 rfl ?_
  refine e_lload_n dX1_put_60 rfl ?_
  refine e_bud (kc1 := 0 + 6) (ks1 := 0 + 532) (by decide) (by decide) ?_
  refine e_callW2 (M1 := mX1_putWider) (kc := 0) (ks := 0) (mc := 6) (ms := 532) (ci := 1) dX1_put_61 q342 md_X1_putWider (by decide) q344 qs3 (x_o1 χ h0 hs) (by decide) rfl (Nat.le_of_ble_eq_true rfl) (C_X1_putWider3Z hs hχ H hr hi) (fun a hh q => by obtain ⟨⟨i1, e1, e2⟩, -⟩ := q; cases e1) (fun i hh q => ?_)
  
  exact e_out rfl q
theorem C_X1_put {χ : t_S} {h0 : e_A} {s : Int} (hs : 0 ≤ s ∧ s < 4) {w n : Int} {num : Int → Int} {a : Nat} (hχ : χ 35 s = (a : Int)) (H : x_ar h0 w n num a) {i v : Int} (hi : 0 ≤ i ∧ i < n) : e_C mX1_put [.ref (352 + s.toNat), e_i i, e_j v] (x_H χ h0) 3 310 1 (x_PI w n i v num a χ h0 none) := by
  have hw : w = 0 ∨ w = 1 ∨ w = 2 ∨ w = 3 := by have := H.1; omega
  rcases hw with rfl | rfl | rfl | rfl
  · exact C_X1_put0 hs hχ H hi
  · exact C_X1_put1 hs hχ H hi
  · exact C_X1_put2 hs hχ H hi
  · exact C_X1_put3 hs hχ H hi
theorem C_X1_putZ {χ : t_S} {h0 : e_A} {s : Int} (hs : 0 ≤ s ∧ s < 4) {w n : Int} {num : Int → Int} {a : Nat} (hχ : χ 35 s = (a : Int)) (H : x_ar h0 w n num a) {i v : Int} (hr : e_rg i) (hi : i < 0 ∨ n ≤ i) : e_C mX1_put [.ref (352 + s.toNat), e_i i, e_j v] (x_H χ h0) 6 532 1 (x_PX 72 χ h0) := by
  have hw : w = 0 ∨ w = 1 ∨ w = 2 ∨ w = 3 := by have := H.1; omega
  rcases hw with rfl | rfl | rfl | rfl
  · exact C_X1_put0Z hs hχ H hr hi
  · exact C_X1_put1Z hs hχ H hr hi
  · exact C_X1_put2Z hs hχ H hr hi
  · exact C_X1_put3Z hs hχ H hr hi
theorem C_X1_putsN {χ : t_S} {h0 : e_A} {s : Int} (hs : 0 ≤ s ∧ s < 4) (hχ : χ 35 s = -1) (h4 : 413 ≤ h0.2) {i v : Int} : e_C mX1_puts [.ref (352 + s.toNat), e_i i, e_j v] (x_H χ h0) 1 8 2 (x_P (e_i (-6)) χ h0) := by
  refine e_enter (al0 := [.ref (352 + s.toNat), e_i i, e_j v, .retAddr 0, .retAddr 0]) (by decide +kernel) rfl (Nat.le_of_ble_eq_true rfl) ?_
  refine e_aload_n dX1_puts_0 rfl ?_
  refine e_iload_n dX1_puts_1 rfl ?_
  refine e_lload_n dX1_puts_2 rfl ?_
  refine e_bud (kc1 := 0 + 1) (ks1 := 0 + 8) (by decide) (by decide) ?_
  refine e_callV2 (M1 := mX1_put) (kc := 0) (ks := 0) (mc := 1) (ms := 8) (ci := 1) dX1_puts_3 lk_X1_25 md_X1_put rfl q337 qs2 (x_o1 χ h0 hs) (by decide) rfl (Nat.le_of_ble_eq_true rfl) (C_X1_putN hs hχ h4) (fun a hh q => by obtain ⟨⟨i1, e1, e2⟩, -⟩ := q; cases e1) (fun i hh q => ?_)
  obtain ⟨⟨i1, e1, hkd⟩, h1, he, rfl⟩ := q
  cases e1
  refine e_catch [] (0, 6, 9, 29) [(0, 6, 14, 31)] rfl (fun z hz => by cases hz) ⟨by decide, by decide⟩ (by decide) q291 (by rw [hkd]; exact q313) ?_
  refine e_astore4 dX1_puts_9 rfl ?_
  refine e_bipush dX1_puts_11 rfl ?_
  refine e_ireturn dX1_puts_13 rfl rfl ?_
  exact ⟨rfl, h1, he, rfl⟩
theorem C_X1_putsZ {χ : t_S} {h0 : e_A} {s : Int} (hs : 0 ≤ s ∧ s < 4) {w n : Int} {num : Int → Int} {a : Nat} (hχ : χ 35 s = (a : Int)) (H : x_ar h0 w n num a) {i v : Int} (hr : e_rg i) (hi : i < 0 ∨ n ≤ i) : e_C mX1_puts [.ref (352 + s.toNat), e_i i, e_j v] (x_H χ h0) 6 532 2 (x_P (e_i (-7)) χ h0) := by
  refine e_enter (al0 := [.ref (352 + s.toNat), e_i i, e_j v, .retAddr 0, .retAddr 0]) (by decide +kernel) rfl (Nat.le_of_ble_eq_true rfl) ?_
  refine e_aload_n dX1_puts_0 rfl ?_
  refine e_iload_n dX1_puts_1 rfl ?_
  refine e_lload_n dX1_puts_2 rfl ?_
  refine e_bud (kc1 := 0 + 6) (ks1 := 0 + 532) (by decide) (by decide) ?_
  refine e_callV2 (M1 := mX1_put) (kc := 0) (ks := 0) (mc := 6) (ms := 532) (ci := 1) dX1_puts_3 lk_X1_25 md_X1_put rfl q337 qs2 (x_o1 χ h0 hs) (by decide) rfl (Nat.le_of_ble_eq_true rfl) (C_X1_putZ hs hχ H hr hi) (fun a hh q => by obtain ⟨⟨i1, e1, e2⟩, -⟩ := q; cases e1) (fun i hh q => ?_)
  obtain ⟨⟨i1, e1, hkd⟩, h1, he, rfl⟩ := q
  cases e1
  refine e_catch [(0, 6, 9, 29)] (0, 6, 14, 31) [] rfl (fun z hz => ?_) ⟨by decide, by decide⟩ (by decide) q316 (by rw [hkd]; exact q331) ?_
  · rcases List.mem_singleton.mp hz with rfl
    exact Or.inr ⟨by decide, "java/lang/NullPointerException", q291, by rw [hkd]; exact z_72_np⟩
  refine e_astore4 dX1_puts_14 rfl ?_
  refine e_bipush dX1_puts_16 rfl ?_
  refine e_ireturn dX1_puts_18 rfl rfl ?_
  exact ⟨rfl, h1, he, rfl⟩
theorem C_X1_puts {χ : t_S} {h0 : e_A} {s : Int} (hs : 0 ≤ s ∧ s < 4) {w n : Int} {num : Int → Int} {a : Nat} (hχ : χ 35 s = (a : Int)) (H : x_ar h0 w n num a) {i v : Int} (hi : 0 ≤ i ∧ i < n) : e_C mX1_puts [.ref (352 + s.toNat), e_i i, e_j v] (x_H χ h0) 3 310 2 (x_PI w n i v num a χ h0 (some (e_i 0))) := by
  refine e_enter (al0 := [.ref (352 + s.toNat), e_i i, e_j v, .retAddr 0, .retAddr 0]) (by decide +kernel) rfl (Nat.le_of_ble_eq_true rfl) ?_
  refine e_aload_n dX1_puts_0 rfl ?_
  refine e_iload_n dX1_puts_1 rfl ?_
  refine e_lload_n dX1_puts_2 rfl ?_
  refine e_bud (kc1 := 0 + 3) (ks1 := 0 + 310) (by decide) (by decide) ?_
  refine e_callV2 (M1 := mX1_put) (kc := 0) (ks := 0) (mc := 3) (ms := 310) (ci := 1) dX1_puts_3 lk_X1_25 md_X1_put rfl q337 qs2 (x_o1 χ h0 hs) (by decide) rfl (Nat.le_of_ble_eq_true rfl) (C_X1_put hs hχ H hi) (fun a hh q => ?_) (fun i hh q => by cases q.1)
  obtain ⟨q1, q2⟩ := q
  cases q1
  show e_E _ _ _ _ _ _ _ _ _
  refine e_goto (tgt := 19) dX1_puts_6 rfl ?_
  refine e_iconst dX1_puts_19 ?_
  refine e_ireturn dX1_puts_20 rfl rfl ?_
  exact ⟨rfl, q2⟩
