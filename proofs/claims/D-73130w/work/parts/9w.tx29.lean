/-! THE COMPONENT: slots pasted; row, write, paste (printed by tx29.py) -/
set_option maxRecDepth 100000
theorem x_fits {w v : Int} (hw : 0 ≤ w ∧ w ≤ 3) (h : x_wr w v) : fits (e_ty (x_hk w)) (x_hv w v) = true ∧ ∀ r, x_hv w v ≠ .ref r := by
  have hw3 : w = 0 ∨ w = 1 ∨ w = 2 ∨ w = 3 := by omega
  have le : ∀ a b : Int, e_rg a → e_rg b → a ≤ b → decide (Int32.ofInt a ≤ Int32.ofInt b) = true := fun a b ha hb q => decide_eq_true ((e_ile ha hb).mpr q)
  rcases hw3 with rfl | rfl | rfl | rfl
  · have h1 := h.1 rfl
    refine ⟨?_, fun r q => by cases q⟩
    show (decide (Int32.ofInt (-128) ≤ Int32.ofInt v) && decide (Int32.ofInt v ≤ Int32.ofInt 127)) = true
    rw [le _ _ (by decide) ⟨by omega, by omega⟩ (by omega), le _ _ ⟨by omega, by omega⟩ (by decide) (by omega)]
    rfl
  · have h1 := h.2.1 rfl
    refine ⟨?_, fun r q => by cases q⟩
    show (decide (Int32.ofInt (-32768) ≤ Int32.ofInt v) && decide (Int32.ofInt v ≤ Int32.ofInt 32767)) = true
    rw [le _ _ (by decide) ⟨by omega, by omega⟩ (by omega), le _ _ ⟨by omega, by omega⟩ (by decide) (by omega)]
    rfl
  · exact ⟨rfl, fun r q => by cases q⟩
  · exact ⟨rfl, fun r q => by cases q⟩
/-- a stretch of one array laid into another -/
def x_PC (w m i k n : Int) (num num1 : Int → Int) (b : Nat) (χ : t_S) (h0 : e_A) : e_R → e_A → Prop := fun r h => r = .inl (some (e_i 0)) ∧ ∃ h1, h = x_H χ h1 ∧ h0.2 ≤ h1.2 ∧ (∀ j, j < h0.2 → j ≠ b → h1.1 j = h0.1 j) ∧ ∃ f : Nat → Value, h1.1 b = (x_hk w, m.toNat, f) ∧ ∀ j : Int, 0 ≤ j → j < m → f j.toNat = x_hv w (if k ≤ j ∧ j < k + n then num (i + (j - k)) else num1 j) ∧ x_wr w (if k ≤ j ∧ j < k + n then num (i + (j - k)) else num1 j)
theorem x_pc {w l m i k n : Int} {num num1 : Int → Int} {b : Nat} {f g : Nat → Value} {χ : t_S} {h0 : e_A} (G : x_ar h0 w m num1 b) (hi : 0 ≤ i) (hk : 0 ≤ k) (hn : 0 ≤ n) (h1 : i + n ≤ l) (h2 : k + n ≤ m) (hf : ∀ j : Int, 0 ≤ j → j < l → f j.toNat = x_hv w (num j) ∧ x_wr w (num j)) (hg : ∀ j : Int, 0 ≤ j → j < m → g j.toNat = x_hv w (num1 j) ∧ x_wr w (num1 j)) : x_PC w m i k n num num1 b χ h0 (.inl (some (e_i 0))) (e_set (x_H χ h0) b (x_hk w, m.toNat, e_cpy f g i.toNat k.toNat n.toNat)) := by
  obtain ⟨a1, a2, a3, -⟩ := G
  refine ⟨rfl, e_set h0 b (x_hk w, m.toNat, e_cpy f g i.toNat k.toNat n.toNat), x_set_fr (Or.inr (Or.inr (by omega))), Nat.le_refl _, fun j hj hne => ?_, _, e_set_at _ _ _, fun j j0 j1 => ?_⟩
  · show (if j = b then _ else h0.1 j) = _
    rw [if_neg hne]
  · by_cases q : k ≤ j ∧ j < k + n
    · rw [if_pos q]
      have e : e_cpy f g i.toNat k.toNat n.toNat j.toNat = f (i + (j - k)).toNat := by
        unfold e_cpy
        rw [if_pos (by omega)]
        congr 1
        omega
      rw [e]
      exact hf _ (by omega) (by omega)
    · rw [if_neg q]
      have e : e_cpy f g i.toNat k.toNat n.toNat j.toNat = g j.toNat := by
        unfold e_cpy
        rw [if_neg (by omega)]
      rw [e]
      exact hg _ j0 j1
theorem C_X1_pastesN1 {χ : t_S} {h0 : e_A} {s : Int} (hs : 0 ≤ s ∧ s < 4) {t : Int} (ht : 0 ≤ t ∧ t < 4) (hχ : χ 35 s = -1) {i k n : Int} : e_C mX1_pastes [.ref (352 + s.toNat), e_i i, .ref (352 + t.toNat), e_i k, e_i n] (x_H χ h0) 0 0 1 (e_ret (e_i (-6)) (x_H χ h0)) := by
  refine e_enter (al0 := [.ref (352 + s.toNat), e_i i, .ref (352 + t.toNat), e_i k, e_i n, .retAddr 0]) (by decide +kernel) rfl (Nat.le_of_ble_eq_true rfl) ?_
  refine e_aload_n dX1_pastes_0 rfl ?_
  refine x_getH .null dX1_pastes_1 fl_X1_9 hs (by rw [hχ]; rfl) ?_
  refine e_ifnullN (tgt := 14) dX1_pastes_4 rfl ?_
  refine e_bipush dX1_pastes_14 rfl ?_
  refine e_ireturn dX1_pastes_16 rfl rfl ?_
  exact ⟨rfl, rfl⟩
theorem C_X1_pastesN2 {χ : t_S} {h0 : e_A} {s : Int} (hs : 0 ≤ s ∧ s < 4) {t : Int} (ht : 0 ≤ t ∧ t < 4) {w l : Int} {num : Int → Int} {a : Nat} (hχ : χ 35 s = (a : Int)) (H : x_ar h0 w l num a) (gχ : χ 35 t = -1) {i k n : Int} : e_C mX1_pastes [.ref (352 + s.toNat), e_i i, .ref (352 + t.toNat), e_i k, e_i n] (x_H χ h0) 0 0 1 (e_ret (e_i (-6)) (x_H χ h0)) := by
  obtain ⟨f, ho, hf⟩ := x_arH (χ := χ) H
  have hw := H.1
  have hl := H.2.1
  have ha := H.2.2.1
  refine e_enter (al0 := [.ref (352 + s.toNat), e_i i, .ref (352 + t.toNat), e_i k, e_i n, .retAddr 0]) (by decide +kernel) rfl (Nat.le_of_ble_eq_true rfl) ?_
  refine e_aload_n dX1_pastes_0 rfl ?_
  refine x_getH (.ref a) dX1_pastes_1 fl_X1_9 hs (x_v35 hχ) ?_
  refine e_ifnull dX1_pastes_4 (by rw [ho]; show x_hk w < 80; have := x_hk_rg w; omega) ?_
  refine e_aload_n dX1_pastes_7 rfl ?_
  refine x_getH .null dX1_pastes_8 fl_X1_9 ht (by rw [gχ]; rfl) ?_
  refine e_ifnonnullN dX1_pastes_11 ?_
  refine e_bipush dX1_pastes_14 rfl ?_
  refine e_ireturn dX1_pastes_16 rfl rfl ?_
  exact ⟨rfl, rfl⟩
theorem C_X1_pastesW {χ : t_S} {h0 : e_A} {s : Int} (hs : 0 ≤ s ∧ s < 4) {t : Int} (ht : 0 ≤ t ∧ t < 4) {w l : Int} {num : Int → Int} {a : Nat} (hχ : χ 35 s = (a : Int)) (H : x_ar h0 w l num a) {v m : Int} {num1 : Int → Int} {b : Nat} (gχ : χ 35 t = (b : Int)) (G : x_ar h0 v m num1 b) {i k n : Int} (hne : w ≠ v) : e_C mX1_pastes [.ref (352 + s.toNat), e_i i, .ref (352 + t.toNat), e_i k, e_i n] (x_H χ h0) 0 0 1 (e_ret (e_i (-8)) (x_H χ h0)) := by
  obtain ⟨f, ho, hf⟩ := x_arH (χ := χ) H
  have hw := H.1
  have hl := H.2.1
  have ha := H.2.2.1
  obtain ⟨g, go, hg⟩ := x_arH (χ := χ) G
  have hv := G.1
  have hm := G.2.1
  have hb := G.2.2.1
  refine e_enter (al0 := [.ref (352 + s.toNat), e_i i, .ref (352 + t.toNat), e_i k, e_i n, .retAddr 0]) (by decide +kernel) rfl (Nat.le_of_ble_eq_true rfl) ?_
  refine e_aload_n dX1_pastes_0 rfl ?_
  refine x_getH (.ref a) dX1_pastes_1 fl_X1_9 hs (x_v35 hχ) ?_
  refine e_ifnull dX1_pastes_4 (by rw [ho]; show x_hk w < 80; have := x_hk_rg w; omega) ?_
  refine e_aload_n dX1_pastes_7 rfl ?_
  refine x_getH (.ref b) dX1_pastes_8 fl_X1_9 ht (x_v35 gχ) ?_
  refine e_ifnonnull (tgt := 17) dX1_pastes_11 rfl (by rw [go]; show x_hk v < 80; have := x_hk_rg v; omega) ?_
  refine e_aload_n dX1_pastes_17 rfl ?_
  refine e_callV0rz (ci := 1) dX1_pastes_18 md_X1_width lk_X1_38 rfl q373 qs4 (x_o1 χ h0 hs) (by decide) rfl (Nat.le_of_ble_eq_true rfl) (C_X1_width hs hχ H) ?_
  refine e_aload_n dX1_pastes_21 rfl ?_
  refine e_callV0rz (ci := 1) dX1_pastes_22 md_X1_width lk_X1_38 rfl q373 qs4 (x_o1 χ h0 ht) (by decide) rfl (Nat.le_of_ble_eq_true rfl) (C_X1_width ht gχ G) ?_
  refine e_icmp_eq (tgt := 31) dX1_pastes_25 rfl ⟨by omega, by omega⟩ ⟨by omega, by omega⟩ (fun q => by exfalso; omega) (fun c1 => ?_)
  refine e_bipush dX1_pastes_28 rfl ?_
  refine e_ireturn dX1_pastes_30 rfl rfl ?_
  exact ⟨rfl, rfl⟩
theorem C_X1_pastesZ {χ : t_S} {h0 : e_A} {s : Int} (hs : 0 ≤ s ∧ s < 4) {t : Int} (ht : 0 ≤ t ∧ t < 4) {w l : Int} {num : Int → Int} {a : Nat} (hχ : χ 35 s = (a : Int)) (H : x_ar h0 w l num a) {m : Int} {num1 : Int → Int} {b : Nat} (gχ : χ 35 t = (b : Int)) (G : x_ar h0 w m num1 b) {i k n : Int} (ri : e_rg i) (rk : e_rg k) (rn : e_rg n) (hout : i < 0 ∨ k < 0 ∨ n < 0 ∨ l < i + n ∨ m < k + n) : e_C mX1_pastes [.ref (352 + s.toNat), e_i i, .ref (352 + t.toNat), e_i k, e_i n] (x_H χ h0) 3 430 1 (x_P (e_i (-7)) χ h0) := by
  obtain ⟨f, ho, hf⟩ := x_arH (χ := χ) H
  have hw := H.1
  have hl := H.2.1
  have ha := H.2.2.1
  obtain ⟨g, go, hg⟩ := x_arH (χ := χ) G
  have hv := G.1
  have hm := G.2.1
  have hb := G.2.2.1
  refine e_enter (al0 := [.ref (352 + s.toNat), e_i i, .ref (352 + t.toNat), e_i k, e_i n, .retAddr 0]) (by decide +kernel) rfl (Nat.le_of_ble_eq_true rfl) ?_
  refine e_aload_n dX1_pastes_0 rfl ?_
  refine x_getH (.ref a) dX1_pastes_1 fl_X1_9 hs (x_v35 hχ) ?_
  refine e_ifnull dX1_pastes_4 (by rw [ho]; show x_hk w < 80; have := x_hk_rg w; omega) ?_
  refine e_aload_n dX1_pastes_7 rfl ?_
  refine x_getH (.ref b) dX1_pastes_8 fl_X1_9 ht (x_v35 gχ) ?_
  refine e_ifnonnull (tgt := 17) dX1_pastes_11 rfl (by rw [go]; show x_hk w < 80; have := x_hk_rg w; omega) ?_
  refine e_aload_n dX1_pastes_17 rfl ?_
  refine e_callV0rz (ci := 1) dX1_pastes_18 md_X1_width lk_X1_38 rfl q373 qs4 (x_o1 χ h0 hs) (by decide) rfl (Nat.le_of_ble_eq_true rfl) (C_X1_width hs hχ H) ?_
  refine e_aload_n dX1_pastes_21 rfl ?_
  refine e_callV0rz (ci := 1) dX1_pastes_22 md_X1_width lk_X1_38 rfl q373 qs4 (x_o1 χ h0 ht) (by decide) rfl (Nat.le_of_ble_eq_true rfl) (C_X1_width ht gχ G) ?_
  refine e_icmp_eq (tgt := 31) dX1_pastes_25 rfl ⟨by omega, by omega⟩ ⟨by omega, by omega⟩ (fun c1 => ?_) (fun q => by exfalso; omega)
  refine e_aload_n dX1_pastes_31 rfl ?_
  refine x_getH (.ref a) dX1_pastes_32 fl_X1_9 hs (x_v35 hχ) ?_
  refine e_iload_n dX1_pastes_35 rfl ?_
  refine e_aload_n dX1_pastes_36 rfl ?_
  refine x_getH (.ref b) dX1_pastes_37 fl_X1_9 ht (x_v35 gχ) ?_
  refine e_iload_n dX1_pastes_40 rfl ?_
  refine e_iload dX1_pastes_41 rfl ?_
  refine e_bud (kc1 := 0 + 3) (ks1 := 0 + 430) (by decide) (by decide) ?_
  refine e_copyZ dX1_pastes_43 q375 ho go (x_hk_rg w) ri rk rn (by omega) ⟨by omega, by omega⟩ rfl ?_
  refine e_catch [] (31, 46, 49, 48) [] rfl (fun z hz => by cases hz) ⟨by decide, by decide⟩ (by decide) q370 (by rw [e_push_at]; exact q2585) ?_
  rw [x_push (by omega)]
  refine e_astore5 dX1_pastes_49 rfl ?_
  refine e_bipush dX1_pastes_51 rfl ?_
  refine e_ireturn dX1_pastes_53 rfl rfl ?_
  exact ⟨rfl, _, e_ext_push _ _, rfl⟩
theorem C_X1_pastes {χ : t_S} {h0 : e_A} {s : Int} (hs : 0 ≤ s ∧ s < 4) {t : Int} (ht : 0 ≤ t ∧ t < 4) {w l : Int} {num : Int → Int} {a : Nat} (hχ : χ 35 s = (a : Int)) (H : x_ar h0 w l num a) {m : Int} {num1 : Int → Int} {b : Nat} (gχ : χ 35 t = (b : Int)) (G : x_ar h0 w m num1 b) {i k n : Int} (ri : e_rg i) (rk : e_rg k) (rn : e_rg n) (hin : 0 ≤ i ∧ 0 ≤ k ∧ 0 ≤ n ∧ i + n ≤ l ∧ k + n ≤ m) : e_C mX1_pastes [.ref (352 + s.toNat), e_i i, .ref (352 + t.toNat), e_i k, e_i n] (x_H χ h0) 0 0 1 (x_PC w m i k n num num1 b χ h0) := by
  obtain ⟨f, ho, hf⟩ := x_arH (χ := χ) H
  have hw := H.1
  have hl := H.2.1
  have ha := H.2.2.1
  obtain ⟨g, go, hg⟩ := x_arH (χ := χ) G
  have hv := G.1
  have hm := G.2.1
  have hb := G.2.2.1
  refine e_enter (al0 := [.ref (352 + s.toNat), e_i i, .ref (352 + t.toNat), e_i k, e_i n, .retAddr 0]) (by decide +kernel) rfl (Nat.le_of_ble_eq_true rfl) ?_
  refine e_aload_n dX1_pastes_0 rfl ?_
  refine x_getH (.ref a) dX1_pastes_1 fl_X1_9 hs (x_v35 hχ) ?_
  refine e_ifnull dX1_pastes_4 (by rw [ho]; show x_hk w < 80; have := x_hk_rg w; omega) ?_
  refine e_aload_n dX1_pastes_7 rfl ?_
  refine x_getH (.ref b) dX1_pastes_8 fl_X1_9 ht (x_v35 gχ) ?_
  refine e_ifnonnull (tgt := 17) dX1_pastes_11 rfl (by rw [go]; show x_hk w < 80; have := x_hk_rg w; omega) ?_
  refine e_aload_n dX1_pastes_17 rfl ?_
  refine e_callV0rz (ci := 1) dX1_pastes_18 md_X1_width lk_X1_38 rfl q373 qs4 (x_o1 χ h0 hs) (by decide) rfl (Nat.le_of_ble_eq_true rfl) (C_X1_width hs hχ H) ?_
  refine e_aload_n dX1_pastes_21 rfl ?_
  refine e_callV0rz (ci := 1) dX1_pastes_22 md_X1_width lk_X1_38 rfl q373 qs4 (x_o1 χ h0 ht) (by decide) rfl (Nat.le_of_ble_eq_true rfl) (C_X1_width ht gχ G) ?_
  refine e_icmp_eq (tgt := 31) dX1_pastes_25 rfl ⟨by omega, by omega⟩ ⟨by omega, by omega⟩ (fun c1 => ?_) (fun q => by exfalso; omega)
  refine e_aload_n dX1_pastes_31 rfl ?_
  refine x_getH (.ref a) dX1_pastes_32 fl_X1_9 hs (x_v35 hχ) ?_
  refine e_iload_n dX1_pastes_35 rfl ?_
  refine e_aload_n dX1_pastes_36 rfl ?_
  refine x_getH (.ref b) dX1_pastes_37 fl_X1_9 ht (x_v35 gχ) ?_
  refine e_iload_n dX1_pastes_40 rfl ?_
  refine e_iload dX1_pastes_41 rfl ?_
  refine e_copy i.toNat k.toNat n.toNat dX1_pastes_43 q375 ho go (x_hk_rg w) (by omega) (by omega) (by omega) (by omega) (by omega) (by omega) ⟨by omega, by omega⟩ (fun j hj => by
    have h9 := hf (i + j) (by omega) (by omega)
    rw [show i.toNat + j = (i + (j : Int)).toNat by omega, h9.1]
    exact x_fits hw h9.2) rfl ?_
  refine e_goto (tgt := 54) dX1_pastes_46 rfl ?_
  refine e_iconst dX1_pastes_54 ?_
  refine e_ireturn dX1_pastes_55 rfl rfl ?_
  exact x_pc G hin.1 hin.2.1 hin.2.2.1 hin.2.2.2.1 hin.2.2.2.2 hf hg
