/-! THE COMPONENT: slots pasted; row, write, paste (printed by tx29.py) -/
set_option maxRecDepth 100000
theorem x_fits {w v : Int} (hw : 0 ≤ w ∧ w ≤ 3) (h : x_wr w v) : fits (e_ty (x_hk w)) (x_hv w v) = true ∧ ∀ r, x_hv w v ≠ .ref r := by
  have hw3 : w = 0 ∨ w = 1 ∨ w = 2 ∨ w = 3 := by omega
  have le : ∀ a b : Int, e_rg a → e_rg b → a ≤ b → decide (Int32.ofInt a ≤ Int32.ofInt b) = true := fun a b ha hb q => decide_eq_true ((e_ile ha hb).mpr q)
  rcases hw3 with rfl | rfl | rfl | rfl
  · have h1 := h.1 rfl
    refine ⟨?_, fun r q => by cases q⟩
    show (decide (Int32.ofInt (-128) ≤ Int32.ofInt v) && decide (Int32.ofInt v ≤ Int32.ofInt 127)) = true
    rw [le _ _ (by decide) ⟨by omega, by omega⟩ (by omega), le _ _ ⟨by omega, by omega⟩ (by decide) (by omega)]
    rfl
  · have h1 := h.2.1 rfl
    refine ⟨?_, fun r q => by cases q⟩
    show (decide (Int32.ofInt (-32768) ≤ Int32.ofInt v) && decide (Int32.ofInt v ≤ Int32.ofInt 32767)) = true
    rw [le _ _ (by decide) ⟨by omega, by omega⟩ (by omega), le _ _ ⟨by omega, by omega⟩ (by decide) (by omega)]
    rfl
  · exact ⟨rfl, fun r q => by cases q⟩
  · exact ⟨rfl, fun r q => by cases q⟩
/-- a stretch of one array laid into another -/
def x_PC (w m i k n : Int) (num num1 : Int → Int) (b : Nat) (χ : t_S) (h0 : e_A) : e_R → e_A → Prop := fun r h => r = .inl (some (e_i 0)) ∧ ∃ h1, h = x_H χ h1 ∧ h0.2 ≤ h1.2 ∧ (∀ j, j < h0.2 → j ≠ b → h1.1 j = h0.1 j) ∧ ∃ f : Nat → Value, h1.1 b = (x_hk w, m.toNat, f) ∧ ∀ j : Int, 0 ≤ j → j < m → f j.toNat = x_hv w (if k ≤ j ∧ j < k + n then num (i + (j - k)) else num1 j) ∧ x_wr w (if k ≤ j ∧ j < k + n then num (i + (j - k)) else num1 j)
theorem x_pc {w l m i k n : Int} {num num1 : Int → Int} {b : Nat} {f g : Nat → Value} {χ : t_S} {h0 : e_A} (G : x_ar h0 w m num1 b) (hi : 0 ≤ i) (hk : 0 ≤ k) (hn : 0 ≤ n) (h1 : i + n ≤ l) (h2 : k + n ≤ m) (hf : ∀ j : Int, 0 ≤ j → j < l → f j.toNat = x_hv w (num j) ∧ x_wr w (num j)) (hg : ∀ j : Int, 0 ≤ j → j < m → g j.toNat = x_hv w (num1 j) ∧ x_wr w (num1 j)) : x_PC w m i k n num num1 b χ h0 (.inl (some (e_i 0))) (e_set (x_H χ h0) b (x_hk w, m.toNat, e_cpy f g i.toNat k.toNat n.toNat)) := by
  obtain ⟨a1, a2, a3, -⟩ := G
  refine ⟨rfl, e_set h0 b (x_hk w, m.toNat, e_cpy f g i.toNat k.toNat n.toNat), x_set_fr (Or.inr (Or.inr (by omega))), Nat.le_refl _, fun j hj hne => ?_, _, e_set_at _ _ _, fun j j0 j1 => ?_⟩
  · show (if j = b then _ else h0.1 j) = _
    rw [if_neg hne]
  · by_cases q : k ≤ j ∧ j < k + n
    · rw [if_pos q]
      have e : e_cpy f g i.toNat k.toNat n.toNat j.toNat = f (i + (j - k)).toNat := by
        unfold e_cpy
        rw [if_pos (by omega)]
        congr 1
        omega
      rw [e]
      exact hf _ (by omega) (by omega)
    · rw [if_neg q]
      have e : e_cpy f g i.toNat k.toNat n.toNat j.toNat = g j.toNat := by
        unfold e_cpy
        rw [if_neg (by omega)]
      rw [e]
      exact hg _ j0 j1
theorem C_X1_pastesN1 {χ : t_S} {h0 : e_A} {s : Int} (hs : 0 ≤ s ∧ s < 4) {t : Int} (ht : 0 ≤ t ∧ t < 4) (hχ : χ 35 s = -1) {i k n : Int} : e_C mX1_pastes [.ref (352 + s.toNat), e_i i, .ref (352 + t.toNat), e_i k, e_i n] (x_H χ h0) 0 0 1 (e_ret (e_i (-6)) (x_H χ h0)) := by
  refine e_enter (al0 := [.ref (352 + s.toNat), e_i i, .ref (352 + t.toNat), e_i k, e_i n, .retAddr 0]) (by decide +kernel) rfl (Nat.le_of_ble_eq_true rfl) ?_
  refine e_aload_n dX1_pastes_0 rfl ?_
  refine x_getH .null dX1_pastes_1 fl_X1_9 hs (by rw [hχ]; rfl) ?_
  refine e_ifnullN (tgt := 14) dX1_pastes_4 rfl ?_
  refine e_bipush dX1_pastes_14 rfl ?_
  refine e_ireturn dX1_pastes_16 rfl rfl ?_
  exact ⟨rfl, rfl⟩
theorem C_X1_pastesN2 {χ : t_S} {h0 : e_A} {s : Int} (hs : 0 ≤ s ∧ s < 4) {t : Int} (ht : 0 ≤ t ∧ t < 4) {w l : Int} {num : Int → Int} {a : Nat} (hχ : χ 35 s = (a : Int)) (H : x_ar h0 w l num a) (gχ : χ 35 t = -1) {i k n : Int} : e_C mX1_pastes [.ref (352 + s.toNat), e_i i, .ref (352 + t.toNat), e_i k, e_i n] (x_H χ h0) 0 0 1 (e_ret (e_i (-6)) (x_H χ h0)) := by
  obtain ⟨f, ho, hf⟩ := x_arH (χ := χ) H
  have hw := H.1
  have hl := H.2.1
  have ha := H.2.2.1
  refine e_enter (al0 := [.ref (352 + s.toNat), e_i i, .ref (352 + t.toNat), e_i k, e_i n, .retAddr 0]) (by decide +kernel) rfl (Nat.le_of_ble_eq_true rfl) ?_
  refine e_aload_n dX1_pastes_0 rfl ?_
  refine x_getH (.ref a) dX1_pastes_1 fl_X1_9 hs (x_v35 hχ) ?_
  refine e_ifnull dX1_pastes_4 (by rw [ho]; show x_hk w < 80; have := x_hk_rg w; omega) ?_
  refine e_aload_n dX1_pastes_7 rfl ?_
  refine x_getH .null dX1_pastes_8 fl_X1_9 ht (by rw [gχ]; rfl) ?_
  refine e_ifnonnullN dX1_pastes_11 ?_
  refine e_bipush dX1_pastes_14 rfl ?_
  refine e_ireturn dX1_pastes_16 rfl rfl ?_
  exact ⟨rfl, rfl⟩
theorem C_X1_pastesW {χ : t_S} {h0 : e_A} {s : Int} (hs : 0 ≤ s ∧ s < 4) {t : Int} (ht : 0 ≤ t ∧ t < 4) {w l : Int} {num : Int → Int} {a : Nat} (hχ : χ 35 s = (a : Int)) (H : x_ar h0 w l num a) {v m : Int} {num1 : Int → Int} {b : Nat} (gχ : χ 35 t = (b : Int)) (G : x_ar h0 v m num1 b) {i k n : Int} (hne : w ≠ v) : e_C mX1_pastes [.ref (352 + s.toNat), e_i i, .ref (352 + t.toNat), e_i k, e_i n] (x_H χ h0) 0 0 1 (e_ret (e_i (-8)) (x_H χ h0)) := by
  obtain ⟨f, ho, hf⟩ := x_arH (χ := χ) H
  have hw := H.1
  have hl := H.2.1
  have ha := H.2.2.1
  obtain ⟨g, go, hg⟩ := x_arH (χ := χ) G
  have hv := G.1
  have hm := G.2.1
  have hb := G.2.2.1
  refine e_enter (al0 := [.ref (352 + s.toNat), e_i i, .ref (352 + t.toNat), e_i k, e_i n, .retAddr 0]) (by decide +kernel) rfl (Nat.le_of_ble_eq_true rfl) ?_
  refine e_aload_n dX1_pastes_0 rfl ?_
  refine x_getH (.ref a) dX1_pastes_1 fl_X1_9 hs (x_v35 hχ) ?_
  refine e_ifnull dX1_pastes_4 (by rw [ho]; show x_hk w < 80; have := x_hk_rg w; omega) ?_
  refine e_aload_n dX1_pastes_7 rfl ?_
  refine x_getH (.ref b) dX1_pastes_8 fl_X1_9 ht (x_v35 gχ) ?_
  refine e_ifnonnull (tgt := 17) dX1_pastes_11 rfl (by rw [go]; show x_hk v < 80; have := x_hk_rg v; omega) ?_
  refine e_aload_n dX1_pastes_17 rfl ?_
  refine e_callV0rz (ci := 1) dX1_pastes_18 md_X1_width lk_X1_38 rfl q373 qs4 (x_o1 χ h0 hs) (by decide) rfl (Nat.le_of_ble_eq_true rfl) (C_X1_width hs hχ H) ?_
  refine e_aload_n dX1_pastes_21 rfl ?_
  refine e_callV0rz (ci := 1) dX1_pastes_22 md_X1_width lk_X1_38 rfl q373 qs4 (x_o1 χ h0 ht) (by decide) rfl (Nat.le_of_ble_eq_true rfl) (C_X1_width ht gχ G) ?_
  refine e_icmp_eq (tgt := 31) dX1_pastes_25 rfl ⟨by omega, by omega⟩ ⟨by omega, by omega⟩ (fun q => by exfalso; omega) (fun c1 => ?_)
  refine e_bipush dX1_pastes_28 rfl ?_
  refine e_ireturn dX1_pastes_30 rfl rfl ?_
  exact ⟨rfl, rfl⟩
theorem C_X1_pastesZ {χ : t_S} {h0 : e_A} {s : Int} (hs : 0 ≤ s ∧ s < 4) {t : Int} (ht : 0 ≤ t ∧ t < 4) {w l : Int} {num : Int → Int} {a : Nat} (hχ : χ 35 s = (a : Int)) (H : x_ar h0 w l num a) {m : Int} {num1 : Int → Int} {b : Nat} (gχ : χ 35 t = (b : Int)) (G : x_ar h0 w m num1 b) {i k n : Int} (ri : e_rg i) (rk : e_rg k) (rn : e_rg n) (hout : i < 0 ∨ k < 0 ∨ n < 0 ∨ l < i + n ∨ m < k + n) : e_C mX1_pastes [.ref (352 + s.toNat), e_i i, .ref (352 + t.toNat), e_i k, e_i n] (x_H χ h0) 3 430 1 (x_P (e_i (-7)) χ h0) := by
  obtain ⟨f, ho, hf⟩ := x_arH (χ := χ) H
  have hw := H.1
  have hl := H.2.1
  have ha := H.2.2.1
  obtain ⟨g, go, hg⟩ := x_arH (χ := χ) G
  have hv := G.1
  have hm := G.2.1
  have hb := G.2.2.1
  refine e_enter (al0 := [.ref (352 + s.toNat), e_i i, .ref (352 + t.toNat), e_i k, e_i n, .retAddr 0]) (by decide +kernel) rfl (Nat.le_of_ble_eq_true rfl) ?_
  refine e_aload_n dX1_pastes_0 rfl ?_
  refine x_getH (.ref a) dX1_pastes_1 fl_X1_9 hs (x_v35 hχ) ?_
  refine e_ifnull dX1_pastes_4 (by rw [ho]; show x_hk w < 80; have := x_hk_rg w; omega) ?_
  refine e_aload_n dX1_pastes_7 rfl ?_
  refine x_getH (.ref b) dX1_pastes_8 fl_X1_9 ht (x_v35 gχ) ?_
  refine e_ifnonnull (tgt := 17) dX1_pastes_11 rfl (by rw [go]; show x_hk w < 80; have := x_hk_rg w; omega) ?_
  refine e_aload_n dX1_pastes_17 rfl ?_
  refine e_callV0rz (ci := 1) dX1_pastes_18 md_X1_width lk_X1_38 rfl q373 qs4 (x_o1 χ h0 hs) (by decide) rfl (Nat.le_of_ble_eq_true rfl) (C_X1_width hs hχ H) ?_
  refine e_aload_n dX1_pastes_21 rfl ?_
  refine e_callV0rz (ci := 1) dX1_pastes_22 md_X1_width lk_X1_38 rfl q373 qs4 (x_o1 χ h0 ht) (by decide) rfl (Nat.le_of_ble_eq_true rfl) (C_X1_width ht gχ G) ?_
  refine e_icmp_eq (tgt := 31) dX1_pastes_25 rfl ⟨by omega, by omega⟩ ⟨by omega, by omega⟩ (fun c1 => ?_) (fun q => by exfalso; omega)
  refine e_aload_n dX1_pastes_31 rfl ?_
  refine x_getH (.ref a) dX1_pastes_32 fl_X1_9 hs (x_v35 hχ) ?_
  refine e_iload_n dX1_pastes_35 rfl ?_
  refine e_aload_n dX1_pastes_36 rfl ?_
  refine x_getH (.ref b) dX1_pastes_37 fl_X1_9 ht (x_v35 gχ) ?_
  refine e_iload_n dX1_pastes_40 rfl ?_
  refine e_iload dX1_pastes_41 rfl ?_
  refine e_bud (kc1 := 0 + 3) (ks1 := 0 + 430) (by decide) (by decide) ?_
  refine e_copyZ dX1_pastes_43 q375 ho go (x_hk_rg w) ri rk rn (by omega) ⟨by omega, by omega⟩ rfl ?_
  refine e_catch [] (31, 46, 49, 48) [] rfl (fun z hz => by cases hz) ⟨by decide, by decide⟩ (by decide) q370 (by rw [e_push_at]; exact q2585) ?_
  rw [x_push (by omega)]
  refine e_astore5 dX1_pastes_49 rfl ?_
  refine e_bipush dX1_pastes_51 rfl ?_
  refine e_ireturn dX1_pastes_53 rfl rfl ?_
  exact ⟨rfl, _, e_ext_push _ _, rfl⟩
theorem C_X1_pastes {χ : t_S} {h0 : e_A} {s : Int} (hs : 0 ≤ s ∧ s < 4) {t : Int} (ht : 0 ≤ t ∧ t < 4) {w l : Int} {num : Int → Int} {a : Nat} (hχ : χ 35 s = (a : Int)) (H : x_ar h0 w l num a) {m : Int} {num1 : Int → Int} {b : Nat} (gχ : χ 35 t = (b : Int)) (G : x_ar h0 w m num1 b) {i k n : Int} (ri : e_rg i) (rk : e_rg k) (rn : e_rg n) (hin : 0 ≤ i ∧ 0 ≤ k ∧ 0 ≤ n ∧ i + n ≤ l ∧ k + n ≤ m) : e_C mX1_pastes [.ref (352 + s.toNat), e_i i, .ref (352 + t.toNat), e_i k, e_i n] (x_H χ h0) 0 0 1 (x_PC w m i k n num num1 b χ h0) := by
  obtain ⟨f, ho, hf⟩ := x_arH (χ := χ) H
  have hw := H.1
  have hl := H.2.1
  have ha := H.2.2.1
  obtain ⟨g, go, hg⟩ := x_arH (χ := χ) G
  have hv := G.1
  have hm := G.2.1
  have hb := G.2.2.1
  refine e_enter (al0 := [.ref (352 + s.toNat), e_i i, .ref (352 + t.toNat), e_i k, e_i n, .retAddr 0]) (by decide +kernel) rfl (Nat.le_of_ble_eq_true rfl) ?_
  refine e_aload_n dX1_pastes_0 rfl ?_
  refine x_getH (.ref a) dX1_pastes_1 fl_X1_9 hs (x_v35 hχ) ?_
  refine e_ifnull dX1_pastes_4 (by rw [ho]; show x_hk w < 80; have := x_hk_rg w; omega) ?_
  refine e_aload_n dX1_pastes_7 rfl ?_
  refine x_getH (.ref b) dX1_pastes_8 fl_X1_9 ht (x_v35 gχ) ?_
  refine e_ifnonnull (tgt := 17) dX1_pastes_11 rfl (by rw [go]; show x_hk w < 80; have := x_hk_rg w; omega) ?_
  refine e_aload_n dX1_pastes_17 rfl ?_
  refine e_callV0rz (ci := 1) dX1_pastes_18 md_X1_width lk_X1_38 rfl q373 qs4 (x_o1 χ h0 hs) (by decide) rfl (Nat.le_of_ble_eq_true rfl) (C_X1_width hs hχ H) ?_
  refine e_aload_n dX1_pastes_21 rfl ?_
  refine e_callV0rz (ci := 1) dX1_pastes_22 md_X1_width lk_X1_38 rfl q373 qs4 (x_o1 χ h0 ht) (by decide) rfl (Nat.le_of_ble_eq_true rfl) (C_X1_width ht gχ G) ?_
  refine e_icmp_eq (tgt := 31) dX1_pastes_25 rfl ⟨by omega, by omega⟩ ⟨by omega, by omega⟩ (fun c1 => ?_) (fun q => by exfalso; omega)
  refine e_aload_n dX1_pastes_31 rfl ?_
  refine x_getH (.ref a) dX1_pastes_32 fl_X1_9 hs (x_v35 hχ) ?_
  refine e_iload_n dX1_pastes_35 rfl ?_
  refine e_aload_n dX1_pastes_36 rfl ?_
  refine x_getH (.ref b) dX1_pastes_37 fl_X1_9 ht (x_v35 gχ) ?_
  refine e_iload_n dX1_pastes_40 rfl ?_
  refine e_iload dX1_pastes_41 rfl ?_
  refine e_copy i.toNat k.toNat n.toNat dX1_pastes_43 q375 ho go (x_hk_rg w) (by omega) (by omega) (by omega) (by omega) (by omega) (by omega) ⟨by omega, by omega⟩ (fun j hj => by
    have h9 := hf (i + j) (by omega) (by omega)
    rw [show i.toNat + j = (i + (j : Int)).toNat by omega, h9.1]
    exact x_fits hw h9.2) rfl ?_
  refine e_goto (tgt := 54) dX1_pastes_46 rfl ?_
  refine e_iconst dX1_pastes_54 ?_
  refine e_ireturn dX1_pastes_55 rfl rfl ?_
  exact x_pc G hin.1 hin.2.1 hin.2.2.1 hin.2.2.2.1 hin.2.2.2.2 hf hg
/-! the four together -/
def x_PM (V : Int) (σ1 χ : t_S) (h0 : e_A) : e_R → e_A → Prop := fun r h => r = .inl (some (e_i V)) ∧ ∃ χ1 h1, h = x_H χ1 h1 ∧ (∀ j, j ≠ 35 → χ1 j = χ j) ∧ h0.2 ≤ h1.2 ∧ (∀ j : Nat, j < h0.2 → (∀ s : Int, 0 ≤ s → s < 4 → χ 35 s ≠ (j : Int)) → h1.1 j = h0.1 j) ∧ x_sl χ1 h1 σ1
theorem x_pm0 {V W : Int} {σ χ : t_S} {h0 h1 : e_A} (S : x_sl χ h0 σ) (he : e_ext h0 h1) (h : W = V) : x_PM V σ χ h0 (.inl (some (e_i W))) (x_H χ h1) :=
  ⟨by rw [h], χ, h1, rfl, fun _ _ => rfl, he.1, fun j hj _ => he.2 j hj, x_sl_ext S he rfl⟩
theorem x_sl_set {χ σ σ1 : t_S} {h h1 : e_A} {t : Int} {a : Nat} (S : x_sl χ h σ) (ht : 0 ≤ t ∧ t < 4) (hχ : χ 35 t = (a : Int)) (hz : h.2 ≤ h1.2) (he : ∀ j : Nat, j < h.2 → j ≠ a → h1.1 j = h.1 j)
    (hf : ∃ f : Nat → Value, h1.1 a = (x_hk (σ 43 t), (σ 42 t).toNat, f) ∧ ∀ j : Int, 0 ≤ j → j < σ 42 t → f j.toNat = x_hv (σ 43 t) (σ1 44 (60 * t + j)) ∧ x_wr (σ 43 t) (σ1 44 (60 * t + j))) (e42 : σ1 42 = σ 42) (e43 : σ1 43 = σ 43) (e44 : ∀ q : Int, (q < 60 * t ∨ 60 * t + 60 ≤ q) → σ1 44 q = σ 44 q) : x_sl χ h1 σ1 := by
  refine ⟨fun s s0 s1 => ?_, S.2⟩
  unfold x_s1
  rw [e42, e43]
  by_cases q : s = t
  · subst q
    rcases S.1 s s0 s1 with ⟨q1, q2⟩ | ⟨b, q1, q2⟩
    · exfalso; omega
    · have e : b = a := by omega
      subst e
      obtain ⟨a1, a2, a3, -⟩ := q2
      exact Or.inr ⟨b, q1, a1, a2, ⟨a3.1, by omega⟩, hf⟩
  · rcases S.1 s s0 s1 with ⟨q1, q2⟩ | ⟨b, q1, q2⟩
    · exact Or.inl ⟨q1, q2⟩
    · have hne : b ≠ a := fun e => S.2 s t s0 s1 ht.1 ht.2 q (by omega) (by rw [q1, hχ, e])
      have a2 := q2.2.1
      exact Or.inr ⟨b, q1, x_ar_of q2 hz (he b q2.2.2.1.2 hne) (fun j j0 j1 => e44 _ (by omega))⟩
theorem x_rwf {s : Int} (σ : t_S) (n : Nat) : (∀ k, k ≠ 44 → t_it (t_rwf s) n σ k = σ k) ∧ (∀ q : Int, (q < 60 * s ∨ 60 * s + n ≤ q) → t_it (t_rwf s) n σ 44 q = σ 44 q) ∧ ∀ j : Int, 0 ≤ j → j < n → t_it (t_rwf s) n σ 44 (60 * s + j) = 0 := by
  refine t_it_P (fun i (x : t_S) => (∀ k, k ≠ 44 → x k = σ k) ∧ (∀ q : Int, (q < 60 * s ∨ 60 * s + i ≤ q) → x 44 q = σ 44 q) ∧ ∀ j : Int, 0 ≤ j → j < i → x 44 (60 * s + j) = 0) ⟨fun _ _ => rfl, fun _ _ => rfl, fun j a b => by omega⟩ n (fun i x i0 i1 h => ⟨fun k hk => (s_up_f hk).trans (h.1 k hk), fun q hq => ?_, fun j j0 j1 => ?_⟩)
  · show s_up x 44 (60 * s + i) 0 44 q = _
    rw [s_up_j (by omega)]
    exact h.2.1 q (by omega)
  · show s_up x 44 (60 * s + i) 0 44 (60 * s + j) = _
    by_cases q : j = i
    · subst q; rw [s_up_eq]
    · rw [s_up_j (by omega)]
      exact h.2.2 j j0 (by omega)
theorem x_sl_row {χ σ : t_S} {h : e_A} {s w n : Int} (S : x_sl χ h σ) (hs : 0 ≤ s ∧ s < 4) (hw : 0 ≤ w ∧ w ≤ 3) (hn : 0 ≤ n ∧ n ≤ 60) (h4 : 413 ≤ h.2) : x_sl (s_up χ 35 s (h.2 : Int)) (e_push h (x_hk w, n.toNat, fun _ => x_hv w 0)) (t_it (t_rwf s) 60 (s_up (s_up σ 42 s n) 43 s w)) := by
  have r := x_rwf (s := s) (s_up (s_up σ 42 s n) 43 s w) 60
  have e42 : t_it (t_rwf s) 60 (s_up (s_up σ 42 s n) 43 s w) 42 = s_up σ 42 s n 42 := (r.1 42 (by decide)).trans (s_up_f (by decide))
  have e43 : t_it (t_rwf s) 60 (s_up (s_up σ 42 s n) 43 s w) 43 = s_up (s_up σ 42 s n) 43 s w 43 := r.1 43 (by decide)
  have hlt : ∀ t : Int, 0 ≤ t → t < 4 → χ 35 t < (h.2 : Int) := fun t t0 t1 => by
    rcases S.1 t t0 t1 with ⟨q1, q2⟩ | ⟨b, q1, q2⟩
    · omega
    · have := q2.2.2.1.2; omega
  refine ⟨fun t t0 t1 => ?_, fun t u t0 t1 u0 u1 hne hn1 => ?_⟩
  · unfold x_s1
    rw [e42, e43]
    by_cases q : t = s
    · subst q
      rw [s_up_eq, s_up_eq, s_up_eq]
      refine Or.inr ⟨h.2, rfl, hw, hn, ⟨h4, Nat.lt_succ_self _⟩, fun _ => x_hv w 0, e_push_at _ _, fun j j0 j1 => ?_⟩
      have z := r.2.2 j j0 (by omega)
      show x_hv w 0 = x_hv w (t_it (t_rwf t) 60 (s_up (s_up σ 42 t n) 43 t w) 44 (60 * t + j)) ∧ x_wr w (t_it (t_rwf t) 60 (s_up (s_up σ 42 t n) 43 t w) 44 (60 * t + j))
      rw [z]
      exact ⟨rfl, x_wr_0 w⟩
    · have f1 : s_up χ 35 s (h.2 : Int) 35 t = χ 35 t := s_up_j q
      have f2 : s_up (s_up σ 42 s n) 43 s w 43 t = σ 43 t := (s_up_j q).trans (congrFun (s_up_f (by decide)) t)
      have f3 : s_up σ 42 s n 42 t = σ 42 t := s_up_j q
      rw [f1, f2, f3]
      rcases S.1 t t0 t1 with ⟨q1, q2⟩ | ⟨b, q1, q2⟩
      · exact Or.inl ⟨q1, q2⟩
      · have a2 := q2.2.1
        refine Or.inr ⟨b, q1, x_ar_of q2 (e_ext_push _ _).1 ((e_ext_push h _).2 b q2.2.2.1.2) (fun j j0 j1 => ?_)⟩
        have z := r.2.1 (60 * t + j) (by omega)
        rw [s_up_k (by decide), s_up_k (by decide)] at z
        exact z
  · by_cases q : t = s
    · subst q
      rw [s_up_eq, s_up_j (Ne.symm hne)]
      have := hlt u u0 u1
      omega
    · rw [s_up_j q] at hn1 ⊢
      by_cases q2 : u = s
      · subst q2
        rw [s_up_eq]
        have := hlt t t0 t1
        omega
      · rw [s_up_j q2]
        exact S.2 t u t0 t1 u0 u1 hne hn1
theorem C_X0_rowZ {σ χ : t_S} {h0 : e_A} (S : x_sl χ h0 σ) (h4 : 413 ≤ h0.2) {s : Int} (hs : e_rg s) {w : Int} (hw : e_rg w) {n : Int} (hn : e_rg n) (hneg : n < 0) : e_C mX0_row [.ref 350, e_i s, e_i w, e_i n] (x_H χ h0) 3 60 2 (x_PM (v_row s w n) (s_row σ s w n) χ h0) := by
  have ks1 := hs.1
  have ks2 := hs.2
  have kw1 := hw.1
  have kw2 := hw.2
  have kn1 := hn.1
  have kn2 := hn.2
  have hsr : s_row σ s w n = σ := if_neg (by omega)
  rw [hsr]
  refine e_enter (al0 := [.ref 350, e_i s, e_i w, e_i n]) (by decide +kernel) rfl (Nat.le_of_ble_eq_true rfl) ?_
  refine e_iload_n dX0_row_0 rfl ?_
  refine e_callS1rz dX0_row_1 md_X0_isSlot lk_X0_15 rfl q182 rfl (Nat.le_of_ble_eq_true rfl) (C_X0_isSlot ⟨by omega, by omega⟩) ?_
  refine e_bif_eq (tgt := 25) dX0_row_4 rfl (fun c1 => ?_) (fun c1 => ?_)
  · refine e_bipush dX0_row_25 rfl ?_
    refine e_ireturn dX0_row_27 rfl rfl ?_
    refine x_pm0 S ⟨Nat.le_refl _, fun _ _ => rfl⟩ ?_
    unfold v_row
    rw [if_neg (by omega)]
  · refine e_iload_n dX0_row_7 rfl ?_
    refine e_i2l dX0_row_8 ⟨by omega, by omega⟩ ?_
    refine e_lconst (z := 0) dX0_row_9 rfl ?_
    refine e_ldc2 (z := 3) dX0_row_10 q184 rfl ?_
    refine e_callS3rz dX0_row_13 md_X0_in lk_X0_11 rfl q186 rfl (Nat.le_of_ble_eq_true rfl) (C_X0_in ⟨by omega, by omega⟩ ⟨by omega, by omega⟩ ⟨by omega, by omega⟩) ?_
    refine e_bif_eq (tgt := 25) dX0_row_16 rfl (fun c2 => ?_) (fun c2 => ?_)
    · refine e_bipush dX0_row_25 rfl ?_
      refine e_ireturn dX0_row_27 rfl rfl ?_
      refine x_pm0 S ⟨Nat.le_refl _, fun _ _ => rfl⟩ ?_
      unfold v_row
      rw [if_neg (by omega)]
    · refine e_iload_n dX0_row_19 rfl ?_
      refine e_bipush dX0_row_20 rfl ?_
      refine e_icmp_le (tgt := 28) dX0_row_22 rfl ⟨by omega, by omega⟩ ⟨by omega, by omega⟩ (fun c3 => ?_) (fun c3 => ?_)
      · refine e_aload_n dX0_row_28 rfl ?_
        refine e_getV (.ref 351) dX0_row_29 fl_X0_19 (x_o0 _ _) rfl ?_
        refine e_iload_n dX0_row_32 rfl ?_
        refine e_aald s.toNat dX0_row_33 (x_oS _ _) (Or.inl (by omega)) (Int.toNat_of_nonneg (by omega)).symm (by omega) (by omega) ?_
        refine e_iload_n dX0_row_34 rfl ?_
        refine e_iload_n dX0_row_35 rfl ?_
        refine e_bud (kc1 := 0 + 3) (ks1 := 6 + 54) (by decide) (by decide) ?_
        refine e_callW2r (M1 := mX1_begins) (kc := 0) (ks := 6) (mc := 3) (ms := 54) (ci := 1) dX0_row_36 q188 md_X1_begins (by decide) q189 q190 (x_o1 χ h0 ⟨by omega, by omega⟩) (by decide) rfl (Nat.le_of_ble_eq_true rfl) (C_X1_beginsZ ⟨by omega, by omega⟩ ⟨by omega, by omega⟩ hneg ⟨by omega, by omega⟩ h4) ?_
        refine e_if_eq (tgt := 46) dX0_row_39 rfl ⟨by omega, by omega⟩ (fun c4 => ?_) (fun q => by exfalso; omega)
        refine e_bipush dX0_row_46 rfl ?_
        refine e_ireturn dX0_row_48 rfl rfl ?_
        refine x_pm0 S (e_ext_push _ _) ?_
        unfold v_row
        rw [if_pos (by omega), if_pos hneg]
      · refine e_bipush dX0_row_25 rfl ?_
        refine e_ireturn dX0_row_27 rfl rfl ?_
        refine x_pm0 S ⟨Nat.le_refl _, fun _ _ => rfl⟩ ?_
        unfold v_row
        rw [if_neg (by omega)]
theorem C_X0_rowP {σ χ : t_S} {h0 : e_A} (S : x_sl χ h0 σ) (h4 : 413 ≤ h0.2) {s : Int} (hs : e_rg s) {w : Int} (hw : e_rg w) {n : Int} (hn : e_rg n) (hnn : 0 ≤ n) : e_C mX0_row [.ref 350, e_i s, e_i w, e_i n] (x_H χ h0) 3 60 2 (x_PM (v_row s w n) (s_row σ s w n) χ h0) := by
  have ks1 := hs.1
  have ks2 := hs.2
  have kw1 := hw.1
  have kw2 := hw.2
  have kn1 := hn.1
  have kn2 := hn.2
  refine e_enter (al0 := [.ref 350, e_i s, e_i w, e_i n]) (by decide +kernel) rfl (Nat.le_of_ble_eq_true rfl) ?_
  refine e_iload_n dX0_row_0 rfl ?_
  refine e_callS1rz dX0_row_1 md_X0_isSlot lk_X0_15 rfl q182 rfl (Nat.le_of_ble_eq_true rfl) (C_X0_isSlot ⟨by omega, by omega⟩) ?_
  refine e_bif_eq (tgt := 25) dX0_row_4 rfl (fun c1 => ?_) (fun c1 => ?_)
  · refine e_bipush dX0_row_25 rfl ?_
    refine e_ireturn dX0_row_27 rfl rfl ?_
    have hsr : s_row σ s w n = σ := if_neg (by omega)
    rw [hsr]
    refine x_pm0 S ⟨Nat.le_refl _, fun _ _ => rfl⟩ ?_
    unfold v_row
    rw [if_neg (by omega)]
  · refine e_iload_n dX0_row_7 rfl ?_
    refine e_i2l dX0_row_8 ⟨by omega, by omega⟩ ?_
    refine e_lconst (z := 0) dX0_row_9 rfl ?_
    refine e_ldc2 (z := 3) dX0_row_10 q184 rfl ?_
    refine e_callS3rz dX0_row_13 md_X0_in lk_X0_11 rfl q186 rfl (Nat.le_of_ble_eq_true rfl) (C_X0_in ⟨by omega, by omega⟩ ⟨by omega, by omega⟩ ⟨by omega, by omega⟩) ?_
    refine e_bif_eq (tgt := 25) dX0_row_16 rfl (fun c2 => ?_) (fun c2 => ?_)
    · refine e_bipush dX0_row_25 rfl ?_
      refine e_ireturn dX0_row_27 rfl rfl ?_
      have hsr : s_row σ s w n = σ := if_neg (by omega)
      rw [hsr]
      refine x_pm0 S ⟨Nat.le_refl _, fun _ _ => rfl⟩ ?_
      unfold v_row
      rw [if_neg (by omega)]
    · refine e_iload_n dX0_row_19 rfl ?_
      refine e_bipush dX0_row_20 rfl ?_
      refine e_icmp_le (tgt := 28) dX0_row_22 rfl ⟨by omega, by omega⟩ ⟨by omega, by omega⟩ (fun c3 => ?_) (fun c3 => ?_)
      · refine e_aload_n dX0_row_28 rfl ?_
        refine e_getV (.ref 351) dX0_row_29 fl_X0_19 (x_o0 _ _) rfl ?_
        refine e_iload_n dX0_row_32 rfl ?_
        refine e_aald s.toNat dX0_row_33 (x_oS _ _) (Or.inl (by omega)) (Int.toNat_of_nonneg (by omega)).symm (by omega) (by omega) ?_
        refine e_iload_n dX0_row_34 rfl ?_
        refine e_iload_n dX0_row_35 rfl ?_
        refine e_bud (kc1 := 2 + 1) (ks1 := 0 + 60) (by decide) (by decide) ?_
        refine e_callW2r (M1 := mX1_begins) (kc := 2) (ks := 0) (mc := 1) (ms := 60) (ci := 1) dX0_row_36 q188 md_X1_begins (by decide) q189 q190 (x_o1 χ h0 ⟨by omega, by omega⟩) (by decide) rfl (Nat.le_of_ble_eq_true rfl) (C_X1_begins ⟨by omega, by omega⟩ ⟨by omega, by omega⟩ ⟨by omega, by omega⟩ h4) ?_
        refine e_if_eq (tgt := 46) dX0_row_39 rfl ⟨by omega, by omega⟩ (fun q => by exfalso; omega) (fun c4 => ?_)
        refine e_iconst dX0_row_42 ?_
        refine e_goto (tgt := 48) dX0_row_43 rfl ?_
        refine e_ireturn dX0_row_48 rfl rfl ?_
        have hsr : s_row σ s w n = t_it (t_rwf s) 60 (s_up (s_up σ 42 s n) 43 s w) := if_pos (by omega)
        have hv : v_row s w n = 0 := by
          unfold v_row
          rw [if_pos (by omega), if_neg (by omega)]
        rw [hsr, hv]
        exact ⟨rfl, _, _, rfl, fun j hj => s_up_f hj, (e_ext_push _ _).1, fun j hj _ => (e_ext_push h0 _).2 j hj, x_sl_row S ⟨by omega, by omega⟩ ⟨by omega, by omega⟩ ⟨by omega, by omega⟩ h4⟩
      · refine e_bipush dX0_row_25 rfl ?_
        refine e_ireturn dX0_row_27 rfl rfl ?_
        have hsr : s_row σ s w n = σ := if_neg (by omega)
        rw [hsr]
        refine x_pm0 S ⟨Nat.le_refl _, fun _ _ => rfl⟩ ?_
        unfold v_row
        rw [if_neg (by omega)]
theorem C_X0_row {σ χ : t_S} {h0 : e_A} (S : x_sl χ h0 σ) (h4 : 413 ≤ h0.2) {s : Int} (hs : e_rg s) {w : Int} (hw : e_rg w) {n : Int} (hn : e_rg n) : e_C mX0_row [.ref 350, e_i s, e_i w, e_i n] (x_H χ h0) 3 60 2 (x_PM (v_row s w n) (s_row σ s w n) χ h0) := by
  by_cases q : n < 0
  · exact C_X0_rowZ S h4 hs hw hn q
  · exact C_X0_rowP S h4 hs hw hn (by omega)
/-- written -/
theorem x_sl_write {χ σ : t_S} {h h1 : e_A} {s i v : Int} {a : Nat} (S : x_sl χ h σ) (hs : 0 ≤ s ∧ s < 4) (hχ : χ 35 s = (a : Int)) (hz : h.2 ≤ h1.2) (he : ∀ j : Nat, j < h.2 → j ≠ a → h1.1 j = h.1 j) (hi : 0 ≤ i ∧ i < σ 42 s) (hm : σ 42 s ≤ 60)
    (hf : ∃ f : Nat → Value, h1.1 a = (x_hk (σ 43 s), (σ 42 s).toNat, f) ∧ ∀ j : Int, 0 ≤ j → j < σ 42 s → f j.toNat = x_hv (σ 43 s) (if j = i then t_clip v (σ 43 s) else σ 44 (60 * s + j)) ∧ x_wr (σ 43 s) (if j = i then t_clip v (σ 43 s) else σ 44 (60 * s + j))) : x_sl χ h1 (s_up σ 44 (60 * s + i) (t_clip v (σ 43 s))) := by
  refine x_sl_set S hs hχ hz he ?_ (s_up_f (by decide)) (s_up_f (by decide)) (fun q hq => s_up_j (by omega))
  obtain ⟨f, f1, f2⟩ := hf
  refine ⟨f, f1, fun j j0 j1 => ?_⟩
  have e : s_up σ 44 (60 * s + i) (t_clip v (σ 43 s)) 44 (60 * s + j) = if j = i then t_clip v (σ 43 s) else σ 44 (60 * s + j) := by
    by_cases q : j = i
    · rw [if_pos q, q, s_up_eq]
    · rw [if_neg q, s_up_j (by omega)]
  rw [e]
  exact f2 j j0 j1
theorem x_psf {s i : Int} (σ : t_S) (n : Nat) : (∀ k, k ≠ 45 → t_it (t_psf s i) n σ k = σ k) ∧ ∀ j : Int, 0 ≤ j → j < n → t_it (t_psf s i) n σ 45 j = σ 44 (60 * s + i + j) := by
  refine t_it_P (fun m (x : t_S) => (∀ k, k ≠ 45 → x k = σ k) ∧ ∀ j : Int, 0 ≤ j → j < m → x 45 j = σ 44 (60 * s + i + j)) ⟨fun _ _ => rfl, fun j a b => by omega⟩ n (fun m x m0 m1 h => ⟨fun k hk => (s_up_f hk).trans (h.1 k hk), fun j j0 j1 => ?_⟩)
  show s_up x 45 m (x 44 (60 * s + i + m)) 45 j = _
  by_cases q : j = m
  · subst q; rw [s_up_eq, h.1 44 (by decide)]
  · rw [s_up_j q]
    exact h.2 j j0 (by omega)
theorem x_psg {t k : Int} (σ : t_S) (n : Nat) : (∀ c, c ≠ 44 → t_it (t_psg t k) n σ c = σ c) ∧ ∀ q : Int, t_it (t_psg t k) n σ 44 q = if 60 * t + k ≤ q ∧ q < 60 * t + k + n then σ 45 (q - 60 * t - k) else σ 44 q := by
  refine t_it_P (fun m (x : t_S) => (∀ c, c ≠ 44 → x c = σ c) ∧ ∀ q : Int, x 44 q = if 60 * t + k ≤ q ∧ q < 60 * t + k + m then σ 45 (q - 60 * t - k) else σ 44 q) ⟨fun _ _ => rfl, fun q => by rw [if_neg (by omega)]⟩ n (fun m x m0 m1 h => ⟨fun c hc => (s_up_f hc).trans (h.1 c hc), fun q => ?_⟩)
  show s_up x 44 (60 * t + k + m) (x 45 m) 44 q = _
  by_cases z : q = 60 * t + k + m
  · rw [z, s_up_eq, if_pos (by omega), h.1 45 (by decide)]
    congr 1
    omega
  · rw [s_up_j z, h.2 q]
    by_cases z1 : 60 * t + k ≤ q ∧ q < 60 * t + k + m
    · rw [if_pos z1, if_pos (by omega)]
    · rw [if_neg z1, if_neg (by omega)]
theorem x_sl_paste {χ σ : t_S} {h h1 : e_A} {s t i k n : Int} {b : Nat} (S : x_sl χ h σ) (ht : 0 ≤ t ∧ t < 4) (hχ : χ 35 t = (b : Int)) (hz : h.2 ≤ h1.2) (he : ∀ j : Nat, j < h.2 → j ≠ b → h1.1 j = h.1 j) (h9 : 0 ≤ i ∧ 0 ≤ k ∧ 0 ≤ n ∧ i + n ≤ σ 42 s ∧ k + n ≤ σ 42 t) (hm : σ 42 t ≤ 60)
    (hf : ∃ f : Nat → Value, h1.1 b = (x_hk (σ 43 t), (σ 42 t).toNat, f) ∧ ∀ j : Int, 0 ≤ j → j < σ 42 t → f j.toNat = x_hv (σ 43 t) (if k ≤ j ∧ j < k + n then σ 44 (60 * s + (i + (j - k))) else σ 44 (60 * t + j)) ∧ x_wr (σ 43 t) (if k ≤ j ∧ j < k + n then σ 44 (60 * s + (i + (j - k))) else σ 44 (60 * t + j))) : x_sl χ h1 (t_it (t_psg t k) n.toNat (t_it (t_psf s i) n.toNat σ)) := by
  have p := x_psf (s := s) (i := i) σ n.toNat
  have g := x_psg (t := t) (k := k) (t_it (t_psf s i) n.toNat σ) n.toNat
  refine x_sl_set S ht hχ hz he ?_ ((g.1 42 (by decide)).trans (p.1 42 (by decide))) ((g.1 43 (by decide)).trans (p.1 43 (by decide))) (fun q hq => ?_)
  · obtain ⟨f, f1, f2⟩ := hf
    refine ⟨f, f1, fun j j0 j1 => ?_⟩
    have e : t_it (t_psg t k) n.toNat (t_it (t_psf s i) n.toNat σ) 44 (60 * t + j) = if k ≤ j ∧ j < k + n then σ 44 (60 * s + (i + (j - k))) else σ 44 (60 * t + j) := by
      rw [g.2]
      by_cases z : k ≤ j ∧ j < k + n
      · rw [if_pos z, if_pos (by omega), p.2 _ (by omega) (by omega)]
        congr 1
        omega
      · rw [if_neg z, if_neg (by omega), p.1 44 (by decide)]
    rw [e]
    exact f2 j j0 j1
  · rw [g.2, if_neg (by omega), p.1 44 (by decide)]
theorem C_X0_writeB {σ χ : t_S} {h0 : e_A} (S : x_sl χ h0 σ) (h4 : 413 ≤ h0.2) {s : Int} (hs : e_rg s) {i : Int} (hi : e_rg i) {v : Int} (hb : ¬ (0 ≤ s ∧ s ≤ 3)) : e_C mX0_write [.ref 350, e_i s, e_i i, e_j v] (x_H χ h0) 6 532 3 (x_PM (v_write σ s i) (s_write σ s i v) χ h0) := by
  have ks1 := hs.1
  have ks2 := hs.2
  have ki1 := hi.1
  have ki2 := hi.2
  have hsw : s_write σ s i v = σ := if_neg (fun z => hb z.1)
  rw [hsw]
  refine e_enter (al0 := [.ref 350, e_i s, e_i i, e_j v, .retAddr 0]) (by decide +kernel) rfl (Nat.le_of_ble_eq_true rfl) ?_
  refine e_iload_n dX0_write_0 rfl ?_
  refine e_callS1rz dX0_write_1 md_X0_isSlot lk_X0_15 rfl q182 rfl (Nat.le_of_ble_eq_true rfl) (C_X0_isSlot ⟨by omega, by omega⟩) ?_
  refine e_bif_eq (tgt := 21) dX0_write_4 rfl (fun c1 => ?_) (fun q => by exfalso; omega)
  refine e_bipush dX0_write_21 rfl ?_
  refine e_ireturn dX0_write_23 rfl rfl ?_
  refine x_pm0 S ⟨Nat.le_refl _, fun _ _ => rfl⟩ ?_
  unfold v_write
  rw [if_neg (by omega)]
theorem C_X0_writeN {σ χ : t_S} {h0 : e_A} (S : x_sl χ h0 σ) (h4 : 413 ≤ h0.2) {s : Int} (hs : e_rg s) {i : Int} (hi : e_rg i) {v : Int} (hb : 0 ≤ s ∧ s ≤ 3) (hm : σ 42 s = -1) (hχ : χ 35 s = -1) : e_C mX0_write [.ref 350, e_i s, e_i i, e_j v] (x_H χ h0) 6 532 3 (x_PM (v_write σ s i) (s_write σ s i v) χ h0) := by
  have ks1 := hs.1
  have ks2 := hs.2
  have ki1 := hi.1
  have ki2 := hi.2
  have hsw : s_write σ s i v = σ := if_neg (fun z => z.2.1 hm)
  rw [hsw]
  refine e_enter (al0 := [.ref 350, e_i s, e_i i, e_j v, .retAddr 0]) (by decide +kernel) rfl (Nat.le_of_ble_eq_true rfl) ?_
  refine e_iload_n dX0_write_0 rfl ?_
  refine e_callS1rz dX0_write_1 md_X0_isSlot lk_X0_15 rfl q182 rfl (Nat.le_of_ble_eq_true rfl) (C_X0_isSlot ⟨by omega, by omega⟩) ?_
  refine e_bif_eq (tgt := 21) dX0_write_4 rfl (fun q => by exfalso; omega) (fun c1 => ?_)
  refine e_aload_n dX0_write_7 rfl ?_
  refine e_getV (.ref 351) dX0_write_8 fl_X0_19 (x_o0 _ _) rfl ?_
  refine e_iload_n dX0_write_11 rfl ?_
  refine e_aald s.toNat dX0_write_12 (x_oS _ _) (Or.inl (by omega)) (Int.toNat_of_nonneg (by omega)).symm (by omega) (by omega) ?_
  refine e_iload_n dX0_write_13 rfl ?_
  refine e_lload_n dX0_write_14 rfl ?_
  refine e_bud (kc1 := 5 + 1) (ks1 := 524 + 8) (by decide) (by decide) ?_
  refine e_callW2 (M1 := mX1_puts) (kc := 5) (ks := 524) (mc := 1) (ms := 8) (ci := 1) dX0_write_15 q287 md_X1_puts (by decide) q288 q289 (x_o1 χ h0 ⟨by omega, by omega⟩) (by decide) rfl (Nat.le_of_ble_eq_true rfl) (C_X1_putsN ⟨by omega, by omega⟩ hχ h4) (fun a hh q => ?_) (fun i hh q => by cases q.1)
  obtain ⟨q1, h1, he, rfl⟩ := q
  cases q1
  show e_E _ _ _ (_ :: _) _ _ _ _ _
  refine e_goto (tgt := 23) dX0_write_18 rfl ?_
  refine e_ireturn dX0_write_23 rfl rfl ?_
  refine x_pm0 S he ?_
  unfold v_write
  rw [if_pos (by omega), if_pos hm]
theorem C_X0_writeZ {σ χ : t_S} {h0 : e_A} (S : x_sl χ h0 σ) (h4 : 413 ≤ h0.2) {s : Int} (hs : e_rg s) {i : Int} (hi : e_rg i) {v : Int} (hb : 0 ≤ s ∧ s ≤ 3) {a : Nat} (hχ : χ 35 s = (a : Int)) (H : x_ar h0 (σ 43 s) (σ 42 s) (fun j => σ 44 (60 * s + j)) a) (hi2 : i < 0 ∨ σ 42 s ≤ i) : e_C mX0_write [.ref 350, e_i s, e_i i, e_j v] (x_H χ h0) 6 532 3 (x_PM (v_write σ s i) (s_write σ s i v) χ h0) := by
  have ks1 := hs.1
  have ks2 := hs.2
  have ki1 := hi.1
  have ki2 := hi.2
  have hm := H.2.1
  have hsw : s_write σ s i v = σ := if_neg (fun z => by have := z.2.2; omega)
  rw [hsw]
  refine e_enter (al0 := [.ref 350, e_i s, e_i i, e_j v, .retAddr 0]) (by decide +kernel) rfl (Nat.le_of_ble_eq_true rfl) ?_
  refine e_iload_n dX0_write_0 rfl ?_
  refine e_callS1rz dX0_write_1 md_X0_isSlot lk_X0_15 rfl q182 rfl (Nat.le_of_ble_eq_true rfl) (C_X0_isSlot ⟨by omega, by omega⟩) ?_
  refine e_bif_eq (tgt := 21) dX0_write_4 rfl (fun q => by exfalso; omega) (fun c1 => ?_)
  refine e_aload_n dX0_write_7 rfl ?_
  refine e_getV (.ref 351) dX0_write_8 fl_X0_19 (x_o0 _ _) rfl ?_
  refine e_iload_n dX0_write_11 rfl ?_
  refine e_aald s.toNat dX0_write_12 (x_oS _ _) (Or.inl (by omega)) (Int.toNat_of_nonneg (by omega)).symm (by omega) (by omega) ?_
  refine e_iload_n dX0_write_13 rfl ?_
  refine e_lload_n dX0_write_14 rfl ?_
  refine e_bud (kc1 := 0 + 6) (ks1 := 0 + 532) (by decide) (by decide) ?_
  refine e_callW2 (M1 := mX1_puts) (kc := 0) (ks := 0) (mc := 6) (ms := 532) (ci := 1) dX0_write_15 q287 md_X1_puts (by decide) q288 q289 (x_o1 χ h0 ⟨by omega, by omega⟩) (by decide) rfl (Nat.le_of_ble_eq_true rfl) (C_X1_putsZ ⟨by omega, by omega⟩ hχ H hi hi2) (fun a hh q => ?_) (fun i hh q => by cases q.1)
  obtain ⟨q1, h1, he, rfl⟩ := q
  cases q1
  show e_E _ _ _ (_ :: _) _ _ _ _ _
  refine e_goto (tgt := 23) dX0_write_18 rfl ?_
  refine e_ireturn dX0_write_23 rfl rfl ?_
  refine x_pm0 S he ?_
  unfold v_write
  rw [if_pos (by omega), if_neg (by omega), if_neg (by omega)]
theorem C_X0_writeI {σ χ : t_S} {h0 : e_A} (S : x_sl χ h0 σ) (h4 : 413 ≤ h0.2) {s : Int} (hs : e_rg s) {i : Int} (hi : e_rg i) {v : Int} (hb : 0 ≤ s ∧ s ≤ 3) {a : Nat} (hχ : χ 35 s = (a : Int)) (H : x_ar h0 (σ 43 s) (σ 42 s) (fun j => σ 44 (60 * s + j)) a) (hi2 : 0 ≤ i ∧ i < σ 42 s) : e_C mX0_write [.ref 350, e_i s, e_i i, e_j v] (x_H χ h0) 6 532 3 (x_PM (v_write σ s i) (s_write σ s i v) χ h0) := by
  have ks1 := hs.1
  have ks2 := hs.2
  have ki1 := hi.1
  have ki2 := hi.2
  have hm := H.2.1
  have hsw : s_write σ s i v = s_up σ 44 (60 * s + i) (t_clip v (σ 43 s)) := if_pos ⟨hb, by omega, by omega⟩
  have hvw : v_write σ s i = 0 := by
    unfold v_write
    rw [if_pos (by omega), if_neg (by omega), if_pos (by omega)]
  rw [hsw, hvw]
  refine e_enter (al0 := [.ref 350, e_i s, e_i i, e_j v, .retAddr 0]) (by decide +kernel) rfl (Nat.le_of_ble_eq_true rfl) ?_
  refine e_iload_n dX0_write_0 rfl ?_
  refine e_callS1rz dX0_write_1 md_X0_isSlot lk_X0_15 rfl q182 rfl (Nat.le_of_ble_eq_true rfl) (C_X0_isSlot ⟨by omega, by omega⟩) ?_
  refine e_bif_eq (tgt := 21) dX0_write_4 rfl (fun q => by exfalso; omega) (fun c1 => ?_)
  refine e_aload_n dX0_write_7 rfl ?_
  refine e_getV (.ref 351) dX0_write_8 fl_X0_19 (x_o0 _ _) rfl ?_
  refine e_iload_n dX0_write_11 rfl ?_
  refine e_aald s.toNat dX0_write_12 (x_oS _ _) (Or.inl (by omega)) (Int.toNat_of_nonneg (by omega)).symm (by omega) (by omega) ?_
  refine e_iload_n dX0_write_13 rfl ?_
  refine e_lload_n dX0_write_14 rfl ?_
  refine e_bud (kc1 := 3 + 3) (ks1 := 222 + 310) (by decide) (by decide) ?_
  refine e_callW2 (M1 := mX1_puts) (kc := 3) (ks := 222) (mc := 3) (ms := 310) (ci := 1) dX0_write_15 q287 md_X1_puts (by decide) q288 q289 (x_o1 χ h0 ⟨by omega, by omega⟩) (by decide) rfl (Nat.le_of_ble_eq_true rfl) (C_X1_puts ⟨by omega, by omega⟩ hχ H hi2) (fun a hh q => ?_) (fun i hh q => by cases q.1)
  obtain ⟨q1, h1, rfl, hz1, hk1, hf1⟩ := q
  cases q1
  show e_E _ _ _ (_ :: _) _ _ _ _ _
  refine e_goto (tgt := 23) dX0_write_18 rfl ?_
  refine e_ireturn dX0_write_23 rfl rfl ?_
  exact ⟨rfl, χ, h1, rfl, fun _ _ => rfl, hz1, fun j hj hne => hk1 j hj (fun e => hne s hb.1 (by omega) (by rw [hχ, e])), x_sl_write S ⟨hb.1, by omega⟩ hχ hz1 hk1 hi2 hm.2 hf1⟩
theorem C_X0_write {σ χ : t_S} {h0 : e_A} (S : x_sl χ h0 σ) (h4 : 413 ≤ h0.2) {s : Int} (hs : e_rg s) {i : Int} (hi : e_rg i) {v : Int} : e_C mX0_write [.ref 350, e_i s, e_i i, e_j v] (x_H χ h0) 6 532 3 (x_PM (v_write σ s i) (s_write σ s i v) χ h0) := by
  by_cases hb : 0 ≤ s ∧ s ≤ 3
  · rcases S.1 s hb.1 (by omega) with ⟨q1, q2⟩ | ⟨a, q1, q2⟩
    · exact C_X0_writeN S h4 hs hi hb q1 q2
    · by_cases hi2 : 0 ≤ i ∧ i < σ 42 s
      · exact C_X0_writeI S h4 hs hi hb q1 q2 hi2
      · exact C_X0_writeZ S h4 hs hi hb q1 q2 (by omega)
  · exact C_X0_writeB S h4 hs hi hb
theorem C_X0_pasteB {σ χ : t_S} {h0 : e_A} (S : x_sl χ h0 σ) (h4 : 413 ≤ h0.2) {s : Int} (hs : e_rg s) {i : Int} (hi : e_rg i) {t : Int} (ht : e_rg t) {k : Int} (hk : e_rg k) {n : Int} (hn : e_rg n) (hb : ¬ ((0 ≤ s ∧ s ≤ 3) ∧ 0 ≤ t ∧ t ≤ 3)) : e_C mX0_paste [.ref 350, e_i s, e_i i, e_i t, e_i k, e_i n] (x_H χ h0) 3 430 2 (x_PM (v_paste σ s i t k n) (s_paste σ s i t k n) χ h0) := by
  have ks1 := hs.1
  have ks2 := hs.2
  have ki1 := hi.1
  have ki2 := hi.2
  have kt1 := ht.1
  have kt2 := ht.2
  have kk1 := hk.1
  have kk2 := hk.2
  have kn1 := hn.1
  have kn2 := hn.2
  have hsw : s_paste σ s i t k n = σ := if_neg (fun z => by obtain ⟨z1, z2, z3, z4⟩ := z; exact hb z1)
  rw [hsw]
  refine e_enter (al0 := [.ref 350, e_i s, e_i i, e_i t, e_i k, e_i n]) (by decide +kernel) rfl (Nat.le_of_ble_eq_true rfl) ?_
  refine e_iload_n dX0_paste_0 rfl ?_
  refine e_callS1rz dX0_paste_1 md_X0_isSlot lk_X0_15 rfl q182 rfl (Nat.le_of_ble_eq_true rfl) (C_X0_isSlot ⟨by omega, by omega⟩) ?_
  refine e_bif_eq (tgt := 37) dX0_paste_4 rfl (fun c1 => ?_) (fun c1 => ?_)
  · refine e_bipush dX0_paste_37 rfl ?_
    refine e_ireturn dX0_paste_39 rfl rfl ?_
    refine x_pm0 S ⟨Nat.le_refl _, fun _ _ => rfl⟩ ?_
    unfold v_paste
    rw [if_neg hb]
  · refine e_iload_n dX0_paste_7 rfl ?_
    refine e_callS1rz dX0_paste_8 md_X0_isSlot lk_X0_15 rfl q182 rfl (Nat.le_of_ble_eq_true rfl) (C_X0_isSlot ⟨by omega, by omega⟩) ?_
    refine e_bif_eq (tgt := 37) dX0_paste_11 rfl (fun c2 => ?_) (fun c2 => ?_)
    · refine e_bipush dX0_paste_37 rfl ?_
      refine e_ireturn dX0_paste_39 rfl rfl ?_
      refine x_pm0 S ⟨Nat.le_refl _, fun _ _ => rfl⟩ ?_
      unfold v_paste
      rw [if_neg hb]
    · exfalso
      omega
theorem C_X0_pasteN1 {σ χ : t_S} {h0 : e_A} (S : x_sl χ h0 σ) (h4 : 413 ≤ h0.2) {s : Int} (hs : e_rg s) {i : Int} (hi : e_rg i) {t : Int} (ht : e_rg t) {k : Int} (hk : e_rg k) {n : Int} (hn : e_rg n) (hb : (0 ≤ s ∧ s ≤ 3) ∧ 0 ≤ t ∧ t ≤ 3) (hm : σ 42 s = -1) (hχ : χ 35 s = -1) : e_C mX0_paste [.ref 350, e_i s, e_i i, e_i t, e_i k, e_i n] (x_H χ h0) 3 430 2 (x_PM (v_paste σ s i t k n) (s_paste σ s i t k n) χ h0) := by
  have ks1 := hs.1
  have ks2 := hs.2
  have ki1 := hi.1
  have ki2 := hi.2
  have kt1 := ht.1
  have kt2 := ht.2
  have kk1 := hk.1
  have kk2 := hk.2
  have kn1 := hn.1
  have kn2 := hn.2
  have hsw : s_paste σ s i t k n = σ := if_neg (fun z => by obtain ⟨z1, z2, z3, z4⟩ := z; exact z2 (Or.inl hm))
  rw [hsw]
  refine e_enter (al0 := [.ref 350, e_i s, e_i i, e_i t, e_i k, e_i n]) (by decide +kernel) rfl (Nat.le_of_ble_eq_true rfl) ?_
  refine e_iload_n dX0_paste_0 rfl ?_
  refine e_callS1rz dX0_paste_1 md_X0_isSlot lk_X0_15 rfl q182 rfl (Nat.le_of_ble_eq_true rfl) (C_X0_isSlot ⟨by omega, by omega⟩) ?_
  refine e_bif_eq (tgt := 37) dX0_paste_4 rfl (fun q => by exfalso; omega) (fun c1 => ?_)
  refine e_iload_n dX0_paste_7 rfl ?_
  refine e_callS1rz dX0_paste_8 md_X0_isSlot lk_X0_15 rfl q182 rfl (Nat.le_of_ble_eq_true rfl) (C_X0_isSlot ⟨by omega, by omega⟩) ?_
  refine e_bif_eq (tgt := 37) dX0_paste_11 rfl (fun q => by exfalso; omega) (fun c2 => ?_)
  refine e_aload_n dX0_paste_14 rfl ?_
  refine e_getV (.ref 351) dX0_paste_15 fl_X0_19 (x_o0 _ _) rfl ?_
  refine e_iload_n dX0_paste_18 rfl ?_
  refine e_aald s.toNat dX0_paste_19 (x_oS _ _) (Or.inl (by omega)) (Int.toNat_of_nonneg (by omega)).symm (by omega) (by omega) ?_
  refine e_iload_n dX0_paste_20 rfl ?_
  refine e_aload_n dX0_paste_21 rfl ?_
  refine e_getV (.ref 351) dX0_paste_22 fl_X0_19 (x_o0 _ _) rfl ?_
  refine e_iload_n dX0_paste_25 rfl ?_
  refine e_aald t.toNat dX0_paste_26 (x_oS _ _) (Or.inl (by omega)) (Int.toNat_of_nonneg (by omega)).symm (by omega) (by omega) ?_
  refine e_iload dX0_paste_27 rfl ?_
  refine e_iload dX0_paste_29 rfl ?_
  refine e_callW4rz (ci := 1) dX0_paste_31 md_X1_pastes q366 (by decide) q367 q368 (x_o1 χ h0 ⟨by omega, by omega⟩) (by decide) rfl (Nat.le_of_ble_eq_true rfl) (C_X1_pastesN1 ⟨by omega, by omega⟩ ⟨by omega, by omega⟩ hχ) ?_
  refine e_goto (tgt := 39) dX0_paste_34 rfl ?_
  refine e_ireturn dX0_paste_39 rfl rfl ?_
  refine x_pm0 S ⟨Nat.le_refl _, fun _ _ => rfl⟩ ?_
  unfold v_paste
  rw [if_pos hb, if_pos (Or.inl hm)]
theorem C_X0_pasteN2 {σ χ : t_S} {h0 : e_A} (S : x_sl χ h0 σ) (h4 : 413 ≤ h0.2) {s : Int} (hs : e_rg s) {i : Int} (hi : e_rg i) {t : Int} (ht : e_rg t) {k : Int} (hk : e_rg k) {n : Int} (hn : e_rg n) (hb : (0 ≤ s ∧ s ≤ 3) ∧ 0 ≤ t ∧ t ≤ 3) {a : Nat} (hχ : χ 35 s = (a : Int)) (H : x_ar h0 (σ 43 s) (σ 42 s) (fun j => σ 44 (60 * s + j)) a) (gm : σ 42 t = -1) (gχ : χ 35 t = -1) : e_C mX0_paste [.ref 350, e_i s, e_i i, e_i t, e_i k, e_i n] (x_H χ h0) 3 430 2 (x_PM (v_paste σ s i t k n) (s_paste σ s i t k n) χ h0) := by
  have ks1 := hs.1
  have ks2 := hs.2
  have ki1 := hi.1
  have ki2 := hi.2
  have kt1 := ht.1
  have kt2 := ht.2
  have kk1 := hk.1
  have kk2 := hk.2
  have kn1 := hn.1
  have kn2 := hn.2
  have hsw : s_paste σ s i t k n = σ := if_neg (fun z => by obtain ⟨z1, z2, z3, z4⟩ := z; exact z2 (Or.inr gm))
  rw [hsw]
  refine e_enter (al0 := [.ref 350, e_i s, e_i i, e_i t, e_i k, e_i n]) (by decide +kernel) rfl (Nat.le_of_ble_eq_true rfl) ?_
  refine e_iload_n dX0_paste_0 rfl ?_
  refine e_callS1rz dX0_paste_1 md_X0_isSlot lk_X0_15 rfl q182 rfl (Nat.le_of_ble_eq_true rfl) (C_X0_isSlot ⟨by omega, by omega⟩) ?_
  refine e_bif_eq (tgt := 37) dX0_paste_4 rfl (fun q => by exfalso; omega) (fun c1 => ?_)
  refine e_iload_n dX0_paste_7 rfl ?_
  refine e_callS1rz dX0_paste_8 md_X0_isSlot lk_X0_15 rfl q182 rfl (Nat.le_of_ble_eq_true rfl) (C_X0_isSlot ⟨by omega, by omega⟩) ?_
  refine e_bif_eq (tgt := 37) dX0_paste_11 rfl (fun q => by exfalso; omega) (fun c2 => ?_)
  refine e_aload_n dX0_paste_14 rfl ?_
  refine e_getV (.ref 351) dX0_paste_15 fl_X0_19 (x_o0 _ _) rfl ?_
  refine e_iload_n dX0_paste_18 rfl ?_
  refine e_aald s.toNat dX0_paste_19 (x_oS _ _) (Or.inl (by omega)) (Int.toNat_of_nonneg (by omega)).symm (by omega) (by omega) ?_
  refine e_iload_n dX0_paste_20 rfl ?_
  refine e_aload_n dX0_paste_21 rfl ?_
  refine e_getV (.ref 351) dX0_paste_22 fl_X0_19 (x_o0 _ _) rfl ?_
  refine e_iload_n dX0_paste_25 rfl ?_
  refine e_aald t.toNat dX0_paste_26 (x_oS _ _) (Or.inl (by omega)) (Int.toNat_of_nonneg (by omega)).symm (by omega) (by omega) ?_
  refine e_iload dX0_paste_27 rfl ?_
  refine e_iload dX0_paste_29 rfl ?_
  refine e_callW4rz (ci := 1) dX0_paste_31 md_X1_pastes q366 (by decide) q367 q368 (x_o1 χ h0 ⟨by omega, by omega⟩) (by decide) rfl (Nat.le_of_ble_eq_true rfl) (C_X1_pastesN2 ⟨by omega, by omega⟩ ⟨by omega, by omega⟩ hχ H gχ) ?_
  refine e_goto (tgt := 39) dX0_paste_34 rfl ?_
  refine e_ireturn dX0_paste_39 rfl rfl ?_
  refine x_pm0 S ⟨Nat.le_refl _, fun _ _ => rfl⟩ ?_
  unfold v_paste
  rw [if_pos hb, if_pos (Or.inr gm)]
theorem C_X0_pasteW {σ χ : t_S} {h0 : e_A} (S : x_sl χ h0 σ) (h4 : 413 ≤ h0.2) {s : Int} (hs : e_rg s) {i : Int} (hi : e_rg i) {t : Int} (ht : e_rg t) {k : Int} (hk : e_rg k) {n : Int} (hn : e_rg n) (hb : (0 ≤ s ∧ s ≤ 3) ∧ 0 ≤ t ∧ t ≤ 3) {a : Nat} (hχ : χ 35 s = (a : Int)) (H : x_ar h0 (σ 43 s) (σ 42 s) (fun j => σ 44 (60 * s + j)) a) {b : Nat} (gχ : χ 35 t = (b : Int)) (G : x_ar h0 (σ 43 t) (σ 42 t) (fun j => σ 44 (60 * t + j)) b) (hne : σ 43 s ≠ σ 43 t) : e_C mX0_paste [.ref 350, e_i s, e_i i, e_i t, e_i k, e_i n] (x_H χ h0) 3 430 2 (x_PM (v_paste σ s i t k n) (s_paste σ s i t k n) χ h0) := by
  have ks1 := hs.1
  have ks2 := hs.2
  have ki1 := hi.1
  have ki2 := hi.2
  have kt1 := ht.1
  have kt2 := ht.2
  have kk1 := hk.1
  have kk2 := hk.2
  have kn1 := hn.1
  have kn2 := hn.2
  have hm := H.2.1
  have gm := G.2.1
  have h11 : ¬ (σ 42 s = -1 ∨ σ 42 t = -1) := by omega
  have hsw : s_paste σ s i t k n = σ := if_neg (fun z => by obtain ⟨z1, z2, z3, z4⟩ := z; exact hne z3)
  rw [hsw]
  refine e_enter (al0 := [.ref 350, e_i s, e_i i, e_i t, e_i k, e_i n]) (by decide +kernel) rfl (Nat.le_of_ble_eq_true rfl) ?_
  refine e_iload_n dX0_paste_0 rfl ?_
  refine e_callS1rz dX0_paste_1 md_X0_isSlot lk_X0_15 rfl q182 rfl (Nat.le_of_ble_eq_true rfl) (C_X0_isSlot ⟨by omega, by omega⟩) ?_
  refine e_bif_eq (tgt := 37) dX0_paste_4 rfl (fun q => by exfalso; omega) (fun c1 => ?_)
  refine e_iload_n dX0_paste_7 rfl ?_
  refine e_callS1rz dX0_paste_8 md_X0_isSlot lk_X0_15 rfl q182 rfl (Nat.le_of_ble_eq_true rfl) (C_X0_isSlot ⟨by omega, by omega⟩) ?_
  refine e_bif_eq (tgt := 37) dX0_paste_11 rfl (fun q => by exfalso; omega) (fun c2 => ?_)
  refine e_aload_n dX0_paste_14 rfl ?_
  refine e_getV (.ref 351) dX0_paste_15 fl_X0_19 (x_o0 _ _) rfl ?_
  refine e_iload_n dX0_paste_18 rfl ?_
  refine e_aald s.toNat dX0_paste_19 (x_oS _ _) (Or.inl (by omega)) (Int.toNat_of_nonneg (by omega)).symm (by omega) (by omega) ?_
  refine e_iload_n dX0_paste_20 rfl ?_
  refine e_aload_n dX0_paste_21 rfl ?_
  refine e_getV (.ref 351) dX0_paste_22 fl_X0_19 (x_o0 _ _) rfl ?_
  refine e_iload_n dX0_paste_25 rfl ?_
  refine e_aald t.toNat dX0_paste_26 (x_oS _ _) (Or.inl (by omega)) (Int.toNat_of_nonneg (by omega)).symm (by omega) (by omega) ?_
  refine e_iload dX0_paste_27 rfl ?_
  refine e_iload dX0_paste_29 rfl ?_
  refine e_callW4rz (ci := 1) dX0_paste_31 md_X1_pastes q366 (by decide) q367 q368 (x_o1 χ h0 ⟨by omega, by omega⟩) (by decide) rfl (Nat.le_of_ble_eq_true rfl) (C_X1_pastesW ⟨by omega, by omega⟩ ⟨by omega, by omega⟩ hχ H gχ G hne) ?_
  refine e_goto (tgt := 39) dX0_paste_34 rfl ?_
  refine e_ireturn dX0_paste_39 rfl rfl ?_
  refine x_pm0 S ⟨Nat.le_refl _, fun _ _ => rfl⟩ ?_
  unfold v_paste
  rw [if_pos hb, if_neg h11, if_pos hne]
theorem C_X0_pasteZ {σ χ : t_S} {h0 : e_A} (S : x_sl χ h0 σ) (h4 : 413 ≤ h0.2) {s : Int} (hs : e_rg s) {i : Int} (hi : e_rg i) {t : Int} (ht : e_rg t) {k : Int} (hk : e_rg k) {n : Int} (hn : e_rg n) (hb : (0 ≤ s ∧ s ≤ 3) ∧ 0 ≤ t ∧ t ≤ 3) {a : Nat} (hχ : χ 35 s = (a : Int)) (H : x_ar h0 (σ 43 s) (σ 42 s) (fun j => σ 44 (60 * s + j)) a) (heq : σ 43 s = σ 43 t) {b : Nat} (gχ : χ 35 t = (b : Int)) (G : x_ar h0 (σ 43 s) (σ 42 t) (fun j => σ 44 (60 * t + j)) b) (hout : i < 0 ∨ k < 0 ∨ n < 0 ∨ σ 42 s < i + n ∨ σ 42 t < k + n) : e_C mX0_paste [.ref 350, e_i s, e_i i, e_i t, e_i k, e_i n] (x_H χ h0) 3 430 2 (x_PM (v_paste σ s i t k n) (s_paste σ s i t k n) χ h0) := by
  have ks1 := hs.1
  have ks2 := hs.2
  have ki1 := hi.1
  have ki2 := hi.2
  have kt1 := ht.1
  have kt2 := ht.2
  have kk1 := hk.1
  have kk2 := hk.2
  have kn1 := hn.1
  have kn2 := hn.2
  have hm := H.2.1
  have gm := G.2.1
  have h11 : ¬ (σ 42 s = -1 ∨ σ 42 t = -1) := by omega
  have hsw : s_paste σ s i t k n = σ := if_neg (fun z => by obtain ⟨z1, z2, z3, z4⟩ := z; exact z4 hout)
  rw [hsw]
  refine e_enter (al0 := [.ref 350, e_i s, e_i i, e_i t, e_i k, e_i n]) (by decide +kernel) rfl (Nat.le_of_ble_eq_true rfl) ?_
  refine e_iload_n dX0_paste_0 rfl ?_
  refine e_callS1rz dX0_paste_1 md_X0_isSlot lk_X0_15 rfl q182 rfl (Nat.le_of_ble_eq_true rfl) (C_X0_isSlot ⟨by omega, by omega⟩) ?_
  refine e_bif_eq (tgt := 37) dX0_paste_4 rfl (fun q => by exfalso; omega) (fun c1 => ?_)
  refine e_iload_n dX0_paste_7 rfl ?_
  refine e_callS1rz dX0_paste_8 md_X0_isSlot lk_X0_15 rfl q182 rfl (Nat.le_of_ble_eq_true rfl) (C_X0_isSlot ⟨by omega, by omega⟩) ?_
  refine e_bif_eq (tgt := 37) dX0_paste_11 rfl (fun q => by exfalso; omega) (fun c2 => ?_)
  refine e_aload_n dX0_paste_14 rfl ?_
  refine e_getV (.ref 351) dX0_paste_15 fl_X0_19 (x_o0 _ _) rfl ?_
  refine e_iload_n dX0_paste_18 rfl ?_
  refine e_aald s.toNat dX0_paste_19 (x_oS _ _) (Or.inl (by omega)) (Int.toNat_of_nonneg (by omega)).symm (by omega) (by omega) ?_
  refine e_iload_n dX0_paste_20 rfl ?_
  refine e_aload_n dX0_paste_21 rfl ?_
  refine e_getV (.ref 351) dX0_paste_22 fl_X0_19 (x_o0 _ _) rfl ?_
  refine e_iload_n dX0_paste_25 rfl ?_
  refine e_aald t.toNat dX0_paste_26 (x_oS _ _) (Or.inl (by omega)) (Int.toNat_of_nonneg (by omega)).symm (by omega) (by omega) ?_
  refine e_iload dX0_paste_27 rfl ?_
  refine e_iload dX0_paste_29 rfl ?_
  refine e_bud (kc1 := 0 + 3) (ks1 := 0 + 430) (by decide) (by decide) ?_
  refine e_callW4 (M1 := mX1_pastes) (kc := 0) (ks := 0) (mc := 3) (ms := 430) (ci := 1) dX0_paste_31 q366 md_X1_pastes (by decide) q367 q368 (x_o1 χ h0 ⟨by omega, by omega⟩) (by decide) rfl (Nat.le_of_ble_eq_true rfl) (C_X1_pastesZ ⟨by omega, by omega⟩ ⟨by omega, by omega⟩ hχ H gχ G hi hk hn hout) (fun a hh q => ?_) (fun i hh q => by cases q.1)
  obtain ⟨q1, h1, he, rfl⟩ := q
  cases q1
  show e_E _ _ _ (_ :: _) _ _ _ _ _
  refine e_goto (tgt := 39) dX0_paste_34 rfl ?_
  refine e_ireturn dX0_paste_39 rfl rfl ?_
  refine x_pm0 S he ?_
  unfold v_paste
  rw [if_pos hb, if_neg h11, if_neg (fun q => q heq), if_pos hout]
theorem C_X0_pasteI {σ χ : t_S} {h0 : e_A} (S : x_sl χ h0 σ) (h4 : 413 ≤ h0.2) {s : Int} (hs : e_rg s) {i : Int} (hi : e_rg i) {t : Int} (ht : e_rg t) {k : Int} (hk : e_rg k) {n : Int} (hn : e_rg n) (hb : (0 ≤ s ∧ s ≤ 3) ∧ 0 ≤ t ∧ t ≤ 3) {a : Nat} (hχ : χ 35 s = (a : Int)) (H : x_ar h0 (σ 43 s) (σ 42 s) (fun j => σ 44 (60 * s + j)) a) (heq : σ 43 s = σ 43 t) {b : Nat} (gχ : χ 35 t = (b : Int)) (G : x_ar h0 (σ 43 s) (σ 42 t) (fun j => σ 44 (60 * t + j)) b) (hin : 0 ≤ i ∧ 0 ≤ k ∧ 0 ≤ n ∧ i + n ≤ σ 42 s ∧ k + n ≤ σ 42 t) : e_C mX0_paste [.ref 350, e_i s, e_i i, e_i t, e_i k, e_i n] (x_H χ h0) 3 430 2 (x_PM (v_paste σ s i t k n) (s_paste σ s i t k n) χ h0) := by
  have ks1 := hs.1
  have ks2 := hs.2
  have ki1 := hi.1
  have ki2 := hi.2
  have kt1 := ht.1
  have kt2 := ht.2
  have kk1 := hk.1
  have kk2 := hk.2
  have kn1 := hn.1
  have kn2 := hn.2
  have hm := H.2.1
  have gm := G.2.1
  have h11 : ¬ (σ 42 s = -1 ∨ σ 42 t = -1) := by omega
  have hno : ¬ (i < 0 ∨ k < 0 ∨ n < 0 ∨ σ 42 s < i + n ∨ σ 42 t < k + n) := by omega
  have hsw : s_paste σ s i t k n = t_it (t_psg t k) n.toNat (t_it (t_psf s i) n.toNat σ) := if_pos ⟨hb, h11, heq, hno⟩
  have hvw : v_paste σ s i t k n = 0 := by
    unfold v_paste
    rw [if_pos hb, if_neg h11, if_neg (fun q => q heq), if_neg hno]
  rw [hsw, hvw]
  refine e_enter (al0 := [.ref 350, e_i s, e_i i, e_i t, e_i k, e_i n]) (by decide +kernel) rfl (Nat.le_of_ble_eq_true rfl) ?_
  refine e_iload_n dX0_paste_0 rfl ?_
  refine e_callS1rz dX0_paste_1 md_X0_isSlot lk_X0_15 rfl q182 rfl (Nat.le_of_ble_eq_true rfl) (C_X0_isSlot ⟨by omega, by omega⟩) ?_
  refine e_bif_eq (tgt := 37) dX0_paste_4 rfl (fun q => by exfalso; omega) (fun c1 => ?_)
  refine e_iload_n dX0_paste_7 rfl ?_
  refine e_callS1rz dX0_paste_8 md_X0_isSlot lk_X0_15 rfl q182 rfl (Nat.le_of_ble_eq_true rfl) (C_X0_isSlot ⟨by omega, by omega⟩) ?_
  refine e_bif_eq (tgt := 37) dX0_paste_11 rfl (fun q => by exfalso; omega) (fun c2 => ?_)
  refine e_aload_n dX0_paste_14 rfl ?_
  refine e_getV (.ref 351) dX0_paste_15 fl_X0_19 (x_o0 _ _) rfl ?_
  refine e_iload_n dX0_paste_18 rfl ?_
  refine e_aald s.toNat dX0_paste_19 (x_oS _ _) (Or.inl (by omega)) (Int.toNat_of_nonneg (by omega)).symm (by omega) (by omega) ?_
  refine e_iload_n dX0_paste_20 rfl ?_
  refine e_aload_n dX0_paste_21 rfl ?_
  refine e_getV (.ref 351) dX0_paste_22 fl_X0_19 (x_o0 _ _) rfl ?_
  refine e_iload_n dX0_paste_25 rfl ?_
  refine e_aald t.toNat dX0_paste_26 (x_oS _ _) (Or.inl (by omega)) (Int.toNat_of_nonneg (by omega)).symm (by omega) (by omega) ?_
  refine e_iload dX0_paste_27 rfl ?_
  refine e_iload dX0_paste_29 rfl ?_
  refine e_bud (kc1 := 3 + 0) (ks1 := 430 + 0) (by decide) (by decide) ?_
  refine e_callW4 (M1 := mX1_pastes) (kc := 3) (ks := 430) (mc := 0) (ms := 0) (ci := 1) dX0_paste_31 q366 md_X1_pastes (by decide) q367 q368 (x_o1 χ h0 ⟨by omega, by omega⟩) (by decide) rfl (Nat.le_of_ble_eq_true rfl) (C_X1_pastes ⟨by omega, by omega⟩ ⟨by omega, by omega⟩ hχ H gχ G hi hk hn hin) (fun a hh q => ?_) (fun i hh q => by cases q.1)
  obtain ⟨q1, h1, rfl, hz1, hk1, hf1⟩ := q
  cases q1
  show e_E _ _ _ (_ :: _) _ _ _ _ _
  refine e_goto (tgt := 39) dX0_paste_34 rfl ?_
  refine e_ireturn dX0_paste_39 rfl rfl ?_
  rw [heq] at hf1
  exact ⟨rfl, χ, h1, rfl, fun _ _ => rfl, hz1, fun j hj hne => hk1 j hj (fun e => hne t hb.2.1 (by omega) (by rw [gχ, e])), x_sl_paste S ⟨hb.2.1, by omega⟩ gχ hz1 hk1 hin gm.2 hf1⟩
theorem C_X0_paste {σ χ : t_S} {h0 : e_A} (S : x_sl χ h0 σ) (h4 : 413 ≤ h0.2) {s : Int} (hs : e_rg s) {i : Int} (hi : e_rg i) {t : Int} (ht : e_rg t) {k : Int} (hk : e_rg k) {n : Int} (hn : e_rg n) : e_C mX0_paste [.ref 350, e_i s, e_i i, e_i t, e_i k, e_i n] (x_H χ h0) 3 430 2 (x_PM (v_paste σ s i t k n) (s_paste σ s i t k n) χ h0) := by
  by_cases hb : (0 ≤ s ∧ s ≤ 3) ∧ 0 ≤ t ∧ t ≤ 3
  · rcases S.1 s hb.1.1 (by omega) with ⟨q1, q2⟩ | ⟨a, q1, q2⟩
    · exact C_X0_pasteN1 S h4 hs hi ht hk hn hb q1 q2
    · rcases S.1 t hb.2.1 (by omega) with ⟨g1, g2⟩ | ⟨b, g1, g2⟩
      · exact C_X0_pasteN2 S h4 hs hi ht hk hn hb q1 q2 g1 g2
      · by_cases heq : σ 43 s = σ 43 t
        · have g3 := g2
          rw [← heq] at g3
          by_cases hin : 0 ≤ i ∧ 0 ≤ k ∧ 0 ≤ n ∧ i + n ≤ σ 42 s ∧ k + n ≤ σ 42 t
          · exact C_X0_pasteI S h4 hs hi ht hk hn hb q1 q2 heq g1 g3 hin
          · exact C_X0_pasteZ S h4 hs hi ht hk hn hb q1 q2 heq g1 g3 (by omega)
        · exact C_X0_pasteW S h4 hs hi ht hk hn hb q1 q2 g1 g2 heq
  · exact C_X0_pasteB S h4 hs hi ht hk hn hb
