/-! THE COMPONENT: slots (printed by tx27.py) -/
set_option maxRecDepth 100000
theorem C_X1_begins {χ : t_S} {h0 : e_A} {s : Int} (hs : 0 ≤ s ∧ s < 4) {w n : Int} (hw : 0 ≤ w ∧ w ≤ 3) (hn : 0 ≤ n ∧ n ≤ 60) (h4 : 413 ≤ h0.2) : e_C mX1_begins [.ref (352 + s.toNat), e_i w, e_i n] (x_H χ h0) 1 60 0 (e_ret (e_i 1) (x_H (s_up χ 35 s (h0.2 : Int)) (e_push h0 (x_hk w, n.toNat, fun _ => x_hv w 0)))) := by
  refine e_enter (al0 := [.ref (352 + s.toNat), e_i w, e_i n, .retAddr 0]) (by decide +kernel) rfl (Nat.le_of_ble_eq_true rfl) ?_
  refine e_iload_n dX1_begins_0 rfl ?_
  by_cases w1 : w = 0
  · subst w1
    refine e_tsw (off := 27) (tgt := 28) dX1_begins_1 (by decide) (by decide) rfl rfl ?_
    refine e_aload_n dX1_begins_28 rfl ?_
    refine e_iload_n dX1_begins_29 rfl ?_
    refine e_bud (kc1 := 0 + 1) (ks1 := 0 + n.toNat) (by omega) (by omega) ?_
    refine e_newarr_byte (kc := 0) (ks := 0) (n.toNat) dX1_begins_30 (by omega) (by omega) ?_
    rw [x_push (by omega)]
    refine x_putH dX1_begins_32 fl_X1_9 hs ?_
    refine e_goto (tgt := 65) dX1_begins_35 rfl ?_
    refine e_goto (tgt := 71) dX1_begins_65 rfl ?_
    refine e_iconst dX1_begins_71 ?_
    refine e_ireturn dX1_begins_72 rfl rfl ?_
    first
      | exact ⟨rfl, rfl⟩
      | (have hw3 : w = 3 := by omega
         subst hw3
         exact ⟨rfl, rfl⟩)
  by_cases w2 : w = 1
  · subst w2
    refine e_tsw (off := 37) (tgt := 38) dX1_begins_1 (by decide) (by decide) rfl rfl ?_
    refine e_aload_n dX1_begins_38 rfl ?_
    refine e_iload_n dX1_begins_39 rfl ?_
    refine e_bud (kc1 := 0 + 1) (ks1 := 0 + n.toNat) (by omega) (by omega) ?_
    refine e_newarr_short (kc := 0) (ks := 0) (n.toNat) dX1_begins_40 (by omega) (by omega) ?_
    rw [x_push (by omega)]
    refine x_putH dX1_begins_42 fl_X1_9 hs ?_
    refine e_goto (tgt := 65) dX1_begins_45 rfl ?_
    refine e_goto (tgt := 71) dX1_begins_65 rfl ?_
    refine e_iconst dX1_begins_71 ?_
    refine e_ireturn dX1_begins_72 rfl rfl ?_
    first
      | exact ⟨rfl, rfl⟩
      | (have hw3 : w = 3 := by omega
         subst hw3
         exact ⟨rfl, rfl⟩)
  by_cases w3 : w = 2
  · subst w3
    refine e_tsw (off := 47) (tgt := 48) dX1_begins_1 (by decide) (by decide) rfl rfl ?_
    refine e_aload_n dX1_begins_48 rfl ?_
    refine e_iload_n dX1_begins_49 rfl ?_
    refine e_bud (kc1 := 0 + 1) (ks1 := 0 + n.toNat) (by omega) (by omega) ?_
    refine e_newarr_int (kc := 0) (ks := 0) (n.toNat) dX1_begins_50 (by omega) (by omega) ?_
    rw [x_push (by omega)]
    refine x_putH dX1_begins_52 fl_X1_9 hs ?_
    refine e_goto (tgt := 65) dX1_begins_55 rfl ?_
    refine e_goto (tgt := 71) dX1_begins_65 rfl ?_
    refine e_iconst dX1_begins_71 ?_
    refine e_ireturn dX1_begins_72 rfl rfl ?_
    first
      | exact ⟨rfl, rfl⟩
      | (have hw3 : w = 3 := by omega
         subst hw3
         exact ⟨rfl, rfl⟩)
  refine e_tswD (tgt := 58) dX1_begins_1 ⟨by omega, by omega⟩ (by omega) rfl ?_
  refine e_aload_n dX1_begins_58 rfl ?_
  refine e_iload_n dX1_begins_59 rfl ?_
  refine e_bud (kc1 := 0 + 1) (ks1 := 0 + n.toNat) (by omega) (by omega) ?_
  refine e_newarr_long (kc := 0) (ks := 0) (n.toNat) dX1_begins_60 (by omega) (by omega) ?_
  rw [x_push (by omega)]
  refine x_putH dX1_begins_62 fl_X1_9 hs ?_
  refine e_goto (tgt := 71) dX1_begins_65 rfl ?_
  refine e_iconst dX1_begins_71 ?_
  refine e_ireturn dX1_begins_72 rfl rfl ?_
  first
    | exact ⟨rfl, rfl⟩
    | (have hw3 : w = 3 := by omega
       subst hw3
       exact ⟨rfl, rfl⟩)
theorem C_X1_beginsZ {χ : t_S} {h0 : e_A} {s : Int} (hs : 0 ≤ s ∧ s < 4) {w n : Int} (hw : 0 ≤ w ∧ w ≤ 3) (hn : n < 0) (hr : e_rg n) (h4 : 413 ≤ h0.2) : e_C mX1_begins [.ref (352 + s.toNat), e_i w, e_i n] (x_H χ h0) 3 54 0 (e_ret (e_i 0) (x_H χ (e_push h0 (70, 0, fun _ => .null)))) := by
  refine e_enter (al0 := [.ref (352 + s.toNat), e_i w, e_i n, .retAddr 0]) (by decide +kernel) rfl (Nat.le_of_ble_eq_true rfl) ?_
  refine e_iload_n dX1_begins_0 rfl ?_
  by_cases w1 : w = 0
  · subst w1
    refine e_tsw (off := 27) (tgt := 28) dX1_begins_1 (by decide) (by decide) rfl rfl ?_
    refine e_aload_n dX1_begins_28 rfl ?_
    refine e_iload_n dX1_begins_29 rfl ?_
    refine e_bud (kc1 := 0 + 3) (ks1 := 0 + 54) (by decide) (by decide) ?_
    refine e_newarrZ dX1_begins_30 (by omega) ⟨by omega, by omega⟩ rfl ?_
    refine e_catch [] (0, 65, 68, 15) [] rfl (fun z hz => by cases hz) ⟨by decide, by decide⟩ (by decide) q192 (by rw [e_push_at]; exact q257) ?_
    refine e_astore_n3 dX1_begins_68 rfl ?_
    refine e_iconst dX1_begins_69 ?_
    refine e_ireturn dX1_begins_70 rfl rfl ?_
    exact ⟨rfl, x_push (by omega)⟩
  by_cases w2 : w = 1
  · subst w2
    refine e_tsw (off := 37) (tgt := 38) dX1_begins_1 (by decide) (by decide) rfl rfl ?_
    refine e_aload_n dX1_begins_38 rfl ?_
    refine e_iload_n dX1_begins_39 rfl ?_
    refine e_bud (kc1 := 0 + 3) (ks1 := 0 + 54) (by decide) (by decide) ?_
    refine e_newarrZ dX1_begins_40 (by omega) ⟨by omega, by omega⟩ rfl ?_
    refine e_catch [] (0, 65, 68, 15) [] rfl (fun z hz => by cases hz) ⟨by decide, by decide⟩ (by decide) q192 (by rw [e_push_at]; exact q257) ?_
    refine e_astore_n3 dX1_begins_68 rfl ?_
    refine e_iconst dX1_begins_69 ?_
    refine e_ireturn dX1_begins_70 rfl rfl ?_
    exact ⟨rfl, x_push (by omega)⟩
  by_cases w3 : w = 2
  · subst w3
    refine e_tsw (off := 47) (tgt := 48) dX1_begins_1 (by decide) (by decide) rfl rfl ?_
    refine e_aload_n dX1_begins_48 rfl ?_
    refine e_iload_n dX1_begins_49 rfl ?_
    refine e_bud (kc1 := 0 + 3) (ks1 := 0 + 54) (by decide) (by decide) ?_
    refine e_newarrZ dX1_begins_50 (by omega) ⟨by omega, by omega⟩ rfl ?_
    refine e_catch [] (0, 65, 68, 15) [] rfl (fun z hz => by cases hz) ⟨by decide, by decide⟩ (by decide) q192 (by rw [e_push_at]; exact q257) ?_
    refine e_astore_n3 dX1_begins_68 rfl ?_
    refine e_iconst dX1_begins_69 ?_
    refine e_ireturn dX1_begins_70 rfl rfl ?_
    exact ⟨rfl, x_push (by omega)⟩
  refine e_tswD (tgt := 58) dX1_begins_1 ⟨by omega, by omega⟩ (by omega) rfl ?_
  refine e_aload_n dX1_begins_58 rfl ?_
  refine e_iload_n dX1_begins_59 rfl ?_
  refine e_bud (kc1 := 0 + 3) (ks1 := 0 + 54) (by decide) (by decide) ?_
  refine e_newarrZ dX1_begins_60 (by omega) ⟨by omega, by omega⟩ rfl ?_
  refine e_catch [] (0, 65, 68, 15) [] rfl (fun z hz => by cases hz) ⟨by decide, by decide⟩ (by decide) q192 (by rw [e_push_at]; exact q257) ?_
  refine e_astore_n3 dX1_begins_68 rfl ?_
  refine e_iconst dX1_begins_69 ?_
  refine e_ireturn dX1_begins_70 rfl rfl ?_
  exact ⟨rfl, x_push (by omega)⟩
theorem z_n52_53 : Cond.not (.castable (e_an 52) "[S") ∈ flatC (Jvm.Cond.and given_1 narrow_1) := by decide +kernel
theorem z_n52_50 : Cond.not (.castable (e_an 52) "[I") ∈ flatC (Jvm.Cond.and given_1 narrow_1) := by decide +kernel
theorem z_n52_54 : Cond.not (.castable (e_an 52) "[J") ∈ flatC (Jvm.Cond.and given_1 narrow_1) := by decide +kernel
theorem z_n53_52 : Cond.not (.castable (e_an 53) "[B") ∈ flatC (Jvm.Cond.and given_1 narrow_1) := by decide +kernel
theorem z_n53_50 : Cond.not (.castable (e_an 53) "[I") ∈ flatC (Jvm.Cond.and given_1 narrow_1) := by decide +kernel
theorem z_n53_54 : Cond.not (.castable (e_an 53) "[J") ∈ flatC (Jvm.Cond.and given_1 narrow_1) := by decide +kernel
theorem z_n50_52 : Cond.not (.castable (e_an 50) "[B") ∈ flatC (Jvm.Cond.and given_1 narrow_1) := by decide +kernel
theorem z_n50_53 : Cond.not (.castable (e_an 50) "[S") ∈ flatC (Jvm.Cond.and given_1 narrow_1) := by decide +kernel
theorem z_n50_54 : Cond.not (.castable (e_an 50) "[J") ∈ flatC (Jvm.Cond.and given_1 narrow_1) := by decide +kernel
theorem z_n54_52 : Cond.not (.castable (e_an 54) "[B") ∈ flatC (Jvm.Cond.and given_1 narrow_1) := by decide +kernel
theorem z_n54_53 : Cond.not (.castable (e_an 54) "[S") ∈ flatC (Jvm.Cond.and given_1 narrow_1) := by decide +kernel
theorem z_n54_50 : Cond.not (.castable (e_an 54) "[I") ∈ flatC (Jvm.Cond.and given_1 narrow_1) := by decide +kernel
theorem x_arH {χ : t_S} {h0 : e_A} {w n : Int} {num : Int → Int} {a : Nat} (H : x_ar h0 w n num a) : ∃ f : Nat → Value, (x_H χ h0).1 a = (x_hk w, n.toNat, f) ∧ ∀ j : Int, 0 ≤ j → j < n → f j.toNat = x_hv w (num j) ∧ x_wr w (num j) := by
  obtain ⟨-, -, a3, f, a4, a5⟩ := H
  exact ⟨f, by rw [x_H_fr (Or.inr (Or.inr (by omega)))]; exact a4, a5⟩
theorem x_v35 {χ : t_S} {s : Int} {a : Nat} (h : χ 35 s = (a : Int)) : x_v 35 (χ 35 s) = .ref a := by
  rw [h]
  show (if (a : Int) = -1 then Value.null else .ref (a : Int).toNat) = _
  rw [if_neg (by omega), Int.toNat_natCast]
theorem C_X1_many0 {χ : t_S} {h0 : e_A} {s : Int} (hs : 0 ≤ s ∧ s < 4) {n : Int} {num : Int → Int} {a : Nat} (hχ : χ 35 s = (a : Int)) (H : x_ar h0 0 n num a) : e_C mX1_many [.ref (352 + s.toNat)] (x_H χ h0) 0 0 0 (e_ret (e_i n) (x_H χ h0)) := by
  obtain ⟨f, ho, hf⟩ := x_arH (χ := χ) H
  obtain ⟨-, hn, -, -⟩ := H
  have ho : (x_H χ h0).1 a = (52, n.toNat, f) := ho
  refine e_enter (al0 := [.ref (352 + s.toNat)]) (by decide +kernel) rfl (Nat.le_of_ble_eq_true rfl) ?_
  refine e_aload_n dX1_many_0 rfl ?_
  refine x_getH (.ref a) dX1_many_1 fl_X1_9 hs (x_v35 hχ) ?_
  refine e_instA dX1_many_4 ho (by decide) q340 ?_
  refine e_if_eq (tgt := 19) dX1_many_7 rfl ⟨by omega, by omega⟩ (fun q => by exfalso; omega) (fun c1 => ?_)
  refine e_aload_n dX1_many_10 rfl ?_
  refine x_getH (.ref a) dX1_many_11 fl_X1_9 hs (x_v35 hχ) ?_
  refine e_castA dX1_many_14 ho (by decide) q340 ?_
  refine e_alen dX1_many_17 ho (by decide) ?_
  refine e_ireturn dX1_many_18 rfl rfl ?_
  rw [show ((n.toNat : Nat) : Int) = n by omega]
  exact ⟨rfl, rfl⟩
theorem C_X1_many1 {χ : t_S} {h0 : e_A} {s : Int} (hs : 0 ≤ s ∧ s < 4) {n : Int} {num : Int → Int} {a : Nat} (hχ : χ 35 s = (a : Int)) (H : x_ar h0 1 n num a) : e_C mX1_many [.ref (352 + s.toNat)] (x_H χ h0) 0 0 0 (e_ret (e_i n) (x_H χ h0)) := by
  obtain ⟨f, ho, hf⟩ := x_arH (χ := χ) H
  obtain ⟨-, hn, -, -⟩ := H
  have ho : (x_H χ h0).1 a = (53, n.toNat, f) := ho
  refine e_enter (al0 := [.ref (352 + s.toNat)]) (by decide +kernel) rfl (Nat.le_of_ble_eq_true rfl) ?_
  refine e_aload_n dX1_many_0 rfl ?_
  refine x_getH (.ref a) dX1_many_1 fl_X1_9 hs (x_v35 hχ) ?_
  refine e_instNA dX1_many_4 ho (by decide) q340 z_n53_52 ?_
  refine e_if_eq (tgt := 19) dX1_many_7 rfl ⟨by omega, by omega⟩ (fun c1 => ?_) (fun q => by exfalso; omega)
  refine e_aload_n dX1_many_19 rfl ?_
  refine x_getH (.ref a) dX1_many_20 fl_X1_9 hs (x_v35 hχ) ?_
  refine e_instA dX1_many_23 ho (by decide) q341 ?_
  refine e_if_eq (tgt := 38) dX1_many_26 rfl ⟨by omega, by omega⟩ (fun q => by exfalso; omega) (fun c2 => ?_)
  refine e_aload_n dX1_many_29 rfl ?_
  refine x_getH (.ref a) dX1_many_30 fl_X1_9 hs (x_v35 hχ) ?_
  refine e_castA dX1_many_33 ho (by decide) q341 ?_
  refine e_alen dX1_many_36 ho (by decide) ?_
  refine e_ireturn dX1_many_37 rfl rfl ?_
  rw [show ((n.toNat : Nat) : Int) = n by omega]
  exact ⟨rfl, rfl⟩
theorem C_X1_many2 {χ : t_S} {h0 : e_A} {s : Int} (hs : 0 ≤ s ∧ s < 4) {n : Int} {num : Int → Int} {a : Nat} (hχ : χ 35 s = (a : Int)) (H : x_ar h0 2 n num a) : e_C mX1_many [.ref (352 + s.toNat)] (x_H χ h0) 0 0 0 (e_ret (e_i n) (x_H χ h0)) := by
  obtain ⟨f, ho, hf⟩ := x_arH (χ := χ) H
  obtain ⟨-, hn, -, -⟩ := H
  have ho : (x_H χ h0).1 a = (50, n.toNat, f) := ho
  refine e_enter (al0 := [.ref (352 + s.toNat)]) (by decide +kernel) rfl (Nat.le_of_ble_eq_true rfl) ?_
  refine e_aload_n dX1_many_0 rfl ?_
  refine x_getH (.ref a) dX1_many_1 fl_X1_9 hs (x_v35 hχ) ?_
  refine e_instNA dX1_many_4 ho (by decide) q340 z_n50_52 ?_
  refine e_if_eq (tgt := 19) dX1_many_7 rfl ⟨by omega, by omega⟩ (fun c1 => ?_) (fun q => by exfalso; omega)
  refine e_aload_n dX1_many_19 rfl ?_
  refine x_getH (.ref a) dX1_many_20 fl_X1_9 hs (x_v35 hχ) ?_
  refine e_instNA dX1_many_23 ho (by decide) q341 z_n50_53 ?_
  refine e_if_eq (tgt := 38) dX1_many_26 rfl ⟨by omega, by omega⟩ (fun c2 => ?_) (fun q => by exfalso; omega)
  refine e_aload_n dX1_many_38 rfl ?_
  refine x_getH (.ref a) dX1_many_39 fl_X1_9 hs (x_v35 hχ) ?_
  refine e_instA dX1_many_42 ho (by decide) q360 ?_
  refine e_if_eq (tgt := 59) dX1_many_45 rfl ⟨by omega, by omega⟩ (fun q => by exfalso; omega) (fun c3 => ?_)
  refine e_aload_n dX1_many_48 rfl ?_
  refine x_getH (.ref a) dX1_many_49 fl_X1_9 hs (x_v35 hχ) ?_
  refine e_castA dX1_many_52 ho (by decide) q360 ?_
  refine e_alen dX1_many_55 ho (by decide) ?_
  refine e_goto (tgt := 67) dX1_many_56 rfl ?_
  refine e_ireturn dX1_many_67 rfl rfl ?_
  rw [show ((n.toNat : Nat) : Int) = n by omega]
  exact ⟨rfl, rfl⟩
theorem C_X1_many3 {χ : t_S} {h0 : e_A} {s : Int} (hs : 0 ≤ s ∧ s < 4) {n : Int} {num : Int → Int} {a : Nat} (hχ : χ 35 s = (a : Int)) (H : x_ar h0 3 n num a) : e_C mX1_many [.ref (352 + s.toNat)] (x_H χ h0) 0 0 0 (e_ret (e_i n) (x_H χ h0)) := by
  obtain ⟨f, ho, hf⟩ := x_arH (χ := χ) H
  obtain ⟨-, hn, -, -⟩ := H
  have ho : (x_H χ h0).1 a = (54, n.toNat, f) := ho
  refine e_enter (al0 := [.ref (352 + s.toNat)]) (by decide +kernel) rfl (Nat.le_of_ble_eq_true rfl) ?_
  refine e_aload_n dX1_many_0 rfl ?_
  refine x_getH (.ref a) dX1_many_1 fl_X1_9 hs (x_v35 hχ) ?_
  refine e_instNA dX1_many_4 ho (by decide) q340 z_n54_52 ?_
  refine e_if_eq (tgt := 19) dX1_many_7 rfl ⟨by omega, by omega⟩ (fun c1 => ?_) (fun q => by exfalso; omega)
  refine e_aload_n dX1_many_19 rfl ?_
  refine x_getH (.ref a) dX1_many_20 fl_X1_9 hs (x_v35 hχ) ?_
  refine e_instNA dX1_many_23 ho (by decide) q341 z_n54_53 ?_
  refine e_if_eq (tgt := 38) dX1_many_26 rfl ⟨by omega, by omega⟩ (fun c2 => ?_) (fun q => by exfalso; omega)
  refine e_aload_n dX1_many_38 rfl ?_
  refine x_getH (.ref a) dX1_many_39 fl_X1_9 hs (x_v35 hχ) ?_
  refine e_instNA dX1_many_42 ho (by decide) q360 z_n54_50 ?_
  refine e_if_eq (tgt := 59) dX1_many_45 rfl ⟨by omega, by omega⟩ (fun c3 => ?_) (fun q => by exfalso; omega)
  refine e_aload_n dX1_many_59 rfl ?_
  refine x_getH (.ref a) dX1_many_60 fl_X1_9 hs (x_v35 hχ) ?_
  refine e_castA dX1_many_63 ho (by decide) q361 ?_
  refine e_alen dX1_many_66 ho (by decide) ?_
  refine e_ireturn dX1_many_67 rfl rfl ?_
  rw [show ((n.toNat : Nat) : Int) = n by omega]
  exact ⟨rfl, rfl⟩
theorem C_X1_many {χ : t_S} {h0 : e_A} {s : Int} (hs : 0 ≤ s ∧ s < 4) {w n : Int} {num : Int → Int} {a : Nat} (hχ : χ 35 s = (a : Int)) (H : x_ar h0 w n num a) : e_C mX1_many [.ref (352 + s.toNat)] (x_H χ h0) 0 0 0 (e_ret (e_i n) (x_H χ h0)) := by
  have hw : w = 0 ∨ w = 1 ∨ w = 2 ∨ w = 3 := by have := H.1; omega
  rcases hw with rfl | rfl | rfl | rfl
  · exact C_X1_many0 hs hχ H 
  · exact C_X1_many1 hs hχ H 
  · exact C_X1_many2 hs hχ H 
  · exact C_X1_many3 hs hχ H 
theorem C_X1_width0 {χ : t_S} {h0 : e_A} {s : Int} (hs : 0 ≤ s ∧ s < 4) {n : Int} {num : Int → Int} {a : Nat} (hχ : χ 35 s = (a : Int)) (H : x_ar h0 0 n num a) : e_C mX1_width [.ref (352 + s.toNat)] (x_H χ h0) 0 0 0 (e_ret (e_i 0) (x_H χ h0)) := by
  obtain ⟨f, ho, hf⟩ := x_arH (χ := χ) H
  obtain ⟨-, hn, -, -⟩ := H
  have ho : (x_H χ h0).1 a = (52, n.toNat, f) := ho
  refine e_enter (al0 := [.ref (352 + s.toNat)]) (by decide +kernel) rfl (Nat.le_of_ble_eq_true rfl) ?_
  refine e_aload_n dX1_width_0 rfl ?_
  refine x_getH (.ref a) dX1_width_1 fl_X1_9 hs (x_v35 hχ) ?_
  refine e_instA dX1_width_4 ho (by decide) q340 ?_
  refine e_if_eq (tgt := 14) dX1_width_7 rfl ⟨by omega, by omega⟩ (fun q => by exfalso; omega) (fun c1 => ?_)
  refine e_iconst dX1_width_10 ?_
  refine e_goto (tgt := 43) dX1_width_11 rfl ?_
  refine e_ireturn dX1_width_43 rfl rfl ?_
  exact ⟨rfl, rfl⟩
theorem C_X1_width1 {χ : t_S} {h0 : e_A} {s : Int} (hs : 0 ≤ s ∧ s < 4) {n : Int} {num : Int → Int} {a : Nat} (hχ : χ 35 s = (a : Int)) (H : x_ar h0 1 n num a) : e_C mX1_width [.ref (352 + s.toNat)] (x_H χ h0) 0 0 0 (e_ret (e_i 1) (x_H χ h0)) := by
  obtain ⟨f, ho, hf⟩ := x_arH (χ := χ) H
  obtain ⟨-, hn, -, -⟩ := H
  have ho : (x_H χ h0).1 a = (53, n.toNat, f) := ho
  refine e_enter (al0 := [.ref (352 + s.toNat)]) (by decide +kernel) rfl (Nat.le_of_ble_eq_true rfl) ?_
  refine e_aload_n dX1_width_0 rfl ?_
  refine x_getH (.ref a) dX1_width_1 fl_X1_9 hs (x_v35 hχ) ?_
  refine e_instNA dX1_width_4 ho (by decide) q340 z_n53_52 ?_
  refine e_if_eq (tgt := 14) dX1_width_7 rfl ⟨by omega, by omega⟩ (fun c1 => ?_) (fun q => by exfalso; omega)
  refine e_aload_n dX1_width_14 rfl ?_
  refine x_getH (.ref a) dX1_width_15 fl_X1_9 hs (x_v35 hχ) ?_
  refine e_instA dX1_width_18 ho (by decide) q341 ?_
  refine e_if_eq (tgt := 28) dX1_width_21 rfl ⟨by omega, by omega⟩ (fun q => by exfalso; omega) (fun c2 => ?_)
  refine e_iconst dX1_width_24 ?_
  refine e_goto (tgt := 43) dX1_width_25 rfl ?_
  refine e_ireturn dX1_width_43 rfl rfl ?_
  exact ⟨rfl, rfl⟩
theorem C_X1_width2 {χ : t_S} {h0 : e_A} {s : Int} (hs : 0 ≤ s ∧ s < 4) {n : Int} {num : Int → Int} {a : Nat} (hχ : χ 35 s = (a : Int)) (H : x_ar h0 2 n num a) : e_C mX1_width [.ref (352 + s.toNat)] (x_H χ h0) 0 0 0 (e_ret (e_i 2) (x_H χ h0)) := by
  obtain ⟨f, ho, hf⟩ := x_arH (χ := χ) H
  obtain ⟨-, hn, -, -⟩ := H
  have ho : (x_H χ h0).1 a = (50, n.toNat, f) := ho
  refine e_enter (al0 := [.ref (352 + s.toNat)]) (by decide +kernel) rfl (Nat.le_of_ble_eq_true rfl) ?_
  refine e_aload_n dX1_width_0 rfl ?_
  refine x_getH (.ref a) dX1_width_1 fl_X1_9 hs (x_v35 hχ) ?_
  refine e_instNA dX1_width_4 ho (by decide) q340 z_n50_52 ?_
  refine e_if_eq (tgt := 14) dX1_width_7 rfl ⟨by omega, by omega⟩ (fun c1 => ?_) (fun q => by exfalso; omega)
  refine e_aload_n dX1_width_14 rfl ?_
  refine x_getH (.ref a) dX1_width_15 fl_X1_9 hs (x_v35 hχ) ?_
  refine e_instNA dX1_width_18 ho (by decide) q341 z_n50_53 ?_
  refine e_if_eq (tgt := 28) dX1_width_21 rfl ⟨by omega, by omega⟩ (fun c2 => ?_) (fun q => by exfalso; omega)
  refine e_aload_n dX1_width_28 rfl ?_
  refine x_getH (.ref a) dX1_width_29 fl_X1_9 hs (x_v35 hχ) ?_
  refine e_instA dX1_width_32 ho (by decide) q360 ?_
  refine e_if_eq (tgt := 42) dX1_width_35 rfl ⟨by omega, by omega⟩ (fun q => by exfalso; omega) (fun c3 => ?_)
  refine e_iconst dX1_width_38 ?_
  refine e_goto (tgt := 43) dX1_width_39 rfl ?_
  refine e_ireturn dX1_width_43 rfl rfl ?_
  exact ⟨rfl, rfl⟩
theorem C_X1_width3 {χ : t_S} {h0 : e_A} {s : Int} (hs : 0 ≤ s ∧ s < 4) {n : Int} {num : Int → Int} {a : Nat} (hχ : χ 35 s = (a : Int)) (H : x_ar h0 3 n num a) : e_C mX1_width [.ref (352 + s.toNat)] (x_H χ h0) 0 0 0 (e_ret (e_i 3) (x_H χ h0)) := by
  obtain ⟨f, ho, hf⟩ := x_arH (χ := χ) H
  obtain ⟨-, hn, -, -⟩ := H
  have ho : (x_H χ h0).1 a = (54, n.toNat, f) := ho
  refine e_enter (al0 := [.ref (352 + s.toNat)]) (by decide +kernel) rfl (Nat.le_of_ble_eq_true rfl) ?_
  refine e_aload_n dX1_width_0 rfl ?_
  refine x_getH (.ref a) dX1_width_1 fl_X1_9 hs (x_v35 hχ) ?_
  refine e_instNA dX1_width_4 ho (by decide) q340 z_n54_52 ?_
  refine e_if_eq (tgt := 14) dX1_width_7 rfl ⟨by omega, by omega⟩ (fun c1 => ?_) (fun q => by exfalso; omega)
  refine e_aload_n dX1_width_14 rfl ?_
  refine x_getH (.ref a) dX1_width_15 fl_X1_9 hs (x_v35 hχ) ?_
  refine e_instNA dX1_width_18 ho (by decide) q341 z_n54_53 ?_
  refine e_if_eq (tgt := 28) dX1_width_21 rfl ⟨by omega, by omega⟩ (fun c2 => ?_) (fun q => by exfalso; omega)
  refine e_aload_n dX1_width_28 rfl ?_
  refine x_getH (.ref a) dX1_width_29 fl_X1_9 hs (x_v35 hχ) ?_
  refine e_instNA dX1_width_32 ho (by decide) q360 z_n54_50 ?_
  refine e_if_eq (tgt := 42) dX1_width_35 rfl ⟨by omega, by omega⟩ (fun c3 => ?_) (fun q => by exfalso; omega)
  refine e_iconst dX1_width_42 ?_
  refine e_ireturn dX1_width_43 rfl rfl ?_
  exact ⟨rfl, rfl⟩
theorem C_X1_width {χ : t_S} {h0 : e_A} {s : Int} (hs : 0 ≤ s ∧ s < 4) {w n : Int} {num : Int → Int} {a : Nat} (hχ : χ 35 s = (a : Int)) (H : x_ar h0 w n num a) : e_C mX1_width [.ref (352 + s.toNat)] (x_H χ h0) 0 0 0 (e_ret (e_i w) (x_H χ h0)) := by
  have hw : w = 0 ∨ w = 1 ∨ w = 2 ∨ w = 3 := by have := H.1; omega
  rcases hw with rfl | rfl | rfl | rfl
  · exact C_X1_width0 hs hχ H 
  · exact C_X1_width1 hs hχ H 
  · exact C_X1_width2 hs hχ H 
  · exact C_X1_width3 hs hχ H 
theorem C_X1_number0 {χ : t_S} {h0 : e_A} {s : Int} (hs : 0 ≤ s ∧ s < 4) {n : Int} {num : Int → Int} {a : Nat} (hχ : χ 35 s = (a : Int)) (H : x_ar h0 0 n num a) {i : Int} (hi : 0 ≤ i ∧ i < n) : e_C mX1_number [.ref (352 + s.toNat), e_i i] (x_H χ h0) 0 0 0 (e_ret (e_j (num i)) (x_H χ h0)) := by
  obtain ⟨f, ho, hf⟩ := x_arH (χ := χ) H
  obtain ⟨-, hn, -, -⟩ := H
  have ho : (x_H χ h0).1 a = (52, n.toNat, f) := ho
  refine e_enter (al0 := [.ref (352 + s.toNat), e_i i]) (by decide +kernel) rfl (Nat.le_of_ble_eq_true rfl) ?_
  refine e_aload_n dX1_number_0 rfl ?_
  refine x_getH (.ref a) dX1_number_1 fl_X1_9 hs (x_v35 hχ) ?_
  refine e_instA dX1_number_4 ho (by decide) q340 ?_
  refine e_if_eq (tgt := 21) dX1_number_7 rfl ⟨by omega, by omega⟩ (fun q => by exfalso; omega) (fun c1 => ?_)
  refine e_aload_n dX1_number_10 rfl ?_
  refine x_getH (.ref a) dX1_number_11 fl_X1_9 hs (x_v35 hχ) ?_
  refine e_castA dX1_number_14 ho (by decide) q340 ?_
  refine e_iload_n dX1_number_17 rfl ?_
  refine e_bald i.toNat dX1_number_18 ho (Or.inl rfl) (Int.toNat_of_nonneg hi.1).symm (by omega) (by omega) ?_
  obtain ⟨e1, e2⟩ := hf i hi.1 hi.2
  rw [e1]
  have e2 := x_wr_rg (by decide) (by decide) e2
  have e3 := e2.1
  have e4 := e2.2
  show e_E _ _ _ (e_i (num i) :: _) _ _ _ _ _
  refine e_i2l dX1_number_19 ⟨by omega, by omega⟩ ?_
  refine e_lreturn dX1_number_20 rfl ?_
  exact ⟨rfl, rfl⟩
theorem C_X1_number1 {χ : t_S} {h0 : e_A} {s : Int} (hs : 0 ≤ s ∧ s < 4) {n : Int} {num : Int → Int} {a : Nat} (hχ : χ 35 s = (a : Int)) (H : x_ar h0 1 n num a) {i : Int} (hi : 0 ≤ i ∧ i < n) : e_C mX1_number [.ref (352 + s.toNat), e_i i] (x_H χ h0) 0 0 0 (e_ret (e_j (num i)) (x_H χ h0)) := by
  obtain ⟨f, ho, hf⟩ := x_arH (χ := χ) H
  obtain ⟨-, hn, -, -⟩ := H
  have ho : (x_H χ h0).1 a = (53, n.toNat, f) := ho
  refine e_enter (al0 := [.ref (352 + s.toNat), e_i i]) (by decide +kernel) rfl (Nat.le_of_ble_eq_true rfl) ?_
  refine e_aload_n dX1_number_0 rfl ?_
  refine x_getH (.ref a) dX1_number_1 fl_X1_9 hs (x_v35 hχ) ?_
  refine e_instNA dX1_number_4 ho (by decide) q340 z_n53_52 ?_
  refine e_if_eq (tgt := 21) dX1_number_7 rfl ⟨by omega, by omega⟩ (fun c1 => ?_) (fun q => by exfalso; omega)
  refine e_aload_n dX1_number_21 rfl ?_
  refine x_getH (.ref a) dX1_number_22 fl_X1_9 hs (x_v35 hχ) ?_
  refine e_instA dX1_number_25 ho (by decide) q341 ?_
  refine e_if_eq (tgt := 42) dX1_number_28 rfl ⟨by omega, by omega⟩ (fun q => by exfalso; omega) (fun c2 => ?_)
  refine e_aload_n dX1_number_31 rfl ?_
  refine x_getH (.ref a) dX1_number_32 fl_X1_9 hs (x_v35 hχ) ?_
  refine e_castA dX1_number_35 ho (by decide) q341 ?_
  refine e_iload_n dX1_number_38 rfl ?_
  refine e_sald i.toNat dX1_number_39 ho rfl (Int.toNat_of_nonneg hi.1).symm (by omega) (by omega) ?_
  obtain ⟨e1, e2⟩ := hf i hi.1 hi.2
  rw [e1]
  have e2 := x_wr_rg (by decide) (by decide) e2
  have e3 := e2.1
  have e4 := e2.2
  show e_E _ _ _ (e_i (num i) :: _) _ _ _ _ _
  refine e_i2l dX1_number_40 ⟨by omega, by omega⟩ ?_
  refine e_lreturn dX1_number_41 rfl ?_
  exact ⟨rfl, rfl⟩
theorem C_X1_number2 {χ : t_S} {h0 : e_A} {s : Int} (hs : 0 ≤ s ∧ s < 4) {n : Int} {num : Int → Int} {a : Nat} (hχ : χ 35 s = (a : Int)) (H : x_ar h0 2 n num a) {i : Int} (hi : 0 ≤ i ∧ i < n) : e_C mX1_number [.ref (352 + s.toNat), e_i i] (x_H χ h0) 0 0 0 (e_ret (e_j (num i)) (x_H χ h0)) := by
  obtain ⟨f, ho, hf⟩ := x_arH (χ := χ) H
  obtain ⟨-, hn, -, -⟩ := H
  have ho : (x_H χ h0).1 a = (50, n.toNat, f) := ho
  refine e_enter (al0 := [.ref (352 + s.toNat), e_i i]) (by decide +kernel) rfl (Nat.le_of_ble_eq_true rfl) ?_
  refine e_aload_n dX1_number_0 rfl ?_
  refine x_getH (.ref a) dX1_number_1 fl_X1_9 hs (x_v35 hχ) ?_
  refine e_instNA dX1_number_4 ho (by decide) q340 z_n50_52 ?_
  refine e_if_eq (tgt := 21) dX1_number_7 rfl ⟨by omega, by omega⟩ (fun c1 => ?_) (fun q => by exfalso; omega)
  refine e_aload_n dX1_number_21 rfl ?_
  refine x_getH (.ref a) dX1_number_22 fl_X1_9 hs (x_v35 hχ) ?_
  refine e_instNA dX1_number_25 ho (by decide) q341 z_n50_53 ?_
  refine e_if_eq (tgt := 42) dX1_number_28 rfl ⟨by omega, by omega⟩ (fun c2 => ?_) (fun q => by exfalso; omega)
  refine e_aload_n dX1_number_42 rfl ?_
  refine x_getH (.ref a) dX1_number_43 fl_X1_9 hs (x_v35 hχ) ?_
  refine e_instA dX1_number_46 ho (by decide) q360 ?_
  refine e_if_eq (tgt := 65) dX1_number_49 rfl ⟨by omega, by omega⟩ (fun q => by exfalso; omega) (fun c3 => ?_)
  refine e_aload_n dX1_number_52 rfl ?_
  refine x_getH (.ref a) dX1_number_53 fl_X1_9 hs (x_v35 hχ) ?_
  refine e_castA dX1_number_56 ho (by decide) q360 ?_
  refine e_iload_n dX1_number_59 rfl ?_
  refine e_iald i.toNat dX1_number_60 ho (Or.inl rfl) (Int.toNat_of_nonneg hi.1).symm (by omega) (by omega) ?_
  obtain ⟨e1, e2⟩ := hf i hi.1 hi.2
  rw [e1]
  have e2 := x_wr_rg (by decide) (by decide) e2
  have e3 := e2.1
  have e4 := e2.2
  show e_E _ _ _ (e_i (num i) :: _) _ _ _ _ _
  refine e_i2l dX1_number_61 ⟨by omega, by omega⟩ ?_
  refine e_goto (tgt := 74) dX1_number_62 rfl ?_
  refine e_lreturn dX1_number_74 rfl ?_
  exact ⟨rfl, rfl⟩
theorem C_X1_number3 {χ : t_S} {h0 : e_A} {s : Int} (hs : 0 ≤ s ∧ s < 4) {n : Int} {num : Int → Int} {a : Nat} (hχ : χ 35 s = (a : Int)) (H : x_ar h0 3 n num a) {i : Int} (hi : 0 ≤ i ∧ i < n) : e_C mX1_number [.ref (352 + s.toNat), e_i i] (x_H χ h0) 0 0 0 (e_ret (e_j (num i)) (x_H χ h0)) := by
  obtain ⟨f, ho, hf⟩ := x_arH (χ := χ) H
  obtain ⟨-, hn, -, -⟩ := H
  have ho : (x_H χ h0).1 a = (54, n.toNat, f) := ho
  refine e_enter (al0 := [.ref (352 + s.toNat), e_i i]) (by decide +kernel) rfl (Nat.le_of_ble_eq_true rfl) ?_
  refine e_aload_n dX1_number_0 rfl ?_
  refine x_getH (.ref a) dX1_number_1 fl_X1_9 hs (x_v35 hχ) ?_
  refine e_instNA dX1_number_4 ho (by decide) q340 z_n54_52 ?_
  refine e_if_eq (tgt := 21) dX1_number_7 rfl ⟨by omega, by omega⟩ (fun c1 => ?_) (fun q => by exfalso; omega)
  refine e_aload_n dX1_number_21 rfl ?_
  refine x_getH (.ref a) dX1_number_22 fl_X1_9 hs (x_v35 hχ) ?_
  refine e_instNA dX1_number_25 ho (by decide) q341 z_n54_53 ?_
  refine e_if_eq (tgt := 42) dX1_number_28 rfl ⟨by omega, by omega⟩ (fun c2 => ?_) (fun q => by exfalso; omega)
  refine e_aload_n dX1_number_42 rfl ?_
  refine x_getH (.ref a) dX1_number_43 fl_X1_9 hs (x_v35 hχ) ?_
  refine e_instNA dX1_number_46 ho (by decide) q360 z_n54_50 ?_
  refine e_if_eq (tgt := 65) dX1_number_49 rfl ⟨by omega, by omega⟩ (fun c3 => ?_) (fun q => by exfalso; omega)
  refine e_aload_n dX1_number_65 rfl ?_
  refine x_getH (.ref a) dX1_number_66 fl_X1_9 hs (x_v35 hχ) ?_
  refine e_castA dX1_number_69 ho (by decide) q361 ?_
  refine e_iload_n dX1_number_72 rfl ?_
  refine e_lald i.toNat dX1_number_73 ho rfl (Int.toNat_of_nonneg hi.1).symm (by omega) (by omega) ?_
  obtain ⟨e1, e2⟩ := hf i hi.1 hi.2
  rw [e1]
  show e_E _ _ _ (e_j (num i) :: _) _ _ _ _ _
  refine e_lreturn dX1_number_74 rfl ?_
  exact ⟨rfl, rfl⟩
theorem C_X1_number {χ : t_S} {h0 : e_A} {s : Int} (hs : 0 ≤ s ∧ s < 4) {w n : Int} {num : Int → Int} {a : Nat} (hχ : χ 35 s = (a : Int)) (H : x_ar h0 w n num a) {i : Int} (hi : 0 ≤ i ∧ i < n) : e_C mX1_number [.ref (352 + s.toNat), e_i i] (x_H χ h0) 0 0 0 (e_ret (e_j (num i)) (x_H χ h0)) := by
  have hw : w = 0 ∨ w = 1 ∨ w = 2 ∨ w = 3 := by have := H.1; omega
  rcases hw with rfl | rfl | rfl | rfl
  · exact C_X1_number0 hs hχ H hi
  · exact C_X1_number1 hs hχ H hi
  · exact C_X1_number2 hs hχ H hi
  · exact C_X1_number3 hs hχ H hi
