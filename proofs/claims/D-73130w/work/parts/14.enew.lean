/-! NEW OBJECTS, STATICS, CONSTANTS, REFERENCES, ANSWERS -/
set_option maxRecDepth 100000
section ENEW
variable {M : e_M} {pc : Nat} {al st : List Value} {h : e_A} {kc ks d : Nat} {Q : e_R → e_A → Prop}
theorem e_S_push {g : e_G} {R0 Rf : List Value} {H H1 : Heap} {locs : List Loc} {s : State} {R : Room} {cells slots kc2 ks2 nc ns a : Nat} {o : e_O} (hS : e_S g R0 Rf h H locs s R cells slots kc ks) (hc : nc + kc2 ≤ kc) (hs : ns + ks2 ≤ ks) (ha : H.size ≤ a) (ha1 : a < H1.size) (ho : ∀ q : Nat, q < H.size → H1[q]? = H[q]?) (he : e_o g (Rf ++ [.ref a]) o (.ref a) H1) : e_S g R0 (Rf ++ [.ref a]) (e_push h o) H1 locs s R (cells + nc) (slots + ns) kc2 ks2 :=
  ⟨List.IsPrefix.trans hS.1 (List.prefix_append _ _), e_H_push hS.2.1 ha ha1 ho he, hS.2.2.1, by have := hS.2.2.2.1; omega, by have := hS.2.2.2.2.1; omega, by have := hS.2.2.2.2.2; omega⟩
theorem e_ls_app {R S : List Value} {n : Nat} {ls : Array Slot} (hl : e_ls R n al ls) (hp : R <+: S) : e_ls S n al ls :=
  ⟨hl.1, hl.2.1, hl.2.2.1, fun i v hi hv => by obtain ⟨w, h1, h2⟩ := hl.2.2.2 i v hi hv; exact ⟨w, h1, e_v_app h2 hp⟩⟩
theorem e_H_len {g : e_G} {R : List Value} {H : Heap} (hH : e_H g R h H) : h.2 = R.length := hH.2.1
/-- a class that the code names -/
def e_nw (own : String) (idx ci : Nat) (dv : Nat → Value) : Prop := ∃ (C : String) (T : u_T) (N n : Nat) (ty : Nat → FieldType), e_cl[ci]? = some (C, T, N) ∧ n = N ∧ Cond.classLink own idx C ∈ lw_all ∧ Cond.instantiable C n ∈ lw_all ∧ Cond.initialized C ∈ lw_all ∧ (∀ k, k < N → parseFieldDescriptor (T k).2.2.1 = some (ty k)) ∧ (∀ k, k < N → defaultValue (ty k) = dv k ∧ e_nums [dv k] = true)
theorem e_new {idx ci n : Nat} {dv : Nat → Value} (hd : decode M.2.1 pc = .ok (.new idx, 3)) (hw : e_nw M.1.cls idx ci dv) (hn : ∀ q, e_cl[ci]? = some q → q.2.2 = n) (kk : e_E M (pc + 3) al (.ref h.2 :: st) (e_push h (ci, n, dv)) kc ks d Q) : e_E M pc al st h (kc + 1) (ks + n) d Q := by
  intro g p e R s m args below meth c R0 hA Rf H locs cells slots ls sr hS hl hv
  obtain ⟨C, T, N, n2, ty, hc, rfl, hcl, hin, hini, hty, hdv⟩ := hw
  have hnN : n2 = n := hn _ hc
  subst hnN
  have hKn := e_Kn hA hc
  have h1 := hS.2.2.2.1
  have h2 := hS.2.2.2.2.1
  refine W.newcK hA.2.1 hA.2.2.1 hA.2.2.2.2.2.2.1 (e_w hA hcl) (e_w hA hin) (e_w hA hini) rfl hd (by omega) (by omega) hKn.2.1 rfl fun H1 kC hkC e1 z1 o1 => ?_
  have hb := u_born ty (e_ws (args := args) hA) (e_cls hc).1 hKn hkC e1 hty
  obtain ⟨cell, q1, q2, q3, q4⟩ := hb
  have hlen := e_H_len hS.2.1
  refine kk g p e R s m args below meth c R0 hA (Rf ++ [.ref H.size]) H1 locs (cells + 1) (slots + n2) ls (.ref H.size :: sr) (e_S_push hS (by omega) (by omega) (Nat.le_refl _) (by omega) o1 (Or.inl ⟨by have := e_cl_lt hc; show ci < 50; omega, H.size, _, cell, rfl, hc, q1, q2, Or.inl q3, fun k hk => ⟨_, q4 k hk, ?_⟩⟩)) (e_ls_app hl (List.prefix_append _ _)) ⟨?_, e_vs_app (List.prefix_append _ _) hv⟩
  · show e_v (Rf ++ [.ref H.size]) (dv k) (defaultValue (ty k))
    rw [(hdv k hk).1]
    exact (e_nums_vs (R := Rf ++ [.ref H.size]) (hdv k hk).2).1
  · show (Rf ++ [.ref H.size])[h.2]? = _
    rw [hlen, List.getElem?_append_right (Nat.le_refl _), Nat.sub_self]
    rfl
theorem e_newarr_of {g : e_G} {p : Program} {R : Room} {s : State} {m : MethodId} {meth : Method} {c : Code} (hA : e_At g M d p R s m meth c) {cA : ClassId} {kA : Class} {comp : ClassId} {t : FieldType} (h2 : s.vm.classes[cA]? = some kA) (h3 : kA.kind = .array comp t) : ArrOfT g.2.1 cA t := by
  intro n z
  have h9 : s.vm.Alike g.2.1.vm := (e_alk hA).symm
  exact State.isArrayOf_alike h9 ⟨(fun k q => by cases q), kA, h2, comp, h3⟩
theorem e_newarr_int {n : Int} (nn : Nat) (hd : decode M.2.1 pc = .ok (.newarray .int, 2)) (hn : n = (nn : Int)) (hb0 : nn ≤ 60000000) (kk : e_E M (pc + 2) al (.ref h.2 :: st) (e_push h (50, nn, fun _ => .int 0)) kc ks d Q) : e_E M pc al (e_i n :: st) h (kc + 1) (ks + nn) d Q := by
  intro g p e R s m args below meth c R0 hA Rf H locs cells slots ls sr hS hl hv
  obtain ⟨w, bs, rfl, g1, g2⟩ := e_vs_c hv
  cases g1
  obtain ⟨e1, e2⟩ := e_cl_n hn (by omega)
  have h1 := hS.2.2.2.1
  have h2 := hS.2.2.2.2.1
  refine W.newa hA.2.1 hA.2.2.1 (atype := .int) (e_w hA q281) rfl hd rfl e2 (by rw [e1]; show nn * 4 ≤ _; omega) (by omega) (by rw [e1]; omega) fun cA kA comp f1 f2 f3 => ?_
  rw [e1]
  have hlen := e_H_len hS.2.1
  refine kk g p e R s m args below meth c R0 hA (Rf ++ [.ref H.size]) _ locs (cells + 1) (slots + nn) ls (.ref H.size :: bs) (e_S_push (o := (50, nn, fun _ => .int 0)) hS (by omega) (by omega) (Nat.le_refl _) (by simp) (fun q hq => by rw [Array.getElem?_push, if_neg (Nat.ne_of_lt hq)]) (Or.inr (Or.inl ⟨(by show 50 ≤ 50; omega), (by show 50 < 60; omega), H.size, cA, fun _ => .int 0, rfl, Array.getElem?_push_size.trans (congrArg some (arrV_new cA nn (.int 0))), e_newarr_of hA f2 f3, ?_, fun j hj => (show e_v _ (.int 0) (.int 0) from rfl)⟩))) (e_ls_app hl (List.prefix_append _ _)) ⟨?_, e_vs_app (List.prefix_append _ _) g2⟩
  · exact va_RA.moved (e_alk hA).symm (show va_RA s cA .int from f1)
  · show (Rf ++ [.ref H.size])[h.2]? = _
    rw [hlen, List.getElem?_append_right (Nat.le_refl _), Nat.sub_self]
    rfl
theorem e_newarr_boolean {n : Int} (nn : Nat) (hd : decode M.2.1 pc = .ok (.newarray .boolean, 2)) (hn : n = (nn : Int)) (hb0 : nn ≤ 60000000) (kk : e_E M (pc + 2) al (.ref h.2 :: st) (e_push h (51, nn, fun _ => .int 0)) kc ks d Q) : e_E M pc al (e_i n :: st) h (kc + 1) (ks + nn) d Q := by
  intro g p e R s m args below meth c R0 hA Rf H locs cells slots ls sr hS hl hv
  obtain ⟨w, bs, rfl, g1, g2⟩ := e_vs_c hv
  cases g1
  obtain ⟨e1, e2⟩ := e_cl_n hn (by omega)
  have h1 := hS.2.2.2.1
  have h2 := hS.2.2.2.2.1
  refine W.newa hA.2.1 hA.2.2.1 (atype := .boolean) (e_w hA q1923) rfl hd rfl e2 (by rw [e1]; show nn * 1 ≤ _; omega) (by omega) (by rw [e1]; omega) fun cA kA comp f1 f2 f3 => ?_
  rw [e1]
  have hlen := e_H_len hS.2.1
  refine kk g p e R s m args below meth c R0 hA (Rf ++ [.ref H.size]) _ locs (cells + 1) (slots + nn) ls (.ref H.size :: bs) (e_S_push (o := (51, nn, fun _ => .int 0)) hS (by omega) (by omega) (Nat.le_refl _) (by simp) (fun q hq => by rw [Array.getElem?_push, if_neg (Nat.ne_of_lt hq)]) (Or.inr (Or.inl ⟨(by show 50 ≤ 51; omega), (by show 51 < 60; omega), H.size, cA, fun _ => .int 0, rfl, Array.getElem?_push_size.trans (congrArg some (arrV_new cA nn (.int 0))), e_newarr_of hA f2 f3, ?_, fun j hj => (show e_v _ (.int 0) (.int 0) from rfl)⟩))) (e_ls_app hl (List.prefix_append _ _)) ⟨?_, e_vs_app (List.prefix_append _ _) g2⟩
  · exact va_RA.moved (e_alk hA).symm (show va_RA s cA .boolean from f1)
  · show (Rf ++ [.ref H.size])[h.2]? = _
    rw [hlen, List.getElem?_append_right (Nat.le_refl _), Nat.sub_self]
    rfl
theorem e_newarr_byte {n : Int} (nn : Nat) (hd : decode M.2.1 pc = .ok (.newarray .byte, 2)) (hn : n = (nn : Int)) (hb0 : nn ≤ 60000000) (kk : e_E M (pc + 2) al (.ref h.2 :: st) (e_push h (52, nn, fun _ => .int 0)) kc ks d Q) : e_E M pc al (e_i n :: st) h (kc + 1) (ks + nn) d Q := by
  intro g p e R s m args below meth c R0 hA Rf H locs cells slots ls sr hS hl hv
  obtain ⟨w, bs, rfl, g1, g2⟩ := e_vs_c hv
  cases g1
  obtain ⟨e1, e2⟩ := e_cl_n hn (by omega)
  have h1 := hS.2.2.2.1
  have h2 := hS.2.2.2.2.1
  refine W.newa hA.2.1 hA.2.2.1 (atype := .byte) (e_w hA q275) rfl hd rfl e2 (by rw [e1]; show nn * 1 ≤ _; omega) (by omega) (by rw [e1]; omega) fun cA kA comp f1 f2 f3 => ?_
  rw [e1]
  have hlen := e_H_len hS.2.1
  refine kk g p e R s m args below meth c R0 hA (Rf ++ [.ref H.size]) _ locs (cells + 1) (slots + nn) ls (.ref H.size :: bs) (e_S_push (o := (52, nn, fun _ => .int 0)) hS (by omega) (by omega) (Nat.le_refl _) (by simp) (fun q hq => by rw [Array.getElem?_push, if_neg (Nat.ne_of_lt hq)]) (Or.inr (Or.inl ⟨(by show 50 ≤ 52; omega), (by show 52 < 60; omega), H.size, cA, fun _ => .int 0, rfl, Array.getElem?_push_size.trans (congrArg some (arrV_new cA nn (.int 0))), e_newarr_of hA f2 f3, ?_, fun j hj => (show e_v _ (.int 0) (.int 0) from rfl)⟩))) (e_ls_app hl (List.prefix_append _ _)) ⟨?_, e_vs_app (List.prefix_append _ _) g2⟩
  · exact va_RA.moved (e_alk hA).symm (show va_RA s cA .byte from f1)
  · show (Rf ++ [.ref H.size])[h.2]? = _
    rw [hlen, List.getElem?_append_right (Nat.le_refl _), Nat.sub_self]
    rfl
theorem e_newarr_short {n : Int} (nn : Nat) (hd : decode M.2.1 pc = .ok (.newarray .short, 2)) (hn : n = (nn : Int)) (hb0 : nn ≤ 60000000) (kk : e_E M (pc + 2) al (.ref h.2 :: st) (e_push h (53, nn, fun _ => .int 0)) kc ks d Q) : e_E M pc al (e_i n :: st) h (kc + 1) (ks + nn) d Q := by
  intro g p e R s m args below meth c R0 hA Rf H locs cells slots ls sr hS hl hv
  obtain ⟨w, bs, rfl, g1, g2⟩ := e_vs_c hv
  cases g1
  obtain ⟨e1, e2⟩ := e_cl_n hn (by omega)
  have h1 := hS.2.2.2.1
  have h2 := hS.2.2.2.2.1
  refine W.newa hA.2.1 hA.2.2.1 (atype := .short) (e_w hA q280) rfl hd rfl e2 (by rw [e1]; show nn * 2 ≤ _; omega) (by omega) (by rw [e1]; omega) fun cA kA comp f1 f2 f3 => ?_
  rw [e1]
  have hlen := e_H_len hS.2.1
  refine kk g p e R s m args below meth c R0 hA (Rf ++ [.ref H.size]) _ locs (cells + 1) (slots + nn) ls (.ref H.size :: bs) (e_S_push (o := (53, nn, fun _ => .int 0)) hS (by omega) (by omega) (Nat.le_refl _) (by simp) (fun q hq => by rw [Array.getElem?_push, if_neg (Nat.ne_of_lt hq)]) (Or.inr (Or.inl ⟨(by show 50 ≤ 53; omega), (by show 53 < 60; omega), H.size, cA, fun _ => .int 0, rfl, Array.getElem?_push_size.trans (congrArg some (arrV_new cA nn (.int 0))), e_newarr_of hA f2 f3, ?_, fun j hj => (show e_v _ (.int 0) (.int 0) from rfl)⟩))) (e_ls_app hl (List.prefix_append _ _)) ⟨?_, e_vs_app (List.prefix_append _ _) g2⟩
  · exact va_RA.moved (e_alk hA).symm (show va_RA s cA .short from f1)
  · show (Rf ++ [.ref H.size])[h.2]? = _
    rw [hlen, List.getElem?_append_right (Nat.le_refl _), Nat.sub_self]
    rfl
theorem e_newarr_long {n : Int} (nn : Nat) (hd : decode M.2.1 pc = .ok (.newarray .long, 2)) (hn : n = (nn : Int)) (hb0 : nn ≤ 60000000) (kk : e_E M (pc + 2) al (.ref h.2 :: st) (e_push h (54, nn, fun _ => .long 0)) kc ks d Q) : e_E M pc al (e_i n :: st) h (kc + 1) (ks + nn) d Q := by
  intro g p e R s m args below meth c R0 hA Rf H locs cells slots ls sr hS hl hv
  obtain ⟨w, bs, rfl, g1, g2⟩ := e_vs_c hv
  cases g1
  obtain ⟨e1, e2⟩ := e_cl_n hn (by omega)
  have h1 := hS.2.2.2.1
  have h2 := hS.2.2.2.2.1
  refine W.newa hA.2.1 hA.2.2.1 (atype := .long) (e_w hA q282) rfl hd rfl e2 (by rw [e1]; show nn * 8 ≤ _; omega) (by omega) (by rw [e1]; omega) fun cA kA comp f1 f2 f3 => ?_
  rw [e1]
  have hlen := e_H_len hS.2.1
  refine kk g p e R s m args below meth c R0 hA (Rf ++ [.ref H.size]) _ locs (cells + 1) (slots + nn) ls (.ref H.size :: bs) (e_S_push (o := (54, nn, fun _ => .long 0)) hS (by omega) (by omega) (Nat.le_refl _) (by simp) (fun q hq => by rw [Array.getElem?_push, if_neg (Nat.ne_of_lt hq)]) (Or.inr (Or.inl ⟨(by show 50 ≤ 54; omega), (by show 54 < 60; omega), H.size, cA, fun _ => .long 0, rfl, Array.getElem?_push_size.trans (congrArg some (arrV_new cA nn (.long 0))), e_newarr_of hA f2 f3, ?_, fun j hj => (show e_v _ (.long 0) (.long 0) from rfl)⟩))) (e_ls_app hl (List.prefix_append _ _)) ⟨?_, e_vs_app (List.prefix_append _ _) g2⟩
  · exact va_RA.moved (e_alk hA).symm (show va_RA s cA .long from f1)
  · show (Rf ++ [.ref H.size])[h.2]? = _
    rw [hlen, List.getElem?_append_right (Nat.le_refl _), Nat.sub_self]
    rfl
theorem e_anew {C : String} {kd idx : Nat} {n : Int} (nn : Nat) (hd : decode M.2.1 pc = .ok (.anewarray idx, 3)) (hn : n = (nn : Int)) (hb0 : nn ≤ 60000000) (hk : 55 ≤ kd ∧ kd < 58) (hty : e_ty kd = .object C) (hcl : Cond.classLink M.1.cls idx C ∈ lw_all) (hov : Cond.arrayOver (.object C) ∈ lw_tbl) (kk : e_E M (pc + 3) al (.ref h.2 :: st) (e_push h (kd, nn, fun _ => .null)) kc ks d Q) : e_E M pc al (e_i n :: st) h (kc + 1) (ks + nn) d Q := by
  intro g p e R s m args below meth c R0 hA Rf H locs cells slots ls sr hS hl hv
  obtain ⟨w, bs, rfl, g1, g2⟩ := e_vs_c hv
  cases g1
  obtain ⟨e1, e2⟩ := e_cl_n hn (by omega)
  have h1 := hS.2.2.2.1
  have h2 := hS.2.2.2.2.1
  have hov2 : (Cond.arrayOver (.object C)).before args s = true := by
    obtain ⟨b, hb, -⟩ := hA.1.2.1
    exact va_AO.use (va_AO.moved (e_alk hA) (va_AO.of (hb _ hov)))
  refine W.anew hA.2.1 hA.2.2.1 hA.2.2.2.2.2.2.1 (e_w hA hcl) hov2 rfl hd rfl e2 (by rw [e1]; omega) (by omega) (by rw [e1]; omega) fun cA kA comp f1 f2 f3 f4 => ?_
  rw [e1]
  have hlen := e_H_len hS.2.1
  refine kk g p e R s m args below meth c R0 hA (Rf ++ [.ref H.size]) _ locs (cells + 1) (slots + nn) ls (.ref H.size :: bs) (e_S_push (o := (kd, nn, fun _ => .null)) hS (by omega) (by omega) (Nat.le_refl _) (by simp) (fun q hq => by rw [Array.getElem?_push, if_neg (Nat.ne_of_lt hq)]) (Or.inr (Or.inl ⟨(by show 50 ≤ kd; omega), (by show kd < 60; omega), H.size, cA, fun _ => .null, rfl, Array.getElem?_push_size.trans (congrArg some (arrV_new cA nn .null)), (by show ArrOfT _ _ (e_ty kd); rw [hty]; exact e_newarr_of hA f2 f3), ?_, fun j hj => (show e_v _ .null .null from rfl)⟩))) (e_ls_app hl (List.prefix_append _ _)) ⟨?_, e_vs_app (List.prefix_append _ _) g2⟩
  · show va_RA _ _ (e_ty kd)
    rw [hty]
    exact va_RA.moved (e_alk hA).symm (show va_RA s cA (.object C) from ⟨kA, comp, f2, f3, f4, f1⟩)
  · show (Rf ++ [.ref H.size])[h.2]? = _
    rw [hlen, List.getElem?_append_right (Nat.le_refl _), Nat.sub_self]
    rfl
/-- a static field of the table e_sts -/
theorem e_getstatic {idx i : Nat} {C n dd : String} {v : Value} (hd : decode M.2.1 pc = .ok (.getstatic idx, 3)) (hi : e_sts[i]? = some (C, n, dd, v)) (hlk : Cond.fieldLink M.1.cls idx C n dd ∈ lw_all) (kk : e_E M (pc + 3) al (v :: st) h kc ks d Q) : e_E M pc al st h kc ks d Q := by
  intro g p e R s m args below meth c R0 hA Rf H locs cells slots ls sr hS hl hv
  obtain ⟨w, h1, h2⟩ := hS.2.1.1.1 _ (List.mem_of_getElem? hi)
  obtain ⟨cf, kf, fi, f, a, cell, f1, f2, f3, f4, f5, f6, f7, f8⟩ := va_Z.moved (e_alk hA) h2
  have hlt : a < g.2.1.heap.size := (Array.getElem?_eq_some_iff.mp f5).1
  exact W.gets hA.2.1 hA.2.2.1 hA.2.2.2.2.2.2.1 (e_w hA hlk) f1 f2 f3 f4 (by rw [hS.2.1.2.2.2.2.1 a hlt]; exact f5) (fun q => by rw [q] at f6; cases f6) f7 rfl hd (kk g p e R s m args below meth c R0 hA Rf H locs cells slots ls _ hS hl ⟨h1, hv⟩)
theorem e_ldc {idx : Nat} {v : Int32} {z : Int} (hd : decode M.2.1 pc = .ok (.ldc idx, 2)) (hc : Cond.constant M.1.cls idx v ∈ lw_all) (hz : v = Int32.ofInt z) (kk : e_E M (pc + 2) al (e_i z :: st) h kc ks d Q) : e_E M pc al st h kc ks d Q := by
  intro g p e R s m args below meth c R0 hA Rf H locs cells slots ls sr hS hl hv
  subst hz
  exact lv_ldc hA.2.1 hA.2.2.1 hA.2.2.2.2.2.2.1 (e_w hA hc) hd (kk g p e R s m args below meth c R0 hA Rf H locs cells slots ls _ hS hl ⟨rfl, hv⟩)
theorem e_ldcw {idx : Nat} {v : Int32} {z : Int} (hd : decode M.2.1 pc = .ok (.ldc_w idx, 3)) (hc : Cond.constant M.1.cls idx v ∈ lw_all) (hz : v = Int32.ofInt z) (kk : e_E M (pc + 3) al (e_i z :: st) h kc ks d Q) : e_E M pc al st h kc ks d Q := by
  intro g p e R s m args below meth c R0 hA Rf H locs cells slots ls sr hS hl hv
  subst hz
  exact lv_ldcw hA.2.1 hA.2.2.1 hA.2.2.2.2.2.2.1 (e_w hA hc) hd (kk g p e R s m args below meth c R0 hA Rf H locs cells slots ls _ hS hl ⟨rfl, hv⟩)
theorem e_ldc2 {idx : Nat} {v : Int64} {z : Int} (hd : decode M.2.1 pc = .ok (.ldc2_w idx, 3)) (hc : Cond.constantLong M.1.cls idx v ∈ lw_all) (hz : v = Int64.ofInt z) (kk : e_E M (pc + 3) al (e_j z :: st) h kc ks d Q) : e_E M pc al st h kc ks d Q := by
  intro g p e R s m args below meth c R0 hA Rf H locs cells slots ls sr hS hl hv
  subst hz
  exact lv_ldc2 hA.2.1 hA.2.2.1 hA.2.2.2.2.2.2.1 (e_w hA hc) hd (kk g p e R s m args below meth c R0 hA Rf H locs cells slots ls _ hS hl ⟨rfl, hv⟩)
theorem e_ldcS {idx : Nat} {tx : String} (i : Nat) (hd : decode M.2.1 pc = .ok (.ldc idx, 2)) (hi : e_strs[i]? = some (M.1.cls, idx, tx)) (kk : e_E M (pc + 2) al (.ref (270 + i) :: st) h kc ks d Q) : e_E M pc al st h kc ks d Q := by
  intro g p e R s m args below meth c R0 hA Rf H locs cells slots ls sr hS hl hv
  obtain ⟨a, h1, h2⟩ := hS.2.1.1.2.1 i _ hi
  exact va_ldcS hA.2.1 hA.2.2.1 hA.2.2.2.2.2.2.1 (vk_R.warm hA.2.2.2.2.2.2.2.2.1 h2) hd (kk g p e R s m args below meth c R0 hA Rf H locs cells slots ls _ hS hl ⟨h1, hv⟩)
theorem e_ldcM {idx : Nat} (hd : decode M.2.1 pc = .ok (.ldc idx, 2)) (hcl : Cond.classLink M.1.cls idx "[Ljava/lang/Object;" ∈ lw_all) (kk : e_E M (pc + 2) al (.ref 260 :: st) h kc ks d Q) : e_E M pc al st h kc ks d Q := by
  intro g p e R s m args below meth c R0 hA Rf H locs cells slots ls sr hS hl hv
  obtain ⟨mi, h1, h2⟩ := hS.2.1.1.2.2.1
  exact va_ldcM hA.2.1 hA.2.2.1 hA.2.2.2.2.2.2.1 (e_w hA hcl) (va_Mi.moved (e_alk hA) h2) hd (kk g p e R s m args below meth c R0 hA Rf H locs cells slots ls _ hS hl ⟨h1, hv⟩)
/-- a reference that surely isn't null -/
theorem e_notnull {g : e_G} {R : List Value} {H : Heap} {i : Nat} {w : Value} (hH : e_H g R h H) (hi : e_v R (.ref i) w) (hk : (h.1 i).1 < 80) : ∃ a : Nat, w = .ref a := by
  rcases e_obj hH hi with ⟨h0, a, r, cell, q, -⟩ | ⟨h0, h9, a, cA, z, q, -⟩ | ⟨h0, h9, a, cell, q, -⟩ | ⟨h0, h9, a, cell, q, -⟩ | ⟨h0, -⟩
  · exact ⟨a, q⟩
  · exact ⟨a, q⟩
  · exact ⟨a, q⟩
  · exact ⟨a, q⟩
  · omega
theorem e_ifnull {i : Nat} {off : Int} (hd : decode M.2.1 pc = .ok (.ifnull off, 3)) (hk : (h.1 i).1 < 80) (kk : e_E M (pc + 3) al st h kc ks d Q) : e_E M pc al (.ref i :: st) h kc ks d Q := by
  intro g p e R s m args below meth c R0 hA Rf H locs cells slots ls sr hS hl hv
  obtain ⟨w, bs, rfl, g1, g2⟩ := e_vs_c hv
  obtain ⟨a, rfl⟩ := e_notnull hS.2.1 g1 hk
  exact lv_ifnull hA.2.1 hA.2.2.1 hd (kk g p e R s m args below meth c R0 hA Rf H locs cells slots ls _ hS hl g2)
theorem e_ifnullN {off : Int} {tgt : Nat} (hd : decode M.2.1 pc = .ok (.ifnull off, 3)) (ht : (pc : Int) + off = (tgt : Int)) (kk : e_E M tgt al st h kc ks d Q) : e_E M pc al (.null :: st) h kc ks d Q := by
  intro g p e R s m args below meth c R0 hA Rf H locs cells slots ls sr hS hl hv
  obtain ⟨w, bs, rfl, g1, g2⟩ := e_vs_c hv
  cases g1
  exact lv_ifnullN hA.2.1 hA.2.2.1 hd ht (kk g p e R s m args below meth c R0 hA Rf H locs cells slots ls _ hS hl g2)
theorem e_ifnonnull {i : Nat} {off : Int} {tgt : Nat} (hd : decode M.2.1 pc = .ok (.ifnonnull off, 3)) (ht : (pc : Int) + off = (tgt : Int)) (hk : (h.1 i).1 < 80) (kk : e_E M tgt al st h kc ks d Q) : e_E M pc al (.ref i :: st) h kc ks d Q := by
  intro g p e R s m args below meth c R0 hA Rf H locs cells slots ls sr hS hl hv
  obtain ⟨w, bs, rfl, g1, g2⟩ := e_vs_c hv
  obtain ⟨a, rfl⟩ := e_notnull hS.2.1 g1 hk
  exact lv_ifnonnull hA.2.1 hA.2.2.1 hd ht (kk g p e R s m args below meth c R0 hA Rf H locs cells slots ls _ hS hl g2)
theorem e_ifnonnullN {off : Int} (hd : decode M.2.1 pc = .ok (.ifnonnull off, 3)) (kk : e_E M (pc + 3) al st h kc ks d Q) : e_E M pc al (.null :: st) h kc ks d Q := by
  intro g p e R s m args below meth c R0 hA Rf H locs cells slots ls sr hS hl hv
  obtain ⟨w, bs, rfl, g1, g2⟩ := e_vs_c hv
  cases g1
  exact lv_ifnonnullN hA.2.1 hA.2.2.1 hd (kk g p e R s m args below meth c R0 hA Rf H locs cells slots ls _ hS hl g2)
/-- two references: the same, or surely not -/
theorem e_ref_ne {g : e_G} {R : List Value} {H : Heap} {i j a : Nat} (hH : e_H g R h H) (hi : e_v R (.ref i) (.ref a)) (hj : e_v R (.ref j) (.ref a)) (hn : 350 ≤ i ∨ 350 ≤ j ∨ (i = 258 ∧ j = 259) ∨ (i = 259 ∧ j = 258)) : i = j := by
  rcases hn with q | q | ⟨rfl, rfl⟩ | ⟨rfl, rfl⟩
  · exact hH.2.2.2.2.2.2.2.1 i j a q hi hj
  · exact (hH.2.2.2.2.2.2.2.1 j i a q hj hi).symm
  · exact absurd ((show R[258]? = _ from hi).trans (show R[259]? = _ from hj).symm) hH.1.2.2.2.2.2
  · exact absurd ((show R[258]? = _ from hj).trans (show R[259]? = _ from hi).symm) hH.1.2.2.2.2.2
theorem e_acmp_eq {i j : Nat} {off : Int} {tgt : Nat} (hd : decode M.2.1 pc = .ok (.if_acmp .eq off, 3)) (ht : (pc : Int) + off = (tgt : Int)) (hki : (h.1 i).1 < 80) (hkj : (h.1 j).1 < 80) (hn : 350 ≤ i ∨ 350 ≤ j ∨ (i = 258 ∧ j = 259) ∨ (i = 259 ∧ j = 258) ∨ i = j) (k1 : i = j → e_E M tgt al st h kc ks d Q) (k2 : ¬ i = j → e_E M (pc + 3) al st h kc ks d Q) : e_E M pc al (.ref j :: .ref i :: st) h kc ks d Q := by
  intro g p e R s m args below meth c R0 hA Rf H locs cells slots ls sr hS hl hv
  obtain ⟨w, bs1, rfl, g1, g2⟩ := e_vs_c hv
  obtain ⟨w2, bs, rfl, g3, g4⟩ := e_vs_c g2
  obtain ⟨a, rfl⟩ := e_notnull hS.2.1 g1 hkj
  obtain ⟨b, rfl⟩ := e_notnull hS.2.1 g3 hki
  have hij : b = a ↔ i = j := by
    constructor
    · rintro rfl
      rcases hn with q | q | q | q | q
      · exact e_ref_ne hS.2.1 g3 g1 (Or.inl q)
      · exact e_ref_ne hS.2.1 g3 g1 (Or.inr (Or.inl q))
      · exact e_ref_ne hS.2.1 g3 g1 (Or.inr (Or.inr (Or.inl q)))
      · exact e_ref_ne hS.2.1 g3 g1 (Or.inr (Or.inr (Or.inr q)))
      · exact q
    · rintro rfl
      have := (show Rf[i]? = _ from g3).symm.trans (show Rf[i]? = _ from g1)
      cases this
      rfl
  exact lv_acmp_eq (rx := some b) (ry := some a) hA.2.1 hA.2.2.1 hd ht (fun q => k1 (by exact hij.mp (Option.some.inj q)) g p e R s m args below meth c R0 hA Rf H locs cells slots ls _ hS hl g4) (fun q => k2 (by exact fun z => q (congrArg some (hij.mpr z))) g p e R s m args below meth c R0 hA Rf H locs cells slots ls _ hS hl g4)
theorem e_acmp_ne {i j : Nat} {off : Int} {tgt : Nat} (hd : decode M.2.1 pc = .ok (.if_acmp .ne off, 3)) (ht : (pc : Int) + off = (tgt : Int)) (hki : (h.1 i).1 < 80) (hkj : (h.1 j).1 < 80) (hn : 350 ≤ i ∨ 350 ≤ j ∨ (i = 258 ∧ j = 259) ∨ (i = 259 ∧ j = 258) ∨ i = j) (k1 : ¬ i = j → e_E M tgt al st h kc ks d Q) (k2 : i = j → e_E M (pc + 3) al st h kc ks d Q) : e_E M pc al (.ref j :: .ref i :: st) h kc ks d Q := by
  intro g p e R s m args below meth c R0 hA Rf H locs cells slots ls sr hS hl hv
  obtain ⟨w, bs1, rfl, g1, g2⟩ := e_vs_c hv
  obtain ⟨w2, bs, rfl, g3, g4⟩ := e_vs_c g2
  obtain ⟨a, rfl⟩ := e_notnull hS.2.1 g1 hkj
  obtain ⟨b, rfl⟩ := e_notnull hS.2.1 g3 hki
  have hij : b = a ↔ i = j := by
    constructor
    · rintro rfl
      rcases hn with q | q | q | q | q
      · exact e_ref_ne hS.2.1 g3 g1 (Or.inl q)
      · exact e_ref_ne hS.2.1 g3 g1 (Or.inr (Or.inl q))
      · exact e_ref_ne hS.2.1 g3 g1 (Or.inr (Or.inr (Or.inl q)))
      · exact e_ref_ne hS.2.1 g3 g1 (Or.inr (Or.inr (Or.inr q)))
      · exact q
    · rintro rfl
      have := (show Rf[i]? = _ from g3).symm.trans (show Rf[i]? = _ from g1)
      cases this
      rfl
  exact lv_acmp_ne (rx := some b) (ry := some a) hA.2.1 hA.2.2.1 hd ht (fun q => k1 (by exact fun z => q (congrArg some (hij.mpr z))) g p e R s m args below meth c R0 hA Rf H locs cells slots ls _ hS hl g4) (fun q => k2 (by exact hij.mp (Option.some.inj q)) g p e R s m args below meth c R0 hA Rf H locs cells slots ls _ hS hl g4)
/-- checkcast and instanceof, of objects of classes -/
theorem e_castN {idx : Nat} (hd : decode M.2.1 pc = .ok (.checkcast idx, 3)) (kk : e_E M (pc + 3) al (.null :: st) h kc ks d Q) : e_E M pc al (.null :: st) h kc ks d Q := by
  intro g p e R s m args below meth c R0 hA Rf H locs cells slots ls sr hS hl hv
  obtain ⟨w, bs, rfl, g1, g2⟩ := e_vs_c hv
  cases g1
  exact lv_castN hA.2.1 hA.2.2.1 hd (kk g p e R s m args below meth c R0 hA Rf H locs cells slots ls _ hS hl ⟨rfl, g2⟩)
theorem e_instN {idx : Nat} (hd : decode M.2.1 pc = .ok (.instanceof idx, 3)) (kk : e_E M (pc + 3) al (e_i 0 :: st) h kc ks d Q) : e_E M pc al (.null :: st) h kc ks d Q := by
  intro g p e R s m args below meth c R0 hA Rf H locs cells slots ls sr hS hl hv
  obtain ⟨w, bs, rfl, g1, g2⟩ := e_vs_c hv
  cases g1
  exact lv_instN hA.2.1 hA.2.2.1 hd (kk g p e R s m args below meth c R0 hA Rf H locs cells slots ls _ hS hl ⟨rfl, g2⟩)
/-- the class's own name -/
theorem e_castS {idx ci i n : Nat} {f : Nat → Value} (hd : decode M.2.1 pc = .ok (.checkcast idx, 3)) (ho : h.1 i = (ci, n, f)) (hci : ci < 15) (hcl : Cond.classLink M.1.cls idx (e_nmk ci) ∈ lw_all) (kk : e_E M (pc + 3) al (.ref i :: st) h kc ks d Q) : e_E M pc al (.ref i :: st) h kc ks d Q := by
  intro g p e R s m args below meth c R0 hA Rf H locs cells slots ls sr hS hl hv
  obtain ⟨w, bs, rfl, g1, g2⟩ := e_vs_c hv
  have ho2 := e_obj hS.2.1 g1
  rw [ho] at ho2
  obtain ⟨a, cell, rfl, q1, q2, q3⟩ := e_recv hA hci ho2
  have hc : ∃ q, e_cl[ci]? = some q := ⟨_, List.getElem?_eq_getElem hci⟩
  obtain ⟨⟨C, T, N⟩, hc⟩ := hc
  have hnm : e_nmk ci = C := by unfold e_nmk; rw [hc]
  exact va_castS hA.2.1 hA.2.2.1 hA.2.2.2.2.2.2.1 (e_w hA hcl) (by rw [hnm]; exact (e_Kn hA hc).2) ⟨cell, q1, q2, q3⟩ hd (kk g p e R s m args below meth c R0 hA Rf H locs cells slots ls _ hS hl ⟨g1, g2⟩)
/-- arrays of numbers: their class's name -/
def e_an (k : Nat) : String := "[" ++ (e_ty k).toString
theorem e_castA {idx kd i n : Nat} {f : Nat → Value} (hd : decode M.2.1 pc = .ok (.checkcast idx, 3)) (ho : h.1 i = (kd, n, f)) (hk : 50 ≤ kd ∧ kd < 55) (hcl : Cond.classLink M.1.cls idx (e_an kd) ∈ lw_all) (kk : e_E M (pc + 3) al (.ref i :: st) h kc ks d Q) : e_E M pc al (.ref i :: st) h kc ks d Q := by
  intro g p e R s m args below meth c R0 hA Rf H locs cells slots ls sr hS hl hv
  obtain ⟨w, bs, rfl, g1, g2⟩ := e_vs_c hv
  have ho2 := e_obj hS.2.1 g1
  rw [ho] at ho2
  obtain ⟨a, cA, z, rfl, q1, q2, q3, q4⟩ := e_o_own (by omega) ho2
  have q3 := q3.moved (e_alk hA)
  have hfc : s.vm.findClass (e_an kd) = some cA := by
    have : kd = 50 ∨ kd = 51 ∨ kd = 52 ∨ kd = 53 ∨ kd = 54 := by omega
    rcases this with rfl | rfl | rfl | rfl | rfl <;> exact q3
  intro T hT X
  obtain ⟨vm', X', st⟩ := X.checkcastYes hA.2.1 hA.2.2.2.2.2.2.1 (e_w hA hcl) (by rw [hT]; exact q1) (by rfl) hfc (va_asg _ _) (g := F0 m pc ls (.ref a :: bs)) rfl rfl (by rw [hA.2.2.1]; exact hd)
  obtain ⟨t, a1, b1⟩ := kk g p e R s m args below meth c R0 hA Rf H locs cells slots ls (.ref a :: bs) hS hl ⟨g1, g2⟩ (T.setVm vm') hT X'
  exact ⟨t, st t a1, b1⟩
theorem e_instA {idx kd i n : Nat} {f : Nat → Value} (hd : decode M.2.1 pc = .ok (.instanceof idx, 3)) (ho : h.1 i = (kd, n, f)) (hk : 50 ≤ kd ∧ kd < 55) (hcl : Cond.classLink M.1.cls idx (e_an kd) ∈ lw_all) (kk : e_E M (pc + 3) al (e_i 1 :: st) h kc ks d Q) : e_E M pc al (.ref i :: st) h kc ks d Q := by
  intro g p e R s m args below meth c R0 hA Rf H locs cells slots ls sr hS hl hv
  obtain ⟨w, bs, rfl, g1, g2⟩ := e_vs_c hv
  have ho2 := e_obj hS.2.1 g1
  rw [ho] at ho2
  obtain ⟨a, cA, z, rfl, q1, q2, q3, q4⟩ := e_o_own (by omega) ho2
  have q3 := q3.moved (e_alk hA)
  have hfc : s.vm.findClass (e_an kd) = some cA := by
    have : kd = 50 ∨ kd = 51 ∨ kd = 52 ∨ kd = 53 ∨ kd = 54 := by omega
    rcases this with rfl | rfl | rfl | rfl | rfl <;> exact q3
  intro T hT X
  obtain ⟨vm', X', st⟩ := X.instanceofYes hA.2.1 hA.2.2.2.2.2.2.1 (e_w hA hcl) (by rw [hT]; exact q1) (by rfl) hfc (va_asg _ _) (g := F0 m pc ls (.ref a :: bs)) rfl rfl (by rw [hA.2.2.1]; exact hd)
  obtain ⟨t, a1, b1⟩ := kk g p e R s m args below meth c R0 hA Rf H locs cells slots ls (.int 1 :: bs) hS hl ⟨rfl, g2⟩ (T.setVm vm') hT X'
  exact ⟨t, st t a1, b1⟩
end ENEW
