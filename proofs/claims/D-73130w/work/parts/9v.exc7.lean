/-! arraycopy out of bounds -/
set_option maxRecDepth 100000
theorem z_ts (s : String) : toString s = s := rfl
theorem z_int_print {z : Int} (h : -10000000000 < z ∧ z < 10000000000) : (toString z).toList.length ≤ 11 := by
  show (Int.repr z).toList.length ≤ 11
  cases z with
  | ofNat m =>
    have := nat_print (n := m) (by have h2 : (m : Int) < 10000000000 := h.2; omega)
    show (toString m).toList.length ≤ 11
    omega
  | negSucc m =>
    have h2 : -(10000000000 : Int) < -((m : Int) + 1) := by have := h.1; simpa [Int.negSucc_eq] using this
    have := nat_print (n := m.succ) (by omega)
    show ("-" ++ toString m.succ).toList.length ≤ 11
    rw [String.toList_append, List.length_append]
    have h0 : "-".toList.length = 1 := by decide
    omega
theorem z_cf_len {sT dT : FieldType} {a b : Nat} {i k n : Int32} {what : String} (ha : a < 2147483648) (hb : b < 2147483648) (hs : (Native.java_lang_System.arraycopy.kindName sT).toList.length ≤ 12) (hd : (Native.java_lang_System.arraycopy.kindName dT).toList.length ≤ 12) (h : copyFault sT dT a b i k n = some what) : what.toList.length ≤ 90 := by
  have i1 := int32_print i
  have i2 := int32_print k
  have i3 := int32_print n
  have n1 := nat_print (n := a) (by omega)
  have n2 := nat_print (n := b) (by omega)
  have l1 := Int32.toInt_lt i
  have l2 := Int32.le_toInt i
  have l3 := Int32.toInt_lt n
  have l4 := Int32.le_toInt n
  have l5 := Int32.toInt_lt k
  have l6 := Int32.le_toInt k
  have s1 := z_int_print (z := i.toInt + n.toInt) ⟨by omega, by omega⟩
  have s2 := z_int_print (z := k.toInt + n.toInt) ⟨by omega, by omega⟩
  have c1 : "source index ".toList.length = 13 := by decide
  have c2 : "destination index ".toList.length = 18 := by decide
  have c3 : " out of bounds for ".toList.length = 19 := by decide
  have c4 : "length ".toList.length = 7 := by decide
  have c5 : " is negative".toList.length = 12 := by decide
  have c6 : "last source index ".toList.length = 18 := by decide
  have c7 : "last destination index ".toList.length = 23 := by decide
  have c8 : "[".toList.length = 1 := by decide
  have c9 : "]".toList.length = 1 := by decide
  unfold copyFault at h
  split at h
  · cases h
    simp only [z_ts, String.toList_append, List.length_append]
    omega
  · split at h
    · cases h
      simp only [z_ts, String.toList_append, List.length_append]
      omega
    · split at h
      · cases h
        simp only [z_ts, String.toList_append, List.length_append]
        omega
      · split at h
        · cases h
          simp only [z_ts, String.toList_append, List.length_append]
          omega
        · split at h
          · cases h
            simp only [z_ts, String.toList_append, List.length_append]
            omega
          · cases h
theorem z_cf_text {what : String} (h : what.toList.length ≤ 90) : (("arraycopy: " ++ what) == notModelled) = false ∧ (stringBytes (stringToUtf16 ("arraycopy: " ++ what))).size ≤ 420 := by
  constructor
  · rw [beq_eq_false_iff_ne]
    intro q
    have h2 := congrArg String.toList q
    have h3 : ("arraycopy: " ++ what).toList = 'a' :: ("rraycopy: ".toList ++ what.toList) := by
      rw [String.toList_append]
      rfl
    rw [h3] at h2
    have h4 : notModelled.toList = '\u0000' :: " a message that is not modelled".toList := by decide
    rw [h4] at h2
    simp at h2
  · have b1 := stringBytes_size_le (stringToUtf16 ("arraycopy: " ++ what))
    have b2 := utf16_size_le ("arraycopy: " ++ what)
    have b3 : ("arraycopy: " ++ what).toList.length ≤ 101 := by
      rw [String.toList_append, List.length_append]
      have : "arraycopy: ".toList.length = 11 := by decide
      omega
    omega
theorem z_cf_some {sT dT : FieldType} {a b : Nat} {i k n : Int} (hi : e_rg i) (hk : e_rg k) (hn : e_rg n) (hout : i < 0 ∨ k < 0 ∨ n < 0 ∨ (a : Int) < i + n ∨ (b : Int) < k + n) : ∃ what, copyFault sT dT a b (Int32.ofInt i) (Int32.ofInt k) (Int32.ofInt n) = some what := by
  cases h : copyFault sT dT a b (Int32.ofInt i) (Int32.ofInt k) (Int32.ofInt n) with
  | some w => exact ⟨w, rfl⟩
  | none =>
    exfalso
    have e1 := e_ti hi
    have e2 := e_ti hk
    have e3 := e_ti hn
    have c0 : (0 : Int32).toInt = 0 := rfl
    unfold copyFault at h
    simp only [Int32.lt_iff_toInt_lt, e1, e2, e3, c0] at h
    split at h
    · cases h
    · split at h
      · cases h
      · split at h
        · cases h
        · split at h
          · cases h
          · split at h
            · cases h
            · omega
section ECOPYZ
variable {M : e_M} {pc : Nat} {al st : List Value} {h : e_A} {kc ks d : Nat} {Q : e_R → e_A → Prop}
theorem e_copyZ {idx i0 i1 n0 n1 kd : Nat} {f g9 : Nat → Value} {sp dp n : Int} (hd : decode M.2.1 pc = .ok (.invokestatic idx, 3)) (hlk : Cond.methodLink M.1.cls idx arraycopyName ∈ lw_all) (ho0 : h.1 i0 = (kd, n0, f)) (ho1 : h.1 i1 = (kd, n1, g9)) (hk : 50 ≤ kd ∧ kd < 55) (hsp : e_rg sp) (hdp : e_rg dp) (hn : e_rg n) (hout : sp < 0 ∨ dp < 0 ∨ n < 0 ∨ (n0 : Int) < sp + n ∨ (n1 : Int) < dp + n) (hb : n0 < 2147483648 ∧ n1 < 2147483648)
    (h8 : Nat.ble ((st.map fun v => v.category).sum) 8 = true) (k : e_T M pc al (e_push h (72, 0, fun _ => .null)) h.2 kc ks d Q) : e_E M pc al (e_i n :: e_i dp :: .ref i1 :: e_i sp :: .ref i0 :: st) h (kc + 3) (ks + 430) d Q := by
  intro g p e R s m args below meth c R0 hA Rf H locs cells slots ls sr hS hl hv
  obtain ⟨w, bs1, rfl, g1, hv1⟩ := e_vs_c hv
  cases g1
  obtain ⟨w, bs2, rfl, g1, hv2⟩ := e_vs_c hv1
  cases g1
  obtain ⟨b1, bs3, rfl, r1, hv3⟩ := e_vs_c hv2
  obtain ⟨w, bs4, rfl, g1, hv4⟩ := e_vs_c hv3
  cases g1
  obtain ⟨b0, bs, rfl, r0, hv5⟩ := e_vs_c hv4
  have q0 := e_obj hS.2.1 r0
  have q1 := e_obj hS.2.1 r1
  rw [ho0] at q0
  rw [ho1] at q1
  obtain ⟨a0, c0, z0, rfl, hc0, t3, t4, t5⟩ := e_o_own (by omega) q0
  obtain ⟨a1, c1, z1, rfl, hc1, u3, u4, u5⟩ := e_o_own (by omega) q1
  obtain ⟨-, k0, hk0, cm0, hkk0⟩ := State.isArrayOf_alike (e_alk hA) (t3 n0 z0)
  obtain ⟨-, k1, hk1, cm1, hkk1⟩ := State.isArrayOf_alike (e_alk hA) (u3 n1 z1)
  have hprim : refKind (e_ty kd) = false ∧ (Native.java_lang_System.arraycopy.kindName (e_ty kd)).toList.length ≤ 12 := by
    obtain ⟨a, b⟩ := hk
    have : kd = 50 ∨ kd = 51 ∨ kd = 52 ∨ kd = 53 ∨ kd = 54 := by omega
    rcases this with q | q | q | q | q <;> (rw [q]; exact ⟨rfl, by decide⟩)
  obtain ⟨what, hwhat⟩ := z_cf_some (sT := e_ty kd) (dT := e_ty kd) (a := n0) (b := n1) hsp hdp hn hout
  have htx := z_cf_text (z_cf_len hb.1 hb.2 hprim.2 hprim.2 hwhat)
  have h9 := z_cat hS.2.1 hv5 h8
  have hfr := hA.2.2.2.2.2.2.2.2.2.2.1
  have hlo := hA.2.2.2.2.2.2.2.2.2.2.2.1
  have hS4 := hS.2.2.2.1
  have hS5 := hS.2.2.2.2.1
  have hRs := hS.2.1.1
  have hw2 := z_hat (args := args) hA z_m72
  intro T hT X
  obtain ⟨r, kS, methS, hnS, hmS, hkS, N⟩ := NativeOf.of_static (e_w (args := args) hA q377) (e_w (args := args) hA q376) (ps := [.object "java/lang/Object", .int, .object "java/lang/Object", .int, .int]) (ret := none) (by decide +kernel)
  have hinitS : kS.init = .initialized := Cond.initialized_spec (findClass_of_methodNamed hnS) hkS (e_w (args := args) hA q166)
  obtain ⟨vm', X', step⟩ := X.invokestatic hA.2.1 hA.2.2.2.2.2.2.1 (e_w hA hlk) hnS hmS N.static hkS hinitS (by decide) (g := F0 m pc ls (e_i n :: e_i dp :: .ref a1 :: e_i sp :: .ref a0 :: bs)) rfl (argsL := [.ref a0, e_i sp, .ref a1, e_i dp, e_i n]) (rest := bs) (by rw [N.sig]; rfl) rfl (by rw [hA.2.2.1]; exact hd)
  have hwn : nativeFrameWords "java/lang/System" "arraycopy" 5 ≤ 1000 := by decide
  have hlim : 8 + (nativeFrameWords arraycopyName.cls arraycopyName.name 5 + 11) ≤ R.locals := by
    show 8 + (nativeFrameWords "java/lang/System" "arraycopy" 5 + 11) ≤ R.locals
    omega
  have hB : Jvm.Free.BackT g.1 R p e below s args arraycopyName 3 8 (fun A a => A = ⟨T.setVm vm', locs, cells, slots⟩ ∧ a = #[.ref a0, e_i sp, .ref a1, e_i dp, e_i n])
      (fun A a t B => B.locs = locs ∧ B.cells = cells + 3 ∧ B.slots = slots + 430 ∧ (∀ q : Nat, q < H.size → B.U.heap[q]? = H[q]?) ∧ H.size ≤ t ∧ ∃ ce, B.U.heap[t]? = some ce ∧ s.vm.findClass (e_nm 72) = some ce.cls ∧ ce.vm = .none) := by
    refine Jvm.Free.BackT.of_native (words := 5) (row := arraycopyRow) (arraycopy_row p) ⟨r, kS, methS, hnS, N⟩ (by omega) hlim ?_
    intro m2 meth2 c2 A a x g2 mk X2 hg2 hsize2 hW2 hn2 hst2 hps2 hask
    obtain ⟨rfl, rfl⟩ := hask
    obtain ⟨S, q, ce, st1, X6, hkept, hce, hcl, hcv, hnew⟩ := z_natVm (H := H) (T := T.setVm vm') hT X2 hA.2.1 (z_tr hA) (cls := e_nm 72) (text := "arraycopy: " ++ what) (names := z_iN) (nb := 420) (A := fun a => g.2.1.heap.size ≤ a) (by decide +kernel) (by decide +kernel) (by decide +kernel) (by decide +kernel) hw2.1 hw2.2 (z_Zq hA hRs.2.2.2.1) (z_Zq hA hRs.2.2.2.2.1) (z_vaS hA hS) htx.1 htx.2 (by omega) (g := g2) hsize2 (nf := { method := mk, args := #[.ref a0, e_i sp, .ref a1, e_i dp, e_i n], locked := none }) rfl (by show 3 + 5 < R.frames; omega) (by omega) (by decide) (by show cells + 3 ≤ R.cells; omega) (by show slots + (420 + 10) ≤ R.slots; omega)
    refine ⟨rfl, by simp [seenByNative, hst2, hps2, narrow], e_nm 72, some ("arraycopy: " ++ what), id, fun _ => rfl, rfl, fun fs E hE => ?_, q, ⟨S, locs, cells + 3, slots + 430⟩, X6, ⟨rfl, rfl, rfl, hkept, hnew, ce, hce, hcl, hcv⟩, st1⟩
    rw [arraycopyRow_sem]
    have hW' := X2.warmed
    obtain ⟨k0', hk0', he0⟩ := hW'.alike.2.2 _ _ hk0
    obtain ⟨k1', hk1', he1⟩ := hW'.alike.2.2 _ _ hk1
    exact Jvm.W.arraycopy_bounds (s := (T.setVm vm').setFrames fs) (cs := arrV c0 n0 z0) (cd := arrV c1 n1 z1) (by show T.heap[a0]? = _; rw [hT]; exact hc0) (by show T.heap[a1]? = _; rw [hT]; exact hc1) (fun _ h => by cases h) (fun _ h => by cases h) hk0' hk1' (by rw [he0]; exact hkk0) (by rw [he1]; exact hkk1) (by simp [hprim.1]) (by rw [arrV_size, arrV_size]; exact hwhat) (hE _)
  obtain ⟨q, B, XB, ⟨l1, l2, l3, l4, l5, ce, l6, l7, l8⟩, hsteps⟩ := hB m meth c ⟨T.setVm vm', locs, cells, slots⟩ (F0 m pc ls bs) (.invokestatic idx) r _ X' rfl (by rw [hA.2.2.2.1]; exact hl.2.1) (by rw [hA.2.2.1]; exact hd) (by show 2 * 0 + (bs.map fun v => v.category).sum ≤ 8; omega) (X'.named hnS) ⟨rfl, rfl⟩
  obtain ⟨U, lo, ce9, sl⟩ := B
  dsimp only [Pt.U, Pt.locs, Pt.cells, Pt.slots] at l1 l2 l3 l4 l6 XB hsteps
  subst l1; subst l2; subst l3
  obtain ⟨t, b1, b2⟩ := z_go (kd := 72) (nc := 3) (ns := 430) (e := e) (below := below) (args := args) (sr := bs) hA ⟨by omega, by omega⟩ hS hl k l5 l4 l6 l8 l7 U rfl XB
  exact ⟨t, step _ (fun acts => by rw [doInvoke_state]; exact hsteps.trans b1), b2⟩
end ECOPYZ
