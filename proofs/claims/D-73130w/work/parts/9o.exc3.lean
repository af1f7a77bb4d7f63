/-! THE MACHINE'S OWN EXCEPTIONS, AS ROWS OF E -/
set_option maxRecDepth 100000
def z_rN : List String := ["java/lang/RuntimeException", "java/lang/Exception"]
def z_iN : List String := ["java/lang/IndexOutOfBoundsException", "java/lang/RuntimeException", "java/lang/Exception"]
def z_isC (w : Cond) : Bool := match w with
  | .castable _ _ => true
  | .declares _ => true
  | _ => false
def z_wok (L : List Cond) : Bool := L.all fun w => decide (w ∈ lw_tbl) && vx_ot w && (goodWord w || z_isC w)
theorem z_m70 : z_wok (vx_atM (e_nm 70) z_rN) = true := by decide +kernel
theorem z_m73 : z_wok (vx_atM (e_nm 73) z_rN) = true := by decide +kernel
theorem z_m72 : z_wok (vx_atM (e_nm 72) z_iN) = true := by decide +kernel
theorem z_m71 : z_wok (vx_atN 8) = true := by decide +kernel
section EEXC
variable {M : e_M} {pc : Nat} {al st : List Value} {h : e_A} {kc ks d : Nat} {Q : e_R → e_A → Prop}
theorem z_hat {g : e_G} {p : Program} {R : Room} {s : State} {m : MethodId} {meth : Method} {c : Code} {args : Array Value} (hA : e_At g M d p R s m meth c) {L : List Cond} (hL : z_wok L = true) : (∀ w ∈ L, w.before args s = true) ∧ ∀ w ∈ L, vx_ot w = true := by
  have h1 := List.all_eq_true.mp hL
  refine ⟨fun w hw => ?_, fun w hw => ?_⟩
  · have h2 := h1 w hw
    simp only [Bool.and_eq_true, Bool.or_eq_true, decide_eq_true_eq] at h2
    rcases h2.2 with q | q
    · exact e_w hA (List.mem_filter.mpr ⟨h2.1.1, q⟩)
    · cases w with
      | castable C T => exact va_Nw.use rfl (e_wC hA h2.1.1)
      | declares y => exact va_Nw.use rfl (va_Nw.warmD hA.2.2.2.2.2.2.2.2.1 (e_wt hA.1 rfl h2.1.1))
      | _ => cases q
  · have h2 := h1 w hw
    simp only [Bool.and_eq_true, Bool.or_eq_true, decide_eq_true_eq] at h2
    exact h2.1.2
theorem z_tr {g : e_G} {p : Program} {R : Room} {s : State} {m : MethodId} {meth : Method} {c : Code} (hA : e_At g M d p R s m meth c) : g.1.stackTraces = false := by
  unfold Launch.stackTraces
  rw [hA.1.1]
  decide +kernel
theorem z_Zq {g : e_G} {p : Program} {R : Room} {s : State} {m : MethodId} {meth : Method} {c : Code} (hA : e_At g M d p R s m meth c) {C n t : String} (z : vx_Zq C n t (fun a => g.2.1.heap.size ≤ a) g.2.1 g.2.1.heap) : vx_Zq C n t (fun a => g.2.1.heap.size ≤ a) s s.heap :=
  vx_Zq.moved (e_alk hA) (vx_Zq.kept z (fun a ha _ => hA.2.2.2.2.2.2.2.2.2.2.2.2 a ha))
theorem z_vaS {g : e_G} {p : Program} {R : Room} {s : State} {m : MethodId} {meth : Method} {c : Code} {R0 Rf : List Value} {H : Heap} {locs : List Loc} {cells slots : Nat} (hA : e_At g M d p R s m meth c) (hS : e_S g R0 Rf h H locs s R cells slots kc ks) : va_S (fun a => g.2.1.heap.size ≤ a) s.heap H locs :=
  ⟨hS.2.2.2.2.2, fun q hq hn => by
    have hq2 : q < g.2.1.heap.size := Nat.lt_of_not_le hn
    rw [hS.2.1.2.2.2.2.1 q hq2]
    exact (hA.2.2.2.2.2.2.2.2.2.2.2.2 q hq2).symm, hS.2.2.1⟩
theorem z_exo {g : e_G} {p : Program} {R : Room} {s : State} {m : MethodId} {meth : Method} {c : Code} {Rf : List Value} {H1 : Heap} {kd : Nat} {q : Addr} {ce : Cell} (hA : e_At g M d p R s m meth c) (hk : 70 ≤ kd ∧ kd < 80) (hce : H1[q]? = some ce) (hv : ce.vm = .none) (hcl : s.vm.findClass (e_nm kd) = some ce.cls) : e_o g (Rf ++ [.ref q]) (kd, 0, fun _ => .null) (.ref q) H1 :=
  Or.inr (Or.inr (Or.inr (Or.inl ⟨hk.1, hk.2, q, ce, rfl, hce, hv, by rw [← (e_alk hA).findClass]; exact hcl⟩)))
theorem z_cn {kd : Nat} (hk : 70 ≤ kd) : e_cn kd = e_nm kd := if_neg (by omega)
theorem z_go {g : e_G} {p : Program} {e : Env} {R : Room} {s : State} {m : MethodId} {args : Array Value} {below : List Frame} {meth : Method} {c : Code} {R0 Rf : List Value} {H H1 : Heap} {locs : List Loc} {cells slots nc ns kd : Nat} {ls : Array Slot} {sr : List Value} {q : Addr} {ce : Cell}
    (hA : e_At g M d p R s m meth c) (hk : 70 ≤ kd ∧ kd < 80) (hS : e_S g R0 Rf h H locs s R cells slots (kc + nc) (ks + ns)) (hl : e_ls Rf M.2.2.1 al ls) (k : e_T M pc al (e_push h (kd, 0, fun _ => .null)) h.2 kc ks d Q)
    (hq : H.size ≤ q) (ho : ∀ q : Nat, q < H.size → H1[q]? = H[q]?) (hce : H1[q]? = some ce) (hv : ce.vm = .none) (hcl : s.vm.findClass (e_nm kd) = some ce.cls) :
    vx_W p g.1 e R s m args below meth c H1 locs (cells + nc) (slots + ns) (vx_MQ below (e_Qc g R0 Q) (e_Xc g R0 Q) args s R.cells R.slots (fun q => g.2.1.heap.size ≤ q)) (F0 m pc ls sr) q := by
  have hlen := e_H_len hS.2.1
  refine k g p e R s m args below meth c R0 hA (Rf ++ [.ref q]) H1 locs (cells + nc) (slots + ns) ls sr q ce (e_S_push hS (by omega) (by omega) hq (Array.getElem?_eq_some_iff.mp hce).1 ho (z_exo hA hk hce hv hcl)) (e_ls_app hl (List.prefix_append _ _)) ?_ hce hv ?_
  · rw [hlen, List.getElem?_append_right (Nat.le_refl _), Nat.sub_self]
    rfl
  · rw [e_push_at]
    show s.vm.findClass (e_cn kd) = _
    rw [z_cn hk.1]
    exact hcl
theorem e_vmT {g : e_G} {p : Program} {e : Env} {R : Room} {s : State} {m : MethodId} {args : Array Value} {below : List Frame} {meth : Method} {c : Code} {R0 Rf : List Value} {H : Heap} {locs : List Loc} {cells slots nb kd : Nat} {ls : Array Slot} {sr : List Value} {names : List String} {text : String}
    (hA : e_At g M d p R s m meth c) (hk : 70 ≤ kd ∧ kd < 80) (hS : e_S g R0 Rf h H locs s R cells slots (kc + 3) (ks + (nb + 10))) (hl : e_ls Rf M.2.2.1 al ls) (h8 : (sr.map fun v => v.category).sum ≤ 700)
    (hw : z_wok (vx_atM (e_nm kd) names) = true) (hfit : Bundle.fit (e_nm kd) = true) (hnames : ∀ n ∈ names, Bundle.fit n = true) (hlen : names.length ≤ 3) (hsoe : (e_nm kd == "java/lang/StackOverflowError") = false) (hoom : (e_nm kd == "java/lang/OutOfMemoryError") = false)
    (htext : (text == notModelled) = false) (hnb : (stringBytes (stringToUtf16 text)).size ≤ nb) (hnb1 : nb ≤ 1000) (k : e_T M pc al (e_push h (kd, 0, fun _ => .null)) h.2 kc ks d Q) :
    vx_Note p g.1 e R s m args below meth c H locs cells slots (vx_MQ below (e_Qc g R0 Q) (e_Xc g R0 Q) args s R.cells R.slots (fun q => g.2.1.heap.size ≤ q)) (F0 m pc ls sr) (e_nm kd) text := by
  have hw2 := z_hat (args := args) hA hw
  have hRs := hS.2.1.1
  have hfr := hA.2.2.2.2.2.2.2.2.2.2.1
  have hlo := hA.2.2.2.2.2.2.2.2.2.2.2.1
  have hS4 := hS.2.2.2.1
  have hS5 := hS.2.2.2.2.1
  exact z_vm hA.2.1 (z_tr hA) (nb := nb) (A := fun a => g.2.1.heap.size ≤ a) hfit hnames hsoe hoom hw2.1 hw2.2 (z_Zq hA hRs.2.2.2.1) (z_Zq hA hRs.2.2.2.2.1) (z_vaS hA hS) (by rw [hA.2.2.2.1]; exact hl.2.1) htext hnb hnb1 (by omega) (by omega) (by omega) (by omega) (by omega) hA.2.2.2.2.2.1
    (fun H1 q9 ce hq9 hz ho hva hce hv hcl => z_go hA hk hS hl k hq9 ho hce hv hcl)
theorem e_npT {g : e_G} {p : Program} {e : Env} {R : Room} {s : State} {m : MethodId} {args : Array Value} {below : List Frame} {meth : Method} {c : Code} {R0 Rf : List Value} {H : Heap} {locs : List Loc} {cells slots : Nat} {ls : Array Slot} {sr : List Value}
    (hA : e_At g M d p R s m meth c) (hS : e_S g R0 Rf h H locs s R cells slots (kc + 1) (ks + 8)) (hl : e_ls Rf M.2.2.1 al ls) (h8 : (sr.map fun v => v.category).sum ≤ 700) (k : e_T M pc al (e_push h (71, 0, fun _ => .null)) h.2 kc ks d Q) :
    vx_NoteN p g.1 e R s m args below meth c H locs cells slots (vx_MQ below (e_Qc g R0 Q) (e_Xc g R0 Q) args s R.cells R.slots (fun q => g.2.1.heap.size ≤ q)) (F0 m pc ls sr) := by
  have hw2 := z_hat (args := args) hA z_m71
  have hRs := hS.2.1.1
  have hfr := hA.2.2.2.2.2.2.2.2.2.2.1
  have hlo := hA.2.2.2.2.2.2.2.2.2.2.2.1
  have hS4 := hS.2.2.2.1
  have hS5 := hS.2.2.2.2.1
  exact z_npe hA.2.1 (z_tr hA) (nb := 8) (A := fun a => g.2.1.heap.size ≤ a) hw2.1 hw2.2 (z_Zq hA hRs.2.2.2.1) (z_Zq hA hRs.2.2.2.2.1) (z_vaS hA hS) (by rw [hA.2.2.2.1]; exact hl.2.1) (by omega) (by omega) (by omega) (by omega) hA.2.2.2.2.2.1
    (fun H1 q9 ce hq9 hz ho hva hce hv hcl => z_go (kd := 71) hA ⟨by omega, by omega⟩ hS hl k hq9 ho hce hv hcl)
theorem z_cat {g : e_G} {Rf : List Value} {H : Heap} (hH : e_H g Rf h H) {a b : List Value} (hv : e_vs Rf a b) (h8 : Nat.ble ((a.map fun v => v.category).sum) 8 = true) : (b.map fun v => v.category).sum ≤ 8 := by
  rw [e_cat8 hH hv]
  exact Nat.le_of_ble_eq_true h8
/-- a negative length -/
theorem e_newarrZ {n : Int} {aty : ArrayType} (hd : decode M.2.1 pc = .ok (.newarray aty, 2)) (hn : n < 0) (hr : e_rg n) (h8 : Nat.ble ((st.map fun v => v.category).sum) 8 = true) (k : e_T M pc al (e_push h (70, 0, fun _ => .null)) h.2 kc ks d Q) : e_E M pc al (e_i n :: st) h (kc + 3) (ks + 54) d Q := by
  intro g p e R s m args below meth c R0 hA Rf H locs cells slots ls sr hS hl hv
  obtain ⟨w, bs, rfl, g1, g2⟩ := e_vs_c hv
  cases g1
  have hlt : Int32.ofInt n < 0 := by rw [Int32.lt_iff_toInt_lt, e_ti hr]; exact hn
  have h9 := z_cat hS.2.1 g2 h8
  refine vx_newarrayZ hA.2.1 hA.2.2.1 hlt hd (fun tx htx => ?_)
  subst htx
  exact e_vmT (kd := 70) (nb := 44) (names := z_rN) hA ⟨by omega, by omega⟩ hS hl (by omega) z_m70 (by decide +kernel) (by decide +kernel) (by decide) (by decide +kernel) (by decide +kernel) (negative_text_modelled hlt) (negative_text_bytes _) (by omega) k
/-- caught -/
theorem e_catch {i : Nat} {name : String} (pre : List (Nat × Nat × Nat × Nat)) (x : Nat × Nat × Nat × Nat) (suf : List (Nat × Nat × Nat × Nat)) (hsplit : M.2.2.2.2 = pre ++ x :: suf)
    (hpass : ∀ z ∈ pre, ¬ (z.1 ≤ pc ∧ pc < z.2.1) ∨ (z.2.2.2 ≠ 0 ∧ ∃ nm : String, Cond.classLink M.1.cls z.2.2.2 nm ∈ lw_all ∧ Cond.not (.castable (e_cn (h.1 i).1) nm) ∈ flatC (Jvm.Cond.and given_1 narrow_1))) (hx : x.1 ≤ pc ∧ pc < x.2.1) (h0 : x.2.2.2 ≠ 0)
    (hlink : Cond.classLink M.1.cls x.2.2.2 name ∈ lw_all) (hcast : Cond.castable (e_cn (h.1 i).1) name ∈ lw_tbl) (kk : e_E M x.2.2.1 al [.ref i] h kc ks d Q) : e_T M pc al h i kc ks d Q := by
  intro g p e R s m args below meth c R0 hA Rf H locs cells slots ls sr q ce hS hl hi hq hce hcl
  obtain ⟨b, -, hb⟩ := hA.1.2.1
  have hflat := flat_of_before _ hb
  have hcov : ∀ z : Nat × Nat × Nat × Nat, covers (⟨z.1, z.2.1, z.2.2.1, z.2.2.2⟩ : ExceptionTableEntry) pc = (decide (z.1 ≤ pc) && decide (pc < z.2.1)) := fun z => rfl
  refine vx_catch (own := M.1.cls) (name := name) hA.2.2.2.2.2.2.1 (tableOf pre) ⟨x.1, x.2.1, x.2.2.1, x.2.2.2⟩ (tableOf suf) ?_ (fun z hz => ?_) ?_ h0 (e_w hA hlink) (va_Nw.use rfl (e_wC hA hcast)) hq hce hcl (kk g p e R s m args below meth c R0 hA Rf H locs cells slots ls [.ref q] hS hl ⟨hi, trivial⟩)
  · rw [hA.2.2.2.2.2.2.2.2.2.1, hsplit]
    simp [tableOf]
  · obtain ⟨y, hy, rfl⟩ := List.mem_map.mp hz
    rcases hpass y hy with q | ⟨q, nm, q1, q2⟩
    · refine Or.inl ?_
      rw [hcov]
      by_cases z1 : y.1 ≤ pc
      · rw [decide_eq_false (p := pc < y.2.1) (fun z2 => q ⟨z1, z2⟩), Bool.and_false]
      · rw [decide_eq_false z1, Bool.false_and]
    · exact Or.inr ⟨q, nm, e_w hA q1, va_Nc.moved (e_alk hA) (va_Nc.of (hflat _ q2))⟩
  · rw [hcov, decide_eq_true hx.1, decide_eq_true hx.2]
    rfl
end EEXC
