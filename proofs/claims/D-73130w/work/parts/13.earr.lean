/-! ARRAYS, NEW OBJECTS, STATICS (printed by gen_arr.py) -/
set_option maxRecDepth 100000
section EARR
variable {M : e_M} {pc : Nat} {al st : List Value} {h : e_A} {kc ks d : Nat} {Q : e_R → e_A → Prop}
theorem e_ofN (n : Nat) : Int32.ofInt (n : Int) = Int32.ofNat n := by
  rw [← Int32.toInt_inj]
  simp
theorem e_ofNl (n : Nat) : Int64.ofInt (n : Int) = Int64.ofNat n := by
  rw [← Int64.toInt_inj]
  simp
theorem e_cl_n {j : Int} {n : Nat} (hj : j = (n : Int)) (hn : n < 2147483648) : (Int32.ofInt j).toNatClampNeg = n ∧ ¬ Int32.ofInt j < 0 := by
  subst hj
  have h1 : (Int32.ofInt (n : Int)).toInt = (n : Int) := e_ti ⟨by omega, by omega⟩
  refine ⟨by show (Int32.ofInt (n : Int)).toInt.toNat = n; rw [h1]; simp, ?_⟩
  rw [Int32.lt_iff_toInt_lt, h1]
  show ¬ (n : Int) < 0
  omega
/-- an array, of ours or of the start -/
theorem e_o_arr {g : e_G} {R : List Value} {kd n : Nat} {f : Nat → Value} {w : Value} {H : Heap} (hk : 50 ≤ kd ∧ kd < 70) (ho : e_o g R (kd, n, f) w H) : ∃ (a : Nat) (cell : Cell), w = .ref a ∧ H[a]? = some cell ∧ g.2.1.isArrayOf cell (e_ty kd) ∧ cell.vm ≠ .unknown ∧ n ≤ cell.slots.size ∧ cell.slots.size.toInt32 = Int32.ofNat n ∧ ∀ j, j < n → ∃ z, cell.slots[j]? = some z ∧ e_v R (f j) z := by
  rcases ho with ⟨h0, -⟩ | ⟨h0, h9, a, cA, z, h1, h2, h3, h4, h5⟩ | ⟨h0, h9, a, cell, h1, h2, h3, h4, h5, h6, h8, h7⟩ | ⟨h0, -⟩ | ⟨h0, -⟩
  · exact absurd h0 (by dsimp only; omega)
  · exact ⟨a, arrV cA n z, h1, h2, h3 _ _, (show (arrV cA n z).vm ≠ .unknown from fun q => by cases q), (Nat.le_of_eq (arrV_size _ _ _).symm), (congrArg Nat.toInt32 (arrV_size _ _ _)), fun j hj => ⟨z j, arrV_read _ _ hj, h5 j hj⟩⟩
  · exact ⟨a, cell, h1, h2, h3, h4, h6, h8, h7⟩
  · exact absurd h0 (by dsimp only; omega)
  · exact absurd h0 (by dsimp only; omega)
theorem e_alk {g : e_G} {p : Program} {R : Room} {s : State} {m : MethodId} {meth : Method} {c : Code} (hA : e_At g M d p R s m meth c) : g.2.1.vm.Alike s.vm := hA.2.2.2.2.2.2.2.2.1.alike
theorem e_alen {kd n i : Nat} {f : Nat → Value} (hd : decode M.2.1 pc = .ok (.arraylength, 1)) (ho : h.1 i = (kd, n, f)) (hk : 50 ≤ kd ∧ kd < 70) (kk : e_E M (pc + 1) al (e_i (n : Int) :: st) h kc ks d Q) : e_E M pc al (.ref i :: st) h kc ks d Q := by
  intro g p e R s m args below meth c R0 hA Rf H locs cells slots ls sr hS hl hv
  obtain ⟨b, bs, rfl, h1, h2⟩ := e_vs_c hv
  have ho2 := e_obj hS.2.1 h1
  rw [ho] at ho2
  obtain ⟨a, cell, rfl, hcell, harr, hun, hsz, hsz2, hel⟩ := e_o_arr hk ho2
  refine W.alen hA.2.1 hA.2.2.1 hcell (State.isArrayOf_alike (e_alk hA) harr) hsz2 rfl rfl hd ?_
  have := kk g p e R s m args below meth c R0 hA Rf H locs cells slots ls (.int (Int32.ofNat n) :: bs) hS hl ⟨by show Value.int (Int32.ofNat n) = Value.int (Int32.ofInt n); rw [e_ofN], h2⟩
  exact this
theorem e_iald {kd n i : Nat} {f : Nat → Value} {j : Int} (jn : Nat) (hd : decode M.2.1 pc = .ok (.iaload, 1)) (ho : h.1 i = (kd, n, f)) (hk : kd = 50 ∨ kd = 60) (hj : j = (jn : Int)) (hlt : jn < n) (hb0 : jn < 2147483648) (kk : e_E M (pc + 1) al (f jn :: st) h kc ks d Q) : e_E M pc al (e_i j :: .ref i :: st) h kc ks d Q := by
  intro g p e R s m args below meth c R0 hA Rf H locs cells slots ls sr hS hl hv
  obtain ⟨b0, bs, rfl, h1, h2⟩ := e_vs_c hv
  cases h1
  obtain ⟨b, bs, rfl, h3, h4⟩ := e_vs_c h2
  have ho2 := e_obj hS.2.1 h3
  rw [ho] at ho2
  have hty : e_ty kd = .int := by rcases hk with rfl | rfl <;> rfl
  obtain ⟨a, cell, rfl, hcell, harr, hun, hsz, hsz2, hel⟩ := e_o_arr (by omega) ho2
  obtain ⟨z, hz, hvz⟩ := hel jn hlt
  obtain ⟨e1, e2⟩ := e_cl_n hj hb0
  rw [hty] at harr
  exact W.iald hA.2.1 hA.2.2.1 hcell (State.isArrayOf_alike (e_alk hA) harr) hun (by rw [e1]; intro q; rcases q with q | q <;> first | exact e2 q | omega) (by rw [e1]; exact hz) rfl rfl hd (kk g p e R s m args below meth c R0 hA Rf H locs cells slots ls _ hS hl ⟨hvz, h4⟩)
theorem e_bald {kd n i : Nat} {f : Nat → Value} {j : Int} (jn : Nat) (hd : decode M.2.1 pc = .ok (.baload, 1)) (ho : h.1 i = (kd, n, f)) (hk : kd = 52 ∨ kd = 61) (hj : j = (jn : Int)) (hlt : jn < n) (hb0 : jn < 2147483648) (kk : e_E M (pc + 1) al (f jn :: st) h kc ks d Q) : e_E M pc al (e_i j :: .ref i :: st) h kc ks d Q := by
  intro g p e R s m args below meth c R0 hA Rf H locs cells slots ls sr hS hl hv
  obtain ⟨b0, bs, rfl, h1, h2⟩ := e_vs_c hv
  cases h1
  obtain ⟨b, bs, rfl, h3, h4⟩ := e_vs_c h2
  have ho2 := e_obj hS.2.1 h3
  rw [ho] at ho2
  have hty : e_ty kd = .byte := by rcases hk with rfl | rfl <;> rfl
  obtain ⟨a, cell, rfl, hcell, harr, hun, hsz, hsz2, hel⟩ := e_o_arr (by omega) ho2
  obtain ⟨z, hz, hvz⟩ := hel jn hlt
  obtain ⟨e1, e2⟩ := e_cl_n hj hb0
  rw [hty] at harr
  exact W.bald hA.2.1 hA.2.2.1 hcell (State.isArrayOf_alike (e_alk hA) harr) hun (by rw [e1]; intro q; rcases q with q | q <;> first | exact e2 q | omega) (by rw [e1]; exact hz) rfl rfl hd (kk g p e R s m args below meth c R0 hA Rf H locs cells slots ls _ hS hl ⟨hvz, h4⟩)
theorem e_zald {kd n i : Nat} {f : Nat → Value} {j : Int} (jn : Nat) (hd : decode M.2.1 pc = .ok (.baload, 1)) (ho : h.1 i = (kd, n, f)) (hk : kd = 51) (hj : j = (jn : Int)) (hlt : jn < n) (hb0 : jn < 2147483648) (kk : e_E M (pc + 1) al (f jn :: st) h kc ks d Q) : e_E M pc al (e_i j :: .ref i :: st) h kc ks d Q := by
  intro g p e R s m args below meth c R0 hA Rf H locs cells slots ls sr hS hl hv
  obtain ⟨b0, bs, rfl, h1, h2⟩ := e_vs_c hv
  cases h1
  obtain ⟨b, bs, rfl, h3, h4⟩ := e_vs_c h2
  have ho2 := e_obj hS.2.1 h3
  rw [ho] at ho2
  have hty : e_ty kd = .boolean := by rcases hk with rfl <;> rfl
  obtain ⟨a, cell, rfl, hcell, harr, hun, hsz, hsz2, hel⟩ := e_o_arr (by omega) ho2
  obtain ⟨z, hz, hvz⟩ := hel jn hlt
  obtain ⟨e1, e2⟩ := e_cl_n hj hb0
  rw [hty] at harr
  exact W.zald hA.2.1 hA.2.2.1 hcell (State.isArrayOf_alike (e_alk hA) harr) hun (by rw [e1]; intro q; rcases q with q | q <;> first | exact e2 q | omega) (by rw [e1]; exact hz) rfl rfl hd (kk g p e R s m args below meth c R0 hA Rf H locs cells slots ls _ hS hl ⟨hvz, h4⟩)
theorem e_sald {kd n i : Nat} {f : Nat → Value} {j : Int} (jn : Nat) (hd : decode M.2.1 pc = .ok (.saload, 1)) (ho : h.1 i = (kd, n, f)) (hk : kd = 53) (hj : j = (jn : Int)) (hlt : jn < n) (hb0 : jn < 2147483648) (kk : e_E M (pc + 1) al (f jn :: st) h kc ks d Q) : e_E M pc al (e_i j :: .ref i :: st) h kc ks d Q := by
  intro g p e R s m args below meth c R0 hA Rf H locs cells slots ls sr hS hl hv
  obtain ⟨b0, bs, rfl, h1, h2⟩ := e_vs_c hv
  cases h1
  obtain ⟨b, bs, rfl, h3, h4⟩ := e_vs_c h2
  have ho2 := e_obj hS.2.1 h3
  rw [ho] at ho2
  have hty : e_ty kd = .short := by rcases hk with rfl <;> rfl
  obtain ⟨a, cell, rfl, hcell, harr, hun, hsz, hsz2, hel⟩ := e_o_arr (by omega) ho2
  obtain ⟨z, hz, hvz⟩ := hel jn hlt
  obtain ⟨e1, e2⟩ := e_cl_n hj hb0
  rw [hty] at harr
  exact W.sald hA.2.1 hA.2.2.1 hcell (State.isArrayOf_alike (e_alk hA) harr) hun (by rw [e1]; intro q; rcases q with q | q <;> first | exact e2 q | omega) (by rw [e1]; exact hz) rfl rfl hd (kk g p e R s m args below meth c R0 hA Rf H locs cells slots ls _ hS hl ⟨hvz, h4⟩)
theorem e_lald {kd n i : Nat} {f : Nat → Value} {j : Int} (jn : Nat) (hd : decode M.2.1 pc = .ok (.laload, 1)) (ho : h.1 i = (kd, n, f)) (hk : kd = 54) (hj : j = (jn : Int)) (hlt : jn < n) (hb0 : jn < 2147483648) (kk : e_E M (pc + 1) al (f jn :: st) h kc ks d Q) : e_E M pc al (e_i j :: .ref i :: st) h kc ks d Q := by
  intro g p e R s m args below meth c R0 hA Rf H locs cells slots ls sr hS hl hv
  obtain ⟨b0, bs, rfl, h1, h2⟩ := e_vs_c hv
  cases h1
  obtain ⟨b, bs, rfl, h3, h4⟩ := e_vs_c h2
  have ho2 := e_obj hS.2.1 h3
  rw [ho] at ho2
  have hty : e_ty kd = .long := by rcases hk with rfl <;> rfl
  obtain ⟨a, cell, rfl, hcell, harr, hun, hsz, hsz2, hel⟩ := e_o_arr (by omega) ho2
  obtain ⟨z, hz, hvz⟩ := hel jn hlt
  obtain ⟨e1, e2⟩ := e_cl_n hj hb0
  rw [hty] at harr
  exact W.lald hA.2.1 hA.2.2.1 hcell (State.isArrayOf_alike (e_alk hA) harr) hun (by rw [e1]; intro q; rcases q with q | q <;> first | exact e2 q | omega) (by rw [e1]; exact hz) rfl rfl hd (kk g p e R s m args below meth c R0 hA Rf H locs cells slots ls _ hS hl ⟨hvz, h4⟩)
theorem e_aald {kd n i : Nat} {f : Nat → Value} {j : Int} (jn : Nat) (hd : decode M.2.1 pc = .ok (.aaload, 1)) (ho : h.1 i = (kd, n, f)) (hk : (55 ≤ kd ∧ kd < 60) ∨ kd = 62 ∨ kd = 63) (hj : j = (jn : Int)) (hlt : jn < n) (hb0 : jn < 2147483648) (kk : e_E M (pc + 1) al (f jn :: st) h kc ks d Q) : e_E M pc al (e_i j :: .ref i :: st) h kc ks d Q := by
  intro g p e R s m args below meth c R0 hA Rf H locs cells slots ls sr hS hl hv
  obtain ⟨b0, bs, rfl, h1, h2⟩ := e_vs_c hv
  cases h1
  obtain ⟨b, bs, rfl, h3, h4⟩ := e_vs_c h2
  have ho2 := e_obj hS.2.1 h3
  rw [ho] at ho2
  have hty : (e_ty kd).isReference = true := by
    rcases hk with ⟨q1, q2⟩ | rfl | rfl
    · have : kd = 55 ∨ kd = 56 ∨ kd = 57 ∨ kd = 58 ∨ kd = 59 := by omega
      rcases this with rfl | rfl | rfl | rfl | rfl <;> rfl
    · rfl
    · rfl
  obtain ⟨a, cell, rfl, hcell, harr, hun, hsz, hsz2, hel⟩ := e_o_arr (by omega) ho2
  obtain ⟨z, hz, hvz⟩ := hel jn hlt
  obtain ⟨e1, e2⟩ := e_cl_n hj hb0
  exact W.aald hA.2.1 hA.2.2.1 hcell (State.isArrayOf_alike (e_alk hA) harr) hty hun (by rw [e1]; intro q; rcases q with q | q <;> first | exact e2 q | omega) (by rw [e1]; exact hz) rfl rfl hd (kk g p e R s m args below meth c R0 hA Rf H locs cells slots ls _ hS hl ⟨hvz, h4⟩)
/-- an array of ours -/
theorem e_o_own {g : e_G} {R : List Value} {kd n : Nat} {f : Nat → Value} {w : Value} {H : Heap} (hk : 50 ≤ kd ∧ kd < 60) (ho : e_o g R (kd, n, f) w H) : ∃ (a : Nat) (cA : ClassId) (z : Nat → Value), w = .ref a ∧ H[a]? = some (arrV cA n z) ∧ ArrOfT g.2.1 cA (e_ty kd) ∧ va_RA g.2.1 cA (e_ty kd) ∧ ∀ j, j < n → e_v R (f j) (z j) := by
  rcases ho with ⟨h0, -⟩ | ⟨h0, h9, a, cA, z, h1, h2, h3, h4, h5⟩ | ⟨h0, -⟩ | ⟨h0, -⟩ | ⟨h0, -⟩
  · exact absurd h0 (by dsimp only; omega)
  · exact ⟨a, cA, z, h1, h2, h3, h4, h5⟩
  · exact absurd h0 (by dsimp only; omega)
  · exact absurd h0 (by dsimp only; omega)
  · exact absurd h0 (by dsimp only; omega)
/-- the world behind a store into an array -/
theorem e_S_arr {g : e_G} {R0 Rf : List Value} {H H1 : Heap} {locs : List Loc} {s : State} {R : Room} {cells slots kd n i a j : Nat} {f z : Nat → Value} {cA : ClassId} {v w : Value} (hS : e_S g R0 Rf h H locs s R cells slots kc ks) (hk : 50 ≤ kd ∧ kd < 60) (hi0 : 350 ≤ i) (h3 : e_v Rf (.ref i) (.ref a)) (t3 : ArrOfT g.2.1 cA (e_ty kd)) (t4 : va_RA g.2.1 cA (e_ty kd)) (t5 : ∀ j, j < n → e_v Rf (f j) (z j)) (hv : e_v Rf v w)
    (e1 : H1[a]? = some ((arrV cA n z).setSlot j w)) (e2 : H1.size = H.size) (e3 : ∀ q, q ≠ a → H1[q]? = H[q]?) : e_S g R0 Rf (e_set h i (kd, n, updV f j v)) H1 (locs ++ [⟨a, j⟩]) s R cells slots kc ks := by
  refine ⟨hS.1, e_H_set hS.2.1 hi0 h3 e2 e3 ?_, ?_, hS.2.2.2.1, hS.2.2.2.2.1, by rw [e2]; exact hS.2.2.2.2.2⟩
  · refine Or.inr (Or.inl ⟨hk.1, hk.2, a, cA, updV z j w, rfl, ?_, t3, t4, fun q hq => ?_⟩)
    · rw [e1, arrV_store]
    · show e_v Rf (updV f j v q) (updV z j w q)
      by_cases hqj : q = j
      · subst hqj
        simp only [updV, if_pos]
        exact hv
      · simp only [updV, if_neg hqj]
        exact t5 q hq
  · intro q hq
    rcases List.mem_append.mp hq with q1 | q1
    · exact hS.2.2.1 q q1
    · rw [List.mem_singleton.mp q1]
      exact hS.2.1.2.2.2.2.2.2.1 i a hi0 h3
theorem e_iast {n i : Nat} {f : Nat → Value} {j : Int} {x : Int32} {v : Value} (jn : Nat) (hd : decode M.2.1 pc = .ok (.iastore, 1)) (ho : h.1 i = (50, n, f)) (hi0 : 350 ≤ i) (hv9 : .int x = v) (hj : j = (jn : Int)) (hlt : jn < n) (hb0 : jn < 2147483648) (kk : e_E M (pc + 1) al st (e_set h i (50, n, updV f jn v)) kc ks d Q) : e_E M pc al (.int x :: e_i j :: .ref i :: st) h kc ks d Q := by
  intro g p e R s m args below meth c R0 hA Rf H locs cells slots ls sr hS hl hv
  obtain ⟨w, bs1, rfl, g1, g2⟩ := e_vs_c hv
  cases g1
  obtain ⟨b0, bs2, rfl, g3, g4⟩ := e_vs_c g2
  cases g3
  obtain ⟨b, bs, rfl, h3, h4⟩ := e_vs_c g4
  have ho2 := e_obj hS.2.1 h3
  rw [ho] at ho2
  obtain ⟨a, cA, z, rfl, hcell, t3, t4, t5⟩ := e_o_own (by omega) ho2
  obtain ⟨e1, e2⟩ := e_cl_n hj hb0
  refine W.iast hA.2.1 hA.2.2.1 hcell (State.isArrayOf_alike (e_alk hA) (t3 n z)) (fun q => by cases q) (by rw [e1, arrV_size]; intro q; rcases q with q | q <;> first | exact e2 q | omega) rfl rfl hd (fun H1 g1 g2 g3 => ?_)
  rw [e1] at g1 ⊢
  subst hv9
  exact kk g p e R s m args below meth c R0 hA Rf H1 _ cells slots ls bs (e_S_arr hS (by omega) hi0 h3 t3 t4 t5 rfl g1 g2 g3) hl h4
theorem e_bast {n i : Nat} {f : Nat → Value} {j : Int} {x : Int32} {v : Value} (jn : Nat) (hd : decode M.2.1 pc = .ok (.bastore, 1)) (ho : h.1 i = (52, n, f)) (hi0 : 350 ≤ i) (hv9 : narrow .byte (.int x) = v) (hj : j = (jn : Int)) (hlt : jn < n) (hb0 : jn < 2147483648) (kk : e_E M (pc + 1) al st (e_set h i (52, n, updV f jn v)) kc ks d Q) : e_E M pc al (.int x :: e_i j :: .ref i :: st) h kc ks d Q := by
  intro g p e R s m args below meth c R0 hA Rf H locs cells slots ls sr hS hl hv
  obtain ⟨w, bs1, rfl, g1, g2⟩ := e_vs_c hv
  cases g1
  obtain ⟨b0, bs2, rfl, g3, g4⟩ := e_vs_c g2
  cases g3
  obtain ⟨b, bs, rfl, h3, h4⟩ := e_vs_c g4
  have ho2 := e_obj hS.2.1 h3
  rw [ho] at ho2
  obtain ⟨a, cA, z, rfl, hcell, t3, t4, t5⟩ := e_o_own (by omega) ho2
  obtain ⟨e1, e2⟩ := e_cl_n hj hb0
  refine W.bast hA.2.1 hA.2.2.1 hcell (State.isArrayOf_alike (e_alk hA) (t3 n z)) (fun q => by cases q) (by rw [e1, arrV_size]; intro q; rcases q with q | q <;> first | exact e2 q | omega) rfl rfl hd (fun H1 g1 g2 g3 => ?_)
  rw [e1] at g1 ⊢
  subst hv9
  exact kk g p e R s m args below meth c R0 hA Rf H1 _ cells slots ls bs (e_S_arr hS (by omega) hi0 h3 t3 t4 t5 rfl g1 g2 g3) hl h4
theorem e_zast {n i : Nat} {f : Nat → Value} {j : Int} {x : Int32} {v : Value} (jn : Nat) (hd : decode M.2.1 pc = .ok (.bastore, 1)) (ho : h.1 i = (51, n, f)) (hi0 : 350 ≤ i) (hv9 : narrow .boolean (.int x) = v) (hj : j = (jn : Int)) (hlt : jn < n) (hb0 : jn < 2147483648) (kk : e_E M (pc + 1) al st (e_set h i (51, n, updV f jn v)) kc ks d Q) : e_E M pc al (.int x :: e_i j :: .ref i :: st) h kc ks d Q := by
  intro g p e R s m args below meth c R0 hA Rf H locs cells slots ls sr hS hl hv
  obtain ⟨w, bs1, rfl, g1, g2⟩ := e_vs_c hv
  cases g1
  obtain ⟨b0, bs2, rfl, g3, g4⟩ := e_vs_c g2
  cases g3
  obtain ⟨b, bs, rfl, h3, h4⟩ := e_vs_c g4
  have ho2 := e_obj hS.2.1 h3
  rw [ho] at ho2
  obtain ⟨a, cA, z, rfl, hcell, t3, t4, t5⟩ := e_o_own (by omega) ho2
  obtain ⟨e1, e2⟩ := e_cl_n hj hb0
  refine W.zast hA.2.1 hA.2.2.1 hcell (State.isArrayOf_alike (e_alk hA) (t3 n z)) (fun q => by cases q) (by rw [e1, arrV_size]; intro q; rcases q with q | q <;> first | exact e2 q | omega) rfl rfl hd (fun H1 g1 g2 g3 => ?_)
  rw [e1] at g1 ⊢
  subst hv9
  exact kk g p e R s m args below meth c R0 hA Rf H1 _ cells slots ls bs (e_S_arr hS (by omega) hi0 h3 t3 t4 t5 rfl g1 g2 g3) hl h4
theorem e_sast {n i : Nat} {f : Nat → Value} {j : Int} {x : Int32} {v : Value} (jn : Nat) (hd : decode M.2.1 pc = .ok (.sastore, 1)) (ho : h.1 i = (53, n, f)) (hi0 : 350 ≤ i) (hv9 : narrow .short (.int x) = v) (hj : j = (jn : Int)) (hlt : jn < n) (hb0 : jn < 2147483648) (kk : e_E M (pc + 1) al st (e_set h i (53, n, updV f jn v)) kc ks d Q) : e_E M pc al (.int x :: e_i j :: .ref i :: st) h kc ks d Q := by
  intro g p e R s m args below meth c R0 hA Rf H locs cells slots ls sr hS hl hv
  obtain ⟨w, bs1, rfl, g1, g2⟩ := e_vs_c hv
  cases g1
  obtain ⟨b0, bs2, rfl, g3, g4⟩ := e_vs_c g2
  cases g3
  obtain ⟨b, bs, rfl, h3, h4⟩ := e_vs_c g4
  have ho2 := e_obj hS.2.1 h3
  rw [ho] at ho2
  obtain ⟨a, cA, z, rfl, hcell, t3, t4, t5⟩ := e_o_own (by omega) ho2
  obtain ⟨e1, e2⟩ := e_cl_n hj hb0
  refine W.sast hA.2.1 hA.2.2.1 hcell (State.isArrayOf_alike (e_alk hA) (t3 n z)) (fun q => by cases q) (by rw [e1, arrV_size]; intro q; rcases q with q | q <;> first | exact e2 q | omega) rfl rfl hd (fun H1 g1 g2 g3 => ?_)
  rw [e1] at g1 ⊢
  subst hv9
  exact kk g p e R s m args below meth c R0 hA Rf H1 _ cells slots ls bs (e_S_arr hS (by omega) hi0 h3 t3 t4 t5 rfl g1 g2 g3) hl h4
theorem e_last {n i : Nat} {f : Nat → Value} {j : Int} {x : Int64} {v : Value} (jn : Nat) (hd : decode M.2.1 pc = .ok (.lastore, 1)) (ho : h.1 i = (54, n, f)) (hi0 : 350 ≤ i) (hv9 : .long x = v) (hj : j = (jn : Int)) (hlt : jn < n) (hb0 : jn < 2147483648) (kk : e_E M (pc + 1) al st (e_set h i (54, n, updV f jn v)) kc ks d Q) : e_E M pc al (.long x :: e_i j :: .ref i :: st) h kc ks d Q := by
  intro g p e R s m args below meth c R0 hA Rf H locs cells slots ls sr hS hl hv
  obtain ⟨w, bs1, rfl, g1, g2⟩ := e_vs_c hv
  cases g1
  obtain ⟨b0, bs2, rfl, g3, g4⟩ := e_vs_c g2
  cases g3
  obtain ⟨b, bs, rfl, h3, h4⟩ := e_vs_c g4
  have ho2 := e_obj hS.2.1 h3
  rw [ho] at ho2
  obtain ⟨a, cA, z, rfl, hcell, t3, t4, t5⟩ := e_o_own (by omega) ho2
  obtain ⟨e1, e2⟩ := e_cl_n hj hb0
  refine W.last hA.2.1 hA.2.2.1 hcell (State.isArrayOf_alike (e_alk hA) (t3 n z)) (fun q => by cases q) (by rw [e1, arrV_size]; intro q; rcases q with q | q <;> first | exact e2 q | omega) rfl rfl hd (fun H1 g1 g2 g3 => ?_)
  rw [e1] at g1 ⊢
  subst hv9
  exact kk g p e R s m args below meth c R0 hA Rf H1 _ cells slots ls bs (e_S_arr hS (by omega) hi0 h3 t3 t4 t5 rfl g1 g2 g3) hl h4
theorem e_aastN {kd n i : Nat} {f : Nat → Value} {j : Int} (jn : Nat) (hd : decode M.2.1 pc = .ok (.aastore, 1)) (ho : h.1 i = (kd, n, f)) (hk : 55 ≤ kd ∧ kd < 58) (hi0 : 350 ≤ i) (hj : j = (jn : Int)) (hlt : jn < n) (hb0 : jn < 2147483648) (kk : e_E M (pc + 1) al st (e_set h i (kd, n, updV f jn .null)) kc ks d Q) : e_E M pc al (.null :: e_i j :: .ref i :: st) h kc ks d Q := by
  intro g p e R s m args below meth c R0 hA Rf H locs cells slots ls sr hS hl hv
  obtain ⟨w, bs1, rfl, g1, g2⟩ := e_vs_c hv
  cases g1
  obtain ⟨b0, bs2, rfl, g3, g4⟩ := e_vs_c g2
  cases g3
  obtain ⟨b, bs, rfl, h3, h4⟩ := e_vs_c g4
  have ho2 := e_obj hS.2.1 h3
  rw [ho] at ho2
  obtain ⟨a, cA, z, rfl, hcell, t3, t4, t5⟩ := e_o_own (by omega) ho2
  obtain ⟨e1, e2⟩ := e_cl_n hj hb0
  have hty : ∃ C : String, e_ty kd = .object C := by
    have : kd = 55 ∨ kd = 56 ∨ kd = 57 := by omega
    rcases this with rfl | rfl | rfl <;> exact ⟨_, rfl⟩
  obtain ⟨C, hty⟩ := hty
  refine va_WaastN (C := C) hA.2.1 hA.2.2.1 hcell (State.isArrayOf_alike (e_alk hA) (by rw [← hty]; exact t3 n z)) (fun q => by cases q) (by rw [e1, arrV_size]; intro q; rcases q with q | q <;> first | exact e2 q | omega) rfl rfl hd (fun H1 g1 g2 g3 => ?_)
  rw [e1] at g1 ⊢
  exact kk g p e R s m args below meth c R0 hA Rf H1 _ cells slots ls bs (e_S_arr hS (by omega) hi0 h3 t3 t4 t5 rfl g1 g2 g3) hl h4
/-- the class of an object, by its name -/
def e_nmk (k : Nat) : String := match e_cl[k]? with
  | some q => q.1
  | none => ""
/-- an object of a class lies in the heap, seen from a method -/
theorem e_recv {g : e_G} {p : Program} {R : Room} {s : State} {m : MethodId} {meth : Method} {c : Code} {Rf : List Value} {ci n : Nat} {f : Nat → Value} {w : Value} {H : Heap} (hA : e_At g M d p R s m meth c) (hk : ci < 15) (ho : e_o g Rf (ci, n, f) w H) : ∃ (a : Nat) (cell : Cell), w = .ref a ∧ H[a]? = some cell ∧ cell.vm.isStatics = false ∧ s.vm.findClass (e_nmk ci) = some cell.cls := by
  have hc : ∃ q, e_cl[ci]? = some q := ⟨_, List.getElem?_eq_getElem hk⟩
  obtain ⟨⟨C, T, N⟩, hc⟩ := hc
  obtain ⟨a, cell, h1, h2, h3, h4, -⟩ := e_o_inst hc ho
  refine ⟨a, cell, h1, h2, ?_, ?_⟩
  · rcases h4 with q | ⟨-, q, -⟩
    · rw [q]; rfl
    · exact q
  · have := (e_Kn hA hc).2.1
    rw [h3]
    unfold e_nmk
    rw [hc]
    exact this
/-- storing an object of class ci into an array of objects: castable, or the same class -/
theorem e_aast {kd n i ci y n2 : Nat} {f f2 : Nat → Value} {j : Int} (jn : Nat) (hd : decode M.2.1 pc = .ok (.aastore, 1)) (ho : h.1 i = (kd, n, f)) (hy : h.1 y = (ci, n2, f2)) (hci : ci < 15) (hk : (kd = 55 ∧ Cond.castable (e_nmk ci) "java/lang/Object" ∈ lw_tbl) ∨ (kd = 56 ∧ ci = 1) ∨ (kd = 57 ∧ ci = 2)) (hi0 : 350 ≤ i) (hj : j = (jn : Int)) (hlt : jn < n) (hb0 : jn < 2147483648) (kk : e_E M (pc + 1) al st (e_set h i (kd, n, updV f jn (.ref y))) kc ks d Q) : e_E M pc al (.ref y :: e_i j :: .ref i :: st) h kc ks d Q := by
  intro g p e R s m args below meth c R0 hA Rf H locs cells slots ls sr hS hl hv
  obtain ⟨w, bs1, rfl, h5, g2⟩ := e_vs_c hv
  obtain ⟨b0, bs2, rfl, g3, g4⟩ := e_vs_c g2
  cases g3
  obtain ⟨b, bs, rfl, h3, h4⟩ := e_vs_c g4
  have ho2 := e_obj hS.2.1 h3
  rw [ho] at ho2
  have ho3 := e_obj hS.2.1 h5
  rw [hy] at ho3
  obtain ⟨v, cv, rfl, hcv, hst, hfc⟩ := e_recv hA hci ho3
  obtain ⟨a, cA, z, rfl, hcell, t3, t4, t5⟩ := e_o_own (by omega) ho2
  obtain ⟨e1, e2⟩ := e_cl_n hj hb0
  obtain ⟨kv, hkv, -⟩ := Vm.findClass_spec hfc
  have main : ∃ (C : String) (comp : ClassId) (kA kcomp : Class), e_ty kd = .object C ∧ s.vm.classes[cA]? = some kA ∧ kA.kind = .array comp (.object C) ∧ s.vm.classes[comp]? = some kcomp ∧ s.vm.assignable cv.cls comp = true := by
    have t4s := t4.moved (e_alk hA)
    rcases hk with ⟨rfl, hcast⟩ | ⟨rfl, rfl⟩ | ⟨rfl, rfl⟩
    · obtain ⟨kA, comp, k1, k2, k3, -⟩ := t4s
      obtain ⟨kcomp, hkc, -⟩ := Vm.findClass_spec k3
      obtain ⟨c1, c2, f1, f2, f3⟩ := Cond.castable_spec (va_Nw.use (A := args) rfl (e_wC hA hcast))
      cases f1.symm.trans hfc
      cases f2.symm.trans k3
      exact ⟨_, comp, kA, kcomp, rfl, k1, k2, hkc, f3⟩
    · obtain ⟨kA, comp, k1, k2, k3, -⟩ := t4s
      obtain ⟨kcomp, hkc, -⟩ := Vm.findClass_spec k3
      cases k3.symm.trans hfc
      exact ⟨_, _, kA, kcomp, rfl, k1, k2, hkc, (by have hcl := (e_Kn hA (ci := 1) (C := RX1) (T := TX1) rfl).2; have eq := Option.some.inj (hcl.1.symm.trans hfc); rw [← eq]; exact va_assign hcl)⟩
    · obtain ⟨kA, comp, k1, k2, k3, -⟩ := t4s
      obtain ⟨kcomp, hkc, -⟩ := Vm.findClass_spec k3
      cases k3.symm.trans hfc
      exact ⟨_, _, kA, kcomp, rfl, k1, k2, hkc, (by have hcl := (e_Kn hA (ci := 2) (C := RX2) (T := TX2) rfl).2; have eq := Option.some.inj (hcl.1.symm.trans hfc); rw [← eq]; exact va_assign hcl)⟩
  obtain ⟨C, comp, kA, kcomp, hty, k1, k2, k3, k4⟩ := main
  refine W.aast hA.2.1 hA.2.2.1 hcell (fun q h => by cases h) (fun q => by cases q) k1 k2 rfl k3 ⟨e2, by rw [e1, arrV_size]; exact hlt⟩ hcv (fun q h => by rw [h] at hst; cases hst) hkv k4 rfl rfl hd (fun H1 g1 g2 g3 => ?_)
  rw [e1] at g1 ⊢
  exact kk g p e R s m args below meth c R0 hA Rf H1 _ cells slots ls bs (e_S_arr hS (by omega) hi0 h3 t3 t4 t5 h5 g1 g2 g3) hl h4
end EARR
