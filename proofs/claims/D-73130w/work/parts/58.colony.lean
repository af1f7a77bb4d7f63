/-! A COLONY IN THE HEAP -/
set_option maxRecDepth 100000
def x_lF (mc : Int) (b : Nat) (n : Int) : Nat → Value := fun k => match k with
  | 0 => e_i mc
  | 1 => .ref b
  | 2 => e_i n
  | _ => .int 0
/-- a list: object a, its array b -/
def x_li (h : e_A) (a b : Nat) (mc n : Int) (item : Int → Nat) : Prop := h.1 a = (11, 3, x_lF mc b n) ∧ ∃ (kd cap : Nat) (g : Nat → Value), h.1 b = (kd, cap, g) ∧ (kd = 55 ∨ (kd = 63 ∧ cap = 0)) ∧ (0 ≤ n ∧ n ≤ cap) ∧ cap ≤ 60000 ∧ ∀ j : Int, 0 ≤ j → j < n → g j.toNat = .ref (item j)
def x_iF (cur last mc : Int) (a : Nat) : Nat → Value := fun k => match k with
  | 0 => e_i cur
  | 1 => e_i last
  | 2 => e_i mc
  | 3 => .ref a
  | _ => .null
def x_cF (r : Int → Int) (α : Nat → Nat) : Nat → Value := fun k => match k with
  | 0 => .ref (α 1)
  | 1 => .ref (α 3)
  | 2 => .ref (α 5)
  | 3 => .ref (α 7)
  | 4 => e_i (r 0)
  | 5 => e_i (r 1)
  | 6 => e_i (r 2)
  | 7 => e_i (r 3)
  | 8 => e_i (r 4)
  | 9 => e_i (r 9)
  | _ => .int 0
def x_wF (r : Int → Int) (w : Int) (gr : Nat) : Nat → Value := fun k => match k with
  | 0 => e_i (x_sp (r (28 + 13 * w)))
  | 1 => e_i (r (28 + 13 * w + 1))
  | 2 => e_i (r (28 + 13 * w + 3))
  | 3 => e_i (r (28 + 13 * w + 4))
  | 4 => .ref gr
  | 5 => e_i (r (28 + 13 * w + 2))
  | _ => .int 0
def x_dF (a : Int) : Nat → Value := fun k => match k with
  | 0 => e_i (if a < 1000 then 1 else 0)
  | 1 => e_i (if a < 1000 then x_sp a else a - 1000)
  | _ => .int 0
/-- numbers of objects that are neither old nor one of the two great ones' own -/
def x_nu (h : e_A) (i : Nat) : Prop := ((356 ≤ i ∧ i ≤ 363) ∨ 413 ≤ i) ∧ i < h.2
/-- the Integer of a cell's spot -/
def x_ig (c : Int) : Nat := (129 + x_sp c).toNat
def x_col (h : e_A) (r : Int → Int) (α : Nat → Nat) : Prop :=
  h.1 (α 0) = (2, 10, x_cF r α) ∧ (∃ mc, x_li h (α 1) (α 2) mc (r 5) (fun j => x_ig (r (10 + j)))) ∧ (∃ mc, x_li h (α 3) (α 4) mc (r 6) (fun j => x_ig (r (22 + j)))) ∧ (∃ mc, x_li h (α 5) (α 6) mc (r 7) (fun j => α (10 + j.toNat))) ∧ (∃ mc, x_li h (α 7) (α 8) mc (r 8) (fun j => α (40 + j.toNat))) ∧
  (∀ w : Int, 0 ≤ w → w < r 7 → h.1 (α (10 + w.toNat)) = (9, 6, x_wF r w (α (20 + w.toNat))) ∧ ∃ g : Nat → Value, h.1 (α (20 + w.toNat)) = (50, 8, g) ∧ ∀ k : Int, 0 ≤ k → k < r (28 + 13 * w + 4) → g k.toNat = e_i (r (28 + 13 * w + (5 + k)))) ∧
  (∀ i : Int, 0 ≤ i → i < r 8 → h.1 (α (40 + i.toNat)) = (10, 2, x_dF (r (119 + i)))) ∧
  (∀ k, k < 8 → x_nu h (α k)) ∧ (x_nu h (α 8) ∨ α 8 = 259) ∧ (∀ w : Int, 0 ≤ w → w < r 7 → x_nu h (α (10 + w.toNat)) ∧ x_nu h (α (20 + w.toNat))) ∧ (∀ i : Int, 0 ≤ i → i < r 8 → x_nu h (α (40 + i.toNat)))
theorem x_nu_fr {h : e_A} {i : Nat} (hi : x_nu h i) : x_fr i := by
  unfold x_nu at hi
  unfold x_fr
  omega
theorem x_nu_ext {h h1 : e_A} {i : Nat} (a : e_ext h h1) (hi : x_nu h i) : x_nu h1 i := ⟨hi.1, Nat.lt_of_lt_of_le hi.2 a.1⟩
theorem x_li_of {h h1 : e_A} {a b : Nat} {mc n : Int} {it : Int → Nat} (hl : x_li h a b mc n it) (ea : h1.1 a = h.1 a) (eb : h1.1 b = h.1 b) : x_li h1 a b mc n it := by
  unfold x_li at *
  rw [ea, eb]
  exact hl
/-- what lies below stays -/
theorem x_col_of {h h1 : e_A} {r : Int → Int} {α : Nat → Nat} (hc : x_col h r α) (hz : h.2 ≤ h1.2) (e : ∀ i, (x_nu h i ∨ i = 259) → h1.1 i = h.1 i) : x_col h1 r α := by
  obtain ⟨c0, ⟨m1, c1⟩, ⟨m2, c2⟩, ⟨m3, c3⟩, ⟨m4, c4⟩, c5, c6, n0, n8, nw, na⟩ := hc
  have up : ∀ i, x_nu h i → x_nu h1 i := fun i hi => ⟨hi.1, Nat.lt_of_lt_of_le hi.2 hz⟩
  refine ⟨by rw [e _ (Or.inl (n0 0 (by omega)))]; exact c0, ⟨m1, x_li_of c1 (e _ (Or.inl (n0 1 (by omega)))) (e _ (Or.inl (n0 2 (by omega))))⟩, ⟨m2, x_li_of c2 (e _ (Or.inl (n0 3 (by omega)))) (e _ (Or.inl (n0 4 (by omega))))⟩, ⟨m3, x_li_of c3 (e _ (Or.inl (n0 5 (by omega)))) (e _ (Or.inl (n0 6 (by omega))))⟩, ⟨m4, x_li_of c4 (e _ (Or.inl (n0 7 (by omega)))) (e _ n8)⟩, fun w w0 w1 => ?_, fun i i0 i1 => ?_, fun k hk => up _ (n0 k hk), n8.imp (up _) id, fun w w0 w1 => ⟨up _ (nw w w0 w1).1, up _ (nw w w0 w1).2⟩, fun i i0 i1 => up _ (na i i0 i1)⟩
  · rw [e _ (Or.inl (nw w w0 w1).1), e _ (Or.inl (nw w w0 w1).2)]; exact c5 w w0 w1
  · rw [e _ (Or.inl (na i i0 i1))]; exact c6 i i0 i1
theorem x_col_ext {h h1 : e_A} {r : Int → Int} {α : Nat → Nat} (a : e_ext h h1) (ho : 413 ≤ h.2) (hc : x_col h r α) : x_col h1 r α :=
  x_col_of hc a.1 (fun i hi => a.2 i (hi.elim (fun q => q.2) (fun q => by omega)))
/-- where the component stands -/
def x_at (χ : t_S) (h0 : e_A) (r : Int → Int) (α : Nat → Nat) : Prop := χ 1 0 = (α 0 : Int) ∧ x_col h0 r α ∧ e_old h0 ∧ 413 ≤ h0.2
theorem x_at_ext {χ : t_S} {h h1 : e_A} {r : Int → Int} {α : Nat → Nat} (a : e_ext h h1) (hA : x_at χ h r α) : x_at χ h1 r α :=
  ⟨hA.1, x_col_ext a hA.2.2.2 hA.2.1, e_old_ext a hA.2.2.1, Nat.le_trans hA.2.2.2 a.1⟩
theorem x_at_up {χ χ1 : t_S} {h : e_A} {r : Int → Int} {α : Nat → Nat} (e : χ1 1 0 = χ 1 0) (hA : x_at χ h r α) : x_at χ1 h r α := ⟨e.trans hA.1, hA.2⟩
theorem x_now {χ : t_S} {h : e_A} {r : Int → Int} {α : Nat → Nat} (A : x_at χ h r α) : x_F0 χ 1 = .ref (α 0) := by
  show Value.ref (χ 1 0).toNat = _
  rw [A.1, Int.toNat_natCast]
theorem x_aC {χ : t_S} {h : e_A} {r : Int → Int} {α : Nat → Nat} (A : x_at χ h r α) : (x_H χ h).1 (α 0) = (2, 10, x_cF r α) := by
  rw [x_H_fr (x_nu_fr (A.2.1.2.2.2.2.2.2.2.1 0 (by omega)))]
  exact A.2.1.1
theorem x_li_H {χ : t_S} {h : e_A} {a b : Nat} {mc n : Int} {it : Int → Nat} (hl : x_li h a b mc n it) (ha : x_fr a) (hb : x_fr b) : x_li (x_H χ h) a b mc n it := x_li_of hl (x_H_fr ha) (x_H_fr hb)
theorem x_a1 {χ : t_S} {h : e_A} {r : Int → Int} {α : Nat → Nat} (A : x_at χ h r α) : ∃ mc, x_li (x_H χ h) (α 1) (α 2) mc (r 5) (fun j => x_ig (r (10 + j))) := by
  obtain ⟨mc, hl⟩ := A.2.1.2.1
  have hn := A.2.1.2.2.2.2.2.2.2.1
  exact ⟨mc, x_li_H hl (x_nu_fr (hn 1 (by omega))) (x_nu_fr (hn 2 (by omega)))⟩
theorem x_a3 {χ : t_S} {h : e_A} {r : Int → Int} {α : Nat → Nat} (A : x_at χ h r α) : ∃ mc, x_li (x_H χ h) (α 3) (α 4) mc (r 6) (fun j => x_ig (r (22 + j))) := by
  obtain ⟨mc, hl⟩ := A.2.1.2.2.1
  have hn := A.2.1.2.2.2.2.2.2.2.1
  exact ⟨mc, x_li_H hl (x_nu_fr (hn 3 (by omega))) (x_nu_fr (hn 4 (by omega)))⟩
theorem x_a5 {χ : t_S} {h : e_A} {r : Int → Int} {α : Nat → Nat} (A : x_at χ h r α) : ∃ mc, x_li (x_H χ h) (α 5) (α 6) mc (r 7) (fun j => α (10 + j.toNat)) := by
  obtain ⟨mc, hl⟩ := A.2.1.2.2.2.1
  have hn := A.2.1.2.2.2.2.2.2.2.1
  exact ⟨mc, x_li_H hl (x_nu_fr (hn 5 (by omega))) (x_nu_fr (hn 6 (by omega)))⟩
theorem x_a7 {χ : t_S} {h : e_A} {r : Int → Int} {α : Nat → Nat} (A : x_at χ h r α) : ∃ mc, x_li (x_H χ h) (α 7) (α 8) mc (r 8) (fun j => α (40 + j.toNat)) := by
  obtain ⟨mc, hl⟩ := A.2.1.2.2.2.2.1
  have hn := A.2.1.2.2.2.2.2.2.2.1
  have h8 := A.2.1.2.2.2.2.2.2.2.2.1
  exact ⟨mc, x_li_H hl (x_nu_fr (hn 7 (by omega))) (by rcases h8 with q | q; exact x_nu_fr q; rw [q]; exact Or.inl (by omega))⟩
theorem x_aW {χ : t_S} {h : e_A} {r : Int → Int} {α : Nat → Nat} (A : x_at χ h r α) {w : Int} (h0 : 0 ≤ w) (h1 : w < r 7) : (x_H χ h).1 (α (10 + w.toNat)) = (9, 6, x_wF r w (α (20 + w.toNat))) := by
  rw [x_H_fr (x_nu_fr (A.2.1.2.2.2.2.2.2.2.2.2.1 w h0 h1).1)]
  exact (A.2.1.2.2.2.2.2.1 w h0 h1).1
theorem x_aG {χ : t_S} {h : e_A} {r : Int → Int} {α : Nat → Nat} (A : x_at χ h r α) {w : Int} (h0 : 0 ≤ w) (h1 : w < r 7) : ∃ g : Nat → Value, (x_H χ h).1 (α (20 + w.toNat)) = (50, 8, g) ∧ ∀ k : Int, 0 ≤ k → k < r (28 + 13 * w + 4) → g k.toNat = e_i (r (28 + 13 * w + (5 + k))) := by
  rw [x_H_fr (x_nu_fr (A.2.1.2.2.2.2.2.2.2.2.2.1 w h0 h1).2)]
  exact (A.2.1.2.2.2.2.2.1 w h0 h1).2
theorem x_aD {χ : t_S} {h : e_A} {r : Int → Int} {α : Nat → Nat} (A : x_at χ h r α) {i : Int} (h0 : 0 ≤ i) (h1 : i < r 8) : (x_H χ h).1 (α (40 + i.toNat)) = (10, 2, x_dF (r (119 + i))) := by
  rw [x_H_fr (x_nu_fr (A.2.1.2.2.2.2.2.2.2.2.2.2 i h0 h1))]
  exact A.2.1.2.2.2.2.2.2.1 i h0 h1
theorem e_igr {h : e_A} (ho : e_old h) {c : Int} (hc : x_c8 c) : h.1 (x_ig c) = (13, 1, fun _ => e_i (x_sp c)) := by
  have hs := x_sp_rg hc
  have h1 := ho.2.1 (x_sp c + 128).toNat (by omega)
  rw [show 1 + (x_sp c + 128).toNat = x_ig c by unfold x_ig; omega] at h1
  rw [h1]
  refine Prod.ext rfl (Prod.ext rfl (funext fun _ => ?_))
  show e_i _ = e_i _
  congr 2
  omega
/-- an answer, and a heap that is more -/
def x_P (v : Value) (χ : t_S) (h0 : e_A) : e_R → e_A → Prop := fun r h => r = .inl (some v) ∧ ∃ h1, e_ext h0 h1 ∧ h = x_H χ h1
theorem x_p {v w : Value} {χ χ1 : t_S} {h0 h1 : e_A} (hv : w = v) (he : e_ext h0 h1) (hc : χ1 = χ) : x_P v χ h0 (.inl (some w)) (x_H χ1 h1) := by
  subst hv; subst hc; exact ⟨rfl, h1, he, rfl⟩
/-- the same number twice -/
theorem e_icmp_eq_rf {M : e_M} {pc tgt : Nat} {al st : List Value} {h : e_A} {kc ks d : Nat} {Q : e_R → e_A → Prop} {a off : Int} (hd : decode M.2.1 pc = .ok (.if_icmp .eq off, 3)) (ht : (pc : Int) + off = (tgt : Int)) (k : e_E M tgt al st h kc ks d Q) : e_E M pc al (e_i a :: e_i a :: st) h kc ks d Q :=
  e_num2 (pc2 := pc + 3) (P1 := True) (P2 := False) [e_i a, e_i a] rfl (fun hx hb k1 k2 => lv_icmp_eq hx hb hd ht (fun _ => k1 trivial) (fun q => absurd rfl q)) (fun _ => k) (fun q => q.elim)
theorem e_set_set (h : e_A) (i : Nat) (o o1 : e_O) : e_set (e_set h i o) i o1 = e_set h i o1 := by
  unfold e_set
  refine Prod.ext (funext fun j => ?_) rfl
  show (if j = i then o1 else if j = i then o else h.1 j) = if j = i then o1 else h.1 j
  by_cases q : j = i
  · rw [if_pos q, if_pos q]
  · rw [if_neg q, if_neg q, if_neg q]
theorem e_push_set (h : e_A) (o o1 : e_O) : e_set (e_push h o) h.2 o1 = e_push h o1 := by
  unfold e_set e_push
  refine Prod.ext (funext fun j => ?_) rfl
  show (if j = h.2 then o1 else if j = h.2 then o else h.1 j) = if j = h.2 then o1 else h.1 j
  by_cases q : j = h.2
  · rw [if_pos q, if_pos q]
  · rw [if_neg q, if_neg q, if_neg q]
theorem e_push_at (h : e_A) (o : e_O) : (e_push h o).1 h.2 = o := by
  show (if h.2 = h.2 then o else _) = o
  rw [if_pos rfl]
theorem e_set_at (h : e_A) (i : Nat) (o : e_O) : (e_set h i o).1 i = o := by
  show (if i = i then o else _) = o
  rw [if_pos rfl]
theorem e_set_ne {h : e_A} {i j : Nat} {o : e_O} (q : j ≠ i) : (e_set h i o).1 j = h.1 j := by
  show (if j = i then o else _) = _
  rw [if_neg q]
