/-! THE COMPONENT AGAINST THE TWIN: as it is -/
set_option maxRecDepth 100000
/-- a list of ours, ready to be walked -/
def x_ok (h : e_A) (a b : Nat) (mc n : Int) (it : Int → Nat) : Prop := x_li h a b mc n it ∧ x_nu h a ∧ (x_nu h b ∨ b = 259) ∧ 413 ≤ h.2
theorem x_ok1 {χ : t_S} {h : e_A} {r : Int → Int} {α : Nat → Nat} (A : x_at χ h r α) : ∃ mc, x_ok h (α 1) (α 2) mc (r 5) (fun j => x_ig (r (10 + j))) := by
  obtain ⟨mc, hl⟩ := A.2.1.2.1
  have hn := A.2.1.2.2.2.2.2.2.2.1
  exact ⟨mc, hl, hn 1 (by omega), Or.inl (hn 2 (by omega)), A.2.2.2⟩
theorem x_ok3 {χ : t_S} {h : e_A} {r : Int → Int} {α : Nat → Nat} (A : x_at χ h r α) : ∃ mc, x_ok h (α 3) (α 4) mc (r 6) (fun j => x_ig (r (22 + j))) := by
  obtain ⟨mc, hl⟩ := A.2.1.2.2.1
  have hn := A.2.1.2.2.2.2.2.2.2.1
  exact ⟨mc, hl, hn 3 (by omega), Or.inl (hn 4 (by omega)), A.2.2.2⟩
theorem x_ok7 {χ : t_S} {h : e_A} {r : Int → Int} {α : Nat → Nat} (A : x_at χ h r α) : ∃ mc, x_ok h (α 7) (α 8) mc (r 8) (fun j => α (40 + j.toNat)) := by
  obtain ⟨mc, hl⟩ := A.2.1.2.2.2.2.1
  have hn := A.2.1.2.2.2.2.2.2.2.1
  have h8 := A.2.1.2.2.2.2.2.2.2.2.1
  exact ⟨mc, hl, hn 7 (by omega), h8, A.2.2.2⟩
theorem x_fr259 {h : e_A} {b : Nat} (hb : x_nu h b ∨ b = 259) : x_fr b := by
  rcases hb with q | q
  · exact x_nu_fr q
  · rw [q]; exact Or.inl (by omega)
theorem x_lt259 {h : e_A} {b : Nat} (hb : x_nu h b ∨ b = 259) (h4 : 413 ≤ h.2) : b < h.2 := by
  rcases hb with q | q
  · exact q.2
  · omega
theorem x_ok_H {χ : t_S} {h : e_A} {a b : Nat} {mc n : Int} {it : Int → Nat} (o : x_ok h a b mc n it) : x_li (x_H χ h) a b mc n it := x_li_H o.1 (x_nu_fr o.2.1) (x_fr259 o.2.2.1)
theorem x_ok_b {h : e_A} {a b : Nat} {mc n : Int} {it : Int → Nat} (o : x_ok h a b mc n it) : a < h.2 ∧ b < h.2 ∧ 350 ≤ h.2 := ⟨o.2.1.2, x_lt259 o.2.2.1 o.2.2.2, by have := o.2.2.2; omega⟩
theorem x_ok_it {χ : t_S} {h : e_A} {a b : Nat} {mc n : Int} {it : Int → Nat} {ob : e_O} (o : x_ok h a b mc n it) : x_li (x_H χ (e_push h ob)) a b mc n it := by
  have hb := x_ok_b o
  exact x_li_H (x_li_of o.1 ((e_ext_push h ob).2 a hb.1) ((e_ext_push h ob).2 b hb.2.1)) (x_nu_fr o.2.1) (x_fr259 o.2.2.1)
theorem x_it_at {χ : t_S} {h : e_A} {ob : e_O} (h4 : 413 ≤ h.2) : (x_H χ (e_push h ob)).1 h.2 = ob := by
  rw [x_H_fr (Or.inr (Or.inr (by omega))), e_push_at]
theorem x_it_ne {h : e_A} {a b : Nat} {mc n : Int} {it : Int → Nat} (o : x_ok h a b mc n it) : h.2 ≠ a ∧ h.2 ≠ b ∧ 350 ≤ h.2 := by
  have hb := x_ok_b o
  omega
theorem x_it_set {χ : t_S} {h : e_A} {ob o1 : e_O} (h4 : 413 ≤ h.2) : e_set (x_H χ (e_push h ob)) h.2 o1 = x_H χ (e_push h o1) := by
  rw [x_set_fr (Or.inr (Or.inr (by omega))), e_push_set]
theorem x_okc {σ : t_S} (hz : t_sz σ) {c : Int} (h : t_okC (σ 1) c) : x_c8 c := by
  obtain ⟨h0, h1, h2⟩ := h
  have := hz.2.1
  have := hz.2.2.1
  unfold x_c8
  omega
theorem x_ig_at {χ : t_S} {h : e_A} {ob : e_O} (ho : e_old h) {c : Int} (hc : x_c8 c) : (x_H χ (e_push h ob)).1 (x_ig c) = (13, 1, fun _ => e_i (x_sp c)) := e_igr (e_old_xH (e_old_ext (e_ext_push _ _) ho)) hc
theorem x_b01 {τ : t_S} {k : Nat} (h : t_b01 τ k) : x_g01 (τ k) := fun c hc => h c hc.1 hc.2.1
/-- creeks told -/
theorem x_is1_0 (σ : t_S) : (0 : Int) = x_bs (t_is1 σ 15) := by
  refine x_bs_0 (fun c hc => ?_)
  have key : ∀ n : Nat, ∀ c : Int, 0 ≤ c → c < n → t_it t_is1f n (t_is0 σ) 15 c = 0 := by
    intro n
    refine t_it_P (fun n (τ : t_S) => ∀ c : Int, 0 ≤ c → c < n → τ 15 c = 0) (fun c a b => by omega) n (fun i y i0 _ hy => ?_)
    intro c c0 c1
    unfold t_is1f
    by_cases q : c = i
    · subst q; rw [s_up_eq]
    · rw [s_up_j q]; exact hy c c0 (by omega)
  exact key 80 c hc.1 hc.2.1
theorem x_up01 {τ : t_S} {j z : Int} (hz : z = 0 ∨ z = 1) (h : x_g01 (τ 15)) : x_g01 (s_up τ 15 j z 15) := by
  intro c hc
  unfold s_up
  split
  · exact hz
  · exact h c hc
theorem x_is1_g (σ : t_S) : x_g01 (t_is1 σ 15) := by
  intro c hc
  left
  have key : ∀ n : Nat, ∀ c : Int, 0 ≤ c → c < n → t_it t_is1f n (t_is0 σ) 15 c = 0 := by
    intro n
    refine t_it_P (fun n (τ : t_S) => ∀ c : Int, 0 ≤ c → c < n → τ 15 c = 0) (fun c a b => by omega) n (fun i y i0 _ hy => ?_)
    intro c c0 c1
    unfold t_is1f
    by_cases q : c = i
    · subst q; rw [s_up_eq]
    · rw [s_up_j q]; exact hy c c0 (by omega)
  exact key 80 c hc.1 hc.2.1
theorem x_is2_g (σ : t_S) (n : Nat) : x_g01 (t_it t_is2f n (t_is1 σ) 15) := t_it_P (fun _ (τ : t_S) => x_g01 (τ 15)) (x_is1_g σ) n (fun _ _ _ _ h => x_up01 (Or.inr rfl) h)
theorem x_is3_g (σ : t_S) (n : Nat) : x_g01 (t_it t_is3f n (t_is2 σ) 15) := t_it_P (fun _ (τ : t_S) => x_g01 (τ 15)) (x_is2_g σ _) n (fun i τ _ _ h => by
  unfold t_is3f
  split
  · exact x_up01 (Or.inl rfl) h
  · rw [s_up_f (by decide)]; exact h)
theorem x_is2_1 (σ : t_S) (n : Nat) : t_it t_is2f n (t_is1 σ) 1 = σ 1 := (t_it_k (f := t_is2f) (fun _ _ => s_up_f (by decide)) _ _).trans (t_is1_k (by decide) (by decide) (by decide) (by decide) σ)
theorem x_is3_1 (σ : t_S) (n : Nat) : t_it t_is3f n (t_is2 σ) 1 = σ 1 := (t_it_k (f := t_is3f) (t_is3f_k (by decide) (by decide)) _ _).trans (t_is2_k (by decide) (by decide) (by decide) (by decide) σ)
theorem x_is2_s {σ : t_S} {k : Int} (hk : 0 ≤ k) (hc : x_c8 (σ 1 (10 + k))) : t_or (x_bs (t_it t_is2f k.toNat (t_is1 σ) 15)) (2 ^ (x_sp (σ 1 (10 + k))).toNat) = x_bs (t_it t_is2f (k + 1).toNat (t_is1 σ) 15) := by
  rw [t_it_s _ _ hk]
  refine x_bs_in (x_is2_g σ _) hc ?_ (fun e _ he => ?_)
  · show s_up _ 15 (t_it t_is2f k.toNat (t_is1 σ) 1 (10 + k)) 1 15 _ = 1
    rw [x_is2_1, s_up_eq]
  · show s_up _ 15 (t_it t_is2f k.toNat (t_is1 σ) 1 (10 + k)) 1 15 _ = _
    rw [x_is2_1, s_up_j he]
theorem x_is3_c {σ : t_S} {k : Int} (hk : 0 ≤ k) (h : σ 1 (119 + k) < 1000) : t_it t_is3f (k + 1).toNat (t_is2 σ) = s_up (t_it t_is3f k.toNat (t_is2 σ)) 15 (σ 1 (119 + k)) 0 := by
  have h1 := x_is3_1 σ k.toNat
  rw [t_it_s _ _ hk]
  revert h1
  generalize t_it t_is3f k.toNat (t_is2 σ) = τ
  intro h1
  unfold t_is3f
  rw [h1, if_pos h]
theorem x_is3_w {σ : t_S} {k : Int} (hk : 0 ≤ k) (h : ¬ σ 1 (119 + k) < 1000) : t_it t_is3f (k + 1).toNat (t_is2 σ) = s_up (t_it t_is3f k.toNat (t_is2 σ)) 18 0 (t_andn (t_it t_is3f k.toNat (t_is2 σ) 18 0) (2 ^ (σ 1 (119 + k) - 1000).toNat)) := by
  have h1 := x_is3_1 σ k.toNat
  rw [t_it_s _ _ hk]
  revert h1
  generalize t_it t_is3f k.toNat (t_is2 σ) = τ
  intro h1
  unfold t_is3f
  rw [h1, if_neg h]
theorem x_is3_b {σ : t_S} {k : Int} (hk : 0 ≤ k) (hc : x_c8 (σ 1 (119 + k))) (h : σ 1 (119 + k) < 1000) : t_andn (x_bs (t_it t_is3f k.toNat (t_is2 σ) 15)) (2 ^ (x_sp (σ 1 (119 + k))).toNat) = x_bs (t_it t_is3f (k + 1).toNat (t_is2 σ) 15) := by
  rw [x_is3_c hk h]
  refine x_bs_out (x_is3_g σ _) hc (s_up_eq _ _ _ _) (fun e _ he => s_up_j he)
theorem x_is3_n {σ : t_S} {k : Int} (hk : 0 ≤ k) (h : ¬ σ 1 (119 + k) < 1000) : x_bs (t_it t_is3f k.toNat (t_is2 σ) 15) = x_bs (t_it t_is3f (k + 1).toNat (t_is2 σ) 15) := by
  have e : t_it t_is3f (k + 1).toNat (t_is2 σ) 15 = t_it t_is3f k.toNat (t_is2 σ) 15 := by
    rw [x_is3_w hk h, s_up_f (by decide)]
  rw [e]
theorem x_is_15 (σ : t_S) : t_is σ 15 = t_is3 σ 15 := t_it_k (f := t_is4f) (fun _ _ => s_up_f (by decide)) _ _
/-- who stays in, against who walks -/
def x_sty (n : Int) (s w : Int) : Prop := (0 ≤ s ∧ s < 2 ^ 7) ∧ ∀ k, 0 ≤ k → k < n → e_bt s k = 1 - e_bt w k
theorem x_sty0 {σ : t_S} (hz : t_sz σ) : x_sty (σ 1 7) 0 (t_is2 σ 18 0) := by
  have h7 := hz.2.2.2.2.2.1
  refine ⟨by decide, fun k k0 k1 => ?_⟩
  have e : t_is2 σ 18 = t_is0 σ 18 := (t_it_k (f := t_is2f) (fun _ _ => s_up_f (by decide)) _ _).trans (t_it_k (f := t_is1f) (fun _ _ => s_up_f (by decide)) _ _)
  have e2 : t_is0 σ 18 0 = 2 ^ (σ 1 7).toNat - 1 := by
    unfold t_is0
    rw [s_up_k (by decide), s_up_eq, s_up_k (by decide)]
  rw [e, e2, b_0]
  have h : e_bt (2 ^ (σ 1 7).toNat - 1) k = 1 := by
    have hm : (2 : Int) ^ (σ 1 7).toNat - 1 = t_msk (fun _ => 1) (σ 1 7).toNat := by
      have key : ∀ n : Nat, t_msk (fun _ => 1) n = 2 ^ n - 1 := by
        intro n
        induction n with
        | zero => rfl
        | succ n ih =>
          show t_msk (fun _ => 1) n + (if (1 : Int) = 1 then 2 ^ n else 0) = _
          rw [ih, if_pos rfl, Int.pow_succ]
          omega
      exact (key _).symm
    rw [hm, b_msk (fun _ _ => Or.inr rfl) _ k0, if_pos (by omega)]
  rw [h]
  rfl
theorem x_sty_s {σ : t_S} (hz : t_sz σ) {s : Int} {k : Int} (hk : 0 ≤ k) (ha : 1000 ≤ σ 1 (119 + k) ∧ σ 1 (119 + k) < 1000 + σ 1 7) (h : x_sty (σ 1 7) s (t_it t_is3f k.toNat (t_is2 σ) 18 0)) : x_sty (σ 1 7) (t_or s (2 ^ (σ 1 (119 + k) - 1000).toNat)) (t_it t_is3f (k + 1).toNat (t_is2 σ) 18 0) := by
  have h7 := hz.2.2.2.2.2.1
  have hw := t_is3_18 (σ := σ) h7 k.toNat
  have hp := e_pow_lt 7 (k := σ 1 (119 + k) - 1000) ⟨by omega, by omega⟩
  have e : t_it t_is3f (k + 1).toNat (t_is2 σ) 18 0 = t_andn (t_it t_is3f k.toNat (t_is2 σ) 18 0) (2 ^ (σ 1 (119 + k) - 1000).toNat) := by
    rw [x_is3_w hk (by omega), s_up_eq]
  rw [e]
  refine ⟨t_or_rg 7 h.1 ⟨by omega, hp.2⟩, fun j j0 j1 => ?_⟩
  rw [b_or h.1.1 (by omega) j0, b_andn hw.1 (by omega) j0, b_pow (by omega) j0]
  have h9 := h.2 j j0 j1
  have b1 := e_bt01 s j
  have b2 := e_bt01 (t_it t_is3f k.toNat (t_is2 σ) 18 0) j
  by_cases q : j = σ 1 (119 + k) - 1000
  · rw [if_pos q, if_pos (Or.inr rfl), if_neg (fun w => w.2 rfl)]; rfl
  · rw [if_neg q]
    (repeat' split) <;> omega
theorem x_sty_n {σ : t_S} {s : Int} {k : Int} (hk : 0 ≤ k) (ha : σ 1 (119 + k) < 1000) (h : x_sty (σ 1 7) s (t_it t_is3f k.toNat (t_is2 σ) 18 0)) : x_sty (σ 1 7) s (t_it t_is3f (k + 1).toNat (t_is2 σ) 18 0) := by
  have e : t_it t_is3f (k + 1).toNat (t_is2 σ) 18 = t_it t_is3f k.toNat (t_is2 σ) 18 := by
    rw [x_is3_c hk ha, s_up_f (by decide)]
  rw [e]
  exact h
/-- the component's question against the twin's -/
def x_Rq (χ σ : t_S) : Prop := χ 22 0 = x_bs (σ 15) ∧ χ 26 0 = σ 17 0 ∧ x_sty (σ 1 7) (χ 27 0) (σ 18 0) ∧ (∀ w, 0 ≤ w → w < σ 1 7 → χ 16 w = σ 16 w) ∧ ∀ w, 0 ≤ w → w < σ 1 7 → χ 17 w = if w = σ 19 0 then σ 20 0 else -1
abbrev x_kq (k : Nat) : Prop := k ≠ 16 ∧ k ≠ 17 ∧ k ≠ 22 ∧ k ≠ 26 ∧ k ≠ 27
def x_PQ (σ χ : t_S) (h0 : e_A) : e_R → e_A → Prop := fun r h => r = .inl (some (.ref 366)) ∧ ∃ χ1 h1, (∀ k, x_kq k → χ1 k = χ k) ∧ x_Rq χ1 (t_is σ) ∧ e_ext h0 h1 ∧ h = x_H χ1 h1
theorem x_is2_00 (σ : t_S) : (.long (Int64.ofInt 0) : Value) = e_j (x_bs (t_it t_is2f (0 : Int).toNat (t_is1 σ) 15)) := congrArg e_j (x_is1_0 σ)
theorem x_is3_00 (σ : t_S) : t_it t_is2f (σ 1 5).toNat (t_is1 σ) = t_it t_is3f (0 : Int).toNat (t_is2 σ) := by
  show t_is2 σ = _
  generalize t_is2 σ = τ
  rfl
theorem x_m1 : (-1 : Int) = 0 - 1 := rfl
def x_Ra (σ χ : t_S) (k : Int) (χ1 : t_S) : Prop := (∀ j, x_kq j → χ1 j = χ j) ∧ χ1 22 0 = x_bs (t_is σ 15) ∧ χ1 26 0 = σ 1 1 ∧ x_sty (σ 1 7) (χ1 27 0) (t_it t_is3f k.toNat (t_is2 σ) 18 0)
def x_Rb (σ χ : t_S) (w : Int) (χ1 : t_S) : Prop := (∀ j, x_kq j → χ1 j = χ j) ∧ χ1 22 0 = x_bs (t_is σ 15) ∧ χ1 26 0 = σ 1 1 ∧ x_sty (σ 1 7) (χ1 27 0) (t_is σ 18 0) ∧ ∀ v : Int, 0 ≤ v → v < w → χ1 16 v = t_is σ 16 v ∧ χ1 17 v = -1
theorem x_Ra0 {σ : t_S} (χ : t_S) (hz : t_sz σ) : x_Ra σ χ 0 (s_up (s_up (s_up χ 26 0 (σ 1 1)) 27 0 0) 22 0 (x_bs (t_is σ 15))) := by
  refine ⟨fun j hj => ?_, s_up_eq _ _ _ _, ?_, ?_⟩
  · obtain ⟨_, _, a, b, c⟩ := hj
    rw [s_up_f a, s_up_f c, s_up_f b]
  · rw [s_up_f (by decide), s_up_f (by decide), s_up_eq]
  · rw [s_up_f (by decide), s_up_eq]
    exact x_sty0 hz
theorem x_Ra_s {σ χ χ1 : t_S} (hz : t_sz σ) {k : Int} (hk : 0 ≤ k) (ha : 1000 ≤ σ 1 (119 + k) ∧ σ 1 (119 + k) < 1000 + σ 1 7) (h : x_Ra σ χ k χ1) : x_Ra σ χ (k + 1) (s_up χ1 27 0 (t_or (χ1 27 0) (2 ^ (σ 1 (119 + k) - 1000).toNat))) := by
  refine ⟨fun j hj => ?_, ?_, ?_, ?_⟩
  · rw [s_up_f hj.2.2.2.2]; exact h.1 j hj
  · rw [s_up_f (by decide)]; exact h.2.1
  · rw [s_up_f (by decide)]; exact h.2.2.1
  · rw [s_up_eq]; exact x_sty_s hz hk ha h.2.2.2
theorem x_Ra_n {σ χ χ1 : t_S} {k : Int} (hk : 0 ≤ k) (ha : σ 1 (119 + k) < 1000) (h : x_Ra σ χ k χ1) : x_Ra σ χ (k + 1) χ1 := ⟨h.1, h.2.1, h.2.2.1, x_sty_n hk ha h.2.2.2⟩
theorem x_Rb0 {σ χ χ1 : t_S} (h : x_Ra σ χ (σ 1 8) χ1) : x_Rb σ χ 0 χ1 := by
  refine ⟨h.1, h.2.1, h.2.2.1, ?_, fun v a b => by omega⟩
  have e : t_is σ 18 = t_is3 σ 18 := t_it_k (f := t_is4f) (fun _ _ => s_up_f (by decide)) _ _
  rw [e]
  exact h.2.2.2
theorem x_is_16 (σ : t_S) {w : Int} (h0 : 0 ≤ w) (h1 : w < 7) : t_is σ 16 w = t_wd σ w 1 := by
  have key : ∀ n : Nat, (∀ v : Int, 0 ≤ v → v < n → t_it t_is4f n (t_is3 σ) 16 v = t_wd σ v 1) := by
    intro n
    have h3 : ∀ m : Nat, t_it t_is4f m (t_is3 σ) 1 = σ 1 := fun m => (t_it_k (f := t_is4f) (fun _ _ => s_up_f (by decide)) _ _).trans (t_is3_k (by decide) (by decide) (by decide) (by decide) σ)
    induction n with
    | zero => intro v a b; omega
    | succ n ih =>
      intro v a b
      show s_up _ 16 (n : Int) (t_wd _ n 1) 16 v = _
      by_cases q : v = n
      · rw [q, s_up_eq]
        unfold t_wd
        rw [h3]
      · rw [s_up_j q]
        exact ih v a (by omega)
  exact key 7 w h0 h1
theorem x_Rb_s {σ χ χ1 : t_S} (hz : t_sz σ) {w : Int} (h0 : 0 ≤ w) (h1 : w < σ 1 7) (h : x_Rb σ χ w χ1) : x_Rb σ χ (w + 1) (s_up (s_up χ1 16 w (t_wd σ w 1)) 17 w (-1)) := by
  have h7 := hz.2.2.2.2.2.1
  refine ⟨fun j hj => ?_, ?_, ?_, ?_, fun v a b => ?_⟩
  · rw [s_up_f hj.2.1, s_up_f hj.1]; exact h.1 j hj
  · rw [s_up_f (by decide), s_up_f (by decide)]; exact h.2.1
  · rw [s_up_f (by decide), s_up_f (by decide)]; exact h.2.2.1
  · rw [s_up_f (by decide), s_up_f (by decide)]; exact h.2.2.2.1
  · by_cases q : v = w
    · subst q
      rw [s_up_f (by decide), s_up_eq, s_up_eq, x_is_16 σ h0 (by omega)]
      exact ⟨rfl, rfl⟩
    · rw [s_up_f (by decide), s_up_j q, s_up_j q, s_up_f (by decide)]
      exact h.2.2.2.2 v a (by omega)
theorem x_is_17 (σ : t_S) : t_is σ 17 0 = σ 1 1 ∧ t_is σ 19 0 = -1 := by
  have e : ∀ k, k ≠ 15 → k ≠ 16 → k ≠ 18 → t_is σ k = t_is0 σ k := fun k a b c => (t_it_k (f := t_is4f) (fun _ _ => s_up_f b) _ _).trans ((t_it_k (f := t_is3f) (t_is3f_k a c) _ _).trans ((t_it_k (f := t_is2f) (fun _ _ => s_up_f a) _ _).trans (t_it_k (f := t_is1f) (fun _ _ => s_up_f a) _ _)))
  constructor
  · rw [e 17 (by decide) (by decide) (by decide)]
    unfold t_is0
    rw [s_up_f (by decide), s_up_f (by decide), s_up_eq]
  · rw [e 19 (by decide) (by decide) (by decide)]
    unfold t_is0
    rw [s_up_eq]
theorem x_is_1 (σ : t_S) : t_is σ 1 = σ 1 := (t_it_k (f := t_is4f) (fun _ _ => s_up_f (by decide)) _ _).trans (t_is3_k (by decide) (by decide) (by decide) (by decide) σ)
theorem x_RbR {σ χ χ1 : t_S} (h : x_Rb σ χ (σ 1 7) χ1) : x_Rq χ1 (t_is σ) := by
  obtain ⟨e17, e19⟩ := x_is_17 σ
  unfold x_Rq
  rw [x_is_1, e17, e19]
  refine ⟨h.2.1, h.2.2.1, h.2.2.2.1, fun w a b => (h.2.2.2.2 w a b).1, fun w a b => ?_⟩
  rw [if_neg (by omega)]
  exact (h.2.2.2.2 w a b).2
