/-! A COLONY CHANGED: its acts, a widow's steps -/
set_option maxRecDepth 100000
/-- what of a colony may change lies apart from the rest of it -/
def x_ow (r : Int → Int) (α : Nat → Nat) : Prop := (α 1 ≠ α 7 ∧ α 3 ≠ α 7 ∧ α 5 ≠ α 7) ∧ (α 2 ≠ α 8 ∧ α 4 ≠ α 8 ∧ α 6 ≠ α 8) ∧ ∀ w v : Int, 0 ≤ w → w < r 7 → 0 ≤ v → v < r 7 → w ≠ v → α (10 + w.toNat) ≠ α (10 + v.toNat)
theorem x_li_kd {h : e_A} {a b : Nat} {mc n : Int} {it : Int → Nat} (L : x_li h a b mc n it) : (h.1 a).1 = 11 ∧ ((h.1 b).1 = 55 ∨ (h.1 b).1 = 63) := by
  obtain ⟨l1, kd, cap, g, l2, l3, -⟩ := L
  refine ⟨by rw [l1], ?_⟩
  rw [l2]
  rcases l3 with q | q
  · exact Or.inl q
  · exact Or.inr q.1
theorem x_nek {h : e_A} {a b i j : Nat} (ha : (h.1 a).1 = i) (hb : (h.1 b).1 = j) (hne : i ≠ j) : a ≠ b := fun e => hne (by rw [← ha, ← hb, e])
/-- the list of acts anew -/
theorem x_col_act {h h1 : e_A} {r r1 : Int → Int} {α α1 : Nat → Nat} (C : x_col h r α) (O : x_ow r α) (hz : h.2 ≤ h1.2) (he : ∀ i, i < h.2 → i ≠ α 7 → i ≠ α 8 → h1.1 i = h.1 i) (hr : ∀ k : Int, k ≠ 8 → k < 119 → r1 k = r k) (hα : ∀ k, k ≠ 8 → k < 40 → α1 k = α k)
    (L : ∃ mc, x_li h1 (α 7) (α1 8) mc (r1 8) (fun j => α1 (40 + j.toNat))) (D : ∀ i : Int, 0 ≤ i → i < r1 8 → h1.1 (α1 (40 + i.toNat)) = (10, 2, x_dF (r1 (119 + i))) ∧ x_nu h1 (α1 (40 + i.toNat))) (h8 : x_nu h1 (α1 8) ∨ α1 8 = 259) (s6 : r 5 ≤ 12 ∧ r 6 ≤ 6 ∧ r 7 ≤ 7) (sg : ∀ w : Int, 0 ≤ w → w < r 7 → r (28 + 13 * w + 4) ≤ 8)
    (hw5 : ∀ w k : Int, 0 ≤ w → w < r 7 → 0 ≤ k → k < 13 → r1 (28 + 13 * w + k) = r (28 + 13 * w + k)) : x_col h1 r1 α1 := by
  obtain ⟨c0, ⟨m1, c1⟩, ⟨m2, c2⟩, ⟨m3, c3⟩, ⟨m4, c4⟩, c5, c6, n0, n8, nw, na⟩ := C
  obtain ⟨⟨o1, o3, o5⟩, ⟨o2, o4, o6⟩, o7⟩ := O
  have k0 : (h.1 (α 0)).1 = 2 := by rw [c0]
  have k1 := x_li_kd c1
  have k2 := x_li_kd c2
  have k3 := x_li_kd c3
  have k4 := x_li_kd c4
  have kw : ∀ w : Int, 0 ≤ w → w < r 7 → (h.1 (α (10 + w.toNat))).1 = 9 ∧ (h.1 (α (20 + w.toNat))).1 = 50 := fun w w0 w1 => by
    obtain ⟨d1, g, d2, -⟩ := c5 w w0 w1
    exact ⟨by rw [d1], by rw [d2]⟩
  have up : ∀ i, x_nu h i → x_nu h1 i := fun i hi => ⟨hi.1, Nat.lt_of_lt_of_le hi.2 hz⟩
  have ne8 : ∀ {i j : Nat}, (h.1 i).1 = j → j ≠ 55 → j ≠ 63 → i ≠ α 8 := fun {i j} hi q1 q2 => by
    rcases k4.2 with q | q
    · exact x_nek hi q q1
    · exact x_nek hi q q2
  have keep : ∀ i, x_nu h i → i ≠ α 7 → i ≠ α 8 → h1.1 i = h.1 i := fun i hi a b => he i hi.2 a b
  have lk : ∀ {b : Nat}, ((h.1 b).1 = 55 ∨ (h.1 b).1 = 63) → b ≠ α 7 := fun {b} q => by
    rcases q with q | q
    · exact x_nek q k4.1 (by decide)
    · exact x_nek q k4.1 (by decide)
  have e0 : h1.1 (α 0) = h.1 (α 0) := keep _ (n0 0 (by omega)) (x_nek k0 k4.1 (by decide)) (ne8 k0 (by decide) (by decide))
  have ecF : x_cF r1 α1 = x_cF r α := by
    funext k
    unfold x_cF
    rw [hα 1 (by decide) (by decide), hα 3 (by decide) (by decide), hα 5 (by decide) (by decide), hα 7 (by decide) (by decide), hr 0 (by decide) (by decide), hr 1 (by decide) (by decide), hr 2 (by decide) (by decide), hr 3 (by decide) (by decide), hr 4 (by decide) (by decide), hr 9 (by decide) (by decide)]
  have lr : ∀ {a b : Nat} {mc n n1 : Int} {it it1 : Int → Nat}, x_li h a b mc n it → h1.1 a = h.1 a → h1.1 b = h.1 b → n1 = n → (∀ j : Int, 0 ≤ j → j < n → it1 j = it j) → x_li h1 a b mc n1 it1 := fun {a b mc n n1 it it1} l ea eb en ei => by
    subst en
    obtain ⟨l1, kd, cap, g, l2, l3, l4, l5, l6⟩ := l
    exact ⟨ea.trans l1, kd, cap, g, eb.trans l2, l3, l4, l5, fun j j0 j1 => by rw [ei j j0 j1]; exact l6 j j0 j1⟩
  refine ⟨by rw [hα 0 (by decide) (by decide), e0, c0, ecF], ⟨m1, ?_⟩, ⟨m2, ?_⟩, ⟨m3, ?_⟩, ?_, fun w w0 w1 => ?_, fun i i0 i1 => (D i i0 i1).1, fun k hk => ?_, h8, fun w w0 w1 => ?_, fun i i0 i1 => (D i i0 i1).2⟩
  · rw [hα 1 (by decide) (by decide), hα 2 (by decide) (by decide)]
    exact lr c1 (keep _ (n0 1 (by omega)) o1 (ne8 k1.1 (by decide) (by decide))) (keep _ (n0 2 (by omega)) (lk k1.2) o2) (hr 5 (by decide) (by decide)) (fun j j0 j1 => by rw [hr (10 + j) (by omega) (by omega)])
  · rw [hα 3 (by decide) (by decide), hα 4 (by decide) (by decide)]
    exact lr c2 (keep _ (n0 3 (by omega)) o3 (ne8 k2.1 (by decide) (by decide))) (keep _ (n0 4 (by omega)) (lk k2.2) o4) (hr 6 (by decide) (by decide)) (fun j j0 j1 => by rw [hr (22 + j) (by omega) (by omega)])
  · rw [hα 5 (by decide) (by decide), hα 6 (by decide) (by decide)]
    exact lr c3 (keep _ (n0 5 (by omega)) o5 (ne8 k3.1 (by decide) (by decide))) (keep _ (n0 6 (by omega)) (lk k3.2) o6) (hr 7 (by decide) (by decide)) (fun j j0 j1 => hα _ (by omega) (by omega))
  · rw [hα 7 (by decide) (by decide)]
    exact L
  · rw [hr 7 (by decide) (by decide)] at w1
    obtain ⟨d1, g, d2, d3⟩ := c5 w w0 w1
    have q := kw w w0 w1
    rw [hα (10 + w.toNat) (by omega) (by omega), hα (20 + w.toNat) (by omega) (by omega), keep _ (nw w w0 w1).1 (x_nek q.1 k4.1 (by decide)) (ne8 q.1 (by decide) (by decide)), keep _ (nw w w0 w1).2 (x_nek q.2 k4.1 (by decide)) (ne8 q.2 (by decide) (by decide))]
    have ewF : x_wF r1 w (α (20 + w.toNat)) = x_wF r w (α (20 + w.toNat)) := by
      have z := hw5 w 0 w0 w1 (by decide) (by decide)
      rw [Int.add_zero] at z
      funext k
      unfold x_wF
      rw [z, hw5 w 1 w0 w1 (by decide) (by decide), hw5 w 3 w0 w1 (by decide) (by decide), hw5 w 4 w0 w1 (by decide) (by decide), hw5 w 2 w0 w1 (by decide) (by decide)]
    rw [ewF]
    refine ⟨d1, g, d2, fun k k0 k1 => ?_⟩
    rw [hw5 w 4 w0 w1 (by decide) (by decide)] at k1
    have h9 := sg w w0 w1
    rw [hw5 w (5 + k) w0 w1 (by omega) (by omega)]
    exact d3 k k0 k1
  · by_cases q : k < 8
    · rw [hα k (by omega) (by omega)]
      exact up _ (n0 k hk)
    · omega
  · rw [hr 7 (by decide) (by decide)] at w1
    rw [hα (10 + w.toNat) (by omega) (by omega), hα (20 + w.toNat) (by omega) (by omega)]
    exact ⟨up _ (nw w w0 w1).1, up _ (nw w w0 w1).2⟩
/-- a widow's steps -/
theorem x_col_wid {h h1 : e_A} {r r1 : Int → Int} {α : Nat → Nat} {u : Int} (C : x_col h r α) (O : x_ow r α) (hu : 0 ≤ u ∧ u < r 7) (hz : h.2 ≤ h1.2) (he : ∀ i, i < h.2 → i ≠ α (10 + u.toNat) → h1.1 i = h.1 i) (hr : ∀ k : Int, k ≠ 28 + 13 * u + 2 → r1 k = r k)
    (hw : h1.1 (α (10 + u.toNat)) = (9, 6, x_wF r1 u (α (20 + u.toNat)))) (s6 : r 5 ≤ 12 ∧ r 6 ≤ 6 ∧ r 7 ≤ 7) (sg : ∀ w : Int, 0 ≤ w → w < r 7 → r (28 + 13 * w + 4) ≤ 8) : x_col h1 r1 α := by
  obtain ⟨c0, ⟨m1, c1⟩, ⟨m2, c2⟩, ⟨m3, c3⟩, ⟨m4, c4⟩, c5, c6, n0, n8, nw, na⟩ := C
  obtain ⟨-, -, o7⟩ := O
  have k1 := x_li_kd c1
  have k2 := x_li_kd c2
  have k3 := x_li_kd c3
  have k4 := x_li_kd c4
  have ku : (h.1 (α (10 + u.toNat))).1 = 9 := by rw [(c5 u hu.1 hu.2).1]
  have up : ∀ i, x_nu h i → x_nu h1 i := fun i hi => ⟨hi.1, Nat.lt_of_lt_of_le hi.2 hz⟩
  have keep : ∀ {i j : Nat}, x_nu h i → (h.1 i).1 = j → j ≠ 9 → h1.1 i = h.1 i := fun {i j} hi q1 q2 => he i hi.2 (x_nek q1 ku q2)
  have keepA : ∀ {i : Nat}, (x_nu h i ∨ i = 259) → i < h.2 → ((h.1 i).1 = 55 ∨ (h.1 i).1 = 63) → h1.1 i = h.1 i := fun {i} hi hl q => by
    rcases q with q | q
    · exact he i hl (x_nek q ku (by decide))
    · exact he i hl (x_nek q ku (by decide))
  have hlt : 259 < h.2 := by have := (n0 0 (by omega)).1; have := (n0 0 (by omega)).2; omega
  have ecF : x_cF r1 α = x_cF r α := by
    funext k
    unfold x_cF
    rw [hr 0 (by omega), hr 1 (by omega), hr 2 (by omega), hr 3 (by omega), hr 4 (by omega), hr 9 (by omega)]
  have lr : ∀ {a b : Nat} {mc n n1 : Int} {it it1 : Int → Nat}, x_li h a b mc n it → h1.1 a = h.1 a → h1.1 b = h.1 b → n1 = n → (∀ j : Int, 0 ≤ j → j < n → it1 j = it j) → x_li h1 a b mc n1 it1 := fun {a b mc n n1 it it1} l ea eb en ei => by
    subst en
    obtain ⟨l1, kd, cap, g, l2, l3, l4, l5, l6⟩ := l
    exact ⟨ea.trans l1, kd, cap, g, eb.trans l2, l3, l4, l5, fun j j0 j1 => by rw [ei j j0 j1]; exact l6 j j0 j1⟩
  have r7 : r1 7 = r 7 := hr 7 (by omega)
  have r8 : r1 8 = r 8 := hr 8 (by omega)
  refine ⟨by rw [keep (j := 2) (n0 0 (by omega)) (by rw [c0]) (by decide), c0, ecF], ⟨m1, ?_⟩, ⟨m2, ?_⟩, ⟨m3, ?_⟩, ⟨m4, ?_⟩, fun w w0 w1 => ?_, fun i i0 i1 => ?_, fun k hk => up _ (n0 k hk), n8.imp (up _) id, fun w w0 w1 => ?_, fun i i0 i1 => ?_⟩
  · exact lr c1 (keep (n0 1 (by omega)) k1.1 (by decide)) (keepA (Or.inl (n0 2 (by omega))) (n0 2 (by omega)).2 k1.2) (hr 5 (by omega)) (fun j j0 j1 => by rw [hr (10 + j) (by omega)])
  · exact lr c2 (keep (n0 3 (by omega)) k2.1 (by decide)) (keepA (Or.inl (n0 4 (by omega))) (n0 4 (by omega)).2 k2.2) (hr 6 (by omega)) (fun j j0 j1 => by rw [hr (22 + j) (by omega)])
  · exact lr c3 (keep (n0 5 (by omega)) k3.1 (by decide)) (keepA (Or.inl (n0 6 (by omega))) (n0 6 (by omega)).2 k3.2) r7 (fun j j0 j1 => rfl)
  · exact lr c4 (keep (n0 7 (by omega)) k4.1 (by decide)) (keepA n8 (by rcases n8 with q | q; exact q.2; rw [q]; exact hlt) k4.2) r8 (fun j j0 j1 => rfl)
  · rw [r7] at w1
    obtain ⟨d1, g, d2, d3⟩ := c5 w w0 w1
    have kg : (h.1 (α (20 + w.toNat))).1 = 50 := by rw [d2]
    rw [keep (nw w w0 w1).2 kg (by decide)]
    by_cases q : w = u
    · subst q
      refine ⟨hw, g, d2, fun k k0 k1 => ?_⟩
      rw [hr _ (by omega)] at k1
      rw [hr _ (by omega)]
      exact d3 k k0 k1
    · have kw : (h.1 (α (10 + w.toNat))).1 = 9 := by rw [d1]
      rw [he _ (nw w w0 w1).1.2 (o7 w u w0 w1 hu.1 hu.2 q)]
      have ewF : x_wF r1 w (α (20 + w.toNat)) = x_wF r w (α (20 + w.toNat)) := by
        funext k
        unfold x_wF
        rw [hr _ (by omega), hr _ (by omega), hr _ (by omega), hr _ (by omega), hr _ (by omega)]
      rw [ewF]
      refine ⟨d1, g, d2, fun k k0 k1 => ?_⟩
      rw [hr _ (by omega)] at k1
      have h9 := sg w w0 w1
      rw [hr _ (by omega)]
      exact d3 k k0 k1
  · rw [r8] at i1
    have ka : (h.1 (α (40 + i.toNat))).1 = 10 := by rw [c6 i i0 i1]
    rw [keep (na i i0 i1) ka (by decide), hr (119 + i) (by omega)]
    exact c6 i i0 i1
  · rw [r7] at w1
    exact ⟨up _ (nw w w0 w1).1, up _ (nw w w0 w1).2⟩
  · rw [r8] at i1
    exact up _ (na i i0 i1)
