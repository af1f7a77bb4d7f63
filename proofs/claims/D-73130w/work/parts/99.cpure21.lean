/-! BRIDGES, pure -/
set_option maxRecDepth 100000
theorem z_hist {ρ : t_S} (F : z_F ρ) : t_hist ρ := by
  obtain ⟨ha, hg, hu, hh, -⟩ := F
  refine ⟨ha, fun y c y0 y1 c0 c1 => ?_, fun y h y0 y1 a b => hh.2 y h y0 (by omega) a b, fun w w0 w1 => ?_, fun h a b => hg.2.2 h a b⟩
  · obtain ⟨p, q, r, -⟩ := hh.1 y c y0 (by omega) c0 c1
    exact ⟨p, q, r⟩
  · obtain ⟨p, q, -⟩ := hg.2.1 w w0 w1
    refine ⟨p, fun k k0 k1 => ?_⟩
    have := z_okC_rg ha.1 (q k k0 k1)
    exact ⟨this.1, this.2.1⟩
theorem b_xor {a b k : Int} (ha : 0 ≤ a) (hb : 0 ≤ b) (hk : 0 ≤ k) : e_bt (t_xor a b) k = if (e_bt a k = 1 ∧ e_bt b k ≠ 1) ∨ (e_bt a k ≠ 1 ∧ e_bt b k = 1) then 1 else 0 := by
  rw [b_tb (t_xor a b) k (Int.natCast_nonneg _) hk, b_tb a k ha hk, b_tb b k hb hk]
  unfold t_xor
  rw [Int.toNat_natCast, Nat.testBit_xor]
  cases a.toNat.testBit k.toNat <;> cases b.toNat.testBit k.toNat <;> simp
/-- the peg at c, d taken away -/
def x_bL (ρ : t_S) (y b w : Int) : Int → Int → Prop := fun c d => e_bt (ρ 31 (80 * y + c)) d = 1 ∧ ¬ ((c = b ∧ d = w) ∨ (t_bes ρ c d = b ∧ (d + 2) % 4 = w))
def x_bq (ρ : t_S) (y c d : Int) : Int → Int := t_lyf c y (t_tg (80 * y + c) (80 * y + t_bes ρ c d) (2 ^ d.toNat) (2 ^ ((d + 2) % 4).toNat) ρ) 33
theorem x_bq_D {ρ : t_S} (F : z_F ρ) {y c d : Int} (hy : 0 ≤ y ∧ y ≤ ρ 1 0) (hc : x_c8 c) (hd : d = 1 ∨ d = 2) (hb : e_bt (ρ 31 (80 * y + c)) d = 1) : x_D (x_bL ρ y c d) (t_bes ρ) c (x_bq ρ y c d) ∧ (∀ e : Int, 0 ≤ e → e < 80 → ¬ x_c8 e → x_bq ρ y c d e = -1) ∧ ∀ e : Int, 0 ≤ e → e < 80 → -1 ≤ x_bq ρ y c d e ∧ x_bq ρ y c d e < 80 := by
  have hz := F.1.1
  have H := z_hist F
  obtain ⟨⟨q1, q2, q3⟩, hl⟩ := t_brq_in H hy ⟨hc.1, hc.2.1⟩ hd hb
  have hp := (x_pgF F hy (c := c) ⟨hc.1, hc.2.1⟩).2.1 d (by omega) (by omega) hb
  have ho := z_bes_ok hz hp.1
  have hcc : t_okC (ρ 1) c := by
    by_cases q : t_okC (ρ 1) c
    · exact q
    · rw [(x_pgF F hy (c := c) ⟨hc.1, hc.2.1⟩).2.2 q, b_0] at hb; exact absurd hb (by decide)
  have bk := (z_bes_back hz hcc ⟨by omega, by omega⟩ hp.1).1
  unfold x_bq
  obtain ⟨to, ht⟩ : ∃ to, t_bes ρ c d = to := ⟨_, rfl⟩
  rw [ht] at q1 q2 q3 hp ho bk ⊢
  have h31 : ∀ e f : Int, 0 ≤ e → e < 80 → 0 ≤ f → f < 4 → (e_bt (t_tg (80 * y + c) (80 * y + to) (2 ^ d.toNat) (2 ^ ((d + 2) % 4).toNat) ρ 31 (80 * y + e)) f = 1 ↔ e_bt (ρ 31 (80 * y + e)) f = 1 ∧ ¬ (e = c ∧ f = d) ∧ ¬ (e = to ∧ f = (d + 2) % 4)) := fun e f e0 e1 f0 f1 => by
    have rr := (x_pgF F hy (c := e) ⟨e0, e1⟩).1
    have pw : ∀ j : Int, 0 ≤ j → (0 : Int) ≤ 2 ^ j.toNat := fun j _ => Int.le_of_lt (Int.pow_pos (by decide))
    unfold t_tg
    rw [s_up_j (show 80 * y + to ≠ 80 * y + c by omega)]
    by_cases z : e = to
    · rw [z] at rr ⊢
      rw [s_up_eq, b_xor rr.1 (pw _ (by omega)) f0, b_pow (by omega) f0]
      have h01 := e_bt01 (ρ 31 (80 * y + to)) f
      by_cases w : f = (d + 2) % 4
      · rw [if_pos w, w, hp.2.1, if_neg (by decide)]
        exact ⟨fun v => absurd v (by decide), fun v => absurd ⟨rfl, rfl⟩ v.2.2⟩
      · rw [if_neg w]
        by_cases v : e_bt (ρ 31 (80 * y + to)) f = 1
        · rw [if_pos (Or.inl ⟨v, by decide⟩)]
          exact ⟨fun _ => ⟨v, fun u => q3 u.1, fun u => w u.2⟩, fun _ => rfl⟩
        · rw [if_neg (fun u => u.elim (fun u => v u.1) (fun u => absurd u.2 (by decide)))]
          exact ⟨fun u => absurd u (by decide), fun u => absurd u.1 v⟩
    · rw [s_up_j (show 80 * y + e ≠ 80 * y + to by omega)]
      by_cases z2 : e = c
      · rw [z2] at rr ⊢
        rw [s_up_eq, b_xor rr.1 (pw _ (by omega)) f0, b_pow (by omega) f0]
        by_cases w : f = d
        · rw [if_pos w, w, hb, if_neg (by decide)]
          exact ⟨fun v => absurd v (by decide), fun v => absurd ⟨rfl, rfl⟩ v.2.1⟩
        · rw [if_neg w]
          by_cases v : e_bt (ρ 31 (80 * y + c)) f = 1
          · rw [if_pos (Or.inl ⟨v, by decide⟩)]
            exact ⟨fun _ => ⟨v, fun u => w u.2, fun u => q3 u.1.symm⟩, fun _ => rfl⟩
          · rw [if_neg (fun u => u.elim (fun u => v u.1) (fun u => absurd u.2 (by decide)))]
            exact ⟨fun u => absurd u (by decide), fun u => absurd u.1 v⟩
      · rw [s_up_j (show 80 * y + e ≠ 80 * y + c by omega)]
        exact ⟨fun u => ⟨u, fun v => z2 v.1, fun v => z v.1⟩, fun u => u.1⟩
  have e1 : t_tg (80 * y + c) (80 * y + to) (2 ^ d.toNat) (2 ^ ((d + 2) % 4).toNat) ρ 1 = ρ 1 := t_tg_k (by decide)
  have hzt := hl.1
  rw [ht] at hzt
  revert h31 e1 hzt
  generalize t_tg (80 * y + c) (80 * y + to) (2 ^ d.toNat) (2 ^ ((d + 2) % 4).toNat) ρ = μ
  intro h31 e1 hzt
  obtain ⟨g1, g2, g3, -⟩ := z_lyf (y := y) hzt hc
  refine ⟨x_D_cg (fun e f he f0 f1 => ?_) (fun e f => z_bes_cg e1 e f) g1, g2, g3⟩
  have hb9 := z_bes_cg e1 e f
  have h9 := (x_pgF F hy (c := e) ⟨he.1, he.2.1⟩).2.1 f f0 f1
  show (t_bes μ e f ≠ -1 ∧ (y = -1 ∧ μ 15 (t_bes μ e f) = 0 ∨ y ≠ -1 ∧ e_bt (μ 31 (80 * y + e)) f = 1)) ↔ (e_bt (ρ 31 (80 * y + e)) f = 1 ∧ ¬ ((e = c ∧ f = d) ∨ (t_bes ρ e f = c ∧ (f + 2) % 4 = d)))
  rw [hb9]
  have key : e_bt (ρ 31 (80 * y + e)) f = 1 → ((t_bes ρ e f = c ∧ (f + 2) % 4 = d) ↔ (e = to ∧ f = (d + 2) % 4)) := fun hef => by
    have hne := (h9 hef).1
    have hec : t_okC (ρ 1) e := by
      by_cases q : t_okC (ρ 1) e
      · exact q
      · rw [(x_pgF F hy (c := e) ⟨he.1, he.2.1⟩).2.2 q, b_0] at hef; exact absurd hef (by decide)
    have bk2 := (z_bes_back hz hec ⟨f0, f1⟩ hne).1
    constructor
    · rintro ⟨p, q⟩
      rw [p, q, ht] at bk2
      exact ⟨bk2.symm, by omega⟩
    · rintro ⟨p, q⟩
      rw [p, q]
      exact ⟨bk, by omega⟩
  constructor
  · rintro ⟨p, q⟩
    have q2 : e_bt (μ 31 (80 * y + e)) f = 1 := q.elim (fun w => by omega) (fun w => w.2)
    obtain ⟨u1, u2, u3⟩ := (h31 e f he.1 he.2.1 f0 f1).mp q2
    exact ⟨u1, fun w => w.elim u2 (fun w => u3 ((key u1).mp w))⟩
  · rintro ⟨p, q⟩
    exact ⟨(h9 p).1, Or.inr ⟨by omega, (h31 e f he.1 he.2.1 f0 f1).mpr ⟨p, fun w => q (Or.inl w), fun w => q (Or.inr ((key p).mpr w))⟩⟩⟩
def x_bg1 (ρ : t_S) (y c d : Int) : Int := if e_bt (ρ 31 (80 * y + c)) d = 0 then 0 else if x_bq ρ y c d (t_bes ρ c d) = -1 then 1 else 0
theorem x_bg10 {ρ : t_S} (F : z_F ρ) {y c d : Int} (hy : 0 ≤ y ∧ y ≤ ρ 1 0) (hc : 0 ≤ c ∧ c < 80) (h : ¬ x_c8 c) : x_bg1 ρ y c d = 0 := by
  unfold x_bg1
  rw [(x_pgF F hy hc).2.2 (fun z => h (x_okc F.1.1 z)), if_pos (b_0 d)]
theorem x_brf {ρ : t_S} (F : z_F ρ) {y c d : Int} (hy : 0 ≤ y ∧ y ≤ ρ 1 0) (hc : 0 ≤ c ∧ c < 80) (hd : d = 1 ∨ d = 2) {x : t_S × Int} (hx : ∀ j, j ≠ 33 → x.1 j = ρ j) : (t_brf y c d x).2 = x.2 + x_bg1 ρ y c d := by
  have hb := z_bes_cg (hx 1 (by decide)) c d
  have hp : t_pgs x.1 c y = ρ 31 (80 * y + c) := by show x.1 31 _ = _; rw [hx 31 (by decide)]
  unfold t_brf x_bg1
  rw [hp]
  by_cases q : e_bt (ρ 31 (80 * y + c)) d = 0
  · rw [if_pos q, if_pos q]; omega
  · rw [if_neg q, if_neg q]
    have h01 := e_bt01 (ρ 31 (80 * y + c)) d
    have h8 : x_c8 c := by
      by_cases w : x_c8 c
      · exact w
      · exfalso
        apply q
        rw [(x_pgF F hy hc).2.2 (fun z => w (x_okc F.1.1 z)), b_0]
    obtain ⟨⟨q1, q2, q3⟩, hl⟩ := t_brq_in (z_hist F) hy hc hd (show e_bt (t_pgs ρ c y) d = 1 by show e_bt (ρ 31 (80 * y + c)) d = 1; omega)
    show x.2 + (if t_brq y c d x.1 33 (t_bes x.1 c d) = -1 then 1 else 0) = _
    have e : t_brq y c d x.1 33 (t_bes x.1 c d) = x_bq ρ y c d (t_bes ρ c d) := by
      unfold t_brq x_bq
      rw [hb]
      refine z_lyf_cg hl.1 ?_ ?_ ?_ h8 _ q1 q2
      · rw [t_tg_k (by decide), t_tg_k (by decide), hx 1 (by decide)]
      · rw [t_tg_k (by decide), t_tg_k (by decide), hx 15 (by decide)]
      · funext j
        have e31 := hx 31 (by decide)
        unfold t_tg
        by_cases z : j = 80 * y + t_bes ρ c d
        · rw [z, s_up_eq, s_up_eq]
          by_cases w : 80 * y + t_bes ρ c d = 80 * y + c
          · rw [w, s_up_eq, s_up_eq, e31]
          · rw [s_up_j w, s_up_j w, e31]
        · rw [s_up_j z, s_up_j z]
          by_cases w : j = 80 * y + c
          · rw [w, s_up_eq, s_up_eq, e31]
          · rw [s_up_j w, s_up_j w, e31]
    rw [e]
theorem x_br {ρ : t_S} (F : z_F ρ) {y : Int} (hy : 0 ≤ y ∧ y ≤ ρ 1 0) : (t_br y ρ).2 = t_sum (fun c => x_bg1 ρ y c 1 + x_bg1 ρ y c 2) 80 := by
  have key : ∀ n : Nat, n ≤ 80 → (t_it (t_brc y) n (ρ, 0)).2 = t_sum (fun c => x_bg1 ρ y c 1 + x_bg1 ρ y c 2) n := by
    intro n
    induction n with
    | zero => intro _; rfl
    | succ n ih =>
      intro hn
      have i1 := ih (by omega)
      have hx := t_brc_in (z_hist F) hy n (by omega)
      have e : t_it (t_brc y) (n + 1) (ρ, 0) = t_brc y n (t_it (t_brc y) n (ρ, 0)) := rfl
      rw [e]
      revert i1 hx
      generalize t_it (t_brc y) n (ρ, 0) = x
      intro i1 hx
      have h1 := x_brf F hy (c := (n : Int)) ⟨by omega, by omega⟩ (Or.inl rfl) hx.1
      have hx1 := t_brf_in (c := (n : Int)) (z_hist F) hy ⟨by omega, by omega⟩ (Or.inl rfl) hx
      have h2 := x_brf F hy (c := (n : Int)) ⟨by omega, by omega⟩ (Or.inr rfl) hx1.1
      show (t_brf y n 2 (t_brf y n 1 x)).2 = t_sum _ n + (x_bg1 ρ y n 1 + x_bg1 ρ y n 2)
      rw [h2, h1, i1]
      omega
  exact key 80 (Nat.le_refl _)
