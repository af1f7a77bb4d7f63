/-! QUESTIONS about nets, pure -/
set_option maxRecDepth 100000
theorem x_T_0 (ρ : t_S) (y : Int) : x_T ρ y 0 = (t_nm0 ρ, 0) := rfl
theorem x_nm_cg {ρ μ : t_S} (F : z_F ρ) {y : Int} (hy : 0 ≤ y ∧ y ≤ ρ 1 0) (e : ∀ j, j ≠ 34 → μ j = ρ j) : (t_nm y μ).2 = (t_nm y ρ).2 := by
  have hz := F.1.1
  have hzm : t_sz μ := by unfold t_sz; rw [e 1 (by decide)]; exact hz
  have e30 := e 30 (by decide)
  have key : ∀ n : Nat, n ≤ 80 → (x_T μ y n).2 = (x_T ρ y n).2 ∧ ∀ c : Int, 0 ≤ c → c < 80 → (x_T μ y n).1 34 c = (x_T ρ y n).1 34 c := by
    intro n
    induction n with
    | zero =>
      intro _
      rw [show ((0 : Nat) : Int) = 0 from rfl, x_T_0, x_T_0]
      dsimp only
      refine ⟨rfl, fun c c0 c1 => ?_⟩
      rw [t_nm0_0 c c0 c1, t_nm0_0 c c0 c1]
    | succ n ih =>
      intro hn
      obtain ⟨i1, i2⟩ := ih (by omega)
      rw [show ((n + 1 : Nat) : Int) = (n : Int) + 1 by omega]
      have hc : 0 ≤ (n : Int) ∧ (n : Int) < 80 := ⟨by omega, by omega⟩
      have i3 := i2 n hc.1 hc.2
      by_cases q : ρ 30 (80 * y + n) = 0 ∨ (x_T ρ y n).1 34 n = 1
      · rw [x_T_no hz hc q, x_T_no hzm hc (by rw [e30, i3]; exact q)]
        exact ⟨i1, i2⟩
      · have q1 : ρ 30 (80 * y + n) ≠ 0 := fun w => q (Or.inl w)
        have q2 : (x_T ρ y n).1 34 n ≠ 1 := fun w => q (Or.inr w)
        have h8 : x_c8 (n : Int) := by
          by_cases w : x_c8 (n : Int)
          · exact w
          · exact absurd (x_rd0 F hy n hc.1 hc.2 w) q1
        obtain ⟨a1, a2⟩ := x_T_go hz (y := y) hc h8 q1 q2
        obtain ⟨b1, b2⟩ := x_T_go hzm (y := y) hc h8 (by rw [e30]; exact q1) (by rw [i3]; exact q2)
        refine ⟨by rw [a1, b1, i1], fun c c0 c1 => ?_⟩
        rw [a2 c c0 c1, b2 c c0 c1, i2 c c0 c1, z_lyf_cg hz (e 1 (by decide)) (e 15 (by decide)) (e 31 (by decide)) h8 c c0 c1]
  have g := (key 80 (Nat.le_refl _)).1
  rw [show ((80 : Nat) : Int) = 80 from rfl, x_T_80, x_T_80] at g
  exact g
theorem x_nm_ge {ρ : t_S} (F : z_F ρ) {y : Int} (hy : 0 ≤ y ∧ y ≤ ρ 1 0) : ∀ (m n : Nat), n + m ≤ 80 → (x_T ρ y n).2 ≤ (x_T ρ y ((n + m : Nat) : Int)).2
  | 0, n, _ => Int.le_refl _
  | m + 1, n, h => by
    have i := x_nm_ge F hy m n (by omega)
    have hz := F.1.1
    rw [show ((n + (m + 1) : Nat) : Int) = ((n + m : Nat) : Int) + 1 by omega]
    have hc : 0 ≤ ((n + m : Nat) : Int) ∧ ((n + m : Nat) : Int) < 80 := ⟨by omega, by omega⟩
    by_cases q : ρ 30 (80 * y + ((n + m : Nat) : Int)) = 0 ∨ (x_T ρ y ((n + m : Nat) : Int)).1 34 ((n + m : Nat) : Int) = 1
    · rw [x_T_no hz hc q]; exact i
    · have q1 : ρ 30 (80 * y + ((n + m : Nat) : Int)) ≠ 0 := fun w => q (Or.inl w)
      have h8 : x_c8 ((n + m : Nat) : Int) := by
        by_cases w : x_c8 ((n + m : Nat) : Int)
        · exact w
        · exact absurd (x_rd0 F hy _ hc.1 hc.2 w) q1
      have := (x_T_go hz (y := y) hc h8 q1 (fun w => q (Or.inr w))).1
      omega
theorem x_nm_0 {ρ : t_S} (F : z_F ρ) {y : Int} (hy : 0 ≤ y ∧ y ≤ ρ 1 0) : ((t_nm y ρ).2 = 0 ↔ t_rdm ρ y = 0) ∧ (t_rdm ρ y ≠ 0 → ∃ c, x_c8 c ∧ ρ 30 (80 * y + c) = 1) := by
  have hz := F.1.1
  have h01 : ∀ c : Int, 0 ≤ c → c < 80 → ρ 30 (80 * y + c) = 0 ∨ ρ 30 (80 * y + c) = 1 := fun c c0 c1 => (F.2.2.2.1.1 y c hy.1 (by omega) c0 c1).1
  by_cases q : ∃ c, x_c8 c ∧ ρ 30 (80 * y + c) = 1
  · obtain ⟨c, c8, h1⟩ := q
    have hr : 1 ≤ t_rdm ρ y := x_sum_1 (g := t_rdg ρ y) c8.1 (by show 1 ≤ ρ 30 (80 * y + c); omega) 80 (fun i i0 i1 => by
      have := h01 i i0 (by omega)
      show 0 ≤ ρ 30 (80 * y + i)
      omega) (by have := c8.2.1; omega)
    obtain ⟨f8, f1, f0⟩ := z_os1 F hy c8 h1
    have hf : ∀ n : Nat, (n : Int) ≤ t_os1 y ρ → x_T ρ y n = x_T ρ y 0 := by
      intro n
      induction n with
      | zero => intro _; rfl
      | succ n ih =>
        intro hn
        rw [show ((n + 1 : Nat) : Int) = (n : Int) + 1 by omega, x_T_no hz ⟨by omega, by have := f8.2.1; omega⟩ (Or.inl (f0 n (by omega) (by omega)))]
        exact ih (by omega)
    have hfn := hf (t_os1 y ρ).toNat (by have := f8.1; omega)
    rw [Int.toNat_of_nonneg f8.1] at hfn
    have h34 : (x_T ρ y (t_os1 y ρ)).1 34 (t_os1 y ρ) = 0 := by
      rw [hfn]; exact t_nm0_0 _ f8.1 f8.2.1
    have g := (x_T_go hz (y := y) ⟨f8.1, f8.2.1⟩ f8 (by omega) (by omega)).1
    rw [hfn] at g
    have g0 := x_T_00 ρ y
    have m := x_nm_ge F hy (80 - ((t_os1 y ρ).toNat + 1)) ((t_os1 y ρ).toNat + 1) (by have := f8.1; have := f8.2.1; omega)
    rw [show (((t_os1 y ρ).toNat + 1 : Nat) : Int) = t_os1 y ρ + 1 by have := f8.1; omega, show (((t_os1 y ρ).toNat + 1 + (80 - ((t_os1 y ρ).toNat + 1)) : Nat) : Int) = 80 by have := f8.1; have := f8.2.1; omega] at m
    have e80 := x_T_80 ρ y
    rw [e80] at m
    exact ⟨⟨fun z => by omega, fun z => by omega⟩, fun _ => ⟨c, c8, h1⟩⟩
  · have hall : ∀ c : Int, 0 ≤ c → c < 80 → ρ 30 (80 * y + c) = 0 := fun c c0 c1 => by
      by_cases w : x_c8 c
      · exact (h01 c c0 c1).elim id (fun z => absurd ⟨c, w, z⟩ q)
      · exact x_rd0 F hy c c0 c1 w
    have hr : t_rdm ρ y = 0 := x_sum_0 80 (fun i i0 i1 => hall i i0 (by omega))
    have hf : ∀ n : Nat, n ≤ 80 → x_T ρ y n = x_T ρ y 0 := by
      intro n
      induction n with
      | zero => intro _; rfl
      | succ n ih =>
        intro hn
        rw [show ((n + 1 : Nat) : Int) = (n : Int) + 1 by omega, x_T_no hz ⟨by omega, by omega⟩ (Or.inl (hall n (by omega) (by omega)))]
        exact ih (by omega)
    have e80 := x_T_80 ρ y
    have g := hf 80 (Nat.le_refl _)
    rw [show ((80 : Nat) : Int) = 80 from rfl, e80] at g
    have g0 := x_T_00 ρ y
    exact ⟨⟨fun _ => hr, fun _ => by rw [g, g0]⟩, fun z => absurd hr z⟩
theorem x_missing0 {ρ : t_S} (F : z_F ρ) {y : Int} (hY : t_isY ρ y) (h : (t_nm y ρ).2 = 0) : (0 : Int) = v_missing ρ y := by
  unfold v_missing
  rw [if_pos hY, if_pos ((x_nm_0 F hY.2).1.mp h)]
theorem x_missing1 {ρ : t_S} (F : z_F ρ) {y : Int} (hY : t_isY ρ y) (h : (t_nm y ρ).2 ≠ 0) : (x_c8 (t_os1 y ρ) ∧ ρ 30 (80 * y + t_os1 y ρ) = 1 ∧ ∀ e : Int, 0 ≤ e → e < t_os1 y ρ → ρ 30 (80 * y + e) = 0) ∧ ∀ N, x_J1 ρ y (t_os1 y ρ) N → v_missing ρ y = if N = 1 then (t_nm y ρ).2 - 1 else -1 := by
  have h0 := x_nm_0 F hY.2
  have hr : t_rdm ρ y ≠ 0 := fun z => h (h0.1.mpr z)
  obtain ⟨c, c8, h1⟩ := h0.2 hr
  refine ⟨z_os1 F hY.2 c8 h1, fun N hN => ?_⟩
  have ho := x_oss F hY.2 c8 h1
  have hm : (t_nm y (t_os y ρ).1).2 = (t_nm y ρ).2 := by
    have hk := (t_osrl_in (y := y) (t_os0_in (σ := ρ) (y := y)) 80).1
    have e : t_os y ρ = t_it (t_osr y) 80 (t_os0 y ρ) := rfl
    rw [← e] at hk
    revert hk
    generalize (t_os y ρ).1 = μ
    intro hk
    exact x_nm_cg F hY.2 hk
  unfold v_missing
  rw [if_pos hY, if_neg hr, hm]
  by_cases q : N = 1
  · rw [if_pos q, if_pos (ho.mpr (hN.2.mp q))]
  · rw [if_neg q, if_neg (fun z => q (hN.2.mpr (ho.mp z)))]
/-- the farthest, the least of them -/
def x_fb (D : Int → Int) (c : Int) : Nat → Int
  | 0 => c
  | n + 1 => if D (x_fb D c n) < D n ∨ (D n = D (x_fb D c n) ∧ n < x_fb D c n) then n else x_fb D c n
theorem x_fb_s (D : Int → Int) (c : Int) {i : Int} (hi : 0 ≤ i) : x_fb D c (i + 1).toNat = if D (x_fb D c i.toNat) < D i ∨ (D i = D (x_fb D c i.toNat) ∧ i < x_fb D c i.toNat) then i else x_fb D c i.toNat := by
  rw [show (i + 1).toNat = i.toNat + 1 by omega]
  show (if D (x_fb D c i.toNat) < D ((i.toNat : Nat) : Int) ∨ (D ((i.toNat : Nat) : Int) = D (x_fb D c i.toNat) ∧ ((i.toNat : Nat) : Int) < x_fb D c i.toNat) then ((i.toNat : Nat) : Int) else x_fb D c i.toNat) = _
  rw [Int.toNat_of_nonneg hi]
theorem x_fb_rg (D : Int → Int) {c m : Int} (hc : 0 ≤ c ∧ c < m) : ∀ n : Nat, (n : Int) ≤ m → 0 ≤ x_fb D c n ∧ x_fb D c n < m
  | 0, _ => hc
  | n + 1, h => by
    have h1 := x_fb_rg D hc n (by omega)
    unfold x_fb
    split <;> omega
theorem x_fb_t (τ : t_S) (c : Int) : ∀ n : Nat, t_frb τ c n = x_fb (τ 33) c n
  | 0 => rfl
  | n + 1 => by
    unfold t_frb x_fb
    rw [x_fb_t τ c n]
theorem x_fb_ch (D : Int → Int) (c : Int) : ∀ n : Nat, (D c ≤ D (x_fb D c n) ∧ (D c = D (x_fb D c n) → x_fb D c n ≤ c)) ∧ ∀ i : Int, 0 ≤ i → i < n → D i ≤ D (x_fb D c n) ∧ (D i = D (x_fb D c n) → x_fb D c n ≤ i)
  | 0 => ⟨⟨Int.le_refl _, fun _ => Int.le_refl _⟩, fun i a b => by omega⟩
  | n + 1 => by
    obtain ⟨i1, i2⟩ := x_fb_ch D c n
    unfold x_fb
    revert i1 i2
    generalize x_fb D c n = b
    intro i1 i2
    split
    · rename_i q
      refine ⟨⟨by omega, fun z => by omega⟩, fun i a d => ?_⟩
      by_cases z : i = n
      · rw [z]; exact ⟨Int.le_refl _, fun _ => Int.le_refl _⟩
      · have := i2 i a (by omega)
        exact ⟨by omega, fun w => by omega⟩
    · rename_i q
      refine ⟨i1, fun i a d => ?_⟩
      by_cases z : i = n
      · rw [z]
        by_cases w : D n = D b
        · exact ⟨by omega, fun _ => by omega⟩
        · exact ⟨by omega, fun v => absurd v w⟩
      · exact i2 i a (by omega)
theorem x_fb_ce {D : Int → Int} {c : Int} (hc : x_c8 c) (h0 : D c = 0) (hD0 : ∀ e : Int, 0 ≤ e → e < 80 → ¬ x_c8 e → D e = -1) : x_ce (x_fb (fun s => D (x_ce s)) (x_sp c) 64) = x_fb D c 80 := by
  have rc := x_sp_rg hc
  obtain ⟨a1, a2⟩ := x_fb_ch (fun s => D (x_ce s)) (x_sp c) 64
  obtain ⟨b1, b2⟩ := x_fb_ch D c 80
  have r1 := x_fb_rg (fun s => D (x_ce s)) (c := x_sp c) (m := 64) ⟨rc.1, rc.2.1⟩ 64 (by decide)
  have r2 := x_fb_rg D (c := c) (m := 80) ⟨hc.1, hc.2.1⟩ 80 (by decide)
  revert a1 a2 b1 b2 r1 r2
  generalize x_fb (fun s => D (x_ce s)) (x_sp c) 64 = s
  generalize x_fb D c 80 = b
  intro a1 a2 b1 b2 r1 r2
  have b8 : x_c8 b := by
    by_cases q : x_c8 b
    · exact q
    · have := hD0 b r2.1 r2.2 q; omega
  have s8 := (x_ce_rg r1).1
  have rb := x_sp_rg b8
  have g1 : D (x_ce (x_sp b)) ≤ D (x_ce s) ∧ (D (x_ce (x_sp b)) = D (x_ce s) → s ≤ x_sp b) := a2 (x_sp b) rb.1 rb.2.1
  rw [rb.2.2] at g1
  have g2 := b2 (x_ce s) s8.1 s8.2.1
  have g3 : s ≤ x_sp b := g1.2 (by omega)
  have g4 : b ≤ x_ce s := g2.2 (by omega)
  rcases Int.lt_trichotomy b (x_ce s) with q | q | q
  · have := (x_sp_lt b8 s8).mpr q
    rw [(x_ce_rg r1).2] at this
    omega
  · exact q.symm
  · omega
/-- creeks barred -/
theorem x_ov_D {ρ : t_S} (hz : t_sz ρ) (hI : ∀ c, x_c8 c → t_is ρ 15 c = ρ 15 c) {a : Int} (ha : x_c8 a) : x_D (fun c d => t_bes ρ c d ≠ -1 ∧ t_is ρ 15 (t_bes ρ c d) = 0) (t_bes ρ) a (t_lyf a (-1) ρ 33) := by
  refine x_D_cg (fun c d _ _ _ => ?_) (fun _ _ => rfl) (z_lyf (y := -1) hz ha).1
  show (t_bes ρ c d ≠ -1 ∧ ((-1 : Int) = -1 ∧ ρ 15 (t_bes ρ c d) = 0 ∨ (-1 : Int) ≠ -1 ∧ e_bt (t_pgs ρ c (-1)) d = 1)) ↔ _
  constructor
  · rintro ⟨p, q | q⟩
    · refine ⟨p, ?_⟩
      rw [hI _ (x_okc hz (z_bes_ok hz p))]; exact q.2
    · exact absurd rfl q.1
  · rintro ⟨p, q⟩
    rw [hI _ (x_okc hz (z_bes_ok hz p))] at q
    exact ⟨p, Or.inl ⟨rfl, q⟩⟩
theorem x_or_1 {a : Int} (h : a = 0 ∨ a = 1) : Int32.ofInt a ||| Int32.ofInt 1 = Int32.ofInt 1 := by
  rcases h with q | q <;> rw [q] <;> rfl
theorem x_an1 {g : Int → Int} {i : Int} (hi : 0 ≤ i) (h : g i = 1) : t_anyg g (i + 1).toNat = 1 := by
  rw [t_anyg_s _ hi, h]
  split <;> rfl
theorem x_an0 {g : Int → Int} {i : Int} (hi : 0 ≤ i) (h01 : t_anyg g i.toNat = 0 ∨ t_anyg g i.toNat = 1) (h : g i = 0) : t_anyg g (i + 1).toNat = t_anyg g i.toNat := by
  rw [t_anyg_s _ hi, h]
  rcases h01 with q | q <;> rw [q] <;> rfl
/-- lines: cells and spots -/
theorem x_it_ce {f : Int → Int → Int} (hP : ∀ c m, 0 ≤ m → 0 ≤ f c m) (h : ∀ c m : Int, 0 ≤ m → 0 ≤ c → c < 80 → ¬ x_c8 c → f c m = m) : ∀ a : Nat, a ≤ 8 → t_it f (10 * a) 0 = t_it (fun s => f (x_ce s)) (8 * a) 0 ∧ 0 ≤ t_it f (10 * a) 0
  | 0, _ => ⟨rfl, Int.le_refl _⟩
  | a + 1, ha => by
    obtain ⟨i1, i2⟩ := x_it_ce hP h a (by omega)
    have s10 : t_it f (10 * (a + 1)) 0 = f (10 * a + 9) (f (10 * a + 8) (f (10 * a + 7) (f (10 * a + 6) (f (10 * a + 5) (f (10 * a + 4) (f (10 * a + 3) (f (10 * a + 2) (f (10 * a + 1) (f (10 * a) (t_it f (10 * a) 0)))))))))) := rfl
    have s8 : ∀ u : Int → Int → Int, t_it u (8 * (a + 1)) 0 = u (8 * a + 7) (u (8 * a + 6) (u (8 * a + 5) (u (8 * a + 4) (u (8 * a + 3) (u (8 * a + 2) (u (8 * a + 1) (u (8 * a) (t_it u (8 * a) 0)))))))) := fun u => rfl
    have c : ∀ d : Int, 0 ≤ d → d < 8 → x_ce (8 * a + d) = 10 * a + d := fun d d0 d1 => by unfold x_ce; rw [if_neg (by omega)]; omega
    have c0 := c 0 (by omega) (by omega)
    rw [Int.add_zero, Int.add_zero] at c0
    rw [s10, s8, ← i1, c0, c 1 (by omega) (by omega), c 2 (by omega) (by omega), c 3 (by omega) (by omega), c 4 (by omega) (by omega), c 5 (by omega) (by omega), c 6 (by omega) (by omega), c 7 (by omega) (by omega)]
    have p := hP (10 * a + 7) _ (hP (10 * a + 6) _ (hP (10 * a + 5) _ (hP (10 * a + 4) _ (hP (10 * a + 3) _ (hP (10 * a + 2) _ (hP (10 * a + 1) _ (hP (10 * a) _ i2)))))))
    revert p
    generalize f (10 * a + 7) _ = m
    intro p
    rw [h (10 * a + 8) m p (by omega) (by omega) (fun q => by have := q.2.2; omega), h (10 * a + 9) m p (by omega) (by omega) (fun q => by have := q.2.2; omega)]
    exact ⟨rfl, p⟩
theorem x_line {ρ : t_S} (F : z_F ρ) {y : Int} (hy : 0 ≤ y ∧ y ≤ ρ 1 0) : t_it (fun s => t_lnf ρ y (x_ce s)) 64 0 = t_it (t_lnf ρ y) 80 0 := by
  refine ((x_it_ce (f := t_lnf ρ y) (fun c m hm => ?_) (fun c m hm c0 c1 hc => ?_) 8 (Nat.le_refl _)).1).symm
  · have h1 := t_lne_rg ρ y 1 11 c 0
    have h2 := t_lne_rg ρ y 2 11 c 0
    unfold t_lnf t_mx
    split <;> (try split) <;> omega
  · have e : ∀ d, t_lne ρ y d 11 c 0 = 0 := fun d => by
      unfold t_lne
      rw [show t_pgs ρ c y = 0 from (x_pgF F hy ⟨c0, c1⟩).2.2 (fun z => hc (x_okc F.1.1 z)), b_0, if_neg (by decide)]
    unfold t_lnf t_mx
    rw [e 1, e 2, if_pos hm, if_pos hm]
