/-! THE COMPONENT: questions, pure -/
set_option maxRecDepth 100000
/-- what holds behind all walks, gathered -/
def z_F (ρ : t_S) : Prop := t_ask ρ ∧ z_G 91 ρ ∧ z_U ρ ∧ z_H (ρ 1 0 + 1) ρ ∧ ∀ c : Int, 0 ≤ c → c < 80 → ρ 30 (80 * ρ 1 0 + c) = ρ 21 c
theorem z_ga_F {σ : t_S} (ha : t_ask σ) : z_F (t_ga σ) := by
  have h := z_ga ha
  have e := z_h ha
  obtain ⟨⟨hi, hg, hu, hn, hh⟩, hl⟩ := h
  have h0 := ha.1.1
  unfold z_F
  rw [e.2]
  exact ⟨e.1, z_G_le (by omega) hg, hu, hh, hl⟩
theorem z_path {ρ : t_S} (F : z_F ρ) {w : Int} (hw : 0 ≤ w ∧ w < 7) : (-1 ≤ ρ 27 w ∧ ρ 27 w ≤ 40) ∧ ∀ k : Int, 0 ≤ k → k ≤ ρ 27 w → x_c8 (ρ 26 (41 * w + k)) := by
  obtain ⟨a, b, -⟩ := F.2.1.2.1 w hw.1 hw.2
  exact ⟨a, fun k k0 k1 => x_okc F.1.1 (b k k0 k1)⟩
theorem x_anyg_n {g : Int → Int} : ∀ n : Nat, (∀ i : Int, 0 ≤ i → i < n → g i = 0) → t_anyg g n = 0
  | 0, _ => rfl
  | n + 1, h => by
    show (if t_anyg g n = 1 then 1 else g (n : Int)) = 0
    rw [x_anyg_n n (fun i a b => h i a (by omega)), if_neg (by decide)]
    exact h n (by omega) (by omega)
theorem x_in0 {ρ : t_S} (F : z_F ρ) {w : Int} (hw : 0 ≤ w ∧ w < 7) : ∀ c : Int, 0 ≤ c → c < 80 → ¬ x_c8 c → t_in ρ w c = 0 := fun c _ _ hc => by
  unfold t_in
  refine x_anyg_n _ (fun k k0 k1 => ?_)
  show (if t_pth ρ w k = c then (1 : Int) else 0) = 0
  have hp := (z_path F hw).2 k k0 (by omega)
  have e : t_pth ρ w k = ρ 26 (41 * w + k) := if_pos (by omega)
  rw [e, if_neg (fun z => hc (by rw [← z]; exact hp))]
theorem x_ing (ρ : t_S) (w : Int) : x_g01 (t_in ρ w) := fun c _ => t_in01 ρ w c _
theorem x_grd {ρ : t_S} (F : z_F ρ) {w : Int} (hw : 0 ≤ w ∧ w < 7) : e_bsum (x_bs (t_in ρ w)) 64 = t_grd ρ w := x_bsum_bs (x_ing ρ w) (x_in0 F hw)
theorem x_rd01 {ρ : t_S} (F : z_F ρ) {y : Int} (hy : 0 ≤ y ∧ y ≤ ρ 1 0) : x_g01 (fun c => ρ 30 (80 * y + c)) := fun c hc => (F.2.2.2.1.1 y c hy.1 (by omega) hc.1 hc.2.1).1
theorem x_rd0 {ρ : t_S} (F : z_F ρ) {y : Int} (hy : 0 ≤ y ∧ y ≤ ρ 1 0) : ∀ c : Int, 0 ≤ c → c < 80 → ¬ x_c8 c → ρ 30 (80 * y + c) = 0 := fun c c0 c1 hc => ((F.2.2.2.1.1 y c hy.1 (by omega) c0 c1).2.2.2 (fun z => hc (x_okc F.1.1 z))).1
theorem x_rdm {ρ : t_S} (F : z_F ρ) {y : Int} (hy : 0 ≤ y ∧ y ≤ ρ 1 0) : e_bsum (x_bs (fun c => ρ 30 (80 * y + c))) 64 = t_rdm ρ y := x_bsum_bs (x_rd01 F hy) (x_rd0 F hy)
/-- sums -/
theorem x_bsum16 {v : Int} (hv : 0 ≤ v ∧ v < 2 ^ 4) : e_bsum v 16 = e_bt v 0 + e_bt v 1 + e_bt v 2 + e_bt v 3 := by
  have h := of_decide_eq_true (List.all_eq_true.mp (show (List.range 16).all (fun n => decide (e_bsum (n : Int) 16 = e_bt (n : Int) 0 + e_bt (n : Int) 1 + e_bt (n : Int) 2 + e_bt (n : Int) 3)) = true from by decide +kernel) v.toNat (List.mem_range.mpr (by omega)))
  rw [Int.toNat_of_nonneg hv.1] at h
  exact h
theorem x_sum_0 {g : Int → Int} : ∀ n : Nat, (∀ i : Int, 0 ≤ i → i < n → g i = 0) → t_sum g n = 0
  | 0, _ => rfl
  | n + 1, h => by
    show t_sum g n + g (n : Int) = 0
    rw [x_sum_0 n (fun i a b => h i a (by omega)), h n (by omega) (by omega)]
    rfl
theorem x_sum_add (g h : Int → Int) : ∀ n : Nat, t_sum (fun c => g c + h c) n = t_sum g n + t_sum h n
  | 0 => rfl
  | n + 1 => by
    show t_sum (fun c => g c + h c) n + (g n + h n) = t_sum g n + g n + (t_sum h n + h n)
    rw [x_sum_add g h n]
    omega
theorem x_sum_sh (g : Int → Int) (m : Nat) : ∀ n : Nat, t_sum (fun c => if c < m then 0 else g (c - m)) (m + n) = t_sum g n
  | 0 => x_sum_0 _ (fun i _ h => if_pos (by omega))
  | n + 1 => by
    show t_sum (fun c => if c < (m : Int) then 0 else g (c - m)) (m + n) + (if ((m + n : Nat) : Int) < m then 0 else g (((m + n : Nat) : Int) - m)) = t_sum g n + g n
    rw [x_sum_sh g m n, if_neg (by omega), show ((m + n : Nat) : Int) - m = n by omega]
theorem x_sum_tl {g : Int → Int} (n : Nat) : ∀ m : Nat, (∀ i : Int, n ≤ i → i < n + m → g i = 0) → t_sum g (n + m) = t_sum g n
  | 0, _ => rfl
  | m + 1, h => by
    show t_sum g (n + m) + g ((n + m : Nat) : Int) = t_sum g n
    rw [x_sum_tl n m (fun i a b => h i a (by omega)), h _ (by omega) (by omega)]
    omega
theorem x_bes4 (σ : t_S) (c : Int) : (t_bes σ c 0 ≠ -1 → t_bes σ c 0 = c - 1 ∧ 1 ≤ c % 10) ∧ (t_bes σ c 1 ≠ -1 → t_bes σ c 1 = c + 10) ∧ (t_bes σ c 2 ≠ -1 → t_bes σ c 2 = c + 1 ∧ c % 10 + 1 ≤ σ 1 4 - 1) ∧ (t_bes σ c 3 ≠ -1 → t_bes σ c 3 = c - 10 ∧ 10 ≤ c) := by
  have a0 : t_acr 0 = 0 := rfl
  have a1 : t_acr 1 = 1 := rfl
  have a2 : t_acr 2 = 0 := rfl
  have a3 : t_acr 3 = -1 := rfl
  have d0 : t_dwn 0 = -1 := rfl
  have d1 : t_dwn 1 = 0 := rfl
  have d2 : t_dwn 2 = 1 := rfl
  have d3 : t_dwn 3 = 0 := rfl
  unfold t_bes
  rw [a0, a1, a2, a3, d0, d1, d2, d3]
  refine ⟨fun h => ?_, fun h => ?_, fun h => ?_, fun h => ?_⟩ <;> (split at h <;> first | (exfalso; exact h rfl) | (rename_i q; rw [if_pos q]; omega))
/-- a peg, seen from its one end -/
theorem x_pgF {ρ : t_S} (F : z_F ρ) {y : Int} (hy : 0 ≤ y ∧ y ≤ ρ 1 0) {c : Int} (hc : 0 ≤ c ∧ c < 80) : (0 ≤ ρ 31 (80 * y + c) ∧ ρ 31 (80 * y + c) < 2 ^ 4) ∧ (∀ d : Int, 0 ≤ d → d < 4 → e_bt (ρ 31 (80 * y + c)) d = 1 → t_bes ρ c d ≠ -1 ∧ e_bt (ρ 31 (80 * y + t_bes ρ c d)) ((d + 2) % 4) = 1 ∧ ρ 30 (80 * y + c) = 1) ∧ (¬ t_okC (ρ 1) c → ρ 31 (80 * y + c) = 0) := by
  obtain ⟨-, a, b, c'⟩ := F.2.2.2.1.1 y c hy.1 (by omega) hc.1 hc.2
  exact ⟨a, b, fun z => (c' z).2⟩
theorem x_bt_eq {a b i j : Int} (h1 : e_bt a i = 1 → e_bt b j = 1) (h2 : e_bt b j = 1 → e_bt a i = 1) : e_bt a i = e_bt b j := by
  have p := e_bt01 a i
  have q := e_bt01 b j
  by_cases z : e_bt a i = 1
  · rw [z, h1 z]
  · have : ¬ e_bt b j = 1 := fun w => z (h2 w)
    omega
theorem x_pg3 {ρ : t_S} (F : z_F ρ) {y : Int} (hy : 0 ≤ y ∧ y ≤ ρ 1 0) {c : Int} (hc : 0 ≤ c ∧ c < 80) : e_bt (ρ 31 (80 * y + c)) 3 = if c < 10 then 0 else e_bt (ρ 31 (80 * y + (c - 10))) 1 := by
  have hA := (x_pgF F hy hc).2.1 3 (by decide) (by decide)
  have p := e_bt01 (ρ 31 (80 * y + c)) 3
  by_cases q : c < 10
  · rw [if_pos q]
    by_cases z : e_bt (ρ 31 (80 * y + c)) 3 = 1
    · have := (x_bes4 ρ c).2.2.2 (hA z).1
      omega
    · omega
  · rw [if_neg q]
    refine x_bt_eq (fun z => ?_) (fun z => ?_)
    · obtain ⟨u, v, -⟩ := hA z
      have e := (x_bes4 ρ c).2.2.2 u
      rw [e.1] at v
      exact v
    · obtain ⟨u, v, -⟩ := (x_pgF F hy (c := c - 10) (by omega)).2.1 1 (by decide) (by decide) z
      have e := (x_bes4 ρ (c - 10)).2.1 u
      rw [e, show c - 10 + 10 = c by omega] at v
      exact v
theorem x_pg0 {ρ : t_S} (F : z_F ρ) {y : Int} (hy : 0 ≤ y ∧ y ≤ ρ 1 0) {c : Int} (hc : 0 ≤ c ∧ c < 80) : e_bt (ρ 31 (80 * y + c)) 0 = if c < 1 then 0 else e_bt (ρ 31 (80 * y + (c - 1))) 2 := by
  have hA := (x_pgF F hy hc).2.1 0 (by decide) (by decide)
  have p := e_bt01 (ρ 31 (80 * y + c)) 0
  by_cases q : c < 1
  · rw [if_pos q]
    by_cases z : e_bt (ρ 31 (80 * y + c)) 0 = 1
    · have := (x_bes4 ρ c).1 (hA z).1
      omega
    · omega
  · rw [if_neg q]
    refine x_bt_eq (fun z => ?_) (fun z => ?_)
    · obtain ⟨u, v, -⟩ := hA z
      have e := (x_bes4 ρ c).1 u
      rw [e.1] at v
      exact v
    · obtain ⟨u, v, -⟩ := (x_pgF F hy (c := c - 1) (by omega)).2.1 2 (by decide) (by decide) z
      have e := (x_bes4 ρ (c - 1)).2.2.1 u
      rw [e.1, show c - 1 + 1 = c by omega] at v
      exact v
abbrev x_rg (ρ : t_S) (y b : Int) : Int → Int := fun c => e_bt (ρ 31 (80 * y + c)) b
theorem x_rg01 (ρ : t_S) (y b : Int) : x_g01 (x_rg ρ y b) := fun c _ => by
  have := e_bt01 (ρ 31 (80 * y + c)) b
  show e_bt _ b = 0 ∨ e_bt _ b = 1
  omega
theorem x_rg0 {ρ : t_S} (F : z_F ρ) {y b : Int} (hy : 0 ≤ y ∧ y ≤ ρ 1 0) : ∀ c : Int, 0 ≤ c → c < 80 → ¬ x_c8 c → x_rg ρ y b c = 0 := fun c c0 c1 hc => by
  show e_bt (ρ 31 (80 * y + c)) b = 0
  rw [(x_pgF F hy ⟨c0, c1⟩).2.2 (fun z => hc (x_okc F.1.1 z)), b_0]
theorem x_pgm {ρ : t_S} (F : z_F ρ) {y : Int} (hy : 0 ≤ y ∧ y ≤ ρ 1 0) : e_bsum (x_bs (x_rg ρ y 1)) 64 + e_bsum (x_bs (x_rg ρ y 2)) 64 = t_pgm ρ y := by
  rw [x_bsum_bs (x_rg01 ρ y 1) (x_rg0 F hy), x_bsum_bs (x_rg01 ρ y 2) (x_rg0 F hy)]
  have e1 : t_sum (t_pgg ρ y) 80 = t_sum (fun c => (fun c => (fun c => x_rg ρ y 0 c + x_rg ρ y 1 c) c + x_rg ρ y 2 c) c + x_rg ρ y 3 c) 80 := x_sum_cg 80 (fun c c0 c1 => x_bsum16 (x_pgF F hy ⟨c0, by omega⟩).1)
  rw [x_sum_add, x_sum_add, x_sum_add] at e1
  have e3 : t_sum (x_rg ρ y 3) 80 = t_sum (x_rg ρ y 1) 70 := (x_sum_cg 80 (fun c c0 c1 => x_pg3 F hy ⟨c0, by omega⟩)).trans (x_sum_sh (x_rg ρ y 1) 10 70)
  have e0 : t_sum (x_rg ρ y 0) 80 = t_sum (x_rg ρ y 2) 79 := (x_sum_cg 80 (fun c c0 c1 => x_pg0 F hy ⟨c0, by omega⟩)).trans (x_sum_sh (x_rg ρ y 2) 1 79)
  have f1 : t_sum (x_rg ρ y 1) 80 = t_sum (x_rg ρ y 1) 70 := x_sum_tl 70 10 (fun c c0 c1 => by
    have p := e_bt01 (ρ 31 (80 * y + c)) 1
    by_cases z : e_bt (ρ 31 (80 * y + c)) 1 = 1
    · obtain ⟨u, -⟩ := (x_pgF F hy (c := c) (by omega)).2.1 1 (by decide) (by decide) z
      have e := (x_bes4 ρ c).2.1 u
      have := t_bes_rg F.1.1 c 1
      omega
    · show e_bt _ 1 = 0
      omega)
  have f2 : t_sum (x_rg ρ y 2) 80 = t_sum (x_rg ρ y 2) 79 := x_sum_tl 79 1 (fun c c0 c1 => by
    have p := e_bt01 (ρ 31 (80 * y + c)) 2
    by_cases z : e_bt (ρ 31 (80 * y + c)) 2 = 1
    · obtain ⟨u, -⟩ := (x_pgF F hy (c := c) (by omega)).2.1 2 (by decide) (by decide) z
      have e := (x_bes4 ρ c).2.2.1 u
      have := t_bes_rg F.1.1 c 2
      omega
    · show e_bt _ 2 = 0
      omega)
  unfold t_pgm
  rw [e1, e0, e3, f1, f2]
  omega
/-- the bit that tells of a peg -/
theorem x_peg {ρ : t_S} (F : z_F ρ) {y : Int} (hy : 0 ≤ y ∧ y ≤ ρ 1 0) {c d : Int} (hc : x_c8 c) (hd : 0 ≤ d ∧ d < 4) : (t_bes ρ c d = -1 → e_bt (ρ 31 (80 * y + c)) d = 0) ∧ (t_bes ρ c d ≠ -1 → ∃ m : Int, x_c8 m ∧ x_sp m = t_mn (x_sp c) (x_sp (t_bes ρ c d)) ∧ e_bt (ρ 31 (80 * y + m)) (if d % 2 = 1 then 1 else 2) = e_bt (ρ 31 (80 * y + c)) d) := by
  obtain ⟨c0, c1, c2⟩ := hc
  have h9 := (x_pgF F hy ⟨c0, c1⟩).2.1
  refine ⟨fun h => ?_, fun h => ?_⟩
  · have p := e_bt01 (ρ 31 (80 * y + c)) d
    by_cases z : e_bt (ρ 31 (80 * y + c)) d = 1
    · exact absurd h (h9 d hd.1 hd.2 z).1
    · omega
  · have hz := F.1.1
    have ht := x_bes_cn hz c d
    have ht8 : x_c8 (t_bes ρ c d) := ht.elim (fun q => absurd q h) id
    have sc : x_sp c = 8 * (c / 10) + c % 10 := by unfold x_sp; rw [if_neg (by omega)]
    have st : x_sp (t_bes ρ c d) = 8 * (t_bes ρ c d / 10) + t_bes ρ c d % 10 := by unfold x_sp; rw [if_neg h]
    obtain ⟨t0, t1, t2⟩ := ht8
    have b4 := x_bes4 ρ c
    have hdd : d = 0 ∨ d = 1 ∨ d = 2 ∨ d = 3 := by omega
    rcases hdd with r | r | r | r <;> subst r
    · have e := b4.1 h
      refine ⟨t_bes ρ c 0, ⟨t0, t1, t2⟩, ?_, ?_⟩
      · rw [sc, st]; unfold t_mn; rw [if_neg (by omega)]
      · have g := x_pg0 F hy (c := c) ⟨c0, c1⟩
        rw [if_neg (by omega)] at g
        rw [g, e.1]; rfl
    · have e := b4.2.1 h
      refine ⟨c, ⟨c0, c1, c2⟩, ?_, rfl⟩
      rw [sc, st]; unfold t_mn; rw [if_pos (by omega)]
    · have e := b4.2.2.1 h
      refine ⟨c, ⟨c0, c1, c2⟩, ?_, rfl⟩
      rw [sc, st]; unfold t_mn; rw [if_pos (by omega)]
    · have e := b4.2.2.2 h
      refine ⟨t_bes ρ c 3, ⟨t0, t1, t2⟩, ?_, ?_⟩
      · rw [sc, st]; unfold t_mn; rw [if_neg (by omega)]
      · have g := x_pg3 F hy (c := c) ⟨c0, c1⟩
        rw [if_neg (by omega)] at g
        rw [g, e.1]; rfl
