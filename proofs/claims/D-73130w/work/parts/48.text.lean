/-! TEXTS: the old objects; a text's length and signs -/
set_option maxRecDepth 100000
def e_tx (p : Nat) : List Int := match p with
  | 0 => [99, 111, 108, 111, 110, 121]
  | 17 => [99, 111, 108, 111, 110, 121]
  | 1 => [121, 101, 97, 114, 115]
  | 18 => [121, 101, 97, 114, 115]
  | 2 => [108, 97, 119]
  | 19 => [108, 97, 119]
  | 3 => [111, 100, 100, 115]
  | 20 => [111, 100, 100, 115]
  | 4 => [119, 105, 100, 101]
  | 21 => [119, 105, 100, 101]
  | 5 => [104, 105, 103, 104]
  | 22 => [104, 105, 103, 104]
  | 6 => [99, 114, 101, 101, 107]
  | 23 => [99, 114, 101, 101, 107]
  | 7 => [104, 111, 117, 115, 101]
  | 24 => [104, 111, 117, 115, 101]
  | 8 => [119, 105, 100, 111, 119]
  | 25 => [119, 105, 100, 111, 119]
  | 9 => [102, 97, 99, 101, 115]
  | 26 => [102, 97, 99, 101, 115]
  | 10 => [115, 116, 101, 112, 115]
  | 27 => [115, 116, 101, 112, 115]
  | 11 => [97, 116]
  | 28 => [97, 116]
  | 12 => [103, 114, 105, 101, 102]
  | 29 => [103, 114, 105, 101, 102]
  | 13 => [111, 110]
  | 30 => [111, 110]
  | 14 => [114, 105, 103, 104, 116]
  | 31 => [114, 105, 103, 104, 116]
  | 15 => [98, 97, 99, 107]
  | 32 => [98, 97, 99, 107]
  | 16 => [108, 101, 102, 116]
  | 33 => [108, 101, 102, 116]
  | _ => []
abbrev e_tn (p : Nat) : Int := ((e_tx p).length : Int)
abbrev e_tc (p : Nat) (k : Int) : Int := (e_tx p).getD k.toNat 0
def e_sf (p : Nat) : Nat → Value := fun k => match k with
  | 0 => .ref (310 + p)
  | _ => e_i 0
/-- the old objects are as they were -/
def e_old (h : e_A) : Prop := (∀ p, p < 34 → h.1 (270 + p) = (14, 2, e_sf p) ∧ h.1 (310 + p) = (61, (e_tx p).length, fun k => e_i ((e_tx p).getD k 0))) ∧ (∀ k, k < 256 → h.1 (1 + k) = (13, 1, fun _ => e_i ((k : Int) - 128))) ∧ h.1 257 = (62, 256, fun k => .ref (1 + k)) ∧ h.1 258 = (63, 0, fun _ => .null) ∧ h.1 259 = (63, 0, fun _ => .null) ∧ 350 ≤ h.2
theorem e_tx_all : (List.range 34).all (fun p => decide (2 ≤ (e_tx p).length ∧ (e_tx p).length ≤ 6 ∧ (e_tx p).all (fun z => decide (97 ≤ z ∧ z ≤ 122)) = true)) = true := by decide +kernel
theorem e_tx_rg {p : Nat} (hp : p < 34) : (2 ≤ e_tn p ∧ e_tn p ≤ 6) ∧ ∀ k : Int, 0 ≤ k → k < e_tn p → 97 ≤ e_tc p k ∧ e_tc p k ≤ 122 := by
  have h := of_decide_eq_true (List.all_eq_true.mp e_tx_all p (List.mem_range.mpr hp))
  refine ⟨⟨by have := h.1; show (2 : Int) ≤ ((e_tx p).length : Int); omega, by have := h.2.1; show ((e_tx p).length : Int) ≤ 6; omega⟩, fun k k0 k1 => ?_⟩
  have hk : k.toNat < (e_tx p).length := by
    have : k < ((e_tx p).length : Int) := k1
    omega
  have h2 := List.all_eq_true.mp h.2.2 ((e_tx p)[k.toNat]) (List.getElem_mem hk)
  have h3 := of_decide_eq_true h2
  show 97 ≤ (e_tx p).getD k.toNat 0 ∧ (e_tx p).getD k.toNat 0 ≤ 122
  rw [List.getD_eq_getElem?_getD, List.getElem?_eq_getElem hk]
  exact h3
theorem e_old_tH {σ : t_S} {h0 : e_A} (h : e_old h0) : e_old (t_H σ h0) := by
  obtain ⟨h1, h2, h3, h4, h5, h6⟩ := h
  have e : ∀ i, i < 384 → (t_H σ h0).1 i = h0.1 i := fun i hi => by
    show (if i = 384 then _ else if 385 ≤ i ∧ i ≤ 412 then _ else h0.1 i) = _
    rw [if_neg (by omega), if_neg (by omega)]
  refine ⟨fun p hp => ?_, fun k hk => ?_, ?_, ?_, ?_, h6⟩
  · rw [e _ (by omega), e _ (by omega)]; exact h1 p hp
  · rw [e _ (by omega)]; exact h2 k hk
  · rw [e _ (by omega)]; exact h3
  · rw [e _ (by omega)]; exact h4
  · rw [e _ (by omega)]; exact h5
