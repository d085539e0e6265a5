/-! the row with a text more -/
def txK (κ : Int → Int) (t : Int) (C V : Int → Int) : Int → Int := up (cpA (cpA (up κ (1758 + κ 1756) t) (1770 + 400 * κ 1756) t C) (6570 + 400 * κ 1756) t V) 1756 (κ 1756 + 1)
section TXK
variable {κ C V : Int → Int} {t : Int}
theorem txK_c : txK κ t C V 1756 = κ 1756 + 1 := up_s
theorem txK_o {i : Int} (h6 : i ≠ 1756) (h8 : i ≠ 1758 + κ 1756) (h1 : i < 1770 + 400 * κ 1756 ∨ 1770 + 400 * κ 1756 + t ≤ i) (h2 : i < 6570 + 400 * κ 1756 ∨ 6570 + 400 * κ 1756 + t ≤ i) : txK κ t C V i = κ i := by
  unfold txK
  rw [up_n h6, cpA_out h2, cpA_out h1, up_n h8]
theorem txK_s (h0 : 0 ≤ κ 1756 ∧ κ 1756 < 12) : txK κ t C V (1758 + κ 1756) = t := by
  unfold txK
  rw [up_n (by omega), cpA_out (by omega), cpA_out (by omega), up_s]
theorem txK_C (h0 : 0 ≤ κ 1756 ∧ κ 1756 < 12) (ht : t ≤ 400) {i : Int} (i0 : 0 ≤ i) (i1 : i < t) : txK κ t C V (1770 + 400 * κ 1756 + i) = C i := by
  unfold txK
  rw [up_n (by omega), cpA_out (by omega), cpA_in (by omega), show 1770 + 400 * κ 1756 + i - (1770 + 400 * κ 1756) = i by omega]
theorem txK_V (h0 : 0 ≤ κ 1756 ∧ κ 1756 < 12) (ht : t ≤ 400) {i : Int} (i0 : 0 ≤ i) (i1 : i < t) : txK κ t C V (6570 + 400 * κ 1756 + i) = V i := by
  unfold txK
  rw [up_n (by omega), cpA_in (by omega), show 6570 + 400 * κ 1756 + i - (6570 + 400 * κ 1756) = i by omega]
theorem txK_sh (h0 : 0 ≤ κ 1756 ∧ κ 1756 < 12) (t0 : 0 ≤ t) (ht : t ≤ 400) (hC : C t = 0) : Shf C V (tmC (txK κ t C V) (κ 1756)) (fun k => txK κ t C V (6570 + k)) t (400 * κ 1756) := by
  refine ⟨t0, hC, fun i i0 i1 => ?_, fun i i0 i1 => ?_⟩
  · unfold tmC
    rw [txK_s h0]
    by_cases q : i = t
    · rw [if_neg (by omega), q, hC]
    · rw [if_pos (by omega), show 1770 + (i + 400 * κ 1756) = 1770 + 400 * κ 1756 + i by omega]
      exact txK_C h0 ht i0 (by omega)
  · show txK κ t C V (6570 + (i + 400 * κ 1756)) = V i
    rw [show 6570 + (i + 400 * κ 1756) = 6570 + 400 * κ 1756 + i by omega]
    exact txK_V h0 ht i0 i1
theorem txK_tmP (h0 : 0 ≤ κ 1756 ∧ κ 1756 < 12) (t0 : 0 ≤ t) (ht : t ≤ 400) (hC : C t = 0) {l : List Cl} (hl : clsP C V t 402 0 = some l) : tmP (txK κ t C V) (κ 1756) = some l := by
  have e := clsP_sh (txK_sh h0 t0 ht hC) 402 0 l (by decide) hl
  unfold tmP
  rw [txK_s h0, show 400 * κ 1756 + t = t + 400 * κ 1756 by omega]
  rw [show (0 : Int) + 400 * κ 1756 = 400 * κ 1756 by omega] at e
  exact e
theorem txK_old (h0 : 0 ≤ κ 1756 ∧ κ 1756 < 12) (hx : TX κ) {x : Int} (x0 : 0 ≤ x) (x1 : x < κ 1756) (ht : t ≤ 400) : txK κ t C V (1758 + x) = κ (1758 + x) ∧ (∀ k, 400 * x ≤ k → k < 400 * x + κ (1758 + x) → txK κ t C V (1770 + k) = κ (1770 + k)) ∧ ∀ k, 400 * x ≤ k → k < 400 * x + κ (1758 + x) → txK κ t C V (6570 + k) = κ (6570 + k) := by
  have hs := hx.1 x x0 (by omega)
  exact ⟨txK_o (by omega) (by omega) (by omega) (by omega), fun k k0 k1 => txK_o (by omega) (by omega) (by omega) (by omega), fun k k0 k1 => txK_o (by omega) (by omega) (by omega) (by omega)⟩
theorem txK_TX (h0 : 0 ≤ κ 1756 ∧ κ 1756 < 12) (hx : TX κ) (t0 : 0 ≤ t) (ht : t ≤ 400) (hC : ∀ i, 0 ≤ i → i < t → 0 ≤ C i ∧ C i ≤ 355) (hV : ∀ i, 0 ≤ i → i < t → 0 ≤ V i ∧ V i ≤ 100000) : TX (txK κ t C V) := by
  refine ⟨fun k k0 k1 => ?_, fun k k0 k1 => ?_, fun k k0 k1 => ?_⟩
  · by_cases q : k = κ 1756
    · rw [q, txK_s h0]; exact ⟨t0, ht⟩
    · rw [txK_o (by omega) (by omega) (by omega) (by omega)]
      exact hx.1 k k0 k1
  · by_cases q : 400 * κ 1756 ≤ k ∧ k < 400 * κ 1756 + t
    · have e := txK_C (κ := κ) (C := C) (V := V) h0 ht (i := k - 400 * κ 1756) (by omega) (by omega)
      rw [show 1770 + 400 * κ 1756 + (k - 400 * κ 1756) = 1770 + k by omega] at e
      rw [e]
      exact hC _ (by omega) (by omega)
    · rw [txK_o (by omega) (by omega) (by omega) (by omega)]
      exact hx.2.1 k k0 k1
  · by_cases q : 400 * κ 1756 ≤ k ∧ k < 400 * κ 1756 + t
    · have e := txK_V (κ := κ) (C := C) (V := V) h0 ht (i := k - 400 * κ 1756) (by omega) (by omega)
      rw [show 6570 + 400 * κ 1756 + (k - 400 * κ 1756) = 6570 + k by omega] at e
      rw [e]
      exact hV _ (by omega) (by omega)
    · rw [txK_o (by omega) (by omega) (by omega) (by omega)]
      exact hx.2.2 k k0 k1
theorem txK_TT (h0 : 0 ≤ κ 1756 ∧ κ 1756 < 12) (hT : TT κ) (t0 : 0 ≤ t) (ht : t ≤ 400) (hCt : C t = 0) (hC : ∀ i, 0 ≤ i → i < t → 0 ≤ C i ∧ C i ≤ 355) (hV : ∀ i, 0 ≤ i → i < t → 0 ≤ V i ∧ V i ≤ 100000) {l : List Cl} (hl : clsP C V t 402 0 = some l) (hl2 : l.length ≤ 12) : TT (txK κ t C V) := by
  refine ⟨txK_TX h0 hT.1 t0 ht hC hV, fun x x0 x1 => ?_⟩
  rw [txK_c] at x1
  by_cases q : x = κ 1756
  · rw [q]
    exact ⟨l, txK_tmP h0 t0 ht hCt hl, hl2⟩
  · obtain ⟨l', e, e2⟩ := hT.2 x x0 (by omega)
    obtain ⟨a1, a2, a3⟩ := txK_old (κ := κ) (C := C) (V := V) h0 hT.1 x0 (by omega) ht
    exact ⟨l', by rw [tmP_cg a1 a2 a3]; exact e, e2⟩
end TXK
