/-! PLAIN LAW: isAhead -/
theorem iBk {b k : Nat} : (11 + (5 * nI b)) + nI k = nI (11 + 5 * b + k) := by rw [iB, nI_add]
def fAhead (s : Nat → Int32) (a b : Nat) : Bool :=
  if s (11 + 5 * a + 1) = s (11 + 5 * b + 1) then (if s (11 + 5 * a + 2) = s (11 + 5 * b + 2) then decide (¬ fId s b ≤ fId s a) else decide (¬ s (11 + 5 * b + 2) ≤ s (11 + 5 * a + 2)))
  else decide (¬ s (11 + 5 * b + 1) ≤ s (11 + 5 * a + 1))
theorem m_isAhead {a b : Nat} {s : Nat → Int32} {Q : Int32 → gM → Prop} {u : gM} (ha : a < 8) (hb : b < 8) (h : Q (if fAhead s a b then 1 else 0) (uA u 0 s)) : wM_isAhead (nI a) (nI b) Q (uA u 0 s) := by
  unfold wM_isAhead
  have h : Q (if fAhead s a b then nI 1 else 0) (uA u 0 s) := h
  rw [show (1 : Int32) = nI 1 from rfl, show (2 : Int32) = nI 2 from rfl, iBk, iBk, iBk, iBk]
  refine uLd_A (by omega) (uLd_A (by omega) ⟨fun c => uLd_A (by omega) (uLd_A (by omega) ⟨fun d => m_idOf ha (m_idOf hb ?_), fun d => uLd_A (by omega) (uLd_A (by omega) ⟨fun e => ?_, fun e => ?_⟩)⟩), fun c => uLd_A (by omega) (uLd_A (by omega) ⟨fun e => ?_, fun e => ?_⟩)⟩)
  · rw [uA_at]
    exact ⟨fun e => by simpa [fAhead, c, d, e] using h, fun e => by simpa [fAhead, c, d, e] using h⟩
  · simpa [fAhead, c, d, e] using h
  · simpa [fAhead, c, d, e] using h
  · simpa [fAhead, c, e] using h
  · simpa [fAhead, c, e] using h
