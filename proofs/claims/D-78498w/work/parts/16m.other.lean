/-! PLAIN LAW: other, isAt -/
def fOther (s : Nat → Int32) (l : Nat) (b : Int32) : Int32 := if s (199 + 18 * l) = b then s (199 + 18 * l + 1) else s (199 + 18 * l)
theorem m_other {l : Nat} {b : Int32} {s : Nat → Int32} {Q : Int32 → gM → Prop} {u : gM} (hl : l < 16) (h : Q (fOther s l b) (uA u 0 s)) : wM_other (nI l) b Q (uA u 0 s) := by
  unfold wM_other
  refine m_ofA (w := 0) hl (by omega) ⟨fun c => m_ofA (w := 1) hl (by omega) ?_, fun c => m_ofA (w := 0) hl (by omega) ?_⟩
  · have c1 : s (199 + 18 * l) = b := c
    simpa [fOther, c1] using h
  · have c1 : ¬ s (199 + 18 * l) = b := c
    simpa [fOther, c1] using h
def fAt (s : Nat → Int32) (l : Nat) (b : Int32) : Bool := decide (s (199 + 18 * l) = b ∨ s (199 + 18 * l + 1) = b)
theorem m_isAt {l : Nat} {b : Int32} {s : Nat → Int32} {Q : Int32 → gM → Prop} {u : gM} (hl : l < 16) (h : Q (if fAt s l b then 1 else 0) (uA u 0 s)) : wM_isAt (nI l) b Q (uA u 0 s) := by
  unfold wM_isAt
  refine m_ofA (w := 0) hl (by omega) ⟨fun c => ?_, fun c => m_ofA (w := 1) hl (by omega) ⟨fun d => ?_, fun d => ?_⟩⟩
  · have c1 : s (199 + 18 * l) = b := c
    simpa [fAt, c1] using h
  · have c1 : ¬ s (199 + 18 * l) = b := c
    simpa [fAt, c1, d] using h
  · have c1 : ¬ s (199 + 18 * l) = b := c
    simpa [fAt, c1, d] using h
