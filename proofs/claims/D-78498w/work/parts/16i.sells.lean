/-! PLAIN LAW: sells -/
theorem m_ofA {l w : Nat} {s : Nat → Int32} {Q : Int32 → gM → Prop} {u : gM} (hl : l < 16) (hw : w < 18) (h : Q (s (199 + 18 * l + w)) (uA u 0 s)) : wM_of (nI l) (nI w) Q (uA u 0 s) :=
  m_of hl hw (by rw [uA_at]; exact h)
theorem m_putsA {l w : Nat} {x : Int32} {s : Nat → Int32} {Q : gM → Prop} {u : gM} (hl : l < 16) (hw : w < 18) (h : Q (uA u 0 (upd s (199 + 18 * l + w) x))) : wM_puts (nI l) (nI w) x Q (uA u 0 s) :=
  m_puts hl hw (by rw [su_uA]; exact h)
theorem uLd_A {i : Nat} {s : Nat → Int32} {K : Int32 → Prop} {u : gM} (hi : i < 487) (h : K (s i)) : uLd 0 487 (nI i) K (uA u 0 s) :=
  uLd_n hi (by decide) (by rw [uA_at]; exact h)
theorem uSt_A {i : Nat} {x : Int32} {s : Nat → Int32} {K : gM → Prop} {u : gM} (hi : i < 487) (h : K (uA u 0 (upd s i x))) : uSt 0 487 (nI i) x K (uA u 0 s) :=
  uSt_n hi (by decide) (by rw [su_uA]; exact h)
def fWin (s : Nat → Int32) (l : Nat) : Int32 := if s (199 + 18 * l + 4) = 1 then fGr s l (-1) else -1
def fPri (s : Nat → Int32) (l : Nat) : Int32 :=
  if fWin s l = -1 then 0 else if fGr s l (fWin s l) = -1 then 1 else fBid s l (fGr s l (fWin s l)).toNatClampNeg
/-- the tenant pays -/
def fPays (s : Nat → Int32) (w p : Int32) : Nat → Int32 :=
  if w = -1 then s else upd (upd s (187 + 3 * w.toNatClampNeg) (s (187 + 3 * w.toNatClampNeg) - p)) (187 + 3 * w.toNatClampNeg + 1) (s (187 + 3 * w.toNatClampNeg + 1) + p)
def fDif (s : Nat → Int32) (l : Nat) (p : Int32) : Int32 := (s (199 + 18 * l + 2) + p) - s (199 + 18 * l + 3)
def fRow (s : Nat → Int32) (l : Nat) (p : Int32) : Int32 := if fDif s l p = 0 then 0 else s (199 + 18 * l + 7) + 1
def fMoves (s : Nat → Int32) (l : Nat) (p : Int32) : Bool := decide (s 4 < fDif s l p ∨ s 4 < - fDif s l p ∨ fRow s l p = 3)
def fSet (s : Nat → Int32) (l : Nat) (p : Int32) : Nat → Int32 :=
  if fMoves s l p then upd (upd s (199 + 18 * l + 3) (s (199 + 18 * l + 2) + p)) (199 + 18 * l + 7) 0
  else upd (upd s (199 + 18 * l + 3) (s (199 + 18 * l + 3))) (199 + 18 * l + 7) (fRow s l p)
def fTake (s : Nat → Int32) (l : Nat) (w p : Int32) : Nat → Int32 := fPays (upd (upd s (199 + 18 * l + 5) w) (199 + 18 * l + 6) p) w p
def fSells (s : Nat → Int32) (l : Nat) : Nat → Int32 := fSet (fTake s l (fWin s l) (fPri s l)) l (fPri s l)
theorem m_sells122 {l : Nat} {p : Int32} {s : Nat → Int32} {Q : gM → Prop} {u : gM} (hl : l < 16) (h : Q (uA u 0 (fSet s l p))) : wM_sells_122 Q (nI l) p (uA u 0 s) := by
  have h222 : ∀ (f r : Int32) (y : Int32), Q (uA u 0 (upd (upd s (199 + 18 * l + 3) y) (199 + 18 * l + 7) (if f = 0 then r else 0))) → wM_sells_222 Q (nI l) r f y 3 (nI l) (uA u 0 s) := by
    intro f r y hq
    unfold wM_sells_222
    refine m_putsA (w := 3) hl (by omega) ⟨fun c => ?_, fun c => ?_⟩
    · unfold wM_sells_240
      rw [if_pos c] at hq
      exact m_putsA (w := 7) hl (by omega) hq
    · unfold wM_sells_240
      rw [if_neg c] at hq
      exact m_putsA (w := 7) hl (by omega) hq
  have h189 : ∀ r : Int32, Q (uA u 0 (upd (upd s (199 + 18 * l + 3) (s (199 + 18 * l + 2) + p)) (199 + 18 * l + 7) 0)) → wM_sells_189 Q (nI l) p r (uA u 0 s) := by
    intro r hq
    unfold wM_sells_189 wM_sells_194
    refine ⟨fun n => absurd n (by decide), fun _ => m_ofA (w := 2) hl (by omega) (h222 1 r _ ?_)⟩
    rw [if_neg (by decide)]
    exact hq
  have h158 : fRow s l p = fRow s l p → wM_sells_158 Q (nI l) p (fDif s l p) (fRow s l p) (uA u 0 s) := by
    intro _
    unfold fSet at h
    unfold wM_sells_158
    refine uLd_A (i := 4) (by decide) ⟨fun c => ?_, fun c => ?_⟩
    · have hm : fMoves s l p = true := decide_eq_true (Or.inl c)
      rw [if_pos hm] at h
      exact h189 _ h
    · refine uLd_A (i := 4) (by decide) ⟨fun d => ?_, fun d => ⟨fun e => ?_, fun e => ?_⟩⟩
      · have hm : fMoves s l p = true := decide_eq_true (Or.inr (Or.inl d))
        rw [if_pos hm] at h
        exact h189 _ h
      · have hm : fMoves s l p = true := decide_eq_true (Or.inr (Or.inr e))
        rw [if_pos hm] at h
        exact h189 _ h
      · have hm : ¬ fMoves s l p = true := by
          intro hm
          rcases of_decide_eq_true hm with x | x | x
          · exact c x
          · exact d x
          · exact e x
        rw [if_neg hm] at h
        unfold wM_sells_194
        refine ⟨fun _ => m_ofA (w := 3) hl (by omega) (h222 0 _ _ ?_), fun n => absurd rfl n⟩
        rw [if_pos rfl]
        exact h
  have h158 := h158 rfl
  unfold wM_sells_122
  refine m_ofA (w := 2) hl (by omega) (m_ofA (w := 3) hl (by omega) ⟨fun c => ?_, fun c => ?_⟩)
  · have hr : fRow s l p = 0 := if_pos c
    rw [hr] at h158
    exact h158
  · have hr : fRow s l p = s (199 + 18 * l + 7) + 1 := if_neg c
    rw [hr] at h158
    exact m_ofA (w := 7) hl (by omega) h158
