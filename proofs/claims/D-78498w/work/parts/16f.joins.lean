/-! PLAIN LAW: joins, mends -/
theorem ans_at {u : gM} {x : Int32} {f : Nat → Int32} : (uA (uAns u x) 0 f).1 8 3 = x := by
  rw [uA_ne (by decide)]
  unfold uAns
  rw [uA_at]
  simp [upd]
theorem uPt_a {x : Int32} {K : gM → Prop} {u : gM} (h : K (uAns u x)) : uPt 3 x K u := h
def fMin (a b : Int32) : Int32 := if b ≤ a then b else a
def fMax (a b : Int32) : Int32 := if b ≤ a then a else b
def fZero (l : Nat) (s : Nat → Int32) : Nat → Int32 := fIt (fun k s => upd s (199 + 18 * l + k) 0) 18 s
def fJoin (s : Nat → Int32) (l : Nat) (a b c : Int32) : Nat → Int32 :=
  upd (upd (upd (upd (upd (upd (upd (upd (fZero l (upd s 5 (nI (l + 1)))) (199 + 18 * l + 0) (fMin a b)) (199 + 18 * l + 1) (fMax a b)) (199 + 18 * l + 2) c) (199 + 18 * l + 3) c) (199 + 18 * l + 4) 1) (199 + 18 * l + 5) (-1)) (199 + 18 * l + 8) 2) (199 + 18 * l + 11) 2
theorem m_joins {a1 a2 a3 : Int32} {nb l : Nat} {Q : Int32 → gM → Prop} {u : gM} (hn : u.1 0 0 = nI nb) (hl : u.1 0 5 = nI l) (h16 : l ≤ 16)
    (h1 : fIn a1 0 (nI nb - 1) = false ∨ fIn a2 0 (nI nb - 1) = false → Q 1 u)
    (h2 : fIn a1 0 (nI nb - 1) = true → fIn a2 0 (nI nb - 1) = true → a1 = a2 ∨ fIn a3 1 100 = false → Q 2 u)
    (h3 : fIn a1 0 (nI nb - 1) = true → fIn a2 0 (nI nb - 1) = true → ¬ a1 = a2 → fIn a3 1 100 = true → l = 16 → Q 3 u)
    (h0 : fIn a1 0 (nI nb - 1) = true → fIn a2 0 (nI nb - 1) = true → ¬ a1 = a2 → fIn a3 1 100 = true → l < 16 → Q 0 (uA (uAns u (nI l)) 0 (fJoin (u.1 0) l a1 a2 a3))) : wM_joins a1 a2 a3 Q u := by
  unfold wM_joins
  refine m_isBridge ?_
  rw [hn]
  refine brI (fun hb1 => m_isBridge ?_) (fun hb1 => h1 (Or.inl hb1))
  rw [hn]
  refine brI (fun hb2 => ⟨fun he => h2 hb1 hb2 (Or.inl he), fun he => m_in (brI (fun hc => ?_) (fun hc => h2 hb1 hb2 (Or.inr hc)))⟩) (fun hb2 => h1 (Or.inr hb2))
  refine uLd_n (i := 5) (by decide) (by decide) ?_
  rw [hl]
  have e16 : nI l = 16 ↔ l = 16 := by rw [show (16 : Int32) = nI 16 from rfl, nI_eq (by omega) (by decide)]
  refine ⟨fun h9 => h3 hb1 hb2 he hc (e16.mp h9), fun h9 => ?_⟩
  have hlt : l < 16 := by have := mt e16.mpr h9; omega
  refine uLd_n (i := 5) (by decide) (by decide) ?_
  rw [hl]
  refine uPt_a (uLd_n (i := 5) (by decide) (by decide) ?_)
  rw [show (uAns u (nI l)).1 0 5 = nI l from hl, nI_1]
  refine uSt_n (i := 5) (by decide) (by decide) ⟨19, ?_⟩
  have e0 : su (uAns u (nI l)) 0 5 (nI (l + 1)) = uA (uAns u (nI l)) 0 (upd (u.1 0) 5 (nI (l + 1))) := rfl
  rw [e0]
  have hend : ∀ lo hi : Int32, (Q 0 (uA (uAns u (nI l)) 0 (upd (upd (upd (upd (upd (upd (upd (upd (fZero l (upd (u.1 0) 5 (nI (l + 1)))) (199 + 18 * l + 0) lo) (199 + 18 * l + 1) hi) (199 + 18 * l + 2) a3) (199 + 18 * l + 3) a3) (199 + 18 * l + 4) 1) (199 + 18 * l + 5) (-1)) (199 + 18 * l + 8) 2) (199 + 18 * l + 11) 2))) →
      wM_joins_130 Q a3 hi 1 (nI l) (uA (uAns u (nI l)) 0 (upd (fZero l (upd (u.1 0) 5 (nI (l + 1)))) (199 + 18 * l + 0) lo)) := by
    intro lo hi hq
    unfold wM_joins_130
    refine m_puts (w := 1) hlt (by decide) ?_
    rw [su_uA]
    refine uGt_n ans_at (m_puts (w := 2) hlt (by decide) ?_)
    rw [su_uA]
    refine uGt_n ans_at (m_puts (w := 3) hlt (by decide) ?_)
    rw [su_uA]
    refine uGt_n ans_at (m_puts (w := 4) hlt (by decide) ?_)
    rw [su_uA]
    refine uGt_n ans_at (m_puts (w := 5) hlt (by decide) ?_)
    rw [su_uA]
    refine uGt_n ans_at (m_puts (w := 8) hlt (by decide) ?_)
    rw [su_uA]
    refine uGt_n ans_at (m_puts (w := 11) hlt (by decide) ?_)
    rw [su_uA]
    exact hq
  refine lp_up (N := 18) (st := fun k v => uA v 0 (upd (v.1 0) (199 + 18 * l + k) 0)) (L := fun k i v => wM_joins_71 Q k a1 a2 a3 i v) (fun k => ?_) (fun i k hi hk => ?_)
  · rw [fIt_uA (st := fun k s => upd s (199 + 18 * l + k) 0), uA_at, uA_uA]
    refine ⟨fun _ => uGt_n ans_at ?_, fun n => absurd (nI_le (Nat.le_refl 18) (by decide)) n⟩
    have hq := h0 hb1 hb2 he hc hlt
    have hp : ∀ lo : Int32, wM_joins_130 Q a3 (fMax a1 a2) 1 (nI l) (uA (uAns u (nI l)) 0 (upd (fZero l (upd (u.1 0) 5 (nI (l + 1)))) (199 + 18 * l + 0) lo)) → wM_joins_111 Q a1 a2 a3 lo 0 (nI l) (uA (uAns u (nI l)) 0 (fZero l (upd (u.1 0) 5 (nI (l + 1))))) := by
      intro lo hz
      unfold wM_joins_111
      refine m_puts (w := 0) hlt (by decide) ?_
      rw [su_uA]
      refine uGt_n ans_at ⟨fun h7 => ?_, fun h7 => ?_⟩
      · unfold fMax at hz
        rw [if_pos h7] at hz
        exact hz
      · unfold fMax at hz
        rw [if_neg h7] at hz
        exact hz
    refine ⟨fun h7 => hp a2 (hend _ _ ?_), fun h7 => hp a1 (hend _ _ ?_)⟩
    · have e : fMin a1 a2 = a2 := if_pos h7
      unfold fJoin at hq
      rw [e] at hq
      exact hq
    · have e : fMin a1 a2 = a1 := if_neg h7
      unfold fJoin at hq
      rw [e] at hq
      exact hq
  · refine ⟨fun n => absurd n (nI_ge hi (by decide)), fun _ => ?_⟩
    have ea : (fIt (fun k v => uA v 0 (upd (v.1 0) (199 + 18 * l + k) 0)) i (uA (uAns u (nI l)) 0 (upd (u.1 0) 5 (nI (l + 1))))).1 8 3 = nI l := by
      rw [fIt_uA (st := fun k s => upd s (199 + 18 * l + k) 0), uA_uA]
      exact ans_at
    refine uGt_n ea (m_puts hlt (by omega) ?_)
    rw [nI_1]
    exact hk
