/-! PLAIN LAW: mends, breaks -/
theorem ans_ans {u : gM} {x y : Int32} : uAns (uAns u x) y = uAns u y := by
  unfold uAns
  rw [uA_at, upd_upd, uA_uA]
theorem ans_uA {u : gM} {x : Int32} {f : Nat → Int32} : uAns (uA u 0 f) x = uA (uAns u x) 0 f := by
  unfold uAns
  rw [uA_ne (show (8 : Nat) ≠ 0 by decide), uA_swap (show (0 : Nat) ≠ 8 by decide)]
def fSum (g : Nat → Int32) : Nat → Int32
  | 0 => 0
  | i + 1 => fSum g i + g i
theorem m_mends {a1 : Int32} {nl : Nat} {Q : Int32 → gM → Prop} {u : gM} (hn : u.1 0 5 = nI nl) (h16 : nl ≤ 16) (h1 : fIn a1 0 (nI nl - 1) = false → Q 1 u)
    (h2 : ∀ l : Nat, l < nl → a1 = nI l → u.1 0 (199 + 18 * l + 4) = 1 → Q 2 u)
    (h0 : ∀ l : Nat, l < nl → a1 = nI l → ¬ u.1 0 (199 + 18 * l + 4) = 1 → Q 0 (uA (uAns u (fSum (fun k => upd (u.1 0) (199 + 18 * l + 4) 1 (199 + 18 * k + 4)) nl)) 0 (upd (u.1 0) (199 + 18 * l + 4) 1))) : wM_mends a1 Q u := by
  unfold wM_mends
  refine m_isLink ?_
  rw [hn]
  refine brI (fun hl => ?_) h1
  obtain ⟨l, hl1, rfl⟩ := fIn_true (by omega) hl
  refine m_of (w := 4) (by omega) (by decide) ⟨fun h => h2 l hl1 rfl h, fun h => m_puts (w := 4) (by omega) (by decide) (uPt_a ⟨nl + 1, ?_⟩)⟩
  have e0 : su u 0 (199 + 18 * l + 4) 1 = uA u 0 (upd (u.1 0) (199 + 18 * l + 4) 1) := rfl
  rw [e0, ans_uA]
  have hq := h0 l hl1 rfl h
  generalize hs : upd (u.1 0) (199 + 18 * l + 4) 1 = s' at hq ⊢
  have hs5 : s' 5 = nI nl := by
    rw [← hs]
    have : ¬ 5 = 199 + 18 * l + 4 := by omega
    simp [upd, this, hn]
  have hk : ∀ k i : Nat, i + k = nl → wM_mends_36 Q (k + 1) (nI i) (uA (uAns u (fSum (fun k => s' (199 + 18 * k + 4)) i)) 0 s') := by
    intro k
    induction k with
    | zero =>
      intro i hi
      have hi : i = nl := hi
      subst hi
      refine uLd_n (i := 5) (by decide) (by decide) ?_
      rw [uA_at, hs5]
      exact ⟨fun _ => hq, fun n => absurd (nI_le (Nat.le_refl i) (by omega)) n⟩
    | succ k ih =>
      intro i hi
      refine uLd_n (i := 5) (by decide) (by decide) ?_
      rw [uA_at, hs5]
      refine ⟨fun n => absurd n (nI_ge (show i < nl by omega) (by omega)), fun _ => uGt_n ans_at (m_of (w := 4) (by omega) (by decide) (uPt_a ?_))⟩
      rw [uA_at, ans_uA, ans_ans, nI_1]
      exact ih (i + 1) (by omega)
  exact hk nl 0 (Nat.zero_add nl)
/-- what a tenant gets back -/
def fBack (s : Nat → Int32) (l : Nat) : Int32 := s (199 + 18 * l + 6) * (s 3 - (s 1 - s 1 / s 3 * s 3)) / s 3
def fBrk (s : Nat → Int32) (l : Nat) : Nat → Int32 := upd (upd s (199 + 18 * l + 5) (-1)) (199 + 18 * l + 6) 0
def fDown (s : Nat → Int32) (l : Nat) : Nat → Int32 := upd s (199 + 18 * l + 4) 0
def fPay (s : Nat → Int32) (t : Nat) (x : Int32) : Nat → Int32 := upd (upd s (187 + 3 * t) (s (187 + 3 * t) + x)) (187 + 3 * t + 2) (s (187 + 3 * t + 2) + x)
theorem m_brk {l : Nat} {Q : Int32 → gM → Prop} {v : gM} (hl : l < 16) (h : Q 0 (uA v 0 (fBrk (v.1 0) l))) : wM_breaks_125 Q (nI l) v := by
  unfold wM_breaks_125
  refine m_puts (w := 5) hl (by decide) (m_puts (w := 6) hl (by decide) ?_)
  have e : su (su v 0 (199 + 18 * l + 5) (-1)) 0 (199 + 18 * l + 6) 0 = uA v 0 (fBrk (v.1 0) l) := by
    rw [show su v 0 (199 + 18 * l + 5) (-1) = uA v 0 (upd (v.1 0) (199 + 18 * l + 5) (-1)) from rfl, su_uA]
    rfl
  rw [e]
  exact h
theorem m_breaks {a1 : Int32} {nl : Nat} {Q : Int32 → gM → Prop} {u : gM} (hn : u.1 0 5 = nI nl) (h16 : nl ≤ 16) (h3 : ¬ u.1 0 3 = 0) (hw : ∀ l : Nat, l < nl → u.1 0 (199 + 18 * l + 5) < 0 ∨ ∃ t : Nat, t < 4 ∧ u.1 0 (199 + 18 * l + 5) = nI t)
    (h1 : fIn a1 0 (nI nl - 1) = false → Q 1 u) (h2 : ∀ l : Nat, l < nl → a1 = nI l → u.1 0 (199 + 18 * l + 4) = 0 → Q 2 u)
    (h00 : ∀ l : Nat, l < nl → a1 = nI l → ¬ u.1 0 (199 + 18 * l + 4) = 0 → u.1 0 (199 + 18 * l + 5) < 0 → Q 0 (uA (uAns u 0) 0 (fBrk (fDown (u.1 0) l) l)))
    (h0 : ∀ l t : Nat, l < nl → t < 4 → a1 = nI l → ¬ u.1 0 (199 + 18 * l + 4) = 0 → u.1 0 (199 + 18 * l + 5) = nI t → Q 0 (uA (uAns u (fBack (u.1 0) l)) 0 (fBrk (fPay (fDown (u.1 0) l) t (fBack (u.1 0) l)) l))) : wM_breaks a1 Q u := by
  unfold wM_breaks
  refine m_isLink ?_
  rw [hn]
  refine brI (fun hl => ?_) h1
  obtain ⟨l, hl1, rfl⟩ := fIn_true (by omega) hl
  refine m_of (w := 4) (by omega) (by decide) ⟨fun h => h2 l hl1 rfl h, fun h => m_puts (w := 4) (by omega) (by decide) (uPt_a ?_)⟩
  have e0 : su u 0 (199 + 18 * l + 4) 0 = uA u 0 (fDown (u.1 0) l) := rfl
  rw [e0, ans_uA]
  refine m_of (w := 5) (by omega) (by decide) ?_
  have e5 : (uA (uAns u 0) 0 (fDown (u.1 0) l)).1 0 (199 + 18 * l + 5) = u.1 0 (199 + 18 * l + 5) := by
    rw [uA_at]
    have : ¬ 199 + 18 * l + 5 = 199 + 18 * l + 4 := by omega
    simp [fDown, upd]
  rw [e5]
  refine ⟨fun h5 => m_brk (by omega) ?_, fun h5 => ?_⟩
  · rw [uA_at, uA_uA]
    exact h00 l hl1 rfl h h5
  · rcases hw l hl1 with hw | ⟨t, ht, hw⟩
    · exact absurd hw h5
    · have g : ∀ k : Nat, k < 199 → fDown (u.1 0) l k = u.1 0 k := fun k hk => by
        have : ¬ k = 199 + 18 * l + 4 := by omega
        simp [fDown, upd, this]
      have hq := h0 l t hl1 ht rfl h hw
      rw [hw]
      refine uLd_n (i := 3) (by decide) (by decide) (uLd_n (i := 1) (by decide) (by decide) (uLd_n (i := 3) (by decide) (by decide) ?_))
      rw [uA_at, g 3 (by decide), g 1 (by decide)]
      refine ⟨h3, fun z15 hz => m_of (w := 6) (by omega) (by decide) (uLd_n (i := 3) (by decide) (by decide) ?_)⟩
      rw [uA_at, g 3 (by decide)]
      have e6 : fDown (u.1 0) l (199 + 18 * l + 6) = u.1 0 (199 + 18 * l + 6) := by simp [fDown, upd]
      rw [e6]
      refine ⟨h3, uPt_a ?_⟩
      have eb : u.1 0 (199 + 18 * l + 6) * z15 / u.1 0 3 = fBack (u.1 0) l := by rw [hz]; rfl
      rw [eb, ans_uA, ans_ans, iC]
      refine uLd_n (by omega) (by decide) (uGt_n ans_at (uSt_n (by omega) (by decide) ?_))
      rw [su_uA, show (2 : Int32) = nI 2 from rfl, nI_add]
      refine uLd_n (by omega) (by decide) (uGt_n ans_at (uSt_n (by omega) (by decide) ?_))
      rw [su_uA]
      refine m_brk (by omega) ?_
      rw [uA_at, uA_uA, uA_at, uA_at]
      have e9 : upd (fDown (u.1 0) l) (187 + 3 * t) (fDown (u.1 0) l (187 + 3 * t) + fBack (u.1 0) l) (187 + 3 * t + 2) = fDown (u.1 0) l (187 + 3 * t + 2) := by
        have : ¬ 187 + 3 * t + 2 = 187 + 3 * t := by omega
        simp [upd, this]
      rw [e9]
      exact hq
