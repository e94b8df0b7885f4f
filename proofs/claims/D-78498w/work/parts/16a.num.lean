/-! PLAIN LAW: numbers, and the Model's small parts in closed form -/
theorem vI {k n : Nat} (h : k < n) (hn : n < 2 ^ 31) : vp_in (nI k) n := nI_in h hn
theorem eI {k : Nat} (h : k < 2 ^ 31) : (nI k).toNatClampNeg = k := nI_clamp h
theorem iL {l w : Nat} : (199 + (18 * nI l)) + nI w = nI (199 + 18 * l + w) := by
  rw [show (199 : Int32) = nI 199 from rfl, show (18 : Int32) = nI 18 from rfl, pk_mul, nI_add, nI_add]
theorem iB {b : Nat} : 11 + (5 * nI b) = nI (11 + 5 * b) := by
  rw [show (11 : Int32) = nI 11 from rfl, show (5 : Int32) = nI 5 from rfl, pk_mul, nI_add]
theorem iT {b h : Nat} : (51 + (16 * nI b)) + (2 * nI h) = nI (51 + 16 * b + 2 * h) := by
  rw [show (51 : Int32) = nI 51 from rfl, show (16 : Int32) = nI 16 from rfl, show (2 : Int32) = nI 2 from rfl, pk_mul, pk_mul, nI_add, nI_add]
theorem iH {h : Nat} : 179 + nI h = nI (179 + h) := by
  rw [show (179 : Int32) = nI 179 from rfl, nI_add]
theorem iC {t : Nat} : 187 + (3 * nI t) = nI (187 + 3 * t) := by
  rw [show (187 : Int32) = nI 187 from rfl, show (3 : Int32) = nI 3 from rfl, pk_mul, nI_add]
theorem uLd_n {k n i : Nat} {K : Int32 → Prop} {u : gM} (hi : i < n) (hn : n < 2 ^ 31) (h : K (u.1 k i)) : uLd k n (nI i) K u := by
  refine ⟨vI hi hn, ?_⟩
  rw [eI (Nat.lt_trans hi hn)]
  exact h
theorem uSt_n {k n i : Nat} {x : Int32} {K : gM → Prop} {u : gM} (hi : i < n) (hn : n < 2 ^ 31) (h : K (su u k i x)) : uSt k n (nI i) x K u := by
  refine ⟨vI hi hn, ?_⟩
  rw [eI (Nat.lt_trans hi hn)]
  exact h
/-- in(v, least, most) -/
def fIn (v a b : Int32) : Bool := decide (¬ v < a ∧ ¬ b < v)
theorem m_in {a0 a1 a2 : Int32} {Q : Int32 → gM → Prop} {u : gM} (h : Q (if fIn a0 a1 a2 then 1 else 0) u) : wM_in a0 a1 a2 Q u := by
  unfold wM_in
  by_cases h1 : a0 < a1
  · simp only [fIn, h1] at h
    exact ⟨fun _ => by simpa using h, fun n => absurd h1 n⟩
  · by_cases h2 : a2 < a0
    · simp only [fIn, h1, h2] at h
      exact ⟨fun n => absurd n h1, fun _ => ⟨fun _ => by simpa using h, fun n => absurd h2 n⟩⟩
    · simp only [fIn, h1, h2] at h
      exact ⟨fun n => absurd n h1, fun _ => ⟨fun n => absurd n h2, fun _ => by simpa using h⟩⟩
theorem nar01 {b : Bool} : narrow .boolean (.int (if b then (1 : Int32) else 0)) = .int (if b then 1 else 0) := by cases b <;> rfl
theorem m_isHost {a : Int32} {Q : Int32 → gM → Prop} {u : gM} (h : Q (if fIn a 0 7 then 1 else 0) u) : wM_isHost a Q u := by
  unfold wM_isHost
  exact m_in ⟨nar01, h⟩
theorem m_isTenant {a : Int32} {Q : Int32 → gM → Prop} {u : gM} (h : Q (if fIn a 0 3 then 1 else 0) u) : wM_isTenant a Q u := by
  unfold wM_isTenant
  exact m_in ⟨nar01, h⟩
theorem m_isBridge {a : Int32} {Q : Int32 → gM → Prop} {u : gM} (h : Q (if fIn a 0 (u.1 0 0 - 1) then 1 else 0) u) : wM_isBridge a Q u := by
  unfold wM_isBridge
  exact uLd_n (i := 0) (by decide) (by decide) (m_in ⟨nar01, h⟩)
theorem m_isLink {a : Int32} {Q : Int32 → gM → Prop} {u : gM} (h : Q (if fIn a 0 (u.1 0 5 - 1) then 1 else 0) u) : wM_isLink a Q u := by
  unfold wM_isLink
  exact uLd_n (i := 5) (by decide) (by decide) (m_in ⟨nar01, h⟩)
theorem m_of {l w : Nat} {Q : Int32 → gM → Prop} {u : gM} (hl : l < 16) (hw : w < 18) (h : Q (u.1 0 (199 + 18 * l + w)) u) : wM_of (nI l) (nI w) Q u := by
  unfold wM_of
  rw [iL]
  exact uLd_n (by omega) (by decide) h
theorem m_puts {l w : Nat} {x : Int32} {Q : gM → Prop} {u : gM} (hl : l < 16) (hw : w < 18) (h : Q (su u 0 (199 + 18 * l + w) x)) : wM_puts (nI l) (nI w) x Q u := by
  unfold wM_puts
  rw [iL]
  exact uSt_n (by omega) (by decide) h
def fId (s : Nat → Int32) (b : Nat) : Int32 := 10 * s (11 + 5 * b) + nI b
theorem m_idOf {b : Nat} {Q : Int32 → gM → Prop} {u : gM} (hb : b < 8) (h : Q (fId (u.1 0) b) u) : wM_idOf (nI b) Q u := by
  unfold wM_idOf
  rw [iB]
  exact uLd_n (by omega) (by decide) h
def fCar (s : Nat → Int32) (l : Nat) : Bool := decide (s (199 + 18 * l + 4) = 1 ∧ s (199 + 18 * l + 9) = 3 ∧ s (199 + 18 * l + 12) = 3)
theorem m_carries {l : Nat} {Q : Int32 → gM → Prop} {u : gM} (hl : l < 16) (h : Q (if fCar (u.1 0) l then 1 else 0) u) : wM_carries (nI l) Q u := by
  unfold wM_carries
  refine m_of (w := 4) hl (by decide) ?_
  refine ⟨fun h4 => m_of (w := 9) hl (by decide) ⟨fun h9 => m_of (w := 12) hl (by decide) ⟨fun h12 => ?_, fun h12 => ?_⟩, fun h9 => ?_⟩, fun h4 => ?_⟩ <;> simpa [fCar, *] using h
