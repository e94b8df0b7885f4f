/-! PLAIN LAW: counted loops; begins -/
def fIt {α : Type} (st : Nat → α → α) : Nat → α → α
  | 0, a => a
  | i + 1, a => st i (fIt st i a)
theorem lp_up {α : Type} {N : Nat} {L : Nat → Int32 → α → Prop} {st : Nat → α → α} {a : α} (h0 : ∀ k : Nat, L (k + 1) (nI N) (fIt st N a)) (hs : ∀ i k : Nat, i < N → L k (nI (i + 1)) (fIt st (i + 1) a) → L (k + 1) (nI i) (fIt st i a)) : L (N + 1) (nI 0) a := by
  have hl : ∀ k i : Nat, i + k = N → L (k + 1) (nI i) (fIt st i a) := by
    intro k
    induction k with
    | zero =>
      intro i hi
      have hi : i = N := hi
      subst hi
      exact h0 0
    | succ k ih =>
      intro i hi
      exact hs i (k + 1) (by omega) (ih (i + 1) (by omega))
  exact hl N 0 (Nat.zero_add N)
/-- a loop over the rows of s alone -/
theorem fIt_uA {u : gM} {k : Nat} {st : Nat → (Nat → Int32) → (Nat → Int32)} {i : Nat} : fIt (fun j v => uA v k (st j (v.1 k))) i u = uA u k (fIt st i (u.1 k)) := by
  induction i with
  | zero => exact uA_self.symm
  | succ i ih =>
    show uA (fIt _ i u) k (st i ((fIt _ i u).1 k)) = uA u k (st i (fIt st i (u.1 k)))
    rw [ih, uA_at, uA_uA]
/-- all but the times, 0 -/
def fClr (s : Nat → Int32) : Nat → Int32 := fun k => if k < 487 then (if 2 ≤ k ∧ k ≤ 4 then s k else 0) else s k
def fAnew (s : Nat → Int32) (b : Nat) : Nat → Int32 := upd (upd (upd (upd s (11 + 5 * b + 1) (fId s b)) (11 + 5 * b + 2) 0) (11 + 5 * b + 3) 0) (11 + 5 * b + 4) (-1)
def fBeg1 (b : Nat) (s : Nat → Int32) : Nat → Int32 := fFl (fAnew (upd s (11 + 5 * b) 5) b) b 8
def fBegins (s : Nat → Int32) (n : Nat) : Nat → Int32 := fIt (fun t s => upd s (187 + 3 * t) 100) 4 (fIt (fun h s => upd s (179 + h) (nI (h % n))) 8 (fIt fBeg1 8 (upd (fClr s) 0 (nI n))))
def fClr1 (i : Nat) (s : Nat → Int32) : Nat → Int32 := upd s i (if 2 ≤ i ∧ i ≤ 4 then s i else 0)
theorem fClr_it {s : Nat → Int32} {i : Nat} : fIt fClr1 i s = fun k => if k < i then (if 2 ≤ k ∧ k ≤ 4 then s k else 0) else s k := by
  induction i with
  | zero =>
    funext k
    exact (if_neg (Nat.not_lt_zero k)).symm
  | succ i ih =>
    show fClr1 i (fIt fClr1 i s) = _
    rw [ih]
    funext k
    unfold fClr1
    by_cases h : k = i
    · subst h
      simp [upd]
    · by_cases h2 : k < i
      · have h3 : k < i + 1 := by omega
        simp [upd, h, h2, h3]
      · have h3 : ¬ k < i + 1 := by omega
        simp [upd, h, h2, h3]
theorem m_begins {n : Nat} {Q : gM → Prop} {u : gM} (h1 : 2 ≤ n) (h8 : n ≤ 8) (h : Q (uA u 0 (fBegins (u.1 0) n))) : wM_begins (nI n) Q u := by
  have l3 : ∀ v : gM, Q (uA v 0 (fIt (fun t s => upd s (187 + 3 * t) 100) 4 (v.1 0))) → wM_begins_112 Q 5 (nI 0) v := by
    intro v hv
    refine lp_up (N := 4) (st := fun t v => uA v 0 (upd (v.1 0) (187 + 3 * t) 100)) (L := fun k i v => wM_begins_112 Q k i v) (fun k => ?_) (fun i k hi hk => ?_)
    · refine ⟨fun _ => ?_, fun n => absurd (nI_le (Nat.le_refl 4) (by decide)) n⟩
      rw [fIt_uA (st := fun t s => upd s (187 + 3 * t) 100)]
      exact hv
    · refine ⟨fun n => absurd n (nI_ge hi (by decide)), fun _ => ?_⟩
      rw [iC, nI_1]
      exact uSt_n (by omega) (by decide) hk
  have l2 : ∀ v : gM, Q (uA v 0 (fIt (fun t s => upd s (187 + 3 * t) 100) 4 (fIt (fun h s => upd s (179 + h) (nI (h % n))) 8 (v.1 0)))) → wM_begins_85 Q 9 (nI n) (nI 0) v := by
    intro v hv
    refine lp_up (N := 8) (st := fun h v => uA v 0 (upd (v.1 0) (179 + h) (nI (h % n)))) (L := fun k i v => wM_begins_85 Q k (nI n) i v) (fun k => ?_) (fun i k hi hk => ?_)
    · refine ⟨fun _ => ⟨5, l3 _ ?_⟩, fun n => absurd (nI_le (Nat.le_refl 8) (by decide)) n⟩
      rw [fIt_uA (st := fun h s => upd s (179 + h) (nI (h % n))), uA_at, uA_uA]
      exact hv
    · refine ⟨fun n => absurd n (nI_ge hi (by decide)), fun _ => ⟨nI_ne0 (by omega) (by omega), ?_⟩⟩
      rw [iH, nI_1, pk_rem (by omega) (by omega) (by omega)]
      exact uSt_n (by omega) (by decide) hk
  have l1 : ∀ v : gM, Q (uA v 0 (fIt (fun t s => upd s (187 + 3 * t) 100) 4 (fIt (fun h s => upd s (179 + h) (nI (h % n))) 8 (fIt fBeg1 8 (v.1 0))))) → wM_begins_49 Q 9 (nI n) (nI 0) v := by
    intro v hv
    refine lp_up (N := 8) (st := fun b v => uA v 0 (fBeg1 b (v.1 0))) (L := fun k i v => wM_begins_49 Q k (nI n) i v) (fun k => ?_) (fun i k hi hk => ?_)
    · refine ⟨fun _ => ⟨9, l2 _ ?_⟩, fun n => absurd (nI_le (Nat.le_refl 8) (by decide)) n⟩
      rw [fIt_uA (st := fBeg1), uA_at, uA_uA]
      exact hv
    · refine ⟨fun n => absurd n (nI_ge hi (by decide)), fun _ => ?_⟩
      rw [iB, nI_1]
      refine uSt_n (by omega) (by decide) (m_startsAnew hi (m_flushes hi ?_))
      rw [uA_at, uA_uA]
      unfold su
      rw [uA_at, uA_uA]
      exact hk
  refine ⟨488, ?_⟩
  refine lp_up (N := 487) (st := fun i v => uA v 0 (fClr1 i (v.1 0))) (L := fun k i v => wM_begins_2 Q k (nI n) i v) (fun k => ?_) (fun i k hi hk => ?_)
  · refine ⟨fun _ => ?_, fun n => absurd (nI_le (Nat.le_refl 487) (by decide)) n⟩
    refine uSt_n (i := 0) (by decide) (by decide) ⟨9, l1 _ ?_⟩
    rw [fIt_uA (st := fClr1), su_uA, uA_at, uA_uA]
    have e : fIt fClr1 487 (u.1 0) = fClr (u.1 0) := fClr_it
    rw [e]
    exact h
  · refine ⟨fun n => absurd n (nI_ge hi (by decide)), fun _ => m_in ?_⟩
    have hin : fIn (nI i) 2 4 = decide (2 ≤ i ∧ i ≤ 4) := by
      have a1 : nI i < 2 ↔ i < 2 := nI_ltI (by omega) (by decide)
      have a2 : (4 : Int32) < nI i ↔ 4 < i := nI_ltI (by decide) (by omega)
      unfold fIn
      exact decide_eq_decide.mpr ⟨fun h => ⟨by have := mt a1.mpr h.1; omega, by have := mt a2.mpr h.2; omega⟩, fun h => ⟨fun h9 => by have := a1.mp h9; omega, fun h9 => by have := a2.mp h9; omega⟩⟩
    rw [hin]
    by_cases hc : 2 ≤ i ∧ i ≤ 4
    · rw [decide_eq_true hc]
      refine ⟨fun h9 => absurd h9 (by decide), fun _ => uLd_n hi (by decide) ?_⟩
      show uSt 0 487 (nI i) _ _ _
      refine uSt_n hi (by decide) ?_
      rw [nI_1]
      have e : fIt (fun i v => uA v 0 (fClr1 i (v.1 0))) (i + 1) u = su (fIt (fun i v => uA v 0 (fClr1 i (v.1 0))) i u) 0 i ((fIt (fun i v => uA v 0 (fClr1 i (v.1 0))) i u).1 0 i) := by
        show uA _ 0 (fClr1 i _) = _
        unfold fClr1 su
        rw [if_pos hc]
      rw [← e]
      exact hk
    · rw [decide_eq_false hc]
      refine ⟨fun _ => ?_, fun h9 => absurd rfl h9⟩
      show uSt 0 487 (nI i) 0 _ _
      refine uSt_n hi (by decide) ?_
      rw [nI_1]
      have e : fIt (fun i v => uA v 0 (fClr1 i (v.1 0))) (i + 1) u = su (fIt (fun i v => uA v 0 (fClr1 i (v.1 0))) i u) 0 i 0 := by
        show uA _ 0 (fClr1 i _) = _
        unfold fClr1 su
        rw [if_neg hc]
      rw [← e]
      exact hk
