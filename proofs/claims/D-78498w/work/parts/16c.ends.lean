/-! PLAIN LAW: the Model's ends, undo -/
theorem uP_A {u : gM} {k j : Nat} {f : Nat → Int32} {x : Int32} (hk : k ≠ 8) : su (uA u k f) 8 j x = uA (uA u k f) 8 (upd (u.1 8) j x) := by
  unfold su
  rw [uA_ne (Ne.symm hk)]
theorem uA_swap {u : gM} {k j : Nat} {f g : Nat → Int32} (h : k ≠ j) : uA (uA u k f) j g = uA (uA u j g) k f := by
  refine Prod.ext (funext fun a => ?_) rfl
  show (if a = j then g else if a = k then f else u.1 a) = if a = k then f else if a = j then g else u.1 a
  by_cases h1 : a = j
  · rw [if_pos h1, if_neg (fun h2 => h (h2.symm.trans h1)), if_pos h1]
  · rw [if_neg h1, if_neg h1]
theorem uGt_n {j : Nat} {v : Int32} {K : Int32 → Prop} {u : gM} (e : u.1 8 j = v) (h : K v) : uGt j K u := by
  unfold uGt
  rw [e]
  exact h
theorem m_tells {a : Int32} {Q : Int32 → gM → Prop} {u : gM} (h : Q a (uA u 8 (upd (u.1 8) 2 0))) : wM_tells a Q u := h
theorem m_fails {a : Int32} {Q : Int32 → gM → Prop} {u : gM} (h : Q 0 (uA u 8 (upd (u.1 8) 2 a))) : wM_fails a Q u := h
/-- i places of f laid over p from o on -/
def flo (p : Nat → Int32) (o : Nat) (f : Nat → Int32) (i : Nat) : Nat → Int32 := fun k => if o ≤ k ∧ k < o + i then f (k - o) else p k
theorem flo_0 {p f : Nat → Int32} {o : Nat} : flo p o f 0 = p := funext fun k => if_neg (by omega)
theorem flo_s {p f : Nat → Int32} {o i : Nat} : upd (flo p o f i) (o + i) (f i) = flo p o f (i + 1) := by
  funext k
  by_cases h : k = o + i
  · subst h
    show (if o + i = o + i then f i else _) = if o ≤ o + i ∧ o + i < o + (i + 1) then f (o + i - o) else _
    rw [if_pos rfl, if_pos ⟨by omega, by omega⟩, Nat.add_sub_cancel_left]
  · show (if k = o + i then f i else if o ≤ k ∧ k < o + i then f (k - o) else p k) = if o ≤ k ∧ k < o + (i + 1) then f (k - o) else p k
    rw [if_neg h]
    by_cases h2 : o ≤ k ∧ k < o + i
    · rw [if_pos h2, if_pos ⟨h2.1, by omega⟩]
    · rw [if_neg h2, if_neg (by omega)]
/-- the first i places moved down by 487 -/
def fsh (p : Nat → Int32) (i : Nat) : Nat → Int32 := fun k => if k < i then p (k + 487) else p k
theorem fsh_0 {p : Nat → Int32} : fsh p 0 = p := funext fun k => if_neg (Nat.not_lt_zero k)
theorem fsh_s {p : Nat → Int32} {i : Nat} : upd (fsh p i) i (fsh p i (i + 487)) = fsh p (i + 1) := by
  funext k
  have h0 : fsh p i (i + 487) = p (i + 487) := if_neg (by omega)
  rw [h0]
  by_cases h : k = i
  · subst h
    show (if k = k then p (k + 487) else _) = if k < k + 1 then p (k + 487) else _
    rw [if_pos rfl, if_pos (Nat.lt_succ_self k)]
  · show (if k = i then p (i + 487) else if k < i then p (k + 487) else p k) = if k < i + 1 then p (k + 487) else p k
    rw [if_neg h]
    by_cases h2 : k < i
    · rw [if_pos h2, if_pos (by omega)]
    · rw [if_neg h2, if_neg (by omega)]
theorem m_ends49 {a : Int32} {d : Nat} {Q : Int32 → gM → Prop} {u : gM} (hd : u.1 8 0 = nI d) (hd2 : d ≤ 2) (h : Q a (uA (uA u 1 (flo (u.1 1) (487 * d) (u.1 2) 487)) 8 (upd (upd (u.1 8) 0 (nI (d + 1))) 2 0))) : wM_ends_49 Q a u := by
  have hl : ∀ k i : Nat, i + k = 487 → wM_ends_51 Q (k + 1) a (nI i) (uA u 1 (flo (u.1 1) (487 * d) (u.1 2) i)) := by
    intro k
    induction k with
    | zero =>
      intro i hi
      have hi : i = 487 := hi
      subst hi
      refine ⟨fun _ => ?_, fun n => absurd (nI_le (Nat.le_refl 487) (by decide)) n⟩
      show wM_tells a (fun r14 u13 => Q r14 u13) (su _ 8 0 ((uA u 1 _).1 8 0 + 1))
      rw [uA_ne (by decide), hd, nI_1, uP_A (by decide)]
      refine m_tells ?_
      rw [uA_at, uA_uA]
      exact h
    | succ k ih =>
      intro i hi
      refine ⟨fun n => absurd n (nI_ge (show i < 487 by omega) (by decide)), fun _ => ?_⟩
      refine uGt_n (v := nI d) (by rw [uA_ne (by decide)]; exact hd) ?_
      refine uLd_n (show i < 487 by omega) (by decide) ?_
      rw [show (487 : Int32) = nI 487 from rfl, pk_mul, nI_add]
      refine uSt_n (show 487 * d + i < 1461 by omega) (by decide) ?_
      rw [uA_ne (by decide), su_uA, flo_s, nI_1]
      exact ih (i + 1) (by omega)
  refine ⟨488, ?_⟩
  have h0 := hl 487 0 rfl
  rw [flo_0, uA_self] at h0
  exact h0
/-- saved states, the number of them, behind one more -/
def fPast (u : gM) (d : Nat) : Nat → Int32 := if d = 3 then flo (fsh (u.1 1) 974) 974 (u.1 2) 487 else flo (u.1 1) (487 * d) (u.1 2) 487
def fDep (d : Nat) : Nat := if d = 3 then 3 else d + 1
def fEnds (u : gM) (d : Nat) : gM := uA (uA u 1 (fPast u d)) 8 (upd (upd (u.1 8) 0 (nI (fDep d))) 2 0)
theorem upd_upd {f : Nat → Int32} {i : Nat} {x y : Int32} : upd (upd f i x) i y = upd f i y := by
  funext k
  by_cases h : k = i <;> simp [upd, h]
theorem m_ends {a : Int32} {d : Nat} {Q : Int32 → gM → Prop} {u : gM} (hd : u.1 8 0 = nI d) (hd3 : d ≤ 3) (h : Q a (fEnds u d)) : wM_ends a Q u := by
  unfold wM_ends
  show (u.1 8 0 = 3 → _) ∧ (¬ u.1 8 0 = 3 → _)
  rw [hd]
  by_cases h3 : d = 3
  · subst h3
    refine ⟨fun _ => ?_, fun n => absurd rfl n⟩
    have hl : ∀ k i : Nat, i + k = 974 → wM_ends_10 Q (k + 1) a (nI i) (uA u 1 (fsh (u.1 1) i)) := by
      intro k
      induction k with
      | zero =>
        intro i hi
        have hi : i = 974 := hi
        subst hi
        refine ⟨fun _ => ?_, fun n => absurd (nI_le (Nat.le_refl 974) (by decide)) n⟩
        show wM_ends_49 Q a (su _ 8 0 ((uA u 1 _).1 8 0 - 1))
        rw [uA_ne (by decide), hd, show nI 3 - 1 = nI 2 from rfl, uP_A (by decide)]
        refine m_ends49 (d := 2) ?_ (by decide) ?_
        · rw [uA_at]
          simp [upd]
        · rw [uA_at, uA_ne (show (1 : Nat) ≠ 8 by decide), uA_at, uA_ne (show (2 : Nat) ≠ 8 by decide), uA_ne (show (2 : Nat) ≠ 1 by decide), upd_upd, uA_swap (show (8 : Nat) ≠ 1 by decide), uA_uA, uA_uA]
          exact h
      | succ k ih =>
        intro i hi
        refine ⟨fun n => absurd n (nI_ge (show i < 974 by omega) (by decide)), fun _ => ?_⟩
        rw [show (487 : Int32) = nI 487 from rfl, nI_add]
        refine uLd_n (show i + 487 < 1461 by omega) (by decide) (uSt_n (show i < 1461 by omega) (by decide) ?_)
        rw [uA_at, su_uA, fsh_s, nI_1]
        exact ih (i + 1) (by omega)
    refine ⟨975, ?_⟩
    have h0 := hl 974 0 rfl
    rw [fsh_0, uA_self] at h0
    exact h0
  · have hne : ¬ nI d = 3 := by
      rw [show (3 : Int32) = nI 3 from rfl, nI_eq (by omega) (by decide)]
      exact h3
    refine ⟨fun n => absurd n hne, fun _ => m_ends49 hd (by omega) ?_⟩
    unfold fEnds fPast fDep at h
    rw [if_neg h3, if_neg h3] at h
    exact h
