/-! PLAIN LAW: the Model's simple loops in closed form -/
/-- the first i places from f, the others from g -/
def fl (f g : Nat → Int32) (i : Nat) : Nat → Int32 := fun k => if k < i then f k else g k
theorem fl_0 {f g : Nat → Int32} : fl f g 0 = g := funext fun k => if_neg (Nat.not_lt_zero k)
theorem fl_s {f g : Nat → Int32} {i : Nat} : upd (fl f g i) i (f i) = fl f g (i + 1) := by
  funext k
  by_cases h : k = i
  · subst h
    simp [upd, fl]
  · by_cases h2 : k < i
    · simp [upd, fl, h, h2, Nat.lt_succ_of_lt h2]
    · have h3 : ¬ k < i + 1 := by omega
      simp [upd, fl, h, h2, h3]
theorem uA_at {u : gM} {k : Nat} {f : Nat → Int32} : (uA u k f).1 k = f := if_pos rfl
theorem uA_ne {u : gM} {k j : Nat} {f : Nat → Int32} (h : j ≠ k) : (uA u k f).1 j = u.1 j := if_neg h
theorem uA_uA {u : gM} {k : Nat} {f g : Nat → Int32} : uA (uA u k f) k g = uA u k g := by
  refine Prod.ext (funext fun a => ?_) rfl
  show (if a = k then g else if a = k then f else u.1 a) = if a = k then g else u.1 a
  split <;> rfl
theorem su_uA {u : gM} {k i : Nat} {f : Nat → Int32} {x : Int32} : su (uA u k f) k i x = uA u k (upd f i x) := by
  unfold su
  rw [uA_at, uA_uA]
theorem uA_self {u : gM} {k : Nat} : uA u k (u.1 k) = u := by
  refine Prod.ext (funext fun a => ?_) rfl
  show (if a = k then u.1 k else u.1 a) = u.1 a
  split
  · rename_i h; rw [h]
  · rfl
theorem m_hold {Q : gM → Prop} {u : gM} (h : Q (uA u 2 (fl (u.1 0) (u.1 2) 487))) : wM_hold Q u := by
  have hl : ∀ k i : Nat, i + k = 487 → wM_hold_2 Q (k + 1) (nI i) (uA u 2 (fl (u.1 0) (u.1 2) i)) := by
    intro k
    induction k with
    | zero =>
      intro i hi
      have hi : i = 487 := hi
      subst hi
      exact ⟨fun _ => h, fun n => absurd (nI_le (Nat.le_refl 487) (by decide)) n⟩
    | succ k ih =>
      intro i hi
      refine ⟨fun n => absurd n (nI_ge (show i < 487 by omega) (by decide)), fun _ => ?_⟩
      refine uLd_n (show i < 487 by omega) (by decide) (uSt_n (show i < 487 by omega) (by decide) ?_)
      rw [uA_ne (by decide), su_uA, fl_s, nI_1]
      exact ih (i + 1) (by omega)
  refine ⟨488, ?_⟩
  have h0 := hl 487 0 rfl
  rw [fl_0, uA_self] at h0
  exact h0
theorem m_startsAnew {b : Nat} {Q : gM → Prop} {u : gM} (hb : b < 8) (h : Q (uA u 0 (upd (upd (upd (upd (u.1 0) (11 + 5 * b + 1) (fId (u.1 0) b)) (11 + 5 * b + 2) 0) (11 + 5 * b + 3) 0) (11 + 5 * b + 4) (-1)))) : wM_startsAnew (nI b) Q u := by
  unfold wM_startsAnew
  refine m_idOf hb ?_
  rw [iB, show (1 : Int32) = nI 1 from rfl, show (2 : Int32) = nI 2 from rfl, show (3 : Int32) = nI 3 from rfl, show (4 : Int32) = nI 4 from rfl, nI_add, nI_add, nI_add, nI_add]
  refine uSt_n (by omega) (by decide) (uSt_n (by omega) (by decide) (uSt_n (by omega) (by decide) (uSt_n (by omega) (by decide) ?_)))
  rw [show su u 0 (11 + 5 * b + 1) (fId (u.1 0) b) = uA u 0 (upd (u.1 0) (11 + 5 * b + 1) (fId (u.1 0) b)) from rfl, su_uA, su_uA, su_uA]
  exact h
/-- the entries of bridge b, places ahead of i, none -/
def fFl (s : Nat → Int32) (b i : Nat) : Nat → Int32 := fun k => if 51 + 16 * b ≤ k ∧ k < 51 + 16 * b + 2 * i ∧ (k - (51 + 16 * b)) % 2 = 0 then -1 else s k
theorem fFl_0 {s : Nat → Int32} {b : Nat} : fFl s b 0 = s := funext fun k => if_neg (by omega)
theorem fFl_s {s : Nat → Int32} {b i : Nat} : upd (fFl s b i) (51 + 16 * b + 2 * i) (-1) = fFl s b (i + 1) := by
  funext k
  by_cases h : k = 51 + 16 * b + 2 * i
  · subst h
    have h9 : 51 + 16 * b ≤ 51 + 16 * b + 2 * i ∧ 51 + 16 * b + 2 * i < 51 + 16 * b + 2 * (i + 1) ∧ (51 + 16 * b + 2 * i - (51 + 16 * b)) % 2 = 0 := ⟨by omega, by omega, by omega⟩
    show (if 51 + 16 * b + 2 * i = 51 + 16 * b + 2 * i then (-1 : Int32) else _) = _
    rw [if_pos rfl]
    exact (if_pos h9).symm
  · have h9 : (51 + 16 * b ≤ k ∧ k < 51 + 16 * b + 2 * i ∧ (k - (51 + 16 * b)) % 2 = 0) ↔ (51 + 16 * b ≤ k ∧ k < 51 + 16 * b + 2 * (i + 1) ∧ (k - (51 + 16 * b)) % 2 = 0) := by omega
    show (if k = 51 + 16 * b + 2 * i then (-1 : Int32) else fFl s b i k) = _
    rw [if_neg h]
    unfold fFl
    by_cases h8 : 51 + 16 * b ≤ k ∧ k < 51 + 16 * b + 2 * i ∧ (k - (51 + 16 * b)) % 2 = 0
    · rw [if_pos h8, if_pos (h9.mp h8)]
    · rw [if_neg h8, if_neg (fun h7 => h8 (h9.mpr h7))]
theorem m_flushes {b : Nat} {Q : gM → Prop} {u : gM} (hb : b < 8) (h : Q (uA u 0 (fFl (u.1 0) b 8))) : wM_flushes (nI b) Q u := by
  have hl : ∀ k i : Nat, i + k = 8 → wM_flushes_2 Q (k + 1) (nI b) (nI i) (uA u 0 (fFl (u.1 0) b i)) := by
    intro k
    induction k with
    | zero =>
      intro i hi
      have hi : i = 8 := hi
      subst hi
      exact ⟨fun _ => h, fun n => absurd (nI_le (Nat.le_refl 8) (by decide)) n⟩
    | succ k ih =>
      intro i hi
      refine ⟨fun n => absurd n (nI_ge (show i < 8 by omega) (by decide)), fun _ => ?_⟩
      rw [iT]
      refine uSt_n (by omega) (by decide) ?_
      rw [su_uA, fFl_s, nI_1]
      exact ih (i + 1) (by omega)
  refine ⟨9, ?_⟩
  have h0 := hl 8 0 rfl
  rw [fFl_0, uA_self] at h0
  exact h0
