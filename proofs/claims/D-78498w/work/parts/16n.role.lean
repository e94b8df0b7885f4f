/-! PLAIN LAW: roleOf -/
def fRole (s : Nat → Int32) (l b : Nat) : Int32 :=
  if s (199 + 18 * l + 4) = 0 then 2 else if s (11 + 5 * b + 4) = nI l then 0 else if fAhead s b (fOther s l (nI b)).toNatClampNeg then 1 else 2
theorem m_roleOf {l b : Nat} {s : Nat → Int32} {Q : Int32 → gM → Prop} {u : gM} (hl : l < 16) (hb : b < 8) (ho : ∃ o : Nat, o < 8 ∧ fOther s l (nI b) = nI o) (h : Q (fRole s l b) (uA u 0 s)) : wM_roleOf (nI l) (nI b) Q (uA u 0 s) := by
  obtain ⟨o, ho, e⟩ := ho
  have hc : (nI o).toNatClampNeg = o := eI (by omega)
  unfold wM_roleOf
  rw [show (11 + (5 * nI b)) + 4 = nI (11 + 5 * b + 4) from iBk (k := 4)]
  refine m_ofA (w := 4) hl (by omega) ⟨fun c => ?_, fun c => uLd_A (by omega) ⟨fun d => ?_, fun d => m_other hl ?_⟩⟩
  · simpa [fRole, c] using h
  · simpa [fRole, c, d] using h
  · rw [e]
    refine m_isAhead hb ho ?_
    unfold fRole at h
    rw [if_neg c, if_neg d, e, hc] at h
    by_cases a : fAhead s b o
    · rw [if_pos a] at h ⊢
      exact ⟨fun n => absurd n (by decide), fun _ => h⟩
    · rw [if_neg a] at h ⊢
      exact ⟨fun _ => h, fun n => absurd rfl n⟩
