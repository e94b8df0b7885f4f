/-! PLAIN LAW: sells, whole -/
theorem fGr_or {s : Nat → Int32} {l : Nat} {skip : Int32} : fGr s l skip = -1 ∨ ∃ k : Nat, k < 4 ∧ fGr s l skip = nI k := fGr_lt 4
theorem fWin_or {s : Nat → Int32} {l : Nat} : fWin s l = -1 ∨ ∃ k : Nat, k < 4 ∧ fWin s l = nI k := by
  unfold fWin
  split
  · exact fGr_or
  · exact Or.inl rfl
theorem m_sells {l : Nat} {s : Nat → Int32} {Q : gM → Prop} {u : gM} (hl : l < 16) (h : Q (uA u 0 (fSells s l))) : wM_sells (nI l) Q (uA u 0 s) := by
  have h64 : ∀ (w p : Int32), (w = -1 ∨ ∃ k : Nat, k < 4 ∧ w = nI k) → Q (uA u 0 (fSet (fTake s l w p) l p)) → wM_sells_64 Q (nI l) w p (uA u 0 s) := by
    intro w p hw hq
    unfold wM_sells_64
    refine m_putsA (w := 5) hl (by omega) (m_putsA (w := 6) hl (by omega) ⟨fun c => ?_, fun c => ?_⟩)
    · have hw : w = -1 := by
        rcases hw with hw | ⟨k, hk, rfl⟩
        · exact hw
        · exact absurd c (nI_pos (by omega))
      have ht : fTake s l w p = upd (upd s (199 + 18 * l + 5) w) (199 + 18 * l + 6) p := if_pos hw
      rw [ht] at hq
      exact m_sells122 hl hq
    · rcases hw with hw | ⟨k, hk, rfl⟩
      · subst hw
        exact absurd (by decide) c
      · have h1 : ¬ nI k = -1 := by
          intro e
          rw [e] at c
          exact c (by decide)
        have hc : (nI k).toNatClampNeg = k := eI (by omega)
        have ht : fTake s l (nI k) p = upd (upd (upd (upd s (199 + 18 * l + 5) (nI k)) (199 + 18 * l + 6) p) (187 + 3 * k) ((upd (upd s (199 + 18 * l + 5) (nI k)) (199 + 18 * l + 6) p) (187 + 3 * k) - p)) (187 + 3 * k + 1) ((upd (upd s (199 + 18 * l + 5) (nI k)) (199 + 18 * l + 6) p) (187 + 3 * k + 1) + p) := by
          unfold fTake fPays
          rw [if_neg h1, hc]
        rw [ht] at hq
        rw [iC, show (1 : Int32) = nI 1 from rfl, nI_add]
        refine uLd_A (by omega) (uSt_A (by omega) (uLd_A (by omega) (uSt_A (by omega) ?_)))
        refine m_sells122 hl ?_
        have he : ∀ (f : Nat → Int32) (x : Int32), upd f (187 + 3 * k) x (187 + 3 * k + 1) = f (187 + 3 * k + 1) := by
          intro f x
          unfold upd
          exact if_neg (by omega)
        rw [he]
        exact hq
  have h20 : ∀ w : Int32, w = fWin s l → wM_sells_20 Q (nI l) w (uA u 0 s) := by
    intro w e
    unfold wM_sells_20 wM_sells_36
    refine ⟨fun c => ⟨fun d => ?_, fun d => absurd c d⟩, fun c => m_greatest hl ⟨fun d => absurd d c, fun _ => ⟨fun d => ?_, fun d => ?_⟩⟩⟩
    · refine h64 w 0 (Or.inl c) ?_
      have hp : fPri s l = 0 := if_pos (by rw [← e]; exact c)
      unfold fSells at h
      rw [hp, ← e] at h
      exact h
    · rw [uA_at] at d
      refine h64 w 1 (by rw [e]; exact fWin_or) ?_
      have hp : fPri s l = 1 := by
        unfold fPri
        rw [← e, if_neg c, if_pos d]
      unfold fSells at h
      rw [hp, ← e] at h
      exact h
    · rw [uA_at] at d ⊢
      rcases (fGr_or : fGr s l w = -1 ∨ _) with hg | ⟨k, hk, hg⟩
      · exact absurd hg d
      · have hp : fPri s l = fBid s l k := by
          unfold fPri
          rw [← e, if_neg c, if_neg d, hg, eI (by omega)]
        rw [hg, i14]
        refine m_ofA hl (by omega) (h64 w _ (by rw [e]; exact fWin_or) ?_)
        unfold fSells at h
        rw [hp, ← e] at h
        exact h
  unfold wM_sells
  refine m_ofA (w := 4) hl (by omega) ⟨fun c => m_greatest hl (h20 _ ?_), fun c => h20 _ ?_⟩
  · rw [uA_at]
    exact (if_pos c).symm
  · exact (if_neg c).symm
