/-! PLAIN LAW: counts, greatest -/
def fBid (s : Nat → Int32) (l t : Nat) : Int32 := s (199 + 18 * l + (14 + t))
def fCnt (s : Nat → Int32) (t l : Nat) : Bool := decide (¬ fBid s l t ≤ 0 ∧ ¬ s (187 + 3 * t) < fBid s l t)
theorem i14 {t : Nat} : (14 : Int32) + nI t = nI (14 + t) := by
  rw [show (14 : Int32) = nI 14 from rfl, nI_add]
theorem m_counts {t l : Nat} {Q : Int32 → gM → Prop} {u : gM} (ht : t < 4) (hl : l < 16) (h : Q (if fCnt (u.1 0) t l then 1 else 0) u) : wM_counts (nI t) (nI l) Q u := by
  unfold wM_counts
  rw [i14]
  refine m_of hl (by omega) ⟨fun c => ?_, fun c => ?_⟩
  · have c1 : fBid (u.1 0) l t ≤ 0 := c
    simpa [fCnt, c1] using h
  · have c1 : ¬ fBid (u.1 0) l t ≤ 0 := c
    rw [iC]
    refine uLd_n (by omega) (by decide) ⟨fun d => ?_, fun d => ?_⟩
    · have d1 : u.1 0 (187 + 3 * t) < fBid (u.1 0) l t := d
      simpa [fCnt, c1, d1] using h
    · have d1 : ¬ u.1 0 (187 + 3 * t) < fBid (u.1 0) l t := d
      simpa [fCnt, c1, d1] using h
def fGrS (s : Nat → Int32) (l : Nat) (skip : Int32) (t : Nat) (x : Int32) : Int32 :=
  if nI t = skip then x else if fCnt s t l then (if x = -1 then nI t else if fBid s l t ≤ fBid s l x.toNatClampNeg then x else nI t) else x
def fGr (s : Nat → Int32) (l : Nat) (skip : Int32) : Int32 := fIt (fGrS s l skip) 4 (-1)
theorem fGr_lt {s : Nat → Int32} {l : Nat} {skip : Int32} : ∀ i : Nat, fIt (fGrS s l skip) i (-1) = -1 ∨ ∃ k : Nat, k < i ∧ fIt (fGrS s l skip) i (-1) = nI k
  | 0 => Or.inl rfl
  | i + 1 => by
    have h := fGr_lt (s := s) (l := l) (skip := skip) i
    have hk : fIt (fGrS s l skip) i (-1) = -1 ∨ ∃ k : Nat, k < i + 1 ∧ fIt (fGrS s l skip) i (-1) = nI k := by
      rcases h with h | ⟨k, hk, h⟩
      · exact Or.inl h
      · exact Or.inr ⟨k, by omega, h⟩
    show fGrS s l skip i _ = -1 ∨ ∃ k : Nat, k < i + 1 ∧ fGrS s l skip i _ = nI k
    unfold fGrS
    split
    · exact hk
    · split
      · split
        · exact Or.inr ⟨i, by omega, rfl⟩
        · split
          · exact hk
          · exact Or.inr ⟨i, by omega, rfl⟩
      · exact hk
theorem m_greatest {l : Nat} {skip : Int32} {Q : Int32 → gM → Prop} {u : gM} (hl : l < 16) (h : Q (fGr (u.1 0) l skip) u) : wM_greatest (nI l) skip Q u := by
  unfold wM_greatest
  refine ⟨5, ?_⟩
  refine lp_up (N := 4) (st := fGrS (u.1 0) l skip) (a := (-1 : Int32)) (L := fun k i x => wM_greatest_5 Q k (nI l) skip x i u) ?_ ?_
  · intro k
    unfold wM_greatest_5
    exact ⟨fun _ => h, fun n => absurd (by decide) n⟩
  · intro i k hi hn
    have hn : wM_greatest_5 Q k (nI l) skip (fGrS (u.1 0) l skip i (fIt (fGrS (u.1 0) l skip) i (-1))) (nI (i + 1)) u := hn
    have hx := fGr_lt (s := u.1 0) (l := l) (skip := skip) i
    generalize fIt (fGrS (u.1 0) l skip) i (-1) = x at hn hx
    have h1 : (nI i + 1 : Int32) = nI (i + 1) := by rw [show (1 : Int32) = nI 1 from rfl, nI_add]
    show wM_greatest_5 Q (k + 1) (nI l) skip x (nI i) u
    unfold wM_greatest_5
    have h4 : ¬ (4 : Int32) ≤ nI i := by
      rcases i with _ | _ | _ | _ | i
      · decide
      · decide
      · decide
      · decide
      · omega
    refine ⟨fun n => absurd n h4, fun _ => ⟨fun c => ?_, fun c => ?_⟩⟩
    · unfold wM_greatest_59 wM_greatest_60
      show wM_greatest_5 Q k (nI l) skip x (nI i + 1) u
      rw [h1]
      simpa [fGrS, c] using hn
    · refine m_counts (by omega) hl ?_
      by_cases hc : fCnt (u.1 0) i l
      · rw [if_pos hc]
        refine ⟨fun n => absurd n (by decide), fun _ => ⟨fun d => ?_, fun d => ?_⟩⟩
        · unfold wM_greatest_54 wM_greatest_60
          show wM_greatest_5 Q k (nI l) skip (nI i) (nI i + 1) u
          rw [h1]
          simpa [fGrS, c, hc, d] using hn
        · rcases hx with hx | ⟨j, hj, rfl⟩
          · exact absurd hx d
          · rw [i14]
            refine m_of hl (by omega) ?_
            rw [i14]
            refine m_of hl (by omega) ?_
            have hj2 : (nI j).toNatClampNeg = j := eI (by omega)
            refine ⟨fun e => ?_, fun e => ?_⟩
            · have e1 : fBid (u.1 0) l i ≤ fBid (u.1 0) l j := e
              unfold wM_greatest_59 wM_greatest_60
              show wM_greatest_5 Q k (nI l) skip (nI j) (nI i + 1) u
              rw [h1]
              simpa [fGrS, c, hc, d, hj2, e1] using hn
            · have e1 : ¬ fBid (u.1 0) l i ≤ fBid (u.1 0) l j := e
              unfold wM_greatest_54 wM_greatest_60
              show wM_greatest_5 Q k (nI l) skip (nI i) (nI i + 1) u
              rw [h1]
              simpa [fGrS, c, hc, d, hj2, e1] using hn
      · rw [if_neg hc]
        refine ⟨fun _ => ?_, fun n => absurd rfl n⟩
        unfold wM_greatest_59 wM_greatest_60
        show wM_greatest_5 Q k (nI l) skip x (nI i + 1) u
        rw [h1]
        simpa [fGrS, c, hc] using hn
