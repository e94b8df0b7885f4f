/-! PLAIN LAW: auctions -/
theorem upd_lo {f : Nat → Int32} {i j : Nat} {x : Int32} (h : i < j) : upd f j x i = f i := by
  unfold upd
  exact if_neg (by omega)
theorem fTake_lo {s : Nat → Int32} {l i : Nat} {w p : Int32} (hi : i < 187) : fTake s l w p i = s i := by
  unfold fTake fPays
  split
  · rw [upd_lo (by omega), upd_lo (by omega)]
  · rw [upd_lo (by omega), upd_lo (by omega), upd_lo (by omega), upd_lo (by omega)]
theorem fSet_lo {s : Nat → Int32} {l i : Nat} {p : Int32} (hi : i < 187) : fSet s l p i = s i := by
  unfold fSet
  split
  · rw [upd_lo (by omega), upd_lo (by omega)]
  · rw [upd_lo (by omega), upd_lo (by omega)]
theorem fSells_lo {s : Nat → Int32} {l i : Nat} (hi : i < 187) : fSells s l i = s i := by
  unfold fSells
  rw [fSet_lo hi, fTake_lo hi]
def fInc (t : Nat) (s : Nat → Int32) : Nat → Int32 := upd s (187 + 3 * t) (((9 * s (187 + 3 * t)) / 10) + 20)
def fSellAll (n : Nat) (s : Nat → Int32) : Nat → Int32 := fIt (fun l s => fSells s l) n s
def fAuc1 (s : Nat → Int32) : Nat → Int32 := fIt fInc 4 (upd s 6 (s 6 + 1))
def fAuc (n : Nat) (s : Nat → Int32) : Nat → Int32 := fSellAll n (fAuc1 s)
theorem fIt_lo {b : Nat} {st : Nat → (Nat → Int32) → (Nat → Int32)} (hs : ∀ k s i, i < b → st k s i = s i) : ∀ (n : Nat) (s : Nat → Int32) (i : Nat), i < b → fIt st n s i = s i
  | 0, _, _, _ => rfl
  | n + 1, s, i, hi => (hs n (fIt st n s) i hi).trans (fIt_lo hs n s i hi)
theorem fInc_lo {k : Nat} {s : Nat → Int32} {i : Nat} (hi : i < 187) : fInc k s i = s i := upd_lo (by omega)
theorem m_auctions {nl : Nat} {s : Nat → Int32} {Q : gM → Prop} {u : gM} (hn : s 5 = nI nl) (h16 : nl ≤ 16) (h : Q (uA u 0 (fAuc nl s))) : wM_auctions Q (uA u 0 s) := by
  unfold wM_auctions
  refine uLd_A (i := 6) (by decide) (uSt_A (i := 6) (by decide) ⟨5, ?_⟩)
  have hb : ∃ k5 : Nat, wM_auctions_59 Q k5 0 (uA u 0 (fAuc1 s)) := by
    refine ⟨nl + 1, ?_⟩
    refine lp_up (N := nl) (st := fun l s => fSells s l) (a := fAuc1 s) (L := fun k i x => wM_auctions_59 Q k i (uA u 0 x)) ?_ ?_
    · intro k
      unfold wM_auctions_59
      refine uLd_A (i := 5) (by decide) ⟨fun _ => h, fun n => ?_⟩
      refine absurd ?_ n
      rw [fIt_lo (b := 187) (fun k s i hi => fSells_lo hi) _ _ _ (by decide)]
      unfold fAuc1
      rw [fIt_lo (b := 187) (fun k s i hi => fInc_lo hi) _ _ _ (by decide), upd_lo (by decide), hn]
      exact Int32.le_refl _
    · intro i k hi hq
      unfold wM_auctions_59
      refine uLd_A (i := 5) (by decide) ⟨fun n => ?_, fun _ => m_sells (by omega) ?_⟩
      · rw [fIt_lo (b := 187) (fun k s i hi => fSells_lo hi) _ _ _ (by decide)] at n
        unfold fAuc1 at n
        rw [fIt_lo (b := 187) (fun k s i hi => fInc_lo hi) _ _ _ (by decide), upd_lo (by decide), hn] at n
        exact absurd ((nI_leI (by omega) (by omega)).1 n) (by omega)
      · rw [show (1 : Int32) = nI 1 from rfl, nI_add]
        exact hq
  refine lp_up (N := 4) (st := fInc) (a := upd s 6 (s 6 + 1)) (L := fun k i x => wM_auctions_13 Q k i (uA u 0 x)) ?_ ?_
  · intro k
    unfold wM_auctions_13
    exact ⟨fun _ => hb, fun n => absurd (by decide) n⟩
  · intro i k hi hq
    unfold wM_auctions_13
    have h4 : ¬ (4 : Int32) ≤ nI i := by
      rcases i with _ | _ | _ | _ | i
      · decide
      · decide
      · decide
      · decide
      · omega
    refine ⟨fun n => absurd n h4, fun _ => ?_⟩
    rw [iC]
    refine uLd_A (by omega) (uSt_A (by omega) ?_)
    rw [show (1 : Int32) = nI 1 from rfl, nI_add]
    exact hq
