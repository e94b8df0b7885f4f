/-! PLAIN LAW: the Model's operations, by cases -/
theorem brI {c : Bool} {A B : Prop} (ht : c = true → B) (hf : c = false → A) : ((if c then (1 : Int32) else 0) = 0 → A) ∧ (¬ (if c then (1 : Int32) else 0) = 0 → B) := by
  cases c with
  | true => exact ⟨fun h => absurd h (by decide), fun _ => ht rfl⟩
  | false => exact ⟨fun _ => hf rfl, fun h => absurd rfl h⟩
theorem fIn_true {a : Int32} {n : Nat} (hn : n < 2 ^ 31) (h : fIn a 0 (nI n - 1) = true) : ∃ b : Nat, b < n ∧ a = nI b := by
  unfold fIn at h
  obtain ⟨h1, h2⟩ := of_decide_eq_true h
  obtain ⟨j, hj, rfl⟩ := nI_of h1
  cases n with
  | zero =>
    refine absurd ?_ h2
    rw [show nI 0 - 1 = (-1 : Int32) from rfl, Int32.lt_iff_toInt_lt, nI_toInt hj]
    show (-1 : Int) < j
    omega
  | succ m =>
    rw [nI_pred, nI_ltI (by omega) hj] at h2
    exact ⟨j, by omega, rfl⟩
theorem fIn_of {n b : Nat} (hn : n < 2 ^ 31) (h : b < n) : fIn (nI b) 0 (nI n - 1) = true := by
  cases n with
  | zero => omega
  | succ m =>
    unfold fIn
    rw [nI_pred]
    exact decide_eq_true ⟨nI_pos (by omega), nI_nlt (by omega) (by omega)⟩
def fPrio (s : Nat → Int32) (b : Nat) (x : Int32) : Nat → Int32 := fAnew (upd s (11 + 5 * b) x) b
/-- an answer aside -/
def uAns (u : gM) (x : Int32) : gM := uA u 8 (upd (u.1 8) 3 x)
theorem m_prioritizes {a1 a2 : Int32} {nb : Nat} {Q : Int32 → gM → Prop} {u : gM} (hn : u.1 0 0 = nI nb) (h8 : nb ≤ 8) (h1 : fIn a1 0 (nI nb - 1) = false → Q 1 u)
    (h2 : fIn a1 0 (nI nb - 1) = true → fIn a2 0 9 = false → Q 2 u) (h0 : ∀ b : Nat, b < nb → a1 = nI b → fIn a2 0 9 = true → Q 0 (uA (uAns u (u.1 0 (11 + 5 * b))) 0 (fPrio (u.1 0) b a2))) : wM_prioritizes a1 a2 Q u := by
  unfold wM_prioritizes
  refine m_isBridge ?_
  rw [hn]
  refine brI (fun hb => m_in (brI (fun hp => ?_) (fun hp => h2 hb hp))) h1
  obtain ⟨b, hb1, rfl⟩ := fIn_true (by omega) hb
  rw [iB]
  refine uLd_n (by omega) (by decide) ?_
  show uSt 0 487 (nI (11 + 5 * b)) a2 _ (uAns u (u.1 0 (11 + 5 * b)))
  refine uSt_n (by omega) (by decide) (m_startsAnew (by omega) ?_)
  have h9 := h0 b hb1 rfl hp
  unfold su
  rw [uA_at, uA_uA]
  exact h9
theorem m_moves {a1 a2 : Int32} {nb : Nat} {Q : Int32 → gM → Prop} {u : gM} (hn : u.1 0 0 = nI nb) (h1 : fIn a1 0 7 = false ∨ fIn a2 0 (nI nb - 1) = false → Q 1 u)
    (h0 : ∀ h : Nat, h < 8 → a1 = nI h → fIn a2 0 (nI nb - 1) = true → Q 0 (uA (uAns u (u.1 0 (179 + h))) 0 (upd (u.1 0) (179 + h) a2))) : wM_moves a1 a2 Q u := by
  unfold wM_moves
  refine m_isHost (brI (fun hh => m_isBridge ?_) (fun hh => h1 (Or.inl hh)))
  rw [hn]
  refine brI (fun hb => ?_) (fun hb => h1 (Or.inr hb))
  obtain ⟨h, hh1, rfl⟩ := fIn_true (n := 8) (by decide) hh
  rw [iH]
  refine uLd_n (by omega) (by decide) ?_
  show uSt 0 487 (nI (179 + h)) a2 _ (uAns u (u.1 0 (179 + h)))
  exact uSt_n (by omega) (by decide) (h0 h hh1 rfl hb)
theorem m_bids {a1 a2 a3 : Int32} {nl : Nat} {Q : Int32 → gM → Prop} {u : gM} (hn : u.1 0 5 = nI nl) (h16 : nl ≤ 16) (h1 : fIn a1 0 3 = false ∨ fIn a2 0 (nI nl - 1) = false → Q 1 u)
    (h2 : fIn a1 0 3 = true → fIn a2 0 (nI nl - 1) = true → fIn a3 0 1000 = false → Q 2 u)
    (h0 : ∀ t l : Nat, t < 4 → l < nl → a1 = nI t → a2 = nI l → fIn a3 0 1000 = true → Q 0 (uA (uAns u (u.1 0 (199 + 18 * l + (14 + t)))) 0 (upd (u.1 0) (199 + 18 * l + (14 + t)) a3))) : wM_bids a1 a2 a3 Q u := by
  unfold wM_bids
  refine m_isTenant (brI (fun ht => m_isLink ?_) (fun ht => h1 (Or.inl ht)))
  rw [hn]
  refine brI (fun hl => m_in (brI (fun hc => ?_) (fun hc => h2 ht hl hc))) (fun hl => h1 (Or.inr hl))
  obtain ⟨t, ht1, rfl⟩ := fIn_true (n := 4) (by decide) ht
  obtain ⟨l, hl1, rfl⟩ := fIn_true (by omega) hl
  rw [show (14 : Int32) = nI 14 from rfl, nI_add]
  refine m_of (by omega) (by omega) ?_
  show wM_puts (nI l) (nI (14 + t)) a3 _ (uAns u (u.1 0 (199 + 18 * l + (14 + t))))
  exact m_puts (by omega) (by omega) (h0 t l ht1 hl1 rfl rfl hc)
theorem m_done {a : Int32} {d : Nat} {Q : Int32 → gM → Prop} {u : gM} (hd : u.1 8 0 = nI d) (hd3 : d ≤ 3) (h0 : a ≤ 0 → Q (u.1 8 3) (fEnds u d)) (h1 : ¬ a ≤ 0 → Q 0 (uA u 8 (upd (u.1 8) 2 a))) : wM_done a Q u := by
  unfold wM_done
  exact ⟨fun h => uGt_n rfl (m_ends hd hd3 (h0 h)), fun h => m_fails (h1 h)⟩
