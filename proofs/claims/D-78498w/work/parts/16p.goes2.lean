/-! PLAIN LAW: goesOn -/
def fGoB (s : Nat → Int32) (p : Nat) (o : Int32) : Nat → Int32 :=
  if s p = 2 then upd (upd s (p + 1) 0) (p + 2) 0
  else if o = 0 then upd (upd s (p + 1) 1) (p + 2) (upd s (p + 1) 1 2)
  else if o = 3 then s
  else if upd s (p + 2) (s (p + 2) - 1) (p + 2) = 0 then upd (upd (upd s (p + 2) (s (p + 2) - 1)) (p + 1) (o + 1)) (p + 2) (if o = 1 then (upd (upd s (p + 2) (s (p + 2) - 1)) (p + 1) (o + 1)) 2 else 0)
  else upd s (p + 2) (s (p + 2) - 1)
def fGo (s : Nat → Int32) (l e b : Nat) : Nat → Int32 := fGoB (upd s (199 + 18 * l + 8 + 3 * e) (fRole s l b)) (199 + 18 * l + 8 + 3 * e) (s (199 + 18 * l + 8 + 3 * e + 1))
def fGoR (s : Nat → Int32) (l e b : Nat) : Int32 := fGoA (fGo s l e b) (199 + 18 * l + 8 + 3 * e) (s (199 + 18 * l + 8 + 3 * e + 1))
theorem m_goesOn {l e b : Nat} {s : Nat → Int32} {Q : Int32 → gM → Prop} {u : gM} (hl : l < 16) (he : e < 2) (hb : b < 8) (hp : s (199 + 18 * l + e) = nI b) (ho : ∃ o : Nat, o < 8 ∧ fOther s l (nI b) = nI o) (h : Q (fGoR s l e b) (uA u 0 (fGo s l e b))) : wM_goesOn (nI l) (nI e) Q (uA u 0 s) := by
  unfold wM_goesOn
  intro z hz
  have hz : z = nI (199 + 18 * l + 8 + 3 * e) := by
    rw [hz, show (8 : Int32) = nI 8 from rfl, iL, show (3 : Int32) = nI 3 from rfl, pk_mul, nI_add]
  subst hz
  have h1 : nI (199 + 18 * l + 8 + 3 * e) + 1 = nI (199 + 18 * l + 8 + 3 * e + 1) := by rw [show (1 : Int32) = nI 1 from rfl, nI_add]
  have h2 : nI (199 + 18 * l + 8 + 3 * e) + 2 = nI (199 + 18 * l + 8 + 3 * e + 2) := by rw [show (2 : Int32) = nI 2 from rfl, nI_add]
  rw [h1, h2]
  unfold fGoR fGo at h
  have hP : 199 + 18 * l + 8 + 3 * e + 2 < 487 := by omega
  refine uLd_A (by omega) (m_ofA hl (by omega) ?_)
  rw [hp]
  refine m_roleOf hl hb ho (uSt_A (by omega) (uLd_A (by omega) ?_))
  generalize s (199 + 18 * l + 8 + 3 * e + 1) = o at h ⊢
  generalize upd s (199 + 18 * l + 8 + 3 * e) (fRole s l b) = v at h ⊢
  generalize 199 + 18 * l + 8 + 3 * e = p at h hP ⊢
  unfold fGoB at h
  refine ⟨fun c => ?_, fun c => ⟨fun d => ?_, fun d => ⟨fun f => ?_, fun f => ?_⟩⟩⟩
  · rw [if_pos c] at h
    exact uSt_A (by omega) (uSt_A hP (m_goes170 (by omega) h))
  · rw [if_neg c, if_pos d] at h
    exact uSt_A (by omega) (uLd_A (i := 2) (by decide) (uSt_A hP (m_goes170 (by omega) h)))
  · rw [if_neg c, if_neg d, if_pos f] at h
    exact m_goes170 (by omega) h
  · rw [if_neg c, if_neg d, if_neg f] at h
    refine uLd_A hP (uSt_A hP (uLd_A hP ⟨fun g => uSt_A (by omega) ⟨fun k => uLd_A (i := 2) (by decide) ?_, fun k => ?_⟩, fun g => ?_⟩))
    · rw [if_pos g, if_pos k] at h
      exact uSt_A hP (m_goes170 (by omega) h)
    · rw [if_pos g, if_neg k] at h
      exact uSt_A hP (m_goes170 (by omega) h)
    · rw [if_neg g] at h
      exact m_goes170 (by omega) h
