/-! PLAIN LAW: goesOn, its end -/
def fGoA (s : Nat → Int32) (p : Nat) (x : Int32) : Int32 := if (x = 3) = (s (p + 1) = 3) then 0 else 1
theorem m_goes170 {p : Nat} {x : Int32} {s : Nat → Int32} {Q : Int32 → gM → Prop} {u : gM} (hp : p + 1 < 487) (h : Q (fGoA s p x) (uA u 0 s)) : wM_goesOn_170 Q (nI p) x (uA u 0 s) := by
  unfold wM_goesOn_170 wM_goesOn_181 wM_goesOn_198
  rw [show (nI p : Int32) + 1 = nI (p + 1) from by rw [show (1 : Int32) = nI 1 from rfl, nI_add]]
  refine ⟨fun c => uLd_A hp ⟨fun d => ⟨fun _ => ?_, fun n => absurd rfl n⟩, fun d => ⟨fun n => absurd n (by decide), fun _ => ?_⟩⟩, fun c => uLd_A hp ⟨fun d => ⟨fun n => absurd n (by decide), fun _ => ?_⟩, fun d => ⟨fun _ => ?_, fun n => absurd rfl n⟩⟩⟩
  · simpa [fGoA, c, d] using h
  · simpa [fGoA, c, d] using h
  · simpa [fGoA, c, d] using h
  · simpa [fGoA, c, d] using h
