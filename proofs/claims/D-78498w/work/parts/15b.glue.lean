/-! GLUE: what stays through the run, out of the law's entry -/
theorem gl_flags {l : Launch} (h : l.flags = flags0) : l.stackTraces = false := by
  unfold Launch.stackTraces
  rw [h]
  decide +kernel
theorem gl_classes {s : State} {b : Addr} (hts : ∀ w ∈ lw_tbl, w.before #[Value.ref b] s = true) : ∃ (dC : Nat → ClassId) (dI : Nat → Nat → Nat), ∀ (k : Nat) (q : vw_C), gCl[k]? = some q → u_Kn s q.1 q.2.1 q.2.2 (dC k) (dI k) := by
  obtain ⟨c0, i0, h0⟩ := u_known (C := RX1) (T := TX1) (N := 5) (n := 5) hts (fun w h => lw_all_tbl (in_X1 w h)) (hts _ (lw_all_tbl q110))
  obtain ⟨c1, i1, h1⟩ := u_known (C := RX2) (T := TX2) (N := 15) (n := 15) hts (fun w h => lw_all_tbl (in_X2 w h)) (hts _ (lw_all_tbl q121))
  obtain ⟨c2, i2, h2⟩ := u_known (C := RX3) (T := TX3) (N := 6) (n := 6) hts (fun w h => lw_all_tbl (in_X3 w h)) (hts _ (lw_all_tbl q208))
  obtain ⟨c3, i3, h3⟩ := u_known (C := RX4) (T := TX4) (N := 5) (n := 5) hts (fun w h => lw_all_tbl (in_X4 w h)) (hts _ (lw_all_tbl q221))
  obtain ⟨c4, i4, h4⟩ := u_known (C := RX5) (T := TX5) (N := 15) (n := 15) hts (fun w h => lw_all_tbl (in_X5 w h)) (hts _ (lw_all_tbl q1457))
  obtain ⟨c5, i5, h5⟩ := u_known (C := RX6) (T := TX6) (N := 11) (n := 11) hts (fun w h => lw_all_tbl (in_X6 w h)) (hts _ (lw_all_tbl q914))
  obtain ⟨c6, i6, h6⟩ := u_known (C := RX7) (T := TX7) (N := 3) (n := 3) hts (fun w h => lw_all_tbl (in_X7 w h)) (hts _ (lw_all_tbl q920))
  obtain ⟨c7, i7, h7⟩ := u_known (C := RX9) (T := TX9) (N := 5) (n := 5) hts (fun w h => lw_all_tbl (in_X9 w h)) (hts _ (lw_all_tbl q422))
  obtain ⟨c8, i8, h8⟩ := u_known (C := RJ2) (T := TJ2) (N := 3) (n := 3) hts (fun w h => lw_all_tbl (in_J2 w h)) (hts _ (lw_all_tbl q127))
  obtain ⟨c9, i9, h9⟩ := u_known (C := RJ17) (T := TJ17) (N := 4) (n := 4) hts (fun w h => lw_all_tbl (in_J17 w h)) (hts _ (lw_all_tbl q466))
  obtain ⟨c10, i10, h10⟩ := u_known (C := RJ14) (T := TJ14) (N := 4) (n := 4) hts (fun w h => lw_all_tbl (in_J14 w h)) (hts _ (lw_all_tbl q579))
  refine ⟨fun k => [c0, c1, c2, c3, c4, c5, c6, c7, c8, c9, c10].getD k c0, fun k => [i0, i1, i2, i3, i4, i5, i6, i7, i8, i9, i10].getD k i0, ?_⟩
  intro k q hq
  match k, hq with
  | 0, hq => cases hq; exact h0
  | 1, hq => cases hq; exact h1
  | 2, hq => cases hq; exact h2
  | 3, hq => cases hq; exact h3
  | 4, hq => cases hq; exact h4
  | 5, hq => cases hq; exact h5
  | 6, hq => cases hq; exact h6
  | 7, hq => cases hq; exact h7
  | 8, hq => cases hq; exact h8
  | 9, hq => cases hq; exact h9
  | 10, hq => cases hq; exact h10
  | k + 11, hq => simp at hq
theorem gl_prim {s : State} {A : Array Value} {ty : FieldType} (hp : ∀ C, ty ≠ .object C) (h : (Cond.arrayClass ty).before A s = true) : ∃ cA : ClassId, ArrOfT s cA ty ∧ va_RA s cA ty := by
  obtain ⟨cA, kA, comp, h1, h2, h3⟩ := Cond.arrayClass_spec h
  refine ⟨cA, fun n z => ⟨fun k h => (by cases h), kA, h2, comp, h3⟩, ?_⟩
  cases ty <;> first | exact h1 | exact absurd rfl (hp _)
theorem gl_obj {s : State} {A : Array Value} {C : String} (h : (Cond.arrayOver (.object C)).before A s = true) : ∃ cA : ClassId, ArrOfT s cA (.object C) ∧ va_RA s cA (.object C) := by
  obtain ⟨comp, cA, kA, h1, h2, h3, h4, h5⟩ := Cond.arrayOver_spec h
  exact ⟨cA, fun n z => ⟨fun k h => (by cases h), kA, h3, comp, h4⟩, kA, comp, h3, h4, h1, h5⟩
abbrev gl_tys (T : Nat → ClassId) : List (ClassId × FieldType) := [(T 0, .int), (T 1, .byte), (T 2, .boolean), (T 3, .object "java/lang/Object"), (T 4, .object "BridgeAuction$Network"), (T 5, .long)]
theorem gl_arrays {s : State} {b : Addr} (hts : ∀ w ∈ lw_tbl, w.before #[Value.ref b] s = true) : ∃ T : Nat → ClassId, ∀ (k : Nat) (q : ClassId × FieldType), (gl_tys T)[k]? = some q → ArrOfT s q.1 q.2 ∧ va_RA s q.1 q.2 := by
  obtain ⟨c0, h0⟩ := gl_prim (ty := .int) (fun C h => by cases h) (hts _ (lw_all_tbl q206))
  obtain ⟨c1, h1⟩ := gl_prim (ty := .byte) (fun C h => by cases h) (hts _ (lw_all_tbl q363))
  obtain ⟨c2, h2⟩ := gl_prim (ty := .boolean) (fun C h => by cases h) (hts _ (lw_all_tbl q412))
  obtain ⟨c3, h3⟩ := gl_obj (hts _ q332)
  obtain ⟨c4, h4⟩ := gl_obj (hts _ q344)
  obtain ⟨c5, h5⟩ := gl_prim (ty := .long) (fun C h => by cases h) (hts _ (lw_all_tbl q1857))
  refine ⟨fun k => [c0, c1, c2, c3, c4, c5].getD k c0, ?_⟩
  intro k q hq
  match k, hq with
  | 0, hq => cases hq; exact h0
  | 1, hq => cases hq; exact h1
  | 2, hq => cases hq; exact h2
  | 3, hq => cases hq; exact h3
  | 4, hq => cases hq; exact h4
  | 5, hq => cases hq; exact h5
  | k + 6, hq => simp at hq
/-- what stays through a run that begins at s -/
abbrev gl_E (s : State) (D : va_G) (T : Nat → ClassId) : gE := (D, T, s.heap, (s.heap.size + 1200384, 5487274), fun U => s.WarmedH U.vm)
abbrev gl_w (s : State) : gW := (fun _ => none, s.heap.size, 0)
theorem gl_ride {w : Cond} {s : State} {A : Array Value} (hr : gRide w = true) (h : w.before A s = true) : va_Nw w s := by
  cases w <;> first | exact va_Nw.of rfl h | (simp [gRide] at hr; done) | skip
  rename_i ty
  cases ty <;> first | exact va_AO.of h | (simp [gRide] at hr; done)
set_option maxHeartbeats 1000000 in
/-- the claim's walk out of the law's wp -/
theorem gl_start {p : Program} {e : Env} {s : State} {m : MethodId} {below : List Frame} {meth : Method} {c : Code} (l : Launch) (hflags : l.flags = flags0) {b L : Nat} {xs : Nat → Int32} (C0 : lw_At p s m meth c b L xs)
    (hw : ∀ (D : va_G) (T : Nat → ClassId), va_K D gCl (gl_tys T) s → wJ_L_law (gl_E s D T) b (fun r _ => r = 1) (gl_w s)) : W p l e room_1 s m #[Value.ref b] below meth c s.heap [] 0 0 (lw_Z below #[Value.ref b] s) (entryFrame m ([Value.ref b] : List Value).toArray 7) := by
  obtain ⟨hx, hb, hr, hml, hown, hts, hX, hbl, hlocks, hgv⟩ := id C0
  obtain ⟨dC, dI, hcl⟩ := gl_classes hts
  obtain ⟨T0, hty⟩ := gl_arrays hts
  have hK : va_K (dC, dI) gCl (gl_tys T0) s := ⟨hcl, hty⟩
  have hw := hw (dC, dI) T0 hK
  generalize hEe : gl_E s (dC, dI) T0 = E at hw
  have hEK : gK E s := by
    rw [← hEe]
    exact ⟨hK, fun w hw hr => gl_ride hr (hts w hw), State.WarmedH.refl s⟩
  have hEok : gEok E := by
    rw [← hEe]
    exact fun u U hW h => State.WarmedH.trans h hW
  have hS : gS E (gl_w s) (gl_w s) s.heap [] := by
    rw [← hEe]
    refine ⟨⟨rfl, Nat.le_refl _, fun q _ => rfl, fun q e h => (by cases h), fun q c hq h => ?_⟩, ⟨Nat.le_add_right _ _, Nat.zero_le _⟩, gLe.rf, fun z hz => by cases hz⟩
    have := (Array.getElem?_eq_some_iff.mp h).1
    exact absurd hq (Nat.not_le.mpr this)
  have C : gC p l s m #[Value.ref b] meth c cL_law 7 (some .boolean) RX0 E c.exceptionTable.toList meth.name := ⟨hx, hb, hr, hml, hown, fun w h => hts w (lw_all_tbl h), hlocks, hEK, hEok, gl_flags hflags, rfl, rfl⟩
  refine g_entry (Nat.le_of_ble_eq_true rfl) fun ls hls => ?_
  have k := kJ_L_law_r (below := below) (e := e) C b (gl_w s) s.heap [] ls hS hls hw
  have hR : gRm 8192 104096 E (gl_w s) = room_1 := by
    rw [← hEe]
    show ({ frames := 8192, cells := s.heap.size + 1200384 - s.heap.size, slots := 5487274 - 0, locals := 104096 } : Room) = room_1
    rw [Nat.add_sub_cancel_left]
    rfl
  intro T hT X
  unfold gGo W at k
  rw [hR, Nat.sub_self, Nat.sub_self] at k
  obtain ⟨t, a1, o, b1, b2, w', c1, c2, c3, c4⟩ := k T hT X
  refine ⟨t, a1, o, b1, b2, ?_⟩
  rcases c4 with ⟨v, L1, rfl, ⟨r, rfl, hr1⟩, hfe, hL⟩ | ⟨q, X0, rfl, hx0, -⟩
  · subst hr1
    obtain ⟨f1, f2, f3⟩ := hfe
    refine ⟨rfl, f1, f2, f3.weaken (fun y hy hlt => ?_) ?_ ?_⟩
    · have h9 := hL y hy
      rw [← hEe] at h9
      exact absurd hlt (Nat.not_lt.mpr h9)
    · have h9 := c2.1
      rw [← hEe] at h9
      show w'.2.1 - s.heap.size ≤ 1200384
      have h10 : w'.2.1 ≤ s.heap.size + 1200384 := h9
      omega
    · have h9 := c2.2
      rw [← hEe] at h9
      show w'.2.2 - 0 ≤ 5487274
      have h10 : w'.2.2 ≤ 5487274 := h9
      omega
  · exact hx0.elim
