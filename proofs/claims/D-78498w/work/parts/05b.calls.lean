/-! FRAME: calls -/
def gPre (E : gE) (wc : gW) (av : List Value) (R : Room) : Pt → Array Value → Prop := fun A a => A.cells + (gLC E - wc.2.1) ≤ R.cells ∧ A.slots + (gLS E - wc.2.2) ≤ R.slots ∧ gPc E wc av a A.U
def gPost (E : gE) (wc : gW) (Qn : Option Value → gW → Prop) : Pt → Array Value → Option Value → Pt → Prop := fun A _ v B =>
  ∃ (w' : gW) (L : List Loc), gRep E w' B.U.heap ∧ gOk E w' ∧ gLe wc w' ∧ Qn v w' ∧ B.locs = A.locs ++ L ∧ (∀ z ∈ L, gB E ≤ z.base) ∧ B.cells = A.cells + (w'.2.1 - wc.2.1) ∧ B.slots = A.slots + (w'.2.2 - wc.2.2)
def gPostX (E : gE) (wc : gW) (Qx : String → gW → Prop) : Pt → Array Value → Addr → Pt → Prop := fun A _ q B =>
  ∃ (w' : gW) (L : List Loc) (X : String) (ce : Cell), gRep E w' B.U.heap ∧ gOk E w' ∧ gLe wc w' ∧ Qx X w' ∧ B.U.heap[q]? = some ce ∧ ce.vm = .none ∧ A.U.vm.findClass X = some ce.cls ∧ B.locs = A.locs ++ L ∧ (∀ z ∈ L, gB E ≤ z.base) ∧ B.cells = A.cells + (w'.2.1 - wc.2.1) ∧ B.slots = A.slots + (w'.2.2 - wc.2.2)
theorem gPc.blind {E : gE} {w0 : gW} {av : List Value} : FrameBlind (gPc E w0 av) := by
  intro a U g mk h
  obtain ⟨h1, h2, h3, h4, h5⟩ := h
  exact ⟨h1, h2, h3, h4.moved (U := U.calling g mk a) h5 (State.WarmedH.refl U), h5⟩
section GFb
variable {l : Launch} {R : Room} {p : Program} {e : Env} {below : List Frame} {s : State} {sargs : Array Value} {y : MethodName} {len W9 : Nat}
theorem g_back {ws : List Cond} {E : gE} {wc : gW} {av : List Value} {F Lc : Nat} {Qn : Option Value → gW → Prop} {Qx : String → gW → Prop} {maxL : Nat}
    (hM : gMet l y ws E wc av F Lc Qn Qx)
    (hframes : F + 1 ≤ R.frames) (hlocals : W9 + (maxL + 11) + Lc ≤ R.locals)
    (hws : ∀ w ∈ ws, ∀ a' U, s.WarmedH U.vm → w.before a' U = true)
    (hmy : ∀ (a' : Array Value) (U : State) (mk : MethodId), s.WarmedH U.vm → U.methodNamed? y = some mk → ∃ (methY : Method) (cY : Code), U.vm.method? mk = some methY ∧ methY.code = some cY ∧ cY.maxLocals = maxL)
    (hinit : ∀ a' U, s.WarmedH U.vm → (Cond.initialized y.cls).before a' U = true) :
    vx_Back l R p e below s sargs y len W9 (gPre E wc av R) (gPost E wc Qn) (gPostX E wc Qx) := by
  intro m meth c A g ig mk a X hg hsize hdg hW hn hp
  have h1 : (headSpec ws (gRm F Lc E wc)).pre.before a A.U = true := atoms_intro fun w hw => hws w hw _ _ X.warmed
  have h3 : (Cond.initialized y.cls).before a A.U = true := hinit _ _ X.warmed
  have h4 : A.cells + (headSpec ws (gRm F Lc E wc)).room.cells ≤ R.cells := hp.1
  have h5 : A.slots + (headSpec ws (gRm F Lc E wc)).room.slots ≤ R.slots := hp.2.1
  have hPc : gPc E wc av a (A.U.calling g mk a) := gPc.blind _ _ _ _ hp.2.2
  obtain ⟨methY, cY, hmY, hcY, hlY⟩ := hmy a A.U mk X.warmed hn
  obtain ⟨U, Ls, c0, s0⟩ := A
  dsimp only [Pt.U, Pt.locs, Pt.cells, Pt.slots] at h1 h3 h4 h5 X hn hPc hmY ⊢
  obtain ⟨kY, hkY, -⟩ := className_of_methodNamed hn
  have hinitY : kY.init = .initialized := Cond.initialized_spec (findClass_of_methodNamed hn) hkY h3
  have h : At U g.method c below := by rw [hg]; exact X.here
  have hlocals9 : W9 + (maxL + 11) + (headSpec ws (gRm F Lc E wc)).room.locals ≤ R.locals := hlocals
  have hframes9 : (headSpec ws (gRm F Lc E wc)).room.frames + 1 ≤ R.frames := hframes
  have happ : (headSpec ws (gRm F Lc E wc)).appliesLoose y e.platform (U.calling g mk a) = true :=
    Spec.appliesLoose_calling (g := g) h hdg hn hkY hinitY
      (X.room_calling (g := g) (R' := (headSpec ws (gRm F Lc E wc)).room) hsize hmY hcY hframes9 (by rw [hlY]; omega) h4 h5) h1
  obtain ⟨mid, hmid⟩ := h.above
  have hfr : (U.setTop g).frames = (.java g :: mid) ++ below := by rw [State.frames_setTop' g h.top, hmid]; rfl
  obtain ⟨o, s₂, hsteps, -, hend, hq⟩ := Steps.callFree hM p X.admits X.cas X.clock (acts := []) hfr happ hPc trivial
  have hq' : gQ E wc Qn Qx a (U.calling g mk a) o s₂ := hq
  rw [State.frames_setTop' g h.top] at hend
  obtain ⟨g₀, hg0⟩ := Option.isSome_iff_exists.mp h.top
  obtain ⟨r, hr⟩ := State.topJava?_eq_some.mp hg0
  have hr' : (({ U with heap := s₂.heap, slotsUsed := s₂.slotsUsed } : State).setVm s₂.vm).frames = .java g₀ :: r := hr
  obtain ⟨w', hrep, hok, hle, hq'⟩ := hq'
  rcases hq' with ⟨v, L, rfl, hqc, hfe, hL⟩ | ⟨q, X0, rfl, hx, E0, ce, L, hEX, hce, hcv, hcl, hW₂, hsm, hL⟩
  · obtain ⟨-, hW₂, e2, q2, q3, q4, q5, q6⟩ := id hfe
    have e3 : s₂ = ({ (U.calling g mk a).setFrames s₂.frames with heap := s₂.heap, slotsUsed := s₂.slotsUsed } : State).setVm s₂.vm := by
      have : s₂ = ({ s₂ with vm := (U.calling g mk a).vm } : State).setVm s₂.vm := rfl
      rw [e2] at this
      exact this
    obtain ⟨c₂, i₂, len₂, hc₂, hd₂, hf₂⟩ := hend
    have hW' : U.WarmedH s₂.vm := hW₂
    have hcc : c₂ = c := by
      have h1 : s₂.code? g.method = U.code? g.method := by
        rw [State.code?_eq, State.code?_eq, hW'.alike.method?]
      exact Option.some.inj (hc₂.symm.trans (h1.trans h.code))
    subst hcc
    have hlen : len₂ = len := by rw [hdg] at hd₂; cases hd₂; rfl
    subst hlen
    have hs₂ : s₂ = (({ U with heap := s₂.heap, slotsUsed := s₂.slotsUsed } : State).setVm s₂.vm).setTop { g with pc := g.pc + len₂, stack := v.toList ++ g.stack } := by
      refine e3.trans ?_
      rw [hf₂, State.calling_eq h.top, State.setFrames_setFrames, State.setTop_of_frames _ hr', hr]
      rfl
    have hsame : U.sameButNew ({ U with heap := s₂.heap, slotsUsed := s₂.slotsUsed } : State) L (w'.2.1 - wc.2.1) (w'.2.2 - wc.2.2) := by
      refine ⟨?_, q2, q3, q4, q5, q6⟩
      obtain ⟨t, ht, -⟩ := State.frames_cons hr
      show ({ U with heap := s₂.heap, slotsUsed := s₂.slotsUsed } : State) = { U.setFrames U.frames with heap := s₂.heap, slotsUsed := s₂.slotsUsed }
      rw [State.setFrames_self ht]
    subst hg
    refine Or.inl ⟨v, ⟨(({ U with heap := s₂.heap, slotsUsed := s₂.slotsUsed } : State).setVm s₂.vm), Ls ++ L, c0 + (w'.2.1 - wc.2.1), s0 + (w'.2.2 - wc.2.2)⟩,
      ⟨X.admits, X.cas, X.clock, X.frames, X.room, X.hears, X.method, X.code, (X.here.setHeapUsed s₂.heap s₂.slotsUsed).setVm hW'.alike, X.tail, State.WarmedH.trans X.warmed hW', X.limits, X.bytes, X.same.trans (hsame.setVm s.vm)⟩,
      ⟨w', L, hrep, hok, hle, hqc, rfl, hL, rfl, rfl⟩, ?_⟩
    show Steps p.tables e below _ ((({ U with heap := s₂.heap, slotsUsed := s₂.slotsUsed } : State).setVm s₂.vm).setTop { g with pc := g.pc + len₂, stack := v.toList ++ g.stack })
    rw [← hs₂]
    exact hsteps
  · subst hEX
    obtain ⟨e2, q2, q3, q4, q5, q6⟩ := id hsm
    have e3 : s₂ = ({ (U.calling g mk a).setFrames s₂.frames with heap := s₂.heap, slotsUsed := s₂.slotsUsed } : State).setVm s₂.vm := by
      have : s₂ = ({ s₂ with vm := (U.calling g mk a).vm } : State).setVm s₂.vm := rfl
      rw [e2] at this
      exact this
    have hf₂ : s₂.frames = .throwing q :: .java g :: U.frames.tail := hend
    have hW' : U.WarmedH s₂.vm := hW₂
    have hs₂ : s₂ = ((({ U with heap := s₂.heap, slotsUsed := s₂.slotsUsed } : State).setVm s₂.vm).setTop g).pushFrame (.throwing q) := by
      refine e3.trans ?_
      rw [hf₂, State.calling_eq h.top, State.setFrames_setFrames, State.pushFrame, State.frames_setTop _ hr', State.setTop_of_frames _ hr', State.setFrames_setFrames, hr]
      rfl
    have hsame : U.sameButNew ({ U with heap := s₂.heap, slotsUsed := s₂.slotsUsed } : State) L (w'.2.1 - wc.2.1) (w'.2.2 - wc.2.2) := by
      refine ⟨?_, q2, q3, q4, q5, q6⟩
      obtain ⟨t, ht, -⟩ := State.frames_cons hr
      show ({ U with heap := s₂.heap, slotsUsed := s₂.slotsUsed } : State) = { U.setFrames U.frames with heap := s₂.heap, slotsUsed := s₂.slotsUsed }
      rw [State.setFrames_self ht]
    subst hg
    refine Or.inr ⟨q, ⟨(({ U with heap := s₂.heap, slotsUsed := s₂.slotsUsed } : State).setVm s₂.vm), Ls ++ L, c0 + (w'.2.1 - wc.2.1), s0 + (w'.2.2 - wc.2.2)⟩,
      ⟨X.admits, X.cas, X.clock, X.frames, X.room, X.hears, X.method, X.code, (X.here.setHeapUsed s₂.heap s₂.slotsUsed).setVm hW'.alike, X.tail, State.WarmedH.trans X.warmed hW', X.limits, X.bytes, X.same.trans (hsame.setVm s.vm)⟩,
      ⟨w', L, _, ce, hrep, hok, hle, hx, hce, hcv, hcl, rfl, hL, rfl, rfl⟩, ?_⟩
    show Steps p.tables e below _ (((({ U with heap := s₂.heap, slotsUsed := s₂.slotsUsed } : State).setVm s₂.vm).setTop g).pushFrame (.throwing q))
    rw [← hs₂]
    exact hsteps
end GFb
section GFc
variable {p : Program} {l : Launch} {e : Env} {s : State} {m : MethodId} {args : Array Value} {below : List Frame} {meth : Method} {c : Code} {H : Heap} {locs : List Loc} {cells slots : Nat}
variable {cc : ByteArray} {pc nL : Nat} {ls : Array Slot} {rest st0 : List Value} {ret : Option FieldType} {own nm : String} {E : gE} {tb : List ExceptionTableEntry} {w0 w : gW} {F Lc : Nat} {Qn Qn2 : Option Value → gW → Prop} {Qx Qx2 : String → gW → Prop}
/-- what a call comes to: behind it the callee's end -/
theorem g_join (C : gC p l s m args meth c cc nL ret own E tb nm) (hS : gS E w0 w H locs) (len : Nat)
    (hr : ∀ T : State, T.heap = H → Stand p l e (gRm F Lc E w0) s m args below meth c T locs (w.2.1 - w0.2.1) (w.2.2 - w0.2.2) →
      (∃ (v : Option Value) (B : Pt) (vm₁ : Vm) (a : Array Value), s.WarmedH vm₁ ∧ Stand p l e (gRm F Lc E w0) s m args below meth c B.U B.locs B.cells B.slots ∧ gPost E w Qn2 ⟨T.setVm vm₁, locs, w.2.1 - w0.2.1, w.2.2 - w0.2.2⟩ a v B ∧
        ∀ target, Steps p.tables e below (B.U.setTop { (F0 m pc ls st0) with pc := pc + len, stack := v.toList ++ rest }) target → Steps p.tables e below (T.setTop (F0 m pc ls st0)) target) ∨
      (∃ (q : Addr) (B : Pt) (vm₁ : Vm) (a : Array Value), s.WarmedH vm₁ ∧ Stand p l e (gRm F Lc E w0) s m args below meth c B.U B.locs B.cells B.slots ∧ gPostX E w Qx2 ⟨T.setVm vm₁, locs, w.2.1 - w0.2.1, w.2.2 - w0.2.2⟩ a q B ∧
        Steps p.tables e below (T.setTop (F0 m pc ls st0)) ((B.U.setTop { (F0 m pc ls st0) with stack := rest }).pushFrame (.throwing q))))
    (kx : ∀ (X : String) (w1 : gW) (H1 : Heap) (locs1 : List Loc) (q : Addr) (ce : Cell), Qx2 X w1 → gLe w w1 → gS E w0 w1 H1 locs1 → H1[q]? = some ce → ce.vm = .none → s.vm.findClass X = some ce.cls →
      vx_W p l e (gRm F Lc E w0) s m args below meth c H1 locs1 (w1.2.1 - w0.2.1) (w1.2.2 - w0.2.2) (gMQ below E w0 Qn Qx args s) (F0 m pc ls rest) q)
    (kk : ∀ (v : Option Value) (w1 : gW) (H1 : Heap) (locs1 : List Loc), Qn2 v w1 → gLe w w1 → gS E w0 w1 H1 locs1 → gGo p l e s m args below meth c H1 locs1 F Lc E w0 w1 Qn Qx (F0 m (pc + len) ls (v.toList ++ rest))) :
    gGo p l e s m args below meth c H locs F Lc E w0 w Qn Qx (F0 m pc ls st0) := by
  intro T hT X
  have hL0 := hS.2.2.1
  rcases hr T hT X with ⟨v, ⟨U, Ls, c1, s1⟩, vm₁, a, hW, X', ⟨w1, L, h1, h2, h3, h4, h5, h6, h7, h8⟩, st⟩ | ⟨q, ⟨U, Ls, c1, s1⟩, vm₁, a, hW, X', ⟨w1, L, X0, ce, h1, h2, h3, h4, i1, i2, i3, h5, h6, h7, h8⟩, st⟩
  · dsimp only [Pt.U, Pt.locs, Pt.cells, Pt.slots] at X' h1 h5 h7 h8 st
    have e1 : c1 = w1.2.1 - w0.2.1 := by have := hL0.1; have := h3.1; omega
    have e2 : s1 = w1.2.2 - w0.2.2 := by have := hL0.2; have := h3.2; omega
    subst h5 e1 e2
    obtain ⟨t, a1, b1⟩ := kk v w1 U.heap (locs ++ L) h4 h3 ⟨h1, h2, hL0.tr h3, fun z hz => by
      rcases List.mem_append.mp hz with g | g
      · exact hS.2.2.2 z g
      · exact h6 z g⟩ U rfl X'
    exact ⟨t, st t a1, b1⟩
  · dsimp only [Pt.U, Pt.locs, Pt.cells, Pt.slots] at X' h1 i1 i3 h5 h7 h8 st
    have e1 : c1 = w1.2.1 - w0.2.1 := by have := hL0.1; have := h3.1; omega
    have e2 : s1 = w1.2.2 - w0.2.2 := by have := hL0.2; have := h3.2; omega
    subst h5 e1 e2
    obtain ⟨t, a1, b1⟩ := kx X0 w1 U.heap (locs ++ L) q ce h4 h3 ⟨h1, h2, hL0.tr h3, fun z hz => by
      rcases List.mem_append.mp hz with g | g
      · exact hS.2.2.2 z g
      · exact h6 z g⟩ i1 i2 (vx_cls hW i3) U rfl X'
    exact ⟨t, st.trans a1, b1⟩
theorem g_pre (C : gC p l s m args meth c cc nL ret own E tb nm) (hS : gS E w0 w H locs) {T : State} (hT : T.heap = H) {vm₁ : Vm} (hW : s.WarmedH vm₁) {av : List Value} : gPre E w av (gRm F Lc E w0) ⟨T.setVm vm₁, locs, w.2.1 - w0.2.1, w.2.2 - w0.2.2⟩ av.toArray := by
  have h1 := hS.2.1
  have h2 := hS.2.2.1
  refine ⟨?_, ?_, rfl, ?_, h1, C.k.moved (U := T.setVm vm₁) C.ok hW, C.ok⟩
  · show w.2.1 - w0.2.1 + (gLC E - w.2.1) ≤ gLC E - w0.2.1
    have := h1.1; have := h2.1; omega
  · show w.2.2 - w0.2.2 + (gLS E - w.2.2) ≤ gLS E - w0.2.2
    have := h1.2; have := h2.2; omega
  · show gRep E w T.heap
    rw [hT]; exact hS.1
/-- what a call asks of the tables: the callee's own list of words, its code, its room -/
theorem g_ws (C : gC p l s m args meth c cc nL ret own E tb nm) {y : MethodName} {bytes : ByteArray} {maxL : Nat} {ry : Option FieldType} (hc : Cond.code y bytes maxL ry ∈ lw_all) : ∀ w ∈ ws_ y bytes maxL ry, ∀ (a' : Array Value) (U : State), s.WarmedH U.vm → w.before a' U = true := pay_in C.ts (lw_meth hc)
theorem g_my (C : gC p l s m args meth c cc nL ret own E tb nm) {y : MethodName} {bytes : ByteArray} {maxL : Nat} {ry : Option FieldType} (hc : Cond.code y bytes maxL ry ∈ lw_all) (a' : Array Value) (U : State) (mk : MethodId) (hW : s.WarmedH U.vm) (hn : U.methodNamed? y = some mk) : ∃ (methY : Method) (cY : Code), U.vm.method? mk = some methY ∧ methY.code = some cY ∧ cY.maxLocals = maxL := by
  obtain ⟨methY, cY, hmY, hcY, -, hlY, -, -, -, -⟩ := Cond.code_spec hn (g_ws C hc _ List.mem_cons_self a' U hW)
  exact ⟨methY, cY, hmY, hcY, hlY⟩
theorem g_in (C : gC p l s m args meth c cc nL ret own E tb nm) {Cn : String} (hi : Cond.initialized Cn ∈ lw_all) : ∀ (a' : Array Value) (U : State), s.WarmedH U.vm → (Cond.initialized Cn).before a' U = true := fun a' U hW => word_at hW (Or.inl (by first | rfl | simp [Cond.onTables, Cond.keeps, Cond.steady])) (C.ts _ hi)
def gNm (y : MethodName) (n : Nat) : Bool := decide (y.cls ≠ "java/lang/invoke/MethodHandle" ∧ y.cls ≠ "java/lang/invoke/VarHandle" ∧ (parseMethodDescriptor y.desc).map (fun d => d.parameters.length) = some n)
theorem gNm.mh {y : MethodName} {n : Nat} (h : gNm y n = true) : y.cls ≠ "java/lang/invoke/MethodHandle" ∧ y.cls ≠ "java/lang/invoke/VarHandle" := ⟨(of_decide_eq_true h).1, (of_decide_eq_true h).2.1⟩
theorem gNm.len {y : MethodName} {n : Nat} (h : gNm y n = true) : ∀ sig, parseMethodDescriptor y.desc = some sig → n = sig.parameters.length := by
  intro sig hs
  have h2 := (of_decide_eq_true h).2.2
  rw [hs] at h2
  exact (Option.some.inj h2).symm
theorem g_mr {st : List Value} (h : (st.map fun v => v.category).sum ≤ 8) {X : List Value} : 2 * (F0 m pc ls X).monitorRoom + (st.map fun v => v.category).sum ≤ 8 := lv_room h
/-- invokestatic -/
theorem g_callS (C : gC p l s m args meth c cc nL ret own E tb nm) (hS : gS E w0 w H locs) {lv : List (Nat × Value)} (hl : lv_has ls nL lv) {y : MethodName} {index n : Nat} {bytes : ByteArray} {maxL : Nat} {ry : Option FieldType} {F2 Lc2 : Nat} {As : List Value}
    (hM : gMet l y (ws_ y bytes maxL ry) E w As F2 Lc2 Qn2 Qx2) (hlk : Cond.methodLink own index y ∈ lw_all) (hst : Cond.static y ∈ lw_all) (hin : Cond.initialized y.cls ∈ lw_all) (hco : Cond.code y bytes maxL ry ∈ lw_all) (hy : gNm y n = true) (hn : As.length = n)
    (hF : F2 + 1 ≤ F) (hLc : 8 + (maxL + 11) + Lc2 ≤ Lc) (hst0 : st0 = As.reverse ++ rest) (hrm : (rest.map fun v => v.category).sum ≤ 8) (hdg : decode cc pc = .ok (.invokestatic index, 3))
    (kx : ∀ (X : String) (w1 : gW) (H1 : Heap) (locs1 : List Loc) (q : Addr) (ce : Cell), Qx2 X w1 → gLe w w1 → gS E w0 w1 H1 locs1 → H1[q]? = some ce → ce.vm = .none → s.vm.findClass X = some ce.cls →
      vx_W p l e (gRm F Lc E w0) s m args below meth c H1 locs1 (w1.2.1 - w0.2.1) (w1.2.2 - w0.2.2) (gMQ below E w0 Qn Qx args s) (F0 m pc ls rest) q)
    (kk : ∀ (v : Option Value) (w1 : gW) (H1 : Heap) (locs1 : List Loc), Qn2 v w1 → gLe w w1 → gS E w0 w1 H1 locs1 → gGo p l e s m args below meth c H1 locs1 F Lc E w0 w1 Qn Qx (F0 m (pc + 3) ls (v.toList ++ rest))) :
    gGo p l e s m args below meth c H locs F Lc E w0 w Qn Qx (F0 m pc ls st0) := by
  subst hn
  refine g_join (Qn2 := Qn2) (Qx2 := Qx2) C hS 3 (fun T hT X => ?_) kx kk
  have hK : vx_Back l (gRm F Lc E w0) p e below s args y 3 8 (gPre E w As (gRm F Lc E w0)) (gPost E w Qn2) (gPostX E w Qx2) := g_back (maxL := maxL) hM hF hLc (g_ws C hco) (g_my C hco) (g_in C hin)
  rcases vx_callS X C.x (bytes := bytes) (maxL := maxL) (ret := ry) C.ow (C.ts _ hlk) (C.ts _ hst) (C.ts _ hin) (C.ts _ hco) (gNm.mh hy) hK (g := F0 m pc ls st0) rfl (hl.1.trans C.ml.symm) (argsL := As) (rest := rest) (gNm.len hy) hst0 (g_mr hrm) (by rw [C.b]; exact hdg) (fun vm₁ hW => g_pre C hS hT hW) with ⟨v, vm₁, B, hW, X', hpost, st⟩ | ⟨q, vm₁, B, hW, X', hpost, st⟩
  · exact Or.inl ⟨v, B, vm₁, _, hW, X', hpost, st⟩
  · exact Or.inr ⟨q, B, vm₁, _, hW, X', hpost, st⟩
/-- invokevirtual of a method of the receiver's own kind -/
theorem g_callV (C : gC p l s m args meth c cc nL ret own E tb nm) (hS : gS E w0 w H locs) {lv : List (Nat × Value)} (hl : lv_has ls nL lv) {y : MethodName} {index n : Nat} {bytes : ByteArray} {maxL : Nat} {ry : Option FieldType} {F2 Lc2 : Nat} {b : Nat} {As : List Value} (ci : Nat) {fs : List Value} (hq : w.1 b = some (.inr (ci, fs))) {Cn : String} {Tn : u_T} {N : Nat} (hci : gCl[ci]? = some (Cn, Tn, N))
    (hM : gMet l y (ws_ y bytes maxL ry) E w (.ref b :: As) F2 Lc2 Qn2 Qx2) (hlk : Cond.methodLink own index y ∈ lw_all) (hinst : Cond.instanceMethod y ∈ lw_all) (hsel : Cond.selects Cn y y ∈ lw_all) (hin : Cond.initialized y.cls ∈ lw_all) (hco : Cond.code y bytes maxL ry ∈ lw_all) (hy : gNm y n = true) (hn : As.length = n)
    (hF : F2 + 1 ≤ F) (hLc : 8 + (maxL + 11) + Lc2 ≤ Lc) (hst0 : st0 = As.reverse ++ .ref b :: rest) (hrm : (rest.map fun v => v.category).sum ≤ 8) (hdg : decode cc pc = .ok (.invokevirtual index, 3))
    (kx : ∀ (X : String) (w1 : gW) (H1 : Heap) (locs1 : List Loc) (q : Addr) (ce : Cell), Qx2 X w1 → gLe w w1 → gS E w0 w1 H1 locs1 → H1[q]? = some ce → ce.vm = .none → s.vm.findClass X = some ce.cls →
      vx_W p l e (gRm F Lc E w0) s m args below meth c H1 locs1 (w1.2.1 - w0.2.1) (w1.2.2 - w0.2.2) (gMQ below E w0 Qn Qx args s) (F0 m pc ls rest) q)
    (kk : ∀ (v : Option Value) (w1 : gW) (H1 : Heap) (locs1 : List Loc), Qn2 v w1 → gLe w w1 → gS E w0 w1 H1 locs1 → gGo p l e s m args below meth c H1 locs1 F Lc E w0 w1 Qn Qx (F0 m (pc + 3) ls (v.toList ++ rest))) :
    gGo p l e s m args below meth c H locs F Lc E w0 w Qn Qx (F0 m pc ls st0) := by
  subst hn
  refine g_join (Qn2 := Qn2) (Qx2 := Qx2) C hS 3 (fun T hT X => ?_) kx kk
  have hK : vx_Back l (gRm F Lc E w0) p e below s args y 3 8 (gPre E w (.ref b :: As) (gRm F Lc E w0)) (gPost E w Qn2) (gPostX E w Qx2) := g_back (maxL := maxL) hM hF hLc (g_ws C hco) (g_my C hco) (g_in C hin)
  obtain ⟨cellB, g1, g2, g3⟩ := va_recv C.K (hS.one hq) (ci := ci) (q0 := 0) hci rfl
  rcases vx_callV X C.x (C := Cn) (bytes := bytes) (maxL := maxL) (ret := ry) C.ow (C.ts _ hlk) (C.ts _ hinst) (C.ts _ hsel) (C.ts _ hco) (gNm.mh hy) hK (by rw [hT]; exact g1) g2 g3 (g := F0 m pc ls st0) rfl (hl.1.trans C.ml.symm) (argsL := As) (rest := rest) (gNm.len hy) hst0 (g_mr hrm) (by rw [C.b]; exact hdg) (fun vm₁ hW => g_pre C hS hT hW) with ⟨v, vm₁, B, hW, X', hpost, st⟩ | ⟨q, vm₁, B, hW, X', hpost, st⟩
  · exact Or.inl ⟨v, B, vm₁, _, hW, X', hpost, st⟩
  · exact Or.inr ⟨q, B, vm₁, _, hW, X', hpost, st⟩
/-- invokespecial of a constructor -/
theorem g_callI (C : gC p l s m args meth c cc nL ret own E tb nm) (hS : gS E w0 w H locs) {lv : List (Nat × Value)} (hl : lv_has ls nL lv) {y : MethodName} {index n : Nat} {bytes : ByteArray} {maxL : Nat} {F2 Lc2 : Nat} {b : Nat} {As : List Value}
    (hM : gMet l y (ws_ y bytes maxL none) E w (.ref b :: As) F2 Lc2 Qn2 Qx2) (hy1 : y.name = "<init>") (hlk : Cond.methodLink own index y ∈ lw_all) (hinst : Cond.instanceMethod y ∈ lw_all) (hin : Cond.initialized y.cls ∈ lw_all) (hco : Cond.code y bytes maxL none ∈ lw_all) (hy : gNm y n = true) (hn : As.length = n)
    (hF : F2 + 1 ≤ F) (hLc : 8 + (maxL + 11) + Lc2 ≤ Lc) (hst0 : st0 = As.reverse ++ .ref b :: rest) (hrm : (rest.map fun v => v.category).sum ≤ 8) (hdg : decode cc pc = .ok (.invokespecial index, 3))
    (kx : ∀ (X : String) (w1 : gW) (H1 : Heap) (locs1 : List Loc) (q : Addr) (ce : Cell), Qx2 X w1 → gLe w w1 → gS E w0 w1 H1 locs1 → H1[q]? = some ce → ce.vm = .none → s.vm.findClass X = some ce.cls →
      vx_W p l e (gRm F Lc E w0) s m args below meth c H1 locs1 (w1.2.1 - w0.2.1) (w1.2.2 - w0.2.2) (gMQ below E w0 Qn Qx args s) (F0 m pc ls rest) q)
    (kk : ∀ (v : Option Value) (w1 : gW) (H1 : Heap) (locs1 : List Loc), Qn2 v w1 → gLe w w1 → gS E w0 w1 H1 locs1 → gGo p l e s m args below meth c H1 locs1 F Lc E w0 w1 Qn Qx (F0 m (pc + 3) ls (v.toList ++ rest))) :
    gGo p l e s m args below meth c H locs F Lc E w0 w Qn Qx (F0 m pc ls st0) := by
  subst hn
  refine g_join (Qn2 := Qn2) (Qx2 := Qx2) C hS 3 (fun T hT X => ?_) kx kk
  have hK : vx_Back l (gRm F Lc E w0) p e below s args y 3 8 (gPre E w (.ref b :: As) (gRm F Lc E w0)) (gPost E w Qn2) (gPostX E w Qx2) := g_back (maxL := maxL) hM hF hLc (g_ws C hco) (g_my C hco) (g_in C hin)
  rcases vx_callI X C.x (bytes := bytes) (maxL := maxL) C.ow hy1 (C.ts _ hlk) (C.ts _ hinst) (C.ts _ hco) (gNm.mh hy) hK (g := F0 m pc ls st0) rfl (hl.1.trans C.ml.symm) (a := b) (argsL := As) (rest := rest) (gNm.len hy) hst0 (g_mr hrm) (by rw [C.b]; exact hdg) (fun vm₁ hW => g_pre C hS hT hW) with ⟨v, vm₁, B, hW, X', hpost, st⟩ | ⟨q, vm₁, B, hW, X', hpost, st⟩
  · exact Or.inl ⟨v, B, vm₁, _, hW, X', hpost, st⟩
  · exact Or.inr ⟨q, B, vm₁, _, hW, X', hpost, st⟩
/-- a method's contract out of the walk of its body -/
theorem g_ofW {y : MethodName} {cc : ByteArray} {maxL : Nat} {ry : Option FieldType} {av : List Value} (hl : l.stackTraces = false) (hy : plainName y.cls = true) (hlen : (lg_sl av).length ≤ maxL)
    (body : ∀ (p : Program) (e : Env) (s : State) (m : MethodId) (below : List Frame) (meth : Method) (c : Code) (ls : Array Slot) (H : Heap), gC p l s m av.toArray meth c cc maxL ry y.cls E [] y.name → lv_has ls maxL (lv_args 0 av) → gS E w0 w0 H [] →
      gGo p l e s m av.toArray below meth c H [] F Lc E w0 w0 Qn Qx (F0 m 0 ls [])) : gMet l y (ws_ y cc maxL ry) E w0 av F Lc Qn Qx := by
  refine MetFree.of_bodyS (code := cc) (maxLocals := maxL) (ret := ry) hy ?_ ?_
  · intro args s m h hn
    obtain ⟨meth, c, h1, h2, h3, h4, h5, h6, -, -⟩ := Cond.code_spec hn (atoms_spec (ws := ws_ y cc maxL ry) h _ List.mem_cons_self)
    exact ⟨meth, c, h1, h2, h3, h4, h5, h6⟩
  · intro p e s m args below meth c s₁ B hml hP _
    obtain ⟨rfl, hR, hO, hk, hE⟩ := hP
    have hh0 : s₁.heap = s.heap := by rw [B.state]; rfl
    have ht : c.exceptionTable.toList = [] := by
      obtain ⟨meth9, c9, h1, h2, -, -, -, -, h7, -⟩ := Cond.code_spec B.named (atoms_spec (ws := ws_ y cc maxL ry) B.pre _ List.mem_cons_self)
      cases Option.some.inj (h1.symm.trans B.method)
      cases Option.some.inj (h2.symm.trans (Stand.of_body B).code)
      rw [Array.isEmpty_iff.mp h7]
    have hts := atoms_spec (ws := ws_ y cc maxL ry) B.pre
    have K : W p l e (gRm F Lc E w0) s m av.toArray below meth c s.heap [] 0 0 (gMQ below E w0 Qn Qx av.toArray s) (entryFrame m av.toArray maxL) := by
      refine g_entry hlen fun ls hls => ?_
      refine W.cs (cells' := w0.2.1 - w0.2.1) (slots' := w0.2.2 - w0.2.2) (Nat.sub_self _).symm (Nat.sub_self _).symm ?_
      exact body p e s m below meth c ls s.heap ⟨B.exec, B.bytes, B.returns, hml, findClass_of_methodNamed B.named, fun w h => hts w (List.mem_cons_of_mem _ h), B.notSynchronized, hk, hE, hl, ht, (name_of_methodNamed B.named B.method).1⟩ hls ⟨hR, hO, gLe.rf, fun z hz => by cases hz⟩
    obtain ⟨t, a1, o, b1, b2, b3⟩ := K s₁ hh0 (Stand.of_body B)
    exact ⟨t, o, a1, b1, b2, b3⟩
end GFc
