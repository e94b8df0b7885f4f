/-! FRAME: worlds as functions, contracts over them, the rows that touch the heap -/
/-- the kinds of object that a world holds: 0 BridgeAuction, 1 Network, 2 Bridge, 3 Vector, 4 Model, 5 Link, 6 Port, 7 Reader, 8 ArrayList, 9 StringBuilder, 10 String -/
abbrev gCl : List vw_C := [(RX1, TX1, 5), (RX2, TX2, 15), (RX3, TX3, 6), (RX4, TX4, 5), (RX5, TX5, 15), (RX6, TX6, 11), (RX7, TX7, 3), (RX9, TX9, 5), (RJ2, TJ2, 3), (RJ17, TJ17, 4), (RJ14, TJ14, 4)]
/-- a world: what lies where, the next address, the slots made -/
abbrev gW : Type := (Nat → Option va_E) × Nat × Nat
/-- what stays through a run: numbers of the tables, the array kinds, the heap at the start, the limits, a fact of the tables -/
abbrev gE : Type := va_G × (Nat → ClassId) × Heap × (Nat × Nat) × (State → Prop)
abbrev gD (E : gE) : va_G := E.1
abbrev gT (E : gE) : Nat → ClassId := E.2.1
abbrev gB (E : gE) : Nat := E.2.2.1.size
abbrev gH0 (E : gE) : Heap := E.2.2.1
abbrev gLC (E : gE) : Nat := E.2.2.2.1.1
abbrev gLS (E : gE) : Nat := E.2.2.2.1.2
abbrev gZ (E : gE) : State → Prop := E.2.2.2.2
abbrev gTys (E : gE) : List (ClassId × FieldType) := [(gT E 0, .int), (gT E 1, .byte), (gT E 2, .boolean), (gT E 3, .object "java/lang/Object"), (gT E 4, .object "BridgeAuction$Network"), (gT E 5, .long)]
def gRide : Cond → Bool
  | .fieldLinkNest _ _ _ _ _ _ => true
  | .methodLinkNest _ _ _ _ => true
  | .castable _ _ => true
  | .declares _ => true
  | .privateMethod _ => true
  | .arrayOver (.object _) => true
  | _ => false
theorem gRide_moved {w : Cond} (h : gRide w = true) {s U : State} (hW : s.WarmedH U.vm) (hz : va_Nw w s) : va_Nw w U := by
  cases w <;> first | exact va_Nw.warmF hW hz | exact va_Nw.warmM hW hz | exact va_Nw.warmC hW hz | exact va_Nw.warmD hW hz | exact va_tabs rfl (rfl : (s.setVm U.vm).vm = U.vm) (by rw [Cond.privateMethod_setVm hW.alike]; exact hz) | (simp [gRide] at h; done) | skip
  rename_i ty
  cases ty <;> first | exact va_AO.moved hW.alike hz | (simp [gRide] at h; done)
def gK (E : gE) (U : State) : Prop := va_K (gD E) gCl (gTys E) U ∧ (∀ w ∈ lw_tbl, gRide w = true → va_Nw w U) ∧ gZ E U
def gEok (E : gE) : Prop := ∀ u U : State, u.WarmedH U.vm → gZ E u → gZ E U
theorem gK.moved {E : gE} (hE : gEok E) {s U : State} (hW : s.WarmedH U.vm) (h : gK E s) : gK E U :=
  ⟨h.1.moved hW.alike, fun w hw hr => gRide_moved hr hW (h.2.1 w hw hr), hE _ _ hW h.2.2⟩
def gRep (E : gE) (w : gW) (H : Heap) : Prop := H.size = w.2.1 ∧ gB E ≤ w.2.1 ∧ (∀ q : Nat, q < gB E → H[q]? = (gH0 E)[q]?) ∧ (∀ (q : Nat) (e : va_E), w.1 q = some e → gB E ≤ q ∧ va_at (gD E) gCl (q, e) H) ∧ ∀ (q : Nat) (c : Cell), gB E ≤ q → H[q]? = some c → c.vm.isStatics = false
def gOk (E : gE) (w : gW) : Prop := w.2.1 ≤ gLC E ∧ w.2.2 ≤ gLS E
def gLe (w w' : gW) : Prop := w.2.1 ≤ w'.2.1 ∧ w.2.2 ≤ w'.2.2
theorem gLe.rf {w : gW} : gLe w w := ⟨Nat.le_refl _, Nat.le_refl _⟩
theorem gLe.tr {a b c : gW} (h : gLe a b) (k : gLe b c) : gLe a c := ⟨Nat.le_trans h.1 k.1, Nat.le_trans h.2 k.2⟩
/-- where a walk stands: w0 the world at the method's entry, w the world now -/
def gS (E : gE) (w0 w : gW) (H : Heap) (locs : List Loc) : Prop := gRep E w H ∧ gOk E w ∧ gLe w0 w ∧ ∀ z ∈ locs, gB E ≤ z.base
def gSet (w : gW) (q : Nat) (e : va_E) : gW := (va_up w.1 q (some e), w.2)
def gNew (w : gW) (e : va_E) (n : Nat) : gW := (va_up w.1 w.2.1 (some e), w.2.1 + 1, w.2.2 + n)
def gNone (w : gW) (n : Nat) : gW := (w.1, w.2.1 + 1, w.2.2 + n)
def gRm (F Lc : Nat) (E : gE) (w : gW) : Room := { frames := F, cells := gLC E - w.2.1, slots := gLS E - w.2.2, locals := Lc }
/-- a method's end: it returns or throws, in a world of which Qn or Qx hold -/
def gQ (E : gE) (w0 : gW) (Qn : Option Value → gW → Prop) (Qx : String → gW → Prop) : Array Value → State → Outcome → State → Prop := fun _ st o t =>
  ∃ w' : gW, gRep E w' t.heap ∧ gOk E w' ∧ gLe w0 w' ∧
    ((∃ (v : Option Value) (L : List Loc), o = .returned v ∧ Qn v w' ∧ FrameEnd st o t L (w'.2.1 - w0.2.1) (w'.2.2 - w0.2.2) ∧ ∀ z ∈ L, gB E ≤ z.base) ∨
     (∃ (q : Addr) (X : String), o = .threw q ∧ Qx X w' ∧ vx_T (fun E' _ _ => E' = X) st q t (w'.2.1 - w0.2.1) (w'.2.2 - w0.2.2) (fun z => gB E ≤ z)))
def gPc (E : gE) (w0 : gW) (av : List Value) : Array Value → State → Prop := va_Pc av (fun U => gRep E w0 U.heap ∧ gOk E w0 ∧ gK E U ∧ gEok E)
/-- the contract of a method, called in the world w0 with the arguments av -/
def gMet (l : Launch) (y : MethodName) (ws : List Cond) (E : gE) (w0 : gW) (av : List Value) (F Lc : Nat) (Qn : Option Value → gW → Prop) (Qx : String → gW → Prop) : Prop :=
  MetFree l y (headSpec ws (gRm F Lc E w0)) (gPc E w0 av) (fun _ _ _ _ _ => True) (gQ E w0 Qn Qx)
def gMQ (below : List Frame) (E : gE) (w0 : gW) (Qn : Option Value → gW → Prop) (Qx : String → gW → Prop) (a : Array Value) (s : State) : State → Prop := fun t =>
  ∃ o, t.status = .running ∧ Ended t below o ∧ gQ E w0 Qn Qx a s o t
/-- answers by kind -/
def gI (Q : Int32 → gW → Prop) : Option Value → gW → Prop := fun v w => ∃ r : Int32, v = some (.int r) ∧ Q r w
def gJ (Q : Int64 → gW → Prop) : Option Value → gW → Prop := fun v w => ∃ r : Int64, v = some (.long r) ∧ Q r w
def gV (Q : gW → Prop) : Option Value → gW → Prop := fun v w => v = none ∧ Q w
def gR (Q : Option Nat → gW → Prop) : Option Value → gW → Prop := fun v w => ∃ r : Option Nat, v = some (va_rf r) ∧ Q r w
def gNoX : String → gW → Prop := fun _ _ => False
/-- what a body knows all through -/
def gC (p : Program) (l : Launch) (s : State) (m : MethodId) (args : Array Value) (meth : Method) (c : Code) (cc : ByteArray) (nL : Nat) (ret : Option FieldType) (own : String) (E : gE) (tb : List ExceptionTableEntry) (nm : String) : Prop :=
  p.tables.exec = Jvm.exec ∧ c.code = cc ∧ meth.sig.returnType = ret ∧ c.maxLocals = nL ∧ s.vm.findClass own = some m.cls ∧ (∀ w ∈ lw_all, w.before args s = true) ∧ meth.locks = false ∧ gK E s ∧ gEok E ∧ l.stackTraces = false ∧ c.exceptionTable.toList = tb ∧ meth.name = nm
abbrev gGo (p : Program) (l : Launch) (e : Env) (s : State) (m : MethodId) (args : Array Value) (below : List Frame) (meth : Method) (c : Code) (H : Heap) (locs : List Loc) (F Lc : Nat) (E : gE) (w0 w : gW) (Qn : Option Value → gW → Prop) (Qx : String → gW → Prop) (g : JFrame) : Prop :=
  W p l e (gRm F Lc E w0) s m args below meth c H locs (w.2.1 - w0.2.1) (w.2.2 - w0.2.2) (gMQ below E w0 Qn Qx args s) g
theorem gRep.one {E : gE} {w : gW} {H : Heap} (h : gRep E w H) {q : Nat} {e : va_E} (hq : w.1 q = some e) : va_P (gD E) gCl [(q, e)] H := by
  intro k x hk
  have hz : k < 1 := (List.getElem?_eq_some_iff.mp hk).1
  rw [show k = 0 by omega] at hk
  cases hk
  exact (h.2.2.2.1 q e hq).2
theorem gS.one {E : gE} {w0 w : gW} {H : Heap} {locs : List Loc} (h : gS E w0 w H locs) {q : Nat} {e : va_E} (hq : w.1 q = some e) : va_P (gD E) gCl [(q, e)] H := h.1.one hq
theorem gS.lt {E : gE} {w0 w : gW} {H : Heap} {locs : List Loc} (h : gS E w0 w H locs) {q : Nat} {e : va_E} (hq : w.1 q = some e) : q < w.2.1 := by
  have h1 := ((h.1.2.2.2.1 q e hq).2).lt
  rw [h.1.1] at h1
  exact h1
theorem gat_plain {D : va_G} {cl : List vw_C} {q : Nat} {e : va_E} {H : Heap} (h : va_at D cl (q, e) H) {c : Cell} (hc : H[q]? = some c) : c.vm.isStatics = false := by
  cases e with
  | inl x =>
    have h1 : H[q]? = some (vp_cell x.1 x.2) := h
    rw [hc] at h1
    cases h1
    obtain ⟨cA, n, f | f | f | f | f⟩ := x <;> rfl
  | inr o =>
    obtain ⟨r, -, cell, h2, -, h4, -⟩ := h
    have h1 : H[q]? = some cell := h2
    rw [hc] at h1
    cases h1
    rw [h4]
    rfl
/-- one cell is written -/
theorem gS.set {E : gE} {w0 w : gW} {H H1 : Heap} {locs : List Loc} (h : gS E w0 w H locs) {q i : Nat} {e0 e : va_E} (hq : w.1 q = some e0) (he : va_at (gD E) gCl (q, e) H1) (hz : H1.size = H.size) (ho : ∀ x : Nat, x ≠ q → H1[x]? = H[x]?) : gS E w0 (gSet w q e) H1 (locs ++ [⟨q, i⟩]) := by
  obtain ⟨⟨h1, h2, h3, h4, h5⟩, hO, hL, hl⟩ := h
  have hb := (h4 q e0 hq).1
  refine ⟨⟨by rw [hz]; exact h1, h2, fun x hx => ?_, fun x ex hx => ?_, fun x c hx hc => ?_⟩, hO, hL, fun z hz2 => ?_⟩
  · rw [ho x (by omega)]
    exact h3 x hx
  · by_cases hxq : x = q
    · subst hxq
      have h6 : some e = some ex := by
        have h7 : va_up w.1 x (some e) x = some ex := hx
        simpa [va_up] using h7
      cases h6
      exact ⟨hb, he⟩
    · have h6 : w.1 x = some ex := by
        have h7 : va_up w.1 q (some e) x = some ex := hx
        simpa [va_up, hxq] using h7
      exact ⟨(h4 x ex h6).1, (h4 x ex h6).2.kept (ho x hxq)⟩
  · by_cases hxq : x = q
    · subst hxq
      exact gat_plain he hc
    · rw [ho x hxq] at hc
      exact h5 x c hx hc
  · rcases List.mem_append.mp hz2 with g | g
    · exact hl z g
    · rw [List.mem_singleton] at g
      subst g
      exact hb
/-- one cell is made -/
theorem gS.new {E : gE} {w0 w : gW} {H H1 : Heap} {locs : List Loc} (h : gS E w0 w H locs) {e : va_E} {n : Nat} (he : va_at (gD E) gCl (H.size, e) H1) (hz : H1.size = H.size + 1) (ho : ∀ x : Nat, x < H.size → H1[x]? = H[x]?) (hc : w.2.1 + 1 ≤ gLC E) (hs : w.2.2 + n ≤ gLS E) : gS E w0 (gNew w e n) H1 locs := by
  obtain ⟨⟨h1, h2, h3, h4, h5⟩, hO, hL, hl⟩ := h
  refine ⟨⟨by rw [hz, h1]; rfl, Nat.le_succ_of_le h2, fun x hx => ?_, fun x ex hx => ?_, fun x c hx hcx => ?_⟩, ⟨hc, hs⟩, ⟨Nat.le_succ_of_le hL.1, Nat.le_trans hL.2 (Nat.le_add_right _ _)⟩, hl⟩
  · rw [ho x (by omega)]
    exact h3 x hx
  · by_cases hxq : x = w.2.1
    · have h6 : some e = some ex := by
        have h7 : va_up w.1 w.2.1 (some e) x = some ex := hx
        simpa [va_up, hxq] using h7
      cases h6
      rw [hxq]
      exact ⟨h2, by rw [← h1]; exact he⟩
    · have h6 : w.1 x = some ex := by
        have h7 : va_up w.1 w.2.1 (some e) x = some ex := hx
        simpa [va_up, hxq] using h7
      have h8 := (h4 x ex h6).2.lt
      exact ⟨(h4 x ex h6).1, (h4 x ex h6).2.kept (ho x h8)⟩
  · by_cases hxq : x = H.size
    · subst hxq
      exact gat_plain he hcx
    · have h8 : x < H.size := by
        have h9 := (Array.getElem?_eq_some_iff.mp hcx).1
        omega
      rw [ho x h8] at hcx
      exact h5 x c hx hcx
section GFa
variable {p : Program} {l : Launch} {e : Env} {R : Room} {s : State} {m : MethodId} {args : Array Value} {below : List Frame} {meth : Method} {c : Code} {H : Heap} {locs : List Loc} {cells slots : Nat} {Q : State → Prop}
variable {cc : ByteArray} {pc nL : Nat} {ls : Array Slot} {rest : List Value} {ret : Option FieldType} {own nm : String} {E : gE} {tb : List ExceptionTableEntry} {w0 w : gW} {F Lc : Nat} {Qn : Option Value → gW → Prop} {Qx : String → gW → Prop}
theorem gC.x (C : gC p l s m args meth c cc nL ret own E tb nm) : p.tables.exec = Jvm.exec := C.1
theorem gC.b (C : gC p l s m args meth c cc nL ret own E tb nm) : c.code = cc := C.2.1
theorem gC.r (C : gC p l s m args meth c cc nL ret own E tb nm) : meth.sig.returnType = ret := C.2.2.1
theorem gC.ml (C : gC p l s m args meth c cc nL ret own E tb nm) : c.maxLocals = nL := C.2.2.2.1
theorem gC.ow (C : gC p l s m args meth c cc nL ret own E tb nm) : s.vm.findClass own = some m.cls := C.2.2.2.2.1
theorem gC.ts (C : gC p l s m args meth c cc nL ret own E tb nm) : ∀ w ∈ lw_all, w.before args s = true := C.2.2.2.2.2.1
theorem gC.lk (C : gC p l s m args meth c cc nL ret own E tb nm) : meth.locks = false := C.2.2.2.2.2.2.1
theorem gC.k (C : gC p l s m args meth c cc nL ret own E tb nm) : gK E s := C.2.2.2.2.2.2.2.1
theorem gC.K (C : gC p l s m args meth c cc nL ret own E tb nm) : va_K (gD E) gCl (gTys E) s := C.k.1
theorem gC.nw (C : gC p l s m args meth c cc nL ret own E tb nm) {w : Cond} (h : w ∈ lw_tbl) (hr : gRide w = true) : va_Nw w s := C.k.2.1 w h hr
theorem gC.ok (C : gC p l s m args meth c cc nL ret own E tb nm) : gEok E := C.2.2.2.2.2.2.2.2.1
theorem gC.tr (C : gC p l s m args meth c cc nL ret own E tb nm) : l.stackTraces = false := C.2.2.2.2.2.2.2.2.2.1
theorem gC.tbl (C : gC p l s m args meth c cc nL ret own E tb nm) : c.exceptionTable.toList = tb := C.2.2.2.2.2.2.2.2.2.2.1
theorem gC.nam (C : gC p l s m args meth c cc nL ret own E tb nm) : meth.name = nm := C.2.2.2.2.2.2.2.2.2.2.2
theorem g_entry {av : List Value} {n : Nat} (h : (lg_sl av).length ≤ n) (k : ∀ ls : Array Slot, lv_has ls n (lv_args 0 av) → W p l e R s m args below meth c H locs cells slots Q (F0 m 0 ls [])) : W p l e R s m args below meth c H locs cells slots Q (entryFrame m av.toArray n) := by
  rw [lg_entry_eq]
  exact k _ (lv_entry av h)
/-- getfield -/
theorem g_get (C : gC p l s m args meth c cc nL ret own E tb nm) (hS : gS E w0 w H locs) {a ci : Nat} {fs : List Value} (hq : w.1 a = some (.inr (ci, fs))) {ref Cn : String} {T : u_T} {N index : Nat} (hin : ∀ w ∈ u_ws Cn T N, w ∈ lw_all) (hc : gCl[ci]? = some (Cn, T, N)) (k : Nat) (hk : k < N) (hlink : Cond.fieldLink own index ref (T k).2.1 (T k).2.2.1 ∈ lw_all) (hsame : ∀ x, s.fieldFound? (T k).1 (T k).2.1 (T k).2.2.1 = some x → s.fieldFound? ref (T k).2.1 (T k).2.2.1 = some x) {v : Value} (hv : fs[k]? = some v) (hdg : decode cc pc = .ok (.getfield index, 3))
    (kk : W p l e R s m args below meth c H locs cells slots Q (F0 m (pc + 3) ls (v :: rest))) : W p l e R s m args below meth c H locs cells slots Q (F0 m pc ls (.ref a :: rest)) :=
  va_get (D := gD E) (ci := ci) C.x C.b C.ts hin C.ow C.K (hS.one hq) 0 rfl hc k hk (C.ts _ hlink) hsame hv hdg kk
/-- getfield of a nest mate's private field -/
theorem g_getN (C : gC p l s m args meth c cc nL ret own E tb nm) (hS : gS E w0 w H locs) {a ci : Nat} {fs : List Value} (hq : w.1 a = some (.inr (ci, fs))) {ref Cn host : String} {T : u_T} {N index : Nat} (hin : ∀ w ∈ u_ws Cn T N, w ∈ lw_all) (hc : gCl[ci]? = some (Cn, T, N)) (k : Nat) (hk : k < N) (hlink : Cond.fieldLinkNest own index ref (T k).2.1 (T k).2.2.1 host ∈ lw_tbl) (hsame : ∀ x, s.fieldFound? (T k).1 (T k).2.1 (T k).2.2.1 = some x → s.fieldFound? ref (T k).2.1 (T k).2.2.1 = some x) {v : Value} (hv : fs[k]? = some v) (hdg : decode cc pc = .ok (.getfield index, 3))
    (kk : W p l e R s m args below meth c H locs cells slots Q (F0 m (pc + 3) ls (v :: rest))) : W p l e R s m args below meth c H locs cells slots Q (F0 m pc ls (.ref a :: rest)) :=
  va_getN (D := gD E) (ci := ci) C.x C.b C.ts hin C.ow C.K (hS.one hq) 0 rfl hc k hk (va_Nw.use rfl (C.nw hlink rfl)) hsame hv hdg kk
/-- putfield -/
theorem g_put (C : gC p l s m args meth c cc nL ret own E tb nm) (hS : gS E w0 w H locs) {a ci : Nat} {fs : List Value} (hq : w.1 a = some (.inr (ci, fs))) {ref Cn : String} {T : u_T} {N index : Nat} (hin : ∀ w ∈ u_ws Cn T N, w ∈ lw_all) (ty0 : Nat → FieldType) (hty : ∀ k, k < N → parseFieldDescriptor (T k).2.2.1 = some (ty0 k)) (hnm : ∀ a, a < N → ∀ b, b < N → a ≠ b → (T a).2.1 ≠ (T b).2.1) (hc : gCl[ci]? = some (Cn, T, N)) (k : Nat) (hk : k < N) (hlink : Cond.fieldLink own index ref (T k).2.1 (T k).2.2.1 ∈ lw_all) (hsame : ∀ x, s.fieldFound? (T k).1 (T k).2.1 (T k).2.2.1 = some x → s.fieldFound? ref (T k).2.1 (T k).2.2.1 = some x) (hfin : (T k).2.2.2 = false) {v : Value} (hn : narrow (ty0 k) v = v) (hfit : fits (ty0 k) v = true) (hl : k < fs.length) (hdg : decode cc pc = .ok (.putfield index, 3))
    (kk : ∀ (H1 : Heap) (locs1 : List Loc), gS E w0 (gSet w a (.inr (ci, fs.set k v))) H1 locs1 → W p l e R s m args below meth c H1 locs1 cells slots Q (F0 m (pc + 3) ls rest)) : W p l e R s m args below meth c H locs cells slots Q (F0 m pc ls (v :: .ref a :: rest)) := by
  have hap := va_apart (own := own) C.ts hin ty0 hty hnm C.K hc
  obtain ⟨r, h1, cell, q1, q2, q3, q4⟩ := hS.one hq 0 _ rfl
  have hr : r = (Cn, T, N) := Option.some.inj (h1.symm.trans hc)
  subst hr
  obtain ⟨hSl, hfc, kC, hkC, hkind⟩ := C.K.1 ci _ hc
  obtain ⟨cf, kf, fi, f, hi, hsl⟩ := hSl k hk
  have hlay := C.ts _ (hin _ (u_in_lay hk))
  unfold u_lay at hlay
  rw [if_neg (by rw [hfin]; decide)] at hlay
  have hst := (u_facts hfc hkC (u_lays C.ts hin hk) hi).1
  have h6 := u_store hfc hkC hkind hlay hi (hty k hk) hn hfit
  refine W.putK C.x C.b (f := f) ⟨C.ow, C.ts _ hlink, ⟨_, _, _, hsame _ hi⟩, hst⟩ (by rw [q2]; exact h6) q1 q3 (by rw [hsl]; exact k2_hasslot (q4 k hk)) rfl rfl hdg fun H' e1 e2 e3 => ?_
  rw [hsl] at e1 ⊢
  exact kk H' _ (hS.set hq ⟨_, hc, t_OB.to (V := updV (vp_V fs) k v) ⟨_, e1, q2, q3, t_set q4 hap hk v⟩ (fun j _ => vp_updV_set hl v j)⟩ e2 e3)
/-- putfield of a nest mate's private field -/
theorem g_putN (C : gC p l s m args meth c cc nL ret own E tb nm) (hS : gS E w0 w H locs) {a ci : Nat} {fs : List Value} (hq : w.1 a = some (.inr (ci, fs))) {ref Cn host : String} {T : u_T} {N index : Nat} (hin : ∀ w ∈ u_ws Cn T N, w ∈ lw_all) (ty0 : Nat → FieldType) (hty : ∀ k, k < N → parseFieldDescriptor (T k).2.2.1 = some (ty0 k)) (hnm : ∀ a, a < N → ∀ b, b < N → a ≠ b → (T a).2.1 ≠ (T b).2.1) (hc : gCl[ci]? = some (Cn, T, N)) (k : Nat) (hk : k < N) (hlink : Cond.fieldLinkNest own index ref (T k).2.1 (T k).2.2.1 host ∈ lw_tbl) (hsame : ∀ x, s.fieldFound? (T k).1 (T k).2.1 (T k).2.2.1 = some x → s.fieldFound? ref (T k).2.1 (T k).2.2.1 = some x) (hfin : (T k).2.2.2 = false) {v : Value} (hn : narrow (ty0 k) v = v) (hfit : fits (ty0 k) v = true) (hl : k < fs.length) (hdg : decode cc pc = .ok (.putfield index, 3))
    (kk : ∀ (H1 : Heap) (locs1 : List Loc), gS E w0 (gSet w a (.inr (ci, fs.set k v))) H1 locs1 → W p l e R s m args below meth c H1 locs1 cells slots Q (F0 m (pc + 3) ls rest)) : W p l e R s m args below meth c H locs cells slots Q (F0 m pc ls (v :: .ref a :: rest)) := by
  have hap := va_apart (own := own) C.ts hin ty0 hty hnm C.K hc
  obtain ⟨r, h1, cell, q1, q2, q3, q4⟩ := hS.one hq 0 _ rfl
  have hr : r = (Cn, T, N) := Option.some.inj (h1.symm.trans hc)
  subst hr
  obtain ⟨hSl, hfc, kC, hkC, hkind⟩ := C.K.1 ci _ hc
  obtain ⟨cf, kf, fi, f, hi, hsl⟩ := hSl k hk
  have hlay := C.ts _ (hin _ (u_in_lay hk))
  unfold u_lay at hlay
  rw [if_neg (by rw [hfin]; decide)] at hlay
  have hst := (u_facts hfc hkC (u_lays C.ts hin hk) hi).1
  have h6 := u_store hfc hkC hkind hlay hi (hty k hk) hn hfit
  refine va_WputK C.x C.b C.ow (va_Nw.use rfl (C.nw hlink rfl)) (hsame _ hi) hst (by rw [q2]; exact h6) q1 q3 (by rw [hsl]; exact k2_hasslot (q4 k hk)) rfl rfl hdg fun H' e1 e2 e3 => ?_
  rw [hsl] at e1 ⊢
  exact kk H' _ (hS.set hq ⟨_, hc, t_OB.to (V := updV (vp_V fs) k v) ⟨_, e1, q2, q3, t_set q4 hap hk v⟩ (fun j _ => vp_updV_set hl v j)⟩ e2 e3)
/-- putfield of a final field, in its class's constructor -/
theorem g_putF (C : gC p l s m args meth c cc nL ret own E tb "<init>") (hS : gS E w0 w H locs) {a ci : Nat} {fs : List Value} (hq : w.1 a = some (.inr (ci, fs))) {ref Cn : String} {T : u_T} {N index : Nat} (hin : ∀ w ∈ u_ws Cn T N, w ∈ lw_all) (ty0 : Nat → FieldType) (hty : ∀ k, k < N → parseFieldDescriptor (T k).2.2.1 = some (ty0 k)) (hnm : ∀ a, a < N → ∀ b, b < N → a ≠ b → (T a).2.1 ≠ (T b).2.1) (hc : gCl[ci]? = some (Cn, T, N)) (k : Nat) (hk : k < N) (hlink : Cond.fieldLink own index ref (T k).2.1 (T k).2.2.1 ∈ lw_all) (hsame : ∀ x, s.fieldFound? (T k).1 (T k).2.1 (T k).2.2.1 = some x → s.fieldFound? ref (T k).2.1 (T k).2.2.1 = some x) (hfin : (T k).2.2.2 = true) (hdecl : (T k).1 = own) {v : Value} (hn : narrow (ty0 k) v = v) (hfit : fits (ty0 k) v = true) (hl : k < fs.length) (hdg : decode cc pc = .ok (.putfield index, 3))
    (kk : ∀ (H1 : Heap) (locs1 : List Loc), gS E w0 (gSet w a (.inr (ci, fs.set k v))) H1 locs1 → W p l e R s m args below meth c H1 locs1 cells slots Q (F0 m (pc + 3) ls rest)) : W p l e R s m args below meth c H locs cells slots Q (F0 m pc ls (v :: .ref a :: rest)) := by
  have hap := va_apart (own := own) C.ts hin ty0 hty hnm C.K hc
  obtain ⟨r, h1, cell, q1, q2, q3, q4⟩ := hS.one hq 0 _ rfl
  have hr : r = (Cn, T, N) := Option.some.inj (h1.symm.trans hc)
  subst hr
  obtain ⟨hSl, hfc, kC, hkC, hkind⟩ := C.K.1 ci _ hc
  obtain ⟨cf, kf, fi, f, hi, hsl⟩ := hSl k hk
  have hlay := C.ts _ (hin _ (u_in_lay hk))
  unfold u_lay at hlay
  rw [if_pos hfin] at hlay
  have hst := (u_facts hfc hkC (u_lays C.ts hin hk) hi).1
  have hcf : m.cls = cf := by
    obtain ⟨_, _, c', _, _, _, -, -, hf', -, -, -, hown2, -⟩ := Cond.laysFinal_spec hlay
    have e1 : c' = cf := by have := hi.symm.trans hf'; simp at this; exact this.1.symm
    rw [hdecl] at hown2
    rw [← e1]; exact Option.some.inj (C.ow.symm.trans hown2)
  have h6 := u_fits hfc hkC hkind (Or.inr hlay) hi (hty k hk) hn hfit
  refine W.putFinK C.x C.b C.ow (C.ts _ hlink) (hsame _ hi) hst hcf C.nam (by rw [q2]; exact h6) q1 q3 (by rw [hsl]; exact k2_hasslot (q4 k hk)) rfl rfl hdg fun H' e1 e2 e3 => ?_
  rw [hsl] at e1 ⊢
  exact kk H' _ (hS.set hq ⟨_, hc, t_OB.to (V := updV (vp_V fs) k v) ⟨_, e1, q2, q3, t_set q4 hap hk v⟩ (fun j _ => vp_updV_set hl v j)⟩ e2 e3)
/-- ints of an array -/
theorem g_iald (C : gC p l s m args meth c cc nL ret own E tb nm) (hS : gS E w0 w H locs) {a n : Nat} {f : Nat → Int32} (hq : w.1 a = some (.inl (gT E 0, n, .inl f))) {i : Int32} (hin : vp_in i n) (hdg : decode cc pc = .ok (.iaload, 1))
    (kk : W p l e R s m args below meth c H locs cells slots Q (F0 m (pc + 1) ls (.int (f i.toNatClampNeg) :: rest))) : W p l e R s m args below meth c H locs cells slots Q (F0 m pc ls (.int i :: .ref a :: rest)) :=
  va_iald C.x C.b C.K (hS.one hq) 0 0 rfl rfl hin hdg kk
theorem g_iast (C : gC p l s m args meth c cc nL ret own E tb nm) (hS : gS E w0 w H locs) {a n : Nat} {f : Nat → Int32} (hq : w.1 a = some (.inl (gT E 0, n, .inl f))) {i x : Int32} (hin : vp_in i n) (hdg : decode cc pc = .ok (.iastore, 1))
    (kk : ∀ (H1 : Heap) (locs1 : List Loc), gS E w0 (gSet w a (.inl (gT E 0, n, .inl (upd f i.toNatClampNeg x)))) H1 locs1 → W p l e R s m args below meth c H1 locs1 cells slots Q (F0 m (pc + 1) ls rest)) : W p l e R s m args below meth c H locs cells slots Q (F0 m pc ls (.int x :: .int i :: .ref a :: rest)) := by
  refine W.iast C.x C.b (hS.one hq 0 _ rfl) ((C.K.2 0 _ rfl).1 n (fun j => .int (f j))) (fun q => by cases q) (by show ¬ (i < 0 ∨ (arrV _ _ _).slots.size ≤ _); rw [arrV_size]; exact hin) rfl rfl hdg fun H1 e z oq => ?_
  refine kk H1 _ (hS.set hq ?_ z oq)
  show H1[a]? = some (vp_cell _ _)
  rw [e]
  rw [vp_cell_i, vp_cell_i, arrV_store]
  congr 2
  funext q
  by_cases hq : q = i.toNatClampNeg
  · subst hq
    simp [updV, upd]
  · simp [updV, upd, hq]
theorem g_alen (C : gC p l s m args meth c cc nL ret own E tb nm) (hS : gS E w0 w H locs) {a : Nat} {cA : ClassId} {x : vp_A} (hq : w.1 a = some (.inl (cA, x))) (t0 : Nat) {ty : FieldType} (ht : (gTys E)[t0]? = some (cA, ty)) (hdg : decode cc pc = .ok (.arraylength, 1))
    (kk : W p l e R s m args below meth c H locs cells slots Q (F0 m (pc + 1) ls (.int (nI x.1) :: rest))) : W p l e R s m args below meth c H locs cells slots Q (F0 m pc ls (.ref a :: rest)) :=
  va_alen C.x C.b C.K (hS.one hq) 0 t0 rfl ht rfl hdg kk
/-- new C -/
theorem g_new (C : gC p l s m args meth c cc nL ret own E tb nm) (hS : gS E w0 w H locs) (ci : Nat) {Cn : String} {T : u_T} {N index : Nat} (hin : ∀ w ∈ u_ws Cn T N, w ∈ lw_all) (ty0 : Nat → FieldType) (hty : ∀ k, k < N → parseFieldDescriptor (T k).2.2.1 = some (ty0 k)) (hc : gCl[ci]? = some (Cn, T, N)) (hcl : Cond.classLink own index Cn ∈ lw_all) (hinst : Cond.instantiable Cn N ∈ lw_all) (hini : Cond.initialized Cn ∈ lw_all) (fs : List Value) (hfs : ∀ j, j < N → defaultValue (ty0 j) = vp_V fs j) (h1 : w.2.1 + 1 ≤ gLC E) (h2 : w.2.2 + N ≤ gLS E) (hdg : decode cc pc = .ok (.new index, 3))
    (kk : ∀ (H1 : Heap), gS E w0 (gNew w (.inr (ci, fs)) N) H1 locs → gGo p l e s m args below meth c H1 locs F Lc E w0 (gNew w (.inr (ci, fs)) N) Qn Qx (F0 m (pc + 3) ls (.ref w.2.1 :: rest))) : gGo p l e s m args below meth c H locs F Lc E w0 w Qn Qx (F0 m pc ls rest) := by
  have hKn := C.K.1 ci _ hc
  have hL := hS.2.2.1
  refine W.newcK C.x C.b C.ow (C.ts _ hcl) (C.ts _ hinst) (C.ts _ hini) rfl hdg (by show w.2.1 - w0.2.1 + 1 ≤ gLC E - w0.2.1; have := hL.1; omega) (by show w.2.2 - w0.2.2 + N ≤ gLS E - w0.2.2; have := hL.2; omega) hKn.2.1 hS.1.1 fun H1 kC hkC e1 z1 o1 => ?_
  have z0 := hS.1.1
  refine W.cs (cells' := (gNew w (.inr (ci, fs)) N).2.1 - w0.2.1) (slots' := (gNew w (.inr (ci, fs)) N).2.2 - w0.2.2) (by show w.2.1 - w0.2.1 + 1 = w.2.1 + 1 - w0.2.1; have := hL.1; omega) (by show w.2.2 - w0.2.2 + N = w.2.2 + N - w0.2.2; have := hL.2; omega) ?_
  refine kk H1 (hS.new ⟨_, hc, (u_born ty0 C.ts hin hKn hkC (by rw [z0]; exact e1) hty).to hfs⟩ (by rw [z0]; exact z1) (fun x hx => o1 x (by rw [← z0]; exact hx)) h1 h2)
/-- newarray -/
theorem g_newa (C : gC p l s m args meth c cc nL ret own E tb nm) (hS : gS E w0 w H locs) (t0 : Nat) {atype : ArrayType} {ty : FieldType} (hty : newarray.typeOf atype = ty) (hprim : ∀ Cn, ty ≠ .object Cn) (harr : Cond.arrayClass (newarray.typeOf atype) ∈ lw_all) (ht : (gTys E)[t0]? = some (gT E t0, ty)) {n : Int32} (a0 : vp_A) (ha : ∀ cA : ClassId, vp_cell cA a0 = arrV cA n.toNatClampNeg (fun _ => defaultValue ty)) (hn : ¬ n < 0) (hbytes : n.toNatClampNeg * componentBytes ty ≤ 536870912) (h1 : w.2.1 + 1 ≤ gLC E) (h2 : w.2.2 + n.toNatClampNeg ≤ gLS E) (hdg : decode cc pc = .ok (.newarray atype, 2))
    (kk : ∀ (H1 : Heap), gS E w0 (gNew w (.inl (gT E t0, a0)) n.toNatClampNeg) H1 locs → gGo p l e s m args below meth c H1 locs F Lc E w0 (gNew w (.inl (gT E t0, a0)) n.toNatClampNeg) Qn Qx (F0 m (pc + 2) ls (.ref w.2.1 :: rest))) : gGo p l e s m args below meth c H locs F Lc E w0 w Qn Qx (F0 m pc ls (.int n :: rest)) := by
  subst hty
  have hL := hS.2.2.1
  have z0 := hS.1.1
  refine va_newaK C.x C.b (C.ts _ harr) rfl hdg rfl hn rfl hbytes (by show w.2.1 - w0.2.1 + 1 ≤ gLC E - w0.2.1; have := hL.1; omega) (by show w.2.2 - w0.2.2 + _ ≤ gLS E - w0.2.2; have := hL.2; omega) z0 fun H1 cA e1 z1 o1 hAr hNm => ?_
  have hcA : cA = gT E t0 := by
    have h9 := (C.K.2 t0 _ ht).2
    revert h9 hprim
    generalize newarray.typeOf atype = ty at hNm
    intro hprim h9
    cases ty <;> first | exact Option.some.inj (hNm.symm.trans h9) | exact absurd rfl (hprim _)
  subst hcA
  refine W.cs (cells' := (gNew w (.inl (gT E t0, a0)) n.toNatClampNeg).2.1 - w0.2.1) (slots' := (gNew w (.inl (gT E t0, a0)) n.toNatClampNeg).2.2 - w0.2.2) (by show w.2.1 - w0.2.1 + 1 = w.2.1 + 1 - w0.2.1; have := hL.1; omega) (by show w.2.2 - w0.2.2 + _ = w.2.2 + _ - w0.2.2; have := hL.2; omega) ?_
  refine kk H1 (hS.new ?_ (by rw [z0]; exact z1) (fun x hx => o1 x (by rw [← z0]; exact hx)) h1 h2)
  show H1[H.size]? = some (vp_cell _ _)
  rw [ha, z0]
  exact e1
/-- the ends -/
theorem g_ofMQ {Qc : Array Value → State → Outcome → State → Prop} {v : Option Value} {g : JFrame} (hS : gS E w0 w H locs) (hq : Qn v w) (k : W p l e R s m args below meth c H locs (w.2.1 - w0.2.1) (w.2.2 - w0.2.2) (MQ below (fun _ _ o t => o = .returned v ∧ t.heap = H) args s (w.2.1 - w0.2.1) (w.2.2 - w0.2.2) (fun q => gB E ≤ q)) g) :
    W p l e R s m args below meth c H locs (w.2.1 - w0.2.1) (w.2.2 - w0.2.2) (gMQ below E w0 Qn Qx args s) g := by
  intro T hT X
  obtain ⟨t, a1, o, b1, b2, ⟨rfl, b4⟩, L, b5, b6⟩ := k T hT X
  exact ⟨t, a1, _, b1, b2, w, by rw [b4]; exact hS.1, hS.2.1, hS.2.2.1, Or.inl ⟨v, L, rfl, hq, b5, b6⟩⟩
theorem g_iret (C : gC p l s m args meth c cc nL (some .int) own E tb nm) (hS : gS E w0 w H locs) {v : Int32} (hq : Qn (some (.int v)) w) (hdg : decode cc pc = .ok (.ireturn, 1)) : gGo p l e s m args below meth c H locs F Lc E w0 w Qn Qx (F0 m pc ls [.int v]) :=
  g_ofMQ (Qc := fun _ _ _ _ => True) hS hq (W.iret C.x C.b C.r (fun t ht _ => ⟨rfl, ht⟩) hS.2.2.2 hdg C.lk)
theorem g_zret (C : gC p l s m args meth c cc nL (some .boolean) own E tb nm) (hS : gS E w0 w H locs) {v : Int32} (hn : narrow .boolean (.int v) = .int v) (hq : Qn (some (.int v)) w) (hdg : decode cc pc = .ok (.ireturn, 1)) : gGo p l e s m args below meth c H locs F Lc E w0 w Qn Qx (F0 m pc ls [.int v]) :=
  g_ofMQ (Qc := fun _ _ _ _ => True) hS hq (W.zret C.x C.b C.r hn (fun t ht _ => ⟨rfl, ht⟩) hS.2.2.2 hdg C.lk)
theorem g_vret (C : gC p l s m args meth c cc nL none own E tb nm) (hS : gS E w0 w H locs) (hq : Qn none w) (hdg : decode cc pc = .ok (.return_, 1)) : gGo p l e s m args below meth c H locs F Lc E w0 w Qn Qx (F0 m pc ls []) :=
  g_ofMQ (Qc := fun _ _ _ _ => True) hS hq (W.vret C.x C.b C.r (fun t ht _ => ⟨rfl, ht⟩) hS.2.2.2 hdg C.lk)
theorem g_lret (C : gC p l s m args meth c cc nL (some .long) own E tb nm) (hS : gS E w0 w H locs) {v : Int64} (hq : Qn (some (.long v)) w) (hdg : decode cc pc = .ok (.lreturn, 1)) : gGo p l e s m args below meth c H locs F Lc E w0 w Qn Qx (F0 m pc ls [.long v]) :=
  g_ofMQ (Qc := fun _ _ _ _ => True) hS hq (W.lret C.x C.b C.r (fun t ht _ => ⟨rfl, ht⟩) hS.2.2.2 hdg C.lk)
theorem g_aret {rt : FieldType} (C : gC p l s m args meth c cc nL (some rt) own E tb nm) (hrt : (∃ n, rt = .object n) ∨ ∃ t, rt = .array t) (hS : gS E w0 w H locs) {r : Option Nat} (hq : Qn (some (va_rf r)) w) (hdg : decode cc pc = .ok (.areturn, 1)) : gGo p l e s m args below meth c H locs F Lc E w0 w Qn Qx (F0 m pc ls [va_rf r]) :=
  g_ofMQ (Qc := fun _ _ _ _ => True) hS hq (W.aret C.x C.b C.r hrt (va_rf_or r) (fun t ht _ => ⟨rfl, ht⟩) hS.2.2.2 hdg C.lk)
/-- not caught here -/
theorem g_out (C : gC p l s m args meth c cc nL ret own E tb nm) (hS : gS E w0 w H locs) {X : String} {ce : Cell} {q : Addr} (hout : ∀ x ∈ tb, covers x pc = false) (hcell : H[q]? = some ce) (hv : ce.vm = .none) (hcl : s.vm.findClass X = some ce.cls) (hx : Qx X w) :
    vx_W p l e (gRm F Lc E w0) s m args below meth c H locs (w.2.1 - w0.2.1) (w.2.2 - w0.2.2) (gMQ below E w0 Qn Qx args s) (F0 m pc ls rest) q := by
  have k := vx_out (p := p) (l := l) (e := e) (R := gRm F Lc E w0) (args := args) (below := below) (rest := rest) (ls := ls) (Qc := fun _ _ _ _ => False) (XC := fun E' _ t => E' = X ∧ t.heap = H) (mc := w.2.1 - w0.2.1) (ms := w.2.2 - w0.2.2) (free := fun z => gB E ≤ z) (m := m) (meth := meth) (c := c) (s := s) (H := H) (locs := locs) (cells := w.2.1 - w0.2.1) (slots := w.2.2 - w0.2.2) (pc := pc) (E := X) (ce := ce) (q := q) (by rw [C.tbl]; exact hout) C.lk hcell hv hcl (fun _ h _ => ⟨rfl, h⟩) hS.2.2.2 (Nat.le_refl _) (Nat.le_refl _)
  intro T hT Y
  obtain ⟨t, a1, o, b1, b2, b3⟩ := k T hT Y
  rcases b3 with ⟨hf, -⟩ | ⟨q1, rfl, E1, ce1, L1, ⟨rfl, hth⟩, b4⟩
  · exact hf.elim
  · exact ⟨t, a1, _, b1, b2, w, by rw [hth]; exact hS.1, hS.2.1, hS.2.2.1, Or.inr ⟨q1, _, rfl, hx, _, ce1, L1, rfl, b4⟩⟩
end GFa
