/-! ROWS over any world: each takes what the wp says of its step (hw) and hands on what is left of it -/
/-- what lies at a: a cell of the world, or an object of the start's that no method writes -/
def gAt0 (E : gE) (a : Nat) (x : va_E) : Prop := match x with
  | .inl _ => False
  | .inr o => ∃ r : vw_C, gCl[o.1]? = some r ∧ ∃ cell : Cell, (gH0 E)[a]? = some cell ∧ cell.cls = (gD E).1 o.1 ∧ cell.vm.isStatics = false ∧ cell.vm ≠ .unknown ∧ ∀ k, k < r.2.2 → cell.slots[(gD E).2 o.1 k]? = some (vp_V o.2 k)
def gAt (E : gE) (w : gW) (a : Nat) (x : va_E) : Prop := w.1 a = some x ∨ (a < gB E ∧ gAt0 E a x)
theorem gAt.P {E : gE} {w : gW} {H : Heap} (h : gRep E w H) {a : Nat} {x : vp_A} {cA : ClassId} (ha : gAt E w a (.inl (cA, x))) : va_P (gD E) gCl [(a, .inl (cA, x))] H := by
  rcases ha with ha | ⟨h1, h2⟩
  · exact h.one ha
  · exact h2.elim
theorem gAt.O {E : gE} {w : gW} {H : Heap} (h : gRep E w H) {a ci : Nat} {fs : List Value} (ha : gAt E w a (.inr (ci, fs))) : ∃ r : vw_C, gCl[ci]? = some r ∧ ∃ cell : Cell, H[a]? = some cell ∧ cell.cls = (gD E).1 ci ∧ cell.vm.isStatics = false ∧ cell.vm ≠ .unknown ∧ ∀ k, k < r.2.2 → cell.slots[(gD E).2 ci k]? = some (vp_V fs k) := by
  rcases ha with ha | ⟨h1, r, h2, cell, h3, h4⟩
  · obtain ⟨r, q1, cell, q2, q3, q4, q5⟩ := h.one ha 0 _ rfl
    exact ⟨r, q1, cell, q2, q3, by rw [q4]; rfl, (by rw [q4]; exact fun h => (by cases h)), q5⟩
  · exact ⟨r, h2, cell, by rw [h.2.2.1 a h1]; exact h3, h4⟩
def gWf (w : gW) : Prop := ∀ q e, w.1 q = some e → q < w.2.1
theorem gS.wf {E : gE} {w0 w : gW} {H : Heap} {locs : List Loc} (h : gS E w0 w H locs) : gWf w := fun _ _ hq => h.lt hq
/-- kinds of arrays by number -/
def gTy : Nat → FieldType := fun k => match k with
  | 0 => .int
  | 1 => .byte
  | 2 => .boolean
  | 3 => .object "java/lang/Object"
  | 4 => .object "BridgeAuction$Network"
  | _ => .long
theorem gTys_at {E : gE} : ∀ k, k < 6 → (gTys E)[k]? = some (gT E k, gTy k) := by
  intro k hk
  match k, hk with
  | 0, _ => rfl
  | 1, _ => rfl
  | 2, _ => rfl
  | 3, _ => rfl
  | 4, _ => rfl
  | 5, _ => rfl
theorem gAt.recv {E : gE} {w : gW} {H : Heap} {s : State} (hK : gK E s) (h : gRep E w H) {a ci : Nat} {fs : List Value} {q : vw_C} (ha : gAt E w a (.inr (ci, fs))) (hc : gCl[ci]? = some q) : ∃ cell : Cell, H[a]? = some cell ∧ cell.vm.isStatics = false ∧ s.vm.findClass q.1 = some cell.cls := by
  obtain ⟨r, h1, cell, h2, h3, h4, -⟩ := ha.O h
  exact ⟨cell, h2, h4, by rw [h3]; exact (hK.1.1 ci q hc).2.1⟩
def aI (E : gE) (a ci k : Nat) (K : Int32 → Prop) (w : gW) : Prop := ∃ (fs : List Value) (v : Int32), gAt E w a (.inr (ci, fs)) ∧ fs[k]? = some (.int v) ∧ K v
def aR (E : gE) (a ci k : Nat) (K : Option Nat → Prop) (w : gW) : Prop := ∃ (fs : List Value) (r : Option Nat), gAt E w a (.inr (ci, fs)) ∧ fs[k]? = some (va_rf r) ∧ K r
def aP (a ci k : Nat) (v : Value) (K : gW → Prop) (w : gW) : Prop := ∃ fs : List Value, w.1 a = some (.inr (ci, fs)) ∧ k < fs.length ∧ K (gSet w a (.inr (ci, fs.set k v)))
/-- an array of ints, bytes or booleans: one of the world, or one of the start's that is only read -/
def gAtL (E : gE) (w : gW) (t a n : Nat) (f : Nat → Int32) : Prop := gAt E w a (.inl (gT E t, n, .inl f)) ∨ ∀ U : State, gZ E U → va_T (gTy t) a n (fun j => .int (f j)) (fun q => gB E ≤ q) U (gH0 E)
def gAtN (E : gE) (w : gW) (a n : Nat) : Prop := (∃ (t : Nat) (x : (Nat → Int32) ⊕ (Nat → Int64) ⊕ (Nat → UInt32) ⊕ (Nat → UInt64) ⊕ (Nat → Option Nat)), t < 6 ∧ gAt E w a (.inl (gT E t, n, x))) ∨ ∃ (ty : FieldType) (f : Nat → Value), ∀ U : State, gZ E U → va_T ty a n f (fun q => gB E ≤ q) U (gH0 E)
def aL (E : gE) (t a : Nat) (i : Int32) (K : Int32 → Prop) (w : gW) : Prop := ∃ (n : Nat) (f : Nat → Int32), gAtL E w t a n f ∧ vp_in i n ∧ K (f i.toNatClampNeg)
def aS (E : gE) (t a : Nat) (i x : Int32) (K : gW → Prop) (w : gW) : Prop := ∃ (n : Nat) (f : Nat → Int32), w.1 a = some (.inl (gT E t, n, .inl f)) ∧ vp_in i n ∧ K (gSet w a (.inl (gT E t, n, .inl (upd f i.toNatClampNeg (vp_nar (gTy t) x)))))
def aLj (E : gE) (a : Nat) (i : Int32) (K : Int64 → Prop) (w : gW) : Prop := ∃ (n : Nat) (f : Nat → Int64), gAt E w a (.inl (gT E 5, n, .inr (.inl f))) ∧ vp_in i n ∧ K (f i.toNatClampNeg)
def aSj (E : gE) (a : Nat) (i : Int32) (x : Int64) (K : gW → Prop) (w : gW) : Prop := ∃ (n : Nat) (f : Nat → Int64), w.1 a = some (.inl (gT E 5, n, .inr (.inl f))) ∧ vp_in i n ∧ K (gSet w a (.inl (gT E 5, n, .inr (.inl (vp_updL f i.toNatClampNeg x)))))
def aLr (E : gE) (t a : Nat) (i : Int32) (K : Option Nat → Prop) (w : gW) : Prop := ∃ (n : Nat) (f : Nat → Option Nat), gAt E w a (.inl (gT E t, n, .inr (.inr (.inr (.inr f))))) ∧ vp_in i n ∧ K (f i.toNatClampNeg)
/-- what an array of kind 3 (Object) or 4 (Network) may hold -/
def gElem (E : gE) (w : gW) (t : Nat) (r : Option Nat) : Prop := r = none ∨ ∃ (v ci : Nat) (fs : List Value), r = some v ∧ gAt E w v (.inr (ci, fs)) ∧ ci < 11 ∧ (t = 4 → ci = 1)
def aSr (E : gE) (t a : Nat) (i : Int32) (r : Option Nat) (K : gW → Prop) (w : gW) : Prop := ∃ (n : Nat) (f : Nat → Option Nat), w.1 a = some (.inl (gT E t, n, .inr (.inr (.inr (.inr f))))) ∧ vp_in i n ∧ gElem E w t r ∧ K (gSet w a (.inl (gT E t, n, .inr (.inr (.inr (.inr (va_up f i.toNatClampNeg r)))))))
def aLen (E : gE) (a : Nat) (K : Int32 → Prop) (w : gW) : Prop := ∃ n : Nat, gAtN E w a n ∧ K (nI n)
def aN (E : gE) (ci N : Nat) (fs : List Value) (K : Nat → gW → Prop) (w : gW) : Prop := w.2.1 + 1 ≤ gLC E ∧ w.2.2 + N ≤ gLS E ∧ (gWf w → gB E ≤ w.2.1 → K w.2.1 (gNew w (.inr (ci, fs)) N))
def aA (E : gE) (t : Nat) (n : Int32) (K : Nat → gW → Prop) (w : gW) : Prop := ¬ n < 0 ∧ n.toNatClampNeg ≤ 100000 ∧ w.2.1 + 1 ≤ gLC E ∧ w.2.2 + n.toNatClampNeg ≤ gLS E ∧ (gWf w → gB E ≤ w.2.1 → K w.2.1 (gNew w (.inl (gT E t, n.toNatClampNeg, .inl (fun _ => 0))) n.toNatClampNeg))
def aAj (E : gE) (n : Int32) (K : Nat → gW → Prop) (w : gW) : Prop := ¬ n < 0 ∧ n.toNatClampNeg ≤ 100000 ∧ w.2.1 + 1 ≤ gLC E ∧ w.2.2 + n.toNatClampNeg ≤ gLS E ∧ (gWf w → gB E ≤ w.2.1 → K w.2.1 (gNew w (.inl (gT E 5, n.toNatClampNeg, .inr (.inl (fun _ => 0)))) n.toNatClampNeg))
def aAr (E : gE) (t : Nat) (n : Int32) (K : Nat → gW → Prop) (w : gW) : Prop := ¬ n < 0 ∧ n.toNatClampNeg ≤ 100000 ∧ w.2.1 + 1 ≤ gLC E ∧ w.2.2 + n.toNatClampNeg ≤ gLS E ∧ (gWf w → gB E ≤ w.2.1 → K w.2.1 (gNew w (.inl (gT E t, n.toNatClampNeg, .inr (.inr (.inr (.inr (fun _ => none)))))) n.toNatClampNeg))
def gSt (E : gE) (C n d : String) (v : Value) : Prop := ∀ U : State, gZ E U → va_Z C n d v (fun q => gB E ≤ q) U (gH0 E)
def aGs (E : gE) (C n d : String) (K : Int32 → Prop) : Prop := ∃ v : Int32, gSt E C n d (.int v) ∧ K v
def aGr (E : gE) (C n d : String) (K : Option Nat → Prop) : Prop := ∃ r : Option Nat, gSt E C n d (va_rf r) ∧ K r
def aStr (E : gE) (own : String) (k : Nat) (tx : String) (K : Nat → Prop) : Prop := ∃ a : Nat, (∀ U : State, gZ E U → vk_R own k tx a U) ∧ K a
def aKind (E : gE) (a ci : Nat) (K : Prop) (w : gW) : Prop := ∃ fs : List Value, gAt E w a (.inr (ci, fs)) ∧ K
theorem g_castO : ∀ (ci : Nat) (r : vw_C), gCl[ci]? = some r → Cond.castable r.1 "java/lang/Object" ∈ lw_tbl := by
  intro ci r h
  match ci, h with
  | 0, h => cases h; exact q1871
  | 1, h => cases h; exact q1870
  | 2, h => cases h; exact q1873
  | 3, h => cases h; exact q1874
  | 4, h => cases h; exact q1875
  | 5, h => cases h; exact q1877
  | 6, h => cases h; exact q1878
  | 7, h => cases h; exact q1882
  | 8, h => cases h; exact q1872
  | 9, h => cases h; exact q1883
  | 10, h => cases h; exact q1884
  | n + 11, h => simp at h
theorem va_rf_nar {C : String} {r : Option Nat} : narrow (.object C) (va_rf r) = va_rf r := by cases r <;> rfl
theorem va_rf_fit {C : String} {r : Option Nat} : fits (.object C) (va_rf r) = true := by cases r <;> rfl
theorem va_rf_narA {t : FieldType} {r : Option Nat} : narrow (.array t) (va_rf r) = va_rf r := by cases r <;> rfl
theorem va_rf_fitA {t : FieldType} {r : Option Nat} : fits (.array t) (va_rf r) = true := by cases r <;> rfl
section GFd
variable {p : Program} {l : Launch} {e : Env} {R : Room} {s : State} {m : MethodId} {args : Array Value} {below : List Frame} {meth : Method} {c : Code} {H : Heap} {locs : List Loc} {cells slots : Nat} {Q : State → Prop}
variable {cc : ByteArray} {pc nL : Nat} {ls : Array Slot} {rest st0 : List Value} {ret : Option FieldType} {own nm : String} {E : gE} {tb : List ExceptionTableEntry} {w0 w : gW} {F Lc : Nat} {Qn Qn2 : Option Value → gW → Prop} {Qx Qx2 : String → gW → Prop} {a : Nat}
theorem a_I (C : gC p l s m args meth c cc nL ret own E tb nm) (hS : gS E w0 w H locs) {ci : Nat} {ref Cn : String} {T : u_T} {N index : Nat} (hin : ∀ w ∈ u_ws Cn T N, w ∈ lw_all) (hc : gCl[ci]? = some (Cn, T, N)) {k : Nat} (hk : k < N) (hlink : Cond.fieldLink own index ref (T k).2.1 (T k).2.2.1 ∈ lw_all) (hsame : ∀ x, s.fieldFound? (T k).1 (T k).2.1 (T k).2.2.1 = some x → s.fieldFound? ref (T k).2.1 (T k).2.2.1 = some x) (hdg : decode cc pc = .ok (.getfield index, 3)) {K : Int32 → Prop} (hw : aI E a ci k K w)
    (kk : ∀ v : Int32, K v → W p l e R s m args below meth c H locs cells slots Q (F0 m (pc + 3) ls (.int v :: rest))) : W p l e R s m args below meth c H locs cells slots Q (F0 m pc ls (.ref a :: rest)) := by
  obtain ⟨fs, v, h1, h2, h3⟩ := hw
  obtain ⟨r9, e9, cell, q1, q2, q3, q4, q5⟩ := h1.O hS.1
  cases hc.symm.trans e9
  obtain ⟨hSl, hfc, kC, hkC, hkind⟩ := C.K.1 ci _ hc
  obtain ⟨cf, kf, fi, f, hi, hsl⟩ := hSl k hk
  refine W.getf C.x C.b C.ow (C.ts _ hlink) (hsame _ hi) (u_facts hfc hkC (u_lays C.ts hin hk) hi).1 q1 q4 (v := _) ?_ rfl rfl hdg (kk v h3)
  rw [hsl, q5 k hk]
  simp [vp_V, h2]
theorem a_IN (C : gC p l s m args meth c cc nL ret own E tb nm) (hS : gS E w0 w H locs) {ci : Nat} {ref Cn host : String} {T : u_T} {N index : Nat} (hin : ∀ w ∈ u_ws Cn T N, w ∈ lw_all) (hc : gCl[ci]? = some (Cn, T, N)) {k : Nat} (hk : k < N) (hlink : Cond.fieldLinkNest own index ref (T k).2.1 (T k).2.2.1 host ∈ lw_tbl) (hsame : ∀ x, s.fieldFound? (T k).1 (T k).2.1 (T k).2.2.1 = some x → s.fieldFound? ref (T k).2.1 (T k).2.2.1 = some x) (hdg : decode cc pc = .ok (.getfield index, 3)) {K : Int32 → Prop} (hw : aI E a ci k K w)
    (kk : ∀ v : Int32, K v → W p l e R s m args below meth c H locs cells slots Q (F0 m (pc + 3) ls (.int v :: rest))) : W p l e R s m args below meth c H locs cells slots Q (F0 m pc ls (.ref a :: rest)) := by
  obtain ⟨fs, v, h1, h2, h3⟩ := hw
  obtain ⟨r9, e9, cell, q1, q2, q3, q4, q5⟩ := h1.O hS.1
  cases hc.symm.trans e9
  obtain ⟨hSl, hfc, kC, hkC, hkind⟩ := C.K.1 ci _ hc
  obtain ⟨cf, kf, fi, f, hi, hsl⟩ := hSl k hk
  refine va_Wgetf C.x C.b C.ow (va_Nw.use rfl (C.nw hlink rfl)) (hsame _ hi) (u_facts hfc hkC (u_lays C.ts hin hk) hi).1 q1 q4 (v := _) ?_ rfl rfl hdg (kk v h3)
  rw [hsl, q5 k hk]
  simp [vp_V, h2]
theorem a_R (C : gC p l s m args meth c cc nL ret own E tb nm) (hS : gS E w0 w H locs) {ci : Nat} {ref Cn : String} {T : u_T} {N index : Nat} (hin : ∀ w ∈ u_ws Cn T N, w ∈ lw_all) (hc : gCl[ci]? = some (Cn, T, N)) {k : Nat} (hk : k < N) (hlink : Cond.fieldLink own index ref (T k).2.1 (T k).2.2.1 ∈ lw_all) (hsame : ∀ x, s.fieldFound? (T k).1 (T k).2.1 (T k).2.2.1 = some x → s.fieldFound? ref (T k).2.1 (T k).2.2.1 = some x) (hdg : decode cc pc = .ok (.getfield index, 3)) {K : Option Nat → Prop} (hw : aR E a ci k K w)
    (kk : ∀ r : Option Nat, K r → W p l e R s m args below meth c H locs cells slots Q (F0 m (pc + 3) ls (va_rf r :: rest))) : W p l e R s m args below meth c H locs cells slots Q (F0 m pc ls (.ref a :: rest)) := by
  obtain ⟨fs, v, h1, h2, h3⟩ := hw
  obtain ⟨r9, e9, cell, q1, q2, q3, q4, q5⟩ := h1.O hS.1
  cases hc.symm.trans e9
  obtain ⟨hSl, hfc, kC, hkC, hkind⟩ := C.K.1 ci _ hc
  obtain ⟨cf, kf, fi, f, hi, hsl⟩ := hSl k hk
  refine W.getf C.x C.b C.ow (C.ts _ hlink) (hsame _ hi) (u_facts hfc hkC (u_lays C.ts hin hk) hi).1 q1 q4 (v := _) ?_ rfl rfl hdg (kk v h3)
  rw [hsl, q5 k hk]
  simp [vp_V, h2]
theorem a_RN (C : gC p l s m args meth c cc nL ret own E tb nm) (hS : gS E w0 w H locs) {ci : Nat} {ref Cn host : String} {T : u_T} {N index : Nat} (hin : ∀ w ∈ u_ws Cn T N, w ∈ lw_all) (hc : gCl[ci]? = some (Cn, T, N)) {k : Nat} (hk : k < N) (hlink : Cond.fieldLinkNest own index ref (T k).2.1 (T k).2.2.1 host ∈ lw_tbl) (hsame : ∀ x, s.fieldFound? (T k).1 (T k).2.1 (T k).2.2.1 = some x → s.fieldFound? ref (T k).2.1 (T k).2.2.1 = some x) (hdg : decode cc pc = .ok (.getfield index, 3)) {K : Option Nat → Prop} (hw : aR E a ci k K w)
    (kk : ∀ r : Option Nat, K r → W p l e R s m args below meth c H locs cells slots Q (F0 m (pc + 3) ls (va_rf r :: rest))) : W p l e R s m args below meth c H locs cells slots Q (F0 m pc ls (.ref a :: rest)) := by
  obtain ⟨fs, v, h1, h2, h3⟩ := hw
  obtain ⟨r9, e9, cell, q1, q2, q3, q4, q5⟩ := h1.O hS.1
  cases hc.symm.trans e9
  obtain ⟨hSl, hfc, kC, hkC, hkind⟩ := C.K.1 ci _ hc
  obtain ⟨cf, kf, fi, f, hi, hsl⟩ := hSl k hk
  refine va_Wgetf C.x C.b C.ow (va_Nw.use rfl (C.nw hlink rfl)) (hsame _ hi) (u_facts hfc hkC (u_lays C.ts hin hk) hi).1 q1 q4 (v := _) ?_ rfl rfl hdg (kk v h3)
  rw [hsl, q5 k hk]
  simp [vp_V, h2]
theorem a_P (C : gC p l s m args meth c cc nL ret own E tb nm) (hS : gS E w0 w H locs) {ci : Nat} {ref Cn : String} {T : u_T} {N index : Nat} (hin : ∀ w ∈ u_ws Cn T N, w ∈ lw_all) (ty0 : Nat → FieldType) (hty : ∀ k, k < N → parseFieldDescriptor (T k).2.2.1 = some (ty0 k)) (hnm : ∀ a, a < N → ∀ b, b < N → a ≠ b → (T a).2.1 ≠ (T b).2.1) (hc : gCl[ci]? = some (Cn, T, N)) {k : Nat} (hk : k < N) (hlink : Cond.fieldLink own index ref (T k).2.1 (T k).2.2.1 ∈ lw_all) (hsame : ∀ x, s.fieldFound? (T k).1 (T k).2.1 (T k).2.2.1 = some x → s.fieldFound? ref (T k).2.1 (T k).2.2.1 = some x) (hfin : (T k).2.2.2 = false) {v : Value} (hn : narrow (ty0 k) v = v) (hfit : fits (ty0 k) v = true) (hdg : decode cc pc = .ok (.putfield index, 3)) {K : gW → Prop} (hw : aP a ci k v K w)
    (kk : ∀ (w1 : gW) (H1 : Heap) (locs1 : List Loc), K w1 → gS E w0 w1 H1 locs1 → gGo p l e s m args below meth c H1 locs1 F Lc E w0 w1 Qn Qx (F0 m (pc + 3) ls rest)) : gGo p l e s m args below meth c H locs F Lc E w0 w Qn Qx (F0 m pc ls (v :: .ref a :: rest)) := by
  obtain ⟨fs, h1, h2, h3⟩ := hw
  exact g_put C hS h1 hin ty0 hty hnm hc k hk hlink hsame hfin hn hfit h2 hdg (fun H1 locs1 h => kk (gSet w a (.inr (ci, fs.set k v))) H1 locs1 h3 h)
theorem a_PN (C : gC p l s m args meth c cc nL ret own E tb nm) (hS : gS E w0 w H locs) {ci : Nat} {ref Cn host : String} {T : u_T} {N index : Nat} (hin : ∀ w ∈ u_ws Cn T N, w ∈ lw_all) (ty0 : Nat → FieldType) (hty : ∀ k, k < N → parseFieldDescriptor (T k).2.2.1 = some (ty0 k)) (hnm : ∀ a, a < N → ∀ b, b < N → a ≠ b → (T a).2.1 ≠ (T b).2.1) (hc : gCl[ci]? = some (Cn, T, N)) {k : Nat} (hk : k < N) (hlink : Cond.fieldLinkNest own index ref (T k).2.1 (T k).2.2.1 host ∈ lw_tbl) (hsame : ∀ x, s.fieldFound? (T k).1 (T k).2.1 (T k).2.2.1 = some x → s.fieldFound? ref (T k).2.1 (T k).2.2.1 = some x) (hfin : (T k).2.2.2 = false) {v : Value} (hn : narrow (ty0 k) v = v) (hfit : fits (ty0 k) v = true) (hdg : decode cc pc = .ok (.putfield index, 3)) {K : gW → Prop} (hw : aP a ci k v K w)
    (kk : ∀ (w1 : gW) (H1 : Heap) (locs1 : List Loc), K w1 → gS E w0 w1 H1 locs1 → gGo p l e s m args below meth c H1 locs1 F Lc E w0 w1 Qn Qx (F0 m (pc + 3) ls rest)) : gGo p l e s m args below meth c H locs F Lc E w0 w Qn Qx (F0 m pc ls (v :: .ref a :: rest)) := by
  obtain ⟨fs, h1, h2, h3⟩ := hw
  exact g_putN C hS h1 hin ty0 hty hnm hc k hk hlink hsame hfin hn hfit h2 hdg (fun H1 locs1 h => kk (gSet w a (.inr (ci, fs.set k v))) H1 locs1 h3 h)
theorem a_PF (C : gC p l s m args meth c cc nL ret own E tb "<init>") (hS : gS E w0 w H locs) {ci : Nat} {ref Cn : String} {T : u_T} {N index : Nat} (hin : ∀ w ∈ u_ws Cn T N, w ∈ lw_all) (ty0 : Nat → FieldType) (hty : ∀ k, k < N → parseFieldDescriptor (T k).2.2.1 = some (ty0 k)) (hnm : ∀ a, a < N → ∀ b, b < N → a ≠ b → (T a).2.1 ≠ (T b).2.1) (hc : gCl[ci]? = some (Cn, T, N)) {k : Nat} (hk : k < N) (hlink : Cond.fieldLink own index ref (T k).2.1 (T k).2.2.1 ∈ lw_all) (hsame : ∀ x, s.fieldFound? (T k).1 (T k).2.1 (T k).2.2.1 = some x → s.fieldFound? ref (T k).2.1 (T k).2.2.1 = some x) (hfin : (T k).2.2.2 = true) (hdecl : (T k).1 = own) {v : Value} (hn : narrow (ty0 k) v = v) (hfit : fits (ty0 k) v = true) (hdg : decode cc pc = .ok (.putfield index, 3)) {K : gW → Prop} (hw : aP a ci k v K w)
    (kk : ∀ (w1 : gW) (H1 : Heap) (locs1 : List Loc), K w1 → gS E w0 w1 H1 locs1 → gGo p l e s m args below meth c H1 locs1 F Lc E w0 w1 Qn Qx (F0 m (pc + 3) ls rest)) : gGo p l e s m args below meth c H locs F Lc E w0 w Qn Qx (F0 m pc ls (v :: .ref a :: rest)) := by
  obtain ⟨fs, h1, h2, h3⟩ := hw
  exact g_putF C hS h1 hin ty0 hty hnm hc k hk hlink hsame hfin hdecl hn hfit h2 hdg (fun H1 locs1 h => kk (gSet w a (.inr (ci, fs.set k v))) H1 locs1 h3 h)
theorem a_Li (C : gC p l s m args meth c cc nL ret own E tb nm) (hS : gS E w0 w H locs) {i : Int32} (hdg : decode cc pc = .ok (.iaload, 1)) {K : Int32 → Prop} (hw : aL E 0 a i K w)
    (kk : ∀ v : Int32, K v → W p l e R s m args below meth c H locs cells slots Q (F0 m (pc + 1) ls (.int v :: rest))) : W p l e R s m args below meth c H locs cells slots Q (F0 m pc ls (.int i :: .ref a :: rest)) := by
  obtain ⟨n, f, h1, h2, h3⟩ := hw
  rcases h1 with h1 | h1
  · exact va_iald C.x C.b C.K (gAt.P hS.1 h1) 0 0 rfl rfl h2 hdg (kk _ h3)
  · obtain ⟨scr, q1, q2, q3, q4, q6, q5, q7⟩ := h1 s C.k.2.2
    have hb9 : a < gB E := Nat.not_le.mp q7
    have hlt9 : i.toNatClampNeg < n := Nat.not_le.mp fun q => h2 (Or.inr q)
    exact W.iald (v := .int (f i.toNatClampNeg)) C.x C.b (by rw [hS.1.2.2.1 a hb9]; exact q1) q2 q3 (fun q => by
      rcases q with q | q
      · exact h2 (Or.inl q)
      · omega) (q5 _ hlt9) rfl rfl hdg (kk _ h3)
theorem a_Lb (C : gC p l s m args meth c cc nL ret own E tb nm) (hS : gS E w0 w H locs) {i : Int32} (hdg : decode cc pc = .ok (.baload, 1)) {K : Int32 → Prop} (hw : aL E 1 a i K w)
    (kk : ∀ v : Int32, K v → W p l e R s m args below meth c H locs cells slots Q (F0 m (pc + 1) ls (.int v :: rest))) : W p l e R s m args below meth c H locs cells slots Q (F0 m pc ls (.int i :: .ref a :: rest)) := by
  obtain ⟨n, f, h1, h2, h3⟩ := hw
  rcases h1 with h1 | h1
  · exact va_bald C.x C.b C.K (gAt.P hS.1 h1) 0 1 rfl rfl h2 hdg (kk _ h3)
  · obtain ⟨scr, q1, q2, q3, q4, q6, q5, q7⟩ := h1 s C.k.2.2
    have hb9 : a < gB E := Nat.not_le.mp q7
    have hlt9 : i.toNatClampNeg < n := Nat.not_le.mp fun q => h2 (Or.inr q)
    exact W.bald (v := .int (f i.toNatClampNeg)) C.x C.b (by rw [hS.1.2.2.1 a hb9]; exact q1) q2 q3 (fun q => by
      rcases q with q | q
      · exact h2 (Or.inl q)
      · omega) (q5 _ hlt9) rfl rfl hdg (kk _ h3)
theorem a_Lz (C : gC p l s m args meth c cc nL ret own E tb nm) (hS : gS E w0 w H locs) {i : Int32} (hdg : decode cc pc = .ok (.baload, 1)) {K : Int32 → Prop} (hw : aL E 2 a i K w)
    (kk : ∀ v : Int32, K v → W p l e R s m args below meth c H locs cells slots Q (F0 m (pc + 1) ls (.int v :: rest))) : W p l e R s m args below meth c H locs cells slots Q (F0 m pc ls (.int i :: .ref a :: rest)) := by
  obtain ⟨n, f, h1, h2, h3⟩ := hw
  rcases h1 with h1 | h1
  · exact va_zald C.x C.b C.K (gAt.P hS.1 h1) 0 2 rfl rfl h2 hdg (kk _ h3)
  · obtain ⟨scr, q1, q2, q3, q4, q6, q5, q7⟩ := h1 s C.k.2.2
    have hb9 : a < gB E := Nat.not_le.mp q7
    have hlt9 : i.toNatClampNeg < n := Nat.not_le.mp fun q => h2 (Or.inr q)
    exact W.zald (v := .int (f i.toNatClampNeg)) C.x C.b (by rw [hS.1.2.2.1 a hb9]; exact q1) q2 q3 (fun q => by
      rcases q with q | q
      · exact h2 (Or.inl q)
      · omega) (q5 _ hlt9) rfl rfl hdg (kk _ h3)
theorem a_Lj (C : gC p l s m args meth c cc nL ret own E tb nm) (hS : gS E w0 w H locs) {i : Int32} (hdg : decode cc pc = .ok (.laload, 1)) {K : Int64 → Prop} (hw : aLj E a i K w)
    (kk : ∀ v : Int64, K v → W p l e R s m args below meth c H locs cells slots Q (F0 m (pc + 1) ls (.long v :: rest))) : W p l e R s m args below meth c H locs cells slots Q (F0 m pc ls (.int i :: .ref a :: rest)) := by
  obtain ⟨n, f, h1, h2, h3⟩ := hw
  exact va_lald C.x C.b C.K (gAt.P hS.1 h1) 0 5 rfl rfl h2 hdg (kk _ h3)
theorem a_Lr {t : Nat} {Cn : String} (C : gC p l s m args meth c cc nL ret own E tb nm) (hS : gS E w0 w H locs) (ht : (gTys E)[t]? = some (gT E t, .object Cn)) {i : Int32} (hdg : decode cc pc = .ok (.aaload, 1)) {K : Option Nat → Prop} (hw : aLr E t a i K w)
    (kk : ∀ r : Option Nat, K r → W p l e R s m args below meth c H locs cells slots Q (F0 m (pc + 1) ls (va_rf r :: rest))) : W p l e R s m args below meth c H locs cells slots Q (F0 m pc ls (.int i :: .ref a :: rest)) := by
  obtain ⟨n, f, h1, h2, h3⟩ := hw
  exact va_aldq C.x C.b C.K (gAt.P hS.1 h1) 0 t rfl ht h2 hdg (kk _ h3)
theorem a_len (C : gC p l s m args meth c cc nL ret own E tb nm) (hS : gS E w0 w H locs) (hdg : decode cc pc = .ok (.arraylength, 1)) {K : Int32 → Prop} (hw : aLen E a K w)
    (kk : ∀ v : Int32, K v → W p l e R s m args below meth c H locs cells slots Q (F0 m (pc + 1) ls (.int v :: rest))) : W p l e R s m args below meth c H locs cells slots Q (F0 m pc ls (.ref a :: rest)) := by
  obtain ⟨n, h1, h3⟩ := hw
  rcases h1 with ⟨t, x, ht, h1⟩ | ⟨ty, f, h1⟩
  · exact va_alen C.x C.b C.K (gAt.P hS.1 h1) 0 t rfl (gTys_at t ht) rfl hdg (kk _ h3)
  · obtain ⟨scr, q1, q2, q3, q4, q6, q5, q7⟩ := h1 s C.k.2.2
    have hb9 : a < gB E := Nat.not_le.mp q7
    exact W.alen (n := Int32.ofNat n) C.x C.b (by rw [hS.1.2.2.1 a hb9]; exact q1) q2 q6 rfl rfl hdg (kk _ h3)
/-- one array cell is written over -/
theorem a_up {n : Nat} {f : Nat → Value} {cA : ClassId} {k : Nat} {v : Value} {H1 : Heap} (e : H1[a]? = some ((arrV cA n f).setSlot k v)) : H1[a]? = some (arrV cA n (updV f k v)) := by rw [e, arrV_store]
theorem a_Si (C : gC p l s m args meth c cc nL ret own E tb nm) (hS : gS E w0 w H locs) {i x : Int32} (hdg : decode cc pc = .ok (.iastore, 1)) {K : gW → Prop} (hw : aS E 0 a i x K w)
    (kk : ∀ (w1 : gW) (H1 : Heap) (locs1 : List Loc), K w1 → gS E w0 w1 H1 locs1 → gGo p l e s m args below meth c H1 locs1 F Lc E w0 w1 Qn Qx (F0 m (pc + 1) ls rest)) : gGo p l e s m args below meth c H locs F Lc E w0 w Qn Qx (F0 m pc ls (.int x :: .int i :: .ref a :: rest)) := by
  obtain ⟨n, f, h1, h2, h3⟩ := hw
  exact g_iast C hS h1 h2 hdg (fun H1 locs1 h => kk (gSet w a (.inl (gT E 0, n, .inl (upd f i.toNatClampNeg (vp_nar (gTy 0) x))))) H1 locs1 h3 h)
theorem a_Sb (C : gC p l s m args meth c cc nL ret own E tb nm) (hS : gS E w0 w H locs) {i x : Int32} (hdg : decode cc pc = .ok (.bastore, 1)) {K : gW → Prop} (hw : aS E 1 a i x K w)
    (kk : ∀ (w1 : gW) (H1 : Heap) (locs1 : List Loc), K w1 → gS E w0 w1 H1 locs1 → gGo p l e s m args below meth c H1 locs1 F Lc E w0 w1 Qn Qx (F0 m (pc + 1) ls rest)) : gGo p l e s m args below meth c H locs F Lc E w0 w Qn Qx (F0 m pc ls (.int x :: .int i :: .ref a :: rest)) := by
  obtain ⟨n, f, h1, h2, h3⟩ := hw
  refine W.bast C.x C.b (hS.one h1 0 _ rfl) ((C.K.2 1 _ rfl).1 n (fun j => .int (f j))) (fun q => by cases q) (by show ¬ (i < 0 ∨ (arrV _ _ _).slots.size ≤ _); rw [arrV_size]; exact h2) rfl rfl hdg fun H1 e z oq => ?_
  refine kk (gSet w a (.inl (gT E 1, n, .inl (upd f i.toNatClampNeg (vp_nar (gTy 1) x))))) H1 _ h3 (hS.set h1 ?_ z oq)
  show H1[a]? = some (vp_cell _ _)
  rw [e]
  rw [vp_cell_i, vp_cell_i, arrV_store]
  congr 2
  funext q
  by_cases hq : q = i.toNatClampNeg
  · subst hq
    simp [updV, upd, vp_nar]
    try rfl
  · simp [updV, upd, hq]
theorem a_Sz (C : gC p l s m args meth c cc nL ret own E tb nm) (hS : gS E w0 w H locs) {i x : Int32} (hdg : decode cc pc = .ok (.bastore, 1)) {K : gW → Prop} (hw : aS E 2 a i x K w)
    (kk : ∀ (w1 : gW) (H1 : Heap) (locs1 : List Loc), K w1 → gS E w0 w1 H1 locs1 → gGo p l e s m args below meth c H1 locs1 F Lc E w0 w1 Qn Qx (F0 m (pc + 1) ls rest)) : gGo p l e s m args below meth c H locs F Lc E w0 w Qn Qx (F0 m pc ls (.int x :: .int i :: .ref a :: rest)) := by
  obtain ⟨n, f, h1, h2, h3⟩ := hw
  refine W.zast C.x C.b (hS.one h1 0 _ rfl) ((C.K.2 2 _ rfl).1 n (fun j => .int (f j))) (fun q => by cases q) (by show ¬ (i < 0 ∨ (arrV _ _ _).slots.size ≤ _); rw [arrV_size]; exact h2) rfl rfl hdg fun H1 e z oq => ?_
  refine kk (gSet w a (.inl (gT E 2, n, .inl (upd f i.toNatClampNeg (vp_nar (gTy 2) x))))) H1 _ h3 (hS.set h1 ?_ z oq)
  show H1[a]? = some (vp_cell _ _)
  rw [e]
  rw [vp_cell_i, vp_cell_i, arrV_store]
  congr 2
  funext q
  by_cases hq : q = i.toNatClampNeg
  · subst hq
    simp [updV, upd, vp_nar]
    try rfl
  · simp [updV, upd, hq]
theorem a_Sj (C : gC p l s m args meth c cc nL ret own E tb nm) (hS : gS E w0 w H locs) {i : Int32} {x : Int64} (hdg : decode cc pc = .ok (.lastore, 1)) {K : gW → Prop} (hw : aSj E a i x K w)
    (kk : ∀ (w1 : gW) (H1 : Heap) (locs1 : List Loc), K w1 → gS E w0 w1 H1 locs1 → gGo p l e s m args below meth c H1 locs1 F Lc E w0 w1 Qn Qx (F0 m (pc + 1) ls rest)) : gGo p l e s m args below meth c H locs F Lc E w0 w Qn Qx (F0 m pc ls (.long x :: .int i :: .ref a :: rest)) := by
  obtain ⟨n, f, h1, h2, h3⟩ := hw
  refine W.last C.x C.b (hS.one h1 0 _ rfl) ((C.K.2 5 _ rfl).1 n (fun j => .long (f j))) (fun q => by cases q) (by show ¬ (i < 0 ∨ (arrV _ _ _).slots.size ≤ _); rw [arrV_size]; exact h2) rfl rfl hdg fun H1 e z oq => ?_
  refine kk (gSet w a (.inl (gT E 5, n, .inr (.inl (vp_updL f i.toNatClampNeg x))))) H1 _ h3 (hS.set h1 ?_ z oq)
  show H1[a]? = some (vp_cell _ _)
  rw [e]
  rw [vp_cell_l, vp_cell_l, arrV_store]
  congr 2
  funext q
  by_cases hq : q = i.toNatClampNeg
  · subst hq
    simp [updV, vp_updL]
  · simp [updV, vp_updL, hq]
theorem a_rup {n : Nat} {f : Nat → Option Nat} {cA : ClassId} {k : Nat} {r : Option Nat} : arrV cA n (updV (fun j => va_rf (f j)) k (va_rf r)) = arrV cA n (fun j => va_rf (va_up f k r j)) := by
  congr 1
  funext q
  by_cases hq : q = k
  · subst hq
    simp [updV, va_up]
  · simp [updV, va_up, hq]
theorem a_Sr {t : Nat} {Cn : String} (C : gC p l s m args meth c cc nL ret own E tb nm) (hS : gS E w0 w H locs) (ht : (gTys E)[t]? = some (gT E t, .object Cn)) (hCn : (t = 4 ∧ Cn = RX2) ∨ (t = 3 ∧ Cn = "java/lang/Object")) {i : Int32} {r : Option Nat} (hdg : decode cc pc = .ok (.aastore, 1)) {K : gW → Prop} (hw : aSr E t a i r K w)
    (kk : ∀ (w1 : gW) (H1 : Heap) (locs1 : List Loc), K w1 → gS E w0 w1 H1 locs1 → gGo p l e s m args below meth c H1 locs1 F Lc E w0 w1 Qn Qx (F0 m (pc + 1) ls rest)) : gGo p l e s m args below meth c H locs F Lc E w0 w Qn Qx (F0 m pc ls (va_rf r :: .int i :: .ref a :: rest)) := by
  obtain ⟨n, f, h1, h2, hE, h3⟩ := hw
  rcases hE with rfl | ⟨v, ci, fs, rfl, hv, hci, h4⟩
  · refine va_WaastN (C := Cn) C.x C.b (hS.one h1 0 _ rfl) ((C.K.2 t _ ht).1 n (fun j => va_rf (f j))) (fun h => by cases h) (by show ¬ (i < 0 ∨ (arrV _ _ _).slots.size ≤ _); rw [arrV_size]; exact h2) rfl rfl hdg fun H1 e z oq => ?_
    refine kk (gSet w a (.inl (gT E t, n, .inr (.inr (.inr (.inr (va_up f i.toNatClampNeg none))))))) H1 _ h3 (hS.set h1 ?_ z oq)
    show H1[a]? = some (vp_cell _ _)
    rw [e, vp_cell_q, vp_cell_q, arrV_store]
    exact congrArg some (a_rup (r := none))
  · have hlt : i.toNatClampNeg < n := Nat.not_le.mp fun q => h2 (Or.inr q)
    have h0 : ¬ i < 0 := fun q => h2 (Or.inl q)
    obtain ⟨r', hr', cellV, g1, g2, g3, -⟩ := hv.O hS.1
    have hcls := (C.K.1 ci r' hr').2
    obtain ⟨kA, comp, k1, k2, k3, -⟩ := (C.K.2 t _ ht).2
    obtain ⟨kE, hkE, -⟩ := Vm.findClass_spec k3
    have hasg : s.vm.assignable (gD E |>.1 ci) comp = true := by
      rcases hCn with ⟨e4, e5⟩ | ⟨e4, e5⟩
      · have hc1 : ci = 1 := h4 e4
        subst hc1
        subst e5
        have hr2 : r' = (RX2, TX2, 15) := Option.some.inj (hr'.symm.trans rfl)
        subst hr2
        have hcomp : comp = (gD E).1 1 := Option.some.inj (k3.symm.trans hcls.1)
        rw [hcomp]
        exact va_assign hcls
      · subst e5
        obtain ⟨c0, t1, f1, f2, f3⟩ := Cond.castable_spec (va_Nw.use (A := args) rfl (C.nw (g_castO ci r' hr') rfl))
        cases hcls.1.symm.trans f1
        cases k3.symm.trans f2
        exact f3
    obtain ⟨kC, hkC, -⟩ := hcls.2
    refine W.aast C.x C.b (hS.one h1 0 _ rfl) (fun q h => by cases h) (fun h => by cases h) k1 k2 rfl hkE ⟨h0, by show _ < (arrV _ _ _).slots.size; rw [arrV_size]; exact hlt⟩ g1 (fun q h => by rw [h] at g3; cases g3) (by rw [g2]; exact hkC) (by rw [g2]; exact hasg) rfl rfl hdg fun H1 e z oq => ?_
    refine kk (gSet w a (.inl (gT E t, n, .inr (.inr (.inr (.inr (va_up f i.toNatClampNeg (some v)))))))) H1 _ h3 (hS.set h1 ?_ z oq)
    show H1[a]? = some (vp_cell _ _)
    rw [e, vp_cell_q, vp_cell_q, arrV_store]
    exact congrArg some (a_rup (r := some v))
theorem a_N (C : gC p l s m args meth c cc nL ret own E tb nm) (hS : gS E w0 w H locs) {ci : Nat} {Cn : String} {T : u_T} {N index : Nat} (hin : ∀ w ∈ u_ws Cn T N, w ∈ lw_all) (ty0 : Nat → FieldType) (hty : ∀ k, k < N → parseFieldDescriptor (T k).2.2.1 = some (ty0 k)) (hc : gCl[ci]? = some (Cn, T, N)) (hcl : Cond.classLink own index Cn ∈ lw_all) (hinst : Cond.instantiable Cn N ∈ lw_all) (hini : Cond.initialized Cn ∈ lw_all) {fs : List Value} (hfs : ∀ j, j < N → defaultValue (ty0 j) = vp_V fs j) (hdg : decode cc pc = .ok (.new index, 3)) {K : Nat → gW → Prop} (hw : aN E ci N fs K w)
    (kk : ∀ (q : Nat) (w1 : gW) (H1 : Heap), K q w1 → gS E w0 w1 H1 locs → gGo p l e s m args below meth c H1 locs F Lc E w0 w1 Qn Qx (F0 m (pc + 3) ls (.ref q :: rest))) : gGo p l e s m args below meth c H locs F Lc E w0 w Qn Qx (F0 m pc ls rest) :=
  g_new C hS ci hin ty0 hty hc hcl hinst hini fs hfs hw.1 hw.2.1 hdg (fun H1 h => kk w.2.1 (gNew w (.inr (ci, fs)) N) H1 (hw.2.2 hS.wf hS.1.2.1) h)
theorem a_A {t : Nat} (C : gC p l s m args meth c cc nL ret own E tb nm) (hS : gS E w0 w H locs) {atype : ArrayType} (hty : newarray.typeOf atype = gTy t) (ht3 : t < 3) (harr : Cond.arrayClass (newarray.typeOf atype) ∈ lw_all) {n : Int32} (hdg : decode cc pc = .ok (.newarray atype, 2)) {K : Nat → gW → Prop} (hw : aA E t n K w)
    (kk : ∀ (q : Nat) (w1 : gW) (H1 : Heap), K q w1 → gS E w0 w1 H1 locs → gGo p l e s m args below meth c H1 locs F Lc E w0 w1 Qn Qx (F0 m (pc + 2) ls (.ref q :: rest))) : gGo p l e s m args below meth c H locs F Lc E w0 w Qn Qx (F0 m pc ls (.int n :: rest)) := by
  obtain ⟨h1, h2, h3, h4, h5⟩ := hw
  refine g_newa C hS t hty (fun Cn => ?_) harr (gTys_at t (by omega)) _ (fun cA => ?_) h1 ?_ h3 h4 hdg (fun H1 h => kk _ _ H1 (h5 hS.wf hS.1.2.1) h)
  · match t, ht3 with
    | 0, _ => exact fun h => by cases h
    | 1, _ => exact fun h => by cases h
    | 2, _ => exact fun h => by cases h
  · match t, ht3 with
    | 0, _ => exact vp_cell_i _ _ _
    | 1, _ => exact vp_cell_i _ _ _
    | 2, _ => exact vp_cell_i _ _ _
  · match t, ht3 with
    | 0, _ => show _ * 4 ≤ _; omega
    | 1, _ => show _ * 1 ≤ _; omega
    | 2, _ => show _ * 1 ≤ _; omega
theorem a_Aj (C : gC p l s m args meth c cc nL ret own E tb nm) (hS : gS E w0 w H locs) (harr : Cond.arrayClass .long ∈ lw_all) {n : Int32} (hdg : decode cc pc = .ok (.newarray .long, 2)) {K : Nat → gW → Prop} (hw : aAj E n K w)
    (kk : ∀ (q : Nat) (w1 : gW) (H1 : Heap), K q w1 → gS E w0 w1 H1 locs → gGo p l e s m args below meth c H1 locs F Lc E w0 w1 Qn Qx (F0 m (pc + 2) ls (.ref q :: rest))) : gGo p l e s m args below meth c H locs F Lc E w0 w Qn Qx (F0 m pc ls (.int n :: rest)) := by
  obtain ⟨h1, h2, h3, h4, h5⟩ := hw
  exact g_newa C hS 5 (atype := .long) rfl (fun Cn h => by cases h) harr rfl (n.toNatClampNeg, .inr (.inl (fun _ => 0))) (fun cA => vp_cell_l _ _ _) h1 (by show _ * 8 ≤ _; omega) h3 h4 hdg (fun H1 h => kk _ _ H1 (h5 hS.wf hS.1.2.1) h)
theorem a_Ar {t : Nat} {Cn : String} (C : gC p l s m args meth c cc nL ret own E tb nm) (hS : gS E w0 w H locs) (ht : (gTys E)[t]? = some (gT E t, .object Cn)) {index : Nat} (hcl : Cond.classLink own index Cn ∈ lw_all) (hov : Cond.arrayOver (.object Cn) ∈ lw_tbl) {n : Int32} (hdg : decode cc pc = .ok (.anewarray index, 3)) {K : Nat → gW → Prop} (hw : aAr E t n K w)
    (kk : ∀ (q : Nat) (w1 : gW) (H1 : Heap), K q w1 → gS E w0 w1 H1 locs → gGo p l e s m args below meth c H1 locs F Lc E w0 w1 Qn Qx (F0 m (pc + 3) ls (.ref q :: rest))) : gGo p l e s m args below meth c H locs F Lc E w0 w Qn Qx (F0 m pc ls (.int n :: rest)) := by
  obtain ⟨h1, h2, h3, h4, h5⟩ := hw
  have hL := hS.2.2.1
  have z0 := hS.1.1
  refine W.anew C.x C.b C.ow (C.ts _ hcl) (va_AO.use (C.nw hov rfl)) rfl hdg rfl h1 (by omega) (by show w.2.1 - w0.2.1 + 1 ≤ gLC E - w0.2.1; have := hL.1; omega) (by show w.2.2 - w0.2.2 + _ ≤ gLS E - w0.2.2; have := hL.2; omega) fun cA kA comp f1 f2 f3 f4 => ?_
  generalize hH1 : H.push ({ cls := cA, slots := Array.replicate n.toNatClampNeg .null, vm := .none } : Cell) = H1
  have z1 : H1.size = H.size + 1 := by rw [← hH1, Array.size_push]
  have e1 : H1[H.size]? = some (arrV cA n.toNatClampNeg (fun _ => .null)) := by rw [← hH1, Array.getElem?_push_size, ← arrV_new]
  have o1 : ∀ q : Nat, q < H.size → H1[q]? = H[q]? := fun q hq => by rw [← hH1, Array.getElem?_push, if_neg (Nat.ne_of_lt hq)]
  have hcA : cA = gT E t := by
    obtain ⟨kA2, comp2, g1, g2, g3, g4⟩ := (C.K.2 t _ ht).2
    exact Option.some.inj (f1.symm.trans g4)
  subst hcA
  rw [z0]
  refine W.cs (cells' := (gNew w (.inl (gT E t, n.toNatClampNeg, .inr (.inr (.inr (.inr (fun _ => none)))))) n.toNatClampNeg).2.1 - w0.2.1) (slots' := (gNew w (.inl (gT E t, n.toNatClampNeg, .inr (.inr (.inr (.inr (fun _ => none)))))) n.toNatClampNeg).2.2 - w0.2.2) (by show w.2.1 - w0.2.1 + 1 = w.2.1 + 1 - w0.2.1; have := hL.1; omega) (by show w.2.2 - w0.2.2 + _ = w.2.2 + _ - w0.2.2; have := hL.2; omega) ?_
  refine kk _ _ H1 (h5 hS.wf hS.1.2.1) (hS.new ?_ z1 o1 h3 h4)
  show H1[H.size]? = some (vp_cell _ _)
  rw [e1, vp_cell_q]
  rfl
theorem a_gs (C : gC p l s m args meth c cc nL ret own E tb nm) (hS : gS E w0 w H locs) {Cn n d ref : String} {v : Value} {index : Nat} (hZ : gSt E Cn n d v) (hlink : Cond.fieldLink own index ref n d ∈ lw_all) (hsame : ∀ x, s.fieldFound? Cn n d = some x → s.fieldFound? ref n d = some x) (hdg : decode cc pc = .ok (.getstatic index, 3))
    (kk : W p l e R s m args below meth c H locs cells slots Q (F0 m (pc + 3) ls (v :: rest))) : W p l e R s m args below meth c H locs cells slots Q (F0 m pc ls rest) := by
  obtain ⟨cf, kf, fi, f, a, cell, h1, h2, h3, h4, h5, h6, h7, h8⟩ := hZ s C.k.2.2
  have hlt : a < gB E := Nat.not_le.mp h8
  exact W.gets C.x C.b C.ow (C.ts _ hlink) (hsame _ h1) h2 h3 h4 (by rw [hS.1.2.2.1 a hlt]; exact h5) (fun e => by rw [e] at h6; cases h6) h7 rfl hdg kk
theorem a_str (C : gC p l s m args meth c cc nL ret own E tb nm) {tx : String} {index : Nat} (hdg : decode cc pc = .ok (.ldc index, 2)) {K : Nat → Prop} (hw : aStr E own index tx K)
    (kk : ∀ a : Nat, K a → W p l e R s m args below meth c H locs cells slots Q (F0 m (pc + 2) ls (.ref a :: rest))) : W p l e R s m args below meth c H locs cells slots Q (F0 m pc ls rest) := by
  obtain ⟨a, h1, h2⟩ := hw
  exact va_ldcS C.x C.b C.ow (h1 s C.k.2.2) hdg (kk a h2)
/-- checkcast to the object's own kind -/
theorem a_cast (C : gC p l s m args meth c cc nL ret own E tb nm) (hS : gS E w0 w H locs) {ci : Nat} {Cn : String} {T : u_T} {N index : Nat} (hc : gCl[ci]? = some (Cn, T, N)) (hlink : Cond.classLink own index Cn ∈ lw_all) (hdg : decode cc pc = .ok (.checkcast index, 3)) {K : Prop} (hw : aKind E a ci K w)
    (kk : K → W p l e R s m args below meth c H locs cells slots Q (F0 m (pc + 3) ls (.ref a :: rest))) : W p l e R s m args below meth c H locs cells slots Q (F0 m pc ls (.ref a :: rest)) := by
  obtain ⟨fs, h1, h2⟩ := hw
  exact va_castS C.x C.b C.ow (C.ts _ hlink) (C.K.1 ci _ hc).2 (h1.recv C.k hS.1 hc) hdg (kk h2)
/-- a reference's null test -/
theorem a_ifnull {r : Option Nat} (C : gC p l s m args meth c cc nL ret own E tb nm) {off : Int} {tgt : Nat} (hdg : decode cc pc = .ok (.ifnull off, 3)) (ht : (pc : Int) + off = (tgt : Int)) (kt : r = none → W p l e R s m args below meth c H locs cells slots Q (F0 m tgt ls rest)) (kf : ¬ r = none → W p l e R s m args below meth c H locs cells slots Q (F0 m (pc + 3) ls rest)) : W p l e R s m args below meth c H locs cells slots Q (F0 m pc ls (va_rf r :: rest)) := by
  cases r with
  | none => exact lv_ifnullN C.x C.b hdg ht (kt rfl)
  | some a => exact lv_ifnull C.x C.b hdg (kf (fun h => by cases h))
theorem a_ifnonnull {r : Option Nat} (C : gC p l s m args meth c cc nL ret own E tb nm) {off : Int} {tgt : Nat} (hdg : decode cc pc = .ok (.ifnonnull off, 3)) (ht : (pc : Int) + off = (tgt : Int)) (kt : ¬ r = none → W p l e R s m args below meth c H locs cells slots Q (F0 m tgt ls rest)) (kf : r = none → W p l e R s m args below meth c H locs cells slots Q (F0 m (pc + 3) ls rest)) : W p l e R s m args below meth c H locs cells slots Q (F0 m pc ls (va_rf r :: rest)) := by
  cases r with
  | none => exact lv_ifnonnullN C.x C.b hdg (kf rfl)
  | some a => exact lv_ifnonnull C.x C.b hdg ht (kt (fun h => by cases h))
theorem a_aload_n {r : Option Nat} (C : gC p l s m args meth c cc nL ret own E tb nm) {k : Fin 4} {i : Nat} (hdg : decode cc pc = .ok (.aload_n k, 1)) (hi : (k : Nat) = i) (hl : ls[i]? = some (.val (va_rf r))) (kk : W p l e R s m args below meth c H locs cells slots Q (F0 m (pc + 1) ls (va_rf r :: rest))) : W p l e R s m args below meth c H locs cells slots Q (F0 m pc ls rest) := by
  cases r with
  | none => exact lv_aload_nN C.x C.b hdg hi hl kk
  | some a => exact lv_aload_n C.x C.b hdg hi hl kk
theorem a_aload {r : Option Nat} (C : gC p l s m args meth c cc nL ret own E tb nm) {i : Nat} (hdg : decode cc pc = .ok (.aload i, 2)) (hl : ls[i]? = some (.val (va_rf r))) (kk : W p l e R s m args below meth c H locs cells slots Q (F0 m (pc + 2) ls (va_rf r :: rest))) : W p l e R s m args below meth c H locs cells slots Q (F0 m pc ls rest) := by
  cases r with
  | none => exact lv_aloadN C.x C.b hdg hl kk
  | some a => exact lv_aload C.x C.b hdg hl kk
theorem a_astore_n {r : Option Nat} (C : gC p l s m args meth c cc nL ret own E tb nm) {k : Fin 4} {i : Nat} {lv lv' : List (Nat × Value)} (hdg : decode cc pc = .ok (.astore_n k, 1)) (hi : (k : Nat) = i) (h : lv_has ls nL lv) (hn : i < nL) (hl : (i, va_rf r) :: lv.filter (fun q => !(q.1 == i) && !(q.1 + 1 == i && q.2.category == 2)) = lv') (kk : ∀ ls' : Array Slot, lv_has ls' nL lv' → W p l e R s m args below meth c H locs cells slots Q (F0 m (pc + 1) ls' rest)) : W p l e R s m args below meth c H locs cells slots Q (F0 m pc ls (va_rf r :: rest)) := by
  cases r with
  | none => exact lv_astore_nN C.x C.b hdg hi h hn hl kk
  | some a => exact lv_astore_n C.x C.b hdg hi h hn hl kk
theorem a_astore {r : Option Nat} (C : gC p l s m args meth c cc nL ret own E tb nm) {i : Nat} {lv lv' : List (Nat × Value)} (hdg : decode cc pc = .ok (.astore i, 2)) (h : lv_has ls nL lv) (hn : i < nL) (hl : (i, va_rf r) :: lv.filter (fun q => !(q.1 == i) && !(q.1 + 1 == i && q.2.category == 2)) = lv') (kk : ∀ ls' : Array Slot, lv_has ls' nL lv' → W p l e R s m args below meth c H locs cells slots Q (F0 m (pc + 2) ls' rest)) : W p l e R s m args below meth c H locs cells slots Q (F0 m pc ls (va_rf r :: rest)) := by
  cases r with
  | none => exact lv_astoreN C.x C.b hdg h hn hl kk
  | some a => exact lv_astore C.x C.b hdg h hn hl kk
theorem a_cat {r : Option Nat} : (va_rf r).category = 1 := by cases r <;> rfl
/-- invokestatic of a nest mate's private method -/
theorem g_callSN (C : gC p l s m args meth c cc nL ret own E tb nm) (hS : gS E w0 w H locs) {lv : List (Nat × Value)} (hl : lv_has ls nL lv) {y : MethodName} {host : String} {index n : Nat} {bytes : ByteArray} {maxL : Nat} {ry : Option FieldType} {F2 Lc2 : Nat} {As : List Value}
    (hM : gMet l y (ws_ y bytes maxL ry) E w As F2 Lc2 Qn2 Qx2) (hlk : Cond.methodLinkNest own index y host ∈ lw_tbl) (hst : Cond.static y ∈ lw_all) (hin : Cond.initialized y.cls ∈ lw_all) (hco : Cond.code y bytes maxL ry ∈ lw_all) (hy : gNm y n = true) (hn : As.length = n)
    (hF : F2 + 1 ≤ F) (hLc : 8 + (maxL + 11) + Lc2 ≤ Lc) (hst0 : st0 = As.reverse ++ rest) (hrm : (rest.map fun v => v.category).sum ≤ 8) (hdg : decode cc pc = .ok (.invokestatic index, 3))
    (kx : ∀ (X : String) (w1 : gW) (H1 : Heap) (locs1 : List Loc) (q : Addr) (ce : Cell), Qx2 X w1 → gLe w w1 → gS E w0 w1 H1 locs1 → H1[q]? = some ce → ce.vm = .none → s.vm.findClass X = some ce.cls →
      vx_W p l e (gRm F Lc E w0) s m args below meth c H1 locs1 (w1.2.1 - w0.2.1) (w1.2.2 - w0.2.2) (gMQ below E w0 Qn Qx args s) (F0 m pc ls rest) q)
    (kk : ∀ (v : Option Value) (w1 : gW) (H1 : Heap) (locs1 : List Loc), Qn2 v w1 → gLe w w1 → gS E w0 w1 H1 locs1 → gGo p l e s m args below meth c H1 locs1 F Lc E w0 w1 Qn Qx (F0 m (pc + 3) ls (v.toList ++ rest))) :
    gGo p l e s m args below meth c H locs F Lc E w0 w Qn Qx (F0 m pc ls st0) := by
  subst hn
  refine g_join (Qn2 := Qn2) (Qx2 := Qx2) C hS 3 (fun T hT X => ?_) kx kk
  have hK : vx_Back l (gRm F Lc E w0) p e below s args y 3 8 (gPre E w As (gRm F Lc E w0)) (gPost E w Qn2) (gPostX E w Qx2) := g_back (maxL := maxL) hM hF hLc (g_ws C hco) (g_my C hco) (g_in C hin)
  rcases vx_callSN X C.x (bytes := bytes) (maxL := maxL) (ret := ry) C.ow (va_Nw.use rfl (C.nw hlk rfl)) (C.ts _ hst) (C.ts _ hin) (C.ts _ hco) (gNm.mh hy) hK (g := F0 m pc ls st0) rfl (hl.1.trans C.ml.symm) (argsL := As) (rest := rest) (gNm.len hy) hst0 (g_mr hrm) (by rw [C.b]; exact hdg) (fun vm₁ hW => g_pre C hS hT hW) with ⟨v, vm₁, B, hW, X', hpost, st⟩ | ⟨q, vm₁, B, hW, X', hpost, st⟩
  · exact Or.inl ⟨v, B, vm₁, _, hW, X', hpost, st⟩
  · exact Or.inr ⟨q, B, vm₁, _, hW, X', hpost, st⟩
theorem g_callIN (C : gC p l s m args meth c cc nL ret own E tb nm) (hS : gS E w0 w H locs) {lv : List (Nat × Value)} (hl : lv_has ls nL lv) {y : MethodName} {host : String} {index n : Nat} {bytes : ByteArray} {maxL : Nat} {F2 Lc2 : Nat} {b : Nat} {As : List Value}
    (hM : gMet l y (ws_ y bytes maxL none) E w (.ref b :: As) F2 Lc2 Qn2 Qx2) (hy1 : y.name = "<init>") (hlk : Cond.methodLinkNest own index y host ∈ lw_tbl) (hinst : Cond.instanceMethod y ∈ lw_all) (hin : Cond.initialized y.cls ∈ lw_all) (hco : Cond.code y bytes maxL none ∈ lw_all) (hy : gNm y n = true) (hn : As.length = n)
    (hF : F2 + 1 ≤ F) (hLc : 8 + (maxL + 11) + Lc2 ≤ Lc) (hst0 : st0 = As.reverse ++ .ref b :: rest) (hrm : (rest.map fun v => v.category).sum ≤ 8) (hdg : decode cc pc = .ok (.invokespecial index, 3))
    (kx : ∀ (X : String) (w1 : gW) (H1 : Heap) (locs1 : List Loc) (q : Addr) (ce : Cell), Qx2 X w1 → gLe w w1 → gS E w0 w1 H1 locs1 → H1[q]? = some ce → ce.vm = .none → s.vm.findClass X = some ce.cls →
      vx_W p l e (gRm F Lc E w0) s m args below meth c H1 locs1 (w1.2.1 - w0.2.1) (w1.2.2 - w0.2.2) (gMQ below E w0 Qn Qx args s) (F0 m pc ls rest) q)
    (kk : ∀ (v : Option Value) (w1 : gW) (H1 : Heap) (locs1 : List Loc), Qn2 v w1 → gLe w w1 → gS E w0 w1 H1 locs1 → gGo p l e s m args below meth c H1 locs1 F Lc E w0 w1 Qn Qx (F0 m (pc + 3) ls (v.toList ++ rest))) :
    gGo p l e s m args below meth c H locs F Lc E w0 w Qn Qx (F0 m pc ls st0) := by
  subst hn
  refine g_join (Qn2 := Qn2) (Qx2 := Qx2) C hS 3 (fun T hT X => ?_) kx kk
  have hK : vx_Back l (gRm F Lc E w0) p e below s args y 3 8 (gPre E w (.ref b :: As) (gRm F Lc E w0)) (gPost E w Qn2) (gPostX E w Qx2) := g_back (maxL := maxL) hM hF hLc (g_ws C hco) (g_my C hco) (g_in C hin)
  rcases vx_callIN X C.x (bytes := bytes) (maxL := maxL) C.ow hy1 (va_Nw.use rfl (C.nw hlk rfl)) (C.ts _ hinst) (C.ts _ hco) (gNm.mh hy) hK (g := F0 m pc ls st0) rfl (hl.1.trans C.ml.symm) (a := b) (argsL := As) (rest := rest) (gNm.len hy) hst0 (g_mr hrm) (by rw [C.b]; exact hdg) (fun vm₁ hW => g_pre C hS hT hW) with ⟨v, vm₁, B, hW, X', hpost, st⟩ | ⟨q, vm₁, B, hW, X', hpost, st⟩
  · exact Or.inl ⟨v, B, vm₁, _, hW, X', hpost, st⟩
  · exact Or.inr ⟨q, B, vm₁, _, hW, X', hpost, st⟩
/-- invokevirtual through an object of any kind at hand -/
theorem a_callV (C : gC p l s m args meth c cc nL ret own E tb nm) (hS : gS E w0 w H locs) {lv : List (Nat × Value)} (hl : lv_has ls nL lv) {y : MethodName} {index n : Nat} {bytes : ByteArray} {maxL : Nat} {ry : Option FieldType} {F2 Lc2 : Nat} {b : Nat} {As : List Value} (ci : Nat) {fs : List Value} (hq : gAt E w b (.inr (ci, fs))) {Cn : String} {Tn : u_T} {N : Nat} (hci : gCl[ci]? = some (Cn, Tn, N))
    (hM : gMet l y (ws_ y bytes maxL ry) E w (.ref b :: As) F2 Lc2 Qn2 Qx2) (hlk : Cond.methodLink own index y ∈ lw_all) (hinst : Cond.instanceMethod y ∈ lw_all) (hsel : Cond.selects Cn y y ∈ lw_all) (hin : Cond.initialized y.cls ∈ lw_all) (hco : Cond.code y bytes maxL ry ∈ lw_all) (hy : gNm y n = true) (hn : As.length = n)
    (hF : F2 + 1 ≤ F) (hLc : 8 + (maxL + 11) + Lc2 ≤ Lc) (hst0 : st0 = As.reverse ++ .ref b :: rest) (hrm : (rest.map fun v => v.category).sum ≤ 8) (hdg : decode cc pc = .ok (.invokevirtual index, 3))
    (kx : ∀ (X : String) (w1 : gW) (H1 : Heap) (locs1 : List Loc) (q : Addr) (ce : Cell), Qx2 X w1 → gLe w w1 → gS E w0 w1 H1 locs1 → H1[q]? = some ce → ce.vm = .none → s.vm.findClass X = some ce.cls →
      vx_W p l e (gRm F Lc E w0) s m args below meth c H1 locs1 (w1.2.1 - w0.2.1) (w1.2.2 - w0.2.2) (gMQ below E w0 Qn Qx args s) (F0 m pc ls rest) q)
    (kk : ∀ (v : Option Value) (w1 : gW) (H1 : Heap) (locs1 : List Loc), Qn2 v w1 → gLe w w1 → gS E w0 w1 H1 locs1 → gGo p l e s m args below meth c H1 locs1 F Lc E w0 w1 Qn Qx (F0 m (pc + 3) ls (v.toList ++ rest))) :
    gGo p l e s m args below meth c H locs F Lc E w0 w Qn Qx (F0 m pc ls st0) := by
  subst hn
  refine g_join (Qn2 := Qn2) (Qx2 := Qx2) C hS 3 (fun T hT X => ?_) kx kk
  have hK : vx_Back l (gRm F Lc E w0) p e below s args y 3 8 (gPre E w (.ref b :: As) (gRm F Lc E w0)) (gPost E w Qn2) (gPostX E w Qx2) := g_back (maxL := maxL) hM hF hLc (g_ws C hco) (g_my C hco) (g_in C hin)
  obtain ⟨cellB, g1, g2, g3⟩ := hq.recv C.k hS.1 hci
  rcases vx_callV X C.x (C := Cn) (bytes := bytes) (maxL := maxL) (ret := ry) C.ow (C.ts _ hlk) (C.ts _ hinst) (C.ts _ hsel) (C.ts _ hco) (gNm.mh hy) hK (by rw [hT]; exact g1) g2 g3 (g := F0 m pc ls st0) rfl (hl.1.trans C.ml.symm) (argsL := As) (rest := rest) (gNm.len hy) hst0 (g_mr hrm) (by rw [C.b]; exact hdg) (fun vm₁ hW => g_pre C hS hT hW) with ⟨v, vm₁, B, hW, X', hpost, st⟩ | ⟨q, vm₁, B, hW, X', hpost, st⟩
  · exact Or.inl ⟨v, B, vm₁, _, hW, X', hpost, st⟩
  · exact Or.inr ⟨q, B, vm₁, _, hW, X', hpost, st⟩
end GFd
