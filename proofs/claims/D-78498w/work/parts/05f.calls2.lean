/-! ROWS over any world: calls of inherited methods, through interfaces, of default methods, of methods with handlers; handlers -/
theorem g_wsH {p : Program} {l : Launch} {s : State} {m : MethodId} {args : Array Value} {meth : Method} {c : Code} {cc : ByteArray} {nL : Nat} {ret : Option FieldType} {own nm : String} {E : gE} {tb : List ExceptionTableEntry} (C : gC p l s m args meth c cc nL ret own E tb nm) {y : MethodName} {bytes : ByteArray} {maxL : Nat} {ry : Option FieldType} {hh : List (Nat × Nat × Nat × Nat)} (hc : Cond.codeWith y bytes maxL ry hh ∈ lw_all) : ∀ w ∈ wsW_ y bytes maxL ry hh, ∀ (a' : Array Value) (U : State), s.WarmedH U.vm → w.before a' U = true := pay_in C.ts (lw_methW hc)
theorem g_myH {p : Program} {l : Launch} {s : State} {m : MethodId} {args : Array Value} {meth : Method} {c : Code} {cc : ByteArray} {nL : Nat} {ret : Option FieldType} {own nm : String} {E : gE} {tb : List ExceptionTableEntry} (C : gC p l s m args meth c cc nL ret own E tb nm) {y : MethodName} {bytes : ByteArray} {maxL : Nat} {ry : Option FieldType} {hh : List (Nat × Nat × Nat × Nat)} (hc : Cond.codeWith y bytes maxL ry hh ∈ lw_all) (a' : Array Value) (U : State) (mk : MethodId) (hW : s.WarmedH U.vm) (hn : U.methodNamed? y = some mk) : ∃ (methY : Method) (cY : Code), U.vm.method? mk = some methY ∧ methY.code = some cY ∧ cY.maxLocals = maxL := by
  obtain ⟨m9, methY, cY, hn9, hmY, hcY, -, hlY, -, -, -, -⟩ := Cond.codeWith_spec (g_wsH C hc _ List.mem_cons_self a' U hW)
  cases Option.some.inj (hn9.symm.trans hn)
  exact ⟨methY, cY, hmY, hcY, hlY⟩
section GFg
variable {p : Program} {l : Launch} {e : Env} {s : State} {m : MethodId} {args : Array Value} {below : List Frame} {meth : Method} {c : Code} {H : Heap} {locs : List Loc} {cells slots : Nat} {Q : State → Prop}
variable {cc : ByteArray} {pc nL : Nat} {ls : Array Slot} {rest st0 : List Value} {ret : Option FieldType} {own nm : String} {E : gE} {tb : List ExceptionTableEntry} {w0 w : gW} {F Lc : Nat} {Qn Qn2 : Option Value → gW → Prop} {Qx Qx2 : String → gW → Prop} {a : Nat}
theorem a_inst (C : gC p l s m args meth c cc nL ret own E tb nm) (hS : gS E w0 w H locs) {ci : Nat} {Cn : String} {T : u_T} {N index : Nat} (hc : gCl[ci]? = some (Cn, T, N)) (hlink : Cond.classLink own index Cn ∈ lw_all) (hdg : decode cc pc = .ok (.instanceof index, 3)) {K : Prop} (hw : aKind E a ci K w)
    (kk : K → W p l e (gRm F Lc E w0) s m args below meth c H locs cells slots Q (F0 m (pc + 3) ls (.int 1 :: rest))) : W p l e (gRm F Lc E w0) s m args below meth c H locs cells slots Q (F0 m pc ls (.ref a :: rest)) := by
  obtain ⟨fs, h1, h2⟩ := hw
  exact va_instS C.x C.b C.ow (C.ts _ hlink) (C.K.1 ci _ hc).2 (h1.recv C.k hS.1 hc) hdg (kk h2)
theorem g_nret {ty : FieldType} (C : gC p l s m args meth c cc nL (some ty) own E tb nm) (hS : gS E w0 w H locs) {v : Int32} (hn : narrow ty (.int v) = .int v) (hq : Qn (some (.int v)) w) (hdg : decode cc pc = .ok (.ireturn, 1)) : gGo p l e s m args below meth c H locs F Lc E w0 w Qn Qx (F0 m pc ls [.int v]) :=
  g_ofMQ (Qc := fun _ _ _ _ => True) hS hq (W.zret C.x C.b C.r hn (fun t ht _ => ⟨rfl, ht⟩) hS.2.2.2 hdg C.lk)
theorem a_strW (C : gC p l s m args meth c cc nL ret own E tb nm) {tx : String} {index : Nat} (hdg : decode cc pc = .ok (.ldc_w index, 3)) {K : Nat → Prop} (hw : aStr E own index tx K)
    (kk : ∀ a : Nat, K a → W p l e (gRm F Lc E w0) s m args below meth c H locs cells slots Q (F0 m (pc + 3) ls (.ref a :: rest))) : W p l e (gRm F Lc E w0) s m args below meth c H locs cells slots Q (F0 m pc ls rest) := by
  obtain ⟨a, h1, h2⟩ := hw
  intro T hT X
  obtain ⟨t, a1, b1⟩ := kk a h2 T hT X
  exact ⟨t, X.ldcStringW C.x (own := own) (text := tx) (index := index) (a := a) C.ow (h1 s C.k.2.2).1 (h1 s C.k.2.2).2 (g := F0 m pc ls rest) rfl (by rw [C.b]; exact hdg) _ a1, b1⟩
/-- super.y(..) -/
theorem a_callSU (C : gC p l s m args meth c cc nL ret own E tb nm) (hS : gS E w0 w H locs) {lv : List (Nat × Value)} (hl : lv_has ls nL lv) {y : MethodName} {index n : Nat} {bytes : ByteArray} {maxL : Nat} {ry : Option FieldType} {F2 Lc2 : Nat} {b : Nat} {As : List Value} (ci : Nat) {fs : List Value} (hq : gAt E w b (.inr (ci, fs))) {Cn : String} {Tn : u_T} {N : Nat} (hci : gCl[ci]? = some (Cn, Tn, N))
    (hM : gMet l y (ws_ y bytes maxL ry) E w (.ref b :: As) F2 Lc2 Qn2 Qx2) (hlk : Cond.methodLink own index y ∈ lw_all) (hsm : Cond.sameMethod y.cls y.cls y.name y.desc ∈ lw_all) (hsup : Cond.superclass own y.cls ∈ lw_all) (hinst : Cond.instanceMethod y ∈ lw_all) (hno : y.name ≠ "<init>") (hin : Cond.initialized y.cls ∈ lw_all) (hco : Cond.code y bytes maxL ry ∈ lw_all) (hy : gNm y n = true) (hn : As.length = n)
    (hF : F2 + 1 ≤ F) (hLc : 8 + (maxL + 11) + Lc2 ≤ Lc) (hst0 : st0 = As.reverse ++ .ref b :: rest) (hrm : (rest.map fun v => v.category).sum ≤ 8) (hdg : decode cc pc = .ok (.invokespecial index, 3))
    (kx : ∀ (X : String) (w1 : gW) (H1 : Heap) (locs1 : List Loc) (q : Addr) (ce : Cell), Qx2 X w1 → gLe w w1 → gS E w0 w1 H1 locs1 → H1[q]? = some ce → ce.vm = .none → s.vm.findClass X = some ce.cls →
      vx_W p l e (gRm F Lc E w0) s m args below meth c H1 locs1 (w1.2.1 - w0.2.1) (w1.2.2 - w0.2.2) (gMQ below E w0 Qn Qx args s) (F0 m pc ls rest) q)
    (kk : ∀ (v : Option Value) (w1 : gW) (H1 : Heap) (locs1 : List Loc), Qn2 v w1 → gLe w w1 → gS E w0 w1 H1 locs1 → gGo p l e s m args below meth c H1 locs1 F Lc E w0 w1 Qn Qx (F0 m (pc + 3) ls (v.toList ++ rest))) :
    gGo p l e s m args below meth c H locs F Lc E w0 w Qn Qx (F0 m pc ls st0) := by
  subst hn
  refine g_join (Qn2 := Qn2) (Qx2 := Qx2) C hS 3 (fun T hT X => ?_) kx kk
  have hK : vx_Back l (gRm F Lc E w0) p e below s args y 3 8 (gPre E w (.ref b :: As) (gRm F Lc E w0)) (gPost E w Qn2) (gPostX E w Qx2) := g_back (maxL := maxL) hM hF hLc (g_ws C hco) (g_my C hco) (g_in C hin)
  obtain ⟨cellB, g1, g2, g3⟩ := hq.recv C.k hS.1 hci
  obtain ⟨kB, hkB, -⟩ := Vm.findClass_spec g3
  rcases vx_callSU X C.x (bytes := bytes) (maxL := maxL) (ret := ry) C.ow (C.ts _ hlk) (C.ts _ hsm) (C.ts _ hsup) (C.ts _ hinst) (C.ts _ hco) hno hK (by rw [hT]; exact g1) g2 hkB (g := F0 m pc ls st0) rfl (hl.1.trans C.ml.symm) (argsL := As) (rest := rest) (gNm.len hy) hst0 (g_mr hrm) (by rw [C.b]; exact hdg) (fun vm₁ hW => g_pre C hS hT hW) with ⟨v, vm₁, B, hW, X', hpost, st⟩ | ⟨q, vm₁, B, hW, X', hpost, st⟩
  · exact Or.inl ⟨v, B, vm₁, _, hW, X', hpost, st⟩
  · exact Or.inr ⟨q, B, vm₁, _, hW, X', hpost, st⟩
/-- a private method of the receiver's class or of one above it -/
theorem a_callVP (C : gC p l s m args meth c cc nL ret own E tb nm) (hS : gS E w0 w H locs) {lv : List (Nat × Value)} (hl : lv_has ls nL lv) {y : MethodName} {index n : Nat} {bytes : ByteArray} {maxL : Nat} {ry : Option FieldType} {F2 Lc2 : Nat} {b : Nat} {As : List Value} (ci : Nat) {fs : List Value} (hq : gAt E w b (.inr (ci, fs))) {Cn : String} {Tn : u_T} {N : Nat} (hci : gCl[ci]? = some (Cn, Tn, N))
    (hM : gMet l y (ws_ y bytes maxL ry) E w (.ref b :: As) F2 Lc2 Qn2 Qx2) (hlk : Cond.methodLink own index y ∈ lw_all) (hsm : Cond.sameMethod y.cls y.cls y.name y.desc ∈ lw_all) (hpriv : Cond.privateMethod y ∈ lw_tbl) (hinst : Cond.instanceMethod y ∈ lw_all) (hin : Cond.initialized y.cls ∈ lw_all) (hco : Cond.code y bytes maxL ry ∈ lw_all) (hy : gNm y n = true) (hn : As.length = n)
    (hF : F2 + 1 ≤ F) (hLc : 8 + (maxL + 11) + Lc2 ≤ Lc) (hst0 : st0 = As.reverse ++ .ref b :: rest) (hrm : (rest.map fun v => v.category).sum ≤ 8) (hdg : decode cc pc = .ok (.invokevirtual index, 3))
    (kx : ∀ (X : String) (w1 : gW) (H1 : Heap) (locs1 : List Loc) (q : Addr) (ce : Cell), Qx2 X w1 → gLe w w1 → gS E w0 w1 H1 locs1 → H1[q]? = some ce → ce.vm = .none → s.vm.findClass X = some ce.cls →
      vx_W p l e (gRm F Lc E w0) s m args below meth c H1 locs1 (w1.2.1 - w0.2.1) (w1.2.2 - w0.2.2) (gMQ below E w0 Qn Qx args s) (F0 m pc ls rest) q)
    (kk : ∀ (v : Option Value) (w1 : gW) (H1 : Heap) (locs1 : List Loc), Qn2 v w1 → gLe w w1 → gS E w0 w1 H1 locs1 → gGo p l e s m args below meth c H1 locs1 F Lc E w0 w1 Qn Qx (F0 m (pc + 3) ls (v.toList ++ rest))) :
    gGo p l e s m args below meth c H locs F Lc E w0 w Qn Qx (F0 m pc ls st0) := by
  subst hn
  refine g_join (Qn2 := Qn2) (Qx2 := Qx2) C hS 3 (fun T hT X => ?_) kx kk
  have hK : vx_Back l (gRm F Lc E w0) p e below s args y 3 8 (gPre E w (.ref b :: As) (gRm F Lc E w0)) (gPost E w Qn2) (gPostX E w Qx2) := g_back (maxL := maxL) hM hF hLc (g_ws C hco) (g_my C hco) (g_in C hin)
  obtain ⟨cellB, g1, g2, g3⟩ := hq.recv C.k hS.1 hci
  obtain ⟨mk, methM, hnamed, hmethM, hstM, habM⟩ := Cond.instanceMethod_spec (C.ts _ hinst)
  obtain ⟨methM', cM, hmethM', -, -, -, -, -, -, hsigM⟩ := Cond.code_spec hnamed (C.ts _ hco)
  cases hmethM.symm.trans hmethM'
  obtain ⟨cn, ck, r1, hcn, hck, hni, hf, hn1⟩ := Cond.sameMethod_found (C.ts _ hsm)
  have hcc : mk.cls = cn := Option.some.inj ((findClass_of_methodNamed hnamed).symm.trans hcn)
  have hselP : selectMethod e.platform s.vm cellB.cls mk = .method mk := selectMethod_private hmethM (Cond.privateMethod_at (va_Nw.use (A := args) rfl (C.nw hpriv rfl)) mk methM hnamed hmethM)
  obtain ⟨vm₁, X₁, hstep₁⟩ := X.invokevirtual C.x C.ow (C.ts _ hlk) hnamed hmethM hstM (by rw [hcc]; exact hck) hni (gNm.mh hy) (a := b) (cell := cellB) (by rw [hT]; exact g1)
    (fun z h => by rw [h] at g2; cases g2) hselP hmethM habM (by rw [hcc]; exact hck) hni (g := F0 m pc ls st0) rfl (argsL := As) (rest := rest) (gNm.len hy _ hsigM) hst0 (by rw [C.b]; exact hdg)
  rcases hK m meth c ⟨T.setVm vm₁, locs, _, _⟩ { (F0 m pc ls st0) with stack := rest } (.invokevirtual index) mk (Value.ref b :: As).toArray X₁ rfl (hl.1.trans C.ml.symm) (by rw [C.b]; exact hdg) (g_mr hrm) (X₁.named hnamed) (g_pre C hS hT X₁.warmed) with ⟨v, B, X', hpost, hsteps⟩ | ⟨q, B, X', hpost, hsteps⟩
  · exact Or.inl ⟨v, B, vm₁, _, X₁.warmed, X', hpost, fun target h => hstep₁ _ fun acts => by rw [doInvoke_state]; exact hsteps.trans h⟩
  · exact Or.inr ⟨q, B, vm₁, _, X₁.warmed, X', hpost, hstep₁ _ fun acts => by rw [doInvoke_state]; exact hsteps⟩
/-- a method that the receiver's class overrides -/
theorem a_callVU (C : gC p l s m args meth c cc nL ret own E tb nm) (hS : gS E w0 w H locs) {lv : List (Nat × Value)} (hl : lv_has ls nL lv) {x y : MethodName} {bx : ByteArray} {mx : Nat} {rx : Option FieldType} {index n : Nat} {bytes : ByteArray} {maxL : Nat} {ry : Option FieldType} {F2 Lc2 : Nat} {b : Nat} {As : List Value} (ci : Nat) {fs : List Value} (hq : gAt E w b (.inr (ci, fs))) {Cn : String} {Tn : u_T} {N : Nat} (hci : gCl[ci]? = some (Cn, Tn, N))
    (hM : gMet l y (ws_ y bytes maxL ry) E w (.ref b :: As) F2 Lc2 Qn2 Qx2) (hlk : Cond.methodLink own index x ∈ lw_all) (hsm : Cond.sameMethod x.cls x.cls x.name x.desc ∈ lw_all) (hxi : Cond.instanceMethod x ∈ lw_all) (hxc : Cond.code x bx mx rx ∈ lw_all) (hsel : Cond.selects Cn x y ∈ lw_all) (hinst : Cond.instanceMethod y ∈ lw_all) (hin : Cond.initialized y.cls ∈ lw_all) (hco : Cond.code y bytes maxL ry ∈ lw_all) (hy : gNm x n = true) (hn : As.length = n)
    (hF : F2 + 1 ≤ F) (hLc : 8 + (maxL + 11) + Lc2 ≤ Lc) (hst0 : st0 = As.reverse ++ .ref b :: rest) (hrm : (rest.map fun v => v.category).sum ≤ 8) (hdg : decode cc pc = .ok (.invokevirtual index, 3))
    (kx : ∀ (X : String) (w1 : gW) (H1 : Heap) (locs1 : List Loc) (q : Addr) (ce : Cell), Qx2 X w1 → gLe w w1 → gS E w0 w1 H1 locs1 → H1[q]? = some ce → ce.vm = .none → s.vm.findClass X = some ce.cls →
      vx_W p l e (gRm F Lc E w0) s m args below meth c H1 locs1 (w1.2.1 - w0.2.1) (w1.2.2 - w0.2.2) (gMQ below E w0 Qn Qx args s) (F0 m pc ls rest) q)
    (kk : ∀ (v : Option Value) (w1 : gW) (H1 : Heap) (locs1 : List Loc), Qn2 v w1 → gLe w w1 → gS E w0 w1 H1 locs1 → gGo p l e s m args below meth c H1 locs1 F Lc E w0 w1 Qn Qx (F0 m (pc + 3) ls (v.toList ++ rest))) :
    gGo p l e s m args below meth c H locs F Lc E w0 w Qn Qx (F0 m pc ls st0) := by
  subst hn
  refine g_join (Qn2 := Qn2) (Qx2 := Qx2) C hS 3 (fun T hT X => ?_) kx kk
  have hK : vx_Back l (gRm F Lc E w0) p e below s args y 3 8 (gPre E w (.ref b :: As) (gRm F Lc E w0)) (gPost E w Qn2) (gPostX E w Qx2) := g_back (maxL := maxL) hM hF hLc (g_ws C hco) (g_my C hco) (g_in C hin)
  obtain ⟨cellB, g1, g2, g3⟩ := hq.recv C.k hS.1 hci
  rcases vx_callVU X C.x (C := Cn) (owner := x.cls) (bytes := bytes) (maxL := maxL) (ret := ry) C.ow (C.ts _ hlk) (C.ts _ hsm) (va_Decl.of (C.ts _ hxi) (C.ts _ hxc)) (gNm.mh hy) (C.ts _ hsel) (C.ts _ hinst) (C.ts _ hco) hK (by rw [hT]; exact g1) g2 g3 (g := F0 m pc ls st0) rfl (hl.1.trans C.ml.symm) (argsL := As) (rest := rest) (gNm.len hy) hst0 (g_mr hrm) (by rw [C.b]; exact hdg) (fun vm₁ hW => g_pre C hS hT hW) with ⟨v, vm₁, B, hW, X', hpost, st⟩ | ⟨q, vm₁, B, hW, X', hpost, st⟩
  · exact Or.inl ⟨v, B, vm₁, _, hW, X', hpost, st⟩
  · exact Or.inr ⟨q, B, vm₁, _, hW, X', hpost, st⟩
/-- a call through an interface -/
def aFw (E : gE) (Cn : String) (x y : MethodName) : Prop := ∀ U : State, gZ E U → va_Fw Cn x y U
theorem a_callIF (C : gC p l s m args meth c cc nL ret own E tb nm) (hS : gS E w0 w H locs) {lv : List (Nat × Value)} (hl : lv_has ls nL lv) {x y : MethodName} {index count n : Nat} {bytes : ByteArray} {maxL : Nat} {ry : Option FieldType} {F2 Lc2 : Nat} {b : Nat} {As : List Value} (ci : Nat) {fs : List Value} (hq : gAt E w b (.inr (ci, fs))) {Cn : String} {Tn : u_T} {N : Nat} (hci : gCl[ci]? = some (Cn, Tn, N))
    (hM : gMet l y (ws_ y bytes maxL ry) E w (.ref b :: As) F2 Lc2 Qn2 Qx2) (hlk : Cond.methodLink own index x ∈ lw_all) (hfw : aFw E Cn x y) (hsel : Cond.selects Cn x y ∈ lw_all) (hinst : Cond.instanceMethod y ∈ lw_all) (hin : Cond.initialized y.cls ∈ lw_all) (hco : Cond.code y bytes maxL ry ∈ lw_all) (hx : gNm x n = true) (hn : As.length = n)
    (hF : F2 + 1 ≤ F) (hLc : 8 + (maxL + 11) + Lc2 ≤ Lc) (hst0 : st0 = As.reverse ++ .ref b :: rest) (hrm : (rest.map fun v => v.category).sum ≤ 8) (hdg : decode cc pc = .ok (.invokeinterface index count, 5))
    (kx : ∀ (X : String) (w1 : gW) (H1 : Heap) (locs1 : List Loc) (q : Addr) (ce : Cell), Qx2 X w1 → gLe w w1 → gS E w0 w1 H1 locs1 → H1[q]? = some ce → ce.vm = .none → s.vm.findClass X = some ce.cls →
      vx_W p l e (gRm F Lc E w0) s m args below meth c H1 locs1 (w1.2.1 - w0.2.1) (w1.2.2 - w0.2.2) (gMQ below E w0 Qn Qx args s) (F0 m pc ls rest) q)
    (kk : ∀ (v : Option Value) (w1 : gW) (H1 : Heap) (locs1 : List Loc), Qn2 v w1 → gLe w w1 → gS E w0 w1 H1 locs1 → gGo p l e s m args below meth c H1 locs1 F Lc E w0 w1 Qn Qx (F0 m (pc + 5) ls (v.toList ++ rest))) :
    gGo p l e s m args below meth c H locs F Lc E w0 w Qn Qx (F0 m pc ls st0) := by
  subst hn
  refine g_join (Qn2 := Qn2) (Qx2 := Qx2) C hS 5 (fun T hT X => ?_) kx kk
  have hK : vx_Back l (gRm F Lc E w0) p e below s args y 5 8 (gPre E w (.ref b :: As) (gRm F Lc E w0)) (gPost E w Qn2) (gPostX E w Qx2) := g_back (maxL := maxL) hM hF hLc (g_ws C hco) (g_my C hco) (g_in C hin)
  obtain ⟨cellB, g1, g2, g3⟩ := hq.recv C.k hS.1 hci
  obtain ⟨kB, hkB, -⟩ := Vm.findClass_spec g3
  obtain ⟨f1, f2, f3, f4, f5⟩ := hfw s C.k.2.2
  rcases vx_callIF X C.x (C := Cn) (bytes := bytes) (maxL := maxL) (ret := ry) C.ow (C.ts _ hlk) (va_any rfl f1) (va_any rfl f2) (C.ts _ hsel) (C.ts _ hinst) (va_any rfl f3) (va_any rfl f4) (va_any rfl f5) (C.ts _ hco) (gNm.mh hx) hK (by rw [hT]; exact g1) g2 g3 hkB (g := F0 m pc ls st0) rfl (hl.1.trans C.ml.symm) (argsL := As) (rest := rest) (gNm.len hx) hst0 (g_mr hrm) (by rw [C.b]; exact hdg) (fun vm₁ hW => g_pre C hS hT hW) with ⟨v, vm₁, B, hW, X', hpost, st⟩ | ⟨q, vm₁, B, hW, X', hpost, st⟩
  · exact Or.inl ⟨v, B, vm₁, _, hW, X', hpost, st⟩
  · exact Or.inr ⟨q, B, vm₁, _, hW, X', hpost, st⟩
/-- invokevirtual that ends at an interface's default method -/
def aDf (E : gE) (own : String) (index : Nat) (Cn owner : String) (x y : MethodName) : Prop := ∀ (A : Array Value) (U : State), gZ E U → (Cond.methodLink own index x).before A U = true ∧ (Cond.sameMethod x.cls owner x.name x.desc).before A U = true ∧ (Cond.landsInDefault Cn x y).before A U = true
theorem a_callVD (C : gC p l s m args meth c cc nL ret own E tb nm) (hS : gS E w0 w H locs) {lv : List (Nat × Value)} (hl : lv_has ls nL lv) {x y : MethodName} {owner : String} {index n : Nat} {bytes : ByteArray} {maxL : Nat} {ry : Option FieldType} {F2 Lc2 : Nat} {b : Nat} {As : List Value} (ci : Nat) {fs : List Value} (hq : gAt E w b (.inr (ci, fs))) {Cn : String} {Tn : u_T} {N : Nat} (hci : gCl[ci]? = some (Cn, Tn, N))
    (hM : gMet l y (ws_ y bytes maxL ry) E w (.ref b :: As) F2 Lc2 Qn2 Qx2) (hdf : aDf E own index Cn owner x y) (hdecl : Cond.declares ⟨owner, x.name, x.desc⟩ ∈ lw_tbl) (how : owner ≠ "java/lang/invoke/MethodHandle" ∧ owner ≠ "java/lang/invoke/VarHandle") (hinst : Cond.instanceMethod y ∈ lw_all) (hin : Cond.initialized y.cls ∈ lw_all) (hco : Cond.code y bytes maxL ry ∈ lw_all) (hx : gNm x n = true) (hn : As.length = n)
    (hF : F2 + 1 ≤ F) (hLc : 8 + (maxL + 11) + Lc2 ≤ Lc) (hst0 : st0 = As.reverse ++ .ref b :: rest) (hrm : (rest.map fun v => v.category).sum ≤ 8) (hdg : decode cc pc = .ok (.invokevirtual index, 3))
    (kx : ∀ (X : String) (w1 : gW) (H1 : Heap) (locs1 : List Loc) (q : Addr) (ce : Cell), Qx2 X w1 → gLe w w1 → gS E w0 w1 H1 locs1 → H1[q]? = some ce → ce.vm = .none → s.vm.findClass X = some ce.cls →
      vx_W p l e (gRm F Lc E w0) s m args below meth c H1 locs1 (w1.2.1 - w0.2.1) (w1.2.2 - w0.2.2) (gMQ below E w0 Qn Qx args s) (F0 m pc ls rest) q)
    (kk : ∀ (v : Option Value) (w1 : gW) (H1 : Heap) (locs1 : List Loc), Qn2 v w1 → gLe w w1 → gS E w0 w1 H1 locs1 → gGo p l e s m args below meth c H1 locs1 F Lc E w0 w1 Qn Qx (F0 m (pc + 3) ls (v.toList ++ rest))) :
    gGo p l e s m args below meth c H locs F Lc E w0 w Qn Qx (F0 m pc ls st0) := by
  subst hn
  refine g_join (Qn2 := Qn2) (Qx2 := Qx2) C hS 3 (fun T hT X => ?_) kx kk
  have hK : vx_Back l (gRm F Lc E w0) p e below s args y 3 8 (gPre E w (.ref b :: As) (gRm F Lc E w0)) (gPost E w Qn2) (gPostX E w Qx2) := g_back (maxL := maxL) hM hF hLc (g_ws C hco) (g_my C hco) (g_in C hin)
  obtain ⟨cellB, g1, g2, g3⟩ := hq.recv C.k hS.1 hci
  obtain ⟨hlink, hsame, hsel⟩ := hdf args s C.k.2.2
  obtain ⟨r0, r, hn, hrm9, hstR, hsigR⟩ := Cond.declares_spec (va_Nw.use (A := args) rfl (C.nw hdecl rfl))
  obtain ⟨cn, ck, r1, hcn, hck, hni, hf, hn1⟩ := Cond.sameMethod_found hsame
  cases hn.symm.trans hn1
  obtain ⟨mk, methM, hnamed, hmethM, -, habM⟩ := Cond.instanceMethod_spec (C.ts _ hinst)
  obtain ⟨c2, r2, m2, rm, q1, q2, q3, q5, q4, ⟨kP, hkP, hkPi⟩, -, q7⟩ := Cond.landsInDefault_spec hsel
  cases g3.symm.trans q1
  cases hf.symm.trans q2
  cases hnamed.symm.trans q3
  cases hrm9.symm.trans q5
  have hselP : selectMethod e.platform s.vm cellB.cls r0 = .method mk := by rw [Launch.admits_selectMethod X.admits]; exact q4
  obtain ⟨vm₁, X₁, hstep₁⟩ := X.invokevirtualUpD C.x C.ow hlink hsame how hn hrm9 hstR (a := b) (cell := cellB) (by rw [hT]; exact g1)
    (fun z h => by rw [h] at g2; cases g2) hselP hmethM habM hkP hkPi q7 (g := F0 m pc ls st0) rfl (argsL := As) (rest := rest) (gNm.len hx _ hsigR) hst0 (by rw [C.b]; exact hdg)
  rcases hK m meth c ⟨T.setVm vm₁, locs, _, _⟩ { (F0 m pc ls st0) with stack := rest } (.invokevirtual index) mk (Value.ref b :: As).toArray X₁ rfl (hl.1.trans C.ml.symm) (by rw [C.b]; exact hdg) (g_mr hrm) (X₁.named hnamed) (g_pre C hS hT X₁.warmed) with ⟨v, B, X', hpost, hsteps⟩ | ⟨q, B, X', hpost, hsteps⟩
  · exact Or.inl ⟨v, B, vm₁, _, X₁.warmed, X', hpost, fun target h => hstep₁ _ fun acts => by rw [doInvoke_state]; exact hsteps.trans h⟩
  · exact Or.inr ⟨q, B, vm₁, _, X₁.warmed, X', hpost, hstep₁ _ fun acts => by rw [doInvoke_state]; exact hsteps⟩
/-- a static method with handlers -/
theorem g_callSH (C : gC p l s m args meth c cc nL ret own E tb nm) (hS : gS E w0 w H locs) {lv : List (Nat × Value)} (hl : lv_has ls nL lv) {y : MethodName} {index n : Nat} {bytes : ByteArray} {maxL : Nat} {ry : Option FieldType} {hh : List (Nat × Nat × Nat × Nat)} {F2 Lc2 : Nat} {As : List Value}
    (hM : gMet l y (wsW_ y bytes maxL ry hh) E w As F2 Lc2 Qn2 Qx2) (hlk : Cond.methodLink own index y ∈ lw_all) (hst : Cond.static y ∈ lw_all) (hin : Cond.initialized y.cls ∈ lw_all) (hco : Cond.codeWith y bytes maxL ry hh ∈ lw_all) (hy : gNm y n = true) (hn : As.length = n)
    (hF : F2 + 1 ≤ F) (hLc : 8 + (maxL + 11) + Lc2 ≤ Lc) (hst0 : st0 = As.reverse ++ rest) (hrm : (rest.map fun v => v.category).sum ≤ 8) (hdg : decode cc pc = .ok (.invokestatic index, 3))
    (kx : ∀ (X : String) (w1 : gW) (H1 : Heap) (locs1 : List Loc) (q : Addr) (ce : Cell), Qx2 X w1 → gLe w w1 → gS E w0 w1 H1 locs1 → H1[q]? = some ce → ce.vm = .none → s.vm.findClass X = some ce.cls →
      vx_W p l e (gRm F Lc E w0) s m args below meth c H1 locs1 (w1.2.1 - w0.2.1) (w1.2.2 - w0.2.2) (gMQ below E w0 Qn Qx args s) (F0 m pc ls rest) q)
    (kk : ∀ (v : Option Value) (w1 : gW) (H1 : Heap) (locs1 : List Loc), Qn2 v w1 → gLe w w1 → gS E w0 w1 H1 locs1 → gGo p l e s m args below meth c H1 locs1 F Lc E w0 w1 Qn Qx (F0 m (pc + 3) ls (v.toList ++ rest))) :
    gGo p l e s m args below meth c H locs F Lc E w0 w Qn Qx (F0 m pc ls st0) := by
  subst hn
  refine g_join (Qn2 := Qn2) (Qx2 := Qx2) C hS 3 (fun T hT X => ?_) kx kk
  have hK : vx_Back l (gRm F Lc E w0) p e below s args y 3 8 (gPre E w As (gRm F Lc E w0)) (gPost E w Qn2) (gPostX E w Qx2) := g_back (maxL := maxL) hM hF hLc (g_wsH C hco) (g_myH C hco) (g_in C hin)
  rcases vx_callSX X C.x (bytes := bytes) (maxL := maxL) (ret := ry) C.ow (C.ts _ hlk) (C.ts _ hst) (C.ts _ hin) (C.ts _ hco) (gNm.mh hy) hK (g := F0 m pc ls st0) rfl (hl.1.trans C.ml.symm) (argsL := As) (rest := rest) (gNm.len hy) hst0 (g_mr hrm) (by rw [C.b]; exact hdg) (fun vm₁ hW => g_pre C hS hT hW) with ⟨v, vm₁, B, hW, X', hpost, st⟩ | ⟨q, vm₁, B, hW, X', hpost, st⟩
  · exact Or.inl ⟨v, B, vm₁, _, hW, X', hpost, st⟩
  · exact Or.inr ⟨q, B, vm₁, _, hW, X', hpost, st⟩
/-- an instance method with handlers -/
theorem a_callVH (C : gC p l s m args meth c cc nL ret own E tb nm) (hS : gS E w0 w H locs) {lv : List (Nat × Value)} (hl : lv_has ls nL lv) {y : MethodName} {index n : Nat} {bytes : ByteArray} {maxL : Nat} {ry : Option FieldType} {hh : List (Nat × Nat × Nat × Nat)} {F2 Lc2 : Nat} {b : Nat} {As : List Value} (ci : Nat) {fs : List Value} (hq : gAt E w b (.inr (ci, fs))) {Cn : String} {Tn : u_T} {N : Nat} (hci : gCl[ci]? = some (Cn, Tn, N))
    (hM : gMet l y (wsW_ y bytes maxL ry hh) E w (.ref b :: As) F2 Lc2 Qn2 Qx2) (hlk : Cond.methodLink own index y ∈ lw_all) (hinst : Cond.instanceMethod y ∈ lw_all) (hsel : Cond.selects Cn y y ∈ lw_all) (hin : Cond.initialized y.cls ∈ lw_all) (hco : Cond.codeWith y bytes maxL ry hh ∈ lw_all) (hy : gNm y n = true) (hn : As.length = n)
    (hF : F2 + 1 ≤ F) (hLc : 8 + (maxL + 11) + Lc2 ≤ Lc) (hst0 : st0 = As.reverse ++ .ref b :: rest) (hrm : (rest.map fun v => v.category).sum ≤ 8) (hdg : decode cc pc = .ok (.invokevirtual index, 3))
    (kx : ∀ (X : String) (w1 : gW) (H1 : Heap) (locs1 : List Loc) (q : Addr) (ce : Cell), Qx2 X w1 → gLe w w1 → gS E w0 w1 H1 locs1 → H1[q]? = some ce → ce.vm = .none → s.vm.findClass X = some ce.cls →
      vx_W p l e (gRm F Lc E w0) s m args below meth c H1 locs1 (w1.2.1 - w0.2.1) (w1.2.2 - w0.2.2) (gMQ below E w0 Qn Qx args s) (F0 m pc ls rest) q)
    (kk : ∀ (v : Option Value) (w1 : gW) (H1 : Heap) (locs1 : List Loc), Qn2 v w1 → gLe w w1 → gS E w0 w1 H1 locs1 → gGo p l e s m args below meth c H1 locs1 F Lc E w0 w1 Qn Qx (F0 m (pc + 3) ls (v.toList ++ rest))) :
    gGo p l e s m args below meth c H locs F Lc E w0 w Qn Qx (F0 m pc ls st0) := by
  subst hn
  refine g_join (Qn2 := Qn2) (Qx2 := Qx2) C hS 3 (fun T hT X => ?_) kx kk
  have hK : vx_Back l (gRm F Lc E w0) p e below s args y 3 8 (gPre E w (.ref b :: As) (gRm F Lc E w0)) (gPost E w Qn2) (gPostX E w Qx2) := g_back (maxL := maxL) hM hF hLc (g_wsH C hco) (g_myH C hco) (g_in C hin)
  obtain ⟨cellB, g1, g2, g3⟩ := hq.recv C.k hS.1 hci
  rcases vx_callVX X C.x (C := Cn) (bytes := bytes) (maxL := maxL) (ret := ry) C.ow (C.ts _ hlk) (C.ts _ hinst) (C.ts _ hsel) (C.ts _ hco) (gNm.mh hy) hK (by rw [hT]; exact g1) g2 g3 (g := F0 m pc ls st0) rfl (hl.1.trans C.ml.symm) (argsL := As) (rest := rest) (gNm.len hy) hst0 (g_mr hrm) (by rw [C.b]; exact hdg) (fun vm₁ hW => g_pre C hS hT hW) with ⟨v, vm₁, B, hW, X', hpost, st⟩ | ⟨q, vm₁, B, hW, X', hpost, st⟩
  · exact Or.inl ⟨v, B, vm₁, _, hW, X', hpost, st⟩
  · exact Or.inr ⟨q, B, vm₁, _, hW, X', hpost, st⟩
/-- a handler of the exception's own class -/
def aNc (E : gE) (X nm : String) : Prop := ∀ U : State, gZ E U → va_Nc X nm U
theorem a_catch (C : gC p l s m args meth c cc nL ret own E tb nm) (hS : gS E w0 w H locs) {X name : String} {ce : Cell} {q : Addr} (pre : List ExceptionTableEntry) (x : ExceptionTableEntry) (suf : List ExceptionTableEntry) (hsplit : tb = pre ++ x :: suf)
    (hpass : ∀ z ∈ pre, covers z pc = false ∨ (z.catchType ≠ 0 ∧ ∃ nm : String, Cond.classLink own z.catchType nm ∈ lw_all ∧ aNc E X nm)) (hx : covers x pc = true) (h0 : x.catchType ≠ 0)
    (hlink : Cond.classLink own x.catchType name ∈ lw_all) (hcast : Cond.castable X name ∈ lw_tbl) (hcell : H[q]? = some ce) (hv : ce.vm = .none) (hcl : s.vm.findClass X = some ce.cls)
    (kk : gGo p l e s m args below meth c H locs F Lc E w0 w Qn Qx (F0 m x.handlerPc ls [.ref q])) : vx_W p l e (gRm F Lc E w0) s m args below meth c H locs (w.2.1 - w0.2.1) (w.2.2 - w0.2.2) (gMQ below E w0 Qn Qx args s) (F0 m pc ls rest) q :=
  vx_catch C.ow pre x suf (by rw [C.tbl]; exact hsplit) (fun z hz => by
    rcases hpass z hz with h | ⟨h1, nm9, h2, h3⟩
    · exact Or.inl h
    · exact Or.inr ⟨h1, nm9, C.ts _ h2, h3 s C.k.2.2⟩) hx h0 (C.ts _ hlink) (va_Nw.use rfl (C.nw hcast rfl)) hcell hv hcl kk
end GFg
/-- a method's contract out of the walk of its body, handlers -/
theorem g_ofWH {l : Launch} {E : gE} {w0 : gW} {F Lc : Nat} {Qn : Option Value → gW → Prop} {Qx : String → gW → Prop} {y : MethodName} {cc : ByteArray} {maxL : Nat} {ry : Option FieldType} {hh : List (Nat × Nat × Nat × Nat)} {av : List Value} (hl : l.stackTraces = false) (hy : plainName y.cls = true) (hlen : (lg_sl av).length ≤ maxL)
    (body : ∀ (p : Program) (e : Env) (s : State) (m : MethodId) (below : List Frame) (meth : Method) (c : Code) (ls : Array Slot) (H : Heap), gC p l s m av.toArray meth c cc maxL ry y.cls E (tableOf hh) y.name → lv_has ls maxL (lv_args 0 av) → gS E w0 w0 H [] →
      gGo p l e s m av.toArray below meth c H [] F Lc E w0 w0 Qn Qx (F0 m 0 ls [])) : gMet l y (wsW_ y cc maxL ry hh) E w0 av F Lc Qn Qx := by
  refine MetFree.of_bodyS (code := cc) (maxLocals := maxL) (ret := ry) hy ?_ ?_
  · intro args s m h hn
    obtain ⟨m9, meth, c, hn9, h1, h2, h3, h4, -, h5, h6, -⟩ := Cond.codeWith_spec (atoms_spec (ws := wsW_ y cc maxL ry hh) h _ List.mem_cons_self)
    cases hn.symm.trans hn9
    exact ⟨meth, c, h1, h2, h3, h4, h5, h6⟩
  · intro p e s m args below meth c s₁ B hml hP _
    obtain ⟨rfl, hR, hO, hk, hE⟩ := hP
    have ht : c.exceptionTable.toList = tableOf hh := vx_table (x := y) B (atoms_spec (ws := wsW_ y cc maxL ry hh) B.pre _ List.mem_cons_self)
    have hh0 : s₁.heap = s.heap := by rw [B.state]; rfl
    have hts := atoms_spec (ws := wsW_ y cc maxL ry hh) B.pre
    have K : W p l e (gRm F Lc E w0) s m av.toArray below meth c s.heap [] 0 0 (gMQ below E w0 Qn Qx av.toArray s) (entryFrame m av.toArray maxL) := by
      refine g_entry hlen fun ls hls => ?_
      refine W.cs (cells' := w0.2.1 - w0.2.1) (slots' := w0.2.2 - w0.2.2) (Nat.sub_self _).symm (Nat.sub_self _).symm ?_
      exact body p e s m below meth c ls s.heap ⟨B.exec, B.bytes, B.returns, hml, findClass_of_methodNamed B.named, fun w h => hts w (List.mem_cons_of_mem _ h), B.notSynchronized, hk, hE, hl, ht, (name_of_methodNamed B.named B.method).1⟩ hls ⟨hR, hO, gLe.rf, fun z hz => by cases hz⟩
    obtain ⟨t, a1, o, b1, b2, b3⟩ := K s₁ hh0 (Stand.of_body B)
    exact ⟨t, o, a1, b1, b2, b3⟩
