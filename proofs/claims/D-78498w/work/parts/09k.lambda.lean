/-! LAMBDAS: the made classes of commandOf's call sites; their forwarder walked -/
def lmD : MethodDescriptor := ⟨[.object "BridgeAuction$Network", .int, .int, .int], some .int⟩
def lmS (nm : String) : Lambda.Shape := { iface := "BridgeAuction$Command", name := "run", sam := lmD, captured := [], kind := 6, implClass := "BridgeAuction", implName := nm, implDesc := lmD, implItf := false, inst := lmD }
def lmC : ByteArray := ⟨#[0x2b, 0x1c, 0x1d, 0x15, 0x04, 0xb8, 0x00, 0x11, 0xac]⟩
theorem lm0 : decode lmC 0 = .ok (.aload_n 1, 1) := by decide +kernel
theorem lm1 : decode lmC 1 = .ok (.iload_n 2, 1) := by decide +kernel
theorem lm2 : decode lmC 2 = .ok (.iload_n 3, 1) := by decide +kernel
theorem lm3 : decode lmC 3 = .ok (.iload 4, 2) := by decide +kernel
theorem lm5 : decode lmC 5 = .ok (.invokestatic 17, 3) := by decide +kernel
theorem lm8 : decode lmC 8 = .ok (.ireturn, 1) := by decide +kernel
def lmFw (fw : Method) : Bool := decide ((fw.code.map fun c => (c.code.data, c.maxLocals, c.exceptionTable.size)) = some (lmC.data, 5, 0)) && decide ((fw.accessFlags, fw.name, fw.sig.returnType) = (1, "run", some FieldType.int))
def lmPool (nm : String) (D : ClassFile) : Bool := decide (D.constantPool[17]? = some (.methodref 14 16)) && decide (D.constantPool.className? 14 = some "BridgeAuction") && decide (D.constantPool.nameAndType? 16 = some (nm, "(LBridgeAuction$Network;III)I")) && decide (D.constantPool[14]? = some (.class_ 13)) && decide (D.constantPool.string? 13 = some "BridgeAuction") && decide (14 ≠ D.thisClass)
def lmChk (nm : String) : Bool := match (lmS nm).file "BridgeAuction" with
  | some D => lmPool nm D && (match layoutMethods D with
    | some ms => (match ms[1]? with
      | some fw => lmFw fw
      | none => false)
    | none => false)
  | none => false
theorem lmChk_0 : lmChk "lambda$commandOf$0" = true := by decide +kernel
theorem lmChk_1 : lmChk "lambda$commandOf$1" = true := by decide +kernel
theorem lmChk_2 : lmChk "lambda$commandOf$2" = true := by decide +kernel
theorem lmChk_3 : lmChk "lambda$commandOf$3" = true := by decide +kernel
theorem lmChk_4 : lmChk "lambda$commandOf$4" = true := by decide +kernel
theorem lmChk_5 : lmChk "lambda$commandOf$5" = true := by decide +kernel
theorem lmChk_6 : lmChk "lambda$commandOf$6" = true := by decide +kernel
theorem lm_made {nm : String} (hchk : lmChk nm = true) {e : Setting} {vm : Vm} {d c : ClassId} {dk : Class} (hd : vm.classes[d]? = some dk) (hname : dk.name = "BridgeAuction") (h : Lambda.isMade e vm d (lmS nm) c = true) :
    ∃ (k tk : Class) (file : ClassFile) (methk : Method) (ck : Code) (toy : ClassId) (t : MethodId),
      vm.classes[c]? = some k ∧ k.name = "BridgeAuction$$Lambda" ∧ k.cf = some file ∧ file.constantPool[17]? = some (.methodref 14 16) ∧ file.constantPool.nameAndType? 16 = some (nm, "(LBridgeAuction$Network;III)I") ∧
      vm.method? ⟨c, 1⟩ = some methk ∧ methk.code = some ck ∧ ck.code = lmC ∧ ck.maxLocals = 5 ∧ ck.exceptionTable.toList = [] ∧ methk.locks = false ∧ methk.accessFlags = 0x0001 ∧ methk.sig.returnType = some .int ∧
      vm.findClass "BridgeAuction" = some toy ∧ vm.classes[toy]? = some tk ∧ ((methodIn toy nm "(LBridgeAuction$Network;III)I" tk.isInterface none).ask e vm).1 = .ok t ∧
      vm.methodReady c 17 t ∧ vm.classReady c 14 toy := by
  unfold lmChk at hchk
  cases hF : (lmS nm).file "BridgeAuction" with
  | none => rw [hF] at hchk; cases hchk
  | some D =>
    rw [hF] at hchk
    simp only [Bool.and_eq_true] at hchk
    obtain ⟨hP, hM⟩ := hchk
    cases hL : layoutMethods D with
    | none => rw [hL] at hM; cases hM
    | some ms =>
      rw [hL] at hM
      cases hf : ms[1]? with
      | none => simp [hf] at hM
      | some fw =>
        simp only [hf] at hM
        simp only [lmFw, Bool.and_eq_true, decide_eq_true_eq, Prod.mk.injEq] at hM
        simp only [lmPool, Bool.and_eq_true, decide_eq_true_eq] at hP
        obtain ⟨⟨⟨⟨⟨p1, p2⟩, p3⟩, p4⟩, p5⟩, p6⟩ := hP
        obtain ⟨fc, ff1, ff2, ff3⟩ := hM
        obtain ⟨dk', k, ok, tk, file, cf, object, iface, toy, lay, methods, target, found, hd', hk, hfile, hcf, -, -, -, -, hms, ht, htk, hg, -, hrec, -, -, -, -, hpool, hmeth, -, -, hres, -⟩ := Lambda.isMade_spec h
        cases hd.symm.trans hd'
        rw [hname, hF] at hcf
        cases hcf
        rw [hL] at hms
        cases hms
        obtain ⟨b, hb, hsame⟩ := hmeth 1 fw hf
        simp only [Lambda.sameMethod, Bool.and_eq_true, decide_eq_true_eq] at hsame
        obtain ⟨⟨hn, -, hsig, hfl⟩, hcode⟩ := hsame
        cases hfc : fw.code with
        | none => rw [hfc] at fc; cases fc
        | some x =>
          cases hbc : b.code with
          | none => simp [hfc, hbc] at hcode
          | some y =>
            simp only [hfc, hbc, Bool.and_eq_true, decide_eq_true_eq] at hcode
            simp only [hfc, Option.map_some, Option.some.injEq, Prod.mk.injEq] at fc
            have e1 : lmD.toString = "(LBridgeAuction$Network;III)I" := by decide +kernel
            have hg2 : ((methodIn toy nm "(LBridgeAuction$Network;III)I" tk.isInterface none).ask e vm).1 = .ok target := by rw [← e1]; exact hg
            refine ⟨k, tk, file, b, y, toy, target, hk, by rw [hrec.1, hname]; rfl, hfile, by rw [hpool.2.1]; exact p1, ?_, by simp [Vm.method?, hk, hb], hbc, ?_, by rw [← hcode.1.1.1.1.2.1]; exact fc.2.1, ?_, ?_, by rw [← hfl]; exact ff1, by rw [← hsig]; exact ff3, ht, htk, hg2,
              ⟨k, hk, hres 17 _ (Lambda.resolvedOf_method p1 p2 ht htk p3 hg2)⟩, ⟨k, hk, hres 14 _ (Lambda.resolvedOf_class p4 p6 p5 ht)⟩⟩
            · have h9 : ∀ (a b : ConstantPool), a = b → a.nameAndType? 16 = b.nameAndType? 16 := fun a b h => by rw [h]
              rw [h9 _ _ hpool.2.1]
              exact p3
            · rw [← hcode.1.1.1.1.2.2]
              exact ByteArray.ext fc.1
            · have h8 := hcode.1.1.2
              exact (by simpa using h8 : y.exceptionTable = #[]) ▸ rfl
            · simp [Method.locks, Method.isSynchronized, ← hfl, ff1, hasFlag, Acc.synchronized]
abbrev lmR : MethodName := ⟨"BridgeAuction$Command", "run", "(LBridgeAuction$Network;III)I"⟩
abbrev lmY (nm : String) : MethodName := ⟨"BridgeAuction", nm, "(LBridgeAuction$Network;III)I"⟩
/-- the object of the call site at pcS of commandOf -/
def gLam (E : gE) (pcS : Nat) (nm : String) (b : Nat) : Prop := ∃ cell : Cell, (gH0 E)[b]? = some cell ∧ cell.vm = .none ∧ ∀ U : State, gZ E U →
  (∃ (m : MethodId) (k : Class) (i0 p0 : Nat), U.methodNamed? yX1_commandOf = some m ∧ U.vm.classes[m.cls]? = some k ∧ (k.callSites.find? fun y => y.1 == m.idx && y.2.1 == pcS) = some (i0, p0, .constant b) ∧
    Lambda.isMade { classPath := fun _ => none } U.vm m.cls (lmS nm) cell.cls = true ∧ U.lambdaCallable (lmS nm) cell.cls = true) ∧
  (Cond.interfaceMethod "BridgeAuction$Command" "BridgeAuction$Command" "run" "(LBridgeAuction$Network;III)I").before #[] U = true
def aIndy (E : gE) (pcS : Nat) (nm : String) (K : Nat → Prop) : Prop := ∃ b : Nat, gLam E pcS nm b ∧ K b
section GFk
variable {p : Program} {l : Launch} {e : Env} {s : State} {m : MethodId} {args : Array Value} {below : List Frame} {meth : Method} {c : Code} {H : Heap} {locs : List Loc} {cells slots : Nat} {Q : State → Prop}
variable {cc : ByteArray} {pc nL : Nat} {ls : Array Slot} {rest st0 : List Value} {ret : Option FieldType} {own nm : String} {E : gE} {tb : List ExceptionTableEntry} {w0 w : gW} {F Lc : Nat} {Qn Qn2 : Option Value → gW → Prop} {Qx Qx2 : String → gW → Prop} {a : Nat}
theorem a_indy (C : gC p l s m args meth c cc nL ret own E tb nm) (hN : s.methodNamed? yX1_commandOf = some m) {lv : List (Nat × Value)} (hl : lv_has ls nL lv) {index : Nat} {lm : String} (hL : (rest.map fun v => v.category).sum + 3072 ≤ Lc) (hdg : decode cc pc = .ok (.invokedynamic index, 5)) {K : Nat → Prop} (hw : aIndy E pc lm K)
    (kk : ∀ b : Nat, K b → W p l e (gRm F Lc E w0) s m args below meth c H locs cells slots Q (F0 m (pc + 5) ls (.ref b :: rest))) : W p l e (gRm F Lc E w0) s m args below meth c H locs cells slots Q (F0 m pc ls rest) := by
  obtain ⟨b, ⟨cell, hc, hv, hz⟩, hK⟩ := hw
  obtain ⟨⟨m', k, i0, p0, h1, h2, h3, h4, h5⟩, -⟩ := hz s C.k.2.2
  cases hN.symm.trans h1
  intro T hT X
  obtain ⟨t, a1, b1⟩ := kk b hK T hT X
  exact ⟨t, X.lambdaConstant C.x (g := F0 m pc ls rest) rfl (hl.1.trans C.ml.symm) (by rw [C.b]; exact hdg) h2 h3 (by rw [X.admits.platform]; show 2 * 0 + (rest.map fun v => v.category).sum + 3072 ≤ Lc; omega) a1, b1⟩
set_option maxHeartbeats 1000000 in
theorem a_lam (C : gC p l s m args meth c cc nL ret own E tb nm) (hS : gS E w0 w H locs) {lv : List (Nat × Value)} (hl : lv_has ls nL lv) {lm : String} {pcS b n : Nat} {x y z : Int32} {index count : Nat} {bytes : ByteArray} {maxL F2 Lc2 : Nat} {Q2 : Int32 → gW → Prop} (hlam : gLam E pcS lm b) (hchk : lmChk lm = true)
    (hM : gMet l (lmY lm) (ws_ (lmY lm) bytes maxL (some .int)) E w [.ref n, .int x, .int y, .int z] F2 Lc2 (gI Q2) Qx2) (hlk : Cond.methodLink own index lmR ∈ lw_all) (hst : Cond.static (lmY lm) ∈ lw_all) (hin : Cond.initialized "BridgeAuction" ∈ lw_all) (hco : Cond.code (lmY lm) bytes maxL (some .int) ∈ lw_all)
    (hF : F2 + 2 ≤ F) (hLc : 24 + (8 + (maxL + 11) + Lc2) ≤ Lc) (hst0 : st0 = .int z :: .int y :: .int x :: .ref n :: .ref b :: rest) (hrm : (rest.map fun v => v.category).sum ≤ 8) (hdg : decode cc pc = .ok (.invokeinterface index count, 5))
    (kx : ∀ (X : String) (w1 : gW) (H1 : Heap) (locs1 : List Loc) (q : Addr) (ce : Cell), Qx2 X w1 → gLe w w1 → gS E w0 w1 H1 locs1 → H1[q]? = some ce → ce.vm = .none → s.vm.findClass X = some ce.cls →
      vx_W p l e (gRm F Lc E w0) s m args below meth c H1 locs1 (w1.2.1 - w0.2.1) (w1.2.2 - w0.2.2) (gMQ below E w0 Qn Qx args s) (F0 m pc ls rest) q)
    (kk : ∀ (v : Option Value) (w1 : gW) (H1 : Heap) (locs1 : List Loc), gI Q2 v w1 → gLe w w1 → gS E w0 w1 H1 locs1 → gGo p l e s m args below meth c H1 locs1 F Lc E w0 w1 Qn Qx (F0 m (pc + 5) ls (v.toList ++ rest))) :
    gGo p l e s m args below meth c H locs F Lc E w0 w Qn Qx (F0 m pc ls st0) := by
  refine g_join (Qn2 := gI Q2) (Qx2 := Qx2) C hS 5 (fun T hT X => ?_) kx kk
  have hL0 := hS.2.2.1
  have hO0 := hS.2.1
  obtain ⟨cell, hc0, hcv, hz⟩ := hlam
  obtain ⟨⟨mD, kD, i0, p0, hmD, hkD, -, hmade, hcan⟩, hface0⟩ := hz s C.k.2.2
  obtain ⟨kD', hkD', hnameD⟩ := className_of_methodNamed hmD
  cases hkD.symm.trans hkD'
  have hnameD : kD.name = "BridgeAuction" := hnameD
  have hblt : b < gB E := (Array.getElem?_eq_some_iff.mp hc0).1
  have hcell : H[b]? = some cell := by rw [hS.1.2.2.1 b hblt]; exact hc0
  obtain ⟨kK, tk, file, methk, ckK, toy, t, hkK, hkn, hfile, hp17, hp16, hmk, hckK, hbytes, hml, htb, hlk0, hfl, hretk, htoy, htk, hlook, hready, hclsR⟩ := lm_made hchk hkD hnameD hmade
  obtain ⟨r0, r, hn, hrm9, hstR, hsigR⟩ := Cond.declares_spec (va_Nw.use (A := args) rfl (C.nw q1203 rfl))
  obtain ⟨cL, kL, r1, hcL, hkL, hiL, hfoundL, hn1⟩ := Cond.interfaceMethod_spec (va_any (A' := args) rfl hface0)
  cases hn.symm.trans hn1
  have hr0cls : r0.cls = cL := Option.some.inj ((findClass_of_methodNamed hn).symm.trans hcL)
  obtain ⟨hnameR, hdescR⟩ := name_of_methodNamed hn hrm9
  have e1 : lmD.toString = "(LBridgeAuction$Network;III)I" := by decide +kernel
  obtain ⟨-, -, -, -, -, -, -, iface', -, -, -, -, found, -, -, -, -, -, hi', -, -, -, -, -, -, hfound', -, -, -, -, -, -, -, -, -, -, hsel⟩ := Lambda.isMade_spec hmade
  cases hcL.symm.trans hi'
  have hfr : found = r0 := by
    have h1 : s.methodFound? "BridgeAuction$Command" "run" "(LBridgeAuction$Network;III)I" = some r0 := hfoundL
    have hcL' : s.vm.findClass "BridgeAuction$Command" = some cL := hcL
    simp only [State.methodFound?, hcL', hkL, hiL, Option.bind_eq_bind, Option.bind_some] at h1
    have h2 : ((methodIn cL "run" "(LBridgeAuction$Network;III)I" true none).ask { classPath := fun _ => none } s.vm).1 = .ok found := by rw [← e1]; exact hfound'
    rw [h2] at h1
    exact Option.some.inj h1
  subst hfr
  obtain ⟨i2, hi2, hasg, hway⟩ := State.lambdaCallable_spec hcan
  cases hcL.symm.trans hi2
  have hsigI : r.sig = lmD := (Option.some.inj ((by decide +kernel : parseMethodDescriptor "(LBridgeAuction$Network;III)I" = some lmD).symm.trans hsigR)).symm
  have hway2 : ((cell.cls :: s.vm.superclasses cell.cls).any fun k => (declaredIn s.vm r.name r.desc k).any fun (_, z) => z.isPrivate || z.isStatic) = false := by
    rw [hnameR, hdescR]
    have h := hway
    rw [show (lmS lm).sam.toString = "(LBridgeAuction$Network;III)I" from e1] at h
    exact h
  cases hmT : s.methodNamed? (lmY lm) with
  | none => have h9 := C.ts _ hco; simp [Cond.before, Cond.holds, Cond.value, hmT] at h9
  | some mT =>
  obtain ⟨methT, cT, hmethT, hcT, hbytesT, hlocT, hretT, hlocksT, -, hsigT⟩ := Cond.code_spec hmT (C.ts _ hco)
  have hstaticT : methT.isStatic = true := Cond.static_spec hmT hmethT (C.ts _ hst)
  obtain ⟨kT, hkT, hnameT⟩ := className_of_methodNamed hmT
  have hfT : s.vm.findClass "BridgeAuction" = some mT.cls := findClass_of_methodNamed hmT
  have hinitK : kT.init = .initialized := Cond.initialized_spec hfT hkT (C.ts _ hin)
  have hsigTI : methT.sig = lmD := (Option.some.inj ((by decide +kernel : parseMethodDescriptor "(LBridgeAuction$Network;III)I" = some lmD).symm.trans hsigT)).symm
  obtain ⟨vm₁, X₁, hstep₁⟩ := X.invokeinterface C.x C.ow (C.ts _ hlk) hn hrm9 hstR (by rw [hr0cls]; exact hkL) hiL (by decide) (a := b) (cell := cell) (kcell := kK) (by rw [hT]; exact hcell) (fun z h => by rw [hcv] at h; cases h) hkK (by rw [hr0cls]; exact hasg)
    (m' := ⟨cell.cls, 1⟩) (meth' := methk) (by rw [Launch.admits_selectMethod X.admits]; exact hsel) hmk hway2 (by rw [hfl]; decide) (by simp [Method.isAbstract, hfl, hasFlag, Acc.abstract])
    (g := F0 m pc ls st0) rfl (argsL := [.ref n, .int x, .int y, .int z]) (rest := rest) (by rw [hsigI]; rfl) hst0 (by rw [C.b]; exact hdg)
  have hW₁ : s.WarmedH vm₁ := X₁.warmed
  obtain ⟨kD₁, hkD₁, heD₁⟩ := hW₁.alike.2.2 _ _ hkD
  have hnameD₁ : kD₁.name = "BridgeAuction" := by rw [heD₁]; exact hnameD
  obtain ⟨kK₁, tk₁, file₁, methk₁, ckK₁, toy₁, t₁, hkK₁, hkn₁, hfile₁, hp17₁, hp16₁, hmk₁, hckK₁, hbytes₁, hml₁, htb₁, hlk₁, hfl₁, hretk₁, htoy₁, htk₁, hlook₁, hready₁, hclsR₁⟩ := lm_made hchk hkD₁ hnameD₁ (Lambda.isMade_warmer hW₁ hmade)
  have hfT₁ : vm₁.findClass "BridgeAuction" = some mT.cls := by rw [hW₁.alike.findClass]; exact hfT
  cases htoy₁.symm.trans hfT₁
  have hnamed₁ : (s.setVm vm₁).methodNamed? (lmY lm) = some mT := by rw [State.methodNamed?_setVm hW₁.alike]; exact hmT
  have ht₁ : t₁ = mT := by
    have h1 : (s.setVm vm₁).methodFound? "BridgeAuction" lm "(LBridgeAuction$Network;III)I" = some mT := by rw [State.methodFound?_setVm hW₁.alike]; exact State.methodFound?_of_named hmT ⟨(by decide : "BridgeAuction" ≠ "java/lang/invoke/MethodHandle"), (by decide : "BridgeAuction" ≠ "java/lang/invoke/VarHandle")⟩
    simp only [State.methodFound?, State.vm_setVm, hfT₁, htk₁, Option.bind_eq_bind, Option.bind_some] at h1
    rw [hlook₁] at h1
    exact Option.some.inj h1
  subst ht₁
  have hmethT₁ : vm₁.method? t₁ = some methT := by rw [hW₁.alike.method?]; exact hmethT
  obtain ⟨kT₁, hkT₁, heT₁⟩ := hW₁.alike.2.2 _ _ hkT
  cases htk₁.symm.trans hkT₁
  have hnm : tk₁.name ≠ "java/lang/invoke/MethodHandle" ∧ tk₁.name ≠ "java/lang/invoke/VarHandle" := by
    have : tk₁.name = "BridgeAuction" := by rw [heT₁]; exact hnameT
    rw [this]; decide
  have hsp : ∀ y : Method, signaturePolymorphic tk₁ y = false := fun y => by simp [signaturePolymorphic, hnm.1, hnm.2]
  obtain ⟨bb, hmem⟩ := memberRef_ask' (e := e) (vm := vm₁) (d := cell.cls) (index := 17) hkK₁ hfile₁ (Or.inl hp17₁) hp16₁
  have hpk : (T.setVm vm₁).plainMethod ⟨cell.cls, 1⟩ := State.plainMethod.of_name (fun k' hk' => by cases hkK₁.symm.trans hk'; rw [hkn₁]; decide)
  have hsz : (F0 m pc ls rest).locals.size = c.maxLocals := hl.1.trans C.ml.symm
  have hdg2 : decode c.code (F0 m pc ls rest).pc = .ok (.invokeinterface index count, 5) := by rw [C.b]; exact hdg
  obtain ⟨Y₀, hin0⟩ := X₁.into (g := F0 m pc ls rest) rfl hsz hdg2 #[.ref b, .ref n, .int x, .int y, .int z] (R' := { frames := F - 1, locals := Lc - 24, cells := gLC E - w.2.1, slots := gLS E - w.2.2 }) hmk₁ hckK₁ hlk₁ hpk
    (by show F - 1 + 1 ≤ F; omega) (by rw [hml₁]; show 2 * 0 + (rest.map fun v => v.category).sum + (5 + 11) + (Lc - 24) ≤ Lc; omega) (by show w.2.1 - w0.2.1 + (gLC E - w.2.1) ≤ gLC E - w0.2.1; have := hL0.1; have := hO0.1; omega) (by show w.2.2 - w0.2.2 + (gLS E - w.2.2) ≤ gLS E - w0.2.2; have := hL0.2; have := hO0.2; omega)
  rw [hml₁] at Y₀ hin0
  generalize hs' : (T.setVm vm₁).calling (F0 m pc ls rest) ⟨cell.cls, 1⟩ #[.ref b, .ref n, .int x, .int y, .int z] = s' at Y₀
  have hvs' : s'.vm = vm₁ := by rw [← hs']; rfl
  have hWs : ∀ {U : State}, s'.WarmedH U.vm → s.WarmedH U.vm := fun {U} h => by
    have h2 : s.WarmedH s'.vm := by rw [hvs']; exact hW₁
    exact State.WarmedH.trans h2 h
  generalize hU : ((T.setVm vm₁).setTop (F0 m pc ls rest)).pushFrame (.java (entryFrame ⟨cell.cls, 1⟩ #[.ref b, .ref n, .int x, .int y, .int z] 5)) = U at Y₀ hin0
  have hvm : U.vm = vm₁ := by rw [← hU]; rfl
  have hheap : U.heap = H := by rw [← hU, ← hT]; rfl
  have hK : vx_Back l { frames := F - 1, locals := Lc - 24, cells := gLC E - w.2.1, slots := gLS E - w.2.2 } p e (.java (F0 m pc ls rest) :: below) s' #[.ref b, .ref n, .int x, .int y, .int z] (lmY lm) 3 8 (gPre E w [.ref n, .int x, .int y, .int z] _) (gPost E w (gI Q2)) (gPostX E w Qx2) :=
    g_back (maxL := maxL) hM (by show F2 + 1 ≤ F - 1; omega) (by show 8 + (maxL + 11) + Lc2 ≤ Lc - 24; omega) (fun w hw a' U hW => g_ws C hco w hw a' U (hWs hW)) (fun a' U mk hW hn => g_my C hco a' U mk (hWs hW) hn) (fun a' U hW => g_in C hin a' U (hWs hW))
  have hnamedU : U.methodNamed? (lmY lm) = some t₁ := by
    have h9 : U.methodNamed? (lmY lm) = (s.setVm vm₁).methodNamed? (lmY lm) := by
      simp only [State.methodNamed?, hvm, State.vm_setVm]
    rw [h9]; exact hnamed₁
  have hsU : U.topJava?.isSome := Y₀.here.top
  have hpreU : gPre E w [.ref n, .int x, .int y, .int z] { frames := F - 1, locals := Lc - 24, cells := gLC E - w.2.1, slots := gLS E - w.2.2 } ⟨U, [], 0, 0⟩ #[.ref n, .int x, .int y, .int z] := by
    refine ⟨by show 0 + (gLC E - w.2.1) ≤ gLC E - w.2.1; omega, by show 0 + (gLS E - w.2.2) ≤ gLS E - w.2.2; omega, rfl, ?_, hO0, C.k.moved (U := U) C.ok (by rw [hvm]; exact hW₁), C.ok⟩
    show gRep E w U.heap
    rw [hheap]; exact hS.1
  have hentry : entryFrame ⟨cell.cls, 1⟩ #[.ref b, .ref n, .int x, .int y, .int z] 5 = { method := ⟨cell.cls, 1⟩, pc := 0, locals := #[.val (.ref b), .val (.ref n), .val (.int x), .val (.int y), .val (.int z)], stack := [], locked := none } := rfl
  have hgo : ∀ target, Steps p.tables e (.java (F0 m pc ls rest) :: below) (doInvoke e (U.setTop { method := ⟨cell.cls, 1⟩, pc := 5, locals := #[.val (.ref b), .val (.ref n), .val (.int x), .val (.int y), .val (.int z)], stack := [], locked := none }) [] t₁ #[.ref n, .int x, .int y, .int z]).1 target →
      Steps p.tables e (.java (F0 m pc ls rest) :: below) (U.setTop (entryFrame ⟨cell.cls, 1⟩ #[.ref b, .ref n, .int x, .int y, .int z] 5)) target := by
    intro target h
    rw [hentry]
    jvm_step Y₀.here [C.x, hbytes₁, lm0, Value.isRef]
    jvm_step Y₀.here [C.x, hbytes₁, lm1]
    jvm_step Y₀.here [C.x, hbytes₁, lm2]
    jvm_step Y₀.here [C.x, hbytes₁, lm3]
    jvm_step Y₀.here [C.x, hbytes₁, lm5, invokestatic.wp_ready (e := e) (s := U) (m := t₁) (k := tk₁) (meth := methT) (args := [.ref n, .int x, .int y, .int z]) (rest := [])
      (f := { method := ⟨cell.cls, 1⟩, pc := 5, locals := #[.val (.ref b), .val (.ref n), .val (.int x), .val (.int y), .val (.int z)], stack := [.int z, .int y, .int x, .ref n], locked := none }) hsU (show plainRef U e cell.cls 17 by unfold plainRef; rw [hvm]; exact ⟨14, _, _, bb, t₁.cls, tk₁, hmem, hclsR₁, htk₁, by simp [hsp]⟩) (by rw [hvm]; exact hready₁) (by rw [hvm]; exact htk₁) (by rw [hvm]; exact hmethT₁) (hsp _) hstaticT (by rw [heT₁]; exact hinitK) (by rw [hsigTI]; rfl) rfl]
    intro acts
    rw [doInvoke_state]
    exact h
  rcases hK ⟨cell.cls, 1⟩ methk₁ ckK₁ ⟨U, [], 0, 0⟩ { method := ⟨cell.cls, 1⟩, pc := 5, locals := #[.val (.ref b), .val (.ref n), .val (.int x), .val (.int y), .val (.int z)], stack := [], locked := none } (.invokestatic 17) t₁ #[.ref n, .int x, .int y, .int z] Y₀ rfl (by rw [hml₁]; rfl) (by rw [hbytes₁]; exact lm5) (by show 2 * 0 + 0 ≤ 8; omega) hnamedU hpreU with ⟨v, B, X', hpost, hsteps⟩ | ⟨q, B, X', hpost, hsteps⟩
  · obtain ⟨w', L, g1, g2, g3, ⟨rr, hv9, hq9⟩, g5, g6, g7, g8⟩ := hpost
    subst hv9
    obtain ⟨fs, hleave, -, hended, hWe, hsame⟩ := X'.leave (v := some (.int rr)) (fun h => by rw [hretk₁] at h; cases h) hlk₁
    rw [← hs'] at hWe hsame
    obtain ⟨T', XT', hW', -, ht⟩ := X₁.outOf (g := F0 m pc ls rest) rfl hdg2 hended hWe hsame
    have hheapT : T'.heap = B.U.heap := by
      have h9 := congrArg State.heap ht
      exact h9.symm
    refine Or.inl ⟨some (.int rr), ⟨T', locs ++ B.locs, w.2.1 - w0.2.1 + B.cells, w.2.2 - w0.2.2 + B.slots⟩, vm₁, #[.ref b, .ref n, .int x, .int y, .int z], hW₁, XT', ⟨w', L, by rw [hheapT]; exact g1, g2, g3, ⟨rr, rfl, hq9⟩, ?_, g6, ?_, ?_⟩, fun target h => hstep₁ _ fun acts => ?_⟩
    · show locs ++ B.locs = locs ++ L
      rw [g5]; rfl
    · show w.2.1 - w0.2.1 + B.cells = w.2.1 - w0.2.1 + (w'.2.1 - w.2.1)
      rw [g7]; show _ + (0 + _) = _; omega
    · show w.2.2 - w0.2.2 + B.slots = w.2.2 - w0.2.2 + (w'.2.2 - w.2.2)
      rw [g8]; show _ + (0 + _) = _; omega
    · show Steps p.tables e below (doInvoke e ((T.setVm vm₁).setTop (F0 m pc ls rest)) acts ⟨cell.cls, 1⟩ #[.ref b, .ref n, .int x, .int y, .int z]).1 target
      rw [hin0 acts]
      refine Steps.trans ?_ h
      show Steps p.tables e below _ (T'.setTop { (F0 m pc ls rest) with pc := pc + 5, stack := (some (Value.int rr)).toList ++ rest })
      have ht2 : B.U.setFrames fs = T'.setTop { (F0 m pc ls rest) with pc := pc + 5, stack := (some (Value.int rr)).toList ++ rest } := ht
      rw [← ht2]
      refine Steps.weaken (mid := [.java (F0 m pc ls rest)]) ?_
      refine hgo _ (hsteps.trans ?_)
      show Steps p.tables e (.java (F0 m pc ls rest) :: below) (B.U.setTop { method := ⟨cell.cls, 1⟩, pc := 8, locals := #[.val (.ref b), .val (.ref n), .val (.int x), .val (.int y), .val (.int z)], stack := [.int rr], locked := none }) _
      have hmethk9 : B.U.vm.method? ⟨cell.cls, 1⟩ = some methk₁ := X'.method'
      jvm_step X'.here [X'.here.top, C.x, hbytes₁, lm8, hmethk9, hretk₁, narrow]
      intro acts''
      rw [hleave { method := ⟨cell.cls, 1⟩, pc := 8, locals := #[.val (.ref b), .val (.ref n), .val (.int x), .val (.int y), .val (.int z)], stack := [], locked := none } acts'' rfl rfl rfl]
      exact Steps.refl _
  · obtain ⟨w', L, X0, ce, g1, g2, g3, g4, i1, i2, i3, g5, g6, g7, g8⟩ := hpost
    obtain ⟨st1, hrun, hend, hW2, hsm⟩ := X'.leaveThrown q (g := { method := ⟨cell.cls, 1⟩, pc := 5, locals := #[.val (.ref b), .val (.ref n), .val (.int x), .val (.int y), .val (.int z)], stack := [], locked := none }) rfl rfl rfl (by rw [htb₁]; intro x hx; cases hx) hlk₁
    rw [← hs'] at hW2 hsm
    obtain ⟨T', XT', hW', -, ht⟩ := X₁.outOfThrown (g := F0 m pc ls rest) rfl hend hW2 hsm
    have hheapT : T'.heap = B.U.heap := by
      have h9 := congrArg State.heap ht
      exact h9.symm
    have i3' : vm₁.findClass X0 = some ce.cls := by rw [← hvm]; exact i3
    refine Or.inr ⟨q, ⟨T', locs ++ B.locs, w.2.1 - w0.2.1 + B.cells, w.2.2 - w0.2.2 + B.slots⟩, vm₁, #[.ref b, .ref n, .int x, .int y, .int z], hW₁, XT', ⟨w', L, X0, ce, by rw [hheapT]; exact g1, g2, g3, g4, by rw [hheapT]; exact i1, i2, i3', ?_, g6, ?_, ?_⟩, hstep₁ _ fun acts => ?_⟩
    · show locs ++ B.locs = locs ++ L
      rw [g5]; rfl
    · show w.2.1 - w0.2.1 + B.cells = w.2.1 - w0.2.1 + (w'.2.1 - w.2.1)
      rw [g7]; show _ + (0 + _) = _; omega
    · show w.2.2 - w0.2.2 + B.slots = w.2.2 - w0.2.2 + (w'.2.2 - w.2.2)
      rw [g8]; show _ + (0 + _) = _; omega
    · show Steps p.tables e below (doInvoke e ((T.setVm vm₁).setTop (F0 m pc ls rest)) acts ⟨cell.cls, 1⟩ #[.ref b, .ref n, .int x, .int y, .int z]).1 ((T'.setTop (F0 m pc ls rest)).pushFrame (.throwing q))
      rw [hin0 acts, ← ht]
      exact Steps.weaken (mid := [.java (F0 m pc ls rest)]) (hgo _ (hsteps.trans st1))
end GFk
/-- a method's contract out of the walk of its body, its own name at hand -/
theorem g_ofWN {l : Launch} {E : gE} {w0 : gW} {F Lc : Nat} {Qn : Option Value → gW → Prop} {Qx : String → gW → Prop} {y : MethodName} {cc : ByteArray} {maxL : Nat} {ry : Option FieldType} {av : List Value} (hl : l.stackTraces = false) (hy : plainName y.cls = true) (hlen : (lg_sl av).length ≤ maxL)
    (body : ∀ (p : Program) (e : Env) (s : State) (m : MethodId) (below : List Frame) (meth : Method) (c : Code) (ls : Array Slot) (H : Heap), gC p l s m av.toArray meth c cc maxL ry y.cls E [] y.name → s.methodNamed? y = some m → lv_has ls maxL (lv_args 0 av) → gS E w0 w0 H [] →
      gGo p l e s m av.toArray below meth c H [] F Lc E w0 w0 Qn Qx (F0 m 0 ls [])) : gMet l y (ws_ y cc maxL ry) E w0 av F Lc Qn Qx := by
  refine MetFree.of_bodyS (code := cc) (maxLocals := maxL) (ret := ry) hy ?_ ?_
  · intro args s m h hn
    obtain ⟨meth, c, h1, h2, h3, h4, h5, h6, -, -⟩ := Cond.code_spec hn (atoms_spec (ws := ws_ y cc maxL ry) h _ List.mem_cons_self)
    exact ⟨meth, c, h1, h2, h3, h4, h5, h6⟩
  · intro p e s m args below meth c s₁ B hml hP _
    obtain ⟨rfl, hR, hO, hk, hE⟩ := hP
    have hh0 : s₁.heap = s.heap := by rw [B.state]; rfl
    have ht : c.exceptionTable.toList = [] := by
      obtain ⟨meth9, c9, h1, h2, -, -, -, -, h7, -⟩ := Cond.code_spec B.named (atoms_spec (ws := ws_ y cc maxL ry) B.pre _ List.mem_cons_self)
      cases Option.some.inj (h1.symm.trans B.method)
      cases Option.some.inj (h2.symm.trans (Stand.of_body B).code)
      rw [Array.isEmpty_iff.mp h7]
    have hts := atoms_spec (ws := ws_ y cc maxL ry) B.pre
    have K : W p l e (gRm F Lc E w0) s m av.toArray below meth c s.heap [] 0 0 (gMQ below E w0 Qn Qx av.toArray s) (entryFrame m av.toArray maxL) := by
      refine g_entry hlen fun ls hls => ?_
      refine W.cs (cells' := w0.2.1 - w0.2.1) (slots' := w0.2.2 - w0.2.2) (Nat.sub_self _).symm (Nat.sub_self _).symm ?_
      exact body p e s m below meth c ls s.heap ⟨B.exec, B.bytes, B.returns, hml, findClass_of_methodNamed B.named, fun w h => hts w (List.mem_cons_of_mem _ h), B.notSynchronized, hk, hE, hl, ht, (name_of_methodNamed B.named B.method).1⟩ B.named hls ⟨hR, hO, gLe.rf, fun z hz => by cases hz⟩
    obtain ⟨t, a1, o, b1, b2, b3⟩ := K s₁ hh0 (Stand.of_body B)
    exact ⟨t, o, a1, b1, b2, b3⟩
