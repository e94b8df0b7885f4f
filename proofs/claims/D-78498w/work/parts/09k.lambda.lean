/-! LAMBDAS: the made classes of commandOf's call sites; their forwarder walked -/
def lmD : MethodDescriptor := ⟨[.object "BridgeAuction$Network", .int, .int, .int], some .int⟩
def lmS (nm : String) : Lambda.Shape := { iface := "BridgeAuction$Command", name := "run", sam := lmD, captured := [], kind := 6, implClass := "BridgeAuction", implName := nm, implDesc := lmD, implItf := false, inst := lmD }
def lmC : ByteArray := ⟨#[0x2b, 0x1c, 0x1d, 0x15, 0x04, 0xb8, 0x00, 0x11, 0xac]⟩
theorem lm0 : decode lmC 0 = .ok (.aload_n 1, 1) := by decide +kernel
theorem lm1 : decode lmC 1 = .ok (.iload_n 2, 1) := by decide +kernel
theorem lm2 : decode lmC 2 = .ok (.iload_n 3, 1) := by decide +kernel
theorem lm3 : decode lmC 3 = .ok (.iload 4, 2) := by decide +kernel
theorem lm5 : decode lmC 5 = .ok (.invokestatic 17, 3) := by decide +kernel
theorem lm8 : decode lmC 8 = .ok (.ireturn, 1) := by decide +kernel
def lmFw (fw : Method) : Bool := decide ((fw.code.map fun c => (c.code.data, c.maxLocals, c.exceptionTable.size)) = some (lmC.data, 5, 0)) && decide ((fw.accessFlags, fw.name, fw.sig.returnType) = (1, "run", some FieldType.int))
def lmPool (nm : String) (D : ClassFile) : Bool := decide (D.constantPool[17]? = some (.methodref 14 16)) && decide (D.constantPool.className? 14 = some "BridgeAuction") && decide (D.constantPool.nameAndType? 16 = some (nm, "(LBridgeAuction$Network;III)I")) && decide (D.constantPool[14]? = some (.class_ 13)) && decide (D.constantPool.string? 13 = some "BridgeAuction") && decide (14 ≠ D.thisClass)
def lmChk (nm : String) : Bool := match (lmS nm).file "BridgeAuction" with
  | some D => lmPool nm D && (match layoutMethods D with
    | some ms => (match ms[1]? with
      | some fw => lmFw fw
      | none => false)
    | none => false)
  | none => false
theorem lmChk_0 : lmChk "lambda$commandOf$0" = true := by decide +kernel
theorem lmChk_1 : lmChk "lambda$commandOf$1" = true := by decide +kernel
theorem lmChk_2 : lmChk "lambda$commandOf$2" = true := by decide +kernel
theorem lmChk_3 : lmChk "lambda$commandOf$3" = true := by decide +kernel
theorem lmChk_4 : lmChk "lambda$commandOf$4" = true := by decide +kernel
theorem lmChk_5 : lmChk "lambda$commandOf$5" = true := by decide +kernel
theorem lmChk_6 : lmChk "lambda$commandOf$6" = true := by decide +kernel
theorem lm_made {nm : String} (hchk : lmChk nm = true) {e : Setting} {vm : Vm} {d c : ClassId} {dk : Class} (hd : vm.classes[d]? = some dk) (hname : dk.name = "BridgeAuction") (h : Lambda.isMade e vm d (lmS nm) c = true) :
    ∃ (k tk : Class) (file : ClassFile) (methk : Method) (ck : Code) (toy : ClassId) (t : MethodId),
      vm.classes[c]? = some k ∧ k.name = "BridgeAuction$$Lambda" ∧ k.cf = some file ∧ file.constantPool[17]? = some (.methodref 14 16) ∧ file.constantPool.nameAndType? 16 = some (nm, "(LBridgeAuction$Network;III)I") ∧
      vm.method? ⟨c, 1⟩ = some methk ∧ methk.code = some ck ∧ ck.code = lmC ∧ ck.maxLocals = 5 ∧ ck.exceptionTable.toList = [] ∧ methk.locks = false ∧ methk.accessFlags = 0x0001 ∧ methk.sig.returnType = some .int ∧
      vm.findClass "BridgeAuction" = some toy ∧ vm.classes[toy]? = some tk ∧ ((methodIn toy nm "(LBridgeAuction$Network;III)I" tk.isInterface none).ask e vm).1 = .ok t ∧
      vm.methodReady c 17 t ∧ vm.classReady c 14 toy := by
  unfold lmChk at hchk
  cases hF : (lmS nm).file "BridgeAuction" with
  | none => rw [hF] at hchk; cases hchk
  | some D =>
    rw [hF] at hchk
    simp only [Bool.and_eq_true] at hchk
    obtain ⟨hP, hM⟩ := hchk
    cases hL : layoutMethods D with
    | none => rw [hL] at hM; cases hM
    | some ms =>
      rw [hL] at hM
      cases hf : ms[1]? with
      | none => simp [hf] at hM
      | some fw =>
        simp only [hf] at hM
        simp only [lmFw, Bool.and_eq_true, decide_eq_true_eq, Prod.mk.injEq] at hM
        simp only [lmPool, Bool.and_eq_true, decide_eq_true_eq] at hP
        obtain ⟨⟨⟨⟨⟨p1, p2⟩, p3⟩, p4⟩, p5⟩, p6⟩ := hP
        obtain ⟨fc, ff1, ff2, ff3⟩ := hM
        obtain ⟨dk', k, ok, tk, file, cf, object, iface, toy, lay, methods, target, found, hd', hk, hfile, hcf, -, -, -, -, hms, ht, htk, hg, -, hrec, -, -, -, -, hpool, hmeth, -, -, hres, -⟩ := Lambda.isMade_spec h
        cases hd.symm.trans hd'
        rw [hname, hF] at hcf
        cases hcf
        rw [hL] at hms
        cases hms
        obtain ⟨b, hb, hsame⟩ := hmeth 1 fw hf
        simp only [Lambda.sameMethod, Bool.and_eq_true, decide_eq_true_eq] at hsame
        obtain ⟨⟨hn, -, hsig, hfl⟩, hcode⟩ := hsame
        cases hfc : fw.code with
        | none => rw [hfc] at fc; cases fc
        | some x =>
          cases hbc : b.code with
          | none => simp [hfc, hbc] at hcode
          | some y =>
            simp only [hfc, hbc, Bool.and_eq_true, decide_eq_true_eq] at hcode
            simp only [hfc, Option.map_some, Option.some.injEq, Prod.mk.injEq] at fc
            have e1 : lmD.toString = "(LBridgeAuction$Network;III)I" := by decide +kernel
            have hg2 : ((methodIn toy nm "(LBridgeAuction$Network;III)I" tk.isInterface none).ask e vm).1 = .ok target := by rw [← e1]; exact hg
            refine ⟨k, tk, file, b, y, toy, target, hk, by rw [hrec.1, hname]; rfl, hfile, by rw [hpool.2.1]; exact p1, ?_, by simp [Vm.method?, hk, hb], hbc, ?_, by rw [← hcode.1.1.1.1.2.1]; exact fc.2.1, ?_, ?_, by rw [← hfl]; exact ff1, by rw [← hsig]; exact ff3, ht, htk, hg2,
              ⟨k, hk, hres 17 _ (Lambda.resolvedOf_method p1 p2 ht htk p3 hg2)⟩, ⟨k, hk, hres 14 _ (Lambda.resolvedOf_class p4 p6 p5 ht)⟩⟩
            · have h9 : ∀ (a b : ConstantPool), a = b → a.nameAndType? 16 = b.nameAndType? 16 := fun a b h => by rw [h]
              rw [h9 _ _ hpool.2.1]
              exact p3
            · rw [← hcode.1.1.1.1.2.2]
              exact ByteArray.ext fc.1
            · have h8 := hcode.1.1.2
              exact (by simpa using h8 : y.exceptionTable = #[]) ▸ rfl
            · simp [Method.locks, Method.isSynchronized, ← hfl, ff1, hasFlag, Acc.synchronized]
