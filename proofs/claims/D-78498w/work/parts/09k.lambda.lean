/-! LAMBDAS: the made classes of commandOf's call sites; their forwarder walked -/
open Jvm.Lambda in
def lmD : ClassFile.MethodDescriptor := ⟨[.object "BridgeAuction$Network", .int, .int, .int], some .int⟩
def lmS (nm : String) : Lambda.Shape := { iface := "BridgeAuction$Command", name := "run", sam := lmD, captured := [], kind := 6, implClass := "BridgeAuction", implName := nm, implDesc := lmD, implItf := false, inst := lmD }
def lmC : ByteArray := ⟨#[0x2b, 0x1c, 0x1d, 0x15, 0x04, 0xb8, 0x00, 0x11, 0xac]⟩
theorem lm0 : decode lmC 0 = .ok (.aload_n 1, 1) := by decide +kernel
theorem lm1 : decode lmC 1 = .ok (.iload_n 2, 1) := by decide +kernel
theorem lm2 : decode lmC 2 = .ok (.iload_n 3, 1) := by decide +kernel
theorem lm3 : decode lmC 3 = .ok (.iload 4, 2) := by decide +kernel
theorem lm5 : decode lmC 5 = .ok (.invokestatic 17, 3) := by decide +kernel
theorem lm8 : decode lmC 8 = .ok (.ireturn, 1) := by decide +kernel
def lmFw (fw : Method) : Bool := decide ((fw.code.map fun c => (c.code.data, c.maxLocals, c.exceptionTable.size)) = some (lmC.data, 5, 0)) && decide ((fw.accessFlags, fw.name, fw.sig.returnType) = (1, "run", some FieldType.int))
def lmPool (nm : String) (D : ClassFile) : Bool := decide (D.constantPool[17]? = some (.methodref 14 16)) && decide (D.constantPool.className? 14 = some "BridgeAuction") && decide (D.constantPool.nameAndType? 16 = some (nm, "(LBridgeAuction$Network;III)I")) && decide (D.constantPool[14]? = some (.class_ 13)) && decide (D.constantPool.string? 13 = some "BridgeAuction") && decide (14 ≠ D.thisClass)
def lmChk (nm : String) : Bool := match (lmS nm).file "BridgeAuction" with
  | some D => lmPool nm D && (match ClassFile.layoutMethods D with
    | some ms => (match ms[1]? with
      | some fw => lmFw fw
      | none => false)
    | none => false)
  | none => false
theorem lmChk_0 : lmChk "lambda$commandOf$0" = true := by decide +kernel
theorem lmChk_1 : lmChk "lambda$commandOf$1" = true := by decide +kernel
theorem lmChk_2 : lmChk "lambda$commandOf$2" = true := by decide +kernel
theorem lmChk_3 : lmChk "lambda$commandOf$3" = true := by decide +kernel
theorem lmChk_4 : lmChk "lambda$commandOf$4" = true := by decide +kernel
theorem lmChk_5 : lmChk "lambda$commandOf$5" = true := by decide +kernel
theorem lmChk_6 : lmChk "lambda$commandOf$6" = true := by decide +kernel
