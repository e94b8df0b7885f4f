/-! the interface call: which of the seven -/
def aRun (E : gE) (b n : Nat) (x y z : Int32) (Q : Int32 → gW → Prop) (X : String → gW → Prop) (w : gW) : Prop :=
  (gLam E 216 "lambda$commandOf$0" b ∧ wJ_X1_lambda_commandOf_0 E n x y z Q X w) ∨
  (gLam E 222 "lambda$commandOf$1" b ∧ wJ_X1_lambda_commandOf_1 E n x y z Q X w) ∨
  (gLam E 228 "lambda$commandOf$2" b ∧ wJ_X1_lambda_commandOf_2 E n x y z Q X w) ∨
  (gLam E 234 "lambda$commandOf$3" b ∧ wJ_X1_lambda_commandOf_3 E n x y z Q X w) ∨
  (gLam E 240 "lambda$commandOf$4" b ∧ wJ_X1_lambda_commandOf_4 E n x y z Q X w) ∨
  (gLam E 246 "lambda$commandOf$5" b ∧ wJ_X1_lambda_commandOf_5 E n x y z Q X w) ∨
  (gLam E 252 "lambda$commandOf$6" b ∧ wJ_X1_lambda_commandOf_6 E n x y z Q X w)
section GFr
variable {p : Program} {l : Launch} {e : Env} {s : State} {m : MethodId} {args : Array Value} {below : List Frame} {meth : Method} {c : Code} {E : gE} {w0 : gW}
variable {cc : ByteArray} {pc nL : Nat} {ls : Array Slot} {rest st0 : List Value} {ret : Option FieldType} {own nm : String} {tb : List ExceptionTableEntry} {w : gW} {H : Heap} {locs : List Loc} {F Lc : Nat} {Qn : Option Value → gW → Prop} {Qx Qx2 : String → gW → Prop}
theorem a_run (C : gC p l s m args meth c cc nL ret own E tb nm) (hS : gS E w0 w H locs) {lv : List (Nat × Value)} (hl : lv_has ls nL lv) {b n : Nat} {x y z : Int32} {index count : Nat} {Q2 : Int32 → gW → Prop} (hw : aRun E b n x y z Q2 Qx2 w)
    (hlk : Cond.methodLink own index lmR ∈ lw_all) (hF : 13 ≤ F) (hLc : 262 ≤ Lc) (hst0 : st0 = .int z :: .int y :: .int x :: .ref n :: .ref b :: rest) (hrm : (rest.map fun v => v.category).sum ≤ 8) (hdg : decode cc pc = .ok (.invokeinterface index count, 5))
    (kx : ∀ (X : String) (w1 : gW) (H1 : Heap) (locs1 : List Loc) (q : Addr) (ce : Cell), Qx2 X w1 → gLe w w1 → gS E w0 w1 H1 locs1 → H1[q]? = some ce → ce.vm = .none → s.vm.findClass X = some ce.cls →
      vx_W p l e (gRm F Lc E w0) s m args below meth c H1 locs1 (w1.2.1 - w0.2.1) (w1.2.2 - w0.2.2) (gMQ below E w0 Qn Qx args s) (F0 m pc ls rest) q)
    (kk : ∀ (v : Option Value) (w1 : gW) (H1 : Heap) (locs1 : List Loc), gI Q2 v w1 → gLe w w1 → gS E w0 w1 H1 locs1 → gGo p l e s m args below meth c H1 locs1 F Lc E w0 w1 Qn Qx (F0 m (pc + 5) ls (v.toList ++ rest))) :
    gGo p l e s m args below meth c H locs F Lc E w0 w Qn Qx (F0 m pc ls st0) := by
  rcases hw with ⟨h1, h2⟩ | ⟨h1, h2⟩ | ⟨h1, h2⟩ | ⟨h1, h2⟩ | ⟨h1, h2⟩ | ⟨h1, h2⟩ | ⟨h1, h2⟩
  · exact a_lam C hS hl h1 lmChk_0 (kJ_X1_lambda_commandOf_0 C.tr h2) hlk q858 q77 q859 (by omega) (by omega) hst0 hrm hdg kx kk
  · exact a_lam C hS hl h1 lmChk_1 (kJ_X1_lambda_commandOf_1 C.tr h2) hlk q984 q77 q985 (by omega) (by omega) hst0 hrm hdg kx kk
  · exact a_lam C hS hl h1 lmChk_2 (kJ_X1_lambda_commandOf_2 C.tr h2) hlk q998 q77 q999 (by omega) (by omega) hst0 hrm hdg kx kk
  · exact a_lam C hS hl h1 lmChk_3 (kJ_X1_lambda_commandOf_3 C.tr h2) hlk q1009 q77 q1010 (by omega) (by omega) hst0 hrm hdg kx kk
  · exact a_lam C hS hl h1 lmChk_4 (kJ_X1_lambda_commandOf_4 C.tr h2) hlk q1016 q77 q1017 (by omega) (by omega) hst0 hrm hdg kx kk
  · exact a_lam C hS hl h1 lmChk_5 (kJ_X1_lambda_commandOf_5 C.tr h2) hlk q1030 q77 q1031 (by omega) (by omega) hst0 hrm hdg kx kk
  · exact a_lam C hS hl h1 lmChk_6 (kJ_X1_lambda_commandOf_6 C.tr h2) hlk q1038 q77 q1039 (by omega) (by omega) hst0 hrm hdg kx kk
end GFr
