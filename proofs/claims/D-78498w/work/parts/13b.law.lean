/-! LAW: calls of the Model's methods in any world -/
def aMI (E : gE) (a : Nat) (P : (Int32 → gM → Prop) → gM → Prop) (K : Int32 → gW → Prop) (w : gW) : Prop := ∃ (ad : Nat → Nat) (u : gM) (wb : gW), mI ad ∧ ad 8 = a ∧ w = gmW E ad u wb ∧ P (fun r u' => K r (gmW E ad u' wb)) u
def aMJ (E : gE) (a : Nat) (P : (Int64 → gM → Prop) → gM → Prop) (K : Int64 → gW → Prop) (w : gW) : Prop := ∃ (ad : Nat → Nat) (u : gM) (wb : gW), mI ad ∧ ad 8 = a ∧ w = gmW E ad u wb ∧ P (fun r u' => K r (gmW E ad u' wb)) u
def aMV (E : gE) (a : Nat) (P : (gM → Prop) → gM → Prop) (K : gW → Prop) (w : gW) : Prop := ∃ (ad : Nat → Nat) (u : gM) (wb : gW), mI ad ∧ ad 8 = a ∧ w = gmW E ad u wb ∧ P (fun u' => K (gmW E ad u' wb)) u
section GFl
variable {p : Program} {l : Launch} {e : Env} {s : State} {m : MethodId} {args : Array Value} {below : List Frame} {meth : Method} {c : Code} {H : Heap} {locs : List Loc}
variable {cc : ByteArray} {pc nL : Nat} {ls : Array Slot} {rest st0 : List Value} {ret : Option FieldType} {own nm : String} {E : gE} {tb : List ExceptionTableEntry} {w0 w : gW} {F Lc : Nat} {Qn : Option Value → gW → Prop} {Qx : String → gW → Prop} {a : Nat}
theorem a_mI (C : gC p l s m args meth c cc nL ret own E tb nm) (hS : gS E w0 w H locs) {lv : List (Nat × Value)} (hl : lv_has ls nL lv) {y : MethodName} {index n : Nat} {bytes : ByteArray} {maxL : Nat} {ry : Option FieldType} {F2 Lc2 : Nat} {As : List Value} {P : (Int32 → gM → Prop) → gM → Prop} {K : Int32 → gW → Prop} (hw : aMI E a P K w)
    (hM : ∀ (ad : Nat → Nat) (u : gM) (wb : gW) (Q : (Int32 → gM → Prop)), mI ad → P Q u → gMet l y (ws_ y bytes maxL ry) E (gmW E ad u wb) (.ref (ad 8) :: As) F2 Lc2 (mQ E ad wb (uI Q)) gNoX) (hlk : Cond.methodLink own index y ∈ lw_all) (hinst : Cond.instanceMethod y ∈ lw_all) (hsel : Cond.selects RX5 y y ∈ lw_all) (hin : Cond.initialized y.cls ∈ lw_all) (hco : Cond.code y bytes maxL ry ∈ lw_all) (hy : gNm y n = true) (hn : As.length = n)
    (hF : F2 + 1 ≤ F) (hLc : 8 + (maxL + 11) + Lc2 ≤ Lc) (hst0 : st0 = As.reverse ++ .ref a :: rest) (hrm : (rest.map fun v => v.category).sum ≤ 8) (hdg : decode cc pc = .ok (.invokevirtual index, 3))
    (kk : ∀ (r : Int32) (w1 : gW) (H1 : Heap) (locs1 : List Loc), K r w1 → gS E w0 w1 H1 locs1 → gGo p l e s m args below meth c H1 locs1 F Lc E w0 w1 Qn Qx (F0 m (pc + 3) ls (.int r :: rest))) : gGo p l e s m args below meth c H locs F Lc E w0 w Qn Qx (F0 m pc ls st0) := by
  obtain ⟨ad, u, wb, hI, rfl, rfl, hP⟩ := hw
  refine g_callV (w := gmW E ad u wb) C hS hl 4 (gm_obj hI) rfl (hM ad u wb _ hI hP) hlk hinst hsel hin hco hy hn hF hLc hst0 hrm hdg (fun X w1 H1 l1 q ce hx => hx.elim) (fun v w1 H1 l1 hq _ hS1 => ?_)
  obtain ⟨u1, rfl, r, rfl, hq⟩ := hq
  exact kk r _ H1 l1 hq hS1
theorem a_mJ (C : gC p l s m args meth c cc nL ret own E tb nm) (hS : gS E w0 w H locs) {lv : List (Nat × Value)} (hl : lv_has ls nL lv) {y : MethodName} {index n : Nat} {bytes : ByteArray} {maxL : Nat} {ry : Option FieldType} {F2 Lc2 : Nat} {As : List Value} {P : (Int64 → gM → Prop) → gM → Prop} {K : Int64 → gW → Prop} (hw : aMJ E a P K w)
    (hM : ∀ (ad : Nat → Nat) (u : gM) (wb : gW) (Q : (Int64 → gM → Prop)), mI ad → P Q u → gMet l y (ws_ y bytes maxL ry) E (gmW E ad u wb) (.ref (ad 8) :: As) F2 Lc2 (mQ E ad wb (uJ Q)) gNoX) (hlk : Cond.methodLink own index y ∈ lw_all) (hinst : Cond.instanceMethod y ∈ lw_all) (hsel : Cond.selects RX5 y y ∈ lw_all) (hin : Cond.initialized y.cls ∈ lw_all) (hco : Cond.code y bytes maxL ry ∈ lw_all) (hy : gNm y n = true) (hn : As.length = n)
    (hF : F2 + 1 ≤ F) (hLc : 8 + (maxL + 11) + Lc2 ≤ Lc) (hst0 : st0 = As.reverse ++ .ref a :: rest) (hrm : (rest.map fun v => v.category).sum ≤ 8) (hdg : decode cc pc = .ok (.invokevirtual index, 3))
    (kk : ∀ (r : Int64) (w1 : gW) (H1 : Heap) (locs1 : List Loc), K r w1 → gS E w0 w1 H1 locs1 → gGo p l e s m args below meth c H1 locs1 F Lc E w0 w1 Qn Qx (F0 m (pc + 3) ls (.long r :: rest))) : gGo p l e s m args below meth c H locs F Lc E w0 w Qn Qx (F0 m pc ls st0) := by
  obtain ⟨ad, u, wb, hI, rfl, rfl, hP⟩ := hw
  refine g_callV (w := gmW E ad u wb) C hS hl 4 (gm_obj hI) rfl (hM ad u wb _ hI hP) hlk hinst hsel hin hco hy hn hF hLc hst0 hrm hdg (fun X w1 H1 l1 q ce hx => hx.elim) (fun v w1 H1 l1 hq _ hS1 => ?_)
  obtain ⟨u1, rfl, r, rfl, hq⟩ := hq
  exact kk r _ H1 l1 hq hS1
theorem a_mV (C : gC p l s m args meth c cc nL ret own E tb nm) (hS : gS E w0 w H locs) {lv : List (Nat × Value)} (hl : lv_has ls nL lv) {y : MethodName} {index n : Nat} {bytes : ByteArray} {maxL : Nat} {ry : Option FieldType} {F2 Lc2 : Nat} {As : List Value} {P : (gM → Prop) → gM → Prop} {K : gW → Prop} (hw : aMV E a P K w)
    (hM : ∀ (ad : Nat → Nat) (u : gM) (wb : gW) (Q : (gM → Prop)), mI ad → P Q u → gMet l y (ws_ y bytes maxL ry) E (gmW E ad u wb) (.ref (ad 8) :: As) F2 Lc2 (mQ E ad wb (uV Q)) gNoX) (hlk : Cond.methodLink own index y ∈ lw_all) (hinst : Cond.instanceMethod y ∈ lw_all) (hsel : Cond.selects RX5 y y ∈ lw_all) (hin : Cond.initialized y.cls ∈ lw_all) (hco : Cond.code y bytes maxL ry ∈ lw_all) (hy : gNm y n = true) (hn : As.length = n)
    (hF : F2 + 1 ≤ F) (hLc : 8 + (maxL + 11) + Lc2 ≤ Lc) (hst0 : st0 = As.reverse ++ .ref a :: rest) (hrm : (rest.map fun v => v.category).sum ≤ 8) (hdg : decode cc pc = .ok (.invokevirtual index, 3))
    (kk : ∀ (w1 : gW) (H1 : Heap) (locs1 : List Loc), K w1 → gS E w0 w1 H1 locs1 → gGo p l e s m args below meth c H1 locs1 F Lc E w0 w1 Qn Qx (F0 m (pc + 3) ls (rest))) : gGo p l e s m args below meth c H locs F Lc E w0 w Qn Qx (F0 m pc ls st0) := by
  obtain ⟨ad, u, wb, hI, rfl, rfl, hP⟩ := hw
  refine g_callV (w := gmW E ad u wb) C hS hl 4 (gm_obj hI) rfl (hM ad u wb _ hI hP) hlk hinst hsel hin hco hy hn hF hLc hst0 hrm hdg (fun X w1 H1 l1 q ce hx => hx.elim) (fun v w1 H1 l1 hq _ hS1 => ?_)
  obtain ⟨u1, rfl, rfl, hq⟩ := hq
  exact kk _ H1 l1 hq hS1
end GFl
