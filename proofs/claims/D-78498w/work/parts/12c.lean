section GB2
variable {p : Program} {l : Launch} {e : Env} {s : State} {m : MethodId} {args : Array Value} {below : List Frame} {meth : Method} {c : Code} {E : gE} {w0 : gW}
def wJ_X1_setBridges (E : gE) (i0 : Nat) (i1 : Int32) (Q : Int32 → gW → Prop) (X : String → gW → Prop) (w : gW) : Prop :=
  wJ_X1_inRange E i1.toInt64 2 8 (fun r2 w1 => aStr E "BridgeAuction" 90 "bridges" (fun a3 => wJ_X1_requireArgument E r2 a3 (fun w4 => wJ_X2_begun E i1 (fun r6 w5 => aR E i0 0 0 (fun r7 => ∃ a8 : Nat, r7 = some a8 ∧ (aI E a8 1 7 (fun v9 => ∃ a10 : Nat, r6 = some a10 ∧ (aP a10 1 7 (.int v9) (fun w11 => aR E i0 0 0 (fun r12 => ∃ a13 : Nat, r12 = some a13 ∧ (aI E a13 1 8 (fun v14 => aP a10 1 8 (.int v14) (fun w15 => aR E i0 0 0 (fun r16 => ∃ a17 : Nat, r16 = some a17 ∧ (aI E a17 1 9 (fun v18 => aP a10 1 9 (.int v18) (fun w19 => aR E i0 0 0 (fun r20 => ∃ a21 : Nat, r20 = some a21 ∧ (aR E a21 1 0 (fun r22 => ∃ a23 : Nat, r22 = some a23 ∧ (aKind E a23 8 (wJ_J2_size E a23 (fun r25 w24 => aKind E i0 0 (wJ_X1_become E i0 a10 r25 (fun r27 w26 => Q r27 w26) w24) w24) w19) w19)) w19)) w19) w15) w15)) w15) w11) w11)) w11) w5)) w5)) w5) w4) X w1)) w
theorem kJ_X1_setBridges_r (C : gC p l s m args meth c cX1_setBridges 3 (some .int) RX1 E [] "setBridges") (i0 : Nat) (i1 : Int32) {Q : Int32 → gW → Prop} {X : String → gW → Prop} (w : gW) (H : Heap) (locs : List Loc) (ls : Array Slot) (hS : gS E w0 w H locs) (hl : lv_has ls 3 [(0, .ref i0), (1, .int i1)]) (hw : wJ_X1_setBridges E i0 i1 Q X w) : gGo p l e s m args below meth c H locs 9 214 E w0 w (gI Q) (X) (F0 m 0 ls []) := by
  unfold wJ_X1_setBridges at hw
  refine lv_iload_n C.x C.b dX1_setBridges_0 rfl (lv_at hl 1 rfl) ?_
  refine lv_i2l C.x C.b dX1_setBridges_1 rfl ?_
  refine lv_ldc2 C.x C.b C.ow (C.ts _ q1273) dX1_setBridges_2 ?_
  refine lv_ldc2 C.x C.b C.ow (C.ts _ q1274) dX1_setBridges_5 ?_
  refine g_callS (rest := []) C hS hl (kJ_X1_inRange C.tr hw) q1275 q459 q77 q460 ny_X1_inRange rfl (Nat.le_of_ble_eq_true rfl) (Nat.le_of_ble_eq_true rfl) rfl (Nat.le_of_ble_eq_true rfl) dX1_setBridges_8 (fun X1 w1 H1 l1 q1 ce hx => hx.elim) (fun v w1 H locs hq _ hS => ?_)
  obtain ⟨r2, rfl, hw⟩ := hq
  refine W.eq (g2 := F0 m 11 ls [.int r2]) rfl ?_
  refine a_str C dX1_setBridges_11 hw (fun a3 hw => ?_)
  refine g_callS (rest := []) C hS hl (kJ_X1_requireArgument C.tr hw) q1277 q891 q77 q892 ny_X1_requireArgument rfl (Nat.le_of_ble_eq_true rfl) (Nat.le_of_ble_eq_true rfl) rfl (Nat.le_of_ble_eq_true rfl) dX1_setBridges_13 (fun X1 w1 H1 l1 q1 ce hx _ hS1 hc hv hcl => g_out C hS1 (fun x h => by cases h) hc hv hcl hx) (fun v w4 H locs hq _ hS => ?_)
  obtain ⟨rfl, hw⟩ := hq
  refine W.eq (g2 := F0 m 16 ls []) rfl ?_
  refine lv_iload_n C.x C.b dX1_setBridges_16 rfl (lv_at hl 1 rfl) ?_
  refine g_callS (rest := []) C hS hl (kJ_X2_begun C.tr hw) q117 q118 q78 q119 ny_X2_begun rfl (Nat.le_of_ble_eq_true rfl) (Nat.le_of_ble_eq_true rfl) rfl (Nat.le_of_ble_eq_true rfl) dX1_setBridges_17 (fun X1 w1 H1 l1 q1 ce hx => hx.elim) (fun v w5 H locs hq _ hS => ?_)
  obtain ⟨r6, rfl, hw⟩ := hq
  refine W.eq (g2 := F0 m 20 ls [va_rf r6]) rfl ?_
  refine a_astore_n (lv' := [(2, va_rf r6), (0, .ref i0), (1, .int i1)]) C dX1_setBridges_20 rfl hl (by decide) (by cases r6 <;> rfl) (fun ls hl => ?_)
  refine a_aload_n C dX1_setBridges_21 rfl (lv_at hl 0 rfl) ?_
  refine lv_aload_n C.x C.b dX1_setBridges_22 rfl (lv_at hl 1 rfl) ?_
  refine a_R C hS in_X1 rfl (k := 0) (ci := 0) (by decide) q345 (fun _ h9 => h9) dX1_setBridges_23 hw (fun r7 hw => ?_)
  obtain ⟨a8, e9, hw9⟩ := hw; subst e9; have hw := hw9; clear hw9
  have hl : lv_has ls 3 [(2, va_rf r6), (0, .ref i0), (1, .int i1)] := hl
  refine W.eq (g2 := F0 m 26 ls [.ref a8, va_rf r6]) rfl ?_
  refine a_IN C hS in_X2 rfl (k := 7) (ci := 1) (by decide) q165 (fun _ h9 => h9) dX1_setBridges_26 hw (fun v9 hw => ?_)
  obtain ⟨a10, e9, hw9⟩ := hw; subst e9; have hw := hw9; clear hw9
  have hl : lv_has ls 3 [(2, .ref a10), (0, .ref i0), (1, .int i1)] := hl
  refine W.eq (g2 := F0 m 29 ls [.int v9, .ref a10]) rfl ?_
  refine a_PN C hS in_X2 tyX2 tyX2_ok nmX2 rfl (k := 7) (ci := 1) (by decide) q165 (fun _ h9 => h9) rfl rfl rfl dX1_setBridges_29 hw (fun w11 H locs hw hS => ?_)
  refine lv_aload_n C.x C.b dX1_setBridges_32 rfl (lv_at hl 0 rfl) ?_
  refine lv_aload_n C.x C.b dX1_setBridges_33 rfl (lv_at hl 1 rfl) ?_
  refine a_R C hS in_X1 rfl (k := 0) (ci := 0) (by decide) q345 (fun _ h9 => h9) dX1_setBridges_34 hw (fun r12 hw => ?_)
  obtain ⟨a13, e9, hw9⟩ := hw; subst e9; have hw := hw9; clear hw9
  have hl : lv_has ls 3 [(2, .ref a10), (0, .ref i0), (1, .int i1)] := hl
  refine W.eq (g2 := F0 m 37 ls [.ref a13, .ref a10]) rfl ?_
  refine a_IN C hS in_X2 rfl (k := 8) (ci := 1) (by decide) q167 (fun _ h9 => h9) dX1_setBridges_37 hw (fun v14 hw => ?_)
  refine a_PN C hS in_X2 tyX2 tyX2_ok nmX2 rfl (k := 8) (ci := 1) (by decide) q167 (fun _ h9 => h9) rfl rfl rfl dX1_setBridges_40 hw (fun w15 H locs hw hS => ?_)
  refine lv_aload_n C.x C.b dX1_setBridges_43 rfl (lv_at hl 0 rfl) ?_
  refine lv_aload_n C.x C.b dX1_setBridges_44 rfl (lv_at hl 1 rfl) ?_
  refine a_R C hS in_X1 rfl (k := 0) (ci := 0) (by decide) q345 (fun _ h9 => h9) dX1_setBridges_45 hw (fun r16 hw => ?_)
  obtain ⟨a17, e9, hw9⟩ := hw; subst e9; have hw := hw9; clear hw9
  have hl : lv_has ls 3 [(2, .ref a10), (0, .ref i0), (1, .int i1)] := hl
  refine W.eq (g2 := F0 m 48 ls [.ref a17, .ref a10]) rfl ?_
  refine a_IN C hS in_X2 rfl (k := 9) (ci := 1) (by decide) q169 (fun _ h9 => h9) dX1_setBridges_48 hw (fun v18 hw => ?_)
  refine a_PN C hS in_X2 tyX2 tyX2_ok nmX2 rfl (k := 9) (ci := 1) (by decide) q169 (fun _ h9 => h9) rfl rfl rfl dX1_setBridges_51 hw (fun w19 H locs hw hS => ?_)
  refine lv_aload_n C.x C.b dX1_setBridges_54 rfl (lv_at hl 1 rfl) ?_
  refine lv_aload_n C.x C.b dX1_setBridges_55 rfl (lv_at hl 0 rfl) ?_
  refine lv_aload_n C.x C.b dX1_setBridges_56 rfl (lv_at hl 1 rfl) ?_
  refine a_R C hS in_X1 rfl (k := 0) (ci := 0) (by decide) q345 (fun _ h9 => h9) dX1_setBridges_57 hw (fun r20 hw => ?_)
  obtain ⟨a21, e9, hw9⟩ := hw; subst e9; have hw := hw9; clear hw9
  have hl : lv_has ls 3 [(2, .ref a10), (0, .ref i0), (1, .int i1)] := hl
  refine W.eq (g2 := F0 m 60 ls [.ref a21, .ref a10, .ref i0]) rfl ?_
  refine a_RN C hS in_X2 rfl (k := 0) (ci := 1) (by decide) q153 (fun _ h9 => h9) dX1_setBridges_60 hw (fun r22 hw => ?_)
  obtain ⟨a23, e9, hw9⟩ := hw; subst e9; have hw := hw9; clear hw9
  have hl : lv_has ls 3 [(2, .ref a10), (0, .ref i0), (1, .int i1)] := hl
  refine W.eq (g2 := F0 m 63 ls [.ref a23, .ref a10, .ref i0]) rfl ?_
  obtain ⟨fs, hq, hw⟩ := hw
  refine a_callV (rest := [.ref a10, .ref i0]) C hS hl 8 hq rfl (kJ_J2_size C.tr hw) q372 q373 q374 q81 q375 ny_J2_size rfl (Nat.le_of_ble_eq_true rfl) (Nat.le_of_ble_eq_true rfl) rfl (Nat.le_of_ble_eq_true rfl) dX1_setBridges_63 (fun X1 w1 H1 l1 q1 ce hx => hx.elim) (fun v w24 H locs hq _ hS => ?_)
  obtain ⟨r25, rfl, hw⟩ := hq
  refine W.eq (g2 := F0 m 66 ls [.int r25, .ref a10, .ref i0]) rfl ?_
  obtain ⟨fs, hq, hw⟩ := hw
  refine a_callV (rest := []) C hS hl 0 hq rfl (kJ_X1_become C.tr hw) q1204 q1206 qs18 q77 q1207 ny_X1_become rfl (Nat.le_of_ble_eq_true rfl) (Nat.le_of_ble_eq_true rfl) rfl (Nat.le_of_ble_eq_true rfl) dX1_setBridges_66 (fun X1 w1 H1 l1 q1 ce hx => hx.elim) (fun v w26 H locs hq _ hS => ?_)
  obtain ⟨r27, rfl, hw⟩ := hq
  refine W.eq (g2 := F0 m 69 ls [.int r27]) rfl ?_
  exact g_iret C hS ⟨_, rfl, hw⟩ dX1_setBridges_69
theorem ny_X1_setBridges : gNm yX1_setBridges 1 = true := by decide +kernel
theorem kJ_X1_setBridges {l : Launch} (ht : l.stackTraces = false) {w : gW} {i0 : Nat} {i1 : Int32} {Q : Int32 → gW → Prop} {X : String → gW → Prop} (hw : wJ_X1_setBridges E i0 i1 Q X w) : gMet l yX1_setBridges (ws_ yX1_setBridges cX1_setBridges 3 (some .int)) E w [.ref i0, .int i1] 9 214 (gI Q) (X) :=
  g_ofW ht (by decide) (Nat.le_of_ble_eq_true rfl) (fun p e s m below meth c ls H C hl hS => kJ_X1_setBridges_r C _ _ _ _ _ _ hS hl hw)
def wJ_X1_setTimes_55 (E : gE) (Q : Int32 → gW → Prop) (X : String → gW → Prop) (x0 : Nat) (x1 : Int32) (x2 : Int32) (x3 : Int32) (y0 : Int32) (w : gW) : Prop :=
  aStr E "BridgeAuction" 123 "times" (fun a11 => wJ_X1_requireArgument E y0 a11 (fun w12 => aR E x0 0 0 (fun r13 => ∃ a14 : Nat, r13 = some a14 ∧ (aKind E a14 1 (wJ_X2_copy E a14 (fun r16 w15 => ∃ a17 : Nat, r16 = some a17 ∧ (aP a17 1 7 (.int x1) (fun w18 => aP a17 1 8 (.int x2) (fun w19 => aP a17 1 9 (.int x3) (fun w20 => aR E x0 0 0 (fun r21 => ∃ a22 : Nat, r21 = some a22 ∧ (aI E a22 1 8 (fun v23 => aKind E x0 0 (wJ_X1_become E x0 a17 v23 (fun r25 w24 => Q r25 w24) w20) w20) w20)) w20) w19) w18) w15)) w12) w12)) w12) X w)
theorem kJ_X1_setTimes_55 (C : gC p l s m args meth c cX1_setTimes 6 (some .int) RX1 E [] "setTimes") {Q : Int32 → gW → Prop} {X : String → gW → Prop} (x0 : Nat) (x1 : Int32) (x2 : Int32) (x3 : Int32) (y0 : Int32) (w : gW) (H : Heap) (locs : List Loc) (ls : Array Slot) (hS : gS E w0 w H locs) (hl : lv_has ls 6 [(0, .ref x0), (1, .int x1), (2, .int x2), (3, .int x3)]) (hw : wJ_X1_setTimes_55 E Q X x0 x1 x2 x3 y0 w) : gGo p l e s m args below meth c H locs 9 214 E w0 w (gI Q) (X) (F0 m 55 ls [.int y0]) := by
  unfold wJ_X1_setTimes_55 at hw
  refine a_str C dX1_setTimes_55 hw (fun a11 hw => ?_)
  refine g_callS (rest := []) C hS hl (kJ_X1_requireArgument C.tr hw) q1277 q891 q77 q892 ny_X1_requireArgument rfl (Nat.le_of_ble_eq_true rfl) (Nat.le_of_ble_eq_true rfl) rfl (Nat.le_of_ble_eq_true rfl) dX1_setTimes_57 (fun X1 w1 H1 l1 q1 ce hx _ hS1 hc hv hcl => g_out C hS1 (fun x h => by cases h) hc hv hcl hx) (fun v w12 H locs hq _ hS => ?_)
  obtain ⟨rfl, hw⟩ := hq
  refine W.eq (g2 := F0 m 60 ls []) rfl ?_
  refine lv_aload_n C.x C.b dX1_setTimes_60 rfl (lv_at hl 0 rfl) ?_
  refine a_R C hS in_X1 rfl (k := 0) (ci := 0) (by decide) q345 (fun _ h9 => h9) dX1_setTimes_61 hw (fun r13 hw => ?_)
  obtain ⟨a14, e9, hw9⟩ := hw; subst e9; have hw := hw9; clear hw9
  have hl : lv_has ls 6 [(0, .ref x0), (1, .int x1), (2, .int x2), (3, .int x3)] := hl
  refine W.eq (g2 := F0 m 64 ls [.ref a14]) rfl ?_
  obtain ⟨fs, hq, hw⟩ := hw
  refine a_callV (rest := []) C hS hl 1 hq rfl (kJ_X2_copy C.tr hw) q1158 q1159 q1160 q78 q1161 ny_X2_copy rfl (Nat.le_of_ble_eq_true rfl) (Nat.le_of_ble_eq_true rfl) rfl (Nat.le_of_ble_eq_true rfl) dX1_setTimes_64 (fun X1 w1 H1 l1 q1 ce hx => hx.elim) (fun v w15 H locs hq _ hS => ?_)
  obtain ⟨r16, rfl, hw⟩ := hq
  refine W.eq (g2 := F0 m 67 ls [va_rf r16]) rfl ?_
  refine a_astore (lv' := [(5, va_rf r16), (0, .ref x0), (1, .int x1), (2, .int x2), (3, .int x3)]) C dX1_setTimes_67 hl (by decide) (by cases r16 <;> rfl) (fun ls hl => ?_)
  refine a_aload C dX1_setTimes_69 (lv_at hl 0 rfl) ?_
  refine lv_iload_n C.x C.b dX1_setTimes_71 rfl (lv_at hl 2 rfl) ?_
  obtain ⟨a17, e9, hw9⟩ := hw; subst e9; have hw := hw9; clear hw9
  have hl : lv_has ls 6 [(5, .ref a17), (0, .ref x0), (1, .int x1), (2, .int x2), (3, .int x3)] := hl
  refine W.eq (g2 := F0 m 72 ls [.int x1, .ref a17]) rfl ?_
  refine a_PN C hS in_X2 tyX2 tyX2_ok nmX2 rfl (k := 7) (ci := 1) (by decide) q165 (fun _ h9 => h9) rfl rfl rfl dX1_setTimes_72 hw (fun w18 H locs hw hS => ?_)
  refine lv_aload C.x C.b dX1_setTimes_75 (lv_at hl 0 rfl) ?_
  refine lv_iload_n C.x C.b dX1_setTimes_77 rfl (lv_at hl 3 rfl) ?_
  refine a_PN C hS in_X2 tyX2 tyX2_ok nmX2 rfl (k := 8) (ci := 1) (by decide) q167 (fun _ h9 => h9) rfl rfl rfl dX1_setTimes_78 hw (fun w19 H locs hw hS => ?_)
  refine lv_aload C.x C.b dX1_setTimes_81 (lv_at hl 0 rfl) ?_
  refine lv_iload_n C.x C.b dX1_setTimes_83 rfl (lv_at hl 4 rfl) ?_
  refine a_PN C hS in_X2 tyX2 tyX2_ok nmX2 rfl (k := 9) (ci := 1) (by decide) q169 (fun _ h9 => h9) rfl rfl rfl dX1_setTimes_84 hw (fun w20 H locs hw hS => ?_)
  refine lv_aload_n C.x C.b dX1_setTimes_87 rfl (lv_at hl 1 rfl) ?_
  refine lv_aload C.x C.b dX1_setTimes_88 (lv_at hl 0 rfl) ?_
  refine lv_aload_n C.x C.b dX1_setTimes_90 rfl (lv_at hl 1 rfl) ?_
  refine a_R C hS in_X1 rfl (k := 0) (ci := 0) (by decide) q345 (fun _ h9 => h9) dX1_setTimes_91 hw (fun r21 hw => ?_)
  obtain ⟨a22, e9, hw9⟩ := hw; subst e9; have hw := hw9; clear hw9
  have hl : lv_has ls 6 [(5, .ref a17), (0, .ref x0), (1, .int x1), (2, .int x2), (3, .int x3)] := hl
  refine W.eq (g2 := F0 m 94 ls [.ref a22, .ref a17, .ref x0]) rfl ?_
  refine a_IN C hS in_X2 rfl (k := 8) (ci := 1) (by decide) q167 (fun _ h9 => h9) dX1_setTimes_94 hw (fun v23 hw => ?_)
  obtain ⟨fs, hq, hw⟩ := hw
  refine a_callV (rest := []) C hS hl 0 hq rfl (kJ_X1_become C.tr hw) q1204 q1206 qs18 q77 q1207 ny_X1_become rfl (Nat.le_of_ble_eq_true rfl) (Nat.le_of_ble_eq_true rfl) rfl (Nat.le_of_ble_eq_true rfl) dX1_setTimes_97 (fun X1 w1 H1 l1 q1 ce hx => hx.elim) (fun v w24 H locs hq _ hS => ?_)
  obtain ⟨r25, rfl, hw⟩ := hq
  refine W.eq (g2 := F0 m 100 ls [.int r25]) rfl ?_
  exact g_iret C hS ⟨_, rfl, hw⟩ dX1_setTimes_100
def wJ_X1_setTimes_54 (E : gE) (Q : Int32 → gW → Prop) (X : String → gW → Prop) (x0 : Nat) (x1 : Int32) (x2 : Int32) (x3 : Int32) (w : gW) : Prop :=
  wJ_X1_setTimes_55 E Q X x0 x1 x2 x3 0 w
theorem kJ_X1_setTimes_54 (C : gC p l s m args meth c cX1_setTimes 6 (some .int) RX1 E [] "setTimes") {Q : Int32 → gW → Prop} {X : String → gW → Prop} (x0 : Nat) (x1 : Int32) (x2 : Int32) (x3 : Int32) (w : gW) (H : Heap) (locs : List Loc) (ls : Array Slot) (hS : gS E w0 w H locs) (hl : lv_has ls 6 [(0, .ref x0), (1, .int x1), (2, .int x2), (3, .int x3)]) (hw : wJ_X1_setTimes_54 E Q X x0 x1 x2 x3 w) : gGo p l e s m args below meth c H locs 9 214 E w0 w (gI Q) (X) (F0 m 54 ls []) := by
  unfold wJ_X1_setTimes_54 at hw
  refine lv_iconst (v := 0) C.x C.b dX1_setTimes_54 (by decide) ?_
  exact kJ_X1_setTimes_55 C _ _ _ _ _ _ _ _ _ hS (lv_sub hl [0, 1, 2, 3] rfl) hw
def wJ_X1_setTimes_31 (E : gE) (Q : Int32 → gW → Prop) (X : String → gW → Prop) (x0 : Nat) (x1 : Int32) (x2 : Int32) (x3 : Int32) (y0 : Int32) (w : gW) : Prop :=
  (y0 = 0 → (wJ_X1_setTimes_54 E Q X x0 x1 x2 x3 w)) ∧ (¬ y0 = 0 → (wJ_X1_inRange E x3.toInt64 0 100 (fun r9 w8 => (r9 = 0 → (wJ_X1_setTimes_54 E Q X x0 x1 x2 x3 w8)) ∧ (¬ r9 = 0 → (wJ_X1_setTimes_55 E Q X x0 x1 x2 x3 1 w8))) w))
theorem kJ_X1_setTimes_31 (C : gC p l s m args meth c cX1_setTimes 6 (some .int) RX1 E [] "setTimes") {Q : Int32 → gW → Prop} {X : String → gW → Prop} (x0 : Nat) (x1 : Int32) (x2 : Int32) (x3 : Int32) (y0 : Int32) (w : gW) (H : Heap) (locs : List Loc) (ls : Array Slot) (hS : gS E w0 w H locs) (hl : lv_has ls 6 [(0, .ref x0), (1, .int x1), (2, .int x2), (3, .int x3)]) (hw : wJ_X1_setTimes_31 E Q X x0 x1 x2 x3 y0 w) : gGo p l e s m args below meth c H locs 9 214 E w0 w (gI Q) (X) (F0 m 31 ls [.int y0]) := by
  unfold wJ_X1_setTimes_31 at hw
  refine lv_istore (lv' := [(4, .int y0), (0, .ref x0), (1, .int x1), (2, .int x2), (3, .int x3)]) C.x C.b dX1_setTimes_31 hl (by decide) rfl (fun ls hl => ?_)
  refine lv_iload C.x C.b dX1_setTimes_33 (lv_at hl 0 rfl) ?_
  refine lv_if_eq (tgt := 54) C.x C.b dX1_setTimes_35 (by decide) (fun c7 => ?_) (fun c7 => ?_)
  · have hw := hw.1 c7
    exact kJ_X1_setTimes_54 C _ _ _ _ _ _ _ _ hS (lv_sub hl [1, 2, 3, 4] rfl) hw
  · have hw := hw.2 c7
    refine lv_iload_n C.x C.b dX1_setTimes_38 rfl (lv_at hl 4 rfl) ?_
    refine lv_i2l C.x C.b dX1_setTimes_39 rfl ?_
    refine lv_lconst (v := 0) C.x C.b dX1_setTimes_40 (by decide) ?_
    refine lv_ldc2 C.x C.b C.ow (C.ts _ q1287) dX1_setTimes_41 ?_
    refine g_callS (rest := []) C hS hl (kJ_X1_inRange C.tr hw) q1275 q459 q77 q460 ny_X1_inRange rfl (Nat.le_of_ble_eq_true rfl) (Nat.le_of_ble_eq_true rfl) rfl (Nat.le_of_ble_eq_true rfl) dX1_setTimes_44 (fun X1 w1 H1 l1 q1 ce hx => hx.elim) (fun v w8 H locs hq _ hS => ?_)
    obtain ⟨r9, rfl, hw⟩ := hq
    refine W.eq (g2 := F0 m 47 ls [.int r9]) rfl ?_
    refine lv_if_eq (tgt := 54) C.x C.b dX1_setTimes_47 (by decide) (fun c10 => ?_) (fun c10 => ?_)
    · have hw := hw.1 c10
      exact kJ_X1_setTimes_54 C _ _ _ _ _ _ _ _ hS (lv_sub hl [1, 2, 3, 4] rfl) hw
    · have hw := hw.2 c10
      refine lv_iconst (v := 1) C.x C.b dX1_setTimes_50 (by decide) ?_
      refine lv_goto (tgt := 55) C.x C.b dX1_setTimes_51 (by decide) ?_
      exact kJ_X1_setTimes_55 C _ _ _ _ _ _ _ _ _ hS (lv_sub hl [1, 2, 3, 4] rfl) hw
def wJ_X1_setTimes_30 (E : gE) (Q : Int32 → gW → Prop) (X : String → gW → Prop) (x0 : Nat) (x1 : Int32) (x2 : Int32) (x3 : Int32) (w : gW) : Prop :=
  wJ_X1_setTimes_31 E Q X x0 x1 x2 x3 0 w
theorem kJ_X1_setTimes_30 (C : gC p l s m args meth c cX1_setTimes 6 (some .int) RX1 E [] "setTimes") {Q : Int32 → gW → Prop} {X : String → gW → Prop} (x0 : Nat) (x1 : Int32) (x2 : Int32) (x3 : Int32) (w : gW) (H : Heap) (locs : List Loc) (ls : Array Slot) (hS : gS E w0 w H locs) (hl : lv_has ls 6 [(0, .ref x0), (1, .int x1), (2, .int x2), (3, .int x3)]) (hw : wJ_X1_setTimes_30 E Q X x0 x1 x2 x3 w) : gGo p l e s m args below meth c H locs 9 214 E w0 w (gI Q) (X) (F0 m 30 ls []) := by
  unfold wJ_X1_setTimes_30 at hw
  refine lv_iconst (v := 0) C.x C.b dX1_setTimes_30 (by decide) ?_
  exact kJ_X1_setTimes_31 C _ _ _ _ _ _ _ _ _ hS (lv_sub hl [0, 1, 2, 3] rfl) hw
def wJ_X1_setTimes (E : gE) (i0 : Nat) (i1 : Int32) (i2 : Int32) (i3 : Int32) (Q : Int32 → gW → Prop) (X : String → gW → Prop) (w : gW) : Prop :=
  wJ_X1_inRange E i1.toInt64 1 20 (fun r2 w1 => (r2 = 0 → (wJ_X1_setTimes_30 E Q X i0 i1 i2 i3 w1)) ∧ (¬ r2 = 0 → (wJ_X1_inRange E i2.toInt64 5 100 (fun r5 w4 => (r5 = 0 → (wJ_X1_setTimes_30 E Q X i0 i1 i2 i3 w4)) ∧ (¬ r5 = 0 → (wJ_X1_setTimes_31 E Q X i0 i1 i2 i3 1 w4))) w1))) w
theorem kJ_X1_setTimes_r (C : gC p l s m args meth c cX1_setTimes 6 (some .int) RX1 E [] "setTimes") (i0 : Nat) (i1 : Int32) (i2 : Int32) (i3 : Int32) {Q : Int32 → gW → Prop} {X : String → gW → Prop} (w : gW) (H : Heap) (locs : List Loc) (ls : Array Slot) (hS : gS E w0 w H locs) (hl : lv_has ls 6 [(0, .ref i0), (1, .int i1), (2, .int i2), (3, .int i3)]) (hw : wJ_X1_setTimes E i0 i1 i2 i3 Q X w) : gGo p l e s m args below meth c H locs 9 214 E w0 w (gI Q) (X) (F0 m 0 ls []) := by
  unfold wJ_X1_setTimes at hw
  refine lv_iload_n C.x C.b dX1_setTimes_0 rfl (lv_at hl 1 rfl) ?_
  refine lv_i2l C.x C.b dX1_setTimes_1 rfl ?_
  refine lv_lconst (v := 1) C.x C.b dX1_setTimes_2 (by decide) ?_
  refine lv_ldc2 C.x C.b C.ow (C.ts _ q1285) dX1_setTimes_3 ?_
  refine g_callS (rest := []) C hS hl (kJ_X1_inRange C.tr hw) q1275 q459 q77 q460 ny_X1_inRange rfl (Nat.le_of_ble_eq_true rfl) (Nat.le_of_ble_eq_true rfl) rfl (Nat.le_of_ble_eq_true rfl) dX1_setTimes_6 (fun X1 w1 H1 l1 q1 ce hx => hx.elim) (fun v w1 H locs hq _ hS => ?_)
  obtain ⟨r2, rfl, hw⟩ := hq
  refine W.eq (g2 := F0 m 9 ls [.int r2]) rfl ?_
  refine lv_if_eq (tgt := 30) C.x C.b dX1_setTimes_9 (by decide) (fun c3 => ?_) (fun c3 => ?_)
  · have hw := hw.1 c3
    exact kJ_X1_setTimes_30 C _ _ _ _ _ _ _ _ hS (lv_sub hl [0, 1, 2, 3] rfl) hw
  · have hw := hw.2 c3
    refine lv_iload_n C.x C.b dX1_setTimes_12 rfl (lv_at hl 2 rfl) ?_
    refine lv_i2l C.x C.b dX1_setTimes_13 rfl ?_
    refine lv_ldc2 C.x C.b C.ow (C.ts _ q1286) dX1_setTimes_14 ?_
    refine lv_ldc2 C.x C.b C.ow (C.ts _ q1287) dX1_setTimes_17 ?_
    refine g_callS (rest := []) C hS hl (kJ_X1_inRange C.tr hw) q1275 q459 q77 q460 ny_X1_inRange rfl (Nat.le_of_ble_eq_true rfl) (Nat.le_of_ble_eq_true rfl) rfl (Nat.le_of_ble_eq_true rfl) dX1_setTimes_20 (fun X1 w1 H1 l1 q1 ce hx => hx.elim) (fun v w4 H locs hq _ hS => ?_)
    obtain ⟨r5, rfl, hw⟩ := hq
    refine W.eq (g2 := F0 m 23 ls [.int r5]) rfl ?_
    refine lv_if_eq (tgt := 30) C.x C.b dX1_setTimes_23 (by decide) (fun c6 => ?_) (fun c6 => ?_)
    · have hw := hw.1 c6
      exact kJ_X1_setTimes_30 C _ _ _ _ _ _ _ _ hS (lv_sub hl [0, 1, 2, 3] rfl) hw
    · have hw := hw.2 c6
      refine lv_iconst (v := 1) C.x C.b dX1_setTimes_26 (by decide) ?_
      refine lv_goto (tgt := 31) C.x C.b dX1_setTimes_27 (by decide) ?_
      exact kJ_X1_setTimes_31 C _ _ _ _ _ _ _ _ _ hS (lv_sub hl [0, 1, 2, 3] rfl) hw
theorem ny_X1_setTimes : gNm yX1_setTimes 3 = true := by decide +kernel
theorem kJ_X1_setTimes {l : Launch} (ht : l.stackTraces = false) {w : gW} {i0 : Nat} {i1 : Int32} {i2 : Int32} {i3 : Int32} {Q : Int32 → gW → Prop} {X : String → gW → Prop} (hw : wJ_X1_setTimes E i0 i1 i2 i3 Q X w) : gMet l yX1_setTimes (ws_ yX1_setTimes cX1_setTimes 6 (some .int)) E w [.ref i0, .int i1, .int i2, .int i3] 9 214 (gI Q) (X) :=
  g_ofW ht (by decide) (Nat.le_of_ble_eq_true rfl) (fun p e s m below meth c ls H C hl hS => kJ_X1_setTimes_r C _ _ _ _ _ _ _ _ hS hl hw)
def wJ_X1_setPriority (E : gE) (i0 : Nat) (i1 : Int32) (i2 : Int32) (Q : Int32 → gW → Prop) (X : String → gW → Prop) (w : gW) : Prop :=
  aR E i0 0 0 (fun r1 => ∃ a2 : Nat, r1 = some a2 ∧ (aKind E a2 1 (wJ_X2_copy E a2 (fun r4 w3 => ∃ a5 : Nat, r4 = some a5 ∧ (aKind E a5 1 (wJ_X2_setPriority E a5 i1 i2 (fun r7 w6 => aKind E i0 0 (wJ_X1_become E i0 a5 r7 (fun r9 w8 => Q r9 w8) w6) w6) X w3) w3)) w) w)) w
theorem kJ_X1_setPriority_r (C : gC p l s m args meth c cX1_setPriority 4 (some .int) RX1 E [] "setPriority") (i0 : Nat) (i1 : Int32) (i2 : Int32) {Q : Int32 → gW → Prop} {X : String → gW → Prop} (w : gW) (H : Heap) (locs : List Loc) (ls : Array Slot) (hS : gS E w0 w H locs) (hl : lv_has ls 4 [(0, .ref i0), (1, .int i1), (2, .int i2)]) (hw : wJ_X1_setPriority E i0 i1 i2 Q X w) : gGo p l e s m args below meth c H locs 11 214 E w0 w (gI Q) (X) (F0 m 0 ls []) := by
  unfold wJ_X1_setPriority at hw
  refine lv_aload_n C.x C.b dX1_setPriority_0 rfl (lv_at hl 0 rfl) ?_
  refine a_R C hS in_X1 rfl (k := 0) (ci := 0) (by decide) q345 (fun _ h9 => h9) dX1_setPriority_1 hw (fun r1 hw => ?_)
  obtain ⟨a2, e9, hw9⟩ := hw; subst e9; have hw := hw9; clear hw9
  have hl : lv_has ls 4 [(0, .ref i0), (1, .int i1), (2, .int i2)] := hl
  refine W.eq (g2 := F0 m 4 ls [.ref a2]) rfl ?_
  obtain ⟨fs, hq, hw⟩ := hw
  refine a_callV (rest := []) C hS hl 1 hq rfl (kJ_X2_copy C.tr hw) q1158 q1159 q1160 q78 q1161 ny_X2_copy rfl (Nat.le_of_ble_eq_true rfl) (Nat.le_of_ble_eq_true rfl) rfl (Nat.le_of_ble_eq_true rfl) dX1_setPriority_4 (fun X1 w1 H1 l1 q1 ce hx => hx.elim) (fun v w3 H locs hq _ hS => ?_)
  obtain ⟨r4, rfl, hw⟩ := hq
  refine W.eq (g2 := F0 m 7 ls [va_rf r4]) rfl ?_
  refine a_astore_n (lv' := [(3, va_rf r4), (0, .ref i0), (1, .int i1), (2, .int i2)]) C dX1_setPriority_7 rfl hl (by decide) (by cases r4 <;> rfl) (fun ls hl => ?_)
  refine lv_aload_n C.x C.b dX1_setPriority_8 rfl (lv_at hl 1 rfl) ?_
  refine a_aload_n C dX1_setPriority_9 rfl (lv_at hl 0 rfl) ?_
  refine a_aload_n C dX1_setPriority_10 rfl (lv_at hl 0 rfl) ?_
  refine lv_iload_n C.x C.b dX1_setPriority_11 rfl (lv_at hl 2 rfl) ?_
  refine lv_iload_n C.x C.b dX1_setPriority_12 rfl (lv_at hl 3 rfl) ?_
  obtain ⟨a5, e9, hw9⟩ := hw; subst e9; have hw := hw9; clear hw9
  have hl : lv_has ls 4 [(3, .ref a5), (0, .ref i0), (1, .int i1), (2, .int i2)] := hl
  refine W.eq (g2 := F0 m 13 ls [.int i2, .int i1, .ref a5, .ref a5, .ref i0]) rfl ?_
  obtain ⟨fs, hq, hw⟩ := hw
  refine a_callV (rest := [.ref a5, .ref i0]) C hS hl 1 hq rfl (kJ_X2_setPriority C.tr hw) q1018 q1019 q1020 q78 q1021 ny_X2_setPriority rfl (Nat.le_of_ble_eq_true rfl) (Nat.le_of_ble_eq_true rfl) rfl (Nat.le_of_ble_eq_true rfl) dX1_setPriority_13 (fun X1 w1 H1 l1 q1 ce hx _ hS1 hc hv hcl => g_out C hS1 (fun x h => by cases h) hc hv hcl hx) (fun v w6 H locs hq _ hS => ?_)
  obtain ⟨r7, rfl, hw⟩ := hq
  refine W.eq (g2 := F0 m 16 ls [.int r7, .ref a5, .ref i0]) rfl ?_
  obtain ⟨fs, hq, hw⟩ := hw
  refine a_callV (rest := []) C hS hl 0 hq rfl (kJ_X1_become C.tr hw) q1204 q1206 qs18 q77 q1207 ny_X1_become rfl (Nat.le_of_ble_eq_true rfl) (Nat.le_of_ble_eq_true rfl) rfl (Nat.le_of_ble_eq_true rfl) dX1_setPriority_16 (fun X1 w1 H1 l1 q1 ce hx => hx.elim) (fun v w8 H locs hq _ hS => ?_)
  obtain ⟨r9, rfl, hw⟩ := hq
  refine W.eq (g2 := F0 m 19 ls [.int r9]) rfl ?_
  exact g_iret C hS ⟨_, rfl, hw⟩ dX1_setPriority_19
theorem ny_X1_setPriority : gNm yX1_setPriority 2 = true := by decide +kernel
theorem kJ_X1_setPriority {l : Launch} (ht : l.stackTraces = false) {w : gW} {i0 : Nat} {i1 : Int32} {i2 : Int32} {Q : Int32 → gW → Prop} {X : String → gW → Prop} (hw : wJ_X1_setPriority E i0 i1 i2 Q X w) : gMet l yX1_setPriority (ws_ yX1_setPriority cX1_setPriority 4 (some .int)) E w [.ref i0, .int i1, .int i2] 11 214 (gI Q) (X) :=
  g_ofW ht (by decide) (Nat.le_of_ble_eq_true rfl) (fun p e s m below meth c ls H C hl hS => kJ_X1_setPriority_r C _ _ _ _ _ _ _ hS hl hw)
def wJ_X1_addLink (E : gE) (i0 : Nat) (i1 : Int32) (i2 : Int32) (i3 : Int32) (Q : Int32 → gW → Prop) (X : String → gW → Prop) (w : gW) : Prop :=
  aR E i0 0 0 (fun r1 => ∃ a2 : Nat, r1 = some a2 ∧ (aKind E a2 1 (wJ_X2_copy E a2 (fun r4 w3 => ∃ a5 : Nat, r4 = some a5 ∧ (aKind E a5 1 (wJ_X2_addLink E a5 i1 i2 i3 (fun r7 w6 => aKind E i0 0 (wJ_X1_become E i0 a5 r7 (fun r9 w8 => Q r9 w8) w6) w6) X w3) w3)) w) w)) w
theorem kJ_X1_addLink_r (C : gC p l s m args meth c cX1_addLink 5 (some .int) RX1 E [] "addLink") (i0 : Nat) (i1 : Int32) (i2 : Int32) (i3 : Int32) {Q : Int32 → gW → Prop} {X : String → gW → Prop} (w : gW) (H : Heap) (locs : List Loc) (ls : Array Slot) (hS : gS E w0 w H locs) (hl : lv_has ls 5 [(0, .ref i0), (1, .int i1), (2, .int i2), (3, .int i3)]) (hw : wJ_X1_addLink E i0 i1 i2 i3 Q X w) : gGo p l e s m args below meth c H locs 10 215 E w0 w (gI Q) (X) (F0 m 0 ls []) := by
  unfold wJ_X1_addLink at hw
  refine lv_aload_n C.x C.b dX1_addLink_0 rfl (lv_at hl 0 rfl) ?_
  refine a_R C hS in_X1 rfl (k := 0) (ci := 0) (by decide) q345 (fun _ h9 => h9) dX1_addLink_1 hw (fun r1 hw => ?_)
  obtain ⟨a2, e9, hw9⟩ := hw; subst e9; have hw := hw9; clear hw9
  have hl : lv_has ls 5 [(0, .ref i0), (1, .int i1), (2, .int i2), (3, .int i3)] := hl
  refine W.eq (g2 := F0 m 4 ls [.ref a2]) rfl ?_
  obtain ⟨fs, hq, hw⟩ := hw
  refine a_callV (rest := []) C hS hl 1 hq rfl (kJ_X2_copy C.tr hw) q1158 q1159 q1160 q78 q1161 ny_X2_copy rfl (Nat.le_of_ble_eq_true rfl) (Nat.le_of_ble_eq_true rfl) rfl (Nat.le_of_ble_eq_true rfl) dX1_addLink_4 (fun X1 w1 H1 l1 q1 ce hx => hx.elim) (fun v w3 H locs hq _ hS => ?_)
  obtain ⟨r4, rfl, hw⟩ := hq
  refine W.eq (g2 := F0 m 7 ls [va_rf r4]) rfl ?_
  refine a_astore (lv' := [(4, va_rf r4), (0, .ref i0), (1, .int i1), (2, .int i2), (3, .int i3)]) C dX1_addLink_7 hl (by decide) (by cases r4 <;> rfl) (fun ls hl => ?_)
  refine lv_aload_n C.x C.b dX1_addLink_9 rfl (lv_at hl 1 rfl) ?_
  refine a_aload C dX1_addLink_10 (lv_at hl 0 rfl) ?_
  refine a_aload C dX1_addLink_12 (lv_at hl 0 rfl) ?_
  refine lv_iload_n C.x C.b dX1_addLink_14 rfl (lv_at hl 2 rfl) ?_
  refine lv_iload_n C.x C.b dX1_addLink_15 rfl (lv_at hl 3 rfl) ?_
  refine lv_iload_n C.x C.b dX1_addLink_16 rfl (lv_at hl 4 rfl) ?_
  obtain ⟨a5, e9, hw9⟩ := hw; subst e9; have hw := hw9; clear hw9
  have hl : lv_has ls 5 [(4, .ref a5), (0, .ref i0), (1, .int i1), (2, .int i2), (3, .int i3)] := hl
  refine W.eq (g2 := F0 m 17 ls [.int i3, .int i2, .int i1, .ref a5, .ref a5, .ref i0]) rfl ?_
  obtain ⟨fs, hq, hw⟩ := hw
  refine a_callV (rest := [.ref a5, .ref i0]) C hS hl 1 hq rfl (kJ_X2_addLink C.tr hw) q860 q861 q862 q78 q863 ny_X2_addLink rfl (Nat.le_of_ble_eq_true rfl) (Nat.le_of_ble_eq_true rfl) rfl (Nat.le_of_ble_eq_true rfl) dX1_addLink_17 (fun X1 w1 H1 l1 q1 ce hx _ hS1 hc hv hcl => g_out C hS1 (fun x h => by cases h) hc hv hcl hx) (fun v w6 H locs hq _ hS => ?_)
  obtain ⟨r7, rfl, hw⟩ := hq
  refine W.eq (g2 := F0 m 20 ls [.int r7, .ref a5, .ref i0]) rfl ?_
  obtain ⟨fs, hq, hw⟩ := hw
  refine a_callV (rest := []) C hS hl 0 hq rfl (kJ_X1_become C.tr hw) q1204 q1206 qs18 q77 q1207 ny_X1_become rfl (Nat.le_of_ble_eq_true rfl) (Nat.le_of_ble_eq_true rfl) rfl (Nat.le_of_ble_eq_true rfl) dX1_addLink_20 (fun X1 w1 H1 l1 q1 ce hx => hx.elim) (fun v w8 H locs hq _ hS => ?_)
  obtain ⟨r9, rfl, hw⟩ := hq
  refine W.eq (g2 := F0 m 23 ls [.int r9]) rfl ?_
  exact g_iret C hS ⟨_, rfl, hw⟩ dX1_addLink_23
theorem ny_X1_addLink : gNm yX1_addLink 3 = true := by decide +kernel
theorem kJ_X1_addLink {l : Launch} (ht : l.stackTraces = false) {w : gW} {i0 : Nat} {i1 : Int32} {i2 : Int32} {i3 : Int32} {Q : Int32 → gW → Prop} {X : String → gW → Prop} (hw : wJ_X1_addLink E i0 i1 i2 i3 Q X w) : gMet l yX1_addLink (ws_ yX1_addLink cX1_addLink 5 (some .int)) E w [.ref i0, .int i1, .int i2, .int i3] 10 215 (gI Q) (X) :=
  g_ofW ht (by decide) (Nat.le_of_ble_eq_true rfl) (fun p e s m below meth c ls H C hl hS => kJ_X1_addLink_r C _ _ _ _ _ _ _ _ hS hl hw)
def wJ_X1_fail (E : gE) (i0 : Nat) (i1 : Int32) (Q : Int32 → gW → Prop) (X : String → gW → Prop) (w : gW) : Prop :=
  aR E i0 0 0 (fun r1 => ∃ a2 : Nat, r1 = some a2 ∧ (aKind E a2 1 (wJ_X2_copy E a2 (fun r4 w3 => ∃ a5 : Nat, r4 = some a5 ∧ (aKind E a5 1 (wJ_X2_fail E a5 i1 (fun r7 w6 => aKind E i0 0 (wJ_X1_become E i0 a5 r7 (fun r9 w8 => Q r9 w8) w6) w6) X w3) w3)) w) w)) w
theorem kJ_X1_fail_r (C : gC p l s m args meth c cX1_fail 3 (some .int) RX1 E [] "fail") (i0 : Nat) (i1 : Int32) {Q : Int32 → gW → Prop} {X : String → gW → Prop} (w : gW) (H : Heap) (locs : List Loc) (ls : Array Slot) (hS : gS E w0 w H locs) (hl : lv_has ls 3 [(0, .ref i0), (1, .int i1)]) (hw : wJ_X1_fail E i0 i1 Q X w) : gGo p l e s m args below meth c H locs 11 214 E w0 w (gI Q) (X) (F0 m 0 ls []) := by
  unfold wJ_X1_fail at hw
  refine lv_aload_n C.x C.b dX1_fail_0 rfl (lv_at hl 0 rfl) ?_
  refine a_R C hS in_X1 rfl (k := 0) (ci := 0) (by decide) q345 (fun _ h9 => h9) dX1_fail_1 hw (fun r1 hw => ?_)
  obtain ⟨a2, e9, hw9⟩ := hw; subst e9; have hw := hw9; clear hw9
  have hl : lv_has ls 3 [(0, .ref i0), (1, .int i1)] := hl
  refine W.eq (g2 := F0 m 4 ls [.ref a2]) rfl ?_
  obtain ⟨fs, hq, hw⟩ := hw
  refine a_callV (rest := []) C hS hl 1 hq rfl (kJ_X2_copy C.tr hw) q1158 q1159 q1160 q78 q1161 ny_X2_copy rfl (Nat.le_of_ble_eq_true rfl) (Nat.le_of_ble_eq_true rfl) rfl (Nat.le_of_ble_eq_true rfl) dX1_fail_4 (fun X1 w1 H1 l1 q1 ce hx => hx.elim) (fun v w3 H locs hq _ hS => ?_)
  obtain ⟨r4, rfl, hw⟩ := hq
  refine W.eq (g2 := F0 m 7 ls [va_rf r4]) rfl ?_
  refine a_astore_n (lv' := [(2, va_rf r4), (0, .ref i0), (1, .int i1)]) C dX1_fail_7 rfl hl (by decide) (by cases r4 <;> rfl) (fun ls hl => ?_)
  refine lv_aload_n C.x C.b dX1_fail_8 rfl (lv_at hl 1 rfl) ?_
  refine a_aload_n C dX1_fail_9 rfl (lv_at hl 0 rfl) ?_
  refine a_aload_n C dX1_fail_10 rfl (lv_at hl 0 rfl) ?_
  refine lv_iload_n C.x C.b dX1_fail_11 rfl (lv_at hl 2 rfl) ?_
  obtain ⟨a5, e9, hw9⟩ := hw; subst e9; have hw := hw9; clear hw9
  have hl : lv_has ls 3 [(2, .ref a5), (0, .ref i0), (1, .int i1)] := hl
  refine W.eq (g2 := F0 m 12 ls [.int i1, .ref a5, .ref a5, .ref i0]) rfl ?_
  obtain ⟨fs, hq, hw⟩ := hw
  refine a_callV (rest := [.ref a5, .ref i0]) C hS hl 1 hq rfl (kJ_X2_fail C.tr hw) q1000 q1001 q1002 q78 q1003 ny_X2_fail rfl (Nat.le_of_ble_eq_true rfl) (Nat.le_of_ble_eq_true rfl) rfl (Nat.le_of_ble_eq_true rfl) dX1_fail_12 (fun X1 w1 H1 l1 q1 ce hx _ hS1 hc hv hcl => g_out C hS1 (fun x h => by cases h) hc hv hcl hx) (fun v w6 H locs hq _ hS => ?_)
  obtain ⟨r7, rfl, hw⟩ := hq
  refine W.eq (g2 := F0 m 15 ls [.int r7, .ref a5, .ref i0]) rfl ?_
  obtain ⟨fs, hq, hw⟩ := hw
  refine a_callV (rest := []) C hS hl 0 hq rfl (kJ_X1_become C.tr hw) q1204 q1206 qs18 q77 q1207 ny_X1_become rfl (Nat.le_of_ble_eq_true rfl) (Nat.le_of_ble_eq_true rfl) rfl (Nat.le_of_ble_eq_true rfl) dX1_fail_15 (fun X1 w1 H1 l1 q1 ce hx => hx.elim) (fun v w8 H locs hq _ hS => ?_)
  obtain ⟨r9, rfl, hw⟩ := hq
  refine W.eq (g2 := F0 m 18 ls [.int r9]) rfl ?_
  exact g_iret C hS ⟨_, rfl, hw⟩ dX1_fail_18
theorem ny_X1_fail : gNm yX1_fail 1 = true := by decide +kernel
theorem kJ_X1_fail {l : Launch} (ht : l.stackTraces = false) {w : gW} {i0 : Nat} {i1 : Int32} {Q : Int32 → gW → Prop} {X : String → gW → Prop} (hw : wJ_X1_fail E i0 i1 Q X w) : gMet l yX1_fail (ws_ yX1_fail cX1_fail 3 (some .int)) E w [.ref i0, .int i1] 11 214 (gI Q) (X) :=
  g_ofW ht (by decide) (Nat.le_of_ble_eq_true rfl) (fun p e s m below meth c ls H C hl hS => kJ_X1_fail_r C _ _ _ _ _ _ hS hl hw)
def wJ_X1_fix (E : gE) (i0 : Nat) (i1 : Int32) (Q : Int32 → gW → Prop) (X : String → gW → Prop) (w : gW) : Prop :=
  aR E i0 0 0 (fun r1 => ∃ a2 : Nat, r1 = some a2 ∧ (aKind E a2 1 (wJ_X2_copy E a2 (fun r4 w3 => ∃ a5 : Nat, r4 = some a5 ∧ (aKind E a5 1 (wJ_X2_fix E a5 i1 (fun r7 w6 => aKind E i0 0 (wJ_X1_become E i0 a5 r7 (fun r9 w8 => Q r9 w8) w6) w6) X w3) w3)) w) w)) w
theorem kJ_X1_fix_r (C : gC p l s m args meth c cX1_fix 3 (some .int) RX1 E [] "fix") (i0 : Nat) (i1 : Int32) {Q : Int32 → gW → Prop} {X : String → gW → Prop} (w : gW) (H : Heap) (locs : List Loc) (ls : Array Slot) (hS : gS E w0 w H locs) (hl : lv_has ls 3 [(0, .ref i0), (1, .int i1)]) (hw : wJ_X1_fix E i0 i1 Q X w) : gGo p l e s m args below meth c H locs 11 214 E w0 w (gI Q) (X) (F0 m 0 ls []) := by
  unfold wJ_X1_fix at hw
  refine lv_aload_n C.x C.b dX1_fix_0 rfl (lv_at hl 0 rfl) ?_
  refine a_R C hS in_X1 rfl (k := 0) (ci := 0) (by decide) q345 (fun _ h9 => h9) dX1_fix_1 hw (fun r1 hw => ?_)
  obtain ⟨a2, e9, hw9⟩ := hw; subst e9; have hw := hw9; clear hw9
  have hl : lv_has ls 3 [(0, .ref i0), (1, .int i1)] := hl
  refine W.eq (g2 := F0 m 4 ls [.ref a2]) rfl ?_
  obtain ⟨fs, hq, hw⟩ := hw
  refine a_callV (rest := []) C hS hl 1 hq rfl (kJ_X2_copy C.tr hw) q1158 q1159 q1160 q78 q1161 ny_X2_copy rfl (Nat.le_of_ble_eq_true rfl) (Nat.le_of_ble_eq_true rfl) rfl (Nat.le_of_ble_eq_true rfl) dX1_fix_4 (fun X1 w1 H1 l1 q1 ce hx => hx.elim) (fun v w3 H locs hq _ hS => ?_)
  obtain ⟨r4, rfl, hw⟩ := hq
  refine W.eq (g2 := F0 m 7 ls [va_rf r4]) rfl ?_
  refine a_astore_n (lv' := [(2, va_rf r4), (0, .ref i0), (1, .int i1)]) C dX1_fix_7 rfl hl (by decide) (by cases r4 <;> rfl) (fun ls hl => ?_)
  refine lv_aload_n C.x C.b dX1_fix_8 rfl (lv_at hl 1 rfl) ?_
  refine a_aload_n C dX1_fix_9 rfl (lv_at hl 0 rfl) ?_
  refine a_aload_n C dX1_fix_10 rfl (lv_at hl 0 rfl) ?_
  refine lv_iload_n C.x C.b dX1_fix_11 rfl (lv_at hl 2 rfl) ?_
  obtain ⟨a5, e9, hw9⟩ := hw; subst e9; have hw := hw9; clear hw9
  have hl : lv_has ls 3 [(2, .ref a5), (0, .ref i0), (1, .int i1)] := hl
  refine W.eq (g2 := F0 m 12 ls [.int i1, .ref a5, .ref a5, .ref i0]) rfl ?_
  obtain ⟨fs, hq, hw⟩ := hw
  refine a_callV (rest := [.ref a5, .ref i0]) C hS hl 1 hq rfl (kJ_X2_fix C.tr hw) q1011 q1012 q1013 q78 q1014 ny_X2_fix rfl (Nat.le_of_ble_eq_true rfl) (Nat.le_of_ble_eq_true rfl) rfl (Nat.le_of_ble_eq_true rfl) dX1_fix_12 (fun X1 w1 H1 l1 q1 ce hx _ hS1 hc hv hcl => g_out C hS1 (fun x h => by cases h) hc hv hcl hx) (fun v w6 H locs hq _ hS => ?_)
  obtain ⟨r7, rfl, hw⟩ := hq
  refine W.eq (g2 := F0 m 15 ls [.int r7, .ref a5, .ref i0]) rfl ?_
  obtain ⟨fs, hq, hw⟩ := hw
  refine a_callV (rest := []) C hS hl 0 hq rfl (kJ_X1_become C.tr hw) q1204 q1206 qs18 q77 q1207 ny_X1_become rfl (Nat.le_of_ble_eq_true rfl) (Nat.le_of_ble_eq_true rfl) rfl (Nat.le_of_ble_eq_true rfl) dX1_fix_15 (fun X1 w1 H1 l1 q1 ce hx => hx.elim) (fun v w8 H locs hq _ hS => ?_)
  obtain ⟨r9, rfl, hw⟩ := hq
  refine W.eq (g2 := F0 m 18 ls [.int r9]) rfl ?_
  exact g_iret C hS ⟨_, rfl, hw⟩ dX1_fix_18
theorem ny_X1_fix : gNm yX1_fix 1 = true := by decide +kernel
theorem kJ_X1_fix {l : Launch} (ht : l.stackTraces = false) {w : gW} {i0 : Nat} {i1 : Int32} {Q : Int32 → gW → Prop} {X : String → gW → Prop} (hw : wJ_X1_fix E i0 i1 Q X w) : gMet l yX1_fix (ws_ yX1_fix cX1_fix 3 (some .int)) E w [.ref i0, .int i1] 11 214 (gI Q) (X) :=
  g_ofW ht (by decide) (Nat.le_of_ble_eq_true rfl) (fun p e s m below meth c ls H C hl hS => kJ_X1_fix_r C _ _ _ _ _ _ hS hl hw)
def wJ_X1_moveHost (E : gE) (i0 : Nat) (i1 : Int32) (i2 : Int32) (Q : Int32 → gW → Prop) (X : String → gW → Prop) (w : gW) : Prop :=
  aR E i0 0 0 (fun r1 => ∃ a2 : Nat, r1 = some a2 ∧ (aKind E a2 1 (wJ_X2_copy E a2 (fun r4 w3 => ∃ a5 : Nat, r4 = some a5 ∧ (aKind E a5 1 (wJ_X2_moveHost E a5 i1 i2 (fun r7 w6 => aKind E i0 0 (wJ_X1_become E i0 a5 r7 (fun r9 w8 => Q r9 w8) w6) w6) X w3) w3)) w) w)) w
theorem kJ_X1_moveHost_r (C : gC p l s m args meth c cX1_moveHost 4 (some .int) RX1 E [] "moveHost") (i0 : Nat) (i1 : Int32) (i2 : Int32) {Q : Int32 → gW → Prop} {X : String → gW → Prop} (w : gW) (H : Heap) (locs : List Loc) (ls : Array Slot) (hS : gS E w0 w H locs) (hl : lv_has ls 4 [(0, .ref i0), (1, .int i1), (2, .int i2)]) (hw : wJ_X1_moveHost E i0 i1 i2 Q X w) : gGo p l e s m args below meth c H locs 10 214 E w0 w (gI Q) (X) (F0 m 0 ls []) := by
  unfold wJ_X1_moveHost at hw
  refine lv_aload_n C.x C.b dX1_moveHost_0 rfl (lv_at hl 0 rfl) ?_
  refine a_R C hS in_X1 rfl (k := 0) (ci := 0) (by decide) q345 (fun _ h9 => h9) dX1_moveHost_1 hw (fun r1 hw => ?_)
  obtain ⟨a2, e9, hw9⟩ := hw; subst e9; have hw := hw9; clear hw9
  have hl : lv_has ls 4 [(0, .ref i0), (1, .int i1), (2, .int i2)] := hl
  refine W.eq (g2 := F0 m 4 ls [.ref a2]) rfl ?_
  obtain ⟨fs, hq, hw⟩ := hw
  refine a_callV (rest := []) C hS hl 1 hq rfl (kJ_X2_copy C.tr hw) q1158 q1159 q1160 q78 q1161 ny_X2_copy rfl (Nat.le_of_ble_eq_true rfl) (Nat.le_of_ble_eq_true rfl) rfl (Nat.le_of_ble_eq_true rfl) dX1_moveHost_4 (fun X1 w1 H1 l1 q1 ce hx => hx.elim) (fun v w3 H locs hq _ hS => ?_)
  obtain ⟨r4, rfl, hw⟩ := hq
  refine W.eq (g2 := F0 m 7 ls [va_rf r4]) rfl ?_
  refine a_astore_n (lv' := [(3, va_rf r4), (0, .ref i0), (1, .int i1), (2, .int i2)]) C dX1_moveHost_7 rfl hl (by decide) (by cases r4 <;> rfl) (fun ls hl => ?_)
  refine lv_aload_n C.x C.b dX1_moveHost_8 rfl (lv_at hl 1 rfl) ?_
  refine a_aload_n C dX1_moveHost_9 rfl (lv_at hl 0 rfl) ?_
  refine a_aload_n C dX1_moveHost_10 rfl (lv_at hl 0 rfl) ?_
  refine lv_iload_n C.x C.b dX1_moveHost_11 rfl (lv_at hl 2 rfl) ?_
  refine lv_iload_n C.x C.b dX1_moveHost_12 rfl (lv_at hl 3 rfl) ?_
  obtain ⟨a5, e9, hw9⟩ := hw; subst e9; have hw := hw9; clear hw9
  have hl : lv_has ls 4 [(3, .ref a5), (0, .ref i0), (1, .int i1), (2, .int i2)] := hl
  refine W.eq (g2 := F0 m 13 ls [.int i2, .int i1, .ref a5, .ref a5, .ref i0]) rfl ?_
  obtain ⟨fs, hq, hw⟩ := hw
  refine a_callV (rest := [.ref a5, .ref i0]) C hS hl 1 hq rfl (kJ_X2_moveHost C.tr hw) q1032 q1033 q1034 q78 q1035 ny_X2_moveHost rfl (Nat.le_of_ble_eq_true rfl) (Nat.le_of_ble_eq_true rfl) rfl (Nat.le_of_ble_eq_true rfl) dX1_moveHost_13 (fun X1 w1 H1 l1 q1 ce hx _ hS1 hc hv hcl => g_out C hS1 (fun x h => by cases h) hc hv hcl hx) (fun v w6 H locs hq _ hS => ?_)
  obtain ⟨r7, rfl, hw⟩ := hq
  refine W.eq (g2 := F0 m 16 ls [.int r7, .ref a5, .ref i0]) rfl ?_
  obtain ⟨fs, hq, hw⟩ := hw
  refine a_callV (rest := []) C hS hl 0 hq rfl (kJ_X1_become C.tr hw) q1204 q1206 qs18 q77 q1207 ny_X1_become rfl (Nat.le_of_ble_eq_true rfl) (Nat.le_of_ble_eq_true rfl) rfl (Nat.le_of_ble_eq_true rfl) dX1_moveHost_16 (fun X1 w1 H1 l1 q1 ce hx => hx.elim) (fun v w8 H locs hq _ hS => ?_)
  obtain ⟨r9, rfl, hw⟩ := hq
  refine W.eq (g2 := F0 m 19 ls [.int r9]) rfl ?_
  exact g_iret C hS ⟨_, rfl, hw⟩ dX1_moveHost_19
theorem ny_X1_moveHost : gNm yX1_moveHost 2 = true := by decide +kernel
theorem kJ_X1_moveHost {l : Launch} (ht : l.stackTraces = false) {w : gW} {i0 : Nat} {i1 : Int32} {i2 : Int32} {Q : Int32 → gW → Prop} {X : String → gW → Prop} (hw : wJ_X1_moveHost E i0 i1 i2 Q X w) : gMet l yX1_moveHost (ws_ yX1_moveHost cX1_moveHost 4 (some .int)) E w [.ref i0, .int i1, .int i2] 10 214 (gI Q) (X) :=
  g_ofW ht (by decide) (Nat.le_of_ble_eq_true rfl) (fun p e s m below meth c ls H C hl hS => kJ_X1_moveHost_r C _ _ _ _ _ _ _ hS hl hw)
def wJ_X1_bid (E : gE) (i0 : Nat) (i1 : Int32) (i2 : Int32) (i3 : Int32) (Q : Int32 → gW → Prop) (X : String → gW → Prop) (w : gW) : Prop :=
  aR E i0 0 0 (fun r1 => ∃ a2 : Nat, r1 = some a2 ∧ (aKind E a2 1 (wJ_X2_copy E a2 (fun r4 w3 => ∃ a5 : Nat, r4 = some a5 ∧ (aKind E a5 1 (wJ_X2_bid E a5 i1 i2 i3 (fun r7 w6 => aKind E i0 0 (wJ_X1_become E i0 a5 r7 (fun r9 w8 => Q r9 w8) w6) w6) X w3) w3)) w) w)) w
theorem kJ_X1_bid_r (C : gC p l s m args meth c cX1_bid 5 (some .int) RX1 E [] "bid") (i0 : Nat) (i1 : Int32) (i2 : Int32) (i3 : Int32) {Q : Int32 → gW → Prop} {X : String → gW → Prop} (w : gW) (H : Heap) (locs : List Loc) (ls : Array Slot) (hS : gS E w0 w H locs) (hl : lv_has ls 5 [(0, .ref i0), (1, .int i1), (2, .int i2), (3, .int i3)]) (hw : wJ_X1_bid E i0 i1 i2 i3 Q X w) : gGo p l e s m args below meth c H locs 10 214 E w0 w (gI Q) (X) (F0 m 0 ls []) := by
  unfold wJ_X1_bid at hw
  refine lv_aload_n C.x C.b dX1_bid_0 rfl (lv_at hl 0 rfl) ?_
  refine a_R C hS in_X1 rfl (k := 0) (ci := 0) (by decide) q345 (fun _ h9 => h9) dX1_bid_1 hw (fun r1 hw => ?_)
  obtain ⟨a2, e9, hw9⟩ := hw; subst e9; have hw := hw9; clear hw9
  have hl : lv_has ls 5 [(0, .ref i0), (1, .int i1), (2, .int i2), (3, .int i3)] := hl
  refine W.eq (g2 := F0 m 4 ls [.ref a2]) rfl ?_
  obtain ⟨fs, hq, hw⟩ := hw
  refine a_callV (rest := []) C hS hl 1 hq rfl (kJ_X2_copy C.tr hw) q1158 q1159 q1160 q78 q1161 ny_X2_copy rfl (Nat.le_of_ble_eq_true rfl) (Nat.le_of_ble_eq_true rfl) rfl (Nat.le_of_ble_eq_true rfl) dX1_bid_4 (fun X1 w1 H1 l1 q1 ce hx => hx.elim) (fun v w3 H locs hq _ hS => ?_)
  obtain ⟨r4, rfl, hw⟩ := hq
  refine W.eq (g2 := F0 m 7 ls [va_rf r4]) rfl ?_
  refine a_astore (lv' := [(4, va_rf r4), (0, .ref i0), (1, .int i1), (2, .int i2), (3, .int i3)]) C dX1_bid_7 hl (by decide) (by cases r4 <;> rfl) (fun ls hl => ?_)
  refine lv_aload_n C.x C.b dX1_bid_9 rfl (lv_at hl 1 rfl) ?_
  refine a_aload C dX1_bid_10 (lv_at hl 0 rfl) ?_
  refine a_aload C dX1_bid_12 (lv_at hl 0 rfl) ?_
  refine lv_iload_n C.x C.b dX1_bid_14 rfl (lv_at hl 2 rfl) ?_
  refine lv_iload_n C.x C.b dX1_bid_15 rfl (lv_at hl 3 rfl) ?_
  refine lv_iload_n C.x C.b dX1_bid_16 rfl (lv_at hl 4 rfl) ?_
  obtain ⟨a5, e9, hw9⟩ := hw; subst e9; have hw := hw9; clear hw9
  have hl : lv_has ls 5 [(4, .ref a5), (0, .ref i0), (1, .int i1), (2, .int i2), (3, .int i3)] := hl
  refine W.eq (g2 := F0 m 17 ls [.int i3, .int i2, .int i1, .ref a5, .ref a5, .ref i0]) rfl ?_
  obtain ⟨fs, hq, hw⟩ := hw
  refine a_callV (rest := [.ref a5, .ref i0]) C hS hl 1 hq rfl (kJ_X2_bid C.tr hw) q986 q987 q988 q78 q989 ny_X2_bid rfl (Nat.le_of_ble_eq_true rfl) (Nat.le_of_ble_eq_true rfl) rfl (Nat.le_of_ble_eq_true rfl) dX1_bid_17 (fun X1 w1 H1 l1 q1 ce hx _ hS1 hc hv hcl => g_out C hS1 (fun x h => by cases h) hc hv hcl hx) (fun v w6 H locs hq _ hS => ?_)
  obtain ⟨r7, rfl, hw⟩ := hq
  refine W.eq (g2 := F0 m 20 ls [.int r7, .ref a5, .ref i0]) rfl ?_
  obtain ⟨fs, hq, hw⟩ := hw
  refine a_callV (rest := []) C hS hl 0 hq rfl (kJ_X1_become C.tr hw) q1204 q1206 qs18 q77 q1207 ny_X1_become rfl (Nat.le_of_ble_eq_true rfl) (Nat.le_of_ble_eq_true rfl) rfl (Nat.le_of_ble_eq_true rfl) dX1_bid_20 (fun X1 w1 H1 l1 q1 ce hx => hx.elim) (fun v w8 H locs hq _ hS => ?_)
  obtain ⟨r9, rfl, hw⟩ := hq
  refine W.eq (g2 := F0 m 23 ls [.int r9]) rfl ?_
  exact g_iret C hS ⟨_, rfl, hw⟩ dX1_bid_23
theorem ny_X1_bid : gNm yX1_bid 3 = true := by decide +kernel
theorem kJ_X1_bid {l : Launch} (ht : l.stackTraces = false) {w : gW} {i0 : Nat} {i1 : Int32} {i2 : Int32} {i3 : Int32} {Q : Int32 → gW → Prop} {X : String → gW → Prop} (hw : wJ_X1_bid E i0 i1 i2 i3 Q X w) : gMet l yX1_bid (ws_ yX1_bid cX1_bid 5 (some .int)) E w [.ref i0, .int i1, .int i2, .int i3] 10 214 (gI Q) (X) :=
  g_ofW ht (by decide) (Nat.le_of_ble_eq_true rfl) (fun p e s m below meth c ls H C hl hS => kJ_X1_bid_r C _ _ _ _ _ _ _ _ hS hl hw)
def wJ_X1_grant_39 (E : gE) (Q : Int32 → gW → Prop) (X : String → gW → Prop) (x0 : Nat) (x1 : Int32) (x2 : Int32) (y0 : Int32) (w : gW) : Prop :=
  aStr E "BridgeAuction" 166 "too many credits" (fun a12 => wJ_X1_requireState E y0 a12 (fun w13 => aR E x0 0 0 (fun r14 => ∃ a15 : Nat, r14 = some a15 ∧ (aKind E a15 1 (wJ_X2_copy E a15 (fun r17 w16 => ∃ a18 : Nat, r17 = some a18 ∧ (aR E a18 1 3 (fun r19 => ∃ a20 : Nat, r19 = some a20 ∧ (aL E 0 a20 x1 (fun v21 => aS E 0 a20 x1 (v21 + x2) (fun w22 => aR E a18 1 3 (fun r23 => ∃ a24 : Nat, r23 = some a24 ∧ (aL E 0 a24 x1 (fun v25 => aKind E x0 0 (wJ_X1_become E x0 a18 v25 (fun r27 w26 => Q r27 w26) w22) w22) w22)) w22) w16) w16)) w16)) w13) w13)) w13) X w)
theorem kJ_X1_grant_39 (C : gC p l s m args meth c cX1_grant 4 (some .int) RX1 E [] "grant") {Q : Int32 → gW → Prop} {X : String → gW → Prop} (x0 : Nat) (x1 : Int32) (x2 : Int32) (y0 : Int32) (w : gW) (H : Heap) (locs : List Loc) (ls : Array Slot) (hS : gS E w0 w H locs) (hl : lv_has ls 4 [(0, .ref x0), (1, .int x1), (2, .int x2)]) (hw : wJ_X1_grant_39 E Q X x0 x1 x2 y0 w) : gGo p l e s m args below meth c H locs 10 214 E w0 w (gI Q) (X) (F0 m 39 ls [.int y0]) := by
  unfold wJ_X1_grant_39 at hw
  refine a_str C dX1_grant_39 hw (fun a12 hw => ?_)
  refine g_callS (rest := []) C hS hl (kJ_X1_requireState C.tr hw) q1350 q897 q77 q898 ny_X1_requireState rfl (Nat.le_of_ble_eq_true rfl) (Nat.le_of_ble_eq_true rfl) rfl (Nat.le_of_ble_eq_true rfl) dX1_grant_41 (fun X1 w1 H1 l1 q1 ce hx _ hS1 hc hv hcl => g_out C hS1 (fun x h => by cases h) hc hv hcl hx) (fun v w13 H locs hq _ hS => ?_)
  obtain ⟨rfl, hw⟩ := hq
  refine W.eq (g2 := F0 m 44 ls []) rfl ?_
  refine lv_aload_n C.x C.b dX1_grant_44 rfl (lv_at hl 0 rfl) ?_
  refine a_R C hS in_X1 rfl (k := 0) (ci := 0) (by decide) q345 (fun _ h9 => h9) dX1_grant_45 hw (fun r14 hw => ?_)
  obtain ⟨a15, e9, hw9⟩ := hw; subst e9; have hw := hw9; clear hw9
  have hl : lv_has ls 4 [(0, .ref x0), (1, .int x1), (2, .int x2)] := hl
  refine W.eq (g2 := F0 m 48 ls [.ref a15]) rfl ?_
  obtain ⟨fs, hq, hw⟩ := hw
  refine a_callV (rest := []) C hS hl 1 hq rfl (kJ_X2_copy C.tr hw) q1158 q1159 q1160 q78 q1161 ny_X2_copy rfl (Nat.le_of_ble_eq_true rfl) (Nat.le_of_ble_eq_true rfl) rfl (Nat.le_of_ble_eq_true rfl) dX1_grant_48 (fun X1 w1 H1 l1 q1 ce hx => hx.elim) (fun v w16 H locs hq _ hS => ?_)
  obtain ⟨r17, rfl, hw⟩ := hq
  refine W.eq (g2 := F0 m 51 ls [va_rf r17]) rfl ?_
  refine a_astore_n (lv' := [(3, va_rf r17), (0, .ref x0), (1, .int x1), (2, .int x2)]) C dX1_grant_51 rfl hl (by decide) (by cases r17 <;> rfl) (fun ls hl => ?_)
  refine a_aload_n C dX1_grant_52 rfl (lv_at hl 0 rfl) ?_
  obtain ⟨a18, e9, hw9⟩ := hw; subst e9; have hw := hw9; clear hw9
  have hl : lv_has ls 4 [(3, .ref a18), (0, .ref x0), (1, .int x1), (2, .int x2)] := hl
  refine W.eq (g2 := F0 m 53 ls [.ref a18]) rfl ?_
  refine a_RN C hS in_X2 rfl (k := 3) (ci := 1) (by decide) q159 (fun _ h9 => h9) dX1_grant_53 hw (fun r19 hw => ?_)
  refine lv_iload_n C.x C.b dX1_grant_56 rfl (lv_at hl 2 rfl) ?_
  refine lv_dup2_11 C.x C.b dX1_grant_57 rfl a_cat ?_
  obtain ⟨a20, e9, hw9⟩ := hw; subst e9; have hw := hw9; clear hw9
  have hl : lv_has ls 4 [(3, .ref a18), (0, .ref x0), (1, .int x1), (2, .int x2)] := hl
  refine W.eq (g2 := F0 m 58 ls [.int x1, .ref a20, .int x1, .ref a20]) rfl ?_
  refine a_Li C hS dX1_grant_58 hw (fun v21 hw => ?_)
  refine lv_iload_n C.x C.b dX1_grant_59 rfl (lv_at hl 3 rfl) ?_
  refine lv_iadd C.x C.b dX1_grant_60 ?_
  refine a_Si C hS dX1_grant_61 hw (fun w22 H locs hw hS => ?_)
  refine lv_aload_n C.x C.b dX1_grant_62 rfl (lv_at hl 1 rfl) ?_
  refine lv_aload_n C.x C.b dX1_grant_63 rfl (lv_at hl 0 rfl) ?_
  refine lv_aload_n C.x C.b dX1_grant_64 rfl (lv_at hl 0 rfl) ?_
  refine a_RN C hS in_X2 rfl (k := 3) (ci := 1) (by decide) q159 (fun _ h9 => h9) dX1_grant_65 hw (fun r23 hw => ?_)
  refine lv_iload_n C.x C.b dX1_grant_68 rfl (lv_at hl 2 rfl) ?_
  obtain ⟨a24, e9, hw9⟩ := hw; subst e9; have hw := hw9; clear hw9
  have hl : lv_has ls 4 [(3, .ref a18), (0, .ref x0), (1, .int x1), (2, .int x2)] := hl
  refine W.eq (g2 := F0 m 69 ls [.int x1, .ref a24, .ref a18, .ref x0]) rfl ?_
  refine a_Li C hS dX1_grant_69 hw (fun v25 hw => ?_)
  obtain ⟨fs, hq, hw⟩ := hw
  refine a_callV (rest := []) C hS hl 0 hq rfl (kJ_X1_become C.tr hw) q1204 q1206 qs18 q77 q1207 ny_X1_become rfl (Nat.le_of_ble_eq_true rfl) (Nat.le_of_ble_eq_true rfl) rfl (Nat.le_of_ble_eq_true rfl) dX1_grant_70 (fun X1 w1 H1 l1 q1 ce hx => hx.elim) (fun v w26 H locs hq _ hS => ?_)
  obtain ⟨r27, rfl, hw⟩ := hq
  refine W.eq (g2 := F0 m 73 ls [.int r27]) rfl ?_
  exact g_iret C hS ⟨_, rfl, hw⟩ dX1_grant_73
def wJ_X1_grant (E : gE) (i0 : Nat) (i1 : Int32) (i2 : Int32) (Q : Int32 → gW → Prop) (X : String → gW → Prop) (w : gW) : Prop :=
  wJ_X1_requireTenant E i1 (fun w1 => wJ_X1_inRange E i2.toInt64 0 10000 (fun r3 w2 => aStr E "BridgeAuction" 160 "credits" (fun a4 => wJ_X1_requireArgument E r3 a4 (fun w5 => aR E i0 0 0 (fun r6 => ∃ a7 : Nat, r6 = some a7 ∧ (aR E a7 1 3 (fun r8 => ∃ a9 : Nat, r8 = some a9 ∧ (aL E 0 a9 i1 (fun v10 => (1000000 < (v10 + i2) → (wJ_X1_grant_39 E Q X i0 i1 i2 0 w5)) ∧ (¬ 1000000 < (v10 + i2) → (wJ_X1_grant_39 E Q X i0 i1 i2 1 w5))) w5)) w5)) w5) X w2)) w1) X w
theorem kJ_X1_grant_r (C : gC p l s m args meth c cX1_grant 4 (some .int) RX1 E [] "grant") (i0 : Nat) (i1 : Int32) (i2 : Int32) {Q : Int32 → gW → Prop} {X : String → gW → Prop} (w : gW) (H : Heap) (locs : List Loc) (ls : Array Slot) (hS : gS E w0 w H locs) (hl : lv_has ls 4 [(0, .ref i0), (1, .int i1), (2, .int i2)]) (hw : wJ_X1_grant E i0 i1 i2 Q X w) : gGo p l e s m args below meth c H locs 10 214 E w0 w (gI Q) (X) (F0 m 0 ls []) := by
  unfold wJ_X1_grant at hw
  refine lv_iload_n C.x C.b dX1_grant_0 rfl (lv_at hl 1 rfl) ?_
  refine g_callS (rest := []) C hS hl (kJ_X1_requireTenant C.tr hw) q1340 q1341 q77 q1342 ny_X1_requireTenant rfl (Nat.le_of_ble_eq_true rfl) (Nat.le_of_ble_eq_true rfl) rfl (Nat.le_of_ble_eq_true rfl) dX1_grant_1 (fun X1 w1 H1 l1 q1 ce hx _ hS1 hc hv hcl => g_out C hS1 (fun x h => by cases h) hc hv hcl hx) (fun v w1 H locs hq _ hS => ?_)
  obtain ⟨rfl, hw⟩ := hq
  refine W.eq (g2 := F0 m 4 ls []) rfl ?_
  refine lv_iload_n C.x C.b dX1_grant_4 rfl (lv_at hl 2 rfl) ?_
  refine lv_i2l C.x C.b dX1_grant_5 rfl ?_
  refine lv_lconst (v := 0) C.x C.b dX1_grant_6 (by decide) ?_
  refine lv_ldc2 C.x C.b C.ow (C.ts _ q1346) dX1_grant_7 ?_
  refine g_callS (rest := []) C hS hl (kJ_X1_inRange C.tr hw) q1275 q459 q77 q460 ny_X1_inRange rfl (Nat.le_of_ble_eq_true rfl) (Nat.le_of_ble_eq_true rfl) rfl (Nat.le_of_ble_eq_true rfl) dX1_grant_10 (fun X1 w1 H1 l1 q1 ce hx => hx.elim) (fun v w2 H locs hq _ hS => ?_)
  obtain ⟨r3, rfl, hw⟩ := hq
  refine W.eq (g2 := F0 m 13 ls [.int r3]) rfl ?_
  refine a_str C dX1_grant_13 hw (fun a4 hw => ?_)
  refine g_callS (rest := []) C hS hl (kJ_X1_requireArgument C.tr hw) q1277 q891 q77 q892 ny_X1_requireArgument rfl (Nat.le_of_ble_eq_true rfl) (Nat.le_of_ble_eq_true rfl) rfl (Nat.le_of_ble_eq_true rfl) dX1_grant_15 (fun X1 w1 H1 l1 q1 ce hx _ hS1 hc hv hcl => g_out C hS1 (fun x h => by cases h) hc hv hcl hx) (fun v w5 H locs hq _ hS => ?_)
  obtain ⟨rfl, hw⟩ := hq
  refine W.eq (g2 := F0 m 18 ls []) rfl ?_
  refine lv_aload_n C.x C.b dX1_grant_18 rfl (lv_at hl 0 rfl) ?_
  refine a_R C hS in_X1 rfl (k := 0) (ci := 0) (by decide) q345 (fun _ h9 => h9) dX1_grant_19 hw (fun r6 hw => ?_)
  obtain ⟨a7, e9, hw9⟩ := hw; subst e9; have hw := hw9; clear hw9
  have hl : lv_has ls 4 [(0, .ref i0), (1, .int i1), (2, .int i2)] := hl
  refine W.eq (g2 := F0 m 22 ls [.ref a7]) rfl ?_
  refine a_RN C hS in_X2 rfl (k := 3) (ci := 1) (by decide) q159 (fun _ h9 => h9) dX1_grant_22 hw (fun r8 hw => ?_)
  refine lv_iload_n C.x C.b dX1_grant_25 rfl (lv_at hl 1 rfl) ?_
  obtain ⟨a9, e9, hw9⟩ := hw; subst e9; have hw := hw9; clear hw9
  have hl : lv_has ls 4 [(0, .ref i0), (1, .int i1), (2, .int i2)] := hl
  refine W.eq (g2 := F0 m 26 ls [.int i1, .ref a9]) rfl ?_
  refine a_Li C hS dX1_grant_26 hw (fun v10 hw => ?_)
  refine lv_iload_n C.x C.b dX1_grant_27 rfl (lv_at hl 2 rfl) ?_
  refine lv_iadd C.x C.b dX1_grant_28 ?_
  refine lv_ldc C.x C.b C.ow (C.ts _ q1348) dX1_grant_29 ?_
  refine lv_icmp_gt (tgt := 38) C.x C.b dX1_grant_31 (by decide) (fun c11 => ?_) (fun c11 => ?_)
  · have hw := hw.1 c11
    refine lv_iconst (v := 0) C.x C.b dX1_grant_38 (by decide) ?_
    exact kJ_X1_grant_39 C _ _ _ _ _ _ _ _ hS (lv_sub hl [0, 1, 2] rfl) hw
  · have hw := hw.2 c11
    refine lv_iconst (v := 1) C.x C.b dX1_grant_34 (by decide) ?_
    refine lv_goto (tgt := 39) C.x C.b dX1_grant_35 (by decide) ?_
    exact kJ_X1_grant_39 C _ _ _ _ _ _ _ _ hS (lv_sub hl [0, 1, 2] rfl) hw
theorem ny_X1_grant : gNm yX1_grant 2 = true := by decide +kernel
theorem kJ_X1_grant {l : Launch} (ht : l.stackTraces = false) {w : gW} {i0 : Nat} {i1 : Int32} {i2 : Int32} {Q : Int32 → gW → Prop} {X : String → gW → Prop} (hw : wJ_X1_grant E i0 i1 i2 Q X w) : gMet l yX1_grant (ws_ yX1_grant cX1_grant 4 (some .int)) E w [.ref i0, .int i1, .int i2] 10 214 (gI Q) (X) :=
  g_ofW ht (by decide) (Nat.le_of_ble_eq_true rfl) (fun p e s m below meth c ls H C hl hS => kJ_X1_grant_r C _ _ _ _ _ _ _ hS hl hw)
def wJ_X1_tick (E : gE) (i0 : Nat) (i1 : Int32) (Q : Int32 → gW → Prop) (X : String → gW → Prop) (w : gW) : Prop :=
  aR E i0 0 0 (fun r1 => ∃ a2 : Nat, r1 = some a2 ∧ (aKind E a2 1 (wJ_X2_copy E a2 (fun r4 w3 => ∃ a5 : Nat, r4 = some a5 ∧ (aKind E a5 1 (wJ_X2_tick E a5 i1 (fun r7 w6 => aKind E i0 0 (wJ_X1_become E i0 a5 r7 (fun r9 w8 => Q r9 w8) w6) w6) X w3) w3)) w) w)) w
theorem kJ_X1_tick_r (C : gC p l s m args meth c cX1_tick 3 (some .int) RX1 E [] "tick") (i0 : Nat) (i1 : Int32) {Q : Int32 → gW → Prop} {X : String → gW → Prop} (w : gW) (H : Heap) (locs : List Loc) (ls : Array Slot) (hS : gS E w0 w H locs) (hl : lv_has ls 3 [(0, .ref i0), (1, .int i1)]) (hw : wJ_X1_tick E i0 i1 Q X w) : gGo p l e s m args below meth c H locs 10 214 E w0 w (gI Q) (X) (F0 m 0 ls []) := by
  unfold wJ_X1_tick at hw
  refine lv_aload_n C.x C.b dX1_tick_0 rfl (lv_at hl 0 rfl) ?_
  refine a_R C hS in_X1 rfl (k := 0) (ci := 0) (by decide) q345 (fun _ h9 => h9) dX1_tick_1 hw (fun r1 hw => ?_)
  obtain ⟨a2, e9, hw9⟩ := hw; subst e9; have hw := hw9; clear hw9
  have hl : lv_has ls 3 [(0, .ref i0), (1, .int i1)] := hl
  refine W.eq (g2 := F0 m 4 ls [.ref a2]) rfl ?_
  obtain ⟨fs, hq, hw⟩ := hw
  refine a_callV (rest := []) C hS hl 1 hq rfl (kJ_X2_copy C.tr hw) q1158 q1159 q1160 q78 q1161 ny_X2_copy rfl (Nat.le_of_ble_eq_true rfl) (Nat.le_of_ble_eq_true rfl) rfl (Nat.le_of_ble_eq_true rfl) dX1_tick_4 (fun X1 w1 H1 l1 q1 ce hx => hx.elim) (fun v w3 H locs hq _ hS => ?_)
  obtain ⟨r4, rfl, hw⟩ := hq
  refine W.eq (g2 := F0 m 7 ls [va_rf r4]) rfl ?_
  refine a_astore_n (lv' := [(2, va_rf r4), (0, .ref i0), (1, .int i1)]) C dX1_tick_7 rfl hl (by decide) (by cases r4 <;> rfl) (fun ls hl => ?_)
  refine lv_aload_n C.x C.b dX1_tick_8 rfl (lv_at hl 1 rfl) ?_
  refine a_aload_n C dX1_tick_9 rfl (lv_at hl 0 rfl) ?_
  refine a_aload_n C dX1_tick_10 rfl (lv_at hl 0 rfl) ?_
  refine lv_iload_n C.x C.b dX1_tick_11 rfl (lv_at hl 2 rfl) ?_
  obtain ⟨a5, e9, hw9⟩ := hw; subst e9; have hw := hw9; clear hw9
  have hl : lv_has ls 3 [(2, .ref a5), (0, .ref i0), (1, .int i1)] := hl
  refine W.eq (g2 := F0 m 12 ls [.int i1, .ref a5, .ref a5, .ref i0]) rfl ?_
  obtain ⟨fs, hq, hw⟩ := hw
  refine a_callV (rest := [.ref a5, .ref i0]) C hS hl 1 hq rfl (kJ_X2_tick C.tr hw) q1040 q1041 q1042 q78 q1043 ny_X2_tick rfl (Nat.le_of_ble_eq_true rfl) (Nat.le_of_ble_eq_true rfl) rfl (Nat.le_of_ble_eq_true rfl) dX1_tick_12 (fun X1 w1 H1 l1 q1 ce hx _ hS1 hc hv hcl => g_out C hS1 (fun x h => by cases h) hc hv hcl hx) (fun v w6 H locs hq _ hS => ?_)
  obtain ⟨r7, rfl, hw⟩ := hq
  refine W.eq (g2 := F0 m 15 ls [.int r7, .ref a5, .ref i0]) rfl ?_
  obtain ⟨fs, hq, hw⟩ := hw
  refine a_callV (rest := []) C hS hl 0 hq rfl (kJ_X1_become C.tr hw) q1204 q1206 qs18 q77 q1207 ny_X1_become rfl (Nat.le_of_ble_eq_true rfl) (Nat.le_of_ble_eq_true rfl) rfl (Nat.le_of_ble_eq_true rfl) dX1_tick_15 (fun X1 w1 H1 l1 q1 ce hx => hx.elim) (fun v w8 H locs hq _ hS => ?_)
  obtain ⟨r9, rfl, hw⟩ := hq
  refine W.eq (g2 := F0 m 18 ls [.int r9]) rfl ?_
  exact g_iret C hS ⟨_, rfl, hw⟩ dX1_tick_18
theorem ny_X1_tick : gNm yX1_tick 1 = true := by decide +kernel
theorem kJ_X1_tick {l : Launch} (ht : l.stackTraces = false) {w : gW} {i0 : Nat} {i1 : Int32} {Q : Int32 → gW → Prop} {X : String → gW → Prop} (hw : wJ_X1_tick E i0 i1 Q X w) : gMet l yX1_tick (ws_ yX1_tick cX1_tick 3 (some .int)) E w [.ref i0, .int i1] 10 214 (gI Q) (X) :=
  g_ofW ht (by decide) (Nat.le_of_ble_eq_true rfl) (fun p e s m below meth c ls H C hl hS => kJ_X1_tick_r C _ _ _ _ _ _ hS hl hw)
def wJ_X1_send (E : gE) (i0 : Nat) (i1 : Int32) (i2 : Int32) (Q : Int32 → gW → Prop) (X : String → gW → Prop) (w : gW) : Prop :=
  aR E i0 0 0 (fun r1 => ∃ a2 : Nat, r1 = some a2 ∧ (aKind E a2 1 (wJ_X2_copy E a2 (fun r4 w3 => ∃ a5 : Nat, r4 = some a5 ∧ (aKind E a5 1 (wJ_X2_send E a5 i1 i2 (fun r7 w6 => aKind E i0 0 (wJ_X1_become E i0 a5 r7 (fun r9 w8 => Q r9 w8) w6) w6) X w3) w3)) w) w)) w
theorem kJ_X1_send_r (C : gC p l s m args meth c cX1_send 4 (some .int) RX1 E [] "send") (i0 : Nat) (i1 : Int32) (i2 : Int32) {Q : Int32 → gW → Prop} {X : String → gW → Prop} (w : gW) (H : Heap) (locs : List Loc) (ls : Array Slot) (hS : gS E w0 w H locs) (hl : lv_has ls 4 [(0, .ref i0), (1, .int i1), (2, .int i2)]) (hw : wJ_X1_send E i0 i1 i2 Q X w) : gGo p l e s m args below meth c H locs 10 214 E w0 w (gI Q) (X) (F0 m 0 ls []) := by
  unfold wJ_X1_send at hw
  refine lv_aload_n C.x C.b dX1_send_0 rfl (lv_at hl 0 rfl) ?_
  refine a_R C hS in_X1 rfl (k := 0) (ci := 0) (by decide) q345 (fun _ h9 => h9) dX1_send_1 hw (fun r1 hw => ?_)
  obtain ⟨a2, e9, hw9⟩ := hw; subst e9; have hw := hw9; clear hw9
  have hl : lv_has ls 4 [(0, .ref i0), (1, .int i1), (2, .int i2)] := hl
  refine W.eq (g2 := F0 m 4 ls [.ref a2]) rfl ?_
  obtain ⟨fs, hq, hw⟩ := hw
  refine a_callV (rest := []) C hS hl 1 hq rfl (kJ_X2_copy C.tr hw) q1158 q1159 q1160 q78 q1161 ny_X2_copy rfl (Nat.le_of_ble_eq_true rfl) (Nat.le_of_ble_eq_true rfl) rfl (Nat.le_of_ble_eq_true rfl) dX1_send_4 (fun X1 w1 H1 l1 q1 ce hx => hx.elim) (fun v w3 H locs hq _ hS => ?_)
  obtain ⟨r4, rfl, hw⟩ := hq
  refine W.eq (g2 := F0 m 7 ls [va_rf r4]) rfl ?_
  refine a_astore_n (lv' := [(3, va_rf r4), (0, .ref i0), (1, .int i1), (2, .int i2)]) C dX1_send_7 rfl hl (by decide) (by cases r4 <;> rfl) (fun ls hl => ?_)
  refine lv_aload_n C.x C.b dX1_send_8 rfl (lv_at hl 1 rfl) ?_
  refine a_aload_n C dX1_send_9 rfl (lv_at hl 0 rfl) ?_
  refine a_aload_n C dX1_send_10 rfl (lv_at hl 0 rfl) ?_
  refine lv_iload_n C.x C.b dX1_send_11 rfl (lv_at hl 2 rfl) ?_
  refine lv_iload_n C.x C.b dX1_send_12 rfl (lv_at hl 3 rfl) ?_
  obtain ⟨a5, e9, hw9⟩ := hw; subst e9; have hw := hw9; clear hw9
  have hl : lv_has ls 4 [(3, .ref a5), (0, .ref i0), (1, .int i1), (2, .int i2)] := hl
  refine W.eq (g2 := F0 m 13 ls [.int i2, .int i1, .ref a5, .ref a5, .ref i0]) rfl ?_
  obtain ⟨fs, hq, hw⟩ := hw
  refine a_callV (rest := [.ref a5, .ref i0]) C hS hl 1 hq rfl (kJ_X2_send C.tr hw) q1365 q1366 q1367 q78 q1368 ny_X2_send rfl (Nat.le_of_ble_eq_true rfl) (Nat.le_of_ble_eq_true rfl) rfl (Nat.le_of_ble_eq_true rfl) dX1_send_13 (fun X1 w1 H1 l1 q1 ce hx _ hS1 hc hv hcl => g_out C hS1 (fun x h => by cases h) hc hv hcl hx) (fun v w6 H locs hq _ hS => ?_)
  obtain ⟨r7, rfl, hw⟩ := hq
  refine W.eq (g2 := F0 m 16 ls [.int r7, .ref a5, .ref i0]) rfl ?_
  obtain ⟨fs, hq, hw⟩ := hw
  refine a_callV (rest := []) C hS hl 0 hq rfl (kJ_X1_become C.tr hw) q1204 q1206 qs18 q77 q1207 ny_X1_become rfl (Nat.le_of_ble_eq_true rfl) (Nat.le_of_ble_eq_true rfl) rfl (Nat.le_of_ble_eq_true rfl) dX1_send_16 (fun X1 w1 H1 l1 q1 ce hx => hx.elim) (fun v w8 H locs hq _ hS => ?_)
  obtain ⟨r9, rfl, hw⟩ := hq
  refine W.eq (g2 := F0 m 19 ls [.int r9]) rfl ?_
  exact g_iret C hS ⟨_, rfl, hw⟩ dX1_send_19
theorem ny_X1_send : gNm yX1_send 2 = true := by decide +kernel
theorem kJ_X1_send {l : Launch} (ht : l.stackTraces = false) {w : gW} {i0 : Nat} {i1 : Int32} {i2 : Int32} {Q : Int32 → gW → Prop} {X : String → gW → Prop} (hw : wJ_X1_send E i0 i1 i2 Q X w) : gMet l yX1_send (ws_ yX1_send cX1_send 4 (some .int)) E w [.ref i0, .int i1, .int i2] 10 214 (gI Q) (X) :=
  g_ofW ht (by decide) (Nat.le_of_ble_eq_true rfl) (fun p e s m below meth c ls H C hl hS => kJ_X1_send_r C _ _ _ _ _ _ _ hS hl hw)
def wJ_X1_bridge (E : gE) (i0 : Nat) (i1 : Int32) (i2 : Int32) (Q : Int32 → gW → Prop) (X : String → gW → Prop) (w : gW) : Prop :=
  aR E i0 0 0 (fun r1 => ∃ a2 : Nat, r1 = some a2 ∧ (aKind E a2 1 (wJ_X2_bridge E a2 i1 (fun r4 w3 => wJ_X1_inRange E i2.toInt64 0 5 (fun r6 w5 => aStr E "BridgeAuction" 183 "what" (fun a7 => wJ_X1_requireArgument E r6 a7 (fun w8 => ∃ a9 : Nat, r4 = some a9 ∧ (aKind E a9 2 (wJ_X3_value E a9 i2 (fun r11 w10 => Q r11 w10) w8) w8)) X w5)) w3) X w) w)) w
theorem kJ_X1_bridge_r (C : gC p l s m args meth c cX1_bridge 4 (some .int) RX1 E [] "bridge") (i0 : Nat) (i1 : Int32) (i2 : Int32) {Q : Int32 → gW → Prop} {X : String → gW → Prop} (w : gW) (H : Heap) (locs : List Loc) (ls : Array Slot) (hS : gS E w0 w H locs) (hl : lv_has ls 4 [(0, .ref i0), (1, .int i1), (2, .int i2)]) (hw : wJ_X1_bridge E i0 i1 i2 Q X w) : gGo p l e s m args below meth c H locs 10 162 E w0 w (gI Q) (X) (F0 m 0 ls []) := by
  unfold wJ_X1_bridge at hw
  refine lv_aload_n C.x C.b dX1_bridge_0 rfl (lv_at hl 0 rfl) ?_
  refine a_R C hS in_X1 rfl (k := 0) (ci := 0) (by decide) q345 (fun _ h9 => h9) dX1_bridge_1 hw (fun r1 hw => ?_)
  refine lv_iload_n C.x C.b dX1_bridge_4 rfl (lv_at hl 1 rfl) ?_
  obtain ⟨a2, e9, hw9⟩ := hw; subst e9; have hw := hw9; clear hw9
  have hl : lv_has ls 4 [(0, .ref i0), (1, .int i1), (2, .int i2)] := hl
  refine W.eq (g2 := F0 m 5 ls [.int i1, .ref a2]) rfl ?_
  obtain ⟨fs, hq, hw⟩ := hw
  refine a_callV (rest := []) C hS hl 1 hq rfl (kJ_X2_bridge C.tr hw) q1387 q1023 q1024 q78 q1025 ny_X2_bridge rfl (Nat.le_of_ble_eq_true rfl) (Nat.le_of_ble_eq_true rfl) rfl (Nat.le_of_ble_eq_true rfl) dX1_bridge_5 (fun X1 w1 H1 l1 q1 ce hx _ hS1 hc hv hcl => g_out C hS1 (fun x h => by cases h) hc hv hcl hx) (fun v w3 H locs hq _ hS => ?_)
  obtain ⟨r4, rfl, hw⟩ := hq
  refine W.eq (g2 := F0 m 8 ls [va_rf r4]) rfl ?_
  refine a_astore_n (lv' := [(3, va_rf r4), (0, .ref i0), (1, .int i1), (2, .int i2)]) C dX1_bridge_8 rfl hl (by decide) (by cases r4 <;> rfl) (fun ls hl => ?_)
  refine lv_iload_n C.x C.b dX1_bridge_9 rfl (lv_at hl 3 rfl) ?_
  refine lv_i2l C.x C.b dX1_bridge_10 rfl ?_
  refine lv_lconst (v := 0) C.x C.b dX1_bridge_11 (by decide) ?_
  refine lv_ldc2 C.x C.b C.ow (C.ts _ q1286) dX1_bridge_12 ?_
  refine g_callS (rest := []) C hS hl (kJ_X1_inRange C.tr hw) q1275 q459 q77 q460 ny_X1_inRange rfl (Nat.le_of_ble_eq_true rfl) (Nat.le_of_ble_eq_true rfl) rfl (Nat.le_of_ble_eq_true rfl) dX1_bridge_15 (fun X1 w1 H1 l1 q1 ce hx => hx.elim) (fun v w5 H locs hq _ hS => ?_)
  obtain ⟨r6, rfl, hw⟩ := hq
  refine W.eq (g2 := F0 m 18 ls [.int r6]) rfl ?_
  refine a_str C dX1_bridge_18 hw (fun a7 hw => ?_)
  refine g_callS (rest := []) C hS hl (kJ_X1_requireArgument C.tr hw) q1277 q891 q77 q892 ny_X1_requireArgument rfl (Nat.le_of_ble_eq_true rfl) (Nat.le_of_ble_eq_true rfl) rfl (Nat.le_of_ble_eq_true rfl) dX1_bridge_20 (fun X1 w1 H1 l1 q1 ce hx _ hS1 hc hv hcl => g_out C hS1 (fun x h => by cases h) hc hv hcl hx) (fun v w8 H locs hq _ hS => ?_)
  obtain ⟨rfl, hw⟩ := hq
  refine W.eq (g2 := F0 m 23 ls []) rfl ?_
  refine a_aload_n C dX1_bridge_23 rfl (lv_at hl 0 rfl) ?_
  refine lv_iload_n C.x C.b dX1_bridge_24 rfl (lv_at hl 3 rfl) ?_
  obtain ⟨a9, e9, hw9⟩ := hw; subst e9; have hw := hw9; clear hw9
  have hl : lv_has ls 4 [(3, .ref a9), (0, .ref i0), (1, .int i1), (2, .int i2)] := hl
  refine W.eq (g2 := F0 m 25 ls [.int i2, .ref a9]) rfl ?_
  obtain ⟨fs, hq, hw⟩ := hw
  refine a_callV (rest := []) C hS hl 2 hq rfl (kJ_X3_value C.tr hw) q1220 q1221 q1222 q82 q1223 ny_X3_value rfl (Nat.le_of_ble_eq_true rfl) (Nat.le_of_ble_eq_true rfl) rfl (Nat.le_of_ble_eq_true rfl) dX1_bridge_25 (fun X1 w1 H1 l1 q1 ce hx => hx.elim) (fun v w10 H locs hq _ hS => ?_)
  obtain ⟨r11, rfl, hw⟩ := hq
  refine W.eq (g2 := F0 m 28 ls [.int r11]) rfl ?_
  exact g_iret C hS ⟨_, rfl, hw⟩ dX1_bridge_28
theorem ny_X1_bridge : gNm yX1_bridge 2 = true := by decide +kernel
theorem kJ_X1_bridge {l : Launch} (ht : l.stackTraces = false) {w : gW} {i0 : Nat} {i1 : Int32} {i2 : Int32} {Q : Int32 → gW → Prop} {X : String → gW → Prop} (hw : wJ_X1_bridge E i0 i1 i2 Q X w) : gMet l yX1_bridge (ws_ yX1_bridge cX1_bridge 4 (some .int)) E w [.ref i0, .int i1, .int i2] 10 162 (gI Q) (X) :=
  g_ofW ht (by decide) (Nat.le_of_ble_eq_true rfl) (fun p e s m below meth c ls H C hl hS => kJ_X1_bridge_r C _ _ _ _ _ _ _ hS hl hw)
def wJ_X1_link (E : gE) (i0 : Nat) (i1 : Int32) (i2 : Int32) (Q : Int32 → gW → Prop) (X : String → gW → Prop) (w : gW) : Prop :=
  aR E i0 0 0 (fun r1 => ∃ a2 : Nat, r1 = some a2 ∧ (aKind E a2 1 (wJ_X2_link E a2 i1 (fun r4 w3 => wJ_X1_inRange E i2.toInt64 0 8 (fun r6 w5 => aStr E "BridgeAuction" 183 "what" (fun a7 => wJ_X1_requireArgument E r6 a7 (fun w8 => ∃ a9 : Nat, r4 = some a9 ∧ (aKind E a9 5 (wJ_X6_value E a9 i2 (fun r11 w10 => Q r11 w10) w8) w8)) X w5)) w3) X w) w)) w
theorem kJ_X1_link_r (C : gC p l s m args meth c cX1_link 4 (some .int) RX1 E [] "link") (i0 : Nat) (i1 : Int32) (i2 : Int32) {Q : Int32 → gW → Prop} {X : String → gW → Prop} (w : gW) (H : Heap) (locs : List Loc) (ls : Array Slot) (hS : gS E w0 w H locs) (hl : lv_has ls 4 [(0, .ref i0), (1, .int i1), (2, .int i2)]) (hw : wJ_X1_link E i0 i1 i2 Q X w) : gGo p l e s m args below meth c H locs 10 162 E w0 w (gI Q) (X) (F0 m 0 ls []) := by
  unfold wJ_X1_link at hw
  refine lv_aload_n C.x C.b dX1_link_0 rfl (lv_at hl 0 rfl) ?_
  refine a_R C hS in_X1 rfl (k := 0) (ci := 0) (by decide) q345 (fun _ h9 => h9) dX1_link_1 hw (fun r1 hw => ?_)
  refine lv_iload_n C.x C.b dX1_link_4 rfl (lv_at hl 1 rfl) ?_
  obtain ⟨a2, e9, hw9⟩ := hw; subst e9; have hw := hw9; clear hw9
  have hl : lv_has ls 4 [(0, .ref i0), (1, .int i1), (2, .int i2)] := hl
  refine W.eq (g2 := F0 m 5 ls [.int i1, .ref a2]) rfl ?_
  obtain ⟨fs, hq, hw⟩ := hw
  refine a_callV (rest := []) C hS hl 1 hq rfl (kJ_X2_link C.tr hw) q1396 q1005 q1006 q78 q1007 ny_X2_link rfl (Nat.le_of_ble_eq_true rfl) (Nat.le_of_ble_eq_true rfl) rfl (Nat.le_of_ble_eq_true rfl) dX1_link_5 (fun X1 w1 H1 l1 q1 ce hx _ hS1 hc hv hcl => g_out C hS1 (fun x h => by cases h) hc hv hcl hx) (fun v w3 H locs hq _ hS => ?_)
  obtain ⟨r4, rfl, hw⟩ := hq
  refine W.eq (g2 := F0 m 8 ls [va_rf r4]) rfl ?_
  refine a_astore_n (lv' := [(3, va_rf r4), (0, .ref i0), (1, .int i1), (2, .int i2)]) C dX1_link_8 rfl hl (by decide) (by cases r4 <;> rfl) (fun ls hl => ?_)
  refine lv_iload_n C.x C.b dX1_link_9 rfl (lv_at hl 3 rfl) ?_
  refine lv_i2l C.x C.b dX1_link_10 rfl ?_
  refine lv_lconst (v := 0) C.x C.b dX1_link_11 (by decide) ?_
  refine lv_ldc2 C.x C.b C.ow (C.ts _ q1274) dX1_link_12 ?_
  refine g_callS (rest := []) C hS hl (kJ_X1_inRange C.tr hw) q1275 q459 q77 q460 ny_X1_inRange rfl (Nat.le_of_ble_eq_true rfl) (Nat.le_of_ble_eq_true rfl) rfl (Nat.le_of_ble_eq_true rfl) dX1_link_15 (fun X1 w1 H1 l1 q1 ce hx => hx.elim) (fun v w5 H locs hq _ hS => ?_)
  obtain ⟨r6, rfl, hw⟩ := hq
  refine W.eq (g2 := F0 m 18 ls [.int r6]) rfl ?_
  refine a_str C dX1_link_18 hw (fun a7 hw => ?_)
  refine g_callS (rest := []) C hS hl (kJ_X1_requireArgument C.tr hw) q1277 q891 q77 q892 ny_X1_requireArgument rfl (Nat.le_of_ble_eq_true rfl) (Nat.le_of_ble_eq_true rfl) rfl (Nat.le_of_ble_eq_true rfl) dX1_link_20 (fun X1 w1 H1 l1 q1 ce hx _ hS1 hc hv hcl => g_out C hS1 (fun x h => by cases h) hc hv hcl hx) (fun v w8 H locs hq _ hS => ?_)
  obtain ⟨rfl, hw⟩ := hq
  refine W.eq (g2 := F0 m 23 ls []) rfl ?_
  refine a_aload_n C dX1_link_23 rfl (lv_at hl 0 rfl) ?_
  refine lv_iload_n C.x C.b dX1_link_24 rfl (lv_at hl 3 rfl) ?_
  obtain ⟨a9, e9, hw9⟩ := hw; subst e9; have hw := hw9; clear hw9
  have hl : lv_has ls 4 [(3, .ref a9), (0, .ref i0), (1, .int i1), (2, .int i2)] := hl
  refine W.eq (g2 := F0 m 25 ls [.int i2, .ref a9]) rfl ?_
  obtain ⟨fs, hq, hw⟩ := hw
  refine a_callV (rest := []) C hS hl 5 hq rfl (kJ_X6_value C.tr hw) q1236 q1237 q1238 q95 q1239 ny_X6_value rfl (Nat.le_of_ble_eq_true rfl) (Nat.le_of_ble_eq_true rfl) rfl (Nat.le_of_ble_eq_true rfl) dX1_link_25 (fun X1 w1 H1 l1 q1 ce hx => hx.elim) (fun v w10 H locs hq _ hS => ?_)
  obtain ⟨r11, rfl, hw⟩ := hq
  refine W.eq (g2 := F0 m 28 ls [.int r11]) rfl ?_
  exact g_iret C hS ⟨_, rfl, hw⟩ dX1_link_28
theorem ny_X1_link : gNm yX1_link 2 = true := by decide +kernel
theorem kJ_X1_link {l : Launch} (ht : l.stackTraces = false) {w : gW} {i0 : Nat} {i1 : Int32} {i2 : Int32} {Q : Int32 → gW → Prop} {X : String → gW → Prop} (hw : wJ_X1_link E i0 i1 i2 Q X w) : gMet l yX1_link (ws_ yX1_link cX1_link 4 (some .int)) E w [.ref i0, .int i1, .int i2] 10 162 (gI Q) (X) :=
  g_ofW ht (by decide) (Nat.le_of_ble_eq_true rfl) (fun p e s m below meth c ls H C hl hS => kJ_X1_link_r C _ _ _ _ _ _ _ hS hl hw)
def wJ_X1_port_41 (E : gE) (Q : Int32 → gW → Prop) (X : String → gW → Prop) (x3 : Int32) (y0 : Option Nat) (w : gW) : Prop :=
  ∃ a14 : Nat, y0 = some a14 ∧ (aKind E a14 6 (wJ_X7_value E a14 x3 (fun r16 w15 => Q r16 w15) w) w)
theorem kJ_X1_port_41 (C : gC p l s m args meth c cX1_port 5 (some .int) RX1 E [] "port") {Q : Int32 → gW → Prop} {X : String → gW → Prop} (x3 : Int32) (y0 : Option Nat) (w : gW) (H : Heap) (locs : List Loc) (ls : Array Slot) (hS : gS E w0 w H locs) (hl : lv_has ls 5 [(3, .int x3)]) (hw : wJ_X1_port_41 E Q X x3 y0 w) : gGo p l e s m args below meth c H locs 10 162 E w0 w (gI Q) (X) (F0 m 41 ls [va_rf y0]) := by
  unfold wJ_X1_port_41 at hw
  refine lv_iload_n C.x C.b dX1_port_41 rfl (lv_at hl 0 rfl) ?_
  obtain ⟨a14, e9, hw9⟩ := hw; subst e9; have hw := hw9; clear hw9
  have hl : lv_has ls 5 [(3, .int x3)] := hl
  refine W.eq (g2 := F0 m 42 ls [.int x3, .ref a14]) rfl ?_
  obtain ⟨fs, hq, hw⟩ := hw
  refine a_callV (rest := []) C hS hl 6 hq rfl (kJ_X7_value C.tr hw) q1241 q1242 q1243 q96 q1244 ny_X7_value rfl (Nat.le_of_ble_eq_true rfl) (Nat.le_of_ble_eq_true rfl) rfl (Nat.le_of_ble_eq_true rfl) dX1_port_42 (fun X1 w1 H1 l1 q1 ce hx => hx.elim) (fun v w15 H locs hq _ hS => ?_)
  obtain ⟨r16, rfl, hw⟩ := hq
  refine W.eq (g2 := F0 m 45 ls [.int r16]) rfl ?_
  exact g_iret C hS ⟨_, rfl, hw⟩ dX1_port_45
def wJ_X1_port (E : gE) (i0 : Nat) (i1 : Int32) (i2 : Int32) (i3 : Int32) (Q : Int32 → gW → Prop) (X : String → gW → Prop) (w : gW) : Prop :=
  aR E i0 0 0 (fun r1 => ∃ a2 : Nat, r1 = some a2 ∧ (aKind E a2 1 (wJ_X2_link E a2 i1 (fun r4 w3 => wJ_X1_inRange E i3.toInt64 0 2 (fun r6 w5 => aStr E "BridgeAuction" 183 "what" (fun a7 => wJ_X1_requireArgument E r6 a7 (fun w8 => (i2 = 0 → (∃ a10 : Nat, r4 = some a10 ∧ (aR E a10 5 9 (fun r11 => wJ_X1_port_41 E Q X i3 r11 w8) w8))) ∧ (¬ i2 = 0 → (∃ a12 : Nat, r4 = some a12 ∧ (aR E a12 5 10 (fun r13 => wJ_X1_port_41 E Q X i3 r13 w8) w8)))) X w5)) w3) X w) w)) w
theorem kJ_X1_port_r (C : gC p l s m args meth c cX1_port 5 (some .int) RX1 E [] "port") (i0 : Nat) (i1 : Int32) (i2 : Int32) (i3 : Int32) {Q : Int32 → gW → Prop} {X : String → gW → Prop} (w : gW) (H : Heap) (locs : List Loc) (ls : Array Slot) (hS : gS E w0 w H locs) (hl : lv_has ls 5 [(0, .ref i0), (1, .int i1), (2, .int i2), (3, .int i3)]) (hw : wJ_X1_port E i0 i1 i2 i3 Q X w) : gGo p l e s m args below meth c H locs 10 162 E w0 w (gI Q) (X) (F0 m 0 ls []) := by
  unfold wJ_X1_port at hw
  refine lv_aload_n C.x C.b dX1_port_0 rfl (lv_at hl 0 rfl) ?_
  refine a_R C hS in_X1 rfl (k := 0) (ci := 0) (by decide) q345 (fun _ h9 => h9) dX1_port_1 hw (fun r1 hw => ?_)
  refine lv_iload_n C.x C.b dX1_port_4 rfl (lv_at hl 1 rfl) ?_
  obtain ⟨a2, e9, hw9⟩ := hw; subst e9; have hw := hw9; clear hw9
  have hl : lv_has ls 5 [(0, .ref i0), (1, .int i1), (2, .int i2), (3, .int i3)] := hl
  refine W.eq (g2 := F0 m 5 ls [.int i1, .ref a2]) rfl ?_
  obtain ⟨fs, hq, hw⟩ := hw
  refine a_callV (rest := []) C hS hl 1 hq rfl (kJ_X2_link C.tr hw) q1396 q1005 q1006 q78 q1007 ny_X2_link rfl (Nat.le_of_ble_eq_true rfl) (Nat.le_of_ble_eq_true rfl) rfl (Nat.le_of_ble_eq_true rfl) dX1_port_5 (fun X1 w1 H1 l1 q1 ce hx _ hS1 hc hv hcl => g_out C hS1 (fun x h => by cases h) hc hv hcl hx) (fun v w3 H locs hq _ hS => ?_)
  obtain ⟨r4, rfl, hw⟩ := hq
  refine W.eq (g2 := F0 m 8 ls [va_rf r4]) rfl ?_
  refine a_astore (lv' := [(4, va_rf r4), (0, .ref i0), (1, .int i1), (2, .int i2), (3, .int i3)]) C dX1_port_8 hl (by decide) (by cases r4 <;> rfl) (fun ls hl => ?_)
  refine lv_iload_n C.x C.b dX1_port_10 rfl (lv_at hl 4 rfl) ?_
  refine lv_i2l C.x C.b dX1_port_11 rfl ?_
  refine lv_lconst (v := 0) C.x C.b dX1_port_12 (by decide) ?_
  refine lv_ldc2 C.x C.b C.ow (C.ts _ q1273) dX1_port_13 ?_
  refine g_callS (rest := []) C hS hl (kJ_X1_inRange C.tr hw) q1275 q459 q77 q460 ny_X1_inRange rfl (Nat.le_of_ble_eq_true rfl) (Nat.le_of_ble_eq_true rfl) rfl (Nat.le_of_ble_eq_true rfl) dX1_port_16 (fun X1 w1 H1 l1 q1 ce hx => hx.elim) (fun v w5 H locs hq _ hS => ?_)
  obtain ⟨r6, rfl, hw⟩ := hq
  refine W.eq (g2 := F0 m 19 ls [.int r6]) rfl ?_
  refine a_str C dX1_port_19 hw (fun a7 hw => ?_)
  refine g_callS (rest := []) C hS hl (kJ_X1_requireArgument C.tr hw) q1277 q891 q77 q892 ny_X1_requireArgument rfl (Nat.le_of_ble_eq_true rfl) (Nat.le_of_ble_eq_true rfl) rfl (Nat.le_of_ble_eq_true rfl) dX1_port_21 (fun X1 w1 H1 l1 q1 ce hx _ hS1 hc hv hcl => g_out C hS1 (fun x h => by cases h) hc hv hcl hx) (fun v w8 H locs hq _ hS => ?_)
  obtain ⟨rfl, hw⟩ := hq
  refine W.eq (g2 := F0 m 24 ls []) rfl ?_
  refine lv_iload_n C.x C.b dX1_port_24 rfl (lv_at hl 3 rfl) ?_
  refine lv_if_eq (tgt := 36) C.x C.b dX1_port_25 (by decide) (fun c9 => ?_) (fun c9 => ?_)
  · have hw := hw.1 c9
    refine a_aload C dX1_port_36 (lv_at hl 0 rfl) ?_
    obtain ⟨a10, e9, hw9⟩ := hw; subst e9; have hw := hw9; clear hw9
    have hl : lv_has ls 5 [(4, .ref a10), (0, .ref i0), (1, .int i1), (2, .int i2), (3, .int i3)] := hl
    refine W.eq (g2 := F0 m 38 ls [.ref a10]) rfl ?_
    refine a_RN C hS in_X6 rfl (k := 9) (ci := 5) (by decide) q957 (fun _ h9 => h9) dX1_port_38 hw (fun r11 hw => ?_)
    exact kJ_X1_port_41 C _ _ _ _ _ _ hS (lv_sub hl [4] rfl) hw
  · have hw := hw.2 c9
    refine a_aload C dX1_port_28 (lv_at hl 0 rfl) ?_
    obtain ⟨a12, e9, hw9⟩ := hw; subst e9; have hw := hw9; clear hw9
    have hl : lv_has ls 5 [(4, .ref a12), (0, .ref i0), (1, .int i1), (2, .int i2), (3, .int i3)] := hl
    refine W.eq (g2 := F0 m 30 ls [.ref a12]) rfl ?_
    refine a_RN C hS in_X6 rfl (k := 10) (ci := 5) (by decide) q960 (fun _ h9 => h9) dX1_port_30 hw (fun r13 hw => ?_)
    refine lv_goto (tgt := 41) C.x C.b dX1_port_33 (by decide) ?_
    exact kJ_X1_port_41 C _ _ _ _ _ _ hS (lv_sub hl [4] rfl) hw
theorem ny_X1_port : gNm yX1_port 3 = true := by decide +kernel
theorem kJ_X1_port {l : Launch} (ht : l.stackTraces = false) {w : gW} {i0 : Nat} {i1 : Int32} {i2 : Int32} {i3 : Int32} {Q : Int32 → gW → Prop} {X : String → gW → Prop} (hw : wJ_X1_port E i0 i1 i2 i3 Q X w) : gMet l yX1_port (ws_ yX1_port cX1_port 5 (some .int)) E w [.ref i0, .int i1, .int i2, .int i3] 10 162 (gI Q) (X) :=
  g_ofW ht (by decide) (Nat.le_of_ble_eq_true rfl) (fun p e s m below meth c ls H C hl hS => kJ_X1_port_r C _ _ _ _ _ _ _ _ hS hl hw)
def wJ_X1_entry_28 (E : gE) (Q : Int32 → gW → Prop) (X : String → gW → Prop) (x0 : Nat) (x1 : Int32) (x2 : Int32) (y0 : Int32) (w : gW) : Prop :=
  aStr E "BridgeAuction" 215 "bridge or host" (fun a9 => wJ_X1_requireIndex E y0 a9 (fun w10 => aR E x0 0 0 (fun r11 => ∃ a12 : Nat, r11 = some a12 ∧ (aKind E a12 1 (wJ_X2_bridge E a12 x1 (fun r14 w13 => aR E x0 0 0 (fun r15 => ∃ a16 : Nat, r15 = some a16 ∧ (aI E a16 1 6 (fun v17 => ∃ a18 : Nat, r14 = some a18 ∧ (aKind E a18 2 (wJ_X3_entry E a18 x2 v17 (fun r20 w19 => Q r20 w19) w13) w13)) w13)) w13) X w10) w10)) w10) X w)
theorem kJ_X1_entry_28 (C : gC p l s m args meth c cX1_entry 3 (some .int) RX1 E [] "entry") {Q : Int32 → gW → Prop} {X : String → gW → Prop} (x0 : Nat) (x1 : Int32) (x2 : Int32) (y0 : Int32) (w : gW) (H : Heap) (locs : List Loc) (ls : Array Slot) (hS : gS E w0 w H locs) (hl : lv_has ls 3 [(0, .ref x0), (1, .int x1), (2, .int x2)]) (hw : wJ_X1_entry_28 E Q X x0 x1 x2 y0 w) : gGo p l e s m args below meth c H locs 10 162 E w0 w (gI Q) (X) (F0 m 28 ls [.int y0]) := by
  unfold wJ_X1_entry_28 at hw
  refine a_str C dX1_entry_28 hw (fun a9 hw => ?_)
  refine g_callS (rest := []) C hS hl (kJ_X1_requireIndex C.tr hw) q1345 q871 q77 q872 ny_X1_requireIndex rfl (Nat.le_of_ble_eq_true rfl) (Nat.le_of_ble_eq_true rfl) rfl (Nat.le_of_ble_eq_true rfl) dX1_entry_30 (fun X1 w1 H1 l1 q1 ce hx _ hS1 hc hv hcl => g_out C hS1 (fun x h => by cases h) hc hv hcl hx) (fun v w10 H locs hq _ hS => ?_)
  obtain ⟨rfl, hw⟩ := hq
  refine W.eq (g2 := F0 m 33 ls []) rfl ?_
  refine lv_aload_n C.x C.b dX1_entry_33 rfl (lv_at hl 0 rfl) ?_
  refine a_R C hS in_X1 rfl (k := 0) (ci := 0) (by decide) q345 (fun _ h9 => h9) dX1_entry_34 hw (fun r11 hw => ?_)
  refine lv_iload_n C.x C.b dX1_entry_37 rfl (lv_at hl 1 rfl) ?_
  obtain ⟨a12, e9, hw9⟩ := hw; subst e9; have hw := hw9; clear hw9
  have hl : lv_has ls 3 [(0, .ref x0), (1, .int x1), (2, .int x2)] := hl
  refine W.eq (g2 := F0 m 38 ls [.int x1, .ref a12]) rfl ?_
  obtain ⟨fs, hq, hw⟩ := hw
  refine a_callV (rest := []) C hS hl 1 hq rfl (kJ_X2_bridge C.tr hw) q1387 q1023 q1024 q78 q1025 ny_X2_bridge rfl (Nat.le_of_ble_eq_true rfl) (Nat.le_of_ble_eq_true rfl) rfl (Nat.le_of_ble_eq_true rfl) dX1_entry_38 (fun X1 w1 H1 l1 q1 ce hx _ hS1 hc hv hcl => g_out C hS1 (fun x h => by cases h) hc hv hcl hx) (fun v w13 H locs hq _ hS => ?_)
  obtain ⟨r14, rfl, hw⟩ := hq
  refine W.eq (g2 := F0 m 41 ls [va_rf r14]) rfl ?_
  refine lv_iload_n C.x C.b dX1_entry_41 rfl (lv_at hl 2 rfl) ?_
  refine lv_aload_n C.x C.b dX1_entry_42 rfl (lv_at hl 0 rfl) ?_
  refine a_R C hS in_X1 rfl (k := 0) (ci := 0) (by decide) q345 (fun _ h9 => h9) dX1_entry_43 hw (fun r15 hw => ?_)
  obtain ⟨a16, e9, hw9⟩ := hw; subst e9; have hw := hw9; clear hw9
  have hl : lv_has ls 3 [(0, .ref x0), (1, .int x1), (2, .int x2)] := hl
  refine W.eq (g2 := F0 m 46 ls [.ref a16, .int x2, va_rf r14]) rfl ?_
  refine a_IN C hS in_X2 rfl (k := 6) (ci := 1) (by decide) q163 (fun _ h9 => h9) dX1_entry_46 hw (fun v17 hw => ?_)
  obtain ⟨a18, e9, hw9⟩ := hw; subst e9; have hw := hw9; clear hw9
  have hl : lv_has ls 3 [(0, .ref x0), (1, .int x1), (2, .int x2)] := hl
  refine W.eq (g2 := F0 m 49 ls [.int v17, .int x2, .ref a18]) rfl ?_
  obtain ⟨fs, hq, hw⟩ := hw
  refine a_callV (rest := []) C hS hl 2 hq rfl (kJ_X3_entry C.tr hw) q1228 q1229 q1230 q82 q1231 ny_X3_entry rfl (Nat.le_of_ble_eq_true rfl) (Nat.le_of_ble_eq_true rfl) rfl (Nat.le_of_ble_eq_true rfl) dX1_entry_49 (fun X1 w1 H1 l1 q1 ce hx => hx.elim) (fun v w19 H locs hq _ hS => ?_)
  obtain ⟨r20, rfl, hw⟩ := hq
  refine W.eq (g2 := F0 m 52 ls [.int r20]) rfl ?_
  exact g_iret C hS ⟨_, rfl, hw⟩ dX1_entry_52
def wJ_X1_entry_27 (E : gE) (Q : Int32 → gW → Prop) (X : String → gW → Prop) (x0 : Nat) (x1 : Int32) (x2 : Int32) (w : gW) : Prop :=
  wJ_X1_entry_28 E Q X x0 x1 x2 0 w
theorem kJ_X1_entry_27 (C : gC p l s m args meth c cX1_entry 3 (some .int) RX1 E [] "entry") {Q : Int32 → gW → Prop} {X : String → gW → Prop} (x0 : Nat) (x1 : Int32) (x2 : Int32) (w : gW) (H : Heap) (locs : List Loc) (ls : Array Slot) (hS : gS E w0 w H locs) (hl : lv_has ls 3 [(0, .ref x0), (1, .int x1), (2, .int x2)]) (hw : wJ_X1_entry_27 E Q X x0 x1 x2 w) : gGo p l e s m args below meth c H locs 10 162 E w0 w (gI Q) (X) (F0 m 27 ls []) := by
  unfold wJ_X1_entry_27 at hw
  refine lv_iconst (v := 0) C.x C.b dX1_entry_27 (by decide) ?_
  exact kJ_X1_entry_28 C _ _ _ _ _ _ _ _ hS (lv_sub hl [0, 1, 2] rfl) hw
def wJ_X1_entry (E : gE) (i0 : Nat) (i1 : Int32) (i2 : Int32) (Q : Int32 → gW → Prop) (X : String → gW → Prop) (w : gW) : Prop :=
  aR E i0 0 0 (fun r1 => ∃ a2 : Nat, r1 = some a2 ∧ (aKind E a2 1 (wJ_X2_isBridge E a2 i1 (fun r4 w3 => (r4 = 0 → (wJ_X1_entry_27 E Q X i0 i1 i2 w3)) ∧ (¬ r4 = 0 → (wJ_X1_inRange E i2.toInt64 0 7 (fun r7 w6 => (r7 = 0 → (wJ_X1_entry_27 E Q X i0 i1 i2 w6)) ∧ (¬ r7 = 0 → (wJ_X1_entry_28 E Q X i0 i1 i2 1 w6))) w3))) w) w)) w
theorem kJ_X1_entry_r (C : gC p l s m args meth c cX1_entry 3 (some .int) RX1 E [] "entry") (i0 : Nat) (i1 : Int32) (i2 : Int32) {Q : Int32 → gW → Prop} {X : String → gW → Prop} (w : gW) (H : Heap) (locs : List Loc) (ls : Array Slot) (hS : gS E w0 w H locs) (hl : lv_has ls 3 [(0, .ref i0), (1, .int i1), (2, .int i2)]) (hw : wJ_X1_entry E i0 i1 i2 Q X w) : gGo p l e s m args below meth c H locs 10 162 E w0 w (gI Q) (X) (F0 m 0 ls []) := by
  unfold wJ_X1_entry at hw
  refine lv_aload_n C.x C.b dX1_entry_0 rfl (lv_at hl 0 rfl) ?_
  refine a_R C hS in_X1 rfl (k := 0) (ci := 0) (by decide) q345 (fun _ h9 => h9) dX1_entry_1 hw (fun r1 hw => ?_)
  refine lv_iload_n C.x C.b dX1_entry_4 rfl (lv_at hl 1 rfl) ?_
  obtain ⟨a2, e9, hw9⟩ := hw; subst e9; have hw := hw9; clear hw9
  have hl : lv_has ls 3 [(0, .ref i0), (1, .int i1), (2, .int i2)] := hl
  refine W.eq (g2 := F0 m 5 ls [.int i1, .ref a2]) rfl ?_
  obtain ⟨fs, hq, hw⟩ := hw
  refine a_callV (rest := []) C hS hl 1 hq rfl (kJ_X2_isBridge C.tr hw) q1411 q865 q866 q78 q867 ny_X2_isBridge rfl (Nat.le_of_ble_eq_true rfl) (Nat.le_of_ble_eq_true rfl) rfl (Nat.le_of_ble_eq_true rfl) dX1_entry_5 (fun X1 w1 H1 l1 q1 ce hx => hx.elim) (fun v w3 H locs hq _ hS => ?_)
  obtain ⟨r4, rfl, hw⟩ := hq
  refine W.eq (g2 := F0 m 8 ls [.int r4]) rfl ?_
  refine lv_if_eq (tgt := 27) C.x C.b dX1_entry_8 (by decide) (fun c5 => ?_) (fun c5 => ?_)
  · have hw := hw.1 c5
    exact kJ_X1_entry_27 C _ _ _ _ _ _ _ hS (lv_sub hl [0, 1, 2] rfl) hw
  · have hw := hw.2 c5
    refine lv_iload_n C.x C.b dX1_entry_11 rfl (lv_at hl 2 rfl) ?_
    refine lv_i2l C.x C.b dX1_entry_12 rfl ?_
    refine lv_lconst (v := 0) C.x C.b dX1_entry_13 (by decide) ?_
    refine lv_ldc2 C.x C.b C.ow (C.ts _ q1412) dX1_entry_14 ?_
    refine g_callS (rest := []) C hS hl (kJ_X1_inRange C.tr hw) q1275 q459 q77 q460 ny_X1_inRange rfl (Nat.le_of_ble_eq_true rfl) (Nat.le_of_ble_eq_true rfl) rfl (Nat.le_of_ble_eq_true rfl) dX1_entry_17 (fun X1 w1 H1 l1 q1 ce hx => hx.elim) (fun v w6 H locs hq _ hS => ?_)
    obtain ⟨r7, rfl, hw⟩ := hq
    refine W.eq (g2 := F0 m 20 ls [.int r7]) rfl ?_
    refine lv_if_eq (tgt := 27) C.x C.b dX1_entry_20 (by decide) (fun c8 => ?_) (fun c8 => ?_)
    · have hw := hw.1 c8
      exact kJ_X1_entry_27 C _ _ _ _ _ _ _ hS (lv_sub hl [0, 1, 2] rfl) hw
    · have hw := hw.2 c8
      refine lv_iconst (v := 1) C.x C.b dX1_entry_23 (by decide) ?_
      refine lv_goto (tgt := 28) C.x C.b dX1_entry_24 (by decide) ?_
      exact kJ_X1_entry_28 C _ _ _ _ _ _ _ _ hS (lv_sub hl [0, 1, 2] rfl) hw
theorem ny_X1_entry : gNm yX1_entry 2 = true := by decide +kernel
theorem kJ_X1_entry {l : Launch} (ht : l.stackTraces = false) {w : gW} {i0 : Nat} {i1 : Int32} {i2 : Int32} {Q : Int32 → gW → Prop} {X : String → gW → Prop} (hw : wJ_X1_entry E i0 i1 i2 Q X w) : gMet l yX1_entry (ws_ yX1_entry cX1_entry 3 (some .int)) E w [.ref i0, .int i1, .int i2] 10 162 (gI Q) (X) :=
  g_ofW ht (by decide) (Nat.le_of_ble_eq_true rfl) (fun p e s m below meth c ls H C hl hS => kJ_X1_entry_r C _ _ _ _ _ _ _ hS hl hw)
def wJ_X1_tenant (E : gE) (i0 : Nat) (i1 : Int32) (i2 : Int32) (Q : Int32 → gW → Prop) (X : String → gW → Prop) (w : gW) : Prop :=
  wJ_X1_requireTenant E i1 (fun w1 => wJ_X1_inRange E i2.toInt64 0 3 (fun r3 w2 => aStr E "BridgeAuction" 183 "what" (fun a4 => wJ_X1_requireArgument E r3 a4 (fun w5 => aR E i0 0 0 (fun r6 => ∃ a7 : Nat, r6 = some a7 ∧ (aKind E a7 1 (wJ_X2_tenantValue E a7 i1 i2 (fun r9 w8 => Q r9 w8) w5) w5)) w5) X w2)) w1) X w
theorem kJ_X1_tenant_r (C : gC p l s m args meth c cX1_tenant 3 (some .int) RX1 E [] "tenant") (i0 : Nat) (i1 : Int32) (i2 : Int32) {Q : Int32 → gW → Prop} {X : String → gW → Prop} (w : gW) (H : Heap) (locs : List Loc) (ls : Array Slot) (hS : gS E w0 w H locs) (hl : lv_has ls 3 [(0, .ref i0), (1, .int i1), (2, .int i2)]) (hw : wJ_X1_tenant E i0 i1 i2 Q X w) : gGo p l e s m args below meth c H locs 10 161 E w0 w (gI Q) (X) (F0 m 0 ls []) := by
  unfold wJ_X1_tenant at hw
  refine lv_iload_n C.x C.b dX1_tenant_0 rfl (lv_at hl 1 rfl) ?_
  refine g_callS (rest := []) C hS hl (kJ_X1_requireTenant C.tr hw) q1340 q1341 q77 q1342 ny_X1_requireTenant rfl (Nat.le_of_ble_eq_true rfl) (Nat.le_of_ble_eq_true rfl) rfl (Nat.le_of_ble_eq_true rfl) dX1_tenant_1 (fun X1 w1 H1 l1 q1 ce hx _ hS1 hc hv hcl => g_out C hS1 (fun x h => by cases h) hc hv hcl hx) (fun v w1 H locs hq _ hS => ?_)
  obtain ⟨rfl, hw⟩ := hq
  refine W.eq (g2 := F0 m 4 ls []) rfl ?_
  refine lv_iload_n C.x C.b dX1_tenant_4 rfl (lv_at hl 2 rfl) ?_
  refine lv_i2l C.x C.b dX1_tenant_5 rfl ?_
  refine lv_lconst (v := 0) C.x C.b dX1_tenant_6 (by decide) ?_
  refine lv_ldc2 C.x C.b C.ow (C.ts _ q1343) dX1_tenant_7 ?_
  refine g_callS (rest := []) C hS hl (kJ_X1_inRange C.tr hw) q1275 q459 q77 q460 ny_X1_inRange rfl (Nat.le_of_ble_eq_true rfl) (Nat.le_of_ble_eq_true rfl) rfl (Nat.le_of_ble_eq_true rfl) dX1_tenant_10 (fun X1 w1 H1 l1 q1 ce hx => hx.elim) (fun v w2 H locs hq _ hS => ?_)
  obtain ⟨r3, rfl, hw⟩ := hq
  refine W.eq (g2 := F0 m 13 ls [.int r3]) rfl ?_
  refine a_str C dX1_tenant_13 hw (fun a4 hw => ?_)
  refine g_callS (rest := []) C hS hl (kJ_X1_requireArgument C.tr hw) q1277 q891 q77 q892 ny_X1_requireArgument rfl (Nat.le_of_ble_eq_true rfl) (Nat.le_of_ble_eq_true rfl) rfl (Nat.le_of_ble_eq_true rfl) dX1_tenant_15 (fun X1 w1 H1 l1 q1 ce hx _ hS1 hc hv hcl => g_out C hS1 (fun x h => by cases h) hc hv hcl hx) (fun v w5 H locs hq _ hS => ?_)
  obtain ⟨rfl, hw⟩ := hq
  refine W.eq (g2 := F0 m 18 ls []) rfl ?_
  refine lv_aload_n C.x C.b dX1_tenant_18 rfl (lv_at hl 0 rfl) ?_
  refine a_R C hS in_X1 rfl (k := 0) (ci := 0) (by decide) q345 (fun _ h9 => h9) dX1_tenant_19 hw (fun r6 hw => ?_)
  refine lv_iload_n C.x C.b dX1_tenant_22 rfl (lv_at hl 1 rfl) ?_
  refine lv_iload_n C.x C.b dX1_tenant_23 rfl (lv_at hl 2 rfl) ?_
  obtain ⟨a7, e9, hw9⟩ := hw; subst e9; have hw := hw9; clear hw9
  have hl : lv_has ls 3 [(0, .ref i0), (1, .int i1), (2, .int i2)] := hl
  refine W.eq (g2 := F0 m 24 ls [.int i2, .int i1, .ref a7]) rfl ?_
  obtain ⟨fs, hq, hw⟩ := hw
  refine a_callV (rest := []) C hS hl 1 hq rfl (kJ_X2_tenantValue C.tr hw) q1245 q1246 q1247 q78 q1248 ny_X2_tenantValue rfl (Nat.le_of_ble_eq_true rfl) (Nat.le_of_ble_eq_true rfl) rfl (Nat.le_of_ble_eq_true rfl) dX1_tenant_24 (fun X1 w1 H1 l1 q1 ce hx => hx.elim) (fun v w8 H locs hq _ hS => ?_)
  obtain ⟨r9, rfl, hw⟩ := hq
  refine W.eq (g2 := F0 m 27 ls [.int r9]) rfl ?_
  exact g_iret C hS ⟨_, rfl, hw⟩ dX1_tenant_27
theorem ny_X1_tenant : gNm yX1_tenant 2 = true := by decide +kernel
theorem kJ_X1_tenant {l : Launch} (ht : l.stackTraces = false) {w : gW} {i0 : Nat} {i1 : Int32} {i2 : Int32} {Q : Int32 → gW → Prop} {X : String → gW → Prop} (hw : wJ_X1_tenant E i0 i1 i2 Q X w) : gMet l yX1_tenant (ws_ yX1_tenant cX1_tenant 3 (some .int)) E w [.ref i0, .int i1, .int i2] 10 161 (gI Q) (X) :=
  g_ofW ht (by decide) (Nat.le_of_ble_eq_true rfl) (fun p e s m below meth c ls H C hl hS => kJ_X1_tenant_r C _ _ _ _ _ _ _ hS hl hw)
def wJ_X1_bidOf_28 (E : gE) (Q : Int32 → gW → Prop) (X : String → gW → Prop) (x0 : Nat) (x1 : Int32) (x2 : Int32) (y0 : Int32) (w : gW) : Prop :=
  aStr E "BridgeAuction" 226 "tenant or link" (fun a9 => wJ_X1_requireIndex E y0 a9 (fun w10 => aR E x0 0 0 (fun r11 => ∃ a12 : Nat, r11 = some a12 ∧ (aKind E a12 1 (wJ_X2_link E a12 x2 (fun r14 w13 => ∃ a15 : Nat, r14 = some a15 ∧ (aR E a15 5 8 (fun r16 => ∃ a17 : Nat, r16 = some a17 ∧ (aL E 0 a17 x1 (fun v18 => Q v18 w13) w13)) w13)) X w10) w10)) w10) X w)
theorem kJ_X1_bidOf_28 (C : gC p l s m args meth c cX1_bidOf 3 (some .int) RX1 E [] "bidOf") {Q : Int32 → gW → Prop} {X : String → gW → Prop} (x0 : Nat) (x1 : Int32) (x2 : Int32) (y0 : Int32) (w : gW) (H : Heap) (locs : List Loc) (ls : Array Slot) (hS : gS E w0 w H locs) (hl : lv_has ls 3 [(0, .ref x0), (1, .int x1), (2, .int x2)]) (hw : wJ_X1_bidOf_28 E Q X x0 x1 x2 y0 w) : gGo p l e s m args below meth c H locs 10 162 E w0 w (gI Q) (X) (F0 m 28 ls [.int y0]) := by
  unfold wJ_X1_bidOf_28 at hw
  refine a_str C dX1_bidOf_28 hw (fun a9 hw => ?_)
  refine g_callS (rest := []) C hS hl (kJ_X1_requireIndex C.tr hw) q1345 q871 q77 q872 ny_X1_requireIndex rfl (Nat.le_of_ble_eq_true rfl) (Nat.le_of_ble_eq_true rfl) rfl (Nat.le_of_ble_eq_true rfl) dX1_bidOf_30 (fun X1 w1 H1 l1 q1 ce hx _ hS1 hc hv hcl => g_out C hS1 (fun x h => by cases h) hc hv hcl hx) (fun v w10 H locs hq _ hS => ?_)
  obtain ⟨rfl, hw⟩ := hq
  refine W.eq (g2 := F0 m 33 ls []) rfl ?_
  refine lv_aload_n C.x C.b dX1_bidOf_33 rfl (lv_at hl 0 rfl) ?_
  refine a_R C hS in_X1 rfl (k := 0) (ci := 0) (by decide) q345 (fun _ h9 => h9) dX1_bidOf_34 hw (fun r11 hw => ?_)
  refine lv_iload_n C.x C.b dX1_bidOf_37 rfl (lv_at hl 2 rfl) ?_
  obtain ⟨a12, e9, hw9⟩ := hw; subst e9; have hw := hw9; clear hw9
  have hl : lv_has ls 3 [(0, .ref x0), (1, .int x1), (2, .int x2)] := hl
  refine W.eq (g2 := F0 m 38 ls [.int x2, .ref a12]) rfl ?_
  obtain ⟨fs, hq, hw⟩ := hw
  refine a_callV (rest := []) C hS hl 1 hq rfl (kJ_X2_link C.tr hw) q1396 q1005 q1006 q78 q1007 ny_X2_link rfl (Nat.le_of_ble_eq_true rfl) (Nat.le_of_ble_eq_true rfl) rfl (Nat.le_of_ble_eq_true rfl) dX1_bidOf_38 (fun X1 w1 H1 l1 q1 ce hx _ hS1 hc hv hcl => g_out C hS1 (fun x h => by cases h) hc hv hcl hx) (fun v w13 H locs hq _ hS => ?_)
  obtain ⟨r14, rfl, hw⟩ := hq
  refine W.eq (g2 := F0 m 41 ls [va_rf r14]) rfl ?_
  obtain ⟨a15, e9, hw9⟩ := hw; subst e9; have hw := hw9; clear hw9
  have hl : lv_has ls 3 [(0, .ref x0), (1, .int x1), (2, .int x2)] := hl
  refine W.eq (g2 := F0 m 41 ls [.ref a15]) rfl ?_
  refine a_RN C hS in_X6 rfl (k := 8) (ci := 5) (by decide) q954 (fun _ h9 => h9) dX1_bidOf_41 hw (fun r16 hw => ?_)
  refine lv_iload_n C.x C.b dX1_bidOf_44 rfl (lv_at hl 1 rfl) ?_
  obtain ⟨a17, e9, hw9⟩ := hw; subst e9; have hw := hw9; clear hw9
  have hl : lv_has ls 3 [(0, .ref x0), (1, .int x1), (2, .int x2)] := hl
  refine W.eq (g2 := F0 m 45 ls [.int x1, .ref a17]) rfl ?_
  refine a_Li C hS dX1_bidOf_45 hw (fun v18 hw => ?_)
  exact g_iret C hS ⟨_, rfl, hw⟩ dX1_bidOf_46
def wJ_X1_bidOf_27 (E : gE) (Q : Int32 → gW → Prop) (X : String → gW → Prop) (x0 : Nat) (x1 : Int32) (x2 : Int32) (w : gW) : Prop :=
  wJ_X1_bidOf_28 E Q X x0 x1 x2 0 w
theorem kJ_X1_bidOf_27 (C : gC p l s m args meth c cX1_bidOf 3 (some .int) RX1 E [] "bidOf") {Q : Int32 → gW → Prop} {X : String → gW → Prop} (x0 : Nat) (x1 : Int32) (x2 : Int32) (w : gW) (H : Heap) (locs : List Loc) (ls : Array Slot) (hS : gS E w0 w H locs) (hl : lv_has ls 3 [(0, .ref x0), (1, .int x1), (2, .int x2)]) (hw : wJ_X1_bidOf_27 E Q X x0 x1 x2 w) : gGo p l e s m args below meth c H locs 10 162 E w0 w (gI Q) (X) (F0 m 27 ls []) := by
  unfold wJ_X1_bidOf_27 at hw
  refine lv_iconst (v := 0) C.x C.b dX1_bidOf_27 (by decide) ?_
  exact kJ_X1_bidOf_28 C _ _ _ _ _ _ _ _ hS (lv_sub hl [0, 1, 2] rfl) hw
def wJ_X1_bidOf (E : gE) (i0 : Nat) (i1 : Int32) (i2 : Int32) (Q : Int32 → gW → Prop) (X : String → gW → Prop) (w : gW) : Prop :=
  wJ_X1_inRange E i1.toInt64 0 3 (fun r2 w1 => (r2 = 0 → (wJ_X1_bidOf_27 E Q X i0 i1 i2 w1)) ∧ (¬ r2 = 0 → (aR E i0 0 0 (fun r4 => ∃ a5 : Nat, r4 = some a5 ∧ (aKind E a5 1 (wJ_X2_isLink E a5 i2 (fun r7 w6 => (r7 = 0 → (wJ_X1_bidOf_27 E Q X i0 i1 i2 w6)) ∧ (¬ r7 = 0 → (wJ_X1_bidOf_28 E Q X i0 i1 i2 1 w6))) w1) w1)) w1))) w
theorem kJ_X1_bidOf_r (C : gC p l s m args meth c cX1_bidOf 3 (some .int) RX1 E [] "bidOf") (i0 : Nat) (i1 : Int32) (i2 : Int32) {Q : Int32 → gW → Prop} {X : String → gW → Prop} (w : gW) (H : Heap) (locs : List Loc) (ls : Array Slot) (hS : gS E w0 w H locs) (hl : lv_has ls 3 [(0, .ref i0), (1, .int i1), (2, .int i2)]) (hw : wJ_X1_bidOf E i0 i1 i2 Q X w) : gGo p l e s m args below meth c H locs 10 162 E w0 w (gI Q) (X) (F0 m 0 ls []) := by
  unfold wJ_X1_bidOf at hw
  refine lv_iload_n C.x C.b dX1_bidOf_0 rfl (lv_at hl 1 rfl) ?_
  refine lv_i2l C.x C.b dX1_bidOf_1 rfl ?_
  refine lv_lconst (v := 0) C.x C.b dX1_bidOf_2 (by decide) ?_
  refine lv_ldc2 C.x C.b C.ow (C.ts _ q1343) dX1_bidOf_3 ?_
  refine g_callS (rest := []) C hS hl (kJ_X1_inRange C.tr hw) q1275 q459 q77 q460 ny_X1_inRange rfl (Nat.le_of_ble_eq_true rfl) (Nat.le_of_ble_eq_true rfl) rfl (Nat.le_of_ble_eq_true rfl) dX1_bidOf_6 (fun X1 w1 H1 l1 q1 ce hx => hx.elim) (fun v w1 H locs hq _ hS => ?_)
  obtain ⟨r2, rfl, hw⟩ := hq
  refine W.eq (g2 := F0 m 9 ls [.int r2]) rfl ?_
  refine lv_if_eq (tgt := 27) C.x C.b dX1_bidOf_9 (by decide) (fun c3 => ?_) (fun c3 => ?_)
  · have hw := hw.1 c3
    exact kJ_X1_bidOf_27 C _ _ _ _ _ _ _ hS (lv_sub hl [0, 1, 2] rfl) hw
  · have hw := hw.2 c3
    refine lv_aload_n C.x C.b dX1_bidOf_12 rfl (lv_at hl 0 rfl) ?_
    refine a_R C hS in_X1 rfl (k := 0) (ci := 0) (by decide) q345 (fun _ h9 => h9) dX1_bidOf_13 hw (fun r4 hw => ?_)
    refine lv_iload_n C.x C.b dX1_bidOf_16 rfl (lv_at hl 2 rfl) ?_
    obtain ⟨a5, e9, hw9⟩ := hw; subst e9; have hw := hw9; clear hw9
    have hl : lv_has ls 3 [(0, .ref i0), (1, .int i1), (2, .int i2)] := hl
    refine W.eq (g2 := F0 m 17 ls [.int i2, .ref a5]) rfl ?_
    obtain ⟨fs, hq, hw⟩ := hw
    refine a_callV (rest := []) C hS hl 1 hq rfl (kJ_X2_isLink C.tr hw) q1428 q992 q993 q78 q994 ny_X2_isLink rfl (Nat.le_of_ble_eq_true rfl) (Nat.le_of_ble_eq_true rfl) rfl (Nat.le_of_ble_eq_true rfl) dX1_bidOf_17 (fun X1 w1 H1 l1 q1 ce hx => hx.elim) (fun v w6 H locs hq _ hS => ?_)
    obtain ⟨r7, rfl, hw⟩ := hq
    refine W.eq (g2 := F0 m 20 ls [.int r7]) rfl ?_
    refine lv_if_eq (tgt := 27) C.x C.b dX1_bidOf_20 (by decide) (fun c8 => ?_) (fun c8 => ?_)
    · have hw := hw.1 c8
      exact kJ_X1_bidOf_27 C _ _ _ _ _ _ _ hS (lv_sub hl [0, 1, 2] rfl) hw
    · have hw := hw.2 c8
      refine lv_iconst (v := 1) C.x C.b dX1_bidOf_23 (by decide) ?_
      refine lv_goto (tgt := 28) C.x C.b dX1_bidOf_24 (by decide) ?_
      exact kJ_X1_bidOf_28 C _ _ _ _ _ _ _ _ hS (lv_sub hl [0, 1, 2] rfl) hw
theorem ny_X1_bidOf : gNm yX1_bidOf 2 = true := by decide +kernel
theorem kJ_X1_bidOf {l : Launch} (ht : l.stackTraces = false) {w : gW} {i0 : Nat} {i1 : Int32} {i2 : Int32} {Q : Int32 → gW → Prop} {X : String → gW → Prop} (hw : wJ_X1_bidOf E i0 i1 i2 Q X w) : gMet l yX1_bidOf (ws_ yX1_bidOf cX1_bidOf 3 (some .int)) E w [.ref i0, .int i1, .int i2] 10 162 (gI Q) (X) :=
  g_ofW ht (by decide) (Nat.le_of_ble_eq_true rfl) (fun p e s m below meth c ls H C hl hS => kJ_X1_bidOf_r C _ _ _ _ _ _ _ hS hl hw)
def wJ_X1_count (E : gE) (i0 : Nat) (i1 : Int32) (Q : Int32 → gW → Prop) (X : String → gW → Prop) (w : gW) : Prop :=
  wJ_X1_inRange E i1.toInt64 0 6 (fun r2 w1 => aStr E "BridgeAuction" 183 "what" (fun a3 => wJ_X1_requireArgument E r2 a3 (fun w4 => aR E i0 0 0 (fun r5 => ∃ a6 : Nat, r5 = some a6 ∧ (aKind E a6 1 (wJ_X2_count E a6 i1 (fun r8 w7 => Q r8 w7) w4) w4)) w4) X w1)) w
theorem kJ_X1_count_r (C : gC p l s m args meth c cX1_count 2 (some .int) RX1 E [] "count") (i0 : Nat) (i1 : Int32) {Q : Int32 → gW → Prop} {X : String → gW → Prop} (w : gW) (H : Heap) (locs : List Loc) (ls : Array Slot) (hS : gS E w0 w H locs) (hl : lv_has ls 2 [(0, .ref i0), (1, .int i1)]) (hw : wJ_X1_count E i0 i1 Q X w) : gGo p l e s m args below meth c H locs 9 158 E w0 w (gI Q) (X) (F0 m 0 ls []) := by
  unfold wJ_X1_count at hw
  refine lv_iload_n C.x C.b dX1_count_0 rfl (lv_at hl 1 rfl) ?_
  refine lv_i2l C.x C.b dX1_count_1 rfl ?_
  refine lv_lconst (v := 0) C.x C.b dX1_count_2 (by decide) ?_
  refine lv_ldc2 C.x C.b C.ow (C.ts _ q1437) dX1_count_3 ?_
  refine g_callS (rest := []) C hS hl (kJ_X1_inRange C.tr hw) q1275 q459 q77 q460 ny_X1_inRange rfl (Nat.le_of_ble_eq_true rfl) (Nat.le_of_ble_eq_true rfl) rfl (Nat.le_of_ble_eq_true rfl) dX1_count_6 (fun X1 w1 H1 l1 q1 ce hx => hx.elim) (fun v w1 H locs hq _ hS => ?_)
  obtain ⟨r2, rfl, hw⟩ := hq
  refine W.eq (g2 := F0 m 9 ls [.int r2]) rfl ?_
  refine a_str C dX1_count_9 hw (fun a3 hw => ?_)
  refine g_callS (rest := []) C hS hl (kJ_X1_requireArgument C.tr hw) q1277 q891 q77 q892 ny_X1_requireArgument rfl (Nat.le_of_ble_eq_true rfl) (Nat.le_of_ble_eq_true rfl) rfl (Nat.le_of_ble_eq_true rfl) dX1_count_11 (fun X1 w1 H1 l1 q1 ce hx _ hS1 hc hv hcl => g_out C hS1 (fun x h => by cases h) hc hv hcl hx) (fun v w4 H locs hq _ hS => ?_)
  obtain ⟨rfl, hw⟩ := hq
  refine W.eq (g2 := F0 m 14 ls []) rfl ?_
  refine lv_aload_n C.x C.b dX1_count_14 rfl (lv_at hl 0 rfl) ?_
  refine a_R C hS in_X1 rfl (k := 0) (ci := 0) (by decide) q345 (fun _ h9 => h9) dX1_count_15 hw (fun r5 hw => ?_)
  refine lv_iload_n C.x C.b dX1_count_18 rfl (lv_at hl 1 rfl) ?_
  obtain ⟨a6, e9, hw9⟩ := hw; subst e9; have hw := hw9; clear hw9
  have hl : lv_has ls 2 [(0, .ref i0), (1, .int i1)] := hl
  refine W.eq (g2 := F0 m 19 ls [.int i1, .ref a6]) rfl ?_
  obtain ⟨fs, hq, hw⟩ := hw
  refine a_callV (rest := []) C hS hl 1 hq rfl (kJ_X2_count C.tr hw) q1253 q1254 q1255 q78 q1256 ny_X2_count rfl (Nat.le_of_ble_eq_true rfl) (Nat.le_of_ble_eq_true rfl) rfl (Nat.le_of_ble_eq_true rfl) dX1_count_19 (fun X1 w1 H1 l1 q1 ce hx => hx.elim) (fun v w7 H locs hq _ hS => ?_)
  obtain ⟨r8, rfl, hw⟩ := hq
  refine W.eq (g2 := F0 m 22 ls [.int r8]) rfl ?_
  exact g_iret C hS ⟨_, rfl, hw⟩ dX1_count_22
theorem ny_X1_count : gNm yX1_count 1 = true := by decide +kernel
theorem kJ_X1_count {l : Launch} (ht : l.stackTraces = false) {w : gW} {i0 : Nat} {i1 : Int32} {Q : Int32 → gW → Prop} {X : String → gW → Prop} (hw : wJ_X1_count E i0 i1 Q X w) : gMet l yX1_count (ws_ yX1_count cX1_count 2 (some .int)) E w [.ref i0, .int i1] 9 158 (gI Q) (X) :=
  g_ofW ht (by decide) (Nat.le_of_ble_eq_true rfl) (fun p e s m below meth c ls H C hl hS => kJ_X1_count_r C _ _ _ _ _ _ hS hl hw)
def wJ_X1_type_28 (E : gE) (Q : Int32 → gW → Prop) (X : String → gW → Prop) (x0 : Nat) (x1 : Int32) (y0 : Int32) (w : gW) : Prop :=
  aStr E "BridgeAuction" 247 "script" (fun a7 => wJ_X1_requireState E y0 a7 (fun w8 => aR E x0 0 3 (fun r9 => aI E x0 0 4 (fun v10 => ∃ a11 : Nat, r9 = some a11 ∧ (aS E 1 a11 v10 x1.toInt8.toInt32 (fun w12 => aI E x0 0 4 (fun v13 => aP x0 0 4 (.int (v13 + 1)) (fun w14 => aI E x0 0 4 (fun v15 => Q v15 w14) w14) w12) w12) w8)) w8) w8) X w)
theorem kJ_X1_type_28 (C : gC p l s m args meth c cX1_type 2 (some .int) RX1 E [] "type") {Q : Int32 → gW → Prop} {X : String → gW → Prop} (x0 : Nat) (x1 : Int32) (y0 : Int32) (w : gW) (H : Heap) (locs : List Loc) (ls : Array Slot) (hS : gS E w0 w H locs) (hl : lv_has ls 2 [(0, .ref x0), (1, .int x1)]) (hw : wJ_X1_type_28 E Q X x0 x1 y0 w) : gGo p l e s m args below meth c H locs 9 141 E w0 w (gI Q) (X) (F0 m 28 ls [.int y0]) := by
  unfold wJ_X1_type_28 at hw
  refine a_str C dX1_type_28 hw (fun a7 hw => ?_)
  refine g_callS (rest := []) C hS hl (kJ_X1_requireState C.tr hw) q1350 q897 q77 q898 ny_X1_requireState rfl (Nat.le_of_ble_eq_true rfl) (Nat.le_of_ble_eq_true rfl) rfl (Nat.le_of_ble_eq_true rfl) dX1_type_30 (fun X1 w1 H1 l1 q1 ce hx _ hS1 hc hv hcl => g_out C hS1 (fun x h => by cases h) hc hv hcl hx) (fun v w8 H locs hq _ hS => ?_)
  obtain ⟨rfl, hw⟩ := hq
  refine W.eq (g2 := F0 m 33 ls []) rfl ?_
  refine lv_aload_n C.x C.b dX1_type_33 rfl (lv_at hl 0 rfl) ?_
  refine a_R C hS in_X1 rfl (k := 3) (ci := 0) (by decide) q349 (fun _ h9 => h9) dX1_type_34 hw (fun r9 hw => ?_)
  refine lv_aload_n C.x C.b dX1_type_37 rfl (lv_at hl 0 rfl) ?_
  refine a_I C hS in_X1 rfl (k := 4) (ci := 0) (by decide) q351 (fun _ h9 => h9) dX1_type_38 hw (fun v10 hw => ?_)
  refine lv_iload_n C.x C.b dX1_type_41 rfl (lv_at hl 1 rfl) ?_
  refine lv_i2b C.x C.b dX1_type_42 rfl ?_
  obtain ⟨a11, e9, hw9⟩ := hw; subst e9; have hw := hw9; clear hw9
  have hl : lv_has ls 2 [(0, .ref x0), (1, .int x1)] := hl
  refine W.eq (g2 := F0 m 43 ls [.int x1.toInt8.toInt32, .int v10, .ref a11]) rfl ?_
  refine a_Sb C hS dX1_type_43 hw (fun w12 H locs hw hS => ?_)
  refine lv_aload_n C.x C.b dX1_type_44 rfl (lv_at hl 0 rfl) ?_
  refine lv_dup C.x C.b dX1_type_45 rfl ?_
  refine a_I C hS in_X1 rfl (k := 4) (ci := 0) (by decide) q351 (fun _ h9 => h9) dX1_type_46 hw (fun v13 hw => ?_)
  refine lv_iconst (v := 1) C.x C.b dX1_type_49 (by decide) ?_
  refine lv_iadd C.x C.b dX1_type_50 ?_
  refine a_P C hS in_X1 tyX1 tyX1_ok nmX1 rfl (k := 4) (ci := 0) (by decide) q351 (fun _ h9 => h9) rfl rfl rfl dX1_type_51 hw (fun w14 H locs hw hS => ?_)
  refine lv_aload_n C.x C.b dX1_type_54 rfl (lv_at hl 0 rfl) ?_
  refine a_I C hS in_X1 rfl (k := 4) (ci := 0) (by decide) q351 (fun _ h9 => h9) dX1_type_55 hw (fun v15 hw => ?_)
  exact g_iret C hS ⟨_, rfl, hw⟩ dX1_type_58
def wJ_X1_type (E : gE) (i0 : Nat) (i1 : Int32) (Q : Int32 → gW → Prop) (X : String → gW → Prop) (w : gW) : Prop :=
  wJ_X1_inRange E i1.toInt64 0 127 (fun r2 w1 => aStr E "BridgeAuction" 242 "byte" (fun a3 => wJ_X1_requireArgument E r2 a3 (fun w4 => aI E i0 0 4 (fun v5 => (120 ≤ v5 → (wJ_X1_type_28 E Q X i0 i1 0 w4)) ∧ (¬ 120 ≤ v5 → (wJ_X1_type_28 E Q X i0 i1 1 w4))) w4) X w1)) w
theorem kJ_X1_type_r (C : gC p l s m args meth c cX1_type 2 (some .int) RX1 E [] "type") (i0 : Nat) (i1 : Int32) {Q : Int32 → gW → Prop} {X : String → gW → Prop} (w : gW) (H : Heap) (locs : List Loc) (ls : Array Slot) (hS : gS E w0 w H locs) (hl : lv_has ls 2 [(0, .ref i0), (1, .int i1)]) (hw : wJ_X1_type E i0 i1 Q X w) : gGo p l e s m args below meth c H locs 9 141 E w0 w (gI Q) (X) (F0 m 0 ls []) := by
  unfold wJ_X1_type at hw
  refine lv_iload_n C.x C.b dX1_type_0 rfl (lv_at hl 1 rfl) ?_
  refine lv_i2l C.x C.b dX1_type_1 rfl ?_
  refine lv_lconst (v := 0) C.x C.b dX1_type_2 (by decide) ?_
  refine lv_ldc2 C.x C.b C.ow (C.ts _ q1445) dX1_type_3 ?_
  refine g_callS (rest := []) C hS hl (kJ_X1_inRange C.tr hw) q1275 q459 q77 q460 ny_X1_inRange rfl (Nat.le_of_ble_eq_true rfl) (Nat.le_of_ble_eq_true rfl) rfl (Nat.le_of_ble_eq_true rfl) dX1_type_6 (fun X1 w1 H1 l1 q1 ce hx => hx.elim) (fun v w1 H locs hq _ hS => ?_)
  obtain ⟨r2, rfl, hw⟩ := hq
  refine W.eq (g2 := F0 m 9 ls [.int r2]) rfl ?_
  refine a_str C dX1_type_9 hw (fun a3 hw => ?_)
  refine g_callS (rest := []) C hS hl (kJ_X1_requireArgument C.tr hw) q1277 q891 q77 q892 ny_X1_requireArgument rfl (Nat.le_of_ble_eq_true rfl) (Nat.le_of_ble_eq_true rfl) rfl (Nat.le_of_ble_eq_true rfl) dX1_type_11 (fun X1 w1 H1 l1 q1 ce hx _ hS1 hc hv hcl => g_out C hS1 (fun x h => by cases h) hc hv hcl hx) (fun v w4 H locs hq _ hS => ?_)
  obtain ⟨rfl, hw⟩ := hq
  refine W.eq (g2 := F0 m 14 ls []) rfl ?_
  refine lv_aload_n C.x C.b dX1_type_14 rfl (lv_at hl 0 rfl) ?_
  refine a_I C hS in_X1 rfl (k := 4) (ci := 0) (by decide) q351 (fun _ h9 => h9) dX1_type_15 hw (fun v5 hw => ?_)
  refine lv_bipush (v := 120) C.x C.b dX1_type_18 (by decide) ?_
  refine lv_icmp_ge (tgt := 27) C.x C.b dX1_type_20 (by decide) (fun c6 => ?_) (fun c6 => ?_)
  · have hw := hw.1 c6
    refine lv_iconst (v := 0) C.x C.b dX1_type_27 (by decide) ?_
    exact kJ_X1_type_28 C _ _ _ _ _ _ _ hS (lv_sub hl [0, 1] rfl) hw
  · have hw := hw.2 c6
    refine lv_iconst (v := 1) C.x C.b dX1_type_23 (by decide) ?_
    refine lv_goto (tgt := 28) C.x C.b dX1_type_24 (by decide) ?_
    exact kJ_X1_type_28 C _ _ _ _ _ _ _ hS (lv_sub hl [0, 1] rfl) hw
theorem ny_X1_type : gNm yX1_type 1 = true := by decide +kernel
theorem kJ_X1_type {l : Launch} (ht : l.stackTraces = false) {w : gW} {i0 : Nat} {i1 : Int32} {Q : Int32 → gW → Prop} {X : String → gW → Prop} (hw : wJ_X1_type E i0 i1 Q X w) : gMet l yX1_type (ws_ yX1_type cX1_type 2 (some .int)) E w [.ref i0, .int i1] 9 141 (gI Q) (X) :=
  g_ofW ht (by decide) (Nat.le_of_ble_eq_true rfl) (fun p e s m below meth c ls H C hl hS => kJ_X1_type_r C _ _ _ _ _ _ hS hl hw)
def wJ_X1_undo_12 (E : gE) (Q : Int32 → gW → Prop) (X : String → gW → Prop) (x0 : Nat) (y0 : Int32) (w : gW) : Prop :=
  aStr E "BridgeAuction" 275 "nothing saved" (fun a3 => wJ_X1_requireState E y0 a3 (fun w4 => aI E x0 0 2 (fun v5 => aP x0 0 2 (.int (v5 - 1)) (fun w6 => aR E x0 0 1 (fun r7 => aI E x0 0 2 (fun v8 => ∃ a9 : Nat, r7 = some a9 ∧ (aLr E 4 a9 v8 (fun r10 => aP x0 0 0 (va_rf r10) (fun w11 => aI E x0 0 2 (fun v12 => Q v12 w11) w11) w6) w6)) w6) w6) w4) w4) X w)
theorem kJ_X1_undo_12 (C : gC p l s m args meth c cX1_undo 1 (some .int) RX1 E [] "undo") {Q : Int32 → gW → Prop} {X : String → gW → Prop} (x0 : Nat) (y0 : Int32) (w : gW) (H : Heap) (locs : List Loc) (ls : Array Slot) (hS : gS E w0 w H locs) (hl : lv_has ls 1 [(0, .ref x0)]) (hw : wJ_X1_undo_12 E Q X x0 y0 w) : gGo p l e s m args below meth c H locs 9 141 E w0 w (gI Q) (X) (F0 m 12 ls [.int y0]) := by
  unfold wJ_X1_undo_12 at hw
  refine a_strW C dX1_undo_12 hw (fun a3 hw => ?_)
  refine g_callS (rest := []) C hS hl (kJ_X1_requireState C.tr hw) q1350 q897 q77 q898 ny_X1_requireState rfl (Nat.le_of_ble_eq_true rfl) (Nat.le_of_ble_eq_true rfl) rfl (Nat.le_of_ble_eq_true rfl) dX1_undo_15 (fun X1 w1 H1 l1 q1 ce hx _ hS1 hc hv hcl => g_out C hS1 (fun x h => by cases h) hc hv hcl hx) (fun v w4 H locs hq _ hS => ?_)
  obtain ⟨rfl, hw⟩ := hq
  refine W.eq (g2 := F0 m 18 ls []) rfl ?_
  refine lv_aload_n C.x C.b dX1_undo_18 rfl (lv_at hl 0 rfl) ?_
  refine lv_dup C.x C.b dX1_undo_19 rfl ?_
  refine a_I C hS in_X1 rfl (k := 2) (ci := 0) (by decide) q347 (fun _ h9 => h9) dX1_undo_20 hw (fun v5 hw => ?_)
  refine lv_iconst (v := 1) C.x C.b dX1_undo_23 (by decide) ?_
  refine lv_isub C.x C.b dX1_undo_24 ?_
  refine a_P C hS in_X1 tyX1 tyX1_ok nmX1 rfl (k := 2) (ci := 0) (by decide) q347 (fun _ h9 => h9) rfl rfl rfl dX1_undo_25 hw (fun w6 H locs hw hS => ?_)
  refine lv_aload_n C.x C.b dX1_undo_28 rfl (lv_at hl 0 rfl) ?_
  refine lv_aload_n C.x C.b dX1_undo_29 rfl (lv_at hl 0 rfl) ?_
  refine a_R C hS in_X1 rfl (k := 1) (ci := 0) (by decide) q346 (fun _ h9 => h9) dX1_undo_30 hw (fun r7 hw => ?_)
  refine lv_aload_n C.x C.b dX1_undo_33 rfl (lv_at hl 0 rfl) ?_
  refine a_I C hS in_X1 rfl (k := 2) (ci := 0) (by decide) q347 (fun _ h9 => h9) dX1_undo_34 hw (fun v8 hw => ?_)
  obtain ⟨a9, e9, hw9⟩ := hw; subst e9; have hw := hw9; clear hw9
  have hl : lv_has ls 1 [(0, .ref x0)] := hl
  refine W.eq (g2 := F0 m 37 ls [.int v8, .ref a9, .ref x0]) rfl ?_
  refine a_Lr (t := 4) C hS rfl dX1_undo_37 hw (fun r10 hw => ?_)
  refine a_P C hS in_X1 tyX1 tyX1_ok nmX1 rfl (k := 0) (ci := 0) (by decide) q345 (fun _ h9 => h9) rfl va_rf_nar va_rf_fit dX1_undo_38 hw (fun w11 H locs hw hS => ?_)
  refine lv_aload_n C.x C.b dX1_undo_41 rfl (lv_at hl 0 rfl) ?_
  refine a_I C hS in_X1 rfl (k := 2) (ci := 0) (by decide) q347 (fun _ h9 => h9) dX1_undo_42 hw (fun v12 hw => ?_)
  exact g_iret C hS ⟨_, rfl, hw⟩ dX1_undo_45
def wJ_X1_undo (E : gE) (i0 : Nat) (Q : Int32 → gW → Prop) (X : String → gW → Prop) (w : gW) : Prop :=
  aI E i0 0 2 (fun v1 => (v1 ≤ 0 → (wJ_X1_undo_12 E Q X i0 0 w)) ∧ (¬ v1 ≤ 0 → (wJ_X1_undo_12 E Q X i0 1 w))) w
theorem kJ_X1_undo_r (C : gC p l s m args meth c cX1_undo 1 (some .int) RX1 E [] "undo") (i0 : Nat) {Q : Int32 → gW → Prop} {X : String → gW → Prop} (w : gW) (H : Heap) (locs : List Loc) (ls : Array Slot) (hS : gS E w0 w H locs) (hl : lv_has ls 1 [(0, .ref i0)]) (hw : wJ_X1_undo E i0 Q X w) : gGo p l e s m args below meth c H locs 9 141 E w0 w (gI Q) (X) (F0 m 0 ls []) := by
  unfold wJ_X1_undo at hw
  refine lv_aload_n C.x C.b dX1_undo_0 rfl (lv_at hl 0 rfl) ?_
  refine a_I C hS in_X1 rfl (k := 2) (ci := 0) (by decide) q347 (fun _ h9 => h9) dX1_undo_1 hw (fun v1 hw => ?_)
  refine lv_if_le (tgt := 11) C.x C.b dX1_undo_4 (by decide) (fun c2 => ?_) (fun c2 => ?_)
  · have hw := hw.1 c2
    refine lv_iconst (v := 0) C.x C.b dX1_undo_11 (by decide) ?_
    exact kJ_X1_undo_12 C _ _ _ _ _ _ hS (lv_sub hl [0] rfl) hw
  · have hw := hw.2 c2
    refine lv_iconst (v := 1) C.x C.b dX1_undo_7 (by decide) ?_
    refine lv_goto (tgt := 12) C.x C.b dX1_undo_8 (by decide) ?_
    exact kJ_X1_undo_12 C _ _ _ _ _ _ hS (lv_sub hl [0] rfl) hw
theorem ny_X1_undo : gNm yX1_undo 0 = true := by decide +kernel
theorem kJ_X1_undo {l : Launch} (ht : l.stackTraces = false) {w : gW} {i0 : Nat} {Q : Int32 → gW → Prop} {X : String → gW → Prop} (hw : wJ_X1_undo E i0 Q X w) : gMet l yX1_undo (ws_ yX1_undo cX1_undo 1 (some .int)) E w [.ref i0] 9 141 (gI Q) (X) :=
  g_ofW ht (by decide) (Nat.le_of_ble_eq_true rfl) (fun p e s m below meth c ls H C hl hS => kJ_X1_undo_r C _ _ _ _ _ hS hl hw)
end GB2
