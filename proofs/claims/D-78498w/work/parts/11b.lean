section GN2
variable {p : Program} {l : Launch} {e : Env} {s : State} {m : MethodId} {args : Array Value} {below : List Frame} {meth : Method} {c : Code} {E : gE} {w0 : gW}
def wJ_X2_bridge (E : gE) (i0 : Nat) (i1 : Int32) (Q : Option Nat → gW → Prop) (X : String → gW → Prop) (w : gW) : Prop :=
  aKind E i0 1 (wJ_X2_isBridge E i0 i1 (fun r2 w1 => aStr E "BridgeAuction$Network" 109 "bridge" (fun a3 => wJ_X1_requireIndex E r2 a3 (fun w4 => aR E i0 1 0 (fun r5 => ∃ a6 : Nat, r5 = some a6 ∧ (aKind E a6 8 (wJ_J2_get E a6 i1 (fun r8 w7 => ∃ a9 : Nat, r8 = some a9 ∧ (aKind E a9 2 (Q (some a9) w7) w7)) w4) w4)) w4) X w1)) w) w
theorem kJ_X2_bridge_r (C : gC p l s m args meth c cX2_bridge 2 (some (.object "BridgeAuction$Bridge")) RX2 E [] "bridge") (i0 : Nat) (i1 : Int32) {Q : Option Nat → gW → Prop} {X : String → gW → Prop} (w : gW) (H : Heap) (locs : List Loc) (ls : Array Slot) (hS : gS E w0 w H locs) (hl : lv_has ls 2 [(0, .ref i0), (1, .int i1)]) (hw : wJ_X2_bridge E i0 i1 Q X w) : gGo p l e s m args below meth c H locs 9 141 E w0 w (gR Q) (X) (F0 m 0 ls []) := by
  unfold wJ_X2_bridge at hw
  refine lv_aload_n C.x C.b dX2_bridge_0 rfl (lv_at hl 0 rfl) ?_
  refine lv_iload_n C.x C.b dX2_bridge_1 rfl (lv_at hl 1 rfl) ?_
  obtain ⟨fs, hq, hw⟩ := hw
  refine a_callV (rest := []) C hS hl 1 hq rfl (kJ_X2_isBridge C.tr hw) q864 q865 q866 q78 q867 ny_X2_isBridge rfl (Nat.le_of_ble_eq_true rfl) (Nat.le_of_ble_eq_true rfl) rfl (Nat.le_of_ble_eq_true rfl) dX2_bridge_2 (fun X1 w1 H1 l1 q1 ce hx => hx.elim) (fun v w1 H locs hq _ hS => ?_)
  obtain ⟨r2, rfl, hw⟩ := hq
  refine W.eq (g2 := F0 m 5 ls [.int r2]) rfl ?_
  refine a_str C dX2_bridge_5 hw (fun a3 hw => ?_)
  refine g_callSN (rest := []) C hS hl (kJ_X1_requireIndex C.tr hw) q870 q871 q77 q872 ny_X1_requireIndex rfl (Nat.le_of_ble_eq_true rfl) (Nat.le_of_ble_eq_true rfl) rfl (Nat.le_of_ble_eq_true rfl) dX2_bridge_7 (fun X1 w1 H1 l1 q1 ce hx _ hS1 hc hv hcl => g_out C hS1 (fun x h => by cases h) hc hv hcl hx) (fun v w4 H locs hq _ hS => ?_)
  obtain ⟨rfl, hw⟩ := hq
  refine W.eq (g2 := F0 m 10 ls []) rfl ?_
  refine lv_aload_n C.x C.b dX2_bridge_10 rfl (lv_at hl 0 rfl) ?_
  refine a_R C hS in_X2 rfl (k := 0) (ci := 1) (by decide) q152 (fun _ h9 => h9) dX2_bridge_11 hw (fun r5 hw => ?_)
  refine lv_iload_n C.x C.b dX2_bridge_14 rfl (lv_at hl 1 rfl) ?_
  obtain ⟨a6, e9, hw9⟩ := hw; subst e9; have hw := hw9; clear hw9
  have hl : lv_has ls 2 [(0, .ref i0), (1, .int i1)] := hl
  refine W.eq (g2 := F0 m 15 ls [.int i1, .ref a6]) rfl ?_
  obtain ⟨fs, hq, hw⟩ := hw
  refine a_callV (rest := []) C hS hl 8 hq rfl (kJ_J2_get C.tr hw) q389 q390 q391 q81 q392 ny_J2_get rfl (Nat.le_of_ble_eq_true rfl) (Nat.le_of_ble_eq_true rfl) rfl (Nat.le_of_ble_eq_true rfl) dX2_bridge_15 (fun X1 w1 H1 l1 q1 ce hx => hx.elim) (fun v w7 H locs hq _ hS => ?_)
  obtain ⟨r8, rfl, hw⟩ := hq
  refine W.eq (g2 := F0 m 18 ls [va_rf r8]) rfl ?_
  obtain ⟨a9, e9, hw9⟩ := hw; subst e9; have hw := hw9; clear hw9
  have hl : lv_has ls 2 [(0, .ref i0), (1, .int i1)] := hl
  refine W.eq (g2 := F0 m 18 ls [.ref a9]) rfl ?_
  refine a_cast (ci := 2) C hS rfl q207 dX2_bridge_18 hw (fun hw => ?_)
  exact g_aret (r := (some a9)) C (Or.inl ⟨_, rfl⟩) hS ⟨_, rfl, hw⟩ dX2_bridge_21
theorem ny_X2_bridge : gNm yX2_bridge 1 = true := by decide +kernel
theorem kJ_X2_bridge {l : Launch} (ht : l.stackTraces = false) {w : gW} {i0 : Nat} {i1 : Int32} {Q : Option Nat → gW → Prop} {X : String → gW → Prop} (hw : wJ_X2_bridge E i0 i1 Q X w) : gMet l yX2_bridge (ws_ yX2_bridge cX2_bridge 2 (some (.object "BridgeAuction$Bridge"))) E w [.ref i0, .int i1] 9 141 (gR Q) (X) :=
  g_ofW ht (by decide) (Nat.le_of_ble_eq_true rfl) (fun p e s m below meth c ls H C hl hS => kJ_X2_bridge_r C _ _ _ _ _ _ hS hl hw)
def wJ_X2_setPriority (E : gE) (i0 : Nat) (i1 : Int32) (i2 : Int32) (Q : Int32 → gW → Prop) (X : String → gW → Prop) (w : gW) : Prop :=
  aKind E i0 1 (wJ_X2_bridge E i0 i1 (fun r2 w1 => wJ_X1_inRange E i2.toInt64 0 9 (fun r4 w3 => aStr E "BridgeAuction$Network" 125 "priority" (fun a5 => wJ_X1_requireArgument E r4 a5 (fun w6 => ∃ a7 : Nat, r2 = some a7 ∧ (aI E a7 2 1 (fun v8 => aP a7 2 1 (.int i2) (fun w9 => aKind E a7 2 (wJ_X3_id E a7 (fun r11 w10 => wJ_X4_own E r11 (fun r13 w12 => aP a7 2 2 (va_rf r13) (fun w14 => Q v8 w14) w12) w10) w9) w9) w6) w6)) X w3)) w1) X w) w
theorem kJ_X2_setPriority_r (C : gC p l s m args meth c cX2_setPriority 5 (some .int) RX2 E [] "setPriority") (i0 : Nat) (i1 : Int32) (i2 : Int32) {Q : Int32 → gW → Prop} {X : String → gW → Prop} (w : gW) (H : Heap) (locs : List Loc) (ls : Array Slot) (hS : gS E w0 w H locs) (hl : lv_has ls 5 [(0, .ref i0), (1, .int i1), (2, .int i2)]) (hw : wJ_X2_setPriority E i0 i1 i2 Q X w) : gGo p l e s m args below meth c H locs 10 162 E w0 w (gI Q) (X) (F0 m 0 ls []) := by
  unfold wJ_X2_setPriority at hw
  refine lv_aload_n C.x C.b dX2_setPriority_0 rfl (lv_at hl 0 rfl) ?_
  refine lv_iload_n C.x C.b dX2_setPriority_1 rfl (lv_at hl 1 rfl) ?_
  obtain ⟨fs, hq, hw⟩ := hw
  refine a_callV (rest := []) C hS hl 1 hq rfl (kJ_X2_bridge C.tr hw) q1022 q1023 q1024 q78 q1025 ny_X2_bridge rfl (Nat.le_of_ble_eq_true rfl) (Nat.le_of_ble_eq_true rfl) rfl (Nat.le_of_ble_eq_true rfl) dX2_setPriority_2 (fun X1 w1 H1 l1 q1 ce hx _ hS1 hc hv hcl => g_out C hS1 (fun x h => by cases h) hc hv hcl hx) (fun v w1 H locs hq _ hS => ?_)
  obtain ⟨r2, rfl, hw⟩ := hq
  refine W.eq (g2 := F0 m 5 ls [va_rf r2]) rfl ?_
  refine a_astore_n (lv' := [(3, va_rf r2), (0, .ref i0), (1, .int i1), (2, .int i2)]) C dX2_setPriority_5 rfl hl (by decide) (by cases r2 <;> rfl) (fun ls hl => ?_)
  refine lv_iload_n C.x C.b dX2_setPriority_6 rfl (lv_at hl 3 rfl) ?_
  refine lv_i2l C.x C.b dX2_setPriority_7 rfl ?_
  refine lv_lconst (v := 0) C.x C.b dX2_setPriority_8 (by decide) ?_
  refine lv_ldc2 C.x C.b C.ow (C.ts _ q1026) dX2_setPriority_9 ?_
  refine g_callSN (rest := []) C hS hl (kJ_X1_inRange C.tr hw) q868 q459 q77 q460 ny_X1_inRange rfl (Nat.le_of_ble_eq_true rfl) (Nat.le_of_ble_eq_true rfl) rfl (Nat.le_of_ble_eq_true rfl) dX2_setPriority_12 (fun X1 w1 H1 l1 q1 ce hx => hx.elim) (fun v w3 H locs hq _ hS => ?_)
  obtain ⟨r4, rfl, hw⟩ := hq
  refine W.eq (g2 := F0 m 15 ls [.int r4]) rfl ?_
  refine a_str C dX2_setPriority_15 hw (fun a5 hw => ?_)
  refine g_callSN (rest := []) C hS hl (kJ_X1_requireArgument C.tr hw) q890 q891 q77 q892 ny_X1_requireArgument rfl (Nat.le_of_ble_eq_true rfl) (Nat.le_of_ble_eq_true rfl) rfl (Nat.le_of_ble_eq_true rfl) dX2_setPriority_17 (fun X1 w1 H1 l1 q1 ce hx _ hS1 hc hv hcl => g_out C hS1 (fun x h => by cases h) hc hv hcl hx) (fun v w6 H locs hq _ hS => ?_)
  obtain ⟨rfl, hw⟩ := hq
  refine W.eq (g2 := F0 m 20 ls []) rfl ?_
  refine a_aload_n C dX2_setPriority_20 rfl (lv_at hl 0 rfl) ?_
  obtain ⟨a7, e9, hw9⟩ := hw; subst e9; have hw := hw9; clear hw9
  have hl : lv_has ls 5 [(3, .ref a7), (0, .ref i0), (1, .int i1), (2, .int i2)] := hl
  refine W.eq (g2 := F0 m 21 ls [.ref a7]) rfl ?_
  refine a_IN C hS in_X3 rfl (k := 1) (ci := 2) (by decide) q260 (fun _ h9 => h9) dX2_setPriority_21 hw (fun v8 hw => ?_)
  refine lv_istore (lv' := [(4, .int v8), (3, .ref a7), (0, .ref i0), (1, .int i1), (2, .int i2)]) C.x C.b dX2_setPriority_24 hl (by decide) rfl (fun ls hl => ?_)
  refine lv_aload_n C.x C.b dX2_setPriority_26 rfl (lv_at hl 1 rfl) ?_
  refine lv_iload_n C.x C.b dX2_setPriority_27 rfl (lv_at hl 4 rfl) ?_
  refine a_PN C hS in_X3 tyX3 tyX3_ok nmX3 rfl (k := 1) (ci := 2) (by decide) q260 (fun _ h9 => h9) rfl rfl rfl dX2_setPriority_28 hw (fun w9 H locs hw hS => ?_)
  refine lv_aload_n C.x C.b dX2_setPriority_31 rfl (lv_at hl 1 rfl) ?_
  refine lv_aload_n C.x C.b dX2_setPriority_32 rfl (lv_at hl 1 rfl) ?_
  obtain ⟨fs, hq, hw⟩ := hw
  refine a_callV (rest := [.ref a7]) C hS hl 2 hq rfl (kJ_X3_id C.tr hw) q1028 q214 q215 q82 q216 ny_X3_id rfl (Nat.le_of_ble_eq_true rfl) (Nat.le_of_ble_eq_true rfl) rfl (Nat.le_of_ble_eq_true rfl) dX2_setPriority_33 (fun X1 w1 H1 l1 q1 ce hx => hx.elim) (fun v w10 H locs hq _ hS => ?_)
  obtain ⟨r11, rfl, hw⟩ := hq
  refine W.eq (g2 := F0 m 36 ls [.int r11, .ref a7]) rfl ?_
  refine g_callS (rest := [.ref a7]) C hS hl (kJ_X4_own C.tr hw) q1029 q218 q83 q219 ny_X4_own rfl (Nat.le_of_ble_eq_true rfl) (Nat.le_of_ble_eq_true rfl) rfl (Nat.le_of_ble_eq_true rfl) dX2_setPriority_36 (fun X1 w1 H1 l1 q1 ce hx => hx.elim) (fun v w12 H locs hq _ hS => ?_)
  obtain ⟨r13, rfl, hw⟩ := hq
  refine W.eq (g2 := F0 m 39 ls [va_rf r13, .ref a7]) rfl ?_
  refine a_PN C hS in_X3 tyX3 tyX3_ok nmX3 rfl (k := 2) (ci := 2) (by decide) q262 (fun _ h9 => h9) rfl va_rf_nar va_rf_fit dX2_setPriority_39 hw (fun w14 H locs hw hS => ?_)
  refine lv_iload C.x C.b dX2_setPriority_42 (lv_at hl 0 rfl) ?_
  exact g_iret C hS ⟨_, rfl, hw⟩ dX2_setPriority_44
theorem ny_X2_setPriority : gNm yX2_setPriority 2 = true := by decide +kernel
theorem kJ_X2_setPriority {l : Launch} (ht : l.stackTraces = false) {w : gW} {i0 : Nat} {i1 : Int32} {i2 : Int32} {Q : Int32 → gW → Prop} {X : String → gW → Prop} (hw : wJ_X2_setPriority E i0 i1 i2 Q X w) : gMet l yX2_setPriority (ws_ yX2_setPriority cX2_setPriority 5 (some .int)) E w [.ref i0, .int i1, .int i2] 10 162 (gI Q) (X) :=
  g_ofW ht (by decide) (Nat.le_of_ble_eq_true rfl) (fun p e s m below meth c ls H C hl hS => kJ_X2_setPriority_r C _ _ _ _ _ _ _ hS hl hw)
def wJ_X2_moveHost_25 (E : gE) (Q : Int32 → gW → Prop) (X : String → gW → Prop) (x0 : Nat) (x1 : Int32) (x2 : Int32) (y0 : Int32) (w : gW) : Prop :=
  aStr E "BridgeAuction$Network" 173 "host or bridge" (fun a7 => wJ_X1_requireIndex E y0 a7 (fun w8 => aR E x0 1 2 (fun r9 => ∃ a10 : Nat, r9 = some a10 ∧ (aL E 0 a10 x1 (fun v11 => aR E x0 1 2 (fun r12 => ∃ a13 : Nat, r12 = some a13 ∧ (aS E 0 a13 x1 x2 (fun w14 => Q v11 w14) w8)) w8) w8)) w8) X w)
theorem kJ_X2_moveHost_25 (C : gC p l s m args meth c cX2_moveHost 4 (some .int) RX2 E [] "moveHost") {Q : Int32 → gW → Prop} {X : String → gW → Prop} (x0 : Nat) (x1 : Int32) (x2 : Int32) (y0 : Int32) (w : gW) (H : Heap) (locs : List Loc) (ls : Array Slot) (hS : gS E w0 w H locs) (hl : lv_has ls 4 [(0, .ref x0), (1, .int x1), (2, .int x2)]) (hw : wJ_X2_moveHost_25 E Q X x0 x1 x2 y0 w) : gGo p l e s m args below meth c H locs 9 141 E w0 w (gI Q) (X) (F0 m 25 ls [.int y0]) := by
  unfold wJ_X2_moveHost_25 at hw
  refine a_str C dX2_moveHost_25 hw (fun a7 hw => ?_)
  refine g_callSN (rest := []) C hS hl (kJ_X1_requireIndex C.tr hw) q870 q871 q77 q872 ny_X1_requireIndex rfl (Nat.le_of_ble_eq_true rfl) (Nat.le_of_ble_eq_true rfl) rfl (Nat.le_of_ble_eq_true rfl) dX2_moveHost_27 (fun X1 w1 H1 l1 q1 ce hx _ hS1 hc hv hcl => g_out C hS1 (fun x h => by cases h) hc hv hcl hx) (fun v w8 H locs hq _ hS => ?_)
  obtain ⟨rfl, hw⟩ := hq
  refine W.eq (g2 := F0 m 30 ls []) rfl ?_
  refine lv_aload_n C.x C.b dX2_moveHost_30 rfl (lv_at hl 0 rfl) ?_
  refine a_R C hS in_X2 rfl (k := 2) (ci := 1) (by decide) q156 (fun _ h9 => h9) dX2_moveHost_31 hw (fun r9 hw => ?_)
  refine lv_iload_n C.x C.b dX2_moveHost_34 rfl (lv_at hl 1 rfl) ?_
  obtain ⟨a10, e9, hw9⟩ := hw; subst e9; have hw := hw9; clear hw9
  have hl : lv_has ls 4 [(0, .ref x0), (1, .int x1), (2, .int x2)] := hl
  refine W.eq (g2 := F0 m 35 ls [.int x1, .ref a10]) rfl ?_
  refine a_Li C hS dX2_moveHost_35 hw (fun v11 hw => ?_)
  refine lv_istore_n (lv' := [(3, .int v11), (0, .ref x0), (1, .int x1), (2, .int x2)]) C.x C.b dX2_moveHost_36 rfl hl (by decide) rfl (fun ls hl => ?_)
  refine lv_aload_n C.x C.b dX2_moveHost_37 rfl (lv_at hl 1 rfl) ?_
  refine a_R C hS in_X2 rfl (k := 2) (ci := 1) (by decide) q156 (fun _ h9 => h9) dX2_moveHost_38 hw (fun r12 hw => ?_)
  refine lv_iload_n C.x C.b dX2_moveHost_41 rfl (lv_at hl 2 rfl) ?_
  refine lv_iload_n C.x C.b dX2_moveHost_42 rfl (lv_at hl 3 rfl) ?_
  obtain ⟨a13, e9, hw9⟩ := hw; subst e9; have hw := hw9; clear hw9
  have hl : lv_has ls 4 [(3, .int v11), (0, .ref x0), (1, .int x1), (2, .int x2)] := hl
  refine W.eq (g2 := F0 m 43 ls [.int x2, .int x1, .ref a13]) rfl ?_
  refine a_Si C hS dX2_moveHost_43 hw (fun w14 H locs hw hS => ?_)
  refine lv_iload_n C.x C.b dX2_moveHost_44 rfl (lv_at hl 0 rfl) ?_
  exact g_iret C hS ⟨_, rfl, hw⟩ dX2_moveHost_45
def wJ_X2_moveHost_24 (E : gE) (Q : Int32 → gW → Prop) (X : String → gW → Prop) (x0 : Nat) (x1 : Int32) (x2 : Int32) (w : gW) : Prop :=
  wJ_X2_moveHost_25 E Q X x0 x1 x2 0 w
theorem kJ_X2_moveHost_24 (C : gC p l s m args meth c cX2_moveHost 4 (some .int) RX2 E [] "moveHost") {Q : Int32 → gW → Prop} {X : String → gW → Prop} (x0 : Nat) (x1 : Int32) (x2 : Int32) (w : gW) (H : Heap) (locs : List Loc) (ls : Array Slot) (hS : gS E w0 w H locs) (hl : lv_has ls 4 [(0, .ref x0), (1, .int x1), (2, .int x2)]) (hw : wJ_X2_moveHost_24 E Q X x0 x1 x2 w) : gGo p l e s m args below meth c H locs 9 141 E w0 w (gI Q) (X) (F0 m 24 ls []) := by
  unfold wJ_X2_moveHost_24 at hw
  refine lv_iconst (v := 0) C.x C.b dX2_moveHost_24 (by decide) ?_
  exact kJ_X2_moveHost_25 C _ _ _ _ _ _ _ _ hS (lv_sub hl [0, 1, 2] rfl) hw
def wJ_X2_moveHost (E : gE) (i0 : Nat) (i1 : Int32) (i2 : Int32) (Q : Int32 → gW → Prop) (X : String → gW → Prop) (w : gW) : Prop :=
  wJ_X1_inRange E i1.toInt64 0 7 (fun r2 w1 => (r2 = 0 → (wJ_X2_moveHost_24 E Q X i0 i1 i2 w1)) ∧ (¬ r2 = 0 → (aKind E i0 1 (wJ_X2_isBridge E i0 i2 (fun r5 w4 => (r5 = 0 → (wJ_X2_moveHost_24 E Q X i0 i1 i2 w4)) ∧ (¬ r5 = 0 → (wJ_X2_moveHost_25 E Q X i0 i1 i2 1 w4))) w1) w1))) w
theorem kJ_X2_moveHost_r (C : gC p l s m args meth c cX2_moveHost 4 (some .int) RX2 E [] "moveHost") (i0 : Nat) (i1 : Int32) (i2 : Int32) {Q : Int32 → gW → Prop} {X : String → gW → Prop} (w : gW) (H : Heap) (locs : List Loc) (ls : Array Slot) (hS : gS E w0 w H locs) (hl : lv_has ls 4 [(0, .ref i0), (1, .int i1), (2, .int i2)]) (hw : wJ_X2_moveHost E i0 i1 i2 Q X w) : gGo p l e s m args below meth c H locs 9 141 E w0 w (gI Q) (X) (F0 m 0 ls []) := by
  unfold wJ_X2_moveHost at hw
  refine lv_iload_n C.x C.b dX2_moveHost_0 rfl (lv_at hl 1 rfl) ?_
  refine lv_i2l C.x C.b dX2_moveHost_1 rfl ?_
  refine lv_lconst (v := 0) C.x C.b dX2_moveHost_2 (by decide) ?_
  refine lv_ldc2 C.x C.b C.ow (C.ts _ q1036) dX2_moveHost_3 ?_
  refine g_callSN (rest := []) C hS hl (kJ_X1_inRange C.tr hw) q868 q459 q77 q460 ny_X1_inRange rfl (Nat.le_of_ble_eq_true rfl) (Nat.le_of_ble_eq_true rfl) rfl (Nat.le_of_ble_eq_true rfl) dX2_moveHost_6 (fun X1 w1 H1 l1 q1 ce hx => hx.elim) (fun v w1 H locs hq _ hS => ?_)
  obtain ⟨r2, rfl, hw⟩ := hq
  refine W.eq (g2 := F0 m 9 ls [.int r2]) rfl ?_
  refine lv_if_eq (tgt := 24) C.x C.b dX2_moveHost_9 (by decide) (fun c3 => ?_) (fun c3 => ?_)
  · have hw := hw.1 c3
    exact kJ_X2_moveHost_24 C _ _ _ _ _ _ _ hS (lv_sub hl [0, 1, 2] rfl) hw
  · have hw := hw.2 c3
    refine lv_aload_n C.x C.b dX2_moveHost_12 rfl (lv_at hl 0 rfl) ?_
    refine lv_iload_n C.x C.b dX2_moveHost_13 rfl (lv_at hl 2 rfl) ?_
    obtain ⟨fs, hq, hw⟩ := hw
    refine a_callV (rest := []) C hS hl 1 hq rfl (kJ_X2_isBridge C.tr hw) q864 q865 q866 q78 q867 ny_X2_isBridge rfl (Nat.le_of_ble_eq_true rfl) (Nat.le_of_ble_eq_true rfl) rfl (Nat.le_of_ble_eq_true rfl) dX2_moveHost_14 (fun X1 w1 H1 l1 q1 ce hx => hx.elim) (fun v w4 H locs hq _ hS => ?_)
    obtain ⟨r5, rfl, hw⟩ := hq
    refine W.eq (g2 := F0 m 17 ls [.int r5]) rfl ?_
    refine lv_if_eq (tgt := 24) C.x C.b dX2_moveHost_17 (by decide) (fun c6 => ?_) (fun c6 => ?_)
    · have hw := hw.1 c6
      exact kJ_X2_moveHost_24 C _ _ _ _ _ _ _ hS (lv_sub hl [0, 1, 2] rfl) hw
    · have hw := hw.2 c6
      refine lv_iconst (v := 1) C.x C.b dX2_moveHost_20 (by decide) ?_
      refine lv_goto (tgt := 25) C.x C.b dX2_moveHost_21 (by decide) ?_
      exact kJ_X2_moveHost_25 C _ _ _ _ _ _ _ _ hS (lv_sub hl [0, 1, 2] rfl) hw
theorem ny_X2_moveHost : gNm yX2_moveHost 2 = true := by decide +kernel
theorem kJ_X2_moveHost {l : Launch} (ht : l.stackTraces = false) {w : gW} {i0 : Nat} {i1 : Int32} {i2 : Int32} {Q : Int32 → gW → Prop} {X : String → gW → Prop} (hw : wJ_X2_moveHost E i0 i1 i2 Q X w) : gMet l yX2_moveHost (ws_ yX2_moveHost cX2_moveHost 4 (some .int)) E w [.ref i0, .int i1, .int i2] 9 141 (gI Q) (X) :=
  g_ofW ht (by decide) (Nat.le_of_ble_eq_true rfl) (fun p e s m below meth c ls H C hl hS => kJ_X2_moveHost_r C _ _ _ _ _ _ _ hS hl hw)
def wJ_X2_sell_108 (E : gE) (Q : gW → Prop) (x0 : Nat) (x1 : Nat) (y0 : Int32) (y1 : Nat) (w : gW) : Prop :=
  aP y1 5 6 (.int y0) (fun w21 => aI E x1 5 5 (fun v22 => (v22 = (-1) → (Q w21)) ∧ (¬ v22 = (-1) → (aR E x0 1 3 (fun r24 => aI E x1 5 5 (fun v25 => ∃ a26 : Nat, r24 = some a26 ∧ (aL E 0 a26 v25 (fun v27 => aI E x1 5 6 (fun v28 => aS E 0 a26 v25 (v27 - v28) (fun w29 => aR E x0 1 4 (fun r30 => aI E x1 5 5 (fun v31 => ∃ a32 : Nat, r30 = some a32 ∧ (aL E 0 a32 v31 (fun v33 => aI E x1 5 6 (fun v34 => aS E 0 a32 v31 (v33 + v34) (fun w35 => Q w35) w29) w29) w29)) w29) w29) w21) w21) w21)) w21) w21))) w21) w
theorem kJ_X2_sell_108 (C : gC p l s m args meth c cX2_sell 6 none RX2 E [] "sell") {Q : gW → Prop} (x0 : Nat) (x1 : Nat) (y0 : Int32) (y1 : Nat) (w : gW) (H : Heap) (locs : List Loc) (ls : Array Slot) (hS : gS E w0 w H locs) (hl : lv_has ls 6 [(0, .ref x0), (1, .ref x1)]) (hw : wJ_X2_sell_108 E Q x0 x1 y0 y1 w) : gGo p l e s m args below meth c H locs 1 24 E w0 w (gV Q) (gNoX) (F0 m 108 ls [.int y0, .ref y1]) := by
  unfold wJ_X2_sell_108 at hw
  refine a_PN C hS in_X6 tyX6 tyX6_ok nmX6 rfl (k := 6) (ci := 5) (by decide) q950 (fun _ h9 => h9) rfl rfl rfl dX2_sell_108 hw (fun w21 H locs hw hS => ?_)
  refine lv_aload_n C.x C.b dX2_sell_111 rfl (lv_at hl 1 rfl) ?_
  refine a_IN C hS in_X6 rfl (k := 5) (ci := 5) (by decide) q948 (fun _ h9 => h9) dX2_sell_112 hw (fun v22 hw => ?_)
  refine lv_iconst (v := (-1)) C.x C.b dX2_sell_115 (by decide) ?_
  refine lv_icmp_eq (tgt := 151) C.x C.b dX2_sell_116 (by decide) (fun c23 => ?_) (fun c23 => ?_)
  · have hw := hw.1 c23
    exact g_vret C hS ⟨rfl, hw⟩ dX2_sell_151
  · have hw := hw.2 c23
    refine lv_aload_n C.x C.b dX2_sell_119 rfl (lv_at hl 0 rfl) ?_
    refine a_R C hS in_X2 rfl (k := 3) (ci := 1) (by decide) q158 (fun _ h9 => h9) dX2_sell_120 hw (fun r24 hw => ?_)
    refine lv_aload_n C.x C.b dX2_sell_123 rfl (lv_at hl 1 rfl) ?_
    refine a_IN C hS in_X6 rfl (k := 5) (ci := 5) (by decide) q948 (fun _ h9 => h9) dX2_sell_124 hw (fun v25 hw => ?_)
    refine lv_dup2_11 C.x C.b dX2_sell_127 rfl a_cat ?_
    obtain ⟨a26, e9, hw9⟩ := hw; subst e9; have hw := hw9; clear hw9
    have hl : lv_has ls 6 [(0, .ref x0), (1, .ref x1)] := hl
    refine W.eq (g2 := F0 m 128 ls [.int v25, .ref a26, .int v25, .ref a26]) rfl ?_
    refine a_Li C hS dX2_sell_128 hw (fun v27 hw => ?_)
    refine lv_aload_n C.x C.b dX2_sell_129 rfl (lv_at hl 1 rfl) ?_
    refine a_IN C hS in_X6 rfl (k := 6) (ci := 5) (by decide) q950 (fun _ h9 => h9) dX2_sell_130 hw (fun v28 hw => ?_)
    refine lv_isub C.x C.b dX2_sell_133 ?_
    refine a_Si C hS dX2_sell_134 hw (fun w29 H locs hw hS => ?_)
    refine lv_aload_n C.x C.b dX2_sell_135 rfl (lv_at hl 0 rfl) ?_
    refine a_R C hS in_X2 rfl (k := 4) (ci := 1) (by decide) q160 (fun _ h9 => h9) dX2_sell_136 hw (fun r30 hw => ?_)
    refine lv_aload_n C.x C.b dX2_sell_139 rfl (lv_at hl 1 rfl) ?_
    refine a_IN C hS in_X6 rfl (k := 5) (ci := 5) (by decide) q948 (fun _ h9 => h9) dX2_sell_140 hw (fun v31 hw => ?_)
    refine lv_dup2_11 C.x C.b dX2_sell_143 rfl a_cat ?_
    obtain ⟨a32, e9, hw9⟩ := hw; subst e9; have hw := hw9; clear hw9
    have hl : lv_has ls 6 [(0, .ref x0), (1, .ref x1)] := hl
    refine W.eq (g2 := F0 m 144 ls [.int v31, .ref a32, .int v31, .ref a32]) rfl ?_
    refine a_Li C hS dX2_sell_144 hw (fun v33 hw => ?_)
    refine lv_aload_n C.x C.b dX2_sell_145 rfl (lv_at hl 1 rfl) ?_
    refine a_IN C hS in_X6 rfl (k := 6) (ci := 5) (by decide) q950 (fun _ h9 => h9) dX2_sell_146 hw (fun v34 hw => ?_)
    refine lv_iadd C.x C.b dX2_sell_149 ?_
    refine a_Si C hS dX2_sell_150 hw (fun w35 H locs hw hS => ?_)
    exact g_vret C hS ⟨rfl, hw⟩ dX2_sell_151
def wJ_X2_sell_90 (E : gE) (Q : gW → Prop) (x0 : Nat) (x1 : Nat) (x3 : Int32) (w : gW) : Prop :=
  aI E x1 5 5 (fun v16 => (v16 = (-1) → (wJ_X2_sell_108 E Q x0 x1 0 x1 w)) ∧ (¬ v16 = (-1) → (wJ_X2_sell_108 E Q x0 x1 (if 1 < x3 then x3 else 1) x1 w))) w
theorem kJ_X2_sell_90 (C : gC p l s m args meth c cX2_sell 6 none RX2 E [] "sell") {Q : gW → Prop} (x0 : Nat) (x1 : Nat) (x3 : Int32) (w : gW) (H : Heap) (locs : List Loc) (ls : Array Slot) (hS : gS E w0 w H locs) (hl : lv_has ls 6 [(0, .ref x0), (1, .ref x1), (3, .int x3)]) (hw : wJ_X2_sell_90 E Q x0 x1 x3 w) : gGo p l e s m args below meth c H locs 1 24 E w0 w (gV Q) (gNoX) (F0 m 90 ls []) := by
  unfold wJ_X2_sell_90 at hw
  refine lv_aload_n C.x C.b dX2_sell_90 rfl (lv_at hl 1 rfl) ?_
  refine lv_aload_n C.x C.b dX2_sell_91 rfl (lv_at hl 1 rfl) ?_
  refine a_IN C hS in_X6 rfl (k := 5) (ci := 5) (by decide) q948 (fun _ h9 => h9) dX2_sell_92 hw (fun v16 hw => ?_)
  refine lv_iconst (v := (-1)) C.x C.b dX2_sell_95 (by decide) ?_
  refine lv_icmp_ne (tgt := 103) C.x C.b dX2_sell_96 (by decide) (fun c17 => ?_) (fun c17 => ?_)
  · have hw := hw.2 c17
    refine lv_iconst (v := 1) C.x C.b dX2_sell_103 (by decide) ?_
    refine lv_iload_n C.x C.b dX2_sell_104 rfl (lv_at hl 2 rfl) ?_
    refine a_max C hS hl q1058 q299 q86 q300 (by decide) (Nat.le_of_ble_eq_true rfl) dX2_sell_105 ?_
    exact kJ_X2_sell_108 C _ _ _ _ _ _ _ _ hS (lv_sub hl [0, 1] rfl) hw
  · have hw := hw.1 c17
    refine lv_iconst (v := 0) C.x C.b dX2_sell_99 (by decide) ?_
    refine lv_goto (tgt := 108) C.x C.b dX2_sell_100 (by decide) ?_
    exact kJ_X2_sell_108 C _ _ _ _ _ _ _ _ hS (lv_sub hl [0, 1] rfl) hw
def wJ_X2_sell_84 (E : gE) (K12 : Nat → Nat → Int32 → Int32 → Int32 → gW → Prop) (Q : gW → Prop) (x0 : Nat) (x1 : Nat) (x2 : Int32) (x3 : Int32) (x4 : Int32) (w : gW) : Prop :=
  K12 x0 x1 x2 x3 (x4 + 1) w
theorem kJ_X2_sell_84 (C : gC p l s m args meth c cX2_sell 6 none RX2 E [] "sell") {Q : gW → Prop} {K12 : Nat → Nat → Int32 → Int32 → Int32 → gW → Prop} (hK12 : ∀ (x0 : Nat) (x1 : Nat) (x2 : Int32) (x3 : Int32) (x4 : Int32) (w : gW) (H : Heap) (locs : List Loc) (ls : Array Slot), gS E w0 w H locs → lv_has ls 6 [(0, .ref x0), (1, .ref x1), (2, .int x2), (3, .int x3), (4, .int x4)] → K12 x0 x1 x2 x3 x4 w → gGo p l e s m args below meth c H locs 1 24 E w0 w (gV Q) (gNoX) (F0 m 12 ls [])) (x0 : Nat) (x1 : Nat) (x2 : Int32) (x3 : Int32) (x4 : Int32) (w : gW) (H : Heap) (locs : List Loc) (ls : Array Slot) (hS : gS E w0 w H locs) (hl : lv_has ls 6 [(0, .ref x0), (1, .ref x1), (2, .int x2), (3, .int x3), (4, .int x4)]) (hw : wJ_X2_sell_84 E K12 Q x0 x1 x2 x3 x4 w) : gGo p l e s m args below meth c H locs 1 24 E w0 w (gV Q) (gNoX) (F0 m 84 ls []) := by
  unfold wJ_X2_sell_84 at hw
  refine lv_iinc (v := (x4 + 1)) (lv' := [(4, .int (x4 + 1)), (0, .ref x0), (1, .ref x1), (2, .int x2), (3, .int x3)]) C.x C.b dX2_sell_84 hl (k := 4) rfl rfl (by decide) rfl (fun ls hl => ?_)
  refine lv_goto (tgt := 12) C.x C.b dX2_sell_87 (by decide) ?_
  exact hK12 _ _ _ _ _ _ _ _ _ hS (lv_sub hl [1, 2, 3, 4, 0] rfl) hw
def wJ_X2_sell_53 (E : gE) (K12 : Nat → Nat → Int32 → Int32 → Int32 → gW → Prop) (Q : gW → Prop) (x0 : Nat) (x1 : Nat) (x2 : Int32) (x3 : Int32) (x4 : Int32) (y0 : Int32) (w : gW) : Prop :=
  (y0 ≤ x2 → ((y0 ≤ x3 → (wJ_X2_sell_84 E K12 Q x0 x1 x2 x3 x4 w)) ∧ (¬ y0 ≤ x3 → (wJ_X2_sell_84 E K12 Q x0 x1 x2 y0 x4 w)))) ∧ (¬ y0 ≤ x2 → (aP x1 5 5 (.int x4) (fun w20 => wJ_X2_sell_84 E K12 Q x0 x1 y0 x2 x4 w20) w))
theorem kJ_X2_sell_53 (C : gC p l s m args meth c cX2_sell 6 none RX2 E [] "sell") {Q : gW → Prop} {K12 : Nat → Nat → Int32 → Int32 → Int32 → gW → Prop} (hK12 : ∀ (x0 : Nat) (x1 : Nat) (x2 : Int32) (x3 : Int32) (x4 : Int32) (w : gW) (H : Heap) (locs : List Loc) (ls : Array Slot), gS E w0 w H locs → lv_has ls 6 [(0, .ref x0), (1, .ref x1), (2, .int x2), (3, .int x3), (4, .int x4)] → K12 x0 x1 x2 x3 x4 w → gGo p l e s m args below meth c H locs 1 24 E w0 w (gV Q) (gNoX) (F0 m 12 ls [])) (x0 : Nat) (x1 : Nat) (x2 : Int32) (x3 : Int32) (x4 : Int32) (y0 : Int32) (w : gW) (H : Heap) (locs : List Loc) (ls : Array Slot) (hS : gS E w0 w H locs) (hl : lv_has ls 6 [(0, .ref x0), (1, .ref x1), (2, .int x2), (3, .int x3), (4, .int x4)]) (hw : wJ_X2_sell_53 E K12 Q x0 x1 x2 x3 x4 y0 w) : gGo p l e s m args below meth c H locs 1 24 E w0 w (gV Q) (gNoX) (F0 m 53 ls [.int y0]) := by
  unfold wJ_X2_sell_53 at hw
  refine lv_istore (lv' := [(5, .int y0), (0, .ref x0), (1, .ref x1), (2, .int x2), (3, .int x3), (4, .int x4)]) C.x C.b dX2_sell_53 hl (by decide) rfl (fun ls hl => ?_)
  refine lv_iload C.x C.b dX2_sell_55 (lv_at hl 0 rfl) ?_
  refine lv_iload_n C.x C.b dX2_sell_57 rfl (lv_at hl 3 rfl) ?_
  refine lv_icmp_le (tgt := 75) C.x C.b dX2_sell_58 (by decide) (fun c18 => ?_) (fun c18 => ?_)
  · have hw := hw.1 c18
    refine lv_iload C.x C.b dX2_sell_75 (lv_at hl 0 rfl) ?_
    refine lv_iload_n C.x C.b dX2_sell_77 rfl (lv_at hl 4 rfl) ?_
    refine lv_icmp_le (tgt := 84) C.x C.b dX2_sell_78 (by decide) (fun c19 => ?_) (fun c19 => ?_)
    · have hw := hw.1 c19
      exact kJ_X2_sell_84 C hK12 _ _ _ _ _ _ _ _ _ hS (lv_sub hl [1, 2, 3, 4, 5] rfl) hw
    · have hw := hw.2 c19
      refine lv_iload C.x C.b dX2_sell_81 (lv_at hl 0 rfl) ?_
      refine lv_istore_n (lv' := [(3, .int y0), (5, .int y0), (0, .ref x0), (1, .ref x1), (2, .int x2), (4, .int x4)]) C.x C.b dX2_sell_83 rfl hl (by decide) rfl (fun ls hl => ?_)
      exact kJ_X2_sell_84 C hK12 _ _ _ _ _ _ _ _ _ hS (lv_sub hl [2, 3, 4, 0, 5] rfl) hw
  · have hw := hw.2 c18
    refine lv_iload_n C.x C.b dX2_sell_61 rfl (lv_at hl 3 rfl) ?_
    refine lv_istore_n (lv' := [(3, .int x2), (5, .int y0), (0, .ref x0), (1, .ref x1), (2, .int x2), (4, .int x4)]) C.x C.b dX2_sell_62 rfl hl (by decide) rfl (fun ls hl => ?_)
    refine lv_iload C.x C.b dX2_sell_63 (lv_at hl 1 rfl) ?_
    refine lv_istore_n (lv' := [(2, .int y0), (3, .int x2), (5, .int y0), (0, .ref x0), (1, .ref x1), (4, .int x4)]) C.x C.b dX2_sell_65 rfl hl (by decide) rfl (fun ls hl => ?_)
    refine lv_aload_n C.x C.b dX2_sell_66 rfl (lv_at hl 4 rfl) ?_
    refine lv_iload C.x C.b dX2_sell_67 (lv_at hl 5 rfl) ?_
    refine a_PN C hS in_X6 tyX6 tyX6_ok nmX6 rfl (k := 5) (ci := 5) (by decide) q948 (fun _ h9 => h9) rfl rfl rfl dX2_sell_69 hw (fun w20 H locs hw hS => ?_)
    refine lv_goto (tgt := 84) C.x C.b dX2_sell_72 (by decide) ?_
    exact kJ_X2_sell_84 C hK12 _ _ _ _ _ _ _ _ _ hS (lv_sub hl [3, 4, 0, 1, 5] rfl) hw
def wJ_X2_sell_12 (E : gE) (Q : gW → Prop) : Nat → Nat → Nat → Int32 → Int32 → Int32 → gW → Prop
  | 0, _, _, _, _, _, _ => False
  | n + 1, x0, x1, x2, x3, x4, w => (4 ≤ x4 → (wJ_X2_sell_90 E Q x0 x1 x3 w)) ∧ (¬ 4 ≤ x4 → (aI E x1 5 4 (fun v4 => (v4 = 0 → (wJ_X2_sell_90 E Q x0 x1 x3 w)) ∧ (¬ v4 = 0 → (aR E x1 5 8 (fun r6 => ∃ a7 : Nat, r6 = some a7 ∧ (aL E 0 a7 x4 (fun v8 => aR E x0 1 3 (fun r9 => ∃ a10 : Nat, r9 = some a10 ∧ (aL E 0 a10 x4 (fun v11 => (v11 < v8 → (wJ_X2_sell_53 E (fun x0 x1 x2 x3 x4 w => wJ_X2_sell_12 E Q n x0 x1 x2 x3 x4 w) Q x0 x1 x2 x3 x4 0 w)) ∧ (¬ v11 < v8 → (aR E x1 5 8 (fun r13 => ∃ a14 : Nat, r13 = some a14 ∧ (aL E 0 a14 x4 (fun v15 => wJ_X2_sell_53 E (fun x0 x1 x2 x3 x4 w => wJ_X2_sell_12 E Q n x0 x1 x2 x3 x4 w) Q x0 x1 x2 x3 x4 v15 w) w)) w))) w)) w) w)) w))) w))
theorem kJ_X2_sell_12 (C : gC p l s m args meth c cX2_sell 6 none RX2 E [] "sell") {Q : gW → Prop} : ∀ (n : Nat) (x0 : Nat) (x1 : Nat) (x2 : Int32) (x3 : Int32) (x4 : Int32) (w : gW) (H : Heap) (locs : List Loc) (ls : Array Slot), gS E w0 w H locs → lv_has ls 6 [(0, .ref x0), (1, .ref x1), (2, .int x2), (3, .int x3), (4, .int x4)] → wJ_X2_sell_12 E Q n x0 x1 x2 x3 x4 w → gGo p l e s m args below meth c H locs 1 24 E w0 w (gV Q) (gNoX) (F0 m 12 ls []) := by
  intro n
  induction n with
  | zero =>
    intro x0 x1 x2 x3 x4 w H locs ls hS hl hw
    exact hw.elim
  | succ n ih =>
    intro x0 x1 x2 x3 x4 w H locs ls hS hl hw
    unfold wJ_X2_sell_12 at hw
    refine lv_iload C.x C.b dX2_sell_12 (lv_at hl 4 rfl) ?_
    refine lv_iconst (v := 4) C.x C.b dX2_sell_14 (by decide) ?_
    refine lv_icmp_ge (tgt := 90) C.x C.b dX2_sell_15 (by decide) (fun c3 => ?_) (fun c3 => ?_)
    · have hw := hw.1 c3
      exact kJ_X2_sell_90 C _ _ _ _ _ _ _ hS (lv_sub hl [0, 1, 3] rfl) hw
    · have hw := hw.2 c3
      refine lv_aload_n C.x C.b dX2_sell_18 rfl (lv_at hl 1 rfl) ?_
      refine a_IN C hS in_X6 rfl (k := 4) (ci := 5) (by decide) q946 (fun _ h9 => h9) dX2_sell_19 hw (fun v4 hw => ?_)
      refine lv_if_eq (tgt := 90) C.x C.b dX2_sell_22 (by decide) (fun c5 => ?_) (fun c5 => ?_)
      · have hw := hw.1 c5
        exact kJ_X2_sell_90 C _ _ _ _ _ _ _ hS (lv_sub hl [0, 1, 3] rfl) hw
      · have hw := hw.2 c5
        refine lv_aload_n C.x C.b dX2_sell_25 rfl (lv_at hl 1 rfl) ?_
        refine a_RN C hS in_X6 rfl (k := 8) (ci := 5) (by decide) q953 (fun _ h9 => h9) dX2_sell_26 hw (fun r6 hw => ?_)
        refine lv_iload C.x C.b dX2_sell_29 (lv_at hl 4 rfl) ?_
        obtain ⟨a7, e9, hw9⟩ := hw; subst e9; have hw := hw9; clear hw9
        have hl : lv_has ls 6 [(0, .ref x0), (1, .ref x1), (2, .int x2), (3, .int x3), (4, .int x4)] := hl
        refine W.eq (g2 := F0 m 31 ls [.int x4, .ref a7]) rfl ?_
        refine a_Li C hS dX2_sell_31 hw (fun v8 hw => ?_)
        refine lv_aload_n C.x C.b dX2_sell_32 rfl (lv_at hl 0 rfl) ?_
        refine a_R C hS in_X2 rfl (k := 3) (ci := 1) (by decide) q158 (fun _ h9 => h9) dX2_sell_33 hw (fun r9 hw => ?_)
        refine lv_iload C.x C.b dX2_sell_36 (lv_at hl 4 rfl) ?_
        obtain ⟨a10, e9, hw9⟩ := hw; subst e9; have hw := hw9; clear hw9
        have hl : lv_has ls 6 [(0, .ref x0), (1, .ref x1), (2, .int x2), (3, .int x3), (4, .int x4)] := hl
        refine W.eq (g2 := F0 m 38 ls [.int x4, .ref a10, .int v8]) rfl ?_
        refine a_Li C hS dX2_sell_38 hw (fun v11 hw => ?_)
        refine lv_icmp_gt (tgt := 52) C.x C.b dX2_sell_39 (by decide) (fun c12 => ?_) (fun c12 => ?_)
        · have hw := hw.1 c12
          refine lv_iconst (v := 0) C.x C.b dX2_sell_52 (by decide) ?_
          exact kJ_X2_sell_53 C ih _ _ _ _ _ _ _ _ _ _ hS (lv_sub hl [0, 1, 2, 3, 4] rfl) hw
        · have hw := hw.2 c12
          refine lv_aload_n C.x C.b dX2_sell_42 rfl (lv_at hl 1 rfl) ?_
          refine a_RN C hS in_X6 rfl (k := 8) (ci := 5) (by decide) q953 (fun _ h9 => h9) dX2_sell_43 hw (fun r13 hw => ?_)
          refine lv_iload C.x C.b dX2_sell_46 (lv_at hl 4 rfl) ?_
          obtain ⟨a14, e9, hw9⟩ := hw; subst e9; have hw := hw9; clear hw9
          have hl : lv_has ls 6 [(0, .ref x0), (1, .ref x1), (2, .int x2), (3, .int x3), (4, .int x4)] := hl
          refine W.eq (g2 := F0 m 48 ls [.int x4, .ref a14]) rfl ?_
          refine a_Li C hS dX2_sell_48 hw (fun v15 hw => ?_)
          refine lv_goto (tgt := 53) C.x C.b dX2_sell_49 (by decide) ?_
          exact kJ_X2_sell_53 C ih _ _ _ _ _ _ _ _ _ _ hS (lv_sub hl [0, 1, 2, 3, 4] rfl) hw
def wJ_X2_sell (E : gE) (i0 : Nat) (i1 : Nat) (Q : gW → Prop) (w : gW) : Prop :=
  aP i1 5 5 (.int (-1)) (fun w1 => ∃ k2 : Nat, wJ_X2_sell_12 E Q k2 i0 i1 0 0 0 w1) w
theorem kJ_X2_sell_r (C : gC p l s m args meth c cX2_sell 6 none RX2 E [] "sell") (i0 : Nat) (i1 : Nat) {Q : gW → Prop} (w : gW) (H : Heap) (locs : List Loc) (ls : Array Slot) (hS : gS E w0 w H locs) (hl : lv_has ls 6 [(0, .ref i0), (1, .ref i1)]) (hw : wJ_X2_sell E i0 i1 Q w) : gGo p l e s m args below meth c H locs 1 24 E w0 w (gV Q) (gNoX) (F0 m 0 ls []) := by
  unfold wJ_X2_sell at hw
  refine lv_aload_n C.x C.b dX2_sell_0 rfl (lv_at hl 1 rfl) ?_
  refine lv_iconst (v := (-1)) C.x C.b dX2_sell_1 (by decide) ?_
  refine a_PN C hS in_X6 tyX6 tyX6_ok nmX6 rfl (k := 5) (ci := 5) (by decide) q948 (fun _ h9 => h9) rfl rfl rfl dX2_sell_2 hw (fun w1 H locs hw hS => ?_)
  refine lv_iconst (v := 0) C.x C.b dX2_sell_5 (by decide) ?_
  refine lv_istore_n (lv' := [(2, .int 0), (0, .ref i0), (1, .ref i1)]) C.x C.b dX2_sell_6 rfl hl (by decide) rfl (fun ls hl => ?_)
  refine lv_iconst (v := 0) C.x C.b dX2_sell_7 (by decide) ?_
  refine lv_istore_n (lv' := [(3, .int 0), (2, .int 0), (0, .ref i0), (1, .ref i1)]) C.x C.b dX2_sell_8 rfl hl (by decide) rfl (fun ls hl => ?_)
  refine lv_iconst (v := 0) C.x C.b dX2_sell_9 (by decide) ?_
  refine lv_istore (lv' := [(4, .int 0), (3, .int 0), (2, .int 0), (0, .ref i0), (1, .ref i1)]) C.x C.b dX2_sell_10 hl (by decide) rfl (fun ls hl => ?_)
  obtain ⟨k2, hw⟩ := hw
  exact kJ_X2_sell_12 C k2 _ _ _ _ _ _ _ _ _ hS (lv_sub hl [3, 4, 2, 1, 0] rfl) hw
theorem ny_X2_sell : gNm yX2_sell 1 = true := by decide +kernel
theorem kJ_X2_sell {l : Launch} (ht : l.stackTraces = false) {w : gW} {i0 : Nat} {i1 : Nat} {Q : gW → Prop} (hw : wJ_X2_sell E i0 i1 Q w) : gMet l yX2_sell (ws_ yX2_sell cX2_sell 6 none) E w [.ref i0, .ref i1] 1 24 (gV Q) (gNoX) :=
  g_ofW ht (by decide) (Nat.le_of_ble_eq_true rfl) (fun p e s m below meth c ls H C hl hS => kJ_X2_sell_r C _ _ _ _ _ _ hS hl hw)
def wJ_X2_hold_80 (E : gE) (Q : gW → Prop) : Nat → Nat → Int32 → gW → Prop
  | 0, _, _, _ => False
  | n + 1, x0, x1, w => aR E x0 1 1 (fun r24 => ∃ a25 : Nat, r24 = some a25 ∧ (aKind E a25 8 (wJ_J2_size E a25 (fun r27 w26 => (r27 ≤ x1 → (Q w26)) ∧ (¬ r27 ≤ x1 → (aR E x0 1 1 (fun r29 => ∃ a30 : Nat, r29 = some a30 ∧ (aKind E a30 8 (wJ_J2_get E a30 x1 (fun r32 w31 => ∃ a33 : Nat, r32 = some a33 ∧ (aKind E a33 5 (aI E x0 1 9 (fun v34 => aKind E a33 5 (wJ_X6_follow E a33 v34 (fun w35 => wJ_X2_hold_80 E Q n x0 (x1 + 1) w35) w31) w31) w31) w31)) w26) w26)) w26))) w) w)) w
theorem kJ_X2_hold_80 (C : gC p l s m args meth c cX2_hold 2 none RX2 E [] "hold") {Q : gW → Prop} : ∀ (n : Nat) (x0 : Nat) (x1 : Int32) (w : gW) (H : Heap) (locs : List Loc) (ls : Array Slot), gS E w0 w H locs → lv_has ls 2 [(0, .ref x0), (1, .int x1)] → wJ_X2_hold_80 E Q n x0 x1 w → gGo p l e s m args below meth c H locs 3 64 E w0 w (gV Q) (gNoX) (F0 m 80 ls []) := by
  intro n
  induction n with
  | zero =>
    intro x0 x1 w H locs ls hS hl hw
    exact hw.elim
  | succ n ih =>
    intro x0 x1 w H locs ls hS hl hw
    unfold wJ_X2_hold_80 at hw
    refine lv_iload_n C.x C.b dX2_hold_80 rfl (lv_at hl 1 rfl) ?_
    refine lv_aload_n C.x C.b dX2_hold_81 rfl (lv_at hl 0 rfl) ?_
    refine a_R C hS in_X2 rfl (k := 1) (ci := 1) (by decide) q154 (fun _ h9 => h9) dX2_hold_82 hw (fun r24 hw => ?_)
    obtain ⟨a25, e9, hw9⟩ := hw; subst e9; have hw := hw9; clear hw9
    have hl : lv_has ls 2 [(0, .ref x0), (1, .int x1)] := hl
    refine W.eq (g2 := F0 m 85 ls [.ref a25, .int x1]) rfl ?_
    obtain ⟨fs, hq, hw⟩ := hw
    refine a_callV (rest := [.int x1]) C hS hl 8 hq rfl (kJ_J2_size C.tr hw) q384 q373 q374 q81 q375 ny_J2_size rfl (Nat.le_of_ble_eq_true rfl) (Nat.le_of_ble_eq_true rfl) rfl (Nat.le_of_ble_eq_true rfl) dX2_hold_85 (fun X1 w1 H1 l1 q1 ce hx => hx.elim) (fun v w26 H locs hq _ hS => ?_)
    obtain ⟨r27, rfl, hw⟩ := hq
    refine W.eq (g2 := F0 m 88 ls [.int r27, .int x1]) rfl ?_
    refine lv_icmp_ge (tgt := 115) C.x C.b dX2_hold_88 (by decide) (fun c28 => ?_) (fun c28 => ?_)
    · have hw := hw.1 c28
      exact g_vret C hS ⟨rfl, hw⟩ dX2_hold_115
    · have hw := hw.2 c28
      refine lv_aload_n C.x C.b dX2_hold_91 rfl (lv_at hl 0 rfl) ?_
      refine a_R C hS in_X2 rfl (k := 1) (ci := 1) (by decide) q154 (fun _ h9 => h9) dX2_hold_92 hw (fun r29 hw => ?_)
      refine lv_iload_n C.x C.b dX2_hold_95 rfl (lv_at hl 1 rfl) ?_
      obtain ⟨a30, e9, hw9⟩ := hw; subst e9; have hw := hw9; clear hw9
      have hl : lv_has ls 2 [(0, .ref x0), (1, .int x1)] := hl
      refine W.eq (g2 := F0 m 96 ls [.int x1, .ref a30]) rfl ?_
      obtain ⟨fs, hq, hw⟩ := hw
      refine a_callV (rest := []) C hS hl 8 hq rfl (kJ_J2_get C.tr hw) q389 q390 q391 q81 q392 ny_J2_get rfl (Nat.le_of_ble_eq_true rfl) (Nat.le_of_ble_eq_true rfl) rfl (Nat.le_of_ble_eq_true rfl) dX2_hold_96 (fun X1 w1 H1 l1 q1 ce hx => hx.elim) (fun v w31 H locs hq _ hS => ?_)
      obtain ⟨r32, rfl, hw⟩ := hq
      refine W.eq (g2 := F0 m 99 ls [va_rf r32]) rfl ?_
      obtain ⟨a33, e9, hw9⟩ := hw; subst e9; have hw := hw9; clear hw9
      have hl : lv_has ls 2 [(0, .ref x0), (1, .int x1)] := hl
      refine W.eq (g2 := F0 m 99 ls [.ref a33]) rfl ?_
      refine a_cast (ci := 5) C hS rfl q403 dX2_hold_99 hw (fun hw => ?_)
      refine lv_aload_n C.x C.b dX2_hold_102 rfl (lv_at hl 0 rfl) ?_
      refine a_I C hS in_X2 rfl (k := 9) (ci := 1) (by decide) q168 (fun _ h9 => h9) dX2_hold_103 hw (fun v34 hw => ?_)
      obtain ⟨fs, hq, hw⟩ := hw
      refine a_callV (rest := []) C hS hl 5 hq rfl (kJ_X6_follow C.tr hw) q1059 q1060 q1061 q95 q1062 ny_X6_follow rfl (Nat.le_of_ble_eq_true rfl) (Nat.le_of_ble_eq_true rfl) rfl (Nat.le_of_ble_eq_true rfl) dX2_hold_106 (fun X1 w1 H1 l1 q1 ce hx => hx.elim) (fun v w35 H locs hq _ hS => ?_)
      obtain ⟨rfl, hw⟩ := hq
      refine W.eq (g2 := F0 m 109 ls []) rfl ?_
      refine lv_iinc (v := (x1 + 1)) (lv' := [(1, .int (x1 + 1)), (0, .ref x0)]) C.x C.b dX2_hold_109 hl (k := 1) rfl rfl (by decide) rfl (fun ls hl => ?_)
      refine lv_goto (tgt := 80) C.x C.b dX2_hold_112 (by decide) ?_
      exact ih _ _ _ _ _ _ hS (lv_sub hl [1, 0] rfl) hw
def wJ_X2_hold_46 (E : gE) (Q : gW → Prop) : Nat → Nat → Int32 → gW → Prop
  | 0, _, _, _ => False
  | n + 1, x0, x1, w => aR E x0 1 1 (fun r12 => ∃ a13 : Nat, r12 = some a13 ∧ (aKind E a13 8 (wJ_J2_size E a13 (fun r15 w14 => (r15 ≤ x1 → (∃ k17 : Nat, wJ_X2_hold_80 E Q k17 x0 0 w14)) ∧ (¬ r15 ≤ x1 → (aR E x0 1 1 (fun r18 => ∃ a19 : Nat, r18 = some a19 ∧ (aKind E a19 8 (wJ_J2_get E a19 x1 (fun r21 w20 => ∃ a22 : Nat, r21 = some a22 ∧ (aKind E a22 5 (aKind E x0 1 (wJ_X2_sell E x0 a22 (fun w23 => wJ_X2_hold_46 E Q n x0 (x1 + 1) w23) w20) w20) w20)) w14) w14)) w14))) w) w)) w
theorem kJ_X2_hold_46 (C : gC p l s m args meth c cX2_hold 2 none RX2 E [] "hold") {Q : gW → Prop} : ∀ (n : Nat) (x0 : Nat) (x1 : Int32) (w : gW) (H : Heap) (locs : List Loc) (ls : Array Slot), gS E w0 w H locs → lv_has ls 2 [(0, .ref x0), (1, .int x1)] → wJ_X2_hold_46 E Q n x0 x1 w → gGo p l e s m args below meth c H locs 3 64 E w0 w (gV Q) (gNoX) (F0 m 46 ls []) := by
  intro n
  induction n with
  | zero =>
    intro x0 x1 w H locs ls hS hl hw
    exact hw.elim
  | succ n ih =>
    intro x0 x1 w H locs ls hS hl hw
    unfold wJ_X2_hold_46 at hw
    refine lv_iload_n C.x C.b dX2_hold_46 rfl (lv_at hl 1 rfl) ?_
    refine lv_aload_n C.x C.b dX2_hold_47 rfl (lv_at hl 0 rfl) ?_
    refine a_R C hS in_X2 rfl (k := 1) (ci := 1) (by decide) q154 (fun _ h9 => h9) dX2_hold_48 hw (fun r12 hw => ?_)
    obtain ⟨a13, e9, hw9⟩ := hw; subst e9; have hw := hw9; clear hw9
    have hl : lv_has ls 2 [(0, .ref x0), (1, .int x1)] := hl
    refine W.eq (g2 := F0 m 51 ls [.ref a13, .int x1]) rfl ?_
    obtain ⟨fs, hq, hw⟩ := hw
    refine a_callV (rest := [.int x1]) C hS hl 8 hq rfl (kJ_J2_size C.tr hw) q384 q373 q374 q81 q375 ny_J2_size rfl (Nat.le_of_ble_eq_true rfl) (Nat.le_of_ble_eq_true rfl) rfl (Nat.le_of_ble_eq_true rfl) dX2_hold_51 (fun X1 w1 H1 l1 q1 ce hx => hx.elim) (fun v w14 H locs hq _ hS => ?_)
    obtain ⟨r15, rfl, hw⟩ := hq
    refine W.eq (g2 := F0 m 54 ls [.int r15, .int x1]) rfl ?_
    refine lv_icmp_ge (tgt := 78) C.x C.b dX2_hold_54 (by decide) (fun c16 => ?_) (fun c16 => ?_)
    · have hw := hw.1 c16
      refine lv_iconst (v := 0) C.x C.b dX2_hold_78 (by decide) ?_
      refine lv_istore_n (lv' := [(1, .int 0), (0, .ref x0)]) C.x C.b dX2_hold_79 rfl hl (by decide) rfl (fun ls hl => ?_)
      obtain ⟨k17, hw⟩ := hw
      exact kJ_X2_hold_80 C k17 _ _ _ _ _ _ hS (lv_sub hl [1, 0] rfl) hw
    · have hw := hw.2 c16
      refine lv_aload_n C.x C.b dX2_hold_57 rfl (lv_at hl 0 rfl) ?_
      refine lv_aload_n C.x C.b dX2_hold_58 rfl (lv_at hl 0 rfl) ?_
      refine a_R C hS in_X2 rfl (k := 1) (ci := 1) (by decide) q154 (fun _ h9 => h9) dX2_hold_59 hw (fun r18 hw => ?_)
      refine lv_iload_n C.x C.b dX2_hold_62 rfl (lv_at hl 1 rfl) ?_
      obtain ⟨a19, e9, hw9⟩ := hw; subst e9; have hw := hw9; clear hw9
      have hl : lv_has ls 2 [(0, .ref x0), (1, .int x1)] := hl
      refine W.eq (g2 := F0 m 63 ls [.int x1, .ref a19, .ref x0]) rfl ?_
      obtain ⟨fs, hq, hw⟩ := hw
      refine a_callV (rest := [.ref x0]) C hS hl 8 hq rfl (kJ_J2_get C.tr hw) q389 q390 q391 q81 q392 ny_J2_get rfl (Nat.le_of_ble_eq_true rfl) (Nat.le_of_ble_eq_true rfl) rfl (Nat.le_of_ble_eq_true rfl) dX2_hold_63 (fun X1 w1 H1 l1 q1 ce hx => hx.elim) (fun v w20 H locs hq _ hS => ?_)
      obtain ⟨r21, rfl, hw⟩ := hq
      refine W.eq (g2 := F0 m 66 ls [va_rf r21, .ref x0]) rfl ?_
      obtain ⟨a22, e9, hw9⟩ := hw; subst e9; have hw := hw9; clear hw9
      have hl : lv_has ls 2 [(0, .ref x0), (1, .int x1)] := hl
      refine W.eq (g2 := F0 m 66 ls [.ref a22, .ref x0]) rfl ?_
      refine a_cast (ci := 5) C hS rfl q403 dX2_hold_66 hw (fun hw => ?_)
      obtain ⟨fs, hq, hw⟩ := hw
      refine a_callV (rest := []) C hS hl 1 hq rfl (kJ_X2_sell C.tr hw) q1054 q1056 qs11 q78 q1057 ny_X2_sell rfl (Nat.le_of_ble_eq_true rfl) (Nat.le_of_ble_eq_true rfl) rfl (Nat.le_of_ble_eq_true rfl) dX2_hold_69 (fun X1 w1 H1 l1 q1 ce hx => hx.elim) (fun v w23 H locs hq _ hS => ?_)
      obtain ⟨rfl, hw⟩ := hq
      refine W.eq (g2 := F0 m 72 ls []) rfl ?_
      refine lv_iinc (v := (x1 + 1)) (lv' := [(1, .int (x1 + 1)), (0, .ref x0)]) C.x C.b dX2_hold_72 hl (k := 1) rfl rfl (by decide) rfl (fun ls hl => ?_)
      refine lv_goto (tgt := 46) C.x C.b dX2_hold_75 (by decide) ?_
      exact ih _ _ _ _ _ _ hS (lv_sub hl [1, 0] rfl) hw
def wJ_X2_hold_12 (E : gE) (Q : gW → Prop) : Nat → Nat → Int32 → gW → Prop
  | 0, _, _, _ => False
  | n + 1, x0, x1, w => (4 ≤ x1 → (∃ k5 : Nat, wJ_X2_hold_46 E Q k5 x0 0 w)) ∧ (¬ 4 ≤ x1 → (aR E x0 1 3 (fun r6 => aR E x0 1 3 (fun r7 => ∃ a8 : Nat, r7 = some a8 ∧ (aL E 0 a8 x1 (fun v9 => ∃ a10 : Nat, r6 = some a10 ∧ (aS E 0 a10 x1 (((9 * v9) / 10) + 20) (fun w11 => wJ_X2_hold_12 E Q n x0 (x1 + 1) w11) w)) w)) w) w))
theorem kJ_X2_hold_12 (C : gC p l s m args meth c cX2_hold 2 none RX2 E [] "hold") {Q : gW → Prop} : ∀ (n : Nat) (x0 : Nat) (x1 : Int32) (w : gW) (H : Heap) (locs : List Loc) (ls : Array Slot), gS E w0 w H locs → lv_has ls 2 [(0, .ref x0), (1, .int x1)] → wJ_X2_hold_12 E Q n x0 x1 w → gGo p l e s m args below meth c H locs 3 64 E w0 w (gV Q) (gNoX) (F0 m 12 ls []) := by
  intro n
  induction n with
  | zero =>
    intro x0 x1 w H locs ls hS hl hw
    exact hw.elim
  | succ n ih =>
    intro x0 x1 w H locs ls hS hl hw
    unfold wJ_X2_hold_12 at hw
    refine lv_iload_n C.x C.b dX2_hold_12 rfl (lv_at hl 1 rfl) ?_
    refine lv_iconst (v := 4) C.x C.b dX2_hold_13 (by decide) ?_
    refine lv_icmp_ge (tgt := 44) C.x C.b dX2_hold_14 (by decide) (fun c4 => ?_) (fun c4 => ?_)
    · have hw := hw.1 c4
      refine lv_iconst (v := 0) C.x C.b dX2_hold_44 (by decide) ?_
      refine lv_istore_n (lv' := [(1, .int 0), (0, .ref x0)]) C.x C.b dX2_hold_45 rfl hl (by decide) rfl (fun ls hl => ?_)
      obtain ⟨k5, hw⟩ := hw
      exact kJ_X2_hold_46 C k5 _ _ _ _ _ _ hS (lv_sub hl [1, 0] rfl) hw
    · have hw := hw.2 c4
      refine lv_aload_n C.x C.b dX2_hold_17 rfl (lv_at hl 0 rfl) ?_
      refine a_R C hS in_X2 rfl (k := 3) (ci := 1) (by decide) q158 (fun _ h9 => h9) dX2_hold_18 hw (fun r6 hw => ?_)
      refine lv_iload_n C.x C.b dX2_hold_21 rfl (lv_at hl 1 rfl) ?_
      refine lv_bipush (v := 9) C.x C.b dX2_hold_22 (by decide) ?_
      refine lv_aload_n C.x C.b dX2_hold_24 rfl (lv_at hl 0 rfl) ?_
      refine a_R C hS in_X2 rfl (k := 3) (ci := 1) (by decide) q158 (fun _ h9 => h9) dX2_hold_25 hw (fun r7 hw => ?_)
      refine lv_iload_n C.x C.b dX2_hold_28 rfl (lv_at hl 1 rfl) ?_
      obtain ⟨a8, e9, hw9⟩ := hw; subst e9; have hw := hw9; clear hw9
      have hl : lv_has ls 2 [(0, .ref x0), (1, .int x1)] := hl
      refine W.eq (g2 := F0 m 29 ls [.int x1, .ref a8, .int 9, .int x1, va_rf r6]) rfl ?_
      refine a_Li C hS dX2_hold_29 hw (fun v9 hw => ?_)
      refine lv_imul C.x C.b dX2_hold_30 ?_
      refine lv_bipush (v := 10) C.x C.b dX2_hold_31 (by decide) ?_
      refine lv_idiv C.x C.b dX2_hold_33 (by decide) ?_
      refine lv_bipush (v := 20) C.x C.b dX2_hold_34 (by decide) ?_
      refine lv_iadd C.x C.b dX2_hold_36 ?_
      obtain ⟨a10, e9, hw9⟩ := hw; subst e9; have hw := hw9; clear hw9
      have hl : lv_has ls 2 [(0, .ref x0), (1, .int x1)] := hl
      refine W.eq (g2 := F0 m 37 ls [.int (((9 * v9) / 10) + 20), .int x1, .ref a10]) rfl ?_
      refine a_Si C hS dX2_hold_37 hw (fun w11 H locs hw hS => ?_)
      refine lv_iinc (v := (x1 + 1)) (lv' := [(1, .int (x1 + 1)), (0, .ref x0)]) C.x C.b dX2_hold_38 hl (k := 1) rfl rfl (by decide) rfl (fun ls hl => ?_)
      refine lv_goto (tgt := 12) C.x C.b dX2_hold_41 (by decide) ?_
      exact ih _ _ _ _ _ _ hS (lv_sub hl [1, 0] rfl) hw
def wJ_X2_hold (E : gE) (i0 : Nat) (Q : gW → Prop) (w : gW) : Prop :=
  aI E i0 1 10 (fun v1 => aP i0 1 10 (.int (v1 + 1)) (fun w2 => ∃ k3 : Nat, wJ_X2_hold_12 E Q k3 i0 0 w2) w) w
theorem kJ_X2_hold_r (C : gC p l s m args meth c cX2_hold 2 none RX2 E [] "hold") (i0 : Nat) {Q : gW → Prop} (w : gW) (H : Heap) (locs : List Loc) (ls : Array Slot) (hS : gS E w0 w H locs) (hl : lv_has ls 2 [(0, .ref i0)]) (hw : wJ_X2_hold E i0 Q w) : gGo p l e s m args below meth c H locs 3 64 E w0 w (gV Q) (gNoX) (F0 m 0 ls []) := by
  unfold wJ_X2_hold at hw
  refine lv_aload_n C.x C.b dX2_hold_0 rfl (lv_at hl 0 rfl) ?_
  refine lv_dup C.x C.b dX2_hold_1 rfl ?_
  refine a_I C hS in_X2 rfl (k := 10) (ci := 1) (by decide) q170 (fun _ h9 => h9) dX2_hold_2 hw (fun v1 hw => ?_)
  refine lv_iconst (v := 1) C.x C.b dX2_hold_5 (by decide) ?_
  refine lv_iadd C.x C.b dX2_hold_6 ?_
  refine a_P C hS in_X2 tyX2 tyX2_ok nmX2 rfl (k := 10) (ci := 1) (by decide) q170 (fun _ h9 => h9) rfl rfl rfl dX2_hold_7 hw (fun w2 H locs hw hS => ?_)
  refine lv_iconst (v := 0) C.x C.b dX2_hold_10 (by decide) ?_
  refine lv_istore_n (lv' := [(1, .int 0), (0, .ref i0)]) C.x C.b dX2_hold_11 rfl hl (by decide) rfl (fun ls hl => ?_)
  obtain ⟨k3, hw⟩ := hw
  exact kJ_X2_hold_12 C k3 _ _ _ _ _ _ hS (lv_sub hl [1, 0] rfl) hw
theorem ny_X2_hold : gNm yX2_hold 0 = true := by decide +kernel
theorem kJ_X2_hold {l : Launch} (ht : l.stackTraces = false) {w : gW} {i0 : Nat} {Q : gW → Prop} (hw : wJ_X2_hold E i0 Q w) : gMet l yX2_hold (ws_ yX2_hold cX2_hold 2 none) E w [.ref i0] 3 64 (gV Q) (gNoX) :=
  g_ofW ht (by decide) (Nat.le_of_ble_eq_true rfl) (fun p e s m below meth c ls H C hl hS => kJ_X2_hold_r C _ _ _ _ _ hS hl hw)
def wJ_X2_findVector_236 (E : gE) (K22 : Nat → Nat → Int32 → Int32 → Int32 → Int32 → Int32 → Int32 → gW → Prop) (Q : Option Nat → gW → Prop) (x0 : Nat) (x1 : Nat) (x2 : Int32) (x3 : Int32) (x4 : Int32) (x5 : Int32) (x6 : Int32) (x7 : Int32) (w : gW) : Prop :=
  K22 x0 x1 x2 x3 x4 x5 x6 (x7 + 1) w
theorem kJ_X2_findVector_236 (C : gC p l s m args meth c cX2_findVector 12 (some (.object "BridgeAuction$Vector")) RX2 E [] "findVector") {Q : Option Nat → gW → Prop} {K22 : Nat → Nat → Int32 → Int32 → Int32 → Int32 → Int32 → Int32 → gW → Prop} (hK22 : ∀ (x0 : Nat) (x1 : Nat) (x2 : Int32) (x3 : Int32) (x4 : Int32) (x5 : Int32) (x6 : Int32) (x7 : Int32) (w : gW) (H : Heap) (locs : List Loc) (ls : Array Slot), gS E w0 w H locs → lv_has ls 12 [(0, .ref x0), (1, .ref x1), (2, .int x2), (3, .int x3), (4, .int x4), (5, .int x5), (6, .int x6), (7, .int x7)] → K22 x0 x1 x2 x3 x4 x5 x6 x7 w → gGo p l e s m args below meth c H locs 3 75 E w0 w (gR Q) (gNoX) (F0 m 22 ls [])) (x0 : Nat) (x1 : Nat) (x2 : Int32) (x3 : Int32) (x4 : Int32) (x5 : Int32) (x6 : Int32) (x7 : Int32) (w : gW) (H : Heap) (locs : List Loc) (ls : Array Slot) (hS : gS E w0 w H locs) (hl : lv_has ls 12 [(0, .ref x0), (1, .ref x1), (2, .int x2), (3, .int x3), (4, .int x4), (5, .int x5), (6, .int x6), (7, .int x7)]) (hw : wJ_X2_findVector_236 E K22 Q x0 x1 x2 x3 x4 x5 x6 x7 w) : gGo p l e s m args below meth c H locs 3 75 E w0 w (gR Q) (gNoX) (F0 m 236 ls []) := by
  unfold wJ_X2_findVector_236 at hw
  refine lv_iinc (v := (x7 + 1)) (lv' := [(7, .int (x7 + 1)), (0, .ref x0), (1, .ref x1), (2, .int x2), (3, .int x3), (4, .int x4), (5, .int x5), (6, .int x6)]) C.x C.b dX2_findVector_236 hl (k := 7) rfl rfl (by decide) rfl (fun ls hl => ?_)
  refine lv_goto (tgt := 22) C.x C.b dX2_findVector_239 (by decide) ?_
  exact hK22 _ _ _ _ _ _ _ _ _ _ _ _ hS (lv_sub hl [1, 2, 3, 4, 5, 6, 7, 0] rfl) hw
def wJ_X2_findVector_194 (E : gE) (K22 : Nat → Nat → Int32 → Int32 → Int32 → Int32 → Int32 → Int32 → gW → Prop) (Q : Option Nat → gW → Prop) (x0 : Nat) (x1 : Nat) (x2 : Int32) (x3 : Int32) (x4 : Int32) (x5 : Int32) (x6 : Int32) (x7 : Int32) (x9 : Nat) (x10 : Int32) (y0 : Int32) (w : gW) : Prop :=
  (y0 = 0 → (wJ_X2_findVector_236 E K22 Q x0 x1 x2 x3 x4 x5 x6 x7 w)) ∧ (¬ y0 = 0 → (aR E x9 2 2 (fun r58 => ∃ a59 : Nat, r58 = some a59 ∧ (aI E a59 3 0 (fun v60 => aKind E x9 2 (wJ_X3_id E x9 (fun r62 w61 => aR E x9 2 2 (fun r63 => ∃ a64 : Nat, r63 = some a64 ∧ (aI E a64 3 3 (fun v65 => wJ_X2_findVector_236 E K22 Q x0 x1 v60 x10 r62 (v65 + 1) x7 x7 w61) w61)) w61) w) w) w)) w))
theorem kJ_X2_findVector_194 (C : gC p l s m args meth c cX2_findVector 12 (some (.object "BridgeAuction$Vector")) RX2 E [] "findVector") {Q : Option Nat → gW → Prop} {K22 : Nat → Nat → Int32 → Int32 → Int32 → Int32 → Int32 → Int32 → gW → Prop} (hK22 : ∀ (x0 : Nat) (x1 : Nat) (x2 : Int32) (x3 : Int32) (x4 : Int32) (x5 : Int32) (x6 : Int32) (x7 : Int32) (w : gW) (H : Heap) (locs : List Loc) (ls : Array Slot), gS E w0 w H locs → lv_has ls 12 [(0, .ref x0), (1, .ref x1), (2, .int x2), (3, .int x3), (4, .int x4), (5, .int x5), (6, .int x6), (7, .int x7)] → K22 x0 x1 x2 x3 x4 x5 x6 x7 w → gGo p l e s m args below meth c H locs 3 75 E w0 w (gR Q) (gNoX) (F0 m 22 ls [])) (x0 : Nat) (x1 : Nat) (x2 : Int32) (x3 : Int32) (x4 : Int32) (x5 : Int32) (x6 : Int32) (x7 : Int32) (x9 : Nat) (x10 : Int32) (y0 : Int32) (w : gW) (H : Heap) (locs : List Loc) (ls : Array Slot) (hS : gS E w0 w H locs) (hl : lv_has ls 12 [(0, .ref x0), (1, .ref x1), (2, .int x2), (3, .int x3), (4, .int x4), (5, .int x5), (6, .int x6), (7, .int x7), (9, .ref x9), (10, .int x10)]) (hw : wJ_X2_findVector_194 E K22 Q x0 x1 x2 x3 x4 x5 x6 x7 x9 x10 y0 w) : gGo p l e s m args below meth c H locs 3 75 E w0 w (gR Q) (gNoX) (F0 m 194 ls [.int y0]) := by
  unfold wJ_X2_findVector_194 at hw
  refine lv_istore (lv' := [(11, .int y0), (0, .ref x0), (1, .ref x1), (2, .int x2), (3, .int x3), (4, .int x4), (5, .int x5), (6, .int x6), (7, .int x7), (9, .ref x9), (10, .int x10)]) C.x C.b dX2_findVector_194 hl (by decide) rfl (fun ls hl => ?_)
  refine lv_iload C.x C.b dX2_findVector_196 (lv_at hl 0 rfl) ?_
  refine lv_if_eq (tgt := 236) C.x C.b dX2_findVector_198 (by decide) (fun c57 => ?_) (fun c57 => ?_)
  · have hw := hw.1 c57
    exact kJ_X2_findVector_236 C hK22 _ _ _ _ _ _ _ _ _ _ _ _ hS (lv_sub hl [1, 2, 3, 4, 5, 6, 7, 8] rfl) hw
  · have hw := hw.2 c57
    refine lv_aload C.x C.b dX2_findVector_201 (lv_at hl 9 rfl) ?_
    refine a_RN C hS in_X3 rfl (k := 2) (ci := 2) (by decide) q262 (fun _ h9 => h9) dX2_findVector_203 hw (fun r58 hw => ?_)
    obtain ⟨a59, e9, hw9⟩ := hw; subst e9; have hw := hw9; clear hw9
    have hl : lv_has ls 12 [(11, .int y0), (0, .ref x0), (1, .ref x1), (2, .int x2), (3, .int x3), (4, .int x4), (5, .int x5), (6, .int x6), (7, .int x7), (9, .ref x9), (10, .int x10)] := hl
    refine W.eq (g2 := F0 m 206 ls [.ref a59]) rfl ?_
    refine a_IN C hS in_X4 rfl (k := 0) (ci := 3) (by decide) q228 (fun _ h9 => h9) dX2_findVector_206 hw (fun v60 hw => ?_)
    refine lv_istore_n (lv' := [(2, .int v60), (11, .int y0), (0, .ref x0), (1, .ref x1), (3, .int x3), (4, .int x4), (5, .int x5), (6, .int x6), (7, .int x7), (9, .ref x9), (10, .int x10)]) C.x C.b dX2_findVector_209 rfl hl (by decide) rfl (fun ls hl => ?_)
    refine lv_iload C.x C.b dX2_findVector_210 (lv_at hl 10 rfl) ?_
    refine lv_istore_n (lv' := [(3, .int x10), (2, .int v60), (11, .int y0), (0, .ref x0), (1, .ref x1), (4, .int x4), (5, .int x5), (6, .int x6), (7, .int x7), (9, .ref x9), (10, .int x10)]) C.x C.b dX2_findVector_212 rfl hl (by decide) rfl (fun ls hl => ?_)
    refine lv_aload C.x C.b dX2_findVector_213 (lv_at hl 9 rfl) ?_
    obtain ⟨fs, hq, hw⟩ := hw
    refine a_callV (rest := []) C hS hl 2 hq rfl (kJ_X3_id C.tr hw) q1028 q214 q215 q82 q216 ny_X3_id rfl (Nat.le_of_ble_eq_true rfl) (Nat.le_of_ble_eq_true rfl) rfl (Nat.le_of_ble_eq_true rfl) dX2_findVector_215 (fun X1 w1 H1 l1 q1 ce hx => hx.elim) (fun v w61 H locs hq _ hS => ?_)
    obtain ⟨r62, rfl, hw⟩ := hq
    refine W.eq (g2 := F0 m 218 ls [.int r62]) rfl ?_
    refine lv_istore (lv' := [(4, .int r62), (3, .int x10), (2, .int v60), (11, .int y0), (0, .ref x0), (1, .ref x1), (5, .int x5), (6, .int x6), (7, .int x7), (9, .ref x9), (10, .int x10)]) C.x C.b dX2_findVector_218 hl (by decide) rfl (fun ls hl => ?_)
    refine lv_aload C.x C.b dX2_findVector_220 (lv_at hl 9 rfl) ?_
    refine a_RN C hS in_X3 rfl (k := 2) (ci := 2) (by decide) q262 (fun _ h9 => h9) dX2_findVector_222 hw (fun r63 hw => ?_)
    obtain ⟨a64, e9, hw9⟩ := hw; subst e9; have hw := hw9; clear hw9
    have hl : lv_has ls 12 [(4, .int r62), (3, .int x10), (2, .int v60), (11, .int y0), (0, .ref x0), (1, .ref x1), (5, .int x5), (6, .int x6), (7, .int x7), (9, .ref x9), (10, .int x10)] := hl
    refine W.eq (g2 := F0 m 225 ls [.ref a64]) rfl ?_
    refine a_IN C hS in_X4 rfl (k := 3) (ci := 3) (by decide) q235 (fun _ h9 => h9) dX2_findVector_225 hw (fun v65 hw => ?_)
    refine lv_iconst (v := 1) C.x C.b dX2_findVector_228 (by decide) ?_
    refine lv_iadd C.x C.b dX2_findVector_229 ?_
    refine lv_istore (lv' := [(5, .int (v65 + 1)), (4, .int r62), (3, .int x10), (2, .int v60), (11, .int y0), (0, .ref x0), (1, .ref x1), (6, .int x6), (7, .int x7), (9, .ref x9), (10, .int x10)]) C.x C.b dX2_findVector_230 hl (by decide) rfl (fun ls hl => ?_)
    refine lv_iload C.x C.b dX2_findVector_232 (lv_at hl 8 rfl) ?_
    refine lv_istore (lv' := [(6, .int x7), (5, .int (v65 + 1)), (4, .int r62), (3, .int x10), (2, .int v60), (11, .int y0), (0, .ref x0), (1, .ref x1), (7, .int x7), (9, .ref x9), (10, .int x10)]) C.x C.b dX2_findVector_234 hl (by decide) rfl (fun ls hl => ?_)
    exact kJ_X2_findVector_236 C hK22 _ _ _ _ _ _ _ _ _ _ _ _ hS (lv_sub hl [6, 7, 4, 3, 2, 1, 0, 8] rfl) hw
def wJ_X2_findVector_91 (E : gE) (K22 : Nat → Nat → Int32 → Int32 → Int32 → Int32 → Int32 → Int32 → gW → Prop) (Q : Option Nat → gW → Prop) (x0 : Nat) (x1 : Nat) (x2 : Int32) (x3 : Int32) (x4 : Int32) (x5 : Int32) (x6 : Int32) (x7 : Int32) (x8 : Nat) (y0 : Option Nat) (w : gW) : Prop :=
  (y0 = none → (wJ_X2_findVector_236 E K22 Q x0 x1 x2 x3 x4 x5 x6 x7 w)) ∧ (¬ y0 = none → (∃ a35 : Nat, y0 = some a35 ∧ (aR E a35 2 2 (fun r36 => ∃ a37 : Nat, r36 = some a37 ∧ (aI E a37 3 3 (fun v38 => (10 ≤ v38 → (wJ_X2_findVector_236 E K22 Q x0 x1 x2 x3 x4 x5 x6 x7 w)) ∧ (¬ 10 ≤ v38 → (aR E a35 2 2 (fun r40 => ∃ a41 : Nat, r40 = some a41 ∧ (aI E a41 3 1 (fun v42 => aI E x8 5 3 (fun v43 => aR E a35 2 2 (fun r44 => ∃ a45 : Nat, r44 = some a45 ∧ (aI E a45 3 0 (fun v46 => (v46 = x2 → (((v42 + v43) = x3 → (aKind E a35 2 (wJ_X3_id E a35 (fun r50 w49 => (x4 ≤ r50 → (wJ_X2_findVector_194 E K22 Q x0 x1 x2 x3 x4 x5 x6 x7 a35 (v42 + v43) 0 w49)) ∧ (¬ x4 ≤ r50 → (wJ_X2_findVector_194 E K22 Q x0 x1 x2 x3 x4 x5 x6 x7 a35 (v42 + v43) 1 w49))) w) w)) ∧ (¬ (v42 + v43) = x3 → ((x3 ≤ (v42 + v43) → (wJ_X2_findVector_194 E K22 Q x0 x1 x2 x3 x4 x5 x6 x7 a35 (v42 + v43) 0 w)) ∧ (¬ x3 ≤ (v42 + v43) → (wJ_X2_findVector_194 E K22 Q x0 x1 x2 x3 x4 x5 x6 x7 a35 (v42 + v43) 1 w)))))) ∧ (¬ v46 = x2 → (aR E a35 2 2 (fun r53 => ∃ a54 : Nat, r53 = some a54 ∧ (aI E a54 3 0 (fun v55 => (x2 ≤ v55 → (wJ_X2_findVector_194 E K22 Q x0 x1 x2 x3 x4 x5 x6 x7 a35 (v42 + v43) 0 w)) ∧ (¬ x2 ≤ v55 → (wJ_X2_findVector_194 E K22 Q x0 x1 x2 x3 x4 x5 x6 x7 a35 (v42 + v43) 1 w))) w)) w))) w)) w) w) w)) w))) w)) w)))
theorem kJ_X2_findVector_91 (C : gC p l s m args meth c cX2_findVector 12 (some (.object "BridgeAuction$Vector")) RX2 E [] "findVector") {Q : Option Nat → gW → Prop} {K22 : Nat → Nat → Int32 → Int32 → Int32 → Int32 → Int32 → Int32 → gW → Prop} (hK22 : ∀ (x0 : Nat) (x1 : Nat) (x2 : Int32) (x3 : Int32) (x4 : Int32) (x5 : Int32) (x6 : Int32) (x7 : Int32) (w : gW) (H : Heap) (locs : List Loc) (ls : Array Slot), gS E w0 w H locs → lv_has ls 12 [(0, .ref x0), (1, .ref x1), (2, .int x2), (3, .int x3), (4, .int x4), (5, .int x5), (6, .int x6), (7, .int x7)] → K22 x0 x1 x2 x3 x4 x5 x6 x7 w → gGo p l e s m args below meth c H locs 3 75 E w0 w (gR Q) (gNoX) (F0 m 22 ls [])) (x0 : Nat) (x1 : Nat) (x2 : Int32) (x3 : Int32) (x4 : Int32) (x5 : Int32) (x6 : Int32) (x7 : Int32) (x8 : Nat) (y0 : Option Nat) (w : gW) (H : Heap) (locs : List Loc) (ls : Array Slot) (hS : gS E w0 w H locs) (hl : lv_has ls 12 [(0, .ref x0), (1, .ref x1), (2, .int x2), (3, .int x3), (4, .int x4), (5, .int x5), (6, .int x6), (7, .int x7), (8, .ref x8)]) (hw : wJ_X2_findVector_91 E K22 Q x0 x1 x2 x3 x4 x5 x6 x7 x8 y0 w) : gGo p l e s m args below meth c H locs 3 75 E w0 w (gR Q) (gNoX) (F0 m 91 ls [va_rf y0]) := by
  unfold wJ_X2_findVector_91 at hw
  refine a_astore (lv' := [(9, va_rf y0), (0, .ref x0), (1, .ref x1), (2, .int x2), (3, .int x3), (4, .int x4), (5, .int x5), (6, .int x6), (7, .int x7), (8, .ref x8)]) C dX2_findVector_91 hl (by decide) (by cases y0 <;> rfl) (fun ls hl => ?_)
  refine a_aload C dX2_findVector_93 (lv_at hl 0 rfl) ?_
  refine a_ifnull (tgt := 236) C dX2_findVector_95 (by decide) (fun c34 => ?_) (fun c34 => ?_)
  · have hw := hw.1 c34
    exact kJ_X2_findVector_236 C hK22 _ _ _ _ _ _ _ _ _ _ _ _ hS (lv_sub hl [1, 2, 3, 4, 5, 6, 7, 8] rfl) hw
  · have hw := hw.2 c34
    refine a_aload C dX2_findVector_98 (lv_at hl 0 rfl) ?_
    obtain ⟨a35, e9, hw9⟩ := hw; subst e9; have hw := hw9; clear hw9
    have hl : lv_has ls 12 [(9, .ref a35), (0, .ref x0), (1, .ref x1), (2, .int x2), (3, .int x3), (4, .int x4), (5, .int x5), (6, .int x6), (7, .int x7), (8, .ref x8)] := hl
    refine W.eq (g2 := F0 m 100 ls [.ref a35]) rfl ?_
    refine a_RN C hS in_X3 rfl (k := 2) (ci := 2) (by decide) q262 (fun _ h9 => h9) dX2_findVector_100 hw (fun r36 hw => ?_)
    obtain ⟨a37, e9, hw9⟩ := hw; subst e9; have hw := hw9; clear hw9
    have hl : lv_has ls 12 [(9, .ref a35), (0, .ref x0), (1, .ref x1), (2, .int x2), (3, .int x3), (4, .int x4), (5, .int x5), (6, .int x6), (7, .int x7), (8, .ref x8)] := hl
    refine W.eq (g2 := F0 m 103 ls [.ref a37]) rfl ?_
    refine a_IN C hS in_X4 rfl (k := 3) (ci := 3) (by decide) q235 (fun _ h9 => h9) dX2_findVector_103 hw (fun v38 hw => ?_)
    refine lv_bipush (v := 10) C.x C.b dX2_findVector_106 (by decide) ?_
    refine lv_icmp_ge (tgt := 236) C.x C.b dX2_findVector_108 (by decide) (fun c39 => ?_) (fun c39 => ?_)
    · have hw := hw.1 c39
      exact kJ_X2_findVector_236 C hK22 _ _ _ _ _ _ _ _ _ _ _ _ hS (lv_sub hl [1, 2, 3, 4, 5, 6, 7, 8] rfl) hw
    · have hw := hw.2 c39
      refine lv_aload C.x C.b dX2_findVector_111 (lv_at hl 0 rfl) ?_
      refine a_RN C hS in_X3 rfl (k := 2) (ci := 2) (by decide) q262 (fun _ h9 => h9) dX2_findVector_113 hw (fun r40 hw => ?_)
      obtain ⟨a41, e9, hw9⟩ := hw; subst e9; have hw := hw9; clear hw9
      have hl : lv_has ls 12 [(9, .ref a35), (0, .ref x0), (1, .ref x1), (2, .int x2), (3, .int x3), (4, .int x4), (5, .int x5), (6, .int x6), (7, .int x7), (8, .ref x8)] := hl
      refine W.eq (g2 := F0 m 116 ls [.ref a41]) rfl ?_
      refine a_IN C hS in_X4 rfl (k := 1) (ci := 3) (by decide) q231 (fun _ h9 => h9) dX2_findVector_116 hw (fun v42 hw => ?_)
      refine lv_aload C.x C.b dX2_findVector_119 (lv_at hl 9 rfl) ?_
      refine a_IN C hS in_X6 rfl (k := 3) (ci := 5) (by decide) q944 (fun _ h9 => h9) dX2_findVector_121 hw (fun v43 hw => ?_)
      refine lv_iadd C.x C.b dX2_findVector_124 ?_
      refine lv_istore (lv' := [(10, .int (v42 + v43)), (9, .ref a35), (0, .ref x0), (1, .ref x1), (2, .int x2), (3, .int x3), (4, .int x4), (5, .int x5), (6, .int x6), (7, .int x7), (8, .ref x8)]) C.x C.b dX2_findVector_125 hl (by decide) rfl (fun ls hl => ?_)
      refine lv_aload C.x C.b dX2_findVector_127 (lv_at hl 1 rfl) ?_
      refine a_RN C hS in_X3 rfl (k := 2) (ci := 2) (by decide) q262 (fun _ h9 => h9) dX2_findVector_129 hw (fun r44 hw => ?_)
      obtain ⟨a45, e9, hw9⟩ := hw; subst e9; have hw := hw9; clear hw9
      have hl : lv_has ls 12 [(10, .int (v42 + v43)), (9, .ref a35), (0, .ref x0), (1, .ref x1), (2, .int x2), (3, .int x3), (4, .int x4), (5, .int x5), (6, .int x6), (7, .int x7), (8, .ref x8)] := hl
      refine W.eq (g2 := F0 m 132 ls [.ref a45]) rfl ?_
      refine a_IN C hS in_X4 rfl (k := 0) (ci := 3) (by decide) q228 (fun _ h9 => h9) dX2_findVector_132 hw (fun v46 hw => ?_)
      refine lv_iload_n C.x C.b dX2_findVector_135 rfl (lv_at hl 4 rfl) ?_
      refine lv_icmp_eq (tgt := 159) C.x C.b dX2_findVector_136 (by decide) (fun c47 => ?_) (fun c47 => ?_)
      · have hw := hw.1 c47
        refine lv_iload C.x C.b dX2_findVector_159 (lv_at hl 0 rfl) ?_
        refine lv_iload_n C.x C.b dX2_findVector_161 rfl (lv_at hl 5 rfl) ?_
        refine lv_icmp_eq (tgt := 179) C.x C.b dX2_findVector_162 (by decide) (fun c48 => ?_) (fun c48 => ?_)
        · have hw := hw.1 c48
          refine lv_aload C.x C.b dX2_findVector_179 (lv_at hl 1 rfl) ?_
          obtain ⟨fs, hq, hw⟩ := hw
          refine a_callV (rest := []) C hS hl 2 hq rfl (kJ_X3_id C.tr hw) q1028 q214 q215 q82 q216 ny_X3_id rfl (Nat.le_of_ble_eq_true rfl) (Nat.le_of_ble_eq_true rfl) rfl (Nat.le_of_ble_eq_true rfl) dX2_findVector_181 (fun X1 w1 H1 l1 q1 ce hx => hx.elim) (fun v w49 H locs hq _ hS => ?_)
          obtain ⟨r50, rfl, hw⟩ := hq
          refine W.eq (g2 := F0 m 184 ls [.int r50]) rfl ?_
          refine lv_iload C.x C.b dX2_findVector_184 (lv_at hl 6 rfl) ?_
          refine lv_icmp_ge (tgt := 193) C.x C.b dX2_findVector_186 (by decide) (fun c51 => ?_) (fun c51 => ?_)
          · have hw := hw.1 c51
            refine lv_iconst (v := 0) C.x C.b dX2_findVector_193 (by decide) ?_
            exact kJ_X2_findVector_194 C hK22 _ _ _ _ _ _ _ _ _ _ _ _ _ _ _ hS (lv_sub hl [2, 3, 4, 5, 6, 7, 8, 9, 1, 0] rfl) hw
          · have hw := hw.2 c51
            refine lv_iconst (v := 1) C.x C.b dX2_findVector_189 (by decide) ?_
            refine lv_goto (tgt := 194) C.x C.b dX2_findVector_190 (by decide) ?_
            exact kJ_X2_findVector_194 C hK22 _ _ _ _ _ _ _ _ _ _ _ _ _ _ _ hS (lv_sub hl [2, 3, 4, 5, 6, 7, 8, 9, 1, 0] rfl) hw
        · have hw := hw.2 c48
          refine lv_iload C.x C.b dX2_findVector_165 (lv_at hl 0 rfl) ?_
          refine lv_iload_n C.x C.b dX2_findVector_167 rfl (lv_at hl 5 rfl) ?_
          refine lv_icmp_ge (tgt := 175) C.x C.b dX2_findVector_168 (by decide) (fun c52 => ?_) (fun c52 => ?_)
          · have hw := hw.1 c52
            refine lv_iconst (v := 0) C.x C.b dX2_findVector_175 (by decide) ?_
            refine lv_goto (tgt := 194) C.x C.b dX2_findVector_176 (by decide) ?_
            exact kJ_X2_findVector_194 C hK22 _ _ _ _ _ _ _ _ _ _ _ _ _ _ _ hS (lv_sub hl [2, 3, 4, 5, 6, 7, 8, 9, 1, 0] rfl) hw
          · have hw := hw.2 c52
            refine lv_iconst (v := 1) C.x C.b dX2_findVector_171 (by decide) ?_
            refine lv_goto (tgt := 194) C.x C.b dX2_findVector_172 (by decide) ?_
            exact kJ_X2_findVector_194 C hK22 _ _ _ _ _ _ _ _ _ _ _ _ _ _ _ hS (lv_sub hl [2, 3, 4, 5, 6, 7, 8, 9, 1, 0] rfl) hw
      · have hw := hw.2 c47
        refine lv_aload C.x C.b dX2_findVector_139 (lv_at hl 1 rfl) ?_
        refine a_RN C hS in_X3 rfl (k := 2) (ci := 2) (by decide) q262 (fun _ h9 => h9) dX2_findVector_141 hw (fun r53 hw => ?_)
        obtain ⟨a54, e9, hw9⟩ := hw; subst e9; have hw := hw9; clear hw9
        have hl : lv_has ls 12 [(10, .int (v42 + v43)), (9, .ref a35), (0, .ref x0), (1, .ref x1), (2, .int x2), (3, .int x3), (4, .int x4), (5, .int x5), (6, .int x6), (7, .int x7), (8, .ref x8)] := hl
        refine W.eq (g2 := F0 m 144 ls [.ref a54]) rfl ?_
        refine a_IN C hS in_X4 rfl (k := 0) (ci := 3) (by decide) q228 (fun _ h9 => h9) dX2_findVector_144 hw (fun v55 hw => ?_)
        refine lv_iload_n C.x C.b dX2_findVector_147 rfl (lv_at hl 4 rfl) ?_
        refine lv_icmp_ge (tgt := 155) C.x C.b dX2_findVector_148 (by decide) (fun c56 => ?_) (fun c56 => ?_)
        · have hw := hw.1 c56
          refine lv_iconst (v := 0) C.x C.b dX2_findVector_155 (by decide) ?_
          refine lv_goto (tgt := 194) C.x C.b dX2_findVector_156 (by decide) ?_
          exact kJ_X2_findVector_194 C hK22 _ _ _ _ _ _ _ _ _ _ _ _ _ _ _ hS (lv_sub hl [2, 3, 4, 5, 6, 7, 8, 9, 1, 0] rfl) hw
        · have hw := hw.2 c56
          refine lv_iconst (v := 1) C.x C.b dX2_findVector_151 (by decide) ?_
          refine lv_goto (tgt := 194) C.x C.b dX2_findVector_152 (by decide) ?_
          exact kJ_X2_findVector_194 C hK22 _ _ _ _ _ _ _ _ _ _ _ _ _ _ _ hS (lv_sub hl [2, 3, 4, 5, 6, 7, 8, 9, 1, 0] rfl) hw
def wJ_X2_findVector_90 (E : gE) (K22 : Nat → Nat → Int32 → Int32 → Int32 → Int32 → Int32 → Int32 → gW → Prop) (Q : Option Nat → gW → Prop) (x0 : Nat) (x1 : Nat) (x2 : Int32) (x3 : Int32) (x4 : Int32) (x5 : Int32) (x6 : Int32) (x7 : Int32) (x8 : Nat) (w : gW) : Prop :=
  wJ_X2_findVector_91 E K22 Q x0 x1 x2 x3 x4 x5 x6 x7 x8 none w
theorem kJ_X2_findVector_90 (C : gC p l s m args meth c cX2_findVector 12 (some (.object "BridgeAuction$Vector")) RX2 E [] "findVector") {Q : Option Nat → gW → Prop} {K22 : Nat → Nat → Int32 → Int32 → Int32 → Int32 → Int32 → Int32 → gW → Prop} (hK22 : ∀ (x0 : Nat) (x1 : Nat) (x2 : Int32) (x3 : Int32) (x4 : Int32) (x5 : Int32) (x6 : Int32) (x7 : Int32) (w : gW) (H : Heap) (locs : List Loc) (ls : Array Slot), gS E w0 w H locs → lv_has ls 12 [(0, .ref x0), (1, .ref x1), (2, .int x2), (3, .int x3), (4, .int x4), (5, .int x5), (6, .int x6), (7, .int x7)] → K22 x0 x1 x2 x3 x4 x5 x6 x7 w → gGo p l e s m args below meth c H locs 3 75 E w0 w (gR Q) (gNoX) (F0 m 22 ls [])) (x0 : Nat) (x1 : Nat) (x2 : Int32) (x3 : Int32) (x4 : Int32) (x5 : Int32) (x6 : Int32) (x7 : Int32) (x8 : Nat) (w : gW) (H : Heap) (locs : List Loc) (ls : Array Slot) (hS : gS E w0 w H locs) (hl : lv_has ls 12 [(0, .ref x0), (1, .ref x1), (2, .int x2), (3, .int x3), (4, .int x4), (5, .int x5), (6, .int x6), (7, .int x7), (8, .ref x8)]) (hw : wJ_X2_findVector_90 E K22 Q x0 x1 x2 x3 x4 x5 x6 x7 x8 w) : gGo p l e s m args below meth c H locs 3 75 E w0 w (gR Q) (gNoX) (F0 m 90 ls []) := by
  unfold wJ_X2_findVector_90 at hw
  refine lv_null C.x C.b dX2_findVector_90 ?_
  exact kJ_X2_findVector_91 C hK22 _ _ _ _ _ _ _ _ _ _ _ _ _ _ hS (lv_sub hl [0, 1, 2, 3, 4, 5, 6, 7, 8] rfl) hw
def wJ_X2_findVector_22 (E : gE) (Q : Option Nat → gW → Prop) : Nat → Nat → Nat → Int32 → Int32 → Int32 → Int32 → Int32 → Int32 → gW → Prop
  | 0, _, _, _, _, _, _, _, _, _ => False
  | n + 1, x0, x1, x2, x3, x4, x5, x6, x7, w => aR E x0 1 1 (fun r6 => ∃ a7 : Nat, r6 = some a7 ∧ (aKind E a7 8 (wJ_J2_size E a7 (fun r9 w8 => (r9 ≤ x7 → (aR E x1 2 2 (fun r11 => ∃ a12 : Nat, r11 = some a12 ∧ (aKind E a12 3 (wJ_X4_asTold E a12 x2 x3 x4 x5 x6 (fun r14 w13 => Q r14 w13) w8) w8)) w8)) ∧ (¬ r9 ≤ x7 → (aR E x0 1 1 (fun r15 => ∃ a16 : Nat, r15 = some a16 ∧ (aKind E a16 8 (wJ_J2_get E a16 x7 (fun r18 w17 => ∃ a19 : Nat, r18 = some a19 ∧ (aKind E a19 5 (aI E a19 5 4 (fun v20 => (v20 = 0 → (wJ_X2_findVector_90 E (fun x0 x1 x2 x3 x4 x5 x6 x7 w => wJ_X2_findVector_22 E Q n x0 x1 x2 x3 x4 x5 x6 x7 w) Q x0 x1 x2 x3 x4 x5 x6 x7 a19 w17)) ∧ (¬ v20 = 0 → (aI E x1 2 0 (fun v22 => aKind E a19 5 (wJ_X6_isAt E a19 v22 (fun r24 w23 => (r24 = 0 → (wJ_X2_findVector_90 E (fun x0 x1 x2 x3 x4 x5 x6 x7 w => wJ_X2_findVector_22 E Q n x0 x1 x2 x3 x4 x5 x6 x7 w) Q x0 x1 x2 x3 x4 x5 x6 x7 a19 w23)) ∧ (¬ r24 = 0 → (aR E x0 1 0 (fun r26 => aI E x1 2 0 (fun v27 => aKind E a19 5 (wJ_X6_otherEnd E a19 v27 (fun r29 w28 => ∃ a30 : Nat, r26 = some a30 ∧ (aKind E a30 8 (wJ_J2_get E a30 r29 (fun r32 w31 => ∃ a33 : Nat, r32 = some a33 ∧ (aKind E a33 2 (wJ_X2_findVector_91 E (fun x0 x1 x2 x3 x4 x5 x6 x7 w => wJ_X2_findVector_22 E Q n x0 x1 x2 x3 x4 x5 x6 x7 w) Q x0 x1 x2 x3 x4 x5 x6 x7 a19 (some a33) w31) w31)) w28) w28)) w23) w23) w23) w23))) w17) w17) w17))) w17) w17)) w8) w8)) w8))) w) w)) w
theorem kJ_X2_findVector_22 (C : gC p l s m args meth c cX2_findVector 12 (some (.object "BridgeAuction$Vector")) RX2 E [] "findVector") {Q : Option Nat → gW → Prop} : ∀ (n : Nat) (x0 : Nat) (x1 : Nat) (x2 : Int32) (x3 : Int32) (x4 : Int32) (x5 : Int32) (x6 : Int32) (x7 : Int32) (w : gW) (H : Heap) (locs : List Loc) (ls : Array Slot), gS E w0 w H locs → lv_has ls 12 [(0, .ref x0), (1, .ref x1), (2, .int x2), (3, .int x3), (4, .int x4), (5, .int x5), (6, .int x6), (7, .int x7)] → wJ_X2_findVector_22 E Q n x0 x1 x2 x3 x4 x5 x6 x7 w → gGo p l e s m args below meth c H locs 3 75 E w0 w (gR Q) (gNoX) (F0 m 22 ls []) := by
  intro n
  induction n with
  | zero =>
    intro x0 x1 x2 x3 x4 x5 x6 x7 w H locs ls hS hl hw
    exact hw.elim
  | succ n ih =>
    intro x0 x1 x2 x3 x4 x5 x6 x7 w H locs ls hS hl hw
    unfold wJ_X2_findVector_22 at hw
    refine lv_iload C.x C.b dX2_findVector_22 (lv_at hl 7 rfl) ?_
    refine lv_aload_n C.x C.b dX2_findVector_24 rfl (lv_at hl 0 rfl) ?_
    refine a_R C hS in_X2 rfl (k := 1) (ci := 1) (by decide) q154 (fun _ h9 => h9) dX2_findVector_25 hw (fun r6 hw => ?_)
    obtain ⟨a7, e9, hw9⟩ := hw; subst e9; have hw := hw9; clear hw9
    have hl : lv_has ls 12 [(0, .ref x0), (1, .ref x1), (2, .int x2), (3, .int x3), (4, .int x4), (5, .int x5), (6, .int x6), (7, .int x7)] := hl
    refine W.eq (g2 := F0 m 28 ls [.ref a7, .int x7]) rfl ?_
    obtain ⟨fs, hq, hw⟩ := hw
    refine a_callV (rest := [.int x7]) C hS hl 8 hq rfl (kJ_J2_size C.tr hw) q384 q373 q374 q81 q375 ny_J2_size rfl (Nat.le_of_ble_eq_true rfl) (Nat.le_of_ble_eq_true rfl) rfl (Nat.le_of_ble_eq_true rfl) dX2_findVector_28 (fun X1 w1 H1 l1 q1 ce hx => hx.elim) (fun v w8 H locs hq _ hS => ?_)
    obtain ⟨r9, rfl, hw⟩ := hq
    refine W.eq (g2 := F0 m 31 ls [.int r9, .int x7]) rfl ?_
    refine lv_icmp_ge (tgt := 242) C.x C.b dX2_findVector_31 (by decide) (fun c10 => ?_) (fun c10 => ?_)
    · have hw := hw.1 c10
      refine lv_aload_n C.x C.b dX2_findVector_242 rfl (lv_at hl 1 rfl) ?_
      refine a_RN C hS in_X3 rfl (k := 2) (ci := 2) (by decide) q262 (fun _ h9 => h9) dX2_findVector_243 hw (fun r11 hw => ?_)
      refine lv_iload_n C.x C.b dX2_findVector_246 rfl (lv_at hl 2 rfl) ?_
      refine lv_iload_n C.x C.b dX2_findVector_247 rfl (lv_at hl 3 rfl) ?_
      refine lv_iload C.x C.b dX2_findVector_248 (lv_at hl 4 rfl) ?_
      refine lv_iload C.x C.b dX2_findVector_250 (lv_at hl 5 rfl) ?_
      refine lv_iload C.x C.b dX2_findVector_252 (lv_at hl 6 rfl) ?_
      obtain ⟨a12, e9, hw9⟩ := hw; subst e9; have hw := hw9; clear hw9
      have hl : lv_has ls 12 [(0, .ref x0), (1, .ref x1), (2, .int x2), (3, .int x3), (4, .int x4), (5, .int x5), (6, .int x6), (7, .int x7)] := hl
      refine W.eq (g2 := F0 m 254 ls [.int x6, .int x5, .int x4, .int x3, .int x2, .ref a12]) rfl ?_
      obtain ⟨fs, hq, hw⟩ := hw
      refine a_callV (rest := []) C hS hl 3 hq rfl (kJ_X4_asTold C.tr hw) q1078 q1079 q1080 q83 q1081 ny_X4_asTold rfl (Nat.le_of_ble_eq_true rfl) (Nat.le_of_ble_eq_true rfl) rfl (Nat.le_of_ble_eq_true rfl) dX2_findVector_254 (fun X1 w1 H1 l1 q1 ce hx => hx.elim) (fun v w13 H locs hq _ hS => ?_)
      obtain ⟨r14, rfl, hw⟩ := hq
      refine W.eq (g2 := F0 m 257 ls [va_rf r14]) rfl ?_
      exact g_aret (r := r14) C (Or.inl ⟨_, rfl⟩) hS ⟨_, rfl, hw⟩ dX2_findVector_257
    · have hw := hw.2 c10
      refine lv_aload_n C.x C.b dX2_findVector_34 rfl (lv_at hl 0 rfl) ?_
      refine a_R C hS in_X2 rfl (k := 1) (ci := 1) (by decide) q154 (fun _ h9 => h9) dX2_findVector_35 hw (fun r15 hw => ?_)
      refine lv_iload C.x C.b dX2_findVector_38 (lv_at hl 7 rfl) ?_
      obtain ⟨a16, e9, hw9⟩ := hw; subst e9; have hw := hw9; clear hw9
      have hl : lv_has ls 12 [(0, .ref x0), (1, .ref x1), (2, .int x2), (3, .int x3), (4, .int x4), (5, .int x5), (6, .int x6), (7, .int x7)] := hl
      refine W.eq (g2 := F0 m 40 ls [.int x7, .ref a16]) rfl ?_
      obtain ⟨fs, hq, hw⟩ := hw
      refine a_callV (rest := []) C hS hl 8 hq rfl (kJ_J2_get C.tr hw) q389 q390 q391 q81 q392 ny_J2_get rfl (Nat.le_of_ble_eq_true rfl) (Nat.le_of_ble_eq_true rfl) rfl (Nat.le_of_ble_eq_true rfl) dX2_findVector_40 (fun X1 w1 H1 l1 q1 ce hx => hx.elim) (fun v w17 H locs hq _ hS => ?_)
      obtain ⟨r18, rfl, hw⟩ := hq
      refine W.eq (g2 := F0 m 43 ls [va_rf r18]) rfl ?_
      obtain ⟨a19, e9, hw9⟩ := hw; subst e9; have hw := hw9; clear hw9
      have hl : lv_has ls 12 [(0, .ref x0), (1, .ref x1), (2, .int x2), (3, .int x3), (4, .int x4), (5, .int x5), (6, .int x6), (7, .int x7)] := hl
      refine W.eq (g2 := F0 m 43 ls [.ref a19]) rfl ?_
      refine a_cast (ci := 5) C hS rfl q403 dX2_findVector_43 hw (fun hw => ?_)
      refine lv_astore (lv' := [(8, .ref a19), (0, .ref x0), (1, .ref x1), (2, .int x2), (3, .int x3), (4, .int x4), (5, .int x5), (6, .int x6), (7, .int x7)]) C.x C.b dX2_findVector_46 hl (by decide) rfl (fun ls hl => ?_)
      refine lv_aload C.x C.b dX2_findVector_48 (lv_at hl 0 rfl) ?_
      refine a_IN C hS in_X6 rfl (k := 4) (ci := 5) (by decide) q946 (fun _ h9 => h9) dX2_findVector_50 hw (fun v20 hw => ?_)
      refine lv_if_eq (tgt := 90) C.x C.b dX2_findVector_53 (by decide) (fun c21 => ?_) (fun c21 => ?_)
      · have hw := hw.1 c21
        exact kJ_X2_findVector_90 C ih _ _ _ _ _ _ _ _ _ _ _ _ _ hS (lv_sub hl [1, 2, 3, 4, 5, 6, 7, 8, 0] rfl) hw
      · have hw := hw.2 c21
        refine lv_aload C.x C.b dX2_findVector_56 (lv_at hl 0 rfl) ?_
        refine lv_aload_n C.x C.b dX2_findVector_58 rfl (lv_at hl 2 rfl) ?_
        refine a_IN C hS in_X3 rfl (k := 0) (ci := 2) (by decide) q258 (fun _ h9 => h9) dX2_findVector_59 hw (fun v22 hw => ?_)
        obtain ⟨fs, hq, hw⟩ := hw
        refine a_callV (rest := []) C hS hl 5 hq rfl (kJ_X6_isAt C.tr hw) q1070 q1071 q1072 q95 q1073 ny_X6_isAt rfl (Nat.le_of_ble_eq_true rfl) (Nat.le_of_ble_eq_true rfl) rfl (Nat.le_of_ble_eq_true rfl) dX2_findVector_62 (fun X1 w1 H1 l1 q1 ce hx => hx.elim) (fun v w23 H locs hq _ hS => ?_)
        obtain ⟨r24, rfl, hw⟩ := hq
        refine W.eq (g2 := F0 m 65 ls [.int r24]) rfl ?_
        refine lv_if_eq (tgt := 90) C.x C.b dX2_findVector_65 (by decide) (fun c25 => ?_) (fun c25 => ?_)
        · have hw := hw.1 c25
          exact kJ_X2_findVector_90 C ih _ _ _ _ _ _ _ _ _ _ _ _ _ hS (lv_sub hl [1, 2, 3, 4, 5, 6, 7, 8, 0] rfl) hw
        · have hw := hw.2 c25
          refine lv_aload_n C.x C.b dX2_findVector_68 rfl (lv_at hl 1 rfl) ?_
          refine a_R C hS in_X2 rfl (k := 0) (ci := 1) (by decide) q152 (fun _ h9 => h9) dX2_findVector_69 hw (fun r26 hw => ?_)
          refine lv_aload C.x C.b dX2_findVector_72 (lv_at hl 0 rfl) ?_
          refine lv_aload_n C.x C.b dX2_findVector_74 rfl (lv_at hl 2 rfl) ?_
          refine a_IN C hS in_X3 rfl (k := 0) (ci := 2) (by decide) q258 (fun _ h9 => h9) dX2_findVector_75 hw (fun v27 hw => ?_)
          obtain ⟨fs, hq, hw⟩ := hw
          refine a_callV (rest := [va_rf r26]) C hS hl 5 hq rfl (kJ_X6_otherEnd C.tr hw) q1074 q1075 q1076 q95 q1077 ny_X6_otherEnd rfl (Nat.le_of_ble_eq_true rfl) (Nat.le_of_ble_eq_true rfl) rfl (by cases r26 <;> exact (Nat.le_of_ble_eq_true rfl)) dX2_findVector_78 (fun X1 w1 H1 l1 q1 ce hx => hx.elim) (fun v w28 H locs hq _ hS => ?_)
          obtain ⟨r29, rfl, hw⟩ := hq
          refine W.eq (g2 := F0 m 81 ls [.int r29, va_rf r26]) rfl ?_
          obtain ⟨a30, e9, hw9⟩ := hw; subst e9; have hw := hw9; clear hw9
          have hl : lv_has ls 12 [(8, .ref a19), (0, .ref x0), (1, .ref x1), (2, .int x2), (3, .int x3), (4, .int x4), (5, .int x5), (6, .int x6), (7, .int x7)] := hl
          refine W.eq (g2 := F0 m 81 ls [.int r29, .ref a30]) rfl ?_
          obtain ⟨fs, hq, hw⟩ := hw
          refine a_callV (rest := []) C hS hl 8 hq rfl (kJ_J2_get C.tr hw) q389 q390 q391 q81 q392 ny_J2_get rfl (Nat.le_of_ble_eq_true rfl) (Nat.le_of_ble_eq_true rfl) rfl (Nat.le_of_ble_eq_true rfl) dX2_findVector_81 (fun X1 w1 H1 l1 q1 ce hx => hx.elim) (fun v w31 H locs hq _ hS => ?_)
          obtain ⟨r32, rfl, hw⟩ := hq
          refine W.eq (g2 := F0 m 84 ls [va_rf r32]) rfl ?_
          obtain ⟨a33, e9, hw9⟩ := hw; subst e9; have hw := hw9; clear hw9
          have hl : lv_has ls 12 [(8, .ref a19), (0, .ref x0), (1, .ref x1), (2, .int x2), (3, .int x3), (4, .int x4), (5, .int x5), (6, .int x6), (7, .int x7)] := hl
          refine W.eq (g2 := F0 m 84 ls [.ref a33]) rfl ?_
          refine a_cast (ci := 2) C hS rfl q207 dX2_findVector_84 hw (fun hw => ?_)
          refine lv_goto (tgt := 91) C.x C.b dX2_findVector_87 (by decide) ?_
          exact kJ_X2_findVector_91 C ih _ _ _ _ _ _ _ _ _ _ _ _ _ _ hS (lv_sub hl [1, 2, 3, 4, 5, 6, 7, 8, 0] rfl) hw
def wJ_X2_findVector (E : gE) (i0 : Nat) (i1 : Nat) (Q : Option Nat → gW → Prop) (w : gW) : Prop :=
  aKind E i1 2 (wJ_X3_id E i1 (fun r2 w1 => aKind E i1 2 (wJ_X3_id E i1 (fun r4 w3 => ∃ k5 : Nat, wJ_X2_findVector_22 E Q k5 i0 i1 r2 0 r4 0 (-1) 0 w3) w1) w1) w) w
theorem kJ_X2_findVector_r (C : gC p l s m args meth c cX2_findVector 12 (some (.object "BridgeAuction$Vector")) RX2 E [] "findVector") (i0 : Nat) (i1 : Nat) {Q : Option Nat → gW → Prop} (w : gW) (H : Heap) (locs : List Loc) (ls : Array Slot) (hS : gS E w0 w H locs) (hl : lv_has ls 12 [(0, .ref i0), (1, .ref i1)]) (hw : wJ_X2_findVector E i0 i1 Q w) : gGo p l e s m args below meth c H locs 3 75 E w0 w (gR Q) (gNoX) (F0 m 0 ls []) := by
  unfold wJ_X2_findVector at hw
  refine lv_aload_n C.x C.b dX2_findVector_0 rfl (lv_at hl 1 rfl) ?_
  obtain ⟨fs, hq, hw⟩ := hw
  refine a_callV (rest := []) C hS hl 2 hq rfl (kJ_X3_id C.tr hw) q1028 q214 q215 q82 q216 ny_X3_id rfl (Nat.le_of_ble_eq_true rfl) (Nat.le_of_ble_eq_true rfl) rfl (Nat.le_of_ble_eq_true rfl) dX2_findVector_1 (fun X1 w1 H1 l1 q1 ce hx => hx.elim) (fun v w1 H locs hq _ hS => ?_)
  obtain ⟨r2, rfl, hw⟩ := hq
  refine W.eq (g2 := F0 m 4 ls [.int r2]) rfl ?_
  refine lv_istore_n (lv' := [(2, .int r2), (0, .ref i0), (1, .ref i1)]) C.x C.b dX2_findVector_4 rfl hl (by decide) rfl (fun ls hl => ?_)
  refine lv_iconst (v := 0) C.x C.b dX2_findVector_5 (by decide) ?_
  refine lv_istore_n (lv' := [(3, .int 0), (2, .int r2), (0, .ref i0), (1, .ref i1)]) C.x C.b dX2_findVector_6 rfl hl (by decide) rfl (fun ls hl => ?_)
  refine lv_aload_n C.x C.b dX2_findVector_7 rfl (lv_at hl 3 rfl) ?_
  obtain ⟨fs, hq, hw⟩ := hw
  refine a_callV (rest := []) C hS hl 2 hq rfl (kJ_X3_id C.tr hw) q1028 q214 q215 q82 q216 ny_X3_id rfl (Nat.le_of_ble_eq_true rfl) (Nat.le_of_ble_eq_true rfl) rfl (Nat.le_of_ble_eq_true rfl) dX2_findVector_8 (fun X1 w1 H1 l1 q1 ce hx => hx.elim) (fun v w3 H locs hq _ hS => ?_)
  obtain ⟨r4, rfl, hw⟩ := hq
  refine W.eq (g2 := F0 m 11 ls [.int r4]) rfl ?_
  refine lv_istore (lv' := [(4, .int r4), (3, .int 0), (2, .int r2), (0, .ref i0), (1, .ref i1)]) C.x C.b dX2_findVector_11 hl (by decide) rfl (fun ls hl => ?_)
  refine lv_iconst (v := 0) C.x C.b dX2_findVector_13 (by decide) ?_
  refine lv_istore (lv' := [(5, .int 0), (4, .int r4), (3, .int 0), (2, .int r2), (0, .ref i0), (1, .ref i1)]) C.x C.b dX2_findVector_14 hl (by decide) rfl (fun ls hl => ?_)
  refine lv_iconst (v := (-1)) C.x C.b dX2_findVector_16 (by decide) ?_
  refine lv_istore (lv' := [(6, .int (-1)), (5, .int 0), (4, .int r4), (3, .int 0), (2, .int r2), (0, .ref i0), (1, .ref i1)]) C.x C.b dX2_findVector_17 hl (by decide) rfl (fun ls hl => ?_)
  refine lv_iconst (v := 0) C.x C.b dX2_findVector_19 (by decide) ?_
  refine lv_istore (lv' := [(7, .int 0), (6, .int (-1)), (5, .int 0), (4, .int r4), (3, .int 0), (2, .int r2), (0, .ref i0), (1, .ref i1)]) C.x C.b dX2_findVector_20 hl (by decide) rfl (fun ls hl => ?_)
  obtain ⟨k5, hw⟩ := hw
  exact kJ_X2_findVector_22 C k5 _ _ _ _ _ _ _ _ _ _ _ _ hS (lv_sub hl [6, 7, 5, 4, 3, 2, 1, 0] rfl) hw
theorem ny_X2_findVector : gNm yX2_findVector 1 = true := by decide +kernel
theorem kJ_X2_findVector {l : Launch} (ht : l.stackTraces = false) {w : gW} {i0 : Nat} {i1 : Nat} {Q : Option Nat → gW → Prop} (hw : wJ_X2_findVector E i0 i1 Q w) : gMet l yX2_findVector (ws_ yX2_findVector cX2_findVector 12 (some (.object "BridgeAuction$Vector"))) E w [.ref i0, .ref i1] 3 75 (gR Q) (gNoX) :=
  g_ofW ht (by decide) (Nat.le_of_ble_eq_true rfl) (fun p e s m below meth c ls H C hl hS => kJ_X2_findVector_r C _ _ _ _ _ _ hS hl hw)
def wJ_X2_goOn_89 (E : gE) (Q : Option Nat → gW → Prop) (x4 : Nat) (y0 : Option Nat) (w : gW) : Prop :=
  aI E x4 2 0 (fun v23 => ∃ a24 : Nat, y0 = some a24 ∧ (aS E 2 a24 v23 1 (fun w25 => Q (some a24) w25) w)) w
theorem kJ_X2_goOn_89 (C : gC p l s m args meth c cX2_goOn 9 (some (.array .boolean)) RX2 E [] "goOn") {Q : Option Nat → gW → Prop} (x4 : Nat) (y0 : Option Nat) (w : gW) (H : Heap) (locs : List Loc) (ls : Array Slot) (hS : gS E w0 w H locs) (hl : lv_has ls 9 [(4, .ref x4)]) (hw : wJ_X2_goOn_89 E Q x4 y0 w) : gGo p l e s m args below meth c H locs 4 82 E w0 w (gR Q) (gNoX) (F0 m 89 ls [va_rf y0]) := by
  unfold wJ_X2_goOn_89 at hw
  refine a_astore (lv' := [(8, va_rf y0), (4, .ref x4)]) C dX2_goOn_89 hl (by decide) (by cases y0 <;> rfl) (fun ls hl => ?_)
  refine a_aload C dX2_goOn_91 (lv_at hl 0 rfl) ?_
  refine lv_aload C.x C.b dX2_goOn_93 (lv_at hl 1 rfl) ?_
  refine a_IN C hS in_X3 rfl (k := 0) (ci := 2) (by decide) q258 (fun _ h9 => h9) dX2_goOn_95 hw (fun v23 hw => ?_)
  refine lv_iconst (v := 1) C.x C.b dX2_goOn_98 (by decide) ?_
  obtain ⟨a24, e9, hw9⟩ := hw; subst e9; have hw := hw9; clear hw9
  have hl : lv_has ls 9 [(8, .ref a24), (4, .ref x4)] := hl
  refine W.eq (g2 := F0 m 99 ls [.int 1, .int v23, .ref a24]) rfl ?_
  refine a_Sz C hS dX2_goOn_99 hw (fun w25 H locs hw hS => ?_)
  refine lv_aload C.x C.b dX2_goOn_100 (lv_at hl 0 rfl) ?_
  exact g_aret (r := (some a24)) C (Or.inr ⟨_, rfl⟩) hS ⟨_, rfl, hw⟩ dX2_goOn_102
def wJ_X2_goOn_42 (E : gE) (Q : Option Nat → gW → Prop) (x0 : Nat) (x3 : Nat) (x4 : Nat) (x6 : Option Nat) (y0 : Int32) (w : gW) : Prop :=
  aI E x0 1 7 (fun v10 => aKind E x3 6 (wJ_X7_goOn E x3 y0 v10 (fun r12 w11 => (r12 = 0 → (Q x6 w11)) ∧ (¬ r12 = 0 → (aI E x0 1 11 (fun v14 => aP x0 1 11 (.int (v14 + 1)) (fun w15 => (x6 = none → (aR E x0 1 0 (fun r17 => ∃ a18 : Nat, r17 = some a18 ∧ (aKind E a18 8 (wJ_J2_size E a18 (fun r20 w19 => aA E 2 r20 (fun q21 w22 => wJ_X2_goOn_89 E Q x4 (some q21) w22) w19) w15) w15)) w15)) ∧ (¬ x6 = none → (wJ_X2_goOn_89 E Q x4 x6 w15))) w11) w11))) w) w) w
theorem kJ_X2_goOn_42 (C : gC p l s m args meth c cX2_goOn 9 (some (.array .boolean)) RX2 E [] "goOn") {Q : Option Nat → gW → Prop} (x0 : Nat) (x3 : Nat) (x4 : Nat) (x6 : Option Nat) (y0 : Int32) (w : gW) (H : Heap) (locs : List Loc) (ls : Array Slot) (hS : gS E w0 w H locs) (hl : lv_has ls 9 [(0, .ref x0), (3, .ref x3), (4, .ref x4), (6, va_rf x6)]) (hw : wJ_X2_goOn_42 E Q x0 x3 x4 x6 y0 w) : gGo p l e s m args below meth c H locs 4 82 E w0 w (gR Q) (gNoX) (F0 m 42 ls [.int y0]) := by
  unfold wJ_X2_goOn_42 at hw
  refine lv_istore (lv' := [(7, .int y0), (0, .ref x0), (3, .ref x3), (4, .ref x4), (6, va_rf x6)]) C.x C.b dX2_goOn_42 hl (by decide) (by cases x6 <;> rfl) (fun ls hl => ?_)
  refine lv_aload_n C.x C.b dX2_goOn_44 rfl (lv_at hl 2 rfl) ?_
  refine lv_iload C.x C.b dX2_goOn_45 (lv_at hl 0 rfl) ?_
  refine lv_aload_n C.x C.b dX2_goOn_47 rfl (lv_at hl 1 rfl) ?_
  refine a_I C hS in_X2 rfl (k := 7) (ci := 1) (by decide) q164 (fun _ h9 => h9) dX2_goOn_48 hw (fun v10 hw => ?_)
  obtain ⟨fs, hq, hw⟩ := hw
  refine a_callV (rest := []) C hS hl 6 hq rfl (kJ_X7_goOn C.tr hw) q1138 q1139 q1140 q96 q1141 ny_X7_goOn rfl (Nat.le_of_ble_eq_true rfl) (Nat.le_of_ble_eq_true rfl) rfl (Nat.le_of_ble_eq_true rfl) dX2_goOn_51 (fun X1 w1 H1 l1 q1 ce hx => hx.elim) (fun v w11 H locs hq _ hS => ?_)
  obtain ⟨r12, rfl, hw⟩ := hq
  refine W.eq (g2 := F0 m 54 ls [.int r12]) rfl ?_
  refine lv_if_ne (tgt := 60) C.x C.b dX2_goOn_54 (by decide) (fun c13 => ?_) (fun c13 => ?_)
  · have hw := hw.2 c13
    refine lv_aload_n C.x C.b dX2_goOn_60 rfl (lv_at hl 1 rfl) ?_
    refine lv_dup C.x C.b dX2_goOn_61 rfl ?_
    refine a_I C hS in_X2 rfl (k := 11) (ci := 1) (by decide) q171 (fun _ h9 => h9) dX2_goOn_62 hw (fun v14 hw => ?_)
    refine lv_iconst (v := 1) C.x C.b dX2_goOn_65 (by decide) ?_
    refine lv_iadd C.x C.b dX2_goOn_66 ?_
    refine a_P C hS in_X2 tyX2 tyX2_ok nmX2 rfl (k := 11) (ci := 1) (by decide) q171 (fun _ h9 => h9) rfl rfl rfl dX2_goOn_67 hw (fun w15 H locs hw hS => ?_)
    refine a_aload C dX2_goOn_70 (lv_at hl 4 rfl) ?_
    refine a_ifnonnull (tgt := 87) C dX2_goOn_72 (by decide) (fun c16 => ?_) (fun c16 => ?_)
    · have hw := hw.2 c16
      refine a_aload C dX2_goOn_87 (lv_at hl 4 rfl) ?_
      exact kJ_X2_goOn_89 C _ _ _ _ _ _ hS (lv_sub hl [3] rfl) hw
    · have hw := hw.1 c16
      refine lv_aload_n C.x C.b dX2_goOn_75 rfl (lv_at hl 1 rfl) ?_
      refine a_R C hS in_X2 rfl (k := 0) (ci := 1) (by decide) q152 (fun _ h9 => h9) dX2_goOn_76 hw (fun r17 hw => ?_)
      obtain ⟨a18, e9, hw9⟩ := hw; subst e9; have hw := hw9; clear hw9
      have hl : lv_has ls 9 [(7, .int y0), (0, .ref x0), (3, .ref x3), (4, .ref x4), (6, va_rf x6)] := hl
      refine W.eq (g2 := F0 m 79 ls [.ref a18]) rfl ?_
      obtain ⟨fs, hq, hw⟩ := hw
      refine a_callV (rest := []) C hS hl 8 hq rfl (kJ_J2_size C.tr hw) q384 q373 q374 q81 q375 ny_J2_size rfl (Nat.le_of_ble_eq_true rfl) (Nat.le_of_ble_eq_true rfl) rfl (Nat.le_of_ble_eq_true rfl) dX2_goOn_79 (fun X1 w1 H1 l1 q1 ce hx => hx.elim) (fun v w19 H locs hq _ hS => ?_)
      obtain ⟨r20, rfl, hw⟩ := hq
      refine W.eq (g2 := F0 m 82 ls [.int r20]) rfl ?_
      refine a_A (t := 2) (atype := .boolean) C hS rfl (by decide) q412 dX2_goOn_82 hw (fun q21 w22 H hw hS => ?_)
      refine lv_goto (tgt := 89) C.x C.b dX2_goOn_84 (by decide) ?_
      exact kJ_X2_goOn_89 C _ _ _ _ _ _ hS (lv_sub hl [3] rfl) hw
  · have hw := hw.1 c13
    refine a_aload C dX2_goOn_57 (lv_at hl 4 rfl) ?_
    exact g_aret (r := x6) C (Or.inr ⟨_, rfl⟩) hS ⟨_, rfl, hw⟩ dX2_goOn_59
def wJ_X2_goOn (E : gE) (i0 : Nat) (i1 : Nat) (i2 : Int32) (i3 : Nat) (i4 : Nat) (i5 : Nat) (i6 : Option Nat) (Q : Option Nat → gW → Prop) (w : gW) : Prop :=
  aI E i1 5 4 (fun v1 => (v1 = 0 → (wJ_X2_goOn_42 E Q i0 i3 i4 i6 2 w)) ∧ (¬ v1 = 0 → (aR E i4 2 2 (fun r3 => ∃ a4 : Nat, r3 = some a4 ∧ (aI E a4 3 4 (fun v5 => (v5 = i2 → (wJ_X2_goOn_42 E Q i0 i3 i4 i6 0 w)) ∧ (¬ v5 = i2 → (aDf E "BridgeAuction$Network" 249 "BridgeAuction$Bridge" "BridgeAuction$Ranked" (⟨"BridgeAuction$Bridge", "comesBefore", "(LBridgeAuction$Ranked;)Z"⟩ : MethodName) yX8_comesBefore ∧ (aKind E i4 2 (wJ_X8_comesBefore E i4 i5 (fun r8 w7 => (r8 = 0 → (wJ_X2_goOn_42 E Q i0 i3 i4 i6 2 w7)) ∧ (¬ r8 = 0 → (wJ_X2_goOn_42 E Q i0 i3 i4 i6 1 w7))) w) w)))) w)) w))) w
theorem kJ_X2_goOn_r (C : gC p l s m args meth c cX2_goOn 9 (some (.array .boolean)) RX2 E [] "goOn") (i0 : Nat) (i1 : Nat) (i2 : Int32) (i3 : Nat) (i4 : Nat) (i5 : Nat) (i6 : Option Nat) {Q : Option Nat → gW → Prop} (w : gW) (H : Heap) (locs : List Loc) (ls : Array Slot) (hS : gS E w0 w H locs) (hl : lv_has ls 9 [(0, .ref i0), (1, .ref i1), (2, .int i2), (3, .ref i3), (4, .ref i4), (5, .ref i5), (6, va_rf i6)]) (hw : wJ_X2_goOn E i0 i1 i2 i3 i4 i5 i6 Q w) : gGo p l e s m args below meth c H locs 4 82 E w0 w (gR Q) (gNoX) (F0 m 0 ls []) := by
  unfold wJ_X2_goOn at hw
  refine lv_aload_n C.x C.b dX2_goOn_0 rfl (lv_at hl 1 rfl) ?_
  refine a_IN C hS in_X6 rfl (k := 4) (ci := 5) (by decide) q946 (fun _ h9 => h9) dX2_goOn_1 hw (fun v1 hw => ?_)
  refine lv_if_ne (tgt := 11) C.x C.b dX2_goOn_4 (by decide) (fun c2 => ?_) (fun c2 => ?_)
  · have hw := hw.2 c2
    refine lv_aload C.x C.b dX2_goOn_11 (lv_at hl 4 rfl) ?_
    refine a_RN C hS in_X3 rfl (k := 2) (ci := 2) (by decide) q262 (fun _ h9 => h9) dX2_goOn_13 hw (fun r3 hw => ?_)
    obtain ⟨a4, e9, hw9⟩ := hw; subst e9; have hw := hw9; clear hw9
    have hl : lv_has ls 9 [(0, .ref i0), (1, .ref i1), (2, .int i2), (3, .ref i3), (4, .ref i4), (5, .ref i5), (6, va_rf i6)] := hl
    refine W.eq (g2 := F0 m 16 ls [.ref a4]) rfl ?_
    refine a_IN C hS in_X4 rfl (k := 4) (ci := 3) (by decide) q238 (fun _ h9 => h9) dX2_goOn_16 hw (fun v5 hw => ?_)
    refine lv_iload_n C.x C.b dX2_goOn_19 rfl (lv_at hl 2 rfl) ?_
    refine lv_icmp_ne (tgt := 27) C.x C.b dX2_goOn_20 (by decide) (fun c6 => ?_) (fun c6 => ?_)
    · have hw := hw.2 c6
      refine lv_aload C.x C.b dX2_goOn_27 (lv_at hl 4 rfl) ?_
      refine lv_aload C.x C.b dX2_goOn_29 (lv_at hl 5 rfl) ?_
      obtain ⟨hdf, fs, hq, hw⟩ := hw
      refine a_callVD (x := (⟨"BridgeAuction$Bridge", "comesBefore", "(LBridgeAuction$Ranked;)Z"⟩ : MethodName)) (owner := "BridgeAuction$Ranked") (rest := []) C hS hl 2 hq rfl (kJ_X8_comesBefore C.tr hw) hdf q1086 ⟨by decide, by decide⟩ q1088 q101 q1090 (by decide +kernel : gNm (⟨"BridgeAuction$Bridge", "comesBefore", "(LBridgeAuction$Ranked;)Z"⟩ : MethodName) 1 = true) rfl (Nat.le_of_ble_eq_true rfl) (Nat.le_of_ble_eq_true rfl) rfl (Nat.le_of_ble_eq_true rfl) dX2_goOn_31 (fun X1 w1 H1 l1 q1 ce hx => hx.elim) (fun v w7 H locs hq _ hS => ?_)
      obtain ⟨r8, rfl, hw⟩ := hq
      refine W.eq (g2 := F0 m 34 ls [.int r8]) rfl ?_
      refine lv_if_eq (tgt := 41) C.x C.b dX2_goOn_34 (by decide) (fun c9 => ?_) (fun c9 => ?_)
      · have hw := hw.1 c9
        refine lv_iconst (v := 2) C.x C.b dX2_goOn_41 (by decide) ?_
        exact kJ_X2_goOn_42 C _ _ _ _ _ _ _ _ _ hS (lv_sub hl [0, 3, 4, 6] rfl) hw
      · have hw := hw.2 c9
        refine lv_iconst (v := 1) C.x C.b dX2_goOn_37 (by decide) ?_
        refine lv_goto (tgt := 42) C.x C.b dX2_goOn_38 (by decide) ?_
        exact kJ_X2_goOn_42 C _ _ _ _ _ _ _ _ _ hS (lv_sub hl [0, 3, 4, 6] rfl) hw
    · have hw := hw.1 c6
      refine lv_iconst (v := 0) C.x C.b dX2_goOn_23 (by decide) ?_
      refine lv_goto (tgt := 42) C.x C.b dX2_goOn_24 (by decide) ?_
      exact kJ_X2_goOn_42 C _ _ _ _ _ _ _ _ _ hS (lv_sub hl [0, 3, 4, 6] rfl) hw
  · have hw := hw.1 c2
    refine lv_iconst (v := 2) C.x C.b dX2_goOn_7 (by decide) ?_
    refine lv_goto (tgt := 42) C.x C.b dX2_goOn_8 (by decide) ?_
    exact kJ_X2_goOn_42 C _ _ _ _ _ _ _ _ _ hS (lv_sub hl [0, 3, 4, 6] rfl) hw
theorem ny_X2_goOn : gNm yX2_goOn 6 = true := by decide +kernel
theorem kJ_X2_goOn {l : Launch} (ht : l.stackTraces = false) {w : gW} {i0 : Nat} {i1 : Nat} {i2 : Int32} {i3 : Nat} {i4 : Nat} {i5 : Nat} {i6 : Option Nat} {Q : Option Nat → gW → Prop} (hw : wJ_X2_goOn E i0 i1 i2 i3 i4 i5 i6 Q w) : gMet l yX2_goOn (ws_ yX2_goOn cX2_goOn 9 (some (.array .boolean))) E w [.ref i0, .ref i1, .int i2, .ref i3, .ref i4, .ref i5, va_rf i6] 4 82 (gR Q) (gNoX) :=
  g_ofW ht (by decide) (by cases i6 <;> exact (Nat.le_of_ble_eq_true rfl)) (fun p e s m below meth c ls H C hl hS => kJ_X2_goOn_r C _ _ _ _ _ _ _ _ _ _ _ hS (by cases i6 <;> exact hl) hw)
def wJ_X2_flush_38 (E : gE) (K7 : Nat → Nat → Int32 → gW → Prop) (Q : gW → Prop) (x0 : Nat) (x1 : Nat) (x2 : Int32) (w : gW) : Prop :=
  K7 x0 x1 (x2 + 1) w
theorem kJ_X2_flush_38 (C : gC p l s m args meth c cX2_flush 3 none RX2 E [] "flush") {Q : gW → Prop} {K7 : Nat → Nat → Int32 → gW → Prop} (hK7 : ∀ (x0 : Nat) (x1 : Nat) (x2 : Int32) (w : gW) (H : Heap) (locs : List Loc) (ls : Array Slot), gS E w0 w H locs → lv_has ls 3 [(0, .ref x0), (1, .ref x1), (2, .int x2)] → K7 x0 x1 x2 w → gGo p l e s m args below meth c H locs 4 88 E w0 w (gV Q) (gNoX) (F0 m 7 ls [])) (x0 : Nat) (x1 : Nat) (x2 : Int32) (w : gW) (H : Heap) (locs : List Loc) (ls : Array Slot) (hS : gS E w0 w H locs) (hl : lv_has ls 3 [(0, .ref x0), (1, .ref x1), (2, .int x2)]) (hw : wJ_X2_flush_38 E K7 Q x0 x1 x2 w) : gGo p l e s m args below meth c H locs 4 88 E w0 w (gV Q) (gNoX) (F0 m 38 ls []) := by
  unfold wJ_X2_flush_38 at hw
  refine lv_iinc (v := (x2 + 1)) (lv' := [(2, .int (x2 + 1)), (0, .ref x0), (1, .ref x1)]) C.x C.b dX2_flush_38 hl (k := 2) rfl rfl (by decide) rfl (fun ls hl => ?_)
  refine lv_goto (tgt := 7) C.x C.b dX2_flush_41 (by decide) ?_
  exact hK7 _ _ _ _ _ _ _ hS (lv_sub hl [1, 2, 0] rfl) hw
def wJ_X2_flush_7 (E : gE) (Q : gW → Prop) : Nat → Nat → Nat → Int32 → gW → Prop
  | 0, _, _, _, _ => False
  | n + 1, x0, x1, x2, w => aR E x0 1 0 (fun r3 => ∃ a4 : Nat, r3 = some a4 ∧ (aKind E a4 8 (wJ_J2_size E a4 (fun r6 w5 => (r6 ≤ x2 → (Q w5)) ∧ (¬ r6 ≤ x2 → (aL E 2 x1 x2 (fun v8 => (v8 = 0 → (wJ_X2_flush_38 E (fun x0 x1 x2 w => wJ_X2_flush_7 E Q n x0 x1 x2 w) Q x0 x1 x2 w5)) ∧ (¬ v8 = 0 → (aR E x0 1 0 (fun r10 => ∃ a11 : Nat, r10 = some a11 ∧ (aKind E a11 8 (wJ_J2_get E a11 x2 (fun r13 w12 => ∃ a14 : Nat, r13 = some a14 ∧ (aKind E a14 2 (aKind E a14 2 (wJ_X3_flush E a14 (fun w15 => wJ_X2_flush_38 E (fun x0 x1 x2 w => wJ_X2_flush_7 E Q n x0 x1 x2 w) Q x0 x1 x2 w15) w12) w12) w12)) w5) w5)) w5))) w5))) w) w)) w
theorem kJ_X2_flush_7 (C : gC p l s m args meth c cX2_flush 3 none RX2 E [] "flush") {Q : gW → Prop} : ∀ (n : Nat) (x0 : Nat) (x1 : Nat) (x2 : Int32) (w : gW) (H : Heap) (locs : List Loc) (ls : Array Slot), gS E w0 w H locs → lv_has ls 3 [(0, .ref x0), (1, .ref x1), (2, .int x2)] → wJ_X2_flush_7 E Q n x0 x1 x2 w → gGo p l e s m args below meth c H locs 4 88 E w0 w (gV Q) (gNoX) (F0 m 7 ls []) := by
  intro n
  induction n with
  | zero =>
    intro x0 x1 x2 w H locs ls hS hl hw
    exact hw.elim
  | succ n ih =>
    intro x0 x1 x2 w H locs ls hS hl hw
    unfold wJ_X2_flush_7 at hw
    refine lv_iload_n C.x C.b dX2_flush_7 rfl (lv_at hl 2 rfl) ?_
    refine lv_aload_n C.x C.b dX2_flush_8 rfl (lv_at hl 0 rfl) ?_
    refine a_R C hS in_X2 rfl (k := 0) (ci := 1) (by decide) q152 (fun _ h9 => h9) dX2_flush_9 hw (fun r3 hw => ?_)
    obtain ⟨a4, e9, hw9⟩ := hw; subst e9; have hw := hw9; clear hw9
    have hl : lv_has ls 3 [(0, .ref x0), (1, .ref x1), (2, .int x2)] := hl
    refine W.eq (g2 := F0 m 12 ls [.ref a4, .int x2]) rfl ?_
    obtain ⟨fs, hq, hw⟩ := hw
    refine a_callV (rest := [.int x2]) C hS hl 8 hq rfl (kJ_J2_size C.tr hw) q384 q373 q374 q81 q375 ny_J2_size rfl (Nat.le_of_ble_eq_true rfl) (Nat.le_of_ble_eq_true rfl) rfl (Nat.le_of_ble_eq_true rfl) dX2_flush_12 (fun X1 w1 H1 l1 q1 ce hx => hx.elim) (fun v w5 H locs hq _ hS => ?_)
    obtain ⟨r6, rfl, hw⟩ := hq
    refine W.eq (g2 := F0 m 15 ls [.int r6, .int x2]) rfl ?_
    refine lv_icmp_ge (tgt := 44) C.x C.b dX2_flush_15 (by decide) (fun c7 => ?_) (fun c7 => ?_)
    · have hw := hw.1 c7
      exact g_vret C hS ⟨rfl, hw⟩ dX2_flush_44
    · have hw := hw.2 c7
      refine lv_aload_n C.x C.b dX2_flush_18 rfl (lv_at hl 1 rfl) ?_
      refine lv_iload_n C.x C.b dX2_flush_19 rfl (lv_at hl 2 rfl) ?_
      refine a_Lz C hS dX2_flush_20 hw (fun v8 hw => ?_)
      refine lv_if_eq (tgt := 38) C.x C.b dX2_flush_21 (by decide) (fun c9 => ?_) (fun c9 => ?_)
      · have hw := hw.1 c9
        exact kJ_X2_flush_38 C ih _ _ _ _ _ _ _ hS (lv_sub hl [0, 1, 2] rfl) hw
      · have hw := hw.2 c9
        refine lv_aload_n C.x C.b dX2_flush_24 rfl (lv_at hl 0 rfl) ?_
        refine a_R C hS in_X2 rfl (k := 0) (ci := 1) (by decide) q152 (fun _ h9 => h9) dX2_flush_25 hw (fun r10 hw => ?_)
        refine lv_iload_n C.x C.b dX2_flush_28 rfl (lv_at hl 2 rfl) ?_
        obtain ⟨a11, e9, hw9⟩ := hw; subst e9; have hw := hw9; clear hw9
        have hl : lv_has ls 3 [(0, .ref x0), (1, .ref x1), (2, .int x2)] := hl
        refine W.eq (g2 := F0 m 29 ls [.int x2, .ref a11]) rfl ?_
        obtain ⟨fs, hq, hw⟩ := hw
        refine a_callV (rest := []) C hS hl 8 hq rfl (kJ_J2_get C.tr hw) q389 q390 q391 q81 q392 ny_J2_get rfl (Nat.le_of_ble_eq_true rfl) (Nat.le_of_ble_eq_true rfl) rfl (Nat.le_of_ble_eq_true rfl) dX2_flush_29 (fun X1 w1 H1 l1 q1 ce hx => hx.elim) (fun v w12 H locs hq _ hS => ?_)
        obtain ⟨r13, rfl, hw⟩ := hq
        refine W.eq (g2 := F0 m 32 ls [va_rf r13]) rfl ?_
        obtain ⟨a14, e9, hw9⟩ := hw; subst e9; have hw := hw9; clear hw9
        have hl : lv_has ls 3 [(0, .ref x0), (1, .ref x1), (2, .int x2)] := hl
        refine W.eq (g2 := F0 m 32 ls [.ref a14]) rfl ?_
        refine a_cast (ci := 2) C hS rfl q207 dX2_flush_32 hw (fun hw => ?_)
        obtain ⟨fs, hq, hw⟩ := hw
        refine a_callV (rest := []) C hS hl 2 hq rfl (kJ_X3_flush C.tr hw) q1150 q251 q252 q82 q253 ny_X3_flush rfl (Nat.le_of_ble_eq_true rfl) (Nat.le_of_ble_eq_true rfl) rfl (Nat.le_of_ble_eq_true rfl) dX2_flush_35 (fun X1 w1 H1 l1 q1 ce hx => hx.elim) (fun v w15 H locs hq _ hS => ?_)
        obtain ⟨rfl, hw⟩ := hq
        refine W.eq (g2 := F0 m 38 ls []) rfl ?_
        exact kJ_X2_flush_38 C ih _ _ _ _ _ _ _ hS (lv_sub hl [0, 1, 2] rfl) hw
def wJ_X2_flush (E : gE) (i0 : Nat) (i1 : Nat) (Q : gW → Prop) (w : gW) : Prop :=
  aKind E i0 1 (wJ_X2_spread E i0 i1 (fun w1 => ∃ k2 : Nat, wJ_X2_flush_7 E Q k2 i0 i1 0 w1) w) w
theorem kJ_X2_flush_r (C : gC p l s m args meth c cX2_flush 3 none RX2 E [] "flush") (i0 : Nat) (i1 : Nat) {Q : gW → Prop} (w : gW) (H : Heap) (locs : List Loc) (ls : Array Slot) (hS : gS E w0 w H locs) (hl : lv_has ls 3 [(0, .ref i0), (1, .ref i1)]) (hw : wJ_X2_flush E i0 i1 Q w) : gGo p l e s m args below meth c H locs 4 88 E w0 w (gV Q) (gNoX) (F0 m 0 ls []) := by
  unfold wJ_X2_flush at hw
  refine lv_aload_n C.x C.b dX2_flush_0 rfl (lv_at hl 0 rfl) ?_
  refine lv_aload_n C.x C.b dX2_flush_1 rfl (lv_at hl 1 rfl) ?_
  obtain ⟨fs, hq, hw⟩ := hw
  refine a_callV (rest := []) C hS hl 1 hq rfl (kJ_X2_spread C.tr hw) q385 q387 qs3 q78 q388 ny_X2_spread rfl (Nat.le_of_ble_eq_true rfl) (Nat.le_of_ble_eq_true rfl) rfl (Nat.le_of_ble_eq_true rfl) dX2_flush_2 (fun X1 w1 H1 l1 q1 ce hx => hx.elim) (fun v w1 H locs hq _ hS => ?_)
  obtain ⟨rfl, hw⟩ := hq
  refine W.eq (g2 := F0 m 5 ls []) rfl ?_
  refine lv_iconst (v := 0) C.x C.b dX2_flush_5 (by decide) ?_
  refine lv_istore_n (lv' := [(2, .int 0), (0, .ref i0), (1, .ref i1)]) C.x C.b dX2_flush_6 rfl hl (by decide) rfl (fun ls hl => ?_)
  obtain ⟨k2, hw⟩ := hw
  exact kJ_X2_flush_7 C k2 _ _ _ _ _ _ _ hS (lv_sub hl [1, 2, 0] rfl) hw
theorem ny_X2_flush : gNm yX2_flush 1 = true := by decide +kernel
theorem kJ_X2_flush {l : Launch} (ht : l.stackTraces = false) {w : gW} {i0 : Nat} {i1 : Nat} {Q : gW → Prop} (hw : wJ_X2_flush E i0 i1 Q w) : gMet l yX2_flush (ws_ yX2_flush cX2_flush 3 none) E w [.ref i0, .ref i1] 4 88 (gV Q) (gNoX) :=
  g_ofW ht (by decide) (Nat.le_of_ble_eq_true rfl) (fun p e s m below meth c ls H C hl hS => kJ_X2_flush_r C _ _ _ _ _ _ hS hl hw)
def wJ_X2_tickOnce_125 (E : gE) (Q : gW → Prop) : Nat → Nat → Option Nat → Int32 → gW → Prop
  | 0, _, _, _, _ => False
  | n + 1, x0, x1, x2, w => aR E x0 1 1 (fun r45 => ∃ a46 : Nat, r45 = some a46 ∧ (aKind E a46 8 (wJ_J2_size E a46 (fun r48 w47 => (r48 ≤ x2 → ((x1 = none → (Q w47)) ∧ (¬ x1 = none → (∃ a51 : Nat, x1 = some a51 ∧ (aKind E x0 1 (wJ_X2_flush E x0 a51 (fun w52 => Q w52) w47) w47))))) ∧ (¬ r48 ≤ x2 → (aR E x0 1 1 (fun r53 => ∃ a54 : Nat, r53 = some a54 ∧ (aKind E a54 8 (wJ_J2_get E a54 x2 (fun r56 w55 => ∃ a57 : Nat, r56 = some a57 ∧ (aKind E a57 5 (aR E a57 5 9 (fun r58 => aR E x0 1 0 (fun r59 => aI E a57 5 0 (fun v60 => ∃ a61 : Nat, r59 = some a61 ∧ (aKind E a61 8 (wJ_J2_get E a61 v60 (fun r63 w62 => ∃ a64 : Nat, r63 = some a64 ∧ (aKind E a64 2 (aR E x0 1 0 (fun r65 => aI E a57 5 1 (fun v66 => ∃ a67 : Nat, r65 = some a67 ∧ (aKind E a67 8 (wJ_J2_get E a67 v66 (fun r69 w68 => ∃ a70 : Nat, r69 = some a70 ∧ (aKind E a70 2 (∃ a71 : Nat, r58 = some a71 ∧ (aKind E x0 1 (wJ_X2_goOn E x0 a57 x2 a71 a64 a70 x1 (fun r73 w72 => aR E a57 5 10 (fun r74 => aR E x0 1 0 (fun r75 => aI E a57 5 1 (fun v76 => ∃ a77 : Nat, r75 = some a77 ∧ (aKind E a77 8 (wJ_J2_get E a77 v76 (fun r79 w78 => ∃ a80 : Nat, r79 = some a80 ∧ (aKind E a80 2 (aR E x0 1 0 (fun r81 => aI E a57 5 0 (fun v82 => ∃ a83 : Nat, r81 = some a83 ∧ (aKind E a83 8 (wJ_J2_get E a83 v82 (fun r85 w84 => ∃ a86 : Nat, r85 = some a86 ∧ (aKind E a86 2 (∃ a87 : Nat, r74 = some a87 ∧ (aKind E x0 1 (wJ_X2_goOn E x0 a57 x2 a87 a80 a86 r73 (fun r89 w88 => wJ_X2_tickOnce_125 E Q n x0 r89 (x2 + 1) w88) w84) w84)) w84)) w78) w78)) w78) w78) w78)) w72) w72)) w72) w72) w72) w68) w68)) w68)) w62) w62)) w62) w62) w62)) w55) w55)) w55) w55) w55) w55)) w47) w47)) w47))) w) w)) w
theorem kJ_X2_tickOnce_125 (C : gC p l s m args meth c cX2_tickOnce 4 none RX2 E [] "tickOnce") {Q : gW → Prop} : ∀ (n : Nat) (x0 : Nat) (x1 : Option Nat) (x2 : Int32) (w : gW) (H : Heap) (locs : List Loc) (ls : Array Slot), gS E w0 w H locs → lv_has ls 4 [(0, .ref x0), (1, va_rf x1), (2, .int x2)] → wJ_X2_tickOnce_125 E Q n x0 x1 x2 w → gGo p l e s m args below meth c H locs 5 110 E w0 w (gV Q) (gNoX) (F0 m 125 ls []) := by
  intro n
  induction n with
  | zero =>
    intro x0 x1 x2 w H locs ls hS hl hw
    exact hw.elim
  | succ n ih =>
    intro x0 x1 x2 w H locs ls hS hl hw
    unfold wJ_X2_tickOnce_125 at hw
    refine lv_iload_n C.x C.b dX2_tickOnce_125 rfl (lv_at hl 2 rfl) ?_
    refine lv_aload_n C.x C.b dX2_tickOnce_126 rfl (lv_at hl 0 rfl) ?_
    refine a_R C hS in_X2 rfl (k := 1) (ci := 1) (by decide) q154 (fun _ h9 => h9) dX2_tickOnce_127 hw (fun r45 hw => ?_)
    obtain ⟨a46, e9, hw9⟩ := hw; subst e9; have hw := hw9; clear hw9
    have hl : lv_has ls 4 [(0, .ref x0), (1, va_rf x1), (2, .int x2)] := hl
    refine W.eq (g2 := F0 m 130 ls [.ref a46, .int x2]) rfl ?_
    obtain ⟨fs, hq, hw⟩ := hw
    refine a_callV (rest := [.int x2]) C hS hl 8 hq rfl (kJ_J2_size C.tr hw) q384 q373 q374 q81 q375 ny_J2_size rfl (Nat.le_of_ble_eq_true rfl) (Nat.le_of_ble_eq_true rfl) rfl (Nat.le_of_ble_eq_true rfl) dX2_tickOnce_130 (fun X1 w1 H1 l1 q1 ce hx => hx.elim) (fun v w47 H locs hq _ hS => ?_)
    obtain ⟨r48, rfl, hw⟩ := hq
    refine W.eq (g2 := F0 m 133 ls [.int r48, .int x2]) rfl ?_
    refine lv_icmp_ge (tgt := 234) C.x C.b dX2_tickOnce_133 (by decide) (fun c49 => ?_) (fun c49 => ?_)
    · have hw := hw.1 c49
      refine a_aload_n C dX2_tickOnce_234 rfl (lv_at hl 1 rfl) ?_
      refine a_ifnull (tgt := 243) C dX2_tickOnce_235 (by decide) (fun c50 => ?_) (fun c50 => ?_)
      · have hw := hw.1 c50
        exact g_vret C hS ⟨rfl, hw⟩ dX2_tickOnce_243
      · have hw := hw.2 c50
        refine lv_aload_n C.x C.b dX2_tickOnce_238 rfl (lv_at hl 0 rfl) ?_
        refine a_aload_n C dX2_tickOnce_239 rfl (lv_at hl 1 rfl) ?_
        obtain ⟨a51, e9, hw9⟩ := hw; subst e9; have hw := hw9; clear hw9
        have hl : lv_has ls 4 [(0, .ref x0), (1, .ref a51), (2, .int x2)] := hl
        refine W.eq (g2 := F0 m 240 ls [.ref a51, .ref x0]) rfl ?_
        obtain ⟨fs, hq, hw⟩ := hw
        refine a_callV (rest := []) C hS hl 1 hq rfl (kJ_X2_flush C.tr hw) q1146 q1148 qs15 q78 q1149 ny_X2_flush rfl (Nat.le_of_ble_eq_true rfl) (Nat.le_of_ble_eq_true rfl) rfl (Nat.le_of_ble_eq_true rfl) dX2_tickOnce_240 (fun X1 w1 H1 l1 q1 ce hx => hx.elim) (fun v w52 H locs hq _ hS => ?_)
        obtain ⟨rfl, hw⟩ := hq
        refine W.eq (g2 := F0 m 243 ls []) rfl ?_
        exact g_vret C hS ⟨rfl, hw⟩ dX2_tickOnce_243
    · have hw := hw.2 c49
      refine lv_aload_n C.x C.b dX2_tickOnce_136 rfl (lv_at hl 0 rfl) ?_
      refine a_R C hS in_X2 rfl (k := 1) (ci := 1) (by decide) q154 (fun _ h9 => h9) dX2_tickOnce_137 hw (fun r53 hw => ?_)
      refine lv_iload_n C.x C.b dX2_tickOnce_140 rfl (lv_at hl 2 rfl) ?_
      obtain ⟨a54, e9, hw9⟩ := hw; subst e9; have hw := hw9; clear hw9
      have hl : lv_has ls 4 [(0, .ref x0), (1, va_rf x1), (2, .int x2)] := hl
      refine W.eq (g2 := F0 m 141 ls [.int x2, .ref a54]) rfl ?_
      obtain ⟨fs, hq, hw⟩ := hw
      refine a_callV (rest := []) C hS hl 8 hq rfl (kJ_J2_get C.tr hw) q389 q390 q391 q81 q392 ny_J2_get rfl (Nat.le_of_ble_eq_true rfl) (Nat.le_of_ble_eq_true rfl) rfl (Nat.le_of_ble_eq_true rfl) dX2_tickOnce_141 (fun X1 w1 H1 l1 q1 ce hx => hx.elim) (fun v w55 H locs hq _ hS => ?_)
      obtain ⟨r56, rfl, hw⟩ := hq
      refine W.eq (g2 := F0 m 144 ls [va_rf r56]) rfl ?_
      obtain ⟨a57, e9, hw9⟩ := hw; subst e9; have hw := hw9; clear hw9
      have hl : lv_has ls 4 [(0, .ref x0), (1, va_rf x1), (2, .int x2)] := hl
      refine W.eq (g2 := F0 m 144 ls [.ref a57]) rfl ?_
      refine a_cast (ci := 5) C hS rfl q403 dX2_tickOnce_144 hw (fun hw => ?_)
      refine lv_astore_n (lv' := [(3, .ref a57), (0, .ref x0), (1, va_rf x1), (2, .int x2)]) C.x C.b dX2_tickOnce_147 rfl hl (by decide) (by cases x1 <;> rfl) (fun ls hl => ?_)
      refine lv_aload_n C.x C.b dX2_tickOnce_148 rfl (lv_at hl 1 rfl) ?_
      refine lv_aload_n C.x C.b dX2_tickOnce_149 rfl (lv_at hl 0 rfl) ?_
      refine lv_iload_n C.x C.b dX2_tickOnce_150 rfl (lv_at hl 3 rfl) ?_
      refine lv_aload_n C.x C.b dX2_tickOnce_151 rfl (lv_at hl 0 rfl) ?_
      refine a_RN C hS in_X6 rfl (k := 9) (ci := 5) (by decide) q956 (fun _ h9 => h9) dX2_tickOnce_152 hw (fun r58 hw => ?_)
      refine lv_aload_n C.x C.b dX2_tickOnce_155 rfl (lv_at hl 1 rfl) ?_
      refine a_R C hS in_X2 rfl (k := 0) (ci := 1) (by decide) q152 (fun _ h9 => h9) dX2_tickOnce_156 hw (fun r59 hw => ?_)
      refine lv_aload_n C.x C.b dX2_tickOnce_159 rfl (lv_at hl 0 rfl) ?_
      refine a_IN C hS in_X6 rfl (k := 0) (ci := 5) (by decide) q939 (fun _ h9 => h9) dX2_tickOnce_160 hw (fun v60 hw => ?_)
      obtain ⟨a61, e9, hw9⟩ := hw; subst e9; have hw := hw9; clear hw9
      have hl : lv_has ls 4 [(3, .ref a57), (0, .ref x0), (1, va_rf x1), (2, .int x2)] := hl
      refine W.eq (g2 := F0 m 163 ls [.int v60, .ref a61, va_rf r58, .int x2, .ref a57, .ref x0]) rfl ?_
      obtain ⟨fs, hq, hw⟩ := hw
      refine a_callV (rest := [va_rf r58, .int x2, .ref a57, .ref x0]) C hS hl 8 hq rfl (kJ_J2_get C.tr hw) q389 q390 q391 q81 q392 ny_J2_get rfl (Nat.le_of_ble_eq_true rfl) (Nat.le_of_ble_eq_true rfl) rfl (by cases r58 <;> exact (Nat.le_of_ble_eq_true rfl)) dX2_tickOnce_163 (fun X1 w1 H1 l1 q1 ce hx => hx.elim) (fun v w62 H locs hq _ hS => ?_)
      obtain ⟨r63, rfl, hw⟩ := hq
      refine W.eq (g2 := F0 m 166 ls [va_rf r63, va_rf r58, .int x2, .ref a57, .ref x0]) rfl ?_
      obtain ⟨a64, e9, hw9⟩ := hw; subst e9; have hw := hw9; clear hw9
      have hl : lv_has ls 4 [(3, .ref a57), (0, .ref x0), (1, va_rf x1), (2, .int x2)] := hl
      refine W.eq (g2 := F0 m 166 ls [.ref a64, va_rf r58, .int x2, .ref a57, .ref x0]) rfl ?_
      refine a_cast (ci := 2) C hS rfl q207 dX2_tickOnce_166 hw (fun hw => ?_)
      refine lv_aload_n C.x C.b dX2_tickOnce_169 rfl (lv_at hl 1 rfl) ?_
      refine a_R C hS in_X2 rfl (k := 0) (ci := 1) (by decide) q152 (fun _ h9 => h9) dX2_tickOnce_170 hw (fun r65 hw => ?_)
      refine lv_aload_n C.x C.b dX2_tickOnce_173 rfl (lv_at hl 0 rfl) ?_
      refine a_IN C hS in_X6 rfl (k := 1) (ci := 5) (by decide) q941 (fun _ h9 => h9) dX2_tickOnce_174 hw (fun v66 hw => ?_)
      obtain ⟨a67, e9, hw9⟩ := hw; subst e9; have hw := hw9; clear hw9
      have hl : lv_has ls 4 [(3, .ref a57), (0, .ref x0), (1, va_rf x1), (2, .int x2)] := hl
      refine W.eq (g2 := F0 m 177 ls [.int v66, .ref a67, .ref a64, va_rf r58, .int x2, .ref a57, .ref x0]) rfl ?_
      obtain ⟨fs, hq, hw⟩ := hw
      refine a_callV (rest := [.ref a64, va_rf r58, .int x2, .ref a57, .ref x0]) C hS hl 8 hq rfl (kJ_J2_get C.tr hw) q389 q390 q391 q81 q392 ny_J2_get rfl (Nat.le_of_ble_eq_true rfl) (Nat.le_of_ble_eq_true rfl) rfl (by cases r58 <;> exact (Nat.le_of_ble_eq_true rfl)) dX2_tickOnce_177 (fun X1 w1 H1 l1 q1 ce hx => hx.elim) (fun v w68 H locs hq _ hS => ?_)
      obtain ⟨r69, rfl, hw⟩ := hq
      refine W.eq (g2 := F0 m 180 ls [va_rf r69, .ref a64, va_rf r58, .int x2, .ref a57, .ref x0]) rfl ?_
      obtain ⟨a70, e9, hw9⟩ := hw; subst e9; have hw := hw9; clear hw9
      have hl : lv_has ls 4 [(3, .ref a57), (0, .ref x0), (1, va_rf x1), (2, .int x2)] := hl
      refine W.eq (g2 := F0 m 180 ls [.ref a70, .ref a64, va_rf r58, .int x2, .ref a57, .ref x0]) rfl ?_
      refine a_cast (ci := 2) C hS rfl q207 dX2_tickOnce_180 hw (fun hw => ?_)
      refine a_aload_n C dX2_tickOnce_183 rfl (lv_at hl 2 rfl) ?_
      obtain ⟨a71, e9, hw9⟩ := hw; subst e9; have hw := hw9; clear hw9
      have hl : lv_has ls 4 [(3, .ref a57), (0, .ref x0), (1, va_rf x1), (2, .int x2)] := hl
      refine W.eq (g2 := F0 m 184 ls [va_rf x1, .ref a70, .ref a64, .ref a71, .int x2, .ref a57, .ref x0]) rfl ?_
      obtain ⟨fs, hq, hw⟩ := hw
      refine a_callV (rest := []) C hS hl 1 hq rfl (kJ_X2_goOn C.tr hw) q1082 q1084 qs13 q78 q1085 ny_X2_goOn rfl (Nat.le_of_ble_eq_true rfl) (Nat.le_of_ble_eq_true rfl) rfl (Nat.le_of_ble_eq_true rfl) dX2_tickOnce_184 (fun X1 w1 H1 l1 q1 ce hx => hx.elim) (fun v w72 H locs hq _ hS => ?_)
      obtain ⟨r73, rfl, hw⟩ := hq
      refine W.eq (g2 := F0 m 187 ls [va_rf r73]) rfl ?_
      refine a_astore_n (lv' := [(1, va_rf r73), (3, .ref a57), (0, .ref x0), (2, .int x2)]) C dX2_tickOnce_187 rfl hl (by decide) (by cases r73 <;> cases x1 <;> rfl) (fun ls hl => ?_)
      refine lv_aload_n C.x C.b dX2_tickOnce_188 rfl (lv_at hl 2 rfl) ?_
      refine lv_aload_n C.x C.b dX2_tickOnce_189 rfl (lv_at hl 1 rfl) ?_
      refine lv_iload_n C.x C.b dX2_tickOnce_190 rfl (lv_at hl 3 rfl) ?_
      refine lv_aload_n C.x C.b dX2_tickOnce_191 rfl (lv_at hl 1 rfl) ?_
      refine a_RN C hS in_X6 rfl (k := 10) (ci := 5) (by decide) q959 (fun _ h9 => h9) dX2_tickOnce_192 hw (fun r74 hw => ?_)
      refine lv_aload_n C.x C.b dX2_tickOnce_195 rfl (lv_at hl 2 rfl) ?_
      refine a_R C hS in_X2 rfl (k := 0) (ci := 1) (by decide) q152 (fun _ h9 => h9) dX2_tickOnce_196 hw (fun r75 hw => ?_)
      refine lv_aload_n C.x C.b dX2_tickOnce_199 rfl (lv_at hl 1 rfl) ?_
      refine a_IN C hS in_X6 rfl (k := 1) (ci := 5) (by decide) q941 (fun _ h9 => h9) dX2_tickOnce_200 hw (fun v76 hw => ?_)
      obtain ⟨a77, e9, hw9⟩ := hw; subst e9; have hw := hw9; clear hw9
      have hl : lv_has ls 4 [(1, va_rf r73), (3, .ref a57), (0, .ref x0), (2, .int x2)] := hl
      refine W.eq (g2 := F0 m 203 ls [.int v76, .ref a77, va_rf r74, .int x2, .ref a57, .ref x0]) rfl ?_
      obtain ⟨fs, hq, hw⟩ := hw
      refine a_callV (rest := [va_rf r74, .int x2, .ref a57, .ref x0]) C hS hl 8 hq rfl (kJ_J2_get C.tr hw) q389 q390 q391 q81 q392 ny_J2_get rfl (Nat.le_of_ble_eq_true rfl) (Nat.le_of_ble_eq_true rfl) rfl (by cases r74 <;> exact (Nat.le_of_ble_eq_true rfl)) dX2_tickOnce_203 (fun X1 w1 H1 l1 q1 ce hx => hx.elim) (fun v w78 H locs hq _ hS => ?_)
      obtain ⟨r79, rfl, hw⟩ := hq
      refine W.eq (g2 := F0 m 206 ls [va_rf r79, va_rf r74, .int x2, .ref a57, .ref x0]) rfl ?_
      obtain ⟨a80, e9, hw9⟩ := hw; subst e9; have hw := hw9; clear hw9
      have hl : lv_has ls 4 [(1, va_rf r73), (3, .ref a57), (0, .ref x0), (2, .int x2)] := hl
      refine W.eq (g2 := F0 m 206 ls [.ref a80, va_rf r74, .int x2, .ref a57, .ref x0]) rfl ?_
      refine a_cast (ci := 2) C hS rfl q207 dX2_tickOnce_206 hw (fun hw => ?_)
      refine lv_aload_n C.x C.b dX2_tickOnce_209 rfl (lv_at hl 2 rfl) ?_
      refine a_R C hS in_X2 rfl (k := 0) (ci := 1) (by decide) q152 (fun _ h9 => h9) dX2_tickOnce_210 hw (fun r81 hw => ?_)
      refine lv_aload_n C.x C.b dX2_tickOnce_213 rfl (lv_at hl 1 rfl) ?_
      refine a_IN C hS in_X6 rfl (k := 0) (ci := 5) (by decide) q939 (fun _ h9 => h9) dX2_tickOnce_214 hw (fun v82 hw => ?_)
      obtain ⟨a83, e9, hw9⟩ := hw; subst e9; have hw := hw9; clear hw9
      have hl : lv_has ls 4 [(1, va_rf r73), (3, .ref a57), (0, .ref x0), (2, .int x2)] := hl
      refine W.eq (g2 := F0 m 217 ls [.int v82, .ref a83, .ref a80, va_rf r74, .int x2, .ref a57, .ref x0]) rfl ?_
      obtain ⟨fs, hq, hw⟩ := hw
      refine a_callV (rest := [.ref a80, va_rf r74, .int x2, .ref a57, .ref x0]) C hS hl 8 hq rfl (kJ_J2_get C.tr hw) q389 q390 q391 q81 q392 ny_J2_get rfl (Nat.le_of_ble_eq_true rfl) (Nat.le_of_ble_eq_true rfl) rfl (by cases r74 <;> exact (Nat.le_of_ble_eq_true rfl)) dX2_tickOnce_217 (fun X1 w1 H1 l1 q1 ce hx => hx.elim) (fun v w84 H locs hq _ hS => ?_)
      obtain ⟨r85, rfl, hw⟩ := hq
      refine W.eq (g2 := F0 m 220 ls [va_rf r85, .ref a80, va_rf r74, .int x2, .ref a57, .ref x0]) rfl ?_
      obtain ⟨a86, e9, hw9⟩ := hw; subst e9; have hw := hw9; clear hw9
      have hl : lv_has ls 4 [(1, va_rf r73), (3, .ref a57), (0, .ref x0), (2, .int x2)] := hl
      refine W.eq (g2 := F0 m 220 ls [.ref a86, .ref a80, va_rf r74, .int x2, .ref a57, .ref x0]) rfl ?_
      refine a_cast (ci := 2) C hS rfl q207 dX2_tickOnce_220 hw (fun hw => ?_)
      refine a_aload_n C dX2_tickOnce_223 rfl (lv_at hl 0 rfl) ?_
      obtain ⟨a87, e9, hw9⟩ := hw; subst e9; have hw := hw9; clear hw9
      have hl : lv_has ls 4 [(1, va_rf r73), (3, .ref a57), (0, .ref x0), (2, .int x2)] := hl
      refine W.eq (g2 := F0 m 224 ls [va_rf r73, .ref a86, .ref a80, .ref a87, .int x2, .ref a57, .ref x0]) rfl ?_
      obtain ⟨fs, hq, hw⟩ := hw
      refine a_callV (rest := []) C hS hl 1 hq rfl (kJ_X2_goOn C.tr hw) q1082 q1084 qs13 q78 q1085 ny_X2_goOn rfl (Nat.le_of_ble_eq_true rfl) (Nat.le_of_ble_eq_true rfl) rfl (Nat.le_of_ble_eq_true rfl) dX2_tickOnce_224 (fun X1 w1 H1 l1 q1 ce hx => hx.elim) (fun v w88 H locs hq _ hS => ?_)
      obtain ⟨r89, rfl, hw⟩ := hq
      refine W.eq (g2 := F0 m 227 ls [va_rf r89]) rfl ?_
      refine a_astore_n (lv' := [(1, va_rf r89), (3, .ref a57), (0, .ref x0), (2, .int x2)]) C dX2_tickOnce_227 rfl hl (by decide) (by cases r73 <;> cases r89 <;> rfl) (fun ls hl => ?_)
      refine lv_iinc (v := (x2 + 1)) (lv' := [(2, .int (x2 + 1)), (1, va_rf r89), (3, .ref a57), (0, .ref x0)]) C.x C.b dX2_tickOnce_228 hl (k := 3) rfl rfl (by decide) (by cases r89 <;> rfl) (fun ls hl => ?_)
      refine lv_goto (tgt := 125) C.x C.b dX2_tickOnce_231 (by decide) ?_
      exact ih _ _ _ _ _ _ _ hS (lv_sub hl [3, 1, 0] rfl) hw
def wJ_X2_tickOnce_76 (E : gE) (Q : gW → Prop) : Nat → Nat → Int32 → gW → Prop
  | 0, _, _, _ => False
  | n + 1, x0, x1, w => aR E x0 1 0 (fun r27 => ∃ a28 : Nat, r27 = some a28 ∧ (aKind E a28 8 (wJ_J2_size E a28 (fun r30 w29 => (r30 ≤ x1 → (∃ k32 : Nat, wJ_X2_tickOnce_125 E Q k32 x0 none 0 w29)) ∧ (¬ r30 ≤ x1 → (aR E x0 1 0 (fun r33 => ∃ a34 : Nat, r33 = some a34 ∧ (aKind E a34 8 (wJ_J2_get E a34 x1 (fun r36 w35 => ∃ a37 : Nat, r36 = some a37 ∧ (aKind E a37 2 (aR E x0 1 0 (fun r38 => ∃ a39 : Nat, r38 = some a39 ∧ (aKind E a39 8 (wJ_J2_get E a39 x1 (fun r41 w40 => ∃ a42 : Nat, r41 = some a42 ∧ (aKind E a42 2 (aR E a42 2 3 (fun r43 => aP a37 2 2 (va_rf r43) (fun w44 => wJ_X2_tickOnce_76 E Q n x0 (x1 + 1) w44) w40) w40) w40)) w35) w35)) w35) w35)) w29) w29)) w29))) w) w)) w
theorem kJ_X2_tickOnce_76 (C : gC p l s m args meth c cX2_tickOnce 4 none RX2 E [] "tickOnce") {Q : gW → Prop} : ∀ (n : Nat) (x0 : Nat) (x1 : Int32) (w : gW) (H : Heap) (locs : List Loc) (ls : Array Slot), gS E w0 w H locs → lv_has ls 4 [(0, .ref x0), (1, .int x1)] → wJ_X2_tickOnce_76 E Q n x0 x1 w → gGo p l e s m args below meth c H locs 5 110 E w0 w (gV Q) (gNoX) (F0 m 76 ls []) := by
  intro n
  induction n with
  | zero =>
    intro x0 x1 w H locs ls hS hl hw
    exact hw.elim
  | succ n ih =>
    intro x0 x1 w H locs ls hS hl hw
    unfold wJ_X2_tickOnce_76 at hw
    refine lv_iload_n C.x C.b dX2_tickOnce_76 rfl (lv_at hl 1 rfl) ?_
    refine lv_aload_n C.x C.b dX2_tickOnce_77 rfl (lv_at hl 0 rfl) ?_
    refine a_R C hS in_X2 rfl (k := 0) (ci := 1) (by decide) q152 (fun _ h9 => h9) dX2_tickOnce_78 hw (fun r27 hw => ?_)
    obtain ⟨a28, e9, hw9⟩ := hw; subst e9; have hw := hw9; clear hw9
    have hl : lv_has ls 4 [(0, .ref x0), (1, .int x1)] := hl
    refine W.eq (g2 := F0 m 81 ls [.ref a28, .int x1]) rfl ?_
    obtain ⟨fs, hq, hw⟩ := hw
    refine a_callV (rest := [.int x1]) C hS hl 8 hq rfl (kJ_J2_size C.tr hw) q384 q373 q374 q81 q375 ny_J2_size rfl (Nat.le_of_ble_eq_true rfl) (Nat.le_of_ble_eq_true rfl) rfl (Nat.le_of_ble_eq_true rfl) dX2_tickOnce_81 (fun X1 w1 H1 l1 q1 ce hx => hx.elim) (fun v w29 H locs hq _ hS => ?_)
    obtain ⟨r30, rfl, hw⟩ := hq
    refine W.eq (g2 := F0 m 84 ls [.int r30, .int x1]) rfl ?_
    refine lv_icmp_ge (tgt := 121) C.x C.b dX2_tickOnce_84 (by decide) (fun c31 => ?_) (fun c31 => ?_)
    · have hw := hw.1 c31
      refine lv_null C.x C.b dX2_tickOnce_121 ?_
      refine lv_astore_nN (lv' := [(1, .null), (0, .ref x0)]) C.x C.b dX2_tickOnce_122 rfl hl (by decide) rfl (fun ls hl => ?_)
      refine lv_iconst (v := 0) C.x C.b dX2_tickOnce_123 (by decide) ?_
      refine lv_istore_n (lv' := [(2, .int 0), (1, .null), (0, .ref x0)]) C.x C.b dX2_tickOnce_124 rfl hl (by decide) rfl (fun ls hl => ?_)
      obtain ⟨k32, hw⟩ := hw
      exact kJ_X2_tickOnce_125 C k32 _ _ _ _ _ _ _ hS (lv_sub hl [2, 1, 0] rfl) hw
    · have hw := hw.2 c31
      refine lv_aload_n C.x C.b dX2_tickOnce_87 rfl (lv_at hl 0 rfl) ?_
      refine a_R C hS in_X2 rfl (k := 0) (ci := 1) (by decide) q152 (fun _ h9 => h9) dX2_tickOnce_88 hw (fun r33 hw => ?_)
      refine lv_iload_n C.x C.b dX2_tickOnce_91 rfl (lv_at hl 1 rfl) ?_
      obtain ⟨a34, e9, hw9⟩ := hw; subst e9; have hw := hw9; clear hw9
      have hl : lv_has ls 4 [(0, .ref x0), (1, .int x1)] := hl
      refine W.eq (g2 := F0 m 92 ls [.int x1, .ref a34]) rfl ?_
      obtain ⟨fs, hq, hw⟩ := hw
      refine a_callV (rest := []) C hS hl 8 hq rfl (kJ_J2_get C.tr hw) q389 q390 q391 q81 q392 ny_J2_get rfl (Nat.le_of_ble_eq_true rfl) (Nat.le_of_ble_eq_true rfl) rfl (Nat.le_of_ble_eq_true rfl) dX2_tickOnce_92 (fun X1 w1 H1 l1 q1 ce hx => hx.elim) (fun v w35 H locs hq _ hS => ?_)
      obtain ⟨r36, rfl, hw⟩ := hq
      refine W.eq (g2 := F0 m 95 ls [va_rf r36]) rfl ?_
      obtain ⟨a37, e9, hw9⟩ := hw; subst e9; have hw := hw9; clear hw9
      have hl : lv_has ls 4 [(0, .ref x0), (1, .int x1)] := hl
      refine W.eq (g2 := F0 m 95 ls [.ref a37]) rfl ?_
      refine a_cast (ci := 2) C hS rfl q207 dX2_tickOnce_95 hw (fun hw => ?_)
      refine lv_aload_n C.x C.b dX2_tickOnce_98 rfl (lv_at hl 0 rfl) ?_
      refine a_R C hS in_X2 rfl (k := 0) (ci := 1) (by decide) q152 (fun _ h9 => h9) dX2_tickOnce_99 hw (fun r38 hw => ?_)
      refine lv_iload_n C.x C.b dX2_tickOnce_102 rfl (lv_at hl 1 rfl) ?_
      obtain ⟨a39, e9, hw9⟩ := hw; subst e9; have hw := hw9; clear hw9
      have hl : lv_has ls 4 [(0, .ref x0), (1, .int x1)] := hl
      refine W.eq (g2 := F0 m 103 ls [.int x1, .ref a39, .ref a37]) rfl ?_
      obtain ⟨fs, hq, hw⟩ := hw
      refine a_callV (rest := [.ref a37]) C hS hl 8 hq rfl (kJ_J2_get C.tr hw) q389 q390 q391 q81 q392 ny_J2_get rfl (Nat.le_of_ble_eq_true rfl) (Nat.le_of_ble_eq_true rfl) rfl (Nat.le_of_ble_eq_true rfl) dX2_tickOnce_103 (fun X1 w1 H1 l1 q1 ce hx => hx.elim) (fun v w40 H locs hq _ hS => ?_)
      obtain ⟨r41, rfl, hw⟩ := hq
      refine W.eq (g2 := F0 m 106 ls [va_rf r41, .ref a37]) rfl ?_
      obtain ⟨a42, e9, hw9⟩ := hw; subst e9; have hw := hw9; clear hw9
      have hl : lv_has ls 4 [(0, .ref x0), (1, .int x1)] := hl
      refine W.eq (g2 := F0 m 106 ls [.ref a42, .ref a37]) rfl ?_
      refine a_cast (ci := 2) C hS rfl q207 dX2_tickOnce_106 hw (fun hw => ?_)
      refine a_RN C hS in_X3 rfl (k := 3) (ci := 2) (by decide) q263 (fun _ h9 => h9) dX2_tickOnce_109 hw (fun r43 hw => ?_)
      refine a_PN C hS in_X3 tyX3 tyX3_ok nmX3 rfl (k := 2) (ci := 2) (by decide) q262 (fun _ h9 => h9) rfl va_rf_nar va_rf_fit dX2_tickOnce_112 hw (fun w44 H locs hw hS => ?_)
      refine lv_iinc (v := (x1 + 1)) (lv' := [(1, .int (x1 + 1)), (0, .ref x0)]) C.x C.b dX2_tickOnce_115 hl (k := 1) rfl rfl (by decide) rfl (fun ls hl => ?_)
      refine lv_goto (tgt := 76) C.x C.b dX2_tickOnce_118 (by decide) ?_
      exact ih _ _ _ _ _ _ hS (lv_sub hl [1, 0] rfl) hw
def wJ_X2_tickOnce_28 (E : gE) (Q : gW → Prop) : Nat → Nat → Int32 → gW → Prop
  | 0, _, _, _ => False
  | n + 1, x0, x1, w => aR E x0 1 0 (fun r8 => ∃ a9 : Nat, r8 = some a9 ∧ (aKind E a9 8 (wJ_J2_size E a9 (fun r11 w10 => (r11 ≤ x1 → (∃ k13 : Nat, wJ_X2_tickOnce_76 E Q k13 x0 0 w10)) ∧ (¬ r11 ≤ x1 → (aR E x0 1 0 (fun r14 => ∃ a15 : Nat, r14 = some a15 ∧ (aKind E a15 8 (wJ_J2_get E a15 x1 (fun r17 w16 => ∃ a18 : Nat, r17 = some a18 ∧ (aKind E a18 2 (aR E x0 1 0 (fun r19 => ∃ a20 : Nat, r19 = some a20 ∧ (aKind E a20 8 (wJ_J2_get E a20 x1 (fun r22 w21 => ∃ a23 : Nat, r22 = some a23 ∧ (aKind E a23 2 (aKind E x0 1 (wJ_X2_findVector E x0 a23 (fun r25 w24 => aP a18 2 3 (va_rf r25) (fun w26 => wJ_X2_tickOnce_28 E Q n x0 (x1 + 1) w26) w24) w21) w21) w21)) w16) w16)) w16) w16)) w10) w10)) w10))) w) w)) w
theorem kJ_X2_tickOnce_28 (C : gC p l s m args meth c cX2_tickOnce 4 none RX2 E [] "tickOnce") {Q : gW → Prop} : ∀ (n : Nat) (x0 : Nat) (x1 : Int32) (w : gW) (H : Heap) (locs : List Loc) (ls : Array Slot), gS E w0 w H locs → lv_has ls 4 [(0, .ref x0), (1, .int x1)] → wJ_X2_tickOnce_28 E Q n x0 x1 w → gGo p l e s m args below meth c H locs 5 110 E w0 w (gV Q) (gNoX) (F0 m 28 ls []) := by
  intro n
  induction n with
  | zero =>
    intro x0 x1 w H locs ls hS hl hw
    exact hw.elim
  | succ n ih =>
    intro x0 x1 w H locs ls hS hl hw
    unfold wJ_X2_tickOnce_28 at hw
    refine lv_iload_n C.x C.b dX2_tickOnce_28 rfl (lv_at hl 1 rfl) ?_
    refine lv_aload_n C.x C.b dX2_tickOnce_29 rfl (lv_at hl 0 rfl) ?_
    refine a_R C hS in_X2 rfl (k := 0) (ci := 1) (by decide) q152 (fun _ h9 => h9) dX2_tickOnce_30 hw (fun r8 hw => ?_)
    obtain ⟨a9, e9, hw9⟩ := hw; subst e9; have hw := hw9; clear hw9
    have hl : lv_has ls 4 [(0, .ref x0), (1, .int x1)] := hl
    refine W.eq (g2 := F0 m 33 ls [.ref a9, .int x1]) rfl ?_
    obtain ⟨fs, hq, hw⟩ := hw
    refine a_callV (rest := [.int x1]) C hS hl 8 hq rfl (kJ_J2_size C.tr hw) q384 q373 q374 q81 q375 ny_J2_size rfl (Nat.le_of_ble_eq_true rfl) (Nat.le_of_ble_eq_true rfl) rfl (Nat.le_of_ble_eq_true rfl) dX2_tickOnce_33 (fun X1 w1 H1 l1 q1 ce hx => hx.elim) (fun v w10 H locs hq _ hS => ?_)
    obtain ⟨r11, rfl, hw⟩ := hq
    refine W.eq (g2 := F0 m 36 ls [.int r11, .int x1]) rfl ?_
    refine lv_icmp_ge (tgt := 74) C.x C.b dX2_tickOnce_36 (by decide) (fun c12 => ?_) (fun c12 => ?_)
    · have hw := hw.1 c12
      refine lv_iconst (v := 0) C.x C.b dX2_tickOnce_74 (by decide) ?_
      refine lv_istore_n (lv' := [(1, .int 0), (0, .ref x0)]) C.x C.b dX2_tickOnce_75 rfl hl (by decide) rfl (fun ls hl => ?_)
      obtain ⟨k13, hw⟩ := hw
      exact kJ_X2_tickOnce_76 C k13 _ _ _ _ _ _ hS (lv_sub hl [1, 0] rfl) hw
    · have hw := hw.2 c12
      refine lv_aload_n C.x C.b dX2_tickOnce_39 rfl (lv_at hl 0 rfl) ?_
      refine a_R C hS in_X2 rfl (k := 0) (ci := 1) (by decide) q152 (fun _ h9 => h9) dX2_tickOnce_40 hw (fun r14 hw => ?_)
      refine lv_iload_n C.x C.b dX2_tickOnce_43 rfl (lv_at hl 1 rfl) ?_
      obtain ⟨a15, e9, hw9⟩ := hw; subst e9; have hw := hw9; clear hw9
      have hl : lv_has ls 4 [(0, .ref x0), (1, .int x1)] := hl
      refine W.eq (g2 := F0 m 44 ls [.int x1, .ref a15]) rfl ?_
      obtain ⟨fs, hq, hw⟩ := hw
      refine a_callV (rest := []) C hS hl 8 hq rfl (kJ_J2_get C.tr hw) q389 q390 q391 q81 q392 ny_J2_get rfl (Nat.le_of_ble_eq_true rfl) (Nat.le_of_ble_eq_true rfl) rfl (Nat.le_of_ble_eq_true rfl) dX2_tickOnce_44 (fun X1 w1 H1 l1 q1 ce hx => hx.elim) (fun v w16 H locs hq _ hS => ?_)
      obtain ⟨r17, rfl, hw⟩ := hq
      refine W.eq (g2 := F0 m 47 ls [va_rf r17]) rfl ?_
      obtain ⟨a18, e9, hw9⟩ := hw; subst e9; have hw := hw9; clear hw9
      have hl : lv_has ls 4 [(0, .ref x0), (1, .int x1)] := hl
      refine W.eq (g2 := F0 m 47 ls [.ref a18]) rfl ?_
      refine a_cast (ci := 2) C hS rfl q207 dX2_tickOnce_47 hw (fun hw => ?_)
      refine lv_aload_n C.x C.b dX2_tickOnce_50 rfl (lv_at hl 0 rfl) ?_
      refine lv_aload_n C.x C.b dX2_tickOnce_51 rfl (lv_at hl 0 rfl) ?_
      refine a_R C hS in_X2 rfl (k := 0) (ci := 1) (by decide) q152 (fun _ h9 => h9) dX2_tickOnce_52 hw (fun r19 hw => ?_)
      refine lv_iload_n C.x C.b dX2_tickOnce_55 rfl (lv_at hl 1 rfl) ?_
      obtain ⟨a20, e9, hw9⟩ := hw; subst e9; have hw := hw9; clear hw9
      have hl : lv_has ls 4 [(0, .ref x0), (1, .int x1)] := hl
      refine W.eq (g2 := F0 m 56 ls [.int x1, .ref a20, .ref x0, .ref a18]) rfl ?_
      obtain ⟨fs, hq, hw⟩ := hw
      refine a_callV (rest := [.ref x0, .ref a18]) C hS hl 8 hq rfl (kJ_J2_get C.tr hw) q389 q390 q391 q81 q392 ny_J2_get rfl (Nat.le_of_ble_eq_true rfl) (Nat.le_of_ble_eq_true rfl) rfl (Nat.le_of_ble_eq_true rfl) dX2_tickOnce_56 (fun X1 w1 H1 l1 q1 ce hx => hx.elim) (fun v w21 H locs hq _ hS => ?_)
      obtain ⟨r22, rfl, hw⟩ := hq
      refine W.eq (g2 := F0 m 59 ls [va_rf r22, .ref x0, .ref a18]) rfl ?_
      obtain ⟨a23, e9, hw9⟩ := hw; subst e9; have hw := hw9; clear hw9
      have hl : lv_has ls 4 [(0, .ref x0), (1, .int x1)] := hl
      refine W.eq (g2 := F0 m 59 ls [.ref a23, .ref x0, .ref a18]) rfl ?_
      refine a_cast (ci := 2) C hS rfl q207 dX2_tickOnce_59 hw (fun hw => ?_)
      obtain ⟨fs, hq, hw⟩ := hw
      refine a_callV (rest := [.ref a18]) C hS hl 1 hq rfl (kJ_X2_findVector C.tr hw) q1066 q1068 qs12 q78 q1069 ny_X2_findVector rfl (Nat.le_of_ble_eq_true rfl) (Nat.le_of_ble_eq_true rfl) rfl (Nat.le_of_ble_eq_true rfl) dX2_tickOnce_62 (fun X1 w1 H1 l1 q1 ce hx => hx.elim) (fun v w24 H locs hq _ hS => ?_)
      obtain ⟨r25, rfl, hw⟩ := hq
      refine W.eq (g2 := F0 m 65 ls [va_rf r25, .ref a18]) rfl ?_
      refine a_PN C hS in_X3 tyX3 tyX3_ok nmX3 rfl (k := 3) (ci := 2) (by decide) q263 (fun _ h9 => h9) rfl va_rf_nar va_rf_fit dX2_tickOnce_65 hw (fun w26 H locs hw hS => ?_)
      refine lv_iinc (v := (x1 + 1)) (lv' := [(1, .int (x1 + 1)), (0, .ref x0)]) C.x C.b dX2_tickOnce_68 hl (k := 1) rfl rfl (by decide) rfl (fun ls hl => ?_)
      refine lv_goto (tgt := 28) C.x C.b dX2_tickOnce_71 (by decide) ?_
      exact ih _ _ _ _ _ _ hS (lv_sub hl [1, 0] rfl) hw
def wJ_X2_tickOnce_26 (E : gE) (Q : gW → Prop) (x0 : Nat) (w : gW) : Prop :=
  ∃ k7 : Nat, wJ_X2_tickOnce_28 E Q k7 x0 0 w
theorem kJ_X2_tickOnce_26 (C : gC p l s m args meth c cX2_tickOnce 4 none RX2 E [] "tickOnce") {Q : gW → Prop} (x0 : Nat) (w : gW) (H : Heap) (locs : List Loc) (ls : Array Slot) (hS : gS E w0 w H locs) (hl : lv_has ls 4 [(0, .ref x0)]) (hw : wJ_X2_tickOnce_26 E Q x0 w) : gGo p l e s m args below meth c H locs 5 110 E w0 w (gV Q) (gNoX) (F0 m 26 ls []) := by
  unfold wJ_X2_tickOnce_26 at hw
  refine lv_iconst (v := 0) C.x C.b dX2_tickOnce_26 (by decide) ?_
  refine lv_istore_n (lv' := [(1, .int 0), (0, .ref x0)]) C.x C.b dX2_tickOnce_27 rfl hl (by decide) rfl (fun ls hl => ?_)
  obtain ⟨k7, hw⟩ := hw
  exact kJ_X2_tickOnce_28 C k7 _ _ _ _ _ _ hS (lv_sub hl [1, 0] rfl) hw
def wJ_X2_tickOnce (E : gE) (i0 : Nat) (Q : gW → Prop) (w : gW) : Prop :=
  aI E i0 1 6 (fun v1 => aP i0 1 6 (.int (v1 + 1)) (fun w2 => aI E i0 1 6 (fun v3 => aI E i0 1 8 (fun v4 => ¬ v4 = 0 ∧ (((v3 - v3 / v4 * v4) = 0 → (aKind E i0 1 (wJ_X2_hold E i0 (fun w6 => wJ_X2_tickOnce_26 E Q i0 w6) w2) w2)) ∧ (¬ (v3 - v3 / v4 * v4) = 0 → (wJ_X2_tickOnce_26 E Q i0 w2)))) w2) w2) w) w
theorem kJ_X2_tickOnce_r (C : gC p l s m args meth c cX2_tickOnce 4 none RX2 E [] "tickOnce") (i0 : Nat) {Q : gW → Prop} (w : gW) (H : Heap) (locs : List Loc) (ls : Array Slot) (hS : gS E w0 w H locs) (hl : lv_has ls 4 [(0, .ref i0)]) (hw : wJ_X2_tickOnce E i0 Q w) : gGo p l e s m args below meth c H locs 5 110 E w0 w (gV Q) (gNoX) (F0 m 0 ls []) := by
  unfold wJ_X2_tickOnce at hw
  refine lv_aload_n C.x C.b dX2_tickOnce_0 rfl (lv_at hl 0 rfl) ?_
  refine lv_dup C.x C.b dX2_tickOnce_1 rfl ?_
  refine a_I C hS in_X2 rfl (k := 6) (ci := 1) (by decide) q162 (fun _ h9 => h9) dX2_tickOnce_2 hw (fun v1 hw => ?_)
  refine lv_iconst (v := 1) C.x C.b dX2_tickOnce_5 (by decide) ?_
  refine lv_iadd C.x C.b dX2_tickOnce_6 ?_
  refine a_P C hS in_X2 tyX2 tyX2_ok nmX2 rfl (k := 6) (ci := 1) (by decide) q162 (fun _ h9 => h9) rfl rfl rfl dX2_tickOnce_7 hw (fun w2 H locs hw hS => ?_)
  refine lv_aload_n C.x C.b dX2_tickOnce_10 rfl (lv_at hl 0 rfl) ?_
  refine a_I C hS in_X2 rfl (k := 6) (ci := 1) (by decide) q162 (fun _ h9 => h9) dX2_tickOnce_11 hw (fun v3 hw => ?_)
  refine lv_aload_n C.x C.b dX2_tickOnce_14 rfl (lv_at hl 0 rfl) ?_
  refine a_I C hS in_X2 rfl (k := 8) (ci := 1) (by decide) q166 (fun _ h9 => h9) dX2_tickOnce_15 hw (fun v4 hw => ?_)
  obtain ⟨hne, hw⟩ := hw
  refine lv_irem C.x C.b dX2_tickOnce_18 hne ?_
  refine lv_if_ne (tgt := 26) C.x C.b dX2_tickOnce_19 (by decide) (fun c5 => ?_) (fun c5 => ?_)
  · have hw := hw.2 c5
    exact kJ_X2_tickOnce_26 C _ _ _ _ _ hS (lv_sub hl [0] rfl) hw
  · have hw := hw.1 c5
    refine lv_aload_n C.x C.b dX2_tickOnce_22 rfl (lv_at hl 0 rfl) ?_
    obtain ⟨fs, hq, hw⟩ := hw
    refine a_callV (rest := []) C hS hl 1 hq rfl (kJ_X2_hold C.tr hw) q1050 q1052 qs10 q78 q1053 ny_X2_hold rfl (Nat.le_of_ble_eq_true rfl) (Nat.le_of_ble_eq_true rfl) rfl (Nat.le_of_ble_eq_true rfl) dX2_tickOnce_23 (fun X1 w1 H1 l1 q1 ce hx => hx.elim) (fun v w6 H locs hq _ hS => ?_)
    obtain ⟨rfl, hw⟩ := hq
    refine W.eq (g2 := F0 m 26 ls []) rfl ?_
    exact kJ_X2_tickOnce_26 C _ _ _ _ _ hS (lv_sub hl [0] rfl) hw
theorem ny_X2_tickOnce : gNm yX2_tickOnce 0 = true := by decide +kernel
theorem kJ_X2_tickOnce {l : Launch} (ht : l.stackTraces = false) {w : gW} {i0 : Nat} {Q : gW → Prop} (hw : wJ_X2_tickOnce E i0 Q w) : gMet l yX2_tickOnce (ws_ yX2_tickOnce cX2_tickOnce 4 none) E w [.ref i0] 5 110 (gV Q) (gNoX) :=
  g_ofW ht (by decide) (Nat.le_of_ble_eq_true rfl) (fun p e s m below meth c ls H C hl hS => kJ_X2_tickOnce_r C _ _ _ _ _ hS hl hw)
def wJ_X2_tick_16 (E : gE) (Q : Int32 → gW → Prop) (X : String → gW → Prop) : Nat → Nat → Int32 → Int32 → gW → Prop
  | 0, _, _, _, _ => False
  | n + 1, x0, x1, x2, w => (x1 ≤ x2 → (aI E x0 1 6 (fun v7 => Q v7 w) w)) ∧ (¬ x1 ≤ x2 → (aKind E x0 1 (wJ_X2_tickOnce E x0 (fun w8 => wJ_X2_tick_16 E Q X n x0 x1 (x2 + 1) w8) w) w))
theorem kJ_X2_tick_16 (C : gC p l s m args meth c cX2_tick 3 (some .int) RX2 E [] "tick") {Q : Int32 → gW → Prop} {X : String → gW → Prop} : ∀ (n : Nat) (x0 : Nat) (x1 : Int32) (x2 : Int32) (w : gW) (H : Heap) (locs : List Loc) (ls : Array Slot), gS E w0 w H locs → lv_has ls 3 [(0, .ref x0), (1, .int x1), (2, .int x2)] → wJ_X2_tick_16 E Q X n x0 x1 x2 w → gGo p l e s m args below meth c H locs 9 141 E w0 w (gI Q) (X) (F0 m 16 ls []) := by
  intro n
  induction n with
  | zero =>
    intro x0 x1 x2 w H locs ls hS hl hw
    exact hw.elim
  | succ n ih =>
    intro x0 x1 x2 w H locs ls hS hl hw
    unfold wJ_X2_tick_16 at hw
    refine lv_iload_n C.x C.b dX2_tick_16 rfl (lv_at hl 2 rfl) ?_
    refine lv_iload_n C.x C.b dX2_tick_17 rfl (lv_at hl 1 rfl) ?_
    refine lv_icmp_ge (tgt := 31) C.x C.b dX2_tick_18 (by decide) (fun c6 => ?_) (fun c6 => ?_)
    · have hw := hw.1 c6
      refine lv_aload_n C.x C.b dX2_tick_31 rfl (lv_at hl 0 rfl) ?_
      refine a_I C hS in_X2 rfl (k := 6) (ci := 1) (by decide) q162 (fun _ h9 => h9) dX2_tick_32 hw (fun v7 hw => ?_)
      exact g_iret C hS ⟨_, rfl, hw⟩ dX2_tick_35
    · have hw := hw.2 c6
      refine lv_aload_n C.x C.b dX2_tick_21 rfl (lv_at hl 0 rfl) ?_
      obtain ⟨fs, hq, hw⟩ := hw
      refine a_callV (rest := []) C hS hl 1 hq rfl (kJ_X2_tickOnce C.tr hw) q1046 q1048 qs9 q78 q1049 ny_X2_tickOnce rfl (Nat.le_of_ble_eq_true rfl) (Nat.le_of_ble_eq_true rfl) rfl (Nat.le_of_ble_eq_true rfl) dX2_tick_22 (fun X1 w1 H1 l1 q1 ce hx => hx.elim) (fun v w8 H locs hq _ hS => ?_)
      obtain ⟨rfl, hw⟩ := hq
      refine W.eq (g2 := F0 m 25 ls []) rfl ?_
      refine lv_iinc (v := (x2 + 1)) (lv' := [(2, .int (x2 + 1)), (0, .ref x0), (1, .int x1)]) C.x C.b dX2_tick_25 hl (k := 2) rfl rfl (by decide) rfl (fun ls hl => ?_)
      refine lv_goto (tgt := 16) C.x C.b dX2_tick_28 (by decide) ?_
      exact ih _ _ _ _ _ _ _ hS (lv_sub hl [1, 2, 0] rfl) hw
def wJ_X2_tick (E : gE) (i0 : Nat) (i1 : Int32) (Q : Int32 → gW → Prop) (X : String → gW → Prop) (w : gW) : Prop :=
  wJ_X1_inRange E i1.toInt64 1 200 (fun r2 w1 => aStr E "BridgeAuction$Network" 187 "ticks" (fun a3 => wJ_X1_requireArgument E r2 a3 (fun w4 => ∃ k5 : Nat, wJ_X2_tick_16 E Q X k5 i0 i1 0 w4) X w1)) w
theorem kJ_X2_tick_r (C : gC p l s m args meth c cX2_tick 3 (some .int) RX2 E [] "tick") (i0 : Nat) (i1 : Int32) {Q : Int32 → gW → Prop} {X : String → gW → Prop} (w : gW) (H : Heap) (locs : List Loc) (ls : Array Slot) (hS : gS E w0 w H locs) (hl : lv_has ls 3 [(0, .ref i0), (1, .int i1)]) (hw : wJ_X2_tick E i0 i1 Q X w) : gGo p l e s m args below meth c H locs 9 141 E w0 w (gI Q) (X) (F0 m 0 ls []) := by
  unfold wJ_X2_tick at hw
  refine lv_iload_n C.x C.b dX2_tick_0 rfl (lv_at hl 1 rfl) ?_
  refine lv_i2l C.x C.b dX2_tick_1 rfl ?_
  refine lv_lconst (v := 1) C.x C.b dX2_tick_2 (by decide) ?_
  refine lv_ldc2 C.x C.b C.ow (C.ts _ q1044) dX2_tick_3 ?_
  refine g_callSN (rest := []) C hS hl (kJ_X1_inRange C.tr hw) q868 q459 q77 q460 ny_X1_inRange rfl (Nat.le_of_ble_eq_true rfl) (Nat.le_of_ble_eq_true rfl) rfl (Nat.le_of_ble_eq_true rfl) dX2_tick_6 (fun X1 w1 H1 l1 q1 ce hx => hx.elim) (fun v w1 H locs hq _ hS => ?_)
  obtain ⟨r2, rfl, hw⟩ := hq
  refine W.eq (g2 := F0 m 9 ls [.int r2]) rfl ?_
  refine a_str C dX2_tick_9 hw (fun a3 hw => ?_)
  refine g_callSN (rest := []) C hS hl (kJ_X1_requireArgument C.tr hw) q890 q891 q77 q892 ny_X1_requireArgument rfl (Nat.le_of_ble_eq_true rfl) (Nat.le_of_ble_eq_true rfl) rfl (Nat.le_of_ble_eq_true rfl) dX2_tick_11 (fun X1 w1 H1 l1 q1 ce hx _ hS1 hc hv hcl => g_out C hS1 (fun x h => by cases h) hc hv hcl hx) (fun v w4 H locs hq _ hS => ?_)
  obtain ⟨rfl, hw⟩ := hq
  refine W.eq (g2 := F0 m 14 ls []) rfl ?_
  refine lv_iconst (v := 0) C.x C.b dX2_tick_14 (by decide) ?_
  refine lv_istore_n (lv' := [(2, .int 0), (0, .ref i0), (1, .int i1)]) C.x C.b dX2_tick_15 rfl hl (by decide) rfl (fun ls hl => ?_)
  obtain ⟨k5, hw⟩ := hw
  exact kJ_X2_tick_16 C k5 _ _ _ _ _ _ _ hS (lv_sub hl [1, 2, 0] rfl) hw
theorem ny_X2_tick : gNm yX2_tick 1 = true := by decide +kernel
theorem kJ_X2_tick {l : Launch} (ht : l.stackTraces = false) {w : gW} {i0 : Nat} {i1 : Int32} {Q : Int32 → gW → Prop} {X : String → gW → Prop} (hw : wJ_X2_tick E i0 i1 Q X w) : gMet l yX2_tick (ws_ yX2_tick cX2_tick 3 (some .int)) E w [.ref i0, .int i1] 9 141 (gI Q) (X) :=
  g_ofW ht (by decide) (Nat.le_of_ble_eq_true rfl) (fun p e s m below meth c ls H C hl hS => kJ_X2_tick_r C _ _ _ _ _ _ hS hl hw)
def wJ_X2_copy_51 (E : gE) (Q : Option Nat → gW → Prop) : Nat → Nat → Nat → Int32 → gW → Prop
  | 0, _, _, _, _ => False
  | n + 1, x0, x1, x2, w => aR E x0 1 1 (fun r22 => ∃ a23 : Nat, r22 = some a23 ∧ (aKind E a23 8 (wJ_J2_size E a23 (fun r25 w24 => (r25 ≤ x2 → (aR E x0 1 2 (fun r27 => aR E x1 1 2 (fun r28 => ∃ a29 : Nat, r28 = some a29 ∧ (∃ a30 : Nat, r27 = some a30 ∧ (aCp E 0 a30 0 a29 0 8 (fun w31 => aR E x0 1 3 (fun r32 => aR E x1 1 3 (fun r33 => ∃ a34 : Nat, r33 = some a34 ∧ (∃ a35 : Nat, r32 = some a35 ∧ (aCp E 0 a35 0 a34 0 4 (fun w36 => aR E x0 1 4 (fun r37 => aR E x1 1 4 (fun r38 => ∃ a39 : Nat, r38 = some a39 ∧ (∃ a40 : Nat, r37 = some a40 ∧ (aCp E 0 a40 0 a39 0 4 (fun w41 => aR E x0 1 5 (fun r42 => aR E x1 1 5 (fun r43 => ∃ a44 : Nat, r43 = some a44 ∧ (∃ a45 : Nat, r42 = some a45 ∧ (aCp E 0 a45 0 a44 0 4 (fun w46 => aI E x0 1 6 (fun v47 => aP x1 1 6 (.int v47) (fun w48 => aI E x0 1 7 (fun v49 => aP x1 1 7 (.int v49) (fun w50 => aI E x0 1 8 (fun v51 => aP x1 1 8 (.int v51) (fun w52 => aI E x0 1 9 (fun v53 => aP x1 1 9 (.int v53) (fun w54 => aI E x0 1 10 (fun v55 => aP x1 1 10 (.int v55) (fun w56 => aI E x0 1 11 (fun v57 => aP x1 1 11 (.int v57) (fun w58 => aI E x0 1 12 (fun v59 => aP x1 1 12 (.int v59) (fun w60 => aI E x0 1 13 (fun v61 => aP x1 1 13 (.int v61) (fun w62 => aI E x0 1 14 (fun v63 => aP x1 1 14 (.int v63) (fun w64 => Q (some x1) w64) w62) w62) w60) w60) w58) w58) w56) w56) w54) w54) w52) w52) w50) w50) w48) w48) w46) w46) w41))) w41) w41) w36))) w36) w36) w31))) w31) w31) w24))) w24) w24)) ∧ (¬ r25 ≤ x2 → (aR E x1 1 1 (fun r65 => aR E x0 1 1 (fun r66 => ∃ a67 : Nat, r66 = some a67 ∧ (aKind E a67 8 (wJ_J2_get E a67 x2 (fun r69 w68 => ∃ a70 : Nat, r69 = some a70 ∧ (aKind E a70 5 (aKind E a70 5 (wJ_X6_copy E a70 (fun r72 w71 => ∃ a73 : Nat, r65 = some a73 ∧ (aKind E a73 8 (wJ_J2_add E a73 r72 (fun r75 w74 => wJ_X2_copy_51 E Q n x0 x1 (x2 + 1) w74) w71) w71)) w68) w68) w68)) w24) w24)) w24) w24))) w) w)) w
theorem kJ_X2_copy_51 (C : gC p l s m args meth c cX2_copy 4 (some (.object "BridgeAuction$Network")) RX2 E [] "copy") {Q : Option Nat → gW → Prop} : ∀ (n : Nat) (x0 : Nat) (x1 : Nat) (x2 : Int32) (w : gW) (H : Heap) (locs : List Loc) (ls : Array Slot), gS E w0 w H locs → lv_has ls 4 [(0, .ref x0), (1, .ref x1), (2, .int x2)] → wJ_X2_copy_51 E Q n x0 x1 x2 w → gGo p l e s m args below meth c H locs 7 191 E w0 w (gR Q) (gNoX) (F0 m 51 ls []) := by
  intro n
  induction n with
  | zero =>
    intro x0 x1 x2 w H locs ls hS hl hw
    exact hw.elim
  | succ n ih =>
    intro x0 x1 x2 w H locs ls hS hl hw
    unfold wJ_X2_copy_51 at hw
    refine lv_iload_n C.x C.b dX2_copy_51 rfl (lv_at hl 2 rfl) ?_
    refine lv_aload_n C.x C.b dX2_copy_52 rfl (lv_at hl 0 rfl) ?_
    refine a_R C hS in_X2 rfl (k := 1) (ci := 1) (by decide) q154 (fun _ h9 => h9) dX2_copy_53 hw (fun r22 hw => ?_)
    obtain ⟨a23, e9, hw9⟩ := hw; subst e9; have hw := hw9; clear hw9
    have hl : lv_has ls 4 [(0, .ref x0), (1, .ref x1), (2, .int x2)] := hl
    refine W.eq (g2 := F0 m 56 ls [.ref a23, .int x2]) rfl ?_
    obtain ⟨fs, hq, hw⟩ := hw
    refine a_callV (rest := [.int x2]) C hS hl 8 hq rfl (kJ_J2_size C.tr hw) q384 q373 q374 q81 q375 ny_J2_size rfl (Nat.le_of_ble_eq_true rfl) (Nat.le_of_ble_eq_true rfl) rfl (Nat.le_of_ble_eq_true rfl) dX2_copy_56 (fun X1 w1 H1 l1 q1 ce hx => hx.elim) (fun v w24 H locs hq _ hS => ?_)
    obtain ⟨r25, rfl, hw⟩ := hq
    refine W.eq (g2 := F0 m 59 ls [.int r25, .int x2]) rfl ?_
    refine lv_icmp_ge (tgt := 90) C.x C.b dX2_copy_59 (by decide) (fun c26 => ?_) (fun c26 => ?_)
    · have hw := hw.1 c26
      refine lv_aload_n C.x C.b dX2_copy_90 rfl (lv_at hl 0 rfl) ?_
      refine a_R C hS in_X2 rfl (k := 2) (ci := 1) (by decide) q156 (fun _ h9 => h9) dX2_copy_91 hw (fun r27 hw => ?_)
      refine lv_iconst (v := 0) C.x C.b dX2_copy_94 (by decide) ?_
      refine lv_aload_n C.x C.b dX2_copy_95 rfl (lv_at hl 1 rfl) ?_
      refine a_R C hS in_X2 rfl (k := 2) (ci := 1) (by decide) q156 (fun _ h9 => h9) dX2_copy_96 hw (fun r28 hw => ?_)
      refine lv_iconst (v := 0) C.x C.b dX2_copy_99 (by decide) ?_
      refine lv_bipush (v := 8) C.x C.b dX2_copy_100 (by decide) ?_
      obtain ⟨a29, e9, hw9⟩ := hw; subst e9; have hw := hw9; clear hw9
      have hl : lv_has ls 4 [(0, .ref x0), (1, .ref x1), (2, .int x2)] := hl
      refine W.eq (g2 := F0 m 102 ls [.int 8, .int 0, .ref a29, .int 0, va_rf r27]) rfl ?_
      obtain ⟨a30, e9, hw9⟩ := hw; subst e9; have hw := hw9; clear hw9
      have hl : lv_has ls 4 [(0, .ref x0), (1, .ref x1), (2, .int x2)] := hl
      refine W.eq (g2 := F0 m 102 ls [.int 8, .int 0, .ref a29, .int 0, .ref a30]) rfl ?_
      refine a_cp (t := 0) C hS hl (by decide) q1180 q339 q338 q87 (by decide) (Nat.le_of_ble_eq_true rfl) dX2_copy_102 hw (fun w31 H locs hw hS => ?_)
      refine lv_aload_n C.x C.b dX2_copy_105 rfl (lv_at hl 0 rfl) ?_
      refine a_R C hS in_X2 rfl (k := 3) (ci := 1) (by decide) q158 (fun _ h9 => h9) dX2_copy_106 hw (fun r32 hw => ?_)
      refine lv_iconst (v := 0) C.x C.b dX2_copy_109 (by decide) ?_
      refine lv_aload_n C.x C.b dX2_copy_110 rfl (lv_at hl 1 rfl) ?_
      refine a_R C hS in_X2 rfl (k := 3) (ci := 1) (by decide) q158 (fun _ h9 => h9) dX2_copy_111 hw (fun r33 hw => ?_)
      refine lv_iconst (v := 0) C.x C.b dX2_copy_114 (by decide) ?_
      refine lv_iconst (v := 4) C.x C.b dX2_copy_115 (by decide) ?_
      obtain ⟨a34, e9, hw9⟩ := hw; subst e9; have hw := hw9; clear hw9
      have hl : lv_has ls 4 [(0, .ref x0), (1, .ref x1), (2, .int x2)] := hl
      refine W.eq (g2 := F0 m 116 ls [.int 4, .int 0, .ref a34, .int 0, va_rf r32]) rfl ?_
      obtain ⟨a35, e9, hw9⟩ := hw; subst e9; have hw := hw9; clear hw9
      have hl : lv_has ls 4 [(0, .ref x0), (1, .ref x1), (2, .int x2)] := hl
      refine W.eq (g2 := F0 m 116 ls [.int 4, .int 0, .ref a34, .int 0, .ref a35]) rfl ?_
      refine a_cp (t := 0) C hS hl (by decide) q1180 q339 q338 q87 (by decide) (Nat.le_of_ble_eq_true rfl) dX2_copy_116 hw (fun w36 H locs hw hS => ?_)
      refine lv_aload_n C.x C.b dX2_copy_119 rfl (lv_at hl 0 rfl) ?_
      refine a_R C hS in_X2 rfl (k := 4) (ci := 1) (by decide) q160 (fun _ h9 => h9) dX2_copy_120 hw (fun r37 hw => ?_)
      refine lv_iconst (v := 0) C.x C.b dX2_copy_123 (by decide) ?_
      refine lv_aload_n C.x C.b dX2_copy_124 rfl (lv_at hl 1 rfl) ?_
      refine a_R C hS in_X2 rfl (k := 4) (ci := 1) (by decide) q160 (fun _ h9 => h9) dX2_copy_125 hw (fun r38 hw => ?_)
      refine lv_iconst (v := 0) C.x C.b dX2_copy_128 (by decide) ?_
      refine lv_iconst (v := 4) C.x C.b dX2_copy_129 (by decide) ?_
      obtain ⟨a39, e9, hw9⟩ := hw; subst e9; have hw := hw9; clear hw9
      have hl : lv_has ls 4 [(0, .ref x0), (1, .ref x1), (2, .int x2)] := hl
      refine W.eq (g2 := F0 m 130 ls [.int 4, .int 0, .ref a39, .int 0, va_rf r37]) rfl ?_
      obtain ⟨a40, e9, hw9⟩ := hw; subst e9; have hw := hw9; clear hw9
      have hl : lv_has ls 4 [(0, .ref x0), (1, .ref x1), (2, .int x2)] := hl
      refine W.eq (g2 := F0 m 130 ls [.int 4, .int 0, .ref a39, .int 0, .ref a40]) rfl ?_
      refine a_cp (t := 0) C hS hl (by decide) q1180 q339 q338 q87 (by decide) (Nat.le_of_ble_eq_true rfl) dX2_copy_130 hw (fun w41 H locs hw hS => ?_)
      refine lv_aload_n C.x C.b dX2_copy_133 rfl (lv_at hl 0 rfl) ?_
      refine a_R C hS in_X2 rfl (k := 5) (ci := 1) (by decide) q161 (fun _ h9 => h9) dX2_copy_134 hw (fun r42 hw => ?_)
      refine lv_iconst (v := 0) C.x C.b dX2_copy_137 (by decide) ?_
      refine lv_aload_n C.x C.b dX2_copy_138 rfl (lv_at hl 1 rfl) ?_
      refine a_R C hS in_X2 rfl (k := 5) (ci := 1) (by decide) q161 (fun _ h9 => h9) dX2_copy_139 hw (fun r43 hw => ?_)
      refine lv_iconst (v := 0) C.x C.b dX2_copy_142 (by decide) ?_
      refine lv_iconst (v := 4) C.x C.b dX2_copy_143 (by decide) ?_
      obtain ⟨a44, e9, hw9⟩ := hw; subst e9; have hw := hw9; clear hw9
      have hl : lv_has ls 4 [(0, .ref x0), (1, .ref x1), (2, .int x2)] := hl
      refine W.eq (g2 := F0 m 144 ls [.int 4, .int 0, .ref a44, .int 0, va_rf r42]) rfl ?_
      obtain ⟨a45, e9, hw9⟩ := hw; subst e9; have hw := hw9; clear hw9
      have hl : lv_has ls 4 [(0, .ref x0), (1, .ref x1), (2, .int x2)] := hl
      refine W.eq (g2 := F0 m 144 ls [.int 4, .int 0, .ref a44, .int 0, .ref a45]) rfl ?_
      refine a_cp (t := 0) C hS hl (by decide) q1180 q339 q338 q87 (by decide) (Nat.le_of_ble_eq_true rfl) dX2_copy_144 hw (fun w46 H locs hw hS => ?_)
      refine lv_aload_n C.x C.b dX2_copy_147 rfl (lv_at hl 1 rfl) ?_
      refine lv_aload_n C.x C.b dX2_copy_148 rfl (lv_at hl 0 rfl) ?_
      refine a_I C hS in_X2 rfl (k := 6) (ci := 1) (by decide) q162 (fun _ h9 => h9) dX2_copy_149 hw (fun v47 hw => ?_)
      refine a_P C hS in_X2 tyX2 tyX2_ok nmX2 rfl (k := 6) (ci := 1) (by decide) q162 (fun _ h9 => h9) rfl rfl rfl dX2_copy_152 hw (fun w48 H locs hw hS => ?_)
      refine lv_aload_n C.x C.b dX2_copy_155 rfl (lv_at hl 1 rfl) ?_
      refine lv_aload_n C.x C.b dX2_copy_156 rfl (lv_at hl 0 rfl) ?_
      refine a_I C hS in_X2 rfl (k := 7) (ci := 1) (by decide) q164 (fun _ h9 => h9) dX2_copy_157 hw (fun v49 hw => ?_)
      refine a_P C hS in_X2 tyX2 tyX2_ok nmX2 rfl (k := 7) (ci := 1) (by decide) q164 (fun _ h9 => h9) rfl rfl rfl dX2_copy_160 hw (fun w50 H locs hw hS => ?_)
      refine lv_aload_n C.x C.b dX2_copy_163 rfl (lv_at hl 1 rfl) ?_
      refine lv_aload_n C.x C.b dX2_copy_164 rfl (lv_at hl 0 rfl) ?_
      refine a_I C hS in_X2 rfl (k := 8) (ci := 1) (by decide) q166 (fun _ h9 => h9) dX2_copy_165 hw (fun v51 hw => ?_)
      refine a_P C hS in_X2 tyX2 tyX2_ok nmX2 rfl (k := 8) (ci := 1) (by decide) q166 (fun _ h9 => h9) rfl rfl rfl dX2_copy_168 hw (fun w52 H locs hw hS => ?_)
      refine lv_aload_n C.x C.b dX2_copy_171 rfl (lv_at hl 1 rfl) ?_
      refine lv_aload_n C.x C.b dX2_copy_172 rfl (lv_at hl 0 rfl) ?_
      refine a_I C hS in_X2 rfl (k := 9) (ci := 1) (by decide) q168 (fun _ h9 => h9) dX2_copy_173 hw (fun v53 hw => ?_)
      refine a_P C hS in_X2 tyX2 tyX2_ok nmX2 rfl (k := 9) (ci := 1) (by decide) q168 (fun _ h9 => h9) rfl rfl rfl dX2_copy_176 hw (fun w54 H locs hw hS => ?_)
      refine lv_aload_n C.x C.b dX2_copy_179 rfl (lv_at hl 1 rfl) ?_
      refine lv_aload_n C.x C.b dX2_copy_180 rfl (lv_at hl 0 rfl) ?_
      refine a_I C hS in_X2 rfl (k := 10) (ci := 1) (by decide) q170 (fun _ h9 => h9) dX2_copy_181 hw (fun v55 hw => ?_)
      refine a_P C hS in_X2 tyX2 tyX2_ok nmX2 rfl (k := 10) (ci := 1) (by decide) q170 (fun _ h9 => h9) rfl rfl rfl dX2_copy_184 hw (fun w56 H locs hw hS => ?_)
      refine lv_aload_n C.x C.b dX2_copy_187 rfl (lv_at hl 1 rfl) ?_
      refine lv_aload_n C.x C.b dX2_copy_188 rfl (lv_at hl 0 rfl) ?_
      refine a_I C hS in_X2 rfl (k := 11) (ci := 1) (by decide) q171 (fun _ h9 => h9) dX2_copy_189 hw (fun v57 hw => ?_)
      refine a_P C hS in_X2 tyX2 tyX2_ok nmX2 rfl (k := 11) (ci := 1) (by decide) q171 (fun _ h9 => h9) rfl rfl rfl dX2_copy_192 hw (fun w58 H locs hw hS => ?_)
      refine lv_aload_n C.x C.b dX2_copy_195 rfl (lv_at hl 1 rfl) ?_
      refine lv_aload_n C.x C.b dX2_copy_196 rfl (lv_at hl 0 rfl) ?_
      refine a_I C hS in_X2 rfl (k := 12) (ci := 1) (by decide) q172 (fun _ h9 => h9) dX2_copy_197 hw (fun v59 hw => ?_)
      refine a_P C hS in_X2 tyX2 tyX2_ok nmX2 rfl (k := 12) (ci := 1) (by decide) q172 (fun _ h9 => h9) rfl rfl rfl dX2_copy_200 hw (fun w60 H locs hw hS => ?_)
      refine lv_aload_n C.x C.b dX2_copy_203 rfl (lv_at hl 1 rfl) ?_
      refine lv_aload_n C.x C.b dX2_copy_204 rfl (lv_at hl 0 rfl) ?_
      refine a_I C hS in_X2 rfl (k := 13) (ci := 1) (by decide) q173 (fun _ h9 => h9) dX2_copy_205 hw (fun v61 hw => ?_)
      refine a_P C hS in_X2 tyX2 tyX2_ok nmX2 rfl (k := 13) (ci := 1) (by decide) q173 (fun _ h9 => h9) rfl rfl rfl dX2_copy_208 hw (fun w62 H locs hw hS => ?_)
      refine lv_aload_n C.x C.b dX2_copy_211 rfl (lv_at hl 1 rfl) ?_
      refine lv_aload_n C.x C.b dX2_copy_212 rfl (lv_at hl 0 rfl) ?_
      refine a_I C hS in_X2 rfl (k := 14) (ci := 1) (by decide) q174 (fun _ h9 => h9) dX2_copy_213 hw (fun v63 hw => ?_)
      refine a_P C hS in_X2 tyX2 tyX2_ok nmX2 rfl (k := 14) (ci := 1) (by decide) q174 (fun _ h9 => h9) rfl rfl rfl dX2_copy_216 hw (fun w64 H locs hw hS => ?_)
      refine lv_aload_n C.x C.b dX2_copy_219 rfl (lv_at hl 1 rfl) ?_
      exact g_aret (r := (some x1)) C (Or.inl ⟨_, rfl⟩) hS ⟨_, rfl, hw⟩ dX2_copy_220
    · have hw := hw.2 c26
      refine lv_aload_n C.x C.b dX2_copy_62 rfl (lv_at hl 1 rfl) ?_
      refine a_R C hS in_X2 rfl (k := 1) (ci := 1) (by decide) q154 (fun _ h9 => h9) dX2_copy_63 hw (fun r65 hw => ?_)
      refine lv_aload_n C.x C.b dX2_copy_66 rfl (lv_at hl 0 rfl) ?_
      refine a_R C hS in_X2 rfl (k := 1) (ci := 1) (by decide) q154 (fun _ h9 => h9) dX2_copy_67 hw (fun r66 hw => ?_)
      refine lv_iload_n C.x C.b dX2_copy_70 rfl (lv_at hl 2 rfl) ?_
      obtain ⟨a67, e9, hw9⟩ := hw; subst e9; have hw := hw9; clear hw9
      have hl : lv_has ls 4 [(0, .ref x0), (1, .ref x1), (2, .int x2)] := hl
      refine W.eq (g2 := F0 m 71 ls [.int x2, .ref a67, va_rf r65]) rfl ?_
      obtain ⟨fs, hq, hw⟩ := hw
      refine a_callV (rest := [va_rf r65]) C hS hl 8 hq rfl (kJ_J2_get C.tr hw) q389 q390 q391 q81 q392 ny_J2_get rfl (Nat.le_of_ble_eq_true rfl) (Nat.le_of_ble_eq_true rfl) rfl (by cases r65 <;> exact (Nat.le_of_ble_eq_true rfl)) dX2_copy_71 (fun X1 w1 H1 l1 q1 ce hx => hx.elim) (fun v w68 H locs hq _ hS => ?_)
      obtain ⟨r69, rfl, hw⟩ := hq
      refine W.eq (g2 := F0 m 74 ls [va_rf r69, va_rf r65]) rfl ?_
      obtain ⟨a70, e9, hw9⟩ := hw; subst e9; have hw := hw9; clear hw9
      have hl : lv_has ls 4 [(0, .ref x0), (1, .ref x1), (2, .int x2)] := hl
      refine W.eq (g2 := F0 m 74 ls [.ref a70, va_rf r65]) rfl ?_
      refine a_cast (ci := 5) C hS rfl q403 dX2_copy_74 hw (fun hw => ?_)
      obtain ⟨fs, hq, hw⟩ := hw
      refine a_callV (rest := [va_rf r65]) C hS hl 5 hq rfl (kJ_X6_copy C.tr hw) q1169 q1170 q1171 q95 q1172 ny_X6_copy rfl (Nat.le_of_ble_eq_true rfl) (Nat.le_of_ble_eq_true rfl) rfl (by cases r65 <;> exact (Nat.le_of_ble_eq_true rfl)) dX2_copy_77 (fun X1 w1 H1 l1 q1 ce hx => hx.elim) (fun v w71 H locs hq _ hS => ?_)
      obtain ⟨r72, rfl, hw⟩ := hq
      refine W.eq (g2 := F0 m 80 ls [va_rf r72, va_rf r65]) rfl ?_
      obtain ⟨a73, e9, hw9⟩ := hw; subst e9; have hw := hw9; clear hw9
      have hl : lv_has ls 4 [(0, .ref x0), (1, .ref x1), (2, .int x2)] := hl
      refine W.eq (g2 := F0 m 80 ls [va_rf r72, .ref a73]) rfl ?_
      obtain ⟨fs, hq, hw⟩ := hw
      refine a_callV (rest := []) C hS hl 8 hq rfl (kJ_J2_add C.tr hw) q279 q280 q281 q81 q282 ny_J2_add rfl (Nat.le_of_ble_eq_true rfl) (Nat.le_of_ble_eq_true rfl) rfl (Nat.le_of_ble_eq_true rfl) dX2_copy_80 (fun X1 w1 H1 l1 q1 ce hx => hx.elim) (fun v w74 H locs hq _ hS => ?_)
      obtain ⟨r75, rfl, hw⟩ := hq
      refine W.eq (g2 := F0 m 83 ls [.int r75]) rfl ?_
      refine lv_istore_n (lv' := [(3, .int r75), (0, .ref x0), (1, .ref x1), (2, .int x2)]) C.x C.b dX2_copy_83 rfl hl (by decide) rfl (fun ls hl => ?_)
      refine lv_iinc (v := (x2 + 1)) (lv' := [(2, .int (x2 + 1)), (3, .int r75), (0, .ref x0), (1, .ref x1)]) C.x C.b dX2_copy_84 hl (k := 3) rfl rfl (by decide) rfl (fun ls hl => ?_)
      refine lv_goto (tgt := 51) C.x C.b dX2_copy_87 (by decide) ?_
      exact ih _ _ _ _ _ _ _ hS (lv_sub hl [2, 3, 0] rfl) hw
def wJ_X2_copy_10 (E : gE) (Q : Option Nat → gW → Prop) : Nat → Nat → Nat → Int32 → gW → Prop
  | 0, _, _, _, _ => False
  | n + 1, x0, x1, x2, w => aR E x0 1 0 (fun r5 => ∃ a6 : Nat, r5 = some a6 ∧ (aKind E a6 8 (wJ_J2_size E a6 (fun r8 w7 => (r8 ≤ x2 → (∃ k10 : Nat, wJ_X2_copy_51 E Q k10 x0 x1 0 w7)) ∧ (¬ r8 ≤ x2 → (aR E x1 1 0 (fun r11 => aR E x0 1 0 (fun r12 => ∃ a13 : Nat, r12 = some a13 ∧ (aKind E a13 8 (wJ_J2_get E a13 x2 (fun r15 w14 => ∃ a16 : Nat, r15 = some a16 ∧ (aKind E a16 2 (aKind E a16 2 (wJ_X3_copy E a16 (fun r18 w17 => ∃ a19 : Nat, r11 = some a19 ∧ (aKind E a19 8 (wJ_J2_add E a19 r18 (fun r21 w20 => wJ_X2_copy_10 E Q n x0 x1 (x2 + 1) w20) w17) w17)) w14) w14) w14)) w7) w7)) w7) w7))) w) w)) w
theorem kJ_X2_copy_10 (C : gC p l s m args meth c cX2_copy 4 (some (.object "BridgeAuction$Network")) RX2 E [] "copy") {Q : Option Nat → gW → Prop} : ∀ (n : Nat) (x0 : Nat) (x1 : Nat) (x2 : Int32) (w : gW) (H : Heap) (locs : List Loc) (ls : Array Slot), gS E w0 w H locs → lv_has ls 4 [(0, .ref x0), (1, .ref x1), (2, .int x2)] → wJ_X2_copy_10 E Q n x0 x1 x2 w → gGo p l e s m args below meth c H locs 7 191 E w0 w (gR Q) (gNoX) (F0 m 10 ls []) := by
  intro n
  induction n with
  | zero =>
    intro x0 x1 x2 w H locs ls hS hl hw
    exact hw.elim
  | succ n ih =>
    intro x0 x1 x2 w H locs ls hS hl hw
    unfold wJ_X2_copy_10 at hw
    refine lv_iload_n C.x C.b dX2_copy_10 rfl (lv_at hl 2 rfl) ?_
    refine lv_aload_n C.x C.b dX2_copy_11 rfl (lv_at hl 0 rfl) ?_
    refine a_R C hS in_X2 rfl (k := 0) (ci := 1) (by decide) q152 (fun _ h9 => h9) dX2_copy_12 hw (fun r5 hw => ?_)
    obtain ⟨a6, e9, hw9⟩ := hw; subst e9; have hw := hw9; clear hw9
    have hl : lv_has ls 4 [(0, .ref x0), (1, .ref x1), (2, .int x2)] := hl
    refine W.eq (g2 := F0 m 15 ls [.ref a6, .int x2]) rfl ?_
    obtain ⟨fs, hq, hw⟩ := hw
    refine a_callV (rest := [.int x2]) C hS hl 8 hq rfl (kJ_J2_size C.tr hw) q384 q373 q374 q81 q375 ny_J2_size rfl (Nat.le_of_ble_eq_true rfl) (Nat.le_of_ble_eq_true rfl) rfl (Nat.le_of_ble_eq_true rfl) dX2_copy_15 (fun X1 w1 H1 l1 q1 ce hx => hx.elim) (fun v w7 H locs hq _ hS => ?_)
    obtain ⟨r8, rfl, hw⟩ := hq
    refine W.eq (g2 := F0 m 18 ls [.int r8, .int x2]) rfl ?_
    refine lv_icmp_ge (tgt := 49) C.x C.b dX2_copy_18 (by decide) (fun c9 => ?_) (fun c9 => ?_)
    · have hw := hw.1 c9
      refine lv_iconst (v := 0) C.x C.b dX2_copy_49 (by decide) ?_
      refine lv_istore_n (lv' := [(2, .int 0), (0, .ref x0), (1, .ref x1)]) C.x C.b dX2_copy_50 rfl hl (by decide) rfl (fun ls hl => ?_)
      obtain ⟨k10, hw⟩ := hw
      exact kJ_X2_copy_51 C k10 _ _ _ _ _ _ _ hS (lv_sub hl [1, 2, 0] rfl) hw
    · have hw := hw.2 c9
      refine lv_aload_n C.x C.b dX2_copy_21 rfl (lv_at hl 1 rfl) ?_
      refine a_R C hS in_X2 rfl (k := 0) (ci := 1) (by decide) q152 (fun _ h9 => h9) dX2_copy_22 hw (fun r11 hw => ?_)
      refine lv_aload_n C.x C.b dX2_copy_25 rfl (lv_at hl 0 rfl) ?_
      refine a_R C hS in_X2 rfl (k := 0) (ci := 1) (by decide) q152 (fun _ h9 => h9) dX2_copy_26 hw (fun r12 hw => ?_)
      refine lv_iload_n C.x C.b dX2_copy_29 rfl (lv_at hl 2 rfl) ?_
      obtain ⟨a13, e9, hw9⟩ := hw; subst e9; have hw := hw9; clear hw9
      have hl : lv_has ls 4 [(0, .ref x0), (1, .ref x1), (2, .int x2)] := hl
      refine W.eq (g2 := F0 m 30 ls [.int x2, .ref a13, va_rf r11]) rfl ?_
      obtain ⟨fs, hq, hw⟩ := hw
      refine a_callV (rest := [va_rf r11]) C hS hl 8 hq rfl (kJ_J2_get C.tr hw) q389 q390 q391 q81 q392 ny_J2_get rfl (Nat.le_of_ble_eq_true rfl) (Nat.le_of_ble_eq_true rfl) rfl (by cases r11 <;> exact (Nat.le_of_ble_eq_true rfl)) dX2_copy_30 (fun X1 w1 H1 l1 q1 ce hx => hx.elim) (fun v w14 H locs hq _ hS => ?_)
      obtain ⟨r15, rfl, hw⟩ := hq
      refine W.eq (g2 := F0 m 33 ls [va_rf r15, va_rf r11]) rfl ?_
      obtain ⟨a16, e9, hw9⟩ := hw; subst e9; have hw := hw9; clear hw9
      have hl : lv_has ls 4 [(0, .ref x0), (1, .ref x1), (2, .int x2)] := hl
      refine W.eq (g2 := F0 m 33 ls [.ref a16, va_rf r11]) rfl ?_
      refine a_cast (ci := 2) C hS rfl q207 dX2_copy_33 hw (fun hw => ?_)
      obtain ⟨fs, hq, hw⟩ := hw
      refine a_callV (rest := [va_rf r11]) C hS hl 2 hq rfl (kJ_X3_copy C.tr hw) q1162 q1163 q1164 q82 q1165 ny_X3_copy rfl (Nat.le_of_ble_eq_true rfl) (Nat.le_of_ble_eq_true rfl) rfl (by cases r11 <;> exact (Nat.le_of_ble_eq_true rfl)) dX2_copy_36 (fun X1 w1 H1 l1 q1 ce hx => hx.elim) (fun v w17 H locs hq _ hS => ?_)
      obtain ⟨r18, rfl, hw⟩ := hq
      refine W.eq (g2 := F0 m 39 ls [va_rf r18, va_rf r11]) rfl ?_
      obtain ⟨a19, e9, hw9⟩ := hw; subst e9; have hw := hw9; clear hw9
      have hl : lv_has ls 4 [(0, .ref x0), (1, .ref x1), (2, .int x2)] := hl
      refine W.eq (g2 := F0 m 39 ls [va_rf r18, .ref a19]) rfl ?_
      obtain ⟨fs, hq, hw⟩ := hw
      refine a_callV (rest := []) C hS hl 8 hq rfl (kJ_J2_add C.tr hw) q279 q280 q281 q81 q282 ny_J2_add rfl (Nat.le_of_ble_eq_true rfl) (Nat.le_of_ble_eq_true rfl) rfl (Nat.le_of_ble_eq_true rfl) dX2_copy_39 (fun X1 w1 H1 l1 q1 ce hx => hx.elim) (fun v w20 H locs hq _ hS => ?_)
      obtain ⟨r21, rfl, hw⟩ := hq
      refine W.eq (g2 := F0 m 42 ls [.int r21]) rfl ?_
      refine lv_istore_n (lv' := [(3, .int r21), (0, .ref x0), (1, .ref x1), (2, .int x2)]) C.x C.b dX2_copy_42 rfl hl (by decide) rfl (fun ls hl => ?_)
      refine lv_iinc (v := (x2 + 1)) (lv' := [(2, .int (x2 + 1)), (3, .int r21), (0, .ref x0), (1, .ref x1)]) C.x C.b dX2_copy_43 hl (k := 3) rfl rfl (by decide) rfl (fun ls hl => ?_)
      refine lv_goto (tgt := 10) C.x C.b dX2_copy_46 (by decide) ?_
      exact ih _ _ _ _ _ _ _ hS (lv_sub hl [2, 3, 0] rfl) hw
def wJ_X2_copy (E : gE) (i0 : Nat) (Q : Option Nat → gW → Prop) (w : gW) : Prop :=
  aN E 1 15 [.null, .null, .null, .null, .null, .null, .int 0, .int 0, .int 0, .int 0, .int 0, .int 0, .int 0, .int 0, .int 0] (fun q1 w2 => wJ_X2_init E q1 (fun w3 => ∃ k4 : Nat, wJ_X2_copy_10 E Q k4 i0 q1 0 w3) w2) w
theorem kJ_X2_copy_r (C : gC p l s m args meth c cX2_copy 4 (some (.object "BridgeAuction$Network")) RX2 E [] "copy") (i0 : Nat) {Q : Option Nat → gW → Prop} (w : gW) (H : Heap) (locs : List Loc) (ls : Array Slot) (hS : gS E w0 w H locs) (hl : lv_has ls 4 [(0, .ref i0)]) (hw : wJ_X2_copy E i0 Q w) : gGo p l e s m args below meth c H locs 7 191 E w0 w (gR Q) (gNoX) (F0 m 0 ls []) := by
  unfold wJ_X2_copy at hw
  refine a_N (ci := 1) (fs := [.null, .null, .null, .null, .null, .null, .int 0, .int 0, .int 0, .int 0, .int 0, .int 0, .int 0, .int 0, .int 0]) C hS in_X2 tyX2 tyX2_ok rfl q120 q121 q78 (by decide) dX2_copy_0 hw (fun q1 w2 H hw hS => ?_)
  refine lv_dup C.x C.b dX2_copy_3 rfl ?_
  refine g_callI (rest := [.ref q1]) C hS hl (kJ_X2_init C.tr hw) rfl q122 q123 q78 q124 ny_X2_init rfl (Nat.le_of_ble_eq_true rfl) (Nat.le_of_ble_eq_true rfl) rfl (Nat.le_of_ble_eq_true rfl) dX2_copy_4 (fun X1 w1 H1 l1 q1 ce hx => hx.elim) (fun v w3 H locs hq _ hS => ?_)
  obtain ⟨rfl, hw⟩ := hq
  refine W.eq (g2 := F0 m 7 ls [.ref q1]) rfl ?_
  refine lv_astore_n (lv' := [(1, .ref q1), (0, .ref i0)]) C.x C.b dX2_copy_7 rfl hl (by decide) rfl (fun ls hl => ?_)
  refine lv_iconst (v := 0) C.x C.b dX2_copy_8 (by decide) ?_
  refine lv_istore_n (lv' := [(2, .int 0), (1, .ref q1), (0, .ref i0)]) C.x C.b dX2_copy_9 rfl hl (by decide) rfl (fun ls hl => ?_)
  obtain ⟨k4, hw⟩ := hw
  exact kJ_X2_copy_10 C k4 _ _ _ _ _ _ _ hS (lv_sub hl [2, 1, 0] rfl) hw
theorem ny_X2_copy : gNm yX2_copy 0 = true := by decide +kernel
theorem kJ_X2_copy {l : Launch} (ht : l.stackTraces = false) {w : gW} {i0 : Nat} {Q : Option Nat → gW → Prop} (hw : wJ_X2_copy E i0 Q w) : gMet l yX2_copy (ws_ yX2_copy cX2_copy 4 (some (.object "BridgeAuction$Network"))) E w [.ref i0] 7 191 (gR Q) (gNoX) :=
  g_ofW ht (by decide) (Nat.le_of_ble_eq_true rfl) (fun p e s m below meth c ls H C hl hS => kJ_X2_copy_r C _ _ _ _ _ hS hl hw)
def wJ_X2_won_39 (E : gE) (K4 : Nat → Int32 → Int32 → Int32 → gW → Prop) (Q : Int32 → gW → Prop) (x0 : Nat) (x1 : Int32) (x3 : Int32) (y0 : Int32) (y1 : Int32) (w : gW) : Prop :=
  K4 x0 x1 (y1 + y0) (x3 + 1) w
theorem kJ_X2_won_39 (C : gC p l s m args meth c cX2_won 4 (some .int) RX2 E [] "won") {Q : Int32 → gW → Prop} {K4 : Nat → Int32 → Int32 → Int32 → gW → Prop} (hK4 : ∀ (x0 : Nat) (x1 : Int32) (x2 : Int32) (x3 : Int32) (w : gW) (H : Heap) (locs : List Loc) (ls : Array Slot), gS E w0 w H locs → lv_has ls 4 [(0, .ref x0), (1, .int x1), (2, .int x2), (3, .int x3)] → K4 x0 x1 x2 x3 w → gGo p l e s m args below meth c H locs 3 64 E w0 w (gI Q) (gNoX) (F0 m 4 ls [])) (x0 : Nat) (x1 : Int32) (x3 : Int32) (y0 : Int32) (y1 : Int32) (w : gW) (H : Heap) (locs : List Loc) (ls : Array Slot) (hS : gS E w0 w H locs) (hl : lv_has ls 4 [(0, .ref x0), (1, .int x1), (3, .int x3)]) (hw : wJ_X2_won_39 E K4 Q x0 x1 x3 y0 y1 w) : gGo p l e s m args below meth c H locs 3 64 E w0 w (gI Q) (gNoX) (F0 m 39 ls [.int y0, .int y1]) := by
  unfold wJ_X2_won_39 at hw
  refine lv_iadd C.x C.b dX2_won_39 ?_
  refine lv_istore_n (lv' := [(2, .int (y1 + y0)), (0, .ref x0), (1, .int x1), (3, .int x3)]) C.x C.b dX2_won_40 rfl hl (by decide) rfl (fun ls hl => ?_)
  refine lv_iinc (v := (x3 + 1)) (lv' := [(3, .int (x3 + 1)), (2, .int (y1 + y0)), (0, .ref x0), (1, .int x1)]) C.x C.b dX2_won_41 hl (k := 3) rfl rfl (by decide) rfl (fun ls hl => ?_)
  refine lv_goto (tgt := 4) C.x C.b dX2_won_44 (by decide) ?_
  exact hK4 _ _ _ _ _ _ _ _ hS (lv_sub hl [2, 3, 1, 0] rfl) hw
def wJ_X2_won_4 (E : gE) (Q : Int32 → gW → Prop) : Nat → Nat → Int32 → Int32 → Int32 → gW → Prop
  | 0, _, _, _, _, _ => False
  | n + 1, x0, x1, x2, x3, w => aR E x0 1 1 (fun r2 => ∃ a3 : Nat, r2 = some a3 ∧ (aKind E a3 8 (wJ_J2_size E a3 (fun r5 w4 => (r5 ≤ x3 → (Q x2 w4)) ∧ (¬ r5 ≤ x3 → (aR E x0 1 1 (fun r7 => ∃ a8 : Nat, r7 = some a8 ∧ (aKind E a8 8 (wJ_J2_get E a8 x3 (fun r10 w9 => ∃ a11 : Nat, r10 = some a11 ∧ (aKind E a11 5 (aI E a11 5 5 (fun v12 => (v12 = x1 → (wJ_X2_won_39 E (fun x0 x1 x2 x3 w => wJ_X2_won_4 E Q n x0 x1 x2 x3 w) Q x0 x1 x3 1 x2 w9)) ∧ (¬ v12 = x1 → (wJ_X2_won_39 E (fun x0 x1 x2 x3 w => wJ_X2_won_4 E Q n x0 x1 x2 x3 w) Q x0 x1 x3 0 x2 w9))) w9) w9)) w4) w4)) w4))) w) w)) w
theorem kJ_X2_won_4 (C : gC p l s m args meth c cX2_won 4 (some .int) RX2 E [] "won") {Q : Int32 → gW → Prop} : ∀ (n : Nat) (x0 : Nat) (x1 : Int32) (x2 : Int32) (x3 : Int32) (w : gW) (H : Heap) (locs : List Loc) (ls : Array Slot), gS E w0 w H locs → lv_has ls 4 [(0, .ref x0), (1, .int x1), (2, .int x2), (3, .int x3)] → wJ_X2_won_4 E Q n x0 x1 x2 x3 w → gGo p l e s m args below meth c H locs 3 64 E w0 w (gI Q) (gNoX) (F0 m 4 ls []) := by
  intro n
  induction n with
  | zero =>
    intro x0 x1 x2 x3 w H locs ls hS hl hw
    exact hw.elim
  | succ n ih =>
    intro x0 x1 x2 x3 w H locs ls hS hl hw
    unfold wJ_X2_won_4 at hw
    refine lv_iload_n C.x C.b dX2_won_4 rfl (lv_at hl 3 rfl) ?_
    refine lv_aload_n C.x C.b dX2_won_5 rfl (lv_at hl 0 rfl) ?_
    refine a_R C hS in_X2 rfl (k := 1) (ci := 1) (by decide) q154 (fun _ h9 => h9) dX2_won_6 hw (fun r2 hw => ?_)
    obtain ⟨a3, e9, hw9⟩ := hw; subst e9; have hw := hw9; clear hw9
    have hl : lv_has ls 4 [(0, .ref x0), (1, .int x1), (2, .int x2), (3, .int x3)] := hl
    refine W.eq (g2 := F0 m 9 ls [.ref a3, .int x3]) rfl ?_
    obtain ⟨fs, hq, hw⟩ := hw
    refine a_callV (rest := [.int x3]) C hS hl 8 hq rfl (kJ_J2_size C.tr hw) q384 q373 q374 q81 q375 ny_J2_size rfl (Nat.le_of_ble_eq_true rfl) (Nat.le_of_ble_eq_true rfl) rfl (Nat.le_of_ble_eq_true rfl) dX2_won_9 (fun X1 w1 H1 l1 q1 ce hx => hx.elim) (fun v w4 H locs hq _ hS => ?_)
    obtain ⟨r5, rfl, hw⟩ := hq
    refine W.eq (g2 := F0 m 12 ls [.int r5, .int x3]) rfl ?_
    refine lv_icmp_ge (tgt := 47) C.x C.b dX2_won_12 (by decide) (fun c6 => ?_) (fun c6 => ?_)
    · have hw := hw.1 c6
      refine lv_iload_n C.x C.b dX2_won_47 rfl (lv_at hl 2 rfl) ?_
      exact g_iret C hS ⟨_, rfl, hw⟩ dX2_won_48
    · have hw := hw.2 c6
      refine lv_iload_n C.x C.b dX2_won_15 rfl (lv_at hl 2 rfl) ?_
      refine lv_aload_n C.x C.b dX2_won_16 rfl (lv_at hl 0 rfl) ?_
      refine a_R C hS in_X2 rfl (k := 1) (ci := 1) (by decide) q154 (fun _ h9 => h9) dX2_won_17 hw (fun r7 hw => ?_)
      refine lv_iload_n C.x C.b dX2_won_20 rfl (lv_at hl 3 rfl) ?_
      obtain ⟨a8, e9, hw9⟩ := hw; subst e9; have hw := hw9; clear hw9
      have hl : lv_has ls 4 [(0, .ref x0), (1, .int x1), (2, .int x2), (3, .int x3)] := hl
      refine W.eq (g2 := F0 m 21 ls [.int x3, .ref a8, .int x2]) rfl ?_
      obtain ⟨fs, hq, hw⟩ := hw
      refine a_callV (rest := [.int x2]) C hS hl 8 hq rfl (kJ_J2_get C.tr hw) q389 q390 q391 q81 q392 ny_J2_get rfl (Nat.le_of_ble_eq_true rfl) (Nat.le_of_ble_eq_true rfl) rfl (Nat.le_of_ble_eq_true rfl) dX2_won_21 (fun X1 w1 H1 l1 q1 ce hx => hx.elim) (fun v w9 H locs hq _ hS => ?_)
      obtain ⟨r10, rfl, hw⟩ := hq
      refine W.eq (g2 := F0 m 24 ls [va_rf r10, .int x2]) rfl ?_
      obtain ⟨a11, e9, hw9⟩ := hw; subst e9; have hw := hw9; clear hw9
      have hl : lv_has ls 4 [(0, .ref x0), (1, .int x1), (2, .int x2), (3, .int x3)] := hl
      refine W.eq (g2 := F0 m 24 ls [.ref a11, .int x2]) rfl ?_
      refine a_cast (ci := 5) C hS rfl q403 dX2_won_24 hw (fun hw => ?_)
      refine a_IN C hS in_X6 rfl (k := 5) (ci := 5) (by decide) q948 (fun _ h9 => h9) dX2_won_27 hw (fun v12 hw => ?_)
      refine lv_iload_n C.x C.b dX2_won_30 rfl (lv_at hl 1 rfl) ?_
      refine lv_icmp_ne (tgt := 38) C.x C.b dX2_won_31 (by decide) (fun c13 => ?_) (fun c13 => ?_)
      · have hw := hw.2 c13
        refine lv_iconst (v := 0) C.x C.b dX2_won_38 (by decide) ?_
        exact kJ_X2_won_39 C ih _ _ _ _ _ _ _ _ _ hS (lv_sub hl [0, 1, 3] rfl) hw
      · have hw := hw.1 c13
        refine lv_iconst (v := 1) C.x C.b dX2_won_34 (by decide) ?_
        refine lv_goto (tgt := 39) C.x C.b dX2_won_35 (by decide) ?_
        exact kJ_X2_won_39 C ih _ _ _ _ _ _ _ _ _ hS (lv_sub hl [0, 1, 3] rfl) hw
def wJ_X2_won (E : gE) (i0 : Nat) (i1 : Int32) (Q : Int32 → gW → Prop) (w : gW) : Prop :=
  ∃ k1 : Nat, wJ_X2_won_4 E Q k1 i0 i1 0 0 w
theorem kJ_X2_won_r (C : gC p l s m args meth c cX2_won 4 (some .int) RX2 E [] "won") (i0 : Nat) (i1 : Int32) {Q : Int32 → gW → Prop} (w : gW) (H : Heap) (locs : List Loc) (ls : Array Slot) (hS : gS E w0 w H locs) (hl : lv_has ls 4 [(0, .ref i0), (1, .int i1)]) (hw : wJ_X2_won E i0 i1 Q w) : gGo p l e s m args below meth c H locs 3 64 E w0 w (gI Q) (gNoX) (F0 m 0 ls []) := by
  unfold wJ_X2_won at hw
  refine lv_iconst (v := 0) C.x C.b dX2_won_0 (by decide) ?_
  refine lv_istore_n (lv' := [(2, .int 0), (0, .ref i0), (1, .int i1)]) C.x C.b dX2_won_1 rfl hl (by decide) rfl (fun ls hl => ?_)
  refine lv_iconst (v := 0) C.x C.b dX2_won_2 (by decide) ?_
  refine lv_istore_n (lv' := [(3, .int 0), (2, .int 0), (0, .ref i0), (1, .int i1)]) C.x C.b dX2_won_3 rfl hl (by decide) rfl (fun ls hl => ?_)
  obtain ⟨k1, hw⟩ := hw
  exact kJ_X2_won_4 C k1 _ _ _ _ _ _ _ _ hS (lv_sub hl [2, 3, 1, 0] rfl) hw
theorem ny_X2_won : gNm yX2_won 1 = true := by decide +kernel
theorem kJ_X2_won {l : Launch} (ht : l.stackTraces = false) {w : gW} {i0 : Nat} {i1 : Int32} {Q : Int32 → gW → Prop} (hw : wJ_X2_won E i0 i1 Q w) : gMet l yX2_won (ws_ yX2_won cX2_won 4 (some .int)) E w [.ref i0, .int i1] 3 64 (gI Q) (gNoX) :=
  g_ofW ht (by decide) (Nat.le_of_ble_eq_true rfl) (fun p e s m below meth c ls H C hl hS => kJ_X2_won_r C _ _ _ _ _ _ hS hl hw)
def wJ_X2_tenantValue (E : gE) (i0 : Nat) (i1 : Int32) (i2 : Int32) (Q : Int32 → gW → Prop) (w : gW) : Prop :=
  (i2 = 0 → (aR E i0 1 3 (fun r12 => ∃ a13 : Nat, r12 = some a13 ∧ (aL E 0 a13 i1 (fun v14 => Q v14 w) w)) w)) ∧ (¬ i2 = 0 → ((i2 = 1 → (aKind E i0 1 (wJ_X2_won E i0 i1 (fun r11 w10 => Q r11 w10) w) w)) ∧ (¬ i2 = 1 → ((i2 = 2 → (aR E i0 1 4 (fun r7 => ∃ a8 : Nat, r7 = some a8 ∧ (aL E 0 a8 i1 (fun v9 => Q v9 w) w)) w)) ∧ (¬ i2 = 2 → (aR E i0 1 5 (fun r4 => ∃ a5 : Nat, r4 = some a5 ∧ (aL E 0 a5 i1 (fun v6 => Q v6 w) w)) w))))))
theorem kJ_X2_tenantValue_r (C : gC p l s m args meth c cX2_tenantValue 3 (some .int) RX2 E [] "tenantValue") (i0 : Nat) (i1 : Int32) (i2 : Int32) {Q : Int32 → gW → Prop} (w : gW) (H : Heap) (locs : List Loc) (ls : Array Slot) (hS : gS E w0 w H locs) (hl : lv_has ls 3 [(0, .ref i0), (1, .int i1), (2, .int i2)]) (hw : wJ_X2_tenantValue E i0 i1 i2 Q w) : gGo p l e s m args below meth c H locs 4 87 E w0 w (gI Q) (gNoX) (F0 m 0 ls []) := by
  unfold wJ_X2_tenantValue at hw
  refine lv_iload_n C.x C.b dX2_tenantValue_0 rfl (lv_at hl 2 rfl) ?_
  refine lv_if_ne (tgt := 13) C.x C.b dX2_tenantValue_1 (by decide) (fun c1 => ?_) (fun c1 => ?_)
  · have hw := hw.2 c1
    refine lv_iload_n C.x C.b dX2_tenantValue_13 rfl (lv_at hl 2 rfl) ?_
    refine lv_iconst (v := 1) C.x C.b dX2_tenantValue_14 (by decide) ?_
    refine lv_icmp_ne (tgt := 26) C.x C.b dX2_tenantValue_15 (by decide) (fun c2 => ?_) (fun c2 => ?_)
    · have hw := hw.2 c2
      refine lv_iload_n C.x C.b dX2_tenantValue_26 rfl (lv_at hl 2 rfl) ?_
      refine lv_iconst (v := 2) C.x C.b dX2_tenantValue_27 (by decide) ?_
      refine lv_icmp_ne (tgt := 40) C.x C.b dX2_tenantValue_28 (by decide) (fun c3 => ?_) (fun c3 => ?_)
      · have hw := hw.2 c3
        refine lv_aload_n C.x C.b dX2_tenantValue_40 rfl (lv_at hl 0 rfl) ?_
        refine a_R C hS in_X2 rfl (k := 5) (ci := 1) (by decide) q161 (fun _ h9 => h9) dX2_tenantValue_41 hw (fun r4 hw => ?_)
        refine lv_iload_n C.x C.b dX2_tenantValue_44 rfl (lv_at hl 1 rfl) ?_
        obtain ⟨a5, e9, hw9⟩ := hw; subst e9; have hw := hw9; clear hw9
        have hl : lv_has ls 3 [(0, .ref i0), (1, .int i1), (2, .int i2)] := hl
        refine W.eq (g2 := F0 m 45 ls [.int i1, .ref a5]) rfl ?_
        refine a_Li C hS dX2_tenantValue_45 hw (fun v6 hw => ?_)
        exact g_iret C hS ⟨_, rfl, hw⟩ dX2_tenantValue_46
      · have hw := hw.1 c3
        refine lv_aload_n C.x C.b dX2_tenantValue_31 rfl (lv_at hl 0 rfl) ?_
        refine a_R C hS in_X2 rfl (k := 4) (ci := 1) (by decide) q160 (fun _ h9 => h9) dX2_tenantValue_32 hw (fun r7 hw => ?_)
        refine lv_iload_n C.x C.b dX2_tenantValue_35 rfl (lv_at hl 1 rfl) ?_
        obtain ⟨a8, e9, hw9⟩ := hw; subst e9; have hw := hw9; clear hw9
        have hl : lv_has ls 3 [(0, .ref i0), (1, .int i1), (2, .int i2)] := hl
        refine W.eq (g2 := F0 m 36 ls [.int i1, .ref a8]) rfl ?_
        refine a_Li C hS dX2_tenantValue_36 hw (fun v9 hw => ?_)
        refine lv_goto (tgt := 46) C.x C.b dX2_tenantValue_37 (by decide) ?_
        exact g_iret C hS ⟨_, rfl, hw⟩ dX2_tenantValue_46
    · have hw := hw.1 c2
      refine lv_aload_n C.x C.b dX2_tenantValue_18 rfl (lv_at hl 0 rfl) ?_
      refine lv_iload_n C.x C.b dX2_tenantValue_19 rfl (lv_at hl 1 rfl) ?_
      obtain ⟨fs, hq, hw⟩ := hw
      refine a_callV (rest := []) C hS hl 1 hq rfl (kJ_X2_won C.tr hw) q1249 q1250 q1251 q78 q1252 ny_X2_won rfl (Nat.le_of_ble_eq_true rfl) (Nat.le_of_ble_eq_true rfl) rfl (Nat.le_of_ble_eq_true rfl) dX2_tenantValue_20 (fun X1 w1 H1 l1 q1 ce hx => hx.elim) (fun v w10 H locs hq _ hS => ?_)
      obtain ⟨r11, rfl, hw⟩ := hq
      refine W.eq (g2 := F0 m 23 ls [.int r11]) rfl ?_
      refine lv_goto (tgt := 46) C.x C.b dX2_tenantValue_23 (by decide) ?_
      exact g_iret C hS ⟨_, rfl, hw⟩ dX2_tenantValue_46
  · have hw := hw.1 c1
    refine lv_aload_n C.x C.b dX2_tenantValue_4 rfl (lv_at hl 0 rfl) ?_
    refine a_R C hS in_X2 rfl (k := 3) (ci := 1) (by decide) q158 (fun _ h9 => h9) dX2_tenantValue_5 hw (fun r12 hw => ?_)
    refine lv_iload_n C.x C.b dX2_tenantValue_8 rfl (lv_at hl 1 rfl) ?_
    obtain ⟨a13, e9, hw9⟩ := hw; subst e9; have hw := hw9; clear hw9
    have hl : lv_has ls 3 [(0, .ref i0), (1, .int i1), (2, .int i2)] := hl
    refine W.eq (g2 := F0 m 9 ls [.int i1, .ref a13]) rfl ?_
    refine a_Li C hS dX2_tenantValue_9 hw (fun v14 hw => ?_)
    refine lv_goto (tgt := 46) C.x C.b dX2_tenantValue_10 (by decide) ?_
    exact g_iret C hS ⟨_, rfl, hw⟩ dX2_tenantValue_46
theorem ny_X2_tenantValue : gNm yX2_tenantValue 2 = true := by decide +kernel
theorem kJ_X2_tenantValue {l : Launch} (ht : l.stackTraces = false) {w : gW} {i0 : Nat} {i1 : Int32} {i2 : Int32} {Q : Int32 → gW → Prop} (hw : wJ_X2_tenantValue E i0 i1 i2 Q w) : gMet l yX2_tenantValue (ws_ yX2_tenantValue cX2_tenantValue 3 (some .int)) E w [.ref i0, .int i1, .int i2] 4 87 (gI Q) (gNoX) :=
  g_ofW ht (by decide) (Nat.le_of_ble_eq_true rfl) (fun p e s m below meth c ls H C hl hS => kJ_X2_tenantValue_r C _ _ _ _ _ _ _ hS hl hw)
def wJ_X2_reachedFrom_57 (E : gE) (K32 : Int32 → Nat → Int32 → Int32 → gW → Prop) (Q : Int32 → gW → Prop) (x4 : Nat) (x5 : Int32) (x6 : Int32) (y0 : Int32) (y1 : Int32) (w : gW) : Prop :=
  K32 (y1 + y0) x4 x5 (x6 + 1) w
theorem kJ_X2_reachedFrom_57 (C : gC p l s m args meth c cX2_reachedFrom 8 (some .int) RX2 E [] "reachedFrom") {Q : Int32 → gW → Prop} {K32 : Int32 → Nat → Int32 → Int32 → gW → Prop} (hK32 : ∀ (x3 : Int32) (x4 : Nat) (x5 : Int32) (x6 : Int32) (w : gW) (H : Heap) (locs : List Loc) (ls : Array Slot), gS E w0 w H locs → lv_has ls 8 [(3, .int x3), (4, .ref x4), (5, .int x5), (6, .int x6)] → K32 x3 x4 x5 x6 w → gGo p l e s m args below meth c H locs 4 88 E w0 w (gI Q) (gNoX) (F0 m 32 ls [])) (x4 : Nat) (x5 : Int32) (x6 : Int32) (y0 : Int32) (y1 : Int32) (w : gW) (H : Heap) (locs : List Loc) (ls : Array Slot) (hS : gS E w0 w H locs) (hl : lv_has ls 8 [(4, .ref x4), (5, .int x5), (6, .int x6)]) (hw : wJ_X2_reachedFrom_57 E K32 Q x4 x5 x6 y0 y1 w) : gGo p l e s m args below meth c H locs 4 88 E w0 w (gI Q) (gNoX) (F0 m 57 ls [.int y0, .int y1]) := by
  unfold wJ_X2_reachedFrom_57 at hw
  refine lv_iadd C.x C.b dX2_reachedFrom_57 ?_
  refine lv_istore_n (lv' := [(3, .int (y1 + y0)), (4, .ref x4), (5, .int x5), (6, .int x6)]) C.x C.b dX2_reachedFrom_58 rfl hl (by decide) rfl (fun ls hl => ?_)
  refine lv_iinc (v := (x6 + 1)) (lv' := [(6, .int (x6 + 1)), (3, .int (y1 + y0)), (4, .ref x4), (5, .int x5)]) C.x C.b dX2_reachedFrom_59 hl (k := 3) rfl rfl (by decide) rfl (fun ls hl => ?_)
  refine lv_goto (tgt := 32) C.x C.b dX2_reachedFrom_62 (by decide) ?_
  exact hK32 _ _ _ _ _ _ _ _ hS (lv_sub hl [1, 2, 3, 0] rfl) hw
def wJ_X2_reachedFrom_32 (E : gE) (Q : Int32 → gW → Prop) : Nat → Int32 → Nat → Int32 → Int32 → gW → Prop
  | 0, _, _, _, _, _ => False
  | n + 1, x3, x4, x5, x6, w => (x5 ≤ x6 → (Q x3 w)) ∧ (¬ x5 ≤ x6 → (aL E 2 x4 x6 (fun v12 => (v12 = 0 → (wJ_X2_reachedFrom_57 E (fun x3 x4 x5 x6 w => wJ_X2_reachedFrom_32 E Q n x3 x4 x5 x6 w) Q x4 x5 x6 0 x3 w)) ∧ (¬ v12 = 0 → (wJ_X2_reachedFrom_57 E (fun x3 x4 x5 x6 w => wJ_X2_reachedFrom_32 E Q n x3 x4 x5 x6 w) Q x4 x5 x6 1 x3 w))) w))
theorem kJ_X2_reachedFrom_32 (C : gC p l s m args meth c cX2_reachedFrom 8 (some .int) RX2 E [] "reachedFrom") {Q : Int32 → gW → Prop} : ∀ (n : Nat) (x3 : Int32) (x4 : Nat) (x5 : Int32) (x6 : Int32) (w : gW) (H : Heap) (locs : List Loc) (ls : Array Slot), gS E w0 w H locs → lv_has ls 8 [(3, .int x3), (4, .ref x4), (5, .int x5), (6, .int x6)] → wJ_X2_reachedFrom_32 E Q n x3 x4 x5 x6 w → gGo p l e s m args below meth c H locs 4 88 E w0 w (gI Q) (gNoX) (F0 m 32 ls []) := by
  intro n
  induction n with
  | zero =>
    intro x3 x4 x5 x6 w H locs ls hS hl hw
    exact hw.elim
  | succ n ih =>
    intro x3 x4 x5 x6 w H locs ls hS hl hw
    unfold wJ_X2_reachedFrom_32 at hw
    refine lv_iload C.x C.b dX2_reachedFrom_32 (lv_at hl 3 rfl) ?_
    refine lv_iload C.x C.b dX2_reachedFrom_34 (lv_at hl 2 rfl) ?_
    refine lv_icmp_ge (tgt := 65) C.x C.b dX2_reachedFrom_36 (by decide) (fun c11 => ?_) (fun c11 => ?_)
    · have hw := hw.1 c11
      refine lv_iload_n C.x C.b dX2_reachedFrom_65 rfl (lv_at hl 0 rfl) ?_
      exact g_iret C hS ⟨_, rfl, hw⟩ dX2_reachedFrom_66
    · have hw := hw.2 c11
      refine lv_aload C.x C.b dX2_reachedFrom_39 (lv_at hl 1 rfl) ?_
      refine lv_iload C.x C.b dX2_reachedFrom_41 (lv_at hl 3 rfl) ?_
      refine a_Lz C hS dX2_reachedFrom_43 hw (fun v12 hw => ?_)
      refine lv_istore (lv' := [(7, .int v12), (3, .int x3), (4, .ref x4), (5, .int x5), (6, .int x6)]) C.x C.b dX2_reachedFrom_44 hl (by decide) rfl (fun ls hl => ?_)
      refine lv_iload_n C.x C.b dX2_reachedFrom_46 rfl (lv_at hl 1 rfl) ?_
      refine lv_iload C.x C.b dX2_reachedFrom_47 (lv_at hl 0 rfl) ?_
      refine lv_if_eq (tgt := 56) C.x C.b dX2_reachedFrom_49 (by decide) (fun c13 => ?_) (fun c13 => ?_)
      · have hw := hw.1 c13
        refine lv_iconst (v := 0) C.x C.b dX2_reachedFrom_56 (by decide) ?_
        exact kJ_X2_reachedFrom_57 C ih _ _ _ _ _ _ _ _ _ hS (lv_sub hl [2, 3, 4] rfl) hw
      · have hw := hw.2 c13
        refine lv_iconst (v := 1) C.x C.b dX2_reachedFrom_52 (by decide) ?_
        refine lv_goto (tgt := 57) C.x C.b dX2_reachedFrom_53 (by decide) ?_
        exact kJ_X2_reachedFrom_57 C ih _ _ _ _ _ _ _ _ _ hS (lv_sub hl [2, 3, 4] rfl) hw
def wJ_X2_reachedFrom (E : gE) (i0 : Nat) (i1 : Int32) (Q : Int32 → gW → Prop) (w : gW) : Prop :=
  aR E i0 1 0 (fun r1 => ∃ a2 : Nat, r1 = some a2 ∧ (aKind E a2 8 (wJ_J2_size E a2 (fun r4 w3 => aA E 2 r4 (fun q5 w6 => aS E 2 q5 i1 1 (fun w7 => aKind E i0 1 (wJ_X2_spread E i0 q5 (fun w8 => aLen E q5 (fun v9 => ∃ k10 : Nat, wJ_X2_reachedFrom_32 E Q k10 0 q5 v9 0 w8) w8) w7) w7) w6) w3) w) w)) w
theorem kJ_X2_reachedFrom_r (C : gC p l s m args meth c cX2_reachedFrom 8 (some .int) RX2 E [] "reachedFrom") (i0 : Nat) (i1 : Int32) {Q : Int32 → gW → Prop} (w : gW) (H : Heap) (locs : List Loc) (ls : Array Slot) (hS : gS E w0 w H locs) (hl : lv_has ls 8 [(0, .ref i0), (1, .int i1)]) (hw : wJ_X2_reachedFrom E i0 i1 Q w) : gGo p l e s m args below meth c H locs 4 88 E w0 w (gI Q) (gNoX) (F0 m 0 ls []) := by
  unfold wJ_X2_reachedFrom at hw
  refine lv_aload_n C.x C.b dX2_reachedFrom_0 rfl (lv_at hl 0 rfl) ?_
  refine a_R C hS in_X2 rfl (k := 0) (ci := 1) (by decide) q152 (fun _ h9 => h9) dX2_reachedFrom_1 hw (fun r1 hw => ?_)
  obtain ⟨a2, e9, hw9⟩ := hw; subst e9; have hw := hw9; clear hw9
  have hl : lv_has ls 8 [(0, .ref i0), (1, .int i1)] := hl
  refine W.eq (g2 := F0 m 4 ls [.ref a2]) rfl ?_
  obtain ⟨fs, hq, hw⟩ := hw
  refine a_callV (rest := []) C hS hl 8 hq rfl (kJ_J2_size C.tr hw) q384 q373 q374 q81 q375 ny_J2_size rfl (Nat.le_of_ble_eq_true rfl) (Nat.le_of_ble_eq_true rfl) rfl (Nat.le_of_ble_eq_true rfl) dX2_reachedFrom_4 (fun X1 w1 H1 l1 q1 ce hx => hx.elim) (fun v w3 H locs hq _ hS => ?_)
  obtain ⟨r4, rfl, hw⟩ := hq
  refine W.eq (g2 := F0 m 7 ls [.int r4]) rfl ?_
  refine a_A (t := 2) (atype := .boolean) C hS rfl (by decide) q412 dX2_reachedFrom_7 hw (fun q5 w6 H hw hS => ?_)
  refine lv_astore_n (lv' := [(2, .ref q5), (0, .ref i0), (1, .int i1)]) C.x C.b dX2_reachedFrom_9 rfl hl (by decide) rfl (fun ls hl => ?_)
  refine lv_aload_n C.x C.b dX2_reachedFrom_10 rfl (lv_at hl 0 rfl) ?_
  refine lv_iload_n C.x C.b dX2_reachedFrom_11 rfl (lv_at hl 2 rfl) ?_
  refine lv_iconst (v := 1) C.x C.b dX2_reachedFrom_12 (by decide) ?_
  refine a_Sz C hS dX2_reachedFrom_13 hw (fun w7 H locs hw hS => ?_)
  refine lv_aload_n C.x C.b dX2_reachedFrom_14 rfl (lv_at hl 1 rfl) ?_
  refine lv_aload_n C.x C.b dX2_reachedFrom_15 rfl (lv_at hl 0 rfl) ?_
  obtain ⟨fs, hq, hw⟩ := hw
  refine a_callV (rest := []) C hS hl 1 hq rfl (kJ_X2_spread C.tr hw) q385 q387 qs3 q78 q388 ny_X2_spread rfl (Nat.le_of_ble_eq_true rfl) (Nat.le_of_ble_eq_true rfl) rfl (Nat.le_of_ble_eq_true rfl) dX2_reachedFrom_16 (fun X1 w1 H1 l1 q1 ce hx => hx.elim) (fun v w8 H locs hq _ hS => ?_)
  obtain ⟨rfl, hw⟩ := hq
  refine W.eq (g2 := F0 m 19 ls []) rfl ?_
  refine lv_iconst (v := 0) C.x C.b dX2_reachedFrom_19 (by decide) ?_
  refine lv_istore_n (lv' := [(3, .int 0), (2, .ref q5), (0, .ref i0), (1, .int i1)]) C.x C.b dX2_reachedFrom_20 rfl hl (by decide) rfl (fun ls hl => ?_)
  refine lv_aload_n C.x C.b dX2_reachedFrom_21 rfl (lv_at hl 1 rfl) ?_
  refine lv_astore (lv' := [(4, .ref q5), (3, .int 0), (2, .ref q5), (0, .ref i0), (1, .int i1)]) C.x C.b dX2_reachedFrom_22 hl (by decide) rfl (fun ls hl => ?_)
  refine lv_aload C.x C.b dX2_reachedFrom_24 (lv_at hl 0 rfl) ?_
  refine a_len C hS dX2_reachedFrom_26 hw (fun v9 hw => ?_)
  refine lv_istore (lv' := [(5, .int v9), (4, .ref q5), (3, .int 0), (2, .ref q5), (0, .ref i0), (1, .int i1)]) C.x C.b dX2_reachedFrom_27 hl (by decide) rfl (fun ls hl => ?_)
  refine lv_iconst (v := 0) C.x C.b dX2_reachedFrom_29 (by decide) ?_
  refine lv_istore (lv' := [(6, .int 0), (5, .int v9), (4, .ref q5), (3, .int 0), (2, .ref q5), (0, .ref i0), (1, .int i1)]) C.x C.b dX2_reachedFrom_30 hl (by decide) rfl (fun ls hl => ?_)
  obtain ⟨k10, hw⟩ := hw
  exact kJ_X2_reachedFrom_32 C k10 _ _ _ _ _ _ _ _ hS (lv_sub hl [3, 2, 1, 0] rfl) hw
theorem ny_X2_reachedFrom : gNm yX2_reachedFrom 1 = true := by decide +kernel
theorem kJ_X2_reachedFrom {l : Launch} (ht : l.stackTraces = false) {w : gW} {i0 : Nat} {i1 : Int32} {Q : Int32 → gW → Prop} (hw : wJ_X2_reachedFrom E i0 i1 Q w) : gMet l yX2_reachedFrom (ws_ yX2_reachedFrom cX2_reachedFrom 8 (some .int)) E w [.ref i0, .int i1] 4 88 (gI Q) (gNoX) :=
  g_ofW ht (by decide) (Nat.le_of_ble_eq_true rfl) (fun p e s m below meth c ls H C hl hS => kJ_X2_reachedFrom_r C _ _ _ _ _ _ hS hl hw)
def wJ_X2_pairs_4 (E : gE) (Q : Int32 → gW → Prop) : Nat → Nat → Int32 → Int32 → gW → Prop
  | 0, _, _, _, _ => False
  | n + 1, x0, x1, x2, w => aR E x0 1 0 (fun r2 => ∃ a3 : Nat, r2 = some a3 ∧ (aKind E a3 8 (wJ_J2_size E a3 (fun r5 w4 => (r5 ≤ x2 → (Q (x1 / 2) w4)) ∧ (¬ r5 ≤ x2 → (aKind E x0 1 (wJ_X2_reachedFrom E x0 x2 (fun r8 w7 => wJ_X2_pairs_4 E Q n x0 (x1 + (r8 - 1)) (x2 + 1) w7) w4) w4))) w) w)) w
theorem kJ_X2_pairs_4 (C : gC p l s m args meth c cX2_pairs 3 (some .int) RX2 E [] "pairs") {Q : Int32 → gW → Prop} : ∀ (n : Nat) (x0 : Nat) (x1 : Int32) (x2 : Int32) (w : gW) (H : Heap) (locs : List Loc) (ls : Array Slot), gS E w0 w H locs → lv_has ls 3 [(0, .ref x0), (1, .int x1), (2, .int x2)] → wJ_X2_pairs_4 E Q n x0 x1 x2 w → gGo p l e s m args below meth c H locs 5 115 E w0 w (gI Q) (gNoX) (F0 m 4 ls []) := by
  intro n
  induction n with
  | zero =>
    intro x0 x1 x2 w H locs ls hS hl hw
    exact hw.elim
  | succ n ih =>
    intro x0 x1 x2 w H locs ls hS hl hw
    unfold wJ_X2_pairs_4 at hw
    refine lv_iload_n C.x C.b dX2_pairs_4 rfl (lv_at hl 2 rfl) ?_
    refine lv_aload_n C.x C.b dX2_pairs_5 rfl (lv_at hl 0 rfl) ?_
    refine a_R C hS in_X2 rfl (k := 0) (ci := 1) (by decide) q152 (fun _ h9 => h9) dX2_pairs_6 hw (fun r2 hw => ?_)
    obtain ⟨a3, e9, hw9⟩ := hw; subst e9; have hw := hw9; clear hw9
    have hl : lv_has ls 3 [(0, .ref x0), (1, .int x1), (2, .int x2)] := hl
    refine W.eq (g2 := F0 m 9 ls [.ref a3, .int x2]) rfl ?_
    obtain ⟨fs, hq, hw⟩ := hw
    refine a_callV (rest := [.int x2]) C hS hl 8 hq rfl (kJ_J2_size C.tr hw) q384 q373 q374 q81 q375 ny_J2_size rfl (Nat.le_of_ble_eq_true rfl) (Nat.le_of_ble_eq_true rfl) rfl (Nat.le_of_ble_eq_true rfl) dX2_pairs_9 (fun X1 w1 H1 l1 q1 ce hx => hx.elim) (fun v w4 H locs hq _ hS => ?_)
    obtain ⟨r5, rfl, hw⟩ := hq
    refine W.eq (g2 := F0 m 12 ls [.int r5, .int x2]) rfl ?_
    refine lv_icmp_ge (tgt := 31) C.x C.b dX2_pairs_12 (by decide) (fun c6 => ?_) (fun c6 => ?_)
    · have hw := hw.1 c6
      refine lv_iload_n C.x C.b dX2_pairs_31 rfl (lv_at hl 1 rfl) ?_
      refine lv_iconst (v := 2) C.x C.b dX2_pairs_32 (by decide) ?_
      refine lv_idiv C.x C.b dX2_pairs_33 (by decide) ?_
      exact g_iret C hS ⟨_, rfl, hw⟩ dX2_pairs_34
    · have hw := hw.2 c6
      refine lv_iload_n C.x C.b dX2_pairs_15 rfl (lv_at hl 1 rfl) ?_
      refine lv_aload_n C.x C.b dX2_pairs_16 rfl (lv_at hl 0 rfl) ?_
      refine lv_iload_n C.x C.b dX2_pairs_17 rfl (lv_at hl 2 rfl) ?_
      obtain ⟨fs, hq, hw⟩ := hw
      refine a_callV (rest := [.int x1]) C hS hl 1 hq rfl (kJ_X2_reachedFrom C.tr hw) q1261 q1263 qs20 q78 q1264 ny_X2_reachedFrom rfl (Nat.le_of_ble_eq_true rfl) (Nat.le_of_ble_eq_true rfl) rfl (Nat.le_of_ble_eq_true rfl) dX2_pairs_18 (fun X1 w1 H1 l1 q1 ce hx => hx.elim) (fun v w7 H locs hq _ hS => ?_)
      obtain ⟨r8, rfl, hw⟩ := hq
      refine W.eq (g2 := F0 m 21 ls [.int r8, .int x1]) rfl ?_
      refine lv_iconst (v := 1) C.x C.b dX2_pairs_21 (by decide) ?_
      refine lv_isub C.x C.b dX2_pairs_22 ?_
      refine lv_iadd C.x C.b dX2_pairs_23 ?_
      refine lv_istore_n (lv' := [(1, .int (x1 + (r8 - 1))), (0, .ref x0), (2, .int x2)]) C.x C.b dX2_pairs_24 rfl hl (by decide) rfl (fun ls hl => ?_)
      refine lv_iinc (v := (x2 + 1)) (lv' := [(2, .int (x2 + 1)), (1, .int (x1 + (r8 - 1))), (0, .ref x0)]) C.x C.b dX2_pairs_25 hl (k := 2) rfl rfl (by decide) rfl (fun ls hl => ?_)
      refine lv_goto (tgt := 4) C.x C.b dX2_pairs_28 (by decide) ?_
      exact ih _ _ _ _ _ _ _ hS (lv_sub hl [2, 1, 0] rfl) hw
def wJ_X2_pairs (E : gE) (i0 : Nat) (Q : Int32 → gW → Prop) (w : gW) : Prop :=
  ∃ k1 : Nat, wJ_X2_pairs_4 E Q k1 i0 0 0 w
theorem kJ_X2_pairs_r (C : gC p l s m args meth c cX2_pairs 3 (some .int) RX2 E [] "pairs") (i0 : Nat) {Q : Int32 → gW → Prop} (w : gW) (H : Heap) (locs : List Loc) (ls : Array Slot) (hS : gS E w0 w H locs) (hl : lv_has ls 3 [(0, .ref i0)]) (hw : wJ_X2_pairs E i0 Q w) : gGo p l e s m args below meth c H locs 5 115 E w0 w (gI Q) (gNoX) (F0 m 0 ls []) := by
  unfold wJ_X2_pairs at hw
  refine lv_iconst (v := 0) C.x C.b dX2_pairs_0 (by decide) ?_
  refine lv_istore_n (lv' := [(1, .int 0), (0, .ref i0)]) C.x C.b dX2_pairs_1 rfl hl (by decide) rfl (fun ls hl => ?_)
  refine lv_iconst (v := 0) C.x C.b dX2_pairs_2 (by decide) ?_
  refine lv_istore_n (lv' := [(2, .int 0), (1, .int 0), (0, .ref i0)]) C.x C.b dX2_pairs_3 rfl hl (by decide) rfl (fun ls hl => ?_)
  obtain ⟨k1, hw⟩ := hw
  exact kJ_X2_pairs_4 C k1 _ _ _ _ _ _ _ hS (lv_sub hl [2, 1, 0] rfl) hw
theorem ny_X2_pairs : gNm yX2_pairs 0 = true := by decide +kernel
theorem kJ_X2_pairs {l : Launch} (ht : l.stackTraces = false) {w : gW} {i0 : Nat} {Q : Int32 → gW → Prop} (hw : wJ_X2_pairs E i0 Q w) : gMet l yX2_pairs (ws_ yX2_pairs cX2_pairs 3 (some .int)) E w [.ref i0] 5 115 (gI Q) (gNoX) :=
  g_ofW ht (by decide) (Nat.le_of_ble_eq_true rfl) (fun p e s m below meth c ls H C hl hS => kJ_X2_pairs_r C _ _ _ _ _ hS hl hw)
def wJ_X2_count (E : gE) (i0 : Nat) (i1 : Int32) (Q : Int32 → gW → Prop) (w : gW) : Prop :=
  (i1 = 0 → (aI E i0 1 10 (fun v1 => Q v1 w) w)) ∧ (¬ i1 = 0 → ((i1 = 1 → (aI E i0 1 11 (fun v2 => Q v2 w) w)) ∧ (¬ i1 = 1 → ((i1 = 2 → (aI E i0 1 12 (fun v3 => Q v3 w) w)) ∧ (¬ i1 = 2 → ((i1 = 3 → (aI E i0 1 13 (fun v4 => Q v4 w) w)) ∧ (¬ i1 = 3 → ((i1 = 4 → (aI E i0 1 14 (fun v5 => Q v5 w) w)) ∧ (¬ i1 = 4 → ((i1 = 5 → (aKind E i0 1 (wJ_X2_carrying E i0 (fun r7 w6 => Q r7 w6) w) w)) ∧ (¬ i1 = 5 → (aKind E i0 1 (wJ_X2_pairs E i0 (fun r9 w8 => Q r9 w8) w) w))))))))))))
theorem kJ_X2_count_r (C : gC p l s m args meth c cX2_count 2 (some .int) RX2 E [] "count") (i0 : Nat) (i1 : Int32) {Q : Int32 → gW → Prop} (w : gW) (H : Heap) (locs : List Loc) (ls : Array Slot) (hS : gS E w0 w H locs) (hl : lv_has ls 2 [(0, .ref i0), (1, .int i1)]) (hw : wJ_X2_count E i0 i1 Q w) : gGo p l e s m args below meth c H locs 6 137 E w0 w (gI Q) (gNoX) (F0 m 0 ls []) := by
  unfold wJ_X2_count at hw
  refine lv_iload_n C.x C.b dX2_count_0 rfl (lv_at hl 1 rfl) ?_
  rcases Decidable.em (i1 = 0) with c1_0 | c1_0
  · have hw := hw.1 c1_0
    rw [c1_0]
    refine lv_tableIn (tgt := 40) (off := 39) C.x C.b dX2_count_1 (by decide) (by decide) rfl (by decide) ?_
    refine lv_aload_n C.x C.b dX2_count_40 rfl (lv_at hl 0 rfl) ?_
    refine a_I C hS in_X2 rfl (k := 10) (ci := 1) (by decide) q170 (fun _ h9 => h9) dX2_count_41 hw (fun v1 hw => ?_)
    exact g_iret C hS ⟨_, rfl, hw⟩ dX2_count_44
  · have hw := hw.2 c1_0
    rcases Decidable.em (i1 = 1) with c1_1 | c1_1
    · have hw := hw.1 c1_1
      rw [c1_1]
      refine lv_tableIn (tgt := 45) (off := 44) C.x C.b dX2_count_1 (by decide) (by decide) rfl (by decide) ?_
      refine lv_aload_n C.x C.b dX2_count_45 rfl (lv_at hl 0 rfl) ?_
      refine a_I C hS in_X2 rfl (k := 11) (ci := 1) (by decide) q171 (fun _ h9 => h9) dX2_count_46 hw (fun v2 hw => ?_)
      exact g_iret C hS ⟨_, rfl, hw⟩ dX2_count_49
    · have hw := hw.2 c1_1
      rcases Decidable.em (i1 = 2) with c1_2 | c1_2
      · have hw := hw.1 c1_2
        rw [c1_2]
        refine lv_tableIn (tgt := 50) (off := 49) C.x C.b dX2_count_1 (by decide) (by decide) rfl (by decide) ?_
        refine lv_aload_n C.x C.b dX2_count_50 rfl (lv_at hl 0 rfl) ?_
        refine a_I C hS in_X2 rfl (k := 12) (ci := 1) (by decide) q172 (fun _ h9 => h9) dX2_count_51 hw (fun v3 hw => ?_)
        exact g_iret C hS ⟨_, rfl, hw⟩ dX2_count_54
      · have hw := hw.2 c1_2
        rcases Decidable.em (i1 = 3) with c1_3 | c1_3
        · have hw := hw.1 c1_3
          rw [c1_3]
          refine lv_tableIn (tgt := 55) (off := 54) C.x C.b dX2_count_1 (by decide) (by decide) rfl (by decide) ?_
          refine lv_aload_n C.x C.b dX2_count_55 rfl (lv_at hl 0 rfl) ?_
          refine a_I C hS in_X2 rfl (k := 13) (ci := 1) (by decide) q173 (fun _ h9 => h9) dX2_count_56 hw (fun v4 hw => ?_)
          exact g_iret C hS ⟨_, rfl, hw⟩ dX2_count_59
        · have hw := hw.2 c1_3
          rcases Decidable.em (i1 = 4) with c1_4 | c1_4
          · have hw := hw.1 c1_4
            rw [c1_4]
            refine lv_tableIn (tgt := 60) (off := 59) C.x C.b dX2_count_1 (by decide) (by decide) rfl (by decide) ?_
            refine lv_aload_n C.x C.b dX2_count_60 rfl (lv_at hl 0 rfl) ?_
            refine a_I C hS in_X2 rfl (k := 14) (ci := 1) (by decide) q174 (fun _ h9 => h9) dX2_count_61 hw (fun v5 hw => ?_)
            exact g_iret C hS ⟨_, rfl, hw⟩ dX2_count_64
          · have hw := hw.2 c1_4
            rcases Decidable.em (i1 = 5) with c1_5 | c1_5
            · have hw := hw.1 c1_5
              rw [c1_5]
              refine lv_tableIn (tgt := 65) (off := 64) C.x C.b dX2_count_1 (by decide) (by decide) rfl (by decide) ?_
              refine lv_aload_n C.x C.b dX2_count_65 rfl (lv_at hl 0 rfl) ?_
              obtain ⟨fs, hq, hw⟩ := hw
              refine a_callV (rest := []) C hS hl 1 hq rfl (kJ_X2_carrying C.tr hw) q408 q410 qs4 q78 q411 ny_X2_carrying rfl (Nat.le_of_ble_eq_true rfl) (Nat.le_of_ble_eq_true rfl) rfl (Nat.le_of_ble_eq_true rfl) dX2_count_66 (fun X1 w1 H1 l1 q1 ce hx => hx.elim) (fun v w6 H locs hq _ hS => ?_)
              obtain ⟨r7, rfl, hw⟩ := hq
              refine W.eq (g2 := F0 m 69 ls [.int r7]) rfl ?_
              exact g_iret C hS ⟨_, rfl, hw⟩ dX2_count_69
            · have hw := hw.2 c1_5
              refine lv_tableOut (tgt := 70) C.x C.b dX2_count_1 (by have := lv_neT c1_0 (a := 0) (by decide); have := lv_neT c1_1 (a := 1) (by decide); have := lv_neT c1_2 (a := 2) (by decide); have := lv_neT c1_3 (a := 3) (by decide); have := lv_neT c1_4 (a := 4) (by decide); have := lv_neT c1_5 (a := 5) (by decide); omega) (by decide) ?_
              refine lv_aload_n C.x C.b dX2_count_70 rfl (lv_at hl 0 rfl) ?_
              obtain ⟨fs, hq, hw⟩ := hw
              refine a_callV (rest := []) C hS hl 1 hq rfl (kJ_X2_pairs C.tr hw) q1257 q1259 qs19 q78 q1260 ny_X2_pairs rfl (Nat.le_of_ble_eq_true rfl) (Nat.le_of_ble_eq_true rfl) rfl (Nat.le_of_ble_eq_true rfl) dX2_count_71 (fun X1 w1 H1 l1 q1 ce hx => hx.elim) (fun v w8 H locs hq _ hS => ?_)
              obtain ⟨r9, rfl, hw⟩ := hq
              refine W.eq (g2 := F0 m 74 ls [.int r9]) rfl ?_
              exact g_iret C hS ⟨_, rfl, hw⟩ dX2_count_74
theorem ny_X2_count : gNm yX2_count 1 = true := by decide +kernel
theorem kJ_X2_count {l : Launch} (ht : l.stackTraces = false) {w : gW} {i0 : Nat} {i1 : Int32} {Q : Int32 → gW → Prop} (hw : wJ_X2_count E i0 i1 Q w) : gMet l yX2_count (ws_ yX2_count cX2_count 2 (some .int)) E w [.ref i0, .int i1] 6 137 (gI Q) (gNoX) :=
  g_ofW ht (by decide) (Nat.le_of_ble_eq_true rfl) (fun p e s m below meth c ls H C hl hS => kJ_X2_count_r C _ _ _ _ _ _ hS hl hw)
def wJ_X2_wayTo (E : gE) (i0 : Nat) (i1 : Nat) (i2 : Int32) (i3 : Int32) (Q : Int32 → gW → Prop) (w : gW) : Prop :=
  aI E i0 1 6 (fun v1 => aKind E i1 2 (wJ_X3_entry E i1 i2 v1 (fun r3 w2 => aKind E i0 1 (wJ_X2_isLink E i0 r3 (fun r5 w4 => (r5 = 0 → (Q (-1) w4)) ∧ (¬ r5 = 0 → ((r3 = i3 → (Q (-1) w4)) ∧ (¬ r3 = i3 → (aR E i0 1 1 (fun r8 => ∃ a9 : Nat, r8 = some a9 ∧ (aKind E a9 8 (wJ_J2_get E a9 r3 (fun r11 w10 => ∃ a12 : Nat, r11 = some a12 ∧ (aKind E a12 5 (aKind E a12 5 (wJ_X6_carries E a12 (fun r14 w13 => (r14 = 0 → (Q (-1) w13)) ∧ (¬ r14 = 0 → (Q r3 w13))) w10) w10) w10)) w4) w4)) w4))))) w2) w2) w) w) w
theorem kJ_X2_wayTo_r (C : gC p l s m args meth c cX2_wayTo 5 (some .int) RX2 E [] "wayTo") (i0 : Nat) (i1 : Nat) (i2 : Int32) (i3 : Int32) {Q : Int32 → gW → Prop} (w : gW) (H : Heap) (locs : List Loc) (ls : Array Slot) (hS : gS E w0 w H locs) (hl : lv_has ls 5 [(0, .ref i0), (1, .ref i1), (2, .int i2), (3, .int i3)]) (hw : wJ_X2_wayTo E i0 i1 i2 i3 Q w) : gGo p l e s m args below meth c H locs 3 64 E w0 w (gI Q) (gNoX) (F0 m 0 ls []) := by
  unfold wJ_X2_wayTo at hw
  refine lv_aload_n C.x C.b dX2_wayTo_0 rfl (lv_at hl 1 rfl) ?_
  refine lv_iload_n C.x C.b dX2_wayTo_1 rfl (lv_at hl 2 rfl) ?_
  refine lv_aload_n C.x C.b dX2_wayTo_2 rfl (lv_at hl 0 rfl) ?_
  refine a_I C hS in_X2 rfl (k := 6) (ci := 1) (by decide) q162 (fun _ h9 => h9) dX2_wayTo_3 hw (fun v1 hw => ?_)
  obtain ⟨fs, hq, hw⟩ := hw
  refine a_callV (rest := []) C hS hl 2 hq rfl (kJ_X3_entry C.tr hw) q1379 q1229 q1230 q82 q1231 ny_X3_entry rfl (Nat.le_of_ble_eq_true rfl) (Nat.le_of_ble_eq_true rfl) rfl (Nat.le_of_ble_eq_true rfl) dX2_wayTo_6 (fun X1 w1 H1 l1 q1 ce hx => hx.elim) (fun v w2 H locs hq _ hS => ?_)
  obtain ⟨r3, rfl, hw⟩ := hq
  refine W.eq (g2 := F0 m 9 ls [.int r3]) rfl ?_
  refine lv_istore (lv' := [(4, .int r3), (0, .ref i0), (1, .ref i1), (2, .int i2), (3, .int i3)]) C.x C.b dX2_wayTo_9 hl (by decide) rfl (fun ls hl => ?_)
  refine lv_aload_n C.x C.b dX2_wayTo_11 rfl (lv_at hl 1 rfl) ?_
  refine lv_iload C.x C.b dX2_wayTo_12 (lv_at hl 0 rfl) ?_
  obtain ⟨fs, hq, hw⟩ := hw
  refine a_callV (rest := []) C hS hl 1 hq rfl (kJ_X2_isLink C.tr hw) q991 q992 q993 q78 q994 ny_X2_isLink rfl (Nat.le_of_ble_eq_true rfl) (Nat.le_of_ble_eq_true rfl) rfl (Nat.le_of_ble_eq_true rfl) dX2_wayTo_14 (fun X1 w1 H1 l1 q1 ce hx => hx.elim) (fun v w4 H locs hq _ hS => ?_)
  obtain ⟨r5, rfl, hw⟩ := hq
  refine W.eq (g2 := F0 m 17 ls [.int r5]) rfl ?_
  refine lv_if_eq (tgt := 49) C.x C.b dX2_wayTo_17 (by decide) (fun c6 => ?_) (fun c6 => ?_)
  · have hw := hw.1 c6
    refine lv_iconst (v := (-1)) C.x C.b dX2_wayTo_49 (by decide) ?_
    exact g_iret C hS ⟨_, rfl, hw⟩ dX2_wayTo_50
  · have hw := hw.2 c6
    refine lv_iload C.x C.b dX2_wayTo_20 (lv_at hl 0 rfl) ?_
    refine lv_iload_n C.x C.b dX2_wayTo_22 rfl (lv_at hl 4 rfl) ?_
    refine lv_icmp_eq (tgt := 49) C.x C.b dX2_wayTo_23 (by decide) (fun c7 => ?_) (fun c7 => ?_)
    · have hw := hw.1 c7
      refine lv_iconst (v := (-1)) C.x C.b dX2_wayTo_49 (by decide) ?_
      exact g_iret C hS ⟨_, rfl, hw⟩ dX2_wayTo_50
    · have hw := hw.2 c7
      refine lv_aload_n C.x C.b dX2_wayTo_26 rfl (lv_at hl 1 rfl) ?_
      refine a_R C hS in_X2 rfl (k := 1) (ci := 1) (by decide) q154 (fun _ h9 => h9) dX2_wayTo_27 hw (fun r8 hw => ?_)
      refine lv_iload C.x C.b dX2_wayTo_30 (lv_at hl 0 rfl) ?_
      obtain ⟨a9, e9, hw9⟩ := hw; subst e9; have hw := hw9; clear hw9
      have hl : lv_has ls 5 [(4, .int r3), (0, .ref i0), (1, .ref i1), (2, .int i2), (3, .int i3)] := hl
      refine W.eq (g2 := F0 m 32 ls [.int r3, .ref a9]) rfl ?_
      obtain ⟨fs, hq, hw⟩ := hw
      refine a_callV (rest := []) C hS hl 8 hq rfl (kJ_J2_get C.tr hw) q389 q390 q391 q81 q392 ny_J2_get rfl (Nat.le_of_ble_eq_true rfl) (Nat.le_of_ble_eq_true rfl) rfl (Nat.le_of_ble_eq_true rfl) dX2_wayTo_32 (fun X1 w1 H1 l1 q1 ce hx => hx.elim) (fun v w10 H locs hq _ hS => ?_)
      obtain ⟨r11, rfl, hw⟩ := hq
      refine W.eq (g2 := F0 m 35 ls [va_rf r11]) rfl ?_
      obtain ⟨a12, e9, hw9⟩ := hw; subst e9; have hw := hw9; clear hw9
      have hl : lv_has ls 5 [(4, .int r3), (0, .ref i0), (1, .ref i1), (2, .int i2), (3, .int i3)] := hl
      refine W.eq (g2 := F0 m 35 ls [.ref a12]) rfl ?_
      refine a_cast (ci := 5) C hS rfl q403 dX2_wayTo_35 hw (fun hw => ?_)
      obtain ⟨fs, hq, hw⟩ := hw
      refine a_callV (rest := []) C hS hl 5 hq rfl (kJ_X6_carries C.tr hw) q404 q405 q406 q95 q407 ny_X6_carries rfl (Nat.le_of_ble_eq_true rfl) (Nat.le_of_ble_eq_true rfl) rfl (Nat.le_of_ble_eq_true rfl) dX2_wayTo_38 (fun X1 w1 H1 l1 q1 ce hx => hx.elim) (fun v w13 H locs hq _ hS => ?_)
      obtain ⟨r14, rfl, hw⟩ := hq
      refine W.eq (g2 := F0 m 41 ls [.int r14]) rfl ?_
      refine lv_if_eq (tgt := 49) C.x C.b dX2_wayTo_41 (by decide) (fun c15 => ?_) (fun c15 => ?_)
      · have hw := hw.1 c15
        refine lv_iconst (v := (-1)) C.x C.b dX2_wayTo_49 (by decide) ?_
        exact g_iret C hS ⟨_, rfl, hw⟩ dX2_wayTo_50
      · have hw := hw.2 c15
        refine lv_iload C.x C.b dX2_wayTo_44 (lv_at hl 0 rfl) ?_
        refine lv_goto (tgt := 50) C.x C.b dX2_wayTo_46 (by decide) ?_
        exact g_iret C hS ⟨_, rfl, hw⟩ dX2_wayTo_50
theorem ny_X2_wayTo : gNm yX2_wayTo 3 = true := by decide +kernel
theorem kJ_X2_wayTo {l : Launch} (ht : l.stackTraces = false) {w : gW} {i0 : Nat} {i1 : Nat} {i2 : Int32} {i3 : Int32} {Q : Int32 → gW → Prop} (hw : wJ_X2_wayTo E i0 i1 i2 i3 Q w) : gMet l yX2_wayTo (ws_ yX2_wayTo cX2_wayTo 5 (some .int)) E w [.ref i0, .ref i1, .int i2, .int i3] 3 64 (gI Q) (gNoX) :=
  g_ofW ht (by decide) (Nat.le_of_ble_eq_true rfl) (fun p e s m below meth c ls H C hl hS => kJ_X2_wayTo_r C _ _ _ _ _ _ _ _ hS hl hw)
def wJ_X2_send_363 (E : gE) (Q : Int32 → gW → Prop) (X : String → gW → Prop) (x0 : Nat) (x6 : Int32) (x7 : Int32) (y0 : Int32) (y1 : Int32) (y2 : Nat) (w : gW) : Prop :=
  aP y2 1 13 (.int (y1 + y0)) (fun w57 => aI E x0 1 14 (fun v58 => aP x0 1 14 (.int (v58 + x6)) (fun w59 => (x7 = 0 → (Q (x6 + 0) w59)) ∧ (¬ x7 = 0 → (Q (x6 + 1000) w59))) w57) w57) w
theorem kJ_X2_send_363 (C : gC p l s m args meth c cX2_send 15 (some .int) RX2 E [] "send") {Q : Int32 → gW → Prop} {X : String → gW → Prop} (x0 : Nat) (x6 : Int32) (x7 : Int32) (y0 : Int32) (y1 : Int32) (y2 : Nat) (w : gW) (H : Heap) (locs : List Loc) (ls : Array Slot) (hS : gS E w0 w H locs) (hl : lv_has ls 15 [(0, .ref x0), (6, .int x6), (7, .int x7)]) (hw : wJ_X2_send_363 E Q X x0 x6 x7 y0 y1 y2 w) : gGo p l e s m args below meth c H locs 9 141 E w0 w (gI Q) (X) (F0 m 363 ls [.int y0, .int y1, .ref y2]) := by
  unfold wJ_X2_send_363 at hw
  refine lv_iadd C.x C.b dX2_send_363 ?_
  refine a_P C hS in_X2 tyX2 tyX2_ok nmX2 rfl (k := 13) (ci := 1) (by decide) q173 (fun _ h9 => h9) rfl rfl rfl dX2_send_364 hw (fun w57 H locs hw hS => ?_)
  refine lv_aload_n C.x C.b dX2_send_367 rfl (lv_at hl 0 rfl) ?_
  refine lv_dup C.x C.b dX2_send_368 rfl ?_
  refine a_I C hS in_X2 rfl (k := 14) (ci := 1) (by decide) q174 (fun _ h9 => h9) dX2_send_369 hw (fun v58 hw => ?_)
  refine lv_iload C.x C.b dX2_send_372 (lv_at hl 1 rfl) ?_
  refine lv_iadd C.x C.b dX2_send_374 ?_
  refine a_P C hS in_X2 tyX2 tyX2_ok nmX2 rfl (k := 14) (ci := 1) (by decide) q174 (fun _ h9 => h9) rfl rfl rfl dX2_send_375 hw (fun w59 H locs hw hS => ?_)
  refine lv_iload C.x C.b dX2_send_378 (lv_at hl 1 rfl) ?_
  refine lv_iload C.x C.b dX2_send_380 (lv_at hl 2 rfl) ?_
  refine lv_if_eq (tgt := 391) C.x C.b dX2_send_382 (by decide) (fun c60 => ?_) (fun c60 => ?_)
  · have hw := hw.1 c60
    refine lv_iconst (v := 0) C.x C.b dX2_send_391 (by decide) ?_
    refine lv_iadd C.x C.b dX2_send_392 ?_
    exact g_iret C hS ⟨_, rfl, hw⟩ dX2_send_393
  · have hw := hw.2 c60
    refine lv_sipush (v := 1000) C.x C.b dX2_send_385 (by decide) ?_
    refine lv_goto (tgt := 392) C.x C.b dX2_send_388 (by decide) ?_
    refine lv_iadd C.x C.b dX2_send_392 ?_
    exact g_iret C hS ⟨_, rfl, hw⟩ dX2_send_393
def wJ_X2_send_332 (E : gE) (K110 : Nat → Int32 → Int32 → Nat → Nat → Int32 → Int32 → Int32 → Int32 → gW → Prop) (Q : Int32 → gW → Prop) (X : String → gW → Prop) (x0 : Nat) (x1 : Int32) (x2 : Int32) (x3 : Nat) (x4 : Nat) (x5 : Int32) (x6 : Int32) (x7 : Int32) (x8 : Int32) (w : gW) : Prop :=
  K110 x0 x1 x2 x3 x4 x5 x6 x7 (x8 + 1) w
theorem kJ_X2_send_332 (C : gC p l s m args meth c cX2_send 15 (some .int) RX2 E [] "send") {Q : Int32 → gW → Prop} {X : String → gW → Prop} {K110 : Nat → Int32 → Int32 → Nat → Nat → Int32 → Int32 → Int32 → Int32 → gW → Prop} (hK110 : ∀ (x0 : Nat) (x1 : Int32) (x2 : Int32) (x3 : Nat) (x4 : Nat) (x5 : Int32) (x6 : Int32) (x7 : Int32) (x8 : Int32) (w : gW) (H : Heap) (locs : List Loc) (ls : Array Slot), gS E w0 w H locs → lv_has ls 15 [(0, .ref x0), (1, .int x1), (2, .int x2), (3, .ref x3), (4, .ref x4), (5, .int x5), (6, .int x6), (7, .int x7), (8, .int x8)] → K110 x0 x1 x2 x3 x4 x5 x6 x7 x8 w → gGo p l e s m args below meth c H locs 9 141 E w0 w (gI Q) (X) (F0 m 110 ls [])) (x0 : Nat) (x1 : Int32) (x2 : Int32) (x3 : Nat) (x4 : Nat) (x5 : Int32) (x6 : Int32) (x7 : Int32) (x8 : Int32) (w : gW) (H : Heap) (locs : List Loc) (ls : Array Slot) (hS : gS E w0 w H locs) (hl : lv_has ls 15 [(0, .ref x0), (1, .int x1), (2, .int x2), (3, .ref x3), (4, .ref x4), (5, .int x5), (6, .int x6), (7, .int x7), (8, .int x8)]) (hw : wJ_X2_send_332 E K110 Q X x0 x1 x2 x3 x4 x5 x6 x7 x8 w) : gGo p l e s m args below meth c H locs 9 141 E w0 w (gI Q) (X) (F0 m 332 ls []) := by
  unfold wJ_X2_send_332 at hw
  refine lv_iinc (v := (x8 + 1)) (lv' := [(8, .int (x8 + 1)), (0, .ref x0), (1, .int x1), (2, .int x2), (3, .ref x3), (4, .ref x4), (5, .int x5), (6, .int x6), (7, .int x7)]) C.x C.b dX2_send_332 hl (k := 8) rfl rfl (by decide) rfl (fun ls hl => ?_)
  refine lv_goto (tgt := 110) C.x C.b dX2_send_335 (by decide) ?_
  exact hK110 _ _ _ _ _ _ _ _ _ _ _ _ _ hS (lv_sub hl [1, 2, 3, 4, 5, 6, 7, 8, 0] rfl) hw
def wJ_X2_send_326 (E : gE) (K110 : Nat → Int32 → Int32 → Nat → Nat → Int32 → Int32 → Int32 → Int32 → gW → Prop) (K187 : Nat → Int32 → Int32 → Nat → Nat → Int32 → Int32 → Int32 → Int32 → Int32 → Int32 → Int32 → gW → Prop) (Q : Int32 → gW → Prop) (X : String → gW → Prop) (x0 : Nat) (x1 : Int32) (x2 : Int32) (x3 : Nat) (x4 : Nat) (x5 : Int32) (x6 : Int32) (x7 : Int32) (x8 : Int32) (x10 : Int32) (x11 : Int32) (x12 : Int32) (w : gW) : Prop :=
  K187 x0 x1 x2 x3 x4 x5 x6 x7 x8 x10 x11 (x12 + 1) w
theorem kJ_X2_send_326 (C : gC p l s m args meth c cX2_send 15 (some .int) RX2 E [] "send") {Q : Int32 → gW → Prop} {X : String → gW → Prop} {K110 : Nat → Int32 → Int32 → Nat → Nat → Int32 → Int32 → Int32 → Int32 → gW → Prop} (hK110 : ∀ (x0 : Nat) (x1 : Int32) (x2 : Int32) (x3 : Nat) (x4 : Nat) (x5 : Int32) (x6 : Int32) (x7 : Int32) (x8 : Int32) (w : gW) (H : Heap) (locs : List Loc) (ls : Array Slot), gS E w0 w H locs → lv_has ls 15 [(0, .ref x0), (1, .int x1), (2, .int x2), (3, .ref x3), (4, .ref x4), (5, .int x5), (6, .int x6), (7, .int x7), (8, .int x8)] → K110 x0 x1 x2 x3 x4 x5 x6 x7 x8 w → gGo p l e s m args below meth c H locs 9 141 E w0 w (gI Q) (X) (F0 m 110 ls [])) {K187 : Nat → Int32 → Int32 → Nat → Nat → Int32 → Int32 → Int32 → Int32 → Int32 → Int32 → Int32 → gW → Prop} (hK187 : ∀ (x0 : Nat) (x1 : Int32) (x2 : Int32) (x3 : Nat) (x4 : Nat) (x5 : Int32) (x6 : Int32) (x7 : Int32) (x8 : Int32) (x10 : Int32) (x11 : Int32) (x12 : Int32) (w : gW) (H : Heap) (locs : List Loc) (ls : Array Slot), gS E w0 w H locs → lv_has ls 15 [(0, .ref x0), (1, .int x1), (2, .int x2), (3, .ref x3), (4, .ref x4), (5, .int x5), (6, .int x6), (7, .int x7), (8, .int x8), (10, .int x10), (11, .int x11), (12, .int x12)] → K187 x0 x1 x2 x3 x4 x5 x6 x7 x8 x10 x11 x12 w → gGo p l e s m args below meth c H locs 9 141 E w0 w (gI Q) (X) (F0 m 187 ls [])) (x0 : Nat) (x1 : Int32) (x2 : Int32) (x3 : Nat) (x4 : Nat) (x5 : Int32) (x6 : Int32) (x7 : Int32) (x8 : Int32) (x10 : Int32) (x11 : Int32) (x12 : Int32) (w : gW) (H : Heap) (locs : List Loc) (ls : Array Slot) (hS : gS E w0 w H locs) (hl : lv_has ls 15 [(0, .ref x0), (1, .int x1), (2, .int x2), (3, .ref x3), (4, .ref x4), (5, .int x5), (6, .int x6), (7, .int x7), (8, .int x8), (10, .int x10), (11, .int x11), (12, .int x12)]) (hw : wJ_X2_send_326 E K110 K187 Q X x0 x1 x2 x3 x4 x5 x6 x7 x8 x10 x11 x12 w) : gGo p l e s m args below meth c H locs 9 141 E w0 w (gI Q) (X) (F0 m 326 ls []) := by
  unfold wJ_X2_send_326 at hw
  refine lv_iinc (v := (x12 + 1)) (lv' := [(12, .int (x12 + 1)), (0, .ref x0), (1, .int x1), (2, .int x2), (3, .ref x3), (4, .ref x4), (5, .int x5), (6, .int x6), (7, .int x7), (8, .int x8), (10, .int x10), (11, .int x11)]) C.x C.b dX2_send_326 hl (k := 11) rfl rfl (by decide) rfl (fun ls hl => ?_)
  refine lv_goto (tgt := 187) C.x C.b dX2_send_329 (by decide) ?_
  exact hK187 _ _ _ _ _ _ _ _ _ _ _ _ _ _ _ _ hS (lv_sub hl [1, 2, 3, 4, 5, 6, 7, 8, 9, 10, 11, 0] rfl) hw
def wJ_X2_send_272 (E : gE) (K110 : Nat → Int32 → Int32 → Nat → Nat → Int32 → Int32 → Int32 → Int32 → gW → Prop) (K187 : Nat → Int32 → Int32 → Nat → Nat → Int32 → Int32 → Int32 → Int32 → Int32 → Int32 → Int32 → gW → Prop) (Q : Int32 → gW → Prop) (X : String → gW → Prop) (x0 : Nat) (x1 : Int32) (x2 : Int32) (x3 : Nat) (x4 : Nat) (x5 : Int32) (x7 : Int32) (x8 : Int32) (x10 : Int32) (x11 : Int32) (x12 : Int32) (x13 : Nat) (x14 : Int32) (y0 : Int32) (y1 : Int32) (w : gW) : Prop :=
  (x14 = 0 → (wJ_X2_send_326 E K110 K187 Q X x0 x1 x2 x3 x4 x5 (y1 + y0) x7 x8 x10 x11 x12 w)) ∧ (¬ x14 = 0 → (aL E 0 x3 x8 (fun v83 => aKind E x13 5 (wJ_X6_otherEnd E x13 v83 (fun r85 w84 => aL E 0 x4 r85 (fun v86 => (v86 = (-1) → (aL E 0 x3 x8 (fun v88 => aKind E x13 5 (wJ_X6_otherEnd E x13 v88 (fun r90 w89 => aS E 0 x4 r90 x12 (fun w91 => aL E 0 x3 x8 (fun v92 => aKind E x13 5 (wJ_X6_otherEnd E x13 v92 (fun r94 w93 => aS E 0 x3 x5 r94 (fun w95 => wJ_X2_send_326 E K110 K187 Q X x0 x1 x2 x3 x4 (x5 + 1) (y1 + y0) x7 x8 x10 x11 x12 w95) w93) w91) w91) w91) w89) w84) w84) w84)) ∧ (¬ v86 = (-1) → (wJ_X2_send_326 E K110 K187 Q X x0 x1 x2 x3 x4 x5 (y1 + y0) x7 x8 x10 x11 x12 w84))) w84) w) w) w))
theorem kJ_X2_send_272 (C : gC p l s m args meth c cX2_send 15 (some .int) RX2 E [] "send") {Q : Int32 → gW → Prop} {X : String → gW → Prop} {K110 : Nat → Int32 → Int32 → Nat → Nat → Int32 → Int32 → Int32 → Int32 → gW → Prop} (hK110 : ∀ (x0 : Nat) (x1 : Int32) (x2 : Int32) (x3 : Nat) (x4 : Nat) (x5 : Int32) (x6 : Int32) (x7 : Int32) (x8 : Int32) (w : gW) (H : Heap) (locs : List Loc) (ls : Array Slot), gS E w0 w H locs → lv_has ls 15 [(0, .ref x0), (1, .int x1), (2, .int x2), (3, .ref x3), (4, .ref x4), (5, .int x5), (6, .int x6), (7, .int x7), (8, .int x8)] → K110 x0 x1 x2 x3 x4 x5 x6 x7 x8 w → gGo p l e s m args below meth c H locs 9 141 E w0 w (gI Q) (X) (F0 m 110 ls [])) {K187 : Nat → Int32 → Int32 → Nat → Nat → Int32 → Int32 → Int32 → Int32 → Int32 → Int32 → Int32 → gW → Prop} (hK187 : ∀ (x0 : Nat) (x1 : Int32) (x2 : Int32) (x3 : Nat) (x4 : Nat) (x5 : Int32) (x6 : Int32) (x7 : Int32) (x8 : Int32) (x10 : Int32) (x11 : Int32) (x12 : Int32) (w : gW) (H : Heap) (locs : List Loc) (ls : Array Slot), gS E w0 w H locs → lv_has ls 15 [(0, .ref x0), (1, .int x1), (2, .int x2), (3, .ref x3), (4, .ref x4), (5, .int x5), (6, .int x6), (7, .int x7), (8, .int x8), (10, .int x10), (11, .int x11), (12, .int x12)] → K187 x0 x1 x2 x3 x4 x5 x6 x7 x8 x10 x11 x12 w → gGo p l e s m args below meth c H locs 9 141 E w0 w (gI Q) (X) (F0 m 187 ls [])) (x0 : Nat) (x1 : Int32) (x2 : Int32) (x3 : Nat) (x4 : Nat) (x5 : Int32) (x7 : Int32) (x8 : Int32) (x10 : Int32) (x11 : Int32) (x12 : Int32) (x13 : Nat) (x14 : Int32) (y0 : Int32) (y1 : Int32) (w : gW) (H : Heap) (locs : List Loc) (ls : Array Slot) (hS : gS E w0 w H locs) (hl : lv_has ls 15 [(0, .ref x0), (1, .int x1), (2, .int x2), (3, .ref x3), (4, .ref x4), (5, .int x5), (7, .int x7), (8, .int x8), (10, .int x10), (11, .int x11), (12, .int x12), (13, .ref x13), (14, .int x14)]) (hw : wJ_X2_send_272 E K110 K187 Q X x0 x1 x2 x3 x4 x5 x7 x8 x10 x11 x12 x13 x14 y0 y1 w) : gGo p l e s m args below meth c H locs 9 141 E w0 w (gI Q) (X) (F0 m 272 ls [.int y0, .int y1]) := by
  unfold wJ_X2_send_272 at hw
  refine lv_iadd C.x C.b dX2_send_272 ?_
  refine lv_istore (lv' := [(6, .int (y1 + y0)), (0, .ref x0), (1, .int x1), (2, .int x2), (3, .ref x3), (4, .ref x4), (5, .int x5), (7, .int x7), (8, .int x8), (10, .int x10), (11, .int x11), (12, .int x12), (13, .ref x13), (14, .int x14)]) C.x C.b dX2_send_273 hl (by decide) rfl (fun ls hl => ?_)
  refine lv_iload C.x C.b dX2_send_275 (lv_at hl 13 rfl) ?_
  refine lv_if_eq (tgt := 326) C.x C.b dX2_send_277 (by decide) (fun c82 => ?_) (fun c82 => ?_)
  · have hw := hw.1 c82
    exact kJ_X2_send_326 C hK110 hK187 _ _ _ _ _ _ _ _ _ _ _ _ _ _ _ _ hS (lv_sub hl [1, 2, 3, 4, 5, 6, 0, 7, 8, 9, 10, 11] rfl) hw
  · have hw := hw.2 c82
    refine lv_aload C.x C.b dX2_send_280 (lv_at hl 5 rfl) ?_
    refine lv_aload C.x C.b dX2_send_282 (lv_at hl 12 rfl) ?_
    refine lv_aload_n C.x C.b dX2_send_284 rfl (lv_at hl 4 rfl) ?_
    refine lv_iload C.x C.b dX2_send_285 (lv_at hl 8 rfl) ?_
    refine a_Li C hS dX2_send_287 hw (fun v83 hw => ?_)
    obtain ⟨fs, hq, hw⟩ := hw
    refine a_callV (rest := [.ref x4]) C hS hl 5 hq rfl (kJ_X6_otherEnd C.tr hw) q1074 q1075 q1076 q95 q1077 ny_X6_otherEnd rfl (Nat.le_of_ble_eq_true rfl) (Nat.le_of_ble_eq_true rfl) rfl (Nat.le_of_ble_eq_true rfl) dX2_send_288 (fun X1 w1 H1 l1 q1 ce hx => hx.elim) (fun v w84 H locs hq _ hS => ?_)
    obtain ⟨r85, rfl, hw⟩ := hq
    refine W.eq (g2 := F0 m 291 ls [.int r85, .ref x4]) rfl ?_
    refine a_Li C hS dX2_send_291 hw (fun v86 hw => ?_)
    refine lv_iconst (v := (-1)) C.x C.b dX2_send_292 (by decide) ?_
    refine lv_icmp_ne (tgt := 326) C.x C.b dX2_send_293 (by decide) (fun c87 => ?_) (fun c87 => ?_)
    · have hw := hw.2 c87
      exact kJ_X2_send_326 C hK110 hK187 _ _ _ _ _ _ _ _ _ _ _ _ _ _ _ _ hS (lv_sub hl [1, 2, 3, 4, 5, 6, 0, 7, 8, 9, 10, 11] rfl) hw
    · have hw := hw.1 c87
      refine lv_aload C.x C.b dX2_send_296 (lv_at hl 5 rfl) ?_
      refine lv_aload C.x C.b dX2_send_298 (lv_at hl 12 rfl) ?_
      refine lv_aload_n C.x C.b dX2_send_300 rfl (lv_at hl 4 rfl) ?_
      refine lv_iload C.x C.b dX2_send_301 (lv_at hl 8 rfl) ?_
      refine a_Li C hS dX2_send_303 hw (fun v88 hw => ?_)
      obtain ⟨fs, hq, hw⟩ := hw
      refine a_callV (rest := [.ref x4]) C hS hl 5 hq rfl (kJ_X6_otherEnd C.tr hw) q1074 q1075 q1076 q95 q1077 ny_X6_otherEnd rfl (Nat.le_of_ble_eq_true rfl) (Nat.le_of_ble_eq_true rfl) rfl (Nat.le_of_ble_eq_true rfl) dX2_send_304 (fun X1 w1 H1 l1 q1 ce hx => hx.elim) (fun v w89 H locs hq _ hS => ?_)
      obtain ⟨r90, rfl, hw⟩ := hq
      refine W.eq (g2 := F0 m 307 ls [.int r90, .ref x4]) rfl ?_
      refine lv_iload C.x C.b dX2_send_307 (lv_at hl 11 rfl) ?_
      refine a_Si C hS dX2_send_309 hw (fun w91 H locs hw hS => ?_)
      refine lv_aload_n C.x C.b dX2_send_310 rfl (lv_at hl 4 rfl) ?_
      refine lv_iload C.x C.b dX2_send_311 (lv_at hl 6 rfl) ?_
      refine lv_aload C.x C.b dX2_send_313 (lv_at hl 12 rfl) ?_
      refine lv_aload_n C.x C.b dX2_send_315 rfl (lv_at hl 4 rfl) ?_
      refine lv_iload C.x C.b dX2_send_316 (lv_at hl 8 rfl) ?_
      refine a_Li C hS dX2_send_318 hw (fun v92 hw => ?_)
      obtain ⟨fs, hq, hw⟩ := hw
      refine a_callV (rest := [.int x5, .ref x3]) C hS hl 5 hq rfl (kJ_X6_otherEnd C.tr hw) q1074 q1075 q1076 q95 q1077 ny_X6_otherEnd rfl (Nat.le_of_ble_eq_true rfl) (Nat.le_of_ble_eq_true rfl) rfl (Nat.le_of_ble_eq_true rfl) dX2_send_319 (fun X1 w1 H1 l1 q1 ce hx => hx.elim) (fun v w93 H locs hq _ hS => ?_)
      obtain ⟨r94, rfl, hw⟩ := hq
      refine W.eq (g2 := F0 m 322 ls [.int r94, .int x5, .ref x3]) rfl ?_
      refine a_Si C hS dX2_send_322 hw (fun w95 H locs hw hS => ?_)
      refine lv_iinc (v := (x5 + 1)) (lv' := [(5, .int (x5 + 1)), (6, .int (y1 + y0)), (0, .ref x0), (1, .int x1), (2, .int x2), (3, .ref x3), (4, .ref x4), (7, .int x7), (8, .int x8), (10, .int x10), (11, .int x11), (12, .int x12), (13, .ref x13), (14, .int x14)]) C.x C.b dX2_send_323 hl (k := 6) rfl rfl (by decide) rfl (fun ls hl => ?_)
      exact kJ_X2_send_326 C hK110 hK187 _ _ _ _ _ _ _ _ _ _ _ _ _ _ _ _ hS (lv_sub hl [2, 3, 4, 5, 6, 0, 1, 7, 8, 9, 10, 11] rfl) hw
def wJ_X2_send_258 (E : gE) (K110 : Nat → Int32 → Int32 → Nat → Nat → Int32 → Int32 → Int32 → Int32 → gW → Prop) (K187 : Nat → Int32 → Int32 → Nat → Nat → Int32 → Int32 → Int32 → Int32 → Int32 → Int32 → Int32 → gW → Prop) (Q : Int32 → gW → Prop) (X : String → gW → Prop) (x0 : Nat) (x1 : Int32) (x2 : Int32) (x3 : Nat) (x4 : Nat) (x5 : Int32) (x6 : Int32) (x7 : Int32) (x8 : Int32) (x10 : Int32) (x11 : Int32) (x12 : Int32) (x13 : Nat) (y0 : Int32) (w : gW) : Prop :=
  (y0 = 0 → (wJ_X2_send_272 E K110 K187 Q X x0 x1 x2 x3 x4 x5 x7 x8 x10 x11 x12 x13 y0 0 x6 w)) ∧ (¬ y0 = 0 → (wJ_X2_send_272 E K110 K187 Q X x0 x1 x2 x3 x4 x5 x7 x8 x10 x11 x12 x13 y0 1 x6 w))
theorem kJ_X2_send_258 (C : gC p l s m args meth c cX2_send 15 (some .int) RX2 E [] "send") {Q : Int32 → gW → Prop} {X : String → gW → Prop} {K110 : Nat → Int32 → Int32 → Nat → Nat → Int32 → Int32 → Int32 → Int32 → gW → Prop} (hK110 : ∀ (x0 : Nat) (x1 : Int32) (x2 : Int32) (x3 : Nat) (x4 : Nat) (x5 : Int32) (x6 : Int32) (x7 : Int32) (x8 : Int32) (w : gW) (H : Heap) (locs : List Loc) (ls : Array Slot), gS E w0 w H locs → lv_has ls 15 [(0, .ref x0), (1, .int x1), (2, .int x2), (3, .ref x3), (4, .ref x4), (5, .int x5), (6, .int x6), (7, .int x7), (8, .int x8)] → K110 x0 x1 x2 x3 x4 x5 x6 x7 x8 w → gGo p l e s m args below meth c H locs 9 141 E w0 w (gI Q) (X) (F0 m 110 ls [])) {K187 : Nat → Int32 → Int32 → Nat → Nat → Int32 → Int32 → Int32 → Int32 → Int32 → Int32 → Int32 → gW → Prop} (hK187 : ∀ (x0 : Nat) (x1 : Int32) (x2 : Int32) (x3 : Nat) (x4 : Nat) (x5 : Int32) (x6 : Int32) (x7 : Int32) (x8 : Int32) (x10 : Int32) (x11 : Int32) (x12 : Int32) (w : gW) (H : Heap) (locs : List Loc) (ls : Array Slot), gS E w0 w H locs → lv_has ls 15 [(0, .ref x0), (1, .int x1), (2, .int x2), (3, .ref x3), (4, .ref x4), (5, .int x5), (6, .int x6), (7, .int x7), (8, .int x8), (10, .int x10), (11, .int x11), (12, .int x12)] → K187 x0 x1 x2 x3 x4 x5 x6 x7 x8 x10 x11 x12 w → gGo p l e s m args below meth c H locs 9 141 E w0 w (gI Q) (X) (F0 m 187 ls [])) (x0 : Nat) (x1 : Int32) (x2 : Int32) (x3 : Nat) (x4 : Nat) (x5 : Int32) (x6 : Int32) (x7 : Int32) (x8 : Int32) (x10 : Int32) (x11 : Int32) (x12 : Int32) (x13 : Nat) (y0 : Int32) (w : gW) (H : Heap) (locs : List Loc) (ls : Array Slot) (hS : gS E w0 w H locs) (hl : lv_has ls 15 [(0, .ref x0), (1, .int x1), (2, .int x2), (3, .ref x3), (4, .ref x4), (5, .int x5), (6, .int x6), (7, .int x7), (8, .int x8), (10, .int x10), (11, .int x11), (12, .int x12), (13, .ref x13)]) (hw : wJ_X2_send_258 E K110 K187 Q X x0 x1 x2 x3 x4 x5 x6 x7 x8 x10 x11 x12 x13 y0 w) : gGo p l e s m args below meth c H locs 9 141 E w0 w (gI Q) (X) (F0 m 258 ls [.int y0]) := by
  unfold wJ_X2_send_258 at hw
  refine lv_istore (lv' := [(14, .int y0), (0, .ref x0), (1, .int x1), (2, .int x2), (3, .ref x3), (4, .ref x4), (5, .int x5), (6, .int x6), (7, .int x7), (8, .int x8), (10, .int x10), (11, .int x11), (12, .int x12), (13, .ref x13)]) C.x C.b dX2_send_258 hl (by decide) rfl (fun ls hl => ?_)
  refine lv_iload C.x C.b dX2_send_260 (lv_at hl 7 rfl) ?_
  refine lv_iload C.x C.b dX2_send_262 (lv_at hl 0 rfl) ?_
  refine lv_if_eq (tgt := 271) C.x C.b dX2_send_264 (by decide) (fun c81 => ?_) (fun c81 => ?_)
  · have hw := hw.1 c81
    refine lv_iconst (v := 0) C.x C.b dX2_send_271 (by decide) ?_
    exact kJ_X2_send_272 C hK110 hK187 _ _ _ _ _ _ _ _ _ _ _ _ _ _ _ _ _ _ _ hS (lv_sub hl [1, 2, 3, 4, 5, 6, 8, 9, 10, 11, 12, 13, 0] rfl) hw
  · have hw := hw.2 c81
    refine lv_iconst (v := 1) C.x C.b dX2_send_267 (by decide) ?_
    refine lv_goto (tgt := 272) C.x C.b dX2_send_268 (by decide) ?_
    exact kJ_X2_send_272 C hK110 hK187 _ _ _ _ _ _ _ _ _ _ _ _ _ _ _ _ _ _ _ hS (lv_sub hl [1, 2, 3, 4, 5, 6, 8, 9, 10, 11, 12, 13, 0] rfl) hw
def wJ_X2_send_257 (E : gE) (K110 : Nat → Int32 → Int32 → Nat → Nat → Int32 → Int32 → Int32 → Int32 → gW → Prop) (K187 : Nat → Int32 → Int32 → Nat → Nat → Int32 → Int32 → Int32 → Int32 → Int32 → Int32 → Int32 → gW → Prop) (Q : Int32 → gW → Prop) (X : String → gW → Prop) (x0 : Nat) (x1 : Int32) (x2 : Int32) (x3 : Nat) (x4 : Nat) (x5 : Int32) (x6 : Int32) (x7 : Int32) (x8 : Int32) (x10 : Int32) (x11 : Int32) (x12 : Int32) (x13 : Nat) (w : gW) : Prop :=
  wJ_X2_send_258 E K110 K187 Q X x0 x1 x2 x3 x4 x5 x6 x7 x8 x10 x11 x12 x13 0 w
theorem kJ_X2_send_257 (C : gC p l s m args meth c cX2_send 15 (some .int) RX2 E [] "send") {Q : Int32 → gW → Prop} {X : String → gW → Prop} {K110 : Nat → Int32 → Int32 → Nat → Nat → Int32 → Int32 → Int32 → Int32 → gW → Prop} (hK110 : ∀ (x0 : Nat) (x1 : Int32) (x2 : Int32) (x3 : Nat) (x4 : Nat) (x5 : Int32) (x6 : Int32) (x7 : Int32) (x8 : Int32) (w : gW) (H : Heap) (locs : List Loc) (ls : Array Slot), gS E w0 w H locs → lv_has ls 15 [(0, .ref x0), (1, .int x1), (2, .int x2), (3, .ref x3), (4, .ref x4), (5, .int x5), (6, .int x6), (7, .int x7), (8, .int x8)] → K110 x0 x1 x2 x3 x4 x5 x6 x7 x8 w → gGo p l e s m args below meth c H locs 9 141 E w0 w (gI Q) (X) (F0 m 110 ls [])) {K187 : Nat → Int32 → Int32 → Nat → Nat → Int32 → Int32 → Int32 → Int32 → Int32 → Int32 → Int32 → gW → Prop} (hK187 : ∀ (x0 : Nat) (x1 : Int32) (x2 : Int32) (x3 : Nat) (x4 : Nat) (x5 : Int32) (x6 : Int32) (x7 : Int32) (x8 : Int32) (x10 : Int32) (x11 : Int32) (x12 : Int32) (w : gW) (H : Heap) (locs : List Loc) (ls : Array Slot), gS E w0 w H locs → lv_has ls 15 [(0, .ref x0), (1, .int x1), (2, .int x2), (3, .ref x3), (4, .ref x4), (5, .int x5), (6, .int x6), (7, .int x7), (8, .int x8), (10, .int x10), (11, .int x11), (12, .int x12)] → K187 x0 x1 x2 x3 x4 x5 x6 x7 x8 x10 x11 x12 w → gGo p l e s m args below meth c H locs 9 141 E w0 w (gI Q) (X) (F0 m 187 ls [])) (x0 : Nat) (x1 : Int32) (x2 : Int32) (x3 : Nat) (x4 : Nat) (x5 : Int32) (x6 : Int32) (x7 : Int32) (x8 : Int32) (x10 : Int32) (x11 : Int32) (x12 : Int32) (x13 : Nat) (w : gW) (H : Heap) (locs : List Loc) (ls : Array Slot) (hS : gS E w0 w H locs) (hl : lv_has ls 15 [(0, .ref x0), (1, .int x1), (2, .int x2), (3, .ref x3), (4, .ref x4), (5, .int x5), (6, .int x6), (7, .int x7), (8, .int x8), (10, .int x10), (11, .int x11), (12, .int x12), (13, .ref x13)]) (hw : wJ_X2_send_257 E K110 K187 Q X x0 x1 x2 x3 x4 x5 x6 x7 x8 x10 x11 x12 x13 w) : gGo p l e s m args below meth c H locs 9 141 E w0 w (gI Q) (X) (F0 m 257 ls []) := by
  unfold wJ_X2_send_257 at hw
  refine lv_iconst (v := 0) C.x C.b dX2_send_257 (by decide) ?_
  exact kJ_X2_send_258 C hK110 hK187 _ _ _ _ _ _ _ _ _ _ _ _ _ _ _ _ _ _ hS (lv_sub hl [0, 1, 2, 3, 4, 5, 6, 7, 8, 9, 10, 11, 12] rfl) hw
def wJ_X2_send_253 (E : gE) (K110 : Nat → Int32 → Int32 → Nat → Nat → Int32 → Int32 → Int32 → Int32 → gW → Prop) (K187 : Nat → Int32 → Int32 → Nat → Nat → Int32 → Int32 → Int32 → Int32 → Int32 → Int32 → Int32 → gW → Prop) (Q : Int32 → gW → Prop) (X : String → gW → Prop) (x0 : Nat) (x1 : Int32) (x2 : Int32) (x3 : Nat) (x4 : Nat) (x5 : Int32) (x6 : Int32) (x7 : Int32) (x8 : Int32) (x10 : Int32) (x11 : Int32) (x12 : Int32) (x13 : Nat) (w : gW) : Prop :=
  wJ_X2_send_258 E K110 K187 Q X x0 x1 x2 x3 x4 x5 x6 x7 x8 x10 x11 x12 x13 1 w
theorem kJ_X2_send_253 (C : gC p l s m args meth c cX2_send 15 (some .int) RX2 E [] "send") {Q : Int32 → gW → Prop} {X : String → gW → Prop} {K110 : Nat → Int32 → Int32 → Nat → Nat → Int32 → Int32 → Int32 → Int32 → gW → Prop} (hK110 : ∀ (x0 : Nat) (x1 : Int32) (x2 : Int32) (x3 : Nat) (x4 : Nat) (x5 : Int32) (x6 : Int32) (x7 : Int32) (x8 : Int32) (w : gW) (H : Heap) (locs : List Loc) (ls : Array Slot), gS E w0 w H locs → lv_has ls 15 [(0, .ref x0), (1, .int x1), (2, .int x2), (3, .ref x3), (4, .ref x4), (5, .int x5), (6, .int x6), (7, .int x7), (8, .int x8)] → K110 x0 x1 x2 x3 x4 x5 x6 x7 x8 w → gGo p l e s m args below meth c H locs 9 141 E w0 w (gI Q) (X) (F0 m 110 ls [])) {K187 : Nat → Int32 → Int32 → Nat → Nat → Int32 → Int32 → Int32 → Int32 → Int32 → Int32 → Int32 → gW → Prop} (hK187 : ∀ (x0 : Nat) (x1 : Int32) (x2 : Int32) (x3 : Nat) (x4 : Nat) (x5 : Int32) (x6 : Int32) (x7 : Int32) (x8 : Int32) (x10 : Int32) (x11 : Int32) (x12 : Int32) (w : gW) (H : Heap) (locs : List Loc) (ls : Array Slot), gS E w0 w H locs → lv_has ls 15 [(0, .ref x0), (1, .int x1), (2, .int x2), (3, .ref x3), (4, .ref x4), (5, .int x5), (6, .int x6), (7, .int x7), (8, .int x8), (10, .int x10), (11, .int x11), (12, .int x12)] → K187 x0 x1 x2 x3 x4 x5 x6 x7 x8 x10 x11 x12 w → gGo p l e s m args below meth c H locs 9 141 E w0 w (gI Q) (X) (F0 m 187 ls [])) (x0 : Nat) (x1 : Int32) (x2 : Int32) (x3 : Nat) (x4 : Nat) (x5 : Int32) (x6 : Int32) (x7 : Int32) (x8 : Int32) (x10 : Int32) (x11 : Int32) (x12 : Int32) (x13 : Nat) (w : gW) (H : Heap) (locs : List Loc) (ls : Array Slot) (hS : gS E w0 w H locs) (hl : lv_has ls 15 [(0, .ref x0), (1, .int x1), (2, .int x2), (3, .ref x3), (4, .ref x4), (5, .int x5), (6, .int x6), (7, .int x7), (8, .int x8), (10, .int x10), (11, .int x11), (12, .int x12), (13, .ref x13)]) (hw : wJ_X2_send_253 E K110 K187 Q X x0 x1 x2 x3 x4 x5 x6 x7 x8 x10 x11 x12 x13 w) : gGo p l e s m args below meth c H locs 9 141 E w0 w (gI Q) (X) (F0 m 253 ls []) := by
  unfold wJ_X2_send_253 at hw
  refine lv_iconst (v := 1) C.x C.b dX2_send_253 (by decide) ?_
  refine lv_goto (tgt := 258) C.x C.b dX2_send_254 (by decide) ?_
  exact kJ_X2_send_258 C hK110 hK187 _ _ _ _ _ _ _ _ _ _ _ _ _ _ _ _ _ _ hS (lv_sub hl [0, 1, 2, 3, 4, 5, 6, 7, 8, 9, 10, 11, 12] rfl) hw
def wJ_X2_send_187 (E : gE) (K110 : Nat → Int32 → Int32 → Nat → Nat → Int32 → Int32 → Int32 → Int32 → gW → Prop) (Q : Int32 → gW → Prop) (X : String → gW → Prop) : Nat → Nat → Int32 → Int32 → Nat → Nat → Int32 → Int32 → Int32 → Int32 → Int32 → Int32 → Int32 → gW → Prop
  | 0, _, _, _, _, _, _, _, _, _, _, _, _, _ => False
  | n + 1, x0, x1, x2, x3, x4, x5, x6, x7, x8, x10, x11, x12, w => aR E x0 1 1 (fun r61 => ∃ a62 : Nat, r61 = some a62 ∧ (aKind E a62 8 (wJ_J2_size E a62 (fun r64 w63 => (r64 ≤ x12 → (wJ_X2_send_332 E K110 Q X x0 x1 x2 x3 x4 x5 x6 x7 x8 w63)) ∧ (¬ r64 ≤ x12 → (aR E x0 1 1 (fun r66 => ∃ a67 : Nat, r66 = some a67 ∧ (aKind E a67 8 (wJ_J2_get E a67 x12 (fun r69 w68 => ∃ a70 : Nat, r69 = some a70 ∧ (aKind E a70 5 (aL E 0 x3 x8 (fun v71 => aKind E a70 5 (wJ_X6_isAt E a70 v71 (fun r73 w72 => (r73 = 0 → (wJ_X2_send_257 E K110 (fun x0 x1 x2 x3 x4 x5 x6 x7 x8 x10 x11 x12 w => wJ_X2_send_187 E K110 Q X n x0 x1 x2 x3 x4 x5 x6 x7 x8 x10 x11 x12 w) Q X x0 x1 x2 x3 x4 x5 x6 x7 x8 x10 x11 x12 a70 w72)) ∧ (¬ r73 = 0 → (aKind E a70 5 (wJ_X6_carries E a70 (fun r76 w75 => (r76 = 0 → (wJ_X2_send_257 E K110 (fun x0 x1 x2 x3 x4 x5 x6 x7 x8 x10 x11 x12 w => wJ_X2_send_187 E K110 Q X n x0 x1 x2 x3 x4 x5 x6 x7 x8 x10 x11 x12 w) Q X x0 x1 x2 x3 x4 x5 x6 x7 x8 x10 x11 x12 a70 w75)) ∧ (¬ r76 = 0 → ((x12 = x10 → (wJ_X2_send_257 E K110 (fun x0 x1 x2 x3 x4 x5 x6 x7 x8 x10 x11 x12 w => wJ_X2_send_187 E K110 Q X n x0 x1 x2 x3 x4 x5 x6 x7 x8 x10 x11 x12 w) Q X x0 x1 x2 x3 x4 x5 x6 x7 x8 x10 x11 x12 a70 w75)) ∧ (¬ x12 = x10 → ((x11 = (-1) → (wJ_X2_send_253 E K110 (fun x0 x1 x2 x3 x4 x5 x6 x7 x8 x10 x11 x12 w => wJ_X2_send_187 E K110 Q X n x0 x1 x2 x3 x4 x5 x6 x7 x8 x10 x11 x12 w) Q X x0 x1 x2 x3 x4 x5 x6 x7 x8 x10 x11 x12 a70 w75)) ∧ (¬ x11 = (-1) → ((x11 = x12 → (wJ_X2_send_253 E K110 (fun x0 x1 x2 x3 x4 x5 x6 x7 x8 x10 x11 x12 w => wJ_X2_send_187 E K110 Q X n x0 x1 x2 x3 x4 x5 x6 x7 x8 x10 x11 x12 w) Q X x0 x1 x2 x3 x4 x5 x6 x7 x8 x10 x11 x12 a70 w75)) ∧ (¬ x11 = x12 → (wJ_X2_send_257 E K110 (fun x0 x1 x2 x3 x4 x5 x6 x7 x8 x10 x11 x12 w => wJ_X2_send_187 E K110 Q X n x0 x1 x2 x3 x4 x5 x6 x7 x8 x10 x11 x12 w) Q X x0 x1 x2 x3 x4 x5 x6 x7 x8 x10 x11 x12 a70 w75))))))))) w72) w72))) w68) w68) w68) w68)) w63) w63)) w63))) w) w)) w
theorem kJ_X2_send_187 (C : gC p l s m args meth c cX2_send 15 (some .int) RX2 E [] "send") {Q : Int32 → gW → Prop} {X : String → gW → Prop} {K110 : Nat → Int32 → Int32 → Nat → Nat → Int32 → Int32 → Int32 → Int32 → gW → Prop} (hK110 : ∀ (x0 : Nat) (x1 : Int32) (x2 : Int32) (x3 : Nat) (x4 : Nat) (x5 : Int32) (x6 : Int32) (x7 : Int32) (x8 : Int32) (w : gW) (H : Heap) (locs : List Loc) (ls : Array Slot), gS E w0 w H locs → lv_has ls 15 [(0, .ref x0), (1, .int x1), (2, .int x2), (3, .ref x3), (4, .ref x4), (5, .int x5), (6, .int x6), (7, .int x7), (8, .int x8)] → K110 x0 x1 x2 x3 x4 x5 x6 x7 x8 w → gGo p l e s m args below meth c H locs 9 141 E w0 w (gI Q) (X) (F0 m 110 ls [])) : ∀ (n : Nat) (x0 : Nat) (x1 : Int32) (x2 : Int32) (x3 : Nat) (x4 : Nat) (x5 : Int32) (x6 : Int32) (x7 : Int32) (x8 : Int32) (x10 : Int32) (x11 : Int32) (x12 : Int32) (w : gW) (H : Heap) (locs : List Loc) (ls : Array Slot), gS E w0 w H locs → lv_has ls 15 [(0, .ref x0), (1, .int x1), (2, .int x2), (3, .ref x3), (4, .ref x4), (5, .int x5), (6, .int x6), (7, .int x7), (8, .int x8), (10, .int x10), (11, .int x11), (12, .int x12)] → wJ_X2_send_187 E K110 Q X n x0 x1 x2 x3 x4 x5 x6 x7 x8 x10 x11 x12 w → gGo p l e s m args below meth c H locs 9 141 E w0 w (gI Q) (X) (F0 m 187 ls []) := by
  intro n
  induction n with
  | zero =>
    intro x0 x1 x2 x3 x4 x5 x6 x7 x8 x10 x11 x12 w H locs ls hS hl hw
    exact hw.elim
  | succ n ih =>
    intro x0 x1 x2 x3 x4 x5 x6 x7 x8 x10 x11 x12 w H locs ls hS hl hw
    unfold wJ_X2_send_187 at hw
    refine lv_iload C.x C.b dX2_send_187 (lv_at hl 11 rfl) ?_
    refine lv_aload_n C.x C.b dX2_send_189 rfl (lv_at hl 0 rfl) ?_
    refine a_R C hS in_X2 rfl (k := 1) (ci := 1) (by decide) q154 (fun _ h9 => h9) dX2_send_190 hw (fun r61 hw => ?_)
    obtain ⟨a62, e9, hw9⟩ := hw; subst e9; have hw := hw9; clear hw9
    have hl : lv_has ls 15 [(0, .ref x0), (1, .int x1), (2, .int x2), (3, .ref x3), (4, .ref x4), (5, .int x5), (6, .int x6), (7, .int x7), (8, .int x8), (10, .int x10), (11, .int x11), (12, .int x12)] := hl
    refine W.eq (g2 := F0 m 193 ls [.ref a62, .int x12]) rfl ?_
    obtain ⟨fs, hq, hw⟩ := hw
    refine a_callV (rest := [.int x12]) C hS hl 8 hq rfl (kJ_J2_size C.tr hw) q384 q373 q374 q81 q375 ny_J2_size rfl (Nat.le_of_ble_eq_true rfl) (Nat.le_of_ble_eq_true rfl) rfl (Nat.le_of_ble_eq_true rfl) dX2_send_193 (fun X1 w1 H1 l1 q1 ce hx => hx.elim) (fun v w63 H locs hq _ hS => ?_)
    obtain ⟨r64, rfl, hw⟩ := hq
    refine W.eq (g2 := F0 m 196 ls [.int r64, .int x12]) rfl ?_
    refine lv_icmp_ge (tgt := 332) C.x C.b dX2_send_196 (by decide) (fun c65 => ?_) (fun c65 => ?_)
    · have hw := hw.1 c65
      exact kJ_X2_send_332 C hK110 _ _ _ _ _ _ _ _ _ _ _ _ _ hS (lv_sub hl [0, 1, 2, 3, 4, 5, 6, 7, 8] rfl) hw
    · have hw := hw.2 c65
      refine lv_aload_n C.x C.b dX2_send_199 rfl (lv_at hl 0 rfl) ?_
      refine a_R C hS in_X2 rfl (k := 1) (ci := 1) (by decide) q154 (fun _ h9 => h9) dX2_send_200 hw (fun r66 hw => ?_)
      refine lv_iload C.x C.b dX2_send_203 (lv_at hl 11 rfl) ?_
      obtain ⟨a67, e9, hw9⟩ := hw; subst e9; have hw := hw9; clear hw9
      have hl : lv_has ls 15 [(0, .ref x0), (1, .int x1), (2, .int x2), (3, .ref x3), (4, .ref x4), (5, .int x5), (6, .int x6), (7, .int x7), (8, .int x8), (10, .int x10), (11, .int x11), (12, .int x12)] := hl
      refine W.eq (g2 := F0 m 205 ls [.int x12, .ref a67]) rfl ?_
      obtain ⟨fs, hq, hw⟩ := hw
      refine a_callV (rest := []) C hS hl 8 hq rfl (kJ_J2_get C.tr hw) q389 q390 q391 q81 q392 ny_J2_get rfl (Nat.le_of_ble_eq_true rfl) (Nat.le_of_ble_eq_true rfl) rfl (Nat.le_of_ble_eq_true rfl) dX2_send_205 (fun X1 w1 H1 l1 q1 ce hx => hx.elim) (fun v w68 H locs hq _ hS => ?_)
      obtain ⟨r69, rfl, hw⟩ := hq
      refine W.eq (g2 := F0 m 208 ls [va_rf r69]) rfl ?_
      obtain ⟨a70, e9, hw9⟩ := hw; subst e9; have hw := hw9; clear hw9
      have hl : lv_has ls 15 [(0, .ref x0), (1, .int x1), (2, .int x2), (3, .ref x3), (4, .ref x4), (5, .int x5), (6, .int x6), (7, .int x7), (8, .int x8), (10, .int x10), (11, .int x11), (12, .int x12)] := hl
      refine W.eq (g2 := F0 m 208 ls [.ref a70]) rfl ?_
      refine a_cast (ci := 5) C hS rfl q403 dX2_send_208 hw (fun hw => ?_)
      refine lv_astore (lv' := [(13, .ref a70), (0, .ref x0), (1, .int x1), (2, .int x2), (3, .ref x3), (4, .ref x4), (5, .int x5), (6, .int x6), (7, .int x7), (8, .int x8), (10, .int x10), (11, .int x11), (12, .int x12)]) C.x C.b dX2_send_211 hl (by decide) rfl (fun ls hl => ?_)
      refine lv_aload C.x C.b dX2_send_213 (lv_at hl 0 rfl) ?_
      refine lv_aload_n C.x C.b dX2_send_215 rfl (lv_at hl 4 rfl) ?_
      refine lv_iload C.x C.b dX2_send_216 (lv_at hl 9 rfl) ?_
      refine a_Li C hS dX2_send_218 hw (fun v71 hw => ?_)
      obtain ⟨fs, hq, hw⟩ := hw
      refine a_callV (rest := []) C hS hl 5 hq rfl (kJ_X6_isAt C.tr hw) q1070 q1071 q1072 q95 q1073 ny_X6_isAt rfl (Nat.le_of_ble_eq_true rfl) (Nat.le_of_ble_eq_true rfl) rfl (Nat.le_of_ble_eq_true rfl) dX2_send_219 (fun X1 w1 H1 l1 q1 ce hx => hx.elim) (fun v w72 H locs hq _ hS => ?_)
      obtain ⟨r73, rfl, hw⟩ := hq
      refine W.eq (g2 := F0 m 222 ls [.int r73]) rfl ?_
      refine lv_if_eq (tgt := 257) C.x C.b dX2_send_222 (by decide) (fun c74 => ?_) (fun c74 => ?_)
      · have hw := hw.1 c74
        exact kJ_X2_send_257 C hK110 ih _ _ _ _ _ _ _ _ _ _ _ _ _ _ _ _ _ hS (lv_sub hl [1, 2, 3, 4, 5, 6, 7, 8, 9, 10, 11, 12, 0] rfl) hw
      · have hw := hw.2 c74
        refine lv_aload C.x C.b dX2_send_225 (lv_at hl 0 rfl) ?_
        obtain ⟨fs, hq, hw⟩ := hw
        refine a_callV (rest := []) C hS hl 5 hq rfl (kJ_X6_carries C.tr hw) q404 q405 q406 q95 q407 ny_X6_carries rfl (Nat.le_of_ble_eq_true rfl) (Nat.le_of_ble_eq_true rfl) rfl (Nat.le_of_ble_eq_true rfl) dX2_send_227 (fun X1 w1 H1 l1 q1 ce hx => hx.elim) (fun v w75 H locs hq _ hS => ?_)
        obtain ⟨r76, rfl, hw⟩ := hq
        refine W.eq (g2 := F0 m 230 ls [.int r76]) rfl ?_
        refine lv_if_eq (tgt := 257) C.x C.b dX2_send_230 (by decide) (fun c77 => ?_) (fun c77 => ?_)
        · have hw := hw.1 c77
          exact kJ_X2_send_257 C hK110 ih _ _ _ _ _ _ _ _ _ _ _ _ _ _ _ _ _ hS (lv_sub hl [1, 2, 3, 4, 5, 6, 7, 8, 9, 10, 11, 12, 0] rfl) hw
        · have hw := hw.2 c77
          refine lv_iload C.x C.b dX2_send_233 (lv_at hl 12 rfl) ?_
          refine lv_iload C.x C.b dX2_send_235 (lv_at hl 10 rfl) ?_
          refine lv_icmp_eq (tgt := 257) C.x C.b dX2_send_237 (by decide) (fun c78 => ?_) (fun c78 => ?_)
          · have hw := hw.1 c78
            exact kJ_X2_send_257 C hK110 ih _ _ _ _ _ _ _ _ _ _ _ _ _ _ _ _ _ hS (lv_sub hl [1, 2, 3, 4, 5, 6, 7, 8, 9, 10, 11, 12, 0] rfl) hw
          · have hw := hw.2 c78
            refine lv_iload C.x C.b dX2_send_240 (lv_at hl 11 rfl) ?_
            refine lv_iconst (v := (-1)) C.x C.b dX2_send_242 (by decide) ?_
            refine lv_icmp_eq (tgt := 253) C.x C.b dX2_send_243 (by decide) (fun c79 => ?_) (fun c79 => ?_)
            · have hw := hw.1 c79
              exact kJ_X2_send_253 C hK110 ih _ _ _ _ _ _ _ _ _ _ _ _ _ _ _ _ _ hS (lv_sub hl [1, 2, 3, 4, 5, 6, 7, 8, 9, 10, 11, 12, 0] rfl) hw
            · have hw := hw.2 c79
              refine lv_iload C.x C.b dX2_send_246 (lv_at hl 11 rfl) ?_
              refine lv_iload C.x C.b dX2_send_248 (lv_at hl 12 rfl) ?_
              refine lv_icmp_ne (tgt := 257) C.x C.b dX2_send_250 (by decide) (fun c80 => ?_) (fun c80 => ?_)
              · have hw := hw.2 c80
                exact kJ_X2_send_257 C hK110 ih _ _ _ _ _ _ _ _ _ _ _ _ _ _ _ _ _ hS (lv_sub hl [1, 2, 3, 4, 5, 6, 7, 8, 9, 10, 11, 12, 0] rfl) hw
              · have hw := hw.1 c80
                exact kJ_X2_send_253 C hK110 ih _ _ _ _ _ _ _ _ _ _ _ _ _ _ _ _ _ hS (lv_sub hl [1, 2, 3, 4, 5, 6, 7, 8, 9, 10, 11, 12, 0] rfl) hw
def wJ_X2_send_110 (E : gE) (Q : Int32 → gW → Prop) (X : String → gW → Prop) : Nat → Nat → Int32 → Int32 → Nat → Nat → Int32 → Int32 → Int32 → Int32 → gW → Prop
  | 0, _, _, _, _, _, _, _, _, _, _ => False
  | n + 1, x0, x1, x2, x3, x4, x5, x6, x7, x8, w => (x5 ≤ x8 → (aI E x0 1 12 (fun v35 => aP x0 1 12 (.int (v35 + 1)) (fun w36 => aI E x0 1 13 (fun v37 => (x7 = 0 → (wJ_X2_send_363 E Q X x0 x6 x7 0 v37 x0 w36)) ∧ (¬ x7 = 0 → (wJ_X2_send_363 E Q X x0 x6 x7 1 v37 x0 w36))) w36) w) w)) ∧ (¬ x5 ≤ x8 → (aR E x0 1 0 (fun r39 => aL E 0 x3 x8 (fun v40 => ∃ a41 : Nat, r39 = some a41 ∧ (aKind E a41 8 (wJ_J2_get E a41 v40 (fun r43 w42 => ∃ a44 : Nat, r43 = some a44 ∧ (aKind E a44 2 (aL E 0 x3 x8 (fun v45 => aL E 0 x4 v45 (fun v46 => aI E x0 1 6 (fun v47 => aKind E a44 2 (wJ_X3_learn E a44 x1 v46 v47 (fun w48 => aR E x0 1 2 (fun r49 => ∃ a50 : Nat, r49 = some a50 ∧ (aL E 0 a50 x2 (fun v51 => aL E 0 x3 x8 (fun v52 => (v51 = v52 → (wJ_X2_send_332 E (fun x0 x1 x2 x3 x4 x5 x6 x7 x8 w => wJ_X2_send_110 E Q X n x0 x1 x2 x3 x4 x5 x6 x7 x8 w) Q X x0 x1 x2 x3 x4 x5 x6 1 x8 w48)) ∧ (¬ v51 = v52 → (aKind E x0 1 (wJ_X2_wayTo E x0 a44 x2 v46 (fun r55 w54 => ∃ k56 : Nat, wJ_X2_send_187 E (fun x0 x1 x2 x3 x4 x5 x6 x7 x8 w => wJ_X2_send_110 E Q X n x0 x1 x2 x3 x4 x5 x6 x7 x8 w) Q X k56 x0 x1 x2 x3 x4 x5 x6 x7 x8 v46 r55 0 w54) w48) w48))) w48) w48)) w48) w42) w42) w42) w42) w42) w42)) w) w)) w) w))
theorem kJ_X2_send_110 (C : gC p l s m args meth c cX2_send 15 (some .int) RX2 E [] "send") {Q : Int32 → gW → Prop} {X : String → gW → Prop} : ∀ (n : Nat) (x0 : Nat) (x1 : Int32) (x2 : Int32) (x3 : Nat) (x4 : Nat) (x5 : Int32) (x6 : Int32) (x7 : Int32) (x8 : Int32) (w : gW) (H : Heap) (locs : List Loc) (ls : Array Slot), gS E w0 w H locs → lv_has ls 15 [(0, .ref x0), (1, .int x1), (2, .int x2), (3, .ref x3), (4, .ref x4), (5, .int x5), (6, .int x6), (7, .int x7), (8, .int x8)] → wJ_X2_send_110 E Q X n x0 x1 x2 x3 x4 x5 x6 x7 x8 w → gGo p l e s m args below meth c H locs 9 141 E w0 w (gI Q) (X) (F0 m 110 ls []) := by
  intro n
  induction n with
  | zero =>
    intro x0 x1 x2 x3 x4 x5 x6 x7 x8 w H locs ls hS hl hw
    exact hw.elim
  | succ n ih =>
    intro x0 x1 x2 x3 x4 x5 x6 x7 x8 w H locs ls hS hl hw
    unfold wJ_X2_send_110 at hw
    refine lv_iload C.x C.b dX2_send_110 (lv_at hl 8 rfl) ?_
    refine lv_iload C.x C.b dX2_send_112 (lv_at hl 5 rfl) ?_
    refine lv_icmp_ge (tgt := 338) C.x C.b dX2_send_114 (by decide) (fun c34 => ?_) (fun c34 => ?_)
    · have hw := hw.1 c34
      refine lv_aload_n C.x C.b dX2_send_338 rfl (lv_at hl 0 rfl) ?_
      refine lv_dup C.x C.b dX2_send_339 rfl ?_
      refine a_I C hS in_X2 rfl (k := 12) (ci := 1) (by decide) q172 (fun _ h9 => h9) dX2_send_340 hw (fun v35 hw => ?_)
      refine lv_iconst (v := 1) C.x C.b dX2_send_343 (by decide) ?_
      refine lv_iadd C.x C.b dX2_send_344 ?_
      refine a_P C hS in_X2 tyX2 tyX2_ok nmX2 rfl (k := 12) (ci := 1) (by decide) q172 (fun _ h9 => h9) rfl rfl rfl dX2_send_345 hw (fun w36 H locs hw hS => ?_)
      refine lv_aload_n C.x C.b dX2_send_348 rfl (lv_at hl 0 rfl) ?_
      refine lv_dup C.x C.b dX2_send_349 rfl ?_
      refine a_I C hS in_X2 rfl (k := 13) (ci := 1) (by decide) q173 (fun _ h9 => h9) dX2_send_350 hw (fun v37 hw => ?_)
      refine lv_iload C.x C.b dX2_send_353 (lv_at hl 7 rfl) ?_
      refine lv_if_eq (tgt := 362) C.x C.b dX2_send_355 (by decide) (fun c38 => ?_) (fun c38 => ?_)
      · have hw := hw.1 c38
        refine lv_iconst (v := 0) C.x C.b dX2_send_362 (by decide) ?_
        exact kJ_X2_send_363 C _ _ _ _ _ _ _ _ _ _ hS (lv_sub hl [0, 6, 7] rfl) hw
      · have hw := hw.2 c38
        refine lv_iconst (v := 1) C.x C.b dX2_send_358 (by decide) ?_
        refine lv_goto (tgt := 363) C.x C.b dX2_send_359 (by decide) ?_
        exact kJ_X2_send_363 C _ _ _ _ _ _ _ _ _ _ hS (lv_sub hl [0, 6, 7] rfl) hw
    · have hw := hw.2 c34
      refine lv_aload_n C.x C.b dX2_send_117 rfl (lv_at hl 0 rfl) ?_
      refine a_R C hS in_X2 rfl (k := 0) (ci := 1) (by decide) q152 (fun _ h9 => h9) dX2_send_118 hw (fun r39 hw => ?_)
      refine lv_aload_n C.x C.b dX2_send_121 rfl (lv_at hl 3 rfl) ?_
      refine lv_iload C.x C.b dX2_send_122 (lv_at hl 8 rfl) ?_
      refine a_Li C hS dX2_send_124 hw (fun v40 hw => ?_)
      obtain ⟨a41, e9, hw9⟩ := hw; subst e9; have hw := hw9; clear hw9
      have hl : lv_has ls 15 [(0, .ref x0), (1, .int x1), (2, .int x2), (3, .ref x3), (4, .ref x4), (5, .int x5), (6, .int x6), (7, .int x7), (8, .int x8)] := hl
      refine W.eq (g2 := F0 m 125 ls [.int v40, .ref a41]) rfl ?_
      obtain ⟨fs, hq, hw⟩ := hw
      refine a_callV (rest := []) C hS hl 8 hq rfl (kJ_J2_get C.tr hw) q389 q390 q391 q81 q392 ny_J2_get rfl (Nat.le_of_ble_eq_true rfl) (Nat.le_of_ble_eq_true rfl) rfl (Nat.le_of_ble_eq_true rfl) dX2_send_125 (fun X1 w1 H1 l1 q1 ce hx => hx.elim) (fun v w42 H locs hq _ hS => ?_)
      obtain ⟨r43, rfl, hw⟩ := hq
      refine W.eq (g2 := F0 m 128 ls [va_rf r43]) rfl ?_
      obtain ⟨a44, e9, hw9⟩ := hw; subst e9; have hw := hw9; clear hw9
      have hl : lv_has ls 15 [(0, .ref x0), (1, .int x1), (2, .int x2), (3, .ref x3), (4, .ref x4), (5, .int x5), (6, .int x6), (7, .int x7), (8, .int x8)] := hl
      refine W.eq (g2 := F0 m 128 ls [.ref a44]) rfl ?_
      refine a_cast (ci := 2) C hS rfl q207 dX2_send_128 hw (fun hw => ?_)
      refine lv_astore (lv' := [(9, .ref a44), (0, .ref x0), (1, .int x1), (2, .int x2), (3, .ref x3), (4, .ref x4), (5, .int x5), (6, .int x6), (7, .int x7), (8, .int x8)]) C.x C.b dX2_send_131 hl (by decide) rfl (fun ls hl => ?_)
      refine lv_aload C.x C.b dX2_send_133 (lv_at hl 5 rfl) ?_
      refine lv_aload_n C.x C.b dX2_send_135 rfl (lv_at hl 4 rfl) ?_
      refine lv_iload C.x C.b dX2_send_136 (lv_at hl 9 rfl) ?_
      refine a_Li C hS dX2_send_138 hw (fun v45 hw => ?_)
      refine a_Li C hS dX2_send_139 hw (fun v46 hw => ?_)
      refine lv_istore (lv' := [(10, .int v46), (9, .ref a44), (0, .ref x0), (1, .int x1), (2, .int x2), (3, .ref x3), (4, .ref x4), (5, .int x5), (6, .int x6), (7, .int x7), (8, .int x8)]) C.x C.b dX2_send_140 hl (by decide) rfl (fun ls hl => ?_)
      refine lv_aload C.x C.b dX2_send_142 (lv_at hl 1 rfl) ?_
      refine lv_iload_n C.x C.b dX2_send_144 rfl (lv_at hl 3 rfl) ?_
      refine lv_iload C.x C.b dX2_send_145 (lv_at hl 0 rfl) ?_
      refine lv_aload_n C.x C.b dX2_send_147 rfl (lv_at hl 2 rfl) ?_
      refine a_I C hS in_X2 rfl (k := 6) (ci := 1) (by decide) q162 (fun _ h9 => h9) dX2_send_148 hw (fun v47 hw => ?_)
      obtain ⟨fs, hq, hw⟩ := hw
      refine a_callV (rest := []) C hS hl 2 hq rfl (kJ_X3_learn C.tr hw) q1371 q1372 q1373 q82 q1374 ny_X3_learn rfl (Nat.le_of_ble_eq_true rfl) (Nat.le_of_ble_eq_true rfl) rfl (Nat.le_of_ble_eq_true rfl) dX2_send_151 (fun X1 w1 H1 l1 q1 ce hx => hx.elim) (fun v w48 H locs hq _ hS => ?_)
      obtain ⟨rfl, hw⟩ := hq
      refine W.eq (g2 := F0 m 154 ls []) rfl ?_
      refine lv_aload_n C.x C.b dX2_send_154 rfl (lv_at hl 2 rfl) ?_
      refine a_R C hS in_X2 rfl (k := 2) (ci := 1) (by decide) q156 (fun _ h9 => h9) dX2_send_155 hw (fun r49 hw => ?_)
      refine lv_iload_n C.x C.b dX2_send_158 rfl (lv_at hl 4 rfl) ?_
      obtain ⟨a50, e9, hw9⟩ := hw; subst e9; have hw := hw9; clear hw9
      have hl : lv_has ls 15 [(10, .int v46), (9, .ref a44), (0, .ref x0), (1, .int x1), (2, .int x2), (3, .ref x3), (4, .ref x4), (5, .int x5), (6, .int x6), (7, .int x7), (8, .int x8)] := hl
      refine W.eq (g2 := F0 m 159 ls [.int x2, .ref a50]) rfl ?_
      refine a_Li C hS dX2_send_159 hw (fun v51 hw => ?_)
      refine lv_aload_n C.x C.b dX2_send_160 rfl (lv_at hl 5 rfl) ?_
      refine lv_iload C.x C.b dX2_send_161 (lv_at hl 10 rfl) ?_
      refine a_Li C hS dX2_send_163 hw (fun v52 hw => ?_)
      refine lv_icmp_ne (tgt := 173) C.x C.b dX2_send_164 (by decide) (fun c53 => ?_) (fun c53 => ?_)
      · have hw := hw.2 c53
        refine lv_aload_n C.x C.b dX2_send_173 rfl (lv_at hl 2 rfl) ?_
        refine lv_aload C.x C.b dX2_send_174 (lv_at hl 1 rfl) ?_
        refine lv_iload_n C.x C.b dX2_send_176 rfl (lv_at hl 4 rfl) ?_
        refine lv_iload C.x C.b dX2_send_177 (lv_at hl 0 rfl) ?_
        obtain ⟨fs, hq, hw⟩ := hw
        refine a_callV (rest := []) C hS hl 1 hq rfl (kJ_X2_wayTo C.tr hw) q1375 q1377 qs21 q78 q1378 ny_X2_wayTo rfl (Nat.le_of_ble_eq_true rfl) (Nat.le_of_ble_eq_true rfl) rfl (Nat.le_of_ble_eq_true rfl) dX2_send_179 (fun X1 w1 H1 l1 q1 ce hx => hx.elim) (fun v w54 H locs hq _ hS => ?_)
        obtain ⟨r55, rfl, hw⟩ := hq
        refine W.eq (g2 := F0 m 182 ls [.int r55]) rfl ?_
        refine lv_istore (lv' := [(11, .int r55), (10, .int v46), (9, .ref a44), (0, .ref x0), (1, .int x1), (2, .int x2), (3, .ref x3), (4, .ref x4), (5, .int x5), (6, .int x6), (7, .int x7), (8, .int x8)]) C.x C.b dX2_send_182 hl (by decide) rfl (fun ls hl => ?_)
        refine lv_iconst (v := 0) C.x C.b dX2_send_184 (by decide) ?_
        refine lv_istore (lv' := [(12, .int 0), (11, .int r55), (10, .int v46), (9, .ref a44), (0, .ref x0), (1, .int x1), (2, .int x2), (3, .ref x3), (4, .ref x4), (5, .int x5), (6, .int x6), (7, .int x7), (8, .int x8)]) C.x C.b dX2_send_185 hl (by decide) rfl (fun ls hl => ?_)
        obtain ⟨k56, hw⟩ := hw
        exact kJ_X2_send_187 C ih k56 _ _ _ _ _ _ _ _ _ _ _ _ _ _ _ _ hS (lv_sub hl [4, 5, 6, 7, 8, 9, 10, 11, 12, 2, 1, 0] rfl) hw
      · have hw := hw.1 c53
        refine lv_iconst (v := 1) C.x C.b dX2_send_167 (by decide) ?_
        refine lv_istore (lv' := [(7, .int 1), (10, .int v46), (9, .ref a44), (0, .ref x0), (1, .int x1), (2, .int x2), (3, .ref x3), (4, .ref x4), (5, .int x5), (6, .int x6), (8, .int x8)]) C.x C.b dX2_send_168 hl (by decide) rfl (fun ls hl => ?_)
        refine lv_goto (tgt := 332) C.x C.b dX2_send_170 (by decide) ?_
        exact kJ_X2_send_332 C ih _ _ _ _ _ _ _ _ _ _ _ _ _ hS (lv_sub hl [3, 4, 5, 6, 7, 8, 9, 0, 10] rfl) hw
def wJ_X2_send_45 (E : gE) (Q : Int32 → gW → Prop) (X : String → gW → Prop) (x0 : Nat) (x1 : Int32) (x2 : Int32) (y0 : Int32) (w : gW) : Prop :=
  aStr E "BridgeAuction$Network" 282 "hosts" (fun a10 => wJ_X1_requireArgument E y0 a10 (fun w11 => aR E x0 1 0 (fun r12 => ∃ a13 : Nat, r12 = some a13 ∧ (aKind E a13 8 (wJ_J2_size E a13 (fun r15 w14 => aA E 0 r15 (fun q16 w17 => aR E x0 1 0 (fun r18 => ∃ a19 : Nat, r18 = some a19 ∧ (aKind E a19 8 (wJ_J2_size E a19 (fun r21 w20 => aA E 0 r21 (fun q22 w23 => wJ_J3_fill E q22 (-1) (fun w24 => aR E x0 1 2 (fun r25 => ∃ a26 : Nat, r25 = some a26 ∧ (aL E 0 a26 x1 (fun v27 => aS E 0 q16 0 v27 (fun w28 => aR E x0 1 2 (fun r29 => ∃ a30 : Nat, r29 = some a30 ∧ (aL E 0 a30 x1 (fun v31 => aS E 0 q22 v31 100 (fun w32 => ∃ k33 : Nat, wJ_X2_send_110 E Q X k33 x0 x1 x2 q16 q22 1 0 0 0 w32) w28) w28)) w28) w24) w24)) w24) w23) w20) w17) w17)) w17) w14) w11) w11)) w11) X w)
theorem kJ_X2_send_45 (C : gC p l s m args meth c cX2_send 15 (some .int) RX2 E [] "send") {Q : Int32 → gW → Prop} {X : String → gW → Prop} (x0 : Nat) (x1 : Int32) (x2 : Int32) (y0 : Int32) (w : gW) (H : Heap) (locs : List Loc) (ls : Array Slot) (hS : gS E w0 w H locs) (hl : lv_has ls 15 [(0, .ref x0), (1, .int x1), (2, .int x2)]) (hw : wJ_X2_send_45 E Q X x0 x1 x2 y0 w) : gGo p l e s m args below meth c H locs 9 141 E w0 w (gI Q) (X) (F0 m 45 ls [.int y0]) := by
  unfold wJ_X2_send_45 at hw
  refine a_strW C dX2_send_45 hw (fun a10 hw => ?_)
  refine g_callSN (rest := []) C hS hl (kJ_X1_requireArgument C.tr hw) q890 q891 q77 q892 ny_X1_requireArgument rfl (Nat.le_of_ble_eq_true rfl) (Nat.le_of_ble_eq_true rfl) rfl (Nat.le_of_ble_eq_true rfl) dX2_send_48 (fun X1 w1 H1 l1 q1 ce hx _ hS1 hc hv hcl => g_out C hS1 (fun x h => by cases h) hc hv hcl hx) (fun v w11 H locs hq _ hS => ?_)
  obtain ⟨rfl, hw⟩ := hq
  refine W.eq (g2 := F0 m 51 ls []) rfl ?_
  refine lv_aload_n C.x C.b dX2_send_51 rfl (lv_at hl 0 rfl) ?_
  refine a_R C hS in_X2 rfl (k := 0) (ci := 1) (by decide) q152 (fun _ h9 => h9) dX2_send_52 hw (fun r12 hw => ?_)
  obtain ⟨a13, e9, hw9⟩ := hw; subst e9; have hw := hw9; clear hw9
  have hl : lv_has ls 15 [(0, .ref x0), (1, .int x1), (2, .int x2)] := hl
  refine W.eq (g2 := F0 m 55 ls [.ref a13]) rfl ?_
  obtain ⟨fs, hq, hw⟩ := hw
  refine a_callV (rest := []) C hS hl 8 hq rfl (kJ_J2_size C.tr hw) q384 q373 q374 q81 q375 ny_J2_size rfl (Nat.le_of_ble_eq_true rfl) (Nat.le_of_ble_eq_true rfl) rfl (Nat.le_of_ble_eq_true rfl) dX2_send_55 (fun X1 w1 H1 l1 q1 ce hx => hx.elim) (fun v w14 H locs hq _ hS => ?_)
  obtain ⟨r15, rfl, hw⟩ := hq
  refine W.eq (g2 := F0 m 58 ls [.int r15]) rfl ?_
  refine a_A (t := 0) (atype := .int) C hS rfl (by decide) q206 dX2_send_58 hw (fun q16 w17 H hw hS => ?_)
  refine lv_astore_n (lv' := [(3, .ref q16), (0, .ref x0), (1, .int x1), (2, .int x2)]) C.x C.b dX2_send_60 rfl hl (by decide) rfl (fun ls hl => ?_)
  refine lv_aload_n C.x C.b dX2_send_61 rfl (lv_at hl 1 rfl) ?_
  refine a_R C hS in_X2 rfl (k := 0) (ci := 1) (by decide) q152 (fun _ h9 => h9) dX2_send_62 hw (fun r18 hw => ?_)
  obtain ⟨a19, e9, hw9⟩ := hw; subst e9; have hw := hw9; clear hw9
  have hl : lv_has ls 15 [(3, .ref q16), (0, .ref x0), (1, .int x1), (2, .int x2)] := hl
  refine W.eq (g2 := F0 m 65 ls [.ref a19]) rfl ?_
  obtain ⟨fs, hq, hw⟩ := hw
  refine a_callV (rest := []) C hS hl 8 hq rfl (kJ_J2_size C.tr hw) q384 q373 q374 q81 q375 ny_J2_size rfl (Nat.le_of_ble_eq_true rfl) (Nat.le_of_ble_eq_true rfl) rfl (Nat.le_of_ble_eq_true rfl) dX2_send_65 (fun X1 w1 H1 l1 q1 ce hx => hx.elim) (fun v w20 H locs hq _ hS => ?_)
  obtain ⟨r21, rfl, hw⟩ := hq
  refine W.eq (g2 := F0 m 68 ls [.int r21]) rfl ?_
  refine a_A (t := 0) (atype := .int) C hS rfl (by decide) q206 dX2_send_68 hw (fun q22 w23 H hw hS => ?_)
  refine lv_astore (lv' := [(4, .ref q22), (3, .ref q16), (0, .ref x0), (1, .int x1), (2, .int x2)]) C.x C.b dX2_send_70 hl (by decide) rfl (fun ls hl => ?_)
  refine lv_aload C.x C.b dX2_send_72 (lv_at hl 0 rfl) ?_
  refine lv_iconst (v := (-1)) C.x C.b dX2_send_74 (by decide) ?_
  refine g_callS (rest := []) C hS hl (kJ_J3_fill C.tr hw) q342 q255 q84 q256 ny_J3_fill rfl (Nat.le_of_ble_eq_true rfl) (Nat.le_of_ble_eq_true rfl) rfl (Nat.le_of_ble_eq_true rfl) dX2_send_75 (fun X1 w1 H1 l1 q1 ce hx => hx.elim) (fun v w24 H locs hq _ hS => ?_)
  obtain ⟨rfl, hw⟩ := hq
  refine W.eq (g2 := F0 m 78 ls []) rfl ?_
  refine lv_iconst (v := 1) C.x C.b dX2_send_78 (by decide) ?_
  refine lv_istore (lv' := [(5, .int 1), (4, .ref q22), (3, .ref q16), (0, .ref x0), (1, .int x1), (2, .int x2)]) C.x C.b dX2_send_79 hl (by decide) rfl (fun ls hl => ?_)
  refine lv_aload_n C.x C.b dX2_send_81 rfl (lv_at hl 2 rfl) ?_
  refine lv_iconst (v := 0) C.x C.b dX2_send_82 (by decide) ?_
  refine lv_aload_n C.x C.b dX2_send_83 rfl (lv_at hl 3 rfl) ?_
  refine a_R C hS in_X2 rfl (k := 2) (ci := 1) (by decide) q156 (fun _ h9 => h9) dX2_send_84 hw (fun r25 hw => ?_)
  refine lv_iload_n C.x C.b dX2_send_87 rfl (lv_at hl 4 rfl) ?_
  obtain ⟨a26, e9, hw9⟩ := hw; subst e9; have hw := hw9; clear hw9
  have hl : lv_has ls 15 [(5, .int 1), (4, .ref q22), (3, .ref q16), (0, .ref x0), (1, .int x1), (2, .int x2)] := hl
  refine W.eq (g2 := F0 m 88 ls [.int x1, .ref a26, .int 0, .ref q16]) rfl ?_
  refine a_Li C hS dX2_send_88 hw (fun v27 hw => ?_)
  refine a_Si C hS dX2_send_89 hw (fun w28 H locs hw hS => ?_)
  refine lv_aload C.x C.b dX2_send_90 (lv_at hl 1 rfl) ?_
  refine lv_aload_n C.x C.b dX2_send_92 rfl (lv_at hl 3 rfl) ?_
  refine a_R C hS in_X2 rfl (k := 2) (ci := 1) (by decide) q156 (fun _ h9 => h9) dX2_send_93 hw (fun r29 hw => ?_)
  refine lv_iload_n C.x C.b dX2_send_96 rfl (lv_at hl 4 rfl) ?_
  obtain ⟨a30, e9, hw9⟩ := hw; subst e9; have hw := hw9; clear hw9
  have hl : lv_has ls 15 [(5, .int 1), (4, .ref q22), (3, .ref q16), (0, .ref x0), (1, .int x1), (2, .int x2)] := hl
  refine W.eq (g2 := F0 m 97 ls [.int x1, .ref a30, .ref q22]) rfl ?_
  refine a_Li C hS dX2_send_97 hw (fun v31 hw => ?_)
  refine lv_bipush (v := 100) C.x C.b dX2_send_98 (by decide) ?_
  refine a_Si C hS dX2_send_100 hw (fun w32 H locs hw hS => ?_)
  refine lv_iconst (v := 0) C.x C.b dX2_send_101 (by decide) ?_
  refine lv_istore (lv' := [(6, .int 0), (5, .int 1), (4, .ref q22), (3, .ref q16), (0, .ref x0), (1, .int x1), (2, .int x2)]) C.x C.b dX2_send_102 hl (by decide) rfl (fun ls hl => ?_)
  refine lv_iconst (v := 0) C.x C.b dX2_send_104 (by decide) ?_
  refine lv_istore (lv' := [(7, .int 0), (6, .int 0), (5, .int 1), (4, .ref q22), (3, .ref q16), (0, .ref x0), (1, .int x1), (2, .int x2)]) C.x C.b dX2_send_105 hl (by decide) rfl (fun ls hl => ?_)
  refine lv_iconst (v := 0) C.x C.b dX2_send_107 (by decide) ?_
  refine lv_istore (lv' := [(8, .int 0), (7, .int 0), (6, .int 0), (5, .int 1), (4, .ref q22), (3, .ref q16), (0, .ref x0), (1, .int x1), (2, .int x2)]) C.x C.b dX2_send_108 hl (by decide) rfl (fun ls hl => ?_)
  obtain ⟨k33, hw⟩ := hw
  exact kJ_X2_send_110 C k33 _ _ _ _ _ _ _ _ _ _ _ _ _ hS (lv_sub hl [6, 7, 8, 5, 4, 3, 2, 1, 0] rfl) hw
def wJ_X2_send_29 (E : gE) (Q : Int32 → gW → Prop) (X : String → gW → Prop) (x0 : Nat) (x1 : Int32) (x2 : Int32) (y0 : Int32) (w : gW) : Prop :=
  aStr E "BridgeAuction$Network" 280 "host" (fun a7 => wJ_X1_requireIndex E y0 a7 (fun w8 => (x1 = x2 → (wJ_X2_send_45 E Q X x0 x1 x2 0 w8)) ∧ (¬ x1 = x2 → (wJ_X2_send_45 E Q X x0 x1 x2 1 w8))) X w)
theorem kJ_X2_send_29 (C : gC p l s m args meth c cX2_send 15 (some .int) RX2 E [] "send") {Q : Int32 → gW → Prop} {X : String → gW → Prop} (x0 : Nat) (x1 : Int32) (x2 : Int32) (y0 : Int32) (w : gW) (H : Heap) (locs : List Loc) (ls : Array Slot) (hS : gS E w0 w H locs) (hl : lv_has ls 15 [(0, .ref x0), (1, .int x1), (2, .int x2)]) (hw : wJ_X2_send_29 E Q X x0 x1 x2 y0 w) : gGo p l e s m args below meth c H locs 9 141 E w0 w (gI Q) (X) (F0 m 29 ls [.int y0]) := by
  unfold wJ_X2_send_29 at hw
  refine a_strW C dX2_send_29 hw (fun a7 hw => ?_)
  refine g_callSN (rest := []) C hS hl (kJ_X1_requireIndex C.tr hw) q870 q871 q77 q872 ny_X1_requireIndex rfl (Nat.le_of_ble_eq_true rfl) (Nat.le_of_ble_eq_true rfl) rfl (Nat.le_of_ble_eq_true rfl) dX2_send_32 (fun X1 w1 H1 l1 q1 ce hx _ hS1 hc hv hcl => g_out C hS1 (fun x h => by cases h) hc hv hcl hx) (fun v w8 H locs hq _ hS => ?_)
  obtain ⟨rfl, hw⟩ := hq
  refine W.eq (g2 := F0 m 35 ls []) rfl ?_
  refine lv_iload_n C.x C.b dX2_send_35 rfl (lv_at hl 1 rfl) ?_
  refine lv_iload_n C.x C.b dX2_send_36 rfl (lv_at hl 2 rfl) ?_
  refine lv_icmp_eq (tgt := 44) C.x C.b dX2_send_37 (by decide) (fun c9 => ?_) (fun c9 => ?_)
  · have hw := hw.1 c9
    refine lv_iconst (v := 0) C.x C.b dX2_send_44 (by decide) ?_
    exact kJ_X2_send_45 C _ _ _ _ _ _ _ _ hS (lv_sub hl [0, 1, 2] rfl) hw
  · have hw := hw.2 c9
    refine lv_iconst (v := 1) C.x C.b dX2_send_40 (by decide) ?_
    refine lv_goto (tgt := 45) C.x C.b dX2_send_41 (by decide) ?_
    exact kJ_X2_send_45 C _ _ _ _ _ _ _ _ hS (lv_sub hl [0, 1, 2] rfl) hw
def wJ_X2_send_28 (E : gE) (Q : Int32 → gW → Prop) (X : String → gW → Prop) (x0 : Nat) (x1 : Int32) (x2 : Int32) (w : gW) : Prop :=
  wJ_X2_send_29 E Q X x0 x1 x2 0 w
theorem kJ_X2_send_28 (C : gC p l s m args meth c cX2_send 15 (some .int) RX2 E [] "send") {Q : Int32 → gW → Prop} {X : String → gW → Prop} (x0 : Nat) (x1 : Int32) (x2 : Int32) (w : gW) (H : Heap) (locs : List Loc) (ls : Array Slot) (hS : gS E w0 w H locs) (hl : lv_has ls 15 [(0, .ref x0), (1, .int x1), (2, .int x2)]) (hw : wJ_X2_send_28 E Q X x0 x1 x2 w) : gGo p l e s m args below meth c H locs 9 141 E w0 w (gI Q) (X) (F0 m 28 ls []) := by
  unfold wJ_X2_send_28 at hw
  refine lv_iconst (v := 0) C.x C.b dX2_send_28 (by decide) ?_
  exact kJ_X2_send_29 C _ _ _ _ _ _ _ _ hS (lv_sub hl [0, 1, 2] rfl) hw
def wJ_X2_send (E : gE) (i0 : Nat) (i1 : Int32) (i2 : Int32) (Q : Int32 → gW → Prop) (X : String → gW → Prop) (w : gW) : Prop :=
  wJ_X1_inRange E i1.toInt64 0 7 (fun r2 w1 => (r2 = 0 → (wJ_X2_send_28 E Q X i0 i1 i2 w1)) ∧ (¬ r2 = 0 → (wJ_X1_inRange E i2.toInt64 0 7 (fun r5 w4 => (r5 = 0 → (wJ_X2_send_28 E Q X i0 i1 i2 w4)) ∧ (¬ r5 = 0 → (wJ_X2_send_29 E Q X i0 i1 i2 1 w4))) w1))) w
theorem kJ_X2_send_r (C : gC p l s m args meth c cX2_send 15 (some .int) RX2 E [] "send") (i0 : Nat) (i1 : Int32) (i2 : Int32) {Q : Int32 → gW → Prop} {X : String → gW → Prop} (w : gW) (H : Heap) (locs : List Loc) (ls : Array Slot) (hS : gS E w0 w H locs) (hl : lv_has ls 15 [(0, .ref i0), (1, .int i1), (2, .int i2)]) (hw : wJ_X2_send E i0 i1 i2 Q X w) : gGo p l e s m args below meth c H locs 9 141 E w0 w (gI Q) (X) (F0 m 0 ls []) := by
  unfold wJ_X2_send at hw
  refine lv_iload_n C.x C.b dX2_send_0 rfl (lv_at hl 1 rfl) ?_
  refine lv_i2l C.x C.b dX2_send_1 rfl ?_
  refine lv_lconst (v := 0) C.x C.b dX2_send_2 (by decide) ?_
  refine lv_ldc2 C.x C.b C.ow (C.ts _ q1036) dX2_send_3 ?_
  refine g_callSN (rest := []) C hS hl (kJ_X1_inRange C.tr hw) q868 q459 q77 q460 ny_X1_inRange rfl (Nat.le_of_ble_eq_true rfl) (Nat.le_of_ble_eq_true rfl) rfl (Nat.le_of_ble_eq_true rfl) dX2_send_6 (fun X1 w1 H1 l1 q1 ce hx => hx.elim) (fun v w1 H locs hq _ hS => ?_)
  obtain ⟨r2, rfl, hw⟩ := hq
  refine W.eq (g2 := F0 m 9 ls [.int r2]) rfl ?_
  refine lv_if_eq (tgt := 28) C.x C.b dX2_send_9 (by decide) (fun c3 => ?_) (fun c3 => ?_)
  · have hw := hw.1 c3
    exact kJ_X2_send_28 C _ _ _ _ _ _ _ hS (lv_sub hl [0, 1, 2] rfl) hw
  · have hw := hw.2 c3
    refine lv_iload_n C.x C.b dX2_send_12 rfl (lv_at hl 2 rfl) ?_
    refine lv_i2l C.x C.b dX2_send_13 rfl ?_
    refine lv_lconst (v := 0) C.x C.b dX2_send_14 (by decide) ?_
    refine lv_ldc2 C.x C.b C.ow (C.ts _ q1036) dX2_send_15 ?_
    refine g_callSN (rest := []) C hS hl (kJ_X1_inRange C.tr hw) q868 q459 q77 q460 ny_X1_inRange rfl (Nat.le_of_ble_eq_true rfl) (Nat.le_of_ble_eq_true rfl) rfl (Nat.le_of_ble_eq_true rfl) dX2_send_18 (fun X1 w1 H1 l1 q1 ce hx => hx.elim) (fun v w4 H locs hq _ hS => ?_)
    obtain ⟨r5, rfl, hw⟩ := hq
    refine W.eq (g2 := F0 m 21 ls [.int r5]) rfl ?_
    refine lv_if_eq (tgt := 28) C.x C.b dX2_send_21 (by decide) (fun c6 => ?_) (fun c6 => ?_)
    · have hw := hw.1 c6
      exact kJ_X2_send_28 C _ _ _ _ _ _ _ hS (lv_sub hl [0, 1, 2] rfl) hw
    · have hw := hw.2 c6
      refine lv_iconst (v := 1) C.x C.b dX2_send_24 (by decide) ?_
      refine lv_goto (tgt := 29) C.x C.b dX2_send_25 (by decide) ?_
      exact kJ_X2_send_29 C _ _ _ _ _ _ _ _ hS (lv_sub hl [0, 1, 2] rfl) hw
theorem ny_X2_send : gNm yX2_send 2 = true := by decide +kernel
theorem kJ_X2_send {l : Launch} (ht : l.stackTraces = false) {w : gW} {i0 : Nat} {i1 : Int32} {i2 : Int32} {Q : Int32 → gW → Prop} {X : String → gW → Prop} (hw : wJ_X2_send E i0 i1 i2 Q X w) : gMet l yX2_send (ws_ yX2_send cX2_send 15 (some .int)) E w [.ref i0, .int i1, .int i2] 9 141 (gI Q) (X) :=
  g_ofW ht (by decide) (Nat.le_of_ble_eq_true rfl) (fun p e s m below meth c ls H C hl hS => kJ_X2_send_r C _ _ _ _ _ _ _ hS hl hw)
end GN2
