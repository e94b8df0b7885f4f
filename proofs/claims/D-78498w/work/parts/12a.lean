section GB0
variable {p : Program} {l : Launch} {e : Env} {s : State} {m : MethodId} {args : Array Value} {below : List Frame} {meth : Method} {c : Code} {E : gE} {w0 : gW}
def wJ_X1_lambda_commandOf_0 (E : gE) (i0 : Nat) (i1 : Int32) (i2 : Int32) (i3 : Int32) (Q : Int32 → gW → Prop) (X : String → gW → Prop) (w : gW) : Prop :=
  aKind E i0 1 (wJ_X2_addLink E i0 i1 i2 i3 (fun r2 w1 => Q r2 w1) X w) w
theorem kJ_X1_lambda_commandOf_0_r (C : gC p l s m args meth c cX1_lambda_commandOf_0 4 (some .int) RX1 E [] "lambda$commandOf$0") (i0 : Nat) (i1 : Int32) (i2 : Int32) (i3 : Int32) {Q : Int32 → gW → Prop} {X : String → gW → Prop} (w : gW) (H : Heap) (locs : List Loc) (ls : Array Slot) (hS : gS E w0 w H locs) (hl : lv_has ls 4 [(0, .ref i0), (1, .int i1), (2, .int i2), (3, .int i3)]) (hw : wJ_X1_lambda_commandOf_0 E i0 i1 i2 i3 Q X w) : gGo p l e s m args below meth c H locs 10 215 E w0 w (gI Q) (X) (F0 m 0 ls []) := by
  unfold wJ_X1_lambda_commandOf_0 at hw
  refine lv_aload_n C.x C.b dX1_lambda_commandOf_0_0 rfl (lv_at hl 0 rfl) ?_
  refine lv_iload_n C.x C.b dX1_lambda_commandOf_0_1 rfl (lv_at hl 1 rfl) ?_
  refine lv_iload_n C.x C.b dX1_lambda_commandOf_0_2 rfl (lv_at hl 2 rfl) ?_
  refine lv_iload_n C.x C.b dX1_lambda_commandOf_0_3 rfl (lv_at hl 3 rfl) ?_
  obtain ⟨fs, hq, hw⟩ := hw
  refine a_callV (rest := []) C hS hl 1 hq rfl (kJ_X2_addLink C.tr hw) q860 q861 q862 q78 q863 ny_X2_addLink rfl (Nat.le_of_ble_eq_true rfl) (Nat.le_of_ble_eq_true rfl) rfl (Nat.le_of_ble_eq_true rfl) dX1_lambda_commandOf_0_4 (fun X1 w1 H1 l1 q1 ce hx _ hS1 hc hv hcl => g_out C hS1 (fun x h => by cases h) hc hv hcl hx) (fun v w1 H locs hq _ hS => ?_)
  obtain ⟨r2, rfl, hw⟩ := hq
  refine W.eq (g2 := F0 m 7 ls [.int r2]) rfl ?_
  exact g_iret C hS ⟨_, rfl, hw⟩ dX1_lambda_commandOf_0_7
theorem ny_X1_lambda_commandOf_0 : gNm yX1_lambda_commandOf_0 4 = true := by decide +kernel
theorem kJ_X1_lambda_commandOf_0 {l : Launch} (ht : l.stackTraces = false) {w : gW} {i0 : Nat} {i1 : Int32} {i2 : Int32} {i3 : Int32} {Q : Int32 → gW → Prop} {X : String → gW → Prop} (hw : wJ_X1_lambda_commandOf_0 E i0 i1 i2 i3 Q X w) : gMet l yX1_lambda_commandOf_0 (ws_ yX1_lambda_commandOf_0 cX1_lambda_commandOf_0 4 (some .int)) E w [.ref i0, .int i1, .int i2, .int i3] 10 215 (gI Q) (X) :=
  g_ofW ht (by decide) (Nat.le_of_ble_eq_true rfl) (fun p e s m below meth c ls H C hl hS => kJ_X1_lambda_commandOf_0_r C _ _ _ _ _ _ _ _ hS hl hw)
def wJ_X1_lambda_commandOf_1 (E : gE) (i0 : Nat) (i1 : Int32) (i2 : Int32) (i3 : Int32) (Q : Int32 → gW → Prop) (X : String → gW → Prop) (w : gW) : Prop :=
  aKind E i0 1 (wJ_X2_bid E i0 i1 i2 i3 (fun r2 w1 => Q r2 w1) X w) w
theorem kJ_X1_lambda_commandOf_1_r (C : gC p l s m args meth c cX1_lambda_commandOf_1 4 (some .int) RX1 E [] "lambda$commandOf$1") (i0 : Nat) (i1 : Int32) (i2 : Int32) (i3 : Int32) {Q : Int32 → gW → Prop} {X : String → gW → Prop} (w : gW) (H : Heap) (locs : List Loc) (ls : Array Slot) (hS : gS E w0 w H locs) (hl : lv_has ls 4 [(0, .ref i0), (1, .int i1), (2, .int i2), (3, .int i3)]) (hw : wJ_X1_lambda_commandOf_1 E i0 i1 i2 i3 Q X w) : gGo p l e s m args below meth c H locs 10 165 E w0 w (gI Q) (X) (F0 m 0 ls []) := by
  unfold wJ_X1_lambda_commandOf_1 at hw
  refine lv_aload_n C.x C.b dX1_lambda_commandOf_1_0 rfl (lv_at hl 0 rfl) ?_
  refine lv_iload_n C.x C.b dX1_lambda_commandOf_1_1 rfl (lv_at hl 1 rfl) ?_
  refine lv_iload_n C.x C.b dX1_lambda_commandOf_1_2 rfl (lv_at hl 2 rfl) ?_
  refine lv_iload_n C.x C.b dX1_lambda_commandOf_1_3 rfl (lv_at hl 3 rfl) ?_
  obtain ⟨fs, hq, hw⟩ := hw
  refine a_callV (rest := []) C hS hl 1 hq rfl (kJ_X2_bid C.tr hw) q986 q987 q988 q78 q989 ny_X2_bid rfl (Nat.le_of_ble_eq_true rfl) (Nat.le_of_ble_eq_true rfl) rfl (Nat.le_of_ble_eq_true rfl) dX1_lambda_commandOf_1_4 (fun X1 w1 H1 l1 q1 ce hx _ hS1 hc hv hcl => g_out C hS1 (fun x h => by cases h) hc hv hcl hx) (fun v w1 H locs hq _ hS => ?_)
  obtain ⟨r2, rfl, hw⟩ := hq
  refine W.eq (g2 := F0 m 7 ls [.int r2]) rfl ?_
  exact g_iret C hS ⟨_, rfl, hw⟩ dX1_lambda_commandOf_1_7
theorem ny_X1_lambda_commandOf_1 : gNm yX1_lambda_commandOf_1 4 = true := by decide +kernel
theorem kJ_X1_lambda_commandOf_1 {l : Launch} (ht : l.stackTraces = false) {w : gW} {i0 : Nat} {i1 : Int32} {i2 : Int32} {i3 : Int32} {Q : Int32 → gW → Prop} {X : String → gW → Prop} (hw : wJ_X1_lambda_commandOf_1 E i0 i1 i2 i3 Q X w) : gMet l yX1_lambda_commandOf_1 (ws_ yX1_lambda_commandOf_1 cX1_lambda_commandOf_1 4 (some .int)) E w [.ref i0, .int i1, .int i2, .int i3] 10 165 (gI Q) (X) :=
  g_ofW ht (by decide) (Nat.le_of_ble_eq_true rfl) (fun p e s m below meth c ls H C hl hS => kJ_X1_lambda_commandOf_1_r C _ _ _ _ _ _ _ _ hS hl hw)
def wJ_X1_lambda_commandOf_2 (E : gE) (i0 : Nat) (i1 : Int32) (i2 : Int32) (i3 : Int32) (Q : Int32 → gW → Prop) (X : String → gW → Prop) (w : gW) : Prop :=
  aKind E i0 1 (wJ_X2_fail E i0 i1 (fun r2 w1 => Q r2 w1) X w) w
theorem kJ_X1_lambda_commandOf_2_r (C : gC p l s m args meth c cX1_lambda_commandOf_2 4 (some .int) RX1 E [] "lambda$commandOf$2") (i0 : Nat) (i1 : Int32) (i2 : Int32) (i3 : Int32) {Q : Int32 → gW → Prop} {X : String → gW → Prop} (w : gW) (H : Heap) (locs : List Loc) (ls : Array Slot) (hS : gS E w0 w H locs) (hl : lv_has ls 4 [(0, .ref i0), (1, .int i1), (2, .int i2), (3, .int i3)]) (hw : wJ_X1_lambda_commandOf_2 E i0 i1 i2 i3 Q X w) : gGo p l e s m args below meth c H locs 11 185 E w0 w (gI Q) (X) (F0 m 0 ls []) := by
  unfold wJ_X1_lambda_commandOf_2 at hw
  refine lv_aload_n C.x C.b dX1_lambda_commandOf_2_0 rfl (lv_at hl 0 rfl) ?_
  refine lv_iload_n C.x C.b dX1_lambda_commandOf_2_1 rfl (lv_at hl 1 rfl) ?_
  obtain ⟨fs, hq, hw⟩ := hw
  refine a_callV (rest := []) C hS hl 1 hq rfl (kJ_X2_fail C.tr hw) q1000 q1001 q1002 q78 q1003 ny_X2_fail rfl (Nat.le_of_ble_eq_true rfl) (Nat.le_of_ble_eq_true rfl) rfl (Nat.le_of_ble_eq_true rfl) dX1_lambda_commandOf_2_2 (fun X1 w1 H1 l1 q1 ce hx _ hS1 hc hv hcl => g_out C hS1 (fun x h => by cases h) hc hv hcl hx) (fun v w1 H locs hq _ hS => ?_)
  obtain ⟨r2, rfl, hw⟩ := hq
  refine W.eq (g2 := F0 m 5 ls [.int r2]) rfl ?_
  exact g_iret C hS ⟨_, rfl, hw⟩ dX1_lambda_commandOf_2_5
theorem ny_X1_lambda_commandOf_2 : gNm yX1_lambda_commandOf_2 4 = true := by decide +kernel
theorem kJ_X1_lambda_commandOf_2 {l : Launch} (ht : l.stackTraces = false) {w : gW} {i0 : Nat} {i1 : Int32} {i2 : Int32} {i3 : Int32} {Q : Int32 → gW → Prop} {X : String → gW → Prop} (hw : wJ_X1_lambda_commandOf_2 E i0 i1 i2 i3 Q X w) : gMet l yX1_lambda_commandOf_2 (ws_ yX1_lambda_commandOf_2 cX1_lambda_commandOf_2 4 (some .int)) E w [.ref i0, .int i1, .int i2, .int i3] 11 185 (gI Q) (X) :=
  g_ofW ht (by decide) (Nat.le_of_ble_eq_true rfl) (fun p e s m below meth c ls H C hl hS => kJ_X1_lambda_commandOf_2_r C _ _ _ _ _ _ _ _ hS hl hw)
def wJ_X1_lambda_commandOf_3 (E : gE) (i0 : Nat) (i1 : Int32) (i2 : Int32) (i3 : Int32) (Q : Int32 → gW → Prop) (X : String → gW → Prop) (w : gW) : Prop :=
  aKind E i0 1 (wJ_X2_fix E i0 i1 (fun r2 w1 => Q r2 w1) X w) w
theorem kJ_X1_lambda_commandOf_3_r (C : gC p l s m args meth c cX1_lambda_commandOf_3 4 (some .int) RX1 E [] "lambda$commandOf$3") (i0 : Nat) (i1 : Int32) (i2 : Int32) (i3 : Int32) {Q : Int32 → gW → Prop} {X : String → gW → Prop} (w : gW) (H : Heap) (locs : List Loc) (ls : Array Slot) (hS : gS E w0 w H locs) (hl : lv_has ls 4 [(0, .ref i0), (1, .int i1), (2, .int i2), (3, .int i3)]) (hw : wJ_X1_lambda_commandOf_3 E i0 i1 i2 i3 Q X w) : gGo p l e s m args below meth c H locs 11 186 E w0 w (gI Q) (X) (F0 m 0 ls []) := by
  unfold wJ_X1_lambda_commandOf_3 at hw
  refine lv_aload_n C.x C.b dX1_lambda_commandOf_3_0 rfl (lv_at hl 0 rfl) ?_
  refine lv_iload_n C.x C.b dX1_lambda_commandOf_3_1 rfl (lv_at hl 1 rfl) ?_
  obtain ⟨fs, hq, hw⟩ := hw
  refine a_callV (rest := []) C hS hl 1 hq rfl (kJ_X2_fix C.tr hw) q1011 q1012 q1013 q78 q1014 ny_X2_fix rfl (Nat.le_of_ble_eq_true rfl) (Nat.le_of_ble_eq_true rfl) rfl (Nat.le_of_ble_eq_true rfl) dX1_lambda_commandOf_3_2 (fun X1 w1 H1 l1 q1 ce hx _ hS1 hc hv hcl => g_out C hS1 (fun x h => by cases h) hc hv hcl hx) (fun v w1 H locs hq _ hS => ?_)
  obtain ⟨r2, rfl, hw⟩ := hq
  refine W.eq (g2 := F0 m 5 ls [.int r2]) rfl ?_
  exact g_iret C hS ⟨_, rfl, hw⟩ dX1_lambda_commandOf_3_5
theorem ny_X1_lambda_commandOf_3 : gNm yX1_lambda_commandOf_3 4 = true := by decide +kernel
theorem kJ_X1_lambda_commandOf_3 {l : Launch} (ht : l.stackTraces = false) {w : gW} {i0 : Nat} {i1 : Int32} {i2 : Int32} {i3 : Int32} {Q : Int32 → gW → Prop} {X : String → gW → Prop} (hw : wJ_X1_lambda_commandOf_3 E i0 i1 i2 i3 Q X w) : gMet l yX1_lambda_commandOf_3 (ws_ yX1_lambda_commandOf_3 cX1_lambda_commandOf_3 4 (some .int)) E w [.ref i0, .int i1, .int i2, .int i3] 11 186 (gI Q) (X) :=
  g_ofW ht (by decide) (Nat.le_of_ble_eq_true rfl) (fun p e s m below meth c ls H C hl hS => kJ_X1_lambda_commandOf_3_r C _ _ _ _ _ _ _ _ hS hl hw)
def wJ_X1_lambda_commandOf_4 (E : gE) (i0 : Nat) (i1 : Int32) (i2 : Int32) (i3 : Int32) (Q : Int32 → gW → Prop) (X : String → gW → Prop) (w : gW) : Prop :=
  aKind E i0 1 (wJ_X2_setPriority E i0 i1 i2 (fun r2 w1 => Q r2 w1) X w) w
theorem kJ_X1_lambda_commandOf_4_r (C : gC p l s m args meth c cX1_lambda_commandOf_4 4 (some .int) RX1 E [] "lambda$commandOf$4") (i0 : Nat) (i1 : Int32) (i2 : Int32) (i3 : Int32) {Q : Int32 → gW → Prop} {X : String → gW → Prop} (w : gW) (H : Heap) (locs : List Loc) (ls : Array Slot) (hS : gS E w0 w H locs) (hl : lv_has ls 4 [(0, .ref i0), (1, .int i1), (2, .int i2), (3, .int i3)]) (hw : wJ_X1_lambda_commandOf_4 E i0 i1 i2 i3 Q X w) : gGo p l e s m args below meth c H locs 11 186 E w0 w (gI Q) (X) (F0 m 0 ls []) := by
  unfold wJ_X1_lambda_commandOf_4 at hw
  refine lv_aload_n C.x C.b dX1_lambda_commandOf_4_0 rfl (lv_at hl 0 rfl) ?_
  refine lv_iload_n C.x C.b dX1_lambda_commandOf_4_1 rfl (lv_at hl 1 rfl) ?_
  refine lv_iload_n C.x C.b dX1_lambda_commandOf_4_2 rfl (lv_at hl 2 rfl) ?_
  obtain ⟨fs, hq, hw⟩ := hw
  refine a_callV (rest := []) C hS hl 1 hq rfl (kJ_X2_setPriority C.tr hw) q1018 q1019 q1020 q78 q1021 ny_X2_setPriority rfl (Nat.le_of_ble_eq_true rfl) (Nat.le_of_ble_eq_true rfl) rfl (Nat.le_of_ble_eq_true rfl) dX1_lambda_commandOf_4_3 (fun X1 w1 H1 l1 q1 ce hx _ hS1 hc hv hcl => g_out C hS1 (fun x h => by cases h) hc hv hcl hx) (fun v w1 H locs hq _ hS => ?_)
  obtain ⟨r2, rfl, hw⟩ := hq
  refine W.eq (g2 := F0 m 6 ls [.int r2]) rfl ?_
  exact g_iret C hS ⟨_, rfl, hw⟩ dX1_lambda_commandOf_4_6
theorem ny_X1_lambda_commandOf_4 : gNm yX1_lambda_commandOf_4 4 = true := by decide +kernel
theorem kJ_X1_lambda_commandOf_4 {l : Launch} (ht : l.stackTraces = false) {w : gW} {i0 : Nat} {i1 : Int32} {i2 : Int32} {i3 : Int32} {Q : Int32 → gW → Prop} {X : String → gW → Prop} (hw : wJ_X1_lambda_commandOf_4 E i0 i1 i2 i3 Q X w) : gMet l yX1_lambda_commandOf_4 (ws_ yX1_lambda_commandOf_4 cX1_lambda_commandOf_4 4 (some .int)) E w [.ref i0, .int i1, .int i2, .int i3] 11 186 (gI Q) (X) :=
  g_ofW ht (by decide) (Nat.le_of_ble_eq_true rfl) (fun p e s m below meth c ls H C hl hS => kJ_X1_lambda_commandOf_4_r C _ _ _ _ _ _ _ _ hS hl hw)
def wJ_X1_lambda_commandOf_5 (E : gE) (i0 : Nat) (i1 : Int32) (i2 : Int32) (i3 : Int32) (Q : Int32 → gW → Prop) (X : String → gW → Prop) (w : gW) : Prop :=
  aKind E i0 1 (wJ_X2_moveHost E i0 i1 i2 (fun r2 w1 => Q r2 w1) X w) w
theorem kJ_X1_lambda_commandOf_5_r (C : gC p l s m args meth c cX1_lambda_commandOf_5 4 (some .int) RX1 E [] "lambda$commandOf$5") (i0 : Nat) (i1 : Int32) (i2 : Int32) (i3 : Int32) {Q : Int32 → gW → Prop} {X : String → gW → Prop} (w : gW) (H : Heap) (locs : List Loc) (ls : Array Slot) (hS : gS E w0 w H locs) (hl : lv_has ls 4 [(0, .ref i0), (1, .int i1), (2, .int i2), (3, .int i3)]) (hw : wJ_X1_lambda_commandOf_5 E i0 i1 i2 i3 Q X w) : gGo p l e s m args below meth c H locs 10 164 E w0 w (gI Q) (X) (F0 m 0 ls []) := by
  unfold wJ_X1_lambda_commandOf_5 at hw
  refine lv_aload_n C.x C.b dX1_lambda_commandOf_5_0 rfl (lv_at hl 0 rfl) ?_
  refine lv_iload_n C.x C.b dX1_lambda_commandOf_5_1 rfl (lv_at hl 1 rfl) ?_
  refine lv_iload_n C.x C.b dX1_lambda_commandOf_5_2 rfl (lv_at hl 2 rfl) ?_
  obtain ⟨fs, hq, hw⟩ := hw
  refine a_callV (rest := []) C hS hl 1 hq rfl (kJ_X2_moveHost C.tr hw) q1032 q1033 q1034 q78 q1035 ny_X2_moveHost rfl (Nat.le_of_ble_eq_true rfl) (Nat.le_of_ble_eq_true rfl) rfl (Nat.le_of_ble_eq_true rfl) dX1_lambda_commandOf_5_3 (fun X1 w1 H1 l1 q1 ce hx _ hS1 hc hv hcl => g_out C hS1 (fun x h => by cases h) hc hv hcl hx) (fun v w1 H locs hq _ hS => ?_)
  obtain ⟨r2, rfl, hw⟩ := hq
  refine W.eq (g2 := F0 m 6 ls [.int r2]) rfl ?_
  exact g_iret C hS ⟨_, rfl, hw⟩ dX1_lambda_commandOf_5_6
theorem ny_X1_lambda_commandOf_5 : gNm yX1_lambda_commandOf_5 4 = true := by decide +kernel
theorem kJ_X1_lambda_commandOf_5 {l : Launch} (ht : l.stackTraces = false) {w : gW} {i0 : Nat} {i1 : Int32} {i2 : Int32} {i3 : Int32} {Q : Int32 → gW → Prop} {X : String → gW → Prop} (hw : wJ_X1_lambda_commandOf_5 E i0 i1 i2 i3 Q X w) : gMet l yX1_lambda_commandOf_5 (ws_ yX1_lambda_commandOf_5 cX1_lambda_commandOf_5 4 (some .int)) E w [.ref i0, .int i1, .int i2, .int i3] 10 164 (gI Q) (X) :=
  g_ofW ht (by decide) (Nat.le_of_ble_eq_true rfl) (fun p e s m below meth c ls H C hl hS => kJ_X1_lambda_commandOf_5_r C _ _ _ _ _ _ _ _ hS hl hw)
def wJ_X1_lambda_commandOf_6 (E : gE) (i0 : Nat) (i1 : Int32) (i2 : Int32) (i3 : Int32) (Q : Int32 → gW → Prop) (X : String → gW → Prop) (w : gW) : Prop :=
  aKind E i0 1 (wJ_X2_tick E i0 i1 (fun r2 w1 => Q r2 w1) X w) w
theorem kJ_X1_lambda_commandOf_6_r (C : gC p l s m args meth c cX1_lambda_commandOf_6 4 (some .int) RX1 E [] "lambda$commandOf$6") (i0 : Nat) (i1 : Int32) (i2 : Int32) (i3 : Int32) {Q : Int32 → gW → Prop} {X : String → gW → Prop} (w : gW) (H : Heap) (locs : List Loc) (ls : Array Slot) (hS : gS E w0 w H locs) (hl : lv_has ls 4 [(0, .ref i0), (1, .int i1), (2, .int i2), (3, .int i3)]) (hw : wJ_X1_lambda_commandOf_6 E i0 i1 i2 i3 Q X w) : gGo p l e s m args below meth c H locs 10 163 E w0 w (gI Q) (X) (F0 m 0 ls []) := by
  unfold wJ_X1_lambda_commandOf_6 at hw
  refine lv_aload_n C.x C.b dX1_lambda_commandOf_6_0 rfl (lv_at hl 0 rfl) ?_
  refine lv_iload_n C.x C.b dX1_lambda_commandOf_6_1 rfl (lv_at hl 1 rfl) ?_
  obtain ⟨fs, hq, hw⟩ := hw
  refine a_callV (rest := []) C hS hl 1 hq rfl (kJ_X2_tick C.tr hw) q1040 q1041 q1042 q78 q1043 ny_X2_tick rfl (Nat.le_of_ble_eq_true rfl) (Nat.le_of_ble_eq_true rfl) rfl (Nat.le_of_ble_eq_true rfl) dX1_lambda_commandOf_6_2 (fun X1 w1 H1 l1 q1 ce hx _ hS1 hc hv hcl => g_out C hS1 (fun x h => by cases h) hc hv hcl hx) (fun v w1 H locs hq _ hS => ?_)
  obtain ⟨r2, rfl, hw⟩ := hq
  refine W.eq (g2 := F0 m 5 ls [.int r2]) rfl ?_
  exact g_iret C hS ⟨_, rfl, hw⟩ dX1_lambda_commandOf_6_5
theorem ny_X1_lambda_commandOf_6 : gNm yX1_lambda_commandOf_6 4 = true := by decide +kernel
theorem kJ_X1_lambda_commandOf_6 {l : Launch} (ht : l.stackTraces = false) {w : gW} {i0 : Nat} {i1 : Int32} {i2 : Int32} {i3 : Int32} {Q : Int32 → gW → Prop} {X : String → gW → Prop} (hw : wJ_X1_lambda_commandOf_6 E i0 i1 i2 i3 Q X w) : gMet l yX1_lambda_commandOf_6 (ws_ yX1_lambda_commandOf_6 cX1_lambda_commandOf_6 4 (some .int)) E w [.ref i0, .int i1, .int i2, .int i3] 10 163 (gI Q) (X) :=
  g_ofW ht (by decide) (Nat.le_of_ble_eq_true rfl) (fun p e s m below meth c ls H C hl hS => kJ_X1_lambda_commandOf_6_r C _ _ _ _ _ _ _ _ hS hl hw)
end GB0
