section GL1
variable {p : Program} {l : Launch} {e : Env} {s : State} {m : MethodId} {args : Array Value} {below : List Frame} {meth : Method} {c : Code} {E : gE} {w0 : gW}
def wJ_X0_setBridges (E : gE) (i0 : Nat) (i1 : Int32) (i2 : Nat) (Q : Int32 → gW → Prop) (w : gW) : Prop :=
  aKind E i0 0 (wJ_X1_setBridges E i0 i1 (fun r2 w1 => aSj E i2 0 r2.toInt64 (fun w4 => Q 0 w4) w1) (fun Y w3 => (Y = "java/lang/IllegalArgumentException" ∧ (Q 1 w3))) w) w
theorem kJ_X0_setBridges_r (C : gC p l s m args meth c cX0_setBridges 4 (some .int) RX0 E (tableOf [(0, 9, 12, 13)]) "setBridges") (i0 : Nat) (i1 : Int32) (i2 : Nat) {Q : Int32 → gW → Prop} (w : gW) (H : Heap) (locs : List Loc) (ls : Array Slot) (hS : gS E w0 w H locs) (hl : lv_has ls 4 [(0, .ref i0), (1, .int i1), (2, .ref i2)]) (hw : wJ_X0_setBridges E i0 i1 i2 Q w) : gGo p l e s m args below meth c H locs 10 236 E w0 w (gI Q) (gNoX) (F0 m 0 ls []) := by
  unfold wJ_X0_setBridges at hw
  refine lv_aload_n C.x C.b dX0_setBridges_0 rfl (lv_at hl 2 rfl) ?_
  refine lv_iconst (v := 0) C.x C.b dX0_setBridges_1 (by decide) ?_
  refine lv_aload_n C.x C.b dX0_setBridges_2 rfl (lv_at hl 0 rfl) ?_
  refine lv_iload_n C.x C.b dX0_setBridges_3 rfl (lv_at hl 1 rfl) ?_
  obtain ⟨fs, hq, hw⟩ := hw
  refine a_callV (rest := [.int 0, .ref i2]) C hS hl 0 hq rfl (kJ_X1_setBridges C.tr hw) q1269 q1270 q1271 q77 q1272 ny_X1_setBridges rfl (Nat.le_of_ble_eq_true rfl) (Nat.le_of_ble_eq_true rfl) rfl (Nat.le_of_ble_eq_true rfl) dX0_setBridges_4 (fun X9 w3 H locs q9 ce9 hx9 _ hS hc9 hv9 hcl9 => ?_) (fun v w1 H locs hq _ hS => ?_)
  · rcases hx9 with ⟨rfl, hw⟩
    · refine a_catch C hS [] ⟨0, 9, 12, 13⟩ [] rfl (fun _ h9 => nomatch h9) (by decide) (by decide) q1268 q612 hc9 hv9 hcl9 ?_
      refine lv_astore_n (lv' := [(3, .ref q9), (0, .ref i0), (1, .int i1), (2, .ref i2)]) C.x C.b dX0_setBridges_12 rfl hl (by decide) rfl (fun ls hl => ?_)
      refine lv_iconst (v := 1) C.x C.b dX0_setBridges_13 (by decide) ?_
      exact g_iret C hS ⟨_, rfl, hw⟩ dX0_setBridges_14
  obtain ⟨r2, rfl, hw⟩ := hq
  refine W.eq (g2 := F0 m 7 ls [.int r2, .int 0, .ref i2]) rfl ?_
  refine lv_i2l C.x C.b dX0_setBridges_7 rfl ?_
  refine a_Sj C hS dX0_setBridges_8 hw (fun w4 H locs hw hS => ?_)
  refine lv_goto (tgt := 15) C.x C.b dX0_setBridges_9 (by decide) ?_
  refine lv_iconst (v := 0) C.x C.b dX0_setBridges_15 (by decide) ?_
  exact g_iret C hS ⟨_, rfl, hw⟩ dX0_setBridges_16
theorem ny_X0_setBridges : gNm yX0_setBridges 3 = true := by decide +kernel
theorem kJ_X0_setBridges {l : Launch} (ht : l.stackTraces = false) {w : gW} {i0 : Nat} {i1 : Int32} {i2 : Nat} {Q : Int32 → gW → Prop} (hw : wJ_X0_setBridges E i0 i1 i2 Q w) : gMet l yX0_setBridges (wsW_ yX0_setBridges cX0_setBridges 4 (some .int) [(0, 9, 12, 13)]) E w [.ref i0, .int i1, .ref i2] 10 236 (gI Q) (gNoX) :=
  g_ofWH ht (by decide) (Nat.le_of_ble_eq_true rfl) (fun p e s m below meth c ls H C hl hS => kJ_X0_setBridges_r C _ _ _ _ _ _ _ hS hl hw)
def wJ_X0_setTimes (E : gE) (i0 : Nat) (i1 : Int32) (i2 : Int32) (i3 : Int32) (i4 : Nat) (Q : Int32 → gW → Prop) (w : gW) : Prop :=
  aKind E i0 0 (wJ_X1_setTimes E i0 i1 i2 i3 (fun r2 w1 => aSj E i4 0 r2.toInt64 (fun w4 => Q 0 w4) w1) (fun Y w3 => (Y = "java/lang/IllegalArgumentException" ∧ (Q 1 w3))) w) w
theorem kJ_X0_setTimes_r (C : gC p l s m args meth c cX0_setTimes 6 (some .int) RX0 E (tableOf [(0, 12, 15, 13)]) "setTimes") (i0 : Nat) (i1 : Int32) (i2 : Int32) (i3 : Int32) (i4 : Nat) {Q : Int32 → gW → Prop} (w : gW) (H : Heap) (locs : List Loc) (ls : Array Slot) (hS : gS E w0 w H locs) (hl : lv_has ls 6 [(0, .ref i0), (1, .int i1), (2, .int i2), (3, .int i3), (4, .ref i4)]) (hw : wJ_X0_setTimes E i0 i1 i2 i3 i4 Q w) : gGo p l e s m args below meth c H locs 10 239 E w0 w (gI Q) (gNoX) (F0 m 0 ls []) := by
  unfold wJ_X0_setTimes at hw
  refine lv_aload C.x C.b dX0_setTimes_0 (lv_at hl 4 rfl) ?_
  refine lv_iconst (v := 0) C.x C.b dX0_setTimes_2 (by decide) ?_
  refine lv_aload_n C.x C.b dX0_setTimes_3 rfl (lv_at hl 0 rfl) ?_
  refine lv_iload_n C.x C.b dX0_setTimes_4 rfl (lv_at hl 1 rfl) ?_
  refine lv_iload_n C.x C.b dX0_setTimes_5 rfl (lv_at hl 2 rfl) ?_
  refine lv_iload_n C.x C.b dX0_setTimes_6 rfl (lv_at hl 3 rfl) ?_
  obtain ⟨fs, hq, hw⟩ := hw
  refine a_callV (rest := [.int 0, .ref i4]) C hS hl 0 hq rfl (kJ_X1_setTimes C.tr hw) q1281 q1282 q1283 q77 q1284 ny_X1_setTimes rfl (Nat.le_of_ble_eq_true rfl) (Nat.le_of_ble_eq_true rfl) rfl (Nat.le_of_ble_eq_true rfl) dX0_setTimes_7 (fun X9 w3 H locs q9 ce9 hx9 _ hS hc9 hv9 hcl9 => ?_) (fun v w1 H locs hq _ hS => ?_)
  · rcases hx9 with ⟨rfl, hw⟩
    · refine a_catch C hS [] ⟨0, 12, 15, 13⟩ [] rfl (fun _ h9 => nomatch h9) (by decide) (by decide) q1268 q612 hc9 hv9 hcl9 ?_
      refine lv_astore (lv' := [(5, .ref q9), (0, .ref i0), (1, .int i1), (2, .int i2), (3, .int i3), (4, .ref i4)]) C.x C.b dX0_setTimes_15 hl (by decide) rfl (fun ls hl => ?_)
      refine lv_iconst (v := 1) C.x C.b dX0_setTimes_17 (by decide) ?_
      exact g_iret C hS ⟨_, rfl, hw⟩ dX0_setTimes_18
  obtain ⟨r2, rfl, hw⟩ := hq
  refine W.eq (g2 := F0 m 10 ls [.int r2, .int 0, .ref i4]) rfl ?_
  refine lv_i2l C.x C.b dX0_setTimes_10 rfl ?_
  refine a_Sj C hS dX0_setTimes_11 hw (fun w4 H locs hw hS => ?_)
  refine lv_goto (tgt := 19) C.x C.b dX0_setTimes_12 (by decide) ?_
  refine lv_iconst (v := 0) C.x C.b dX0_setTimes_19 (by decide) ?_
  exact g_iret C hS ⟨_, rfl, hw⟩ dX0_setTimes_20
theorem ny_X0_setTimes : gNm yX0_setTimes 5 = true := by decide +kernel
theorem kJ_X0_setTimes {l : Launch} (ht : l.stackTraces = false) {w : gW} {i0 : Nat} {i1 : Int32} {i2 : Int32} {i3 : Int32} {i4 : Nat} {Q : Int32 → gW → Prop} (hw : wJ_X0_setTimes E i0 i1 i2 i3 i4 Q w) : gMet l yX0_setTimes (wsW_ yX0_setTimes cX0_setTimes 6 (some .int) [(0, 12, 15, 13)]) E w [.ref i0, .int i1, .int i2, .int i3, .ref i4] 10 239 (gI Q) (gNoX) :=
  g_ofWH ht (by decide) (Nat.le_of_ble_eq_true rfl) (fun p e s m below meth c ls H C hl hS => kJ_X0_setTimes_r C _ _ _ _ _ _ _ _ _ hS hl hw)
def wJ_X0_setPriority (E : gE) (i0 : Nat) (i1 : Int32) (i2 : Int32) (i3 : Nat) (Q : Int32 → gW → Prop) (w : gW) : Prop :=
  aKind E i0 0 (wJ_X1_setPriority E i0 i1 i2 (fun r2 w1 => aSj E i3 0 r2.toInt64 (fun w4 => Q 0 w4) w1) (fun Y w3 => (Y = "java/lang/IndexOutOfBoundsException" ∧ (Q 1 w3)) ∨ (Y = "java/lang/IllegalArgumentException" ∧ aNc E "java/lang/IllegalArgumentException" "java/lang/IndexOutOfBoundsException" ∧ (Q 2 w3))) w) w
theorem kJ_X0_setPriority_r (C : gC p l s m args meth c cX0_setPriority 5 (some .int) RX0 E (tableOf [(0, 10, 13, 23), (0, 10, 17, 13)]) "setPriority") (i0 : Nat) (i1 : Int32) (i2 : Int32) (i3 : Nat) {Q : Int32 → gW → Prop} (w : gW) (H : Heap) (locs : List Loc) (ls : Array Slot) (hS : gS E w0 w H locs) (hl : lv_has ls 5 [(0, .ref i0), (1, .int i1), (2, .int i2), (3, .ref i3)]) (hw : wJ_X0_setPriority E i0 i1 i2 i3 Q w) : gGo p l e s m args below meth c H locs 12 237 E w0 w (gI Q) (gNoX) (F0 m 0 ls []) := by
  unfold wJ_X0_setPriority at hw
  refine lv_aload_n C.x C.b dX0_setPriority_0 rfl (lv_at hl 3 rfl) ?_
  refine lv_iconst (v := 0) C.x C.b dX0_setPriority_1 (by decide) ?_
  refine lv_aload_n C.x C.b dX0_setPriority_2 rfl (lv_at hl 0 rfl) ?_
  refine lv_iload_n C.x C.b dX0_setPriority_3 rfl (lv_at hl 1 rfl) ?_
  refine lv_iload_n C.x C.b dX0_setPriority_4 rfl (lv_at hl 2 rfl) ?_
  obtain ⟨fs, hq, hw⟩ := hw
  refine a_callV (rest := [.int 0, .ref i3]) C hS hl 0 hq rfl (kJ_X1_setPriority C.tr hw) q1293 q1294 q1295 q77 q1296 ny_X1_setPriority rfl (Nat.le_of_ble_eq_true rfl) (Nat.le_of_ble_eq_true rfl) rfl (Nat.le_of_ble_eq_true rfl) dX0_setPriority_5 (fun X9 w3 H locs q9 ce9 hx9 _ hS hc9 hv9 hcl9 => ?_) (fun v w1 H locs hq _ hS => ?_)
  · rcases hx9 with ⟨rfl, hw⟩ | ⟨rfl, n0, hw⟩
    · refine a_catch C hS [] ⟨0, 10, 13, 23⟩ [⟨0, 10, 17, 13⟩] rfl (fun _ h9 => nomatch h9) (by decide) (by decide) q1292 q875 hc9 hv9 hcl9 ?_
      refine lv_astore (lv' := [(4, .ref q9), (0, .ref i0), (1, .int i1), (2, .int i2), (3, .ref i3)]) C.x C.b dX0_setPriority_13 hl (by decide) rfl (fun ls hl => ?_)
      refine lv_iconst (v := 1) C.x C.b dX0_setPriority_15 (by decide) ?_
      exact g_iret C hS ⟨_, rfl, hw⟩ dX0_setPriority_16
    · refine a_catch C hS [⟨0, 10, 13, 23⟩] ⟨0, 10, 17, 13⟩ [] rfl (List.forall_mem_cons.mpr ⟨Or.inr ⟨by decide, _, q1292, n0⟩, (fun _ h9 => nomatch h9)⟩) (by decide) (by decide) q1268 q612 hc9 hv9 hcl9 ?_
      refine lv_astore (lv' := [(4, .ref q9), (0, .ref i0), (1, .int i1), (2, .int i2), (3, .ref i3)]) C.x C.b dX0_setPriority_17 hl (by decide) rfl (fun ls hl => ?_)
      refine lv_iconst (v := 2) C.x C.b dX0_setPriority_19 (by decide) ?_
      exact g_iret C hS ⟨_, rfl, hw⟩ dX0_setPriority_20
  obtain ⟨r2, rfl, hw⟩ := hq
  refine W.eq (g2 := F0 m 8 ls [.int r2, .int 0, .ref i3]) rfl ?_
  refine lv_i2l C.x C.b dX0_setPriority_8 rfl ?_
  refine a_Sj C hS dX0_setPriority_9 hw (fun w4 H locs hw hS => ?_)
  refine lv_goto (tgt := 21) C.x C.b dX0_setPriority_10 (by decide) ?_
  refine lv_iconst (v := 0) C.x C.b dX0_setPriority_21 (by decide) ?_
  exact g_iret C hS ⟨_, rfl, hw⟩ dX0_setPriority_22
theorem ny_X0_setPriority : gNm yX0_setPriority 4 = true := by decide +kernel
theorem kJ_X0_setPriority {l : Launch} (ht : l.stackTraces = false) {w : gW} {i0 : Nat} {i1 : Int32} {i2 : Int32} {i3 : Nat} {Q : Int32 → gW → Prop} (hw : wJ_X0_setPriority E i0 i1 i2 i3 Q w) : gMet l yX0_setPriority (wsW_ yX0_setPriority cX0_setPriority 5 (some .int) [(0, 10, 13, 23), (0, 10, 17, 13)]) E w [.ref i0, .int i1, .int i2, .ref i3] 12 237 (gI Q) (gNoX) :=
  g_ofWH ht (by decide) (Nat.le_of_ble_eq_true rfl) (fun p e s m below meth c ls H C hl hS => kJ_X0_setPriority_r C _ _ _ _ _ _ _ _ hS hl hw)
def wJ_X0_addLink (E : gE) (i0 : Nat) (i1 : Int32) (i2 : Int32) (i3 : Int32) (i4 : Nat) (Q : Int32 → gW → Prop) (w : gW) : Prop :=
  aKind E i0 0 (wJ_X1_addLink E i0 i1 i2 i3 (fun r2 w1 => aSj E i4 0 r2.toInt64 (fun w4 => Q 0 w4) w1) (fun Y w3 => (Y = "java/lang/IndexOutOfBoundsException" ∧ (Q 1 w3)) ∨ (Y = "java/lang/IllegalArgumentException" ∧ aNc E "java/lang/IllegalArgumentException" "java/lang/IndexOutOfBoundsException" ∧ (Q 2 w3)) ∨ (Y = "java/lang/IllegalStateException" ∧ aNc E "java/lang/IllegalStateException" "java/lang/IndexOutOfBoundsException" ∧ aNc E "java/lang/IllegalStateException" "java/lang/IllegalArgumentException" ∧ (Q 3 w3))) w) w
theorem kJ_X0_addLink_r (C : gC p l s m args meth c cX0_addLink 6 (some .int) RX0 E (tableOf [(0, 12, 15, 23), (0, 12, 19, 13), (0, 12, 23, 28)]) "addLink") (i0 : Nat) (i1 : Int32) (i2 : Int32) (i3 : Int32) (i4 : Nat) {Q : Int32 → gW → Prop} (w : gW) (H : Heap) (locs : List Loc) (ls : Array Slot) (hS : gS E w0 w H locs) (hl : lv_has ls 6 [(0, .ref i0), (1, .int i1), (2, .int i2), (3, .int i3), (4, .ref i4)]) (hw : wJ_X0_addLink E i0 i1 i2 i3 i4 Q w) : gGo p l e s m args below meth c H locs 11 239 E w0 w (gI Q) (gNoX) (F0 m 0 ls []) := by
  unfold wJ_X0_addLink at hw
  refine lv_aload C.x C.b dX0_addLink_0 (lv_at hl 4 rfl) ?_
  refine lv_iconst (v := 0) C.x C.b dX0_addLink_2 (by decide) ?_
  refine lv_aload_n C.x C.b dX0_addLink_3 rfl (lv_at hl 0 rfl) ?_
  refine lv_iload_n C.x C.b dX0_addLink_4 rfl (lv_at hl 1 rfl) ?_
  refine lv_iload_n C.x C.b dX0_addLink_5 rfl (lv_at hl 2 rfl) ?_
  refine lv_iload_n C.x C.b dX0_addLink_6 rfl (lv_at hl 3 rfl) ?_
  obtain ⟨fs, hq, hw⟩ := hw
  refine a_callV (rest := [.int 0, .ref i4]) C hS hl 0 hq rfl (kJ_X1_addLink C.tr hw) q1301 q1302 q1303 q77 q1304 ny_X1_addLink rfl (Nat.le_of_ble_eq_true rfl) (Nat.le_of_ble_eq_true rfl) rfl (Nat.le_of_ble_eq_true rfl) dX0_addLink_7 (fun X9 w3 H locs q9 ce9 hx9 _ hS hc9 hv9 hcl9 => ?_) (fun v w1 H locs hq _ hS => ?_)
  · rcases hx9 with ⟨rfl, hw⟩ | ⟨rfl, n0, hw⟩ | ⟨rfl, n0, n1, hw⟩
    · refine a_catch C hS [] ⟨0, 12, 15, 23⟩ [⟨0, 12, 19, 13⟩, ⟨0, 12, 23, 28⟩] rfl (fun _ h9 => nomatch h9) (by decide) (by decide) q1292 q875 hc9 hv9 hcl9 ?_
      refine lv_astore (lv' := [(5, .ref q9), (0, .ref i0), (1, .int i1), (2, .int i2), (3, .int i3), (4, .ref i4)]) C.x C.b dX0_addLink_15 hl (by decide) rfl (fun ls hl => ?_)
      refine lv_iconst (v := 1) C.x C.b dX0_addLink_17 (by decide) ?_
      exact g_iret C hS ⟨_, rfl, hw⟩ dX0_addLink_18
    · refine a_catch C hS [⟨0, 12, 15, 23⟩] ⟨0, 12, 19, 13⟩ [⟨0, 12, 23, 28⟩] rfl (List.forall_mem_cons.mpr ⟨Or.inr ⟨by decide, _, q1292, n0⟩, (fun _ h9 => nomatch h9)⟩) (by decide) (by decide) q1268 q612 hc9 hv9 hcl9 ?_
      refine lv_astore (lv' := [(5, .ref q9), (0, .ref i0), (1, .int i1), (2, .int i2), (3, .int i3), (4, .ref i4)]) C.x C.b dX0_addLink_19 hl (by decide) rfl (fun ls hl => ?_)
      refine lv_iconst (v := 2) C.x C.b dX0_addLink_21 (by decide) ?_
      exact g_iret C hS ⟨_, rfl, hw⟩ dX0_addLink_22
    · refine a_catch C hS [⟨0, 12, 15, 23⟩, ⟨0, 12, 19, 13⟩] ⟨0, 12, 23, 28⟩ [] rfl (List.forall_mem_cons.mpr ⟨Or.inr ⟨by decide, _, q1292, n0⟩, (List.forall_mem_cons.mpr ⟨Or.inr ⟨by decide, _, q1268, n1⟩, (fun _ h9 => nomatch h9)⟩)⟩) (by decide) (by decide) q1300 q901 hc9 hv9 hcl9 ?_
      refine lv_astore (lv' := [(5, .ref q9), (0, .ref i0), (1, .int i1), (2, .int i2), (3, .int i3), (4, .ref i4)]) C.x C.b dX0_addLink_23 hl (by decide) rfl (fun ls hl => ?_)
      refine lv_iconst (v := 3) C.x C.b dX0_addLink_25 (by decide) ?_
      exact g_iret C hS ⟨_, rfl, hw⟩ dX0_addLink_26
  obtain ⟨r2, rfl, hw⟩ := hq
  refine W.eq (g2 := F0 m 10 ls [.int r2, .int 0, .ref i4]) rfl ?_
  refine lv_i2l C.x C.b dX0_addLink_10 rfl ?_
  refine a_Sj C hS dX0_addLink_11 hw (fun w4 H locs hw hS => ?_)
  refine lv_goto (tgt := 27) C.x C.b dX0_addLink_12 (by decide) ?_
  refine lv_iconst (v := 0) C.x C.b dX0_addLink_27 (by decide) ?_
  exact g_iret C hS ⟨_, rfl, hw⟩ dX0_addLink_28
theorem ny_X0_addLink : gNm yX0_addLink 5 = true := by decide +kernel
theorem kJ_X0_addLink {l : Launch} (ht : l.stackTraces = false) {w : gW} {i0 : Nat} {i1 : Int32} {i2 : Int32} {i3 : Int32} {i4 : Nat} {Q : Int32 → gW → Prop} (hw : wJ_X0_addLink E i0 i1 i2 i3 i4 Q w) : gMet l yX0_addLink (wsW_ yX0_addLink cX0_addLink 6 (some .int) [(0, 12, 15, 23), (0, 12, 19, 13), (0, 12, 23, 28)]) E w [.ref i0, .int i1, .int i2, .int i3, .ref i4] 11 239 (gI Q) (gNoX) :=
  g_ofWH ht (by decide) (Nat.le_of_ble_eq_true rfl) (fun p e s m below meth c ls H C hl hS => kJ_X0_addLink_r C _ _ _ _ _ _ _ _ _ hS hl hw)
def wJ_X0_fail (E : gE) (i0 : Nat) (i1 : Int32) (i2 : Nat) (Q : Int32 → gW → Prop) (w : gW) : Prop :=
  aKind E i0 0 (wJ_X1_fail E i0 i1 (fun r2 w1 => aSj E i2 0 r2.toInt64 (fun w4 => Q 0 w4) w1) (fun Y w3 => (Y = "java/lang/IndexOutOfBoundsException" ∧ (Q 1 w3)) ∨ (Y = "java/lang/IllegalStateException" ∧ aNc E "java/lang/IllegalStateException" "java/lang/IndexOutOfBoundsException" ∧ (Q 2 w3))) w) w
theorem kJ_X0_fail_r (C : gC p l s m args meth c cX0_fail 4 (some .int) RX0 E (tableOf [(0, 9, 12, 23), (0, 9, 15, 28)]) "fail") (i0 : Nat) (i1 : Int32) (i2 : Nat) {Q : Int32 → gW → Prop} (w : gW) (H : Heap) (locs : List Loc) (ls : Array Slot) (hS : gS E w0 w H locs) (hl : lv_has ls 4 [(0, .ref i0), (1, .int i1), (2, .ref i2)]) (hw : wJ_X0_fail E i0 i1 i2 Q w) : gGo p l e s m args below meth c H locs 12 236 E w0 w (gI Q) (gNoX) (F0 m 0 ls []) := by
  unfold wJ_X0_fail at hw
  refine lv_aload_n C.x C.b dX0_fail_0 rfl (lv_at hl 2 rfl) ?_
  refine lv_iconst (v := 0) C.x C.b dX0_fail_1 (by decide) ?_
  refine lv_aload_n C.x C.b dX0_fail_2 rfl (lv_at hl 0 rfl) ?_
  refine lv_iload_n C.x C.b dX0_fail_3 rfl (lv_at hl 1 rfl) ?_
  obtain ⟨fs, hq, hw⟩ := hw
  refine a_callV (rest := [.int 0, .ref i2]) C hS hl 0 hq rfl (kJ_X1_fail C.tr hw) q1308 q1309 q1310 q77 q1311 ny_X1_fail rfl (Nat.le_of_ble_eq_true rfl) (Nat.le_of_ble_eq_true rfl) rfl (Nat.le_of_ble_eq_true rfl) dX0_fail_4 (fun X9 w3 H locs q9 ce9 hx9 _ hS hc9 hv9 hcl9 => ?_) (fun v w1 H locs hq _ hS => ?_)
  · rcases hx9 with ⟨rfl, hw⟩ | ⟨rfl, n0, hw⟩
    · refine a_catch C hS [] ⟨0, 9, 12, 23⟩ [⟨0, 9, 15, 28⟩] rfl (fun _ h9 => nomatch h9) (by decide) (by decide) q1292 q875 hc9 hv9 hcl9 ?_
      refine lv_astore_n (lv' := [(3, .ref q9), (0, .ref i0), (1, .int i1), (2, .ref i2)]) C.x C.b dX0_fail_12 rfl hl (by decide) rfl (fun ls hl => ?_)
      refine lv_iconst (v := 1) C.x C.b dX0_fail_13 (by decide) ?_
      exact g_iret C hS ⟨_, rfl, hw⟩ dX0_fail_14
    · refine a_catch C hS [⟨0, 9, 12, 23⟩] ⟨0, 9, 15, 28⟩ [] rfl (List.forall_mem_cons.mpr ⟨Or.inr ⟨by decide, _, q1292, n0⟩, (fun _ h9 => nomatch h9)⟩) (by decide) (by decide) q1300 q901 hc9 hv9 hcl9 ?_
      refine lv_astore_n (lv' := [(3, .ref q9), (0, .ref i0), (1, .int i1), (2, .ref i2)]) C.x C.b dX0_fail_15 rfl hl (by decide) rfl (fun ls hl => ?_)
      refine lv_iconst (v := 2) C.x C.b dX0_fail_16 (by decide) ?_
      exact g_iret C hS ⟨_, rfl, hw⟩ dX0_fail_17
  obtain ⟨r2, rfl, hw⟩ := hq
  refine W.eq (g2 := F0 m 7 ls [.int r2, .int 0, .ref i2]) rfl ?_
  refine lv_i2l C.x C.b dX0_fail_7 rfl ?_
  refine a_Sj C hS dX0_fail_8 hw (fun w4 H locs hw hS => ?_)
  refine lv_goto (tgt := 18) C.x C.b dX0_fail_9 (by decide) ?_
  refine lv_iconst (v := 0) C.x C.b dX0_fail_18 (by decide) ?_
  exact g_iret C hS ⟨_, rfl, hw⟩ dX0_fail_19
theorem ny_X0_fail : gNm yX0_fail 3 = true := by decide +kernel
theorem kJ_X0_fail {l : Launch} (ht : l.stackTraces = false) {w : gW} {i0 : Nat} {i1 : Int32} {i2 : Nat} {Q : Int32 → gW → Prop} (hw : wJ_X0_fail E i0 i1 i2 Q w) : gMet l yX0_fail (wsW_ yX0_fail cX0_fail 4 (some .int) [(0, 9, 12, 23), (0, 9, 15, 28)]) E w [.ref i0, .int i1, .ref i2] 12 236 (gI Q) (gNoX) :=
  g_ofWH ht (by decide) (Nat.le_of_ble_eq_true rfl) (fun p e s m below meth c ls H C hl hS => kJ_X0_fail_r C _ _ _ _ _ _ _ hS hl hw)
def wJ_X0_fix (E : gE) (i0 : Nat) (i1 : Int32) (i2 : Nat) (Q : Int32 → gW → Prop) (w : gW) : Prop :=
  aKind E i0 0 (wJ_X1_fix E i0 i1 (fun r2 w1 => aSj E i2 0 r2.toInt64 (fun w4 => Q 0 w4) w1) (fun Y w3 => (Y = "java/lang/IndexOutOfBoundsException" ∧ (Q 1 w3)) ∨ (Y = "java/lang/IllegalStateException" ∧ aNc E "java/lang/IllegalStateException" "java/lang/IndexOutOfBoundsException" ∧ (Q 2 w3))) w) w
theorem kJ_X0_fix_r (C : gC p l s m args meth c cX0_fix 4 (some .int) RX0 E (tableOf [(0, 9, 12, 23), (0, 9, 15, 28)]) "fix") (i0 : Nat) (i1 : Int32) (i2 : Nat) {Q : Int32 → gW → Prop} (w : gW) (H : Heap) (locs : List Loc) (ls : Array Slot) (hS : gS E w0 w H locs) (hl : lv_has ls 4 [(0, .ref i0), (1, .int i1), (2, .ref i2)]) (hw : wJ_X0_fix E i0 i1 i2 Q w) : gGo p l e s m args below meth c H locs 12 236 E w0 w (gI Q) (gNoX) (F0 m 0 ls []) := by
  unfold wJ_X0_fix at hw
  refine lv_aload_n C.x C.b dX0_fix_0 rfl (lv_at hl 2 rfl) ?_
  refine lv_iconst (v := 0) C.x C.b dX0_fix_1 (by decide) ?_
  refine lv_aload_n C.x C.b dX0_fix_2 rfl (lv_at hl 0 rfl) ?_
  refine lv_iload_n C.x C.b dX0_fix_3 rfl (lv_at hl 1 rfl) ?_
  obtain ⟨fs, hq, hw⟩ := hw
  refine a_callV (rest := [.int 0, .ref i2]) C hS hl 0 hq rfl (kJ_X1_fix C.tr hw) q1315 q1316 q1317 q77 q1318 ny_X1_fix rfl (Nat.le_of_ble_eq_true rfl) (Nat.le_of_ble_eq_true rfl) rfl (Nat.le_of_ble_eq_true rfl) dX0_fix_4 (fun X9 w3 H locs q9 ce9 hx9 _ hS hc9 hv9 hcl9 => ?_) (fun v w1 H locs hq _ hS => ?_)
  · rcases hx9 with ⟨rfl, hw⟩ | ⟨rfl, n0, hw⟩
    · refine a_catch C hS [] ⟨0, 9, 12, 23⟩ [⟨0, 9, 15, 28⟩] rfl (fun _ h9 => nomatch h9) (by decide) (by decide) q1292 q875 hc9 hv9 hcl9 ?_
      refine lv_astore_n (lv' := [(3, .ref q9), (0, .ref i0), (1, .int i1), (2, .ref i2)]) C.x C.b dX0_fix_12 rfl hl (by decide) rfl (fun ls hl => ?_)
      refine lv_iconst (v := 1) C.x C.b dX0_fix_13 (by decide) ?_
      exact g_iret C hS ⟨_, rfl, hw⟩ dX0_fix_14
    · refine a_catch C hS [⟨0, 9, 12, 23⟩] ⟨0, 9, 15, 28⟩ [] rfl (List.forall_mem_cons.mpr ⟨Or.inr ⟨by decide, _, q1292, n0⟩, (fun _ h9 => nomatch h9)⟩) (by decide) (by decide) q1300 q901 hc9 hv9 hcl9 ?_
      refine lv_astore_n (lv' := [(3, .ref q9), (0, .ref i0), (1, .int i1), (2, .ref i2)]) C.x C.b dX0_fix_15 rfl hl (by decide) rfl (fun ls hl => ?_)
      refine lv_iconst (v := 2) C.x C.b dX0_fix_16 (by decide) ?_
      exact g_iret C hS ⟨_, rfl, hw⟩ dX0_fix_17
  obtain ⟨r2, rfl, hw⟩ := hq
  refine W.eq (g2 := F0 m 7 ls [.int r2, .int 0, .ref i2]) rfl ?_
  refine lv_i2l C.x C.b dX0_fix_7 rfl ?_
  refine a_Sj C hS dX0_fix_8 hw (fun w4 H locs hw hS => ?_)
  refine lv_goto (tgt := 18) C.x C.b dX0_fix_9 (by decide) ?_
  refine lv_iconst (v := 0) C.x C.b dX0_fix_18 (by decide) ?_
  exact g_iret C hS ⟨_, rfl, hw⟩ dX0_fix_19
theorem ny_X0_fix : gNm yX0_fix 3 = true := by decide +kernel
theorem kJ_X0_fix {l : Launch} (ht : l.stackTraces = false) {w : gW} {i0 : Nat} {i1 : Int32} {i2 : Nat} {Q : Int32 → gW → Prop} (hw : wJ_X0_fix E i0 i1 i2 Q w) : gMet l yX0_fix (wsW_ yX0_fix cX0_fix 4 (some .int) [(0, 9, 12, 23), (0, 9, 15, 28)]) E w [.ref i0, .int i1, .ref i2] 12 236 (gI Q) (gNoX) :=
  g_ofWH ht (by decide) (Nat.le_of_ble_eq_true rfl) (fun p e s m below meth c ls H C hl hS => kJ_X0_fix_r C _ _ _ _ _ _ _ hS hl hw)
def wJ_X0_moveHost (E : gE) (i0 : Nat) (i1 : Int32) (i2 : Int32) (i3 : Nat) (Q : Int32 → gW → Prop) (w : gW) : Prop :=
  aKind E i0 0 (wJ_X1_moveHost E i0 i1 i2 (fun r2 w1 => aSj E i3 0 r2.toInt64 (fun w4 => Q 0 w4) w1) (fun Y w3 => (Y = "java/lang/IndexOutOfBoundsException" ∧ (Q 1 w3))) w) w
theorem kJ_X0_moveHost_r (C : gC p l s m args meth c cX0_moveHost 5 (some .int) RX0 E (tableOf [(0, 10, 13, 23)]) "moveHost") (i0 : Nat) (i1 : Int32) (i2 : Int32) (i3 : Nat) {Q : Int32 → gW → Prop} (w : gW) (H : Heap) (locs : List Loc) (ls : Array Slot) (hS : gS E w0 w H locs) (hl : lv_has ls 5 [(0, .ref i0), (1, .int i1), (2, .int i2), (3, .ref i3)]) (hw : wJ_X0_moveHost E i0 i1 i2 i3 Q w) : gGo p l e s m args below meth c H locs 11 237 E w0 w (gI Q) (gNoX) (F0 m 0 ls []) := by
  unfold wJ_X0_moveHost at hw
  refine lv_aload_n C.x C.b dX0_moveHost_0 rfl (lv_at hl 3 rfl) ?_
  refine lv_iconst (v := 0) C.x C.b dX0_moveHost_1 (by decide) ?_
  refine lv_aload_n C.x C.b dX0_moveHost_2 rfl (lv_at hl 0 rfl) ?_
  refine lv_iload_n C.x C.b dX0_moveHost_3 rfl (lv_at hl 1 rfl) ?_
  refine lv_iload_n C.x C.b dX0_moveHost_4 rfl (lv_at hl 2 rfl) ?_
  obtain ⟨fs, hq, hw⟩ := hw
  refine a_callV (rest := [.int 0, .ref i3]) C hS hl 0 hq rfl (kJ_X1_moveHost C.tr hw) q1322 q1323 q1324 q77 q1325 ny_X1_moveHost rfl (Nat.le_of_ble_eq_true rfl) (Nat.le_of_ble_eq_true rfl) rfl (Nat.le_of_ble_eq_true rfl) dX0_moveHost_5 (fun X9 w3 H locs q9 ce9 hx9 _ hS hc9 hv9 hcl9 => ?_) (fun v w1 H locs hq _ hS => ?_)
  · rcases hx9 with ⟨rfl, hw⟩
    · refine a_catch C hS [] ⟨0, 10, 13, 23⟩ [] rfl (fun _ h9 => nomatch h9) (by decide) (by decide) q1292 q875 hc9 hv9 hcl9 ?_
      refine lv_astore (lv' := [(4, .ref q9), (0, .ref i0), (1, .int i1), (2, .int i2), (3, .ref i3)]) C.x C.b dX0_moveHost_13 hl (by decide) rfl (fun ls hl => ?_)
      refine lv_iconst (v := 1) C.x C.b dX0_moveHost_15 (by decide) ?_
      exact g_iret C hS ⟨_, rfl, hw⟩ dX0_moveHost_16
  obtain ⟨r2, rfl, hw⟩ := hq
  refine W.eq (g2 := F0 m 8 ls [.int r2, .int 0, .ref i3]) rfl ?_
  refine lv_i2l C.x C.b dX0_moveHost_8 rfl ?_
  refine a_Sj C hS dX0_moveHost_9 hw (fun w4 H locs hw hS => ?_)
  refine lv_goto (tgt := 17) C.x C.b dX0_moveHost_10 (by decide) ?_
  refine lv_iconst (v := 0) C.x C.b dX0_moveHost_17 (by decide) ?_
  exact g_iret C hS ⟨_, rfl, hw⟩ dX0_moveHost_18
theorem ny_X0_moveHost : gNm yX0_moveHost 4 = true := by decide +kernel
theorem kJ_X0_moveHost {l : Launch} (ht : l.stackTraces = false) {w : gW} {i0 : Nat} {i1 : Int32} {i2 : Int32} {i3 : Nat} {Q : Int32 → gW → Prop} (hw : wJ_X0_moveHost E i0 i1 i2 i3 Q w) : gMet l yX0_moveHost (wsW_ yX0_moveHost cX0_moveHost 5 (some .int) [(0, 10, 13, 23)]) E w [.ref i0, .int i1, .int i2, .ref i3] 11 237 (gI Q) (gNoX) :=
  g_ofWH ht (by decide) (Nat.le_of_ble_eq_true rfl) (fun p e s m below meth c ls H C hl hS => kJ_X0_moveHost_r C _ _ _ _ _ _ _ _ hS hl hw)
def wJ_X0_bid (E : gE) (i0 : Nat) (i1 : Int32) (i2 : Int32) (i3 : Int32) (i4 : Nat) (Q : Int32 → gW → Prop) (w : gW) : Prop :=
  aKind E i0 0 (wJ_X1_bid E i0 i1 i2 i3 (fun r2 w1 => aSj E i4 0 r2.toInt64 (fun w4 => Q 0 w4) w1) (fun Y w3 => (Y = "java/lang/IndexOutOfBoundsException" ∧ (Q 1 w3)) ∨ (Y = "java/lang/IllegalArgumentException" ∧ aNc E "java/lang/IllegalArgumentException" "java/lang/IndexOutOfBoundsException" ∧ (Q 2 w3))) w) w
theorem kJ_X0_bid_r (C : gC p l s m args meth c cX0_bid 6 (some .int) RX0 E (tableOf [(0, 12, 15, 23), (0, 12, 19, 13)]) "bid") (i0 : Nat) (i1 : Int32) (i2 : Int32) (i3 : Int32) (i4 : Nat) {Q : Int32 → gW → Prop} (w : gW) (H : Heap) (locs : List Loc) (ls : Array Slot) (hS : gS E w0 w H locs) (hl : lv_has ls 6 [(0, .ref i0), (1, .int i1), (2, .int i2), (3, .int i3), (4, .ref i4)]) (hw : wJ_X0_bid E i0 i1 i2 i3 i4 Q w) : gGo p l e s m args below meth c H locs 11 238 E w0 w (gI Q) (gNoX) (F0 m 0 ls []) := by
  unfold wJ_X0_bid at hw
  refine lv_aload C.x C.b dX0_bid_0 (lv_at hl 4 rfl) ?_
  refine lv_iconst (v := 0) C.x C.b dX0_bid_2 (by decide) ?_
  refine lv_aload_n C.x C.b dX0_bid_3 rfl (lv_at hl 0 rfl) ?_
  refine lv_iload_n C.x C.b dX0_bid_4 rfl (lv_at hl 1 rfl) ?_
  refine lv_iload_n C.x C.b dX0_bid_5 rfl (lv_at hl 2 rfl) ?_
  refine lv_iload_n C.x C.b dX0_bid_6 rfl (lv_at hl 3 rfl) ?_
  obtain ⟨fs, hq, hw⟩ := hw
  refine a_callV (rest := [.int 0, .ref i4]) C hS hl 0 hq rfl (kJ_X1_bid C.tr hw) q1329 q1330 q1331 q77 q1332 ny_X1_bid rfl (Nat.le_of_ble_eq_true rfl) (Nat.le_of_ble_eq_true rfl) rfl (Nat.le_of_ble_eq_true rfl) dX0_bid_7 (fun X9 w3 H locs q9 ce9 hx9 _ hS hc9 hv9 hcl9 => ?_) (fun v w1 H locs hq _ hS => ?_)
  · rcases hx9 with ⟨rfl, hw⟩ | ⟨rfl, n0, hw⟩
    · refine a_catch C hS [] ⟨0, 12, 15, 23⟩ [⟨0, 12, 19, 13⟩] rfl (fun _ h9 => nomatch h9) (by decide) (by decide) q1292 q875 hc9 hv9 hcl9 ?_
      refine lv_astore (lv' := [(5, .ref q9), (0, .ref i0), (1, .int i1), (2, .int i2), (3, .int i3), (4, .ref i4)]) C.x C.b dX0_bid_15 hl (by decide) rfl (fun ls hl => ?_)
      refine lv_iconst (v := 1) C.x C.b dX0_bid_17 (by decide) ?_
      exact g_iret C hS ⟨_, rfl, hw⟩ dX0_bid_18
    · refine a_catch C hS [⟨0, 12, 15, 23⟩] ⟨0, 12, 19, 13⟩ [] rfl (List.forall_mem_cons.mpr ⟨Or.inr ⟨by decide, _, q1292, n0⟩, (fun _ h9 => nomatch h9)⟩) (by decide) (by decide) q1268 q612 hc9 hv9 hcl9 ?_
      refine lv_astore (lv' := [(5, .ref q9), (0, .ref i0), (1, .int i1), (2, .int i2), (3, .int i3), (4, .ref i4)]) C.x C.b dX0_bid_19 hl (by decide) rfl (fun ls hl => ?_)
      refine lv_iconst (v := 2) C.x C.b dX0_bid_21 (by decide) ?_
      exact g_iret C hS ⟨_, rfl, hw⟩ dX0_bid_22
  obtain ⟨r2, rfl, hw⟩ := hq
  refine W.eq (g2 := F0 m 10 ls [.int r2, .int 0, .ref i4]) rfl ?_
  refine lv_i2l C.x C.b dX0_bid_10 rfl ?_
  refine a_Sj C hS dX0_bid_11 hw (fun w4 H locs hw hS => ?_)
  refine lv_goto (tgt := 23) C.x C.b dX0_bid_12 (by decide) ?_
  refine lv_iconst (v := 0) C.x C.b dX0_bid_23 (by decide) ?_
  exact g_iret C hS ⟨_, rfl, hw⟩ dX0_bid_24
theorem ny_X0_bid : gNm yX0_bid 5 = true := by decide +kernel
theorem kJ_X0_bid {l : Launch} (ht : l.stackTraces = false) {w : gW} {i0 : Nat} {i1 : Int32} {i2 : Int32} {i3 : Int32} {i4 : Nat} {Q : Int32 → gW → Prop} (hw : wJ_X0_bid E i0 i1 i2 i3 i4 Q w) : gMet l yX0_bid (wsW_ yX0_bid cX0_bid 6 (some .int) [(0, 12, 15, 23), (0, 12, 19, 13)]) E w [.ref i0, .int i1, .int i2, .int i3, .ref i4] 11 238 (gI Q) (gNoX) :=
  g_ofWH ht (by decide) (Nat.le_of_ble_eq_true rfl) (fun p e s m below meth c ls H C hl hS => kJ_X0_bid_r C _ _ _ _ _ _ _ _ _ hS hl hw)
def wJ_X0_grant (E : gE) (i0 : Nat) (i1 : Int32) (i2 : Int32) (i3 : Nat) (Q : Int32 → gW → Prop) (w : gW) : Prop :=
  aKind E i0 0 (wJ_X1_grant E i0 i1 i2 (fun r2 w1 => aSj E i3 0 r2.toInt64 (fun w4 => Q 0 w4) w1) (fun Y w3 => (Y = "java/lang/IndexOutOfBoundsException" ∧ (Q 1 w3)) ∨ (Y = "java/lang/IllegalArgumentException" ∧ aNc E "java/lang/IllegalArgumentException" "java/lang/IndexOutOfBoundsException" ∧ (Q 2 w3)) ∨ (Y = "java/lang/IllegalStateException" ∧ aNc E "java/lang/IllegalStateException" "java/lang/IndexOutOfBoundsException" ∧ aNc E "java/lang/IllegalStateException" "java/lang/IllegalArgumentException" ∧ (Q 3 w3))) w) w
theorem kJ_X0_grant_r (C : gC p l s m args meth c cX0_grant 5 (some .int) RX0 E (tableOf [(0, 10, 13, 23), (0, 10, 17, 13), (0, 10, 21, 28)]) "grant") (i0 : Nat) (i1 : Int32) (i2 : Int32) (i3 : Nat) {Q : Int32 → gW → Prop} (w : gW) (H : Heap) (locs : List Loc) (ls : Array Slot) (hS : gS E w0 w H locs) (hl : lv_has ls 5 [(0, .ref i0), (1, .int i1), (2, .int i2), (3, .ref i3)]) (hw : wJ_X0_grant E i0 i1 i2 i3 Q w) : gGo p l e s m args below meth c H locs 11 237 E w0 w (gI Q) (gNoX) (F0 m 0 ls []) := by
  unfold wJ_X0_grant at hw
  refine lv_aload_n C.x C.b dX0_grant_0 rfl (lv_at hl 3 rfl) ?_
  refine lv_iconst (v := 0) C.x C.b dX0_grant_1 (by decide) ?_
  refine lv_aload_n C.x C.b dX0_grant_2 rfl (lv_at hl 0 rfl) ?_
  refine lv_iload_n C.x C.b dX0_grant_3 rfl (lv_at hl 1 rfl) ?_
  refine lv_iload_n C.x C.b dX0_grant_4 rfl (lv_at hl 2 rfl) ?_
  obtain ⟨fs, hq, hw⟩ := hw
  refine a_callV (rest := [.int 0, .ref i3]) C hS hl 0 hq rfl (kJ_X1_grant C.tr hw) q1336 q1337 q1338 q77 q1339 ny_X1_grant rfl (Nat.le_of_ble_eq_true rfl) (Nat.le_of_ble_eq_true rfl) rfl (Nat.le_of_ble_eq_true rfl) dX0_grant_5 (fun X9 w3 H locs q9 ce9 hx9 _ hS hc9 hv9 hcl9 => ?_) (fun v w1 H locs hq _ hS => ?_)
  · rcases hx9 with ⟨rfl, hw⟩ | ⟨rfl, n0, hw⟩ | ⟨rfl, n0, n1, hw⟩
    · refine a_catch C hS [] ⟨0, 10, 13, 23⟩ [⟨0, 10, 17, 13⟩, ⟨0, 10, 21, 28⟩] rfl (fun _ h9 => nomatch h9) (by decide) (by decide) q1292 q875 hc9 hv9 hcl9 ?_
      refine lv_astore (lv' := [(4, .ref q9), (0, .ref i0), (1, .int i1), (2, .int i2), (3, .ref i3)]) C.x C.b dX0_grant_13 hl (by decide) rfl (fun ls hl => ?_)
      refine lv_iconst (v := 1) C.x C.b dX0_grant_15 (by decide) ?_
      exact g_iret C hS ⟨_, rfl, hw⟩ dX0_grant_16
    · refine a_catch C hS [⟨0, 10, 13, 23⟩] ⟨0, 10, 17, 13⟩ [⟨0, 10, 21, 28⟩] rfl (List.forall_mem_cons.mpr ⟨Or.inr ⟨by decide, _, q1292, n0⟩, (fun _ h9 => nomatch h9)⟩) (by decide) (by decide) q1268 q612 hc9 hv9 hcl9 ?_
      refine lv_astore (lv' := [(4, .ref q9), (0, .ref i0), (1, .int i1), (2, .int i2), (3, .ref i3)]) C.x C.b dX0_grant_17 hl (by decide) rfl (fun ls hl => ?_)
      refine lv_iconst (v := 2) C.x C.b dX0_grant_19 (by decide) ?_
      exact g_iret C hS ⟨_, rfl, hw⟩ dX0_grant_20
    · refine a_catch C hS [⟨0, 10, 13, 23⟩, ⟨0, 10, 17, 13⟩] ⟨0, 10, 21, 28⟩ [] rfl (List.forall_mem_cons.mpr ⟨Or.inr ⟨by decide, _, q1292, n0⟩, (List.forall_mem_cons.mpr ⟨Or.inr ⟨by decide, _, q1268, n1⟩, (fun _ h9 => nomatch h9)⟩)⟩) (by decide) (by decide) q1300 q901 hc9 hv9 hcl9 ?_
      refine lv_astore (lv' := [(4, .ref q9), (0, .ref i0), (1, .int i1), (2, .int i2), (3, .ref i3)]) C.x C.b dX0_grant_21 hl (by decide) rfl (fun ls hl => ?_)
      refine lv_iconst (v := 3) C.x C.b dX0_grant_23 (by decide) ?_
      exact g_iret C hS ⟨_, rfl, hw⟩ dX0_grant_24
  obtain ⟨r2, rfl, hw⟩ := hq
  refine W.eq (g2 := F0 m 8 ls [.int r2, .int 0, .ref i3]) rfl ?_
  refine lv_i2l C.x C.b dX0_grant_8 rfl ?_
  refine a_Sj C hS dX0_grant_9 hw (fun w4 H locs hw hS => ?_)
  refine lv_goto (tgt := 25) C.x C.b dX0_grant_10 (by decide) ?_
  refine lv_iconst (v := 0) C.x C.b dX0_grant_25 (by decide) ?_
  exact g_iret C hS ⟨_, rfl, hw⟩ dX0_grant_26
theorem ny_X0_grant : gNm yX0_grant 4 = true := by decide +kernel
theorem kJ_X0_grant {l : Launch} (ht : l.stackTraces = false) {w : gW} {i0 : Nat} {i1 : Int32} {i2 : Int32} {i3 : Nat} {Q : Int32 → gW → Prop} (hw : wJ_X0_grant E i0 i1 i2 i3 Q w) : gMet l yX0_grant (wsW_ yX0_grant cX0_grant 5 (some .int) [(0, 10, 13, 23), (0, 10, 17, 13), (0, 10, 21, 28)]) E w [.ref i0, .int i1, .int i2, .ref i3] 11 237 (gI Q) (gNoX) :=
  g_ofWH ht (by decide) (Nat.le_of_ble_eq_true rfl) (fun p e s m below meth c ls H C hl hS => kJ_X0_grant_r C _ _ _ _ _ _ _ _ hS hl hw)
def wJ_X0_tick (E : gE) (i0 : Nat) (i1 : Int32) (i2 : Nat) (Q : Int32 → gW → Prop) (w : gW) : Prop :=
  aKind E i0 0 (wJ_X1_tick E i0 i1 (fun r2 w1 => aSj E i2 0 r2.toInt64 (fun w4 => Q 0 w4) w1) (fun Y w3 => (Y = "java/lang/IllegalArgumentException" ∧ (Q 1 w3))) w) w
theorem kJ_X0_tick_r (C : gC p l s m args meth c cX0_tick 4 (some .int) RX0 E (tableOf [(0, 9, 12, 13)]) "tick") (i0 : Nat) (i1 : Int32) (i2 : Nat) {Q : Int32 → gW → Prop} (w : gW) (H : Heap) (locs : List Loc) (ls : Array Slot) (hS : gS E w0 w H locs) (hl : lv_has ls 4 [(0, .ref i0), (1, .int i1), (2, .ref i2)]) (hw : wJ_X0_tick E i0 i1 i2 Q w) : gGo p l e s m args below meth c H locs 11 236 E w0 w (gI Q) (gNoX) (F0 m 0 ls []) := by
  unfold wJ_X0_tick at hw
  refine lv_aload_n C.x C.b dX0_tick_0 rfl (lv_at hl 2 rfl) ?_
  refine lv_iconst (v := 0) C.x C.b dX0_tick_1 (by decide) ?_
  refine lv_aload_n C.x C.b dX0_tick_2 rfl (lv_at hl 0 rfl) ?_
  refine lv_iload_n C.x C.b dX0_tick_3 rfl (lv_at hl 1 rfl) ?_
  obtain ⟨fs, hq, hw⟩ := hw
  refine a_callV (rest := [.int 0, .ref i2]) C hS hl 0 hq rfl (kJ_X1_tick C.tr hw) q1354 q1355 q1356 q77 q1357 ny_X1_tick rfl (Nat.le_of_ble_eq_true rfl) (Nat.le_of_ble_eq_true rfl) rfl (Nat.le_of_ble_eq_true rfl) dX0_tick_4 (fun X9 w3 H locs q9 ce9 hx9 _ hS hc9 hv9 hcl9 => ?_) (fun v w1 H locs hq _ hS => ?_)
  · rcases hx9 with ⟨rfl, hw⟩
    · refine a_catch C hS [] ⟨0, 9, 12, 13⟩ [] rfl (fun _ h9 => nomatch h9) (by decide) (by decide) q1268 q612 hc9 hv9 hcl9 ?_
      refine lv_astore_n (lv' := [(3, .ref q9), (0, .ref i0), (1, .int i1), (2, .ref i2)]) C.x C.b dX0_tick_12 rfl hl (by decide) rfl (fun ls hl => ?_)
      refine lv_iconst (v := 1) C.x C.b dX0_tick_13 (by decide) ?_
      exact g_iret C hS ⟨_, rfl, hw⟩ dX0_tick_14
  obtain ⟨r2, rfl, hw⟩ := hq
  refine W.eq (g2 := F0 m 7 ls [.int r2, .int 0, .ref i2]) rfl ?_
  refine lv_i2l C.x C.b dX0_tick_7 rfl ?_
  refine a_Sj C hS dX0_tick_8 hw (fun w4 H locs hw hS => ?_)
  refine lv_goto (tgt := 15) C.x C.b dX0_tick_9 (by decide) ?_
  refine lv_iconst (v := 0) C.x C.b dX0_tick_15 (by decide) ?_
  exact g_iret C hS ⟨_, rfl, hw⟩ dX0_tick_16
theorem ny_X0_tick : gNm yX0_tick 3 = true := by decide +kernel
theorem kJ_X0_tick {l : Launch} (ht : l.stackTraces = false) {w : gW} {i0 : Nat} {i1 : Int32} {i2 : Nat} {Q : Int32 → gW → Prop} (hw : wJ_X0_tick E i0 i1 i2 Q w) : gMet l yX0_tick (wsW_ yX0_tick cX0_tick 4 (some .int) [(0, 9, 12, 13)]) E w [.ref i0, .int i1, .ref i2] 11 236 (gI Q) (gNoX) :=
  g_ofWH ht (by decide) (Nat.le_of_ble_eq_true rfl) (fun p e s m below meth c ls H C hl hS => kJ_X0_tick_r C _ _ _ _ _ _ _ hS hl hw)
def wJ_X0_send (E : gE) (i0 : Nat) (i1 : Int32) (i2 : Int32) (i3 : Nat) (Q : Int32 → gW → Prop) (w : gW) : Prop :=
  aKind E i0 0 (wJ_X1_send E i0 i1 i2 (fun r2 w1 => aSj E i3 0 r2.toInt64 (fun w4 => Q 0 w4) w1) (fun Y w3 => (Y = "java/lang/IndexOutOfBoundsException" ∧ (Q 1 w3)) ∨ (Y = "java/lang/IllegalArgumentException" ∧ aNc E "java/lang/IllegalArgumentException" "java/lang/IndexOutOfBoundsException" ∧ (Q 2 w3))) w) w
theorem kJ_X0_send_r (C : gC p l s m args meth c cX0_send 5 (some .int) RX0 E (tableOf [(0, 10, 13, 23), (0, 10, 17, 13)]) "send") (i0 : Nat) (i1 : Int32) (i2 : Int32) (i3 : Nat) {Q : Int32 → gW → Prop} (w : gW) (H : Heap) (locs : List Loc) (ls : Array Slot) (hS : gS E w0 w H locs) (hl : lv_has ls 5 [(0, .ref i0), (1, .int i1), (2, .int i2), (3, .ref i3)]) (hw : wJ_X0_send E i0 i1 i2 i3 Q w) : gGo p l e s m args below meth c H locs 11 237 E w0 w (gI Q) (gNoX) (F0 m 0 ls []) := by
  unfold wJ_X0_send at hw
  refine lv_aload_n C.x C.b dX0_send_0 rfl (lv_at hl 3 rfl) ?_
  refine lv_iconst (v := 0) C.x C.b dX0_send_1 (by decide) ?_
  refine lv_aload_n C.x C.b dX0_send_2 rfl (lv_at hl 0 rfl) ?_
  refine lv_iload_n C.x C.b dX0_send_3 rfl (lv_at hl 1 rfl) ?_
  refine lv_iload_n C.x C.b dX0_send_4 rfl (lv_at hl 2 rfl) ?_
  obtain ⟨fs, hq, hw⟩ := hw
  refine a_callV (rest := [.int 0, .ref i3]) C hS hl 0 hq rfl (kJ_X1_send C.tr hw) q1361 q1362 q1363 q77 q1364 ny_X1_send rfl (Nat.le_of_ble_eq_true rfl) (Nat.le_of_ble_eq_true rfl) rfl (Nat.le_of_ble_eq_true rfl) dX0_send_5 (fun X9 w3 H locs q9 ce9 hx9 _ hS hc9 hv9 hcl9 => ?_) (fun v w1 H locs hq _ hS => ?_)
  · rcases hx9 with ⟨rfl, hw⟩ | ⟨rfl, n0, hw⟩
    · refine a_catch C hS [] ⟨0, 10, 13, 23⟩ [⟨0, 10, 17, 13⟩] rfl (fun _ h9 => nomatch h9) (by decide) (by decide) q1292 q875 hc9 hv9 hcl9 ?_
      refine lv_astore (lv' := [(4, .ref q9), (0, .ref i0), (1, .int i1), (2, .int i2), (3, .ref i3)]) C.x C.b dX0_send_13 hl (by decide) rfl (fun ls hl => ?_)
      refine lv_iconst (v := 1) C.x C.b dX0_send_15 (by decide) ?_
      exact g_iret C hS ⟨_, rfl, hw⟩ dX0_send_16
    · refine a_catch C hS [⟨0, 10, 13, 23⟩] ⟨0, 10, 17, 13⟩ [] rfl (List.forall_mem_cons.mpr ⟨Or.inr ⟨by decide, _, q1292, n0⟩, (fun _ h9 => nomatch h9)⟩) (by decide) (by decide) q1268 q612 hc9 hv9 hcl9 ?_
      refine lv_astore (lv' := [(4, .ref q9), (0, .ref i0), (1, .int i1), (2, .int i2), (3, .ref i3)]) C.x C.b dX0_send_17 hl (by decide) rfl (fun ls hl => ?_)
      refine lv_iconst (v := 2) C.x C.b dX0_send_19 (by decide) ?_
      exact g_iret C hS ⟨_, rfl, hw⟩ dX0_send_20
  obtain ⟨r2, rfl, hw⟩ := hq
  refine W.eq (g2 := F0 m 8 ls [.int r2, .int 0, .ref i3]) rfl ?_
  refine lv_i2l C.x C.b dX0_send_8 rfl ?_
  refine a_Sj C hS dX0_send_9 hw (fun w4 H locs hw hS => ?_)
  refine lv_goto (tgt := 21) C.x C.b dX0_send_10 (by decide) ?_
  refine lv_iconst (v := 0) C.x C.b dX0_send_21 (by decide) ?_
  exact g_iret C hS ⟨_, rfl, hw⟩ dX0_send_22
theorem ny_X0_send : gNm yX0_send 4 = true := by decide +kernel
theorem kJ_X0_send {l : Launch} (ht : l.stackTraces = false) {w : gW} {i0 : Nat} {i1 : Int32} {i2 : Int32} {i3 : Nat} {Q : Int32 → gW → Prop} (hw : wJ_X0_send E i0 i1 i2 i3 Q w) : gMet l yX0_send (wsW_ yX0_send cX0_send 5 (some .int) [(0, 10, 13, 23), (0, 10, 17, 13)]) E w [.ref i0, .int i1, .int i2, .ref i3] 11 237 (gI Q) (gNoX) :=
  g_ofWH ht (by decide) (Nat.le_of_ble_eq_true rfl) (fun p e s m below meth c ls H C hl hS => kJ_X0_send_r C _ _ _ _ _ _ _ _ hS hl hw)
def wJ_X0_bridge (E : gE) (i0 : Nat) (i1 : Int32) (i2 : Int32) (i3 : Nat) (Q : Int32 → gW → Prop) (w : gW) : Prop :=
  aKind E i0 0 (wJ_X1_bridge E i0 i1 i2 (fun r2 w1 => aSj E i3 0 r2.toInt64 (fun w4 => Q 0 w4) w1) (fun Y w3 => (Y = "java/lang/IndexOutOfBoundsException" ∧ (Q 1 w3)) ∨ (Y = "java/lang/IllegalArgumentException" ∧ aNc E "java/lang/IllegalArgumentException" "java/lang/IndexOutOfBoundsException" ∧ (Q 2 w3))) w) w
theorem kJ_X0_bridge_r (C : gC p l s m args meth c cX0_bridge 5 (some .int) RX0 E (tableOf [(0, 10, 13, 23), (0, 10, 17, 13)]) "bridge") (i0 : Nat) (i1 : Int32) (i2 : Int32) (i3 : Nat) {Q : Int32 → gW → Prop} (w : gW) (H : Heap) (locs : List Loc) (ls : Array Slot) (hS : gS E w0 w H locs) (hl : lv_has ls 5 [(0, .ref i0), (1, .int i1), (2, .int i2), (3, .ref i3)]) (hw : wJ_X0_bridge E i0 i1 i2 i3 Q w) : gGo p l e s m args below meth c H locs 11 185 E w0 w (gI Q) (gNoX) (F0 m 0 ls []) := by
  unfold wJ_X0_bridge at hw
  refine lv_aload_n C.x C.b dX0_bridge_0 rfl (lv_at hl 3 rfl) ?_
  refine lv_iconst (v := 0) C.x C.b dX0_bridge_1 (by decide) ?_
  refine lv_aload_n C.x C.b dX0_bridge_2 rfl (lv_at hl 0 rfl) ?_
  refine lv_iload_n C.x C.b dX0_bridge_3 rfl (lv_at hl 1 rfl) ?_
  refine lv_iload_n C.x C.b dX0_bridge_4 rfl (lv_at hl 2 rfl) ?_
  obtain ⟨fs, hq, hw⟩ := hw
  refine a_callV (rest := [.int 0, .ref i3]) C hS hl 0 hq rfl (kJ_X1_bridge C.tr hw) q1383 q1384 q1385 q77 q1386 ny_X1_bridge rfl (Nat.le_of_ble_eq_true rfl) (Nat.le_of_ble_eq_true rfl) rfl (Nat.le_of_ble_eq_true rfl) dX0_bridge_5 (fun X9 w3 H locs q9 ce9 hx9 _ hS hc9 hv9 hcl9 => ?_) (fun v w1 H locs hq _ hS => ?_)
  · rcases hx9 with ⟨rfl, hw⟩ | ⟨rfl, n0, hw⟩
    · refine a_catch C hS [] ⟨0, 10, 13, 23⟩ [⟨0, 10, 17, 13⟩] rfl (fun _ h9 => nomatch h9) (by decide) (by decide) q1292 q875 hc9 hv9 hcl9 ?_
      refine lv_astore (lv' := [(4, .ref q9), (0, .ref i0), (1, .int i1), (2, .int i2), (3, .ref i3)]) C.x C.b dX0_bridge_13 hl (by decide) rfl (fun ls hl => ?_)
      refine lv_iconst (v := 1) C.x C.b dX0_bridge_15 (by decide) ?_
      exact g_iret C hS ⟨_, rfl, hw⟩ dX0_bridge_16
    · refine a_catch C hS [⟨0, 10, 13, 23⟩] ⟨0, 10, 17, 13⟩ [] rfl (List.forall_mem_cons.mpr ⟨Or.inr ⟨by decide, _, q1292, n0⟩, (fun _ h9 => nomatch h9)⟩) (by decide) (by decide) q1268 q612 hc9 hv9 hcl9 ?_
      refine lv_astore (lv' := [(4, .ref q9), (0, .ref i0), (1, .int i1), (2, .int i2), (3, .ref i3)]) C.x C.b dX0_bridge_17 hl (by decide) rfl (fun ls hl => ?_)
      refine lv_iconst (v := 2) C.x C.b dX0_bridge_19 (by decide) ?_
      exact g_iret C hS ⟨_, rfl, hw⟩ dX0_bridge_20
  obtain ⟨r2, rfl, hw⟩ := hq
  refine W.eq (g2 := F0 m 8 ls [.int r2, .int 0, .ref i3]) rfl ?_
  refine lv_i2l C.x C.b dX0_bridge_8 rfl ?_
  refine a_Sj C hS dX0_bridge_9 hw (fun w4 H locs hw hS => ?_)
  refine lv_goto (tgt := 21) C.x C.b dX0_bridge_10 (by decide) ?_
  refine lv_iconst (v := 0) C.x C.b dX0_bridge_21 (by decide) ?_
  exact g_iret C hS ⟨_, rfl, hw⟩ dX0_bridge_22
theorem ny_X0_bridge : gNm yX0_bridge 4 = true := by decide +kernel
theorem kJ_X0_bridge {l : Launch} (ht : l.stackTraces = false) {w : gW} {i0 : Nat} {i1 : Int32} {i2 : Int32} {i3 : Nat} {Q : Int32 → gW → Prop} (hw : wJ_X0_bridge E i0 i1 i2 i3 Q w) : gMet l yX0_bridge (wsW_ yX0_bridge cX0_bridge 5 (some .int) [(0, 10, 13, 23), (0, 10, 17, 13)]) E w [.ref i0, .int i1, .int i2, .ref i3] 11 185 (gI Q) (gNoX) :=
  g_ofWH ht (by decide) (Nat.le_of_ble_eq_true rfl) (fun p e s m below meth c ls H C hl hS => kJ_X0_bridge_r C _ _ _ _ _ _ _ _ hS hl hw)
def wJ_X0_link (E : gE) (i0 : Nat) (i1 : Int32) (i2 : Int32) (i3 : Nat) (Q : Int32 → gW → Prop) (w : gW) : Prop :=
  aKind E i0 0 (wJ_X1_link E i0 i1 i2 (fun r2 w1 => aSj E i3 0 r2.toInt64 (fun w4 => Q 0 w4) w1) (fun Y w3 => (Y = "java/lang/IndexOutOfBoundsException" ∧ (Q 1 w3)) ∨ (Y = "java/lang/IllegalArgumentException" ∧ aNc E "java/lang/IllegalArgumentException" "java/lang/IndexOutOfBoundsException" ∧ (Q 2 w3))) w) w
theorem kJ_X0_link_r (C : gC p l s m args meth c cX0_link 5 (some .int) RX0 E (tableOf [(0, 10, 13, 23), (0, 10, 17, 13)]) "link") (i0 : Nat) (i1 : Int32) (i2 : Int32) (i3 : Nat) {Q : Int32 → gW → Prop} (w : gW) (H : Heap) (locs : List Loc) (ls : Array Slot) (hS : gS E w0 w H locs) (hl : lv_has ls 5 [(0, .ref i0), (1, .int i1), (2, .int i2), (3, .ref i3)]) (hw : wJ_X0_link E i0 i1 i2 i3 Q w) : gGo p l e s m args below meth c H locs 11 185 E w0 w (gI Q) (gNoX) (F0 m 0 ls []) := by
  unfold wJ_X0_link at hw
  refine lv_aload_n C.x C.b dX0_link_0 rfl (lv_at hl 3 rfl) ?_
  refine lv_iconst (v := 0) C.x C.b dX0_link_1 (by decide) ?_
  refine lv_aload_n C.x C.b dX0_link_2 rfl (lv_at hl 0 rfl) ?_
  refine lv_iload_n C.x C.b dX0_link_3 rfl (lv_at hl 1 rfl) ?_
  refine lv_iload_n C.x C.b dX0_link_4 rfl (lv_at hl 2 rfl) ?_
  obtain ⟨fs, hq, hw⟩ := hw
  refine a_callV (rest := [.int 0, .ref i3]) C hS hl 0 hq rfl (kJ_X1_link C.tr hw) q1392 q1393 q1394 q77 q1395 ny_X1_link rfl (Nat.le_of_ble_eq_true rfl) (Nat.le_of_ble_eq_true rfl) rfl (Nat.le_of_ble_eq_true rfl) dX0_link_5 (fun X9 w3 H locs q9 ce9 hx9 _ hS hc9 hv9 hcl9 => ?_) (fun v w1 H locs hq _ hS => ?_)
  · rcases hx9 with ⟨rfl, hw⟩ | ⟨rfl, n0, hw⟩
    · refine a_catch C hS [] ⟨0, 10, 13, 23⟩ [⟨0, 10, 17, 13⟩] rfl (fun _ h9 => nomatch h9) (by decide) (by decide) q1292 q875 hc9 hv9 hcl9 ?_
      refine lv_astore (lv' := [(4, .ref q9), (0, .ref i0), (1, .int i1), (2, .int i2), (3, .ref i3)]) C.x C.b dX0_link_13 hl (by decide) rfl (fun ls hl => ?_)
      refine lv_iconst (v := 1) C.x C.b dX0_link_15 (by decide) ?_
      exact g_iret C hS ⟨_, rfl, hw⟩ dX0_link_16
    · refine a_catch C hS [⟨0, 10, 13, 23⟩] ⟨0, 10, 17, 13⟩ [] rfl (List.forall_mem_cons.mpr ⟨Or.inr ⟨by decide, _, q1292, n0⟩, (fun _ h9 => nomatch h9)⟩) (by decide) (by decide) q1268 q612 hc9 hv9 hcl9 ?_
      refine lv_astore (lv' := [(4, .ref q9), (0, .ref i0), (1, .int i1), (2, .int i2), (3, .ref i3)]) C.x C.b dX0_link_17 hl (by decide) rfl (fun ls hl => ?_)
      refine lv_iconst (v := 2) C.x C.b dX0_link_19 (by decide) ?_
      exact g_iret C hS ⟨_, rfl, hw⟩ dX0_link_20
  obtain ⟨r2, rfl, hw⟩ := hq
  refine W.eq (g2 := F0 m 8 ls [.int r2, .int 0, .ref i3]) rfl ?_
  refine lv_i2l C.x C.b dX0_link_8 rfl ?_
  refine a_Sj C hS dX0_link_9 hw (fun w4 H locs hw hS => ?_)
  refine lv_goto (tgt := 21) C.x C.b dX0_link_10 (by decide) ?_
  refine lv_iconst (v := 0) C.x C.b dX0_link_21 (by decide) ?_
  exact g_iret C hS ⟨_, rfl, hw⟩ dX0_link_22
theorem ny_X0_link : gNm yX0_link 4 = true := by decide +kernel
theorem kJ_X0_link {l : Launch} (ht : l.stackTraces = false) {w : gW} {i0 : Nat} {i1 : Int32} {i2 : Int32} {i3 : Nat} {Q : Int32 → gW → Prop} (hw : wJ_X0_link E i0 i1 i2 i3 Q w) : gMet l yX0_link (wsW_ yX0_link cX0_link 5 (some .int) [(0, 10, 13, 23), (0, 10, 17, 13)]) E w [.ref i0, .int i1, .int i2, .ref i3] 11 185 (gI Q) (gNoX) :=
  g_ofWH ht (by decide) (Nat.le_of_ble_eq_true rfl) (fun p e s m below meth c ls H C hl hS => kJ_X0_link_r C _ _ _ _ _ _ _ _ hS hl hw)
def wJ_X0_port (E : gE) (i0 : Nat) (i1 : Int32) (i2 : Int32) (i3 : Int32) (i4 : Nat) (Q : Int32 → gW → Prop) (w : gW) : Prop :=
  aKind E i0 0 (wJ_X1_port E i0 i1 i2 i3 (fun r2 w1 => aSj E i4 0 r2.toInt64 (fun w4 => Q 0 w4) w1) (fun Y w3 => (Y = "java/lang/IndexOutOfBoundsException" ∧ (Q 1 w3)) ∨ (Y = "java/lang/IllegalArgumentException" ∧ aNc E "java/lang/IllegalArgumentException" "java/lang/IndexOutOfBoundsException" ∧ (Q 2 w3))) w) w
theorem kJ_X0_port_r (C : gC p l s m args meth c cX0_port 6 (some .int) RX0 E (tableOf [(0, 12, 15, 23), (0, 12, 19, 13)]) "port") (i0 : Nat) (i1 : Int32) (i2 : Int32) (i3 : Int32) (i4 : Nat) {Q : Int32 → gW → Prop} (w : gW) (H : Heap) (locs : List Loc) (ls : Array Slot) (hS : gS E w0 w H locs) (hl : lv_has ls 6 [(0, .ref i0), (1, .int i1), (2, .int i2), (3, .int i3), (4, .ref i4)]) (hw : wJ_X0_port E i0 i1 i2 i3 i4 Q w) : gGo p l e s m args below meth c H locs 11 186 E w0 w (gI Q) (gNoX) (F0 m 0 ls []) := by
  unfold wJ_X0_port at hw
  refine lv_aload C.x C.b dX0_port_0 (lv_at hl 4 rfl) ?_
  refine lv_iconst (v := 0) C.x C.b dX0_port_2 (by decide) ?_
  refine lv_aload_n C.x C.b dX0_port_3 rfl (lv_at hl 0 rfl) ?_
  refine lv_iload_n C.x C.b dX0_port_4 rfl (lv_at hl 1 rfl) ?_
  refine lv_iload_n C.x C.b dX0_port_5 rfl (lv_at hl 2 rfl) ?_
  refine lv_iload_n C.x C.b dX0_port_6 rfl (lv_at hl 3 rfl) ?_
  obtain ⟨fs, hq, hw⟩ := hw
  refine a_callV (rest := [.int 0, .ref i4]) C hS hl 0 hq rfl (kJ_X1_port C.tr hw) q1400 q1401 q1402 q77 q1403 ny_X1_port rfl (Nat.le_of_ble_eq_true rfl) (Nat.le_of_ble_eq_true rfl) rfl (Nat.le_of_ble_eq_true rfl) dX0_port_7 (fun X9 w3 H locs q9 ce9 hx9 _ hS hc9 hv9 hcl9 => ?_) (fun v w1 H locs hq _ hS => ?_)
  · rcases hx9 with ⟨rfl, hw⟩ | ⟨rfl, n0, hw⟩
    · refine a_catch C hS [] ⟨0, 12, 15, 23⟩ [⟨0, 12, 19, 13⟩] rfl (fun _ h9 => nomatch h9) (by decide) (by decide) q1292 q875 hc9 hv9 hcl9 ?_
      refine lv_astore (lv' := [(5, .ref q9), (0, .ref i0), (1, .int i1), (2, .int i2), (3, .int i3), (4, .ref i4)]) C.x C.b dX0_port_15 hl (by decide) rfl (fun ls hl => ?_)
      refine lv_iconst (v := 1) C.x C.b dX0_port_17 (by decide) ?_
      exact g_iret C hS ⟨_, rfl, hw⟩ dX0_port_18
    · refine a_catch C hS [⟨0, 12, 15, 23⟩] ⟨0, 12, 19, 13⟩ [] rfl (List.forall_mem_cons.mpr ⟨Or.inr ⟨by decide, _, q1292, n0⟩, (fun _ h9 => nomatch h9)⟩) (by decide) (by decide) q1268 q612 hc9 hv9 hcl9 ?_
      refine lv_astore (lv' := [(5, .ref q9), (0, .ref i0), (1, .int i1), (2, .int i2), (3, .int i3), (4, .ref i4)]) C.x C.b dX0_port_19 hl (by decide) rfl (fun ls hl => ?_)
      refine lv_iconst (v := 2) C.x C.b dX0_port_21 (by decide) ?_
      exact g_iret C hS ⟨_, rfl, hw⟩ dX0_port_22
  obtain ⟨r2, rfl, hw⟩ := hq
  refine W.eq (g2 := F0 m 10 ls [.int r2, .int 0, .ref i4]) rfl ?_
  refine lv_i2l C.x C.b dX0_port_10 rfl ?_
  refine a_Sj C hS dX0_port_11 hw (fun w4 H locs hw hS => ?_)
  refine lv_goto (tgt := 23) C.x C.b dX0_port_12 (by decide) ?_
  refine lv_iconst (v := 0) C.x C.b dX0_port_23 (by decide) ?_
  exact g_iret C hS ⟨_, rfl, hw⟩ dX0_port_24
theorem ny_X0_port : gNm yX0_port 5 = true := by decide +kernel
theorem kJ_X0_port {l : Launch} (ht : l.stackTraces = false) {w : gW} {i0 : Nat} {i1 : Int32} {i2 : Int32} {i3 : Int32} {i4 : Nat} {Q : Int32 → gW → Prop} (hw : wJ_X0_port E i0 i1 i2 i3 i4 Q w) : gMet l yX0_port (wsW_ yX0_port cX0_port 6 (some .int) [(0, 12, 15, 23), (0, 12, 19, 13)]) E w [.ref i0, .int i1, .int i2, .int i3, .ref i4] 11 186 (gI Q) (gNoX) :=
  g_ofWH ht (by decide) (Nat.le_of_ble_eq_true rfl) (fun p e s m below meth c ls H C hl hS => kJ_X0_port_r C _ _ _ _ _ _ _ _ _ hS hl hw)
def wJ_X0_entry (E : gE) (i0 : Nat) (i1 : Int32) (i2 : Int32) (i3 : Nat) (Q : Int32 → gW → Prop) (w : gW) : Prop :=
  aKind E i0 0 (wJ_X1_entry E i0 i1 i2 (fun r2 w1 => aSj E i3 0 r2.toInt64 (fun w4 => Q 0 w4) w1) (fun Y w3 => (Y = "java/lang/IndexOutOfBoundsException" ∧ (Q 1 w3))) w) w
theorem kJ_X0_entry_r (C : gC p l s m args meth c cX0_entry 5 (some .int) RX0 E (tableOf [(0, 10, 13, 23)]) "entry") (i0 : Nat) (i1 : Int32) (i2 : Int32) (i3 : Nat) {Q : Int32 → gW → Prop} (w : gW) (H : Heap) (locs : List Loc) (ls : Array Slot) (hS : gS E w0 w H locs) (hl : lv_has ls 5 [(0, .ref i0), (1, .int i1), (2, .int i2), (3, .ref i3)]) (hw : wJ_X0_entry E i0 i1 i2 i3 Q w) : gGo p l e s m args below meth c H locs 11 184 E w0 w (gI Q) (gNoX) (F0 m 0 ls []) := by
  unfold wJ_X0_entry at hw
  refine lv_aload_n C.x C.b dX0_entry_0 rfl (lv_at hl 3 rfl) ?_
  refine lv_iconst (v := 0) C.x C.b dX0_entry_1 (by decide) ?_
  refine lv_aload_n C.x C.b dX0_entry_2 rfl (lv_at hl 0 rfl) ?_
  refine lv_iload_n C.x C.b dX0_entry_3 rfl (lv_at hl 1 rfl) ?_
  refine lv_iload_n C.x C.b dX0_entry_4 rfl (lv_at hl 2 rfl) ?_
  obtain ⟨fs, hq, hw⟩ := hw
  refine a_callV (rest := [.int 0, .ref i3]) C hS hl 0 hq rfl (kJ_X1_entry C.tr hw) q1407 q1408 q1409 q77 q1410 ny_X1_entry rfl (Nat.le_of_ble_eq_true rfl) (Nat.le_of_ble_eq_true rfl) rfl (Nat.le_of_ble_eq_true rfl) dX0_entry_5 (fun X9 w3 H locs q9 ce9 hx9 _ hS hc9 hv9 hcl9 => ?_) (fun v w1 H locs hq _ hS => ?_)
  · rcases hx9 with ⟨rfl, hw⟩
    · refine a_catch C hS [] ⟨0, 10, 13, 23⟩ [] rfl (fun _ h9 => nomatch h9) (by decide) (by decide) q1292 q875 hc9 hv9 hcl9 ?_
      refine lv_astore (lv' := [(4, .ref q9), (0, .ref i0), (1, .int i1), (2, .int i2), (3, .ref i3)]) C.x C.b dX0_entry_13 hl (by decide) rfl (fun ls hl => ?_)
      refine lv_iconst (v := 1) C.x C.b dX0_entry_15 (by decide) ?_
      exact g_iret C hS ⟨_, rfl, hw⟩ dX0_entry_16
  obtain ⟨r2, rfl, hw⟩ := hq
  refine W.eq (g2 := F0 m 8 ls [.int r2, .int 0, .ref i3]) rfl ?_
  refine lv_i2l C.x C.b dX0_entry_8 rfl ?_
  refine a_Sj C hS dX0_entry_9 hw (fun w4 H locs hw hS => ?_)
  refine lv_goto (tgt := 17) C.x C.b dX0_entry_10 (by decide) ?_
  refine lv_iconst (v := 0) C.x C.b dX0_entry_17 (by decide) ?_
  exact g_iret C hS ⟨_, rfl, hw⟩ dX0_entry_18
theorem ny_X0_entry : gNm yX0_entry 4 = true := by decide +kernel
theorem kJ_X0_entry {l : Launch} (ht : l.stackTraces = false) {w : gW} {i0 : Nat} {i1 : Int32} {i2 : Int32} {i3 : Nat} {Q : Int32 → gW → Prop} (hw : wJ_X0_entry E i0 i1 i2 i3 Q w) : gMet l yX0_entry (wsW_ yX0_entry cX0_entry 5 (some .int) [(0, 10, 13, 23)]) E w [.ref i0, .int i1, .int i2, .ref i3] 11 184 (gI Q) (gNoX) :=
  g_ofWH ht (by decide) (Nat.le_of_ble_eq_true rfl) (fun p e s m below meth c ls H C hl hS => kJ_X0_entry_r C _ _ _ _ _ _ _ _ hS hl hw)
def wJ_X0_tenant (E : gE) (i0 : Nat) (i1 : Int32) (i2 : Int32) (i3 : Nat) (Q : Int32 → gW → Prop) (w : gW) : Prop :=
  aKind E i0 0 (wJ_X1_tenant E i0 i1 i2 (fun r2 w1 => aSj E i3 0 r2.toInt64 (fun w4 => Q 0 w4) w1) (fun Y w3 => (Y = "java/lang/IndexOutOfBoundsException" ∧ (Q 1 w3)) ∨ (Y = "java/lang/IllegalArgumentException" ∧ aNc E "java/lang/IllegalArgumentException" "java/lang/IndexOutOfBoundsException" ∧ (Q 2 w3))) w) w
theorem kJ_X0_tenant_r (C : gC p l s m args meth c cX0_tenant 5 (some .int) RX0 E (tableOf [(0, 10, 13, 23), (0, 10, 17, 13)]) "tenant") (i0 : Nat) (i1 : Int32) (i2 : Int32) (i3 : Nat) {Q : Int32 → gW → Prop} (w : gW) (H : Heap) (locs : List Loc) (ls : Array Slot) (hS : gS E w0 w H locs) (hl : lv_has ls 5 [(0, .ref i0), (1, .int i1), (2, .int i2), (3, .ref i3)]) (hw : wJ_X0_tenant E i0 i1 i2 i3 Q w) : gGo p l e s m args below meth c H locs 11 183 E w0 w (gI Q) (gNoX) (F0 m 0 ls []) := by
  unfold wJ_X0_tenant at hw
  refine lv_aload_n C.x C.b dX0_tenant_0 rfl (lv_at hl 3 rfl) ?_
  refine lv_iconst (v := 0) C.x C.b dX0_tenant_1 (by decide) ?_
  refine lv_aload_n C.x C.b dX0_tenant_2 rfl (lv_at hl 0 rfl) ?_
  refine lv_iload_n C.x C.b dX0_tenant_3 rfl (lv_at hl 1 rfl) ?_
  refine lv_iload_n C.x C.b dX0_tenant_4 rfl (lv_at hl 2 rfl) ?_
  obtain ⟨fs, hq, hw⟩ := hw
  refine a_callV (rest := [.int 0, .ref i3]) C hS hl 0 hq rfl (kJ_X1_tenant C.tr hw) q1417 q1418 q1419 q77 q1420 ny_X1_tenant rfl (Nat.le_of_ble_eq_true rfl) (Nat.le_of_ble_eq_true rfl) rfl (Nat.le_of_ble_eq_true rfl) dX0_tenant_5 (fun X9 w3 H locs q9 ce9 hx9 _ hS hc9 hv9 hcl9 => ?_) (fun v w1 H locs hq _ hS => ?_)
  · rcases hx9 with ⟨rfl, hw⟩ | ⟨rfl, n0, hw⟩
    · refine a_catch C hS [] ⟨0, 10, 13, 23⟩ [⟨0, 10, 17, 13⟩] rfl (fun _ h9 => nomatch h9) (by decide) (by decide) q1292 q875 hc9 hv9 hcl9 ?_
      refine lv_astore (lv' := [(4, .ref q9), (0, .ref i0), (1, .int i1), (2, .int i2), (3, .ref i3)]) C.x C.b dX0_tenant_13 hl (by decide) rfl (fun ls hl => ?_)
      refine lv_iconst (v := 1) C.x C.b dX0_tenant_15 (by decide) ?_
      exact g_iret C hS ⟨_, rfl, hw⟩ dX0_tenant_16
    · refine a_catch C hS [⟨0, 10, 13, 23⟩] ⟨0, 10, 17, 13⟩ [] rfl (List.forall_mem_cons.mpr ⟨Or.inr ⟨by decide, _, q1292, n0⟩, (fun _ h9 => nomatch h9)⟩) (by decide) (by decide) q1268 q612 hc9 hv9 hcl9 ?_
      refine lv_astore (lv' := [(4, .ref q9), (0, .ref i0), (1, .int i1), (2, .int i2), (3, .ref i3)]) C.x C.b dX0_tenant_17 hl (by decide) rfl (fun ls hl => ?_)
      refine lv_iconst (v := 2) C.x C.b dX0_tenant_19 (by decide) ?_
      exact g_iret C hS ⟨_, rfl, hw⟩ dX0_tenant_20
  obtain ⟨r2, rfl, hw⟩ := hq
  refine W.eq (g2 := F0 m 8 ls [.int r2, .int 0, .ref i3]) rfl ?_
  refine lv_i2l C.x C.b dX0_tenant_8 rfl ?_
  refine a_Sj C hS dX0_tenant_9 hw (fun w4 H locs hw hS => ?_)
  refine lv_goto (tgt := 21) C.x C.b dX0_tenant_10 (by decide) ?_
  refine lv_iconst (v := 0) C.x C.b dX0_tenant_21 (by decide) ?_
  exact g_iret C hS ⟨_, rfl, hw⟩ dX0_tenant_22
theorem ny_X0_tenant : gNm yX0_tenant 4 = true := by decide +kernel
theorem kJ_X0_tenant {l : Launch} (ht : l.stackTraces = false) {w : gW} {i0 : Nat} {i1 : Int32} {i2 : Int32} {i3 : Nat} {Q : Int32 → gW → Prop} (hw : wJ_X0_tenant E i0 i1 i2 i3 Q w) : gMet l yX0_tenant (wsW_ yX0_tenant cX0_tenant 5 (some .int) [(0, 10, 13, 23), (0, 10, 17, 13)]) E w [.ref i0, .int i1, .int i2, .ref i3] 11 183 (gI Q) (gNoX) :=
  g_ofWH ht (by decide) (Nat.le_of_ble_eq_true rfl) (fun p e s m below meth c ls H C hl hS => kJ_X0_tenant_r C _ _ _ _ _ _ _ _ hS hl hw)
def wJ_X0_bidOf (E : gE) (i0 : Nat) (i1 : Int32) (i2 : Int32) (i3 : Nat) (Q : Int32 → gW → Prop) (w : gW) : Prop :=
  aKind E i0 0 (wJ_X1_bidOf E i0 i1 i2 (fun r2 w1 => aSj E i3 0 r2.toInt64 (fun w4 => Q 0 w4) w1) (fun Y w3 => (Y = "java/lang/IndexOutOfBoundsException" ∧ (Q 1 w3))) w) w
theorem kJ_X0_bidOf_r (C : gC p l s m args meth c cX0_bidOf 5 (some .int) RX0 E (tableOf [(0, 10, 13, 23)]) "bidOf") (i0 : Nat) (i1 : Int32) (i2 : Int32) (i3 : Nat) {Q : Int32 → gW → Prop} (w : gW) (H : Heap) (locs : List Loc) (ls : Array Slot) (hS : gS E w0 w H locs) (hl : lv_has ls 5 [(0, .ref i0), (1, .int i1), (2, .int i2), (3, .ref i3)]) (hw : wJ_X0_bidOf E i0 i1 i2 i3 Q w) : gGo p l e s m args below meth c H locs 11 184 E w0 w (gI Q) (gNoX) (F0 m 0 ls []) := by
  unfold wJ_X0_bidOf at hw
  refine lv_aload_n C.x C.b dX0_bidOf_0 rfl (lv_at hl 3 rfl) ?_
  refine lv_iconst (v := 0) C.x C.b dX0_bidOf_1 (by decide) ?_
  refine lv_aload_n C.x C.b dX0_bidOf_2 rfl (lv_at hl 0 rfl) ?_
  refine lv_iload_n C.x C.b dX0_bidOf_3 rfl (lv_at hl 1 rfl) ?_
  refine lv_iload_n C.x C.b dX0_bidOf_4 rfl (lv_at hl 2 rfl) ?_
  obtain ⟨fs, hq, hw⟩ := hw
  refine a_callV (rest := [.int 0, .ref i3]) C hS hl 0 hq rfl (kJ_X1_bidOf C.tr hw) q1424 q1425 q1426 q77 q1427 ny_X1_bidOf rfl (Nat.le_of_ble_eq_true rfl) (Nat.le_of_ble_eq_true rfl) rfl (Nat.le_of_ble_eq_true rfl) dX0_bidOf_5 (fun X9 w3 H locs q9 ce9 hx9 _ hS hc9 hv9 hcl9 => ?_) (fun v w1 H locs hq _ hS => ?_)
  · rcases hx9 with ⟨rfl, hw⟩
    · refine a_catch C hS [] ⟨0, 10, 13, 23⟩ [] rfl (fun _ h9 => nomatch h9) (by decide) (by decide) q1292 q875 hc9 hv9 hcl9 ?_
      refine lv_astore (lv' := [(4, .ref q9), (0, .ref i0), (1, .int i1), (2, .int i2), (3, .ref i3)]) C.x C.b dX0_bidOf_13 hl (by decide) rfl (fun ls hl => ?_)
      refine lv_iconst (v := 1) C.x C.b dX0_bidOf_15 (by decide) ?_
      exact g_iret C hS ⟨_, rfl, hw⟩ dX0_bidOf_16
  obtain ⟨r2, rfl, hw⟩ := hq
  refine W.eq (g2 := F0 m 8 ls [.int r2, .int 0, .ref i3]) rfl ?_
  refine lv_i2l C.x C.b dX0_bidOf_8 rfl ?_
  refine a_Sj C hS dX0_bidOf_9 hw (fun w4 H locs hw hS => ?_)
  refine lv_goto (tgt := 17) C.x C.b dX0_bidOf_10 (by decide) ?_
  refine lv_iconst (v := 0) C.x C.b dX0_bidOf_17 (by decide) ?_
  exact g_iret C hS ⟨_, rfl, hw⟩ dX0_bidOf_18
theorem ny_X0_bidOf : gNm yX0_bidOf 4 = true := by decide +kernel
theorem kJ_X0_bidOf {l : Launch} (ht : l.stackTraces = false) {w : gW} {i0 : Nat} {i1 : Int32} {i2 : Int32} {i3 : Nat} {Q : Int32 → gW → Prop} (hw : wJ_X0_bidOf E i0 i1 i2 i3 Q w) : gMet l yX0_bidOf (wsW_ yX0_bidOf cX0_bidOf 5 (some .int) [(0, 10, 13, 23)]) E w [.ref i0, .int i1, .int i2, .ref i3] 11 184 (gI Q) (gNoX) :=
  g_ofWH ht (by decide) (Nat.le_of_ble_eq_true rfl) (fun p e s m below meth c ls H C hl hS => kJ_X0_bidOf_r C _ _ _ _ _ _ _ _ hS hl hw)
def wJ_X0_count (E : gE) (i0 : Nat) (i1 : Int32) (i2 : Nat) (Q : Int32 → gW → Prop) (w : gW) : Prop :=
  aKind E i0 0 (wJ_X1_count E i0 i1 (fun r2 w1 => aSj E i2 0 r2.toInt64 (fun w4 => Q 0 w4) w1) (fun Y w3 => (Y = "java/lang/IllegalArgumentException" ∧ (Q 1 w3))) w) w
theorem kJ_X0_count_r (C : gC p l s m args meth c cX0_count 4 (some .int) RX0 E (tableOf [(0, 9, 12, 13)]) "count") (i0 : Nat) (i1 : Int32) (i2 : Nat) {Q : Int32 → gW → Prop} (w : gW) (H : Heap) (locs : List Loc) (ls : Array Slot) (hS : gS E w0 w H locs) (hl : lv_has ls 4 [(0, .ref i0), (1, .int i1), (2, .ref i2)]) (hw : wJ_X0_count E i0 i1 i2 Q w) : gGo p l e s m args below meth c H locs 10 179 E w0 w (gI Q) (gNoX) (F0 m 0 ls []) := by
  unfold wJ_X0_count at hw
  refine lv_aload_n C.x C.b dX0_count_0 rfl (lv_at hl 2 rfl) ?_
  refine lv_iconst (v := 0) C.x C.b dX0_count_1 (by decide) ?_
  refine lv_aload_n C.x C.b dX0_count_2 rfl (lv_at hl 0 rfl) ?_
  refine lv_iload_n C.x C.b dX0_count_3 rfl (lv_at hl 1 rfl) ?_
  obtain ⟨fs, hq, hw⟩ := hw
  refine a_callV (rest := [.int 0, .ref i2]) C hS hl 0 hq rfl (kJ_X1_count C.tr hw) q1433 q1434 q1435 q77 q1436 ny_X1_count rfl (Nat.le_of_ble_eq_true rfl) (Nat.le_of_ble_eq_true rfl) rfl (Nat.le_of_ble_eq_true rfl) dX0_count_4 (fun X9 w3 H locs q9 ce9 hx9 _ hS hc9 hv9 hcl9 => ?_) (fun v w1 H locs hq _ hS => ?_)
  · rcases hx9 with ⟨rfl, hw⟩
    · refine a_catch C hS [] ⟨0, 9, 12, 13⟩ [] rfl (fun _ h9 => nomatch h9) (by decide) (by decide) q1268 q612 hc9 hv9 hcl9 ?_
      refine lv_astore_n (lv' := [(3, .ref q9), (0, .ref i0), (1, .int i1), (2, .ref i2)]) C.x C.b dX0_count_12 rfl hl (by decide) rfl (fun ls hl => ?_)
      refine lv_iconst (v := 1) C.x C.b dX0_count_13 (by decide) ?_
      exact g_iret C hS ⟨_, rfl, hw⟩ dX0_count_14
  obtain ⟨r2, rfl, hw⟩ := hq
  refine W.eq (g2 := F0 m 7 ls [.int r2, .int 0, .ref i2]) rfl ?_
  refine lv_i2l C.x C.b dX0_count_7 rfl ?_
  refine a_Sj C hS dX0_count_8 hw (fun w4 H locs hw hS => ?_)
  refine lv_goto (tgt := 15) C.x C.b dX0_count_9 (by decide) ?_
  refine lv_iconst (v := 0) C.x C.b dX0_count_15 (by decide) ?_
  exact g_iret C hS ⟨_, rfl, hw⟩ dX0_count_16
theorem ny_X0_count : gNm yX0_count 3 = true := by decide +kernel
theorem kJ_X0_count {l : Launch} (ht : l.stackTraces = false) {w : gW} {i0 : Nat} {i1 : Int32} {i2 : Nat} {Q : Int32 → gW → Prop} (hw : wJ_X0_count E i0 i1 i2 Q w) : gMet l yX0_count (wsW_ yX0_count cX0_count 4 (some .int) [(0, 9, 12, 13)]) E w [.ref i0, .int i1, .ref i2] 10 179 (gI Q) (gNoX) :=
  g_ofWH ht (by decide) (Nat.le_of_ble_eq_true rfl) (fun p e s m below meth c ls H C hl hS => kJ_X0_count_r C _ _ _ _ _ _ _ hS hl hw)
def wJ_X0_type (E : gE) (i0 : Nat) (i1 : Int32) (i2 : Nat) (Q : Int32 → gW → Prop) (w : gW) : Prop :=
  aKind E i0 0 (wJ_X1_type E i0 i1 (fun r2 w1 => aSj E i2 0 r2.toInt64 (fun w4 => Q 0 w4) w1) (fun Y w3 => (Y = "java/lang/IllegalArgumentException" ∧ (Q 1 w3)) ∨ (Y = "java/lang/IllegalStateException" ∧ aNc E "java/lang/IllegalStateException" "java/lang/IllegalArgumentException" ∧ (Q 2 w3))) w) w
theorem kJ_X0_type_r (C : gC p l s m args meth c cX0_type 4 (some .int) RX0 E (tableOf [(0, 9, 12, 13), (0, 9, 15, 28)]) "type") (i0 : Nat) (i1 : Int32) (i2 : Nat) {Q : Int32 → gW → Prop} (w : gW) (H : Heap) (locs : List Loc) (ls : Array Slot) (hS : gS E w0 w H locs) (hl : lv_has ls 4 [(0, .ref i0), (1, .int i1), (2, .ref i2)]) (hw : wJ_X0_type E i0 i1 i2 Q w) : gGo p l e s m args below meth c H locs 10 162 E w0 w (gI Q) (gNoX) (F0 m 0 ls []) := by
  unfold wJ_X0_type at hw
  refine lv_aload_n C.x C.b dX0_type_0 rfl (lv_at hl 2 rfl) ?_
  refine lv_iconst (v := 0) C.x C.b dX0_type_1 (by decide) ?_
  refine lv_aload_n C.x C.b dX0_type_2 rfl (lv_at hl 0 rfl) ?_
  refine lv_iload_n C.x C.b dX0_type_3 rfl (lv_at hl 1 rfl) ?_
  obtain ⟨fs, hq, hw⟩ := hw
  refine a_callV (rest := [.int 0, .ref i2]) C hS hl 0 hq rfl (kJ_X1_type C.tr hw) q1441 q1442 q1443 q77 q1444 ny_X1_type rfl (Nat.le_of_ble_eq_true rfl) (Nat.le_of_ble_eq_true rfl) rfl (Nat.le_of_ble_eq_true rfl) dX0_type_4 (fun X9 w3 H locs q9 ce9 hx9 _ hS hc9 hv9 hcl9 => ?_) (fun v w1 H locs hq _ hS => ?_)
  · rcases hx9 with ⟨rfl, hw⟩ | ⟨rfl, n0, hw⟩
    · refine a_catch C hS [] ⟨0, 9, 12, 13⟩ [⟨0, 9, 15, 28⟩] rfl (fun _ h9 => nomatch h9) (by decide) (by decide) q1268 q612 hc9 hv9 hcl9 ?_
      refine lv_astore_n (lv' := [(3, .ref q9), (0, .ref i0), (1, .int i1), (2, .ref i2)]) C.x C.b dX0_type_12 rfl hl (by decide) rfl (fun ls hl => ?_)
      refine lv_iconst (v := 1) C.x C.b dX0_type_13 (by decide) ?_
      exact g_iret C hS ⟨_, rfl, hw⟩ dX0_type_14
    · refine a_catch C hS [⟨0, 9, 12, 13⟩] ⟨0, 9, 15, 28⟩ [] rfl (List.forall_mem_cons.mpr ⟨Or.inr ⟨by decide, _, q1268, n0⟩, (fun _ h9 => nomatch h9)⟩) (by decide) (by decide) q1300 q901 hc9 hv9 hcl9 ?_
      refine lv_astore_n (lv' := [(3, .ref q9), (0, .ref i0), (1, .int i1), (2, .ref i2)]) C.x C.b dX0_type_15 rfl hl (by decide) rfl (fun ls hl => ?_)
      refine lv_iconst (v := 2) C.x C.b dX0_type_16 (by decide) ?_
      exact g_iret C hS ⟨_, rfl, hw⟩ dX0_type_17
  obtain ⟨r2, rfl, hw⟩ := hq
  refine W.eq (g2 := F0 m 7 ls [.int r2, .int 0, .ref i2]) rfl ?_
  refine lv_i2l C.x C.b dX0_type_7 rfl ?_
  refine a_Sj C hS dX0_type_8 hw (fun w4 H locs hw hS => ?_)
  refine lv_goto (tgt := 18) C.x C.b dX0_type_9 (by decide) ?_
  refine lv_iconst (v := 0) C.x C.b dX0_type_18 (by decide) ?_
  exact g_iret C hS ⟨_, rfl, hw⟩ dX0_type_19
theorem ny_X0_type : gNm yX0_type 3 = true := by decide +kernel
theorem kJ_X0_type {l : Launch} (ht : l.stackTraces = false) {w : gW} {i0 : Nat} {i1 : Int32} {i2 : Nat} {Q : Int32 → gW → Prop} (hw : wJ_X0_type E i0 i1 i2 Q w) : gMet l yX0_type (wsW_ yX0_type cX0_type 4 (some .int) [(0, 9, 12, 13), (0, 9, 15, 28)]) E w [.ref i0, .int i1, .ref i2] 10 162 (gI Q) (gNoX) :=
  g_ofWH ht (by decide) (Nat.le_of_ble_eq_true rfl) (fun p e s m below meth c ls H C hl hS => kJ_X0_type_r C _ _ _ _ _ _ _ hS hl hw)
def wJ_X0_undo (E : gE) (i0 : Nat) (i1 : Nat) (Q : Int32 → gW → Prop) (w : gW) : Prop :=
  aKind E i0 0 (wJ_X1_undo E i0 (fun r2 w1 => aSj E i1 0 r2.toInt64 (fun w4 => Q 0 w4) w1) (fun Y w3 => (Y = "java/lang/IllegalStateException" ∧ (Q 1 w3))) w) w
theorem kJ_X0_undo_r (C : gC p l s m args meth c cX0_undo 3 (some .int) RX0 E (tableOf [(0, 8, 11, 28)]) "undo") (i0 : Nat) (i1 : Nat) {Q : Int32 → gW → Prop} (w : gW) (H : Heap) (locs : List Loc) (ls : Array Slot) (hS : gS E w0 w H locs) (hl : lv_has ls 3 [(0, .ref i0), (1, .ref i1)]) (hw : wJ_X0_undo E i0 i1 Q w) : gGo p l e s m args below meth c H locs 10 161 E w0 w (gI Q) (gNoX) (F0 m 0 ls []) := by
  unfold wJ_X0_undo at hw
  refine lv_aload_n C.x C.b dX0_undo_0 rfl (lv_at hl 1 rfl) ?_
  refine lv_iconst (v := 0) C.x C.b dX0_undo_1 (by decide) ?_
  refine lv_aload_n C.x C.b dX0_undo_2 rfl (lv_at hl 0 rfl) ?_
  obtain ⟨fs, hq, hw⟩ := hw
  refine a_callV (rest := [.int 0, .ref i1]) C hS hl 0 hq rfl (kJ_X1_undo C.tr hw) q1451 q1452 q1453 q77 q1454 ny_X1_undo rfl (Nat.le_of_ble_eq_true rfl) (Nat.le_of_ble_eq_true rfl) rfl (Nat.le_of_ble_eq_true rfl) dX0_undo_3 (fun X9 w3 H locs q9 ce9 hx9 _ hS hc9 hv9 hcl9 => ?_) (fun v w1 H locs hq _ hS => ?_)
  · rcases hx9 with ⟨rfl, hw⟩
    · refine a_catch C hS [] ⟨0, 8, 11, 28⟩ [] rfl (fun _ h9 => nomatch h9) (by decide) (by decide) q1300 q901 hc9 hv9 hcl9 ?_
      refine lv_astore_n (lv' := [(2, .ref q9), (0, .ref i0), (1, .ref i1)]) C.x C.b dX0_undo_11 rfl hl (by decide) rfl (fun ls hl => ?_)
      refine lv_iconst (v := 1) C.x C.b dX0_undo_12 (by decide) ?_
      exact g_iret C hS ⟨_, rfl, hw⟩ dX0_undo_13
  obtain ⟨r2, rfl, hw⟩ := hq
  refine W.eq (g2 := F0 m 6 ls [.int r2, .int 0, .ref i1]) rfl ?_
  refine lv_i2l C.x C.b dX0_undo_6 rfl ?_
  refine a_Sj C hS dX0_undo_7 hw (fun w4 H locs hw hS => ?_)
  refine lv_goto (tgt := 14) C.x C.b dX0_undo_8 (by decide) ?_
  refine lv_iconst (v := 0) C.x C.b dX0_undo_14 (by decide) ?_
  exact g_iret C hS ⟨_, rfl, hw⟩ dX0_undo_15
theorem ny_X0_undo : gNm yX0_undo 2 = true := by decide +kernel
theorem kJ_X0_undo {l : Launch} (ht : l.stackTraces = false) {w : gW} {i0 : Nat} {i1 : Nat} {Q : Int32 → gW → Prop} (hw : wJ_X0_undo E i0 i1 Q w) : gMet l yX0_undo (wsW_ yX0_undo cX0_undo 3 (some .int) [(0, 8, 11, 28)]) E w [.ref i0, .ref i1] 10 161 (gI Q) (gNoX) :=
  g_ofWH ht (by decide) (Nat.le_of_ble_eq_true rfl) (fun p e s m below meth c ls H C hl hS => kJ_X0_undo_r C _ _ _ _ _ _ hS hl hw)
end GL1
