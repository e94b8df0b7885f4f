section GN1
variable {p : Program} {l : Launch} {e : Env} {s : State} {m : MethodId} {args : Array Value} {below : List Frame} {meth : Method} {c : Code} {E : gE} {w0 : gW}
def wJ_X1_inRange (E : gE) (i0 : Int64) (i2 : Int64) (i4 : Int64) (Q : Int32 → gW → Prop) (w : gW) : Prop :=
  ((lg_cmp i0 i2) < 0 → (Q 0 w)) ∧ (¬ (lg_cmp i0 i2) < 0 → ((0 < (lg_cmp i0 i4) → (Q 0 w)) ∧ (¬ 0 < (lg_cmp i0 i4) → (Q 1 w))))
theorem kJ_X1_inRange_r (C : gC p l s m args meth c cX1_inRange 6 (some .boolean) RX1 E [] "inRange") (i0 : Int64) (i2 : Int64) (i4 : Int64) {Q : Int32 → gW → Prop} (w : gW) (H : Heap) (locs : List Loc) (ls : Array Slot) (hS : gS E w0 w H locs) (hl : lv_has ls 6 [(0, .long i0), (2, .long i2), (4, .long i4)]) (hw : wJ_X1_inRange E i0 i2 i4 Q w) : gGo p l e s m args below meth c H locs 0 0 E w0 w (gI Q) (gNoX) (F0 m 0 ls []) := by
  unfold wJ_X1_inRange at hw
  refine lv_lload_n C.x C.b dX1_inRange_0 rfl (lv_at hl 0 rfl) ?_
  refine lv_lload_n C.x C.b dX1_inRange_1 rfl (lv_at hl 1 rfl) ?_
  refine W.lcmp C.x C.b dX1_inRange_2 ?_
  refine lv_if_lt (tgt := 17) C.x C.b dX1_inRange_3 (by decide) (fun c1 => ?_) (fun c1 => ?_)
  · have hw := hw.1 c1
    refine lv_iconst (v := 0) C.x C.b dX1_inRange_17 (by decide) ?_
    exact g_zret C hS rfl ⟨_, rfl, hw⟩ dX1_inRange_18
  · have hw := hw.2 c1
    refine lv_lload_n C.x C.b dX1_inRange_6 rfl (lv_at hl 0 rfl) ?_
    refine lv_lload C.x C.b dX1_inRange_7 (lv_at hl 2 rfl) ?_
    refine W.lcmp C.x C.b dX1_inRange_9 ?_
    refine lv_if_gt (tgt := 17) C.x C.b dX1_inRange_10 (by decide) (fun c2 => ?_) (fun c2 => ?_)
    · have hw := hw.1 c2
      refine lv_iconst (v := 0) C.x C.b dX1_inRange_17 (by decide) ?_
      exact g_zret C hS rfl ⟨_, rfl, hw⟩ dX1_inRange_18
    · have hw := hw.2 c2
      refine lv_iconst (v := 1) C.x C.b dX1_inRange_13 (by decide) ?_
      refine lv_goto (tgt := 18) C.x C.b dX1_inRange_14 (by decide) ?_
      exact g_zret C hS rfl ⟨_, rfl, hw⟩ dX1_inRange_18
theorem ny_X1_inRange : gNm yX1_inRange 3 = true := by decide +kernel
theorem kJ_X1_inRange {l : Launch} (ht : l.stackTraces = false) {w : gW} {i0 : Int64} {i2 : Int64} {i4 : Int64} {Q : Int32 → gW → Prop} (hw : wJ_X1_inRange E i0 i2 i4 Q w) : gMet l yX1_inRange (ws_ yX1_inRange cX1_inRange 6 (some .boolean)) E w [.long i0, .long i2, .long i4] 0 0 (gI Q) (gNoX) :=
  g_ofW ht (by decide) (Nat.le_of_ble_eq_true rfl) (fun p e s m below meth c ls H C hl hS => kJ_X1_inRange_r C _ _ _ _ _ _ _ hS hl hw)
def wJ_X1_requireIndex (E : gE) (i0 : Int32) (i1 : Nat) (Q : gW → Prop) (X : String → gW → Prop) (w : gW) : Prop :=
  (i0 = 0 → (aThr E "java/lang/IndexOutOfBoundsException" X w)) ∧ (¬ i0 = 0 → (Q w))
theorem kJ_X1_requireIndex_r (C : gC p l s m args meth c cX1_requireIndex 2 none RX1 E [] "requireIndex") (i0 : Int32) (i1 : Nat) {Q : gW → Prop} {X : String → gW → Prop} (w : gW) (H : Heap) (locs : List Loc) (ls : Array Slot) (hS : gS E w0 w H locs) (hl : lv_has ls 2 [(0, .int i0), (1, .ref i1)]) (hw : wJ_X1_requireIndex E i0 i1 Q X w) : gGo p l e s m args below meth c H locs 8 120 E w0 w (gV Q) (X) (F0 m 0 ls []) := by
  unfold wJ_X1_requireIndex at hw
  refine lv_iload_n C.x C.b dX1_requireIndex_0 rfl (lv_at hl 0 rfl) ?_
  refine lv_if_ne (tgt := 13) C.x C.b dX1_requireIndex_1 (by decide) (fun c1 => ?_) (fun c1 => ?_)
  · have hw := hw.2 c1
    exact g_vret C hS ⟨rfl, hw⟩ dX1_requireIndex_13
  · have hw := hw.1 c1
    exact a_throwA (ik := 1) (ic := 3) (names := ["java/lang/RuntimeException", "java/lang/Exception"]) C hS hl (by decide +kernel) (by decide +kernel) q873 q97 at_requireIndex dX1_requireIndex_4 dX1_requireIndex_7 dX1_requireIndex_8 dX1_requireIndex_9 dX1_requireIndex_12 (lv_at hl 1 rfl) (by decide) (Nat.le_of_ble_eq_true rfl) hw
theorem ny_X1_requireIndex : gNm yX1_requireIndex 2 = true := by decide +kernel
theorem kJ_X1_requireIndex {l : Launch} (ht : l.stackTraces = false) {w : gW} {i0 : Int32} {i1 : Nat} {Q : gW → Prop} {X : String → gW → Prop} (hw : wJ_X1_requireIndex E i0 i1 Q X w) : gMet l yX1_requireIndex (ws_ yX1_requireIndex cX1_requireIndex 2 none) E w [.int i0, .ref i1] 8 120 (gV Q) (X) :=
  g_ofW ht (by decide) (Nat.le_of_ble_eq_true rfl) (fun p e s m below meth c ls H C hl hS => kJ_X1_requireIndex_r C _ _ _ _ _ _ hS hl hw)
def wJ_X1_requireArgument (E : gE) (i0 : Int32) (i1 : Nat) (Q : gW → Prop) (X : String → gW → Prop) (w : gW) : Prop :=
  (i0 = 0 → (aThr E "java/lang/IllegalArgumentException" X w)) ∧ (¬ i0 = 0 → (Q w))
theorem kJ_X1_requireArgument_r (C : gC p l s m args meth c cX1_requireArgument 2 none RX1 E [] "requireArgument") (i0 : Int32) (i1 : Nat) {Q : gW → Prop} {X : String → gW → Prop} (w : gW) (H : Heap) (locs : List Loc) (ls : Array Slot) (hS : gS E w0 w H locs) (hl : lv_has ls 2 [(0, .int i0), (1, .ref i1)]) (hw : wJ_X1_requireArgument E i0 i1 Q X w) : gGo p l e s m args below meth c H locs 8 120 E w0 w (gV Q) (X) (F0 m 0 ls []) := by
  unfold wJ_X1_requireArgument at hw
  refine lv_iload_n C.x C.b dX1_requireArgument_0 rfl (lv_at hl 0 rfl) ?_
  refine lv_if_ne (tgt := 13) C.x C.b dX1_requireArgument_1 (by decide) (fun c1 => ?_) (fun c1 => ?_)
  · have hw := hw.2 c1
    exact g_vret C hS ⟨rfl, hw⟩ dX1_requireArgument_13
  · have hw := hw.1 c1
    exact a_throwA (ik := 7) (ic := 9) (names := ["java/lang/RuntimeException", "java/lang/Exception"]) C hS hl (by decide +kernel) (by decide +kernel) q893 q92 at_requireArgument dX1_requireArgument_4 dX1_requireArgument_7 dX1_requireArgument_8 dX1_requireArgument_9 dX1_requireArgument_12 (lv_at hl 1 rfl) (by decide) (Nat.le_of_ble_eq_true rfl) hw
theorem ny_X1_requireArgument : gNm yX1_requireArgument 2 = true := by decide +kernel
theorem kJ_X1_requireArgument {l : Launch} (ht : l.stackTraces = false) {w : gW} {i0 : Int32} {i1 : Nat} {Q : gW → Prop} {X : String → gW → Prop} (hw : wJ_X1_requireArgument E i0 i1 Q X w) : gMet l yX1_requireArgument (ws_ yX1_requireArgument cX1_requireArgument 2 none) E w [.int i0, .ref i1] 8 120 (gV Q) (X) :=
  g_ofW ht (by decide) (Nat.le_of_ble_eq_true rfl) (fun p e s m below meth c ls H C hl hS => kJ_X1_requireArgument_r C _ _ _ _ _ _ hS hl hw)
def wJ_X1_requireState (E : gE) (i0 : Int32) (i1 : Nat) (Q : gW → Prop) (X : String → gW → Prop) (w : gW) : Prop :=
  (i0 = 0 → (aThr E "java/lang/IllegalStateException" X w)) ∧ (¬ i0 = 0 → (Q w))
theorem kJ_X1_requireState_r (C : gC p l s m args meth c cX1_requireState 2 none RX1 E [] "requireState") (i0 : Int32) (i1 : Nat) {Q : gW → Prop} {X : String → gW → Prop} (w : gW) (H : Heap) (locs : List Loc) (ls : Array Slot) (hS : gS E w0 w H locs) (hl : lv_has ls 2 [(0, .int i0), (1, .ref i1)]) (hw : wJ_X1_requireState E i0 i1 Q X w) : gGo p l e s m args below meth c H locs 8 120 E w0 w (gV Q) (X) (F0 m 0 ls []) := by
  unfold wJ_X1_requireState at hw
  refine lv_iload_n C.x C.b dX1_requireState_0 rfl (lv_at hl 0 rfl) ?_
  refine lv_if_ne (tgt := 13) C.x C.b dX1_requireState_1 (by decide) (fun c1 => ?_) (fun c1 => ?_)
  · have hw := hw.2 c1
    exact g_vret C hS ⟨rfl, hw⟩ dX1_requireState_13
  · have hw := hw.1 c1
    exact a_throwA (ik := 10) (ic := 12) (names := ["java/lang/RuntimeException", "java/lang/Exception"]) C hS hl (by decide +kernel) (by decide +kernel) q899 q100 at_requireState dX1_requireState_4 dX1_requireState_7 dX1_requireState_8 dX1_requireState_9 dX1_requireState_12 (lv_at hl 1 rfl) (by decide) (Nat.le_of_ble_eq_true rfl) hw
theorem ny_X1_requireState : gNm yX1_requireState 2 = true := by decide +kernel
theorem kJ_X1_requireState {l : Launch} (ht : l.stackTraces = false) {w : gW} {i0 : Int32} {i1 : Nat} {Q : gW → Prop} {X : String → gW → Prop} (hw : wJ_X1_requireState E i0 i1 Q X w) : gMet l yX1_requireState (ws_ yX1_requireState cX1_requireState 2 none) E w [.int i0, .ref i1] 8 120 (gV Q) (X) :=
  g_ofW ht (by decide) (Nat.le_of_ble_eq_true rfl) (fun p e s m below meth c ls H C hl hS => kJ_X1_requireState_r C _ _ _ _ _ _ hS hl hw)
def wJ_X1_requireTenant (E : gE) (i0 : Int32) (Q : gW → Prop) (X : String → gW → Prop) (w : gW) : Prop :=
  wJ_X1_inRange E i0.toInt64 0 3 (fun r2 w1 => aStr E "BridgeAuction" 149 "tenant" (fun a3 => wJ_X1_requireIndex E r2 a3 (fun w4 => Q w4) X w1)) w
theorem kJ_X1_requireTenant_r (C : gC p l s m args meth c cX1_requireTenant 1 none RX1 E [] "requireTenant") (i0 : Int32) {Q : gW → Prop} {X : String → gW → Prop} (w : gW) (H : Heap) (locs : List Loc) (ls : Array Slot) (hS : gS E w0 w H locs) (hl : lv_has ls 1 [(0, .int i0)]) (hw : wJ_X1_requireTenant E i0 Q X w) : gGo p l e s m args below meth c H locs 9 141 E w0 w (gV Q) (X) (F0 m 0 ls []) := by
  unfold wJ_X1_requireTenant at hw
  refine lv_iload_n C.x C.b dX1_requireTenant_0 rfl (lv_at hl 0 rfl) ?_
  refine lv_i2l C.x C.b dX1_requireTenant_1 rfl ?_
  refine lv_lconst (v := 0) C.x C.b dX1_requireTenant_2 (by decide) ?_
  refine lv_ldc2 C.x C.b C.ow (C.ts _ q1343) dX1_requireTenant_3 ?_
  refine g_callS (rest := []) C hS hl (kJ_X1_inRange C.tr hw) q1275 q459 q77 q460 ny_X1_inRange rfl (Nat.le_of_ble_eq_true rfl) (Nat.le_of_ble_eq_true rfl) rfl (Nat.le_of_ble_eq_true rfl) dX1_requireTenant_6 (fun X1 w1 H1 l1 q1 ce hx => hx.elim) (fun v w1 H locs hq _ hS => ?_)
  obtain ⟨r2, rfl, hw⟩ := hq
  refine W.eq (g2 := F0 m 9 ls [.int r2]) rfl ?_
  refine a_str C dX1_requireTenant_9 hw (fun a3 hw => ?_)
  refine g_callS (rest := []) C hS hl (kJ_X1_requireIndex C.tr hw) q1345 q871 q77 q872 ny_X1_requireIndex rfl (Nat.le_of_ble_eq_true rfl) (Nat.le_of_ble_eq_true rfl) rfl (Nat.le_of_ble_eq_true rfl) dX1_requireTenant_11 (fun X1 w1 H1 l1 q1 ce hx _ hS1 hc hv hcl => g_out C hS1 (fun x h => by cases h) hc hv hcl hx) (fun v w4 H locs hq _ hS => ?_)
  obtain ⟨rfl, hw⟩ := hq
  refine W.eq (g2 := F0 m 14 ls []) rfl ?_
  exact g_vret C hS ⟨rfl, hw⟩ dX1_requireTenant_14
theorem ny_X1_requireTenant : gNm yX1_requireTenant 1 = true := by decide +kernel
theorem kJ_X1_requireTenant {l : Launch} (ht : l.stackTraces = false) {w : gW} {i0 : Int32} {Q : gW → Prop} {X : String → gW → Prop} (hw : wJ_X1_requireTenant E i0 Q X w) : gMet l yX1_requireTenant (ws_ yX1_requireTenant cX1_requireTenant 1 none) E w [.int i0] 9 141 (gV Q) (X) :=
  g_ofW ht (by decide) (Nat.le_of_ble_eq_true rfl) (fun p e s m below meth c ls H C hl hS => kJ_X1_requireTenant_r C _ _ _ _ _ hS hl hw)
def wJ_X2_init (E : gE) (i0 : Nat) (Q : gW → Prop) (w : gW) : Prop :=
  aN E 8 3 [.int 0, .null, .int 0] (fun q1 w2 => wJ_J2_init E q1 (fun w3 => aP i0 1 0 (.ref q1) (fun w4 => aN E 8 3 [.int 0, .null, .int 0] (fun q5 w6 => wJ_J2_init E q5 (fun w7 => aP i0 1 1 (.ref q5) (fun w8 => aA E 0 8 (fun q9 w10 => aP i0 1 2 (.ref q9) (fun w11 => aA E 0 4 (fun q12 w13 => aP i0 1 3 (.ref q12) (fun w14 => aA E 0 4 (fun q15 w16 => aP i0 1 4 (.ref q15) (fun w17 => aA E 0 4 (fun q18 w19 => aP i0 1 5 (.ref q18) (fun w20 => aP i0 1 7 (.int 3) (fun w21 => aP i0 1 8 (.int 10) (fun w22 => aP i0 1 9 (.int 5) (fun w23 => Q w23) w22) w21) w20) w19) w17) w16) w14) w13) w11) w10) w8) w7) w6) w4) w3) w2) w
theorem kJ_X2_init_r (C : gC p l s m args meth c cX2_init 1 none RX2 E [] "<init>") (i0 : Nat) {Q : gW → Prop} (w : gW) (H : Heap) (locs : List Loc) (ls : Array Slot) (hS : gS E w0 w H locs) (hl : lv_has ls 1 [(0, .ref i0)]) (hw : wJ_X2_init E i0 Q w) : gGo p l e s m args below meth c H locs 4 84 E w0 w (gV Q) (gNoX) (F0 m 0 ls []) := by
  unfold wJ_X2_init at hw
  refine lv_aload_n C.x C.b dX2_init_0 rfl (lv_at hl 0 rfl) ?_
  refine W.objInit C.x C.b C.ow (C.ts _ q125) (C.ts _ q115) (C.ts _ q116) rfl (by rw [C.ml]; exact hl.1) rfl dX2_init_1 (Nat.le_of_ble_eq_true rfl) (Nat.le_of_ble_eq_true rfl) ?_
  refine W.eq (g2 := F0 m 4 ls []) rfl ?_
  refine lv_aload_n C.x C.b dX2_init_4 rfl (lv_at hl 0 rfl) ?_
  refine a_N (ci := 8) (fs := [.int 0, .null, .int 0]) C hS in_J2 tyJ2 tyJ2_ok rfl q126 q127 q81 (by decide) dX2_init_5 hw (fun q1 w2 H hw hS => ?_)
  refine lv_dup C.x C.b dX2_init_8 rfl ?_
  refine g_callI (rest := [.ref q1, .ref i0]) C hS hl (kJ_J2_init C.tr hw) rfl q128 q129 q81 q130 ny_J2_init rfl (Nat.le_of_ble_eq_true rfl) (Nat.le_of_ble_eq_true rfl) rfl (Nat.le_of_ble_eq_true rfl) dX2_init_9 (fun X1 w1 H1 l1 q1 ce hx => hx.elim) (fun v w3 H locs hq _ hS => ?_)
  obtain ⟨rfl, hw⟩ := hq
  refine W.eq (g2 := F0 m 12 ls [.ref q1, .ref i0]) rfl ?_
  refine a_PF C hS in_X2 tyX2 tyX2_ok nmX2 rfl (k := 0) (ci := 1) (by decide) q152 (fun _ h9 => h9) rfl rfl rfl rfl dX2_init_12 hw (fun w4 H locs hw hS => ?_)
  refine lv_aload_n C.x C.b dX2_init_15 rfl (lv_at hl 0 rfl) ?_
  refine a_N (ci := 8) (fs := [.int 0, .null, .int 0]) C hS in_J2 tyJ2 tyJ2_ok rfl q126 q127 q81 (by decide) dX2_init_16 hw (fun q5 w6 H hw hS => ?_)
  refine lv_dup C.x C.b dX2_init_19 rfl ?_
  refine g_callI (rest := [.ref q5, .ref i0]) C hS hl (kJ_J2_init C.tr hw) rfl q128 q129 q81 q130 ny_J2_init rfl (Nat.le_of_ble_eq_true rfl) (Nat.le_of_ble_eq_true rfl) rfl (Nat.le_of_ble_eq_true rfl) dX2_init_20 (fun X1 w1 H1 l1 q1 ce hx => hx.elim) (fun v w7 H locs hq _ hS => ?_)
  obtain ⟨rfl, hw⟩ := hq
  refine W.eq (g2 := F0 m 23 ls [.ref q5, .ref i0]) rfl ?_
  refine a_PF C hS in_X2 tyX2 tyX2_ok nmX2 rfl (k := 1) (ci := 1) (by decide) q154 (fun _ h9 => h9) rfl rfl rfl rfl dX2_init_23 hw (fun w8 H locs hw hS => ?_)
  refine lv_aload_n C.x C.b dX2_init_26 rfl (lv_at hl 0 rfl) ?_
  refine lv_bipush (v := 8) C.x C.b dX2_init_27 (by decide) ?_
  refine a_A (t := 0) (atype := .int) C hS rfl (by decide) q206 dX2_init_29 hw (fun q9 w10 H hw hS => ?_)
  refine a_PF C hS in_X2 tyX2 tyX2_ok nmX2 rfl (k := 2) (ci := 1) (by decide) q156 (fun _ h9 => h9) rfl rfl rfl rfl dX2_init_31 hw (fun w11 H locs hw hS => ?_)
  refine lv_aload_n C.x C.b dX2_init_34 rfl (lv_at hl 0 rfl) ?_
  refine lv_iconst (v := 4) C.x C.b dX2_init_35 (by decide) ?_
  refine a_A (t := 0) (atype := .int) C hS rfl (by decide) q206 dX2_init_36 hw (fun q12 w13 H hw hS => ?_)
  refine a_PF C hS in_X2 tyX2 tyX2_ok nmX2 rfl (k := 3) (ci := 1) (by decide) q158 (fun _ h9 => h9) rfl rfl rfl rfl dX2_init_38 hw (fun w14 H locs hw hS => ?_)
  refine lv_aload_n C.x C.b dX2_init_41 rfl (lv_at hl 0 rfl) ?_
  refine lv_iconst (v := 4) C.x C.b dX2_init_42 (by decide) ?_
  refine a_A (t := 0) (atype := .int) C hS rfl (by decide) q206 dX2_init_43 hw (fun q15 w16 H hw hS => ?_)
  refine a_PF C hS in_X2 tyX2 tyX2_ok nmX2 rfl (k := 4) (ci := 1) (by decide) q160 (fun _ h9 => h9) rfl rfl rfl rfl dX2_init_45 hw (fun w17 H locs hw hS => ?_)
  refine lv_aload_n C.x C.b dX2_init_48 rfl (lv_at hl 0 rfl) ?_
  refine lv_iconst (v := 4) C.x C.b dX2_init_49 (by decide) ?_
  refine a_A (t := 0) (atype := .int) C hS rfl (by decide) q206 dX2_init_50 hw (fun q18 w19 H hw hS => ?_)
  refine a_PF C hS in_X2 tyX2 tyX2_ok nmX2 rfl (k := 5) (ci := 1) (by decide) q161 (fun _ h9 => h9) rfl rfl rfl rfl dX2_init_52 hw (fun w20 H locs hw hS => ?_)
  refine lv_aload_n C.x C.b dX2_init_55 rfl (lv_at hl 0 rfl) ?_
  refine lv_iconst (v := 3) C.x C.b dX2_init_56 (by decide) ?_
  refine a_P C hS in_X2 tyX2 tyX2_ok nmX2 rfl (k := 7) (ci := 1) (by decide) q164 (fun _ h9 => h9) rfl rfl rfl dX2_init_57 hw (fun w21 H locs hw hS => ?_)
  refine lv_aload_n C.x C.b dX2_init_60 rfl (lv_at hl 0 rfl) ?_
  refine lv_bipush (v := 10) C.x C.b dX2_init_61 (by decide) ?_
  refine a_P C hS in_X2 tyX2 tyX2_ok nmX2 rfl (k := 8) (ci := 1) (by decide) q166 (fun _ h9 => h9) rfl rfl rfl dX2_init_63 hw (fun w22 H locs hw hS => ?_)
  refine lv_aload_n C.x C.b dX2_init_66 rfl (lv_at hl 0 rfl) ?_
  refine lv_iconst (v := 5) C.x C.b dX2_init_67 (by decide) ?_
  refine a_P C hS in_X2 tyX2 tyX2_ok nmX2 rfl (k := 9) (ci := 1) (by decide) q168 (fun _ h9 => h9) rfl rfl rfl dX2_init_68 hw (fun w23 H locs hw hS => ?_)
  exact g_vret C hS ⟨rfl, hw⟩ dX2_init_71
theorem ny_X2_init : gNm yX2_init 0 = true := by decide +kernel
theorem kJ_X2_init {l : Launch} (ht : l.stackTraces = false) {w : gW} {i0 : Nat} {Q : gW → Prop} (hw : wJ_X2_init E i0 Q w) : gMet l yX2_init (ws_ yX2_init cX2_init 1 none) E w [.ref i0] 4 84 (gV Q) (gNoX) :=
  g_ofW ht (by decide) (Nat.le_of_ble_eq_true rfl) (fun p e s m below meth c ls H C hl hS => kJ_X2_init_r C _ _ _ _ _ hS hl hw)
def wJ_X2_begun_39 (E : gE) (Q : Option Nat → gW → Prop) : Nat → Int32 → Nat → Int32 → gW → Prop
  | 0, _, _, _, _ => False
  | n + 1, x0, x1, x2, w => (8 ≤ x2 → (aR E x1 1 3 (fun r15 => ∃ a16 : Nat, r15 = some a16 ∧ (wJ_J3_fill E a16 100 (fun w17 => Q (some x1) w17) w)) w)) ∧ (¬ 8 ≤ x2 → (aR E x1 1 2 (fun r18 => ¬ x0 = 0 ∧ (∃ a19 : Nat, r18 = some a19 ∧ (aS E 0 a19 x2 (x2 - x2 / x0 * x0) (fun w20 => wJ_X2_begun_39 E Q n x0 x1 (x2 + 1) w20) w))) w))
theorem kJ_X2_begun_39 (C : gC p l s m args meth c cX2_begun 4 (some (.object "BridgeAuction$Network")) RX2 E [] "begun") {Q : Option Nat → gW → Prop} : ∀ (n : Nat) (x0 : Int32) (x1 : Nat) (x2 : Int32) (w : gW) (H : Heap) (locs : List Loc) (ls : Array Slot), gS E w0 w H locs → lv_has ls 4 [(0, .int x0), (1, .ref x1), (2, .int x2)] → wJ_X2_begun_39 E Q n x0 x1 x2 w → gGo p l e s m args below meth c H locs 7 191 E w0 w (gR Q) (gNoX) (F0 m 39 ls []) := by
  intro n
  induction n with
  | zero =>
    intro x0 x1 x2 w H locs ls hS hl hw
    exact hw.elim
  | succ n ih =>
    intro x0 x1 x2 w H locs ls hS hl hw
    unfold wJ_X2_begun_39 at hw
    refine lv_iload_n C.x C.b dX2_begun_39 rfl (lv_at hl 2 rfl) ?_
    refine lv_bipush (v := 8) C.x C.b dX2_begun_40 (by decide) ?_
    refine lv_icmp_ge (tgt := 60) C.x C.b dX2_begun_42 (by decide) (fun c14 => ?_) (fun c14 => ?_)
    · have hw := hw.1 c14
      refine lv_aload_n C.x C.b dX2_begun_60 rfl (lv_at hl 1 rfl) ?_
      refine a_R C hS in_X2 rfl (k := 3) (ci := 1) (by decide) q158 (fun _ h9 => h9) dX2_begun_61 hw (fun r15 hw => ?_)
      refine lv_bipush (v := 100) C.x C.b dX2_begun_64 (by decide) ?_
      obtain ⟨a16, e9, hw9⟩ := hw; subst e9; have hw := hw9; clear hw9
      have hl : lv_has ls 4 [(0, .int x0), (1, .ref x1), (2, .int x2)] := hl
      refine W.eq (g2 := F0 m 66 ls [.int 100, .ref a16]) rfl ?_
      refine g_callS (rest := []) C hS hl (kJ_J3_fill C.tr hw) q342 q255 q84 q256 ny_J3_fill rfl (Nat.le_of_ble_eq_true rfl) (Nat.le_of_ble_eq_true rfl) rfl (Nat.le_of_ble_eq_true rfl) dX2_begun_66 (fun X1 w1 H1 l1 q1 ce hx => hx.elim) (fun v w17 H locs hq _ hS => ?_)
      obtain ⟨rfl, hw⟩ := hq
      refine W.eq (g2 := F0 m 69 ls []) rfl ?_
      refine lv_aload_n C.x C.b dX2_begun_69 rfl (lv_at hl 1 rfl) ?_
      exact g_aret (r := (some x1)) C (Or.inl ⟨_, rfl⟩) hS ⟨_, rfl, hw⟩ dX2_begun_70
    · have hw := hw.2 c14
      refine lv_aload_n C.x C.b dX2_begun_45 rfl (lv_at hl 1 rfl) ?_
      refine a_R C hS in_X2 rfl (k := 2) (ci := 1) (by decide) q156 (fun _ h9 => h9) dX2_begun_46 hw (fun r18 hw => ?_)
      refine lv_iload_n C.x C.b dX2_begun_49 rfl (lv_at hl 2 rfl) ?_
      refine lv_iload_n C.x C.b dX2_begun_50 rfl (lv_at hl 2 rfl) ?_
      refine lv_iload_n C.x C.b dX2_begun_51 rfl (lv_at hl 0 rfl) ?_
      obtain ⟨hne, hw⟩ := hw
      refine lv_irem C.x C.b dX2_begun_52 hne ?_
      obtain ⟨a19, e9, hw9⟩ := hw; subst e9; have hw := hw9; clear hw9
      have hl : lv_has ls 4 [(0, .int x0), (1, .ref x1), (2, .int x2)] := hl
      refine W.eq (g2 := F0 m 53 ls [.int (x2 - x2 / x0 * x0), .int x2, .ref a19]) rfl ?_
      refine a_Si C hS dX2_begun_53 hw (fun w20 H locs hw hS => ?_)
      refine lv_iinc (v := (x2 + 1)) (lv' := [(2, .int (x2 + 1)), (0, .int x0), (1, .ref x1)]) C.x C.b dX2_begun_54 hl (k := 2) rfl rfl (by decide) rfl (fun ls hl => ?_)
      refine lv_goto (tgt := 39) C.x C.b dX2_begun_57 (by decide) ?_
      exact ih _ _ _ _ _ _ _ hS (lv_sub hl [1, 2, 0] rfl) hw
def wJ_X2_begun_10 (E : gE) (Q : Option Nat → gW → Prop) : Nat → Int32 → Nat → Int32 → gW → Prop
  | 0, _, _, _, _ => False
  | n + 1, x0, x1, x2, w => (x0 ≤ x2 → (∃ k6 : Nat, wJ_X2_begun_39 E Q k6 x0 x1 0 w)) ∧ (¬ x0 ≤ x2 → (aR E x1 1 0 (fun r7 => aN E 2 6 [.int 0, .int 0, .null, .null, .null, .null] (fun q8 w9 => wJ_X3_init E q8 x2 (fun w10 => ∃ a11 : Nat, r7 = some a11 ∧ (aKind E a11 8 (wJ_J2_add E a11 (some q8) (fun r13 w12 => wJ_X2_begun_10 E Q n x0 x1 (x2 + 1) w12) w10) w10)) w9) w) w))
theorem kJ_X2_begun_10 (C : gC p l s m args meth c cX2_begun 4 (some (.object "BridgeAuction$Network")) RX2 E [] "begun") {Q : Option Nat → gW → Prop} : ∀ (n : Nat) (x0 : Int32) (x1 : Nat) (x2 : Int32) (w : gW) (H : Heap) (locs : List Loc) (ls : Array Slot), gS E w0 w H locs → lv_has ls 4 [(0, .int x0), (1, .ref x1), (2, .int x2)] → wJ_X2_begun_10 E Q n x0 x1 x2 w → gGo p l e s m args below meth c H locs 7 191 E w0 w (gR Q) (gNoX) (F0 m 10 ls []) := by
  intro n
  induction n with
  | zero =>
    intro x0 x1 x2 w H locs ls hS hl hw
    exact hw.elim
  | succ n ih =>
    intro x0 x1 x2 w H locs ls hS hl hw
    unfold wJ_X2_begun_10 at hw
    refine lv_iload_n C.x C.b dX2_begun_10 rfl (lv_at hl 2 rfl) ?_
    refine lv_iload_n C.x C.b dX2_begun_11 rfl (lv_at hl 0 rfl) ?_
    refine lv_icmp_ge (tgt := 37) C.x C.b dX2_begun_12 (by decide) (fun c5 => ?_) (fun c5 => ?_)
    · have hw := hw.1 c5
      refine lv_iconst (v := 0) C.x C.b dX2_begun_37 (by decide) ?_
      refine lv_istore_n (lv' := [(2, .int 0), (0, .int x0), (1, .ref x1)]) C.x C.b dX2_begun_38 rfl hl (by decide) rfl (fun ls hl => ?_)
      obtain ⟨k6, hw⟩ := hw
      exact kJ_X2_begun_39 C k6 _ _ _ _ _ _ _ hS (lv_sub hl [1, 2, 0] rfl) hw
    · have hw := hw.2 c5
      refine lv_aload_n C.x C.b dX2_begun_15 rfl (lv_at hl 1 rfl) ?_
      refine a_R C hS in_X2 rfl (k := 0) (ci := 1) (by decide) q152 (fun _ h9 => h9) dX2_begun_16 hw (fun r7 hw => ?_)
      refine a_N (ci := 2) (fs := [.int 0, .int 0, .null, .null, .null, .null]) C hS in_X3 tyX3 tyX3_ok rfl q207 q208 q82 (by decide) dX2_begun_19 hw (fun q8 w9 H hw hS => ?_)
      refine lv_dup C.x C.b dX2_begun_22 rfl ?_
      refine lv_iload_n C.x C.b dX2_begun_23 rfl (lv_at hl 2 rfl) ?_
      refine g_callI (rest := [.ref q8, va_rf r7]) C hS hl (kJ_X3_init C.tr hw) rfl q209 q210 q82 q211 ny_X3_init rfl (Nat.le_of_ble_eq_true rfl) (Nat.le_of_ble_eq_true rfl) rfl (by cases r7 <;> exact (Nat.le_of_ble_eq_true rfl)) dX2_begun_24 (fun X1 w1 H1 l1 q1 ce hx => hx.elim) (fun v w10 H locs hq _ hS => ?_)
      obtain ⟨rfl, hw⟩ := hq
      refine W.eq (g2 := F0 m 27 ls [.ref q8, va_rf r7]) rfl ?_
      obtain ⟨a11, e9, hw9⟩ := hw; subst e9; have hw := hw9; clear hw9
      have hl : lv_has ls 4 [(0, .int x0), (1, .ref x1), (2, .int x2)] := hl
      refine W.eq (g2 := F0 m 27 ls [.ref q8, .ref a11]) rfl ?_
      obtain ⟨fs, hq, hw⟩ := hw
      refine a_callV (rest := []) C hS hl 8 hq rfl (kJ_J2_add C.tr hw) q279 q280 q281 q81 q282 ny_J2_add rfl (Nat.le_of_ble_eq_true rfl) (Nat.le_of_ble_eq_true rfl) rfl (Nat.le_of_ble_eq_true rfl) dX2_begun_27 (fun X1 w1 H1 l1 q1 ce hx => hx.elim) (fun v w12 H locs hq _ hS => ?_)
      obtain ⟨r13, rfl, hw⟩ := hq
      refine W.eq (g2 := F0 m 30 ls [.int r13]) rfl ?_
      refine lv_istore_n (lv' := [(3, .int r13), (0, .int x0), (1, .ref x1), (2, .int x2)]) C.x C.b dX2_begun_30 rfl hl (by decide) rfl (fun ls hl => ?_)
      refine lv_iinc (v := (x2 + 1)) (lv' := [(2, .int (x2 + 1)), (3, .int r13), (0, .int x0), (1, .ref x1)]) C.x C.b dX2_begun_31 hl (k := 3) rfl rfl (by decide) rfl (fun ls hl => ?_)
      refine lv_goto (tgt := 10) C.x C.b dX2_begun_34 (by decide) ?_
      exact ih _ _ _ _ _ _ _ hS (lv_sub hl [2, 3, 0] rfl) hw
def wJ_X2_begun (E : gE) (i0 : Int32) (Q : Option Nat → gW → Prop) (w : gW) : Prop :=
  aN E 1 15 [.null, .null, .null, .null, .null, .null, .int 0, .int 0, .int 0, .int 0, .int 0, .int 0, .int 0, .int 0, .int 0] (fun q1 w2 => wJ_X2_init E q1 (fun w3 => ∃ k4 : Nat, wJ_X2_begun_10 E Q k4 i0 q1 0 w3) w2) w
theorem kJ_X2_begun_r (C : gC p l s m args meth c cX2_begun 4 (some (.object "BridgeAuction$Network")) RX2 E [] "begun") (i0 : Int32) {Q : Option Nat → gW → Prop} (w : gW) (H : Heap) (locs : List Loc) (ls : Array Slot) (hS : gS E w0 w H locs) (hl : lv_has ls 4 [(0, .int i0)]) (hw : wJ_X2_begun E i0 Q w) : gGo p l e s m args below meth c H locs 7 191 E w0 w (gR Q) (gNoX) (F0 m 0 ls []) := by
  unfold wJ_X2_begun at hw
  refine a_N (ci := 1) (fs := [.null, .null, .null, .null, .null, .null, .int 0, .int 0, .int 0, .int 0, .int 0, .int 0, .int 0, .int 0, .int 0]) C hS in_X2 tyX2 tyX2_ok rfl q120 q121 q78 (by decide) dX2_begun_0 hw (fun q1 w2 H hw hS => ?_)
  refine lv_dup C.x C.b dX2_begun_3 rfl ?_
  refine g_callI (rest := [.ref q1]) C hS hl (kJ_X2_init C.tr hw) rfl q122 q123 q78 q124 ny_X2_init rfl (Nat.le_of_ble_eq_true rfl) (Nat.le_of_ble_eq_true rfl) rfl (Nat.le_of_ble_eq_true rfl) dX2_begun_4 (fun X1 w1 H1 l1 q1 ce hx => hx.elim) (fun v w3 H locs hq _ hS => ?_)
  obtain ⟨rfl, hw⟩ := hq
  refine W.eq (g2 := F0 m 7 ls [.ref q1]) rfl ?_
  refine lv_astore_n (lv' := [(1, .ref q1), (0, .int i0)]) C.x C.b dX2_begun_7 rfl hl (by decide) rfl (fun ls hl => ?_)
  refine lv_iconst (v := 0) C.x C.b dX2_begun_8 (by decide) ?_
  refine lv_istore_n (lv' := [(2, .int 0), (1, .ref q1), (0, .int i0)]) C.x C.b dX2_begun_9 rfl hl (by decide) rfl (fun ls hl => ?_)
  obtain ⟨k4, hw⟩ := hw
  exact kJ_X2_begun_10 C k4 _ _ _ _ _ _ _ hS (lv_sub hl [2, 1, 0] rfl) hw
theorem ny_X2_begun : gNm yX2_begun 1 = true := by decide +kernel
theorem kJ_X2_begun {l : Launch} (ht : l.stackTraces = false) {w : gW} {i0 : Int32} {Q : Option Nat → gW → Prop} (hw : wJ_X2_begun E i0 Q w) : gMet l yX2_begun (ws_ yX2_begun cX2_begun 4 (some (.object "BridgeAuction$Network"))) E w [.int i0] 7 191 (gR Q) (gNoX) :=
  g_ofW ht (by decide) (Nat.le_of_ble_eq_true rfl) (fun p e s m below meth c ls H C hl hS => kJ_X2_begun_r C _ _ _ _ _ hS hl hw)
def wJ_X2_spread_77 (E : gE) (K2 : Nat → Nat → Int32 → gW → Prop) (K10 : Nat → Nat → Int32 → Int32 → gW → Prop) (Q : gW → Prop) (x0 : Nat) (x1 : Nat) (x2 : Int32) (x3 : Int32) (w : gW) : Prop :=
  K10 x0 x1 x2 (x3 + 1) w
theorem kJ_X2_spread_77 (C : gC p l s m args meth c cX2_spread 5 none RX2 E [] "spread") {Q : gW → Prop} {K2 : Nat → Nat → Int32 → gW → Prop} (hK2 : ∀ (x0 : Nat) (x1 : Nat) (x2 : Int32) (w : gW) (H : Heap) (locs : List Loc) (ls : Array Slot), gS E w0 w H locs → lv_has ls 5 [(0, .ref x0), (1, .ref x1), (2, .int x2)] → K2 x0 x1 x2 w → gGo p l e s m args below meth c H locs 3 64 E w0 w (gV Q) (gNoX) (F0 m 2 ls [])) {K10 : Nat → Nat → Int32 → Int32 → gW → Prop} (hK10 : ∀ (x0 : Nat) (x1 : Nat) (x2 : Int32) (x3 : Int32) (w : gW) (H : Heap) (locs : List Loc) (ls : Array Slot), gS E w0 w H locs → lv_has ls 5 [(0, .ref x0), (1, .ref x1), (2, .int x2), (3, .int x3)] → K10 x0 x1 x2 x3 w → gGo p l e s m args below meth c H locs 3 64 E w0 w (gV Q) (gNoX) (F0 m 10 ls [])) (x0 : Nat) (x1 : Nat) (x2 : Int32) (x3 : Int32) (w : gW) (H : Heap) (locs : List Loc) (ls : Array Slot) (hS : gS E w0 w H locs) (hl : lv_has ls 5 [(0, .ref x0), (1, .ref x1), (2, .int x2), (3, .int x3)]) (hw : wJ_X2_spread_77 E K2 K10 Q x0 x1 x2 x3 w) : gGo p l e s m args below meth c H locs 3 64 E w0 w (gV Q) (gNoX) (F0 m 77 ls []) := by
  unfold wJ_X2_spread_77 at hw
  refine lv_iinc (v := (x3 + 1)) (lv' := [(3, .int (x3 + 1)), (0, .ref x0), (1, .ref x1), (2, .int x2)]) C.x C.b dX2_spread_77 hl (k := 3) rfl rfl (by decide) rfl (fun ls hl => ?_)
  refine lv_goto (tgt := 10) C.x C.b dX2_spread_80 (by decide) ?_
  exact hK10 _ _ _ _ _ _ _ _ hS (lv_sub hl [1, 2, 3, 0] rfl) hw
def wJ_X2_spread_10 (E : gE) (K2 : Nat → Nat → Int32 → gW → Prop) (Q : gW → Prop) : Nat → Nat → Nat → Int32 → Int32 → gW → Prop
  | 0, _, _, _, _, _ => False
  | n + 1, x0, x1, x2, x3, w => aR E x0 1 1 (fun r4 => ∃ a5 : Nat, r4 = some a5 ∧ (aKind E a5 8 (wJ_J2_size E a5 (fun r7 w6 => (r7 ≤ x3 → (K2 x0 x1 x2 w6)) ∧ (¬ r7 ≤ x3 → (aR E x0 1 1 (fun r9 => ∃ a10 : Nat, r9 = some a10 ∧ (aKind E a10 8 (wJ_J2_get E a10 x3 (fun r12 w11 => ∃ a13 : Nat, r12 = some a13 ∧ (aKind E a13 5 (aKind E a13 5 (wJ_X6_carries E a13 (fun r15 w14 => (r15 = 0 → (wJ_X2_spread_77 E K2 (fun x0 x1 x2 x3 w => wJ_X2_spread_10 E K2 Q n x0 x1 x2 x3 w) Q x0 x1 x2 x3 w14)) ∧ (¬ r15 = 0 → (aI E a13 5 0 (fun v17 => aL E 2 x1 v17 (fun v18 => aI E a13 5 1 (fun v19 => aL E 2 x1 v19 (fun v20 => (v18 = v20 → (wJ_X2_spread_77 E K2 (fun x0 x1 x2 x3 w => wJ_X2_spread_10 E K2 Q n x0 x1 x2 x3 w) Q x0 x1 x2 x3 w14)) ∧ (¬ v18 = v20 → (aI E a13 5 0 (fun v22 => aS E 2 x1 v22 1 (fun w23 => aI E a13 5 1 (fun v24 => aS E 2 x1 v24 1 (fun w25 => wJ_X2_spread_77 E K2 (fun x0 x1 x2 x3 w => wJ_X2_spread_10 E K2 Q n x0 x1 x2 x3 w) Q x0 x1 1 x3 w25) w23) w23) w14) w14))) w14) w14) w14) w14))) w11) w11) w11)) w6) w6)) w6))) w) w)) w
theorem kJ_X2_spread_10 (C : gC p l s m args meth c cX2_spread 5 none RX2 E [] "spread") {Q : gW → Prop} {K2 : Nat → Nat → Int32 → gW → Prop} (hK2 : ∀ (x0 : Nat) (x1 : Nat) (x2 : Int32) (w : gW) (H : Heap) (locs : List Loc) (ls : Array Slot), gS E w0 w H locs → lv_has ls 5 [(0, .ref x0), (1, .ref x1), (2, .int x2)] → K2 x0 x1 x2 w → gGo p l e s m args below meth c H locs 3 64 E w0 w (gV Q) (gNoX) (F0 m 2 ls [])) : ∀ (n : Nat) (x0 : Nat) (x1 : Nat) (x2 : Int32) (x3 : Int32) (w : gW) (H : Heap) (locs : List Loc) (ls : Array Slot), gS E w0 w H locs → lv_has ls 5 [(0, .ref x0), (1, .ref x1), (2, .int x2), (3, .int x3)] → wJ_X2_spread_10 E K2 Q n x0 x1 x2 x3 w → gGo p l e s m args below meth c H locs 3 64 E w0 w (gV Q) (gNoX) (F0 m 10 ls []) := by
  intro n
  induction n with
  | zero =>
    intro x0 x1 x2 x3 w H locs ls hS hl hw
    exact hw.elim
  | succ n ih =>
    intro x0 x1 x2 x3 w H locs ls hS hl hw
    unfold wJ_X2_spread_10 at hw
    refine lv_iload_n C.x C.b dX2_spread_10 rfl (lv_at hl 3 rfl) ?_
    refine lv_aload_n C.x C.b dX2_spread_11 rfl (lv_at hl 0 rfl) ?_
    refine a_R C hS in_X2 rfl (k := 1) (ci := 1) (by decide) q154 (fun _ h9 => h9) dX2_spread_12 hw (fun r4 hw => ?_)
    obtain ⟨a5, e9, hw9⟩ := hw; subst e9; have hw := hw9; clear hw9
    have hl : lv_has ls 5 [(0, .ref x0), (1, .ref x1), (2, .int x2), (3, .int x3)] := hl
    refine W.eq (g2 := F0 m 15 ls [.ref a5, .int x3]) rfl ?_
    obtain ⟨fs, hq, hw⟩ := hw
    refine a_callV (rest := [.int x3]) C hS hl 8 hq rfl (kJ_J2_size C.tr hw) q384 q373 q374 q81 q375 ny_J2_size rfl (Nat.le_of_ble_eq_true rfl) (Nat.le_of_ble_eq_true rfl) rfl (Nat.le_of_ble_eq_true rfl) dX2_spread_15 (fun X1 w1 H1 l1 q1 ce hx => hx.elim) (fun v w6 H locs hq _ hS => ?_)
    obtain ⟨r7, rfl, hw⟩ := hq
    refine W.eq (g2 := F0 m 18 ls [.int r7, .int x3]) rfl ?_
    refine lv_icmp_ge (tgt := 83) C.x C.b dX2_spread_18 (by decide) (fun c8 => ?_) (fun c8 => ?_)
    · have hw := hw.1 c8
      refine lv_goto (tgt := 2) C.x C.b dX2_spread_83 (by decide) ?_
      exact hK2 _ _ _ _ _ _ _ hS (lv_sub hl [0, 1, 2] rfl) hw
    · have hw := hw.2 c8
      refine lv_aload_n C.x C.b dX2_spread_21 rfl (lv_at hl 0 rfl) ?_
      refine a_R C hS in_X2 rfl (k := 1) (ci := 1) (by decide) q154 (fun _ h9 => h9) dX2_spread_22 hw (fun r9 hw => ?_)
      refine lv_iload_n C.x C.b dX2_spread_25 rfl (lv_at hl 3 rfl) ?_
      obtain ⟨a10, e9, hw9⟩ := hw; subst e9; have hw := hw9; clear hw9
      have hl : lv_has ls 5 [(0, .ref x0), (1, .ref x1), (2, .int x2), (3, .int x3)] := hl
      refine W.eq (g2 := F0 m 26 ls [.int x3, .ref a10]) rfl ?_
      obtain ⟨fs, hq, hw⟩ := hw
      refine a_callV (rest := []) C hS hl 8 hq rfl (kJ_J2_get C.tr hw) q389 q390 q391 q81 q392 ny_J2_get rfl (Nat.le_of_ble_eq_true rfl) (Nat.le_of_ble_eq_true rfl) rfl (Nat.le_of_ble_eq_true rfl) dX2_spread_26 (fun X1 w1 H1 l1 q1 ce hx => hx.elim) (fun v w11 H locs hq _ hS => ?_)
      obtain ⟨r12, rfl, hw⟩ := hq
      refine W.eq (g2 := F0 m 29 ls [va_rf r12]) rfl ?_
      obtain ⟨a13, e9, hw9⟩ := hw; subst e9; have hw := hw9; clear hw9
      have hl : lv_has ls 5 [(0, .ref x0), (1, .ref x1), (2, .int x2), (3, .int x3)] := hl
      refine W.eq (g2 := F0 m 29 ls [.ref a13]) rfl ?_
      refine a_cast (ci := 5) C hS rfl q403 dX2_spread_29 hw (fun hw => ?_)
      refine lv_astore (lv' := [(4, .ref a13), (0, .ref x0), (1, .ref x1), (2, .int x2), (3, .int x3)]) C.x C.b dX2_spread_32 hl (by decide) rfl (fun ls hl => ?_)
      refine lv_aload C.x C.b dX2_spread_34 (lv_at hl 0 rfl) ?_
      obtain ⟨fs, hq, hw⟩ := hw
      refine a_callV (rest := []) C hS hl 5 hq rfl (kJ_X6_carries C.tr hw) q404 q405 q406 q95 q407 ny_X6_carries rfl (Nat.le_of_ble_eq_true rfl) (Nat.le_of_ble_eq_true rfl) rfl (Nat.le_of_ble_eq_true rfl) dX2_spread_36 (fun X1 w1 H1 l1 q1 ce hx => hx.elim) (fun v w14 H locs hq _ hS => ?_)
      obtain ⟨r15, rfl, hw⟩ := hq
      refine W.eq (g2 := F0 m 39 ls [.int r15]) rfl ?_
      refine lv_if_eq (tgt := 77) C.x C.b dX2_spread_39 (by decide) (fun c16 => ?_) (fun c16 => ?_)
      · have hw := hw.1 c16
        exact kJ_X2_spread_77 C hK2 ih _ _ _ _ _ _ _ _ hS (lv_sub hl [1, 2, 3, 4] rfl) hw
      · have hw := hw.2 c16
        refine lv_aload_n C.x C.b dX2_spread_42 rfl (lv_at hl 2 rfl) ?_
        refine lv_aload C.x C.b dX2_spread_43 (lv_at hl 0 rfl) ?_
        refine a_IN C hS in_X6 rfl (k := 0) (ci := 5) (by decide) q939 (fun _ h9 => h9) dX2_spread_45 hw (fun v17 hw => ?_)
        refine a_Lz C hS dX2_spread_48 hw (fun v18 hw => ?_)
        refine lv_aload_n C.x C.b dX2_spread_49 rfl (lv_at hl 2 rfl) ?_
        refine lv_aload C.x C.b dX2_spread_50 (lv_at hl 0 rfl) ?_
        refine a_IN C hS in_X6 rfl (k := 1) (ci := 5) (by decide) q941 (fun _ h9 => h9) dX2_spread_52 hw (fun v19 hw => ?_)
        refine a_Lz C hS dX2_spread_55 hw (fun v20 hw => ?_)
        refine lv_icmp_eq (tgt := 77) C.x C.b dX2_spread_56 (by decide) (fun c21 => ?_) (fun c21 => ?_)
        · have hw := hw.1 c21
          exact kJ_X2_spread_77 C hK2 ih _ _ _ _ _ _ _ _ hS (lv_sub hl [1, 2, 3, 4] rfl) hw
        · have hw := hw.2 c21
          refine lv_aload_n C.x C.b dX2_spread_59 rfl (lv_at hl 2 rfl) ?_
          refine lv_aload C.x C.b dX2_spread_60 (lv_at hl 0 rfl) ?_
          refine a_IN C hS in_X6 rfl (k := 0) (ci := 5) (by decide) q939 (fun _ h9 => h9) dX2_spread_62 hw (fun v22 hw => ?_)
          refine lv_iconst (v := 1) C.x C.b dX2_spread_65 (by decide) ?_
          refine a_Sz C hS dX2_spread_66 hw (fun w23 H locs hw hS => ?_)
          refine lv_aload_n C.x C.b dX2_spread_67 rfl (lv_at hl 2 rfl) ?_
          refine lv_aload C.x C.b dX2_spread_68 (lv_at hl 0 rfl) ?_
          refine a_IN C hS in_X6 rfl (k := 1) (ci := 5) (by decide) q941 (fun _ h9 => h9) dX2_spread_70 hw (fun v24 hw => ?_)
          refine lv_iconst (v := 1) C.x C.b dX2_spread_73 (by decide) ?_
          refine a_Sz C hS dX2_spread_74 hw (fun w25 H locs hw hS => ?_)
          refine lv_iconst (v := 1) C.x C.b dX2_spread_75 (by decide) ?_
          refine lv_istore_n (lv' := [(2, .int 1), (4, .ref a13), (0, .ref x0), (1, .ref x1), (3, .int x3)]) C.x C.b dX2_spread_76 rfl hl (by decide) rfl (fun ls hl => ?_)
          exact kJ_X2_spread_77 C hK2 ih _ _ _ _ _ _ _ _ hS (lv_sub hl [2, 3, 0, 4] rfl) hw
def wJ_X2_spread_2 (E : gE) (Q : gW → Prop) : Nat → Nat → Nat → Int32 → gW → Prop
  | 0, _, _, _, _ => False
  | n + 1, x0, x1, x2, w => (x2 = 0 → (Q w)) ∧ (¬ x2 = 0 → (∃ k3 : Nat, wJ_X2_spread_10 E (fun x0 x1 x2 w => wJ_X2_spread_2 E Q n x0 x1 x2 w) Q k3 x0 x1 0 0 w))
theorem kJ_X2_spread_2 (C : gC p l s m args meth c cX2_spread 5 none RX2 E [] "spread") {Q : gW → Prop} : ∀ (n : Nat) (x0 : Nat) (x1 : Nat) (x2 : Int32) (w : gW) (H : Heap) (locs : List Loc) (ls : Array Slot), gS E w0 w H locs → lv_has ls 5 [(0, .ref x0), (1, .ref x1), (2, .int x2)] → wJ_X2_spread_2 E Q n x0 x1 x2 w → gGo p l e s m args below meth c H locs 3 64 E w0 w (gV Q) (gNoX) (F0 m 2 ls []) := by
  intro n
  induction n with
  | zero =>
    intro x0 x1 x2 w H locs ls hS hl hw
    exact hw.elim
  | succ n ih =>
    intro x0 x1 x2 w H locs ls hS hl hw
    unfold wJ_X2_spread_2 at hw
    refine lv_iload_n C.x C.b dX2_spread_2 rfl (lv_at hl 2 rfl) ?_
    refine lv_if_eq (tgt := 86) C.x C.b dX2_spread_3 (by decide) (fun c2 => ?_) (fun c2 => ?_)
    · have hw := hw.1 c2
      exact g_vret C hS ⟨rfl, hw⟩ dX2_spread_86
    · have hw := hw.2 c2
      refine lv_iconst (v := 0) C.x C.b dX2_spread_6 (by decide) ?_
      refine lv_istore_n (lv' := [(2, .int 0), (0, .ref x0), (1, .ref x1)]) C.x C.b dX2_spread_7 rfl hl (by decide) rfl (fun ls hl => ?_)
      refine lv_iconst (v := 0) C.x C.b dX2_spread_8 (by decide) ?_
      refine lv_istore_n (lv' := [(3, .int 0), (2, .int 0), (0, .ref x0), (1, .ref x1)]) C.x C.b dX2_spread_9 rfl hl (by decide) rfl (fun ls hl => ?_)
      obtain ⟨k3, hw⟩ := hw
      exact kJ_X2_spread_10 C ih k3 _ _ _ _ _ _ _ _ hS (lv_sub hl [2, 3, 1, 0] rfl) hw
def wJ_X2_spread (E : gE) (i0 : Nat) (i1 : Nat) (Q : gW → Prop) (w : gW) : Prop :=
  ∃ k1 : Nat, wJ_X2_spread_2 E Q k1 i0 i1 1 w
theorem kJ_X2_spread_r (C : gC p l s m args meth c cX2_spread 5 none RX2 E [] "spread") (i0 : Nat) (i1 : Nat) {Q : gW → Prop} (w : gW) (H : Heap) (locs : List Loc) (ls : Array Slot) (hS : gS E w0 w H locs) (hl : lv_has ls 5 [(0, .ref i0), (1, .ref i1)]) (hw : wJ_X2_spread E i0 i1 Q w) : gGo p l e s m args below meth c H locs 3 64 E w0 w (gV Q) (gNoX) (F0 m 0 ls []) := by
  unfold wJ_X2_spread at hw
  refine lv_iconst (v := 1) C.x C.b dX2_spread_0 (by decide) ?_
  refine lv_istore_n (lv' := [(2, .int 1), (0, .ref i0), (1, .ref i1)]) C.x C.b dX2_spread_1 rfl hl (by decide) rfl (fun ls hl => ?_)
  obtain ⟨k1, hw⟩ := hw
  exact kJ_X2_spread_2 C k1 _ _ _ _ _ _ _ hS (lv_sub hl [1, 2, 0] rfl) hw
theorem ny_X2_spread : gNm yX2_spread 1 = true := by decide +kernel
theorem kJ_X2_spread {l : Launch} (ht : l.stackTraces = false) {w : gW} {i0 : Nat} {i1 : Nat} {Q : gW → Prop} (hw : wJ_X2_spread E i0 i1 Q w) : gMet l yX2_spread (ws_ yX2_spread cX2_spread 5 none) E w [.ref i0, .ref i1] 3 64 (gV Q) (gNoX) :=
  g_ofW ht (by decide) (Nat.le_of_ble_eq_true rfl) (fun p e s m below meth c ls H C hl hS => kJ_X2_spread_r C _ _ _ _ _ _ hS hl hw)
def wJ_X2_carrying_38 (E : gE) (K4 : Nat → Int32 → Int32 → gW → Prop) (Q : Int32 → gW → Prop) (x0 : Nat) (x2 : Int32) (y0 : Int32) (y1 : Int32) (w : gW) : Prop :=
  K4 x0 (y1 + y0) (x2 + 1) w
theorem kJ_X2_carrying_38 (C : gC p l s m args meth c cX2_carrying 3 (some .int) RX2 E [] "carrying") {Q : Int32 → gW → Prop} {K4 : Nat → Int32 → Int32 → gW → Prop} (hK4 : ∀ (x0 : Nat) (x1 : Int32) (x2 : Int32) (w : gW) (H : Heap) (locs : List Loc) (ls : Array Slot), gS E w0 w H locs → lv_has ls 3 [(0, .ref x0), (1, .int x1), (2, .int x2)] → K4 x0 x1 x2 w → gGo p l e s m args below meth c H locs 3 64 E w0 w (gI Q) (gNoX) (F0 m 4 ls [])) (x0 : Nat) (x2 : Int32) (y0 : Int32) (y1 : Int32) (w : gW) (H : Heap) (locs : List Loc) (ls : Array Slot) (hS : gS E w0 w H locs) (hl : lv_has ls 3 [(0, .ref x0), (2, .int x2)]) (hw : wJ_X2_carrying_38 E K4 Q x0 x2 y0 y1 w) : gGo p l e s m args below meth c H locs 3 64 E w0 w (gI Q) (gNoX) (F0 m 38 ls [.int y0, .int y1]) := by
  unfold wJ_X2_carrying_38 at hw
  refine lv_iadd C.x C.b dX2_carrying_38 ?_
  refine lv_istore_n (lv' := [(1, .int (y1 + y0)), (0, .ref x0), (2, .int x2)]) C.x C.b dX2_carrying_39 rfl hl (by decide) rfl (fun ls hl => ?_)
  refine lv_iinc (v := (x2 + 1)) (lv' := [(2, .int (x2 + 1)), (1, .int (y1 + y0)), (0, .ref x0)]) C.x C.b dX2_carrying_40 hl (k := 2) rfl rfl (by decide) rfl (fun ls hl => ?_)
  refine lv_goto (tgt := 4) C.x C.b dX2_carrying_43 (by decide) ?_
  exact hK4 _ _ _ _ _ _ _ hS (lv_sub hl [2, 1, 0] rfl) hw
def wJ_X2_carrying_4 (E : gE) (Q : Int32 → gW → Prop) : Nat → Nat → Int32 → Int32 → gW → Prop
  | 0, _, _, _, _ => False
  | n + 1, x0, x1, x2, w => aR E x0 1 1 (fun r2 => ∃ a3 : Nat, r2 = some a3 ∧ (aKind E a3 8 (wJ_J2_size E a3 (fun r5 w4 => (r5 ≤ x2 → (Q x1 w4)) ∧ (¬ r5 ≤ x2 → (aR E x0 1 1 (fun r7 => ∃ a8 : Nat, r7 = some a8 ∧ (aKind E a8 8 (wJ_J2_get E a8 x2 (fun r10 w9 => ∃ a11 : Nat, r10 = some a11 ∧ (aKind E a11 5 (aKind E a11 5 (wJ_X6_carries E a11 (fun r13 w12 => (r13 = 0 → (wJ_X2_carrying_38 E (fun x0 x1 x2 w => wJ_X2_carrying_4 E Q n x0 x1 x2 w) Q x0 x2 0 x1 w12)) ∧ (¬ r13 = 0 → (wJ_X2_carrying_38 E (fun x0 x1 x2 w => wJ_X2_carrying_4 E Q n x0 x1 x2 w) Q x0 x2 1 x1 w12))) w9) w9) w9)) w4) w4)) w4))) w) w)) w
theorem kJ_X2_carrying_4 (C : gC p l s m args meth c cX2_carrying 3 (some .int) RX2 E [] "carrying") {Q : Int32 → gW → Prop} : ∀ (n : Nat) (x0 : Nat) (x1 : Int32) (x2 : Int32) (w : gW) (H : Heap) (locs : List Loc) (ls : Array Slot), gS E w0 w H locs → lv_has ls 3 [(0, .ref x0), (1, .int x1), (2, .int x2)] → wJ_X2_carrying_4 E Q n x0 x1 x2 w → gGo p l e s m args below meth c H locs 3 64 E w0 w (gI Q) (gNoX) (F0 m 4 ls []) := by
  intro n
  induction n with
  | zero =>
    intro x0 x1 x2 w H locs ls hS hl hw
    exact hw.elim
  | succ n ih =>
    intro x0 x1 x2 w H locs ls hS hl hw
    unfold wJ_X2_carrying_4 at hw
    refine lv_iload_n C.x C.b dX2_carrying_4 rfl (lv_at hl 2 rfl) ?_
    refine lv_aload_n C.x C.b dX2_carrying_5 rfl (lv_at hl 0 rfl) ?_
    refine a_R C hS in_X2 rfl (k := 1) (ci := 1) (by decide) q154 (fun _ h9 => h9) dX2_carrying_6 hw (fun r2 hw => ?_)
    obtain ⟨a3, e9, hw9⟩ := hw; subst e9; have hw := hw9; clear hw9
    have hl : lv_has ls 3 [(0, .ref x0), (1, .int x1), (2, .int x2)] := hl
    refine W.eq (g2 := F0 m 9 ls [.ref a3, .int x2]) rfl ?_
    obtain ⟨fs, hq, hw⟩ := hw
    refine a_callV (rest := [.int x2]) C hS hl 8 hq rfl (kJ_J2_size C.tr hw) q384 q373 q374 q81 q375 ny_J2_size rfl (Nat.le_of_ble_eq_true rfl) (Nat.le_of_ble_eq_true rfl) rfl (Nat.le_of_ble_eq_true rfl) dX2_carrying_9 (fun X1 w1 H1 l1 q1 ce hx => hx.elim) (fun v w4 H locs hq _ hS => ?_)
    obtain ⟨r5, rfl, hw⟩ := hq
    refine W.eq (g2 := F0 m 12 ls [.int r5, .int x2]) rfl ?_
    refine lv_icmp_ge (tgt := 46) C.x C.b dX2_carrying_12 (by decide) (fun c6 => ?_) (fun c6 => ?_)
    · have hw := hw.1 c6
      refine lv_iload_n C.x C.b dX2_carrying_46 rfl (lv_at hl 1 rfl) ?_
      exact g_iret C hS ⟨_, rfl, hw⟩ dX2_carrying_47
    · have hw := hw.2 c6
      refine lv_iload_n C.x C.b dX2_carrying_15 rfl (lv_at hl 1 rfl) ?_
      refine lv_aload_n C.x C.b dX2_carrying_16 rfl (lv_at hl 0 rfl) ?_
      refine a_R C hS in_X2 rfl (k := 1) (ci := 1) (by decide) q154 (fun _ h9 => h9) dX2_carrying_17 hw (fun r7 hw => ?_)
      refine lv_iload_n C.x C.b dX2_carrying_20 rfl (lv_at hl 2 rfl) ?_
      obtain ⟨a8, e9, hw9⟩ := hw; subst e9; have hw := hw9; clear hw9
      have hl : lv_has ls 3 [(0, .ref x0), (1, .int x1), (2, .int x2)] := hl
      refine W.eq (g2 := F0 m 21 ls [.int x2, .ref a8, .int x1]) rfl ?_
      obtain ⟨fs, hq, hw⟩ := hw
      refine a_callV (rest := [.int x1]) C hS hl 8 hq rfl (kJ_J2_get C.tr hw) q389 q390 q391 q81 q392 ny_J2_get rfl (Nat.le_of_ble_eq_true rfl) (Nat.le_of_ble_eq_true rfl) rfl (Nat.le_of_ble_eq_true rfl) dX2_carrying_21 (fun X1 w1 H1 l1 q1 ce hx => hx.elim) (fun v w9 H locs hq _ hS => ?_)
      obtain ⟨r10, rfl, hw⟩ := hq
      refine W.eq (g2 := F0 m 24 ls [va_rf r10, .int x1]) rfl ?_
      obtain ⟨a11, e9, hw9⟩ := hw; subst e9; have hw := hw9; clear hw9
      have hl : lv_has ls 3 [(0, .ref x0), (1, .int x1), (2, .int x2)] := hl
      refine W.eq (g2 := F0 m 24 ls [.ref a11, .int x1]) rfl ?_
      refine a_cast (ci := 5) C hS rfl q403 dX2_carrying_24 hw (fun hw => ?_)
      obtain ⟨fs, hq, hw⟩ := hw
      refine a_callV (rest := [.int x1]) C hS hl 5 hq rfl (kJ_X6_carries C.tr hw) q404 q405 q406 q95 q407 ny_X6_carries rfl (Nat.le_of_ble_eq_true rfl) (Nat.le_of_ble_eq_true rfl) rfl (Nat.le_of_ble_eq_true rfl) dX2_carrying_27 (fun X1 w1 H1 l1 q1 ce hx => hx.elim) (fun v w12 H locs hq _ hS => ?_)
      obtain ⟨r13, rfl, hw⟩ := hq
      refine W.eq (g2 := F0 m 30 ls [.int r13, .int x1]) rfl ?_
      refine lv_if_eq (tgt := 37) C.x C.b dX2_carrying_30 (by decide) (fun c14 => ?_) (fun c14 => ?_)
      · have hw := hw.1 c14
        refine lv_iconst (v := 0) C.x C.b dX2_carrying_37 (by decide) ?_
        exact kJ_X2_carrying_38 C ih _ _ _ _ _ _ _ _ hS (lv_sub hl [0, 2] rfl) hw
      · have hw := hw.2 c14
        refine lv_iconst (v := 1) C.x C.b dX2_carrying_33 (by decide) ?_
        refine lv_goto (tgt := 38) C.x C.b dX2_carrying_34 (by decide) ?_
        exact kJ_X2_carrying_38 C ih _ _ _ _ _ _ _ _ hS (lv_sub hl [0, 2] rfl) hw
def wJ_X2_carrying (E : gE) (i0 : Nat) (Q : Int32 → gW → Prop) (w : gW) : Prop :=
  ∃ k1 : Nat, wJ_X2_carrying_4 E Q k1 i0 0 0 w
theorem kJ_X2_carrying_r (C : gC p l s m args meth c cX2_carrying 3 (some .int) RX2 E [] "carrying") (i0 : Nat) {Q : Int32 → gW → Prop} (w : gW) (H : Heap) (locs : List Loc) (ls : Array Slot) (hS : gS E w0 w H locs) (hl : lv_has ls 3 [(0, .ref i0)]) (hw : wJ_X2_carrying E i0 Q w) : gGo p l e s m args below meth c H locs 3 64 E w0 w (gI Q) (gNoX) (F0 m 0 ls []) := by
  unfold wJ_X2_carrying at hw
  refine lv_iconst (v := 0) C.x C.b dX2_carrying_0 (by decide) ?_
  refine lv_istore_n (lv' := [(1, .int 0), (0, .ref i0)]) C.x C.b dX2_carrying_1 rfl hl (by decide) rfl (fun ls hl => ?_)
  refine lv_iconst (v := 0) C.x C.b dX2_carrying_2 (by decide) ?_
  refine lv_istore_n (lv' := [(2, .int 0), (1, .int 0), (0, .ref i0)]) C.x C.b dX2_carrying_3 rfl hl (by decide) rfl (fun ls hl => ?_)
  obtain ⟨k1, hw⟩ := hw
  exact kJ_X2_carrying_4 C k1 _ _ _ _ _ _ _ hS (lv_sub hl [2, 1, 0] rfl) hw
theorem ny_X2_carrying : gNm yX2_carrying 0 = true := by decide +kernel
theorem kJ_X2_carrying {l : Launch} (ht : l.stackTraces = false) {w : gW} {i0 : Nat} {Q : Int32 → gW → Prop} (hw : wJ_X2_carrying E i0 Q w) : gMet l yX2_carrying (ws_ yX2_carrying cX2_carrying 3 (some .int)) E w [.ref i0] 3 64 (gI Q) (gNoX) :=
  g_ofW ht (by decide) (Nat.le_of_ble_eq_true rfl) (fun p e s m below meth c ls H C hl hS => kJ_X2_carrying_r C _ _ _ _ _ hS hl hw)
def wJ_X2_isForest_43 (E : gE) (K14 : Nat → Nat → Int32 → Int32 → gW → Prop) (Q : Int32 → gW → Prop) (x0 : Nat) (x1 : Nat) (x2 : Int32) (x3 : Int32) (w : gW) : Prop :=
  K14 x0 x1 x2 (x3 + 1) w
theorem kJ_X2_isForest_43 (C : gC p l s m args meth c cX2_isForest 4 (some .boolean) RX2 E [] "isForest") {Q : Int32 → gW → Prop} {K14 : Nat → Nat → Int32 → Int32 → gW → Prop} (hK14 : ∀ (x0 : Nat) (x1 : Nat) (x2 : Int32) (x3 : Int32) (w : gW) (H : Heap) (locs : List Loc) (ls : Array Slot), gS E w0 w H locs → lv_has ls 4 [(0, .ref x0), (1, .ref x1), (2, .int x2), (3, .int x3)] → K14 x0 x1 x2 x3 w → gGo p l e s m args below meth c H locs 4 88 E w0 w (gI Q) (gNoX) (F0 m 14 ls [])) (x0 : Nat) (x1 : Nat) (x2 : Int32) (x3 : Int32) (w : gW) (H : Heap) (locs : List Loc) (ls : Array Slot) (hS : gS E w0 w H locs) (hl : lv_has ls 4 [(0, .ref x0), (1, .ref x1), (2, .int x2), (3, .int x3)]) (hw : wJ_X2_isForest_43 E K14 Q x0 x1 x2 x3 w) : gGo p l e s m args below meth c H locs 4 88 E w0 w (gI Q) (gNoX) (F0 m 43 ls []) := by
  unfold wJ_X2_isForest_43 at hw
  refine lv_iinc (v := (x3 + 1)) (lv' := [(3, .int (x3 + 1)), (0, .ref x0), (1, .ref x1), (2, .int x2)]) C.x C.b dX2_isForest_43 hl (k := 3) rfl rfl (by decide) rfl (fun ls hl => ?_)
  refine lv_goto (tgt := 14) C.x C.b dX2_isForest_46 (by decide) ?_
  exact hK14 _ _ _ _ _ _ _ _ hS (lv_sub hl [1, 2, 3, 0] rfl) hw
def wJ_X2_isForest_14 (E : gE) (Q : Int32 → gW → Prop) : Nat → Nat → Nat → Int32 → Int32 → gW → Prop
  | 0, _, _, _, _, _ => False
  | n + 1, x0, x1, x2, x3, w => aR E x0 1 0 (fun r8 => ∃ a9 : Nat, r8 = some a9 ∧ (aKind E a9 8 (wJ_J2_size E a9 (fun r11 w10 => (r11 ≤ x3 → (aKind E x0 1 (wJ_X2_carrying E x0 (fun r14 w13 => aR E x0 1 0 (fun r15 => ∃ a16 : Nat, r15 = some a16 ∧ (aKind E a16 8 (wJ_J2_size E a16 (fun r18 w17 => (r14 = (r18 - x2) → (Q 1 w17)) ∧ (¬ r14 = (r18 - x2) → (Q 0 w17))) w13) w13)) w13) w10) w10)) ∧ (¬ r11 ≤ x3 → (aL E 2 x1 x3 (fun v20 => (v20 = 0 → (aS E 2 x1 x3 1 (fun w22 => aKind E x0 1 (wJ_X2_spread E x0 x1 (fun w23 => wJ_X2_isForest_43 E (fun x0 x1 x2 x3 w => wJ_X2_isForest_14 E Q n x0 x1 x2 x3 w) Q x0 x1 (x2 + 1) x3 w23) w22) w22) w10)) ∧ (¬ v20 = 0 → (wJ_X2_isForest_43 E (fun x0 x1 x2 x3 w => wJ_X2_isForest_14 E Q n x0 x1 x2 x3 w) Q x0 x1 x2 x3 w10))) w10))) w) w)) w
theorem kJ_X2_isForest_14 (C : gC p l s m args meth c cX2_isForest 4 (some .boolean) RX2 E [] "isForest") {Q : Int32 → gW → Prop} : ∀ (n : Nat) (x0 : Nat) (x1 : Nat) (x2 : Int32) (x3 : Int32) (w : gW) (H : Heap) (locs : List Loc) (ls : Array Slot), gS E w0 w H locs → lv_has ls 4 [(0, .ref x0), (1, .ref x1), (2, .int x2), (3, .int x3)] → wJ_X2_isForest_14 E Q n x0 x1 x2 x3 w → gGo p l e s m args below meth c H locs 4 88 E w0 w (gI Q) (gNoX) (F0 m 14 ls []) := by
  intro n
  induction n with
  | zero =>
    intro x0 x1 x2 x3 w H locs ls hS hl hw
    exact hw.elim
  | succ n ih =>
    intro x0 x1 x2 x3 w H locs ls hS hl hw
    unfold wJ_X2_isForest_14 at hw
    refine lv_iload_n C.x C.b dX2_isForest_14 rfl (lv_at hl 3 rfl) ?_
    refine lv_aload_n C.x C.b dX2_isForest_15 rfl (lv_at hl 0 rfl) ?_
    refine a_R C hS in_X2 rfl (k := 0) (ci := 1) (by decide) q152 (fun _ h9 => h9) dX2_isForest_16 hw (fun r8 hw => ?_)
    obtain ⟨a9, e9, hw9⟩ := hw; subst e9; have hw := hw9; clear hw9
    have hl : lv_has ls 4 [(0, .ref x0), (1, .ref x1), (2, .int x2), (3, .int x3)] := hl
    refine W.eq (g2 := F0 m 19 ls [.ref a9, .int x3]) rfl ?_
    obtain ⟨fs, hq, hw⟩ := hw
    refine a_callV (rest := [.int x3]) C hS hl 8 hq rfl (kJ_J2_size C.tr hw) q384 q373 q374 q81 q375 ny_J2_size rfl (Nat.le_of_ble_eq_true rfl) (Nat.le_of_ble_eq_true rfl) rfl (Nat.le_of_ble_eq_true rfl) dX2_isForest_19 (fun X1 w1 H1 l1 q1 ce hx => hx.elim) (fun v w10 H locs hq _ hS => ?_)
    obtain ⟨r11, rfl, hw⟩ := hq
    refine W.eq (g2 := F0 m 22 ls [.int r11, .int x3]) rfl ?_
    refine lv_icmp_ge (tgt := 49) C.x C.b dX2_isForest_22 (by decide) (fun c12 => ?_) (fun c12 => ?_)
    · have hw := hw.1 c12
      refine lv_aload_n C.x C.b dX2_isForest_49 rfl (lv_at hl 0 rfl) ?_
      obtain ⟨fs, hq, hw⟩ := hw
      refine a_callV (rest := []) C hS hl 1 hq rfl (kJ_X2_carrying C.tr hw) q408 q410 qs4 q78 q411 ny_X2_carrying rfl (Nat.le_of_ble_eq_true rfl) (Nat.le_of_ble_eq_true rfl) rfl (Nat.le_of_ble_eq_true rfl) dX2_isForest_50 (fun X1 w1 H1 l1 q1 ce hx => hx.elim) (fun v w13 H locs hq _ hS => ?_)
      obtain ⟨r14, rfl, hw⟩ := hq
      refine W.eq (g2 := F0 m 53 ls [.int r14]) rfl ?_
      refine lv_aload_n C.x C.b dX2_isForest_53 rfl (lv_at hl 0 rfl) ?_
      refine a_R C hS in_X2 rfl (k := 0) (ci := 1) (by decide) q152 (fun _ h9 => h9) dX2_isForest_54 hw (fun r15 hw => ?_)
      obtain ⟨a16, e9, hw9⟩ := hw; subst e9; have hw := hw9; clear hw9
      have hl : lv_has ls 4 [(0, .ref x0), (1, .ref x1), (2, .int x2), (3, .int x3)] := hl
      refine W.eq (g2 := F0 m 57 ls [.ref a16, .int r14]) rfl ?_
      obtain ⟨fs, hq, hw⟩ := hw
      refine a_callV (rest := [.int r14]) C hS hl 8 hq rfl (kJ_J2_size C.tr hw) q384 q373 q374 q81 q375 ny_J2_size rfl (Nat.le_of_ble_eq_true rfl) (Nat.le_of_ble_eq_true rfl) rfl (Nat.le_of_ble_eq_true rfl) dX2_isForest_57 (fun X1 w1 H1 l1 q1 ce hx => hx.elim) (fun v w17 H locs hq _ hS => ?_)
      obtain ⟨r18, rfl, hw⟩ := hq
      refine W.eq (g2 := F0 m 60 ls [.int r18, .int r14]) rfl ?_
      refine lv_iload_n C.x C.b dX2_isForest_60 rfl (lv_at hl 2 rfl) ?_
      refine lv_isub C.x C.b dX2_isForest_61 ?_
      refine lv_icmp_ne (tgt := 69) C.x C.b dX2_isForest_62 (by decide) (fun c19 => ?_) (fun c19 => ?_)
      · have hw := hw.2 c19
        refine lv_iconst (v := 0) C.x C.b dX2_isForest_69 (by decide) ?_
        exact g_zret C hS rfl ⟨_, rfl, hw⟩ dX2_isForest_70
      · have hw := hw.1 c19
        refine lv_iconst (v := 1) C.x C.b dX2_isForest_65 (by decide) ?_
        refine lv_goto (tgt := 70) C.x C.b dX2_isForest_66 (by decide) ?_
        exact g_zret C hS rfl ⟨_, rfl, hw⟩ dX2_isForest_70
    · have hw := hw.2 c12
      refine lv_aload_n C.x C.b dX2_isForest_25 rfl (lv_at hl 1 rfl) ?_
      refine lv_iload_n C.x C.b dX2_isForest_26 rfl (lv_at hl 3 rfl) ?_
      refine a_Lz C hS dX2_isForest_27 hw (fun v20 hw => ?_)
      refine lv_if_ne (tgt := 43) C.x C.b dX2_isForest_28 (by decide) (fun c21 => ?_) (fun c21 => ?_)
      · have hw := hw.2 c21
        exact kJ_X2_isForest_43 C ih _ _ _ _ _ _ _ _ hS (lv_sub hl [0, 1, 2, 3] rfl) hw
      · have hw := hw.1 c21
        refine lv_iinc (v := (x2 + 1)) (lv' := [(2, .int (x2 + 1)), (0, .ref x0), (1, .ref x1), (3, .int x3)]) C.x C.b dX2_isForest_31 hl (k := 2) rfl rfl (by decide) rfl (fun ls hl => ?_)
        refine lv_aload_n C.x C.b dX2_isForest_34 rfl (lv_at hl 2 rfl) ?_
        refine lv_iload_n C.x C.b dX2_isForest_35 rfl (lv_at hl 3 rfl) ?_
        refine lv_iconst (v := 1) C.x C.b dX2_isForest_36 (by decide) ?_
        refine a_Sz C hS dX2_isForest_37 hw (fun w22 H locs hw hS => ?_)
        refine lv_aload_n C.x C.b dX2_isForest_38 rfl (lv_at hl 1 rfl) ?_
        refine lv_aload_n C.x C.b dX2_isForest_39 rfl (lv_at hl 2 rfl) ?_
        obtain ⟨fs, hq, hw⟩ := hw
        refine a_callV (rest := []) C hS hl 1 hq rfl (kJ_X2_spread C.tr hw) q385 q387 qs3 q78 q388 ny_X2_spread rfl (Nat.le_of_ble_eq_true rfl) (Nat.le_of_ble_eq_true rfl) rfl (Nat.le_of_ble_eq_true rfl) dX2_isForest_40 (fun X1 w1 H1 l1 q1 ce hx => hx.elim) (fun v w23 H locs hq _ hS => ?_)
        obtain ⟨rfl, hw⟩ := hq
        refine W.eq (g2 := F0 m 43 ls []) rfl ?_
        exact kJ_X2_isForest_43 C ih _ _ _ _ _ _ _ _ hS (lv_sub hl [1, 2, 0, 3] rfl) hw
def wJ_X2_isForest (E : gE) (i0 : Nat) (Q : Int32 → gW → Prop) (w : gW) : Prop :=
  aR E i0 1 0 (fun r1 => ∃ a2 : Nat, r1 = some a2 ∧ (aKind E a2 8 (wJ_J2_size E a2 (fun r4 w3 => aA E 2 r4 (fun q5 w6 => ∃ k7 : Nat, wJ_X2_isForest_14 E Q k7 i0 q5 0 0 w6) w3) w) w)) w
theorem kJ_X2_isForest_r (C : gC p l s m args meth c cX2_isForest 4 (some .boolean) RX2 E [] "isForest") (i0 : Nat) {Q : Int32 → gW → Prop} (w : gW) (H : Heap) (locs : List Loc) (ls : Array Slot) (hS : gS E w0 w H locs) (hl : lv_has ls 4 [(0, .ref i0)]) (hw : wJ_X2_isForest E i0 Q w) : gGo p l e s m args below meth c H locs 4 88 E w0 w (gI Q) (gNoX) (F0 m 0 ls []) := by
  unfold wJ_X2_isForest at hw
  refine lv_aload_n C.x C.b dX2_isForest_0 rfl (lv_at hl 0 rfl) ?_
  refine a_R C hS in_X2 rfl (k := 0) (ci := 1) (by decide) q152 (fun _ h9 => h9) dX2_isForest_1 hw (fun r1 hw => ?_)
  obtain ⟨a2, e9, hw9⟩ := hw; subst e9; have hw := hw9; clear hw9
  have hl : lv_has ls 4 [(0, .ref i0)] := hl
  refine W.eq (g2 := F0 m 4 ls [.ref a2]) rfl ?_
  obtain ⟨fs, hq, hw⟩ := hw
  refine a_callV (rest := []) C hS hl 8 hq rfl (kJ_J2_size C.tr hw) q384 q373 q374 q81 q375 ny_J2_size rfl (Nat.le_of_ble_eq_true rfl) (Nat.le_of_ble_eq_true rfl) rfl (Nat.le_of_ble_eq_true rfl) dX2_isForest_4 (fun X1 w1 H1 l1 q1 ce hx => hx.elim) (fun v w3 H locs hq _ hS => ?_)
  obtain ⟨r4, rfl, hw⟩ := hq
  refine W.eq (g2 := F0 m 7 ls [.int r4]) rfl ?_
  refine a_A (t := 2) (atype := .boolean) C hS rfl (by decide) q412 dX2_isForest_7 hw (fun q5 w6 H hw hS => ?_)
  refine lv_astore_n (lv' := [(1, .ref q5), (0, .ref i0)]) C.x C.b dX2_isForest_9 rfl hl (by decide) rfl (fun ls hl => ?_)
  refine lv_iconst (v := 0) C.x C.b dX2_isForest_10 (by decide) ?_
  refine lv_istore_n (lv' := [(2, .int 0), (1, .ref q5), (0, .ref i0)]) C.x C.b dX2_isForest_11 rfl hl (by decide) rfl (fun ls hl => ?_)
  refine lv_iconst (v := 0) C.x C.b dX2_isForest_12 (by decide) ?_
  refine lv_istore_n (lv' := [(3, .int 0), (2, .int 0), (1, .ref q5), (0, .ref i0)]) C.x C.b dX2_isForest_13 rfl hl (by decide) rfl (fun ls hl => ?_)
  obtain ⟨k7, hw⟩ := hw
  exact kJ_X2_isForest_14 C k7 _ _ _ _ _ _ _ _ hS (lv_sub hl [3, 2, 1, 0] rfl) hw
theorem ny_X2_isForest : gNm yX2_isForest 0 = true := by decide +kernel
theorem kJ_X2_isForest {l : Launch} (ht : l.stackTraces = false) {w : gW} {i0 : Nat} {Q : Int32 → gW → Prop} (hw : wJ_X2_isForest E i0 Q w) : gMet l yX2_isForest (ws_ yX2_isForest cX2_isForest 4 (some .boolean)) E w [.ref i0] 4 88 (gI Q) (gNoX) :=
  g_ofW ht (by decide) (Nat.le_of_ble_eq_true rfl) (fun p e s m below meth c ls H C hl hS => kJ_X2_isForest_r C _ _ _ _ _ hS hl hw)
def wJ_X2_isBridge (E : gE) (i0 : Nat) (i1 : Int32) (Q : Int32 → gW → Prop) (w : gW) : Prop :=
  aR E i0 1 0 (fun r1 => ∃ a2 : Nat, r1 = some a2 ∧ (aKind E a2 8 (wJ_J2_size E a2 (fun r4 w3 => wJ_X1_inRange E i1.toInt64 0 ((r4 - 1).toInt64) (fun r6 w5 => narrow .boolean (.int r6) = .int r6 ∧ Q r6 w5) w3) w) w)) w
theorem kJ_X2_isBridge_r (C : gC p l s m args meth c cX2_isBridge 2 (some .boolean) RX2 E [] "isBridge") (i0 : Nat) (i1 : Int32) {Q : Int32 → gW → Prop} (w : gW) (H : Heap) (locs : List Loc) (ls : Array Slot) (hS : gS E w0 w H locs) (hl : lv_has ls 2 [(0, .ref i0), (1, .int i1)]) (hw : wJ_X2_isBridge E i0 i1 Q w) : gGo p l e s m args below meth c H locs 1 25 E w0 w (gI Q) (gNoX) (F0 m 0 ls []) := by
  unfold wJ_X2_isBridge at hw
  refine lv_iload_n C.x C.b dX2_isBridge_0 rfl (lv_at hl 1 rfl) ?_
  refine lv_i2l C.x C.b dX2_isBridge_1 rfl ?_
  refine lv_lconst (v := 0) C.x C.b dX2_isBridge_2 (by decide) ?_
  refine lv_aload_n C.x C.b dX2_isBridge_3 rfl (lv_at hl 0 rfl) ?_
  refine a_R C hS in_X2 rfl (k := 0) (ci := 1) (by decide) q152 (fun _ h9 => h9) dX2_isBridge_4 hw (fun r1 hw => ?_)
  obtain ⟨a2, e9, hw9⟩ := hw; subst e9; have hw := hw9; clear hw9
  have hl : lv_has ls 2 [(0, .ref i0), (1, .int i1)] := hl
  refine W.eq (g2 := F0 m 7 ls [.ref a2, .long 0, .long i1.toInt64]) rfl ?_
  obtain ⟨fs, hq, hw⟩ := hw
  refine a_callV (rest := [.long 0, .long i1.toInt64]) C hS hl 8 hq rfl (kJ_J2_size C.tr hw) q384 q373 q374 q81 q375 ny_J2_size rfl (Nat.le_of_ble_eq_true rfl) (Nat.le_of_ble_eq_true rfl) rfl (Nat.le_of_ble_eq_true rfl) dX2_isBridge_7 (fun X1 w1 H1 l1 q1 ce hx => hx.elim) (fun v w3 H locs hq _ hS => ?_)
  obtain ⟨r4, rfl, hw⟩ := hq
  refine W.eq (g2 := F0 m 10 ls [.int r4, .long 0, .long i1.toInt64]) rfl ?_
  refine lv_iconst (v := 1) C.x C.b dX2_isBridge_10 (by decide) ?_
  refine lv_isub C.x C.b dX2_isBridge_11 ?_
  refine lv_i2l C.x C.b dX2_isBridge_12 rfl ?_
  refine g_callSN (rest := []) C hS hl (kJ_X1_inRange C.tr hw) q868 q459 q77 q460 ny_X1_inRange rfl (Nat.le_of_ble_eq_true rfl) (Nat.le_of_ble_eq_true rfl) rfl (Nat.le_of_ble_eq_true rfl) dX2_isBridge_13 (fun X1 w1 H1 l1 q1 ce hx => hx.elim) (fun v w5 H locs hq _ hS => ?_)
  obtain ⟨r6, rfl, hw⟩ := hq
  refine W.eq (g2 := F0 m 16 ls [.int r6]) rfl ?_
  exact g_zret C hS hw.1 ⟨_, rfl, hw.2⟩ dX2_isBridge_16
theorem ny_X2_isBridge : gNm yX2_isBridge 1 = true := by decide +kernel
theorem kJ_X2_isBridge {l : Launch} (ht : l.stackTraces = false) {w : gW} {i0 : Nat} {i1 : Int32} {Q : Int32 → gW → Prop} (hw : wJ_X2_isBridge E i0 i1 Q w) : gMet l yX2_isBridge (ws_ yX2_isBridge cX2_isBridge 2 (some .boolean)) E w [.ref i0, .int i1] 1 25 (gI Q) (gNoX) :=
  g_ofW ht (by decide) (Nat.le_of_ble_eq_true rfl) (fun p e s m below meth c ls H C hl hS => kJ_X2_isBridge_r C _ _ _ _ _ _ hS hl hw)
def wJ_X2_addLink_70 (E : gE) (Q : Int32 → gW → Prop) (X : String → gW → Prop) (x0 : Nat) (x1 : Int32) (x2 : Int32) (x3 : Int32) (y0 : Int32) (w : gW) : Prop :=
  aStr E "BridgeAuction$Network" 147 "links" (fun a20 => wJ_X1_requireState E y0 a20 (fun w21 => aR E x0 1 1 (fun r22 => aN E 5 11 [.int 0, .int 0, .int 0, .int 0, .int 0, .int 0, .int 0, .int 0, .null, .null, .null] (fun q23 w24 => wJ_X6_init E q23 x1 x2 x3 (fun w25 => ∃ a26 : Nat, r22 = some a26 ∧ (aKind E a26 8 (wJ_J2_add E a26 (some q23) (fun r28 w27 => aR E x0 1 1 (fun r29 => ∃ a30 : Nat, r29 = some a30 ∧ (aKind E a30 8 (wJ_J2_size E a30 (fun r32 w31 => Q (r32 - 1) w31) w27) w27)) w27) w25) w25)) w24) w21) w21) X w)
theorem kJ_X2_addLink_70 (C : gC p l s m args meth c cX2_addLink 5 (some .int) RX2 E [] "addLink") {Q : Int32 → gW → Prop} {X : String → gW → Prop} (x0 : Nat) (x1 : Int32) (x2 : Int32) (x3 : Int32) (y0 : Int32) (w : gW) (H : Heap) (locs : List Loc) (ls : Array Slot) (hS : gS E w0 w H locs) (hl : lv_has ls 5 [(0, .ref x0), (1, .int x1), (2, .int x2), (3, .int x3)]) (hw : wJ_X2_addLink_70 E Q X x0 x1 x2 x3 y0 w) : gGo p l e s m args below meth c H locs 9 191 E w0 w (gI Q) (X) (F0 m 70 ls [.int y0]) := by
  unfold wJ_X2_addLink_70 at hw
  refine a_str C dX2_addLink_70 hw (fun a20 hw => ?_)
  refine g_callSN (rest := []) C hS hl (kJ_X1_requireState C.tr hw) q896 q897 q77 q898 ny_X1_requireState rfl (Nat.le_of_ble_eq_true rfl) (Nat.le_of_ble_eq_true rfl) rfl (Nat.le_of_ble_eq_true rfl) dX2_addLink_72 (fun X1 w1 H1 l1 q1 ce hx _ hS1 hc hv hcl => g_out C hS1 (fun x h => by cases h) hc hv hcl hx) (fun v w21 H locs hq _ hS => ?_)
  obtain ⟨rfl, hw⟩ := hq
  refine W.eq (g2 := F0 m 75 ls []) rfl ?_
  refine lv_aload_n C.x C.b dX2_addLink_75 rfl (lv_at hl 0 rfl) ?_
  refine a_R C hS in_X2 rfl (k := 1) (ci := 1) (by decide) q154 (fun _ h9 => h9) dX2_addLink_76 hw (fun r22 hw => ?_)
  refine a_N (ci := 5) (fs := [.int 0, .int 0, .int 0, .int 0, .int 0, .int 0, .int 0, .int 0, .null, .null, .null]) C hS in_X6 tyX6 tyX6_ok rfl q403 q914 q95 (by decide) dX2_addLink_79 hw (fun q23 w24 H hw hS => ?_)
  refine lv_dup C.x C.b dX2_addLink_82 rfl ?_
  refine lv_iload_n C.x C.b dX2_addLink_83 rfl (lv_at hl 1 rfl) ?_
  refine lv_iload_n C.x C.b dX2_addLink_84 rfl (lv_at hl 2 rfl) ?_
  refine lv_iload_n C.x C.b dX2_addLink_85 rfl (lv_at hl 3 rfl) ?_
  refine g_callI (rest := [.ref q23, va_rf r22]) C hS hl (kJ_X6_init C.tr hw) rfl q915 q916 q95 q917 ny_X6_init rfl (Nat.le_of_ble_eq_true rfl) (Nat.le_of_ble_eq_true rfl) rfl (by cases r22 <;> exact (Nat.le_of_ble_eq_true rfl)) dX2_addLink_86 (fun X1 w1 H1 l1 q1 ce hx => hx.elim) (fun v w25 H locs hq _ hS => ?_)
  obtain ⟨rfl, hw⟩ := hq
  refine W.eq (g2 := F0 m 89 ls [.ref q23, va_rf r22]) rfl ?_
  obtain ⟨a26, e9, hw9⟩ := hw; subst e9; have hw := hw9; clear hw9
  have hl : lv_has ls 5 [(0, .ref x0), (1, .int x1), (2, .int x2), (3, .int x3)] := hl
  refine W.eq (g2 := F0 m 89 ls [.ref q23, .ref a26]) rfl ?_
  obtain ⟨fs, hq, hw⟩ := hw
  refine a_callV (rest := []) C hS hl 8 hq rfl (kJ_J2_add C.tr hw) q279 q280 q281 q81 q282 ny_J2_add rfl (Nat.le_of_ble_eq_true rfl) (Nat.le_of_ble_eq_true rfl) rfl (Nat.le_of_ble_eq_true rfl) dX2_addLink_89 (fun X1 w1 H1 l1 q1 ce hx => hx.elim) (fun v w27 H locs hq _ hS => ?_)
  obtain ⟨r28, rfl, hw⟩ := hq
  refine W.eq (g2 := F0 m 92 ls [.int r28]) rfl ?_
  refine lv_istore (lv' := [(4, .int r28), (0, .ref x0), (1, .int x1), (2, .int x2), (3, .int x3)]) C.x C.b dX2_addLink_92 hl (by decide) rfl (fun ls hl => ?_)
  refine lv_aload_n C.x C.b dX2_addLink_94 rfl (lv_at hl 1 rfl) ?_
  refine a_R C hS in_X2 rfl (k := 1) (ci := 1) (by decide) q154 (fun _ h9 => h9) dX2_addLink_95 hw (fun r29 hw => ?_)
  obtain ⟨a30, e9, hw9⟩ := hw; subst e9; have hw := hw9; clear hw9
  have hl : lv_has ls 5 [(4, .int r28), (0, .ref x0), (1, .int x1), (2, .int x2), (3, .int x3)] := hl
  refine W.eq (g2 := F0 m 98 ls [.ref a30]) rfl ?_
  obtain ⟨fs, hq, hw⟩ := hw
  refine a_callV (rest := []) C hS hl 8 hq rfl (kJ_J2_size C.tr hw) q384 q373 q374 q81 q375 ny_J2_size rfl (Nat.le_of_ble_eq_true rfl) (Nat.le_of_ble_eq_true rfl) rfl (Nat.le_of_ble_eq_true rfl) dX2_addLink_98 (fun X1 w1 H1 l1 q1 ce hx => hx.elim) (fun v w31 H locs hq _ hS => ?_)
  obtain ⟨r32, rfl, hw⟩ := hq
  refine W.eq (g2 := F0 m 101 ls [.int r32]) rfl ?_
  refine lv_iconst (v := 1) C.x C.b dX2_addLink_101 (by decide) ?_
  refine lv_isub C.x C.b dX2_addLink_102 ?_
  exact g_iret C hS ⟨_, rfl, hw⟩ dX2_addLink_103
def wJ_X2_addLink_48 (E : gE) (Q : Int32 → gW → Prop) (X : String → gW → Prop) (x0 : Nat) (x1 : Int32) (x2 : Int32) (x3 : Int32) (y0 : Int32) (w : gW) : Prop :=
  aStr E "BridgeAuction$Network" 118 "link" (fun a13 => wJ_X1_requireArgument E y0 a13 (fun w14 => aR E x0 1 1 (fun r15 => ∃ a16 : Nat, r15 = some a16 ∧ (aKind E a16 8 (wJ_J2_size E a16 (fun r18 w17 => (16 ≤ r18 → (wJ_X2_addLink_70 E Q X x0 x1 x2 x3 0 w17)) ∧ (¬ 16 ≤ r18 → (wJ_X2_addLink_70 E Q X x0 x1 x2 x3 1 w17))) w14) w14)) w14) X w)
theorem kJ_X2_addLink_48 (C : gC p l s m args meth c cX2_addLink 5 (some .int) RX2 E [] "addLink") {Q : Int32 → gW → Prop} {X : String → gW → Prop} (x0 : Nat) (x1 : Int32) (x2 : Int32) (x3 : Int32) (y0 : Int32) (w : gW) (H : Heap) (locs : List Loc) (ls : Array Slot) (hS : gS E w0 w H locs) (hl : lv_has ls 5 [(0, .ref x0), (1, .int x1), (2, .int x2), (3, .int x3)]) (hw : wJ_X2_addLink_48 E Q X x0 x1 x2 x3 y0 w) : gGo p l e s m args below meth c H locs 9 191 E w0 w (gI Q) (X) (F0 m 48 ls [.int y0]) := by
  unfold wJ_X2_addLink_48 at hw
  refine a_str C dX2_addLink_48 hw (fun a13 hw => ?_)
  refine g_callSN (rest := []) C hS hl (kJ_X1_requireArgument C.tr hw) q890 q891 q77 q892 ny_X1_requireArgument rfl (Nat.le_of_ble_eq_true rfl) (Nat.le_of_ble_eq_true rfl) rfl (Nat.le_of_ble_eq_true rfl) dX2_addLink_50 (fun X1 w1 H1 l1 q1 ce hx _ hS1 hc hv hcl => g_out C hS1 (fun x h => by cases h) hc hv hcl hx) (fun v w14 H locs hq _ hS => ?_)
  obtain ⟨rfl, hw⟩ := hq
  refine W.eq (g2 := F0 m 53 ls []) rfl ?_
  refine lv_aload_n C.x C.b dX2_addLink_53 rfl (lv_at hl 0 rfl) ?_
  refine a_R C hS in_X2 rfl (k := 1) (ci := 1) (by decide) q154 (fun _ h9 => h9) dX2_addLink_54 hw (fun r15 hw => ?_)
  obtain ⟨a16, e9, hw9⟩ := hw; subst e9; have hw := hw9; clear hw9
  have hl : lv_has ls 5 [(0, .ref x0), (1, .int x1), (2, .int x2), (3, .int x3)] := hl
  refine W.eq (g2 := F0 m 57 ls [.ref a16]) rfl ?_
  obtain ⟨fs, hq, hw⟩ := hw
  refine a_callV (rest := []) C hS hl 8 hq rfl (kJ_J2_size C.tr hw) q384 q373 q374 q81 q375 ny_J2_size rfl (Nat.le_of_ble_eq_true rfl) (Nat.le_of_ble_eq_true rfl) rfl (Nat.le_of_ble_eq_true rfl) dX2_addLink_57 (fun X1 w1 H1 l1 q1 ce hx => hx.elim) (fun v w17 H locs hq _ hS => ?_)
  obtain ⟨r18, rfl, hw⟩ := hq
  refine W.eq (g2 := F0 m 60 ls [.int r18]) rfl ?_
  refine lv_bipush (v := 16) C.x C.b dX2_addLink_60 (by decide) ?_
  refine lv_icmp_ge (tgt := 69) C.x C.b dX2_addLink_62 (by decide) (fun c19 => ?_) (fun c19 => ?_)
  · have hw := hw.1 c19
    refine lv_iconst (v := 0) C.x C.b dX2_addLink_69 (by decide) ?_
    exact kJ_X2_addLink_70 C _ _ _ _ _ _ _ _ _ hS (lv_sub hl [0, 1, 2, 3] rfl) hw
  · have hw := hw.2 c19
    refine lv_iconst (v := 1) C.x C.b dX2_addLink_65 (by decide) ?_
    refine lv_goto (tgt := 70) C.x C.b dX2_addLink_66 (by decide) ?_
    exact kJ_X2_addLink_70 C _ _ _ _ _ _ _ _ _ hS (lv_sub hl [0, 1, 2, 3] rfl) hw
def wJ_X2_addLink_47 (E : gE) (Q : Int32 → gW → Prop) (X : String → gW → Prop) (x0 : Nat) (x1 : Int32) (x2 : Int32) (x3 : Int32) (w : gW) : Prop :=
  wJ_X2_addLink_48 E Q X x0 x1 x2 x3 0 w
theorem kJ_X2_addLink_47 (C : gC p l s m args meth c cX2_addLink 5 (some .int) RX2 E [] "addLink") {Q : Int32 → gW → Prop} {X : String → gW → Prop} (x0 : Nat) (x1 : Int32) (x2 : Int32) (x3 : Int32) (w : gW) (H : Heap) (locs : List Loc) (ls : Array Slot) (hS : gS E w0 w H locs) (hl : lv_has ls 5 [(0, .ref x0), (1, .int x1), (2, .int x2), (3, .int x3)]) (hw : wJ_X2_addLink_47 E Q X x0 x1 x2 x3 w) : gGo p l e s m args below meth c H locs 9 191 E w0 w (gI Q) (X) (F0 m 47 ls []) := by
  unfold wJ_X2_addLink_47 at hw
  refine lv_iconst (v := 0) C.x C.b dX2_addLink_47 (by decide) ?_
  exact kJ_X2_addLink_48 C _ _ _ _ _ _ _ _ _ hS (lv_sub hl [0, 1, 2, 3] rfl) hw
def wJ_X2_addLink_21 (E : gE) (Q : Int32 → gW → Prop) (X : String → gW → Prop) (x0 : Nat) (x1 : Int32) (x2 : Int32) (x3 : Int32) (y0 : Int32) (w : gW) : Prop :=
  aStr E "BridgeAuction$Network" 109 "bridge" (fun a7 => wJ_X1_requireIndex E y0 a7 (fun w8 => (x1 = x2 → (wJ_X2_addLink_47 E Q X x0 x1 x2 x3 w8)) ∧ (¬ x1 = x2 → (wJ_X1_inRange E x3.toInt64 1 100 (fun r11 w10 => (r11 = 0 → (wJ_X2_addLink_47 E Q X x0 x1 x2 x3 w10)) ∧ (¬ r11 = 0 → (wJ_X2_addLink_48 E Q X x0 x1 x2 x3 1 w10))) w8))) X w)
theorem kJ_X2_addLink_21 (C : gC p l s m args meth c cX2_addLink 5 (some .int) RX2 E [] "addLink") {Q : Int32 → gW → Prop} {X : String → gW → Prop} (x0 : Nat) (x1 : Int32) (x2 : Int32) (x3 : Int32) (y0 : Int32) (w : gW) (H : Heap) (locs : List Loc) (ls : Array Slot) (hS : gS E w0 w H locs) (hl : lv_has ls 5 [(0, .ref x0), (1, .int x1), (2, .int x2), (3, .int x3)]) (hw : wJ_X2_addLink_21 E Q X x0 x1 x2 x3 y0 w) : gGo p l e s m args below meth c H locs 9 191 E w0 w (gI Q) (X) (F0 m 21 ls [.int y0]) := by
  unfold wJ_X2_addLink_21 at hw
  refine a_str C dX2_addLink_21 hw (fun a7 hw => ?_)
  refine g_callSN (rest := []) C hS hl (kJ_X1_requireIndex C.tr hw) q870 q871 q77 q872 ny_X1_requireIndex rfl (Nat.le_of_ble_eq_true rfl) (Nat.le_of_ble_eq_true rfl) rfl (Nat.le_of_ble_eq_true rfl) dX2_addLink_23 (fun X1 w1 H1 l1 q1 ce hx _ hS1 hc hv hcl => g_out C hS1 (fun x h => by cases h) hc hv hcl hx) (fun v w8 H locs hq _ hS => ?_)
  obtain ⟨rfl, hw⟩ := hq
  refine W.eq (g2 := F0 m 26 ls []) rfl ?_
  refine lv_iload_n C.x C.b dX2_addLink_26 rfl (lv_at hl 1 rfl) ?_
  refine lv_iload_n C.x C.b dX2_addLink_27 rfl (lv_at hl 2 rfl) ?_
  refine lv_icmp_eq (tgt := 47) C.x C.b dX2_addLink_28 (by decide) (fun c9 => ?_) (fun c9 => ?_)
  · have hw := hw.1 c9
    exact kJ_X2_addLink_47 C _ _ _ _ _ _ _ _ hS (lv_sub hl [0, 1, 2, 3] rfl) hw
  · have hw := hw.2 c9
    refine lv_iload_n C.x C.b dX2_addLink_31 rfl (lv_at hl 3 rfl) ?_
    refine lv_i2l C.x C.b dX2_addLink_32 rfl ?_
    refine lv_lconst (v := 1) C.x C.b dX2_addLink_33 (by decide) ?_
    refine lv_ldc2 C.x C.b C.ow (C.ts _ q888) dX2_addLink_34 ?_
    refine g_callSN (rest := []) C hS hl (kJ_X1_inRange C.tr hw) q868 q459 q77 q460 ny_X1_inRange rfl (Nat.le_of_ble_eq_true rfl) (Nat.le_of_ble_eq_true rfl) rfl (Nat.le_of_ble_eq_true rfl) dX2_addLink_37 (fun X1 w1 H1 l1 q1 ce hx => hx.elim) (fun v w10 H locs hq _ hS => ?_)
    obtain ⟨r11, rfl, hw⟩ := hq
    refine W.eq (g2 := F0 m 40 ls [.int r11]) rfl ?_
    refine lv_if_eq (tgt := 47) C.x C.b dX2_addLink_40 (by decide) (fun c12 => ?_) (fun c12 => ?_)
    · have hw := hw.1 c12
      exact kJ_X2_addLink_47 C _ _ _ _ _ _ _ _ hS (lv_sub hl [0, 1, 2, 3] rfl) hw
    · have hw := hw.2 c12
      refine lv_iconst (v := 1) C.x C.b dX2_addLink_43 (by decide) ?_
      refine lv_goto (tgt := 48) C.x C.b dX2_addLink_44 (by decide) ?_
      exact kJ_X2_addLink_48 C _ _ _ _ _ _ _ _ _ hS (lv_sub hl [0, 1, 2, 3] rfl) hw
def wJ_X2_addLink_20 (E : gE) (Q : Int32 → gW → Prop) (X : String → gW → Prop) (x0 : Nat) (x1 : Int32) (x2 : Int32) (x3 : Int32) (w : gW) : Prop :=
  wJ_X2_addLink_21 E Q X x0 x1 x2 x3 0 w
theorem kJ_X2_addLink_20 (C : gC p l s m args meth c cX2_addLink 5 (some .int) RX2 E [] "addLink") {Q : Int32 → gW → Prop} {X : String → gW → Prop} (x0 : Nat) (x1 : Int32) (x2 : Int32) (x3 : Int32) (w : gW) (H : Heap) (locs : List Loc) (ls : Array Slot) (hS : gS E w0 w H locs) (hl : lv_has ls 5 [(0, .ref x0), (1, .int x1), (2, .int x2), (3, .int x3)]) (hw : wJ_X2_addLink_20 E Q X x0 x1 x2 x3 w) : gGo p l e s m args below meth c H locs 9 191 E w0 w (gI Q) (X) (F0 m 20 ls []) := by
  unfold wJ_X2_addLink_20 at hw
  refine lv_iconst (v := 0) C.x C.b dX2_addLink_20 (by decide) ?_
  exact kJ_X2_addLink_21 C _ _ _ _ _ _ _ _ _ hS (lv_sub hl [0, 1, 2, 3] rfl) hw
def wJ_X2_addLink (E : gE) (i0 : Nat) (i1 : Int32) (i2 : Int32) (i3 : Int32) (Q : Int32 → gW → Prop) (X : String → gW → Prop) (w : gW) : Prop :=
  aKind E i0 1 (wJ_X2_isBridge E i0 i1 (fun r2 w1 => (r2 = 0 → (wJ_X2_addLink_20 E Q X i0 i1 i2 i3 w1)) ∧ (¬ r2 = 0 → (aKind E i0 1 (wJ_X2_isBridge E i0 i2 (fun r5 w4 => (r5 = 0 → (wJ_X2_addLink_20 E Q X i0 i1 i2 i3 w4)) ∧ (¬ r5 = 0 → (wJ_X2_addLink_21 E Q X i0 i1 i2 i3 1 w4))) w1) w1))) w) w
theorem kJ_X2_addLink_r (C : gC p l s m args meth c cX2_addLink 5 (some .int) RX2 E [] "addLink") (i0 : Nat) (i1 : Int32) (i2 : Int32) (i3 : Int32) {Q : Int32 → gW → Prop} {X : String → gW → Prop} (w : gW) (H : Heap) (locs : List Loc) (ls : Array Slot) (hS : gS E w0 w H locs) (hl : lv_has ls 5 [(0, .ref i0), (1, .int i1), (2, .int i2), (3, .int i3)]) (hw : wJ_X2_addLink E i0 i1 i2 i3 Q X w) : gGo p l e s m args below meth c H locs 9 191 E w0 w (gI Q) (X) (F0 m 0 ls []) := by
  unfold wJ_X2_addLink at hw
  refine lv_aload_n C.x C.b dX2_addLink_0 rfl (lv_at hl 0 rfl) ?_
  refine lv_iload_n C.x C.b dX2_addLink_1 rfl (lv_at hl 1 rfl) ?_
  obtain ⟨fs, hq, hw⟩ := hw
  refine a_callV (rest := []) C hS hl 1 hq rfl (kJ_X2_isBridge C.tr hw) q864 q865 q866 q78 q867 ny_X2_isBridge rfl (Nat.le_of_ble_eq_true rfl) (Nat.le_of_ble_eq_true rfl) rfl (Nat.le_of_ble_eq_true rfl) dX2_addLink_2 (fun X1 w1 H1 l1 q1 ce hx => hx.elim) (fun v w1 H locs hq _ hS => ?_)
  obtain ⟨r2, rfl, hw⟩ := hq
  refine W.eq (g2 := F0 m 5 ls [.int r2]) rfl ?_
  refine lv_if_eq (tgt := 20) C.x C.b dX2_addLink_5 (by decide) (fun c3 => ?_) (fun c3 => ?_)
  · have hw := hw.1 c3
    exact kJ_X2_addLink_20 C _ _ _ _ _ _ _ _ hS (lv_sub hl [0, 1, 2, 3] rfl) hw
  · have hw := hw.2 c3
    refine lv_aload_n C.x C.b dX2_addLink_8 rfl (lv_at hl 0 rfl) ?_
    refine lv_iload_n C.x C.b dX2_addLink_9 rfl (lv_at hl 2 rfl) ?_
    obtain ⟨fs, hq, hw⟩ := hw
    refine a_callV (rest := []) C hS hl 1 hq rfl (kJ_X2_isBridge C.tr hw) q864 q865 q866 q78 q867 ny_X2_isBridge rfl (Nat.le_of_ble_eq_true rfl) (Nat.le_of_ble_eq_true rfl) rfl (Nat.le_of_ble_eq_true rfl) dX2_addLink_10 (fun X1 w1 H1 l1 q1 ce hx => hx.elim) (fun v w4 H locs hq _ hS => ?_)
    obtain ⟨r5, rfl, hw⟩ := hq
    refine W.eq (g2 := F0 m 13 ls [.int r5]) rfl ?_
    refine lv_if_eq (tgt := 20) C.x C.b dX2_addLink_13 (by decide) (fun c6 => ?_) (fun c6 => ?_)
    · have hw := hw.1 c6
      exact kJ_X2_addLink_20 C _ _ _ _ _ _ _ _ hS (lv_sub hl [0, 1, 2, 3] rfl) hw
    · have hw := hw.2 c6
      refine lv_iconst (v := 1) C.x C.b dX2_addLink_16 (by decide) ?_
      refine lv_goto (tgt := 21) C.x C.b dX2_addLink_17 (by decide) ?_
      exact kJ_X2_addLink_21 C _ _ _ _ _ _ _ _ _ hS (lv_sub hl [0, 1, 2, 3] rfl) hw
theorem ny_X2_addLink : gNm yX2_addLink 3 = true := by decide +kernel
theorem kJ_X2_addLink {l : Launch} (ht : l.stackTraces = false) {w : gW} {i0 : Nat} {i1 : Int32} {i2 : Int32} {i3 : Int32} {Q : Int32 → gW → Prop} {X : String → gW → Prop} (hw : wJ_X2_addLink E i0 i1 i2 i3 Q X w) : gMet l yX2_addLink (ws_ yX2_addLink cX2_addLink 5 (some .int)) E w [.ref i0, .int i1, .int i2, .int i3] 9 191 (gI Q) (X) :=
  g_ofW ht (by decide) (Nat.le_of_ble_eq_true rfl) (fun p e s m below meth c ls H C hl hS => kJ_X2_addLink_r C _ _ _ _ _ _ _ _ hS hl hw)
def wJ_X2_isLink (E : gE) (i0 : Nat) (i1 : Int32) (Q : Int32 → gW → Prop) (w : gW) : Prop :=
  aR E i0 1 1 (fun r1 => ∃ a2 : Nat, r1 = some a2 ∧ (aKind E a2 8 (wJ_J2_size E a2 (fun r4 w3 => wJ_X1_inRange E i1.toInt64 0 ((r4 - 1).toInt64) (fun r6 w5 => narrow .boolean (.int r6) = .int r6 ∧ Q r6 w5) w3) w) w)) w
theorem kJ_X2_isLink_r (C : gC p l s m args meth c cX2_isLink 2 (some .boolean) RX2 E [] "isLink") (i0 : Nat) (i1 : Int32) {Q : Int32 → gW → Prop} (w : gW) (H : Heap) (locs : List Loc) (ls : Array Slot) (hS : gS E w0 w H locs) (hl : lv_has ls 2 [(0, .ref i0), (1, .int i1)]) (hw : wJ_X2_isLink E i0 i1 Q w) : gGo p l e s m args below meth c H locs 1 25 E w0 w (gI Q) (gNoX) (F0 m 0 ls []) := by
  unfold wJ_X2_isLink at hw
  refine lv_iload_n C.x C.b dX2_isLink_0 rfl (lv_at hl 1 rfl) ?_
  refine lv_i2l C.x C.b dX2_isLink_1 rfl ?_
  refine lv_lconst (v := 0) C.x C.b dX2_isLink_2 (by decide) ?_
  refine lv_aload_n C.x C.b dX2_isLink_3 rfl (lv_at hl 0 rfl) ?_
  refine a_R C hS in_X2 rfl (k := 1) (ci := 1) (by decide) q154 (fun _ h9 => h9) dX2_isLink_4 hw (fun r1 hw => ?_)
  obtain ⟨a2, e9, hw9⟩ := hw; subst e9; have hw := hw9; clear hw9
  have hl : lv_has ls 2 [(0, .ref i0), (1, .int i1)] := hl
  refine W.eq (g2 := F0 m 7 ls [.ref a2, .long 0, .long i1.toInt64]) rfl ?_
  obtain ⟨fs, hq, hw⟩ := hw
  refine a_callV (rest := [.long 0, .long i1.toInt64]) C hS hl 8 hq rfl (kJ_J2_size C.tr hw) q384 q373 q374 q81 q375 ny_J2_size rfl (Nat.le_of_ble_eq_true rfl) (Nat.le_of_ble_eq_true rfl) rfl (Nat.le_of_ble_eq_true rfl) dX2_isLink_7 (fun X1 w1 H1 l1 q1 ce hx => hx.elim) (fun v w3 H locs hq _ hS => ?_)
  obtain ⟨r4, rfl, hw⟩ := hq
  refine W.eq (g2 := F0 m 10 ls [.int r4, .long 0, .long i1.toInt64]) rfl ?_
  refine lv_iconst (v := 1) C.x C.b dX2_isLink_10 (by decide) ?_
  refine lv_isub C.x C.b dX2_isLink_11 ?_
  refine lv_i2l C.x C.b dX2_isLink_12 rfl ?_
  refine g_callSN (rest := []) C hS hl (kJ_X1_inRange C.tr hw) q868 q459 q77 q460 ny_X1_inRange rfl (Nat.le_of_ble_eq_true rfl) (Nat.le_of_ble_eq_true rfl) rfl (Nat.le_of_ble_eq_true rfl) dX2_isLink_13 (fun X1 w1 H1 l1 q1 ce hx => hx.elim) (fun v w5 H locs hq _ hS => ?_)
  obtain ⟨r6, rfl, hw⟩ := hq
  refine W.eq (g2 := F0 m 16 ls [.int r6]) rfl ?_
  exact g_zret C hS hw.1 ⟨_, rfl, hw.2⟩ dX2_isLink_16
theorem ny_X2_isLink : gNm yX2_isLink 1 = true := by decide +kernel
theorem kJ_X2_isLink {l : Launch} (ht : l.stackTraces = false) {w : gW} {i0 : Nat} {i1 : Int32} {Q : Int32 → gW → Prop} (hw : wJ_X2_isLink E i0 i1 Q w) : gMet l yX2_isLink (ws_ yX2_isLink cX2_isLink 2 (some .boolean)) E w [.ref i0, .int i1] 1 25 (gI Q) (gNoX) :=
  g_ofW ht (by decide) (Nat.le_of_ble_eq_true rfl) (fun p e s m below meth c ls H C hl hS => kJ_X2_isLink_r C _ _ _ _ _ _ hS hl hw)
def wJ_X2_bid_25 (E : gE) (Q : Int32 → gW → Prop) (X : String → gW → Prop) (x0 : Nat) (x1 : Int32) (x2 : Int32) (x3 : Int32) (y0 : Int32) (w : gW) : Prop :=
  aStr E "BridgeAuction$Network" 177 "tenant or link" (fun a7 => wJ_X1_requireIndex E y0 a7 (fun w8 => wJ_X1_inRange E x3.toInt64 0 1000 (fun r10 w9 => aStr E "BridgeAuction$Network" 181 "credits" (fun a11 => wJ_X1_requireArgument E r10 a11 (fun w12 => aR E x0 1 1 (fun r13 => ∃ a14 : Nat, r13 = some a14 ∧ (aKind E a14 8 (wJ_J2_get E a14 x2 (fun r16 w15 => ∃ a17 : Nat, r16 = some a17 ∧ (aKind E a17 5 (aR E a17 5 8 (fun r18 => ∃ a19 : Nat, r18 = some a19 ∧ (aL E 0 a19 x1 (fun v20 => aR E x0 1 1 (fun r21 => ∃ a22 : Nat, r21 = some a22 ∧ (aKind E a22 8 (wJ_J2_get E a22 x2 (fun r24 w23 => ∃ a25 : Nat, r24 = some a25 ∧ (aKind E a25 5 (aR E a25 5 8 (fun r26 => ∃ a27 : Nat, r26 = some a27 ∧ (aS E 0 a27 x1 x3 (fun w28 => Q v20 w28) w23)) w23) w23)) w15) w15)) w15) w15)) w15) w15)) w12) w12)) w12) X w9)) w8) X w)
theorem kJ_X2_bid_25 (C : gC p l s m args meth c cX2_bid 5 (some .int) RX2 E [] "bid") {Q : Int32 → gW → Prop} {X : String → gW → Prop} (x0 : Nat) (x1 : Int32) (x2 : Int32) (x3 : Int32) (y0 : Int32) (w : gW) (H : Heap) (locs : List Loc) (ls : Array Slot) (hS : gS E w0 w H locs) (hl : lv_has ls 5 [(0, .ref x0), (1, .int x1), (2, .int x2), (3, .int x3)]) (hw : wJ_X2_bid_25 E Q X x0 x1 x2 x3 y0 w) : gGo p l e s m args below meth c H locs 9 141 E w0 w (gI Q) (X) (F0 m 25 ls [.int y0]) := by
  unfold wJ_X2_bid_25 at hw
  refine a_str C dX2_bid_25 hw (fun a7 hw => ?_)
  refine g_callSN (rest := []) C hS hl (kJ_X1_requireIndex C.tr hw) q870 q871 q77 q872 ny_X1_requireIndex rfl (Nat.le_of_ble_eq_true rfl) (Nat.le_of_ble_eq_true rfl) rfl (Nat.le_of_ble_eq_true rfl) dX2_bid_27 (fun X1 w1 H1 l1 q1 ce hx _ hS1 hc hv hcl => g_out C hS1 (fun x h => by cases h) hc hv hcl hx) (fun v w8 H locs hq _ hS => ?_)
  obtain ⟨rfl, hw⟩ := hq
  refine W.eq (g2 := F0 m 30 ls []) rfl ?_
  refine lv_iload_n C.x C.b dX2_bid_30 rfl (lv_at hl 3 rfl) ?_
  refine lv_i2l C.x C.b dX2_bid_31 rfl ?_
  refine lv_lconst (v := 0) C.x C.b dX2_bid_32 (by decide) ?_
  refine lv_ldc2 C.x C.b C.ow (C.ts _ q996) dX2_bid_33 ?_
  refine g_callSN (rest := []) C hS hl (kJ_X1_inRange C.tr hw) q868 q459 q77 q460 ny_X1_inRange rfl (Nat.le_of_ble_eq_true rfl) (Nat.le_of_ble_eq_true rfl) rfl (Nat.le_of_ble_eq_true rfl) dX2_bid_36 (fun X1 w1 H1 l1 q1 ce hx => hx.elim) (fun v w9 H locs hq _ hS => ?_)
  obtain ⟨r10, rfl, hw⟩ := hq
  refine W.eq (g2 := F0 m 39 ls [.int r10]) rfl ?_
  refine a_str C dX2_bid_39 hw (fun a11 hw => ?_)
  refine g_callSN (rest := []) C hS hl (kJ_X1_requireArgument C.tr hw) q890 q891 q77 q892 ny_X1_requireArgument rfl (Nat.le_of_ble_eq_true rfl) (Nat.le_of_ble_eq_true rfl) rfl (Nat.le_of_ble_eq_true rfl) dX2_bid_41 (fun X1 w1 H1 l1 q1 ce hx _ hS1 hc hv hcl => g_out C hS1 (fun x h => by cases h) hc hv hcl hx) (fun v w12 H locs hq _ hS => ?_)
  obtain ⟨rfl, hw⟩ := hq
  refine W.eq (g2 := F0 m 44 ls []) rfl ?_
  refine lv_aload_n C.x C.b dX2_bid_44 rfl (lv_at hl 0 rfl) ?_
  refine a_R C hS in_X2 rfl (k := 1) (ci := 1) (by decide) q154 (fun _ h9 => h9) dX2_bid_45 hw (fun r13 hw => ?_)
  refine lv_iload_n C.x C.b dX2_bid_48 rfl (lv_at hl 2 rfl) ?_
  obtain ⟨a14, e9, hw9⟩ := hw; subst e9; have hw := hw9; clear hw9
  have hl : lv_has ls 5 [(0, .ref x0), (1, .int x1), (2, .int x2), (3, .int x3)] := hl
  refine W.eq (g2 := F0 m 49 ls [.int x2, .ref a14]) rfl ?_
  obtain ⟨fs, hq, hw⟩ := hw
  refine a_callV (rest := []) C hS hl 8 hq rfl (kJ_J2_get C.tr hw) q389 q390 q391 q81 q392 ny_J2_get rfl (Nat.le_of_ble_eq_true rfl) (Nat.le_of_ble_eq_true rfl) rfl (Nat.le_of_ble_eq_true rfl) dX2_bid_49 (fun X1 w1 H1 l1 q1 ce hx => hx.elim) (fun v w15 H locs hq _ hS => ?_)
  obtain ⟨r16, rfl, hw⟩ := hq
  refine W.eq (g2 := F0 m 52 ls [va_rf r16]) rfl ?_
  obtain ⟨a17, e9, hw9⟩ := hw; subst e9; have hw := hw9; clear hw9
  have hl : lv_has ls 5 [(0, .ref x0), (1, .int x1), (2, .int x2), (3, .int x3)] := hl
  refine W.eq (g2 := F0 m 52 ls [.ref a17]) rfl ?_
  refine a_cast (ci := 5) C hS rfl q403 dX2_bid_52 hw (fun hw => ?_)
  refine a_RN C hS in_X6 rfl (k := 8) (ci := 5) (by decide) q953 (fun _ h9 => h9) dX2_bid_55 hw (fun r18 hw => ?_)
  refine lv_iload_n C.x C.b dX2_bid_58 rfl (lv_at hl 1 rfl) ?_
  obtain ⟨a19, e9, hw9⟩ := hw; subst e9; have hw := hw9; clear hw9
  have hl : lv_has ls 5 [(0, .ref x0), (1, .int x1), (2, .int x2), (3, .int x3)] := hl
  refine W.eq (g2 := F0 m 59 ls [.int x1, .ref a19]) rfl ?_
  refine a_Li C hS dX2_bid_59 hw (fun v20 hw => ?_)
  refine lv_istore (lv' := [(4, .int v20), (0, .ref x0), (1, .int x1), (2, .int x2), (3, .int x3)]) C.x C.b dX2_bid_60 hl (by decide) rfl (fun ls hl => ?_)
  refine lv_aload_n C.x C.b dX2_bid_62 rfl (lv_at hl 1 rfl) ?_
  refine a_R C hS in_X2 rfl (k := 1) (ci := 1) (by decide) q154 (fun _ h9 => h9) dX2_bid_63 hw (fun r21 hw => ?_)
  refine lv_iload_n C.x C.b dX2_bid_66 rfl (lv_at hl 3 rfl) ?_
  obtain ⟨a22, e9, hw9⟩ := hw; subst e9; have hw := hw9; clear hw9
  have hl : lv_has ls 5 [(4, .int v20), (0, .ref x0), (1, .int x1), (2, .int x2), (3, .int x3)] := hl
  refine W.eq (g2 := F0 m 67 ls [.int x2, .ref a22]) rfl ?_
  obtain ⟨fs, hq, hw⟩ := hw
  refine a_callV (rest := []) C hS hl 8 hq rfl (kJ_J2_get C.tr hw) q389 q390 q391 q81 q392 ny_J2_get rfl (Nat.le_of_ble_eq_true rfl) (Nat.le_of_ble_eq_true rfl) rfl (Nat.le_of_ble_eq_true rfl) dX2_bid_67 (fun X1 w1 H1 l1 q1 ce hx => hx.elim) (fun v w23 H locs hq _ hS => ?_)
  obtain ⟨r24, rfl, hw⟩ := hq
  refine W.eq (g2 := F0 m 70 ls [va_rf r24]) rfl ?_
  obtain ⟨a25, e9, hw9⟩ := hw; subst e9; have hw := hw9; clear hw9
  have hl : lv_has ls 5 [(4, .int v20), (0, .ref x0), (1, .int x1), (2, .int x2), (3, .int x3)] := hl
  refine W.eq (g2 := F0 m 70 ls [.ref a25]) rfl ?_
  refine a_cast (ci := 5) C hS rfl q403 dX2_bid_70 hw (fun hw => ?_)
  refine a_RN C hS in_X6 rfl (k := 8) (ci := 5) (by decide) q953 (fun _ h9 => h9) dX2_bid_73 hw (fun r26 hw => ?_)
  refine lv_iload_n C.x C.b dX2_bid_76 rfl (lv_at hl 2 rfl) ?_
  refine lv_iload_n C.x C.b dX2_bid_77 rfl (lv_at hl 4 rfl) ?_
  obtain ⟨a27, e9, hw9⟩ := hw; subst e9; have hw := hw9; clear hw9
  have hl : lv_has ls 5 [(4, .int v20), (0, .ref x0), (1, .int x1), (2, .int x2), (3, .int x3)] := hl
  refine W.eq (g2 := F0 m 78 ls [.int x3, .int x1, .ref a27]) rfl ?_
  refine a_Si C hS dX2_bid_78 hw (fun w28 H locs hw hS => ?_)
  refine lv_iload C.x C.b dX2_bid_79 (lv_at hl 0 rfl) ?_
  exact g_iret C hS ⟨_, rfl, hw⟩ dX2_bid_81
def wJ_X2_bid_24 (E : gE) (Q : Int32 → gW → Prop) (X : String → gW → Prop) (x0 : Nat) (x1 : Int32) (x2 : Int32) (x3 : Int32) (w : gW) : Prop :=
  wJ_X2_bid_25 E Q X x0 x1 x2 x3 0 w
theorem kJ_X2_bid_24 (C : gC p l s m args meth c cX2_bid 5 (some .int) RX2 E [] "bid") {Q : Int32 → gW → Prop} {X : String → gW → Prop} (x0 : Nat) (x1 : Int32) (x2 : Int32) (x3 : Int32) (w : gW) (H : Heap) (locs : List Loc) (ls : Array Slot) (hS : gS E w0 w H locs) (hl : lv_has ls 5 [(0, .ref x0), (1, .int x1), (2, .int x2), (3, .int x3)]) (hw : wJ_X2_bid_24 E Q X x0 x1 x2 x3 w) : gGo p l e s m args below meth c H locs 9 141 E w0 w (gI Q) (X) (F0 m 24 ls []) := by
  unfold wJ_X2_bid_24 at hw
  refine lv_iconst (v := 0) C.x C.b dX2_bid_24 (by decide) ?_
  exact kJ_X2_bid_25 C _ _ _ _ _ _ _ _ _ hS (lv_sub hl [0, 1, 2, 3] rfl) hw
def wJ_X2_bid (E : gE) (i0 : Nat) (i1 : Int32) (i2 : Int32) (i3 : Int32) (Q : Int32 → gW → Prop) (X : String → gW → Prop) (w : gW) : Prop :=
  wJ_X1_inRange E i1.toInt64 0 3 (fun r2 w1 => (r2 = 0 → (wJ_X2_bid_24 E Q X i0 i1 i2 i3 w1)) ∧ (¬ r2 = 0 → (aKind E i0 1 (wJ_X2_isLink E i0 i2 (fun r5 w4 => (r5 = 0 → (wJ_X2_bid_24 E Q X i0 i1 i2 i3 w4)) ∧ (¬ r5 = 0 → (wJ_X2_bid_25 E Q X i0 i1 i2 i3 1 w4))) w1) w1))) w
theorem kJ_X2_bid_r (C : gC p l s m args meth c cX2_bid 5 (some .int) RX2 E [] "bid") (i0 : Nat) (i1 : Int32) (i2 : Int32) (i3 : Int32) {Q : Int32 → gW → Prop} {X : String → gW → Prop} (w : gW) (H : Heap) (locs : List Loc) (ls : Array Slot) (hS : gS E w0 w H locs) (hl : lv_has ls 5 [(0, .ref i0), (1, .int i1), (2, .int i2), (3, .int i3)]) (hw : wJ_X2_bid E i0 i1 i2 i3 Q X w) : gGo p l e s m args below meth c H locs 9 141 E w0 w (gI Q) (X) (F0 m 0 ls []) := by
  unfold wJ_X2_bid at hw
  refine lv_iload_n C.x C.b dX2_bid_0 rfl (lv_at hl 1 rfl) ?_
  refine lv_i2l C.x C.b dX2_bid_1 rfl ?_
  refine lv_lconst (v := 0) C.x C.b dX2_bid_2 (by decide) ?_
  refine lv_ldc2 C.x C.b C.ow (C.ts _ q990) dX2_bid_3 ?_
  refine g_callSN (rest := []) C hS hl (kJ_X1_inRange C.tr hw) q868 q459 q77 q460 ny_X1_inRange rfl (Nat.le_of_ble_eq_true rfl) (Nat.le_of_ble_eq_true rfl) rfl (Nat.le_of_ble_eq_true rfl) dX2_bid_6 (fun X1 w1 H1 l1 q1 ce hx => hx.elim) (fun v w1 H locs hq _ hS => ?_)
  obtain ⟨r2, rfl, hw⟩ := hq
  refine W.eq (g2 := F0 m 9 ls [.int r2]) rfl ?_
  refine lv_if_eq (tgt := 24) C.x C.b dX2_bid_9 (by decide) (fun c3 => ?_) (fun c3 => ?_)
  · have hw := hw.1 c3
    exact kJ_X2_bid_24 C _ _ _ _ _ _ _ _ hS (lv_sub hl [0, 1, 2, 3] rfl) hw
  · have hw := hw.2 c3
    refine lv_aload_n C.x C.b dX2_bid_12 rfl (lv_at hl 0 rfl) ?_
    refine lv_iload_n C.x C.b dX2_bid_13 rfl (lv_at hl 2 rfl) ?_
    obtain ⟨fs, hq, hw⟩ := hw
    refine a_callV (rest := []) C hS hl 1 hq rfl (kJ_X2_isLink C.tr hw) q991 q992 q993 q78 q994 ny_X2_isLink rfl (Nat.le_of_ble_eq_true rfl) (Nat.le_of_ble_eq_true rfl) rfl (Nat.le_of_ble_eq_true rfl) dX2_bid_14 (fun X1 w1 H1 l1 q1 ce hx => hx.elim) (fun v w4 H locs hq _ hS => ?_)
    obtain ⟨r5, rfl, hw⟩ := hq
    refine W.eq (g2 := F0 m 17 ls [.int r5]) rfl ?_
    refine lv_if_eq (tgt := 24) C.x C.b dX2_bid_17 (by decide) (fun c6 => ?_) (fun c6 => ?_)
    · have hw := hw.1 c6
      exact kJ_X2_bid_24 C _ _ _ _ _ _ _ _ hS (lv_sub hl [0, 1, 2, 3] rfl) hw
    · have hw := hw.2 c6
      refine lv_iconst (v := 1) C.x C.b dX2_bid_20 (by decide) ?_
      refine lv_goto (tgt := 25) C.x C.b dX2_bid_21 (by decide) ?_
      exact kJ_X2_bid_25 C _ _ _ _ _ _ _ _ _ hS (lv_sub hl [0, 1, 2, 3] rfl) hw
theorem ny_X2_bid : gNm yX2_bid 3 = true := by decide +kernel
theorem kJ_X2_bid {l : Launch} (ht : l.stackTraces = false) {w : gW} {i0 : Nat} {i1 : Int32} {i2 : Int32} {i3 : Int32} {Q : Int32 → gW → Prop} {X : String → gW → Prop} (hw : wJ_X2_bid E i0 i1 i2 i3 Q X w) : gMet l yX2_bid (ws_ yX2_bid cX2_bid 5 (some .int)) E w [.ref i0, .int i1, .int i2, .int i3] 9 141 (gI Q) (X) :=
  g_ofW ht (by decide) (Nat.le_of_ble_eq_true rfl) (fun p e s m below meth c ls H C hl hS => kJ_X2_bid_r C _ _ _ _ _ _ _ _ hS hl hw)
def wJ_X2_link (E : gE) (i0 : Nat) (i1 : Int32) (Q : Option Nat → gW → Prop) (X : String → gW → Prop) (w : gW) : Prop :=
  aKind E i0 1 (wJ_X2_isLink E i0 i1 (fun r2 w1 => aStr E "BridgeAuction$Network" 118 "link" (fun a3 => wJ_X1_requireIndex E r2 a3 (fun w4 => aR E i0 1 1 (fun r5 => ∃ a6 : Nat, r5 = some a6 ∧ (aKind E a6 8 (wJ_J2_get E a6 i1 (fun r8 w7 => ∃ a9 : Nat, r8 = some a9 ∧ (aKind E a9 5 (Q (some a9) w7) w7)) w4) w4)) w4) X w1)) w) w
theorem kJ_X2_link_r (C : gC p l s m args meth c cX2_link 2 (some (.object "BridgeAuction$Link")) RX2 E [] "link") (i0 : Nat) (i1 : Int32) {Q : Option Nat → gW → Prop} {X : String → gW → Prop} (w : gW) (H : Heap) (locs : List Loc) (ls : Array Slot) (hS : gS E w0 w H locs) (hl : lv_has ls 2 [(0, .ref i0), (1, .int i1)]) (hw : wJ_X2_link E i0 i1 Q X w) : gGo p l e s m args below meth c H locs 9 141 E w0 w (gR Q) (X) (F0 m 0 ls []) := by
  unfold wJ_X2_link at hw
  refine lv_aload_n C.x C.b dX2_link_0 rfl (lv_at hl 0 rfl) ?_
  refine lv_iload_n C.x C.b dX2_link_1 rfl (lv_at hl 1 rfl) ?_
  obtain ⟨fs, hq, hw⟩ := hw
  refine a_callV (rest := []) C hS hl 1 hq rfl (kJ_X2_isLink C.tr hw) q991 q992 q993 q78 q994 ny_X2_isLink rfl (Nat.le_of_ble_eq_true rfl) (Nat.le_of_ble_eq_true rfl) rfl (Nat.le_of_ble_eq_true rfl) dX2_link_2 (fun X1 w1 H1 l1 q1 ce hx => hx.elim) (fun v w1 H locs hq _ hS => ?_)
  obtain ⟨r2, rfl, hw⟩ := hq
  refine W.eq (g2 := F0 m 5 ls [.int r2]) rfl ?_
  refine a_str C dX2_link_5 hw (fun a3 hw => ?_)
  refine g_callSN (rest := []) C hS hl (kJ_X1_requireIndex C.tr hw) q870 q871 q77 q872 ny_X1_requireIndex rfl (Nat.le_of_ble_eq_true rfl) (Nat.le_of_ble_eq_true rfl) rfl (Nat.le_of_ble_eq_true rfl) dX2_link_7 (fun X1 w1 H1 l1 q1 ce hx _ hS1 hc hv hcl => g_out C hS1 (fun x h => by cases h) hc hv hcl hx) (fun v w4 H locs hq _ hS => ?_)
  obtain ⟨rfl, hw⟩ := hq
  refine W.eq (g2 := F0 m 10 ls []) rfl ?_
  refine lv_aload_n C.x C.b dX2_link_10 rfl (lv_at hl 0 rfl) ?_
  refine a_R C hS in_X2 rfl (k := 1) (ci := 1) (by decide) q154 (fun _ h9 => h9) dX2_link_11 hw (fun r5 hw => ?_)
  refine lv_iload_n C.x C.b dX2_link_14 rfl (lv_at hl 1 rfl) ?_
  obtain ⟨a6, e9, hw9⟩ := hw; subst e9; have hw := hw9; clear hw9
  have hl : lv_has ls 2 [(0, .ref i0), (1, .int i1)] := hl
  refine W.eq (g2 := F0 m 15 ls [.int i1, .ref a6]) rfl ?_
  obtain ⟨fs, hq, hw⟩ := hw
  refine a_callV (rest := []) C hS hl 8 hq rfl (kJ_J2_get C.tr hw) q389 q390 q391 q81 q392 ny_J2_get rfl (Nat.le_of_ble_eq_true rfl) (Nat.le_of_ble_eq_true rfl) rfl (Nat.le_of_ble_eq_true rfl) dX2_link_15 (fun X1 w1 H1 l1 q1 ce hx => hx.elim) (fun v w7 H locs hq _ hS => ?_)
  obtain ⟨r8, rfl, hw⟩ := hq
  refine W.eq (g2 := F0 m 18 ls [va_rf r8]) rfl ?_
  obtain ⟨a9, e9, hw9⟩ := hw; subst e9; have hw := hw9; clear hw9
  have hl : lv_has ls 2 [(0, .ref i0), (1, .int i1)] := hl
  refine W.eq (g2 := F0 m 18 ls [.ref a9]) rfl ?_
  refine a_cast (ci := 5) C hS rfl q403 dX2_link_18 hw (fun hw => ?_)
  exact g_aret (r := (some a9)) C (Or.inl ⟨_, rfl⟩) hS ⟨_, rfl, hw⟩ dX2_link_21
theorem ny_X2_link : gNm yX2_link 1 = true := by decide +kernel
theorem kJ_X2_link {l : Launch} (ht : l.stackTraces = false) {w : gW} {i0 : Nat} {i1 : Int32} {Q : Option Nat → gW → Prop} {X : String → gW → Prop} (hw : wJ_X2_link E i0 i1 Q X w) : gMet l yX2_link (ws_ yX2_link cX2_link 2 (some (.object "BridgeAuction$Link"))) E w [.ref i0, .int i1] 9 141 (gR Q) (X) :=
  g_ofW ht (by decide) (Nat.le_of_ble_eq_true rfl) (fun p e s m below meth c ls H C hl hS => kJ_X2_link_r C _ _ _ _ _ _ hS hl hw)
def wJ_X2_fail_86 (E : gE) (Q : Int32 → gW → Prop) (X : String → gW → Prop) (x2 : Nat) (x3 : Int32) (w : gW) : Prop :=
  aP x2 5 4 (.int 0) (fun w26 => aP x2 5 5 (.int (-1)) (fun w27 => aP x2 5 6 (.int 0) (fun w28 => Q x3 w28) w27) w26) w
theorem kJ_X2_fail_86 (C : gC p l s m args meth c cX2_fail 4 (some .int) RX2 E [] "fail") {Q : Int32 → gW → Prop} {X : String → gW → Prop} (x2 : Nat) (x3 : Int32) (w : gW) (H : Heap) (locs : List Loc) (ls : Array Slot) (hS : gS E w0 w H locs) (hl : lv_has ls 4 [(2, .ref x2), (3, .int x3)]) (hw : wJ_X2_fail_86 E Q X x2 x3 w) : gGo p l e s m args below meth c H locs 10 162 E w0 w (gI Q) (X) (F0 m 86 ls []) := by
  unfold wJ_X2_fail_86 at hw
  refine lv_aload_n C.x C.b dX2_fail_86 rfl (lv_at hl 0 rfl) ?_
  refine lv_iconst (v := 0) C.x C.b dX2_fail_87 (by decide) ?_
  refine a_PN C hS in_X6 tyX6 tyX6_ok nmX6 rfl (k := 4) (ci := 5) (by decide) q946 (fun _ h9 => h9) rfl rfl rfl dX2_fail_88 hw (fun w26 H locs hw hS => ?_)
  refine lv_aload_n C.x C.b dX2_fail_91 rfl (lv_at hl 0 rfl) ?_
  refine lv_iconst (v := (-1)) C.x C.b dX2_fail_92 (by decide) ?_
  refine a_PN C hS in_X6 tyX6 tyX6_ok nmX6 rfl (k := 5) (ci := 5) (by decide) q948 (fun _ h9 => h9) rfl rfl rfl dX2_fail_93 hw (fun w27 H locs hw hS => ?_)
  refine lv_aload_n C.x C.b dX2_fail_96 rfl (lv_at hl 0 rfl) ?_
  refine lv_iconst (v := 0) C.x C.b dX2_fail_97 (by decide) ?_
  refine a_PN C hS in_X6 tyX6 tyX6_ok nmX6 rfl (k := 6) (ci := 5) (by decide) q950 (fun _ h9 => h9) rfl rfl rfl dX2_fail_98 hw (fun w28 H locs hw hS => ?_)
  refine lv_iload_n C.x C.b dX2_fail_101 rfl (lv_at hl 1 rfl) ?_
  exact g_iret C hS ⟨_, rfl, hw⟩ dX2_fail_102
def wJ_X2_fail_51 (E : gE) (Q : Int32 → gW → Prop) (X : String → gW → Prop) (x0 : Nat) (x2 : Nat) (y0 : Int32) (w : gW) : Prop :=
  aI E x2 5 5 (fun v14 => (v14 = (-1) → (wJ_X2_fail_86 E Q X x2 y0 w)) ∧ (¬ v14 = (-1) → (aR E x0 1 3 (fun r16 => aI E x2 5 5 (fun v17 => ∃ a18 : Nat, r16 = some a18 ∧ (aL E 0 a18 v17 (fun v19 => aS E 0 a18 v17 (v19 + y0) (fun w20 => aR E x0 1 5 (fun r21 => aI E x2 5 5 (fun v22 => ∃ a23 : Nat, r21 = some a23 ∧ (aL E 0 a23 v22 (fun v24 => aS E 0 a23 v22 (v24 + y0) (fun w25 => wJ_X2_fail_86 E Q X x2 y0 w25) w20) w20)) w20) w20) w) w)) w) w))) w
theorem kJ_X2_fail_51 (C : gC p l s m args meth c cX2_fail 4 (some .int) RX2 E [] "fail") {Q : Int32 → gW → Prop} {X : String → gW → Prop} (x0 : Nat) (x2 : Nat) (y0 : Int32) (w : gW) (H : Heap) (locs : List Loc) (ls : Array Slot) (hS : gS E w0 w H locs) (hl : lv_has ls 4 [(0, .ref x0), (2, .ref x2)]) (hw : wJ_X2_fail_51 E Q X x0 x2 y0 w) : gGo p l e s m args below meth c H locs 10 162 E w0 w (gI Q) (X) (F0 m 51 ls [.int y0]) := by
  unfold wJ_X2_fail_51 at hw
  refine lv_istore_n (lv' := [(3, .int y0), (0, .ref x0), (2, .ref x2)]) C.x C.b dX2_fail_51 rfl hl (by decide) rfl (fun ls hl => ?_)
  refine lv_aload_n C.x C.b dX2_fail_52 rfl (lv_at hl 2 rfl) ?_
  refine a_IN C hS in_X6 rfl (k := 5) (ci := 5) (by decide) q948 (fun _ h9 => h9) dX2_fail_53 hw (fun v14 hw => ?_)
  refine lv_iconst (v := (-1)) C.x C.b dX2_fail_56 (by decide) ?_
  refine lv_icmp_eq (tgt := 86) C.x C.b dX2_fail_57 (by decide) (fun c15 => ?_) (fun c15 => ?_)
  · have hw := hw.1 c15
    exact kJ_X2_fail_86 C _ _ _ _ _ _ hS (lv_sub hl [2, 0] rfl) hw
  · have hw := hw.2 c15
    refine lv_aload_n C.x C.b dX2_fail_60 rfl (lv_at hl 1 rfl) ?_
    refine a_R C hS in_X2 rfl (k := 3) (ci := 1) (by decide) q158 (fun _ h9 => h9) dX2_fail_61 hw (fun r16 hw => ?_)
    refine lv_aload_n C.x C.b dX2_fail_64 rfl (lv_at hl 2 rfl) ?_
    refine a_IN C hS in_X6 rfl (k := 5) (ci := 5) (by decide) q948 (fun _ h9 => h9) dX2_fail_65 hw (fun v17 hw => ?_)
    refine lv_dup2_11 C.x C.b dX2_fail_68 rfl a_cat ?_
    obtain ⟨a18, e9, hw9⟩ := hw; subst e9; have hw := hw9; clear hw9
    have hl : lv_has ls 4 [(3, .int y0), (0, .ref x0), (2, .ref x2)] := hl
    refine W.eq (g2 := F0 m 69 ls [.int v17, .ref a18, .int v17, .ref a18]) rfl ?_
    refine a_Li C hS dX2_fail_69 hw (fun v19 hw => ?_)
    refine lv_iload_n C.x C.b dX2_fail_70 rfl (lv_at hl 0 rfl) ?_
    refine lv_iadd C.x C.b dX2_fail_71 ?_
    refine a_Si C hS dX2_fail_72 hw (fun w20 H locs hw hS => ?_)
    refine lv_aload_n C.x C.b dX2_fail_73 rfl (lv_at hl 1 rfl) ?_
    refine a_R C hS in_X2 rfl (k := 5) (ci := 1) (by decide) q161 (fun _ h9 => h9) dX2_fail_74 hw (fun r21 hw => ?_)
    refine lv_aload_n C.x C.b dX2_fail_77 rfl (lv_at hl 2 rfl) ?_
    refine a_IN C hS in_X6 rfl (k := 5) (ci := 5) (by decide) q948 (fun _ h9 => h9) dX2_fail_78 hw (fun v22 hw => ?_)
    refine lv_dup2_11 C.x C.b dX2_fail_81 rfl a_cat ?_
    obtain ⟨a23, e9, hw9⟩ := hw; subst e9; have hw := hw9; clear hw9
    have hl : lv_has ls 4 [(3, .int y0), (0, .ref x0), (2, .ref x2)] := hl
    refine W.eq (g2 := F0 m 82 ls [.int v22, .ref a23, .int v22, .ref a23]) rfl ?_
    refine a_Li C hS dX2_fail_82 hw (fun v24 hw => ?_)
    refine lv_iload_n C.x C.b dX2_fail_83 rfl (lv_at hl 0 rfl) ?_
    refine lv_iadd C.x C.b dX2_fail_84 ?_
    refine a_Si C hS dX2_fail_85 hw (fun w25 H locs hw hS => ?_)
    exact kJ_X2_fail_86 C _ _ _ _ _ _ hS (lv_sub hl [2, 0] rfl) hw
def wJ_X2_fail (E : gE) (i0 : Nat) (i1 : Int32) (Q : Int32 → gW → Prop) (X : String → gW → Prop) (w : gW) : Prop :=
  aKind E i0 1 (wJ_X2_link E i0 i1 (fun r2 w1 => ∃ a3 : Nat, r2 = some a3 ∧ (aI E a3 5 4 (fun v4 => aStr E "BridgeAuction$Network" 161 "link is down" (fun a5 => wJ_X1_requireState E v4 a5 (fun w6 => aI E a3 5 5 (fun v7 => (v7 = (-1) → (wJ_X2_fail_51 E Q X i0 a3 0 w6)) ∧ (¬ v7 = (-1) → (aI E a3 5 6 (fun v9 => aI E i0 1 8 (fun v10 => aI E i0 1 6 (fun v11 => aI E i0 1 8 (fun v12 => ¬ v12 = 0 ∧ (aI E i0 1 8 (fun v13 => ¬ v13 = 0 ∧ (wJ_X2_fail_51 E Q X i0 a3 ((v9 * (v10 - (v11 - v11 / v12 * v12))) / v13) w6)) w6)) w6) w6) w6) w6))) w6) X w1)) w1)) X w) w
theorem kJ_X2_fail_r (C : gC p l s m args meth c cX2_fail 4 (some .int) RX2 E [] "fail") (i0 : Nat) (i1 : Int32) {Q : Int32 → gW → Prop} {X : String → gW → Prop} (w : gW) (H : Heap) (locs : List Loc) (ls : Array Slot) (hS : gS E w0 w H locs) (hl : lv_has ls 4 [(0, .ref i0), (1, .int i1)]) (hw : wJ_X2_fail E i0 i1 Q X w) : gGo p l e s m args below meth c H locs 10 162 E w0 w (gI Q) (X) (F0 m 0 ls []) := by
  unfold wJ_X2_fail at hw
  refine lv_aload_n C.x C.b dX2_fail_0 rfl (lv_at hl 0 rfl) ?_
  refine lv_iload_n C.x C.b dX2_fail_1 rfl (lv_at hl 1 rfl) ?_
  obtain ⟨fs, hq, hw⟩ := hw
  refine a_callV (rest := []) C hS hl 1 hq rfl (kJ_X2_link C.tr hw) q1004 q1005 q1006 q78 q1007 ny_X2_link rfl (Nat.le_of_ble_eq_true rfl) (Nat.le_of_ble_eq_true rfl) rfl (Nat.le_of_ble_eq_true rfl) dX2_fail_2 (fun X1 w1 H1 l1 q1 ce hx _ hS1 hc hv hcl => g_out C hS1 (fun x h => by cases h) hc hv hcl hx) (fun v w1 H locs hq _ hS => ?_)
  obtain ⟨r2, rfl, hw⟩ := hq
  refine W.eq (g2 := F0 m 5 ls [va_rf r2]) rfl ?_
  refine a_astore_n (lv' := [(2, va_rf r2), (0, .ref i0), (1, .int i1)]) C dX2_fail_5 rfl hl (by decide) (by cases r2 <;> rfl) (fun ls hl => ?_)
  refine a_aload_n C dX2_fail_6 rfl (lv_at hl 0 rfl) ?_
  obtain ⟨a3, e9, hw9⟩ := hw; subst e9; have hw := hw9; clear hw9
  have hl : lv_has ls 4 [(2, .ref a3), (0, .ref i0), (1, .int i1)] := hl
  refine W.eq (g2 := F0 m 7 ls [.ref a3]) rfl ?_
  refine a_IN C hS in_X6 rfl (k := 4) (ci := 5) (by decide) q946 (fun _ h9 => h9) dX2_fail_7 hw (fun v4 hw => ?_)
  refine a_str C dX2_fail_10 hw (fun a5 hw => ?_)
  refine g_callSN (rest := []) C hS hl (kJ_X1_requireState C.tr hw) q896 q897 q77 q898 ny_X1_requireState rfl (Nat.le_of_ble_eq_true rfl) (Nat.le_of_ble_eq_true rfl) rfl (Nat.le_of_ble_eq_true rfl) dX2_fail_12 (fun X1 w1 H1 l1 q1 ce hx _ hS1 hc hv hcl => g_out C hS1 (fun x h => by cases h) hc hv hcl hx) (fun v w6 H locs hq _ hS => ?_)
  obtain ⟨rfl, hw⟩ := hq
  refine W.eq (g2 := F0 m 15 ls []) rfl ?_
  refine lv_aload_n C.x C.b dX2_fail_15 rfl (lv_at hl 0 rfl) ?_
  refine a_IN C hS in_X6 rfl (k := 5) (ci := 5) (by decide) q948 (fun _ h9 => h9) dX2_fail_16 hw (fun v7 hw => ?_)
  refine lv_iconst (v := (-1)) C.x C.b dX2_fail_19 (by decide) ?_
  refine lv_icmp_ne (tgt := 27) C.x C.b dX2_fail_20 (by decide) (fun c8 => ?_) (fun c8 => ?_)
  · have hw := hw.2 c8
    refine lv_aload_n C.x C.b dX2_fail_27 rfl (lv_at hl 0 rfl) ?_
    refine a_IN C hS in_X6 rfl (k := 6) (ci := 5) (by decide) q950 (fun _ h9 => h9) dX2_fail_28 hw (fun v9 hw => ?_)
    refine lv_aload_n C.x C.b dX2_fail_31 rfl (lv_at hl 1 rfl) ?_
    refine a_I C hS in_X2 rfl (k := 8) (ci := 1) (by decide) q166 (fun _ h9 => h9) dX2_fail_32 hw (fun v10 hw => ?_)
    refine lv_aload_n C.x C.b dX2_fail_35 rfl (lv_at hl 1 rfl) ?_
    refine a_I C hS in_X2 rfl (k := 6) (ci := 1) (by decide) q162 (fun _ h9 => h9) dX2_fail_36 hw (fun v11 hw => ?_)
    refine lv_aload_n C.x C.b dX2_fail_39 rfl (lv_at hl 1 rfl) ?_
    refine a_I C hS in_X2 rfl (k := 8) (ci := 1) (by decide) q166 (fun _ h9 => h9) dX2_fail_40 hw (fun v12 hw => ?_)
    obtain ⟨hne, hw⟩ := hw
    refine lv_irem C.x C.b dX2_fail_43 hne ?_
    refine lv_isub C.x C.b dX2_fail_44 ?_
    refine lv_imul C.x C.b dX2_fail_45 ?_
    refine lv_aload_n C.x C.b dX2_fail_46 rfl (lv_at hl 1 rfl) ?_
    refine a_I C hS in_X2 rfl (k := 8) (ci := 1) (by decide) q166 (fun _ h9 => h9) dX2_fail_47 hw (fun v13 hw => ?_)
    obtain ⟨hne, hw⟩ := hw
    refine lv_idiv C.x C.b dX2_fail_50 hne ?_
    exact kJ_X2_fail_51 C _ _ _ _ _ _ _ hS (lv_sub hl [1, 0] rfl) hw
  · have hw := hw.1 c8
    refine lv_iconst (v := 0) C.x C.b dX2_fail_23 (by decide) ?_
    refine lv_goto (tgt := 51) C.x C.b dX2_fail_24 (by decide) ?_
    exact kJ_X2_fail_51 C _ _ _ _ _ _ _ hS (lv_sub hl [1, 0] rfl) hw
theorem ny_X2_fail : gNm yX2_fail 1 = true := by decide +kernel
theorem kJ_X2_fail {l : Launch} (ht : l.stackTraces = false) {w : gW} {i0 : Nat} {i1 : Int32} {Q : Int32 → gW → Prop} {X : String → gW → Prop} (hw : wJ_X2_fail E i0 i1 Q X w) : gMet l yX2_fail (ws_ yX2_fail cX2_fail 4 (some .int)) E w [.ref i0, .int i1] 10 162 (gI Q) (X) :=
  g_ofW ht (by decide) (Nat.le_of_ble_eq_true rfl) (fun p e s m below meth c ls H C hl hS => kJ_X2_fail_r C _ _ _ _ _ _ hS hl hw)
def wJ_X2_fix_69 (E : gE) (K33 : Nat → Int32 → Int32 → gW → Prop) (Q : Int32 → gW → Prop) (X : String → gW → Prop) (x0 : Nat) (x4 : Int32) (y0 : Int32) (y1 : Int32) (w : gW) : Prop :=
  K33 x0 (y1 + y0) (x4 + 1) w
theorem kJ_X2_fix_69 (C : gC p l s m args meth c cX2_fix 5 (some .int) RX2 E [] "fix") {Q : Int32 → gW → Prop} {X : String → gW → Prop} {K33 : Nat → Int32 → Int32 → gW → Prop} (hK33 : ∀ (x0 : Nat) (x3 : Int32) (x4 : Int32) (w : gW) (H : Heap) (locs : List Loc) (ls : Array Slot), gS E w0 w H locs → lv_has ls 5 [(0, .ref x0), (3, .int x3), (4, .int x4)] → K33 x0 x3 x4 w → gGo p l e s m args below meth c H locs 10 162 E w0 w (gI Q) (X) (F0 m 33 ls [])) (x0 : Nat) (x4 : Int32) (y0 : Int32) (y1 : Int32) (w : gW) (H : Heap) (locs : List Loc) (ls : Array Slot) (hS : gS E w0 w H locs) (hl : lv_has ls 5 [(0, .ref x0), (4, .int x4)]) (hw : wJ_X2_fix_69 E K33 Q X x0 x4 y0 y1 w) : gGo p l e s m args below meth c H locs 10 162 E w0 w (gI Q) (X) (F0 m 69 ls [.int y0, .int y1]) := by
  unfold wJ_X2_fix_69 at hw
  refine lv_iadd C.x C.b dX2_fix_69 ?_
  refine lv_istore_n (lv' := [(3, .int (y1 + y0)), (0, .ref x0), (4, .int x4)]) C.x C.b dX2_fix_70 rfl hl (by decide) rfl (fun ls hl => ?_)
  refine lv_iinc (v := (x4 + 1)) (lv' := [(4, .int (x4 + 1)), (3, .int (y1 + y0)), (0, .ref x0)]) C.x C.b dX2_fix_71 hl (k := 2) rfl rfl (by decide) rfl (fun ls hl => ?_)
  refine lv_goto (tgt := 33) C.x C.b dX2_fix_74 (by decide) ?_
  exact hK33 _ _ _ _ _ _ _ hS (lv_sub hl [2, 1, 0] rfl) hw
def wJ_X2_fix_33 (E : gE) (Q : Int32 → gW → Prop) (X : String → gW → Prop) : Nat → Nat → Int32 → Int32 → gW → Prop
  | 0, _, _, _, _ => False
  | n + 1, x0, x3, x4, w => aR E x0 1 1 (fun r10 => ∃ a11 : Nat, r10 = some a11 ∧ (aKind E a11 8 (wJ_J2_size E a11 (fun r13 w12 => (r13 ≤ x4 → (Q x3 w12)) ∧ (¬ r13 ≤ x4 → (aR E x0 1 1 (fun r15 => ∃ a16 : Nat, r15 = some a16 ∧ (aKind E a16 8 (wJ_J2_get E a16 x4 (fun r18 w17 => ∃ a19 : Nat, r18 = some a19 ∧ (aKind E a19 5 (aI E a19 5 4 (fun v20 => (v20 = 0 → (wJ_X2_fix_69 E (fun x0 x3 x4 w => wJ_X2_fix_33 E Q X n x0 x3 x4 w) Q X x0 x4 0 x3 w17)) ∧ (¬ v20 = 0 → (wJ_X2_fix_69 E (fun x0 x3 x4 w => wJ_X2_fix_33 E Q X n x0 x3 x4 w) Q X x0 x4 1 x3 w17))) w17) w17)) w12) w12)) w12))) w) w)) w
theorem kJ_X2_fix_33 (C : gC p l s m args meth c cX2_fix 5 (some .int) RX2 E [] "fix") {Q : Int32 → gW → Prop} {X : String → gW → Prop} : ∀ (n : Nat) (x0 : Nat) (x3 : Int32) (x4 : Int32) (w : gW) (H : Heap) (locs : List Loc) (ls : Array Slot), gS E w0 w H locs → lv_has ls 5 [(0, .ref x0), (3, .int x3), (4, .int x4)] → wJ_X2_fix_33 E Q X n x0 x3 x4 w → gGo p l e s m args below meth c H locs 10 162 E w0 w (gI Q) (X) (F0 m 33 ls []) := by
  intro n
  induction n with
  | zero =>
    intro x0 x3 x4 w H locs ls hS hl hw
    exact hw.elim
  | succ n ih =>
    intro x0 x3 x4 w H locs ls hS hl hw
    unfold wJ_X2_fix_33 at hw
    refine lv_iload C.x C.b dX2_fix_33 (lv_at hl 2 rfl) ?_
    refine lv_aload_n C.x C.b dX2_fix_35 rfl (lv_at hl 0 rfl) ?_
    refine a_R C hS in_X2 rfl (k := 1) (ci := 1) (by decide) q154 (fun _ h9 => h9) dX2_fix_36 hw (fun r10 hw => ?_)
    obtain ⟨a11, e9, hw9⟩ := hw; subst e9; have hw := hw9; clear hw9
    have hl : lv_has ls 5 [(0, .ref x0), (3, .int x3), (4, .int x4)] := hl
    refine W.eq (g2 := F0 m 39 ls [.ref a11, .int x4]) rfl ?_
    obtain ⟨fs, hq, hw⟩ := hw
    refine a_callV (rest := [.int x4]) C hS hl 8 hq rfl (kJ_J2_size C.tr hw) q384 q373 q374 q81 q375 ny_J2_size rfl (Nat.le_of_ble_eq_true rfl) (Nat.le_of_ble_eq_true rfl) rfl (Nat.le_of_ble_eq_true rfl) dX2_fix_39 (fun X1 w1 H1 l1 q1 ce hx => hx.elim) (fun v w12 H locs hq _ hS => ?_)
    obtain ⟨r13, rfl, hw⟩ := hq
    refine W.eq (g2 := F0 m 42 ls [.int r13, .int x4]) rfl ?_
    refine lv_icmp_ge (tgt := 77) C.x C.b dX2_fix_42 (by decide) (fun c14 => ?_) (fun c14 => ?_)
    · have hw := hw.1 c14
      refine lv_iload_n C.x C.b dX2_fix_77 rfl (lv_at hl 1 rfl) ?_
      exact g_iret C hS ⟨_, rfl, hw⟩ dX2_fix_78
    · have hw := hw.2 c14
      refine lv_iload_n C.x C.b dX2_fix_45 rfl (lv_at hl 1 rfl) ?_
      refine lv_aload_n C.x C.b dX2_fix_46 rfl (lv_at hl 0 rfl) ?_
      refine a_R C hS in_X2 rfl (k := 1) (ci := 1) (by decide) q154 (fun _ h9 => h9) dX2_fix_47 hw (fun r15 hw => ?_)
      refine lv_iload C.x C.b dX2_fix_50 (lv_at hl 2 rfl) ?_
      obtain ⟨a16, e9, hw9⟩ := hw; subst e9; have hw := hw9; clear hw9
      have hl : lv_has ls 5 [(0, .ref x0), (3, .int x3), (4, .int x4)] := hl
      refine W.eq (g2 := F0 m 52 ls [.int x4, .ref a16, .int x3]) rfl ?_
      obtain ⟨fs, hq, hw⟩ := hw
      refine a_callV (rest := [.int x3]) C hS hl 8 hq rfl (kJ_J2_get C.tr hw) q389 q390 q391 q81 q392 ny_J2_get rfl (Nat.le_of_ble_eq_true rfl) (Nat.le_of_ble_eq_true rfl) rfl (Nat.le_of_ble_eq_true rfl) dX2_fix_52 (fun X1 w1 H1 l1 q1 ce hx => hx.elim) (fun v w17 H locs hq _ hS => ?_)
      obtain ⟨r18, rfl, hw⟩ := hq
      refine W.eq (g2 := F0 m 55 ls [va_rf r18, .int x3]) rfl ?_
      obtain ⟨a19, e9, hw9⟩ := hw; subst e9; have hw := hw9; clear hw9
      have hl : lv_has ls 5 [(0, .ref x0), (3, .int x3), (4, .int x4)] := hl
      refine W.eq (g2 := F0 m 55 ls [.ref a19, .int x3]) rfl ?_
      refine a_cast (ci := 5) C hS rfl q403 dX2_fix_55 hw (fun hw => ?_)
      refine a_IN C hS in_X6 rfl (k := 4) (ci := 5) (by decide) q946 (fun _ h9 => h9) dX2_fix_58 hw (fun v20 hw => ?_)
      refine lv_if_eq (tgt := 68) C.x C.b dX2_fix_61 (by decide) (fun c21 => ?_) (fun c21 => ?_)
      · have hw := hw.1 c21
        refine lv_iconst (v := 0) C.x C.b dX2_fix_68 (by decide) ?_
        exact kJ_X2_fix_69 C ih _ _ _ _ _ _ _ _ hS (lv_sub hl [0, 2] rfl) hw
      · have hw := hw.2 c21
        refine lv_iconst (v := 1) C.x C.b dX2_fix_64 (by decide) ?_
        refine lv_goto (tgt := 69) C.x C.b dX2_fix_65 (by decide) ?_
        exact kJ_X2_fix_69 C ih _ _ _ _ _ _ _ _ hS (lv_sub hl [0, 2] rfl) hw
def wJ_X2_fix_18 (E : gE) (Q : Int32 → gW → Prop) (X : String → gW → Prop) (x0 : Nat) (x2 : Nat) (y0 : Int32) (w : gW) : Prop :=
  aStr E "BridgeAuction$Network" 169 "link is up" (fun a6 => wJ_X1_requireState E y0 a6 (fun w7 => aP x2 5 4 (.int 1) (fun w8 => ∃ k9 : Nat, wJ_X2_fix_33 E Q X k9 x0 0 0 w8) w7) X w)
theorem kJ_X2_fix_18 (C : gC p l s m args meth c cX2_fix 5 (some .int) RX2 E [] "fix") {Q : Int32 → gW → Prop} {X : String → gW → Prop} (x0 : Nat) (x2 : Nat) (y0 : Int32) (w : gW) (H : Heap) (locs : List Loc) (ls : Array Slot) (hS : gS E w0 w H locs) (hl : lv_has ls 5 [(0, .ref x0), (2, .ref x2)]) (hw : wJ_X2_fix_18 E Q X x0 x2 y0 w) : gGo p l e s m args below meth c H locs 10 162 E w0 w (gI Q) (X) (F0 m 18 ls [.int y0]) := by
  unfold wJ_X2_fix_18 at hw
  refine a_str C dX2_fix_18 hw (fun a6 hw => ?_)
  refine g_callSN (rest := []) C hS hl (kJ_X1_requireState C.tr hw) q896 q897 q77 q898 ny_X1_requireState rfl (Nat.le_of_ble_eq_true rfl) (Nat.le_of_ble_eq_true rfl) rfl (Nat.le_of_ble_eq_true rfl) dX2_fix_20 (fun X1 w1 H1 l1 q1 ce hx _ hS1 hc hv hcl => g_out C hS1 (fun x h => by cases h) hc hv hcl hx) (fun v w7 H locs hq _ hS => ?_)
  obtain ⟨rfl, hw⟩ := hq
  refine W.eq (g2 := F0 m 23 ls []) rfl ?_
  refine lv_aload_n C.x C.b dX2_fix_23 rfl (lv_at hl 1 rfl) ?_
  refine lv_iconst (v := 1) C.x C.b dX2_fix_24 (by decide) ?_
  refine a_PN C hS in_X6 tyX6 tyX6_ok nmX6 rfl (k := 4) (ci := 5) (by decide) q946 (fun _ h9 => h9) rfl rfl rfl dX2_fix_25 hw (fun w8 H locs hw hS => ?_)
  refine lv_iconst (v := 0) C.x C.b dX2_fix_28 (by decide) ?_
  refine lv_istore_n (lv' := [(3, .int 0), (0, .ref x0), (2, .ref x2)]) C.x C.b dX2_fix_29 rfl hl (by decide) rfl (fun ls hl => ?_)
  refine lv_iconst (v := 0) C.x C.b dX2_fix_30 (by decide) ?_
  refine lv_istore (lv' := [(4, .int 0), (3, .int 0), (0, .ref x0), (2, .ref x2)]) C.x C.b dX2_fix_31 hl (by decide) rfl (fun ls hl => ?_)
  obtain ⟨k9, hw⟩ := hw
  exact kJ_X2_fix_33 C k9 _ _ _ _ _ _ _ hS (lv_sub hl [2, 1, 0] rfl) hw
def wJ_X2_fix (E : gE) (i0 : Nat) (i1 : Int32) (Q : Int32 → gW → Prop) (X : String → gW → Prop) (w : gW) : Prop :=
  aKind E i0 1 (wJ_X2_link E i0 i1 (fun r2 w1 => ∃ a3 : Nat, r2 = some a3 ∧ (aI E a3 5 4 (fun v4 => (v4 = 0 → (wJ_X2_fix_18 E Q X i0 a3 1 w1)) ∧ (¬ v4 = 0 → (wJ_X2_fix_18 E Q X i0 a3 0 w1))) w1)) X w) w
theorem kJ_X2_fix_r (C : gC p l s m args meth c cX2_fix 5 (some .int) RX2 E [] "fix") (i0 : Nat) (i1 : Int32) {Q : Int32 → gW → Prop} {X : String → gW → Prop} (w : gW) (H : Heap) (locs : List Loc) (ls : Array Slot) (hS : gS E w0 w H locs) (hl : lv_has ls 5 [(0, .ref i0), (1, .int i1)]) (hw : wJ_X2_fix E i0 i1 Q X w) : gGo p l e s m args below meth c H locs 10 162 E w0 w (gI Q) (X) (F0 m 0 ls []) := by
  unfold wJ_X2_fix at hw
  refine lv_aload_n C.x C.b dX2_fix_0 rfl (lv_at hl 0 rfl) ?_
  refine lv_iload_n C.x C.b dX2_fix_1 rfl (lv_at hl 1 rfl) ?_
  obtain ⟨fs, hq, hw⟩ := hw
  refine a_callV (rest := []) C hS hl 1 hq rfl (kJ_X2_link C.tr hw) q1004 q1005 q1006 q78 q1007 ny_X2_link rfl (Nat.le_of_ble_eq_true rfl) (Nat.le_of_ble_eq_true rfl) rfl (Nat.le_of_ble_eq_true rfl) dX2_fix_2 (fun X1 w1 H1 l1 q1 ce hx _ hS1 hc hv hcl => g_out C hS1 (fun x h => by cases h) hc hv hcl hx) (fun v w1 H locs hq _ hS => ?_)
  obtain ⟨r2, rfl, hw⟩ := hq
  refine W.eq (g2 := F0 m 5 ls [va_rf r2]) rfl ?_
  refine a_astore_n (lv' := [(2, va_rf r2), (0, .ref i0), (1, .int i1)]) C dX2_fix_5 rfl hl (by decide) (by cases r2 <;> rfl) (fun ls hl => ?_)
  refine a_aload_n C dX2_fix_6 rfl (lv_at hl 0 rfl) ?_
  obtain ⟨a3, e9, hw9⟩ := hw; subst e9; have hw := hw9; clear hw9
  have hl : lv_has ls 5 [(2, .ref a3), (0, .ref i0), (1, .int i1)] := hl
  refine W.eq (g2 := F0 m 7 ls [.ref a3]) rfl ?_
  refine a_IN C hS in_X6 rfl (k := 4) (ci := 5) (by decide) q946 (fun _ h9 => h9) dX2_fix_7 hw (fun v4 hw => ?_)
  refine lv_if_ne (tgt := 17) C.x C.b dX2_fix_10 (by decide) (fun c5 => ?_) (fun c5 => ?_)
  · have hw := hw.2 c5
    refine lv_iconst (v := 0) C.x C.b dX2_fix_17 (by decide) ?_
    exact kJ_X2_fix_18 C _ _ _ _ _ _ _ hS (lv_sub hl [1, 0] rfl) hw
  · have hw := hw.1 c5
    refine lv_iconst (v := 1) C.x C.b dX2_fix_13 (by decide) ?_
    refine lv_goto (tgt := 18) C.x C.b dX2_fix_14 (by decide) ?_
    exact kJ_X2_fix_18 C _ _ _ _ _ _ _ hS (lv_sub hl [1, 0] rfl) hw
theorem ny_X2_fix : gNm yX2_fix 1 = true := by decide +kernel
theorem kJ_X2_fix {l : Launch} (ht : l.stackTraces = false) {w : gW} {i0 : Nat} {i1 : Int32} {Q : Int32 → gW → Prop} {X : String → gW → Prop} (hw : wJ_X2_fix E i0 i1 Q X w) : gMet l yX2_fix (ws_ yX2_fix cX2_fix 5 (some .int)) E w [.ref i0, .int i1] 10 162 (gI Q) (X) :=
  g_ofW ht (by decide) (Nat.le_of_ble_eq_true rfl) (fun p e s m below meth c ls H C hl hS => kJ_X2_fix_r C _ _ _ _ _ _ hS hl hw)
end GN1
