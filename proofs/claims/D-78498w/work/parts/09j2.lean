section GJ2
variable {p : Program} {l : Launch} {e : Env} {s : State} {m : MethodId} {args : Array Value} {below : List Frame} {meth : Method} {c : Code} {E : gE} {w0 : gW}
def wJ_J3_copyOf_3 (E : gE) (i0 : Nat) (i1 : Int32) (Q : Option Nat → gW → Prop) (w : gW) : Prop :=
  aLen E i0 (fun v1 => (i1 = v1 → (aCl E i0 (fun q7 w8 => aKindA E 1 q7 (Q (some q7) w8) w8) w)) ∧ (¬ i1 = v1 → (aA E 1 i1 (fun q3 w4 => aLen E i0 (fun v5 => aCp E 1 i0 0 q3 0 (if i1 < v5 then i1 else v5) (fun w6 => Q (some q3) w6) w4) w4) w))) w
theorem kJ_J3_copyOf_3_r (C : gC p l s m args meth c cJ3_copyOf_3 3 (some (.array .byte)) RJ3 E [] "copyOf") (i0 : Nat) (i1 : Int32) {Q : Option Nat → gW → Prop} (w : gW) (H : Heap) (locs : List Loc) (ls : Array Slot) (hS : gS E w0 w H locs) (hl : lv_has ls 3 [(0, .ref i0), (1, .int i1)]) (hw : wJ_J3_copyOf_3 E i0 i1 Q w) : gGo p l e s m args below meth c H locs 1 60 E w0 w (gR Q) (gNoX) (F0 m 0 ls []) := by
  unfold wJ_J3_copyOf_3 at hw
  refine lv_iload_n C.x C.b dJ3_copyOf_3_0 rfl (lv_at hl 1 rfl) ?_
  refine lv_aload_n C.x C.b dJ3_copyOf_3_1 rfl (lv_at hl 0 rfl) ?_
  refine a_len C hS dJ3_copyOf_3_2 hw (fun v1 hw => ?_)
  refine lv_icmp_ne (tgt := 14) C.x C.b dJ3_copyOf_3_3 (by decide) (fun c2 => ?_) (fun c2 => ?_)
  · have hw := hw.2 c2
    refine lv_iload_n C.x C.b dJ3_copyOf_3_14 rfl (lv_at hl 1 rfl) ?_
    refine a_A (t := 1) (atype := .byte) C hS rfl (by decide) q363 dJ3_copyOf_3_15 hw (fun q3 w4 H hw hS => ?_)
    refine lv_astore_n (lv' := [(2, .ref q3), (0, .ref i0), (1, .int i1)]) C.x C.b dJ3_copyOf_3_17 rfl hl (by decide) rfl (fun ls hl => ?_)
    refine lv_aload_n C.x C.b dJ3_copyOf_3_18 rfl (lv_at hl 1 rfl) ?_
    refine lv_iconst (v := 0) C.x C.b dJ3_copyOf_3_19 (by decide) ?_
    refine lv_aload_n C.x C.b dJ3_copyOf_3_20 rfl (lv_at hl 0 rfl) ?_
    refine lv_iconst (v := 0) C.x C.b dJ3_copyOf_3_21 (by decide) ?_
    refine lv_aload_n C.x C.b dJ3_copyOf_3_22 rfl (lv_at hl 1 rfl) ?_
    refine a_len C hS dJ3_copyOf_3_23 hw (fun v5 hw => ?_)
    refine lv_iload_n C.x C.b dJ3_copyOf_3_24 rfl (lv_at hl 2 rfl) ?_
    refine a_min C hS hl q334 q335 q86 q336 (by decide) (Nat.le_of_ble_eq_true rfl) dJ3_copyOf_3_25 ?_
    refine a_cp (t := 1) C hS hl (by decide) q337 q339 q338 q87 (by decide) (Nat.le_of_ble_eq_true rfl) dJ3_copyOf_3_28 hw (fun w6 H locs hw hS => ?_)
    refine lv_aload_n C.x C.b dJ3_copyOf_3_31 rfl (lv_at hl 0 rfl) ?_
    exact g_aret (r := (some q3)) C (Or.inr ⟨_, rfl⟩) hS ⟨_, rfl, hw⟩ dJ3_copyOf_3_32
  · have hw := hw.1 c2
    refine lv_aload_n C.x C.b dJ3_copyOf_3_6 rfl (lv_at hl 0 rfl) ?_
    refine a_clone C hS hl q516 (by decide) (Nat.le_of_ble_eq_true rfl) dJ3_copyOf_3_7 hw (fun q7 w8 H hw hS => ?_)
    refine a_castB C hS q522 dJ3_copyOf_3_10 hw (fun hw => ?_)
    exact g_aret (r := (some q7)) C (Or.inr ⟨_, rfl⟩) hS ⟨_, rfl, hw⟩ dJ3_copyOf_3_13
theorem ny_J3_copyOf_3 : gNm yJ3_copyOf_3 2 = true := by decide +kernel
theorem kJ_J3_copyOf_3 {l : Launch} (ht : l.stackTraces = false) {w : gW} {i0 : Nat} {i1 : Int32} {Q : Option Nat → gW → Prop} (hw : wJ_J3_copyOf_3 E i0 i1 Q w) : gMet l yJ3_copyOf_3 (ws_ yJ3_copyOf_3 cJ3_copyOf_3 3 (some (.array .byte))) E w [.ref i0, .int i1] 1 60 (gR Q) (gNoX) :=
  g_ofW ht (by decide) (Nat.le_of_ble_eq_true rfl) (fun p e s m below meth c ls H C hl hS => kJ_J3_copyOf_3_r C _ _ _ _ _ _ hS hl hw)
def wJ_J3_checkLength (E : gE) (i0 : Int32) (i1 : Int32) (Q : gW → Prop) (w : gW) : Prop :=
  (i0 ≤ i1 → (Q w)) ∧ (¬ i0 ≤ i1 → (False))
theorem kJ_J3_checkLength_r (C : gC p l s m args meth c cJ3_checkLength 2 none RJ3 E [] "checkLength") (i0 : Int32) (i1 : Int32) {Q : gW → Prop} (w : gW) (H : Heap) (locs : List Loc) (ls : Array Slot) (hS : gS E w0 w H locs) (hl : lv_has ls 2 [(0, .int i0), (1, .int i1)]) (hw : wJ_J3_checkLength E i0 i1 Q w) : gGo p l e s m args below meth c H locs 8 120 E w0 w (gV Q) (gNoX) (F0 m 0 ls []) := by
  unfold wJ_J3_checkLength at hw
  refine lv_iload_n C.x C.b dJ3_checkLength_0 rfl (lv_at hl 1 rfl) ?_
  refine lv_iload_n C.x C.b dJ3_checkLength_1 rfl (lv_at hl 0 rfl) ?_
  refine lv_icmp_ge (tgt := 37) C.x C.b dJ3_checkLength_2 (by decide) (fun c1 => ?_) (fun c1 => ?_)
  · have hw := hw.1 c1
    exact g_vret C hS ⟨rfl, hw⟩ dJ3_checkLength_37
  · have hw := hw.2 c1
    exact hw.elim
theorem ny_J3_checkLength : gNm yJ3_checkLength 2 = true := by decide +kernel
theorem kJ_J3_checkLength {l : Launch} (ht : l.stackTraces = false) {w : gW} {i0 : Int32} {i1 : Int32} {Q : gW → Prop} (hw : wJ_J3_checkLength E i0 i1 Q w) : gMet l yJ3_checkLength (ws_ yJ3_checkLength cJ3_checkLength 2 none) E w [.int i0, .int i1] 8 120 (gV Q) (gNoX) :=
  g_ofW ht (by decide) (Nat.le_of_ble_eq_true rfl) (fun p e s m below meth c ls H C hl hS => kJ_J3_checkLength_r C _ _ _ _ _ _ hS hl hw)
def wJ_J3_copyOfRangeByte (E : gE) (i0 : Nat) (i1 : Int32) (i2 : Int32) (Q : Option Nat → gW → Prop) (w : gW) : Prop :=
  wJ_J3_checkLength E i1 i2 (fun w1 => aA E 1 (i2 - i1) (fun q2 w3 => aLen E i0 (fun v4 => aCp E 1 i0 i1 q2 0 (if (i2 - i1) < (v4 - i1) then (i2 - i1) else (v4 - i1)) (fun w5 => Q (some q2) w5) w3) w3) w1) w
theorem kJ_J3_copyOfRangeByte_r (C : gC p l s m args meth c cJ3_copyOfRangeByte 5 (some (.array .byte)) RJ3 E [] "copyOfRangeByte") (i0 : Nat) (i1 : Int32) (i2 : Int32) {Q : Option Nat → gW → Prop} (w : gW) (H : Heap) (locs : List Loc) (ls : Array Slot) (hS : gS E w0 w H locs) (hl : lv_has ls 5 [(0, .ref i0), (1, .int i1), (2, .int i2)]) (hw : wJ_J3_copyOfRangeByte E i0 i1 i2 Q w) : gGo p l e s m args below meth c H locs 9 141 E w0 w (gR Q) (gNoX) (F0 m 0 ls []) := by
  unfold wJ_J3_copyOfRangeByte at hw
  refine lv_iload_n C.x C.b dJ3_copyOfRangeByte_0 rfl (lv_at hl 1 rfl) ?_
  refine lv_iload_n C.x C.b dJ3_copyOfRangeByte_1 rfl (lv_at hl 2 rfl) ?_
  refine g_callS (rest := []) C hS hl (kJ_J3_checkLength C.tr hw) q607 q608 q84 q609 ny_J3_checkLength rfl (Nat.le_of_ble_eq_true rfl) (Nat.le_of_ble_eq_true rfl) rfl (Nat.le_of_ble_eq_true rfl) dJ3_copyOfRangeByte_2 (fun X1 w1 H1 l1 q1 ce hx => hx.elim) (fun v w1 H locs hq _ hS => ?_)
  obtain ⟨rfl, hw⟩ := hq
  refine W.eq (g2 := F0 m 5 ls []) rfl ?_
  refine lv_iload_n C.x C.b dJ3_copyOfRangeByte_5 rfl (lv_at hl 2 rfl) ?_
  refine lv_iload_n C.x C.b dJ3_copyOfRangeByte_6 rfl (lv_at hl 1 rfl) ?_
  refine lv_isub C.x C.b dJ3_copyOfRangeByte_7 ?_
  refine lv_istore_n (lv' := [(3, .int (i2 - i1)), (0, .ref i0), (1, .int i1), (2, .int i2)]) C.x C.b dJ3_copyOfRangeByte_8 rfl hl (by decide) rfl (fun ls hl => ?_)
  refine lv_iload_n C.x C.b dJ3_copyOfRangeByte_9 rfl (lv_at hl 0 rfl) ?_
  refine a_A (t := 1) (atype := .byte) C hS rfl (by decide) q363 dJ3_copyOfRangeByte_10 hw (fun q2 w3 H hw hS => ?_)
  refine lv_astore (lv' := [(4, .ref q2), (3, .int (i2 - i1)), (0, .ref i0), (1, .int i1), (2, .int i2)]) C.x C.b dJ3_copyOfRangeByte_12 hl (by decide) rfl (fun ls hl => ?_)
  refine lv_aload_n C.x C.b dJ3_copyOfRangeByte_14 rfl (lv_at hl 2 rfl) ?_
  refine lv_iload_n C.x C.b dJ3_copyOfRangeByte_15 rfl (lv_at hl 3 rfl) ?_
  refine lv_aload C.x C.b dJ3_copyOfRangeByte_16 (lv_at hl 0 rfl) ?_
  refine lv_iconst (v := 0) C.x C.b dJ3_copyOfRangeByte_18 (by decide) ?_
  refine lv_aload_n C.x C.b dJ3_copyOfRangeByte_19 rfl (lv_at hl 2 rfl) ?_
  refine a_len C hS dJ3_copyOfRangeByte_20 hw (fun v4 hw => ?_)
  refine lv_iload_n C.x C.b dJ3_copyOfRangeByte_21 rfl (lv_at hl 3 rfl) ?_
  refine lv_isub C.x C.b dJ3_copyOfRangeByte_22 ?_
  refine lv_iload_n C.x C.b dJ3_copyOfRangeByte_23 rfl (lv_at hl 1 rfl) ?_
  refine a_min C hS hl q334 q335 q86 q336 (by decide) (Nat.le_of_ble_eq_true rfl) dJ3_copyOfRangeByte_24 ?_
  refine a_cp (t := 1) C hS hl (by decide) q337 q339 q338 q87 (by decide) (Nat.le_of_ble_eq_true rfl) dJ3_copyOfRangeByte_27 hw (fun w5 H locs hw hS => ?_)
  refine lv_aload C.x C.b dJ3_copyOfRangeByte_30 (lv_at hl 0 rfl) ?_
  exact g_aret (r := (some q2)) C (Or.inr ⟨_, rfl⟩) hS ⟨_, rfl, hw⟩ dJ3_copyOfRangeByte_32
theorem ny_J3_copyOfRangeByte : gNm yJ3_copyOfRangeByte 3 = true := by decide +kernel
theorem kJ_J3_copyOfRangeByte {l : Launch} (ht : l.stackTraces = false) {w : gW} {i0 : Nat} {i1 : Int32} {i2 : Int32} {Q : Option Nat → gW → Prop} (hw : wJ_J3_copyOfRangeByte E i0 i1 i2 Q w) : gMet l yJ3_copyOfRangeByte (ws_ yJ3_copyOfRangeByte cJ3_copyOfRangeByte 5 (some (.array .byte))) E w [.ref i0, .int i1, .int i2] 9 141 (gR Q) (gNoX) :=
  g_ofW ht (by decide) (Nat.le_of_ble_eq_true rfl) (fun p e s m below meth c ls H C hl hS => kJ_J3_copyOfRangeByte_r C _ _ _ _ _ _ _ hS hl hw)
def wJ_J3_copyOfRange_10 (E : gE) (Q : Option Nat → gW → Prop) (x0 : Nat) (x1 : Int32) (x2 : Int32) (w : gW) : Prop :=
  wJ_J3_copyOfRangeByte E x0 x1 x2 (fun r7 w6 => Q r7 w6) w
theorem kJ_J3_copyOfRange_10 (C : gC p l s m args meth c cJ3_copyOfRange 3 (some (.array .byte)) RJ3 E [] "copyOfRange") {Q : Option Nat → gW → Prop} (x0 : Nat) (x1 : Int32) (x2 : Int32) (w : gW) (H : Heap) (locs : List Loc) (ls : Array Slot) (hS : gS E w0 w H locs) (hl : lv_has ls 3 [(0, .ref x0), (1, .int x1), (2, .int x2)]) (hw : wJ_J3_copyOfRange_10 E Q x0 x1 x2 w) : gGo p l e s m args below meth c H locs 10 165 E w0 w (gR Q) (gNoX) (F0 m 10 ls []) := by
  unfold wJ_J3_copyOfRange_10 at hw
  refine lv_aload_n C.x C.b dJ3_copyOfRange_10 rfl (lv_at hl 0 rfl) ?_
  refine lv_iload_n C.x C.b dJ3_copyOfRange_11 rfl (lv_at hl 1 rfl) ?_
  refine lv_iload_n C.x C.b dJ3_copyOfRange_12 rfl (lv_at hl 2 rfl) ?_
  refine g_callS (rest := []) C hS hl (kJ_J3_copyOfRangeByte C.tr hw) q604 q605 q84 q606 ny_J3_copyOfRangeByte rfl (Nat.le_of_ble_eq_true rfl) (Nat.le_of_ble_eq_true rfl) rfl (Nat.le_of_ble_eq_true rfl) dJ3_copyOfRange_13 (fun X1 w1 H1 l1 q1 ce hx => hx.elim) (fun v w6 H locs hq _ hS => ?_)
  obtain ⟨r7, rfl, hw⟩ := hq
  refine W.eq (g2 := F0 m 16 ls [va_rf r7]) rfl ?_
  exact g_aret (r := r7) C (Or.inr ⟨_, rfl⟩) hS ⟨_, rfl, hw⟩ dJ3_copyOfRange_16
def wJ_J3_copyOfRange (E : gE) (i0 : Nat) (i1 : Int32) (i2 : Int32) (Q : Option Nat → gW → Prop) (w : gW) : Prop :=
  (i1 = 0 → (aLen E i0 (fun v2 => (i2 = v2 → (aCl E i0 (fun q4 w5 => aKindA E 1 q4 (Q (some q4) w5) w5) w)) ∧ (¬ i2 = v2 → (wJ_J3_copyOfRange_10 E Q i0 i1 i2 w))) w)) ∧ (¬ i1 = 0 → (wJ_J3_copyOfRange_10 E Q i0 i1 i2 w))
theorem kJ_J3_copyOfRange_r (C : gC p l s m args meth c cJ3_copyOfRange 3 (some (.array .byte)) RJ3 E [] "copyOfRange") (i0 : Nat) (i1 : Int32) (i2 : Int32) {Q : Option Nat → gW → Prop} (w : gW) (H : Heap) (locs : List Loc) (ls : Array Slot) (hS : gS E w0 w H locs) (hl : lv_has ls 3 [(0, .ref i0), (1, .int i1), (2, .int i2)]) (hw : wJ_J3_copyOfRange E i0 i1 i2 Q w) : gGo p l e s m args below meth c H locs 10 165 E w0 w (gR Q) (gNoX) (F0 m 0 ls []) := by
  unfold wJ_J3_copyOfRange at hw
  refine lv_iload_n C.x C.b dJ3_copyOfRange_0 rfl (lv_at hl 1 rfl) ?_
  refine lv_if_ne (tgt := 10) C.x C.b dJ3_copyOfRange_1 (by decide) (fun c1 => ?_) (fun c1 => ?_)
  · have hw := hw.2 c1
    exact kJ_J3_copyOfRange_10 C _ _ _ _ _ _ _ hS (lv_sub hl [0, 1, 2] rfl) hw
  · have hw := hw.1 c1
    refine lv_iload_n C.x C.b dJ3_copyOfRange_4 rfl (lv_at hl 2 rfl) ?_
    refine lv_aload_n C.x C.b dJ3_copyOfRange_5 rfl (lv_at hl 0 rfl) ?_
    refine a_len C hS dJ3_copyOfRange_6 hw (fun v2 hw => ?_)
    refine lv_icmp_eq (tgt := 17) C.x C.b dJ3_copyOfRange_7 (by decide) (fun c3 => ?_) (fun c3 => ?_)
    · have hw := hw.1 c3
      refine lv_aload_n C.x C.b dJ3_copyOfRange_17 rfl (lv_at hl 0 rfl) ?_
      refine a_clone C hS hl q516 (by decide) (Nat.le_of_ble_eq_true rfl) dJ3_copyOfRange_18 hw (fun q4 w5 H hw hS => ?_)
      refine a_castB C hS q522 dJ3_copyOfRange_21 hw (fun hw => ?_)
      exact g_aret (r := (some q4)) C (Or.inr ⟨_, rfl⟩) hS ⟨_, rfl, hw⟩ dJ3_copyOfRange_24
    · have hw := hw.2 c3
      exact kJ_J3_copyOfRange_10 C _ _ _ _ _ _ _ hS (lv_sub hl [0, 1, 2] rfl) hw
theorem ny_J3_copyOfRange : gNm yJ3_copyOfRange 3 = true := by decide +kernel
theorem kJ_J3_copyOfRange {l : Launch} (ht : l.stackTraces = false) {w : gW} {i0 : Nat} {i1 : Int32} {i2 : Int32} {Q : Option Nat → gW → Prop} (hw : wJ_J3_copyOfRange E i0 i1 i2 Q w) : gMet l yJ3_copyOfRange (ws_ yJ3_copyOfRange cJ3_copyOfRange 3 (some (.array .byte))) E w [.ref i0, .int i1, .int i2] 10 165 (gR Q) (gNoX) :=
  g_ofW ht (by decide) (Nat.le_of_ble_eq_true rfl) (fun p e s m below meth c ls H C hl hS => kJ_J3_copyOfRange_r C _ _ _ _ _ _ _ hS hl hw)
def wJ_J19_canEncode (E : gE) (i0 : Int32) (Q : Int32 → gW → Prop) (w : gW) : Prop :=
  (255 < i0 → (Q 0 w)) ∧ (¬ 255 < i0 → (Q 1 w))
theorem kJ_J19_canEncode_r (C : gC p l s m args meth c cJ19_canEncode 1 (some .boolean) RJ19 E [] "canEncode") (i0 : Int32) {Q : Int32 → gW → Prop} (w : gW) (H : Heap) (locs : List Loc) (ls : Array Slot) (hS : gS E w0 w H locs) (hl : lv_has ls 1 [(0, .int i0)]) (hw : wJ_J19_canEncode E i0 Q w) : gGo p l e s m args below meth c H locs 0 0 E w0 w (gI Q) (gNoX) (F0 m 0 ls []) := by
  unfold wJ_J19_canEncode at hw
  refine lv_iload_n C.x C.b dJ19_canEncode_0 rfl (lv_at hl 0 rfl) ?_
  refine lv_sipush (v := 255) C.x C.b dJ19_canEncode_1 (by decide) ?_
  refine lv_icmp_gt (tgt := 11) C.x C.b dJ19_canEncode_4 (by decide) (fun c1 => ?_) (fun c1 => ?_)
  · have hw := hw.1 c1
    refine lv_iconst (v := 0) C.x C.b dJ19_canEncode_11 (by decide) ?_
    exact g_zret C hS rfl ⟨_, rfl, hw⟩ dJ19_canEncode_12
  · have hw := hw.2 c1
    refine lv_iconst (v := 1) C.x C.b dJ19_canEncode_7 (by decide) ?_
    refine lv_goto (tgt := 12) C.x C.b dJ19_canEncode_8 (by decide) ?_
    exact g_zret C hS rfl ⟨_, rfl, hw⟩ dJ19_canEncode_12
theorem ny_J19_canEncode : gNm yJ19_canEncode 1 = true := by decide +kernel
theorem kJ_J19_canEncode {l : Launch} (ht : l.stackTraces = false) {w : gW} {i0 : Int32} {Q : Int32 → gW → Prop} (hw : wJ_J19_canEncode E i0 Q w) : gMet l yJ19_canEncode (ws_ yJ19_canEncode cJ19_canEncode 1 (some .boolean)) E w [.int i0] 0 0 (gI Q) (gNoX) :=
  g_ofW ht (by decide) (Nat.le_of_ble_eq_true rfl) (fun p e s m below meth c ls H C hl hS => kJ_J19_canEncode_r C _ _ _ _ _ hS hl hw)
def wJ_J16_isLatin1 (E : gE) (i0 : Nat) (Q : Int32 → gW → Prop) (w : gW) : Prop :=
  aGs E "java/lang/String" "COMPACT_STRINGS" "Z" (fun v1 => (v1 = 0 → (Q 0 w)) ∧ (¬ v1 = 0 → (aI E i0 9 1 (fun v3 => (v3 = 0 → (Q 1 w)) ∧ (¬ v3 = 0 → (Q 0 w))) w)))
theorem kJ_J16_isLatin1_r (C : gC p l s m args meth c cJ16_isLatin1 1 (some .boolean) RJ16 E [] "isLatin1") (i0 : Nat) {Q : Int32 → gW → Prop} (w : gW) (H : Heap) (locs : List Loc) (ls : Array Slot) (hS : gS E w0 w H locs) (hl : lv_has ls 1 [(0, .ref i0)]) (hw : wJ_J16_isLatin1 E i0 Q w) : gGo p l e s m args below meth c H locs 0 0 E w0 w (gI Q) (gNoX) (F0 m 0 ls []) := by
  unfold wJ_J16_isLatin1 at hw
  obtain ⟨v1, hZ, hw⟩ := hw
  refine a_gs C hS hZ q474 (fun _ h9 => h9) dJ16_isLatin1_0 ?_
  refine lv_if_eq (tgt := 17) C.x C.b dJ16_isLatin1_3 (by decide) (fun c2 => ?_) (fun c2 => ?_)
  · have hw := hw.1 c2
    refine lv_iconst (v := 0) C.x C.b dJ16_isLatin1_17 (by decide) ?_
    exact g_zret C hS rfl ⟨_, rfl, hw⟩ dJ16_isLatin1_18
  · have hw := hw.2 c2
    refine lv_aload_n C.x C.b dJ16_isLatin1_6 rfl (lv_at hl 0 rfl) ?_
    refine a_I C hS in_J17 rfl (k := 1) (ci := 9) (by decide) q484 (fun _ h9 => h9) dJ16_isLatin1_7 hw (fun v3 hw => ?_)
    refine lv_if_ne (tgt := 17) C.x C.b dJ16_isLatin1_10 (by decide) (fun c4 => ?_) (fun c4 => ?_)
    · have hw := hw.2 c4
      refine lv_iconst (v := 0) C.x C.b dJ16_isLatin1_17 (by decide) ?_
      exact g_zret C hS rfl ⟨_, rfl, hw⟩ dJ16_isLatin1_18
    · have hw := hw.1 c4
      refine lv_iconst (v := 1) C.x C.b dJ16_isLatin1_13 (by decide) ?_
      refine lv_goto (tgt := 18) C.x C.b dJ16_isLatin1_14 (by decide) ?_
      exact g_zret C hS rfl ⟨_, rfl, hw⟩ dJ16_isLatin1_18
theorem ny_J16_isLatin1 : gNm yJ16_isLatin1 0 = true := by decide +kernel
theorem kJ_J16_isLatin1 {l : Launch} (ht : l.stackTraces = false) {w : gW} {i0 : Nat} {Q : Int32 → gW → Prop} (hw : wJ_J16_isLatin1 E i0 Q w) : gMet l yJ16_isLatin1 (ws_ yJ16_isLatin1 cJ16_isLatin1 1 (some .boolean)) E w [.ref i0] 0 0 (gI Q) (gNoX) :=
  g_ofW ht (by decide) (Nat.le_of_ble_eq_true rfl) (fun p e s m below meth c ls H C hl hS => kJ_J16_isLatin1_r C _ _ _ _ _ hS hl hw)
def wJ_J16_getValue (E : gE) (i0 : Nat) (Q : Option Nat → gW → Prop) (w : gW) : Prop :=
  aR E i0 9 0 (fun r1 => Q r1 w) w
theorem kJ_J16_getValue_r (C : gC p l s m args meth c cJ16_getValue 1 (some (.array .byte)) RJ16 E [] "getValue") (i0 : Nat) {Q : Option Nat → gW → Prop} (w : gW) (H : Heap) (locs : List Loc) (ls : Array Slot) (hS : gS E w0 w H locs) (hl : lv_has ls 1 [(0, .ref i0)]) (hw : wJ_J16_getValue E i0 Q w) : gGo p l e s m args below meth c H locs 0 0 E w0 w (gR Q) (gNoX) (F0 m 0 ls []) := by
  unfold wJ_J16_getValue at hw
  refine lv_aload_n C.x C.b dJ16_getValue_0 rfl (lv_at hl 0 rfl) ?_
  refine a_R C hS in_J17 rfl (k := 0) (ci := 9) (by decide) q483 (fun _ h9 => h9) dJ16_getValue_1 hw (fun r1 hw => ?_)
  exact g_aret (r := r1) C (Or.inr ⟨_, rfl⟩) hS ⟨_, rfl, hw⟩ dJ16_getValue_4
theorem ny_J16_getValue : gNm yJ16_getValue 0 = true := by decide +kernel
theorem kJ_J16_getValue {l : Launch} (ht : l.stackTraces = false) {w : gW} {i0 : Nat} {Q : Option Nat → gW → Prop} (hw : wJ_J16_getValue E i0 Q w) : gMet l yJ16_getValue (ws_ yJ16_getValue cJ16_getValue 1 (some (.array .byte))) E w [.ref i0] 0 0 (gR Q) (gNoX) :=
  g_ofW ht (by decide) (Nat.le_of_ble_eq_true rfl) (fun p e s m below meth c ls H C hl hS => kJ_J16_getValue_r C _ _ _ _ _ hS hl hw)
def wJ_J16_length (E : gE) (i0 : Nat) (Q : Int32 → gW → Prop) (w : gW) : Prop :=
  aI E i0 9 3 (fun v1 => Q v1 w) w
theorem kJ_J16_length_r (C : gC p l s m args meth c cJ16_length 1 (some .int) RJ16 E [] "length") (i0 : Nat) {Q : Int32 → gW → Prop} (w : gW) (H : Heap) (locs : List Loc) (ls : Array Slot) (hS : gS E w0 w H locs) (hl : lv_has ls 1 [(0, .ref i0)]) (hw : wJ_J16_length E i0 Q w) : gGo p l e s m args below meth c H locs 0 0 E w0 w (gI Q) (gNoX) (F0 m 0 ls []) := by
  unfold wJ_J16_length at hw
  refine lv_aload_n C.x C.b dJ16_length_0 rfl (lv_at hl 0 rfl) ?_
  refine a_I C hS in_J17 rfl (k := 3) (ci := 9) (by decide) q486 (fun _ h9 => h9) dJ16_length_1 hw (fun v1 hw => ?_)
  exact g_iret C hS ⟨_, rfl, hw⟩ dJ16_length_4
theorem ny_J16_length : gNm yJ16_length 0 = true := by decide +kernel
theorem kJ_J16_length {l : Launch} (ht : l.stackTraces = false) {w : gW} {i0 : Nat} {Q : Int32 → gW → Prop} (hw : wJ_J16_length E i0 Q w) : gMet l yJ16_length (ws_ yJ16_length cJ16_length 1 (some .int)) E w [.ref i0] 0 0 (gI Q) (gNoX) :=
  g_ofW ht (by decide) (Nat.le_of_ble_eq_true rfl) (fun p e s m below meth c ls H C hl hS => kJ_J16_length_r C _ _ _ _ _ hS hl hw)
def wJ_J16_newCapacity (E : gE) (i0 : Nat) (i1 : Int32) (Q : Int32 → gW → Prop) (w : gW) : Prop :=
  aR E i0 9 0 (fun r1 => ∃ a2 : Nat, r1 = some a2 ∧ (aLen E a2 (fun v3 => aI E i0 9 1 (fun v4 => ∀ z5 : Int32, z5 = ((i1 <<< (v4 &&& 31)) - v3) → aI E i0 9 1 (fun v6 => wJ_J4_newLength E v3 z5 (v3 + (2 <<< (v6 &&& 31))) (fun r8 w7 => (r8 = 2147483647 → (False)) ∧ (¬ r8 = 2147483647 → (aI E i0 9 1 (fun v10 => Q (r8 >>> (v10 &&& 31)) w7) w7))) w) w) w) w)) w
theorem kJ_J16_newCapacity_r (C : gC p l s m args meth c cJ16_newCapacity 6 (some .int) RJ16 E [] "newCapacity") (i0 : Nat) (i1 : Int32) {Q : Int32 → gW → Prop} (w : gW) (H : Heap) (locs : List Loc) (ls : Array Slot) (hS : gS E w0 w H locs) (hl : lv_has ls 6 [(0, .ref i0), (1, .int i1)]) (hw : wJ_J16_newCapacity E i0 i1 Q w) : gGo p l e s m args below meth c H locs 2 47 E w0 w (gI Q) (gNoX) (F0 m 0 ls []) := by
  unfold wJ_J16_newCapacity at hw
  refine lv_aload_n C.x C.b dJ16_newCapacity_0 rfl (lv_at hl 0 rfl) ?_
  refine a_R C hS in_J17 rfl (k := 0) (ci := 9) (by decide) q483 (fun _ h9 => h9) dJ16_newCapacity_1 hw (fun r1 hw => ?_)
  obtain ⟨a2, e9, hw9⟩ := hw; subst e9; have hw := hw9; clear hw9
  have hl : lv_has ls 6 [(0, .ref i0), (1, .int i1)] := hl
  refine W.eq (g2 := F0 m 4 ls [.ref a2]) rfl ?_
  refine a_len C hS dJ16_newCapacity_4 hw (fun v3 hw => ?_)
  refine lv_istore_n (lv' := [(2, .int v3), (0, .ref i0), (1, .int i1)]) C.x C.b dJ16_newCapacity_5 rfl hl (by decide) rfl (fun ls hl => ?_)
  refine lv_iload_n C.x C.b dJ16_newCapacity_6 rfl (lv_at hl 2 rfl) ?_
  refine lv_aload_n C.x C.b dJ16_newCapacity_7 rfl (lv_at hl 1 rfl) ?_
  refine a_I C hS in_J17 rfl (k := 1) (ci := 9) (by decide) q484 (fun _ h9 => h9) dJ16_newCapacity_8 hw (fun v4 hw => ?_)
  refine lv_ishl C.x C.b dJ16_newCapacity_11 ?_
  refine lv_istore_n (lv' := [(3, .int (i1 <<< (v4 &&& 31))), (2, .int v3), (0, .ref i0), (1, .int i1)]) C.x C.b dJ16_newCapacity_12 rfl hl (by decide) rfl (fun ls hl => ?_)
  refine lv_iload_n C.x C.b dJ16_newCapacity_13 rfl (lv_at hl 0 rfl) ?_
  refine lv_iload_n C.x C.b dJ16_newCapacity_14 rfl (lv_at hl 1 rfl) ?_
  refine lv_isub C.x C.b dJ16_newCapacity_15 ?_
  refine lv_topi (fun z5 ez5 => ?_)
  have hw := hw z5 ez5
  refine lv_istore (lv' := [(4, .int z5), (3, .int (i1 <<< (v4 &&& 31))), (2, .int v3), (0, .ref i0), (1, .int i1)]) C.x C.b dJ16_newCapacity_16 hl (by decide) rfl (fun ls hl => ?_)
  refine lv_iload_n C.x C.b dJ16_newCapacity_18 rfl (lv_at hl 2 rfl) ?_
  refine lv_iload C.x C.b dJ16_newCapacity_19 (lv_at hl 0 rfl) ?_
  refine lv_iload_n C.x C.b dJ16_newCapacity_21 rfl (lv_at hl 2 rfl) ?_
  refine lv_iconst (v := 2) C.x C.b dJ16_newCapacity_22 (by decide) ?_
  refine lv_aload_n C.x C.b dJ16_newCapacity_23 rfl (lv_at hl 3 rfl) ?_
  refine a_I C hS in_J17 rfl (k := 1) (ci := 9) (by decide) q484 (fun _ h9 => h9) dJ16_newCapacity_24 hw (fun v6 hw => ?_)
  refine lv_ishl C.x C.b dJ16_newCapacity_27 ?_
  refine lv_iadd C.x C.b dJ16_newCapacity_28 ?_
  refine g_callS (rest := []) C hS hl (kJ_J4_newLength C.tr hw) q511 q296 q85 q297 ny_J4_newLength rfl (Nat.le_of_ble_eq_true rfl) (Nat.le_of_ble_eq_true rfl) rfl (Nat.le_of_ble_eq_true rfl) dJ16_newCapacity_29 (fun X1 w1 H1 l1 q1 ce hx => hx.elim) (fun v w7 H locs hq _ hS => ?_)
  obtain ⟨r8, rfl, hw⟩ := hq
  refine W.eq (g2 := F0 m 32 ls [.int r8]) rfl ?_
  refine lv_istore (lv' := [(5, .int r8), (4, .int z5), (3, .int (i1 <<< (v4 &&& 31))), (2, .int v3), (0, .ref i0), (1, .int i1)]) C.x C.b dJ16_newCapacity_32 hl (by decide) rfl (fun ls hl => ?_)
  refine lv_iload C.x C.b dJ16_newCapacity_34 (lv_at hl 0 rfl) ?_
  refine lv_ldc C.x C.b C.ow (C.ts _ q512) dJ16_newCapacity_36 ?_
  refine lv_icmp_ne (tgt := 51) C.x C.b dJ16_newCapacity_38 (by decide) (fun c9 => ?_) (fun c9 => ?_)
  · have hw := hw.2 c9
    refine lv_iload C.x C.b dJ16_newCapacity_51 (lv_at hl 0 rfl) ?_
    refine lv_aload_n C.x C.b dJ16_newCapacity_53 rfl (lv_at hl 4 rfl) ?_
    refine a_I C hS in_J17 rfl (k := 1) (ci := 9) (by decide) q484 (fun _ h9 => h9) dJ16_newCapacity_54 hw (fun v10 hw => ?_)
    refine lv_ishr C.x C.b dJ16_newCapacity_57 ?_
    exact g_iret C hS ⟨_, rfl, hw⟩ dJ16_newCapacity_58
  · have hw := hw.1 c9
    exact hw.elim
theorem ny_J16_newCapacity : gNm yJ16_newCapacity 1 = true := by decide +kernel
theorem kJ_J16_newCapacity {l : Launch} (ht : l.stackTraces = false) {w : gW} {i0 : Nat} {i1 : Int32} {Q : Int32 → gW → Prop} (hw : wJ_J16_newCapacity E i0 i1 Q w) : gMet l yJ16_newCapacity (ws_ yJ16_newCapacity cJ16_newCapacity 6 (some .int)) E w [.ref i0, .int i1] 2 47 (gI Q) (gNoX) :=
  g_ofW ht (by decide) (Nat.le_of_ble_eq_true rfl) (fun p e s m below meth c ls H C hl hS => kJ_J16_newCapacity_r C _ _ _ _ _ _ hS hl hw)
def wJ_J16_ensureCapacityInternal (E : gE) (i0 : Nat) (i1 : Int32) (Q : gW → Prop) (w : gW) : Prop :=
  aR E i0 9 0 (fun r1 => ∃ a2 : Nat, r1 = some a2 ∧ (aLen E a2 (fun v3 => aI E i0 9 1 (fun v4 => ((i1 - (v3 >>> (v4 &&& 31))) ≤ 0 → (Q w)) ∧ (¬ (i1 - (v3 >>> (v4 &&& 31))) ≤ 0 → (aR E i0 9 0 (fun r6 => aKind E i0 9 (wJ_J16_newCapacity E i0 i1 (fun r8 w7 => aI E i0 9 1 (fun v9 => ∃ a10 : Nat, r6 = some a10 ∧ (wJ_J3_copyOf_3 E a10 (r8 <<< (v9 &&& 31)) (fun r12 w11 => aP i0 9 0 (va_rf r12) (fun w13 => Q w13) w11) w7)) w7) w) w) w))) w) w)) w
theorem kJ_J16_ensureCapacityInternal_r (C : gC p l s m args meth c cJ16_ensureCapacityInternal 3 none RJ16 E [] "ensureCapacityInternal") (i0 : Nat) (i1 : Int32) {Q : gW → Prop} (w : gW) (H : Heap) (locs : List Loc) (ls : Array Slot) (hS : gS E w0 w H locs) (hl : lv_has ls 3 [(0, .ref i0), (1, .int i1)]) (hw : wJ_J16_ensureCapacityInternal E i0 i1 Q w) : gGo p l e s m args below meth c H locs 3 82 E w0 w (gV Q) (gNoX) (F0 m 0 ls []) := by
  unfold wJ_J16_ensureCapacityInternal at hw
  refine lv_aload_n C.x C.b dJ16_ensureCapacityInternal_0 rfl (lv_at hl 0 rfl) ?_
  refine a_R C hS in_J17 rfl (k := 0) (ci := 9) (by decide) q483 (fun _ h9 => h9) dJ16_ensureCapacityInternal_1 hw (fun r1 hw => ?_)
  obtain ⟨a2, e9, hw9⟩ := hw; subst e9; have hw := hw9; clear hw9
  have hl : lv_has ls 3 [(0, .ref i0), (1, .int i1)] := hl
  refine W.eq (g2 := F0 m 4 ls [.ref a2]) rfl ?_
  refine a_len C hS dJ16_ensureCapacityInternal_4 hw (fun v3 hw => ?_)
  refine lv_aload_n C.x C.b dJ16_ensureCapacityInternal_5 rfl (lv_at hl 0 rfl) ?_
  refine a_I C hS in_J17 rfl (k := 1) (ci := 9) (by decide) q484 (fun _ h9 => h9) dJ16_ensureCapacityInternal_6 hw (fun v4 hw => ?_)
  refine lv_ishr C.x C.b dJ16_ensureCapacityInternal_9 ?_
  refine lv_istore_n (lv' := [(2, .int (v3 >>> (v4 &&& 31))), (0, .ref i0), (1, .int i1)]) C.x C.b dJ16_ensureCapacityInternal_10 rfl hl (by decide) rfl (fun ls hl => ?_)
  refine lv_iload_n C.x C.b dJ16_ensureCapacityInternal_11 rfl (lv_at hl 2 rfl) ?_
  refine lv_iload_n C.x C.b dJ16_ensureCapacityInternal_12 rfl (lv_at hl 0 rfl) ?_
  refine lv_isub C.x C.b dJ16_ensureCapacityInternal_13 ?_
  refine lv_if_le (tgt := 38) C.x C.b dJ16_ensureCapacityInternal_14 (by decide) (fun c5 => ?_) (fun c5 => ?_)
  · have hw := hw.1 c5
    exact g_vret C hS ⟨rfl, hw⟩ dJ16_ensureCapacityInternal_38
  · have hw := hw.2 c5
    refine lv_aload_n C.x C.b dJ16_ensureCapacityInternal_17 rfl (lv_at hl 1 rfl) ?_
    refine lv_aload_n C.x C.b dJ16_ensureCapacityInternal_18 rfl (lv_at hl 1 rfl) ?_
    refine a_R C hS in_J17 rfl (k := 0) (ci := 9) (by decide) q483 (fun _ h9 => h9) dJ16_ensureCapacityInternal_19 hw (fun r6 hw => ?_)
    refine lv_aload_n C.x C.b dJ16_ensureCapacityInternal_22 rfl (lv_at hl 1 rfl) ?_
    refine lv_iload_n C.x C.b dJ16_ensureCapacityInternal_23 rfl (lv_at hl 2 rfl) ?_
    obtain ⟨fs, hq, hw⟩ := hw
    refine a_callVP (rest := [va_rf r6, .ref i0]) C hS hl 9 hq rfl (kJ_J16_newCapacity C.tr hw) q507 q1860 q508 q509 q103 q510 ny_J16_newCapacity rfl (Nat.le_of_ble_eq_true rfl) (Nat.le_of_ble_eq_true rfl) rfl (by cases r6 <;> exact (Nat.le_of_ble_eq_true rfl)) dJ16_ensureCapacityInternal_24 (fun X1 w1 H1 l1 q1 ce hx => hx.elim) (fun v w7 H locs hq _ hS => ?_)
    obtain ⟨r8, rfl, hw⟩ := hq
    refine W.eq (g2 := F0 m 27 ls [.int r8, va_rf r6, .ref i0]) rfl ?_
    refine lv_aload_n C.x C.b dJ16_ensureCapacityInternal_27 rfl (lv_at hl 1 rfl) ?_
    refine a_I C hS in_J17 rfl (k := 1) (ci := 9) (by decide) q484 (fun _ h9 => h9) dJ16_ensureCapacityInternal_28 hw (fun v9 hw => ?_)
    refine lv_ishl C.x C.b dJ16_ensureCapacityInternal_31 ?_
    obtain ⟨a10, e9, hw9⟩ := hw; subst e9; have hw := hw9; clear hw9
    have hl : lv_has ls 3 [(2, .int (v3 >>> (v4 &&& 31))), (0, .ref i0), (1, .int i1)] := hl
    refine W.eq (g2 := F0 m 32 ls [.int (r8 <<< (v9 &&& 31)), .ref a10, .ref i0]) rfl ?_
    refine g_callS (rest := [.ref i0]) C hS hl (kJ_J3_copyOf_3 C.tr hw) q513 q514 q84 q515 ny_J3_copyOf_3 rfl (Nat.le_of_ble_eq_true rfl) (Nat.le_of_ble_eq_true rfl) rfl (Nat.le_of_ble_eq_true rfl) dJ16_ensureCapacityInternal_32 (fun X1 w1 H1 l1 q1 ce hx => hx.elim) (fun v w11 H locs hq _ hS => ?_)
    obtain ⟨r12, rfl, hw⟩ := hq
    refine W.eq (g2 := F0 m 35 ls [va_rf r12, .ref i0]) rfl ?_
    refine a_P C hS in_J17 tyJ17 tyJ17_ok nmJ17 rfl (k := 0) (ci := 9) (by decide) q483 (fun _ h9 => h9) rfl va_rf_narA va_rf_fitA dJ16_ensureCapacityInternal_35 hw (fun w13 H locs hw hS => ?_)
    exact g_vret C hS ⟨rfl, hw⟩ dJ16_ensureCapacityInternal_38
theorem ny_J16_ensureCapacityInternal : gNm yJ16_ensureCapacityInternal 1 = true := by decide +kernel
theorem kJ_J16_ensureCapacityInternal {l : Launch} (ht : l.stackTraces = false) {w : gW} {i0 : Nat} {i1 : Int32} {Q : gW → Prop} (hw : wJ_J16_ensureCapacityInternal E i0 i1 Q w) : gMet l yJ16_ensureCapacityInternal (ws_ yJ16_ensureCapacityInternal cJ16_ensureCapacityInternal 3 none) E w [.ref i0, .int i1] 3 82 (gV Q) (gNoX) :=
  g_ofW ht (by decide) (Nat.le_of_ble_eq_true rfl) (fun p e s m below meth c ls H C hl hS => kJ_J16_ensureCapacityInternal_r C _ _ _ _ _ _ hS hl hw)
def wJ_J16_append_56 (E : gE) (Q : Option Nat → gW → Prop) (x0 : Nat) (x1 : Int32) (w : gW) : Prop :=
  aR E x0 9 0 (fun r17 => aI E x0 9 3 (fun v18 => aP x0 9 3 (.int (v18 + 1)) (fun w19 => False) w) w) w
theorem kJ_J16_append_56 (C : gC p l s m args meth c cJ16_append 2 (some (.object "java/lang/AbstractStringBuilder")) RJ16 E [] "append") {Q : Option Nat → gW → Prop} (x0 : Nat) (x1 : Int32) (w : gW) (H : Heap) (locs : List Loc) (ls : Array Slot) (hS : gS E w0 w H locs) (hl : lv_has ls 2 [(0, .ref x0), (1, .int x1)]) (hw : wJ_J16_append_56 E Q x0 x1 w) : gGo p l e s m args below meth c H locs 4 104 E w0 w (gR Q) (gNoX) (F0 m 56 ls []) := by
  unfold wJ_J16_append_56 at hw
  refine lv_aload_n C.x C.b dJ16_append_56 rfl (lv_at hl 0 rfl) ?_
  refine a_R C hS in_J17 rfl (k := 0) (ci := 9) (by decide) q483 (fun _ h9 => h9) dJ16_append_57 hw (fun r17 hw => ?_)
  refine lv_aload_n C.x C.b dJ16_append_60 rfl (lv_at hl 0 rfl) ?_
  refine lv_dup C.x C.b dJ16_append_61 rfl ?_
  refine a_I C hS in_J17 rfl (k := 3) (ci := 9) (by decide) q486 (fun _ h9 => h9) dJ16_append_62 hw (fun v18 hw => ?_)
  refine lv_dup_x1 C.x C.b dJ16_append_65 rfl rfl ?_
  refine lv_iconst (v := 1) C.x C.b dJ16_append_66 (by decide) ?_
  refine lv_iadd C.x C.b dJ16_append_67 ?_
  refine a_P C hS in_J17 tyJ17 tyJ17_ok nmJ17 rfl (k := 3) (ci := 9) (by decide) q486 (fun _ h9 => h9) rfl rfl rfl dJ16_append_68 hw (fun w19 H locs hw hS => ?_)
  refine lv_iload_n C.x C.b dJ16_append_71 rfl (lv_at hl 1 rfl) ?_
  exact hw.elim
def wJ_J16_append_45 (E : gE) (Q : Option Nat → gW → Prop) (x0 : Nat) (x1 : Int32) (w : gW) : Prop :=
  aKind E x0 9 (wJ_J16_isLatin1 E x0 (fun r15 w14 => (r15 = 0 → (wJ_J16_append_56 E Q x0 x1 w14)) ∧ (¬ r15 = 0 → (False))) w) w
theorem kJ_J16_append_45 (C : gC p l s m args meth c cJ16_append 2 (some (.object "java/lang/AbstractStringBuilder")) RJ16 E [] "append") {Q : Option Nat → gW → Prop} (x0 : Nat) (x1 : Int32) (w : gW) (H : Heap) (locs : List Loc) (ls : Array Slot) (hS : gS E w0 w H locs) (hl : lv_has ls 2 [(0, .ref x0), (1, .int x1)]) (hw : wJ_J16_append_45 E Q x0 x1 w) : gGo p l e s m args below meth c H locs 4 104 E w0 w (gR Q) (gNoX) (F0 m 45 ls []) := by
  unfold wJ_J16_append_45 at hw
  refine lv_aload_n C.x C.b dJ16_append_45 rfl (lv_at hl 0 rfl) ?_
  obtain ⟨fs, hq, hw⟩ := hw
  refine a_callV (rest := []) C hS hl 9 hq rfl (kJ_J16_isLatin1 C.tr hw) q523 q524 q526 q103 q527 ny_J16_isLatin1 rfl (Nat.le_of_ble_eq_true rfl) (Nat.le_of_ble_eq_true rfl) rfl (Nat.le_of_ble_eq_true rfl) dJ16_append_46 (fun X1 w1 H1 l1 q1 ce hx => hx.elim) (fun v w14 H locs hq _ hS => ?_)
  obtain ⟨r15, rfl, hw⟩ := hq
  refine W.eq (g2 := F0 m 49 ls [.int r15]) rfl ?_
  refine lv_if_eq (tgt := 56) C.x C.b dJ16_append_49 (by decide) (fun c16 => ?_) (fun c16 => ?_)
  · have hw := hw.1 c16
    exact kJ_J16_append_56 C _ _ _ _ _ _ hS (lv_sub hl [0, 1] rfl) hw
  · have hw := hw.2 c16
    refine lv_aload_n C.x C.b dJ16_append_52 rfl (lv_at hl 0 rfl) ?_
    exact hw.elim
def wJ_J16_append (E : gE) (i0 : Nat) (i1 : Int32) (Q : Option Nat → gW → Prop) (w : gW) : Prop :=
  aI E i0 9 3 (fun v1 => aKind E i0 9 (wJ_J16_ensureCapacityInternal E i0 (v1 + 1) (fun w2 => aKind E i0 9 (wJ_J16_isLatin1 E i0 (fun r4 w3 => (r4 = 0 → (wJ_J16_append_45 E Q i0 i1 w3)) ∧ (¬ r4 = 0 → (wJ_J19_canEncode E i1 (fun r7 w6 => (r7 = 0 → (wJ_J16_append_45 E Q i0 i1 w6)) ∧ (¬ r7 = 0 → (aR E i0 9 0 (fun r9 => aI E i0 9 3 (fun v10 => aP i0 9 3 (.int (v10 + 1)) (fun w11 => ∃ a12 : Nat, r9 = some a12 ∧ (aS E 1 a12 v10 i1.toInt8.toInt32 (fun w13 => Q (some i0) w13) w11)) w6) w6) w6))) w3))) w2) w2) w) w) w
theorem kJ_J16_append_r (C : gC p l s m args meth c cJ16_append 2 (some (.object "java/lang/AbstractStringBuilder")) RJ16 E [] "append") (i0 : Nat) (i1 : Int32) {Q : Option Nat → gW → Prop} (w : gW) (H : Heap) (locs : List Loc) (ls : Array Slot) (hS : gS E w0 w H locs) (hl : lv_has ls 2 [(0, .ref i0), (1, .int i1)]) (hw : wJ_J16_append E i0 i1 Q w) : gGo p l e s m args below meth c H locs 4 104 E w0 w (gR Q) (gNoX) (F0 m 0 ls []) := by
  unfold wJ_J16_append at hw
  refine lv_aload_n C.x C.b dJ16_append_0 rfl (lv_at hl 0 rfl) ?_
  refine lv_aload_n C.x C.b dJ16_append_1 rfl (lv_at hl 0 rfl) ?_
  refine a_I C hS in_J17 rfl (k := 3) (ci := 9) (by decide) q486 (fun _ h9 => h9) dJ16_append_2 hw (fun v1 hw => ?_)
  refine lv_iconst (v := 1) C.x C.b dJ16_append_5 (by decide) ?_
  refine lv_iadd C.x C.b dJ16_append_6 ?_
  obtain ⟨fs, hq, hw⟩ := hw
  refine a_callVP (rest := []) C hS hl 9 hq rfl (kJ_J16_ensureCapacityInternal C.tr hw) q503 q1859 q504 q505 q103 q506 ny_J16_ensureCapacityInternal rfl (Nat.le_of_ble_eq_true rfl) (Nat.le_of_ble_eq_true rfl) rfl (Nat.le_of_ble_eq_true rfl) dJ16_append_7 (fun X1 w1 H1 l1 q1 ce hx => hx.elim) (fun v w2 H locs hq _ hS => ?_)
  obtain ⟨rfl, hw⟩ := hq
  refine W.eq (g2 := F0 m 10 ls []) rfl ?_
  refine lv_aload_n C.x C.b dJ16_append_10 rfl (lv_at hl 0 rfl) ?_
  obtain ⟨fs, hq, hw⟩ := hw
  refine a_callV (rest := []) C hS hl 9 hq rfl (kJ_J16_isLatin1 C.tr hw) q523 q524 q526 q103 q527 ny_J16_isLatin1 rfl (Nat.le_of_ble_eq_true rfl) (Nat.le_of_ble_eq_true rfl) rfl (Nat.le_of_ble_eq_true rfl) dJ16_append_11 (fun X1 w1 H1 l1 q1 ce hx => hx.elim) (fun v w3 H locs hq _ hS => ?_)
  obtain ⟨r4, rfl, hw⟩ := hq
  refine W.eq (g2 := F0 m 14 ls [.int r4]) rfl ?_
  refine lv_if_eq (tgt := 45) C.x C.b dJ16_append_14 (by decide) (fun c5 => ?_) (fun c5 => ?_)
  · have hw := hw.1 c5
    exact kJ_J16_append_45 C _ _ _ _ _ _ hS (lv_sub hl [0, 1] rfl) hw
  · have hw := hw.2 c5
    refine lv_iload_n C.x C.b dJ16_append_17 rfl (lv_at hl 1 rfl) ?_
    refine g_callS (rest := []) C hS hl (kJ_J19_canEncode C.tr hw) q528 q529 q106 q530 ny_J19_canEncode rfl (Nat.le_of_ble_eq_true rfl) (Nat.le_of_ble_eq_true rfl) rfl (Nat.le_of_ble_eq_true rfl) dJ16_append_18 (fun X1 w1 H1 l1 q1 ce hx => hx.elim) (fun v w6 H locs hq _ hS => ?_)
    obtain ⟨r7, rfl, hw⟩ := hq
    refine W.eq (g2 := F0 m 21 ls [.int r7]) rfl ?_
    refine lv_if_eq (tgt := 45) C.x C.b dJ16_append_21 (by decide) (fun c8 => ?_) (fun c8 => ?_)
    · have hw := hw.1 c8
      exact kJ_J16_append_45 C _ _ _ _ _ _ hS (lv_sub hl [0, 1] rfl) hw
    · have hw := hw.2 c8
      refine lv_aload_n C.x C.b dJ16_append_24 rfl (lv_at hl 0 rfl) ?_
      refine a_R C hS in_J17 rfl (k := 0) (ci := 9) (by decide) q483 (fun _ h9 => h9) dJ16_append_25 hw (fun r9 hw => ?_)
      refine lv_aload_n C.x C.b dJ16_append_28 rfl (lv_at hl 0 rfl) ?_
      refine lv_dup C.x C.b dJ16_append_29 rfl ?_
      refine a_I C hS in_J17 rfl (k := 3) (ci := 9) (by decide) q486 (fun _ h9 => h9) dJ16_append_30 hw (fun v10 hw => ?_)
      refine lv_dup_x1 C.x C.b dJ16_append_33 rfl rfl ?_
      refine lv_iconst (v := 1) C.x C.b dJ16_append_34 (by decide) ?_
      refine lv_iadd C.x C.b dJ16_append_35 ?_
      refine a_P C hS in_J17 tyJ17 tyJ17_ok nmJ17 rfl (k := 3) (ci := 9) (by decide) q486 (fun _ h9 => h9) rfl rfl rfl dJ16_append_36 hw (fun w11 H locs hw hS => ?_)
      refine lv_iload_n C.x C.b dJ16_append_39 rfl (lv_at hl 1 rfl) ?_
      refine lv_i2b C.x C.b dJ16_append_40 rfl ?_
      obtain ⟨a12, e9, hw9⟩ := hw; subst e9; have hw := hw9; clear hw9
      have hl : lv_has ls 2 [(0, .ref i0), (1, .int i1)] := hl
      refine W.eq (g2 := F0 m 41 ls [.int i1.toInt8.toInt32, .int v10, .ref a12]) rfl ?_
      refine a_Sb C hS dJ16_append_41 hw (fun w13 H locs hw hS => ?_)
      refine lv_goto (tgt := 75) C.x C.b dJ16_append_42 (by decide) ?_
      refine lv_aload_n C.x C.b dJ16_append_75 rfl (lv_at hl 0 rfl) ?_
      exact g_aret (r := (some i0)) C (Or.inl ⟨_, rfl⟩) hS ⟨_, rfl, hw⟩ dJ16_append_76
theorem ny_J16_append : gNm yJ16_append 1 = true := by decide +kernel
theorem kJ_J16_append {l : Launch} (ht : l.stackTraces = false) {w : gW} {i0 : Nat} {i1 : Int32} {Q : Option Nat → gW → Prop} (hw : wJ_J16_append E i0 i1 Q w) : gMet l yJ16_append (ws_ yJ16_append cJ16_append 2 (some (.object "java/lang/AbstractStringBuilder"))) E w [.ref i0, .int i1] 4 104 (gR Q) (gNoX) :=
  g_ofW ht (by decide) (Nat.le_of_ble_eq_true rfl) (fun p e s m below meth c ls H C hl hS => kJ_J16_append_r C _ _ _ _ _ _ hS hl hw)
def wJ_J16_init (E : gE) (i0 : Nat) (i1 : Int32) (Q : gW → Prop) (w : gW) : Prop :=
  aGs E "java/lang/String" "COMPACT_STRINGS" "Z" (fun v1 => (v1 = 0 → (False)) ∧ (¬ v1 = 0 → (aA E 1 i1 (fun q3 w4 => aP i0 9 0 (.ref q3) (fun w5 => aP i0 9 1 (.int 0) (fun w6 => Q w6) w5) w4) w)))
theorem kJ_J16_init_r (C : gC p l s m args meth c cJ16_init 2 none RJ16 E [] "<init>") (i0 : Nat) (i1 : Int32) {Q : gW → Prop} (w : gW) (H : Heap) (locs : List Loc) (ls : Array Slot) (hS : gS E w0 w H locs) (hl : lv_has ls 2 [(0, .ref i0), (1, .int i1)]) (hw : wJ_J16_init E i0 i1 Q w) : gGo p l e s m args below meth c H locs 1 24 E w0 w (gV Q) (gNoX) (F0 m 0 ls []) := by
  unfold wJ_J16_init at hw
  refine lv_aload_n C.x C.b dJ16_init_0 rfl (lv_at hl 0 rfl) ?_
  refine W.objInit C.x C.b C.ow (C.ts _ q473) (C.ts _ q115) (C.ts _ q116) rfl (by rw [C.ml]; exact hl.1) rfl dJ16_init_1 (Nat.le_of_ble_eq_true rfl) (Nat.le_of_ble_eq_true rfl) ?_
  refine W.eq (g2 := F0 m 4 ls []) rfl ?_
  obtain ⟨v1, hZ, hw⟩ := hw
  refine a_gs C hS hZ q474 (fun _ h9 => h9) dJ16_init_4 ?_
  refine lv_if_eq (tgt := 25) C.x C.b dJ16_init_7 (by decide) (fun c2 => ?_) (fun c2 => ?_)
  · have hw := hw.1 c2
    refine lv_aload_n C.x C.b dJ16_init_25 rfl (lv_at hl 0 rfl) ?_
    refine lv_iload_n C.x C.b dJ16_init_26 rfl (lv_at hl 1 rfl) ?_
    exact hw.elim
  · have hw := hw.2 c2
    refine lv_aload_n C.x C.b dJ16_init_10 rfl (lv_at hl 0 rfl) ?_
    refine lv_iload_n C.x C.b dJ16_init_11 rfl (lv_at hl 1 rfl) ?_
    refine a_A (t := 1) (atype := .byte) C hS rfl (by decide) q363 dJ16_init_12 hw (fun q3 w4 H hw hS => ?_)
    refine a_P C hS in_J17 tyJ17 tyJ17_ok nmJ17 rfl (k := 0) (ci := 9) (by decide) q483 (fun _ h9 => h9) rfl rfl rfl dJ16_init_14 hw (fun w5 H locs hw hS => ?_)
    refine lv_aload_n C.x C.b dJ16_init_17 rfl (lv_at hl 0 rfl) ?_
    refine lv_iconst (v := 0) C.x C.b dJ16_init_18 (by decide) ?_
    refine a_P C hS in_J17 tyJ17 tyJ17_ok nmJ17 rfl (k := 1) (ci := 9) (by decide) q484 (fun _ h9 => h9) rfl rfl rfl dJ16_init_19 hw (fun w6 H locs hw hS => ?_)
    refine lv_goto (tgt := 38) C.x C.b dJ16_init_22 (by decide) ?_
    exact g_vret C hS ⟨rfl, hw⟩ dJ16_init_38
theorem ny_J16_init : gNm yJ16_init 1 = true := by decide +kernel
theorem kJ_J16_init {l : Launch} (ht : l.stackTraces = false) {w : gW} {i0 : Nat} {i1 : Int32} {Q : gW → Prop} (hw : wJ_J16_init E i0 i1 Q w) : gMet l yJ16_init (ws_ yJ16_init cJ16_init 2 none) E w [.ref i0, .int i1] 1 24 (gV Q) (gNoX) :=
  g_ofW ht (by decide) (Nat.le_of_ble_eq_true rfl) (fun p e s m below meth c ls H C hl hS => kJ_J16_init_r C _ _ _ _ _ _ hS hl hw)
def wJ_J17_init (E : gE) (i0 : Nat) (Q : gW → Prop) (w : gW) : Prop :=
  wJ_J16_init E i0 16 (fun w1 => Q w1) w
theorem kJ_J17_init_r (C : gC p l s m args meth c cJ17_init 1 none RJ17 E [] "<init>") (i0 : Nat) {Q : gW → Prop} (w : gW) (H : Heap) (locs : List Loc) (ls : Array Slot) (hS : gS E w0 w H locs) (hl : lv_has ls 1 [(0, .ref i0)]) (hw : wJ_J17_init E i0 Q w) : gGo p l e s m args below meth c H locs 2 45 E w0 w (gV Q) (gNoX) (F0 m 0 ls []) := by
  unfold wJ_J17_init at hw
  refine lv_aload_n C.x C.b dJ17_init_0 rfl (lv_at hl 0 rfl) ?_
  refine lv_bipush (v := 16) C.x C.b dJ17_init_1 (by decide) ?_
  refine g_callI (rest := []) C hS hl (kJ_J16_init C.tr hw) rfl q470 q471 q103 q472 ny_J16_init rfl (Nat.le_of_ble_eq_true rfl) (Nat.le_of_ble_eq_true rfl) rfl (Nat.le_of_ble_eq_true rfl) dJ17_init_3 (fun X1 w1 H1 l1 q1 ce hx => hx.elim) (fun v w1 H locs hq _ hS => ?_)
  obtain ⟨rfl, hw⟩ := hq
  refine W.eq (g2 := F0 m 6 ls []) rfl ?_
  exact g_vret C hS ⟨rfl, hw⟩ dJ17_init_6
theorem ny_J17_init : gNm yJ17_init 0 = true := by decide +kernel
theorem kJ_J17_init {l : Launch} (ht : l.stackTraces = false) {w : gW} {i0 : Nat} {Q : gW → Prop} (hw : wJ_J17_init E i0 Q w) : gMet l yJ17_init (ws_ yJ17_init cJ17_init 1 none) E w [.ref i0] 2 45 (gV Q) (gNoX) :=
  g_ofW ht (by decide) (Nat.le_of_ble_eq_true rfl) (fun p e s m below meth c ls H C hl hS => kJ_J17_init_r C _ _ _ _ _ hS hl hw)
def wJ_J17_append (E : gE) (i0 : Nat) (i1 : Int32) (Q : Option Nat → gW → Prop) (w : gW) : Prop :=
  aKind E i0 9 (wJ_J16_append E i0 i1 (fun r2 w1 => Q (some i0) w1) w) w
theorem kJ_J17_append_r (C : gC p l s m args meth c cJ17_append 2 (some (.object "java/lang/StringBuilder")) RJ17 E [] "append") (i0 : Nat) (i1 : Int32) {Q : Option Nat → gW → Prop} (w : gW) (H : Heap) (locs : List Loc) (ls : Array Slot) (hS : gS E w0 w H locs) (hl : lv_has ls 2 [(0, .ref i0), (1, .int i1)]) (hw : wJ_J17_append E i0 i1 Q w) : gGo p l e s m args below meth c H locs 5 125 E w0 w (gR Q) (gNoX) (F0 m 0 ls []) := by
  unfold wJ_J17_append at hw
  refine lv_aload_n C.x C.b dJ17_append_0 rfl (lv_at hl 0 rfl) ?_
  refine lv_iload_n C.x C.b dJ17_append_1 rfl (lv_at hl 1 rfl) ?_
  obtain ⟨fs, hq, hw⟩ := hw
  refine a_callSU (rest := []) C hS hl 9 hq rfl (kJ_J16_append C.tr hw) q500 q1858 q495 q501 (by decide) q103 q502 ny_J16_append rfl (Nat.le_of_ble_eq_true rfl) (Nat.le_of_ble_eq_true rfl) rfl (Nat.le_of_ble_eq_true rfl) dJ17_append_2 (fun X1 w1 H1 l1 q1 ce hx => hx.elim) (fun v w1 H locs hq _ hS => ?_)
  obtain ⟨r2, rfl, hw⟩ := hq
  refine W.eq (g2 := F0 m 5 ls [va_rf r2]) rfl ?_
  refine lv_pop C.x C.b dJ17_append_5 a_cat ?_
  refine lv_aload_n C.x C.b dJ17_append_6 rfl (lv_at hl 0 rfl) ?_
  exact g_aret (r := (some i0)) C (Or.inl ⟨_, rfl⟩) hS ⟨_, rfl, hw⟩ dJ17_append_7
theorem ny_J17_append : gNm yJ17_append 1 = true := by decide +kernel
theorem kJ_J17_append {l : Launch} (ht : l.stackTraces = false) {w : gW} {i0 : Nat} {i1 : Int32} {Q : Option Nat → gW → Prop} (hw : wJ_J17_append E i0 i1 Q w) : gMet l yJ17_append (ws_ yJ17_append cJ17_append 2 (some (.object "java/lang/StringBuilder"))) E w [.ref i0, .int i1] 5 125 (gR Q) (gNoX) :=
  g_ofW ht (by decide) (Nat.le_of_ble_eq_true rfl) (fun p e s m below meth c ls H C hl hS => kJ_J17_append_r C _ _ _ _ _ _ hS hl hw)
def wJ_J17_length (E : gE) (i0 : Nat) (Q : Int32 → gW → Prop) (w : gW) : Prop :=
  aKind E i0 9 (wJ_J16_length E i0 (fun r2 w1 => Q r2 w1) w) w
theorem kJ_J17_length_r (C : gC p l s m args meth c cJ17_length 1 (some .int) RJ17 E [] "length") (i0 : Nat) {Q : Int32 → gW → Prop} (w : gW) (H : Heap) (locs : List Loc) (ls : Array Slot) (hS : gS E w0 w H locs) (hl : lv_has ls 1 [(0, .ref i0)]) (hw : wJ_J17_length E i0 Q w) : gGo p l e s m args below meth c H locs 1 20 E w0 w (gI Q) (gNoX) (F0 m 0 ls []) := by
  unfold wJ_J17_length at hw
  refine lv_aload_n C.x C.b dJ17_length_0 rfl (lv_at hl 0 rfl) ?_
  obtain ⟨fs, hq, hw⟩ := hw
  refine a_callSU (rest := []) C hS hl 9 hq rfl (kJ_J16_length C.tr hw) q598 q594 q495 q593 (by decide) q103 q599 ny_J16_length rfl (Nat.le_of_ble_eq_true rfl) (Nat.le_of_ble_eq_true rfl) rfl (Nat.le_of_ble_eq_true rfl) dJ17_length_1 (fun X1 w1 H1 l1 q1 ce hx => hx.elim) (fun v w1 H locs hq _ hS => ?_)
  obtain ⟨r2, rfl, hw⟩ := hq
  refine W.eq (g2 := F0 m 4 ls [.int r2]) rfl ?_
  exact g_iret C hS ⟨_, rfl, hw⟩ dJ17_length_4
theorem ny_J17_length : gNm yJ17_length 0 = true := by decide +kernel
theorem kJ_J17_length {l : Launch} (ht : l.stackTraces = false) {w : gW} {i0 : Nat} {Q : Int32 → gW → Prop} (hw : wJ_J17_length E i0 Q w) : gMet l yJ17_length (ws_ yJ17_length cJ17_length 1 (some .int)) E w [.ref i0] 1 20 (gI Q) (gNoX) :=
  g_ofW ht (by decide) (Nat.le_of_ble_eq_true rfl) (fun p e s m below meth c ls H C hl hS => kJ_J17_length_r C _ _ _ _ _ hS hl hw)
def wJ_J14_init_2_79 (E : gE) (Q : gW → Prop) (x0 : Nat) (x3 : Option Nat) (x4 : Int32) (w : gW) : Prop :=
  aP x0 10 1 (.int 1) (fun w17 => ∃ a18 : Nat, x3 = some a18 ∧ (wJ_J3_copyOfRange E a18 0 (x4 <<< (1 &&& 31)) (fun r20 w19 => aP x0 10 0 (va_rf r20) (fun w21 => Q w21) w19) w17)) w
theorem kJ_J14_init_2_79 (C : gC p l s m args meth c cJ14_init_2 5 none RJ14 E [] "<init>") {Q : gW → Prop} (x0 : Nat) (x3 : Option Nat) (x4 : Int32) (w : gW) (H : Heap) (locs : List Loc) (ls : Array Slot) (hS : gS E w0 w H locs) (hl : lv_has ls 5 [(0, .ref x0), (3, va_rf x3), (4, .int x4)]) (hw : wJ_J14_init_2_79 E Q x0 x3 x4 w) : gGo p l e s m args below meth c H locs 11 187 E w0 w (gV Q) (gNoX) (F0 m 79 ls []) := by
  unfold wJ_J14_init_2_79 at hw
  refine lv_aload_n C.x C.b dJ14_init_2_79 rfl (lv_at hl 0 rfl) ?_
  refine lv_iconst (v := 1) C.x C.b dJ14_init_2_80 (by decide) ?_
  refine a_PF C hS in_J14 tyJ14 tyJ14_ok nmJ14 rfl (k := 1) (ci := 10) (by decide) q767 (fun _ h9 => h9) rfl rfl rfl rfl dJ14_init_2_81 hw (fun w17 H locs hw hS => ?_)
  refine lv_aload_n C.x C.b dJ14_init_2_84 rfl (lv_at hl 0 rfl) ?_
  refine a_aload_n C dJ14_init_2_85 rfl (lv_at hl 1 rfl) ?_
  refine lv_iconst (v := 0) C.x C.b dJ14_init_2_86 (by decide) ?_
  refine lv_iload C.x C.b dJ14_init_2_87 (lv_at hl 2 rfl) ?_
  refine lv_iconst (v := 1) C.x C.b dJ14_init_2_89 (by decide) ?_
  refine lv_ishl C.x C.b dJ14_init_2_90 ?_
  obtain ⟨a18, e9, hw9⟩ := hw; subst e9; have hw := hw9; clear hw9
  have hl : lv_has ls 5 [(0, .ref x0), (3, .ref a18), (4, .int x4)] := hl
  refine W.eq (g2 := F0 m 91 ls [.int (x4 <<< (1 &&& 31)), .int 0, .ref a18, .ref x0]) rfl ?_
  refine g_callS (rest := [.ref x0]) C hS hl (kJ_J3_copyOfRange C.tr hw) q601 q602 q84 q603 ny_J3_copyOfRange rfl (Nat.le_of_ble_eq_true rfl) (Nat.le_of_ble_eq_true rfl) rfl (Nat.le_of_ble_eq_true rfl) dJ14_init_2_91 (fun X1 w1 H1 l1 q1 ce hx => hx.elim) (fun v w19 H locs hq _ hS => ?_)
  obtain ⟨r20, rfl, hw⟩ := hq
  refine W.eq (g2 := F0 m 94 ls [va_rf r20, .ref x0]) rfl ?_
  refine a_PF C hS in_J14 tyJ14 tyJ14_ok nmJ14 rfl (k := 0) (ci := 10) (by decide) q766 (fun _ h9 => h9) rfl rfl va_rf_narA va_rf_fitA dJ14_init_2_94 hw (fun w21 H locs hw hS => ?_)
  exact g_vret C hS ⟨rfl, hw⟩ dJ14_init_2_97
def wJ_J14_init_2 (E : gE) (i0 : Nat) (i1 : Nat) (i2 : Option Nat) (Q : gW → Prop) (w : gW) : Prop :=
  aKind E i1 9 (wJ_J16_getValue E i1 (fun r2 w1 => aKind E i1 9 (wJ_J17_length E i1 (fun r4 w3 => aKind E i1 9 (wJ_J16_isLatin1 E i1 (fun r6 w5 => (r6 = 0 → (aGs E "java/lang/String" "COMPACT_STRINGS" "Z" (fun v8 => (v8 = 0 → (wJ_J14_init_2_79 E Q i0 r2 r4 w5)) ∧ (¬ v8 = 0 → (aI E i1 9 2 (fun v10 => (v10 = 0 → (wJ_J14_init_2_79 E Q i0 r2 r4 w5)) ∧ (¬ v10 = 0 → (False))) w5))))) ∧ (¬ r6 = 0 → (aP i0 10 1 (.int 0) (fun w12 => ∃ a13 : Nat, r2 = some a13 ∧ (wJ_J3_copyOfRange E a13 0 r4 (fun r15 w14 => aP i0 10 0 (va_rf r15) (fun w16 => Q w16) w14) w12)) w5))) w3) w3) w1) w1) w) w
theorem kJ_J14_init_2_r (C : gC p l s m args meth c cJ14_init_2 5 none RJ14 E [] "<init>") (i0 : Nat) (i1 : Nat) (i2 : Option Nat) {Q : gW → Prop} (w : gW) (H : Heap) (locs : List Loc) (ls : Array Slot) (hS : gS E w0 w H locs) (hl : lv_has ls 5 [(0, .ref i0), (1, .ref i1), (2, va_rf i2)]) (hw : wJ_J14_init_2 E i0 i1 i2 Q w) : gGo p l e s m args below meth c H locs 11 187 E w0 w (gV Q) (gNoX) (F0 m 0 ls []) := by
  unfold wJ_J14_init_2 at hw
  refine lv_aload_n C.x C.b dJ14_init_2_0 rfl (lv_at hl 0 rfl) ?_
  refine W.objInit C.x C.b C.ow (C.ts _ q586) (C.ts _ q115) (C.ts _ q116) rfl (by rw [C.ml]; exact hl.1) rfl dJ14_init_2_1 (Nat.le_of_ble_eq_true rfl) (Nat.le_of_ble_eq_true rfl) ?_
  refine W.eq (g2 := F0 m 4 ls []) rfl ?_
  refine lv_aload_n C.x C.b dJ14_init_2_4 rfl (lv_at hl 1 rfl) ?_
  obtain ⟨fs, hq, hw⟩ := hw
  refine a_callV (rest := []) C hS hl 9 hq rfl (kJ_J16_getValue C.tr hw) q587 q588 q590 q103 q591 ny_J16_getValue rfl (Nat.le_of_ble_eq_true rfl) (Nat.le_of_ble_eq_true rfl) rfl (Nat.le_of_ble_eq_true rfl) dJ14_init_2_5 (fun X1 w1 H1 l1 q1 ce hx => hx.elim) (fun v w1 H locs hq _ hS => ?_)
  obtain ⟨r2, rfl, hw⟩ := hq
  refine W.eq (g2 := F0 m 8 ls [va_rf r2]) rfl ?_
  refine a_astore_n (lv' := [(3, va_rf r2), (0, .ref i0), (1, .ref i1), (2, va_rf i2)]) C dJ14_init_2_8 rfl hl (by decide) (by cases i2 <;> cases r2 <;> rfl) (fun ls hl => ?_)
  refine lv_aload_n C.x C.b dJ14_init_2_9 rfl (lv_at hl 2 rfl) ?_
  obtain ⟨fs, hq, hw⟩ := hw
  refine a_callVU (rest := []) C hS hl 9 hq rfl (kJ_J17_length C.tr hw) q592 q594 q593 q599 q595 q596 q104 q597 ny_J16_length rfl (Nat.le_of_ble_eq_true rfl) (Nat.le_of_ble_eq_true rfl) rfl (Nat.le_of_ble_eq_true rfl) dJ14_init_2_10 (fun X1 w1 H1 l1 q1 ce hx => hx.elim) (fun v w3 H locs hq _ hS => ?_)
  obtain ⟨r4, rfl, hw⟩ := hq
  refine W.eq (g2 := F0 m 13 ls [.int r4]) rfl ?_
  refine lv_istore (lv' := [(4, .int r4), (3, va_rf r2), (0, .ref i0), (1, .ref i1), (2, va_rf i2)]) C.x C.b dJ14_init_2_13 hl (by decide) (by cases i2 <;> cases r2 <;> rfl) (fun ls hl => ?_)
  refine lv_aload_n C.x C.b dJ14_init_2_15 rfl (lv_at hl 3 rfl) ?_
  obtain ⟨fs, hq, hw⟩ := hw
  refine a_callV (rest := []) C hS hl 9 hq rfl (kJ_J16_isLatin1 C.tr hw) q600 q524 q526 q103 q527 ny_J16_isLatin1 rfl (Nat.le_of_ble_eq_true rfl) (Nat.le_of_ble_eq_true rfl) rfl (Nat.le_of_ble_eq_true rfl) dJ14_init_2_16 (fun X1 w1 H1 l1 q1 ce hx => hx.elim) (fun v w5 H locs hq _ hS => ?_)
  obtain ⟨r6, rfl, hw⟩ := hq
  refine W.eq (g2 := F0 m 19 ls [.int r6]) rfl ?_
  refine lv_if_eq (tgt := 41) C.x C.b dJ14_init_2_19 (by decide) (fun c7 => ?_) (fun c7 => ?_)
  · have hw := hw.1 c7
    obtain ⟨v8, hZ, hw⟩ := hw
    refine a_gs C hS hZ q711 (fun _ h9 => h9) dJ14_init_2_41 ?_
    refine lv_if_eq (tgt := 79) C.x C.b dJ14_init_2_44 (by decide) (fun c9 => ?_) (fun c9 => ?_)
    · have hw := hw.1 c9
      exact kJ_J14_init_2_79 C _ _ _ _ _ _ _ hS (lv_sub hl [2, 1, 0] rfl) hw
    · have hw := hw.2 c9
      refine lv_aload_n C.x C.b dJ14_init_2_47 rfl (lv_at hl 3 rfl) ?_
      refine a_I C hS in_J17 rfl (k := 2) (ci := 9) (by decide) q485 (fun _ h9 => h9) dJ14_init_2_48 hw (fun v10 hw => ?_)
      refine lv_if_eq (tgt := 79) C.x C.b dJ14_init_2_51 (by decide) (fun c11 => ?_) (fun c11 => ?_)
      · have hw := hw.1 c11
        exact kJ_J14_init_2_79 C _ _ _ _ _ _ _ hS (lv_sub hl [2, 1, 0] rfl) hw
      · have hw := hw.2 c11
        refine lv_aload_n C.x C.b dJ14_init_2_54 rfl (lv_at hl 2 rfl) ?_
        refine a_aload_n C dJ14_init_2_55 rfl (lv_at hl 1 rfl) ?_
        refine lv_iconst (v := 0) C.x C.b dJ14_init_2_56 (by decide) ?_
        refine lv_iload C.x C.b dJ14_init_2_57 (lv_at hl 0 rfl) ?_
        exact hw.elim
  · have hw := hw.2 c7
    refine lv_aload_n C.x C.b dJ14_init_2_22 rfl (lv_at hl 2 rfl) ?_
    refine lv_iconst (v := 0) C.x C.b dJ14_init_2_23 (by decide) ?_
    refine a_PF C hS in_J14 tyJ14 tyJ14_ok nmJ14 rfl (k := 1) (ci := 10) (by decide) q767 (fun _ h9 => h9) rfl rfl rfl rfl dJ14_init_2_24 hw (fun w12 H locs hw hS => ?_)
    refine lv_aload_n C.x C.b dJ14_init_2_27 rfl (lv_at hl 2 rfl) ?_
    refine a_aload_n C dJ14_init_2_28 rfl (lv_at hl 1 rfl) ?_
    refine lv_iconst (v := 0) C.x C.b dJ14_init_2_29 (by decide) ?_
    refine lv_iload C.x C.b dJ14_init_2_30 (lv_at hl 0 rfl) ?_
    obtain ⟨a13, e9, hw9⟩ := hw; subst e9; have hw := hw9; clear hw9
    have hl : lv_has ls 5 [(4, .int r4), (3, .ref a13), (0, .ref i0), (1, .ref i1), (2, va_rf i2)] := hl
    refine W.eq (g2 := F0 m 32 ls [.int r4, .int 0, .ref a13, .ref i0]) rfl ?_
    refine g_callS (rest := [.ref i0]) C hS hl (kJ_J3_copyOfRange C.tr hw) q601 q602 q84 q603 ny_J3_copyOfRange rfl (Nat.le_of_ble_eq_true rfl) (Nat.le_of_ble_eq_true rfl) rfl (Nat.le_of_ble_eq_true rfl) dJ14_init_2_32 (fun X1 w1 H1 l1 q1 ce hx => hx.elim) (fun v w14 H locs hq _ hS => ?_)
    obtain ⟨r15, rfl, hw⟩ := hq
    refine W.eq (g2 := F0 m 35 ls [va_rf r15, .ref i0]) rfl ?_
    refine a_PF C hS in_J14 tyJ14 tyJ14_ok nmJ14 rfl (k := 0) (ci := 10) (by decide) q766 (fun _ h9 => h9) rfl rfl va_rf_narA va_rf_fitA dJ14_init_2_35 hw (fun w16 H locs hw hS => ?_)
    refine lv_goto (tgt := 97) C.x C.b dJ14_init_2_38 (by decide) ?_
    exact g_vret C hS ⟨rfl, hw⟩ dJ14_init_2_97
theorem ny_J14_init_2 : gNm yJ14_init_2 2 = true := by decide +kernel
theorem kJ_J14_init_2 {l : Launch} (ht : l.stackTraces = false) {w : gW} {i0 : Nat} {i1 : Nat} {i2 : Option Nat} {Q : gW → Prop} (hw : wJ_J14_init_2 E i0 i1 i2 Q w) : gMet l yJ14_init_2 (ws_ yJ14_init_2 cJ14_init_2 5 none) E w [.ref i0, .ref i1, va_rf i2] 11 187 (gV Q) (gNoX) :=
  g_ofW ht (by decide) (by cases i2 <;> exact (Nat.le_of_ble_eq_true rfl)) (fun p e s m below meth c ls H C hl hS => kJ_J14_init_2_r C _ _ _ _ _ _ _ hS (by cases i2 <;> exact hl) hw)
def wJ_J14_init (E : gE) (i0 : Nat) (i1 : Nat) (Q : gW → Prop) (w : gW) : Prop :=
  wJ_J14_init_2 E i0 i1 none (fun w1 => Q w1) w
theorem kJ_J14_init_r (C : gC p l s m args meth c cJ14_init 2 none RJ14 E [] "<init>") (i0 : Nat) (i1 : Nat) {Q : gW → Prop} (w : gW) (H : Heap) (locs : List Loc) (ls : Array Slot) (hS : gS E w0 w H locs) (hl : lv_has ls 2 [(0, .ref i0), (1, .ref i1)]) (hw : wJ_J14_init E i0 i1 Q w) : gGo p l e s m args below meth c H locs 12 211 E w0 w (gV Q) (gNoX) (F0 m 0 ls []) := by
  unfold wJ_J14_init at hw
  refine lv_aload_n C.x C.b dJ14_init_0 rfl (lv_at hl 0 rfl) ?_
  refine lv_aload_n C.x C.b dJ14_init_1 rfl (lv_at hl 1 rfl) ?_
  refine lv_null C.x C.b dJ14_init_2 ?_
  refine g_callI (rest := []) C hS hl (kJ_J14_init_2 C.tr hw) rfl q583 q584 q99 q585 ny_J14_init_2 rfl (Nat.le_of_ble_eq_true rfl) (Nat.le_of_ble_eq_true rfl) rfl (Nat.le_of_ble_eq_true rfl) dJ14_init_3 (fun X1 w1 H1 l1 q1 ce hx => hx.elim) (fun v w1 H locs hq _ hS => ?_)
  obtain ⟨rfl, hw⟩ := hq
  refine W.eq (g2 := F0 m 6 ls []) rfl ?_
  exact g_vret C hS ⟨rfl, hw⟩ dJ14_init_6
theorem ny_J14_init : gNm yJ14_init 1 = true := by decide +kernel
theorem kJ_J14_init {l : Launch} (ht : l.stackTraces = false) {w : gW} {i0 : Nat} {i1 : Nat} {Q : gW → Prop} (hw : wJ_J14_init E i0 i1 Q w) : gMet l yJ14_init (ws_ yJ14_init cJ14_init 2 none) E w [.ref i0, .ref i1] 12 211 (gV Q) (gNoX) :=
  g_ofW ht (by decide) (Nat.le_of_ble_eq_true rfl) (fun p e s m below meth c ls H C hl hS => kJ_J14_init_r C _ _ _ _ _ _ hS hl hw)
def wJ_J17_toString (E : gE) (i0 : Nat) (Q : Option Nat → gW → Prop) (w : gW) : Prop :=
  aN E 10 4 [.null, .int 0, .int 0, .int 0] (fun q1 w2 => wJ_J14_init E q1 i0 (fun w3 => Q (some q1) w3) w2) w
theorem kJ_J17_toString_r (C : gC p l s m args meth c cJ17_toString 1 (some (.object "java/lang/String")) RJ17 E [] "toString") (i0 : Nat) {Q : Option Nat → gW → Prop} (w : gW) (H : Heap) (locs : List Loc) (ls : Array Slot) (hS : gS E w0 w H locs) (hl : lv_has ls 1 [(0, .ref i0)]) (hw : wJ_J17_toString E i0 Q w) : gGo p l e s m args below meth c H locs 13 232 E w0 w (gR Q) (gNoX) (F0 m 0 ls []) := by
  unfold wJ_J17_toString at hw
  refine a_N (ci := 10) (fs := [.null, .int 0, .int 0, .int 0]) C hS in_J14 tyJ14 tyJ14_ok rfl q578 q579 q99 (by decide) dJ17_toString_0 hw (fun q1 w2 H hw hS => ?_)
  refine lv_dup C.x C.b dJ17_toString_3 rfl ?_
  refine lv_aload_n C.x C.b dJ17_toString_4 rfl (lv_at hl 0 rfl) ?_
  refine g_callI (rest := [.ref q1]) C hS hl (kJ_J14_init C.tr hw) rfl q580 q581 q99 q582 ny_J14_init rfl (Nat.le_of_ble_eq_true rfl) (Nat.le_of_ble_eq_true rfl) rfl (Nat.le_of_ble_eq_true rfl) dJ17_toString_5 (fun X1 w1 H1 l1 q1 ce hx => hx.elim) (fun v w3 H locs hq _ hS => ?_)
  obtain ⟨rfl, hw⟩ := hq
  refine W.eq (g2 := F0 m 8 ls [.ref q1]) rfl ?_
  exact g_aret (r := (some q1)) C (Or.inl ⟨_, rfl⟩) hS ⟨_, rfl, hw⟩ dJ17_toString_8
theorem ny_J17_toString : gNm yJ17_toString 0 = true := by decide +kernel
theorem kJ_J17_toString {l : Launch} (ht : l.stackTraces = false) {w : gW} {i0 : Nat} {Q : Option Nat → gW → Prop} (hw : wJ_J17_toString E i0 Q w) : gMet l yJ17_toString (ws_ yJ17_toString cJ17_toString 1 (some (.object "java/lang/String"))) E w [.ref i0] 13 232 (gR Q) (gNoX) :=
  g_ofW ht (by decide) (Nat.le_of_ble_eq_true rfl) (fun p e s m below meth c ls H C hl hS => kJ_J17_toString_r C _ _ _ _ _ hS hl hw)
def wJ_J4_signedHashCode_8 (E : gE) (Q : Int32 → gW → Prop) : Nat → Int32 → Nat → Int32 → Int32 → gW → Prop
  | 0, _, _, _, _, _ => False
  | n + 1, x0, x1, x4, x5, w => (x4 ≤ x5 → (Q x0 w)) ∧ (¬ x4 ≤ x5 → (aL E 1 x1 x5 (fun v3 => ∀ z4 : Int32, z4 = ((31 * x0) + (v3 &&& 255)) → wJ_J4_signedHashCode_8 E Q n z4 x1 x4 (x5 + 1) w) w))
theorem kJ_J4_signedHashCode_8 (C : gC p l s m args meth c cJ4_signedHashCode 6 (some .int) RJ4 E [] "signedHashCode") {Q : Int32 → gW → Prop} : ∀ (n : Nat) (x0 : Int32) (x1 : Nat) (x4 : Int32) (x5 : Int32) (w : gW) (H : Heap) (locs : List Loc) (ls : Array Slot), gS E w0 w H locs → lv_has ls 6 [(0, .int x0), (1, .ref x1), (4, .int x4), (5, .int x5)] → wJ_J4_signedHashCode_8 E Q n x0 x1 x4 x5 w → gGo p l e s m args below meth c H locs 0 0 E w0 w (gI Q) (gNoX) (F0 m 8 ls []) := by
  intro n
  induction n with
  | zero =>
    intro x0 x1 x4 x5 w H locs ls hS hl hw
    exact hw.elim
  | succ n ih =>
    intro x0 x1 x4 x5 w H locs ls hS hl hw
    unfold wJ_J4_signedHashCode_8 at hw
    refine lv_iload C.x C.b dJ4_signedHashCode_8 (lv_at hl 3 rfl) ?_
    refine lv_iload C.x C.b dJ4_signedHashCode_10 (lv_at hl 2 rfl) ?_
    refine lv_icmp_ge (tgt := 35) C.x C.b dJ4_signedHashCode_12 (by decide) (fun c2 => ?_) (fun c2 => ?_)
    · have hw := hw.1 c2
      refine lv_iload_n C.x C.b dJ4_signedHashCode_35 rfl (lv_at hl 0 rfl) ?_
      exact g_iret C hS ⟨_, rfl, hw⟩ dJ4_signedHashCode_36
    · have hw := hw.2 c2
      refine lv_bipush (v := 31) C.x C.b dJ4_signedHashCode_15 (by decide) ?_
      refine lv_iload_n C.x C.b dJ4_signedHashCode_17 rfl (lv_at hl 0 rfl) ?_
      refine lv_imul C.x C.b dJ4_signedHashCode_18 ?_
      refine lv_aload_n C.x C.b dJ4_signedHashCode_19 rfl (lv_at hl 1 rfl) ?_
      refine lv_iload C.x C.b dJ4_signedHashCode_20 (lv_at hl 3 rfl) ?_
      refine a_Lb C hS dJ4_signedHashCode_22 hw (fun v3 hw => ?_)
      refine lv_sipush (v := 255) C.x C.b dJ4_signedHashCode_23 (by decide) ?_
      refine lv_iand C.x C.b dJ4_signedHashCode_26 ?_
      refine lv_iadd C.x C.b dJ4_signedHashCode_27 ?_
      refine lv_topi (fun z4 ez4 => ?_)
      have hw := hw z4 ez4
      refine lv_istore_n (lv' := [(0, .int z4), (1, .ref x1), (4, .int x4), (5, .int x5)]) C.x C.b dJ4_signedHashCode_28 rfl hl (by decide) rfl (fun ls hl => ?_)
      refine lv_iinc (v := (x5 + 1)) (lv' := [(5, .int (x5 + 1)), (0, .int z4), (1, .ref x1), (4, .int x4)]) C.x C.b dJ4_signedHashCode_29 hl (k := 3) rfl rfl (by decide) rfl (fun ls hl => ?_)
      refine lv_goto (tgt := 8) C.x C.b dJ4_signedHashCode_32 (by decide) ?_
      exact ih _ _ _ _ _ _ _ _ hS (lv_sub hl [1, 2, 3, 0] rfl) hw
def wJ_J4_signedHashCode (E : gE) (i0 : Int32) (i1 : Nat) (i2 : Int32) (i3 : Int32) (Q : Int32 → gW → Prop) (w : gW) : Prop :=
  ∃ k1 : Nat, wJ_J4_signedHashCode_8 E Q k1 i0 i1 (i2 + i3) i2 w
theorem kJ_J4_signedHashCode_r (C : gC p l s m args meth c cJ4_signedHashCode 6 (some .int) RJ4 E [] "signedHashCode") (i0 : Int32) (i1 : Nat) (i2 : Int32) (i3 : Int32) {Q : Int32 → gW → Prop} (w : gW) (H : Heap) (locs : List Loc) (ls : Array Slot) (hS : gS E w0 w H locs) (hl : lv_has ls 6 [(0, .int i0), (1, .ref i1), (2, .int i2), (3, .int i3)]) (hw : wJ_J4_signedHashCode E i0 i1 i2 i3 Q w) : gGo p l e s m args below meth c H locs 0 0 E w0 w (gI Q) (gNoX) (F0 m 0 ls []) := by
  unfold wJ_J4_signedHashCode at hw
  refine lv_iload_n C.x C.b dJ4_signedHashCode_0 rfl (lv_at hl 2 rfl) ?_
  refine lv_iload_n C.x C.b dJ4_signedHashCode_1 rfl (lv_at hl 3 rfl) ?_
  refine lv_iadd C.x C.b dJ4_signedHashCode_2 ?_
  refine lv_istore (lv' := [(4, .int (i2 + i3)), (0, .int i0), (1, .ref i1), (2, .int i2), (3, .int i3)]) C.x C.b dJ4_signedHashCode_3 hl (by decide) rfl (fun ls hl => ?_)
  refine lv_iload_n C.x C.b dJ4_signedHashCode_5 rfl (lv_at hl 3 rfl) ?_
  refine lv_istore (lv' := [(5, .int i2), (4, .int (i2 + i3)), (0, .int i0), (1, .ref i1), (2, .int i2), (3, .int i3)]) C.x C.b dJ4_signedHashCode_6 hl (by decide) rfl (fun ls hl => ?_)
  obtain ⟨k1, hw⟩ := hw
  exact kJ_J4_signedHashCode_8 C k1 _ _ _ _ _ _ _ _ hS (lv_sub hl [2, 3, 1, 0] rfl) hw
theorem ny_J4_signedHashCode : gNm yJ4_signedHashCode 4 = true := by decide +kernel
theorem kJ_J4_signedHashCode {l : Launch} (ht : l.stackTraces = false) {w : gW} {i0 : Int32} {i1 : Nat} {i2 : Int32} {i3 : Int32} {Q : Int32 → gW → Prop} (hw : wJ_J4_signedHashCode E i0 i1 i2 i3 Q w) : gMet l yJ4_signedHashCode (ws_ yJ4_signedHashCode cJ4_signedHashCode 6 (some .int)) E w [.int i0, .ref i1, .int i2, .int i3] 0 0 (gI Q) (gNoX) :=
  g_ofW ht (by decide) (Nat.le_of_ble_eq_true rfl) (fun p e s m below meth c ls H C hl hS => kJ_J4_signedHashCode_r C _ _ _ _ _ _ _ _ hS hl hw)
def wJ_J4_vectorizedHashCode_129 (E : gE) (Q : Int32 → gW → Prop) (x4 : Int32) (w : gW) : Prop :=
  False
theorem kJ_J4_vectorizedHashCode_129 (C : gC p l s m args meth c cJ4_vectorizedHashCode 5 (some .int) RJ4 E [] "vectorizedHashCode") {Q : Int32 → gW → Prop} (x4 : Int32) (w : gW) (H : Heap) (locs : List Loc) (ls : Array Slot) (hS : gS E w0 w H locs) (hl : lv_has ls 5 [(4, .int x4)]) (hw : wJ_J4_vectorizedHashCode_129 E Q x4 w) : gGo p l e s m args below meth c H locs 14 252 E w0 w (gI Q) (gNoX) (F0 m 129 ls []) := by
  unfold wJ_J4_vectorizedHashCode_129 at hw
  exact hw.elim
def wJ_J4_vectorizedHashCode (E : gE) (i0 : Nat) (i1 : Int32) (i2 : Int32) (i3 : Int32) (i4 : Int32) (Q : Int32 → gW → Prop) (w : gW) : Prop :=
  (i4 = 4 → (aKindA E 1 i0 (wJ_J4_signedHashCode E i3 i0 i1 i2 (fun r2 w1 => Q r2 w1) w) w)) ∧ (¬ i4 = 4 → ((i4 = 5 → (False)) ∧ (¬ i4 = 5 → ((i4 = 6 → (wJ_J4_vectorizedHashCode_129 E Q i4 w)) ∧ (¬ i4 = 6 → ((i4 = 7 → (wJ_J4_vectorizedHashCode_129 E Q i4 w)) ∧ (¬ i4 = 7 → ((i4 = 8 → (aKindA E 1 i0 (False) w)) ∧ (¬ i4 = 8 → ((i4 = 9 → (False)) ∧ (¬ i4 = 9 → ((i4 = 10 → (False)) ∧ (¬ i4 = 10 → (wJ_J4_vectorizedHashCode_129 E Q i4 w))))))))))))))
theorem kJ_J4_vectorizedHashCode_r (C : gC p l s m args meth c cJ4_vectorizedHashCode 5 (some .int) RJ4 E [] "vectorizedHashCode") (i0 : Nat) (i1 : Int32) (i2 : Int32) (i3 : Int32) (i4 : Int32) {Q : Int32 → gW → Prop} (w : gW) (H : Heap) (locs : List Loc) (ls : Array Slot) (hS : gS E w0 w H locs) (hl : lv_has ls 5 [(0, .ref i0), (1, .int i1), (2, .int i2), (3, .int i3), (4, .int i4)]) (hw : wJ_J4_vectorizedHashCode E i0 i1 i2 i3 i4 Q w) : gGo p l e s m args below meth c H locs 14 252 E w0 w (gI Q) (gNoX) (F0 m 0 ls []) := by
  unfold wJ_J4_vectorizedHashCode at hw
  refine lv_iload C.x C.b dJ4_vectorizedHashCode_0 (lv_at hl 4 rfl) ?_
  rcases Decidable.em (i4 = 4) with c2_4 | c2_4
  · have hw := hw.1 c2_4
    rw [c2_4]
    refine lv_tableIn (tgt := 44) (off := 42) C.x C.b dJ4_vectorizedHashCode_2 (by decide) (by decide) rfl (by decide) ?_
    refine lv_iload_n C.x C.b dJ4_vectorizedHashCode_44 rfl (lv_at hl 3 rfl) ?_
    refine lv_aload_n C.x C.b dJ4_vectorizedHashCode_45 rfl (lv_at hl 0 rfl) ?_
    refine a_castB C hS q796 dJ4_vectorizedHashCode_46 hw (fun hw => ?_)
    refine lv_iload_n C.x C.b dJ4_vectorizedHashCode_49 rfl (lv_at hl 1 rfl) ?_
    refine lv_iload_n C.x C.b dJ4_vectorizedHashCode_50 rfl (lv_at hl 2 rfl) ?_
    refine g_callS (rest := []) C hS hl (kJ_J4_signedHashCode C.tr hw) q797 q798 q85 q799 ny_J4_signedHashCode rfl (Nat.le_of_ble_eq_true rfl) (Nat.le_of_ble_eq_true rfl) rfl (Nat.le_of_ble_eq_true rfl) dJ4_vectorizedHashCode_51 (fun X1 w1 H1 l1 q1 ce hx => hx.elim) (fun v w1 H locs hq _ hS => ?_)
    obtain ⟨r2, rfl, hw⟩ := hq
    refine W.eq (g2 := F0 m 54 ls [.int r2]) rfl ?_
    refine lv_goto (tgt := 157) C.x C.b dJ4_vectorizedHashCode_54 (by decide) ?_
    exact g_iret C hS ⟨_, rfl, hw⟩ dJ4_vectorizedHashCode_157
  · have hw := hw.2 c2_4
    rcases Decidable.em (i4 = 5) with c2_5 | c2_5
    · have hw := hw.1 c2_5
      rw [c2_5]
      refine lv_tableIn (tgt := 57) (off := 55) C.x C.b dJ4_vectorizedHashCode_2 (by decide) (by decide) rfl (by decide) ?_
      refine lv_aload_n C.x C.b dJ4_vectorizedHashCode_57 rfl (lv_at hl 0 rfl) ?_
      exact hw.elim
    · have hw := hw.2 c2_5
      rcases Decidable.em (i4 = 6) with c2_6 | c2_6
      · have hw := hw.1 c2_6
        rw [c2_6]
        refine lv_tableIn (tgt := 129) (off := 127) C.x C.b dJ4_vectorizedHashCode_2 (by decide) (by decide) rfl (by decide) ?_
        exact kJ_J4_vectorizedHashCode_129 C _ _ _ _ _ hS (lv_sub hl [4] rfl) hw
      · have hw := hw.2 c2_6
        rcases Decidable.em (i4 = 7) with c2_7 | c2_7
        · have hw := hw.1 c2_7
          rw [c2_7]
          refine lv_tableIn (tgt := 129) (off := 127) C.x C.b dJ4_vectorizedHashCode_2 (by decide) (by decide) rfl (by decide) ?_
          exact kJ_J4_vectorizedHashCode_129 C _ _ _ _ _ hS (lv_sub hl [4] rfl) hw
        · have hw := hw.2 c2_7
          rcases Decidable.em (i4 = 8) with c2_8 | c2_8
          · have hw := hw.1 c2_8
            rw [c2_8]
            refine lv_tableIn (tgt := 90) (off := 88) C.x C.b dJ4_vectorizedHashCode_2 (by decide) (by decide) rfl (by decide) ?_
            refine lv_iload_n C.x C.b dJ4_vectorizedHashCode_90 rfl (lv_at hl 3 rfl) ?_
            refine lv_aload_n C.x C.b dJ4_vectorizedHashCode_91 rfl (lv_at hl 0 rfl) ?_
            refine a_castB C hS q796 dJ4_vectorizedHashCode_92 hw (fun hw => ?_)
            refine lv_iload_n C.x C.b dJ4_vectorizedHashCode_95 rfl (lv_at hl 1 rfl) ?_
            refine lv_iload_n C.x C.b dJ4_vectorizedHashCode_96 rfl (lv_at hl 2 rfl) ?_
            exact hw.elim
          · have hw := hw.2 c2_8
            rcases Decidable.em (i4 = 9) with c2_9 | c2_9
            · have hw := hw.1 c2_9
              rw [c2_9]
              refine lv_tableIn (tgt := 103) (off := 101) C.x C.b dJ4_vectorizedHashCode_2 (by decide) (by decide) rfl (by decide) ?_
              refine lv_iload_n C.x C.b dJ4_vectorizedHashCode_103 rfl (lv_at hl 3 rfl) ?_
              refine lv_aload_n C.x C.b dJ4_vectorizedHashCode_104 rfl (lv_at hl 0 rfl) ?_
              exact hw.elim
            · have hw := hw.2 c2_9
              rcases Decidable.em (i4 = 10) with c2_10 | c2_10
              · have hw := hw.1 c2_10
                rw [c2_10]
                refine lv_tableIn (tgt := 116) (off := 114) C.x C.b dJ4_vectorizedHashCode_2 (by decide) (by decide) rfl (by decide) ?_
                refine lv_iload_n C.x C.b dJ4_vectorizedHashCode_116 rfl (lv_at hl 3 rfl) ?_
                refine lv_aload_n C.x C.b dJ4_vectorizedHashCode_117 rfl (lv_at hl 0 rfl) ?_
                exact hw.elim
              · have hw := hw.2 c2_10
                refine lv_tableOut (tgt := 129) C.x C.b dJ4_vectorizedHashCode_2 (by have := lv_neT c2_4 (a := 4) (by decide); have := lv_neT c2_5 (a := 5) (by decide); have := lv_neT c2_6 (a := 6) (by decide); have := lv_neT c2_7 (a := 7) (by decide); have := lv_neT c2_8 (a := 8) (by decide); have := lv_neT c2_9 (a := 9) (by decide); have := lv_neT c2_10 (a := 10) (by decide); omega) (by decide) ?_
                exact kJ_J4_vectorizedHashCode_129 C _ _ _ _ _ hS (lv_sub hl [4] rfl) hw
theorem ny_J4_vectorizedHashCode : gNm yJ4_vectorizedHashCode 5 = true := by decide +kernel
theorem kJ_J4_vectorizedHashCode {l : Launch} (ht : l.stackTraces = false) {w : gW} {i0 : Nat} {i1 : Int32} {i2 : Int32} {i3 : Int32} {i4 : Int32} {Q : Int32 → gW → Prop} (hw : wJ_J4_vectorizedHashCode E i0 i1 i2 i3 i4 Q w) : gMet l yJ4_vectorizedHashCode (ws_ yJ4_vectorizedHashCode cJ4_vectorizedHashCode 5 (some .int)) E w [.ref i0, .int i1, .int i2, .int i3, .int i4] 14 252 (gI Q) (gNoX) :=
  g_ofW ht (by decide) (Nat.le_of_ble_eq_true rfl) (fun p e s m below meth c ls H C hl hS => kJ_J4_vectorizedHashCode_r C _ _ _ _ _ _ _ _ _ hS hl hw)
def wJ_J19_hashCode (E : gE) (i0 : Nat) (Q : Int32 → gW → Prop) (w : gW) : Prop :=
  aLen E i0 (fun v1 => (v1 = 0 → (Q 0 w)) ∧ (¬ v1 = 0 → ((v1 = 1 → (aL E 1 i0 0 (fun v2 => Q (v2 &&& 255) w) w)) ∧ (¬ v1 = 1 → (aLen E i0 (fun v3 => wJ_J4_vectorizedHashCode E i0 0 v3 0 4 (fun r5 w4 => Q r5 w4) w) w))))) w
theorem kJ_J19_hashCode_r (C : gC p l s m args meth c cJ19_hashCode 1 (some .int) RJ19 E [] "hashCode") (i0 : Nat) {Q : Int32 → gW → Prop} (w : gW) (H : Heap) (locs : List Loc) (ls : Array Slot) (hS : gS E w0 w H locs) (hl : lv_has ls 1 [(0, .ref i0)]) (hw : wJ_J19_hashCode E i0 Q w) : gGo p l e s m args below meth c H locs 15 276 E w0 w (gI Q) (gNoX) (F0 m 0 ls []) := by
  unfold wJ_J19_hashCode at hw
  refine lv_aload_n C.x C.b dJ19_hashCode_0 rfl (lv_at hl 0 rfl) ?_
  refine a_len C hS dJ19_hashCode_1 hw (fun v1 hw => ?_)
  rcases Decidable.em (v1 = 0) with c2_0 | c2_0
  · have hw := hw.1 c2_0
    rw [c2_0]
    refine lv_lookup (off := 26) (tgt := 28) C.x C.b dJ19_hashCode_2 (by decide) (by decide) (by decide) ?_
    refine lv_iconst (v := 0) C.x C.b dJ19_hashCode_28 (by decide) ?_
    refine lv_goto (tgt := 51) C.x C.b dJ19_hashCode_29 (by decide) ?_
    exact g_iret C hS ⟨_, rfl, hw⟩ dJ19_hashCode_51
  · have hw := hw.2 c2_0
    rcases Decidable.em (v1 = 1) with c2_1 | c2_1
    · have hw := hw.1 c2_1
      rw [c2_1]
      refine lv_lookup (off := 30) (tgt := 32) C.x C.b dJ19_hashCode_2 (by decide) (by decide) (by decide) ?_
      refine lv_aload_n C.x C.b dJ19_hashCode_32 rfl (lv_at hl 0 rfl) ?_
      refine lv_iconst (v := 0) C.x C.b dJ19_hashCode_33 (by decide) ?_
      refine a_Lb C hS dJ19_hashCode_34 hw (fun v2 hw => ?_)
      refine lv_sipush (v := 255) C.x C.b dJ19_hashCode_35 (by decide) ?_
      refine lv_iand C.x C.b dJ19_hashCode_38 ?_
      refine lv_goto (tgt := 51) C.x C.b dJ19_hashCode_39 (by decide) ?_
      exact g_iret C hS ⟨_, rfl, hw⟩ dJ19_hashCode_51
    · have hw := hw.2 c2_1
      refine lv_lookup (off := 40) (tgt := 42) C.x C.b dJ19_hashCode_2 (by decide) (by rw [lv_osw c2_0 (by decide)]; rw [lv_osw c2_1 (by decide)]; rfl) (by decide) ?_
      refine lv_aload_n C.x C.b dJ19_hashCode_42 rfl (lv_at hl 0 rfl) ?_
      refine lv_iconst (v := 0) C.x C.b dJ19_hashCode_43 (by decide) ?_
      refine lv_aload_n C.x C.b dJ19_hashCode_44 rfl (lv_at hl 0 rfl) ?_
      refine a_len C hS dJ19_hashCode_45 hw (fun v3 hw => ?_)
      refine lv_iconst (v := 0) C.x C.b dJ19_hashCode_46 (by decide) ?_
      refine lv_iconst (v := 4) C.x C.b dJ19_hashCode_47 (by decide) ?_
      refine g_callS (rest := []) C hS hl (kJ_J4_vectorizedHashCode C.tr hw) q793 q794 q85 q795 ny_J4_vectorizedHashCode rfl (Nat.le_of_ble_eq_true rfl) (Nat.le_of_ble_eq_true rfl) rfl (Nat.le_of_ble_eq_true rfl) dJ19_hashCode_48 (fun X1 w1 H1 l1 q1 ce hx => hx.elim) (fun v w4 H locs hq _ hS => ?_)
      obtain ⟨r5, rfl, hw⟩ := hq
      refine W.eq (g2 := F0 m 51 ls [.int r5]) rfl ?_
      exact g_iret C hS ⟨_, rfl, hw⟩ dJ19_hashCode_51
theorem ny_J19_hashCode : gNm yJ19_hashCode 1 = true := by decide +kernel
theorem kJ_J19_hashCode {l : Launch} (ht : l.stackTraces = false) {w : gW} {i0 : Nat} {Q : Int32 → gW → Prop} (hw : wJ_J19_hashCode E i0 Q w) : gMet l yJ19_hashCode (ws_ yJ19_hashCode cJ19_hashCode 1 (some .int)) E w [.ref i0] 15 276 (gI Q) (gNoX) :=
  g_ofW ht (by decide) (Nat.le_of_ble_eq_true rfl) (fun p e s m below meth c ls H C hl hS => kJ_J19_hashCode_r C _ _ _ _ _ hS hl hw)
def wJ_J14_isLatin1 (E : gE) (i0 : Nat) (Q : Int32 → gW → Prop) (w : gW) : Prop :=
  aGs E "java/lang/String" "COMPACT_STRINGS" "Z" (fun v1 => (v1 = 0 → (Q 0 w)) ∧ (¬ v1 = 0 → (aI E i0 10 1 (fun v3 => (v3 = 0 → (Q 1 w)) ∧ (¬ v3 = 0 → (Q 0 w))) w)))
theorem kJ_J14_isLatin1_r (C : gC p l s m args meth c cJ14_isLatin1 1 (some .boolean) RJ14 E [] "isLatin1") (i0 : Nat) {Q : Int32 → gW → Prop} (w : gW) (H : Heap) (locs : List Loc) (ls : Array Slot) (hS : gS E w0 w H locs) (hl : lv_has ls 1 [(0, .ref i0)]) (hw : wJ_J14_isLatin1 E i0 Q w) : gGo p l e s m args below meth c H locs 0 0 E w0 w (gI Q) (gNoX) (F0 m 0 ls []) := by
  unfold wJ_J14_isLatin1 at hw
  obtain ⟨v1, hZ, hw⟩ := hw
  refine a_gs C hS hZ q711 (fun _ h9 => h9) dJ14_isLatin1_0 ?_
  refine lv_if_eq (tgt := 17) C.x C.b dJ14_isLatin1_3 (by decide) (fun c2 => ?_) (fun c2 => ?_)
  · have hw := hw.1 c2
    refine lv_iconst (v := 0) C.x C.b dJ14_isLatin1_17 (by decide) ?_
    exact g_zret C hS rfl ⟨_, rfl, hw⟩ dJ14_isLatin1_18
  · have hw := hw.2 c2
    refine lv_aload_n C.x C.b dJ14_isLatin1_6 rfl (lv_at hl 0 rfl) ?_
    refine a_I C hS in_J14 rfl (k := 1) (ci := 10) (by decide) q767 (fun _ h9 => h9) dJ14_isLatin1_7 hw (fun v3 hw => ?_)
    refine lv_if_ne (tgt := 17) C.x C.b dJ14_isLatin1_10 (by decide) (fun c4 => ?_) (fun c4 => ?_)
    · have hw := hw.2 c4
      refine lv_iconst (v := 0) C.x C.b dJ14_isLatin1_17 (by decide) ?_
      exact g_zret C hS rfl ⟨_, rfl, hw⟩ dJ14_isLatin1_18
    · have hw := hw.1 c4
      refine lv_iconst (v := 1) C.x C.b dJ14_isLatin1_13 (by decide) ?_
      refine lv_goto (tgt := 18) C.x C.b dJ14_isLatin1_14 (by decide) ?_
      exact g_zret C hS rfl ⟨_, rfl, hw⟩ dJ14_isLatin1_18
theorem ny_J14_isLatin1 : gNm yJ14_isLatin1 0 = true := by decide +kernel
theorem kJ_J14_isLatin1 {l : Launch} (ht : l.stackTraces = false) {w : gW} {i0 : Nat} {Q : Int32 → gW → Prop} (hw : wJ_J14_isLatin1 E i0 Q w) : gMet l yJ14_isLatin1 (ws_ yJ14_isLatin1 cJ14_isLatin1 1 (some .boolean)) E w [.ref i0] 0 0 (gI Q) (gNoX) :=
  g_ofW ht (by decide) (Nat.le_of_ble_eq_true rfl) (fun p e s m below meth c ls H C hl hS => kJ_J14_isLatin1_r C _ _ _ _ _ hS hl hw)
def wJ_J14_hashCode_40 (E : gE) (Q : Int32 → gW → Prop) (x0 : Nat) (y0 : Int32) (w : gW) : Prop :=
  (y0 = 0 → (aP x0 10 3 (.int 1) (fun w15 => Q y0 w15) w)) ∧ (¬ y0 = 0 → (aP x0 10 2 (.int y0) (fun w14 => Q y0 w14) w))
theorem kJ_J14_hashCode_40 (C : gC p l s m args meth c cJ14_hashCode 2 (some .int) RJ14 E [] "hashCode") {Q : Int32 → gW → Prop} (x0 : Nat) (y0 : Int32) (w : gW) (H : Heap) (locs : List Loc) (ls : Array Slot) (hS : gS E w0 w H locs) (hl : lv_has ls 2 [(0, .ref x0)]) (hw : wJ_J14_hashCode_40 E Q x0 y0 w) : gGo p l e s m args below meth c H locs 16 296 E w0 w (gI Q) (gNoX) (F0 m 40 ls [.int y0]) := by
  unfold wJ_J14_hashCode_40 at hw
  refine lv_istore_n (lv' := [(1, .int y0), (0, .ref x0)]) C.x C.b dJ14_hashCode_40 rfl hl (by decide) rfl (fun ls hl => ?_)
  refine lv_iload_n C.x C.b dJ14_hashCode_41 rfl (lv_at hl 0 rfl) ?_
  refine lv_if_ne (tgt := 53) C.x C.b dJ14_hashCode_42 (by decide) (fun c13 => ?_) (fun c13 => ?_)
  · have hw := hw.2 c13
    refine lv_aload_n C.x C.b dJ14_hashCode_53 rfl (lv_at hl 1 rfl) ?_
    refine lv_iload_n C.x C.b dJ14_hashCode_54 rfl (lv_at hl 0 rfl) ?_
    refine a_P C hS in_J14 tyJ14 tyJ14_ok nmJ14 rfl (k := 2) (ci := 10) (by decide) q768 (fun _ h9 => h9) rfl rfl rfl dJ14_hashCode_55 hw (fun w14 H locs hw hS => ?_)
    refine lv_iload_n C.x C.b dJ14_hashCode_58 rfl (lv_at hl 0 rfl) ?_
    exact g_iret C hS ⟨_, rfl, hw⟩ dJ14_hashCode_59
  · have hw := hw.1 c13
    refine lv_aload_n C.x C.b dJ14_hashCode_45 rfl (lv_at hl 1 rfl) ?_
    refine lv_iconst (v := 1) C.x C.b dJ14_hashCode_46 (by decide) ?_
    refine a_P C hS in_J14 tyJ14 tyJ14_ok nmJ14 rfl (k := 3) (ci := 10) (by decide) q769 (fun _ h9 => h9) rfl rfl rfl dJ14_hashCode_47 hw (fun w15 H locs hw hS => ?_)
    refine lv_goto (tgt := 58) C.x C.b dJ14_hashCode_50 (by decide) ?_
    refine lv_iload_n C.x C.b dJ14_hashCode_58 rfl (lv_at hl 0 rfl) ?_
    exact g_iret C hS ⟨_, rfl, hw⟩ dJ14_hashCode_59
def wJ_J14_hashCode (E : gE) (i0 : Nat) (Q : Int32 → gW → Prop) (w : gW) : Prop :=
  aI E i0 10 2 (fun v1 => (v1 = 0 → (aI E i0 10 3 (fun v3 => (v3 = 0 → (aKind E i0 10 (wJ_J14_isLatin1 E i0 (fun r6 w5 => (r6 = 0 → (aR E i0 10 0 (fun r8 => False) w5)) ∧ (¬ r6 = 0 → (aR E i0 10 0 (fun r9 => ∃ a10 : Nat, r9 = some a10 ∧ (wJ_J19_hashCode E a10 (fun r12 w11 => wJ_J14_hashCode_40 E Q i0 r12 w11) w5)) w5))) w) w)) ∧ (¬ v3 = 0 → (Q v1 w))) w)) ∧ (¬ v1 = 0 → (Q v1 w))) w
theorem kJ_J14_hashCode_r (C : gC p l s m args meth c cJ14_hashCode 2 (some .int) RJ14 E [] "hashCode") (i0 : Nat) {Q : Int32 → gW → Prop} (w : gW) (H : Heap) (locs : List Loc) (ls : Array Slot) (hS : gS E w0 w H locs) (hl : lv_has ls 2 [(0, .ref i0)]) (hw : wJ_J14_hashCode E i0 Q w) : gGo p l e s m args below meth c H locs 16 296 E w0 w (gI Q) (gNoX) (F0 m 0 ls []) := by
  unfold wJ_J14_hashCode at hw
  refine lv_aload_n C.x C.b dJ14_hashCode_0 rfl (lv_at hl 0 rfl) ?_
  refine a_I C hS in_J14 rfl (k := 2) (ci := 10) (by decide) q768 (fun _ h9 => h9) dJ14_hashCode_1 hw (fun v1 hw => ?_)
  refine lv_istore_n (lv' := [(1, .int v1), (0, .ref i0)]) C.x C.b dJ14_hashCode_4 rfl hl (by decide) rfl (fun ls hl => ?_)
  refine lv_iload_n C.x C.b dJ14_hashCode_5 rfl (lv_at hl 0 rfl) ?_
  refine lv_if_ne (tgt := 58) C.x C.b dJ14_hashCode_6 (by decide) (fun c2 => ?_) (fun c2 => ?_)
  · have hw := hw.2 c2
    refine lv_iload_n C.x C.b dJ14_hashCode_58 rfl (lv_at hl 0 rfl) ?_
    exact g_iret C hS ⟨_, rfl, hw⟩ dJ14_hashCode_59
  · have hw := hw.1 c2
    refine lv_aload_n C.x C.b dJ14_hashCode_9 rfl (lv_at hl 1 rfl) ?_
    refine a_I C hS in_J14 rfl (k := 3) (ci := 10) (by decide) q769 (fun _ h9 => h9) dJ14_hashCode_10 hw (fun v3 hw => ?_)
    refine lv_if_ne (tgt := 58) C.x C.b dJ14_hashCode_13 (by decide) (fun c4 => ?_) (fun c4 => ?_)
    · have hw := hw.2 c4
      refine lv_iload_n C.x C.b dJ14_hashCode_58 rfl (lv_at hl 0 rfl) ?_
      exact g_iret C hS ⟨_, rfl, hw⟩ dJ14_hashCode_59
    · have hw := hw.1 c4
      refine lv_aload_n C.x C.b dJ14_hashCode_16 rfl (lv_at hl 1 rfl) ?_
      obtain ⟨fs, hq, hw⟩ := hw
      refine a_callV (rest := []) C hS hl 10 hq rfl (kJ_J14_isLatin1 C.tr hw) q786 q787 q788 q99 q789 ny_J14_isLatin1 rfl (Nat.le_of_ble_eq_true rfl) (Nat.le_of_ble_eq_true rfl) rfl (Nat.le_of_ble_eq_true rfl) dJ14_hashCode_17 (fun X1 w1 H1 l1 q1 ce hx => hx.elim) (fun v w5 H locs hq _ hS => ?_)
      obtain ⟨r6, rfl, hw⟩ := hq
      refine W.eq (g2 := F0 m 20 ls [.int r6]) rfl ?_
      refine lv_if_eq (tgt := 33) C.x C.b dJ14_hashCode_20 (by decide) (fun c7 => ?_) (fun c7 => ?_)
      · have hw := hw.1 c7
        refine lv_aload_n C.x C.b dJ14_hashCode_33 rfl (lv_at hl 1 rfl) ?_
        refine a_R C hS in_J14 rfl (k := 0) (ci := 10) (by decide) q766 (fun _ h9 => h9) dJ14_hashCode_34 hw (fun r8 hw => ?_)
        exact hw.elim
      · have hw := hw.2 c7
        refine lv_aload_n C.x C.b dJ14_hashCode_23 rfl (lv_at hl 1 rfl) ?_
        refine a_R C hS in_J14 rfl (k := 0) (ci := 10) (by decide) q766 (fun _ h9 => h9) dJ14_hashCode_24 hw (fun r9 hw => ?_)
        obtain ⟨a10, e9, hw9⟩ := hw; subst e9; have hw := hw9; clear hw9
        have hl : lv_has ls 2 [(1, .int v1), (0, .ref i0)] := hl
        refine W.eq (g2 := F0 m 27 ls [.ref a10]) rfl ?_
        refine g_callS (rest := []) C hS hl (kJ_J19_hashCode C.tr hw) q790 q791 q106 q792 ny_J19_hashCode rfl (Nat.le_of_ble_eq_true rfl) (Nat.le_of_ble_eq_true rfl) rfl (Nat.le_of_ble_eq_true rfl) dJ14_hashCode_27 (fun X1 w1 H1 l1 q1 ce hx => hx.elim) (fun v w11 H locs hq _ hS => ?_)
        obtain ⟨r12, rfl, hw⟩ := hq
        refine W.eq (g2 := F0 m 30 ls [.int r12]) rfl ?_
        refine lv_goto (tgt := 40) C.x C.b dJ14_hashCode_30 (by decide) ?_
        exact kJ_J14_hashCode_40 C _ _ _ _ _ _ hS (lv_sub hl [1] rfl) hw
theorem ny_J14_hashCode : gNm yJ14_hashCode 0 = true := by decide +kernel
theorem kJ_J14_hashCode {l : Launch} (ht : l.stackTraces = false) {w : gW} {i0 : Nat} {Q : Int32 → gW → Prop} (hw : wJ_J14_hashCode E i0 Q w) : gMet l yJ14_hashCode (ws_ yJ14_hashCode cJ14_hashCode 2 (some .int)) E w [.ref i0] 16 296 (gI Q) (gNoX) :=
  g_ofW ht (by decide) (Nat.le_of_ble_eq_true rfl) (fun p e s m below meth c ls H C hl hS => kJ_J14_hashCode_r C _ _ _ _ _ hS hl hw)
def wJ_J14_coder (E : gE) (i0 : Nat) (Q : Int32 → gW → Prop) (w : gW) : Prop :=
  aGs E "java/lang/String" "COMPACT_STRINGS" "Z" (fun v1 => (v1 = 0 → (narrow .byte (.int 1) = .int 1 ∧ Q 1 w)) ∧ (¬ v1 = 0 → (aI E i0 10 1 (fun v3 => narrow .byte (.int v3) = .int v3 ∧ Q v3 w) w)))
theorem kJ_J14_coder_r (C : gC p l s m args meth c cJ14_coder 1 (some .byte) RJ14 E [] "coder") (i0 : Nat) {Q : Int32 → gW → Prop} (w : gW) (H : Heap) (locs : List Loc) (ls : Array Slot) (hS : gS E w0 w H locs) (hl : lv_has ls 1 [(0, .ref i0)]) (hw : wJ_J14_coder E i0 Q w) : gGo p l e s m args below meth c H locs 0 0 E w0 w (gI Q) (gNoX) (F0 m 0 ls []) := by
  unfold wJ_J14_coder at hw
  obtain ⟨v1, hZ, hw⟩ := hw
  refine a_gs C hS hZ q711 (fun _ h9 => h9) dJ14_coder_0 ?_
  refine lv_if_eq (tgt := 13) C.x C.b dJ14_coder_3 (by decide) (fun c2 => ?_) (fun c2 => ?_)
  · have hw := hw.1 c2
    refine lv_iconst (v := 1) C.x C.b dJ14_coder_13 (by decide) ?_
    exact g_nret C hS hw.1 ⟨_, rfl, hw.2⟩ dJ14_coder_14
  · have hw := hw.2 c2
    refine lv_aload_n C.x C.b dJ14_coder_6 rfl (lv_at hl 0 rfl) ?_
    refine a_I C hS in_J14 rfl (k := 1) (ci := 10) (by decide) q767 (fun _ h9 => h9) dJ14_coder_7 hw (fun v3 hw => ?_)
    refine lv_goto (tgt := 14) C.x C.b dJ14_coder_10 (by decide) ?_
    exact g_nret C hS hw.1 ⟨_, rfl, hw.2⟩ dJ14_coder_14
theorem ny_J14_coder : gNm yJ14_coder 0 = true := by decide +kernel
theorem kJ_J14_coder {l : Launch} (ht : l.stackTraces = false) {w : gW} {i0 : Nat} {Q : Int32 → gW → Prop} (hw : wJ_J14_coder E i0 Q w) : gMet l yJ14_coder (ws_ yJ14_coder cJ14_coder 1 (some .byte)) E w [.ref i0] 0 0 (gI Q) (gNoX) :=
  g_ofW ht (by decide) (Nat.le_of_ble_eq_true rfl) (fun p e s m below meth c ls H C hl hS => kJ_J14_coder_r C _ _ _ _ _ hS hl hw)
def wJ_J19_equals_9 (E : gE) (Q : Int32 → gW → Prop) : Nat → Nat → Nat → Int32 → gW → Prop
  | 0, _, _, _, _ => False
  | n + 1, x0, x1, x2, w => aLen E x0 (fun v5 => (v5 ≤ x2 → (Q 1 w)) ∧ (¬ v5 ≤ x2 → (aL E 1 x0 x2 (fun v7 => aL E 1 x1 x2 (fun v8 => (v7 = v8 → (wJ_J19_equals_9 E Q n x0 x1 (x2 + 1) w)) ∧ (¬ v7 = v8 → (Q 0 w))) w) w))) w
theorem kJ_J19_equals_9 (C : gC p l s m args meth c cJ19_equals 3 (some .boolean) RJ19 E [] "equals") {Q : Int32 → gW → Prop} : ∀ (n : Nat) (x0 : Nat) (x1 : Nat) (x2 : Int32) (w : gW) (H : Heap) (locs : List Loc) (ls : Array Slot), gS E w0 w H locs → lv_has ls 3 [(0, .ref x0), (1, .ref x1), (2, .int x2)] → wJ_J19_equals_9 E Q n x0 x1 x2 w → gGo p l e s m args below meth c H locs 0 0 E w0 w (gI Q) (gNoX) (F0 m 9 ls []) := by
  intro n
  induction n with
  | zero =>
    intro x0 x1 x2 w H locs ls hS hl hw
    exact hw.elim
  | succ n ih =>
    intro x0 x1 x2 w H locs ls hS hl hw
    unfold wJ_J19_equals_9 at hw
    refine lv_iload_n C.x C.b dJ19_equals_9 rfl (lv_at hl 2 rfl) ?_
    refine lv_aload_n C.x C.b dJ19_equals_10 rfl (lv_at hl 0 rfl) ?_
    refine a_len C hS dJ19_equals_11 hw (fun v5 hw => ?_)
    refine lv_icmp_ge (tgt := 32) C.x C.b dJ19_equals_12 (by decide) (fun c6 => ?_) (fun c6 => ?_)
    · have hw := hw.1 c6
      refine lv_iconst (v := 1) C.x C.b dJ19_equals_32 (by decide) ?_
      exact g_zret C hS rfl ⟨_, rfl, hw⟩ dJ19_equals_33
    · have hw := hw.2 c6
      refine lv_aload_n C.x C.b dJ19_equals_15 rfl (lv_at hl 0 rfl) ?_
      refine lv_iload_n C.x C.b dJ19_equals_16 rfl (lv_at hl 2 rfl) ?_
      refine a_Lb C hS dJ19_equals_17 hw (fun v7 hw => ?_)
      refine lv_aload_n C.x C.b dJ19_equals_18 rfl (lv_at hl 1 rfl) ?_
      refine lv_iload_n C.x C.b dJ19_equals_19 rfl (lv_at hl 2 rfl) ?_
      refine a_Lb C hS dJ19_equals_20 hw (fun v8 hw => ?_)
      refine lv_icmp_eq (tgt := 26) C.x C.b dJ19_equals_21 (by decide) (fun c9 => ?_) (fun c9 => ?_)
      · have hw := hw.1 c9
        refine lv_iinc (v := (x2 + 1)) (lv' := [(2, .int (x2 + 1)), (0, .ref x0), (1, .ref x1)]) C.x C.b dJ19_equals_26 hl (k := 2) rfl rfl (by decide) rfl (fun ls hl => ?_)
        refine lv_goto (tgt := 9) C.x C.b dJ19_equals_29 (by decide) ?_
        exact ih _ _ _ _ _ _ _ hS (lv_sub hl [1, 2, 0] rfl) hw
      · have hw := hw.2 c9
        refine lv_iconst (v := 0) C.x C.b dJ19_equals_24 (by decide) ?_
        exact g_zret C hS rfl ⟨_, rfl, hw⟩ dJ19_equals_25
def wJ_J19_equals (E : gE) (i0 : Nat) (i1 : Nat) (Q : Int32 → gW → Prop) (w : gW) : Prop :=
  aLen E i0 (fun v1 => aLen E i1 (fun v2 => (v1 = v2 → (∃ k4 : Nat, wJ_J19_equals_9 E Q k4 i0 i1 0 w)) ∧ (¬ v1 = v2 → (Q 0 w))) w) w
theorem kJ_J19_equals_r (C : gC p l s m args meth c cJ19_equals 3 (some .boolean) RJ19 E [] "equals") (i0 : Nat) (i1 : Nat) {Q : Int32 → gW → Prop} (w : gW) (H : Heap) (locs : List Loc) (ls : Array Slot) (hS : gS E w0 w H locs) (hl : lv_has ls 3 [(0, .ref i0), (1, .ref i1)]) (hw : wJ_J19_equals E i0 i1 Q w) : gGo p l e s m args below meth c H locs 0 0 E w0 w (gI Q) (gNoX) (F0 m 0 ls []) := by
  unfold wJ_J19_equals at hw
  refine lv_aload_n C.x C.b dJ19_equals_0 rfl (lv_at hl 0 rfl) ?_
  refine a_len C hS dJ19_equals_1 hw (fun v1 hw => ?_)
  refine lv_aload_n C.x C.b dJ19_equals_2 rfl (lv_at hl 1 rfl) ?_
  refine a_len C hS dJ19_equals_3 hw (fun v2 hw => ?_)
  refine lv_icmp_ne (tgt := 34) C.x C.b dJ19_equals_4 (by decide) (fun c3 => ?_) (fun c3 => ?_)
  · have hw := hw.2 c3
    refine lv_iconst (v := 0) C.x C.b dJ19_equals_34 (by decide) ?_
    exact g_zret C hS rfl ⟨_, rfl, hw⟩ dJ19_equals_35
  · have hw := hw.1 c3
    refine lv_iconst (v := 0) C.x C.b dJ19_equals_7 (by decide) ?_
    refine lv_istore_n (lv' := [(2, .int 0), (0, .ref i0), (1, .ref i1)]) C.x C.b dJ19_equals_8 rfl hl (by decide) rfl (fun ls hl => ?_)
    obtain ⟨k4, hw⟩ := hw
    exact kJ_J19_equals_9 C k4 _ _ _ _ _ _ _ hS (lv_sub hl [1, 2, 0] rfl) hw
theorem ny_J19_equals : gNm yJ19_equals 2 = true := by decide +kernel
theorem kJ_J19_equals {l : Launch} (ht : l.stackTraces = false) {w : gW} {i0 : Nat} {i1 : Nat} {Q : Int32 → gW → Prop} (hw : wJ_J19_equals E i0 i1 Q w) : gMet l yJ19_equals (ws_ yJ19_equals cJ19_equals 3 (some .boolean)) E w [.ref i0, .ref i1] 0 0 (gI Q) (gNoX) :=
  g_ofW ht (by decide) (Nat.le_of_ble_eq_true rfl) (fun p e s m below meth c ls H C hl hS => kJ_J19_equals_r C _ _ _ _ _ _ hS hl hw)
def wJ_J14_equals_36 (E : gE) (Q : Int32 → gW → Prop) (x0 : Nat) (x2 : Nat) (w : gW) : Prop :=
  aR E x0 10 0 (fun r8 => aR E x2 10 0 (fun r9 => ∃ a10 : Nat, r9 = some a10 ∧ (∃ a11 : Nat, r8 = some a11 ∧ (wJ_J19_equals E a11 a10 (fun r13 w12 => (r13 = 0 → (Q 0 w12)) ∧ (¬ r13 = 0 → (Q 1 w12))) w))) w) w
theorem kJ_J14_equals_36 (C : gC p l s m args meth c cJ14_equals 3 (some .boolean) RJ14 E [] "equals") {Q : Int32 → gW → Prop} (x0 : Nat) (x2 : Nat) (w : gW) (H : Heap) (locs : List Loc) (ls : Array Slot) (hS : gS E w0 w H locs) (hl : lv_has ls 3 [(0, .ref x0), (2, .ref x2)]) (hw : wJ_J14_equals_36 E Q x0 x2 w) : gGo p l e s m args below meth c H locs 1 22 E w0 w (gI Q) (gNoX) (F0 m 36 ls []) := by
  unfold wJ_J14_equals_36 at hw
  refine lv_aload_n C.x C.b dJ14_equals_36 rfl (lv_at hl 0 rfl) ?_
  refine a_R C hS in_J14 rfl (k := 0) (ci := 10) (by decide) q766 (fun _ h9 => h9) dJ14_equals_37 hw (fun r8 hw => ?_)
  refine lv_aload_n C.x C.b dJ14_equals_40 rfl (lv_at hl 1 rfl) ?_
  refine a_R C hS in_J14 rfl (k := 0) (ci := 10) (by decide) q766 (fun _ h9 => h9) dJ14_equals_41 hw (fun r9 hw => ?_)
  obtain ⟨a10, e9, hw9⟩ := hw; subst e9; have hw := hw9; clear hw9
  have hl : lv_has ls 3 [(0, .ref x0), (2, .ref x2)] := hl
  refine W.eq (g2 := F0 m 44 ls [.ref a10, va_rf r8]) rfl ?_
  obtain ⟨a11, e9, hw9⟩ := hw; subst e9; have hw := hw9; clear hw9
  have hl : lv_has ls 3 [(0, .ref x0), (2, .ref x2)] := hl
  refine W.eq (g2 := F0 m 44 ls [.ref a10, .ref a11]) rfl ?_
  refine g_callS (rest := []) C hS hl (kJ_J19_equals C.tr hw) q849 q850 q106 q851 ny_J19_equals rfl (Nat.le_of_ble_eq_true rfl) (Nat.le_of_ble_eq_true rfl) rfl (Nat.le_of_ble_eq_true rfl) dJ14_equals_44 (fun X1 w1 H1 l1 q1 ce hx => hx.elim) (fun v w12 H locs hq _ hS => ?_)
  obtain ⟨r13, rfl, hw⟩ := hq
  refine W.eq (g2 := F0 m 47 ls [.int r13]) rfl ?_
  refine lv_if_eq (tgt := 54) C.x C.b dJ14_equals_47 (by decide) (fun c14 => ?_) (fun c14 => ?_)
  · have hw := hw.1 c14
    refine lv_iconst (v := 0) C.x C.b dJ14_equals_54 (by decide) ?_
    exact g_zret C hS rfl ⟨_, rfl, hw⟩ dJ14_equals_55
  · have hw := hw.2 c14
    refine lv_iconst (v := 1) C.x C.b dJ14_equals_50 (by decide) ?_
    refine lv_goto (tgt := 55) C.x C.b dJ14_equals_51 (by decide) ?_
    exact g_zret C hS rfl ⟨_, rfl, hw⟩ dJ14_equals_55
def wJ_J14_equals (E : gE) (i0 : Nat) (i1 : Nat) (Q : Int32 → gW → Prop) (w : gW) : Prop :=
  ((some i0) = (some i1) → (Q 1 w)) ∧ (¬ (some i0) = (some i1) → (aKind E i1 10 (((1 : Int32) = 0 → (Q 0 w)) ∧ (¬ (1 : Int32) = 0 → (aKind E i1 10 (aGs E "java/lang/String" "COMPACT_STRINGS" "Z" (fun v3 => (v3 = 0 → (wJ_J14_equals_36 E Q i0 i1 w)) ∧ (¬ v3 = 0 → (aI E i0 10 1 (fun v5 => aI E i1 10 1 (fun v6 => (v5 = v6 → (wJ_J14_equals_36 E Q i0 i1 w)) ∧ (¬ v5 = v6 → (Q 0 w))) w) w)))) w))) w))
theorem kJ_J14_equals_r (C : gC p l s m args meth c cJ14_equals 3 (some .boolean) RJ14 E [] "equals") (i0 : Nat) (i1 : Nat) {Q : Int32 → gW → Prop} (w : gW) (H : Heap) (locs : List Loc) (ls : Array Slot) (hS : gS E w0 w H locs) (hl : lv_has ls 3 [(0, .ref i0), (1, .ref i1)]) (hw : wJ_J14_equals E i0 i1 Q w) : gGo p l e s m args below meth c H locs 1 22 E w0 w (gI Q) (gNoX) (F0 m 0 ls []) := by
  unfold wJ_J14_equals at hw
  refine lv_aload_n C.x C.b dJ14_equals_0 rfl (lv_at hl 0 rfl) ?_
  refine lv_aload_n C.x C.b dJ14_equals_1 rfl (lv_at hl 1 rfl) ?_
  refine lv_acmp_ne (rx := (some i0)) (ry := (some i1)) (tgt := 7) C.x C.b dJ14_equals_2 (by decide) (fun c1 => ?_) (fun c1 => ?_)
  · have hw := hw.2 c1
    refine lv_aload_n C.x C.b dJ14_equals_7 rfl (lv_at hl 1 rfl) ?_
    refine a_inst (ci := 10) C hS rfl q848 dJ14_equals_8 hw (fun hw => ?_)
    refine lv_if_eq (tgt := 54) C.x C.b dJ14_equals_11 (by decide) (fun c2 => ?_) (fun c2 => ?_)
    · have hw := hw.1 c2
      refine lv_iconst (v := 0) C.x C.b dJ14_equals_54 (by decide) ?_
      exact g_zret C hS rfl ⟨_, rfl, hw⟩ dJ14_equals_55
    · have hw := hw.2 c2
      refine lv_aload_n C.x C.b dJ14_equals_14 rfl (lv_at hl 1 rfl) ?_
      refine a_cast (ci := 10) C hS rfl q848 dJ14_equals_15 hw (fun hw => ?_)
      refine lv_astore_n (lv' := [(2, .ref i1), (0, .ref i0), (1, .ref i1)]) C.x C.b dJ14_equals_18 rfl hl (by decide) rfl (fun ls hl => ?_)
      obtain ⟨v3, hZ, hw⟩ := hw
      refine a_gs C hS hZ q711 (fun _ h9 => h9) dJ14_equals_19 ?_
      refine lv_if_eq (tgt := 36) C.x C.b dJ14_equals_22 (by decide) (fun c4 => ?_) (fun c4 => ?_)
      · have hw := hw.1 c4
        exact kJ_J14_equals_36 C _ _ _ _ _ _ hS (lv_sub hl [1, 0] rfl) hw
      · have hw := hw.2 c4
        refine lv_aload_n C.x C.b dJ14_equals_25 rfl (lv_at hl 1 rfl) ?_
        refine a_I C hS in_J14 rfl (k := 1) (ci := 10) (by decide) q767 (fun _ h9 => h9) dJ14_equals_26 hw (fun v5 hw => ?_)
        refine lv_aload_n C.x C.b dJ14_equals_29 rfl (lv_at hl 0 rfl) ?_
        refine a_I C hS in_J14 rfl (k := 1) (ci := 10) (by decide) q767 (fun _ h9 => h9) dJ14_equals_30 hw (fun v6 hw => ?_)
        refine lv_icmp_ne (tgt := 54) C.x C.b dJ14_equals_33 (by decide) (fun c7 => ?_) (fun c7 => ?_)
        · have hw := hw.2 c7
          refine lv_iconst (v := 0) C.x C.b dJ14_equals_54 (by decide) ?_
          exact g_zret C hS rfl ⟨_, rfl, hw⟩ dJ14_equals_55
        · have hw := hw.1 c7
          exact kJ_J14_equals_36 C _ _ _ _ _ _ hS (lv_sub hl [1, 0] rfl) hw
  · have hw := hw.1 c1
    refine lv_iconst (v := 1) C.x C.b dJ14_equals_5 (by decide) ?_
    exact g_zret C hS rfl ⟨_, rfl, hw⟩ dJ14_equals_6
theorem ny_J14_equals : gNm yJ14_equals 1 = true := by decide +kernel
theorem kJ_J14_equals {l : Launch} (ht : l.stackTraces = false) {w : gW} {i0 : Nat} {i1 : Nat} {Q : Int32 → gW → Prop} (hw : wJ_J14_equals E i0 i1 Q w) : gMet l yJ14_equals (ws_ yJ14_equals cJ14_equals 3 (some .boolean)) E w [.ref i0, .ref i1] 1 22 (gI Q) (gNoX) :=
  g_ofW ht (by decide) (Nat.le_of_ble_eq_true rfl) (fun p e s m below meth c ls H C hl hS => kJ_J14_equals_r C _ _ _ _ _ _ hS hl hw)
end GJ2
