section GJ1
variable {p : Program} {l : Launch} {e : Env} {s : State} {m : MethodId} {args : Array Value} {below : List Frame} {meth : Method} {c : Code} {E : gE} {w0 : gW}
def wJ_J0_init (E : gE) (i0 : Nat) (Q : gW → Prop) (w : gW) : Prop :=
  Q w
theorem kJ_J0_init_r (C : gC p l s m args meth c cJ0_init 1 none RJ0 E [] "<init>") (i0 : Nat) {Q : gW → Prop} (w : gW) (H : Heap) (locs : List Loc) (ls : Array Slot) (hS : gS E w0 w H locs) (hl : lv_has ls 1 [(0, .ref i0)]) (hw : wJ_J0_init E i0 Q w) : gGo p l e s m args below meth c H locs 1 24 E w0 w (gV Q) (gNoX) (F0 m 0 ls []) := by
  unfold wJ_J0_init at hw
  refine lv_aload_n C.x C.b dJ0_init_0 rfl (lv_at hl 0 rfl) ?_
  refine W.objInit C.x C.b C.ow (C.ts _ q137) (C.ts _ q115) (C.ts _ q116) rfl (by rw [C.ml]; exact hl.1) rfl dJ0_init_1 (Nat.le_of_ble_eq_true rfl) (Nat.le_of_ble_eq_true rfl) ?_
  refine W.eq (g2 := F0 m 4 ls []) rfl ?_
  exact g_vret C hS ⟨rfl, hw⟩ dJ0_init_4
theorem ny_J0_init : gNm yJ0_init 0 = true := by decide +kernel
theorem kJ_J0_init {l : Launch} (ht : l.stackTraces = false) {w : gW} {i0 : Nat} {Q : gW → Prop} (hw : wJ_J0_init E i0 Q w) : gMet l yJ0_init (ws_ yJ0_init cJ0_init 1 none) E w [.ref i0] 1 24 (gV Q) (gNoX) :=
  g_ofW ht (by decide) (Nat.le_of_ble_eq_true rfl) (fun p e s m below meth c ls H C hl hS => kJ_J0_init_r C _ _ _ _ _ hS hl hw)
def wJ_J1_init (E : gE) (i0 : Nat) (Q : gW → Prop) (w : gW) : Prop :=
  wJ_J0_init E i0 (fun w1 => aP i0 8 0 (.int 0) (fun w2 => Q w2) w1) w
theorem kJ_J1_init_r (C : gC p l s m args meth c cJ1_init 1 none RJ1 E [] "<init>") (i0 : Nat) {Q : gW → Prop} (w : gW) (H : Heap) (locs : List Loc) (ls : Array Slot) (hS : gS E w0 w H locs) (hl : lv_has ls 1 [(0, .ref i0)]) (hw : wJ_J1_init E i0 Q w) : gGo p l e s m args below meth c H locs 2 44 E w0 w (gV Q) (gNoX) (F0 m 0 ls []) := by
  unfold wJ_J1_init at hw
  refine lv_aload_n C.x C.b dJ1_init_0 rfl (lv_at hl 0 rfl) ?_
  refine g_callI (rest := []) C hS hl (kJ_J0_init C.tr hw) rfl q134 q135 q79 q136 ny_J0_init rfl (Nat.le_of_ble_eq_true rfl) (Nat.le_of_ble_eq_true rfl) rfl (Nat.le_of_ble_eq_true rfl) dJ1_init_1 (fun X1 w1 H1 l1 q1 ce hx => hx.elim) (fun v w1 H locs hq _ hS => ?_)
  obtain ⟨rfl, hw⟩ := hq
  refine W.eq (g2 := F0 m 4 ls []) rfl ?_
  refine lv_aload_n C.x C.b dJ1_init_4 rfl (lv_at hl 0 rfl) ?_
  refine lv_iconst (v := 0) C.x C.b dJ1_init_5 (by decide) ?_
  refine a_P C hS in_J2 tyJ2 tyJ2_ok nmJ2 rfl (k := 0) (ci := 8) (by decide) q142 (fun _ h9 => h9) rfl rfl rfl dJ1_init_6 hw (fun w2 H locs hw hS => ?_)
  exact g_vret C hS ⟨rfl, hw⟩ dJ1_init_9
theorem ny_J1_init : gNm yJ1_init 0 = true := by decide +kernel
theorem kJ_J1_init {l : Launch} (ht : l.stackTraces = false) {w : gW} {i0 : Nat} {Q : gW → Prop} (hw : wJ_J1_init E i0 Q w) : gMet l yJ1_init (ws_ yJ1_init cJ1_init 1 none) E w [.ref i0] 2 44 (gV Q) (gNoX) :=
  g_ofW ht (by decide) (Nat.le_of_ble_eq_true rfl) (fun p e s m below meth c ls H C hl hS => kJ_J1_init_r C _ _ _ _ _ hS hl hw)
def wJ_J2_init (E : gE) (i0 : Nat) (Q : gW → Prop) (w : gW) : Prop :=
  wJ_J1_init E i0 (fun w1 => aGr E "java/util/ArrayList" "DEFAULTCAPACITY_EMPTY_ELEMENTDATA" "[Ljava/lang/Object;" (fun r2 => aP i0 8 1 (va_rf r2) (fun w3 => Q w3) w1)) w
theorem kJ_J2_init_r (C : gC p l s m args meth c cJ2_init 1 none RJ2 E [] "<init>") (i0 : Nat) {Q : gW → Prop} (w : gW) (H : Heap) (locs : List Loc) (ls : Array Slot) (hS : gS E w0 w H locs) (hl : lv_has ls 1 [(0, .ref i0)]) (hw : wJ_J2_init E i0 Q w) : gGo p l e s m args below meth c H locs 3 64 E w0 w (gV Q) (gNoX) (F0 m 0 ls []) := by
  unfold wJ_J2_init at hw
  refine lv_aload_n C.x C.b dJ2_init_0 rfl (lv_at hl 0 rfl) ?_
  refine g_callI (rest := []) C hS hl (kJ_J1_init C.tr hw) rfl q131 q132 q80 q133 ny_J1_init rfl (Nat.le_of_ble_eq_true rfl) (Nat.le_of_ble_eq_true rfl) rfl (Nat.le_of_ble_eq_true rfl) dJ2_init_1 (fun X1 w1 H1 l1 q1 ce hx => hx.elim) (fun v w1 H locs hq _ hS => ?_)
  obtain ⟨rfl, hw⟩ := hq
  refine W.eq (g2 := F0 m 4 ls []) rfl ?_
  refine lv_aload_n C.x C.b dJ2_init_4 rfl (lv_at hl 0 rfl) ?_
  obtain ⟨r2, hZ, hw⟩ := hw
  refine a_gs C hS hZ q138 (fun _ h9 => h9) dJ2_init_5 ?_
  refine a_P C hS in_J2 tyJ2 tyJ2_ok nmJ2 rfl (k := 1) (ci := 8) (by decide) q140 (fun _ h9 => h9) rfl va_rf_narA va_rf_fitA dJ2_init_8 hw (fun w3 H locs hw hS => ?_)
  exact g_vret C hS ⟨rfl, hw⟩ dJ2_init_11
theorem ny_J2_init : gNm yJ2_init 0 = true := by decide +kernel
theorem kJ_J2_init {l : Launch} (ht : l.stackTraces = false) {w : gW} {i0 : Nat} {Q : gW → Prop} (hw : wJ_J2_init E i0 Q w) : gMet l yJ2_init (ws_ yJ2_init cJ2_init 1 none) E w [.ref i0] 3 64 (gV Q) (gNoX) :=
  g_ofW ht (by decide) (Nat.le_of_ble_eq_true rfl) (fun p e s m below meth c ls H C hl hS => kJ_J2_init_r C _ _ _ _ _ hS hl hw)
def wJ_J11_checkIndex_9 (E : gE) (Q : Int32 → gW → Prop) (x0 : Int32) (x1 : Int32) (x2 : Option Nat) (w : gW) : Prop :=
  False
theorem kJ_J11_checkIndex_9 (C : gC p l s m args meth c cJ11_checkIndex 3 (some .int) RJ11 E [] "checkIndex") {Q : Int32 → gW → Prop} (x0 : Int32) (x1 : Int32) (x2 : Option Nat) (w : gW) (H : Heap) (locs : List Loc) (ls : Array Slot) (hS : gS E w0 w H locs) (hl : lv_has ls 3 [(0, .int x0), (1, .int x1), (2, va_rf x2)]) (hw : wJ_J11_checkIndex_9 E Q x0 x1 x2 w) : gGo p l e s m args below meth c H locs 0 0 E w0 w (gI Q) (gNoX) (F0 m 9 ls []) := by
  unfold wJ_J11_checkIndex_9 at hw
  refine a_aload_n C dJ11_checkIndex_9 rfl (lv_at hl 2 rfl) ?_
  refine lv_iload_n C.x C.b dJ11_checkIndex_10 rfl (lv_at hl 0 rfl) ?_
  refine lv_iload_n C.x C.b dJ11_checkIndex_11 rfl (lv_at hl 1 rfl) ?_
  exact hw.elim
def wJ_J11_checkIndex (E : gE) (i0 : Int32) (i1 : Int32) (i2 : Option Nat) (Q : Int32 → gW → Prop) (w : gW) : Prop :=
  (i0 < 0 → (wJ_J11_checkIndex_9 E Q i0 i1 i2 w)) ∧ (¬ i0 < 0 → ((i0 < i1 → (Q i0 w)) ∧ (¬ i0 < i1 → (wJ_J11_checkIndex_9 E Q i0 i1 i2 w))))
theorem kJ_J11_checkIndex_r (C : gC p l s m args meth c cJ11_checkIndex 3 (some .int) RJ11 E [] "checkIndex") (i0 : Int32) (i1 : Int32) (i2 : Option Nat) {Q : Int32 → gW → Prop} (w : gW) (H : Heap) (locs : List Loc) (ls : Array Slot) (hS : gS E w0 w H locs) (hl : lv_has ls 3 [(0, .int i0), (1, .int i1), (2, va_rf i2)]) (hw : wJ_J11_checkIndex E i0 i1 i2 Q w) : gGo p l e s m args below meth c H locs 0 0 E w0 w (gI Q) (gNoX) (F0 m 0 ls []) := by
  unfold wJ_J11_checkIndex at hw
  refine lv_iload_n C.x C.b dJ11_checkIndex_0 rfl (lv_at hl 0 rfl) ?_
  refine lv_if_lt (tgt := 9) C.x C.b dJ11_checkIndex_1 (by decide) (fun c1 => ?_) (fun c1 => ?_)
  · have hw := hw.1 c1
    exact kJ_J11_checkIndex_9 C _ _ _ _ _ _ _ hS (lv_sub hl [0, 1, 2] rfl) hw
  · have hw := hw.2 c1
    refine lv_iload_n C.x C.b dJ11_checkIndex_4 rfl (lv_at hl 0 rfl) ?_
    refine lv_iload_n C.x C.b dJ11_checkIndex_5 rfl (lv_at hl 1 rfl) ?_
    refine lv_icmp_lt (tgt := 16) C.x C.b dJ11_checkIndex_6 (by decide) (fun c2 => ?_) (fun c2 => ?_)
    · have hw := hw.1 c2
      refine lv_iload_n C.x C.b dJ11_checkIndex_16 rfl (lv_at hl 0 rfl) ?_
      exact g_iret C hS ⟨_, rfl, hw⟩ dJ11_checkIndex_17
    · have hw := hw.2 c2
      exact kJ_J11_checkIndex_9 C _ _ _ _ _ _ _ hS (lv_sub hl [0, 1, 2] rfl) hw
theorem ny_J11_checkIndex : gNm yJ11_checkIndex 3 = true := by decide +kernel
theorem kJ_J11_checkIndex {l : Launch} (ht : l.stackTraces = false) {w : gW} {i0 : Int32} {i1 : Int32} {i2 : Option Nat} {Q : Int32 → gW → Prop} (hw : wJ_J11_checkIndex E i0 i1 i2 Q w) : gMet l yJ11_checkIndex (ws_ yJ11_checkIndex cJ11_checkIndex 3 (some .int)) E w [.int i0, .int i1, va_rf i2] 0 0 (gI Q) (gNoX) :=
  g_ofW ht (by decide) (by cases i2 <;> exact (Nat.le_of_ble_eq_true rfl)) (fun p e s m below meth c ls H C hl hS => kJ_J11_checkIndex_r C _ _ _ _ _ _ _ hS (by cases i2 <;> exact hl) hw)
def wJ_J10_checkIndex (E : gE) (i0 : Int32) (i1 : Int32) (Q : Int32 → gW → Prop) (w : gW) : Prop :=
  wJ_J11_checkIndex E i0 i1 none (fun r2 w1 => Q r2 w1) w
theorem kJ_J10_checkIndex_r (C : gC p l s m args meth c cJ10_checkIndex 2 (some .int) RJ10 E [] "checkIndex") (i0 : Int32) (i1 : Int32) {Q : Int32 → gW → Prop} (w : gW) (H : Heap) (locs : List Loc) (ls : Array Slot) (hS : gS E w0 w H locs) (hl : lv_has ls 2 [(0, .int i0), (1, .int i1)]) (hw : wJ_J10_checkIndex E i0 i1 Q w) : gGo p l e s m args below meth c H locs 1 22 E w0 w (gI Q) (gNoX) (F0 m 0 ls []) := by
  unfold wJ_J10_checkIndex at hw
  refine lv_iload_n C.x C.b dJ10_checkIndex_0 rfl (lv_at hl 0 rfl) ?_
  refine lv_iload_n C.x C.b dJ10_checkIndex_1 rfl (lv_at hl 1 rfl) ?_
  refine lv_null C.x C.b dJ10_checkIndex_2 ?_
  refine g_callS (rest := []) C hS hl (kJ_J11_checkIndex C.tr hw) q396 q397 q94 q398 ny_J11_checkIndex rfl (Nat.le_of_ble_eq_true rfl) (Nat.le_of_ble_eq_true rfl) rfl (Nat.le_of_ble_eq_true rfl) dJ10_checkIndex_3 (fun X1 w1 H1 l1 q1 ce hx => hx.elim) (fun v w1 H locs hq _ hS => ?_)
  obtain ⟨r2, rfl, hw⟩ := hq
  refine W.eq (g2 := F0 m 6 ls [.int r2]) rfl ?_
  exact g_iret C hS ⟨_, rfl, hw⟩ dJ10_checkIndex_6
theorem ny_J10_checkIndex : gNm yJ10_checkIndex 2 = true := by decide +kernel
theorem kJ_J10_checkIndex {l : Launch} (ht : l.stackTraces = false) {w : gW} {i0 : Int32} {i1 : Int32} {Q : Int32 → gW → Prop} (hw : wJ_J10_checkIndex E i0 i1 Q w) : gMet l yJ10_checkIndex (ws_ yJ10_checkIndex cJ10_checkIndex 2 (some .int)) E w [.int i0, .int i1] 1 22 (gI Q) (gNoX) :=
  g_ofW ht (by decide) (Nat.le_of_ble_eq_true rfl) (fun p e s m below meth c ls H C hl hS => kJ_J10_checkIndex_r C _ _ _ _ _ _ hS hl hw)
def wJ_J2_elementData (E : gE) (i0 : Nat) (i1 : Int32) (Q : Option Nat → gW → Prop) (w : gW) : Prop :=
  aR E i0 8 1 (fun r1 => ∃ a2 : Nat, r1 = some a2 ∧ (aLr E 3 a2 i1 (fun r3 => Q r3 w) w)) w
theorem kJ_J2_elementData_r (C : gC p l s m args meth c cJ2_elementData 2 (some (.object "java/lang/Object")) RJ2 E [] "elementData") (i0 : Nat) (i1 : Int32) {Q : Option Nat → gW → Prop} (w : gW) (H : Heap) (locs : List Loc) (ls : Array Slot) (hS : gS E w0 w H locs) (hl : lv_has ls 2 [(0, .ref i0), (1, .int i1)]) (hw : wJ_J2_elementData E i0 i1 Q w) : gGo p l e s m args below meth c H locs 0 0 E w0 w (gR Q) (gNoX) (F0 m 0 ls []) := by
  unfold wJ_J2_elementData at hw
  refine lv_aload_n C.x C.b dJ2_elementData_0 rfl (lv_at hl 0 rfl) ?_
  refine a_R C hS in_J2 rfl (k := 1) (ci := 8) (by decide) q140 (fun _ h9 => h9) dJ2_elementData_1 hw (fun r1 hw => ?_)
  refine lv_iload_n C.x C.b dJ2_elementData_4 rfl (lv_at hl 1 rfl) ?_
  obtain ⟨a2, e9, hw9⟩ := hw; subst e9; have hw := hw9; clear hw9
  have hl : lv_has ls 2 [(0, .ref i0), (1, .int i1)] := hl
  refine W.eq (g2 := F0 m 5 ls [.int i1, .ref a2]) rfl ?_
  refine a_Lr (t := 3) C hS rfl dJ2_elementData_5 hw (fun r3 hw => ?_)
  exact g_aret (r := r3) C (Or.inl ⟨_, rfl⟩) hS ⟨_, rfl, hw⟩ dJ2_elementData_6
theorem ny_J2_elementData : gNm yJ2_elementData 1 = true := by decide +kernel
theorem kJ_J2_elementData {l : Launch} (ht : l.stackTraces = false) {w : gW} {i0 : Nat} {i1 : Int32} {Q : Option Nat → gW → Prop} (hw : wJ_J2_elementData E i0 i1 Q w) : gMet l yJ2_elementData (ws_ yJ2_elementData cJ2_elementData 2 (some (.object "java/lang/Object"))) E w [.ref i0, .int i1] 0 0 (gR Q) (gNoX) :=
  g_ofW ht (by decide) (Nat.le_of_ble_eq_true rfl) (fun p e s m below meth c ls H C hl hS => kJ_J2_elementData_r C _ _ _ _ _ _ hS hl hw)
def wJ_J2_get (E : gE) (i0 : Nat) (i1 : Int32) (Q : Option Nat → gW → Prop) (w : gW) : Prop :=
  aI E i0 8 2 (fun v1 => wJ_J10_checkIndex E i1 v1 (fun r3 w2 => aKind E i0 8 (wJ_J2_elementData E i0 i1 (fun r5 w4 => Q r5 w4) w2) w2) w) w
theorem kJ_J2_get_r (C : gC p l s m args meth c cJ2_get 2 (some (.object "java/lang/Object")) RJ2 E [] "get") (i0 : Nat) (i1 : Int32) {Q : Option Nat → gW → Prop} (w : gW) (H : Heap) (locs : List Loc) (ls : Array Slot) (hS : gS E w0 w H locs) (hl : lv_has ls 2 [(0, .ref i0), (1, .int i1)]) (hw : wJ_J2_get E i0 i1 Q w) : gGo p l e s m args below meth c H locs 2 43 E w0 w (gR Q) (gNoX) (F0 m 0 ls []) := by
  unfold wJ_J2_get at hw
  refine lv_iload_n C.x C.b dJ2_get_0 rfl (lv_at hl 1 rfl) ?_
  refine lv_aload_n C.x C.b dJ2_get_1 rfl (lv_at hl 0 rfl) ?_
  refine a_I C hS in_J2 rfl (k := 2) (ci := 8) (by decide) q141 (fun _ h9 => h9) dJ2_get_2 hw (fun v1 hw => ?_)
  refine g_callS (rest := []) C hS hl (kJ_J10_checkIndex C.tr hw) q393 q394 q93 q395 ny_J10_checkIndex rfl (Nat.le_of_ble_eq_true rfl) (Nat.le_of_ble_eq_true rfl) rfl (Nat.le_of_ble_eq_true rfl) dJ2_get_5 (fun X1 w1 H1 l1 q1 ce hx => hx.elim) (fun v w2 H locs hq _ hS => ?_)
  obtain ⟨r3, rfl, hw⟩ := hq
  refine W.eq (g2 := F0 m 8 ls [.int r3]) rfl ?_
  refine lv_pop C.x C.b dJ2_get_8 rfl ?_
  refine lv_aload_n C.x C.b dJ2_get_9 rfl (lv_at hl 0 rfl) ?_
  refine lv_iload_n C.x C.b dJ2_get_10 rfl (lv_at hl 1 rfl) ?_
  obtain ⟨fs, hq, hw⟩ := hw
  refine a_callV (rest := []) C hS hl 8 hq rfl (kJ_J2_elementData C.tr hw) q399 q400 q401 q81 q402 ny_J2_elementData rfl (Nat.le_of_ble_eq_true rfl) (Nat.le_of_ble_eq_true rfl) rfl (Nat.le_of_ble_eq_true rfl) dJ2_get_11 (fun X1 w1 H1 l1 q1 ce hx => hx.elim) (fun v w4 H locs hq _ hS => ?_)
  obtain ⟨r5, rfl, hw⟩ := hq
  refine W.eq (g2 := F0 m 14 ls [va_rf r5]) rfl ?_
  exact g_aret (r := r5) C (Or.inl ⟨_, rfl⟩) hS ⟨_, rfl, hw⟩ dJ2_get_14
theorem ny_J2_get : gNm yJ2_get 1 = true := by decide +kernel
theorem kJ_J2_get {l : Launch} (ht : l.stackTraces = false) {w : gW} {i0 : Nat} {i1 : Int32} {Q : Option Nat → gW → Prop} (hw : wJ_J2_get E i0 i1 Q w) : gMet l yJ2_get (ws_ yJ2_get cJ2_get 2 (some (.object "java/lang/Object"))) E w [.ref i0, .int i1] 2 43 (gR Q) (gNoX) :=
  g_ofW ht (by decide) (Nat.le_of_ble_eq_true rfl) (fun p e s m below meth c ls H C hl hS => kJ_J2_get_r C _ _ _ _ _ _ hS hl hw)
def wJ_J2_size (E : gE) (i0 : Nat) (Q : Int32 → gW → Prop) (w : gW) : Prop :=
  aI E i0 8 2 (fun v1 => Q v1 w) w
theorem kJ_J2_size_r (C : gC p l s m args meth c cJ2_size 1 (some .int) RJ2 E [] "size") (i0 : Nat) {Q : Int32 → gW → Prop} (w : gW) (H : Heap) (locs : List Loc) (ls : Array Slot) (hS : gS E w0 w H locs) (hl : lv_has ls 1 [(0, .ref i0)]) (hw : wJ_J2_size E i0 Q w) : gGo p l e s m args below meth c H locs 0 0 E w0 w (gI Q) (gNoX) (F0 m 0 ls []) := by
  unfold wJ_J2_size at hw
  refine lv_aload_n C.x C.b dJ2_size_0 rfl (lv_at hl 0 rfl) ?_
  refine a_I C hS in_J2 rfl (k := 2) (ci := 8) (by decide) q141 (fun _ h9 => h9) dJ2_size_1 hw (fun v1 hw => ?_)
  exact g_iret C hS ⟨_, rfl, hw⟩ dJ2_size_4
theorem ny_J2_size : gNm yJ2_size 0 = true := by decide +kernel
theorem kJ_J2_size {l : Launch} (ht : l.stackTraces = false) {w : gW} {i0 : Nat} {Q : Int32 → gW → Prop} (hw : wJ_J2_size E i0 Q w) : gMet l yJ2_size (ws_ yJ2_size cJ2_size 1 (some .int)) E w [.ref i0] 0 0 (gI Q) (gNoX) :=
  g_ofW ht (by decide) (Nat.le_of_ble_eq_true rfl) (fun p e s m below meth c ls H C hl hS => kJ_J2_size_r C _ _ _ _ _ hS hl hw)
def wJ_J3_fill_5 (E : gE) (Q : gW → Prop) : Nat → Nat → Int32 → Int32 → Int32 → gW → Prop
  | 0, _, _, _, _, _ => False
  | n + 1, x0, x1, x2, x3, w => (x3 ≤ x2 → (Q w)) ∧ (¬ x3 ≤ x2 → (aS E 0 x0 x2 x1 (fun w4 => wJ_J3_fill_5 E Q n x0 x1 (x2 + 1) x3 w4) w))
theorem kJ_J3_fill_5 (C : gC p l s m args meth c cJ3_fill 4 none RJ3 E [] "fill") {Q : gW → Prop} : ∀ (n : Nat) (x0 : Nat) (x1 : Int32) (x2 : Int32) (x3 : Int32) (w : gW) (H : Heap) (locs : List Loc) (ls : Array Slot), gS E w0 w H locs → lv_has ls 4 [(0, .ref x0), (1, .int x1), (2, .int x2), (3, .int x3)] → wJ_J3_fill_5 E Q n x0 x1 x2 x3 w → gGo p l e s m args below meth c H locs 0 0 E w0 w (gV Q) (gNoX) (F0 m 5 ls []) := by
  intro n
  induction n with
  | zero =>
    intro x0 x1 x2 x3 w H locs ls hS hl hw
    exact hw.elim
  | succ n ih =>
    intro x0 x1 x2 x3 w H locs ls hS hl hw
    unfold wJ_J3_fill_5 at hw
    refine lv_iload_n C.x C.b dJ3_fill_5 rfl (lv_at hl 2 rfl) ?_
    refine lv_iload_n C.x C.b dJ3_fill_6 rfl (lv_at hl 3 rfl) ?_
    refine lv_icmp_ge (tgt := 20) C.x C.b dJ3_fill_7 (by decide) (fun c3 => ?_) (fun c3 => ?_)
    · have hw := hw.1 c3
      exact g_vret C hS ⟨rfl, hw⟩ dJ3_fill_20
    · have hw := hw.2 c3
      refine lv_aload_n C.x C.b dJ3_fill_10 rfl (lv_at hl 0 rfl) ?_
      refine lv_iload_n C.x C.b dJ3_fill_11 rfl (lv_at hl 2 rfl) ?_
      refine lv_iload_n C.x C.b dJ3_fill_12 rfl (lv_at hl 1 rfl) ?_
      refine a_Si C hS dJ3_fill_13 hw (fun w4 H locs hw hS => ?_)
      refine lv_iinc (v := (x2 + 1)) (lv' := [(2, .int (x2 + 1)), (0, .ref x0), (1, .int x1), (3, .int x3)]) C.x C.b dJ3_fill_14 hl (k := 2) rfl rfl (by decide) rfl (fun ls hl => ?_)
      refine lv_goto (tgt := 5) C.x C.b dJ3_fill_17 (by decide) ?_
      exact ih _ _ _ _ _ _ _ _ hS (lv_sub hl [1, 2, 0, 3] rfl) hw
def wJ_J3_fill (E : gE) (i0 : Nat) (i1 : Int32) (Q : gW → Prop) (w : gW) : Prop :=
  aLen E i0 (fun v1 => ∃ k2 : Nat, wJ_J3_fill_5 E Q k2 i0 i1 0 v1 w) w
theorem kJ_J3_fill_r (C : gC p l s m args meth c cJ3_fill 4 none RJ3 E [] "fill") (i0 : Nat) (i1 : Int32) {Q : gW → Prop} (w : gW) (H : Heap) (locs : List Loc) (ls : Array Slot) (hS : gS E w0 w H locs) (hl : lv_has ls 4 [(0, .ref i0), (1, .int i1)]) (hw : wJ_J3_fill E i0 i1 Q w) : gGo p l e s m args below meth c H locs 0 0 E w0 w (gV Q) (gNoX) (F0 m 0 ls []) := by
  unfold wJ_J3_fill at hw
  refine lv_iconst (v := 0) C.x C.b dJ3_fill_0 (by decide) ?_
  refine lv_istore_n (lv' := [(2, .int 0), (0, .ref i0), (1, .int i1)]) C.x C.b dJ3_fill_1 rfl hl (by decide) rfl (fun ls hl => ?_)
  refine lv_aload_n C.x C.b dJ3_fill_2 rfl (lv_at hl 1 rfl) ?_
  refine a_len C hS dJ3_fill_3 hw (fun v1 hw => ?_)
  refine lv_istore_n (lv' := [(3, .int v1), (2, .int 0), (0, .ref i0), (1, .int i1)]) C.x C.b dJ3_fill_4 rfl hl (by decide) rfl (fun ls hl => ?_)
  obtain ⟨k2, hw⟩ := hw
  exact kJ_J3_fill_5 C k2 _ _ _ _ _ _ _ _ hS (lv_sub hl [2, 3, 1, 0] rfl) hw
theorem ny_J3_fill : gNm yJ3_fill 2 = true := by decide +kernel
theorem kJ_J3_fill {l : Launch} (ht : l.stackTraces = false) {w : gW} {i0 : Nat} {i1 : Int32} {Q : gW → Prop} (hw : wJ_J3_fill E i0 i1 Q w) : gMet l yJ3_fill (ws_ yJ3_fill cJ3_fill 4 none) E w [.ref i0, .int i1] 0 0 (gV Q) (gNoX) :=
  g_ofW ht (by decide) (Nat.le_of_ble_eq_true rfl) (fun p e s m below meth c ls H C hl hS => kJ_J3_fill_r C _ _ _ _ _ _ hS hl hw)
def wJ_J4_newLength_21 (E : gE) (Q : Int32 → gW → Prop) (x0 : Int32) (x1 : Int32) (w : gW) : Prop :=
  False
theorem kJ_J4_newLength_21 (C : gC p l s m args meth c cJ4_newLength 4 (some .int) RJ4 E [] "newLength") {Q : Int32 → gW → Prop} (x0 : Int32) (x1 : Int32) (w : gW) (H : Heap) (locs : List Loc) (ls : Array Slot) (hS : gS E w0 w H locs) (hl : lv_has ls 4 [(0, .int x0), (1, .int x1)]) (hw : wJ_J4_newLength_21 E Q x0 x1 w) : gGo p l e s m args below meth c H locs 1 24 E w0 w (gI Q) (gNoX) (F0 m 21 ls []) := by
  unfold wJ_J4_newLength_21 at hw
  refine lv_iload_n C.x C.b dJ4_newLength_21 rfl (lv_at hl 0 rfl) ?_
  refine lv_iload_n C.x C.b dJ4_newLength_22 rfl (lv_at hl 1 rfl) ?_
  exact hw.elim
def wJ_J4_newLength (E : gE) (i0 : Int32) (i1 : Int32) (i2 : Int32) (Q : Int32 → gW → Prop) (w : gW) : Prop :=
  ∀ z1 : Int32, z1 = (i0 + (if i1 < i2 then i2 else i1)) → (z1 ≤ 0 → (wJ_J4_newLength_21 E Q i0 i1 w)) ∧ (¬ z1 ≤ 0 → ((2147483639 < z1 → (wJ_J4_newLength_21 E Q i0 i1 w)) ∧ (¬ 2147483639 < z1 → (Q z1 w))))
theorem kJ_J4_newLength_r (C : gC p l s m args meth c cJ4_newLength 4 (some .int) RJ4 E [] "newLength") (i0 : Int32) (i1 : Int32) (i2 : Int32) {Q : Int32 → gW → Prop} (w : gW) (H : Heap) (locs : List Loc) (ls : Array Slot) (hS : gS E w0 w H locs) (hl : lv_has ls 4 [(0, .int i0), (1, .int i1), (2, .int i2)]) (hw : wJ_J4_newLength E i0 i1 i2 Q w) : gGo p l e s m args below meth c H locs 1 24 E w0 w (gI Q) (gNoX) (F0 m 0 ls []) := by
  unfold wJ_J4_newLength at hw
  refine lv_iload_n C.x C.b dJ4_newLength_0 rfl (lv_at hl 0 rfl) ?_
  refine lv_iload_n C.x C.b dJ4_newLength_1 rfl (lv_at hl 1 rfl) ?_
  refine lv_iload_n C.x C.b dJ4_newLength_2 rfl (lv_at hl 2 rfl) ?_
  refine a_max C hS hl q298 q299 q86 q300 (by decide) (Nat.le_of_ble_eq_true rfl) dJ4_newLength_3 ?_
  refine lv_iadd C.x C.b dJ4_newLength_6 ?_
  refine lv_topi (fun z1 ez1 => ?_)
  have hw := hw z1 ez1
  refine lv_istore_n (lv' := [(3, .int z1), (0, .int i0), (1, .int i1), (2, .int i2)]) C.x C.b dJ4_newLength_7 rfl hl (by decide) rfl (fun ls hl => ?_)
  refine lv_iconst (v := 0) C.x C.b dJ4_newLength_8 (by decide) ?_
  refine lv_iload_n C.x C.b dJ4_newLength_9 rfl (lv_at hl 0 rfl) ?_
  refine lv_icmp_ge (tgt := 21) C.x C.b dJ4_newLength_10 (by decide) (fun c2 => ?_) (fun c2 => ?_)
  · have hw := hw.1 c2
    exact kJ_J4_newLength_21 C _ _ _ _ _ _ hS (lv_sub hl [1, 2] rfl) hw
  · have hw := hw.2 c2
    refine lv_iload_n C.x C.b dJ4_newLength_13 rfl (lv_at hl 0 rfl) ?_
    refine lv_ldc C.x C.b C.ow (C.ts _ q301) dJ4_newLength_14 ?_
    refine lv_icmp_gt (tgt := 21) C.x C.b dJ4_newLength_16 (by decide) (fun c3 => ?_) (fun c3 => ?_)
    · have hw := hw.1 c3
      exact kJ_J4_newLength_21 C _ _ _ _ _ _ hS (lv_sub hl [1, 2] rfl) hw
    · have hw := hw.2 c3
      refine lv_iload_n C.x C.b dJ4_newLength_19 rfl (lv_at hl 0 rfl) ?_
      exact g_iret C hS ⟨_, rfl, hw⟩ dJ4_newLength_20
theorem ny_J4_newLength : gNm yJ4_newLength 3 = true := by decide +kernel
theorem kJ_J4_newLength {l : Launch} (ht : l.stackTraces = false) {w : gW} {i0 : Int32} {i1 : Int32} {i2 : Int32} {Q : Int32 → gW → Prop} (hw : wJ_J4_newLength E i0 i1 i2 Q w) : gMet l yJ4_newLength (ws_ yJ4_newLength cJ4_newLength 4 (some .int)) E w [.int i0, .int i1, .int i2] 1 24 (gI Q) (gNoX) :=
  g_ofW ht (by decide) (Nat.le_of_ble_eq_true rfl) (fun p e s m below meth c ls H C hl hS => kJ_J4_newLength_r C _ _ _ _ _ _ _ hS hl hw)
def wJ_J3_copyOf_2_24 (E : gE) (Q : Option Nat → gW → Prop) (x0 : Nat) (x1 : Int32) (y0 : Option Nat) (w : gW) : Prop :=
  aLen E x0 (fun v5 => ∃ a6 : Nat, y0 = some a6 ∧ (aCpr E 3 x0 0 a6 0 (if x1 < v5 then x1 else v5) (fun w7 => Q (some a6) w7) w)) w
theorem kJ_J3_copyOf_2_24 (C : gC p l s m args meth c cJ3_copyOf_2 4 (some (.array (.object "java/lang/Object"))) RJ3 E [] "copyOf") {Q : Option Nat → gW → Prop} (x0 : Nat) (x1 : Int32) (y0 : Option Nat) (w : gW) (H : Heap) (locs : List Loc) (ls : Array Slot) (hS : gS E w0 w H locs) (hl : lv_has ls 4 [(0, .ref x0), (1, .int x1)]) (hw : wJ_J3_copyOf_2_24 E Q x0 x1 y0 w) : gGo p l e s m args below meth c H locs 1 60 E w0 w (gR Q) (gNoX) (F0 m 24 ls [va_rf y0]) := by
  unfold wJ_J3_copyOf_2_24 at hw
  refine a_astore_n (lv' := [(3, va_rf y0), (0, .ref x0), (1, .int x1)]) C dJ3_copyOf_2_24 rfl hl (by decide) (by cases y0 <;> rfl) (fun ls hl => ?_)
  refine lv_aload_n C.x C.b dJ3_copyOf_2_25 rfl (lv_at hl 1 rfl) ?_
  refine lv_iconst (v := 0) C.x C.b dJ3_copyOf_2_26 (by decide) ?_
  refine a_aload_n C dJ3_copyOf_2_27 rfl (lv_at hl 0 rfl) ?_
  refine lv_iconst (v := 0) C.x C.b dJ3_copyOf_2_28 (by decide) ?_
  refine lv_aload_n C.x C.b dJ3_copyOf_2_29 rfl (lv_at hl 1 rfl) ?_
  refine a_len C hS dJ3_copyOf_2_30 hw (fun v5 hw => ?_)
  refine lv_iload_n C.x C.b dJ3_copyOf_2_31 rfl (lv_at hl 2 rfl) ?_
  refine a_min C hS hl q334 q335 q86 q336 (by decide) (by cases y0 <;> exact (Nat.le_of_ble_eq_true rfl)) dJ3_copyOf_2_32 ?_
  obtain ⟨a6, e9, hw9⟩ := hw; subst e9; have hw := hw9; clear hw9
  have hl : lv_has ls 4 [(3, .ref a6), (0, .ref x0), (1, .int x1)] := hl
  refine W.eq (g2 := F0 m 35 ls [.int (if x1 < v5 then x1 else v5), .int 0, .ref a6, .int 0, .ref x0]) rfl ?_
  refine a_cpr (t := 3) C hS hl rfl (Or.inr ⟨rfl, rfl⟩) q337 q339 q338 q87 (by decide) (Nat.le_of_ble_eq_true rfl) dJ3_copyOf_2_35 hw (fun w7 H locs hw hS => ?_)
  refine lv_aload_n C.x C.b dJ3_copyOf_2_38 rfl (lv_at hl 0 rfl) ?_
  exact g_aret (r := (some a6)) C (Or.inr ⟨_, rfl⟩) hS ⟨_, rfl, hw⟩ dJ3_copyOf_2_39
def wJ_J3_copyOf_2 (E : gE) (i0 : Nat) (i1 : Int32) (i2 : Nat) (Q : Option Nat → gW → Prop) (w : gW) : Prop :=
  aMir E "[Ljava/lang/Object;" (fun a1 => ((some i2) = (some a1) → (aAr E 3 i1 (fun q3 w4 => wJ_J3_copyOf_2_24 E Q i0 i1 (some q3) w4) w)) ∧ (¬ (some i2) = (some a1) → (False)))
theorem kJ_J3_copyOf_2_r (C : gC p l s m args meth c cJ3_copyOf_2 4 (some (.array (.object "java/lang/Object"))) RJ3 E [] "copyOf") (i0 : Nat) (i1 : Int32) (i2 : Nat) {Q : Option Nat → gW → Prop} (w : gW) (H : Heap) (locs : List Loc) (ls : Array Slot) (hS : gS E w0 w H locs) (hl : lv_has ls 4 [(0, .ref i0), (1, .int i1), (2, .ref i2)]) (hw : wJ_J3_copyOf_2 E i0 i1 i2 Q w) : gGo p l e s m args below meth c H locs 1 60 E w0 w (gR Q) (gNoX) (F0 m 0 ls []) := by
  unfold wJ_J3_copyOf_2 at hw
  refine lv_aload_n C.x C.b dJ3_copyOf_2_0 rfl (lv_at hl 2 rfl) ?_
  refine a_ldcM C q331 dJ3_copyOf_2_1 hw (fun a1 hw => ?_)
  refine lv_acmp_ne (rx := (some i2)) (ry := (some a1)) (tgt := 13) C.x C.b dJ3_copyOf_2_3 (by decide) (fun c2 => ?_) (fun c2 => ?_)
  · have hw := hw.2 c2
    refine lv_aload_n C.x C.b dJ3_copyOf_2_13 rfl (lv_at hl 2 rfl) ?_
    exact hw.elim
  · have hw := hw.1 c2
    refine lv_iload_n C.x C.b dJ3_copyOf_2_6 rfl (lv_at hl 1 rfl) ?_
    refine a_Ar (t := 3) C hS rfl q333 q332 dJ3_copyOf_2_7 hw (fun q3 w4 H hw hS => ?_)
    refine lv_goto (tgt := 24) C.x C.b dJ3_copyOf_2_10 (by decide) ?_
    exact kJ_J3_copyOf_2_24 C _ _ _ _ _ _ _ hS (lv_sub hl [0, 1] rfl) hw
theorem ny_J3_copyOf_2 : gNm yJ3_copyOf_2 3 = true := by decide +kernel
theorem kJ_J3_copyOf_2 {l : Launch} (ht : l.stackTraces = false) {w : gW} {i0 : Nat} {i1 : Int32} {i2 : Nat} {Q : Option Nat → gW → Prop} (hw : wJ_J3_copyOf_2 E i0 i1 i2 Q w) : gMet l yJ3_copyOf_2 (ws_ yJ3_copyOf_2 cJ3_copyOf_2 4 (some (.array (.object "java/lang/Object")))) E w [.ref i0, .int i1, .ref i2] 1 60 (gR Q) (gNoX) :=
  g_ofW ht (by decide) (Nat.le_of_ble_eq_true rfl) (fun p e s m below meth c ls H C hl hS => kJ_J3_copyOf_2_r C _ _ _ _ _ _ _ hS hl hw)
def wJ_J3_copyOf (E : gE) (i0 : Nat) (i1 : Int32) (Q : Option Nat → gW → Prop) (w : gW) : Prop :=
  aGc E i0 (fun q1 => wJ_J3_copyOf_2 E i0 i1 q1 (fun r3 w2 => Q r3 w2) w) w
theorem kJ_J3_copyOf_r (C : gC p l s m args meth c cJ3_copyOf 2 (some (.array (.object "java/lang/Object"))) RJ3 E [] "copyOf") (i0 : Nat) (i1 : Int32) {Q : Option Nat → gW → Prop} (w : gW) (H : Heap) (locs : List Loc) (ls : Array Slot) (hS : gS E w0 w H locs) (hl : lv_has ls 2 [(0, .ref i0), (1, .int i1)]) (hw : wJ_J3_copyOf E i0 i1 Q w) : gGo p l e s m args below meth c H locs 2 83 E w0 w (gR Q) (gNoX) (F0 m 0 ls []) := by
  unfold wJ_J3_copyOf at hw
  refine lv_aload_n C.x C.b dJ3_copyOf_0 rfl (lv_at hl 0 rfl) ?_
  refine lv_iload_n C.x C.b dJ3_copyOf_1 rfl (lv_at hl 1 rfl) ?_
  refine lv_aload_n C.x C.b dJ3_copyOf_2 rfl (lv_at hl 0 rfl) ?_
  refine a_getC C hS hl q308 (by decide) (Nat.le_of_ble_eq_true rfl) dJ3_copyOf_3 hw (fun q1 hw => ?_)
  refine g_callS (rest := []) C hS hl (kJ_J3_copyOf_2 C.tr hw) q328 q329 q84 q330 ny_J3_copyOf_2 rfl (Nat.le_of_ble_eq_true rfl) (Nat.le_of_ble_eq_true rfl) rfl (Nat.le_of_ble_eq_true rfl) dJ3_copyOf_6 (fun X1 w1 H1 l1 q1 ce hx => hx.elim) (fun v w2 H locs hq _ hS => ?_)
  obtain ⟨r3, rfl, hw⟩ := hq
  refine W.eq (g2 := F0 m 9 ls [va_rf r3]) rfl ?_
  exact g_aret (r := r3) C (Or.inr ⟨_, rfl⟩) hS ⟨_, rfl, hw⟩ dJ3_copyOf_9
theorem ny_J3_copyOf : gNm yJ3_copyOf 2 = true := by decide +kernel
theorem kJ_J3_copyOf {l : Launch} (ht : l.stackTraces = false) {w : gW} {i0 : Nat} {i1 : Int32} {Q : Option Nat → gW → Prop} (hw : wJ_J3_copyOf E i0 i1 Q w) : gMet l yJ3_copyOf (ws_ yJ3_copyOf cJ3_copyOf 2 (some (.array (.object "java/lang/Object")))) E w [.ref i0, .int i1] 2 83 (gR Q) (gNoX) :=
  g_ofW ht (by decide) (Nat.le_of_ble_eq_true rfl) (fun p e s m below meth c ls H C hl hS => kJ_J3_copyOf_r C _ _ _ _ _ _ hS hl hw)
def wJ_J2_grow_2_20 (E : gE) (Q : Option Nat → gW → Prop) (x0 : Nat) (x1 : Int32) (x2 : Int32) (w : gW) : Prop :=
  wJ_J4_newLength E x2 (x1 - x2) (x2 >>> (1 &&& 31)) (fun r12 w11 => aR E x0 8 1 (fun r13 => ∃ a14 : Nat, r13 = some a14 ∧ (wJ_J3_copyOf E a14 r12 (fun r16 w15 => aP x0 8 1 (va_rf r16) (fun w17 => Q r16 w17) w15) w11)) w11) w
theorem kJ_J2_grow_2_20 (C : gC p l s m args meth c cJ2_grow_2 4 (some (.array (.object "java/lang/Object"))) RJ2 E [] "grow") {Q : Option Nat → gW → Prop} (x0 : Nat) (x1 : Int32) (x2 : Int32) (w : gW) (H : Heap) (locs : List Loc) (ls : Array Slot) (hS : gS E w0 w H locs) (hl : lv_has ls 4 [(0, .ref x0), (1, .int x1), (2, .int x2)]) (hw : wJ_J2_grow_2_20 E Q x0 x1 x2 w) : gGo p l e s m args below meth c H locs 3 104 E w0 w (gR Q) (gNoX) (F0 m 20 ls []) := by
  unfold wJ_J2_grow_2_20 at hw
  refine lv_iload_n C.x C.b dJ2_grow_2_20 rfl (lv_at hl 2 rfl) ?_
  refine lv_iload_n C.x C.b dJ2_grow_2_21 rfl (lv_at hl 1 rfl) ?_
  refine lv_iload_n C.x C.b dJ2_grow_2_22 rfl (lv_at hl 2 rfl) ?_
  refine lv_isub C.x C.b dJ2_grow_2_23 ?_
  refine lv_iload_n C.x C.b dJ2_grow_2_24 rfl (lv_at hl 2 rfl) ?_
  refine lv_iconst (v := 1) C.x C.b dJ2_grow_2_25 (by decide) ?_
  refine lv_ishr C.x C.b dJ2_grow_2_26 ?_
  refine g_callS (rest := []) C hS hl (kJ_J4_newLength C.tr hw) q295 q296 q85 q297 ny_J4_newLength rfl (Nat.le_of_ble_eq_true rfl) (Nat.le_of_ble_eq_true rfl) rfl (Nat.le_of_ble_eq_true rfl) dJ2_grow_2_27 (fun X1 w1 H1 l1 q1 ce hx => hx.elim) (fun v w11 H locs hq _ hS => ?_)
  obtain ⟨r12, rfl, hw⟩ := hq
  refine W.eq (g2 := F0 m 30 ls [.int r12]) rfl ?_
  refine lv_istore_n (lv' := [(3, .int r12), (0, .ref x0), (1, .int x1), (2, .int x2)]) C.x C.b dJ2_grow_2_30 rfl hl (by decide) rfl (fun ls hl => ?_)
  refine lv_aload_n C.x C.b dJ2_grow_2_31 rfl (lv_at hl 1 rfl) ?_
  refine lv_aload_n C.x C.b dJ2_grow_2_32 rfl (lv_at hl 1 rfl) ?_
  refine a_R C hS in_J2 rfl (k := 1) (ci := 8) (by decide) q140 (fun _ h9 => h9) dJ2_grow_2_33 hw (fun r13 hw => ?_)
  refine lv_iload_n C.x C.b dJ2_grow_2_36 rfl (lv_at hl 0 rfl) ?_
  obtain ⟨a14, e9, hw9⟩ := hw; subst e9; have hw := hw9; clear hw9
  have hl : lv_has ls 4 [(3, .int r12), (0, .ref x0), (1, .int x1), (2, .int x2)] := hl
  refine W.eq (g2 := F0 m 37 ls [.int r12, .ref a14, .ref x0]) rfl ?_
  refine g_callS (rest := [.ref x0]) C hS hl (kJ_J3_copyOf C.tr hw) q305 q306 q84 q307 ny_J3_copyOf rfl (Nat.le_of_ble_eq_true rfl) (Nat.le_of_ble_eq_true rfl) rfl (Nat.le_of_ble_eq_true rfl) dJ2_grow_2_37 (fun X1 w1 H1 l1 q1 ce hx => hx.elim) (fun v w15 H locs hq _ hS => ?_)
  obtain ⟨r16, rfl, hw⟩ := hq
  refine W.eq (g2 := F0 m 40 ls [va_rf r16, .ref x0]) rfl ?_
  refine lv_dup_x1 C.x C.b dJ2_grow_2_40 a_cat rfl ?_
  refine a_P C hS in_J2 tyJ2 tyJ2_ok nmJ2 rfl (k := 1) (ci := 8) (by decide) q140 (fun _ h9 => h9) rfl va_rf_narA va_rf_fitA dJ2_grow_2_41 hw (fun w17 H locs hw hS => ?_)
  exact g_aret (r := r16) C (Or.inr ⟨_, rfl⟩) hS ⟨_, rfl, hw⟩ dJ2_grow_2_44
def wJ_J2_grow_2 (E : gE) (i0 : Nat) (i1 : Int32) (Q : Option Nat → gW → Prop) (w : gW) : Prop :=
  aR E i0 8 1 (fun r1 => ∃ a2 : Nat, r1 = some a2 ∧ (aLen E a2 (fun v3 => (0 < v3 → (wJ_J2_grow_2_20 E Q i0 i1 v3 w)) ∧ (¬ 0 < v3 → (aR E i0 8 1 (fun r5 => aGr E "java/util/ArrayList" "DEFAULTCAPACITY_EMPTY_ELEMENTDATA" "[Ljava/lang/Object;" (fun r6 => (r5 = r6 → (aAr E 3 (if 10 < i1 then i1 else 10) (fun q8 w9 => aP i0 8 1 (.ref q8) (fun w10 => Q (some q8) w10) w9) w)) ∧ (¬ r5 = r6 → (wJ_J2_grow_2_20 E Q i0 i1 v3 w)))) w))) w)) w
theorem kJ_J2_grow_2_r (C : gC p l s m args meth c cJ2_grow_2 4 (some (.array (.object "java/lang/Object"))) RJ2 E [] "grow") (i0 : Nat) (i1 : Int32) {Q : Option Nat → gW → Prop} (w : gW) (H : Heap) (locs : List Loc) (ls : Array Slot) (hS : gS E w0 w H locs) (hl : lv_has ls 4 [(0, .ref i0), (1, .int i1)]) (hw : wJ_J2_grow_2 E i0 i1 Q w) : gGo p l e s m args below meth c H locs 3 104 E w0 w (gR Q) (gNoX) (F0 m 0 ls []) := by
  unfold wJ_J2_grow_2 at hw
  refine lv_aload_n C.x C.b dJ2_grow_2_0 rfl (lv_at hl 0 rfl) ?_
  refine a_R C hS in_J2 rfl (k := 1) (ci := 8) (by decide) q140 (fun _ h9 => h9) dJ2_grow_2_1 hw (fun r1 hw => ?_)
  obtain ⟨a2, e9, hw9⟩ := hw; subst e9; have hw := hw9; clear hw9
  have hl : lv_has ls 4 [(0, .ref i0), (1, .int i1)] := hl
  refine W.eq (g2 := F0 m 4 ls [.ref a2]) rfl ?_
  refine a_len C hS dJ2_grow_2_4 hw (fun v3 hw => ?_)
  refine lv_istore_n (lv' := [(2, .int v3), (0, .ref i0), (1, .int i1)]) C.x C.b dJ2_grow_2_5 rfl hl (by decide) rfl (fun ls hl => ?_)
  refine lv_iload_n C.x C.b dJ2_grow_2_6 rfl (lv_at hl 0 rfl) ?_
  refine lv_if_gt (tgt := 20) C.x C.b dJ2_grow_2_7 (by decide) (fun c4 => ?_) (fun c4 => ?_)
  · have hw := hw.1 c4
    exact kJ_J2_grow_2_20 C _ _ _ _ _ _ _ hS (lv_sub hl [1, 2, 0] rfl) hw
  · have hw := hw.2 c4
    refine lv_aload_n C.x C.b dJ2_grow_2_10 rfl (lv_at hl 1 rfl) ?_
    refine a_R C hS in_J2 rfl (k := 1) (ci := 8) (by decide) q140 (fun _ h9 => h9) dJ2_grow_2_11 hw (fun r5 hw => ?_)
    obtain ⟨r6, hZ, hw⟩ := hw
    refine a_gs C hS hZ q138 (fun _ h9 => h9) dJ2_grow_2_14 ?_
    refine lv_acmp_eq (rx := r5) (ry := r6) (tgt := 45) C.x C.b dJ2_grow_2_17 (by decide) (fun c7 => ?_) (fun c7 => ?_)
    · have hw := hw.1 c7
      refine lv_aload_n C.x C.b dJ2_grow_2_45 rfl (lv_at hl 1 rfl) ?_
      refine lv_bipush (v := 10) C.x C.b dJ2_grow_2_46 (by decide) ?_
      refine lv_iload_n C.x C.b dJ2_grow_2_48 rfl (lv_at hl 2 rfl) ?_
      refine a_max C hS hl q340 q299 q86 q300 (by decide) (Nat.le_of_ble_eq_true rfl) dJ2_grow_2_49 ?_
      refine a_Ar (t := 3) C hS rfl q341 q332 dJ2_grow_2_52 hw (fun q8 w9 H hw hS => ?_)
      refine lv_dup_x1 C.x C.b dJ2_grow_2_55 rfl rfl ?_
      refine a_P C hS in_J2 tyJ2 tyJ2_ok nmJ2 rfl (k := 1) (ci := 8) (by decide) q140 (fun _ h9 => h9) rfl rfl rfl dJ2_grow_2_56 hw (fun w10 H locs hw hS => ?_)
      exact g_aret (r := (some q8)) C (Or.inr ⟨_, rfl⟩) hS ⟨_, rfl, hw⟩ dJ2_grow_2_59
    · have hw := hw.2 c7
      exact kJ_J2_grow_2_20 C _ _ _ _ _ _ _ hS (lv_sub hl [1, 2, 0] rfl) hw
theorem ny_J2_grow_2 : gNm yJ2_grow_2 1 = true := by decide +kernel
theorem kJ_J2_grow_2 {l : Launch} (ht : l.stackTraces = false) {w : gW} {i0 : Nat} {i1 : Int32} {Q : Option Nat → gW → Prop} (hw : wJ_J2_grow_2 E i0 i1 Q w) : gMet l yJ2_grow_2 (ws_ yJ2_grow_2 cJ2_grow_2 4 (some (.array (.object "java/lang/Object")))) E w [.ref i0, .int i1] 3 104 (gR Q) (gNoX) :=
  g_ofW ht (by decide) (Nat.le_of_ble_eq_true rfl) (fun p e s m below meth c ls H C hl hS => kJ_J2_grow_2_r C _ _ _ _ _ _ hS hl hw)
def wJ_J2_grow (E : gE) (i0 : Nat) (Q : Option Nat → gW → Prop) (w : gW) : Prop :=
  aI E i0 8 2 (fun v1 => aKind E i0 8 (wJ_J2_grow_2 E i0 (v1 + 1) (fun r3 w2 => Q r3 w2) w) w) w
theorem kJ_J2_grow_r (C : gC p l s m args meth c cJ2_grow 1 (some (.array (.object "java/lang/Object"))) RJ2 E [] "grow") (i0 : Nat) {Q : Option Nat → gW → Prop} (w : gW) (H : Heap) (locs : List Loc) (ls : Array Slot) (hS : gS E w0 w H locs) (hl : lv_has ls 1 [(0, .ref i0)]) (hw : wJ_J2_grow E i0 Q w) : gGo p l e s m args below meth c H locs 4 127 E w0 w (gR Q) (gNoX) (F0 m 0 ls []) := by
  unfold wJ_J2_grow at hw
  refine lv_aload_n C.x C.b dJ2_grow_0 rfl (lv_at hl 0 rfl) ?_
  refine lv_aload_n C.x C.b dJ2_grow_1 rfl (lv_at hl 0 rfl) ?_
  refine a_I C hS in_J2 rfl (k := 2) (ci := 8) (by decide) q141 (fun _ h9 => h9) dJ2_grow_2 hw (fun v1 hw => ?_)
  refine lv_iconst (v := 1) C.x C.b dJ2_grow_5 (by decide) ?_
  refine lv_iadd C.x C.b dJ2_grow_6 ?_
  obtain ⟨fs, hq, hw⟩ := hw
  refine a_callV (rest := []) C hS hl 8 hq rfl (kJ_J2_grow_2 C.tr hw) q291 q293 qs2 q81 q294 ny_J2_grow_2 rfl (Nat.le_of_ble_eq_true rfl) (Nat.le_of_ble_eq_true rfl) rfl (Nat.le_of_ble_eq_true rfl) dJ2_grow_7 (fun X1 w1 H1 l1 q1 ce hx => hx.elim) (fun v w2 H locs hq _ hS => ?_)
  obtain ⟨r3, rfl, hw⟩ := hq
  refine W.eq (g2 := F0 m 10 ls [va_rf r3]) rfl ?_
  exact g_aret (r := r3) C (Or.inr ⟨_, rfl⟩) hS ⟨_, rfl, hw⟩ dJ2_grow_10
theorem ny_J2_grow : gNm yJ2_grow 0 = true := by decide +kernel
theorem kJ_J2_grow {l : Launch} (ht : l.stackTraces = false) {w : gW} {i0 : Nat} {Q : Option Nat → gW → Prop} (hw : wJ_J2_grow E i0 Q w) : gMet l yJ2_grow (ws_ yJ2_grow cJ2_grow 1 (some (.array (.object "java/lang/Object")))) E w [.ref i0] 4 127 (gR Q) (gNoX) :=
  g_ofW ht (by decide) (Nat.le_of_ble_eq_true rfl) (fun p e s m below meth c ls H C hl hS => kJ_J2_grow_r C _ _ _ _ _ hS hl hw)
def wJ_J2_add_2_11 (E : gE) (Q : gW → Prop) (x0 : Nat) (x1 : Option Nat) (x2 : Option Nat) (x3 : Int32) (w : gW) : Prop :=
  ∃ a5 : Nat, x2 = some a5 ∧ (aSr E 3 a5 x3 x1 (fun w6 => aP x0 8 2 (.int (x3 + 1)) (fun w7 => Q w7) w6) w)
theorem kJ_J2_add_2_11 (C : gC p l s m args meth c cJ2_add_2 4 none RJ2 E [] "add") {Q : gW → Prop} (x0 : Nat) (x1 : Option Nat) (x2 : Option Nat) (x3 : Int32) (w : gW) (H : Heap) (locs : List Loc) (ls : Array Slot) (hS : gS E w0 w H locs) (hl : lv_has ls 4 [(0, .ref x0), (1, va_rf x1), (2, va_rf x2), (3, .int x3)]) (hw : wJ_J2_add_2_11 E Q x0 x1 x2 x3 w) : gGo p l e s m args below meth c H locs 5 147 E w0 w (gV Q) (gNoX) (F0 m 11 ls []) := by
  unfold wJ_J2_add_2_11 at hw
  refine a_aload_n C dJ2_add_2_11 rfl (lv_at hl 2 rfl) ?_
  refine lv_iload_n C.x C.b dJ2_add_2_12 rfl (lv_at hl 3 rfl) ?_
  refine a_aload_n C dJ2_add_2_13 rfl (lv_at hl 1 rfl) ?_
  obtain ⟨a5, e9, hw9⟩ := hw; subst e9; have hw := hw9; clear hw9
  have hl : lv_has ls 4 [(0, .ref x0), (1, va_rf x1), (2, .ref a5), (3, .int x3)] := hl
  refine W.eq (g2 := F0 m 14 ls [va_rf x1, .int x3, .ref a5]) rfl ?_
  refine a_Sr (t := 3) (r := x1) C hS rfl (Or.inr ⟨rfl, rfl⟩) dJ2_add_2_14 hw (fun w6 H locs hw hS => ?_)
  refine lv_aload_n C.x C.b dJ2_add_2_15 rfl (lv_at hl 0 rfl) ?_
  refine lv_iload_n C.x C.b dJ2_add_2_16 rfl (lv_at hl 3 rfl) ?_
  refine lv_iconst (v := 1) C.x C.b dJ2_add_2_17 (by decide) ?_
  refine lv_iadd C.x C.b dJ2_add_2_18 ?_
  refine a_P C hS in_J2 tyJ2 tyJ2_ok nmJ2 rfl (k := 2) (ci := 8) (by decide) q141 (fun _ h9 => h9) rfl rfl rfl dJ2_add_2_19 hw (fun w7 H locs hw hS => ?_)
  exact g_vret C hS ⟨rfl, hw⟩ dJ2_add_2_22
def wJ_J2_add_2 (E : gE) (i0 : Nat) (i1 : Option Nat) (i2 : Nat) (i3 : Int32) (Q : gW → Prop) (w : gW) : Prop :=
  aLen E i2 (fun v1 => (i3 = v1 → (aKind E i0 8 (wJ_J2_grow E i0 (fun r4 w3 => wJ_J2_add_2_11 E Q i0 i1 r4 i3 w3) w) w)) ∧ (¬ i3 = v1 → (wJ_J2_add_2_11 E Q i0 i1 (some i2) i3 w))) w
theorem kJ_J2_add_2_r (C : gC p l s m args meth c cJ2_add_2 4 none RJ2 E [] "add") (i0 : Nat) (i1 : Option Nat) (i2 : Nat) (i3 : Int32) {Q : gW → Prop} (w : gW) (H : Heap) (locs : List Loc) (ls : Array Slot) (hS : gS E w0 w H locs) (hl : lv_has ls 4 [(0, .ref i0), (1, va_rf i1), (2, .ref i2), (3, .int i3)]) (hw : wJ_J2_add_2 E i0 i1 i2 i3 Q w) : gGo p l e s m args below meth c H locs 5 147 E w0 w (gV Q) (gNoX) (F0 m 0 ls []) := by
  unfold wJ_J2_add_2 at hw
  refine lv_iload_n C.x C.b dJ2_add_2_0 rfl (lv_at hl 3 rfl) ?_
  refine lv_aload_n C.x C.b dJ2_add_2_1 rfl (lv_at hl 2 rfl) ?_
  refine a_len C hS dJ2_add_2_2 hw (fun v1 hw => ?_)
  refine lv_icmp_ne (tgt := 11) C.x C.b dJ2_add_2_3 (by decide) (fun c2 => ?_) (fun c2 => ?_)
  · have hw := hw.2 c2
    exact kJ_J2_add_2_11 C _ _ _ _ _ _ _ _ hS (lv_sub hl [0, 1, 2, 3] rfl) hw
  · have hw := hw.1 c2
    refine lv_aload_n C.x C.b dJ2_add_2_6 rfl (lv_at hl 0 rfl) ?_
    obtain ⟨fs, hq, hw⟩ := hw
    refine a_callV (rest := []) C hS hl 8 hq rfl (kJ_J2_grow C.tr hw) q287 q289 qs1 q81 q290 ny_J2_grow rfl (Nat.le_of_ble_eq_true rfl) (Nat.le_of_ble_eq_true rfl) rfl (Nat.le_of_ble_eq_true rfl) dJ2_add_2_7 (fun X1 w1 H1 l1 q1 ce hx => hx.elim) (fun v w3 H locs hq _ hS => ?_)
    obtain ⟨r4, rfl, hw⟩ := hq
    refine W.eq (g2 := F0 m 10 ls [va_rf r4]) rfl ?_
    refine a_astore_n (lv' := [(2, va_rf r4), (0, .ref i0), (1, va_rf i1), (3, .int i3)]) C dJ2_add_2_10 rfl hl (by decide) (by cases i1 <;> cases r4 <;> rfl) (fun ls hl => ?_)
    exact kJ_J2_add_2_11 C _ _ _ _ _ _ _ _ hS (lv_sub hl [1, 2, 0, 3] rfl) hw
theorem ny_J2_add_2 : gNm yJ2_add_2 3 = true := by decide +kernel
theorem kJ_J2_add_2 {l : Launch} (ht : l.stackTraces = false) {w : gW} {i0 : Nat} {i1 : Option Nat} {i2 : Nat} {i3 : Int32} {Q : gW → Prop} (hw : wJ_J2_add_2 E i0 i1 i2 i3 Q w) : gMet l yJ2_add_2 (ws_ yJ2_add_2 cJ2_add_2 4 none) E w [.ref i0, va_rf i1, .ref i2, .int i3] 5 147 (gV Q) (gNoX) :=
  g_ofW ht (by decide) (by cases i1 <;> exact (Nat.le_of_ble_eq_true rfl)) (fun p e s m below meth c ls H C hl hS => kJ_J2_add_2_r C _ _ _ _ _ _ _ _ hS (by cases i1 <;> exact hl) hw)
def wJ_J2_add (E : gE) (i0 : Nat) (i1 : Option Nat) (Q : Int32 → gW → Prop) (w : gW) : Prop :=
  aI E i0 8 0 (fun v1 => aP i0 8 0 (.int (v1 + 1)) (fun w2 => aR E i0 8 1 (fun r3 => aI E i0 8 2 (fun v4 => ∃ a5 : Nat, r3 = some a5 ∧ (aKind E i0 8 (wJ_J2_add_2 E i0 i1 a5 v4 (fun w6 => Q 1 w6) w2) w2)) w2) w2) w) w
theorem kJ_J2_add_r (C : gC p l s m args meth c cJ2_add 2 (some .boolean) RJ2 E [] "add") (i0 : Nat) (i1 : Option Nat) {Q : Int32 → gW → Prop} (w : gW) (H : Heap) (locs : List Loc) (ls : Array Slot) (hS : gS E w0 w H locs) (hl : lv_has ls 2 [(0, .ref i0), (1, va_rf i1)]) (hw : wJ_J2_add E i0 i1 Q w) : gGo p l e s m args below meth c H locs 6 170 E w0 w (gI Q) (gNoX) (F0 m 0 ls []) := by
  unfold wJ_J2_add at hw
  refine lv_aload_n C.x C.b dJ2_add_0 rfl (lv_at hl 0 rfl) ?_
  refine lv_dup C.x C.b dJ2_add_1 rfl ?_
  refine a_I C hS in_J2 rfl (k := 0) (ci := 8) (by decide) q143 (fun x h9 => u_same (C.ts _ q144) x h9) dJ2_add_2 hw (fun v1 hw => ?_)
  refine lv_iconst (v := 1) C.x C.b dJ2_add_5 (by decide) ?_
  refine lv_iadd C.x C.b dJ2_add_6 ?_
  refine a_P C hS in_J2 tyJ2 tyJ2_ok nmJ2 rfl (k := 0) (ci := 8) (by decide) q143 (fun x h9 => u_same (C.ts _ q144) x h9) rfl rfl rfl dJ2_add_7 hw (fun w2 H locs hw hS => ?_)
  refine lv_aload_n C.x C.b dJ2_add_10 rfl (lv_at hl 0 rfl) ?_
  refine a_aload_n C dJ2_add_11 rfl (lv_at hl 1 rfl) ?_
  refine lv_aload_n C.x C.b dJ2_add_12 rfl (lv_at hl 0 rfl) ?_
  refine a_R C hS in_J2 rfl (k := 1) (ci := 8) (by decide) q140 (fun _ h9 => h9) dJ2_add_13 hw (fun r3 hw => ?_)
  refine lv_aload_n C.x C.b dJ2_add_16 rfl (lv_at hl 0 rfl) ?_
  refine a_I C hS in_J2 rfl (k := 2) (ci := 8) (by decide) q141 (fun _ h9 => h9) dJ2_add_17 hw (fun v4 hw => ?_)
  obtain ⟨a5, e9, hw9⟩ := hw; subst e9; have hw := hw9; clear hw9
  have hl : lv_has ls 2 [(0, .ref i0), (1, va_rf i1)] := hl
  refine W.eq (g2 := F0 m 20 ls [.int v4, .ref a5, va_rf i1, .ref i0]) rfl ?_
  obtain ⟨fs, hq, hw⟩ := hw
  refine a_callV (rest := []) C hS hl 8 hq rfl (kJ_J2_add_2 C.tr hw) q283 q285 qs0 q81 q286 ny_J2_add_2 rfl (Nat.le_of_ble_eq_true rfl) (Nat.le_of_ble_eq_true rfl) rfl (Nat.le_of_ble_eq_true rfl) dJ2_add_20 (fun X1 w1 H1 l1 q1 ce hx => hx.elim) (fun v w6 H locs hq _ hS => ?_)
  obtain ⟨rfl, hw⟩ := hq
  refine W.eq (g2 := F0 m 23 ls []) rfl ?_
  refine lv_iconst (v := 1) C.x C.b dJ2_add_23 (by decide) ?_
  exact g_zret C hS rfl ⟨_, rfl, hw⟩ dJ2_add_24
theorem ny_J2_add : gNm yJ2_add 1 = true := by decide +kernel
theorem kJ_J2_add {l : Launch} (ht : l.stackTraces = false) {w : gW} {i0 : Nat} {i1 : Option Nat} {Q : Int32 → gW → Prop} (hw : wJ_J2_add E i0 i1 Q w) : gMet l yJ2_add (ws_ yJ2_add cJ2_add 2 (some .boolean)) E w [.ref i0, va_rf i1] 6 170 (gI Q) (gNoX) :=
  g_ofW ht (by decide) (by cases i1 <;> exact (Nat.le_of_ble_eq_true rfl)) (fun p e s m below meth c ls H C hl hS => kJ_J2_add_r C _ _ _ _ _ _ hS (by cases i1 <;> exact hl) hw)
end GJ1
