section GB1
variable {p : Program} {l : Launch} {e : Env} {s : State} {m : MethodId} {args : Array Value} {below : List Frame} {meth : Method} {c : Code} {E : gE} {w0 : gW}
def wJ_X9_init (E : gE) (i0 : Nat) (i1 : Nat) (Q : gW → Prop) (w : gW) : Prop :=
  aP i0 7 4 (.ref i1) (fun w1 => aP i0 7 1 (.int (-1)) (fun w2 => aA E 0 3 (fun q3 w4 => aP i0 7 3 (.ref q3) (fun w5 => Q w5) w4) w2) w1) w
theorem kJ_X9_init_r (C : gC p l s m args meth c cX9_init 2 none RX9 E [] "<init>") (i0 : Nat) (i1 : Nat) {Q : gW → Prop} (w : gW) (H : Heap) (locs : List Loc) (ls : Array Slot) (hS : gS E w0 w H locs) (hl : lv_has ls 2 [(0, .ref i0), (1, .ref i1)]) (hw : wJ_X9_init E i0 i1 Q w) : gGo p l e s m args below meth c H locs 1 24 E w0 w (gV Q) (gNoX) (F0 m 0 ls []) := by
  unfold wJ_X9_init at hw
  refine lv_aload_n C.x C.b dX9_init_0 rfl (lv_at hl 0 rfl) ?_
  refine lv_aload_n C.x C.b dX9_init_1 rfl (lv_at hl 1 rfl) ?_
  refine a_PF C hS in_X9 tyX9 tyX9_ok nmX9 rfl (k := 4) (ci := 7) (by decide) q434 (fun _ h9 => h9) rfl rfl rfl rfl dX9_init_2 hw (fun w1 H locs hw hS => ?_)
  refine lv_aload_n C.x C.b dX9_init_5 rfl (lv_at hl 0 rfl) ?_
  refine W.objInit C.x C.b C.ow (C.ts _ q426) (C.ts _ q115) (C.ts _ q116) rfl (by rw [C.ml]; exact hl.1) rfl dX9_init_6 (Nat.le_of_ble_eq_true rfl) (Nat.le_of_ble_eq_true rfl) ?_
  refine W.eq (g2 := F0 m 9 ls []) rfl ?_
  refine lv_aload_n C.x C.b dX9_init_9 rfl (lv_at hl 0 rfl) ?_
  refine lv_iconst (v := (-1)) C.x C.b dX9_init_10 (by decide) ?_
  refine a_P C hS in_X9 tyX9 tyX9_ok nmX9 rfl (k := 1) (ci := 7) (by decide) q428 (fun _ h9 => h9) rfl rfl rfl dX9_init_11 hw (fun w2 H locs hw hS => ?_)
  refine lv_aload_n C.x C.b dX9_init_14 rfl (lv_at hl 0 rfl) ?_
  refine lv_iconst (v := 3) C.x C.b dX9_init_15 (by decide) ?_
  refine a_A (t := 0) (atype := .int) C hS rfl (by decide) q206 dX9_init_16 hw (fun q3 w4 H hw hS => ?_)
  refine a_PF C hS in_X9 tyX9 tyX9_ok nmX9 rfl (k := 3) (ci := 7) (by decide) q432 (fun _ h9 => h9) rfl rfl rfl rfl dX9_init_18 hw (fun w5 H locs hw hS => ?_)
  exact g_vret C hS ⟨rfl, hw⟩ dX9_init_21
theorem ny_X9_init : gNm yX9_init 1 = true := by decide +kernel
theorem kJ_X9_init {l : Launch} (ht : l.stackTraces = false) {w : gW} {i0 : Nat} {i1 : Nat} {Q : gW → Prop} (hw : wJ_X9_init E i0 i1 Q w) : gMet l yX9_init (ws_ yX9_init cX9_init 2 none) E w [.ref i0, .ref i1] 1 24 (gV Q) (gNoX) :=
  g_ofW ht (by decide) (Nat.le_of_ble_eq_true rfl) (fun p e s m below meth c ls H C hl hS => kJ_X9_init_r C _ _ _ _ _ _ hS hl hw)
def wJ_X9_isAt (E : gE) (i0 : Nat) (i1 : Int32) (i2 : Int32) (Q : Int32 → gW → Prop) (w : gW) : Prop :=
  aI E i0 7 0 (fun v1 => aR E i0 7 4 (fun r2 => ∃ a3 : Nat, r2 = some a3 ∧ (aI E a3 0 4 (fun v4 => (v4 ≤ v1 → (Q 0 w)) ∧ (¬ v4 ≤ v1 → (aR E i0 7 4 (fun r6 => ∃ a7 : Nat, r6 = some a7 ∧ (aR E a7 0 3 (fun r8 => aI E i0 7 0 (fun v9 => ∃ a10 : Nat, r8 = some a10 ∧ (aL E 1 a10 v9 (fun v11 => wJ_X1_inRange E v11.toInt64 i1.toInt64 i2.toInt64 (fun r13 w12 => (r13 = 0 → (Q 0 w12)) ∧ (¬ r13 = 0 → (Q 1 w12))) w) w)) w) w)) w))) w)) w) w
theorem kJ_X9_isAt_r (C : gC p l s m args meth c cX9_isAt 3 (some .boolean) RX9 E [] "isAt") (i0 : Nat) (i1 : Int32) (i2 : Int32) {Q : Int32 → gW → Prop} (w : gW) (H : Heap) (locs : List Loc) (ls : Array Slot) (hS : gS E w0 w H locs) (hl : lv_has ls 3 [(0, .ref i0), (1, .int i1), (2, .int i2)]) (hw : wJ_X9_isAt E i0 i1 i2 Q w) : gGo p l e s m args below meth c H locs 1 25 E w0 w (gI Q) (gNoX) (F0 m 0 ls []) := by
  unfold wJ_X9_isAt at hw
  refine lv_aload_n C.x C.b dX9_isAt_0 rfl (lv_at hl 0 rfl) ?_
  refine a_I C hS in_X9 rfl (k := 0) (ci := 7) (by decide) q427 (fun _ h9 => h9) dX9_isAt_1 hw (fun v1 hw => ?_)
  refine lv_aload_n C.x C.b dX9_isAt_4 rfl (lv_at hl 0 rfl) ?_
  refine a_R C hS in_X9 rfl (k := 4) (ci := 7) (by decide) q434 (fun _ h9 => h9) dX9_isAt_5 hw (fun r2 hw => ?_)
  obtain ⟨a3, e9, hw9⟩ := hw; subst e9; have hw := hw9; clear hw9
  have hl : lv_has ls 3 [(0, .ref i0), (1, .int i1), (2, .int i2)] := hl
  refine W.eq (g2 := F0 m 8 ls [.ref a3, .int v1]) rfl ?_
  refine a_IN C hS in_X1 rfl (k := 4) (ci := 0) (by decide) q350 (fun _ h9 => h9) dX9_isAt_8 hw (fun v4 hw => ?_)
  refine lv_icmp_ge (tgt := 41) C.x C.b dX9_isAt_11 (by decide) (fun c5 => ?_) (fun c5 => ?_)
  · have hw := hw.1 c5
    refine lv_iconst (v := 0) C.x C.b dX9_isAt_41 (by decide) ?_
    exact g_zret C hS rfl ⟨_, rfl, hw⟩ dX9_isAt_42
  · have hw := hw.2 c5
    refine lv_aload_n C.x C.b dX9_isAt_14 rfl (lv_at hl 0 rfl) ?_
    refine a_R C hS in_X9 rfl (k := 4) (ci := 7) (by decide) q434 (fun _ h9 => h9) dX9_isAt_15 hw (fun r6 hw => ?_)
    obtain ⟨a7, e9, hw9⟩ := hw; subst e9; have hw := hw9; clear hw9
    have hl : lv_has ls 3 [(0, .ref i0), (1, .int i1), (2, .int i2)] := hl
    refine W.eq (g2 := F0 m 18 ls [.ref a7]) rfl ?_
    refine a_RN C hS in_X1 rfl (k := 3) (ci := 0) (by decide) q348 (fun _ h9 => h9) dX9_isAt_18 hw (fun r8 hw => ?_)
    refine lv_aload_n C.x C.b dX9_isAt_21 rfl (lv_at hl 0 rfl) ?_
    refine a_I C hS in_X9 rfl (k := 0) (ci := 7) (by decide) q427 (fun _ h9 => h9) dX9_isAt_22 hw (fun v9 hw => ?_)
    obtain ⟨a10, e9, hw9⟩ := hw; subst e9; have hw := hw9; clear hw9
    have hl : lv_has ls 3 [(0, .ref i0), (1, .int i1), (2, .int i2)] := hl
    refine W.eq (g2 := F0 m 25 ls [.int v9, .ref a10]) rfl ?_
    refine a_Lb C hS dX9_isAt_25 hw (fun v11 hw => ?_)
    refine lv_i2l C.x C.b dX9_isAt_26 rfl ?_
    refine lv_iload_n C.x C.b dX9_isAt_27 rfl (lv_at hl 1 rfl) ?_
    refine lv_i2l C.x C.b dX9_isAt_28 rfl ?_
    refine lv_iload_n C.x C.b dX9_isAt_29 rfl (lv_at hl 2 rfl) ?_
    refine lv_i2l C.x C.b dX9_isAt_30 rfl ?_
    refine g_callSN (rest := []) C hS hl (kJ_X1_inRange C.tr hw) q458 q459 q77 q460 ny_X1_inRange rfl (Nat.le_of_ble_eq_true rfl) (Nat.le_of_ble_eq_true rfl) rfl (Nat.le_of_ble_eq_true rfl) dX9_isAt_31 (fun X1 w1 H1 l1 q1 ce hx => hx.elim) (fun v w12 H locs hq _ hS => ?_)
    obtain ⟨r13, rfl, hw⟩ := hq
    refine W.eq (g2 := F0 m 34 ls [.int r13]) rfl ?_
    refine lv_if_eq (tgt := 41) C.x C.b dX9_isAt_34 (by decide) (fun c14 => ?_) (fun c14 => ?_)
    · have hw := hw.1 c14
      refine lv_iconst (v := 0) C.x C.b dX9_isAt_41 (by decide) ?_
      exact g_zret C hS rfl ⟨_, rfl, hw⟩ dX9_isAt_42
    · have hw := hw.2 c14
      refine lv_iconst (v := 1) C.x C.b dX9_isAt_37 (by decide) ?_
      refine lv_goto (tgt := 42) C.x C.b dX9_isAt_38 (by decide) ?_
      exact g_zret C hS rfl ⟨_, rfl, hw⟩ dX9_isAt_42
theorem ny_X9_isAt : gNm yX9_isAt 2 = true := by decide +kernel
theorem kJ_X9_isAt {l : Launch} (ht : l.stackTraces = false) {w : gW} {i0 : Nat} {i1 : Int32} {i2 : Int32} {Q : Int32 → gW → Prop} (hw : wJ_X9_isAt E i0 i1 i2 Q w) : gMet l yX9_isAt (ws_ yX9_isAt cX9_isAt 3 (some .boolean)) E w [.ref i0, .int i1, .int i2] 1 25 (gI Q) (gNoX) :=
  g_ofW ht (by decide) (Nat.le_of_ble_eq_true rfl) (fun p e s m below meth c ls H C hl hS => kJ_X9_isAt_r C _ _ _ _ _ _ _ hS hl hw)
def wJ_X9_spaces_5 (E : gE) (Q : Int32 → gW → Prop) : Nat → Nat → Int32 → gW → Prop
  | 0, _, _, _ => False
  | n + 1, x0, x1, w => aKind E x0 7 (wJ_X9_isAt E x0 32 32 (fun r4 w3 => (r4 = 0 → (aI E x0 7 0 (fun v6 => (v6 ≤ x1 → (Q 0 w3)) ∧ (¬ v6 ≤ x1 → (Q 1 w3))) w3)) ∧ (¬ r4 = 0 → (aI E x0 7 0 (fun v8 => aP x0 7 0 (.int (v8 + 1)) (fun w9 => wJ_X9_spaces_5 E Q n x0 x1 w9) w3) w3))) w) w
theorem kJ_X9_spaces_5 (C : gC p l s m args meth c cX9_spaces 2 (some .boolean) RX9 E [] "spaces") {Q : Int32 → gW → Prop} : ∀ (n : Nat) (x0 : Nat) (x1 : Int32) (w : gW) (H : Heap) (locs : List Loc) (ls : Array Slot), gS E w0 w H locs → lv_has ls 2 [(0, .ref x0), (1, .int x1)] → wJ_X9_spaces_5 E Q n x0 x1 w → gGo p l e s m args below meth c H locs 2 47 E w0 w (gI Q) (gNoX) (F0 m 5 ls []) := by
  intro n
  induction n with
  | zero =>
    intro x0 x1 w H locs ls hS hl hw
    exact hw.elim
  | succ n ih =>
    intro x0 x1 w H locs ls hS hl hw
    unfold wJ_X9_spaces_5 at hw
    refine lv_aload_n C.x C.b dX9_spaces_5 rfl (lv_at hl 0 rfl) ?_
    refine lv_bipush (v := 32) C.x C.b dX9_spaces_6 (by decide) ?_
    refine lv_bipush (v := 32) C.x C.b dX9_spaces_8 (by decide) ?_
    obtain ⟨fs, hq, hw⟩ := hw
    refine a_callV (rest := []) C hS hl 7 hq rfl (kJ_X9_isAt C.tr hw) q454 q456 qs6 q102 q457 ny_X9_isAt rfl (Nat.le_of_ble_eq_true rfl) (Nat.le_of_ble_eq_true rfl) rfl (Nat.le_of_ble_eq_true rfl) dX9_spaces_10 (fun X1 w1 H1 l1 q1 ce hx => hx.elim) (fun v w3 H locs hq _ hS => ?_)
    obtain ⟨r4, rfl, hw⟩ := hq
    refine W.eq (g2 := F0 m 13 ls [.int r4]) rfl ?_
    refine lv_if_eq (tgt := 29) C.x C.b dX9_spaces_13 (by decide) (fun c5 => ?_) (fun c5 => ?_)
    · have hw := hw.1 c5
      refine lv_aload_n C.x C.b dX9_spaces_29 rfl (lv_at hl 0 rfl) ?_
      refine a_I C hS in_X9 rfl (k := 0) (ci := 7) (by decide) q427 (fun _ h9 => h9) dX9_spaces_30 hw (fun v6 hw => ?_)
      refine lv_iload_n C.x C.b dX9_spaces_33 rfl (lv_at hl 1 rfl) ?_
      refine lv_icmp_le (tgt := 41) C.x C.b dX9_spaces_34 (by decide) (fun c7 => ?_) (fun c7 => ?_)
      · have hw := hw.1 c7
        refine lv_iconst (v := 0) C.x C.b dX9_spaces_41 (by decide) ?_
        exact g_zret C hS rfl ⟨_, rfl, hw⟩ dX9_spaces_42
      · have hw := hw.2 c7
        refine lv_iconst (v := 1) C.x C.b dX9_spaces_37 (by decide) ?_
        refine lv_goto (tgt := 42) C.x C.b dX9_spaces_38 (by decide) ?_
        exact g_zret C hS rfl ⟨_, rfl, hw⟩ dX9_spaces_42
    · have hw := hw.2 c5
      refine lv_aload_n C.x C.b dX9_spaces_16 rfl (lv_at hl 0 rfl) ?_
      refine lv_dup C.x C.b dX9_spaces_17 rfl ?_
      refine a_I C hS in_X9 rfl (k := 0) (ci := 7) (by decide) q427 (fun _ h9 => h9) dX9_spaces_18 hw (fun v8 hw => ?_)
      refine lv_iconst (v := 1) C.x C.b dX9_spaces_21 (by decide) ?_
      refine lv_iadd C.x C.b dX9_spaces_22 ?_
      refine a_P C hS in_X9 tyX9 tyX9_ok nmX9 rfl (k := 0) (ci := 7) (by decide) q427 (fun _ h9 => h9) rfl rfl rfl dX9_spaces_23 hw (fun w9 H locs hw hS => ?_)
      refine lv_goto (tgt := 5) C.x C.b dX9_spaces_26 (by decide) ?_
      exact ih _ _ _ _ _ _ hS (lv_sub hl [0, 1] rfl) hw
def wJ_X9_spaces (E : gE) (i0 : Nat) (Q : Int32 → gW → Prop) (w : gW) : Prop :=
  aI E i0 7 0 (fun v1 => ∃ k2 : Nat, wJ_X9_spaces_5 E Q k2 i0 v1 w) w
theorem kJ_X9_spaces_r (C : gC p l s m args meth c cX9_spaces 2 (some .boolean) RX9 E [] "spaces") (i0 : Nat) {Q : Int32 → gW → Prop} (w : gW) (H : Heap) (locs : List Loc) (ls : Array Slot) (hS : gS E w0 w H locs) (hl : lv_has ls 2 [(0, .ref i0)]) (hw : wJ_X9_spaces E i0 Q w) : gGo p l e s m args below meth c H locs 2 47 E w0 w (gI Q) (gNoX) (F0 m 0 ls []) := by
  unfold wJ_X9_spaces at hw
  refine lv_aload_n C.x C.b dX9_spaces_0 rfl (lv_at hl 0 rfl) ?_
  refine a_I C hS in_X9 rfl (k := 0) (ci := 7) (by decide) q427 (fun _ h9 => h9) dX9_spaces_1 hw (fun v1 hw => ?_)
  refine lv_istore_n (lv' := [(1, .int v1), (0, .ref i0)]) C.x C.b dX9_spaces_4 rfl hl (by decide) rfl (fun ls hl => ?_)
  obtain ⟨k2, hw⟩ := hw
  exact kJ_X9_spaces_5 C k2 _ _ _ _ _ _ hS (lv_sub hl [1, 0] rfl) hw
theorem ny_X9_spaces : gNm yX9_spaces 0 = true := by decide +kernel
theorem kJ_X9_spaces {l : Launch} (ht : l.stackTraces = false) {w : gW} {i0 : Nat} {Q : Int32 → gW → Prop} (hw : wJ_X9_spaces E i0 Q w) : gMet l yX9_spaces (ws_ yX9_spaces cX9_spaces 2 (some .boolean)) E w [.ref i0] 2 47 (gI Q) (gNoX) :=
  g_ofW ht (by decide) (Nat.le_of_ble_eq_true rfl) (fun p e s m below meth c ls H C hl hS => kJ_X9_spaces_r C _ _ _ _ _ hS hl hw)
def wJ_X1_commandOf_172 (E : gE) (Q : Option Nat → gW → Prop) (x2 : Int32) (w : gW) : Prop :=
  (x2 = 0 → (aIndy E 216 "lambda$commandOf$0" (fun a31 => Q (some a31) w))) ∧ (¬ x2 = 0 → ((x2 = 1 → (aIndy E 222 "lambda$commandOf$1" (fun a32 => Q (some a32) w))) ∧ (¬ x2 = 1 → ((x2 = 2 → (aIndy E 228 "lambda$commandOf$2" (fun a33 => Q (some a33) w))) ∧ (¬ x2 = 2 → ((x2 = 3 → (aIndy E 234 "lambda$commandOf$3" (fun a34 => Q (some a34) w))) ∧ (¬ x2 = 3 → ((x2 = 4 → (aIndy E 240 "lambda$commandOf$4" (fun a35 => Q (some a35) w))) ∧ (¬ x2 = 4 → ((x2 = 5 → (aIndy E 246 "lambda$commandOf$5" (fun a36 => Q (some a36) w))) ∧ (¬ x2 = 5 → ((x2 = 6 → (aIndy E 252 "lambda$commandOf$6" (fun a37 => Q (some a37) w))) ∧ (¬ x2 = 6 → (Q none w))))))))))))))
theorem kJ_X1_commandOf_172 (C : gC p l s m args meth c cX1_commandOf 3 (some (.object "BridgeAuction$Command")) RX1 E [] "commandOf") (hN : s.methodNamed? yX1_commandOf = some m) {Q : Option Nat → gW → Prop} (x2 : Int32) (w : gW) (H : Heap) (locs : List Loc) (ls : Array Slot) (hS : gS E w0 w H locs) (hl : lv_has ls 3 [(2, .int x2)]) (hw : wJ_X1_commandOf_172 E Q x2 w) : gGo p l e s m args below meth c H locs 17 3080 E w0 w (gR Q) (gNoX) (F0 m 172 ls []) := by
  unfold wJ_X1_commandOf_172 at hw
  refine lv_iload_n C.x C.b dX1_commandOf_172 rfl (lv_at hl 0 rfl) ?_
  rcases Decidable.em (x2 = 0) with c173_0 | c173_0
  · have hw := hw.1 c173_0
    rw [c173_0]
    refine lv_tableIn (tgt := 216) (off := 43) C.x C.b dX1_commandOf_173 (by decide) (by decide) rfl (by decide) ?_
    refine a_indy C hN hl (lm := "lambda$commandOf$0") (Nat.le_of_ble_eq_true rfl) dX1_commandOf_216 hw (fun a31 hw => ?_)
    exact g_aret (r := (some a31)) C (Or.inl ⟨_, rfl⟩) hS ⟨_, rfl, hw⟩ dX1_commandOf_221
  · have hw := hw.2 c173_0
    rcases Decidable.em (x2 = 1) with c173_1 | c173_1
    · have hw := hw.1 c173_1
      rw [c173_1]
      refine lv_tableIn (tgt := 222) (off := 49) C.x C.b dX1_commandOf_173 (by decide) (by decide) rfl (by decide) ?_
      refine a_indy C hN hl (lm := "lambda$commandOf$1") (Nat.le_of_ble_eq_true rfl) dX1_commandOf_222 hw (fun a32 hw => ?_)
      exact g_aret (r := (some a32)) C (Or.inl ⟨_, rfl⟩) hS ⟨_, rfl, hw⟩ dX1_commandOf_227
    · have hw := hw.2 c173_1
      rcases Decidable.em (x2 = 2) with c173_2 | c173_2
      · have hw := hw.1 c173_2
        rw [c173_2]
        refine lv_tableIn (tgt := 228) (off := 55) C.x C.b dX1_commandOf_173 (by decide) (by decide) rfl (by decide) ?_
        refine a_indy C hN hl (lm := "lambda$commandOf$2") (Nat.le_of_ble_eq_true rfl) dX1_commandOf_228 hw (fun a33 hw => ?_)
        exact g_aret (r := (some a33)) C (Or.inl ⟨_, rfl⟩) hS ⟨_, rfl, hw⟩ dX1_commandOf_233
      · have hw := hw.2 c173_2
        rcases Decidable.em (x2 = 3) with c173_3 | c173_3
        · have hw := hw.1 c173_3
          rw [c173_3]
          refine lv_tableIn (tgt := 234) (off := 61) C.x C.b dX1_commandOf_173 (by decide) (by decide) rfl (by decide) ?_
          refine a_indy C hN hl (lm := "lambda$commandOf$3") (Nat.le_of_ble_eq_true rfl) dX1_commandOf_234 hw (fun a34 hw => ?_)
          exact g_aret (r := (some a34)) C (Or.inl ⟨_, rfl⟩) hS ⟨_, rfl, hw⟩ dX1_commandOf_239
        · have hw := hw.2 c173_3
          rcases Decidable.em (x2 = 4) with c173_4 | c173_4
          · have hw := hw.1 c173_4
            rw [c173_4]
            refine lv_tableIn (tgt := 240) (off := 67) C.x C.b dX1_commandOf_173 (by decide) (by decide) rfl (by decide) ?_
            refine a_indy C hN hl (lm := "lambda$commandOf$4") (Nat.le_of_ble_eq_true rfl) dX1_commandOf_240 hw (fun a35 hw => ?_)
            exact g_aret (r := (some a35)) C (Or.inl ⟨_, rfl⟩) hS ⟨_, rfl, hw⟩ dX1_commandOf_245
          · have hw := hw.2 c173_4
            rcases Decidable.em (x2 = 5) with c173_5 | c173_5
            · have hw := hw.1 c173_5
              rw [c173_5]
              refine lv_tableIn (tgt := 246) (off := 73) C.x C.b dX1_commandOf_173 (by decide) (by decide) rfl (by decide) ?_
              refine a_indy C hN hl (lm := "lambda$commandOf$5") (Nat.le_of_ble_eq_true rfl) dX1_commandOf_246 hw (fun a36 hw => ?_)
              exact g_aret (r := (some a36)) C (Or.inl ⟨_, rfl⟩) hS ⟨_, rfl, hw⟩ dX1_commandOf_251
            · have hw := hw.2 c173_5
              rcases Decidable.em (x2 = 6) with c173_6 | c173_6
              · have hw := hw.1 c173_6
                rw [c173_6]
                refine lv_tableIn (tgt := 252) (off := 79) C.x C.b dX1_commandOf_173 (by decide) (by decide) rfl (by decide) ?_
                refine a_indy C hN hl (lm := "lambda$commandOf$6") (Nat.le_of_ble_eq_true rfl) dX1_commandOf_252 hw (fun a37 hw => ?_)
                exact g_aret (r := (some a37)) C (Or.inl ⟨_, rfl⟩) hS ⟨_, rfl, hw⟩ dX1_commandOf_257
              · have hw := hw.2 c173_6
                refine lv_tableOut (tgt := 258) C.x C.b dX1_commandOf_173 (by have := lv_neT c173_0 (a := 0) (by decide); have := lv_neT c173_1 (a := 1) (by decide); have := lv_neT c173_2 (a := 2) (by decide); have := lv_neT c173_3 (a := 3) (by decide); have := lv_neT c173_4 (a := 4) (by decide); have := lv_neT c173_5 (a := 5) (by decide); have := lv_neT c173_6 (a := 6) (by decide); omega) (by decide) ?_
                refine lv_null C.x C.b dX1_commandOf_258 ?_
                exact g_aret (r := none) C (Or.inl ⟨_, rfl⟩) hS ⟨_, rfl, hw⟩ dX1_commandOf_259
def wJ_X1_commandOf (E : gE) (i0 : Nat) (Q : Option Nat → gW → Prop) (w : gW) : Prop :=
  aKind E i0 10 (wJ_J14_hashCode E i0 (fun r2 w1 => (r2 = 97533 → (aStr E "BridgeAuction" 25 "bid" (fun a3 => aKind E i0 10 (wJ_J14_equals E i0 a3 (fun r5 w4 => (r5 = 0 → (wJ_X1_commandOf_172 E Q (-1) w4)) ∧ (¬ r5 = 0 → (wJ_X1_commandOf_172 E Q 1 w4))) w1) w1))) ∧ (¬ r2 = 97533 → ((r2 = 101397 → (aStr E "BridgeAuction" 29 "fix" (fun a7 => aKind E i0 10 (wJ_J14_equals E i0 a7 (fun r9 w8 => (r9 = 0 → (wJ_X1_commandOf_172 E Q (-1) w8)) ∧ (¬ r9 = 0 → (wJ_X1_commandOf_172 E Q 3 w8))) w1) w1))) ∧ (¬ r2 = 101397 → ((r2 = 3135262 → (aStr E "BridgeAuction" 27 "fail" (fun a11 => aKind E i0 10 (wJ_J14_equals E i0 a11 (fun r13 w12 => (r13 = 0 → (wJ_X1_commandOf_172 E Q (-1) w12)) ∧ (¬ r13 = 0 → (wJ_X1_commandOf_172 E Q 2 w12))) w1) w1))) ∧ (¬ r2 = 3135262 → ((r2 = 3208616 → (aStr E "BridgeAuction" 33 "host" (fun a15 => aKind E i0 10 (wJ_J14_equals E i0 a15 (fun r17 w16 => (r17 = 0 → (wJ_X1_commandOf_172 E Q (-1) w16)) ∧ (¬ r17 = 0 → (wJ_X1_commandOf_172 E Q 5 w16))) w1) w1))) ∧ (¬ r2 = 3208616 → ((r2 = 3321850 → (aStr E "BridgeAuction" 19 "link" (fun a19 => aKind E i0 10 (wJ_J14_equals E i0 a19 (fun r21 w20 => (r21 = 0 → (wJ_X1_commandOf_172 E Q (-1) w20)) ∧ (¬ r21 = 0 → (wJ_X1_commandOf_172 E Q 0 w20))) w1) w1))) ∧ (¬ r2 = 3321850 → ((r2 = 3449512 → (aStr E "BridgeAuction" 31 "prio" (fun a23 => aKind E i0 10 (wJ_J14_equals E i0 a23 (fun r25 w24 => (r25 = 0 → (wJ_X1_commandOf_172 E Q (-1) w24)) ∧ (¬ r25 = 0 → (wJ_X1_commandOf_172 E Q 4 w24))) w1) w1))) ∧ (¬ r2 = 3449512 → ((r2 = 3559837 → (aStr E "BridgeAuction" 35 "tick" (fun a27 => aKind E i0 10 (wJ_J14_equals E i0 a27 (fun r29 w28 => (r29 = 0 → (wJ_X1_commandOf_172 E Q (-1) w28)) ∧ (¬ r29 = 0 → (wJ_X1_commandOf_172 E Q 6 w28))) w1) w1))) ∧ (¬ r2 = 3559837 → (wJ_X1_commandOf_172 E Q (-1) w1))))))))))))))) w) w
theorem kJ_X1_commandOf_r (C : gC p l s m args meth c cX1_commandOf 3 (some (.object "BridgeAuction$Command")) RX1 E [] "commandOf") (hN : s.methodNamed? yX1_commandOf = some m) (i0 : Nat) {Q : Option Nat → gW → Prop} (w : gW) (H : Heap) (locs : List Loc) (ls : Array Slot) (hS : gS E w0 w H locs) (hl : lv_has ls 3 [(0, .ref i0)]) (hw : wJ_X1_commandOf E i0 Q w) : gGo p l e s m args below meth c H locs 17 3080 E w0 w (gR Q) (gNoX) (F0 m 0 ls []) := by
  unfold wJ_X1_commandOf at hw
  refine lv_aload_n C.x C.b dX1_commandOf_0 rfl (lv_at hl 0 rfl) ?_
  refine lv_astore_n (lv' := [(1, .ref i0), (0, .ref i0)]) C.x C.b dX1_commandOf_1 rfl hl (by decide) rfl (fun ls hl => ?_)
  refine lv_iconst (v := (-1)) C.x C.b dX1_commandOf_2 (by decide) ?_
  refine lv_istore_n (lv' := [(2, .int (-1)), (1, .ref i0), (0, .ref i0)]) C.x C.b dX1_commandOf_3 rfl hl (by decide) rfl (fun ls hl => ?_)
  refine lv_aload_n C.x C.b dX1_commandOf_4 rfl (lv_at hl 1 rfl) ?_
  obtain ⟨fs, hq, hw⟩ := hw
  refine a_callV (rest := []) C hS hl 10 hq rfl (kJ_J14_hashCode C.tr hw) q782 q783 q784 q99 q785 ny_J14_hashCode rfl (Nat.le_of_ble_eq_true rfl) (Nat.le_of_ble_eq_true rfl) rfl (Nat.le_of_ble_eq_true rfl) dX1_commandOf_5 (fun X1 w1 H1 l1 q1 ce hx => hx.elim) (fun v w1 H locs hq _ hS => ?_)
  obtain ⟨r2, rfl, hw⟩ := hq
  refine W.eq (g2 := F0 m 8 ls [.int r2]) rfl ?_
  rcases Decidable.em (r2 = 97533) with c8_97533 | c8_97533
  · have hw := hw.1 c8_97533
    rw [c8_97533]
    refine lv_lookup (off := 82) (tgt := 90) C.x C.b dX1_commandOf_8 (by decide) (by decide) (by decide) ?_
    refine lv_aload_n C.x C.b dX1_commandOf_90 rfl (lv_at hl 1 rfl) ?_
    refine a_str C dX1_commandOf_91 hw (fun a3 hw => ?_)
    obtain ⟨fs, hq, hw⟩ := hw
    refine a_callV (rest := []) C hS hl 10 hq rfl (kJ_J14_equals C.tr hw) q844 q845 q846 q99 q847 ny_J14_equals rfl (Nat.le_of_ble_eq_true rfl) (Nat.le_of_ble_eq_true rfl) rfl (Nat.le_of_ble_eq_true rfl) dX1_commandOf_93 (fun X1 w1 H1 l1 q1 ce hx => hx.elim) (fun v w4 H locs hq _ hS => ?_)
    obtain ⟨r5, rfl, hw⟩ := hq
    refine W.eq (g2 := F0 m 96 ls [.int r5]) rfl ?_
    refine lv_if_eq (tgt := 172) C.x C.b dX1_commandOf_96 (by decide) (fun c6 => ?_) (fun c6 => ?_)
    · have hw := hw.1 c6
      exact kJ_X1_commandOf_172 C hN _ _ _ _ _ hS (lv_sub hl [0] rfl) hw
    · have hw := hw.2 c6
      refine lv_iconst (v := 1) C.x C.b dX1_commandOf_99 (by decide) ?_
      refine lv_istore_n (lv' := [(2, .int 1), (1, .ref i0), (0, .ref i0)]) C.x C.b dX1_commandOf_100 rfl hl (by decide) rfl (fun ls hl => ?_)
      refine lv_goto (tgt := 172) C.x C.b dX1_commandOf_101 (by decide) ?_
      exact kJ_X1_commandOf_172 C hN _ _ _ _ _ hS (lv_sub hl [0] rfl) hw
  · have hw := hw.2 c8_97533
    rcases Decidable.em (r2 = 101397) with c8_101397 | c8_101397
    · have hw := hw.1 c8_101397
      rw [c8_101397]
      refine lv_lookup (off := 110) (tgt := 118) C.x C.b dX1_commandOf_8 (by decide) (by decide) (by decide) ?_
      refine lv_aload_n C.x C.b dX1_commandOf_118 rfl (lv_at hl 1 rfl) ?_
      refine a_str C dX1_commandOf_119 hw (fun a7 hw => ?_)
      obtain ⟨fs, hq, hw⟩ := hw
      refine a_callV (rest := []) C hS hl 10 hq rfl (kJ_J14_equals C.tr hw) q844 q845 q846 q99 q847 ny_J14_equals rfl (Nat.le_of_ble_eq_true rfl) (Nat.le_of_ble_eq_true rfl) rfl (Nat.le_of_ble_eq_true rfl) dX1_commandOf_121 (fun X1 w1 H1 l1 q1 ce hx => hx.elim) (fun v w8 H locs hq _ hS => ?_)
      obtain ⟨r9, rfl, hw⟩ := hq
      refine W.eq (g2 := F0 m 124 ls [.int r9]) rfl ?_
      refine lv_if_eq (tgt := 172) C.x C.b dX1_commandOf_124 (by decide) (fun c10 => ?_) (fun c10 => ?_)
      · have hw := hw.1 c10
        exact kJ_X1_commandOf_172 C hN _ _ _ _ _ hS (lv_sub hl [0] rfl) hw
      · have hw := hw.2 c10
        refine lv_iconst (v := 3) C.x C.b dX1_commandOf_127 (by decide) ?_
        refine lv_istore_n (lv' := [(2, .int 3), (1, .ref i0), (0, .ref i0)]) C.x C.b dX1_commandOf_128 rfl hl (by decide) rfl (fun ls hl => ?_)
        refine lv_goto (tgt := 172) C.x C.b dX1_commandOf_129 (by decide) ?_
        exact kJ_X1_commandOf_172 C hN _ _ _ _ _ hS (lv_sub hl [0] rfl) hw
    · have hw := hw.2 c8_101397
      rcases Decidable.em (r2 = 3135262) with c8_3135262 | c8_3135262
      · have hw := hw.1 c8_3135262
        rw [c8_3135262]
        refine lv_lookup (off := 96) (tgt := 104) C.x C.b dX1_commandOf_8 (by decide) (by decide) (by decide) ?_
        refine lv_aload_n C.x C.b dX1_commandOf_104 rfl (lv_at hl 1 rfl) ?_
        refine a_str C dX1_commandOf_105 hw (fun a11 hw => ?_)
        obtain ⟨fs, hq, hw⟩ := hw
        refine a_callV (rest := []) C hS hl 10 hq rfl (kJ_J14_equals C.tr hw) q844 q845 q846 q99 q847 ny_J14_equals rfl (Nat.le_of_ble_eq_true rfl) (Nat.le_of_ble_eq_true rfl) rfl (Nat.le_of_ble_eq_true rfl) dX1_commandOf_107 (fun X1 w1 H1 l1 q1 ce hx => hx.elim) (fun v w12 H locs hq _ hS => ?_)
        obtain ⟨r13, rfl, hw⟩ := hq
        refine W.eq (g2 := F0 m 110 ls [.int r13]) rfl ?_
        refine lv_if_eq (tgt := 172) C.x C.b dX1_commandOf_110 (by decide) (fun c14 => ?_) (fun c14 => ?_)
        · have hw := hw.1 c14
          exact kJ_X1_commandOf_172 C hN _ _ _ _ _ hS (lv_sub hl [0] rfl) hw
        · have hw := hw.2 c14
          refine lv_iconst (v := 2) C.x C.b dX1_commandOf_113 (by decide) ?_
          refine lv_istore_n (lv' := [(2, .int 2), (1, .ref i0), (0, .ref i0)]) C.x C.b dX1_commandOf_114 rfl hl (by decide) rfl (fun ls hl => ?_)
          refine lv_goto (tgt := 172) C.x C.b dX1_commandOf_115 (by decide) ?_
          exact kJ_X1_commandOf_172 C hN _ _ _ _ _ hS (lv_sub hl [0] rfl) hw
      · have hw := hw.2 c8_3135262
        rcases Decidable.em (r2 = 3208616) with c8_3208616 | c8_3208616
        · have hw := hw.1 c8_3208616
          rw [c8_3208616]
          refine lv_lookup (off := 138) (tgt := 146) C.x C.b dX1_commandOf_8 (by decide) (by decide) (by decide) ?_
          refine lv_aload_n C.x C.b dX1_commandOf_146 rfl (lv_at hl 1 rfl) ?_
          refine a_str C dX1_commandOf_147 hw (fun a15 hw => ?_)
          obtain ⟨fs, hq, hw⟩ := hw
          refine a_callV (rest := []) C hS hl 10 hq rfl (kJ_J14_equals C.tr hw) q844 q845 q846 q99 q847 ny_J14_equals rfl (Nat.le_of_ble_eq_true rfl) (Nat.le_of_ble_eq_true rfl) rfl (Nat.le_of_ble_eq_true rfl) dX1_commandOf_149 (fun X1 w1 H1 l1 q1 ce hx => hx.elim) (fun v w16 H locs hq _ hS => ?_)
          obtain ⟨r17, rfl, hw⟩ := hq
          refine W.eq (g2 := F0 m 152 ls [.int r17]) rfl ?_
          refine lv_if_eq (tgt := 172) C.x C.b dX1_commandOf_152 (by decide) (fun c18 => ?_) (fun c18 => ?_)
          · have hw := hw.1 c18
            exact kJ_X1_commandOf_172 C hN _ _ _ _ _ hS (lv_sub hl [0] rfl) hw
          · have hw := hw.2 c18
            refine lv_iconst (v := 5) C.x C.b dX1_commandOf_155 (by decide) ?_
            refine lv_istore_n (lv' := [(2, .int 5), (1, .ref i0), (0, .ref i0)]) C.x C.b dX1_commandOf_156 rfl hl (by decide) rfl (fun ls hl => ?_)
            refine lv_goto (tgt := 172) C.x C.b dX1_commandOf_157 (by decide) ?_
            exact kJ_X1_commandOf_172 C hN _ _ _ _ _ hS (lv_sub hl [0] rfl) hw
        · have hw := hw.2 c8_3208616
          rcases Decidable.em (r2 = 3321850) with c8_3321850 | c8_3321850
          · have hw := hw.1 c8_3321850
            rw [c8_3321850]
            refine lv_lookup (off := 68) (tgt := 76) C.x C.b dX1_commandOf_8 (by decide) (by decide) (by decide) ?_
            refine lv_aload_n C.x C.b dX1_commandOf_76 rfl (lv_at hl 1 rfl) ?_
            refine a_str C dX1_commandOf_77 hw (fun a19 hw => ?_)
            obtain ⟨fs, hq, hw⟩ := hw
            refine a_callV (rest := []) C hS hl 10 hq rfl (kJ_J14_equals C.tr hw) q844 q845 q846 q99 q847 ny_J14_equals rfl (Nat.le_of_ble_eq_true rfl) (Nat.le_of_ble_eq_true rfl) rfl (Nat.le_of_ble_eq_true rfl) dX1_commandOf_79 (fun X1 w1 H1 l1 q1 ce hx => hx.elim) (fun v w20 H locs hq _ hS => ?_)
            obtain ⟨r21, rfl, hw⟩ := hq
            refine W.eq (g2 := F0 m 82 ls [.int r21]) rfl ?_
            refine lv_if_eq (tgt := 172) C.x C.b dX1_commandOf_82 (by decide) (fun c22 => ?_) (fun c22 => ?_)
            · have hw := hw.1 c22
              exact kJ_X1_commandOf_172 C hN _ _ _ _ _ hS (lv_sub hl [0] rfl) hw
            · have hw := hw.2 c22
              refine lv_iconst (v := 0) C.x C.b dX1_commandOf_85 (by decide) ?_
              refine lv_istore_n (lv' := [(2, .int 0), (1, .ref i0), (0, .ref i0)]) C.x C.b dX1_commandOf_86 rfl hl (by decide) rfl (fun ls hl => ?_)
              refine lv_goto (tgt := 172) C.x C.b dX1_commandOf_87 (by decide) ?_
              exact kJ_X1_commandOf_172 C hN _ _ _ _ _ hS (lv_sub hl [0] rfl) hw
          · have hw := hw.2 c8_3321850
            rcases Decidable.em (r2 = 3449512) with c8_3449512 | c8_3449512
            · have hw := hw.1 c8_3449512
              rw [c8_3449512]
              refine lv_lookup (off := 124) (tgt := 132) C.x C.b dX1_commandOf_8 (by decide) (by decide) (by decide) ?_
              refine lv_aload_n C.x C.b dX1_commandOf_132 rfl (lv_at hl 1 rfl) ?_
              refine a_str C dX1_commandOf_133 hw (fun a23 hw => ?_)
              obtain ⟨fs, hq, hw⟩ := hw
              refine a_callV (rest := []) C hS hl 10 hq rfl (kJ_J14_equals C.tr hw) q844 q845 q846 q99 q847 ny_J14_equals rfl (Nat.le_of_ble_eq_true rfl) (Nat.le_of_ble_eq_true rfl) rfl (Nat.le_of_ble_eq_true rfl) dX1_commandOf_135 (fun X1 w1 H1 l1 q1 ce hx => hx.elim) (fun v w24 H locs hq _ hS => ?_)
              obtain ⟨r25, rfl, hw⟩ := hq
              refine W.eq (g2 := F0 m 138 ls [.int r25]) rfl ?_
              refine lv_if_eq (tgt := 172) C.x C.b dX1_commandOf_138 (by decide) (fun c26 => ?_) (fun c26 => ?_)
              · have hw := hw.1 c26
                exact kJ_X1_commandOf_172 C hN _ _ _ _ _ hS (lv_sub hl [0] rfl) hw
              · have hw := hw.2 c26
                refine lv_iconst (v := 4) C.x C.b dX1_commandOf_141 (by decide) ?_
                refine lv_istore_n (lv' := [(2, .int 4), (1, .ref i0), (0, .ref i0)]) C.x C.b dX1_commandOf_142 rfl hl (by decide) rfl (fun ls hl => ?_)
                refine lv_goto (tgt := 172) C.x C.b dX1_commandOf_143 (by decide) ?_
                exact kJ_X1_commandOf_172 C hN _ _ _ _ _ hS (lv_sub hl [0] rfl) hw
            · have hw := hw.2 c8_3449512
              rcases Decidable.em (r2 = 3559837) with c8_3559837 | c8_3559837
              · have hw := hw.1 c8_3559837
                rw [c8_3559837]
                refine lv_lookup (off := 152) (tgt := 160) C.x C.b dX1_commandOf_8 (by decide) (by decide) (by decide) ?_
                refine lv_aload_n C.x C.b dX1_commandOf_160 rfl (lv_at hl 1 rfl) ?_
                refine a_str C dX1_commandOf_161 hw (fun a27 hw => ?_)
                obtain ⟨fs, hq, hw⟩ := hw
                refine a_callV (rest := []) C hS hl 10 hq rfl (kJ_J14_equals C.tr hw) q844 q845 q846 q99 q847 ny_J14_equals rfl (Nat.le_of_ble_eq_true rfl) (Nat.le_of_ble_eq_true rfl) rfl (Nat.le_of_ble_eq_true rfl) dX1_commandOf_163 (fun X1 w1 H1 l1 q1 ce hx => hx.elim) (fun v w28 H locs hq _ hS => ?_)
                obtain ⟨r29, rfl, hw⟩ := hq
                refine W.eq (g2 := F0 m 166 ls [.int r29]) rfl ?_
                refine lv_if_eq (tgt := 172) C.x C.b dX1_commandOf_166 (by decide) (fun c30 => ?_) (fun c30 => ?_)
                · have hw := hw.1 c30
                  exact kJ_X1_commandOf_172 C hN _ _ _ _ _ hS (lv_sub hl [0] rfl) hw
                · have hw := hw.2 c30
                  refine lv_bipush (v := 6) C.x C.b dX1_commandOf_169 (by decide) ?_
                  refine lv_istore_n (lv' := [(2, .int 6), (1, .ref i0), (0, .ref i0)]) C.x C.b dX1_commandOf_171 rfl hl (by decide) rfl (fun ls hl => ?_)
                  exact kJ_X1_commandOf_172 C hN _ _ _ _ _ hS (lv_sub hl [0] rfl) hw
              · have hw := hw.2 c8_3559837
                refine lv_lookup (off := 164) (tgt := 172) C.x C.b dX1_commandOf_8 (by decide) (by rw [lv_osw c8_97533 (by decide)]; rw [lv_osw c8_101397 (by decide)]; rw [lv_osw c8_3135262 (by decide)]; rw [lv_osw c8_3208616 (by decide)]; rw [lv_osw c8_3321850 (by decide)]; rw [lv_osw c8_3449512 (by decide)]; rw [lv_osw c8_3559837 (by decide)]; rfl) (by decide) ?_
                exact kJ_X1_commandOf_172 C hN _ _ _ _ _ hS (lv_sub hl [0] rfl) hw
theorem ny_X1_commandOf : gNm yX1_commandOf 1 = true := by decide +kernel
theorem kJ_X1_commandOf {l : Launch} (ht : l.stackTraces = false) {w : gW} {i0 : Nat} {Q : Option Nat → gW → Prop} (hw : wJ_X1_commandOf E i0 Q w) : gMet l yX1_commandOf (ws_ yX1_commandOf cX1_commandOf 3 (some (.object "BridgeAuction$Command"))) E w [.ref i0] 17 3080 (gR Q) (gNoX) :=
  g_ofWN ht (by decide) (Nat.le_of_ble_eq_true rfl) (fun p e s m below meth c ls H C hN hl hS => kJ_X1_commandOf_r C hN _ _ _ _ _ hS hl hw)
def wJ_X1_numbersOf_105 (E : gE) (Q : Int32 → gW → Prop) (x2 : Int32) (w : gW) : Prop :=
  (x2 = 0 → (Q 3 w)) ∧ (¬ x2 = 0 → ((x2 = 1 → (Q 3 w)) ∧ (¬ x2 = 1 → ((x2 = 2 → (Q 2 w)) ∧ (¬ x2 = 2 → ((x2 = 3 → (Q 2 w)) ∧ (¬ x2 = 3 → (Q 1 w))))))))
theorem kJ_X1_numbersOf_105 (C : gC p l s m args meth c cX1_numbersOf 3 (some .int) RX1 E [] "numbersOf") {Q : Int32 → gW → Prop} (x2 : Int32) (w : gW) (H : Heap) (locs : List Loc) (ls : Array Slot) (hS : gS E w0 w H locs) (hl : lv_has ls 3 [(2, .int x2)]) (hw : wJ_X1_numbersOf_105 E Q x2 w) : gGo p l e s m args below meth c H locs 17 317 E w0 w (gI Q) (gNoX) (F0 m 105 ls []) := by
  unfold wJ_X1_numbersOf_105 at hw
  refine lv_iload_n C.x C.b dX1_numbersOf_105 rfl (lv_at hl 0 rfl) ?_
  rcases Decidable.em (x2 = 0) with c106_0 | c106_0
  · have hw := hw.1 c106_0
    rw [c106_0]
    refine lv_tableIn (tgt := 136) (off := 30) C.x C.b dX1_numbersOf_106 (by decide) (by decide) rfl (by decide) ?_
    refine lv_iconst (v := 3) C.x C.b dX1_numbersOf_136 (by decide) ?_
    exact g_iret C hS ⟨_, rfl, hw⟩ dX1_numbersOf_137
  · have hw := hw.2 c106_0
    rcases Decidable.em (x2 = 1) with c106_1 | c106_1
    · have hw := hw.1 c106_1
      rw [c106_1]
      refine lv_tableIn (tgt := 136) (off := 30) C.x C.b dX1_numbersOf_106 (by decide) (by decide) rfl (by decide) ?_
      refine lv_iconst (v := 3) C.x C.b dX1_numbersOf_136 (by decide) ?_
      exact g_iret C hS ⟨_, rfl, hw⟩ dX1_numbersOf_137
    · have hw := hw.2 c106_1
      rcases Decidable.em (x2 = 2) with c106_2 | c106_2
      · have hw := hw.1 c106_2
        rw [c106_2]
        refine lv_tableIn (tgt := 138) (off := 32) C.x C.b dX1_numbersOf_106 (by decide) (by decide) rfl (by decide) ?_
        refine lv_iconst (v := 2) C.x C.b dX1_numbersOf_138 (by decide) ?_
        exact g_iret C hS ⟨_, rfl, hw⟩ dX1_numbersOf_139
      · have hw := hw.2 c106_2
        rcases Decidable.em (x2 = 3) with c106_3 | c106_3
        · have hw := hw.1 c106_3
          rw [c106_3]
          refine lv_tableIn (tgt := 138) (off := 32) C.x C.b dX1_numbersOf_106 (by decide) (by decide) rfl (by decide) ?_
          refine lv_iconst (v := 2) C.x C.b dX1_numbersOf_138 (by decide) ?_
          exact g_iret C hS ⟨_, rfl, hw⟩ dX1_numbersOf_139
        · have hw := hw.2 c106_3
          refine lv_tableOut (tgt := 140) C.x C.b dX1_numbersOf_106 (by have := lv_neT c106_0 (a := 0) (by decide); have := lv_neT c106_1 (a := 1) (by decide); have := lv_neT c106_2 (a := 2) (by decide); have := lv_neT c106_3 (a := 3) (by decide); omega) (by decide) ?_
          refine lv_iconst (v := 1) C.x C.b dX1_numbersOf_140 (by decide) ?_
          exact g_iret C hS ⟨_, rfl, hw⟩ dX1_numbersOf_141
def wJ_X1_numbersOf (E : gE) (i0 : Nat) (Q : Int32 → gW → Prop) (w : gW) : Prop :=
  aKind E i0 10 (wJ_J14_hashCode E i0 (fun r2 w1 => (r2 = 97533 → (aStr E "BridgeAuction" 25 "bid" (fun a3 => aKind E i0 10 (wJ_J14_equals E i0 a3 (fun r5 w4 => (r5 = 0 → (wJ_X1_numbersOf_105 E Q (-1) w4)) ∧ (¬ r5 = 0 → (wJ_X1_numbersOf_105 E Q 1 w4))) w1) w1))) ∧ (¬ r2 = 97533 → ((r2 = 3208616 → (aStr E "BridgeAuction" 33 "host" (fun a7 => aKind E i0 10 (wJ_J14_equals E i0 a7 (fun r9 w8 => (r9 = 0 → (wJ_X1_numbersOf_105 E Q (-1) w8)) ∧ (¬ r9 = 0 → (wJ_X1_numbersOf_105 E Q 3 w8))) w1) w1))) ∧ (¬ r2 = 3208616 → ((r2 = 3321850 → (aStr E "BridgeAuction" 19 "link" (fun a11 => aKind E i0 10 (wJ_J14_equals E i0 a11 (fun r13 w12 => (r13 = 0 → (wJ_X1_numbersOf_105 E Q (-1) w12)) ∧ (¬ r13 = 0 → (wJ_X1_numbersOf_105 E Q 0 w12))) w1) w1))) ∧ (¬ r2 = 3321850 → ((r2 = 3449512 → (aStr E "BridgeAuction" 31 "prio" (fun a15 => aKind E i0 10 (wJ_J14_equals E i0 a15 (fun r17 w16 => (r17 = 0 → (wJ_X1_numbersOf_105 E Q (-1) w16)) ∧ (¬ r17 = 0 → (wJ_X1_numbersOf_105 E Q 2 w16))) w1) w1))) ∧ (¬ r2 = 3449512 → (wJ_X1_numbersOf_105 E Q (-1) w1))))))))) w) w
theorem kJ_X1_numbersOf_r (C : gC p l s m args meth c cX1_numbersOf 3 (some .int) RX1 E [] "numbersOf") (i0 : Nat) {Q : Int32 → gW → Prop} (w : gW) (H : Heap) (locs : List Loc) (ls : Array Slot) (hS : gS E w0 w H locs) (hl : lv_has ls 3 [(0, .ref i0)]) (hw : wJ_X1_numbersOf E i0 Q w) : gGo p l e s m args below meth c H locs 17 317 E w0 w (gI Q) (gNoX) (F0 m 0 ls []) := by
  unfold wJ_X1_numbersOf at hw
  refine lv_aload_n C.x C.b dX1_numbersOf_0 rfl (lv_at hl 0 rfl) ?_
  refine lv_astore_n (lv' := [(1, .ref i0), (0, .ref i0)]) C.x C.b dX1_numbersOf_1 rfl hl (by decide) rfl (fun ls hl => ?_)
  refine lv_iconst (v := (-1)) C.x C.b dX1_numbersOf_2 (by decide) ?_
  refine lv_istore_n (lv' := [(2, .int (-1)), (1, .ref i0), (0, .ref i0)]) C.x C.b dX1_numbersOf_3 rfl hl (by decide) rfl (fun ls hl => ?_)
  refine lv_aload_n C.x C.b dX1_numbersOf_4 rfl (lv_at hl 1 rfl) ?_
  obtain ⟨fs, hq, hw⟩ := hw
  refine a_callV (rest := []) C hS hl 10 hq rfl (kJ_J14_hashCode C.tr hw) q782 q783 q784 q99 q785 ny_J14_hashCode rfl (Nat.le_of_ble_eq_true rfl) (Nat.le_of_ble_eq_true rfl) rfl (Nat.le_of_ble_eq_true rfl) dX1_numbersOf_5 (fun X1 w1 H1 l1 q1 ce hx => hx.elim) (fun v w1 H locs hq _ hS => ?_)
  obtain ⟨r2, rfl, hw⟩ := hq
  refine W.eq (g2 := F0 m 8 ls [.int r2]) rfl ?_
  rcases Decidable.em (r2 = 97533) with c8_97533 | c8_97533
  · have hw := hw.1 c8_97533
    rw [c8_97533]
    refine lv_lookup (off := 58) (tgt := 66) C.x C.b dX1_numbersOf_8 (by decide) (by decide) (by decide) ?_
    refine lv_aload_n C.x C.b dX1_numbersOf_66 rfl (lv_at hl 1 rfl) ?_
    refine a_str C dX1_numbersOf_67 hw (fun a3 hw => ?_)
    obtain ⟨fs, hq, hw⟩ := hw
    refine a_callV (rest := []) C hS hl 10 hq rfl (kJ_J14_equals C.tr hw) q844 q845 q846 q99 q847 ny_J14_equals rfl (Nat.le_of_ble_eq_true rfl) (Nat.le_of_ble_eq_true rfl) rfl (Nat.le_of_ble_eq_true rfl) dX1_numbersOf_69 (fun X1 w1 H1 l1 q1 ce hx => hx.elim) (fun v w4 H locs hq _ hS => ?_)
    obtain ⟨r5, rfl, hw⟩ := hq
    refine W.eq (g2 := F0 m 72 ls [.int r5]) rfl ?_
    refine lv_if_eq (tgt := 105) C.x C.b dX1_numbersOf_72 (by decide) (fun c6 => ?_) (fun c6 => ?_)
    · have hw := hw.1 c6
      exact kJ_X1_numbersOf_105 C _ _ _ _ _ hS (lv_sub hl [0] rfl) hw
    · have hw := hw.2 c6
      refine lv_iconst (v := 1) C.x C.b dX1_numbersOf_75 (by decide) ?_
      refine lv_istore_n (lv' := [(2, .int 1), (1, .ref i0), (0, .ref i0)]) C.x C.b dX1_numbersOf_76 rfl hl (by decide) rfl (fun ls hl => ?_)
      refine lv_goto (tgt := 105) C.x C.b dX1_numbersOf_77 (by decide) ?_
      exact kJ_X1_numbersOf_105 C _ _ _ _ _ hS (lv_sub hl [0] rfl) hw
  · have hw := hw.2 c8_97533
    rcases Decidable.em (r2 = 3208616) with c8_3208616 | c8_3208616
    · have hw := hw.1 c8_3208616
      rw [c8_3208616]
      refine lv_lookup (off := 86) (tgt := 94) C.x C.b dX1_numbersOf_8 (by decide) (by decide) (by decide) ?_
      refine lv_aload_n C.x C.b dX1_numbersOf_94 rfl (lv_at hl 1 rfl) ?_
      refine a_str C dX1_numbersOf_95 hw (fun a7 hw => ?_)
      obtain ⟨fs, hq, hw⟩ := hw
      refine a_callV (rest := []) C hS hl 10 hq rfl (kJ_J14_equals C.tr hw) q844 q845 q846 q99 q847 ny_J14_equals rfl (Nat.le_of_ble_eq_true rfl) (Nat.le_of_ble_eq_true rfl) rfl (Nat.le_of_ble_eq_true rfl) dX1_numbersOf_97 (fun X1 w1 H1 l1 q1 ce hx => hx.elim) (fun v w8 H locs hq _ hS => ?_)
      obtain ⟨r9, rfl, hw⟩ := hq
      refine W.eq (g2 := F0 m 100 ls [.int r9]) rfl ?_
      refine lv_if_eq (tgt := 105) C.x C.b dX1_numbersOf_100 (by decide) (fun c10 => ?_) (fun c10 => ?_)
      · have hw := hw.1 c10
        exact kJ_X1_numbersOf_105 C _ _ _ _ _ hS (lv_sub hl [0] rfl) hw
      · have hw := hw.2 c10
        refine lv_iconst (v := 3) C.x C.b dX1_numbersOf_103 (by decide) ?_
        refine lv_istore_n (lv' := [(2, .int 3), (1, .ref i0), (0, .ref i0)]) C.x C.b dX1_numbersOf_104 rfl hl (by decide) rfl (fun ls hl => ?_)
        exact kJ_X1_numbersOf_105 C _ _ _ _ _ hS (lv_sub hl [0] rfl) hw
    · have hw := hw.2 c8_3208616
      rcases Decidable.em (r2 = 3321850) with c8_3321850 | c8_3321850
      · have hw := hw.1 c8_3321850
        rw [c8_3321850]
        refine lv_lookup (off := 44) (tgt := 52) C.x C.b dX1_numbersOf_8 (by decide) (by decide) (by decide) ?_
        refine lv_aload_n C.x C.b dX1_numbersOf_52 rfl (lv_at hl 1 rfl) ?_
        refine a_str C dX1_numbersOf_53 hw (fun a11 hw => ?_)
        obtain ⟨fs, hq, hw⟩ := hw
        refine a_callV (rest := []) C hS hl 10 hq rfl (kJ_J14_equals C.tr hw) q844 q845 q846 q99 q847 ny_J14_equals rfl (Nat.le_of_ble_eq_true rfl) (Nat.le_of_ble_eq_true rfl) rfl (Nat.le_of_ble_eq_true rfl) dX1_numbersOf_55 (fun X1 w1 H1 l1 q1 ce hx => hx.elim) (fun v w12 H locs hq _ hS => ?_)
        obtain ⟨r13, rfl, hw⟩ := hq
        refine W.eq (g2 := F0 m 58 ls [.int r13]) rfl ?_
        refine lv_if_eq (tgt := 105) C.x C.b dX1_numbersOf_58 (by decide) (fun c14 => ?_) (fun c14 => ?_)
        · have hw := hw.1 c14
          exact kJ_X1_numbersOf_105 C _ _ _ _ _ hS (lv_sub hl [0] rfl) hw
        · have hw := hw.2 c14
          refine lv_iconst (v := 0) C.x C.b dX1_numbersOf_61 (by decide) ?_
          refine lv_istore_n (lv' := [(2, .int 0), (1, .ref i0), (0, .ref i0)]) C.x C.b dX1_numbersOf_62 rfl hl (by decide) rfl (fun ls hl => ?_)
          refine lv_goto (tgt := 105) C.x C.b dX1_numbersOf_63 (by decide) ?_
          exact kJ_X1_numbersOf_105 C _ _ _ _ _ hS (lv_sub hl [0] rfl) hw
      · have hw := hw.2 c8_3321850
        rcases Decidable.em (r2 = 3449512) with c8_3449512 | c8_3449512
        · have hw := hw.1 c8_3449512
          rw [c8_3449512]
          refine lv_lookup (off := 72) (tgt := 80) C.x C.b dX1_numbersOf_8 (by decide) (by decide) (by decide) ?_
          refine lv_aload_n C.x C.b dX1_numbersOf_80 rfl (lv_at hl 1 rfl) ?_
          refine a_str C dX1_numbersOf_81 hw (fun a15 hw => ?_)
          obtain ⟨fs, hq, hw⟩ := hw
          refine a_callV (rest := []) C hS hl 10 hq rfl (kJ_J14_equals C.tr hw) q844 q845 q846 q99 q847 ny_J14_equals rfl (Nat.le_of_ble_eq_true rfl) (Nat.le_of_ble_eq_true rfl) rfl (Nat.le_of_ble_eq_true rfl) dX1_numbersOf_83 (fun X1 w1 H1 l1 q1 ce hx => hx.elim) (fun v w16 H locs hq _ hS => ?_)
          obtain ⟨r17, rfl, hw⟩ := hq
          refine W.eq (g2 := F0 m 86 ls [.int r17]) rfl ?_
          refine lv_if_eq (tgt := 105) C.x C.b dX1_numbersOf_86 (by decide) (fun c18 => ?_) (fun c18 => ?_)
          · have hw := hw.1 c18
            exact kJ_X1_numbersOf_105 C _ _ _ _ _ hS (lv_sub hl [0] rfl) hw
          · have hw := hw.2 c18
            refine lv_iconst (v := 2) C.x C.b dX1_numbersOf_89 (by decide) ?_
            refine lv_istore_n (lv' := [(2, .int 2), (1, .ref i0), (0, .ref i0)]) C.x C.b dX1_numbersOf_90 rfl hl (by decide) rfl (fun ls hl => ?_)
            refine lv_goto (tgt := 105) C.x C.b dX1_numbersOf_91 (by decide) ?_
            exact kJ_X1_numbersOf_105 C _ _ _ _ _ hS (lv_sub hl [0] rfl) hw
        · have hw := hw.2 c8_3449512
          refine lv_lookup (off := 97) (tgt := 105) C.x C.b dX1_numbersOf_8 (by decide) (by rw [lv_osw c8_97533 (by decide)]; rw [lv_osw c8_3208616 (by decide)]; rw [lv_osw c8_3321850 (by decide)]; rw [lv_osw c8_3449512 (by decide)]; rfl) (by decide) ?_
          exact kJ_X1_numbersOf_105 C _ _ _ _ _ hS (lv_sub hl [0] rfl) hw
theorem ny_X1_numbersOf : gNm yX1_numbersOf 1 = true := by decide +kernel
theorem kJ_X1_numbersOf {l : Launch} (ht : l.stackTraces = false) {w : gW} {i0 : Nat} {Q : Int32 → gW → Prop} (hw : wJ_X1_numbersOf E i0 Q w) : gMet l yX1_numbersOf (ws_ yX1_numbersOf cX1_numbersOf 3 (some .int)) E w [.ref i0] 17 317 (gI Q) (gNoX) :=
  g_ofW ht (by decide) (Nat.le_of_ble_eq_true rfl) (fun p e s m below meth c ls H C hl hS => kJ_X1_numbersOf_r C _ _ _ _ _ hS hl hw)
def wJ_X9_readNumber_77 (E : gE) (Q : Int32 → gW → Prop) (x0 : Nat) (x2 : Int32) (w : gW) : Prop :=
  aI E x0 7 0 (fun v25 => (v25 ≤ x2 → (Q 0 w)) ∧ (¬ v25 ≤ x2 → (aKind E x0 7 (wJ_X9_isAt E x0 48 57 (fun r28 w27 => (r28 = 0 → (Q 1 w27)) ∧ (¬ r28 = 0 → (Q 0 w27))) w) w))) w
theorem kJ_X9_readNumber_77 (C : gC p l s m args meth c cX9_readNumber 3 (some .boolean) RX9 E [] "readNumber") {Q : Int32 → gW → Prop} (x0 : Nat) (x2 : Int32) (w : gW) (H : Heap) (locs : List Loc) (ls : Array Slot) (hS : gS E w0 w H locs) (hl : lv_has ls 3 [(0, .ref x0), (2, .int x2)]) (hw : wJ_X9_readNumber_77 E Q x0 x2 w) : gGo p l e s m args below meth c H locs 2 47 E w0 w (gI Q) (gNoX) (F0 m 77 ls []) := by
  unfold wJ_X9_readNumber_77 at hw
  refine lv_aload_n C.x C.b dX9_readNumber_77 rfl (lv_at hl 0 rfl) ?_
  refine a_I C hS in_X9 rfl (k := 0) (ci := 7) (by decide) q427 (fun _ h9 => h9) dX9_readNumber_78 hw (fun v25 hw => ?_)
  refine lv_iload_n C.x C.b dX9_readNumber_81 rfl (lv_at hl 1 rfl) ?_
  refine lv_icmp_le (tgt := 100) C.x C.b dX9_readNumber_82 (by decide) (fun c26 => ?_) (fun c26 => ?_)
  · have hw := hw.1 c26
    refine lv_iconst (v := 0) C.x C.b dX9_readNumber_100 (by decide) ?_
    exact g_zret C hS rfl ⟨_, rfl, hw⟩ dX9_readNumber_101
  · have hw := hw.2 c26
    refine lv_aload_n C.x C.b dX9_readNumber_85 rfl (lv_at hl 0 rfl) ?_
    refine lv_bipush (v := 48) C.x C.b dX9_readNumber_86 (by decide) ?_
    refine lv_bipush (v := 57) C.x C.b dX9_readNumber_88 (by decide) ?_
    obtain ⟨fs, hq, hw⟩ := hw
    refine a_callV (rest := []) C hS hl 7 hq rfl (kJ_X9_isAt C.tr hw) q454 q456 qs6 q102 q457 ny_X9_isAt rfl (Nat.le_of_ble_eq_true rfl) (Nat.le_of_ble_eq_true rfl) rfl (Nat.le_of_ble_eq_true rfl) dX9_readNumber_90 (fun X1 w1 H1 l1 q1 ce hx => hx.elim) (fun v w27 H locs hq _ hS => ?_)
    obtain ⟨r28, rfl, hw⟩ := hq
    refine W.eq (g2 := F0 m 93 ls [.int r28]) rfl ?_
    refine lv_if_ne (tgt := 100) C.x C.b dX9_readNumber_93 (by decide) (fun c29 => ?_) (fun c29 => ?_)
    · have hw := hw.2 c29
      refine lv_iconst (v := 0) C.x C.b dX9_readNumber_100 (by decide) ?_
      exact g_zret C hS rfl ⟨_, rfl, hw⟩ dX9_readNumber_101
    · have hw := hw.1 c29
      refine lv_iconst (v := 1) C.x C.b dX9_readNumber_96 (by decide) ?_
      refine lv_goto (tgt := 101) C.x C.b dX9_readNumber_97 (by decide) ?_
      exact g_zret C hS rfl ⟨_, rfl, hw⟩ dX9_readNumber_101
def wJ_X9_readNumber_12 (E : gE) (Q : Int32 → gW → Prop) : Nat → Nat → Int32 → Int32 → gW → Prop
  | 0, _, _, _, _ => False
  | n + 1, x0, x1, x2, w => aKind E x0 7 (wJ_X9_isAt E x0 48 57 (fun r7 w6 => (r7 = 0 → (wJ_X9_readNumber_77 E Q x0 x2 w6)) ∧ (¬ r7 = 0 → (aI E x0 7 0 (fun v9 => ((x2 + 4) ≤ v9 → (wJ_X9_readNumber_77 E Q x0 x2 w6)) ∧ (¬ (x2 + 4) ≤ v9 → (aR E x0 7 3 (fun r11 => aR E x0 7 3 (fun r12 => ∃ a13 : Nat, r12 = some a13 ∧ (aL E 0 a13 x1 (fun v14 => aR E x0 7 4 (fun r15 => ∃ a16 : Nat, r15 = some a16 ∧ (aR E a16 0 3 (fun r17 => aI E x0 7 0 (fun v18 => ∃ a19 : Nat, r17 = some a19 ∧ (aL E 1 a19 v18 (fun v20 => ∃ a21 : Nat, r11 = some a21 ∧ (aS E 0 a21 x1 (((10 * v14) + v20) - 48) (fun w22 => aI E x0 7 0 (fun v23 => aP x0 7 0 (.int (v23 + 1)) (fun w24 => wJ_X9_readNumber_12 E Q n x0 x1 x2 w24) w22) w22) w6)) w6)) w6) w6)) w6) w6)) w6) w6))) w6))) w) w
theorem kJ_X9_readNumber_12 (C : gC p l s m args meth c cX9_readNumber 3 (some .boolean) RX9 E [] "readNumber") {Q : Int32 → gW → Prop} : ∀ (n : Nat) (x0 : Nat) (x1 : Int32) (x2 : Int32) (w : gW) (H : Heap) (locs : List Loc) (ls : Array Slot), gS E w0 w H locs → lv_has ls 3 [(0, .ref x0), (1, .int x1), (2, .int x2)] → wJ_X9_readNumber_12 E Q n x0 x1 x2 w → gGo p l e s m args below meth c H locs 2 47 E w0 w (gI Q) (gNoX) (F0 m 12 ls []) := by
  intro n
  induction n with
  | zero =>
    intro x0 x1 x2 w H locs ls hS hl hw
    exact hw.elim
  | succ n ih =>
    intro x0 x1 x2 w H locs ls hS hl hw
    unfold wJ_X9_readNumber_12 at hw
    refine lv_aload_n C.x C.b dX9_readNumber_12 rfl (lv_at hl 0 rfl) ?_
    refine lv_bipush (v := 48) C.x C.b dX9_readNumber_13 (by decide) ?_
    refine lv_bipush (v := 57) C.x C.b dX9_readNumber_15 (by decide) ?_
    obtain ⟨fs, hq, hw⟩ := hw
    refine a_callV (rest := []) C hS hl 7 hq rfl (kJ_X9_isAt C.tr hw) q454 q456 qs6 q102 q457 ny_X9_isAt rfl (Nat.le_of_ble_eq_true rfl) (Nat.le_of_ble_eq_true rfl) rfl (Nat.le_of_ble_eq_true rfl) dX9_readNumber_17 (fun X1 w1 H1 l1 q1 ce hx => hx.elim) (fun v w6 H locs hq _ hS => ?_)
    obtain ⟨r7, rfl, hw⟩ := hq
    refine W.eq (g2 := F0 m 20 ls [.int r7]) rfl ?_
    refine lv_if_eq (tgt := 77) C.x C.b dX9_readNumber_20 (by decide) (fun c8 => ?_) (fun c8 => ?_)
    · have hw := hw.1 c8
      exact kJ_X9_readNumber_77 C _ _ _ _ _ _ hS (lv_sub hl [0, 2] rfl) hw
    · have hw := hw.2 c8
      refine lv_aload_n C.x C.b dX9_readNumber_23 rfl (lv_at hl 0 rfl) ?_
      refine a_I C hS in_X9 rfl (k := 0) (ci := 7) (by decide) q427 (fun _ h9 => h9) dX9_readNumber_24 hw (fun v9 hw => ?_)
      refine lv_iload_n C.x C.b dX9_readNumber_27 rfl (lv_at hl 2 rfl) ?_
      refine lv_iconst (v := 4) C.x C.b dX9_readNumber_28 (by decide) ?_
      refine lv_iadd C.x C.b dX9_readNumber_29 ?_
      refine lv_icmp_ge (tgt := 77) C.x C.b dX9_readNumber_30 (by decide) (fun c10 => ?_) (fun c10 => ?_)
      · have hw := hw.1 c10
        exact kJ_X9_readNumber_77 C _ _ _ _ _ _ hS (lv_sub hl [0, 2] rfl) hw
      · have hw := hw.2 c10
        refine lv_aload_n C.x C.b dX9_readNumber_33 rfl (lv_at hl 0 rfl) ?_
        refine a_R C hS in_X9 rfl (k := 3) (ci := 7) (by decide) q432 (fun _ h9 => h9) dX9_readNumber_34 hw (fun r11 hw => ?_)
        refine lv_iload_n C.x C.b dX9_readNumber_37 rfl (lv_at hl 1 rfl) ?_
        refine lv_bipush (v := 10) C.x C.b dX9_readNumber_38 (by decide) ?_
        refine lv_aload_n C.x C.b dX9_readNumber_40 rfl (lv_at hl 0 rfl) ?_
        refine a_R C hS in_X9 rfl (k := 3) (ci := 7) (by decide) q432 (fun _ h9 => h9) dX9_readNumber_41 hw (fun r12 hw => ?_)
        refine lv_iload_n C.x C.b dX9_readNumber_44 rfl (lv_at hl 1 rfl) ?_
        obtain ⟨a13, e9, hw9⟩ := hw; subst e9; have hw := hw9; clear hw9
        have hl : lv_has ls 3 [(0, .ref x0), (1, .int x1), (2, .int x2)] := hl
        refine W.eq (g2 := F0 m 45 ls [.int x1, .ref a13, .int 10, .int x1, va_rf r11]) rfl ?_
        refine a_Li C hS dX9_readNumber_45 hw (fun v14 hw => ?_)
        refine lv_imul C.x C.b dX9_readNumber_46 ?_
        refine lv_aload_n C.x C.b dX9_readNumber_47 rfl (lv_at hl 0 rfl) ?_
        refine a_R C hS in_X9 rfl (k := 4) (ci := 7) (by decide) q434 (fun _ h9 => h9) dX9_readNumber_48 hw (fun r15 hw => ?_)
        obtain ⟨a16, e9, hw9⟩ := hw; subst e9; have hw := hw9; clear hw9
        have hl : lv_has ls 3 [(0, .ref x0), (1, .int x1), (2, .int x2)] := hl
        refine W.eq (g2 := F0 m 51 ls [.ref a16, .int (10 * v14), .int x1, va_rf r11]) rfl ?_
        refine a_RN C hS in_X1 rfl (k := 3) (ci := 0) (by decide) q348 (fun _ h9 => h9) dX9_readNumber_51 hw (fun r17 hw => ?_)
        refine lv_aload_n C.x C.b dX9_readNumber_54 rfl (lv_at hl 0 rfl) ?_
        refine a_I C hS in_X9 rfl (k := 0) (ci := 7) (by decide) q427 (fun _ h9 => h9) dX9_readNumber_55 hw (fun v18 hw => ?_)
        obtain ⟨a19, e9, hw9⟩ := hw; subst e9; have hw := hw9; clear hw9
        have hl : lv_has ls 3 [(0, .ref x0), (1, .int x1), (2, .int x2)] := hl
        refine W.eq (g2 := F0 m 58 ls [.int v18, .ref a19, .int (10 * v14), .int x1, va_rf r11]) rfl ?_
        refine a_Lb C hS dX9_readNumber_58 hw (fun v20 hw => ?_)
        refine lv_iadd C.x C.b dX9_readNumber_59 ?_
        refine lv_bipush (v := 48) C.x C.b dX9_readNumber_60 (by decide) ?_
        refine lv_isub C.x C.b dX9_readNumber_62 ?_
        obtain ⟨a21, e9, hw9⟩ := hw; subst e9; have hw := hw9; clear hw9
        have hl : lv_has ls 3 [(0, .ref x0), (1, .int x1), (2, .int x2)] := hl
        refine W.eq (g2 := F0 m 63 ls [.int (((10 * v14) + v20) - 48), .int x1, .ref a21]) rfl ?_
        refine a_Si C hS dX9_readNumber_63 hw (fun w22 H locs hw hS => ?_)
        refine lv_aload_n C.x C.b dX9_readNumber_64 rfl (lv_at hl 0 rfl) ?_
        refine lv_dup C.x C.b dX9_readNumber_65 rfl ?_
        refine a_I C hS in_X9 rfl (k := 0) (ci := 7) (by decide) q427 (fun _ h9 => h9) dX9_readNumber_66 hw (fun v23 hw => ?_)
        refine lv_iconst (v := 1) C.x C.b dX9_readNumber_69 (by decide) ?_
        refine lv_iadd C.x C.b dX9_readNumber_70 ?_
        refine a_P C hS in_X9 tyX9 tyX9_ok nmX9 rfl (k := 0) (ci := 7) (by decide) q427 (fun _ h9 => h9) rfl rfl rfl dX9_readNumber_71 hw (fun w24 H locs hw hS => ?_)
        refine lv_goto (tgt := 12) C.x C.b dX9_readNumber_74 (by decide) ?_
        exact ih _ _ _ _ _ _ _ hS (lv_sub hl [0, 1, 2] rfl) hw
def wJ_X9_readNumber (E : gE) (i0 : Nat) (i1 : Int32) (Q : Int32 → gW → Prop) (w : gW) : Prop :=
  aI E i0 7 0 (fun v1 => aR E i0 7 3 (fun r2 => ∃ a3 : Nat, r2 = some a3 ∧ (aS E 0 a3 i1 0 (fun w4 => ∃ k5 : Nat, wJ_X9_readNumber_12 E Q k5 i0 i1 v1 w4) w)) w) w
theorem kJ_X9_readNumber_r (C : gC p l s m args meth c cX9_readNumber 3 (some .boolean) RX9 E [] "readNumber") (i0 : Nat) (i1 : Int32) {Q : Int32 → gW → Prop} (w : gW) (H : Heap) (locs : List Loc) (ls : Array Slot) (hS : gS E w0 w H locs) (hl : lv_has ls 3 [(0, .ref i0), (1, .int i1)]) (hw : wJ_X9_readNumber E i0 i1 Q w) : gGo p l e s m args below meth c H locs 2 47 E w0 w (gI Q) (gNoX) (F0 m 0 ls []) := by
  unfold wJ_X9_readNumber at hw
  refine lv_aload_n C.x C.b dX9_readNumber_0 rfl (lv_at hl 0 rfl) ?_
  refine a_I C hS in_X9 rfl (k := 0) (ci := 7) (by decide) q427 (fun _ h9 => h9) dX9_readNumber_1 hw (fun v1 hw => ?_)
  refine lv_istore_n (lv' := [(2, .int v1), (0, .ref i0), (1, .int i1)]) C.x C.b dX9_readNumber_4 rfl hl (by decide) rfl (fun ls hl => ?_)
  refine lv_aload_n C.x C.b dX9_readNumber_5 rfl (lv_at hl 1 rfl) ?_
  refine a_R C hS in_X9 rfl (k := 3) (ci := 7) (by decide) q432 (fun _ h9 => h9) dX9_readNumber_6 hw (fun r2 hw => ?_)
  refine lv_iload_n C.x C.b dX9_readNumber_9 rfl (lv_at hl 2 rfl) ?_
  refine lv_iconst (v := 0) C.x C.b dX9_readNumber_10 (by decide) ?_
  obtain ⟨a3, e9, hw9⟩ := hw; subst e9; have hw := hw9; clear hw9
  have hl : lv_has ls 3 [(2, .int v1), (0, .ref i0), (1, .int i1)] := hl
  refine W.eq (g2 := F0 m 11 ls [.int 0, .int i1, .ref a3]) rfl ?_
  refine a_Si C hS dX9_readNumber_11 hw (fun w4 H locs hw hS => ?_)
  obtain ⟨k5, hw⟩ := hw
  exact kJ_X9_readNumber_12 C k5 _ _ _ _ _ _ _ hS (lv_sub hl [1, 2, 0] rfl) hw
theorem ny_X9_readNumber : gNm yX9_readNumber 1 = true := by decide +kernel
theorem kJ_X9_readNumber {l : Launch} (ht : l.stackTraces = false) {w : gW} {i0 : Nat} {i1 : Int32} {Q : Int32 → gW → Prop} (hw : wJ_X9_readNumber E i0 i1 Q w) : gMet l yX9_readNumber (ws_ yX9_readNumber cX9_readNumber 3 (some .boolean)) E w [.ref i0, .int i1] 2 47 (gI Q) (gNoX) :=
  g_ofW ht (by decide) (Nat.le_of_ble_eq_true rfl) (fun p e s m below meth c ls H C hl hS => kJ_X9_readNumber_r C _ _ _ _ _ _ hS hl hw)
def wJ_X9_readCommand_91 (E : gE) (Q : Int32 → gW → Prop) : Nat → Nat → Int32 → Int32 → gW → Prop
  | 0, _, _, _, _ => False
  | n + 1, x0, x3, x4, w => (x3 ≤ x4 → (aKind E x0 7 (wJ_X9_spaces E x0 (fun r36 w35 => aKind E x0 7 (wJ_X9_isAt E x0 59 59 (fun r38 w37 => aI E x0 7 0 (fun v39 => (r38 = 0 → (aP x0 7 0 (.int (v39 + 0)) (fun w41 => narrow .boolean (.int r38) = .int r38 ∧ Q r38 w41) w37)) ∧ (¬ r38 = 0 → (aP x0 7 0 (.int (v39 + 1)) (fun w42 => narrow .boolean (.int r38) = .int r38 ∧ Q r38 w42) w37))) w37) w35) w35) w) w)) ∧ (¬ x3 ≤ x4 → (aKind E x0 7 (wJ_X9_spaces E x0 (fun r44 w43 => (r44 = 0 → (Q 0 w43)) ∧ (¬ r44 = 0 → (aKind E x0 7 (wJ_X9_readNumber E x0 x4 (fun r47 w46 => (r47 = 0 → (Q 0 w46)) ∧ (¬ r47 = 0 → (wJ_X9_readCommand_91 E Q n x0 x3 (x4 + 1) w46))) w43) w43))) w) w))
theorem kJ_X9_readCommand_91 (C : gC p l s m args meth c cX9_readCommand 6 (some .boolean) RX9 E [] "readCommand") {Q : Int32 → gW → Prop} : ∀ (n : Nat) (x0 : Nat) (x3 : Int32) (x4 : Int32) (w : gW) (H : Heap) (locs : List Loc) (ls : Array Slot), gS E w0 w H locs → lv_has ls 6 [(0, .ref x0), (3, .int x3), (4, .int x4)] → wJ_X9_readCommand_91 E Q n x0 x3 x4 w → gGo p l e s m args below meth c H locs 18 3102 E w0 w (gI Q) (gNoX) (F0 m 91 ls []) := by
  intro n
  induction n with
  | zero =>
    intro x0 x3 x4 w H locs ls hS hl hw
    exact hw.elim
  | succ n ih =>
    intro x0 x3 x4 w H locs ls hS hl hw
    unfold wJ_X9_readCommand_91 at hw
    refine lv_iload C.x C.b dX9_readCommand_91 (lv_at hl 2 rfl) ?_
    refine lv_iload_n C.x C.b dX9_readCommand_93 rfl (lv_at hl 1 rfl) ?_
    refine lv_icmp_ge (tgt := 121) C.x C.b dX9_readCommand_94 (by decide) (fun c34 => ?_) (fun c34 => ?_)
    · have hw := hw.1 c34
      refine lv_aload_n C.x C.b dX9_readCommand_121 rfl (lv_at hl 0 rfl) ?_
      obtain ⟨fs, hq, hw⟩ := hw
      refine a_callV (rest := []) C hS hl 7 hq rfl (kJ_X9_spaces C.tr hw) q450 q452 qs5 q102 q453 ny_X9_spaces rfl (Nat.le_of_ble_eq_true rfl) (Nat.le_of_ble_eq_true rfl) rfl (Nat.le_of_ble_eq_true rfl) dX9_readCommand_122 (fun X1 w1 H1 l1 q1 ce hx => hx.elim) (fun v w35 H locs hq _ hS => ?_)
      obtain ⟨r36, rfl, hw⟩ := hq
      refine W.eq (g2 := F0 m 125 ls [.int r36]) rfl ?_
      refine lv_istore (lv' := [(4, .int r36), (0, .ref x0), (3, .int x3)]) C.x C.b dX9_readCommand_125 hl (by decide) rfl (fun ls hl => ?_)
      refine lv_aload_n C.x C.b dX9_readCommand_127 rfl (lv_at hl 1 rfl) ?_
      refine lv_bipush (v := 59) C.x C.b dX9_readCommand_128 (by decide) ?_
      refine lv_bipush (v := 59) C.x C.b dX9_readCommand_130 (by decide) ?_
      obtain ⟨fs, hq, hw⟩ := hw
      refine a_callV (rest := []) C hS hl 7 hq rfl (kJ_X9_isAt C.tr hw) q454 q456 qs6 q102 q457 ny_X9_isAt rfl (Nat.le_of_ble_eq_true rfl) (Nat.le_of_ble_eq_true rfl) rfl (Nat.le_of_ble_eq_true rfl) dX9_readCommand_132 (fun X1 w1 H1 l1 q1 ce hx => hx.elim) (fun v w37 H locs hq _ hS => ?_)
      obtain ⟨r38, rfl, hw⟩ := hq
      refine W.eq (g2 := F0 m 135 ls [.int r38]) rfl ?_
      refine lv_istore (lv' := [(5, .int r38), (4, .int r36), (0, .ref x0), (3, .int x3)]) C.x C.b dX9_readCommand_135 hl (by decide) rfl (fun ls hl => ?_)
      refine lv_aload_n C.x C.b dX9_readCommand_137 rfl (lv_at hl 2 rfl) ?_
      refine lv_dup C.x C.b dX9_readCommand_138 rfl ?_
      refine a_I C hS in_X9 rfl (k := 0) (ci := 7) (by decide) q427 (fun _ h9 => h9) dX9_readCommand_139 hw (fun v39 hw => ?_)
      refine lv_iload C.x C.b dX9_readCommand_142 (lv_at hl 0 rfl) ?_
      refine lv_if_eq (tgt := 151) C.x C.b dX9_readCommand_144 (by decide) (fun c40 => ?_) (fun c40 => ?_)
      · have hw := hw.1 c40
        refine lv_iconst (v := 0) C.x C.b dX9_readCommand_151 (by decide) ?_
        refine lv_iadd C.x C.b dX9_readCommand_152 ?_
        refine a_P C hS in_X9 tyX9 tyX9_ok nmX9 rfl (k := 0) (ci := 7) (by decide) q427 (fun _ h9 => h9) rfl rfl rfl dX9_readCommand_153 hw (fun w41 H locs hw hS => ?_)
        refine lv_iload C.x C.b dX9_readCommand_156 (lv_at hl 0 rfl) ?_
        exact g_zret C hS hw.1 ⟨_, rfl, hw.2⟩ dX9_readCommand_158
      · have hw := hw.2 c40
        refine lv_iconst (v := 1) C.x C.b dX9_readCommand_147 (by decide) ?_
        refine lv_goto (tgt := 152) C.x C.b dX9_readCommand_148 (by decide) ?_
        refine lv_iadd C.x C.b dX9_readCommand_152 ?_
        refine a_P C hS in_X9 tyX9 tyX9_ok nmX9 rfl (k := 0) (ci := 7) (by decide) q427 (fun _ h9 => h9) rfl rfl rfl dX9_readCommand_153 hw (fun w42 H locs hw hS => ?_)
        refine lv_iload C.x C.b dX9_readCommand_156 (lv_at hl 0 rfl) ?_
        exact g_zret C hS hw.1 ⟨_, rfl, hw.2⟩ dX9_readCommand_158
    · have hw := hw.2 c34
      refine lv_aload_n C.x C.b dX9_readCommand_97 rfl (lv_at hl 0 rfl) ?_
      obtain ⟨fs, hq, hw⟩ := hw
      refine a_callV (rest := []) C hS hl 7 hq rfl (kJ_X9_spaces C.tr hw) q450 q452 qs5 q102 q453 ny_X9_spaces rfl (Nat.le_of_ble_eq_true rfl) (Nat.le_of_ble_eq_true rfl) rfl (Nat.le_of_ble_eq_true rfl) dX9_readCommand_98 (fun X1 w1 H1 l1 q1 ce hx => hx.elim) (fun v w43 H locs hq _ hS => ?_)
      obtain ⟨r44, rfl, hw⟩ := hq
      refine W.eq (g2 := F0 m 101 ls [.int r44]) rfl ?_
      refine lv_if_eq (tgt := 113) C.x C.b dX9_readCommand_101 (by decide) (fun c45 => ?_) (fun c45 => ?_)
      · have hw := hw.1 c45
        refine lv_iconst (v := 0) C.x C.b dX9_readCommand_113 (by decide) ?_
        exact g_zret C hS rfl ⟨_, rfl, hw⟩ dX9_readCommand_114
      · have hw := hw.2 c45
        refine lv_aload_n C.x C.b dX9_readCommand_104 rfl (lv_at hl 0 rfl) ?_
        refine lv_iload C.x C.b dX9_readCommand_105 (lv_at hl 2 rfl) ?_
        obtain ⟨fs, hq, hw⟩ := hw
        refine a_callV (rest := []) C hS hl 7 hq rfl (kJ_X9_readNumber C.tr hw) q1154 q1156 qs16 q102 q1157 ny_X9_readNumber rfl (Nat.le_of_ble_eq_true rfl) (Nat.le_of_ble_eq_true rfl) rfl (Nat.le_of_ble_eq_true rfl) dX9_readCommand_107 (fun X1 w1 H1 l1 q1 ce hx => hx.elim) (fun v w46 H locs hq _ hS => ?_)
        obtain ⟨r47, rfl, hw⟩ := hq
        refine W.eq (g2 := F0 m 110 ls [.int r47]) rfl ?_
        refine lv_if_ne (tgt := 115) C.x C.b dX9_readCommand_110 (by decide) (fun c48 => ?_) (fun c48 => ?_)
        · have hw := hw.2 c48
          refine lv_iinc (v := (x4 + 1)) (lv' := [(4, .int (x4 + 1)), (0, .ref x0), (3, .int x3)]) C.x C.b dX9_readCommand_115 hl (k := 2) rfl rfl (by decide) rfl (fun ls hl => ?_)
          refine lv_goto (tgt := 91) C.x C.b dX9_readCommand_118 (by decide) ?_
          exact ih _ _ _ _ _ _ _ hS (lv_sub hl [1, 2, 0] rfl) hw
        · have hw := hw.1 c48
          refine lv_iconst (v := 0) C.x C.b dX9_readCommand_113 (by decide) ?_
          exact g_zret C hS rfl ⟨_, rfl, hw⟩ dX9_readCommand_114
def wJ_X9_readCommand_13 (E : gE) (Q : Int32 → gW → Prop) : Nat → Nat → Int32 → Nat → gW → Prop
  | 0, _, _, _, _ => False
  | n + 1, x0, x1, x2, w => aKind E x0 7 (wJ_X9_isAt E x0 97 122 (fun r7 w6 => (r7 = 0 → (aKind E x2 9 (wJ_J17_toString E x2 (fun r10 w9 => ∃ a11 : Nat, r10 = some a11 ∧ (wJ_X1_commandOf E a11 (fun r13 w12 => aP x0 7 2 (va_rf r13) (fun w14 => aR E x0 7 2 (fun r15 => (r15 = none → (aP x0 7 0 (.int x1) (fun w23 => Q 0 w23) w14)) ∧ (¬ r15 = none → (aKind E x2 9 (wJ_J17_toString E x2 (fun r18 w17 => ∃ a19 : Nat, r18 = some a19 ∧ (wJ_X1_numbersOf E a19 (fun r21 w20 => ∃ k22 : Nat, wJ_X9_readCommand_91 E Q k22 x0 r21 0 w20) w17)) w14) w14))) w14) w12) w9)) w6) w6)) ∧ (¬ r7 = 0 → (aR E x0 7 4 (fun r24 => ∃ a25 : Nat, r24 = some a25 ∧ (aR E a25 0 3 (fun r26 => aI E x0 7 0 (fun v27 => ∃ a28 : Nat, r26 = some a28 ∧ (aL E 1 a28 v27 (fun v29 => aKind E x2 9 (wJ_J17_append E x2 ((v29.toUInt32 % 65536).toInt32) (fun r31 w30 => aI E x0 7 0 (fun v32 => aP x0 7 0 (.int (v32 + 1)) (fun w33 => wJ_X9_readCommand_13 E Q n x0 x1 x2 w33) w30) w30) w6) w6) w6)) w6) w6)) w6))) w) w
theorem kJ_X9_readCommand_13 (C : gC p l s m args meth c cX9_readCommand 6 (some .boolean) RX9 E [] "readCommand") {Q : Int32 → gW → Prop} : ∀ (n : Nat) (x0 : Nat) (x1 : Int32) (x2 : Nat) (w : gW) (H : Heap) (locs : List Loc) (ls : Array Slot), gS E w0 w H locs → lv_has ls 6 [(0, .ref x0), (1, .int x1), (2, .ref x2)] → wJ_X9_readCommand_13 E Q n x0 x1 x2 w → gGo p l e s m args below meth c H locs 18 3102 E w0 w (gI Q) (gNoX) (F0 m 13 ls []) := by
  intro n
  induction n with
  | zero =>
    intro x0 x1 x2 w H locs ls hS hl hw
    exact hw.elim
  | succ n ih =>
    intro x0 x1 x2 w H locs ls hS hl hw
    unfold wJ_X9_readCommand_13 at hw
    refine lv_aload_n C.x C.b dX9_readCommand_13 rfl (lv_at hl 0 rfl) ?_
    refine lv_bipush (v := 97) C.x C.b dX9_readCommand_14 (by decide) ?_
    refine lv_bipush (v := 122) C.x C.b dX9_readCommand_16 (by decide) ?_
    obtain ⟨fs, hq, hw⟩ := hw
    refine a_callV (rest := []) C hS hl 7 hq rfl (kJ_X9_isAt C.tr hw) q454 q456 qs6 q102 q457 ny_X9_isAt rfl (Nat.le_of_ble_eq_true rfl) (Nat.le_of_ble_eq_true rfl) rfl (Nat.le_of_ble_eq_true rfl) dX9_readCommand_18 (fun X1 w1 H1 l1 q1 ce hx => hx.elim) (fun v w6 H locs hq _ hS => ?_)
    obtain ⟨r7, rfl, hw⟩ := hq
    refine W.eq (g2 := F0 m 21 ls [.int r7]) rfl ?_
    refine lv_if_eq (tgt := 55) C.x C.b dX9_readCommand_21 (by decide) (fun c8 => ?_) (fun c8 => ?_)
    · have hw := hw.1 c8
      refine lv_aload_n C.x C.b dX9_readCommand_55 rfl (lv_at hl 0 rfl) ?_
      refine lv_aload_n C.x C.b dX9_readCommand_56 rfl (lv_at hl 2 rfl) ?_
      obtain ⟨fs, hq, hw⟩ := hw
      refine a_callV (rest := [.ref x0]) C hS hl 9 hq rfl (kJ_J17_toString C.tr hw) q574 q575 q576 q104 q577 ny_J17_toString rfl (Nat.le_of_ble_eq_true rfl) (Nat.le_of_ble_eq_true rfl) rfl (Nat.le_of_ble_eq_true rfl) dX9_readCommand_57 (fun X1 w1 H1 l1 q1 ce hx => hx.elim) (fun v w9 H locs hq _ hS => ?_)
      obtain ⟨r10, rfl, hw⟩ := hq
      refine W.eq (g2 := F0 m 60 ls [va_rf r10, .ref x0]) rfl ?_
      obtain ⟨a11, e9, hw9⟩ := hw; subst e9; have hw := hw9; clear hw9
      have hl : lv_has ls 6 [(0, .ref x0), (1, .int x1), (2, .ref x2)] := hl
      refine W.eq (g2 := F0 m 60 ls [.ref a11, .ref x0]) rfl ?_
      refine g_callSN (rest := [.ref x0]) C hS hl (kJ_X1_commandOf C.tr hw) q779 q780 q77 q781 ny_X1_commandOf rfl (Nat.le_of_ble_eq_true rfl) (Nat.le_of_ble_eq_true rfl) rfl (Nat.le_of_ble_eq_true rfl) dX9_readCommand_60 (fun X1 w1 H1 l1 q1 ce hx => hx.elim) (fun v w12 H locs hq _ hS => ?_)
      obtain ⟨r13, rfl, hw⟩ := hq
      refine W.eq (g2 := F0 m 63 ls [va_rf r13, .ref x0]) rfl ?_
      refine a_P C hS in_X9 tyX9 tyX9_ok nmX9 rfl (k := 2) (ci := 7) (by decide) q430 (fun _ h9 => h9) rfl va_rf_nar va_rf_fit dX9_readCommand_63 hw (fun w14 H locs hw hS => ?_)
      refine lv_aload_n C.x C.b dX9_readCommand_66 rfl (lv_at hl 0 rfl) ?_
      refine a_R C hS in_X9 rfl (k := 2) (ci := 7) (by decide) q430 (fun _ h9 => h9) dX9_readCommand_67 hw (fun r15 hw => ?_)
      refine a_ifnonnull (tgt := 80) C dX9_readCommand_70 (by decide) (fun c16 => ?_) (fun c16 => ?_)
      · have hw := hw.2 c16
        refine lv_aload_n C.x C.b dX9_readCommand_80 rfl (lv_at hl 2 rfl) ?_
        obtain ⟨fs, hq, hw⟩ := hw
        refine a_callV (rest := []) C hS hl 9 hq rfl (kJ_J17_toString C.tr hw) q574 q575 q576 q104 q577 ny_J17_toString rfl (Nat.le_of_ble_eq_true rfl) (Nat.le_of_ble_eq_true rfl) rfl (Nat.le_of_ble_eq_true rfl) dX9_readCommand_81 (fun X1 w1 H1 l1 q1 ce hx => hx.elim) (fun v w17 H locs hq _ hS => ?_)
        obtain ⟨r18, rfl, hw⟩ := hq
        refine W.eq (g2 := F0 m 84 ls [va_rf r18]) rfl ?_
        obtain ⟨a19, e9, hw9⟩ := hw; subst e9; have hw := hw9; clear hw9
        have hl : lv_has ls 6 [(0, .ref x0), (1, .int x1), (2, .ref x2)] := hl
        refine W.eq (g2 := F0 m 84 ls [.ref a19]) rfl ?_
        refine g_callSN (rest := []) C hS hl (kJ_X1_numbersOf C.tr hw) q1151 q1152 q77 q1153 ny_X1_numbersOf rfl (Nat.le_of_ble_eq_true rfl) (Nat.le_of_ble_eq_true rfl) rfl (Nat.le_of_ble_eq_true rfl) dX9_readCommand_84 (fun X1 w1 H1 l1 q1 ce hx => hx.elim) (fun v w20 H locs hq _ hS => ?_)
        obtain ⟨r21, rfl, hw⟩ := hq
        refine W.eq (g2 := F0 m 87 ls [.int r21]) rfl ?_
        refine lv_istore_n (lv' := [(3, .int r21), (0, .ref x0), (1, .int x1), (2, .ref x2)]) C.x C.b dX9_readCommand_87 rfl hl (by decide) rfl (fun ls hl => ?_)
        refine lv_iconst (v := 0) C.x C.b dX9_readCommand_88 (by decide) ?_
        refine lv_istore (lv' := [(4, .int 0), (3, .int r21), (0, .ref x0), (1, .int x1), (2, .ref x2)]) C.x C.b dX9_readCommand_89 hl (by decide) rfl (fun ls hl => ?_)
        obtain ⟨k22, hw⟩ := hw
        exact kJ_X9_readCommand_91 C k22 _ _ _ _ _ _ _ hS (lv_sub hl [2, 1, 0] rfl) hw
      · have hw := hw.1 c16
        refine lv_aload_n C.x C.b dX9_readCommand_73 rfl (lv_at hl 0 rfl) ?_
        refine lv_iload_n C.x C.b dX9_readCommand_74 rfl (lv_at hl 1 rfl) ?_
        refine a_P C hS in_X9 tyX9 tyX9_ok nmX9 rfl (k := 0) (ci := 7) (by decide) q427 (fun _ h9 => h9) rfl rfl rfl dX9_readCommand_75 hw (fun w23 H locs hw hS => ?_)
        refine lv_iconst (v := 0) C.x C.b dX9_readCommand_78 (by decide) ?_
        exact g_zret C hS rfl ⟨_, rfl, hw⟩ dX9_readCommand_79
    · have hw := hw.2 c8
      refine lv_aload_n C.x C.b dX9_readCommand_24 rfl (lv_at hl 2 rfl) ?_
      refine lv_aload_n C.x C.b dX9_readCommand_25 rfl (lv_at hl 0 rfl) ?_
      refine a_R C hS in_X9 rfl (k := 4) (ci := 7) (by decide) q434 (fun _ h9 => h9) dX9_readCommand_26 hw (fun r24 hw => ?_)
      obtain ⟨a25, e9, hw9⟩ := hw; subst e9; have hw := hw9; clear hw9
      have hl : lv_has ls 6 [(0, .ref x0), (1, .int x1), (2, .ref x2)] := hl
      refine W.eq (g2 := F0 m 29 ls [.ref a25, .ref x2]) rfl ?_
      refine a_RN C hS in_X1 rfl (k := 3) (ci := 0) (by decide) q348 (fun _ h9 => h9) dX9_readCommand_29 hw (fun r26 hw => ?_)
      refine lv_aload_n C.x C.b dX9_readCommand_32 rfl (lv_at hl 0 rfl) ?_
      refine a_I C hS in_X9 rfl (k := 0) (ci := 7) (by decide) q427 (fun _ h9 => h9) dX9_readCommand_33 hw (fun v27 hw => ?_)
      obtain ⟨a28, e9, hw9⟩ := hw; subst e9; have hw := hw9; clear hw9
      have hl : lv_has ls 6 [(0, .ref x0), (1, .int x1), (2, .ref x2)] := hl
      refine W.eq (g2 := F0 m 36 ls [.int v27, .ref a28, .ref x2]) rfl ?_
      refine a_Lb C hS dX9_readCommand_36 hw (fun v29 hw => ?_)
      refine lv_i2c C.x C.b dX9_readCommand_37 rfl ?_
      obtain ⟨fs, hq, hw⟩ := hw
      refine a_callV (rest := []) C hS hl 9 hq rfl (kJ_J17_append C.tr hw) q496 q497 q498 q104 q499 ny_J17_append rfl (Nat.le_of_ble_eq_true rfl) (Nat.le_of_ble_eq_true rfl) rfl (Nat.le_of_ble_eq_true rfl) dX9_readCommand_38 (fun X1 w1 H1 l1 q1 ce hx => hx.elim) (fun v w30 H locs hq _ hS => ?_)
      obtain ⟨r31, rfl, hw⟩ := hq
      refine W.eq (g2 := F0 m 41 ls [va_rf r31]) rfl ?_
      refine lv_pop C.x C.b dX9_readCommand_41 a_cat ?_
      refine lv_aload_n C.x C.b dX9_readCommand_42 rfl (lv_at hl 0 rfl) ?_
      refine lv_dup C.x C.b dX9_readCommand_43 rfl ?_
      refine a_I C hS in_X9 rfl (k := 0) (ci := 7) (by decide) q427 (fun _ h9 => h9) dX9_readCommand_44 hw (fun v32 hw => ?_)
      refine lv_iconst (v := 1) C.x C.b dX9_readCommand_47 (by decide) ?_
      refine lv_iadd C.x C.b dX9_readCommand_48 ?_
      refine a_P C hS in_X9 tyX9 tyX9_ok nmX9 rfl (k := 0) (ci := 7) (by decide) q427 (fun _ h9 => h9) rfl rfl rfl dX9_readCommand_49 hw (fun w33 H locs hw hS => ?_)
      refine lv_goto (tgt := 13) C.x C.b dX9_readCommand_52 (by decide) ?_
      exact ih _ _ _ _ _ _ _ hS (lv_sub hl [0, 1, 2] rfl) hw
def wJ_X9_readCommand (E : gE) (i0 : Nat) (Q : Int32 → gW → Prop) (w : gW) : Prop :=
  aI E i0 7 0 (fun v1 => aN E 9 4 [.null, .int 0, .int 0, .int 0] (fun q2 w3 => wJ_J17_init E q2 (fun w4 => ∃ k5 : Nat, wJ_X9_readCommand_13 E Q k5 i0 v1 q2 w4) w3) w) w
theorem kJ_X9_readCommand_r (C : gC p l s m args meth c cX9_readCommand 6 (some .boolean) RX9 E [] "readCommand") (i0 : Nat) {Q : Int32 → gW → Prop} (w : gW) (H : Heap) (locs : List Loc) (ls : Array Slot) (hS : gS E w0 w H locs) (hl : lv_has ls 6 [(0, .ref i0)]) (hw : wJ_X9_readCommand E i0 Q w) : gGo p l e s m args below meth c H locs 18 3102 E w0 w (gI Q) (gNoX) (F0 m 0 ls []) := by
  unfold wJ_X9_readCommand at hw
  refine lv_aload_n C.x C.b dX9_readCommand_0 rfl (lv_at hl 0 rfl) ?_
  refine a_I C hS in_X9 rfl (k := 0) (ci := 7) (by decide) q427 (fun _ h9 => h9) dX9_readCommand_1 hw (fun v1 hw => ?_)
  refine lv_istore_n (lv' := [(1, .int v1), (0, .ref i0)]) C.x C.b dX9_readCommand_4 rfl hl (by decide) rfl (fun ls hl => ?_)
  refine a_N (ci := 9) (fs := [.null, .int 0, .int 0, .int 0]) C hS in_J17 tyJ17 tyJ17_ok rfl q465 q466 q104 (by decide) dX9_readCommand_5 hw (fun q2 w3 H hw hS => ?_)
  refine lv_dup C.x C.b dX9_readCommand_8 rfl ?_
  refine g_callI (rest := [.ref q2]) C hS hl (kJ_J17_init C.tr hw) rfl q467 q468 q104 q469 ny_J17_init rfl (Nat.le_of_ble_eq_true rfl) (Nat.le_of_ble_eq_true rfl) rfl (Nat.le_of_ble_eq_true rfl) dX9_readCommand_9 (fun X1 w1 H1 l1 q1 ce hx => hx.elim) (fun v w4 H locs hq _ hS => ?_)
  obtain ⟨rfl, hw⟩ := hq
  refine W.eq (g2 := F0 m 12 ls [.ref q2]) rfl ?_
  refine lv_astore_n (lv' := [(2, .ref q2), (1, .int v1), (0, .ref i0)]) C.x C.b dX9_readCommand_12 rfl hl (by decide) rfl (fun ls hl => ?_)
  obtain ⟨k5, hw⟩ := hw
  exact kJ_X9_readCommand_13 C k5 _ _ _ _ _ _ _ hS (lv_sub hl [2, 1, 0] rfl) hw
theorem ny_X9_readCommand : gNm yX9_readCommand 0 = true := by decide +kernel
theorem kJ_X9_readCommand {l : Launch} (ht : l.stackTraces = false) {w : gW} {i0 : Nat} {Q : Int32 → gW → Prop} (hw : wJ_X9_readCommand E i0 Q w) : gMet l yX9_readCommand (ws_ yX9_readCommand cX9_readCommand 6 (some .boolean)) E w [.ref i0] 18 3102 (gI Q) (gNoX) :=
  g_ofW ht (by decide) (Nat.le_of_ble_eq_true rfl) (fun p e s m below meth c ls H C hl hS => kJ_X9_readCommand_r C _ _ _ _ _ hS hl hw)
def wJ_X9_next (E : gE) (i0 : Nat) (Q : Int32 → gW → Prop) (w : gW) : Prop :=
  aKind E i0 7 (wJ_X9_spaces E i0 (fun r2 w1 => aI E i0 7 0 (fun v3 => aR E i0 7 4 (fun r4 => ∃ a5 : Nat, r4 = some a5 ∧ (aI E a5 0 4 (fun v6 => (v3 = v6 → (Q 0 w1)) ∧ (¬ v3 = v6 → (aI E i0 7 1 (fun v8 => (v8 = (-1) → (aKind E i0 7 (wJ_X9_readCommand E i0 (fun r11 w10 => (r11 = 0 → (aI E i0 7 0 (fun v13 => aP i0 7 1 (.int v13) (fun w14 => Q 1 w14) w10) w10)) ∧ (¬ r11 = 0 → (Q 1 w10))) w1) w1)) ∧ (¬ v8 = (-1) → (Q 0 w1))) w1))) w1)) w1) w1) w) w
theorem kJ_X9_next_r (C : gC p l s m args meth c cX9_next 2 (some .boolean) RX9 E [] "next") (i0 : Nat) {Q : Int32 → gW → Prop} (w : gW) (H : Heap) (locs : List Loc) (ls : Array Slot) (hS : gS E w0 w H locs) (hl : lv_has ls 2 [(0, .ref i0)]) (hw : wJ_X9_next E i0 Q w) : gGo p l e s m args below meth c H locs 19 3127 E w0 w (gI Q) (gNoX) (F0 m 0 ls []) := by
  unfold wJ_X9_next at hw
  refine lv_aload_n C.x C.b dX9_next_0 rfl (lv_at hl 0 rfl) ?_
  obtain ⟨fs, hq, hw⟩ := hw
  refine a_callV (rest := []) C hS hl 7 hq rfl (kJ_X9_spaces C.tr hw) q450 q452 qs5 q102 q453 ny_X9_spaces rfl (Nat.le_of_ble_eq_true rfl) (Nat.le_of_ble_eq_true rfl) rfl (Nat.le_of_ble_eq_true rfl) dX9_next_1 (fun X1 w1 H1 l1 q1 ce hx => hx.elim) (fun v w1 H locs hq _ hS => ?_)
  obtain ⟨r2, rfl, hw⟩ := hq
  refine W.eq (g2 := F0 m 4 ls [.int r2]) rfl ?_
  refine lv_istore_n (lv' := [(1, .int r2), (0, .ref i0)]) C.x C.b dX9_next_4 rfl hl (by decide) rfl (fun ls hl => ?_)
  refine lv_aload_n C.x C.b dX9_next_5 rfl (lv_at hl 1 rfl) ?_
  refine a_I C hS in_X9 rfl (k := 0) (ci := 7) (by decide) q427 (fun _ h9 => h9) dX9_next_6 hw (fun v3 hw => ?_)
  refine lv_aload_n C.x C.b dX9_next_9 rfl (lv_at hl 1 rfl) ?_
  refine a_R C hS in_X9 rfl (k := 4) (ci := 7) (by decide) q434 (fun _ h9 => h9) dX9_next_10 hw (fun r4 hw => ?_)
  obtain ⟨a5, e9, hw9⟩ := hw; subst e9; have hw := hw9; clear hw9
  have hl : lv_has ls 2 [(1, .int r2), (0, .ref i0)] := hl
  refine W.eq (g2 := F0 m 13 ls [.ref a5, .int v3]) rfl ?_
  refine a_IN C hS in_X1 rfl (k := 4) (ci := 0) (by decide) q350 (fun _ h9 => h9) dX9_next_13 hw (fun v6 hw => ?_)
  refine lv_icmp_eq (tgt := 27) C.x C.b dX9_next_16 (by decide) (fun c7 => ?_) (fun c7 => ?_)
  · have hw := hw.1 c7
    refine lv_iconst (v := 0) C.x C.b dX9_next_27 (by decide) ?_
    exact g_zret C hS rfl ⟨_, rfl, hw⟩ dX9_next_28
  · have hw := hw.2 c7
    refine lv_aload_n C.x C.b dX9_next_19 rfl (lv_at hl 1 rfl) ?_
    refine a_I C hS in_X9 rfl (k := 1) (ci := 7) (by decide) q428 (fun _ h9 => h9) dX9_next_20 hw (fun v8 hw => ?_)
    refine lv_iconst (v := (-1)) C.x C.b dX9_next_23 (by decide) ?_
    refine lv_icmp_eq (tgt := 29) C.x C.b dX9_next_24 (by decide) (fun c9 => ?_) (fun c9 => ?_)
    · have hw := hw.1 c9
      refine lv_aload_n C.x C.b dX9_next_29 rfl (lv_at hl 1 rfl) ?_
      obtain ⟨fs, hq, hw⟩ := hw
      refine a_callV (rest := []) C hS hl 7 hq rfl (kJ_X9_readCommand C.tr hw) q461 q463 qs7 q102 q464 ny_X9_readCommand rfl (Nat.le_of_ble_eq_true rfl) (Nat.le_of_ble_eq_true rfl) rfl (Nat.le_of_ble_eq_true rfl) dX9_next_30 (fun X1 w1 H1 l1 q1 ce hx => hx.elim) (fun v w10 H locs hq _ hS => ?_)
      obtain ⟨r11, rfl, hw⟩ := hq
      refine W.eq (g2 := F0 m 33 ls [.int r11]) rfl ?_
      refine lv_if_ne (tgt := 44) C.x C.b dX9_next_33 (by decide) (fun c12 => ?_) (fun c12 => ?_)
      · have hw := hw.2 c12
        refine lv_iconst (v := 1) C.x C.b dX9_next_44 (by decide) ?_
        exact g_zret C hS rfl ⟨_, rfl, hw⟩ dX9_next_45
      · have hw := hw.1 c12
        refine lv_aload_n C.x C.b dX9_next_36 rfl (lv_at hl 1 rfl) ?_
        refine lv_aload_n C.x C.b dX9_next_37 rfl (lv_at hl 1 rfl) ?_
        refine a_I C hS in_X9 rfl (k := 0) (ci := 7) (by decide) q427 (fun _ h9 => h9) dX9_next_38 hw (fun v13 hw => ?_)
        refine a_P C hS in_X9 tyX9 tyX9_ok nmX9 rfl (k := 1) (ci := 7) (by decide) q428 (fun _ h9 => h9) rfl rfl rfl dX9_next_41 hw (fun w14 H locs hw hS => ?_)
        refine lv_iconst (v := 1) C.x C.b dX9_next_44 (by decide) ?_
        exact g_zret C hS rfl ⟨_, rfl, hw⟩ dX9_next_45
    · have hw := hw.2 c9
      refine lv_iconst (v := 0) C.x C.b dX9_next_27 (by decide) ?_
      exact g_zret C hS rfl ⟨_, rfl, hw⟩ dX9_next_28
theorem ny_X9_next : gNm yX9_next 0 = true := by decide +kernel
theorem kJ_X9_next {l : Launch} (ht : l.stackTraces = false) {w : gW} {i0 : Nat} {Q : Int32 → gW → Prop} (hw : wJ_X9_next E i0 Q w) : gMet l yX9_next (ws_ yX9_next cX9_next 2 (some .boolean)) E w [.ref i0] 19 3127 (gI Q) (gNoX) :=
  g_ofW ht (by decide) (Nat.le_of_ble_eq_true rfl) (fun p e s m below meth c ls H C hl hS => kJ_X9_next_r C _ _ _ _ _ hS hl hw)
def wJ_X1_init (E : gE) (i0 : Nat) (Q : gW → Prop) (w : gW) : Prop :=
  wJ_X2_begun E 4 (fun r2 w1 => aP i0 0 0 (va_rf r2) (fun w3 => aAr E 4 3 (fun q4 w5 => aP i0 0 1 (.ref q4) (fun w6 => aA E 1 120 (fun q7 w8 => aP i0 0 3 (.ref q7) (fun w9 => Q w9) w8) w6) w5) w3) w1) w
theorem kJ_X1_init_r (C : gC p l s m args meth c cX1_init 1 none RX1 E [] "<init>") (i0 : Nat) {Q : gW → Prop} (w : gW) (H : Heap) (locs : List Loc) (ls : Array Slot) (hS : gS E w0 w H locs) (hl : lv_has ls 1 [(0, .ref i0)]) (hw : wJ_X1_init E i0 Q w) : gGo p l e s m args below meth c H locs 8 214 E w0 w (gV Q) (gNoX) (F0 m 0 ls []) := by
  unfold wJ_X1_init at hw
  refine lv_aload_n C.x C.b dX1_init_0 rfl (lv_at hl 0 rfl) ?_
  refine W.objInit C.x C.b C.ow (C.ts _ q114) (C.ts _ q115) (C.ts _ q116) rfl (by rw [C.ml]; exact hl.1) rfl dX1_init_1 (Nat.le_of_ble_eq_true rfl) (Nat.le_of_ble_eq_true rfl) ?_
  refine W.eq (g2 := F0 m 4 ls []) rfl ?_
  refine lv_aload_n C.x C.b dX1_init_4 rfl (lv_at hl 0 rfl) ?_
  refine lv_iconst (v := 4) C.x C.b dX1_init_5 (by decide) ?_
  refine g_callS (rest := [.ref i0]) C hS hl (kJ_X2_begun C.tr hw) q117 q118 q78 q119 ny_X2_begun rfl (Nat.le_of_ble_eq_true rfl) (Nat.le_of_ble_eq_true rfl) rfl (Nat.le_of_ble_eq_true rfl) dX1_init_6 (fun X1 w1 H1 l1 q1 ce hx => hx.elim) (fun v w1 H locs hq _ hS => ?_)
  obtain ⟨r2, rfl, hw⟩ := hq
  refine W.eq (g2 := F0 m 9 ls [va_rf r2, .ref i0]) rfl ?_
  refine a_P C hS in_X1 tyX1 tyX1_ok nmX1 rfl (k := 0) (ci := 0) (by decide) q345 (fun _ h9 => h9) rfl va_rf_nar va_rf_fit dX1_init_9 hw (fun w3 H locs hw hS => ?_)
  refine lv_aload_n C.x C.b dX1_init_12 rfl (lv_at hl 0 rfl) ?_
  refine lv_iconst (v := 3) C.x C.b dX1_init_13 (by decide) ?_
  refine a_Ar (t := 4) C hS rfl q343 q344 dX1_init_14 hw (fun q4 w5 H hw hS => ?_)
  refine a_PF C hS in_X1 tyX1 tyX1_ok nmX1 rfl (k := 1) (ci := 0) (by decide) q346 (fun _ h9 => h9) rfl rfl rfl rfl dX1_init_17 hw (fun w6 H locs hw hS => ?_)
  refine lv_aload_n C.x C.b dX1_init_20 rfl (lv_at hl 0 rfl) ?_
  refine lv_bipush (v := 120) C.x C.b dX1_init_21 (by decide) ?_
  refine a_A (t := 1) (atype := .byte) C hS rfl (by decide) q363 dX1_init_23 hw (fun q7 w8 H hw hS => ?_)
  refine a_PF C hS in_X1 tyX1 tyX1_ok nmX1 rfl (k := 3) (ci := 0) (by decide) q349 (fun _ h9 => h9) rfl rfl rfl rfl dX1_init_25 hw (fun w9 H locs hw hS => ?_)
  exact g_vret C hS ⟨rfl, hw⟩ dX1_init_28
theorem ny_X1_init : gNm yX1_init 0 = true := by decide +kernel
theorem kJ_X1_init {l : Launch} (ht : l.stackTraces = false) {w : gW} {i0 : Nat} {Q : gW → Prop} (hw : wJ_X1_init E i0 Q w) : gMet l yX1_init (ws_ yX1_init cX1_init 1 none) E w [.ref i0] 8 214 (gV Q) (gNoX) :=
  g_ofW ht (by decide) (Nat.le_of_ble_eq_true rfl) (fun p e s m below meth c ls H C hl hS => kJ_X1_init_r C _ _ _ _ _ hS hl hw)
def wJ_X1_time (E : gE) (i0 : Nat) (Q : Int32 → gW → Prop) (w : gW) : Prop :=
  aR E i0 0 0 (fun r1 => ∃ a2 : Nat, r1 = some a2 ∧ (aI E a2 1 6 (fun v3 => Q v3 w) w)) w
theorem kJ_X1_time_r (C : gC p l s m args meth c cX1_time 1 (some .int) RX1 E [] "time") (i0 : Nat) {Q : Int32 → gW → Prop} (w : gW) (H : Heap) (locs : List Loc) (ls : Array Slot) (hS : gS E w0 w H locs) (hl : lv_has ls 1 [(0, .ref i0)]) (hw : wJ_X1_time E i0 Q w) : gGo p l e s m args below meth c H locs 0 0 E w0 w (gI Q) (gNoX) (F0 m 0 ls []) := by
  unfold wJ_X1_time at hw
  refine lv_aload_n C.x C.b dX1_time_0 rfl (lv_at hl 0 rfl) ?_
  refine a_R C hS in_X1 rfl (k := 0) (ci := 0) (by decide) q345 (fun _ h9 => h9) dX1_time_1 hw (fun r1 hw => ?_)
  obtain ⟨a2, e9, hw9⟩ := hw; subst e9; have hw := hw9; clear hw9
  have hl : lv_has ls 1 [(0, .ref i0)] := hl
  refine W.eq (g2 := F0 m 4 ls [.ref a2]) rfl ?_
  refine a_IN C hS in_X2 rfl (k := 6) (ci := 1) (by decide) q163 (fun _ h9 => h9) dX1_time_4 hw (fun v3 hw => ?_)
  exact g_iret C hS ⟨_, rfl, hw⟩ dX1_time_7
theorem ny_X1_time : gNm yX1_time 0 = true := by decide +kernel
theorem kJ_X1_time {l : Launch} (ht : l.stackTraces = false) {w : gW} {i0 : Nat} {Q : Int32 → gW → Prop} (hw : wJ_X1_time E i0 Q w) : gMet l yX1_time (ws_ yX1_time cX1_time 1 (some .int)) E w [.ref i0] 0 0 (gI Q) (gNoX) :=
  g_ofW ht (by decide) (Nat.le_of_ble_eq_true rfl) (fun p e s m below meth c ls H C hl hS => kJ_X1_time_r C _ _ _ _ _ hS hl hw)
def wJ_X1_links (E : gE) (i0 : Nat) (Q : Int32 → gW → Prop) (w : gW) : Prop :=
  aR E i0 0 0 (fun r1 => ∃ a2 : Nat, r1 = some a2 ∧ (aR E a2 1 1 (fun r3 => ∃ a4 : Nat, r3 = some a4 ∧ (aKind E a4 8 (wJ_J2_size E a4 (fun r6 w5 => Q r6 w5) w) w)) w)) w
theorem kJ_X1_links_r (C : gC p l s m args meth c cX1_links 1 (some .int) RX1 E [] "links") (i0 : Nat) {Q : Int32 → gW → Prop} (w : gW) (H : Heap) (locs : List Loc) (ls : Array Slot) (hS : gS E w0 w H locs) (hl : lv_has ls 1 [(0, .ref i0)]) (hw : wJ_X1_links E i0 Q w) : gGo p l e s m args below meth c H locs 1 20 E w0 w (gI Q) (gNoX) (F0 m 0 ls []) := by
  unfold wJ_X1_links at hw
  refine lv_aload_n C.x C.b dX1_links_0 rfl (lv_at hl 0 rfl) ?_
  refine a_R C hS in_X1 rfl (k := 0) (ci := 0) (by decide) q345 (fun _ h9 => h9) dX1_links_1 hw (fun r1 hw => ?_)
  obtain ⟨a2, e9, hw9⟩ := hw; subst e9; have hw := hw9; clear hw9
  have hl : lv_has ls 1 [(0, .ref i0)] := hl
  refine W.eq (g2 := F0 m 4 ls [.ref a2]) rfl ?_
  refine a_RN C hS in_X2 rfl (k := 1) (ci := 1) (by decide) q155 (fun _ h9 => h9) dX1_links_4 hw (fun r3 hw => ?_)
  obtain ⟨a4, e9, hw9⟩ := hw; subst e9; have hw := hw9; clear hw9
  have hl : lv_has ls 1 [(0, .ref i0)] := hl
  refine W.eq (g2 := F0 m 7 ls [.ref a4]) rfl ?_
  obtain ⟨fs, hq, hw⟩ := hw
  refine a_callV (rest := []) C hS hl 8 hq rfl (kJ_J2_size C.tr hw) q372 q373 q374 q81 q375 ny_J2_size rfl (Nat.le_of_ble_eq_true rfl) (Nat.le_of_ble_eq_true rfl) rfl (Nat.le_of_ble_eq_true rfl) dX1_links_7 (fun X1 w1 H1 l1 q1 ce hx => hx.elim) (fun v w5 H locs hq _ hS => ?_)
  obtain ⟨r6, rfl, hw⟩ := hq
  refine W.eq (g2 := F0 m 10 ls [.int r6]) rfl ?_
  exact g_iret C hS ⟨_, rfl, hw⟩ dX1_links_10
theorem ny_X1_links : gNm yX1_links 0 = true := by decide +kernel
theorem kJ_X1_links {l : Launch} (ht : l.stackTraces = false) {w : gW} {i0 : Nat} {Q : Int32 → gW → Prop} (hw : wJ_X1_links E i0 Q w) : gMet l yX1_links (ws_ yX1_links cX1_links 1 (some .int)) E w [.ref i0] 1 20 (gI Q) (gNoX) :=
  g_ofW ht (by decide) (Nat.le_of_ble_eq_true rfl) (fun p e s m below meth c ls H C hl hS => kJ_X1_links_r C _ _ _ _ _ hS hl hw)
def wJ_X1_isForest (E : gE) (i0 : Nat) (Q : Int32 → gW → Prop) (w : gW) : Prop :=
  aR E i0 0 0 (fun r1 => ∃ a2 : Nat, r1 = some a2 ∧ (aKind E a2 1 (wJ_X2_isForest E a2 (fun r4 w3 => narrow .boolean (.int r4) = .int r4 ∧ Q r4 w3) w) w)) w
theorem kJ_X1_isForest_r (C : gC p l s m args meth c cX1_isForest 1 (some .boolean) RX1 E [] "isForest") (i0 : Nat) {Q : Int32 → gW → Prop} (w : gW) (H : Heap) (locs : List Loc) (ls : Array Slot) (hS : gS E w0 w H locs) (hl : lv_has ls 1 [(0, .ref i0)]) (hw : wJ_X1_isForest E i0 Q w) : gGo p l e s m args below meth c H locs 5 111 E w0 w (gI Q) (gNoX) (F0 m 0 ls []) := by
  unfold wJ_X1_isForest at hw
  refine lv_aload_n C.x C.b dX1_isForest_0 rfl (lv_at hl 0 rfl) ?_
  refine a_R C hS in_X1 rfl (k := 0) (ci := 0) (by decide) q345 (fun _ h9 => h9) dX1_isForest_1 hw (fun r1 hw => ?_)
  obtain ⟨a2, e9, hw9⟩ := hw; subst e9; have hw := hw9; clear hw9
  have hl : lv_has ls 1 [(0, .ref i0)] := hl
  refine W.eq (g2 := F0 m 4 ls [.ref a2]) rfl ?_
  obtain ⟨fs, hq, hw⟩ := hw
  refine a_callV (rest := []) C hS hl 1 hq rfl (kJ_X2_isForest C.tr hw) q380 q381 q382 q78 q383 ny_X2_isForest rfl (Nat.le_of_ble_eq_true rfl) (Nat.le_of_ble_eq_true rfl) rfl (Nat.le_of_ble_eq_true rfl) dX1_isForest_4 (fun X1 w1 H1 l1 q1 ce hx => hx.elim) (fun v w3 H locs hq _ hS => ?_)
  obtain ⟨r4, rfl, hw⟩ := hq
  refine W.eq (g2 := F0 m 7 ls [.int r4]) rfl ?_
  exact g_zret C hS hw.1 ⟨_, rfl, hw.2⟩ dX1_isForest_7
theorem ny_X1_isForest : gNm yX1_isForest 0 = true := by decide +kernel
theorem kJ_X1_isForest {l : Launch} (ht : l.stackTraces = false) {w : gW} {i0 : Nat} {Q : Int32 → gW → Prop} (hw : wJ_X1_isForest E i0 Q w) : gMet l yX1_isForest (ws_ yX1_isForest cX1_isForest 1 (some .boolean)) E w [.ref i0] 5 111 (gI Q) (gNoX) :=
  g_ofW ht (by decide) (Nat.le_of_ble_eq_true rfl) (fun p e s m below meth c ls H C hl hS => kJ_X1_isForest_r C _ _ _ _ _ hS hl hw)
def wJ_X1_clearScript (E : gE) (i0 : Nat) (Q : Int32 → gW → Prop) (w : gW) : Prop :=
  aI E i0 0 4 (fun v1 => aP i0 0 4 (.int 0) (fun w2 => Q v1 w2) w) w
theorem kJ_X1_clearScript_r (C : gC p l s m args meth c cX1_clearScript 2 (some .int) RX1 E [] "clearScript") (i0 : Nat) {Q : Int32 → gW → Prop} (w : gW) (H : Heap) (locs : List Loc) (ls : Array Slot) (hS : gS E w0 w H locs) (hl : lv_has ls 2 [(0, .ref i0)]) (hw : wJ_X1_clearScript E i0 Q w) : gGo p l e s m args below meth c H locs 0 0 E w0 w (gI Q) (gNoX) (F0 m 0 ls []) := by
  unfold wJ_X1_clearScript at hw
  refine lv_aload_n C.x C.b dX1_clearScript_0 rfl (lv_at hl 0 rfl) ?_
  refine a_I C hS in_X1 rfl (k := 4) (ci := 0) (by decide) q351 (fun _ h9 => h9) dX1_clearScript_1 hw (fun v1 hw => ?_)
  refine lv_istore_n (lv' := [(1, .int v1), (0, .ref i0)]) C.x C.b dX1_clearScript_4 rfl hl (by decide) rfl (fun ls hl => ?_)
  refine lv_aload_n C.x C.b dX1_clearScript_5 rfl (lv_at hl 1 rfl) ?_
  refine lv_iconst (v := 0) C.x C.b dX1_clearScript_6 (by decide) ?_
  refine a_P C hS in_X1 tyX1 tyX1_ok nmX1 rfl (k := 4) (ci := 0) (by decide) q351 (fun _ h9 => h9) rfl rfl rfl dX1_clearScript_7 hw (fun w2 H locs hw hS => ?_)
  refine lv_iload_n C.x C.b dX1_clearScript_10 rfl (lv_at hl 0 rfl) ?_
  exact g_iret C hS ⟨_, rfl, hw⟩ dX1_clearScript_11
theorem ny_X1_clearScript : gNm yX1_clearScript 0 = true := by decide +kernel
theorem kJ_X1_clearScript {l : Launch} (ht : l.stackTraces = false) {w : gW} {i0 : Nat} {Q : Int32 → gW → Prop} (hw : wJ_X1_clearScript E i0 Q w) : gMet l yX1_clearScript (ws_ yX1_clearScript cX1_clearScript 2 (some .int)) E w [.ref i0] 0 0 (gI Q) (gNoX) :=
  g_ofW ht (by decide) (Nat.le_of_ble_eq_true rfl) (fun p e s m below meth c ls H C hl hS => kJ_X1_clearScript_r C _ _ _ _ _ hS hl hw)
def wJ_X1_carryOut_11 (E : gE) (Q : Int32 → gW → Prop) : Nat → Nat → Nat → Int32 → gW → Prop
  | 0, _, _, _, _ => False
  | n + 1, x1, x2, x3, w => aKind E x2 7 (wJ_X9_next E x2 (fun r6 w5 => (r6 = 0 → (Q x3 w5)) ∧ (¬ r6 = 0 → (aR E x2 7 2 (fun r8 => aR E x2 7 3 (fun r9 => ∃ a10 : Nat, r9 = some a10 ∧ (aL E 0 a10 0 (fun v11 => aR E x2 7 3 (fun r12 => ∃ a13 : Nat, r12 = some a13 ∧ (aL E 0 a13 1 (fun v14 => aR E x2 7 3 (fun r15 => ∃ a16 : Nat, r15 = some a16 ∧ (aL E 0 a16 2 (fun v17 => ∃ a18 : Nat, r8 = some a18 ∧ (aRun E a18 x1 v11 v14 v17 (fun r20 w19 => wJ_X1_carryOut_11 E Q n x1 x2 (x3 + 1) w19) (fun Y w21 => (Y = "java/lang/IndexOutOfBoundsException" ∧ (Q x3 w21)) ∨ (Y = "java/lang/IllegalArgumentException" ∧ aNc E "java/lang/IllegalArgumentException" "java/lang/IndexOutOfBoundsException" ∧ (Q x3 w21)) ∨ (Y = "java/lang/IllegalStateException" ∧ aNc E "java/lang/IllegalStateException" "java/lang/IndexOutOfBoundsException" ∧ aNc E "java/lang/IllegalStateException" "java/lang/IllegalArgumentException" ∧ (Q x3 w21))) w5)) w5)) w5) w5)) w5) w5)) w5) w5))) w) w
theorem kJ_X1_carryOut_11 (C : gC p l s m args meth c cX1_carryOut 5 (some .int) RX1 E (tableOf [(11, 54, 57, 1), (11, 54, 57, 7), (11, 54, 57, 10)]) "carryOut") {Q : Int32 → gW → Prop} : ∀ (n : Nat) (x1 : Nat) (x2 : Nat) (x3 : Int32) (w : gW) (H : Heap) (locs : List Loc) (ls : Array Slot), gS E w0 w H locs → lv_has ls 5 [(1, .ref x1), (2, .ref x2), (3, .int x3)] → wJ_X1_carryOut_11 E Q n x1 x2 x3 w → gGo p l e s m args below meth c H locs 20 3148 E w0 w (gI Q) (gNoX) (F0 m 11 ls []) := by
  intro n
  induction n with
  | zero =>
    intro x1 x2 x3 w H locs ls hS hl hw
    exact hw.elim
  | succ n ih =>
    intro x1 x2 x3 w H locs ls hS hl hw
    unfold wJ_X1_carryOut_11 at hw
    refine lv_aload_n C.x C.b dX1_carryOut_11 rfl (lv_at hl 1 rfl) ?_
    obtain ⟨fs, hq, hw⟩ := hw
    refine a_callV (rest := []) C hS hl 7 hq rfl (kJ_X9_next C.tr hw) q446 q447 q448 q102 q449 ny_X9_next rfl (Nat.le_of_ble_eq_true rfl) (Nat.le_of_ble_eq_true rfl) rfl (Nat.le_of_ble_eq_true rfl) dX1_carryOut_12 (fun X1 w1 H1 l1 q1 ce hx => hx.elim) (fun v w5 H locs hq _ hS => ?_)
    obtain ⟨r6, rfl, hw⟩ := hq
    refine W.eq (g2 := F0 m 15 ls [.int r6]) rfl ?_
    refine lv_if_eq (tgt := 54) C.x C.b dX1_carryOut_15 (by decide) (fun c7 => ?_) (fun c7 => ?_)
    · have hw := hw.1 c7
      refine lv_goto (tgt := 61) C.x C.b dX1_carryOut_54 (by decide) ?_
      refine lv_iload_n C.x C.b dX1_carryOut_61 rfl (lv_at hl 2 rfl) ?_
      exact g_iret C hS ⟨_, rfl, hw⟩ dX1_carryOut_62
    · have hw := hw.2 c7
      refine lv_aload_n C.x C.b dX1_carryOut_18 rfl (lv_at hl 1 rfl) ?_
      refine a_RN C hS in_X9 rfl (k := 2) (ci := 7) (by decide) q431 (fun _ h9 => h9) dX1_carryOut_19 hw (fun r8 hw => ?_)
      refine lv_aload_n C.x C.b dX1_carryOut_22 rfl (lv_at hl 0 rfl) ?_
      refine lv_aload_n C.x C.b dX1_carryOut_23 rfl (lv_at hl 1 rfl) ?_
      refine a_RN C hS in_X9 rfl (k := 3) (ci := 7) (by decide) q433 (fun _ h9 => h9) dX1_carryOut_24 hw (fun r9 hw => ?_)
      refine lv_iconst (v := 0) C.x C.b dX1_carryOut_27 (by decide) ?_
      obtain ⟨a10, e9, hw9⟩ := hw; subst e9; have hw := hw9; clear hw9
      have hl : lv_has ls 5 [(1, .ref x1), (2, .ref x2), (3, .int x3)] := hl
      refine W.eq (g2 := F0 m 28 ls [.int 0, .ref a10, .ref x1, va_rf r8]) rfl ?_
      refine a_Li C hS dX1_carryOut_28 hw (fun v11 hw => ?_)
      refine lv_aload_n C.x C.b dX1_carryOut_29 rfl (lv_at hl 1 rfl) ?_
      refine a_RN C hS in_X9 rfl (k := 3) (ci := 7) (by decide) q433 (fun _ h9 => h9) dX1_carryOut_30 hw (fun r12 hw => ?_)
      refine lv_iconst (v := 1) C.x C.b dX1_carryOut_33 (by decide) ?_
      obtain ⟨a13, e9, hw9⟩ := hw; subst e9; have hw := hw9; clear hw9
      have hl : lv_has ls 5 [(1, .ref x1), (2, .ref x2), (3, .int x3)] := hl
      refine W.eq (g2 := F0 m 34 ls [.int 1, .ref a13, .int v11, .ref x1, va_rf r8]) rfl ?_
      refine a_Li C hS dX1_carryOut_34 hw (fun v14 hw => ?_)
      refine lv_aload_n C.x C.b dX1_carryOut_35 rfl (lv_at hl 1 rfl) ?_
      refine a_RN C hS in_X9 rfl (k := 3) (ci := 7) (by decide) q433 (fun _ h9 => h9) dX1_carryOut_36 hw (fun r15 hw => ?_)
      refine lv_iconst (v := 2) C.x C.b dX1_carryOut_39 (by decide) ?_
      obtain ⟨a16, e9, hw9⟩ := hw; subst e9; have hw := hw9; clear hw9
      have hl : lv_has ls 5 [(1, .ref x1), (2, .ref x2), (3, .int x3)] := hl
      refine W.eq (g2 := F0 m 40 ls [.int 2, .ref a16, .int v14, .int v11, .ref x1, va_rf r8]) rfl ?_
      refine a_Li C hS dX1_carryOut_40 hw (fun v17 hw => ?_)
      obtain ⟨a18, e9, hw9⟩ := hw; subst e9; have hw := hw9; clear hw9
      have hl : lv_has ls 5 [(1, .ref x1), (2, .ref x2), (3, .int x3)] := hl
      refine W.eq (g2 := F0 m 41 ls [.int v17, .int v14, .int v11, .ref x1, .ref a18]) rfl ?_
      refine a_run (rest := []) C hS hl hw q1201 (Nat.le_of_ble_eq_true rfl) (Nat.le_of_ble_eq_true rfl) rfl (Nat.le_of_ble_eq_true rfl) dX1_carryOut_41 (fun X9 w21 H locs q9 ce9 hx9 _ hS hc9 hv9 hcl9 => ?_) (fun v w19 H locs hq _ hS => ?_)
      · rcases hx9 with ⟨rfl, hw⟩ | ⟨rfl, n0, hw⟩ | ⟨rfl, n0, n1, hw⟩
        · refine a_catch C hS [] ⟨11, 54, 57, 1⟩ [⟨11, 54, 57, 7⟩, ⟨11, 54, 57, 10⟩] rfl (fun _ h9 => nomatch h9) (by decide) (by decide) q873 q875 hc9 hv9 hcl9 ?_
          refine lv_astore (lv' := [(4, .ref q9), (1, .ref x1), (2, .ref x2), (3, .int x3)]) C.x C.b dX1_carryOut_57 hl (by decide) rfl (fun ls hl => ?_)
          refine lv_iload_n C.x C.b dX1_carryOut_59 rfl (lv_at hl 3 rfl) ?_
          exact g_iret C hS ⟨_, rfl, hw⟩ dX1_carryOut_60
        · refine a_catch C hS [⟨11, 54, 57, 1⟩] ⟨11, 54, 57, 7⟩ [⟨11, 54, 57, 10⟩] rfl (List.forall_mem_cons.mpr ⟨Or.inr ⟨by decide, _, q873, n0⟩, (fun _ h9 => nomatch h9)⟩) (by decide) (by decide) q893 q612 hc9 hv9 hcl9 ?_
          refine lv_astore (lv' := [(4, .ref q9), (1, .ref x1), (2, .ref x2), (3, .int x3)]) C.x C.b dX1_carryOut_57 hl (by decide) rfl (fun ls hl => ?_)
          refine lv_iload_n C.x C.b dX1_carryOut_59 rfl (lv_at hl 3 rfl) ?_
          exact g_iret C hS ⟨_, rfl, hw⟩ dX1_carryOut_60
        · refine a_catch C hS [⟨11, 54, 57, 1⟩, ⟨11, 54, 57, 7⟩] ⟨11, 54, 57, 10⟩ [] rfl (List.forall_mem_cons.mpr ⟨Or.inr ⟨by decide, _, q873, n0⟩, (List.forall_mem_cons.mpr ⟨Or.inr ⟨by decide, _, q893, n1⟩, (fun _ h9 => nomatch h9)⟩)⟩) (by decide) (by decide) q899 q901 hc9 hv9 hcl9 ?_
          refine lv_astore (lv' := [(4, .ref q9), (1, .ref x1), (2, .ref x2), (3, .int x3)]) C.x C.b dX1_carryOut_57 hl (by decide) rfl (fun ls hl => ?_)
          refine lv_iload_n C.x C.b dX1_carryOut_59 rfl (lv_at hl 3 rfl) ?_
          exact g_iret C hS ⟨_, rfl, hw⟩ dX1_carryOut_60
      obtain ⟨r20, rfl, hw⟩ := hq
      refine W.eq (g2 := F0 m 46 ls [.int r20]) rfl ?_
      refine lv_istore (lv' := [(4, .int r20), (1, .ref x1), (2, .ref x2), (3, .int x3)]) C.x C.b dX1_carryOut_46 hl (by decide) rfl (fun ls hl => ?_)
      refine lv_iinc (v := (x3 + 1)) (lv' := [(3, .int (x3 + 1)), (4, .int r20), (1, .ref x1), (2, .ref x2)]) C.x C.b dX1_carryOut_48 hl (k := 3) rfl rfl (by decide) rfl (fun ls hl => ?_)
      refine lv_goto (tgt := 11) C.x C.b dX1_carryOut_51 (by decide) ?_
      exact ih _ _ _ _ _ _ _ hS (lv_sub hl [2, 3, 0] rfl) hw
def wJ_X1_carryOut (E : gE) (i0 : Nat) (i1 : Nat) (Q : Int32 → gW → Prop) (w : gW) : Prop :=
  aN E 7 5 [.int 0, .int 0, .null, .null, .null] (fun q1 w2 => wJ_X9_init E q1 i0 (fun w3 => ∃ k4 : Nat, wJ_X1_carryOut_11 E Q k4 i1 q1 0 w3) w2) w
theorem kJ_X1_carryOut_r (C : gC p l s m args meth c cX1_carryOut 5 (some .int) RX1 E (tableOf [(11, 54, 57, 1), (11, 54, 57, 7), (11, 54, 57, 10)]) "carryOut") (i0 : Nat) (i1 : Nat) {Q : Int32 → gW → Prop} (w : gW) (H : Heap) (locs : List Loc) (ls : Array Slot) (hS : gS E w0 w H locs) (hl : lv_has ls 5 [(0, .ref i0), (1, .ref i1)]) (hw : wJ_X1_carryOut E i0 i1 Q w) : gGo p l e s m args below meth c H locs 20 3148 E w0 w (gI Q) (gNoX) (F0 m 0 ls []) := by
  unfold wJ_X1_carryOut at hw
  refine a_N (ci := 7) (fs := [.int 0, .int 0, .null, .null, .null]) C hS in_X9 tyX9 tyX9_ok rfl q421 q422 q102 (by decide) dX1_carryOut_0 hw (fun q1 w2 H hw hS => ?_)
  refine lv_dup C.x C.b dX1_carryOut_3 rfl ?_
  refine lv_aload_n C.x C.b dX1_carryOut_4 rfl (lv_at hl 0 rfl) ?_
  refine g_callIN (rest := [.ref q1]) C hS hl (kJ_X9_init C.tr hw) rfl q423 q424 q102 q425 ny_X9_init rfl (Nat.le_of_ble_eq_true rfl) (Nat.le_of_ble_eq_true rfl) rfl (Nat.le_of_ble_eq_true rfl) dX1_carryOut_5 (fun X1 w1 H1 l1 q1 ce hx => hx.elim) (fun v w3 H locs hq _ hS => ?_)
  obtain ⟨rfl, hw⟩ := hq
  refine W.eq (g2 := F0 m 8 ls [.ref q1]) rfl ?_
  refine lv_astore_n (lv' := [(2, .ref q1), (0, .ref i0), (1, .ref i1)]) C.x C.b dX1_carryOut_8 rfl hl (by decide) rfl (fun ls hl => ?_)
  refine lv_iconst (v := 0) C.x C.b dX1_carryOut_9 (by decide) ?_
  refine lv_istore_n (lv' := [(3, .int 0), (2, .ref q1), (0, .ref i0), (1, .ref i1)]) C.x C.b dX1_carryOut_10 rfl hl (by decide) rfl (fun ls hl => ?_)
  obtain ⟨k4, hw⟩ := hw
  exact kJ_X1_carryOut_11 C k4 _ _ _ _ _ _ _ hS (lv_sub hl [3, 1, 0] rfl) hw
theorem ny_X1_carryOut : gNm yX1_carryOut 1 = true := by decide +kernel
theorem kJ_X1_carryOut {l : Launch} (ht : l.stackTraces = false) {w : gW} {i0 : Nat} {i1 : Nat} {Q : Int32 → gW → Prop} (hw : wJ_X1_carryOut E i0 i1 Q w) : gMet l yX1_carryOut (wsW_ yX1_carryOut cX1_carryOut 5 (some .int) [(11, 54, 57, 1), (11, 54, 57, 7), (11, 54, 57, 10)]) E w [.ref i0, .ref i1] 20 3148 (gI Q) (gNoX) :=
  g_ofWH ht (by decide) (Nat.le_of_ble_eq_true rfl) (fun p e s m below meth c ls H C hl hS => kJ_X1_carryOut_r C _ _ _ _ _ _ hS hl hw)
def wJ_X1_become_32 (E : gE) (Q : Int32 → gW → Prop) (x0 : Nat) (x1 : Nat) (x2 : Int32) (w : gW) : Prop :=
  aR E x0 0 1 (fun r10 => aI E x0 0 2 (fun v11 => aR E x0 0 0 (fun r12 => ∃ a13 : Nat, r10 = some a13 ∧ (aSr E 4 a13 v11 r12 (fun w14 => aI E x0 0 2 (fun v15 => aP x0 0 2 (.int (v15 + 1)) (fun w16 => aP x0 0 0 (.ref x1) (fun w17 => Q x2 w17) w16) w14) w14) w)) w) w) w
theorem kJ_X1_become_32 (C : gC p l s m args meth c cX1_become 3 (some .int) RX1 E [] "become") {Q : Int32 → gW → Prop} (x0 : Nat) (x1 : Nat) (x2 : Int32) (w : gW) (H : Heap) (locs : List Loc) (ls : Array Slot) (hS : gS E w0 w H locs) (hl : lv_has ls 3 [(0, .ref x0), (1, .ref x1), (2, .int x2)]) (hw : wJ_X1_become_32 E Q x0 x1 x2 w) : gGo p l e s m args below meth c H locs 1 60 E w0 w (gI Q) (gNoX) (F0 m 32 ls []) := by
  unfold wJ_X1_become_32 at hw
  refine lv_aload_n C.x C.b dX1_become_32 rfl (lv_at hl 0 rfl) ?_
  refine a_R C hS in_X1 rfl (k := 1) (ci := 0) (by decide) q346 (fun _ h9 => h9) dX1_become_33 hw (fun r10 hw => ?_)
  refine lv_aload_n C.x C.b dX1_become_36 rfl (lv_at hl 0 rfl) ?_
  refine a_I C hS in_X1 rfl (k := 2) (ci := 0) (by decide) q347 (fun _ h9 => h9) dX1_become_37 hw (fun v11 hw => ?_)
  refine lv_aload_n C.x C.b dX1_become_40 rfl (lv_at hl 0 rfl) ?_
  refine a_R C hS in_X1 rfl (k := 0) (ci := 0) (by decide) q345 (fun _ h9 => h9) dX1_become_41 hw (fun r12 hw => ?_)
  obtain ⟨a13, e9, hw9⟩ := hw; subst e9; have hw := hw9; clear hw9
  have hl : lv_has ls 3 [(0, .ref x0), (1, .ref x1), (2, .int x2)] := hl
  refine W.eq (g2 := F0 m 44 ls [va_rf r12, .int v11, .ref a13]) rfl ?_
  refine a_Sr (t := 4) (r := r12) C hS rfl (Or.inl ⟨rfl, rfl⟩) dX1_become_44 hw (fun w14 H locs hw hS => ?_)
  refine lv_aload_n C.x C.b dX1_become_45 rfl (lv_at hl 0 rfl) ?_
  refine lv_dup C.x C.b dX1_become_46 rfl ?_
  refine a_I C hS in_X1 rfl (k := 2) (ci := 0) (by decide) q347 (fun _ h9 => h9) dX1_become_47 hw (fun v15 hw => ?_)
  refine lv_iconst (v := 1) C.x C.b dX1_become_50 (by decide) ?_
  refine lv_iadd C.x C.b dX1_become_51 ?_
  refine a_P C hS in_X1 tyX1 tyX1_ok nmX1 rfl (k := 2) (ci := 0) (by decide) q347 (fun _ h9 => h9) rfl rfl rfl dX1_become_52 hw (fun w16 H locs hw hS => ?_)
  refine lv_aload_n C.x C.b dX1_become_55 rfl (lv_at hl 0 rfl) ?_
  refine lv_aload_n C.x C.b dX1_become_56 rfl (lv_at hl 1 rfl) ?_
  refine a_P C hS in_X1 tyX1 tyX1_ok nmX1 rfl (k := 0) (ci := 0) (by decide) q345 (fun _ h9 => h9) rfl rfl rfl dX1_become_57 hw (fun w17 H locs hw hS => ?_)
  refine lv_iload_n C.x C.b dX1_become_60 rfl (lv_at hl 2 rfl) ?_
  exact g_iret C hS ⟨_, rfl, hw⟩ dX1_become_61
def wJ_X1_become (E : gE) (i0 : Nat) (i1 : Nat) (i2 : Int32) (Q : Int32 → gW → Prop) (w : gW) : Prop :=
  aI E i0 0 2 (fun v1 => (v1 = 3 → (aR E i0 0 1 (fun r3 => aR E i0 0 1 (fun r4 => ∃ a5 : Nat, r4 = some a5 ∧ (∃ a6 : Nat, r3 = some a6 ∧ (aCpr E 4 a6 1 a5 0 2 (fun w7 => aI E i0 0 2 (fun v8 => aP i0 0 2 (.int (v8 - 1)) (fun w9 => wJ_X1_become_32 E Q i0 i1 i2 w9) w7) w7) w))) w) w)) ∧ (¬ v1 = 3 → (wJ_X1_become_32 E Q i0 i1 i2 w))) w
theorem kJ_X1_become_r (C : gC p l s m args meth c cX1_become 3 (some .int) RX1 E [] "become") (i0 : Nat) (i1 : Nat) (i2 : Int32) {Q : Int32 → gW → Prop} (w : gW) (H : Heap) (locs : List Loc) (ls : Array Slot) (hS : gS E w0 w H locs) (hl : lv_has ls 3 [(0, .ref i0), (1, .ref i1), (2, .int i2)]) (hw : wJ_X1_become E i0 i1 i2 Q w) : gGo p l e s m args below meth c H locs 1 60 E w0 w (gI Q) (gNoX) (F0 m 0 ls []) := by
  unfold wJ_X1_become at hw
  refine lv_aload_n C.x C.b dX1_become_0 rfl (lv_at hl 0 rfl) ?_
  refine a_I C hS in_X1 rfl (k := 2) (ci := 0) (by decide) q347 (fun _ h9 => h9) dX1_become_1 hw (fun v1 hw => ?_)
  refine lv_iconst (v := 3) C.x C.b dX1_become_4 (by decide) ?_
  refine lv_icmp_ne (tgt := 32) C.x C.b dX1_become_5 (by decide) (fun c2 => ?_) (fun c2 => ?_)
  · have hw := hw.2 c2
    exact kJ_X1_become_32 C _ _ _ _ _ _ _ hS (lv_sub hl [0, 1, 2] rfl) hw
  · have hw := hw.1 c2
    refine lv_aload_n C.x C.b dX1_become_8 rfl (lv_at hl 0 rfl) ?_
    refine a_R C hS in_X1 rfl (k := 1) (ci := 0) (by decide) q346 (fun _ h9 => h9) dX1_become_9 hw (fun r3 hw => ?_)
    refine lv_iconst (v := 1) C.x C.b dX1_become_12 (by decide) ?_
    refine lv_aload_n C.x C.b dX1_become_13 rfl (lv_at hl 0 rfl) ?_
    refine a_R C hS in_X1 rfl (k := 1) (ci := 0) (by decide) q346 (fun _ h9 => h9) dX1_become_14 hw (fun r4 hw => ?_)
    refine lv_iconst (v := 0) C.x C.b dX1_become_17 (by decide) ?_
    refine lv_iconst (v := 2) C.x C.b dX1_become_18 (by decide) ?_
    obtain ⟨a5, e9, hw9⟩ := hw; subst e9; have hw := hw9; clear hw9
    have hl : lv_has ls 3 [(0, .ref i0), (1, .ref i1), (2, .int i2)] := hl
    refine W.eq (g2 := F0 m 19 ls [.int 2, .int 0, .ref a5, .int 1, va_rf r3]) rfl ?_
    obtain ⟨a6, e9, hw9⟩ := hw; subst e9; have hw := hw9; clear hw9
    have hl : lv_has ls 3 [(0, .ref i0), (1, .ref i1), (2, .int i2)] := hl
    refine W.eq (g2 := F0 m 19 ls [.int 2, .int 0, .ref a5, .int 1, .ref a6]) rfl ?_
    refine a_cpr (t := 4) C hS hl rfl (Or.inl ⟨rfl, rfl⟩) q1208 q339 q338 q87 (by decide) (Nat.le_of_ble_eq_true rfl) dX1_become_19 hw (fun w7 H locs hw hS => ?_)
    refine lv_aload_n C.x C.b dX1_become_22 rfl (lv_at hl 0 rfl) ?_
    refine lv_dup C.x C.b dX1_become_23 rfl ?_
    refine a_I C hS in_X1 rfl (k := 2) (ci := 0) (by decide) q347 (fun _ h9 => h9) dX1_become_24 hw (fun v8 hw => ?_)
    refine lv_iconst (v := 1) C.x C.b dX1_become_27 (by decide) ?_
    refine lv_isub C.x C.b dX1_become_28 ?_
    refine a_P C hS in_X1 tyX1 tyX1_ok nmX1 rfl (k := 2) (ci := 0) (by decide) q347 (fun _ h9 => h9) rfl rfl rfl dX1_become_29 hw (fun w9 H locs hw hS => ?_)
    exact kJ_X1_become_32 C _ _ _ _ _ _ _ hS (lv_sub hl [0, 1, 2] rfl) hw
theorem ny_X1_become : gNm yX1_become 2 = true := by decide +kernel
theorem kJ_X1_become {l : Launch} (ht : l.stackTraces = false) {w : gW} {i0 : Nat} {i1 : Nat} {i2 : Int32} {Q : Int32 → gW → Prop} (hw : wJ_X1_become E i0 i1 i2 Q w) : gMet l yX1_become (ws_ yX1_become cX1_become 3 (some .int)) E w [.ref i0, .ref i1, .int i2] 1 60 (gI Q) (gNoX) :=
  g_ofW ht (by decide) (Nat.le_of_ble_eq_true rfl) (fun p e s m below meth c ls H C hl hS => kJ_X1_become_r C _ _ _ _ _ _ _ hS hl hw)
def wJ_X1_run_11 (E : gE) (Q : Int32 → gW → Prop) : Nat → Nat → Nat → Int32 → gW → Prop
  | 0, _, _, _, _ => False
  | n + 1, x0, x1, x2, w => (x2 = 0 → (aI E x1 7 1 (fun v6 => (v6 = (-1) → (aR E x0 0 0 (fun r8 => ∃ a9 : Nat, r8 = some a9 ∧ (aKind E a9 1 (wJ_X2_copy E a9 (fun r11 w10 => ∃ a12 : Nat, r11 = some a12 ∧ (aKind E x0 0 (wJ_X1_carryOut E x0 a12 (fun r14 w13 => aKind E x0 0 (wJ_X1_become E x0 a12 r14 (fun r16 w15 => Q r16 w15) w13) w13) w10) w10)) w) w)) w)) ∧ (¬ v6 = (-1) → (aI E x1 7 1 (fun v17 => Q ((-10) - v17) w) w))) w)) ∧ (¬ x2 = 0 → (aKind E x1 7 (wJ_X9_next E x1 (fun r19 w18 => wJ_X1_run_11 E Q n x0 x1 r19 w18) w) w))
theorem kJ_X1_run_11 (C : gC p l s m args meth c cX1_run 4 (some .int) RX1 E [] "run") {Q : Int32 → gW → Prop} : ∀ (n : Nat) (x0 : Nat) (x1 : Nat) (x2 : Int32) (w : gW) (H : Heap) (locs : List Loc) (ls : Array Slot), gS E w0 w H locs → lv_has ls 4 [(0, .ref x0), (1, .ref x1), (2, .int x2)] → wJ_X1_run_11 E Q n x0 x1 x2 w → gGo p l e s m args below meth c H locs 21 3172 E w0 w (gI Q) (gNoX) (F0 m 11 ls []) := by
  intro n
  induction n with
  | zero =>
    intro x0 x1 x2 w H locs ls hS hl hw
    exact hw.elim
  | succ n ih =>
    intro x0 x1 x2 w H locs ls hS hl hw
    unfold wJ_X1_run_11 at hw
    refine lv_iload_n C.x C.b dX1_run_11 rfl (lv_at hl 2 rfl) ?_
    refine lv_if_eq (tgt := 23) C.x C.b dX1_run_12 (by decide) (fun c5 => ?_) (fun c5 => ?_)
    · have hw := hw.1 c5
      refine lv_aload_n C.x C.b dX1_run_23 rfl (lv_at hl 1 rfl) ?_
      refine a_IN C hS in_X9 rfl (k := 1) (ci := 7) (by decide) q429 (fun _ h9 => h9) dX1_run_24 hw (fun v6 hw => ?_)
      refine lv_iconst (v := (-1)) C.x C.b dX1_run_27 (by decide) ?_
      refine lv_icmp_eq (tgt := 39) C.x C.b dX1_run_28 (by decide) (fun c7 => ?_) (fun c7 => ?_)
      · have hw := hw.1 c7
        refine lv_aload_n C.x C.b dX1_run_39 rfl (lv_at hl 0 rfl) ?_
        refine a_R C hS in_X1 rfl (k := 0) (ci := 0) (by decide) q345 (fun _ h9 => h9) dX1_run_40 hw (fun r8 hw => ?_)
        obtain ⟨a9, e9, hw9⟩ := hw; subst e9; have hw := hw9; clear hw9
        have hl : lv_has ls 4 [(0, .ref x0), (1, .ref x1), (2, .int x2)] := hl
        refine W.eq (g2 := F0 m 43 ls [.ref a9]) rfl ?_
        obtain ⟨fs, hq, hw⟩ := hw
        refine a_callV (rest := []) C hS hl 1 hq rfl (kJ_X2_copy C.tr hw) q1158 q1159 q1160 q78 q1161 ny_X2_copy rfl (Nat.le_of_ble_eq_true rfl) (Nat.le_of_ble_eq_true rfl) rfl (Nat.le_of_ble_eq_true rfl) dX1_run_43 (fun X1 w1 H1 l1 q1 ce hx => hx.elim) (fun v w10 H locs hq _ hS => ?_)
        obtain ⟨r11, rfl, hw⟩ := hq
        refine W.eq (g2 := F0 m 46 ls [va_rf r11]) rfl ?_
        refine a_astore_n (lv' := [(3, va_rf r11), (0, .ref x0), (1, .ref x1), (2, .int x2)]) C dX1_run_46 rfl hl (by decide) (by cases r11 <;> rfl) (fun ls hl => ?_)
        refine lv_aload_n C.x C.b dX1_run_47 rfl (lv_at hl 1 rfl) ?_
        refine a_aload_n C dX1_run_48 rfl (lv_at hl 0 rfl) ?_
        refine lv_aload_n C.x C.b dX1_run_49 rfl (lv_at hl 1 rfl) ?_
        refine a_aload_n C dX1_run_50 rfl (lv_at hl 0 rfl) ?_
        obtain ⟨a12, e9, hw9⟩ := hw; subst e9; have hw := hw9; clear hw9
        have hl : lv_has ls 4 [(3, .ref a12), (0, .ref x0), (1, .ref x1), (2, .int x2)] := hl
        refine W.eq (g2 := F0 m 51 ls [.ref a12, .ref x0, .ref a12, .ref x0]) rfl ?_
        obtain ⟨fs, hq, hw⟩ := hw
        refine a_callVH (rest := [.ref a12, .ref x0]) C hS hl 0 hq rfl (kJ_X1_carryOut C.tr hw) q1181 q1183 qs17 q77 q1184 ny_X1_carryOut rfl (Nat.le_of_ble_eq_true rfl) (Nat.le_of_ble_eq_true rfl) rfl (Nat.le_of_ble_eq_true rfl) dX1_run_51 (fun X1 w1 H1 l1 q1 ce hx => hx.elim) (fun v w13 H locs hq _ hS => ?_)
        obtain ⟨r14, rfl, hw⟩ := hq
        refine W.eq (g2 := F0 m 54 ls [.int r14, .ref a12, .ref x0]) rfl ?_
        obtain ⟨fs, hq, hw⟩ := hw
        refine a_callV (rest := []) C hS hl 0 hq rfl (kJ_X1_become C.tr hw) q1204 q1206 qs18 q77 q1207 ny_X1_become rfl (Nat.le_of_ble_eq_true rfl) (Nat.le_of_ble_eq_true rfl) rfl (Nat.le_of_ble_eq_true rfl) dX1_run_54 (fun X1 w1 H1 l1 q1 ce hx => hx.elim) (fun v w15 H locs hq _ hS => ?_)
        obtain ⟨r16, rfl, hw⟩ := hq
        refine W.eq (g2 := F0 m 57 ls [.int r16]) rfl ?_
        exact g_iret C hS ⟨_, rfl, hw⟩ dX1_run_57
      · have hw := hw.2 c7
        refine lv_bipush (v := (-10)) C.x C.b dX1_run_31 (by decide) ?_
        refine lv_aload_n C.x C.b dX1_run_33 rfl (lv_at hl 1 rfl) ?_
        refine a_IN C hS in_X9 rfl (k := 1) (ci := 7) (by decide) q429 (fun _ h9 => h9) dX1_run_34 hw (fun v17 hw => ?_)
        refine lv_isub C.x C.b dX1_run_37 ?_
        exact g_iret C hS ⟨_, rfl, hw⟩ dX1_run_38
    · have hw := hw.2 c5
      refine lv_aload_n C.x C.b dX1_run_15 rfl (lv_at hl 1 rfl) ?_
      obtain ⟨fs, hq, hw⟩ := hw
      refine a_callV (rest := []) C hS hl 7 hq rfl (kJ_X9_next C.tr hw) q446 q447 q448 q102 q449 ny_X9_next rfl (Nat.le_of_ble_eq_true rfl) (Nat.le_of_ble_eq_true rfl) rfl (Nat.le_of_ble_eq_true rfl) dX1_run_16 (fun X1 w1 H1 l1 q1 ce hx => hx.elim) (fun v w18 H locs hq _ hS => ?_)
      obtain ⟨r19, rfl, hw⟩ := hq
      refine W.eq (g2 := F0 m 19 ls [.int r19]) rfl ?_
      refine lv_istore_n (lv' := [(2, .int r19), (0, .ref x0), (1, .ref x1)]) C.x C.b dX1_run_19 rfl hl (by decide) rfl (fun ls hl => ?_)
      refine lv_goto (tgt := 11) C.x C.b dX1_run_20 (by decide) ?_
      exact ih _ _ _ _ _ _ _ hS (lv_sub hl [1, 2, 0] rfl) hw
def wJ_X1_run (E : gE) (i0 : Nat) (Q : Int32 → gW → Prop) (w : gW) : Prop :=
  aN E 7 5 [.int 0, .int 0, .null, .null, .null] (fun q1 w2 => wJ_X9_init E q1 i0 (fun w3 => ∃ k4 : Nat, wJ_X1_run_11 E Q k4 i0 q1 1 w3) w2) w
theorem kJ_X1_run_r (C : gC p l s m args meth c cX1_run 4 (some .int) RX1 E [] "run") (i0 : Nat) {Q : Int32 → gW → Prop} (w : gW) (H : Heap) (locs : List Loc) (ls : Array Slot) (hS : gS E w0 w H locs) (hl : lv_has ls 4 [(0, .ref i0)]) (hw : wJ_X1_run E i0 Q w) : gGo p l e s m args below meth c H locs 21 3172 E w0 w (gI Q) (gNoX) (F0 m 0 ls []) := by
  unfold wJ_X1_run at hw
  refine a_N (ci := 7) (fs := [.int 0, .int 0, .null, .null, .null]) C hS in_X9 tyX9 tyX9_ok rfl q421 q422 q102 (by decide) dX1_run_0 hw (fun q1 w2 H hw hS => ?_)
  refine lv_dup C.x C.b dX1_run_3 rfl ?_
  refine lv_aload_n C.x C.b dX1_run_4 rfl (lv_at hl 0 rfl) ?_
  refine g_callIN (rest := [.ref q1]) C hS hl (kJ_X9_init C.tr hw) rfl q423 q424 q102 q425 ny_X9_init rfl (Nat.le_of_ble_eq_true rfl) (Nat.le_of_ble_eq_true rfl) rfl (Nat.le_of_ble_eq_true rfl) dX1_run_5 (fun X1 w1 H1 l1 q1 ce hx => hx.elim) (fun v w3 H locs hq _ hS => ?_)
  obtain ⟨rfl, hw⟩ := hq
  refine W.eq (g2 := F0 m 8 ls [.ref q1]) rfl ?_
  refine lv_astore_n (lv' := [(1, .ref q1), (0, .ref i0)]) C.x C.b dX1_run_8 rfl hl (by decide) rfl (fun ls hl => ?_)
  refine lv_iconst (v := 1) C.x C.b dX1_run_9 (by decide) ?_
  refine lv_istore_n (lv' := [(2, .int 1), (1, .ref q1), (0, .ref i0)]) C.x C.b dX1_run_10 rfl hl (by decide) rfl (fun ls hl => ?_)
  obtain ⟨k4, hw⟩ := hw
  exact kJ_X1_run_11 C k4 _ _ _ _ _ _ _ hS (lv_sub hl [2, 1, 0] rfl) hw
theorem ny_X1_run : gNm yX1_run 0 = true := by decide +kernel
theorem kJ_X1_run {l : Launch} (ht : l.stackTraces = false) {w : gW} {i0 : Nat} {Q : Int32 → gW → Prop} (hw : wJ_X1_run E i0 Q w) : gMet l yX1_run (ws_ yX1_run cX1_run 4 (some .int)) E w [.ref i0] 21 3172 (gI Q) (gNoX) :=
  g_ofW ht (by decide) (Nat.le_of_ble_eq_true rfl) (fun p e s m below meth c ls H C hl hS => kJ_X1_run_r C _ _ _ _ _ hS hl hw)
def wJ_X1_hash_13 (E : gE) (Q : Int64 → gW → Prop) : Nat → Int64 → Nat → Int32 → Int32 → gW → Prop
  | 0, _, _, _, _, _ => False
  | n + 1, x3, x5, x6, x7, w => (x6 ≤ x7 → (Q x3 w)) ∧ (¬ x6 ≤ x7 → (aL E 0 x5 x7 (fun v4 => wJ_X1_hash_13 E Q n ((31 * x3) + v4.toInt64) x5 x6 (x7 + 1) w) w))
theorem kJ_X1_hash_13 (C : gC p l s m args meth c cX1_hash 9 (some .long) RX1 E [] "hash") {Q : Int64 → gW → Prop} : ∀ (n : Nat) (x3 : Int64) (x5 : Nat) (x6 : Int32) (x7 : Int32) (w : gW) (H : Heap) (locs : List Loc) (ls : Array Slot), gS E w0 w H locs → lv_has ls 9 [(3, .long x3), (5, .ref x5), (6, .int x6), (7, .int x7)] → wJ_X1_hash_13 E Q n x3 x5 x6 x7 w → gGo p l e s m args below meth c H locs 0 0 E w0 w (gJ Q) (gNoX) (F0 m 13 ls []) := by
  intro n
  induction n with
  | zero =>
    intro x3 x5 x6 x7 w H locs ls hS hl hw
    exact hw.elim
  | succ n ih =>
    intro x3 x5 x6 x7 w H locs ls hS hl hw
    unfold wJ_X1_hash_13 at hw
    refine lv_iload C.x C.b dX1_hash_13 (lv_at hl 3 rfl) ?_
    refine lv_iload C.x C.b dX1_hash_15 (lv_at hl 2 rfl) ?_
    refine lv_icmp_ge (tgt := 43) C.x C.b dX1_hash_17 (by decide) (fun c3 => ?_) (fun c3 => ?_)
    · have hw := hw.1 c3
      refine lv_lload_n C.x C.b dX1_hash_43 rfl (lv_at hl 0 rfl) ?_
      exact g_lret C hS ⟨_, rfl, hw⟩ dX1_hash_44
    · have hw := hw.2 c3
      refine lv_aload C.x C.b dX1_hash_20 (lv_at hl 1 rfl) ?_
      refine lv_iload C.x C.b dX1_hash_22 (lv_at hl 3 rfl) ?_
      refine a_Li C hS dX1_hash_24 hw (fun v4 hw => ?_)
      refine lv_istore (lv' := [(8, .int v4), (3, .long x3), (5, .ref x5), (6, .int x6), (7, .int x7)]) C.x C.b dX1_hash_25 hl (by decide) rfl (fun ls hl => ?_)
      refine lv_ldc2 C.x C.b C.ow (C.ts _ q1217) dX1_hash_27 ?_
      refine lv_lload_n C.x C.b dX1_hash_30 rfl (lv_at hl 1 rfl) ?_
      refine lv_lmul C.x C.b dX1_hash_31 ?_
      refine lv_iload C.x C.b dX1_hash_32 (lv_at hl 0 rfl) ?_
      refine lv_i2l C.x C.b dX1_hash_34 rfl ?_
      refine lv_ladd C.x C.b dX1_hash_35 ?_
      refine lv_lstore_n (lv' := [(3, .long ((31 * x3) + v4.toInt64)), (8, .int v4), (5, .ref x5), (6, .int x6), (7, .int x7)]) C.x C.b dX1_hash_36 rfl hl (by decide) rfl (fun ls hl => ?_)
      refine lv_iinc (v := (x7 + 1)) (lv' := [(7, .int (x7 + 1)), (3, .long ((31 * x3) + v4.toInt64)), (8, .int v4), (5, .ref x5), (6, .int x6)]) C.x C.b dX1_hash_37 hl (k := 4) rfl rfl (by decide) rfl (fun ls hl => ?_)
      refine lv_goto (tgt := 13) C.x C.b dX1_hash_40 (by decide) ?_
      exact ih _ _ _ _ _ _ _ _ hS (lv_sub hl [1, 3, 4, 0] rfl) hw
def wJ_X1_hash (E : gE) (i0 : Int64) (i2 : Nat) (Q : Int64 → gW → Prop) (w : gW) : Prop :=
  aLen E i2 (fun v1 => ∃ k2 : Nat, wJ_X1_hash_13 E Q k2 i0 i2 v1 0 w) w
theorem kJ_X1_hash_r (C : gC p l s m args meth c cX1_hash 9 (some .long) RX1 E [] "hash") (i0 : Int64) (i2 : Nat) {Q : Int64 → gW → Prop} (w : gW) (H : Heap) (locs : List Loc) (ls : Array Slot) (hS : gS E w0 w H locs) (hl : lv_has ls 9 [(0, .long i0), (2, .ref i2)]) (hw : wJ_X1_hash E i0 i2 Q w) : gGo p l e s m args below meth c H locs 0 0 E w0 w (gJ Q) (gNoX) (F0 m 0 ls []) := by
  unfold wJ_X1_hash at hw
  refine lv_lload_n C.x C.b dX1_hash_0 rfl (lv_at hl 0 rfl) ?_
  refine lv_lstore_n (lv' := [(3, .long i0), (0, .long i0), (2, .ref i2)]) C.x C.b dX1_hash_1 rfl hl (by decide) rfl (fun ls hl => ?_)
  refine lv_aload_n C.x C.b dX1_hash_2 rfl (lv_at hl 2 rfl) ?_
  refine lv_astore (lv' := [(5, .ref i2), (3, .long i0), (0, .long i0), (2, .ref i2)]) C.x C.b dX1_hash_3 hl (by decide) rfl (fun ls hl => ?_)
  refine lv_aload C.x C.b dX1_hash_5 (lv_at hl 0 rfl) ?_
  refine a_len C hS dX1_hash_7 hw (fun v1 hw => ?_)
  refine lv_istore (lv' := [(6, .int v1), (5, .ref i2), (3, .long i0), (0, .long i0), (2, .ref i2)]) C.x C.b dX1_hash_8 hl (by decide) rfl (fun ls hl => ?_)
  refine lv_iconst (v := 0) C.x C.b dX1_hash_10 (by decide) ?_
  refine lv_istore (lv' := [(7, .int 0), (6, .int v1), (5, .ref i2), (3, .long i0), (0, .long i0), (2, .ref i2)]) C.x C.b dX1_hash_11 hl (by decide) rfl (fun ls hl => ?_)
  obtain ⟨k2, hw⟩ := hw
  exact kJ_X1_hash_13 C k2 _ _ _ _ _ _ _ _ hS (lv_sub hl [3, 2, 1, 0] rfl) hw
theorem ny_X1_hash : gNm yX1_hash 2 = true := by decide +kernel
theorem kJ_X1_hash {l : Launch} (ht : l.stackTraces = false) {w : gW} {i0 : Int64} {i2 : Nat} {Q : Int64 → gW → Prop} (hw : wJ_X1_hash E i0 i2 Q w) : gMet l yX1_hash (ws_ yX1_hash cX1_hash 9 (some .long)) E w [.long i0, .ref i2] 0 0 (gJ Q) (gNoX) :=
  g_ofW ht (by decide) (Nat.le_of_ble_eq_true rfl) (fun p e s m below meth c ls H C hl hS => kJ_X1_hash_r C _ _ _ _ _ _ hS hl hw)
def wJ_X1_hashLink_67 (E : gE) (Q : Int64 → gW → Prop) : Nat → Nat → Int64 → Int32 → gW → Prop
  | 0, _, _, _, _ => False
  | n + 1, x2, x3, x5, w => (3 ≤ x5 → (aR E x2 5 8 (fun r14 => ∃ a15 : Nat, r14 = some a15 ∧ (wJ_X1_hash E x3 a15 (fun r17 w16 => Q r17 w16) w)) w)) ∧ (¬ 3 ≤ x5 → (aR E x2 5 10 (fun r18 => ∃ a19 : Nat, r18 = some a19 ∧ (aKind E a19 6 (wJ_X7_value E a19 x5 (fun r21 w20 => ∀ z22 : Int64, z22 = ((31 * x3) + r21.toInt64) → wJ_X1_hashLink_67 E Q n x2 z22 (x5 + 1) w20) w) w)) w))
theorem kJ_X1_hashLink_67 (C : gC p l s m args meth c cX1_hashLink 6 (some .long) RX1 E [] "hashLink") {Q : Int64 → gW → Prop} : ∀ (n : Nat) (x2 : Nat) (x3 : Int64) (x5 : Int32) (w : gW) (H : Heap) (locs : List Loc) (ls : Array Slot), gS E w0 w H locs → lv_has ls 6 [(2, .ref x2), (3, .long x3), (5, .int x5)] → wJ_X1_hashLink_67 E Q n x2 x3 x5 w → gGo p l e s m args below meth c H locs 2 41 E w0 w (gJ Q) (gNoX) (F0 m 67 ls []) := by
  intro n
  induction n with
  | zero =>
    intro x2 x3 x5 w H locs ls hS hl hw
    exact hw.elim
  | succ n ih =>
    intro x2 x3 x5 w H locs ls hS hl hw
    unfold wJ_X1_hashLink_67 at hw
    refine lv_iload C.x C.b dX1_hashLink_67 (lv_at hl 2 rfl) ?_
    refine lv_iconst (v := 3) C.x C.b dX1_hashLink_69 (by decide) ?_
    refine lv_icmp_ge (tgt := 96) C.x C.b dX1_hashLink_70 (by decide) (fun c13 => ?_) (fun c13 => ?_)
    · have hw := hw.1 c13
      refine lv_lload_n C.x C.b dX1_hashLink_96 rfl (lv_at hl 1 rfl) ?_
      refine lv_aload_n C.x C.b dX1_hashLink_97 rfl (lv_at hl 0 rfl) ?_
      refine a_RN C hS in_X6 rfl (k := 8) (ci := 5) (by decide) q954 (fun _ h9 => h9) dX1_hashLink_98 hw (fun r14 hw => ?_)
      obtain ⟨a15, e9, hw9⟩ := hw; subst e9; have hw := hw9; clear hw9
      have hl : lv_has ls 6 [(2, .ref x2), (3, .long x3), (5, .int x5)] := hl
      refine W.eq (g2 := F0 m 101 ls [.ref a15, .long x3]) rfl ?_
      refine g_callS (rest := []) C hS hl (kJ_X1_hash C.tr hw) q1214 q1215 q77 q1216 ny_X1_hash rfl (Nat.le_of_ble_eq_true rfl) (Nat.le_of_ble_eq_true rfl) rfl (Nat.le_of_ble_eq_true rfl) dX1_hashLink_101 (fun X1 w1 H1 l1 q1 ce hx => hx.elim) (fun v w16 H locs hq _ hS => ?_)
      obtain ⟨r17, rfl, hw⟩ := hq
      refine W.eq (g2 := F0 m 104 ls [.long r17]) rfl ?_
      exact g_lret C hS ⟨_, rfl, hw⟩ dX1_hashLink_104
    · have hw := hw.2 c13
      refine lv_ldc2 C.x C.b C.ow (C.ts _ q1217) dX1_hashLink_73 ?_
      refine lv_lload_n C.x C.b dX1_hashLink_76 rfl (lv_at hl 1 rfl) ?_
      refine lv_lmul C.x C.b dX1_hashLink_77 ?_
      refine lv_aload_n C.x C.b dX1_hashLink_78 rfl (lv_at hl 0 rfl) ?_
      refine a_RN C hS in_X6 rfl (k := 10) (ci := 5) (by decide) q960 (fun _ h9 => h9) dX1_hashLink_79 hw (fun r18 hw => ?_)
      refine lv_iload C.x C.b dX1_hashLink_82 (lv_at hl 2 rfl) ?_
      obtain ⟨a19, e9, hw9⟩ := hw; subst e9; have hw := hw9; clear hw9
      have hl : lv_has ls 6 [(2, .ref x2), (3, .long x3), (5, .int x5)] := hl
      refine W.eq (g2 := F0 m 84 ls [.int x5, .ref a19, .long (31 * x3)]) rfl ?_
      obtain ⟨fs, hq, hw⟩ := hw
      refine a_callV (rest := [.long (31 * x3)]) C hS hl 6 hq rfl (kJ_X7_value C.tr hw) q1241 q1242 q1243 q96 q1244 ny_X7_value rfl (Nat.le_of_ble_eq_true rfl) (Nat.le_of_ble_eq_true rfl) rfl (Nat.le_of_ble_eq_true rfl) dX1_hashLink_84 (fun X1 w1 H1 l1 q1 ce hx => hx.elim) (fun v w20 H locs hq _ hS => ?_)
      obtain ⟨r21, rfl, hw⟩ := hq
      refine W.eq (g2 := F0 m 87 ls [.int r21, .long (31 * x3)]) rfl ?_
      refine lv_i2l C.x C.b dX1_hashLink_87 rfl ?_
      refine lv_ladd C.x C.b dX1_hashLink_88 ?_
      refine lv_topl (fun z22 ez22 => ?_)
      have hw := hw z22 ez22
      refine lv_lstore_n (lv' := [(3, .long z22), (2, .ref x2), (5, .int x5)]) C.x C.b dX1_hashLink_89 rfl hl (by decide) rfl (fun ls hl => ?_)
      refine lv_iinc (v := (x5 + 1)) (lv' := [(5, .int (x5 + 1)), (3, .long z22), (2, .ref x2)]) C.x C.b dX1_hashLink_90 hl (k := 2) rfl rfl (by decide) rfl (fun ls hl => ?_)
      refine lv_goto (tgt := 67) C.x C.b dX1_hashLink_93 (by decide) ?_
      exact ih _ _ _ _ _ _ _ hS (lv_sub hl [2, 1, 0] rfl) hw
def wJ_X1_hashLink_35 (E : gE) (Q : Int64 → gW → Prop) : Nat → Nat → Int64 → Int32 → gW → Prop
  | 0, _, _, _, _ => False
  | n + 1, x2, x3, x5, w => (3 ≤ x5 → (∃ k7 : Nat, wJ_X1_hashLink_67 E Q k7 x2 x3 0 w)) ∧ (¬ 3 ≤ x5 → (aR E x2 5 9 (fun r8 => ∃ a9 : Nat, r8 = some a9 ∧ (aKind E a9 6 (wJ_X7_value E a9 x5 (fun r11 w10 => ∀ z12 : Int64, z12 = ((31 * x3) + r11.toInt64) → wJ_X1_hashLink_35 E Q n x2 z12 (x5 + 1) w10) w) w)) w))
theorem kJ_X1_hashLink_35 (C : gC p l s m args meth c cX1_hashLink 6 (some .long) RX1 E [] "hashLink") {Q : Int64 → gW → Prop} : ∀ (n : Nat) (x2 : Nat) (x3 : Int64) (x5 : Int32) (w : gW) (H : Heap) (locs : List Loc) (ls : Array Slot), gS E w0 w H locs → lv_has ls 6 [(2, .ref x2), (3, .long x3), (5, .int x5)] → wJ_X1_hashLink_35 E Q n x2 x3 x5 w → gGo p l e s m args below meth c H locs 2 41 E w0 w (gJ Q) (gNoX) (F0 m 35 ls []) := by
  intro n
  induction n with
  | zero =>
    intro x2 x3 x5 w H locs ls hS hl hw
    exact hw.elim
  | succ n ih =>
    intro x2 x3 x5 w H locs ls hS hl hw
    unfold wJ_X1_hashLink_35 at hw
    refine lv_iload C.x C.b dX1_hashLink_35 (lv_at hl 2 rfl) ?_
    refine lv_iconst (v := 3) C.x C.b dX1_hashLink_37 (by decide) ?_
    refine lv_icmp_ge (tgt := 64) C.x C.b dX1_hashLink_38 (by decide) (fun c6 => ?_) (fun c6 => ?_)
    · have hw := hw.1 c6
      refine lv_iconst (v := 0) C.x C.b dX1_hashLink_64 (by decide) ?_
      refine lv_istore (lv' := [(5, .int 0), (2, .ref x2), (3, .long x3)]) C.x C.b dX1_hashLink_65 hl (by decide) rfl (fun ls hl => ?_)
      obtain ⟨k7, hw⟩ := hw
      exact kJ_X1_hashLink_67 C k7 _ _ _ _ _ _ _ hS (lv_sub hl [1, 2, 0] rfl) hw
    · have hw := hw.2 c6
      refine lv_ldc2 C.x C.b C.ow (C.ts _ q1217) dX1_hashLink_41 ?_
      refine lv_lload_n C.x C.b dX1_hashLink_44 rfl (lv_at hl 1 rfl) ?_
      refine lv_lmul C.x C.b dX1_hashLink_45 ?_
      refine lv_aload_n C.x C.b dX1_hashLink_46 rfl (lv_at hl 0 rfl) ?_
      refine a_RN C hS in_X6 rfl (k := 9) (ci := 5) (by decide) q957 (fun _ h9 => h9) dX1_hashLink_47 hw (fun r8 hw => ?_)
      refine lv_iload C.x C.b dX1_hashLink_50 (lv_at hl 2 rfl) ?_
      obtain ⟨a9, e9, hw9⟩ := hw; subst e9; have hw := hw9; clear hw9
      have hl : lv_has ls 6 [(2, .ref x2), (3, .long x3), (5, .int x5)] := hl
      refine W.eq (g2 := F0 m 52 ls [.int x5, .ref a9, .long (31 * x3)]) rfl ?_
      obtain ⟨fs, hq, hw⟩ := hw
      refine a_callV (rest := [.long (31 * x3)]) C hS hl 6 hq rfl (kJ_X7_value C.tr hw) q1241 q1242 q1243 q96 q1244 ny_X7_value rfl (Nat.le_of_ble_eq_true rfl) (Nat.le_of_ble_eq_true rfl) rfl (Nat.le_of_ble_eq_true rfl) dX1_hashLink_52 (fun X1 w1 H1 l1 q1 ce hx => hx.elim) (fun v w10 H locs hq _ hS => ?_)
      obtain ⟨r11, rfl, hw⟩ := hq
      refine W.eq (g2 := F0 m 55 ls [.int r11, .long (31 * x3)]) rfl ?_
      refine lv_i2l C.x C.b dX1_hashLink_55 rfl ?_
      refine lv_ladd C.x C.b dX1_hashLink_56 ?_
      refine lv_topl (fun z12 ez12 => ?_)
      have hw := hw z12 ez12
      refine lv_lstore_n (lv' := [(3, .long z12), (2, .ref x2), (5, .int x5)]) C.x C.b dX1_hashLink_57 rfl hl (by decide) rfl (fun ls hl => ?_)
      refine lv_iinc (v := (x5 + 1)) (lv' := [(5, .int (x5 + 1)), (3, .long z12), (2, .ref x2)]) C.x C.b dX1_hashLink_58 hl (k := 2) rfl rfl (by decide) rfl (fun ls hl => ?_)
      refine lv_goto (tgt := 35) C.x C.b dX1_hashLink_61 (by decide) ?_
      exact ih _ _ _ _ _ _ _ hS (lv_sub hl [2, 1, 0] rfl) hw
def wJ_X1_hashLink_5 (E : gE) (Q : Int64 → gW → Prop) : Nat → Nat → Int64 → Int32 → gW → Prop
  | 0, _, _, _, _ => False
  | n + 1, x2, x3, x5, w => (9 ≤ x5 → (∃ k3 : Nat, wJ_X1_hashLink_35 E Q k3 x2 x3 0 w)) ∧ (¬ 9 ≤ x5 → (aKind E x2 5 (wJ_X6_value E x2 x5 (fun r5 w4 => wJ_X1_hashLink_5 E Q n x2 ((31 * x3) + r5.toInt64) (x5 + 1) w4) w) w))
theorem kJ_X1_hashLink_5 (C : gC p l s m args meth c cX1_hashLink 6 (some .long) RX1 E [] "hashLink") {Q : Int64 → gW → Prop} : ∀ (n : Nat) (x2 : Nat) (x3 : Int64) (x5 : Int32) (w : gW) (H : Heap) (locs : List Loc) (ls : Array Slot), gS E w0 w H locs → lv_has ls 6 [(2, .ref x2), (3, .long x3), (5, .int x5)] → wJ_X1_hashLink_5 E Q n x2 x3 x5 w → gGo p l e s m args below meth c H locs 2 41 E w0 w (gJ Q) (gNoX) (F0 m 5 ls []) := by
  intro n
  induction n with
  | zero =>
    intro x2 x3 x5 w H locs ls hS hl hw
    exact hw.elim
  | succ n ih =>
    intro x2 x3 x5 w H locs ls hS hl hw
    unfold wJ_X1_hashLink_5 at hw
    refine lv_iload C.x C.b dX1_hashLink_5 (lv_at hl 2 rfl) ?_
    refine lv_bipush (v := 9) C.x C.b dX1_hashLink_7 (by decide) ?_
    refine lv_icmp_ge (tgt := 32) C.x C.b dX1_hashLink_9 (by decide) (fun c2 => ?_) (fun c2 => ?_)
    · have hw := hw.1 c2
      refine lv_iconst (v := 0) C.x C.b dX1_hashLink_32 (by decide) ?_
      refine lv_istore (lv' := [(5, .int 0), (2, .ref x2), (3, .long x3)]) C.x C.b dX1_hashLink_33 hl (by decide) rfl (fun ls hl => ?_)
      obtain ⟨k3, hw⟩ := hw
      exact kJ_X1_hashLink_35 C k3 _ _ _ _ _ _ _ hS (lv_sub hl [1, 2, 0] rfl) hw
    · have hw := hw.2 c2
      refine lv_ldc2 C.x C.b C.ow (C.ts _ q1217) dX1_hashLink_12 ?_
      refine lv_lload_n C.x C.b dX1_hashLink_15 rfl (lv_at hl 1 rfl) ?_
      refine lv_lmul C.x C.b dX1_hashLink_16 ?_
      refine lv_aload_n C.x C.b dX1_hashLink_17 rfl (lv_at hl 0 rfl) ?_
      refine lv_iload C.x C.b dX1_hashLink_18 (lv_at hl 2 rfl) ?_
      obtain ⟨fs, hq, hw⟩ := hw
      refine a_callV (rest := [.long (31 * x3)]) C hS hl 5 hq rfl (kJ_X6_value C.tr hw) q1236 q1237 q1238 q95 q1239 ny_X6_value rfl (Nat.le_of_ble_eq_true rfl) (Nat.le_of_ble_eq_true rfl) rfl (Nat.le_of_ble_eq_true rfl) dX1_hashLink_20 (fun X1 w1 H1 l1 q1 ce hx => hx.elim) (fun v w4 H locs hq _ hS => ?_)
      obtain ⟨r5, rfl, hw⟩ := hq
      refine W.eq (g2 := F0 m 23 ls [.int r5, .long (31 * x3)]) rfl ?_
      refine lv_i2l C.x C.b dX1_hashLink_23 rfl ?_
      refine lv_ladd C.x C.b dX1_hashLink_24 ?_
      refine lv_lstore_n (lv' := [(3, .long ((31 * x3) + r5.toInt64)), (2, .ref x2), (5, .int x5)]) C.x C.b dX1_hashLink_25 rfl hl (by decide) rfl (fun ls hl => ?_)
      refine lv_iinc (v := (x5 + 1)) (lv' := [(5, .int (x5 + 1)), (3, .long ((31 * x3) + r5.toInt64)), (2, .ref x2)]) C.x C.b dX1_hashLink_26 hl (k := 2) rfl rfl (by decide) rfl (fun ls hl => ?_)
      refine lv_goto (tgt := 5) C.x C.b dX1_hashLink_29 (by decide) ?_
      exact ih _ _ _ _ _ _ _ hS (lv_sub hl [2, 1, 0] rfl) hw
def wJ_X1_hashLink (E : gE) (i0 : Int64) (i2 : Nat) (Q : Int64 → gW → Prop) (w : gW) : Prop :=
  ∃ k1 : Nat, wJ_X1_hashLink_5 E Q k1 i2 i0 0 w
theorem kJ_X1_hashLink_r (C : gC p l s m args meth c cX1_hashLink 6 (some .long) RX1 E [] "hashLink") (i0 : Int64) (i2 : Nat) {Q : Int64 → gW → Prop} (w : gW) (H : Heap) (locs : List Loc) (ls : Array Slot) (hS : gS E w0 w H locs) (hl : lv_has ls 6 [(0, .long i0), (2, .ref i2)]) (hw : wJ_X1_hashLink E i0 i2 Q w) : gGo p l e s m args below meth c H locs 2 41 E w0 w (gJ Q) (gNoX) (F0 m 0 ls []) := by
  unfold wJ_X1_hashLink at hw
  refine lv_lload_n C.x C.b dX1_hashLink_0 rfl (lv_at hl 0 rfl) ?_
  refine lv_lstore_n (lv' := [(3, .long i0), (0, .long i0), (2, .ref i2)]) C.x C.b dX1_hashLink_1 rfl hl (by decide) rfl (fun ls hl => ?_)
  refine lv_iconst (v := 0) C.x C.b dX1_hashLink_2 (by decide) ?_
  refine lv_istore (lv' := [(5, .int 0), (3, .long i0), (0, .long i0), (2, .ref i2)]) C.x C.b dX1_hashLink_3 hl (by decide) rfl (fun ls hl => ?_)
  obtain ⟨k1, hw⟩ := hw
  exact kJ_X1_hashLink_5 C k1 _ _ _ _ _ _ _ hS (lv_sub hl [3, 1, 0] rfl) hw
theorem ny_X1_hashLink : gNm yX1_hashLink 2 = true := by decide +kernel
theorem kJ_X1_hashLink {l : Launch} (ht : l.stackTraces = false) {w : gW} {i0 : Int64} {i2 : Nat} {Q : Int64 → gW → Prop} (hw : wJ_X1_hashLink E i0 i2 Q w) : gMet l yX1_hashLink (ws_ yX1_hashLink cX1_hashLink 6 (some .long)) E w [.long i0, .ref i2] 2 41 (gJ Q) (gNoX) :=
  g_ofW ht (by decide) (Nat.le_of_ble_eq_true rfl) (fun p e s m below meth c ls H C hl hS => kJ_X1_hashLink_r C _ _ _ _ _ _ hS hl hw)
def wJ_X1_digest_299 (E : gE) (Q : Int64 → gW → Prop) : Nat → Nat → Int64 → Int32 → gW → Prop
  | 0, _, _, _, _ => False
  | n + 1, x1, x2, x4, w => (7 ≤ x4 → (aKind E x1 1 (wJ_X2_isForest E x1 (fun r93 w92 => (r93 = 0 → (Q ((31 * x2) + (0 : Int32).toInt64) w92)) ∧ (¬ r93 = 0 → (Q ((31 * x2) + (1 : Int32).toInt64) w92))) w) w)) ∧ (¬ 7 ≤ x4 → (aKind E x1 1 (wJ_X2_count E x1 x4 (fun r96 w95 => ∀ z97 : Int64, z97 = ((31 * x2) + r96.toInt64) → wJ_X1_digest_299 E Q n x1 z97 (x4 + 1) w95) w) w))
theorem kJ_X1_digest_299 (C : gC p l s m args meth c cX1_digest 7 (some .long) RX1 E [] "digest") {Q : Int64 → gW → Prop} : ∀ (n : Nat) (x1 : Nat) (x2 : Int64) (x4 : Int32) (w : gW) (H : Heap) (locs : List Loc) (ls : Array Slot), gS E w0 w H locs → lv_has ls 7 [(1, .ref x1), (2, .long x2), (4, .int x4)] → wJ_X1_digest_299 E Q n x1 x2 x4 w → gGo p l e s m args below meth c H locs 7 158 E w0 w (gJ Q) (gNoX) (F0 m 299 ls []) := by
  intro n
  induction n with
  | zero =>
    intro x1 x2 x4 w H locs ls hS hl hw
    exact hw.elim
  | succ n ih =>
    intro x1 x2 x4 w H locs ls hS hl hw
    unfold wJ_X1_digest_299 at hw
    refine lv_iload C.x C.b dX1_digest_299 (lv_at hl 2 rfl) ?_
    refine lv_bipush (v := 7) C.x C.b dX1_digest_301 (by decide) ?_
    refine lv_icmp_ge (tgt := 326) C.x C.b dX1_digest_303 (by decide) (fun c91 => ?_) (fun c91 => ?_)
    · have hw := hw.1 c91
      refine lv_ldc2 C.x C.b C.ow (C.ts _ q1217) dX1_digest_326 ?_
      refine lv_lload_n C.x C.b dX1_digest_329 rfl (lv_at hl 1 rfl) ?_
      refine lv_lmul C.x C.b dX1_digest_330 ?_
      refine lv_aload_n C.x C.b dX1_digest_331 rfl (lv_at hl 0 rfl) ?_
      obtain ⟨fs, hq, hw⟩ := hw
      refine a_callV (rest := [.long (31 * x2)]) C hS hl 1 hq rfl (kJ_X2_isForest C.tr hw) q380 q381 q382 q78 q383 ny_X2_isForest rfl (Nat.le_of_ble_eq_true rfl) (Nat.le_of_ble_eq_true rfl) rfl (Nat.le_of_ble_eq_true rfl) dX1_digest_332 (fun X1 w1 H1 l1 q1 ce hx => hx.elim) (fun v w92 H locs hq _ hS => ?_)
      obtain ⟨r93, rfl, hw⟩ := hq
      refine W.eq (g2 := F0 m 335 ls [.int r93, .long (31 * x2)]) rfl ?_
      refine lv_if_eq (tgt := 342) C.x C.b dX1_digest_335 (by decide) (fun c94 => ?_) (fun c94 => ?_)
      · have hw := hw.1 c94
        refine lv_iconst (v := 0) C.x C.b dX1_digest_342 (by decide) ?_
        refine lv_i2l C.x C.b dX1_digest_343 rfl ?_
        refine lv_ladd C.x C.b dX1_digest_344 ?_
        exact g_lret C hS ⟨_, rfl, hw⟩ dX1_digest_345
      · have hw := hw.2 c94
        refine lv_iconst (v := 1) C.x C.b dX1_digest_338 (by decide) ?_
        refine lv_goto (tgt := 343) C.x C.b dX1_digest_339 (by decide) ?_
        refine lv_i2l C.x C.b dX1_digest_343 rfl ?_
        refine lv_ladd C.x C.b dX1_digest_344 ?_
        exact g_lret C hS ⟨_, rfl, hw⟩ dX1_digest_345
    · have hw := hw.2 c91
      refine lv_ldc2 C.x C.b C.ow (C.ts _ q1217) dX1_digest_306 ?_
      refine lv_lload_n C.x C.b dX1_digest_309 rfl (lv_at hl 1 rfl) ?_
      refine lv_lmul C.x C.b dX1_digest_310 ?_
      refine lv_aload_n C.x C.b dX1_digest_311 rfl (lv_at hl 0 rfl) ?_
      refine lv_iload C.x C.b dX1_digest_312 (lv_at hl 2 rfl) ?_
      obtain ⟨fs, hq, hw⟩ := hw
      refine a_callV (rest := [.long (31 * x2)]) C hS hl 1 hq rfl (kJ_X2_count C.tr hw) q1253 q1254 q1255 q78 q1256 ny_X2_count rfl (Nat.le_of_ble_eq_true rfl) (Nat.le_of_ble_eq_true rfl) rfl (Nat.le_of_ble_eq_true rfl) dX1_digest_314 (fun X1 w1 H1 l1 q1 ce hx => hx.elim) (fun v w95 H locs hq _ hS => ?_)
      obtain ⟨r96, rfl, hw⟩ := hq
      refine W.eq (g2 := F0 m 317 ls [.int r96, .long (31 * x2)]) rfl ?_
      refine lv_i2l C.x C.b dX1_digest_317 rfl ?_
      refine lv_ladd C.x C.b dX1_digest_318 ?_
      refine lv_topl (fun z97 ez97 => ?_)
      have hw := hw z97 ez97
      refine lv_lstore_n (lv' := [(2, .long z97), (1, .ref x1), (4, .int x4)]) C.x C.b dX1_digest_319 rfl hl (by decide) rfl (fun ls hl => ?_)
      refine lv_iinc (v := (x4 + 1)) (lv' := [(4, .int (x4 + 1)), (2, .long z97), (1, .ref x1)]) C.x C.b dX1_digest_320 hl (k := 2) rfl rfl (by decide) rfl (fun ls hl => ?_)
      refine lv_goto (tgt := 299) C.x C.b dX1_digest_323 (by decide) ?_
      exact ih _ _ _ _ _ _ _ hS (lv_sub hl [2, 1, 0] rfl) hw
def wJ_X1_digest_236 (E : gE) (Q : Int64 → gW → Prop) : Nat → Nat → Int64 → Int32 → gW → Prop
  | 0, _, _, _, _ => False
  | n + 1, x1, x2, x4, w => (4 ≤ x4 → (∃ k69 : Nat, wJ_X1_digest_299 E Q k69 x1 x2 0 w)) ∧ (¬ 4 ≤ x4 → (aA E 0 4 (fun q70 w71 => aKind E x1 1 (wJ_X2_tenantValue E x1 x4 0 (fun r73 w72 => aS E 0 q70 0 r73 (fun w74 => aKind E x1 1 (wJ_X2_tenantValue E x1 x4 1 (fun r76 w75 => aS E 0 q70 1 r76 (fun w77 => aKind E x1 1 (wJ_X2_tenantValue E x1 x4 2 (fun r79 w78 => aS E 0 q70 2 r79 (fun w80 => aKind E x1 1 (wJ_X2_tenantValue E x1 x4 3 (fun r82 w81 => aS E 0 q70 3 r82 (fun w83 => wJ_X1_hash E x2 q70 (fun r85 w84 => wJ_X1_digest_236 E Q n x1 r85 (x4 + 1) w84) w83) w81) w80) w80) w78) w77) w77) w75) w74) w74) w72) w71) w71) w))
theorem kJ_X1_digest_236 (C : gC p l s m args meth c cX1_digest 7 (some .long) RX1 E [] "digest") {Q : Int64 → gW → Prop} : ∀ (n : Nat) (x1 : Nat) (x2 : Int64) (x4 : Int32) (w : gW) (H : Heap) (locs : List Loc) (ls : Array Slot), gS E w0 w H locs → lv_has ls 7 [(1, .ref x1), (2, .long x2), (4, .int x4)] → wJ_X1_digest_236 E Q n x1 x2 x4 w → gGo p l e s m args below meth c H locs 7 158 E w0 w (gJ Q) (gNoX) (F0 m 236 ls []) := by
  intro n
  induction n with
  | zero =>
    intro x1 x2 x4 w H locs ls hS hl hw
    exact hw.elim
  | succ n ih =>
    intro x1 x2 x4 w H locs ls hS hl hw
    unfold wJ_X1_digest_236 at hw
    refine lv_iload C.x C.b dX1_digest_236 (lv_at hl 2 rfl) ?_
    refine lv_iconst (v := 4) C.x C.b dX1_digest_238 (by decide) ?_
    refine lv_icmp_ge (tgt := 296) C.x C.b dX1_digest_239 (by decide) (fun c68 => ?_) (fun c68 => ?_)
    · have hw := hw.1 c68
      refine lv_iconst (v := 0) C.x C.b dX1_digest_296 (by decide) ?_
      refine lv_istore (lv' := [(4, .int 0), (1, .ref x1), (2, .long x2)]) C.x C.b dX1_digest_297 hl (by decide) rfl (fun ls hl => ?_)
      obtain ⟨k69, hw⟩ := hw
      exact kJ_X1_digest_299 C k69 _ _ _ _ _ _ _ hS (lv_sub hl [1, 2, 0] rfl) hw
    · have hw := hw.2 c68
      refine lv_lload_n C.x C.b dX1_digest_242 rfl (lv_at hl 1 rfl) ?_
      refine lv_iconst (v := 4) C.x C.b dX1_digest_243 (by decide) ?_
      refine a_A (t := 0) (atype := .int) C hS rfl (by decide) q206 dX1_digest_244 hw (fun q70 w71 H hw hS => ?_)
      refine lv_dup C.x C.b dX1_digest_246 rfl ?_
      refine lv_iconst (v := 0) C.x C.b dX1_digest_247 (by decide) ?_
      refine lv_aload_n C.x C.b dX1_digest_248 rfl (lv_at hl 0 rfl) ?_
      refine lv_iload C.x C.b dX1_digest_249 (lv_at hl 2 rfl) ?_
      refine lv_iconst (v := 0) C.x C.b dX1_digest_251 (by decide) ?_
      obtain ⟨fs, hq, hw⟩ := hw
      refine a_callV (rest := [.int 0, .ref q70, .ref q70, .long x2]) C hS hl 1 hq rfl (kJ_X2_tenantValue C.tr hw) q1245 q1246 q1247 q78 q1248 ny_X2_tenantValue rfl (Nat.le_of_ble_eq_true rfl) (Nat.le_of_ble_eq_true rfl) rfl (Nat.le_of_ble_eq_true rfl) dX1_digest_252 (fun X1 w1 H1 l1 q1 ce hx => hx.elim) (fun v w72 H locs hq _ hS => ?_)
      obtain ⟨r73, rfl, hw⟩ := hq
      refine W.eq (g2 := F0 m 255 ls [.int r73, .int 0, .ref q70, .ref q70, .long x2]) rfl ?_
      refine a_Si C hS dX1_digest_255 hw (fun w74 H locs hw hS => ?_)
      refine lv_dup C.x C.b dX1_digest_256 rfl ?_
      refine lv_iconst (v := 1) C.x C.b dX1_digest_257 (by decide) ?_
      refine lv_aload_n C.x C.b dX1_digest_258 rfl (lv_at hl 0 rfl) ?_
      refine lv_iload C.x C.b dX1_digest_259 (lv_at hl 2 rfl) ?_
      refine lv_iconst (v := 1) C.x C.b dX1_digest_261 (by decide) ?_
      obtain ⟨fs, hq, hw⟩ := hw
      refine a_callV (rest := [.int 1, .ref q70, .ref q70, .long x2]) C hS hl 1 hq rfl (kJ_X2_tenantValue C.tr hw) q1245 q1246 q1247 q78 q1248 ny_X2_tenantValue rfl (Nat.le_of_ble_eq_true rfl) (Nat.le_of_ble_eq_true rfl) rfl (Nat.le_of_ble_eq_true rfl) dX1_digest_262 (fun X1 w1 H1 l1 q1 ce hx => hx.elim) (fun v w75 H locs hq _ hS => ?_)
      obtain ⟨r76, rfl, hw⟩ := hq
      refine W.eq (g2 := F0 m 265 ls [.int r76, .int 1, .ref q70, .ref q70, .long x2]) rfl ?_
      refine a_Si C hS dX1_digest_265 hw (fun w77 H locs hw hS => ?_)
      refine lv_dup C.x C.b dX1_digest_266 rfl ?_
      refine lv_iconst (v := 2) C.x C.b dX1_digest_267 (by decide) ?_
      refine lv_aload_n C.x C.b dX1_digest_268 rfl (lv_at hl 0 rfl) ?_
      refine lv_iload C.x C.b dX1_digest_269 (lv_at hl 2 rfl) ?_
      refine lv_iconst (v := 2) C.x C.b dX1_digest_271 (by decide) ?_
      obtain ⟨fs, hq, hw⟩ := hw
      refine a_callV (rest := [.int 2, .ref q70, .ref q70, .long x2]) C hS hl 1 hq rfl (kJ_X2_tenantValue C.tr hw) q1245 q1246 q1247 q78 q1248 ny_X2_tenantValue rfl (Nat.le_of_ble_eq_true rfl) (Nat.le_of_ble_eq_true rfl) rfl (Nat.le_of_ble_eq_true rfl) dX1_digest_272 (fun X1 w1 H1 l1 q1 ce hx => hx.elim) (fun v w78 H locs hq _ hS => ?_)
      obtain ⟨r79, rfl, hw⟩ := hq
      refine W.eq (g2 := F0 m 275 ls [.int r79, .int 2, .ref q70, .ref q70, .long x2]) rfl ?_
      refine a_Si C hS dX1_digest_275 hw (fun w80 H locs hw hS => ?_)
      refine lv_dup C.x C.b dX1_digest_276 rfl ?_
      refine lv_iconst (v := 3) C.x C.b dX1_digest_277 (by decide) ?_
      refine lv_aload_n C.x C.b dX1_digest_278 rfl (lv_at hl 0 rfl) ?_
      refine lv_iload C.x C.b dX1_digest_279 (lv_at hl 2 rfl) ?_
      refine lv_iconst (v := 3) C.x C.b dX1_digest_281 (by decide) ?_
      obtain ⟨fs, hq, hw⟩ := hw
      refine a_callV (rest := [.int 3, .ref q70, .ref q70, .long x2]) C hS hl 1 hq rfl (kJ_X2_tenantValue C.tr hw) q1245 q1246 q1247 q78 q1248 ny_X2_tenantValue rfl (Nat.le_of_ble_eq_true rfl) (Nat.le_of_ble_eq_true rfl) rfl (Nat.le_of_ble_eq_true rfl) dX1_digest_282 (fun X1 w1 H1 l1 q1 ce hx => hx.elim) (fun v w81 H locs hq _ hS => ?_)
      obtain ⟨r82, rfl, hw⟩ := hq
      refine W.eq (g2 := F0 m 285 ls [.int r82, .int 3, .ref q70, .ref q70, .long x2]) rfl ?_
      refine a_Si C hS dX1_digest_285 hw (fun w83 H locs hw hS => ?_)
      refine g_callS (rest := []) C hS hl (kJ_X1_hash C.tr hw) q1214 q1215 q77 q1216 ny_X1_hash rfl (Nat.le_of_ble_eq_true rfl) (Nat.le_of_ble_eq_true rfl) rfl (Nat.le_of_ble_eq_true rfl) dX1_digest_286 (fun X1 w1 H1 l1 q1 ce hx => hx.elim) (fun v w84 H locs hq _ hS => ?_)
      obtain ⟨r85, rfl, hw⟩ := hq
      refine W.eq (g2 := F0 m 289 ls [.long r85]) rfl ?_
      refine lv_lstore_n (lv' := [(2, .long r85), (1, .ref x1), (4, .int x4)]) C.x C.b dX1_digest_289 rfl hl (by decide) rfl (fun ls hl => ?_)
      refine lv_iinc (v := (x4 + 1)) (lv' := [(4, .int (x4 + 1)), (2, .long r85), (1, .ref x1)]) C.x C.b dX1_digest_290 hl (k := 2) rfl rfl (by decide) rfl (fun ls hl => ?_)
      refine lv_goto (tgt := 236) C.x C.b dX1_digest_293 (by decide) ?_
      exact ih _ _ _ _ _ _ _ hS (lv_sub hl [2, 1, 0] rfl) hw
def wJ_X1_digest_198 (E : gE) (Q : Int64 → gW → Prop) : Nat → Nat → Int64 → Int32 → gW → Prop
  | 0, _, _, _, _ => False
  | n + 1, x1, x2, x4, w => aR E x1 1 1 (fun r50 => ∃ a51 : Nat, r50 = some a51 ∧ (aKind E a51 8 (wJ_J2_size E a51 (fun r53 w52 => (r53 ≤ x4 → (∃ k55 : Nat, wJ_X1_digest_236 E Q k55 x1 x2 0 w52)) ∧ (¬ r53 ≤ x4 → (aR E x1 1 1 (fun r56 => ∃ a57 : Nat, r56 = some a57 ∧ (aKind E a57 8 (wJ_J2_get E a57 x4 (fun r59 w58 => ∃ a60 : Nat, r59 = some a60 ∧ (aKind E a60 5 (wJ_X1_hashLink E x2 a60 (fun r62 w61 => wJ_X1_digest_198 E Q n x1 r62 (x4 + 1) w61) w58) w58)) w52) w52)) w52))) w) w)) w
theorem kJ_X1_digest_198 (C : gC p l s m args meth c cX1_digest 7 (some .long) RX1 E [] "digest") {Q : Int64 → gW → Prop} : ∀ (n : Nat) (x1 : Nat) (x2 : Int64) (x4 : Int32) (w : gW) (H : Heap) (locs : List Loc) (ls : Array Slot), gS E w0 w H locs → lv_has ls 7 [(1, .ref x1), (2, .long x2), (4, .int x4)] → wJ_X1_digest_198 E Q n x1 x2 x4 w → gGo p l e s m args below meth c H locs 7 158 E w0 w (gJ Q) (gNoX) (F0 m 198 ls []) := by
  intro n
  induction n with
  | zero =>
    intro x1 x2 x4 w H locs ls hS hl hw
    exact hw.elim
  | succ n ih =>
    intro x1 x2 x4 w H locs ls hS hl hw
    unfold wJ_X1_digest_198 at hw
    refine lv_iload C.x C.b dX1_digest_198 (lv_at hl 2 rfl) ?_
    refine lv_aload_n C.x C.b dX1_digest_200 rfl (lv_at hl 0 rfl) ?_
    refine a_RN C hS in_X2 rfl (k := 1) (ci := 1) (by decide) q155 (fun _ h9 => h9) dX1_digest_201 hw (fun r50 hw => ?_)
    obtain ⟨a51, e9, hw9⟩ := hw; subst e9; have hw := hw9; clear hw9
    have hl : lv_has ls 7 [(1, .ref x1), (2, .long x2), (4, .int x4)] := hl
    refine W.eq (g2 := F0 m 204 ls [.ref a51, .int x4]) rfl ?_
    obtain ⟨fs, hq, hw⟩ := hw
    refine a_callV (rest := [.int x4]) C hS hl 8 hq rfl (kJ_J2_size C.tr hw) q372 q373 q374 q81 q375 ny_J2_size rfl (Nat.le_of_ble_eq_true rfl) (Nat.le_of_ble_eq_true rfl) rfl (Nat.le_of_ble_eq_true rfl) dX1_digest_204 (fun X1 w1 H1 l1 q1 ce hx => hx.elim) (fun v w52 H locs hq _ hS => ?_)
    obtain ⟨r53, rfl, hw⟩ := hq
    refine W.eq (g2 := F0 m 207 ls [.int r53, .int x4]) rfl ?_
    refine lv_icmp_ge (tgt := 233) C.x C.b dX1_digest_207 (by decide) (fun c54 => ?_) (fun c54 => ?_)
    · have hw := hw.1 c54
      refine lv_iconst (v := 0) C.x C.b dX1_digest_233 (by decide) ?_
      refine lv_istore (lv' := [(4, .int 0), (1, .ref x1), (2, .long x2)]) C.x C.b dX1_digest_234 hl (by decide) rfl (fun ls hl => ?_)
      obtain ⟨k55, hw⟩ := hw
      exact kJ_X1_digest_236 C k55 _ _ _ _ _ _ _ hS (lv_sub hl [1, 2, 0] rfl) hw
    · have hw := hw.2 c54
      refine lv_lload_n C.x C.b dX1_digest_210 rfl (lv_at hl 1 rfl) ?_
      refine lv_aload_n C.x C.b dX1_digest_211 rfl (lv_at hl 0 rfl) ?_
      refine a_RN C hS in_X2 rfl (k := 1) (ci := 1) (by decide) q155 (fun _ h9 => h9) dX1_digest_212 hw (fun r56 hw => ?_)
      refine lv_iload C.x C.b dX1_digest_215 (lv_at hl 2 rfl) ?_
      obtain ⟨a57, e9, hw9⟩ := hw; subst e9; have hw := hw9; clear hw9
      have hl : lv_has ls 7 [(1, .ref x1), (2, .long x2), (4, .int x4)] := hl
      refine W.eq (g2 := F0 m 217 ls [.int x4, .ref a57, .long x2]) rfl ?_
      obtain ⟨fs, hq, hw⟩ := hw
      refine a_callV (rest := [.long x2]) C hS hl 8 hq rfl (kJ_J2_get C.tr hw) q1218 q390 q391 q81 q392 ny_J2_get rfl (Nat.le_of_ble_eq_true rfl) (Nat.le_of_ble_eq_true rfl) rfl (Nat.le_of_ble_eq_true rfl) dX1_digest_217 (fun X1 w1 H1 l1 q1 ce hx => hx.elim) (fun v w58 H locs hq _ hS => ?_)
      obtain ⟨r59, rfl, hw⟩ := hq
      refine W.eq (g2 := F0 m 220 ls [va_rf r59, .long x2]) rfl ?_
      obtain ⟨a60, e9, hw9⟩ := hw; subst e9; have hw := hw9; clear hw9
      have hl : lv_has ls 7 [(1, .ref x1), (2, .long x2), (4, .int x4)] := hl
      refine W.eq (g2 := F0 m 220 ls [.ref a60, .long x2]) rfl ?_
      refine a_cast (ci := 5) C hS rfl q1232 dX1_digest_220 hw (fun hw => ?_)
      refine g_callS (rest := []) C hS hl (kJ_X1_hashLink C.tr hw) q1233 q1234 q77 q1235 ny_X1_hashLink rfl (Nat.le_of_ble_eq_true rfl) (Nat.le_of_ble_eq_true rfl) rfl (Nat.le_of_ble_eq_true rfl) dX1_digest_223 (fun X1 w1 H1 l1 q1 ce hx => hx.elim) (fun v w61 H locs hq _ hS => ?_)
      obtain ⟨r62, rfl, hw⟩ := hq
      refine W.eq (g2 := F0 m 226 ls [.long r62]) rfl ?_
      refine lv_lstore_n (lv' := [(2, .long r62), (1, .ref x1), (4, .int x4)]) C.x C.b dX1_digest_226 rfl hl (by decide) rfl (fun ls hl => ?_)
      refine lv_iinc (v := (x4 + 1)) (lv' := [(4, .int (x4 + 1)), (2, .long r62), (1, .ref x1)]) C.x C.b dX1_digest_227 hl (k := 2) rfl rfl (by decide) rfl (fun ls hl => ?_)
      refine lv_goto (tgt := 198) C.x C.b dX1_digest_230 (by decide) ?_
      exact ih _ _ _ _ _ _ _ hS (lv_sub hl [2, 1, 0] rfl) hw
def wJ_X1_digest_132 (E : gE) (K72 : Nat → Int64 → Int32 → gW → Prop) (Q : Int64 → gW → Prop) : Nat → Nat → Int64 → Int32 → Nat → Int32 → gW → Prop
  | 0, _, _, _, _, _, _ => False
  | n + 1, x1, x2, x4, x5, x6, w => (8 ≤ x6 → (K72 x1 x2 (x4 + 1) w)) ∧ (¬ 8 ≤ x6 → (aI E x1 1 6 (fun v87 => aKind E x5 2 (wJ_X3_entry E x5 x6 v87 (fun r89 w88 => ∀ z90 : Int64, z90 = ((31 * x2) + r89.toInt64) → wJ_X1_digest_132 E K72 Q n x1 z90 x4 x5 (x6 + 1) w88) w) w) w))
theorem kJ_X1_digest_132 (C : gC p l s m args meth c cX1_digest 7 (some .long) RX1 E [] "digest") {Q : Int64 → gW → Prop} {K72 : Nat → Int64 → Int32 → gW → Prop} (hK72 : ∀ (x1 : Nat) (x2 : Int64) (x4 : Int32) (w : gW) (H : Heap) (locs : List Loc) (ls : Array Slot), gS E w0 w H locs → lv_has ls 7 [(1, .ref x1), (2, .long x2), (4, .int x4)] → K72 x1 x2 x4 w → gGo p l e s m args below meth c H locs 7 158 E w0 w (gJ Q) (gNoX) (F0 m 72 ls [])) : ∀ (n : Nat) (x1 : Nat) (x2 : Int64) (x4 : Int32) (x5 : Nat) (x6 : Int32) (w : gW) (H : Heap) (locs : List Loc) (ls : Array Slot), gS E w0 w H locs → lv_has ls 7 [(1, .ref x1), (2, .long x2), (4, .int x4), (5, .ref x5), (6, .int x6)] → wJ_X1_digest_132 E K72 Q n x1 x2 x4 x5 x6 w → gGo p l e s m args below meth c H locs 7 158 E w0 w (gJ Q) (gNoX) (F0 m 132 ls []) := by
  intro n
  induction n with
  | zero =>
    intro x1 x2 x4 x5 x6 w H locs ls hS hl hw
    exact hw.elim
  | succ n ih =>
    intro x1 x2 x4 x5 x6 w H locs ls hS hl hw
    unfold wJ_X1_digest_132 at hw
    refine lv_iload C.x C.b dX1_digest_132 (lv_at hl 4 rfl) ?_
    refine lv_bipush (v := 8) C.x C.b dX1_digest_134 (by decide) ?_
    refine lv_icmp_ge (tgt := 164) C.x C.b dX1_digest_136 (by decide) (fun c86 => ?_) (fun c86 => ?_)
    · have hw := hw.1 c86
      refine lv_iinc (v := (x4 + 1)) (lv' := [(4, .int (x4 + 1)), (1, .ref x1), (2, .long x2), (5, .ref x5), (6, .int x6)]) C.x C.b dX1_digest_164 hl (k := 2) rfl rfl (by decide) rfl (fun ls hl => ?_)
      refine lv_goto (tgt := 72) C.x C.b dX1_digest_167 (by decide) ?_
      exact hK72 _ _ _ _ _ _ _ hS (lv_sub hl [1, 2, 0] rfl) hw
    · have hw := hw.2 c86
      refine lv_ldc2 C.x C.b C.ow (C.ts _ q1217) dX1_digest_139 ?_
      refine lv_lload_n C.x C.b dX1_digest_142 rfl (lv_at hl 1 rfl) ?_
      refine lv_lmul C.x C.b dX1_digest_143 ?_
      refine lv_aload C.x C.b dX1_digest_144 (lv_at hl 3 rfl) ?_
      refine lv_iload C.x C.b dX1_digest_146 (lv_at hl 4 rfl) ?_
      refine lv_aload_n C.x C.b dX1_digest_148 rfl (lv_at hl 0 rfl) ?_
      refine a_IN C hS in_X2 rfl (k := 6) (ci := 1) (by decide) q163 (fun _ h9 => h9) dX1_digest_149 hw (fun v87 hw => ?_)
      obtain ⟨fs, hq, hw⟩ := hw
      refine a_callV (rest := [.long (31 * x2)]) C hS hl 2 hq rfl (kJ_X3_entry C.tr hw) q1228 q1229 q1230 q82 q1231 ny_X3_entry rfl (Nat.le_of_ble_eq_true rfl) (Nat.le_of_ble_eq_true rfl) rfl (Nat.le_of_ble_eq_true rfl) dX1_digest_152 (fun X1 w1 H1 l1 q1 ce hx => hx.elim) (fun v w88 H locs hq _ hS => ?_)
      obtain ⟨r89, rfl, hw⟩ := hq
      refine W.eq (g2 := F0 m 155 ls [.int r89, .long (31 * x2)]) rfl ?_
      refine lv_i2l C.x C.b dX1_digest_155 rfl ?_
      refine lv_ladd C.x C.b dX1_digest_156 ?_
      refine lv_topl (fun z90 ez90 => ?_)
      have hw := hw z90 ez90
      refine lv_lstore_n (lv' := [(2, .long z90), (1, .ref x1), (4, .int x4), (5, .ref x5), (6, .int x6)]) C.x C.b dX1_digest_157 rfl hl (by decide) rfl (fun ls hl => ?_)
      refine lv_iinc (v := (x6 + 1)) (lv' := [(6, .int (x6 + 1)), (2, .long z90), (1, .ref x1), (4, .int x4), (5, .ref x5)]) C.x C.b dX1_digest_158 hl (k := 4) rfl rfl (by decide) rfl (fun ls hl => ?_)
      refine lv_goto (tgt := 132) C.x C.b dX1_digest_161 (by decide) ?_
      exact ih _ _ _ _ _ _ _ _ _ hS (lv_sub hl [2, 1, 3, 4, 0] rfl) hw
def wJ_X1_digest_101 (E : gE) (K72 : Nat → Int64 → Int32 → gW → Prop) (Q : Int64 → gW → Prop) : Nat → Nat → Int64 → Int32 → Nat → Int32 → gW → Prop
  | 0, _, _, _, _, _, _ => False
  | n + 1, x1, x2, x4, x5, x6, w => (6 ≤ x6 → (∃ k64 : Nat, wJ_X1_digest_132 E K72 Q k64 x1 x2 x4 x5 0 w)) ∧ (¬ 6 ≤ x6 → (aKind E x5 2 (wJ_X3_value E x5 x6 (fun r66 w65 => ∀ z67 : Int64, z67 = ((31 * x2) + r66.toInt64) → wJ_X1_digest_101 E K72 Q n x1 z67 x4 x5 (x6 + 1) w65) w) w))
theorem kJ_X1_digest_101 (C : gC p l s m args meth c cX1_digest 7 (some .long) RX1 E [] "digest") {Q : Int64 → gW → Prop} {K72 : Nat → Int64 → Int32 → gW → Prop} (hK72 : ∀ (x1 : Nat) (x2 : Int64) (x4 : Int32) (w : gW) (H : Heap) (locs : List Loc) (ls : Array Slot), gS E w0 w H locs → lv_has ls 7 [(1, .ref x1), (2, .long x2), (4, .int x4)] → K72 x1 x2 x4 w → gGo p l e s m args below meth c H locs 7 158 E w0 w (gJ Q) (gNoX) (F0 m 72 ls [])) : ∀ (n : Nat) (x1 : Nat) (x2 : Int64) (x4 : Int32) (x5 : Nat) (x6 : Int32) (w : gW) (H : Heap) (locs : List Loc) (ls : Array Slot), gS E w0 w H locs → lv_has ls 7 [(1, .ref x1), (2, .long x2), (4, .int x4), (5, .ref x5), (6, .int x6)] → wJ_X1_digest_101 E K72 Q n x1 x2 x4 x5 x6 w → gGo p l e s m args below meth c H locs 7 158 E w0 w (gJ Q) (gNoX) (F0 m 101 ls []) := by
  intro n
  induction n with
  | zero =>
    intro x1 x2 x4 x5 x6 w H locs ls hS hl hw
    exact hw.elim
  | succ n ih =>
    intro x1 x2 x4 x5 x6 w H locs ls hS hl hw
    unfold wJ_X1_digest_101 at hw
    refine lv_iload C.x C.b dX1_digest_101 (lv_at hl 4 rfl) ?_
    refine lv_bipush (v := 6) C.x C.b dX1_digest_103 (by decide) ?_
    refine lv_icmp_ge (tgt := 129) C.x C.b dX1_digest_105 (by decide) (fun c63 => ?_) (fun c63 => ?_)
    · have hw := hw.1 c63
      refine lv_iconst (v := 0) C.x C.b dX1_digest_129 (by decide) ?_
      refine lv_istore (lv' := [(6, .int 0), (1, .ref x1), (2, .long x2), (4, .int x4), (5, .ref x5)]) C.x C.b dX1_digest_130 hl (by decide) rfl (fun ls hl => ?_)
      obtain ⟨k64, hw⟩ := hw
      exact kJ_X1_digest_132 C hK72 k64 _ _ _ _ _ _ _ _ _ hS (lv_sub hl [1, 2, 3, 4, 0] rfl) hw
    · have hw := hw.2 c63
      refine lv_ldc2 C.x C.b C.ow (C.ts _ q1217) dX1_digest_108 ?_
      refine lv_lload_n C.x C.b dX1_digest_111 rfl (lv_at hl 1 rfl) ?_
      refine lv_lmul C.x C.b dX1_digest_112 ?_
      refine lv_aload C.x C.b dX1_digest_113 (lv_at hl 3 rfl) ?_
      refine lv_iload C.x C.b dX1_digest_115 (lv_at hl 4 rfl) ?_
      obtain ⟨fs, hq, hw⟩ := hw
      refine a_callV (rest := [.long (31 * x2)]) C hS hl 2 hq rfl (kJ_X3_value C.tr hw) q1220 q1221 q1222 q82 q1223 ny_X3_value rfl (Nat.le_of_ble_eq_true rfl) (Nat.le_of_ble_eq_true rfl) rfl (Nat.le_of_ble_eq_true rfl) dX1_digest_117 (fun X1 w1 H1 l1 q1 ce hx => hx.elim) (fun v w65 H locs hq _ hS => ?_)
      obtain ⟨r66, rfl, hw⟩ := hq
      refine W.eq (g2 := F0 m 120 ls [.int r66, .long (31 * x2)]) rfl ?_
      refine lv_i2l C.x C.b dX1_digest_120 rfl ?_
      refine lv_ladd C.x C.b dX1_digest_121 ?_
      refine lv_topl (fun z67 ez67 => ?_)
      have hw := hw z67 ez67
      refine lv_lstore_n (lv' := [(2, .long z67), (1, .ref x1), (4, .int x4), (5, .ref x5), (6, .int x6)]) C.x C.b dX1_digest_122 rfl hl (by decide) rfl (fun ls hl => ?_)
      refine lv_iinc (v := (x6 + 1)) (lv' := [(6, .int (x6 + 1)), (2, .long z67), (1, .ref x1), (4, .int x4), (5, .ref x5)]) C.x C.b dX1_digest_123 hl (k := 4) rfl rfl (by decide) rfl (fun ls hl => ?_)
      refine lv_goto (tgt := 101) C.x C.b dX1_digest_126 (by decide) ?_
      exact ih _ _ _ _ _ _ _ _ _ hS (lv_sub hl [2, 1, 3, 4, 0] rfl) hw
def wJ_X1_digest_72 (E : gE) (Q : Int64 → gW → Prop) : Nat → Nat → Int64 → Int32 → gW → Prop
  | 0, _, _, _, _ => False
  | n + 1, x1, x2, x4, w => aR E x1 1 0 (fun r25 => ∃ a26 : Nat, r25 = some a26 ∧ (aKind E a26 8 (wJ_J2_size E a26 (fun r28 w27 => (r28 ≤ x4 → (aR E x1 1 2 (fun r30 => ∃ a31 : Nat, r30 = some a31 ∧ (wJ_X1_hash E x2 a31 (fun r33 w32 => aA E 0 1 (fun q34 w35 => aR E x1 1 1 (fun r36 => ∃ a37 : Nat, r36 = some a37 ∧ (aKind E a37 8 (wJ_J2_size E a37 (fun r39 w38 => aS E 0 q34 0 r39 (fun w40 => wJ_X1_hash E r33 q34 (fun r42 w41 => ∃ k43 : Nat, wJ_X1_digest_198 E Q k43 x1 r42 0 w41) w40) w38) w35) w35)) w35) w32) w27)) w27)) ∧ (¬ r28 ≤ x4 → (aR E x1 1 0 (fun r44 => ∃ a45 : Nat, r44 = some a45 ∧ (aKind E a45 8 (wJ_J2_get E a45 x4 (fun r47 w46 => ∃ a48 : Nat, r47 = some a48 ∧ (aKind E a48 2 (∃ k49 : Nat, wJ_X1_digest_101 E (fun x1 x2 x4 w => wJ_X1_digest_72 E Q n x1 x2 x4 w) Q k49 x1 x2 x4 a48 0 w46) w46)) w27) w27)) w27))) w) w)) w
theorem kJ_X1_digest_72 (C : gC p l s m args meth c cX1_digest 7 (some .long) RX1 E [] "digest") {Q : Int64 → gW → Prop} : ∀ (n : Nat) (x1 : Nat) (x2 : Int64) (x4 : Int32) (w : gW) (H : Heap) (locs : List Loc) (ls : Array Slot), gS E w0 w H locs → lv_has ls 7 [(1, .ref x1), (2, .long x2), (4, .int x4)] → wJ_X1_digest_72 E Q n x1 x2 x4 w → gGo p l e s m args below meth c H locs 7 158 E w0 w (gJ Q) (gNoX) (F0 m 72 ls []) := by
  intro n
  induction n with
  | zero =>
    intro x1 x2 x4 w H locs ls hS hl hw
    exact hw.elim
  | succ n ih =>
    intro x1 x2 x4 w H locs ls hS hl hw
    unfold wJ_X1_digest_72 at hw
    refine lv_iload C.x C.b dX1_digest_72 (lv_at hl 2 rfl) ?_
    refine lv_aload_n C.x C.b dX1_digest_74 rfl (lv_at hl 0 rfl) ?_
    refine a_RN C hS in_X2 rfl (k := 0) (ci := 1) (by decide) q153 (fun _ h9 => h9) dX1_digest_75 hw (fun r25 hw => ?_)
    obtain ⟨a26, e9, hw9⟩ := hw; subst e9; have hw := hw9; clear hw9
    have hl : lv_has ls 7 [(1, .ref x1), (2, .long x2), (4, .int x4)] := hl
    refine W.eq (g2 := F0 m 78 ls [.ref a26, .int x4]) rfl ?_
    obtain ⟨fs, hq, hw⟩ := hw
    refine a_callV (rest := [.int x4]) C hS hl 8 hq rfl (kJ_J2_size C.tr hw) q372 q373 q374 q81 q375 ny_J2_size rfl (Nat.le_of_ble_eq_true rfl) (Nat.le_of_ble_eq_true rfl) rfl (Nat.le_of_ble_eq_true rfl) dX1_digest_78 (fun X1 w1 H1 l1 q1 ce hx => hx.elim) (fun v w27 H locs hq _ hS => ?_)
    obtain ⟨r28, rfl, hw⟩ := hq
    refine W.eq (g2 := F0 m 81 ls [.int r28, .int x4]) rfl ?_
    refine lv_icmp_ge (tgt := 170) C.x C.b dX1_digest_81 (by decide) (fun c29 => ?_) (fun c29 => ?_)
    · have hw := hw.1 c29
      refine lv_lload_n C.x C.b dX1_digest_170 rfl (lv_at hl 1 rfl) ?_
      refine lv_aload_n C.x C.b dX1_digest_171 rfl (lv_at hl 0 rfl) ?_
      refine a_RN C hS in_X2 rfl (k := 2) (ci := 1) (by decide) q157 (fun _ h9 => h9) dX1_digest_172 hw (fun r30 hw => ?_)
      obtain ⟨a31, e9, hw9⟩ := hw; subst e9; have hw := hw9; clear hw9
      have hl : lv_has ls 7 [(1, .ref x1), (2, .long x2), (4, .int x4)] := hl
      refine W.eq (g2 := F0 m 175 ls [.ref a31, .long x2]) rfl ?_
      refine g_callS (rest := []) C hS hl (kJ_X1_hash C.tr hw) q1214 q1215 q77 q1216 ny_X1_hash rfl (Nat.le_of_ble_eq_true rfl) (Nat.le_of_ble_eq_true rfl) rfl (Nat.le_of_ble_eq_true rfl) dX1_digest_175 (fun X1 w1 H1 l1 q1 ce hx => hx.elim) (fun v w32 H locs hq _ hS => ?_)
      obtain ⟨r33, rfl, hw⟩ := hq
      refine W.eq (g2 := F0 m 178 ls [.long r33]) rfl ?_
      refine lv_iconst (v := 1) C.x C.b dX1_digest_178 (by decide) ?_
      refine a_A (t := 0) (atype := .int) C hS rfl (by decide) q206 dX1_digest_179 hw (fun q34 w35 H hw hS => ?_)
      refine lv_dup C.x C.b dX1_digest_181 rfl ?_
      refine lv_iconst (v := 0) C.x C.b dX1_digest_182 (by decide) ?_
      refine lv_aload_n C.x C.b dX1_digest_183 rfl (lv_at hl 0 rfl) ?_
      refine a_RN C hS in_X2 rfl (k := 1) (ci := 1) (by decide) q155 (fun _ h9 => h9) dX1_digest_184 hw (fun r36 hw => ?_)
      obtain ⟨a37, e9, hw9⟩ := hw; subst e9; have hw := hw9; clear hw9
      have hl : lv_has ls 7 [(1, .ref x1), (2, .long x2), (4, .int x4)] := hl
      refine W.eq (g2 := F0 m 187 ls [.ref a37, .int 0, .ref q34, .ref q34, .long r33]) rfl ?_
      obtain ⟨fs, hq, hw⟩ := hw
      refine a_callV (rest := [.int 0, .ref q34, .ref q34, .long r33]) C hS hl 8 hq rfl (kJ_J2_size C.tr hw) q372 q373 q374 q81 q375 ny_J2_size rfl (Nat.le_of_ble_eq_true rfl) (Nat.le_of_ble_eq_true rfl) rfl (Nat.le_of_ble_eq_true rfl) dX1_digest_187 (fun X1 w1 H1 l1 q1 ce hx => hx.elim) (fun v w38 H locs hq _ hS => ?_)
      obtain ⟨r39, rfl, hw⟩ := hq
      refine W.eq (g2 := F0 m 190 ls [.int r39, .int 0, .ref q34, .ref q34, .long r33]) rfl ?_
      refine a_Si C hS dX1_digest_190 hw (fun w40 H locs hw hS => ?_)
      refine g_callS (rest := []) C hS hl (kJ_X1_hash C.tr hw) q1214 q1215 q77 q1216 ny_X1_hash rfl (Nat.le_of_ble_eq_true rfl) (Nat.le_of_ble_eq_true rfl) rfl (Nat.le_of_ble_eq_true rfl) dX1_digest_191 (fun X1 w1 H1 l1 q1 ce hx => hx.elim) (fun v w41 H locs hq _ hS => ?_)
      obtain ⟨r42, rfl, hw⟩ := hq
      refine W.eq (g2 := F0 m 194 ls [.long r42]) rfl ?_
      refine lv_lstore_n (lv' := [(2, .long r42), (1, .ref x1), (4, .int x4)]) C.x C.b dX1_digest_194 rfl hl (by decide) rfl (fun ls hl => ?_)
      refine lv_iconst (v := 0) C.x C.b dX1_digest_195 (by decide) ?_
      refine lv_istore (lv' := [(4, .int 0), (2, .long r42), (1, .ref x1)]) C.x C.b dX1_digest_196 hl (by decide) rfl (fun ls hl => ?_)
      obtain ⟨k43, hw⟩ := hw
      exact kJ_X1_digest_198 C k43 _ _ _ _ _ _ _ hS (lv_sub hl [2, 1, 0] rfl) hw
    · have hw := hw.2 c29
      refine lv_aload_n C.x C.b dX1_digest_84 rfl (lv_at hl 0 rfl) ?_
      refine a_RN C hS in_X2 rfl (k := 0) (ci := 1) (by decide) q153 (fun _ h9 => h9) dX1_digest_85 hw (fun r44 hw => ?_)
      refine lv_iload C.x C.b dX1_digest_88 (lv_at hl 2 rfl) ?_
      obtain ⟨a45, e9, hw9⟩ := hw; subst e9; have hw := hw9; clear hw9
      have hl : lv_has ls 7 [(1, .ref x1), (2, .long x2), (4, .int x4)] := hl
      refine W.eq (g2 := F0 m 90 ls [.int x4, .ref a45]) rfl ?_
      obtain ⟨fs, hq, hw⟩ := hw
      refine a_callV (rest := []) C hS hl 8 hq rfl (kJ_J2_get C.tr hw) q1218 q390 q391 q81 q392 ny_J2_get rfl (Nat.le_of_ble_eq_true rfl) (Nat.le_of_ble_eq_true rfl) rfl (Nat.le_of_ble_eq_true rfl) dX1_digest_90 (fun X1 w1 H1 l1 q1 ce hx => hx.elim) (fun v w46 H locs hq _ hS => ?_)
      obtain ⟨r47, rfl, hw⟩ := hq
      refine W.eq (g2 := F0 m 93 ls [va_rf r47]) rfl ?_
      obtain ⟨a48, e9, hw9⟩ := hw; subst e9; have hw := hw9; clear hw9
      have hl : lv_has ls 7 [(1, .ref x1), (2, .long x2), (4, .int x4)] := hl
      refine W.eq (g2 := F0 m 93 ls [.ref a48]) rfl ?_
      refine a_cast (ci := 2) C hS rfl q1219 dX1_digest_93 hw (fun hw => ?_)
      refine lv_astore (lv' := [(5, .ref a48), (1, .ref x1), (2, .long x2), (4, .int x4)]) C.x C.b dX1_digest_96 hl (by decide) rfl (fun ls hl => ?_)
      refine lv_iconst (v := 0) C.x C.b dX1_digest_98 (by decide) ?_
      refine lv_istore (lv' := [(6, .int 0), (5, .ref a48), (1, .ref x1), (2, .long x2), (4, .int x4)]) C.x C.b dX1_digest_99 hl (by decide) rfl (fun ls hl => ?_)
      obtain ⟨k49, hw⟩ := hw
      exact kJ_X1_digest_101 C ih k49 _ _ _ _ _ _ _ _ _ hS (lv_sub hl [2, 3, 4, 1, 0] rfl) hw
def wJ_X1_digest (E : gE) (i0 : Nat) (Q : Int64 → gW → Prop) (w : gW) : Prop :=
  aR E i0 0 0 (fun r1 => aA E 0 7 (fun q2 w3 => aI E i0 0 2 (fun v4 => aS E 0 q2 0 v4 (fun w5 => aI E i0 0 4 (fun v6 => aS E 0 q2 1 v6 (fun w7 => ∃ a8 : Nat, r1 = some a8 ∧ (aR E a8 1 0 (fun r9 => ∃ a10 : Nat, r9 = some a10 ∧ (aKind E a10 8 (wJ_J2_size E a10 (fun r12 w11 => aS E 0 q2 2 r12 (fun w13 => aI E a8 1 6 (fun v14 => aS E 0 q2 3 v14 (fun w15 => aI E a8 1 7 (fun v16 => aS E 0 q2 4 v16 (fun w17 => aI E a8 1 8 (fun v18 => aS E 0 q2 5 v18 (fun w19 => aI E a8 1 9 (fun v20 => aS E 0 q2 6 v20 (fun w21 => wJ_X1_hash E 18498 q2 (fun r23 w22 => ∃ k24 : Nat, wJ_X1_digest_72 E Q k24 a8 r23 0 w22) w21) w19) w19) w17) w17) w15) w15) w13) w13) w11) w7) w7)) w7)) w5) w5) w3) w3) w) w
theorem kJ_X1_digest_r (C : gC p l s m args meth c cX1_digest 7 (some .long) RX1 E [] "digest") (i0 : Nat) {Q : Int64 → gW → Prop} (w : gW) (H : Heap) (locs : List Loc) (ls : Array Slot) (hS : gS E w0 w H locs) (hl : lv_has ls 7 [(0, .ref i0)]) (hw : wJ_X1_digest E i0 Q w) : gGo p l e s m args below meth c H locs 7 158 E w0 w (gJ Q) (gNoX) (F0 m 0 ls []) := by
  unfold wJ_X1_digest at hw
  refine lv_aload_n C.x C.b dX1_digest_0 rfl (lv_at hl 0 rfl) ?_
  refine a_R C hS in_X1 rfl (k := 0) (ci := 0) (by decide) q345 (fun _ h9 => h9) dX1_digest_1 hw (fun r1 hw => ?_)
  refine a_astore_n (lv' := [(1, va_rf r1), (0, .ref i0)]) C dX1_digest_4 rfl hl (by decide) (by cases r1 <;> rfl) (fun ls hl => ?_)
  refine lv_ldc2 C.x C.b C.ow (C.ts _ q1213) dX1_digest_5 ?_
  refine lv_bipush (v := 7) C.x C.b dX1_digest_8 (by decide) ?_
  refine a_A (t := 0) (atype := .int) C hS rfl (by decide) q206 dX1_digest_10 hw (fun q2 w3 H hw hS => ?_)
  refine lv_dup C.x C.b dX1_digest_12 rfl ?_
  refine lv_iconst (v := 0) C.x C.b dX1_digest_13 (by decide) ?_
  refine lv_aload_n C.x C.b dX1_digest_14 rfl (lv_at hl 1 rfl) ?_
  refine a_I C hS in_X1 rfl (k := 2) (ci := 0) (by decide) q347 (fun _ h9 => h9) dX1_digest_15 hw (fun v4 hw => ?_)
  refine a_Si C hS dX1_digest_18 hw (fun w5 H locs hw hS => ?_)
  refine lv_dup C.x C.b dX1_digest_19 rfl ?_
  refine lv_iconst (v := 1) C.x C.b dX1_digest_20 (by decide) ?_
  refine lv_aload_n C.x C.b dX1_digest_21 rfl (lv_at hl 1 rfl) ?_
  refine a_I C hS in_X1 rfl (k := 4) (ci := 0) (by decide) q351 (fun _ h9 => h9) dX1_digest_22 hw (fun v6 hw => ?_)
  refine a_Si C hS dX1_digest_25 hw (fun w7 H locs hw hS => ?_)
  refine lv_dup C.x C.b dX1_digest_26 rfl ?_
  refine lv_iconst (v := 2) C.x C.b dX1_digest_27 (by decide) ?_
  refine a_aload_n C dX1_digest_28 rfl (lv_at hl 0 rfl) ?_
  obtain ⟨a8, e9, hw9⟩ := hw; subst e9; have hw := hw9; clear hw9
  have hl : lv_has ls 7 [(1, .ref a8), (0, .ref i0)] := hl
  refine W.eq (g2 := F0 m 29 ls [.ref a8, .int 2, .ref q2, .ref q2, .long 18498]) rfl ?_
  refine a_RN C hS in_X2 rfl (k := 0) (ci := 1) (by decide) q153 (fun _ h9 => h9) dX1_digest_29 hw (fun r9 hw => ?_)
  obtain ⟨a10, e9, hw9⟩ := hw; subst e9; have hw := hw9; clear hw9
  have hl : lv_has ls 7 [(1, .ref a8), (0, .ref i0)] := hl
  refine W.eq (g2 := F0 m 32 ls [.ref a10, .int 2, .ref q2, .ref q2, .long 18498]) rfl ?_
  obtain ⟨fs, hq, hw⟩ := hw
  refine a_callV (rest := [.int 2, .ref q2, .ref q2, .long 18498]) C hS hl 8 hq rfl (kJ_J2_size C.tr hw) q372 q373 q374 q81 q375 ny_J2_size rfl (Nat.le_of_ble_eq_true rfl) (Nat.le_of_ble_eq_true rfl) rfl (Nat.le_of_ble_eq_true rfl) dX1_digest_32 (fun X1 w1 H1 l1 q1 ce hx => hx.elim) (fun v w11 H locs hq _ hS => ?_)
  obtain ⟨r12, rfl, hw⟩ := hq
  refine W.eq (g2 := F0 m 35 ls [.int r12, .int 2, .ref q2, .ref q2, .long 18498]) rfl ?_
  refine a_Si C hS dX1_digest_35 hw (fun w13 H locs hw hS => ?_)
  refine lv_dup C.x C.b dX1_digest_36 rfl ?_
  refine lv_iconst (v := 3) C.x C.b dX1_digest_37 (by decide) ?_
  refine lv_aload_n C.x C.b dX1_digest_38 rfl (lv_at hl 0 rfl) ?_
  refine a_IN C hS in_X2 rfl (k := 6) (ci := 1) (by decide) q163 (fun _ h9 => h9) dX1_digest_39 hw (fun v14 hw => ?_)
  refine a_Si C hS dX1_digest_42 hw (fun w15 H locs hw hS => ?_)
  refine lv_dup C.x C.b dX1_digest_43 rfl ?_
  refine lv_iconst (v := 4) C.x C.b dX1_digest_44 (by decide) ?_
  refine lv_aload_n C.x C.b dX1_digest_45 rfl (lv_at hl 0 rfl) ?_
  refine a_IN C hS in_X2 rfl (k := 7) (ci := 1) (by decide) q165 (fun _ h9 => h9) dX1_digest_46 hw (fun v16 hw => ?_)
  refine a_Si C hS dX1_digest_49 hw (fun w17 H locs hw hS => ?_)
  refine lv_dup C.x C.b dX1_digest_50 rfl ?_
  refine lv_iconst (v := 5) C.x C.b dX1_digest_51 (by decide) ?_
  refine lv_aload_n C.x C.b dX1_digest_52 rfl (lv_at hl 0 rfl) ?_
  refine a_IN C hS in_X2 rfl (k := 8) (ci := 1) (by decide) q167 (fun _ h9 => h9) dX1_digest_53 hw (fun v18 hw => ?_)
  refine a_Si C hS dX1_digest_56 hw (fun w19 H locs hw hS => ?_)
  refine lv_dup C.x C.b dX1_digest_57 rfl ?_
  refine lv_bipush (v := 6) C.x C.b dX1_digest_58 (by decide) ?_
  refine lv_aload_n C.x C.b dX1_digest_60 rfl (lv_at hl 0 rfl) ?_
  refine a_IN C hS in_X2 rfl (k := 9) (ci := 1) (by decide) q169 (fun _ h9 => h9) dX1_digest_61 hw (fun v20 hw => ?_)
  refine a_Si C hS dX1_digest_64 hw (fun w21 H locs hw hS => ?_)
  refine g_callS (rest := []) C hS hl (kJ_X1_hash C.tr hw) q1214 q1215 q77 q1216 ny_X1_hash rfl (Nat.le_of_ble_eq_true rfl) (Nat.le_of_ble_eq_true rfl) rfl (Nat.le_of_ble_eq_true rfl) dX1_digest_65 (fun X1 w1 H1 l1 q1 ce hx => hx.elim) (fun v w22 H locs hq _ hS => ?_)
  obtain ⟨r23, rfl, hw⟩ := hq
  refine W.eq (g2 := F0 m 68 ls [.long r23]) rfl ?_
  refine lv_lstore_n (lv' := [(2, .long r23), (1, .ref a8), (0, .ref i0)]) C.x C.b dX1_digest_68 rfl hl (by decide) rfl (fun ls hl => ?_)
  refine lv_iconst (v := 0) C.x C.b dX1_digest_69 (by decide) ?_
  refine lv_istore (lv' := [(4, .int 0), (2, .long r23), (1, .ref a8), (0, .ref i0)]) C.x C.b dX1_digest_70 hl (by decide) rfl (fun ls hl => ?_)
  obtain ⟨k24, hw⟩ := hw
  exact kJ_X1_digest_72 C k24 _ _ _ _ _ _ _ hS (lv_sub hl [2, 1, 0] rfl) hw
theorem ny_X1_digest : gNm yX1_digest 0 = true := by decide +kernel
theorem kJ_X1_digest {l : Launch} (ht : l.stackTraces = false) {w : gW} {i0 : Nat} {Q : Int64 → gW → Prop} (hw : wJ_X1_digest E i0 Q w) : gMet l yX1_digest (ws_ yX1_digest cX1_digest 7 (some .long)) E w [.ref i0] 7 158 (gJ Q) (gNoX) :=
  g_ofW ht (by decide) (Nat.le_of_ble_eq_true rfl) (fun p e s m below meth c ls H C hl hS => kJ_X1_digest_r C _ _ _ _ _ hS hl hw)
end GB1
