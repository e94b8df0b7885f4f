section GW2
variable {p : Program} {l : Launch} {e : Env} {s : State} {m : MethodId} {args : Array Value} {below : List Frame} {meth : Method} {c : Code} {E : gE} {ad : Nat → Nat} {w0 w : gW}
def wM_tick (a1 : Int32) (Q : Int32 → gM → Prop) (u : gM) : Prop :=
  wM_hold (fun u1 => wM_ticks a1 (fun r3 u2 => wM_done r3 (fun r5 u4 => Q r5 u4) u2) u1) u
theorem kM_tick_r (C : gC p l s m args meth c cX5_tick 2 (some .int) RX5 E [] "tick") (hI : mI ad) (a1 : Int32) {Q : Int32 → gM → Prop} (u : gM) (H : Heap) (locs : List Loc) (ls : Array Slot) (hS : gS E w0 (gmW E ad u w) H locs) (hl : lv_has ls 2 [(0, .ref (ad 8)), (1, .int a1)]) (hw : wM_tick a1 Q u) : mGo p l e s m args below meth c 7 159 E ad w0 w (uI Q) H locs (F0 m 0 ls []) := by
  unfold wM_tick at hw
  refine lv_aload_n C.x C.b dX5_tick_0 rfl (lv_at hl 0 rfl) ?_
  refine gm_callV (rest := []) C hI hS hl (kM_hold C.tr hI hw) q1539 q1541 qs27 q88 q1542 ny_hold rfl (Nat.le_of_ble_eq_true rfl) (Nat.le_of_ble_eq_true rfl) rfl (Nat.le_of_ble_eq_true rfl) dX5_tick_1 (gm_kv (fun u1 H locs hw hS => ?_))
  refine lv_aload_n C.x C.b dX5_tick_4 rfl (lv_at hl 0 rfl) ?_
  refine lv_aload_n C.x C.b dX5_tick_5 rfl (lv_at hl 0 rfl) ?_
  refine lv_iload_n C.x C.b dX5_tick_6 rfl (lv_at hl 1 rfl) ?_
  refine gm_callV (rest := [.ref (ad 8)]) C hI hS hl (kM_ticks C.tr hI hw) q1638 q1640 qs41 q88 q1641 ny_ticks rfl (Nat.le_of_ble_eq_true rfl) (Nat.le_of_ble_eq_true rfl) rfl (Nat.le_of_ble_eq_true rfl) dX5_tick_7 (gm_ki (fun r3 u2 H locs hw hS => ?_))
  refine gm_callV (rest := []) C hI hS hl (kM_done C.tr hI hw) q1567 q1569 qs32 q88 q1570 ny_done rfl (Nat.le_of_ble_eq_true rfl) (Nat.le_of_ble_eq_true rfl) rfl (Nat.le_of_ble_eq_true rfl) dX5_tick_10 (gm_ki (fun r5 u4 H locs hw hS => ?_))
  exact gm_iret C hS hw dX5_tick_13
theorem kM_tick {l : Launch} (ht : l.stackTraces = false) (hI : mI ad) {w : gW} {u : gM} {a1 : Int32} {Q : Int32 → gM → Prop} (hw : wM_tick a1 Q u) : gMet l yX5_tick (ws_ yX5_tick cX5_tick 2 (some .int)) E (gmW E ad u w) [.ref (ad 8), .int a1] 7 159 (mQ E ad w (uI Q)) gNoX :=
  g_ofW ht (by decide) (Nat.le_of_ble_eq_true rfl) (fun p e s m below meth c ls H C hl hS => kM_tick_r C hI _ _ _ _ _ hS hl hw)
def wM_time (Q : Int32 → gM → Prop) (u : gM) : Prop :=
  uLd 0 487 1 (fun v1 => wM_tells v1 (fun r3 u2 => Q r3 u2) u) u
theorem kM_time_r (C : gC p l s m args meth c cX5_time 1 (some .int) RX5 E [] "time") (hI : mI ad) {Q : Int32 → gM → Prop} (u : gM) (H : Heap) (locs : List Loc) (ls : Array Slot) (hS : gS E w0 (gmW E ad u w) H locs) (hl : lv_has ls 1 [(0, .ref (ad 8))]) (hw : wM_time Q u) : mGo p l e s m args below meth c 1 21 E ad w0 w (uI Q) H locs (F0 m 0 ls []) := by
  unfold wM_time at hw
  refine lv_aload_n C.x C.b dX5_time_0 rfl (lv_at hl 0 rfl) ?_
  refine lv_aload_n C.x C.b dX5_time_1 rfl (lv_at hl 0 rfl) ?_
  refine gm_getA C hI hS 0 (by decide) (a := ad 0) rfl q1481 (fun _ h9 => h9) dX5_time_2 ?_
  refine lv_iconst (v := 1) C.x C.b dX5_time_5 (by decide) ?_
  refine gm_ld C hI hS 0 487 (by decide) rfl dX5_time_6 hw (fun v1 hw => ?_)
  refine gm_callV (rest := []) C hI hS hl (kM_tells C.tr hI hw) q1547 q1549 qs29 q88 q1550 ny_tells rfl (Nat.le_of_ble_eq_true rfl) (Nat.le_of_ble_eq_true rfl) rfl (Nat.le_of_ble_eq_true rfl) dX5_time_7 (gm_ki (fun r3 u2 H locs hw hS => ?_))
  exact gm_iret C hS hw dX5_time_10
theorem kM_time {l : Launch} (ht : l.stackTraces = false) (hI : mI ad) {w : gW} {u : gM} {Q : Int32 → gM → Prop} (hw : wM_time Q u) : gMet l yX5_time (ws_ yX5_time cX5_time 1 (some .int)) E (gmW E ad u w) [.ref (ad 8)] 1 21 (mQ E ad w (uI Q)) gNoX :=
  g_ofW ht (by decide) (Nat.le_of_ble_eq_true rfl) (fun p e s m below meth c ls H C hl hS => kM_time_r C hI _ _ _ _ hS hl hw)
def wM_learns (a1 : Int32) (a2 : Int32) (a3 : Int32) (Q : gM → Prop) (u : gM) : Prop :=
  uSt 0 487 ((51 + (16 * a1)) + (2 * a2)) a3 (fun u1 => uLd 0 487 1 (fun v2 => uSt 0 487 (((51 + (16 * a1)) + (2 * a2)) + 1) v2 (fun u3 => Q u3) u1) u1) u
theorem kM_learns_r (C : gC p l s m args meth c cX5_learns 4 none RX5 E [] "learns") (hI : mI ad) (a1 : Int32) (a2 : Int32) (a3 : Int32) {Q : gM → Prop} (u : gM) (H : Heap) (locs : List Loc) (ls : Array Slot) (hS : gS E w0 (gmW E ad u w) H locs) (hl : lv_has ls 4 [(0, .ref (ad 8)), (1, .int a1), (2, .int a2), (3, .int a3)]) (hw : wM_learns a1 a2 a3 Q u) : mGo p l e s m args below meth c 0 0 E ad w0 w (uV Q) H locs (F0 m 0 ls []) := by
  unfold wM_learns at hw
  refine lv_aload_n C.x C.b dX5_learns_0 rfl (lv_at hl 0 rfl) ?_
  refine gm_getA C hI hS 0 (by decide) (a := ad 0) rfl q1481 (fun _ h9 => h9) dX5_learns_1 ?_
  refine lv_bipush (v := 51) C.x C.b dX5_learns_4 (by decide) ?_
  refine lv_bipush (v := 16) C.x C.b dX5_learns_6 (by decide) ?_
  refine lv_iload_n C.x C.b dX5_learns_8 rfl (lv_at hl 1 rfl) ?_
  refine lv_imul C.x C.b dX5_learns_9 ?_
  refine lv_iadd C.x C.b dX5_learns_10 ?_
  refine lv_iconst (v := 2) C.x C.b dX5_learns_11 (by decide) ?_
  refine lv_iload_n C.x C.b dX5_learns_12 rfl (lv_at hl 2 rfl) ?_
  refine lv_imul C.x C.b dX5_learns_13 ?_
  refine lv_iadd C.x C.b dX5_learns_14 ?_
  refine lv_iload_n C.x C.b dX5_learns_15 rfl (lv_at hl 3 rfl) ?_
  refine gm_st C hI hS 0 487 (by decide) rfl dX5_learns_16 hw (fun u1 H locs hw hS => ?_)
  refine lv_aload_n C.x C.b dX5_learns_17 rfl (lv_at hl 0 rfl) ?_
  refine gm_getA C hI hS 0 (by decide) (a := ad 0) rfl q1481 (fun _ h9 => h9) dX5_learns_18 ?_
  refine lv_bipush (v := 51) C.x C.b dX5_learns_21 (by decide) ?_
  refine lv_bipush (v := 16) C.x C.b dX5_learns_23 (by decide) ?_
  refine lv_iload_n C.x C.b dX5_learns_25 rfl (lv_at hl 1 rfl) ?_
  refine lv_imul C.x C.b dX5_learns_26 ?_
  refine lv_iadd C.x C.b dX5_learns_27 ?_
  refine lv_iconst (v := 2) C.x C.b dX5_learns_28 (by decide) ?_
  refine lv_iload_n C.x C.b dX5_learns_29 rfl (lv_at hl 2 rfl) ?_
  refine lv_imul C.x C.b dX5_learns_30 ?_
  refine lv_iadd C.x C.b dX5_learns_31 ?_
  refine lv_iconst (v := 1) C.x C.b dX5_learns_32 (by decide) ?_
  refine lv_iadd C.x C.b dX5_learns_33 ?_
  refine lv_aload_n C.x C.b dX5_learns_34 rfl (lv_at hl 0 rfl) ?_
  refine gm_getA C hI hS 0 (by decide) (a := ad 0) rfl q1481 (fun _ h9 => h9) dX5_learns_35 ?_
  refine lv_iconst (v := 1) C.x C.b dX5_learns_38 (by decide) ?_
  refine gm_ld C hI hS 0 487 (by decide) rfl dX5_learns_39 hw (fun v2 hw => ?_)
  refine gm_st C hI hS 0 487 (by decide) rfl dX5_learns_40 hw (fun u3 H locs hw hS => ?_)
  exact gm_vret C hS hw dX5_learns_41
theorem kM_learns {l : Launch} (ht : l.stackTraces = false) (hI : mI ad) {w : gW} {u : gM} {a1 : Int32} {a2 : Int32} {a3 : Int32} {Q : gM → Prop} (hw : wM_learns a1 a2 a3 Q u) : gMet l yX5_learns (ws_ yX5_learns cX5_learns 4 none) E (gmW E ad u w) [.ref (ad 8), .int a1, .int a2, .int a3] 0 0 (mQ E ad w (uV Q)) gNoX :=
  g_ofW ht (by decide) (Nat.le_of_ble_eq_true rfl) (fun p e s m below meth c ls H C hl hS => kM_learns_r C hI _ _ _ _ _ _ _ hS hl hw)
def wM_entryOf (a1 : Int32) (a2 : Int32) (Q : Int32 → gM → Prop) (u : gM) : Prop :=
  uLd 0 487 ((51 + (16 * a1)) + (2 * a2)) (fun v1 => (v1 = (-1) → (Q (-1) u)) ∧ (¬ v1 = (-1) → (uLd 0 487 1 (fun v3 => uLd 0 487 (((51 + (16 * a1)) + (2 * a2)) + 1) (fun v4 => (50 < (v3 - v4) → (Q (-1) u)) ∧ (¬ 50 < (v3 - v4) → (Q v1 u))) u) u))) u
theorem kM_entryOf_r (C : gC p l s m args meth c cX5_entryOf 4 (some .int) RX5 E [] "entryOf") (hI : mI ad) (a1 : Int32) (a2 : Int32) {Q : Int32 → gM → Prop} (u : gM) (H : Heap) (locs : List Loc) (ls : Array Slot) (hS : gS E w0 (gmW E ad u w) H locs) (hl : lv_has ls 4 [(0, .ref (ad 8)), (1, .int a1), (2, .int a2)]) (hw : wM_entryOf a1 a2 Q u) : mGo p l e s m args below meth c 0 0 E ad w0 w (uI Q) H locs (F0 m 0 ls []) := by
  unfold wM_entryOf at hw
  refine lv_aload_n C.x C.b dX5_entryOf_0 rfl (lv_at hl 0 rfl) ?_
  refine gm_getA C hI hS 0 (by decide) (a := ad 0) rfl q1481 (fun _ h9 => h9) dX5_entryOf_1 ?_
  refine lv_bipush (v := 51) C.x C.b dX5_entryOf_4 (by decide) ?_
  refine lv_bipush (v := 16) C.x C.b dX5_entryOf_6 (by decide) ?_
  refine lv_iload_n C.x C.b dX5_entryOf_8 rfl (lv_at hl 1 rfl) ?_
  refine lv_imul C.x C.b dX5_entryOf_9 ?_
  refine lv_iadd C.x C.b dX5_entryOf_10 ?_
  refine lv_iconst (v := 2) C.x C.b dX5_entryOf_11 (by decide) ?_
  refine lv_iload_n C.x C.b dX5_entryOf_12 rfl (lv_at hl 2 rfl) ?_
  refine lv_imul C.x C.b dX5_entryOf_13 ?_
  refine lv_iadd C.x C.b dX5_entryOf_14 ?_
  refine gm_ld C hI hS 0 487 (by decide) rfl dX5_entryOf_15 hw (fun v1 hw => ?_)
  refine lv_istore_n (lv' := [(3, .int v1), (0, .ref (ad 8)), (1, .int a1), (2, .int a2)]) C.x C.b dX5_entryOf_16 rfl hl (by decide) rfl (fun ls hl => ?_)
  refine lv_iload_n C.x C.b dX5_entryOf_17 rfl (lv_at hl 0 rfl) ?_
  refine lv_iconst (v := (-1)) C.x C.b dX5_entryOf_18 (by decide) ?_
  refine lv_icmp_eq (tgt := 56) C.x C.b dX5_entryOf_19 (by decide) (fun c2 => ?_) (fun c2 => ?_)
  · have hw := hw.1 c2
    refine lv_iconst (v := (-1)) C.x C.b dX5_entryOf_56 (by decide) ?_
    exact gm_iret C hS hw dX5_entryOf_57
  · have hw := hw.2 c2
    refine lv_aload_n C.x C.b dX5_entryOf_22 rfl (lv_at hl 1 rfl) ?_
    refine gm_getA C hI hS 0 (by decide) (a := ad 0) rfl q1481 (fun _ h9 => h9) dX5_entryOf_23 ?_
    refine lv_iconst (v := 1) C.x C.b dX5_entryOf_26 (by decide) ?_
    refine gm_ld C hI hS 0 487 (by decide) rfl dX5_entryOf_27 hw (fun v3 hw => ?_)
    refine lv_aload_n C.x C.b dX5_entryOf_28 rfl (lv_at hl 1 rfl) ?_
    refine gm_getA C hI hS 0 (by decide) (a := ad 0) rfl q1481 (fun _ h9 => h9) dX5_entryOf_29 ?_
    refine lv_bipush (v := 51) C.x C.b dX5_entryOf_32 (by decide) ?_
    refine lv_bipush (v := 16) C.x C.b dX5_entryOf_34 (by decide) ?_
    refine lv_iload_n C.x C.b dX5_entryOf_36 rfl (lv_at hl 2 rfl) ?_
    refine lv_imul C.x C.b dX5_entryOf_37 ?_
    refine lv_iadd C.x C.b dX5_entryOf_38 ?_
    refine lv_iconst (v := 2) C.x C.b dX5_entryOf_39 (by decide) ?_
    refine lv_iload_n C.x C.b dX5_entryOf_40 rfl (lv_at hl 3 rfl) ?_
    refine lv_imul C.x C.b dX5_entryOf_41 ?_
    refine lv_iadd C.x C.b dX5_entryOf_42 ?_
    refine lv_iconst (v := 1) C.x C.b dX5_entryOf_43 (by decide) ?_
    refine lv_iadd C.x C.b dX5_entryOf_44 ?_
    refine gm_ld C hI hS 0 487 (by decide) rfl dX5_entryOf_45 hw (fun v4 hw => ?_)
    refine lv_isub C.x C.b dX5_entryOf_46 ?_
    refine lv_bipush (v := 50) C.x C.b dX5_entryOf_47 (by decide) ?_
    refine lv_icmp_gt (tgt := 56) C.x C.b dX5_entryOf_49 (by decide) (fun c5 => ?_) (fun c5 => ?_)
    · have hw := hw.1 c5
      refine lv_iconst (v := (-1)) C.x C.b dX5_entryOf_56 (by decide) ?_
      exact gm_iret C hS hw dX5_entryOf_57
    · have hw := hw.2 c5
      refine lv_iload_n C.x C.b dX5_entryOf_52 rfl (lv_at hl 0 rfl) ?_
      refine lv_goto (tgt := 57) C.x C.b dX5_entryOf_53 (by decide) ?_
      exact gm_iret C hS hw dX5_entryOf_57
theorem kM_entryOf {l : Launch} (ht : l.stackTraces = false) (hI : mI ad) {w : gW} {u : gM} {a1 : Int32} {a2 : Int32} {Q : Int32 → gM → Prop} (hw : wM_entryOf a1 a2 Q u) : gMet l yX5_entryOf (ws_ yX5_entryOf cX5_entryOf 4 (some .int)) E (gmW E ad u w) [.ref (ad 8), .int a1, .int a2] 0 0 (mQ E ad w (uI Q)) gNoX :=
  g_ofW ht (by decide) (Nat.le_of_ble_eq_true rfl) (fun p e s m below meth c ls H C hl hS => kM_entryOf_r C hI _ _ _ _ _ _ hS hl hw)
def wM_send_14 (Q : Int32 → gM → Prop) (u : gM) : Prop :=
  wM_fails 1 (fun r19 u18 => Q r19 u18) u
theorem kM_send_14 (C : gC p l s m args meth c cX5_send 14 (some .int) RX5 E [] "send") (hI : mI ad) {Q : Int32 → gM → Prop} (u : gM) (H : Heap) (locs : List Loc) (ls : Array Slot) (hS : gS E w0 (gmW E ad u w) H locs) (hl : lv_has ls 14 [(0, .ref (ad 8))]) (hw : wM_send_14 Q u) : mGo p l e s m args below meth c 2 44 E ad w0 w (uI Q) H locs (F0 m 14 ls []) := by
  unfold wM_send_14 at hw
  refine lv_aload_n C.x C.b dX5_send_14 rfl (lv_at hl 0 rfl) ?_
  refine lv_iconst (v := 1) C.x C.b dX5_send_15 (by decide) ?_
  refine gm_callV (rest := []) C hI hS hl (kM_fails C.tr hI hw) q1535 q1537 qs26 q88 q1538 ny_fails rfl (Nat.le_of_ble_eq_true rfl) (Nat.le_of_ble_eq_true rfl) rfl (Nat.le_of_ble_eq_true rfl) dX5_send_16 (gm_ki (fun r19 u18 H locs hw hS => ?_))
  exact gm_iret C hS hw dX5_send_19
def wM_send_329 (K96 : Int32 → Int32 → Int32 → Int32 → Int32 → Int32 → Int32 → gM → Prop) (Q : Int32 → gM → Prop) (x1 : Int32) (x2 : Int32) (x3 : Int32) (x4 : Int32) (x5 : Int32) (x6 : Int32) (x7 : Int32) (u : gM) : Prop :=
  K96 x1 x2 x3 x4 x5 x6 (x7 + 1) u
theorem kM_send_329 (C : gC p l s m args meth c cX5_send 14 (some .int) RX5 E [] "send") (hI : mI ad) {Q : Int32 → gM → Prop} {K96 : Int32 → Int32 → Int32 → Int32 → Int32 → Int32 → Int32 → gM → Prop} (hK96 : ∀ (x1 : Int32) (x2 : Int32) (x3 : Int32) (x4 : Int32) (x5 : Int32) (x6 : Int32) (x7 : Int32) (u : gM) (H : Heap) (locs : List Loc) (ls : Array Slot), gS E w0 (gmW E ad u w) H locs → lv_has ls 14 [(0, .ref (ad 8)), (1, .int x1), (2, .int x2), (3, .int x3), (4, .int x4), (5, .int x5), (6, .int x6), (7, .int x7)] → K96 x1 x2 x3 x4 x5 x6 x7 u → mGo p l e s m args below meth c 2 44 E ad w0 w (uI Q) H locs (F0 m 96 ls [])) (x1 : Int32) (x2 : Int32) (x3 : Int32) (x4 : Int32) (x5 : Int32) (x6 : Int32) (x7 : Int32) (u : gM) (H : Heap) (locs : List Loc) (ls : Array Slot) (hS : gS E w0 (gmW E ad u w) H locs) (hl : lv_has ls 14 [(0, .ref (ad 8)), (1, .int x1), (2, .int x2), (3, .int x3), (4, .int x4), (5, .int x5), (6, .int x6), (7, .int x7)]) (hw : wM_send_329 K96 Q x1 x2 x3 x4 x5 x6 x7 u) : mGo p l e s m args below meth c 2 44 E ad w0 w (uI Q) H locs (F0 m 329 ls []) := by
  unfold wM_send_329 at hw
  refine lv_iinc (v := (x7 + 1)) (lv' := [(7, .int (x7 + 1)), (0, .ref (ad 8)), (1, .int x1), (2, .int x2), (3, .int x3), (4, .int x4), (5, .int x5), (6, .int x6)]) C.x C.b dX5_send_329 hl (k := 7) rfl rfl (by decide) rfl (fun ls hl => ?_)
  refine lv_goto (tgt := 96) C.x C.b dX5_send_332 (by decide) ?_
  exact hK96 _ _ _ _ _ _ _ _ _ _ _ hS (lv_sub hl [1, 2, 3, 4, 5, 6, 7, 0] rfl) hw
def wM_send_323 (K96 : Int32 → Int32 → Int32 → Int32 → Int32 → Int32 → Int32 → gM → Prop) (K200 : Int32 → Int32 → Int32 → Int32 → Int32 → Int32 → Int32 → Int32 → Int32 → Int32 → Int32 → Int32 → gM → Prop) (Q : Int32 → gM → Prop) (x1 : Int32) (x2 : Int32) (x3 : Int32) (x4 : Int32) (x5 : Int32) (x6 : Int32) (x7 : Int32) (x8 : Int32) (x9 : Int32) (x10 : Int32) (x11 : Int32) (x12 : Int32) (u : gM) : Prop :=
  K200 x1 x2 x3 x4 x5 x6 x7 x8 x9 x10 x11 (x12 + 1) u
theorem kM_send_323 (C : gC p l s m args meth c cX5_send 14 (some .int) RX5 E [] "send") (hI : mI ad) {Q : Int32 → gM → Prop} {K96 : Int32 → Int32 → Int32 → Int32 → Int32 → Int32 → Int32 → gM → Prop} (hK96 : ∀ (x1 : Int32) (x2 : Int32) (x3 : Int32) (x4 : Int32) (x5 : Int32) (x6 : Int32) (x7 : Int32) (u : gM) (H : Heap) (locs : List Loc) (ls : Array Slot), gS E w0 (gmW E ad u w) H locs → lv_has ls 14 [(0, .ref (ad 8)), (1, .int x1), (2, .int x2), (3, .int x3), (4, .int x4), (5, .int x5), (6, .int x6), (7, .int x7)] → K96 x1 x2 x3 x4 x5 x6 x7 u → mGo p l e s m args below meth c 2 44 E ad w0 w (uI Q) H locs (F0 m 96 ls [])) {K200 : Int32 → Int32 → Int32 → Int32 → Int32 → Int32 → Int32 → Int32 → Int32 → Int32 → Int32 → Int32 → gM → Prop} (hK200 : ∀ (x1 : Int32) (x2 : Int32) (x3 : Int32) (x4 : Int32) (x5 : Int32) (x6 : Int32) (x7 : Int32) (x8 : Int32) (x9 : Int32) (x10 : Int32) (x11 : Int32) (x12 : Int32) (u : gM) (H : Heap) (locs : List Loc) (ls : Array Slot), gS E w0 (gmW E ad u w) H locs → lv_has ls 14 [(0, .ref (ad 8)), (1, .int x1), (2, .int x2), (3, .int x3), (4, .int x4), (5, .int x5), (6, .int x6), (7, .int x7), (8, .int x8), (9, .int x9), (10, .int x10), (11, .int x11), (12, .int x12)] → K200 x1 x2 x3 x4 x5 x6 x7 x8 x9 x10 x11 x12 u → mGo p l e s m args below meth c 2 44 E ad w0 w (uI Q) H locs (F0 m 200 ls [])) (x1 : Int32) (x2 : Int32) (x3 : Int32) (x4 : Int32) (x5 : Int32) (x6 : Int32) (x7 : Int32) (x8 : Int32) (x9 : Int32) (x10 : Int32) (x11 : Int32) (x12 : Int32) (u : gM) (H : Heap) (locs : List Loc) (ls : Array Slot) (hS : gS E w0 (gmW E ad u w) H locs) (hl : lv_has ls 14 [(0, .ref (ad 8)), (1, .int x1), (2, .int x2), (3, .int x3), (4, .int x4), (5, .int x5), (6, .int x6), (7, .int x7), (8, .int x8), (9, .int x9), (10, .int x10), (11, .int x11), (12, .int x12)]) (hw : wM_send_323 K96 K200 Q x1 x2 x3 x4 x5 x6 x7 x8 x9 x10 x11 x12 u) : mGo p l e s m args below meth c 2 44 E ad w0 w (uI Q) H locs (F0 m 323 ls []) := by
  unfold wM_send_323 at hw
  refine lv_iinc (v := (x12 + 1)) (lv' := [(12, .int (x12 + 1)), (0, .ref (ad 8)), (1, .int x1), (2, .int x2), (3, .int x3), (4, .int x4), (5, .int x5), (6, .int x6), (7, .int x7), (8, .int x8), (9, .int x9), (10, .int x10), (11, .int x11)]) C.x C.b dX5_send_323 hl (k := 12) rfl rfl (by decide) rfl (fun ls hl => ?_)
  refine lv_goto (tgt := 200) C.x C.b dX5_send_326 (by decide) ?_
  exact hK200 _ _ _ _ _ _ _ _ _ _ _ _ _ _ _ _ hS (lv_sub hl [1, 2, 3, 4, 5, 6, 7, 8, 9, 10, 11, 12, 0] rfl) hw
def wM_send_263 (K96 : Int32 → Int32 → Int32 → Int32 → Int32 → Int32 → Int32 → gM → Prop) (K200 : Int32 → Int32 → Int32 → Int32 → Int32 → Int32 → Int32 → Int32 → Int32 → Int32 → Int32 → Int32 → gM → Prop) (Q : Int32 → gM → Prop) (x1 : Int32) (x2 : Int32) (x3 : Int32) (x4 : Int32) (x5 : Int32) (x6 : Int32) (x7 : Int32) (x8 : Int32) (x9 : Int32) (x10 : Int32) (x11 : Int32) (x12 : Int32) (u : gM) : Prop :=
  wM_other x12 x8 (fun r57 u56 => (((x4 >>> (r57 &&& 31)) &&& 1) = 0 → (∀ z59 : Int32, z59 = (x4 ||| (1 <<< (r57 &&& 31))) → uSt 5 8 x3 r57 (fun u60 => uSt 6 8 x3 x12 (fun u61 => wM_learns r57 x1 x12 (fun u62 => wM_send_323 K96 K200 Q x1 x2 (x3 + 1) z59 (x5 + 1) x6 x7 x8 x9 x10 x11 x12 u62) u61) u60) u56)) ∧ (¬ ((x4 >>> (r57 &&& 31)) &&& 1) = 0 → (wM_send_323 K96 K200 Q x1 x2 x3 x4 (x5 + 1) x6 x7 x8 x9 x10 x11 x12 u56))) u
theorem kM_send_263 (C : gC p l s m args meth c cX5_send 14 (some .int) RX5 E [] "send") (hI : mI ad) {Q : Int32 → gM → Prop} {K96 : Int32 → Int32 → Int32 → Int32 → Int32 → Int32 → Int32 → gM → Prop} (hK96 : ∀ (x1 : Int32) (x2 : Int32) (x3 : Int32) (x4 : Int32) (x5 : Int32) (x6 : Int32) (x7 : Int32) (u : gM) (H : Heap) (locs : List Loc) (ls : Array Slot), gS E w0 (gmW E ad u w) H locs → lv_has ls 14 [(0, .ref (ad 8)), (1, .int x1), (2, .int x2), (3, .int x3), (4, .int x4), (5, .int x5), (6, .int x6), (7, .int x7)] → K96 x1 x2 x3 x4 x5 x6 x7 u → mGo p l e s m args below meth c 2 44 E ad w0 w (uI Q) H locs (F0 m 96 ls [])) {K200 : Int32 → Int32 → Int32 → Int32 → Int32 → Int32 → Int32 → Int32 → Int32 → Int32 → Int32 → Int32 → gM → Prop} (hK200 : ∀ (x1 : Int32) (x2 : Int32) (x3 : Int32) (x4 : Int32) (x5 : Int32) (x6 : Int32) (x7 : Int32) (x8 : Int32) (x9 : Int32) (x10 : Int32) (x11 : Int32) (x12 : Int32) (u : gM) (H : Heap) (locs : List Loc) (ls : Array Slot), gS E w0 (gmW E ad u w) H locs → lv_has ls 14 [(0, .ref (ad 8)), (1, .int x1), (2, .int x2), (3, .int x3), (4, .int x4), (5, .int x5), (6, .int x6), (7, .int x7), (8, .int x8), (9, .int x9), (10, .int x10), (11, .int x11), (12, .int x12)] → K200 x1 x2 x3 x4 x5 x6 x7 x8 x9 x10 x11 x12 u → mGo p l e s m args below meth c 2 44 E ad w0 w (uI Q) H locs (F0 m 200 ls [])) (x1 : Int32) (x2 : Int32) (x3 : Int32) (x4 : Int32) (x5 : Int32) (x6 : Int32) (x7 : Int32) (x8 : Int32) (x9 : Int32) (x10 : Int32) (x11 : Int32) (x12 : Int32) (u : gM) (H : Heap) (locs : List Loc) (ls : Array Slot) (hS : gS E w0 (gmW E ad u w) H locs) (hl : lv_has ls 14 [(0, .ref (ad 8)), (1, .int x1), (2, .int x2), (3, .int x3), (4, .int x4), (5, .int x5), (6, .int x6), (7, .int x7), (8, .int x8), (9, .int x9), (10, .int x10), (11, .int x11), (12, .int x12)]) (hw : wM_send_263 K96 K200 Q x1 x2 x3 x4 x5 x6 x7 x8 x9 x10 x11 x12 u) : mGo p l e s m args below meth c 2 44 E ad w0 w (uI Q) H locs (F0 m 263 ls []) := by
  unfold wM_send_263 at hw
  refine lv_aload_n C.x C.b dX5_send_263 rfl (lv_at hl 0 rfl) ?_
  refine lv_iload C.x C.b dX5_send_264 (lv_at hl 12 rfl) ?_
  refine lv_iload C.x C.b dX5_send_266 (lv_at hl 8 rfl) ?_
  refine gm_callV (rest := []) C hI hS hl (kM_other C.tr hI hw) q1670 q1672 qs49 q88 q1673 ny_other rfl (Nat.le_of_ble_eq_true rfl) (Nat.le_of_ble_eq_true rfl) rfl (Nat.le_of_ble_eq_true rfl) dX5_send_268 (gm_ki (fun r57 u56 H locs hw hS => ?_))
  refine lv_istore (lv' := [(13, .int r57), (0, .ref (ad 8)), (1, .int x1), (2, .int x2), (3, .int x3), (4, .int x4), (5, .int x5), (6, .int x6), (7, .int x7), (8, .int x8), (9, .int x9), (10, .int x10), (11, .int x11), (12, .int x12)]) C.x C.b dX5_send_271 hl (by decide) rfl (fun ls hl => ?_)
  refine lv_iinc (v := (x5 + 1)) (lv' := [(5, .int (x5 + 1)), (13, .int r57), (0, .ref (ad 8)), (1, .int x1), (2, .int x2), (3, .int x3), (4, .int x4), (6, .int x6), (7, .int x7), (8, .int x8), (9, .int x9), (10, .int x10), (11, .int x11), (12, .int x12)]) C.x C.b dX5_send_273 hl (k := 6) rfl rfl (by decide) rfl (fun ls hl => ?_)
  refine lv_iload C.x C.b dX5_send_276 (lv_at hl 6 rfl) ?_
  refine lv_iload C.x C.b dX5_send_278 (lv_at hl 1 rfl) ?_
  refine lv_ishr C.x C.b dX5_send_280 ?_
  refine lv_iconst (v := 1) C.x C.b dX5_send_281 (by decide) ?_
  refine lv_iand C.x C.b dX5_send_282 ?_
  refine lv_if_ne (tgt := 323) C.x C.b dX5_send_283 (by decide) (fun c58 => ?_) (fun c58 => ?_)
  · have hw := hw.2 c58
    exact kM_send_323 C hI hK96 hK200 _ _ _ _ _ _ _ _ _ _ _ _ _ _ _ _ hS (lv_sub hl [2, 3, 4, 5, 6, 0, 7, 8, 9, 10, 11, 12, 13] rfl) hw
  · have hw := hw.1 c58
    refine lv_iload C.x C.b dX5_send_286 (lv_at hl 6 rfl) ?_
    refine lv_iconst (v := 1) C.x C.b dX5_send_288 (by decide) ?_
    refine lv_iload C.x C.b dX5_send_289 (lv_at hl 1 rfl) ?_
    refine lv_ishl C.x C.b dX5_send_291 ?_
    refine lv_ior C.x C.b dX5_send_292 ?_
    refine lv_topi (fun z59 ez59 => ?_)
    have hw := hw z59 ez59
    refine lv_istore (lv' := [(4, .int z59), (5, .int (x5 + 1)), (13, .int r57), (0, .ref (ad 8)), (1, .int x1), (2, .int x2), (3, .int x3), (6, .int x6), (7, .int x7), (8, .int x8), (9, .int x9), (10, .int x10), (11, .int x11), (12, .int x12)]) C.x C.b dX5_send_293 hl (by decide) rfl (fun ls hl => ?_)
    refine lv_aload_n C.x C.b dX5_send_295 rfl (lv_at hl 3 rfl) ?_
    refine gm_getA C hI hS 9 (by decide) (a := ad 5) rfl q1490 (fun _ h9 => h9) dX5_send_296 ?_
    refine lv_iload_n C.x C.b dX5_send_299 rfl (lv_at hl 6 rfl) ?_
    refine lv_iload C.x C.b dX5_send_300 (lv_at hl 2 rfl) ?_
    refine gm_st C hI hS 5 8 (by decide) rfl dX5_send_302 hw (fun u60 H locs hw hS => ?_)
    refine lv_aload_n C.x C.b dX5_send_303 rfl (lv_at hl 3 rfl) ?_
    refine gm_getA C hI hS 10 (by decide) (a := ad 6) rfl q1491 (fun _ h9 => h9) dX5_send_304 ?_
    refine lv_iload_n C.x C.b dX5_send_307 rfl (lv_at hl 6 rfl) ?_
    refine lv_iload C.x C.b dX5_send_308 (lv_at hl 13 rfl) ?_
    refine gm_st C hI hS 6 8 (by decide) rfl dX5_send_310 hw (fun u61 H locs hw hS => ?_)
    refine lv_iinc (v := (x3 + 1)) (lv' := [(3, .int (x3 + 1)), (4, .int z59), (5, .int (x5 + 1)), (13, .int r57), (0, .ref (ad 8)), (1, .int x1), (2, .int x2), (6, .int x6), (7, .int x7), (8, .int x8), (9, .int x9), (10, .int x10), (11, .int x11), (12, .int x12)]) C.x C.b dX5_send_311 hl (k := 6) rfl rfl (by decide) rfl (fun ls hl => ?_)
    refine lv_aload_n C.x C.b dX5_send_314 rfl (lv_at hl 4 rfl) ?_
    refine lv_iload C.x C.b dX5_send_315 (lv_at hl 3 rfl) ?_
    refine lv_iload_n C.x C.b dX5_send_317 rfl (lv_at hl 5 rfl) ?_
    refine lv_iload C.x C.b dX5_send_318 (lv_at hl 13 rfl) ?_
    refine gm_callV (rest := []) C hI hS hl (kM_learns C.tr hI hw) q1710 q1712 qs57 q88 q1713 ny_learns rfl (Nat.le_of_ble_eq_true rfl) (Nat.le_of_ble_eq_true rfl) rfl (Nat.le_of_ble_eq_true rfl) dX5_send_320 (gm_kv (fun u62 H locs hw hS => ?_))
    exact kM_send_323 C hI hK96 hK200 _ _ _ _ _ _ _ _ _ _ _ _ _ _ _ _ hS (lv_sub hl [4, 5, 6, 0, 1, 2, 7, 8, 9, 10, 11, 12, 13] rfl) hw
def wM_send_200 (K96 : Int32 → Int32 → Int32 → Int32 → Int32 → Int32 → Int32 → gM → Prop) (Q : Int32 → gM → Prop) : Nat → Int32 → Int32 → Int32 → Int32 → Int32 → Int32 → Int32 → Int32 → Int32 → Int32 → Int32 → Int32 → gM → Prop
  | 0, _, _, _, _, _, _, _, _, _, _, _, _, _ => False
  | n + 1, x1, x2, x3, x4, x5, x6, x7, x8, x9, x10, x11, x12, u => uLd 0 487 5 (fun v43 => (v43 ≤ x12 → (wM_send_329 K96 Q x1 x2 x3 x4 x5 x6 x7 u)) ∧ (¬ v43 ≤ x12 → ((x11 = 0 → (wM_isAt x12 x8 (fun r47 u46 => (r47 = 0 → (wM_send_323 K96 (fun x1 x2 x3 x4 x5 x6 x7 x8 x9 x10 x11 x12 u => wM_send_200 K96 Q n x1 x2 x3 x4 x5 x6 x7 x8 x9 x10 x11 x12 u) Q x1 x2 x3 x4 x5 x6 x7 x8 x9 x10 x11 x12 u46)) ∧ (¬ r47 = 0 → (wM_carries x12 (fun r50 u49 => (r50 = 0 → (wM_send_323 K96 (fun x1 x2 x3 x4 x5 x6 x7 x8 x9 x10 x11 x12 u => wM_send_200 K96 Q n x1 x2 x3 x4 x5 x6 x7 x8 x9 x10 x11 x12 u) Q x1 x2 x3 x4 x5 x6 x7 x8 x9 x10 x11 x12 u49)) ∧ (¬ r50 = 0 → ((x10 = 0 → (uLd 6 8 x7 (fun v53 => (x12 = v53 → (wM_send_323 K96 (fun x1 x2 x3 x4 x5 x6 x7 x8 x9 x10 x11 x12 u => wM_send_200 K96 Q n x1 x2 x3 x4 x5 x6 x7 x8 x9 x10 x11 x12 u) Q x1 x2 x3 x4 x5 x6 x7 x8 x9 x10 x11 x12 u49)) ∧ (¬ x12 = v53 → (wM_send_263 K96 (fun x1 x2 x3 x4 x5 x6 x7 x8 x9 x10 x11 x12 u => wM_send_200 K96 Q n x1 x2 x3 x4 x5 x6 x7 x8 x9 x10 x11 x12 u) Q x1 x2 x3 x4 x5 x6 x7 x8 x9 x10 x11 x12 u49))) u49)) ∧ (¬ x10 = 0 → ((x12 = x9 → (wM_send_263 K96 (fun x1 x2 x3 x4 x5 x6 x7 x8 x9 x10 x11 x12 u => wM_send_200 K96 Q n x1 x2 x3 x4 x5 x6 x7 x8 x9 x10 x11 x12 u) Q x1 x2 x3 x4 x5 x6 x7 x8 x9 x10 x11 x12 u49)) ∧ (¬ x12 = x9 → (wM_send_323 K96 (fun x1 x2 x3 x4 x5 x6 x7 x8 x9 x10 x11 x12 u => wM_send_200 K96 Q n x1 x2 x3 x4 x5 x6 x7 x8 x9 x10 x11 x12 u) Q x1 x2 x3 x4 x5 x6 x7 x8 x9 x10 x11 x12 u49))))))) u46))) u)) ∧ (¬ x11 = 0 → (wM_send_329 K96 Q x1 x2 x3 x4 x5 x6 x7 u))))) u
theorem kM_send_200 (C : gC p l s m args meth c cX5_send 14 (some .int) RX5 E [] "send") (hI : mI ad) {Q : Int32 → gM → Prop} {K96 : Int32 → Int32 → Int32 → Int32 → Int32 → Int32 → Int32 → gM → Prop} (hK96 : ∀ (x1 : Int32) (x2 : Int32) (x3 : Int32) (x4 : Int32) (x5 : Int32) (x6 : Int32) (x7 : Int32) (u : gM) (H : Heap) (locs : List Loc) (ls : Array Slot), gS E w0 (gmW E ad u w) H locs → lv_has ls 14 [(0, .ref (ad 8)), (1, .int x1), (2, .int x2), (3, .int x3), (4, .int x4), (5, .int x5), (6, .int x6), (7, .int x7)] → K96 x1 x2 x3 x4 x5 x6 x7 u → mGo p l e s m args below meth c 2 44 E ad w0 w (uI Q) H locs (F0 m 96 ls [])) : ∀ (n : Nat) (x1 : Int32) (x2 : Int32) (x3 : Int32) (x4 : Int32) (x5 : Int32) (x6 : Int32) (x7 : Int32) (x8 : Int32) (x9 : Int32) (x10 : Int32) (x11 : Int32) (x12 : Int32) (u : gM) (H : Heap) (locs : List Loc) (ls : Array Slot), gS E w0 (gmW E ad u w) H locs → lv_has ls 14 [(0, .ref (ad 8)), (1, .int x1), (2, .int x2), (3, .int x3), (4, .int x4), (5, .int x5), (6, .int x6), (7, .int x7), (8, .int x8), (9, .int x9), (10, .int x10), (11, .int x11), (12, .int x12)] → wM_send_200 K96 Q n x1 x2 x3 x4 x5 x6 x7 x8 x9 x10 x11 x12 u → mGo p l e s m args below meth c 2 44 E ad w0 w (uI Q) H locs (F0 m 200 ls []) := by
  intro n
  induction n with
  | zero =>
    intro x1 x2 x3 x4 x5 x6 x7 x8 x9 x10 x11 x12 u H locs ls hS hl hw
    exact hw.elim
  | succ n ih =>
    intro x1 x2 x3 x4 x5 x6 x7 x8 x9 x10 x11 x12 u H locs ls hS hl hw
    unfold wM_send_200 at hw
    refine lv_iload C.x C.b dX5_send_200 (lv_at hl 12 rfl) ?_
    refine lv_aload_n C.x C.b dX5_send_202 rfl (lv_at hl 0 rfl) ?_
    refine gm_getA C hI hS 0 (by decide) (a := ad 0) rfl q1481 (fun _ h9 => h9) dX5_send_203 ?_
    refine lv_iconst (v := 5) C.x C.b dX5_send_206 (by decide) ?_
    refine gm_ld C hI hS 0 487 (by decide) rfl dX5_send_207 hw (fun v43 hw => ?_)
    refine lv_icmp_ge (tgt := 329) C.x C.b dX5_send_208 (by decide) (fun c44 => ?_) (fun c44 => ?_)
    · have hw := hw.1 c44
      exact kM_send_329 C hI hK96 _ _ _ _ _ _ _ _ _ _ _ hS (lv_sub hl [0, 1, 2, 3, 4, 5, 6, 7] rfl) hw
    · have hw := hw.2 c44
      refine lv_iload C.x C.b dX5_send_211 (lv_at hl 11 rfl) ?_
      refine lv_if_ne (tgt := 329) C.x C.b dX5_send_213 (by decide) (fun c45 => ?_) (fun c45 => ?_)
      · have hw := hw.2 c45
        exact kM_send_329 C hI hK96 _ _ _ _ _ _ _ _ _ _ _ hS (lv_sub hl [0, 1, 2, 3, 4, 5, 6, 7] rfl) hw
      · have hw := hw.1 c45
        refine lv_aload_n C.x C.b dX5_send_216 rfl (lv_at hl 0 rfl) ?_
        refine lv_iload C.x C.b dX5_send_217 (lv_at hl 12 rfl) ?_
        refine lv_iload C.x C.b dX5_send_219 (lv_at hl 8 rfl) ?_
        refine gm_callV (rest := []) C hI hS hl (kM_isAt C.tr hI hw) q1674 q1676 qs50 q88 q1677 ny_isAt rfl (Nat.le_of_ble_eq_true rfl) (Nat.le_of_ble_eq_true rfl) rfl (Nat.le_of_ble_eq_true rfl) dX5_send_221 (gm_ki (fun r47 u46 H locs hw hS => ?_))
        refine lv_if_eq (tgt := 323) C.x C.b dX5_send_224 (by decide) (fun c48 => ?_) (fun c48 => ?_)
        · have hw := hw.1 c48
          exact kM_send_323 C hI hK96 ih _ _ _ _ _ _ _ _ _ _ _ _ _ _ _ _ hS (lv_sub hl [0, 1, 2, 3, 4, 5, 6, 7, 8, 9, 10, 11, 12] rfl) hw
        · have hw := hw.2 c48
          refine lv_aload_n C.x C.b dX5_send_227 rfl (lv_at hl 0 rfl) ?_
          refine lv_iload C.x C.b dX5_send_228 (lv_at hl 12 rfl) ?_
          refine gm_callV (rest := []) C hI hS hl (kM_carries C.tr hI hw) q1698 q1700 qs56 q88 q1701 ny_carries rfl (Nat.le_of_ble_eq_true rfl) (Nat.le_of_ble_eq_true rfl) rfl (Nat.le_of_ble_eq_true rfl) dX5_send_230 (gm_ki (fun r50 u49 H locs hw hS => ?_))
          refine lv_if_eq (tgt := 323) C.x C.b dX5_send_233 (by decide) (fun c51 => ?_) (fun c51 => ?_)
          · have hw := hw.1 c51
            exact kM_send_323 C hI hK96 ih _ _ _ _ _ _ _ _ _ _ _ _ _ _ _ _ hS (lv_sub hl [0, 1, 2, 3, 4, 5, 6, 7, 8, 9, 10, 11, 12] rfl) hw
          · have hw := hw.2 c51
            refine lv_iload C.x C.b dX5_send_236 (lv_at hl 10 rfl) ?_
            refine lv_if_eq (tgt := 251) C.x C.b dX5_send_238 (by decide) (fun c52 => ?_) (fun c52 => ?_)
            · have hw := hw.1 c52
              refine lv_iload C.x C.b dX5_send_251 (lv_at hl 12 rfl) ?_
              refine lv_aload_n C.x C.b dX5_send_253 rfl (lv_at hl 0 rfl) ?_
              refine gm_getA C hI hS 10 (by decide) (a := ad 6) rfl q1491 (fun _ h9 => h9) dX5_send_254 ?_
              refine lv_iload C.x C.b dX5_send_257 (lv_at hl 7 rfl) ?_
              refine gm_ld C hI hS 6 8 (by decide) rfl dX5_send_259 hw (fun v53 hw => ?_)
              refine lv_icmp_eq (tgt := 323) C.x C.b dX5_send_260 (by decide) (fun c54 => ?_) (fun c54 => ?_)
              · have hw := hw.1 c54
                exact kM_send_323 C hI hK96 ih _ _ _ _ _ _ _ _ _ _ _ _ _ _ _ _ hS (lv_sub hl [0, 1, 2, 3, 4, 5, 6, 7, 8, 9, 10, 11, 12] rfl) hw
              · have hw := hw.2 c54
                exact kM_send_263 C hI hK96 ih _ _ _ _ _ _ _ _ _ _ _ _ _ _ _ _ hS (lv_sub hl [0, 1, 2, 3, 4, 5, 6, 7, 8, 9, 10, 11, 12] rfl) hw
            · have hw := hw.2 c52
              refine lv_iload C.x C.b dX5_send_241 (lv_at hl 12 rfl) ?_
              refine lv_iload C.x C.b dX5_send_243 (lv_at hl 9 rfl) ?_
              refine lv_icmp_ne (tgt := 323) C.x C.b dX5_send_245 (by decide) (fun c55 => ?_) (fun c55 => ?_)
              · have hw := hw.2 c55
                exact kM_send_323 C hI hK96 ih _ _ _ _ _ _ _ _ _ _ _ _ _ _ _ _ hS (lv_sub hl [0, 1, 2, 3, 4, 5, 6, 7, 8, 9, 10, 11, 12] rfl) hw
              · have hw := hw.1 c55
                refine lv_goto (tgt := 263) C.x C.b dX5_send_248 (by decide) ?_
                exact kM_send_263 C hI hK96 ih _ _ _ _ _ _ _ _ _ _ _ _ _ _ _ _ hS (lv_sub hl [0, 1, 2, 3, 4, 5, 6, 7, 8, 9, 10, 11, 12] rfl) hw
def wM_send_195 (K96 : Int32 → Int32 → Int32 → Int32 → Int32 → Int32 → Int32 → gM → Prop) (Q : Int32 → gM → Prop) (x1 : Int32) (x2 : Int32) (x3 : Int32) (x4 : Int32) (x5 : Int32) (x7 : Int32) (x8 : Int32) (x9 : Int32) (x10 : Int32) (x11 : Int32) (y0 : Int32) (u : gM) : Prop :=
  ∃ k42 : Nat, wM_send_200 K96 Q k42 x1 x2 x3 x4 x5 y0 x7 x8 x9 x10 x11 0 u
theorem kM_send_195 (C : gC p l s m args meth c cX5_send 14 (some .int) RX5 E [] "send") (hI : mI ad) {Q : Int32 → gM → Prop} {K96 : Int32 → Int32 → Int32 → Int32 → Int32 → Int32 → Int32 → gM → Prop} (hK96 : ∀ (x1 : Int32) (x2 : Int32) (x3 : Int32) (x4 : Int32) (x5 : Int32) (x6 : Int32) (x7 : Int32) (u : gM) (H : Heap) (locs : List Loc) (ls : Array Slot), gS E w0 (gmW E ad u w) H locs → lv_has ls 14 [(0, .ref (ad 8)), (1, .int x1), (2, .int x2), (3, .int x3), (4, .int x4), (5, .int x5), (6, .int x6), (7, .int x7)] → K96 x1 x2 x3 x4 x5 x6 x7 u → mGo p l e s m args below meth c 2 44 E ad w0 w (uI Q) H locs (F0 m 96 ls [])) (x1 : Int32) (x2 : Int32) (x3 : Int32) (x4 : Int32) (x5 : Int32) (x7 : Int32) (x8 : Int32) (x9 : Int32) (x10 : Int32) (x11 : Int32) (y0 : Int32) (u : gM) (H : Heap) (locs : List Loc) (ls : Array Slot) (hS : gS E w0 (gmW E ad u w) H locs) (hl : lv_has ls 14 [(0, .ref (ad 8)), (1, .int x1), (2, .int x2), (3, .int x3), (4, .int x4), (5, .int x5), (7, .int x7), (8, .int x8), (9, .int x9), (10, .int x10), (11, .int x11)]) (hw : wM_send_195 K96 Q x1 x2 x3 x4 x5 x7 x8 x9 x10 x11 y0 u) : mGo p l e s m args below meth c 2 44 E ad w0 w (uI Q) H locs (F0 m 195 ls [.int y0]) := by
  unfold wM_send_195 at hw
  refine lv_istore (lv' := [(6, .int y0), (0, .ref (ad 8)), (1, .int x1), (2, .int x2), (3, .int x3), (4, .int x4), (5, .int x5), (7, .int x7), (8, .int x8), (9, .int x9), (10, .int x10), (11, .int x11)]) C.x C.b dX5_send_195 hl (by decide) rfl (fun ls hl => ?_)
  refine lv_iconst (v := 0) C.x C.b dX5_send_197 (by decide) ?_
  refine lv_istore (lv' := [(12, .int 0), (6, .int y0), (0, .ref (ad 8)), (1, .int x1), (2, .int x2), (3, .int x3), (4, .int x4), (5, .int x5), (7, .int x7), (8, .int x8), (9, .int x9), (10, .int x10), (11, .int x11)]) C.x C.b dX5_send_198 hl (by decide) rfl (fun ls hl => ?_)
  obtain ⟨k42, hw⟩ := hw
  exact kM_send_200 C hI hK96 k42 _ _ _ _ _ _ _ _ _ _ _ _ _ _ _ _ hS (lv_sub hl [2, 3, 4, 5, 6, 7, 1, 8, 9, 10, 11, 12, 0] rfl) hw
def wM_send_180 (K96 : Int32 → Int32 → Int32 → Int32 → Int32 → Int32 → Int32 → gM → Prop) (Q : Int32 → gM → Prop) (x1 : Int32) (x2 : Int32) (x3 : Int32) (x4 : Int32) (x5 : Int32) (x6 : Int32) (x7 : Int32) (x8 : Int32) (x9 : Int32) (x10 : Int32) (y0 : Int32) (u : gM) : Prop :=
  (y0 = 0 → (wM_send_195 K96 Q x1 x2 x3 x4 x5 x7 x8 x9 x10 y0 x6 u)) ∧ (¬ y0 = 0 → (wM_send_195 K96 Q x1 x2 x3 x4 x5 x7 x8 x9 x10 y0 1000 u))
theorem kM_send_180 (C : gC p l s m args meth c cX5_send 14 (some .int) RX5 E [] "send") (hI : mI ad) {Q : Int32 → gM → Prop} {K96 : Int32 → Int32 → Int32 → Int32 → Int32 → Int32 → Int32 → gM → Prop} (hK96 : ∀ (x1 : Int32) (x2 : Int32) (x3 : Int32) (x4 : Int32) (x5 : Int32) (x6 : Int32) (x7 : Int32) (u : gM) (H : Heap) (locs : List Loc) (ls : Array Slot), gS E w0 (gmW E ad u w) H locs → lv_has ls 14 [(0, .ref (ad 8)), (1, .int x1), (2, .int x2), (3, .int x3), (4, .int x4), (5, .int x5), (6, .int x6), (7, .int x7)] → K96 x1 x2 x3 x4 x5 x6 x7 u → mGo p l e s m args below meth c 2 44 E ad w0 w (uI Q) H locs (F0 m 96 ls [])) (x1 : Int32) (x2 : Int32) (x3 : Int32) (x4 : Int32) (x5 : Int32) (x6 : Int32) (x7 : Int32) (x8 : Int32) (x9 : Int32) (x10 : Int32) (y0 : Int32) (u : gM) (H : Heap) (locs : List Loc) (ls : Array Slot) (hS : gS E w0 (gmW E ad u w) H locs) (hl : lv_has ls 14 [(0, .ref (ad 8)), (1, .int x1), (2, .int x2), (3, .int x3), (4, .int x4), (5, .int x5), (6, .int x6), (7, .int x7), (8, .int x8), (9, .int x9), (10, .int x10)]) (hw : wM_send_180 K96 Q x1 x2 x3 x4 x5 x6 x7 x8 x9 x10 y0 u) : mGo p l e s m args below meth c 2 44 E ad w0 w (uI Q) H locs (F0 m 180 ls [.int y0]) := by
  unfold wM_send_180 at hw
  refine lv_istore (lv' := [(11, .int y0), (0, .ref (ad 8)), (1, .int x1), (2, .int x2), (3, .int x3), (4, .int x4), (5, .int x5), (6, .int x6), (7, .int x7), (8, .int x8), (9, .int x9), (10, .int x10)]) C.x C.b dX5_send_180 hl (by decide) rfl (fun ls hl => ?_)
  refine lv_iload C.x C.b dX5_send_182 (lv_at hl 0 rfl) ?_
  refine lv_if_eq (tgt := 193) C.x C.b dX5_send_184 (by decide) (fun c41 => ?_) (fun c41 => ?_)
  · have hw := hw.1 c41
    refine lv_iload C.x C.b dX5_send_193 (lv_at hl 7 rfl) ?_
    exact kM_send_195 C hI hK96 _ _ _ _ _ _ _ _ _ _ _ _ _ _ _ hS (lv_sub hl [1, 2, 3, 4, 5, 6, 8, 9, 10, 11, 0] rfl) hw
  · have hw := hw.2 c41
    refine lv_sipush (v := 1000) C.x C.b dX5_send_187 (by decide) ?_
    refine lv_goto (tgt := 195) C.x C.b dX5_send_190 (by decide) ?_
    exact kM_send_195 C hI hK96 _ _ _ _ _ _ _ _ _ _ _ _ _ _ _ hS (lv_sub hl [1, 2, 3, 4, 5, 6, 8, 9, 10, 11, 0] rfl) hw
def wM_send_158 (K96 : Int32 → Int32 → Int32 → Int32 → Int32 → Int32 → Int32 → gM → Prop) (Q : Int32 → gM → Prop) (x1 : Int32) (x2 : Int32) (x3 : Int32) (x4 : Int32) (x5 : Int32) (x6 : Int32) (x7 : Int32) (x8 : Int32) (x9 : Int32) (y0 : Int32) (u : gM) : Prop :=
  uLd 0 487 (179 + x2) (fun v39 => (v39 = x8 → (wM_send_180 K96 Q x1 x2 x3 x4 x5 x6 x7 x8 x9 y0 1 u)) ∧ (¬ v39 = x8 → (wM_send_180 K96 Q x1 x2 x3 x4 x5 x6 x7 x8 x9 y0 0 u))) u
theorem kM_send_158 (C : gC p l s m args meth c cX5_send 14 (some .int) RX5 E [] "send") (hI : mI ad) {Q : Int32 → gM → Prop} {K96 : Int32 → Int32 → Int32 → Int32 → Int32 → Int32 → Int32 → gM → Prop} (hK96 : ∀ (x1 : Int32) (x2 : Int32) (x3 : Int32) (x4 : Int32) (x5 : Int32) (x6 : Int32) (x7 : Int32) (u : gM) (H : Heap) (locs : List Loc) (ls : Array Slot), gS E w0 (gmW E ad u w) H locs → lv_has ls 14 [(0, .ref (ad 8)), (1, .int x1), (2, .int x2), (3, .int x3), (4, .int x4), (5, .int x5), (6, .int x6), (7, .int x7)] → K96 x1 x2 x3 x4 x5 x6 x7 u → mGo p l e s m args below meth c 2 44 E ad w0 w (uI Q) H locs (F0 m 96 ls [])) (x1 : Int32) (x2 : Int32) (x3 : Int32) (x4 : Int32) (x5 : Int32) (x6 : Int32) (x7 : Int32) (x8 : Int32) (x9 : Int32) (y0 : Int32) (u : gM) (H : Heap) (locs : List Loc) (ls : Array Slot) (hS : gS E w0 (gmW E ad u w) H locs) (hl : lv_has ls 14 [(0, .ref (ad 8)), (1, .int x1), (2, .int x2), (3, .int x3), (4, .int x4), (5, .int x5), (6, .int x6), (7, .int x7), (8, .int x8), (9, .int x9)]) (hw : wM_send_158 K96 Q x1 x2 x3 x4 x5 x6 x7 x8 x9 y0 u) : mGo p l e s m args below meth c 2 44 E ad w0 w (uI Q) H locs (F0 m 158 ls [.int y0]) := by
  unfold wM_send_158 at hw
  refine lv_istore (lv' := [(10, .int y0), (0, .ref (ad 8)), (1, .int x1), (2, .int x2), (3, .int x3), (4, .int x4), (5, .int x5), (6, .int x6), (7, .int x7), (8, .int x8), (9, .int x9)]) C.x C.b dX5_send_158 hl (by decide) rfl (fun ls hl => ?_)
  refine lv_aload_n C.x C.b dX5_send_160 rfl (lv_at hl 1 rfl) ?_
  refine gm_getA C hI hS 0 (by decide) (a := ad 0) rfl q1481 (fun _ h9 => h9) dX5_send_161 ?_
  refine lv_sipush (v := 179) C.x C.b dX5_send_164 (by decide) ?_
  refine lv_iload_n C.x C.b dX5_send_167 rfl (lv_at hl 3 rfl) ?_
  refine lv_iadd C.x C.b dX5_send_168 ?_
  refine gm_ld C hI hS 0 487 (by decide) rfl dX5_send_169 hw (fun v39 hw => ?_)
  refine lv_iload C.x C.b dX5_send_170 (lv_at hl 9 rfl) ?_
  refine lv_icmp_ne (tgt := 179) C.x C.b dX5_send_172 (by decide) (fun c40 => ?_) (fun c40 => ?_)
  · have hw := hw.2 c40
    refine lv_iconst (v := 0) C.x C.b dX5_send_179 (by decide) ?_
    exact kM_send_180 C hI hK96 _ _ _ _ _ _ _ _ _ _ _ _ _ _ _ hS (lv_sub hl [1, 2, 3, 4, 5, 6, 7, 8, 9, 10, 0] rfl) hw
  · have hw := hw.1 c40
    refine lv_iconst (v := 1) C.x C.b dX5_send_175 (by decide) ?_
    refine lv_goto (tgt := 180) C.x C.b dX5_send_176 (by decide) ?_
    exact kM_send_180 C hI hK96 _ _ _ _ _ _ _ _ _ _ _ _ _ _ _ hS (lv_sub hl [1, 2, 3, 4, 5, 6, 7, 8, 9, 10, 0] rfl) hw
def wM_send_157 (K96 : Int32 → Int32 → Int32 → Int32 → Int32 → Int32 → Int32 → gM → Prop) (Q : Int32 → gM → Prop) (x1 : Int32) (x2 : Int32) (x3 : Int32) (x4 : Int32) (x5 : Int32) (x6 : Int32) (x7 : Int32) (x8 : Int32) (x9 : Int32) (u : gM) : Prop :=
  wM_send_158 K96 Q x1 x2 x3 x4 x5 x6 x7 x8 x9 0 u
theorem kM_send_157 (C : gC p l s m args meth c cX5_send 14 (some .int) RX5 E [] "send") (hI : mI ad) {Q : Int32 → gM → Prop} {K96 : Int32 → Int32 → Int32 → Int32 → Int32 → Int32 → Int32 → gM → Prop} (hK96 : ∀ (x1 : Int32) (x2 : Int32) (x3 : Int32) (x4 : Int32) (x5 : Int32) (x6 : Int32) (x7 : Int32) (u : gM) (H : Heap) (locs : List Loc) (ls : Array Slot), gS E w0 (gmW E ad u w) H locs → lv_has ls 14 [(0, .ref (ad 8)), (1, .int x1), (2, .int x2), (3, .int x3), (4, .int x4), (5, .int x5), (6, .int x6), (7, .int x7)] → K96 x1 x2 x3 x4 x5 x6 x7 u → mGo p l e s m args below meth c 2 44 E ad w0 w (uI Q) H locs (F0 m 96 ls [])) (x1 : Int32) (x2 : Int32) (x3 : Int32) (x4 : Int32) (x5 : Int32) (x6 : Int32) (x7 : Int32) (x8 : Int32) (x9 : Int32) (u : gM) (H : Heap) (locs : List Loc) (ls : Array Slot) (hS : gS E w0 (gmW E ad u w) H locs) (hl : lv_has ls 14 [(0, .ref (ad 8)), (1, .int x1), (2, .int x2), (3, .int x3), (4, .int x4), (5, .int x5), (6, .int x6), (7, .int x7), (8, .int x8), (9, .int x9)]) (hw : wM_send_157 K96 Q x1 x2 x3 x4 x5 x6 x7 x8 x9 u) : mGo p l e s m args below meth c 2 44 E ad w0 w (uI Q) H locs (F0 m 157 ls []) := by
  unfold wM_send_157 at hw
  refine lv_iconst (v := 0) C.x C.b dX5_send_157 (by decide) ?_
  exact kM_send_158 C hI hK96 _ _ _ _ _ _ _ _ _ _ _ _ _ _ hS (lv_sub hl [0, 1, 2, 3, 4, 5, 6, 7, 8, 9] rfl) hw
def wM_send_96 (Q : Int32 → gM → Prop) : Nat → Int32 → Int32 → Int32 → Int32 → Int32 → Int32 → Int32 → gM → Prop
  | 0, _, _, _, _, _, _, _, _ => False
  | n + 1, x1, x2, x3, x4, x5, x6, x7, u => (x3 ≤ x7 → (uLd 0 487 8 (fun v21 => uSt 0 487 8 (v21 + 1) (fun u22 => uLd 0 487 9 (fun v23 => uSt 0 487 9 (v23 + (x6 / 1000)) (fun u24 => uLd 0 487 10 (fun v25 => uSt 0 487 10 (v25 + x5) (fun u26 => wM_ends (x5 + x6) (fun r28 u27 => Q r28 u27) u26) u24) u24) u22) u22) u) u)) ∧ (¬ x3 ≤ x7 → (uLd 5 8 x7 (fun v29 => wM_entryOf v29 x2 (fun r31 u30 => (r31 < 0 → (wM_send_157 (fun x1 x2 x3 x4 x5 x6 x7 u => wM_send_96 Q n x1 x2 x3 x4 x5 x6 x7 u) Q x1 x2 x3 x4 x5 x6 x7 v29 r31 u30)) ∧ (¬ r31 < 0 → ((100 ≤ r31 → (wM_send_157 (fun x1 x2 x3 x4 x5 x6 x7 u => wM_send_96 Q n x1 x2 x3 x4 x5 x6 x7 u) Q x1 x2 x3 x4 x5 x6 x7 v29 r31 u30)) ∧ (¬ 100 ≤ r31 → (wM_carries r31 (fun r35 u34 => (r35 = 0 → (wM_send_157 (fun x1 x2 x3 x4 x5 x6 x7 u => wM_send_96 Q n x1 x2 x3 x4 x5 x6 x7 u) Q x1 x2 x3 x4 x5 x6 x7 v29 r31 u34)) ∧ (¬ r35 = 0 → (uLd 6 8 x7 (fun v37 => (r31 = v37 → (wM_send_157 (fun x1 x2 x3 x4 x5 x6 x7 u => wM_send_96 Q n x1 x2 x3 x4 x5 x6 x7 u) Q x1 x2 x3 x4 x5 x6 x7 v29 r31 u34)) ∧ (¬ r31 = v37 → (wM_send_158 (fun x1 x2 x3 x4 x5 x6 x7 u => wM_send_96 Q n x1 x2 x3 x4 x5 x6 x7 u) Q x1 x2 x3 x4 x5 x6 x7 v29 r31 1 u34))) u34))) u30))))) u) u))
theorem kM_send_96 (C : gC p l s m args meth c cX5_send 14 (some .int) RX5 E [] "send") (hI : mI ad) {Q : Int32 → gM → Prop} : ∀ (n : Nat) (x1 : Int32) (x2 : Int32) (x3 : Int32) (x4 : Int32) (x5 : Int32) (x6 : Int32) (x7 : Int32) (u : gM) (H : Heap) (locs : List Loc) (ls : Array Slot), gS E w0 (gmW E ad u w) H locs → lv_has ls 14 [(0, .ref (ad 8)), (1, .int x1), (2, .int x2), (3, .int x3), (4, .int x4), (5, .int x5), (6, .int x6), (7, .int x7)] → wM_send_96 Q n x1 x2 x3 x4 x5 x6 x7 u → mGo p l e s m args below meth c 2 44 E ad w0 w (uI Q) H locs (F0 m 96 ls []) := by
  intro n
  induction n with
  | zero =>
    intro x1 x2 x3 x4 x5 x6 x7 u H locs ls hS hl hw
    exact hw.elim
  | succ n ih =>
    intro x1 x2 x3 x4 x5 x6 x7 u H locs ls hS hl hw
    unfold wM_send_96 at hw
    refine lv_iload C.x C.b dX5_send_96 (lv_at hl 7 rfl) ?_
    refine lv_iload_n C.x C.b dX5_send_98 rfl (lv_at hl 3 rfl) ?_
    refine lv_icmp_ge (tgt := 335) C.x C.b dX5_send_99 (by decide) (fun c20 => ?_) (fun c20 => ?_)
    · have hw := hw.1 c20
      refine lv_aload_n C.x C.b dX5_send_335 rfl (lv_at hl 0 rfl) ?_
      refine gm_getA C hI hS 0 (by decide) (a := ad 0) rfl q1481 (fun _ h9 => h9) dX5_send_336 ?_
      refine lv_bipush (v := 8) C.x C.b dX5_send_339 (by decide) ?_
      refine lv_dup2_11 C.x C.b dX5_send_341 rfl rfl ?_
      refine gm_ld C hI hS 0 487 (by decide) rfl dX5_send_342 hw (fun v21 hw => ?_)
      refine lv_iconst (v := 1) C.x C.b dX5_send_343 (by decide) ?_
      refine lv_iadd C.x C.b dX5_send_344 ?_
      refine gm_st C hI hS 0 487 (by decide) rfl dX5_send_345 hw (fun u22 H locs hw hS => ?_)
      refine lv_aload_n C.x C.b dX5_send_346 rfl (lv_at hl 0 rfl) ?_
      refine gm_getA C hI hS 0 (by decide) (a := ad 0) rfl q1481 (fun _ h9 => h9) dX5_send_347 ?_
      refine lv_bipush (v := 9) C.x C.b dX5_send_350 (by decide) ?_
      refine lv_dup2_11 C.x C.b dX5_send_352 rfl rfl ?_
      refine gm_ld C hI hS 0 487 (by decide) rfl dX5_send_353 hw (fun v23 hw => ?_)
      refine lv_iload C.x C.b dX5_send_354 (lv_at hl 6 rfl) ?_
      refine lv_sipush (v := 1000) C.x C.b dX5_send_356 (by decide) ?_
      refine lv_idiv C.x C.b dX5_send_359 (by decide) ?_
      refine lv_iadd C.x C.b dX5_send_360 ?_
      refine gm_st C hI hS 0 487 (by decide) rfl dX5_send_361 hw (fun u24 H locs hw hS => ?_)
      refine lv_aload_n C.x C.b dX5_send_362 rfl (lv_at hl 0 rfl) ?_
      refine gm_getA C hI hS 0 (by decide) (a := ad 0) rfl q1481 (fun _ h9 => h9) dX5_send_363 ?_
      refine lv_bipush (v := 10) C.x C.b dX5_send_366 (by decide) ?_
      refine lv_dup2_11 C.x C.b dX5_send_368 rfl rfl ?_
      refine gm_ld C hI hS 0 487 (by decide) rfl dX5_send_369 hw (fun v25 hw => ?_)
      refine lv_iload C.x C.b dX5_send_370 (lv_at hl 5 rfl) ?_
      refine lv_iadd C.x C.b dX5_send_372 ?_
      refine gm_st C hI hS 0 487 (by decide) rfl dX5_send_373 hw (fun u26 H locs hw hS => ?_)
      refine lv_aload_n C.x C.b dX5_send_374 rfl (lv_at hl 0 rfl) ?_
      refine lv_iload C.x C.b dX5_send_375 (lv_at hl 5 rfl) ?_
      refine lv_iload C.x C.b dX5_send_377 (lv_at hl 6 rfl) ?_
      refine lv_iadd C.x C.b dX5_send_379 ?_
      refine gm_callV (rest := []) C hI hS hl (kM_ends C.tr hI hw) q1543 q1545 qs28 q88 q1546 ny_ends rfl (Nat.le_of_ble_eq_true rfl) (Nat.le_of_ble_eq_true rfl) rfl (Nat.le_of_ble_eq_true rfl) dX5_send_380 (gm_ki (fun r28 u27 H locs hw hS => ?_))
      exact gm_iret C hS hw dX5_send_383
    · have hw := hw.2 c20
      refine lv_aload_n C.x C.b dX5_send_102 rfl (lv_at hl 0 rfl) ?_
      refine gm_getA C hI hS 9 (by decide) (a := ad 5) rfl q1490 (fun _ h9 => h9) dX5_send_103 ?_
      refine lv_iload C.x C.b dX5_send_106 (lv_at hl 7 rfl) ?_
      refine gm_ld C hI hS 5 8 (by decide) rfl dX5_send_108 hw (fun v29 hw => ?_)
      refine lv_istore (lv' := [(8, .int v29), (0, .ref (ad 8)), (1, .int x1), (2, .int x2), (3, .int x3), (4, .int x4), (5, .int x5), (6, .int x6), (7, .int x7)]) C.x C.b dX5_send_109 hl (by decide) rfl (fun ls hl => ?_)
      refine lv_aload_n C.x C.b dX5_send_111 rfl (lv_at hl 1 rfl) ?_
      refine lv_iload C.x C.b dX5_send_112 (lv_at hl 0 rfl) ?_
      refine lv_iload_n C.x C.b dX5_send_114 rfl (lv_at hl 3 rfl) ?_
      refine gm_callV (rest := []) C hI hS hl (kM_entryOf C.tr hI hw) q1714 q1716 qs58 q88 q1717 ny_entryOf rfl (Nat.le_of_ble_eq_true rfl) (Nat.le_of_ble_eq_true rfl) rfl (Nat.le_of_ble_eq_true rfl) dX5_send_115 (gm_ki (fun r31 u30 H locs hw hS => ?_))
      refine lv_istore (lv' := [(9, .int r31), (8, .int v29), (0, .ref (ad 8)), (1, .int x1), (2, .int x2), (3, .int x3), (4, .int x4), (5, .int x5), (6, .int x6), (7, .int x7)]) C.x C.b dX5_send_118 hl (by decide) rfl (fun ls hl => ?_)
      refine lv_iload C.x C.b dX5_send_120 (lv_at hl 0 rfl) ?_
      refine lv_if_lt (tgt := 157) C.x C.b dX5_send_122 (by decide) (fun c32 => ?_) (fun c32 => ?_)
      · have hw := hw.1 c32
        exact kM_send_157 C hI ih _ _ _ _ _ _ _ _ _ _ _ _ _ hS (lv_sub hl [2, 3, 4, 5, 6, 7, 8, 9, 1, 0] rfl) hw
      · have hw := hw.2 c32
        refine lv_iload C.x C.b dX5_send_125 (lv_at hl 0 rfl) ?_
        refine lv_bipush (v := 100) C.x C.b dX5_send_127 (by decide) ?_
        refine lv_icmp_ge (tgt := 157) C.x C.b dX5_send_129 (by decide) (fun c33 => ?_) (fun c33 => ?_)
        · have hw := hw.1 c33
          exact kM_send_157 C hI ih _ _ _ _ _ _ _ _ _ _ _ _ _ hS (lv_sub hl [2, 3, 4, 5, 6, 7, 8, 9, 1, 0] rfl) hw
        · have hw := hw.2 c33
          refine lv_aload_n C.x C.b dX5_send_132 rfl (lv_at hl 2 rfl) ?_
          refine lv_iload C.x C.b dX5_send_133 (lv_at hl 0 rfl) ?_
          refine gm_callV (rest := []) C hI hS hl (kM_carries C.tr hI hw) q1698 q1700 qs56 q88 q1701 ny_carries rfl (Nat.le_of_ble_eq_true rfl) (Nat.le_of_ble_eq_true rfl) rfl (Nat.le_of_ble_eq_true rfl) dX5_send_135 (gm_ki (fun r35 u34 H locs hw hS => ?_))
          refine lv_if_eq (tgt := 157) C.x C.b dX5_send_138 (by decide) (fun c36 => ?_) (fun c36 => ?_)
          · have hw := hw.1 c36
            exact kM_send_157 C hI ih _ _ _ _ _ _ _ _ _ _ _ _ _ hS (lv_sub hl [2, 3, 4, 5, 6, 7, 8, 9, 1, 0] rfl) hw
          · have hw := hw.2 c36
            refine lv_iload C.x C.b dX5_send_141 (lv_at hl 0 rfl) ?_
            refine lv_aload_n C.x C.b dX5_send_143 rfl (lv_at hl 2 rfl) ?_
            refine gm_getA C hI hS 10 (by decide) (a := ad 6) rfl q1491 (fun _ h9 => h9) dX5_send_144 ?_
            refine lv_iload C.x C.b dX5_send_147 (lv_at hl 9 rfl) ?_
            refine gm_ld C hI hS 6 8 (by decide) rfl dX5_send_149 hw (fun v37 hw => ?_)
            refine lv_icmp_eq (tgt := 157) C.x C.b dX5_send_150 (by decide) (fun c38 => ?_) (fun c38 => ?_)
            · have hw := hw.1 c38
              exact kM_send_157 C hI ih _ _ _ _ _ _ _ _ _ _ _ _ _ hS (lv_sub hl [2, 3, 4, 5, 6, 7, 8, 9, 1, 0] rfl) hw
            · have hw := hw.2 c38
              refine lv_iconst (v := 1) C.x C.b dX5_send_153 (by decide) ?_
              refine lv_goto (tgt := 158) C.x C.b dX5_send_154 (by decide) ?_
              exact kM_send_158 C hI ih _ _ _ _ _ _ _ _ _ _ _ _ _ _ hS (lv_sub hl [2, 3, 4, 5, 6, 7, 8, 9, 1, 0] rfl) hw
def wM_send (a1 : Int32) (a2 : Int32) (Q : Int32 → gM → Prop) (u : gM) : Prop :=
  wM_isHost a1 (fun r2 u1 => (r2 = 0 → (wM_send_14 Q u1)) ∧ (¬ r2 = 0 → (wM_isHost a2 (fun r5 u4 => (r5 = 0 → (wM_send_14 Q u4)) ∧ (¬ r5 = 0 → ((a1 = a2 → (wM_fails 2 (fun r17 u16 => Q r17 u16) u4)) ∧ (¬ a1 = a2 → (wM_hold (fun u8 => uLd 0 487 (179 + a1) (fun v9 => uLd 0 487 (179 + a1) (fun v10 => uSt 5 8 0 v10 (fun u11 => uSt 6 8 0 (-1) (fun u12 => uLd 5 8 0 (fun v13 => wM_learns v13 a1 100 (fun u14 => ∃ k15 : Nat, wM_send_96 Q k15 a1 a2 1 (1 <<< (v9 &&& 31)) 0 0 0 u14) u12) u12) u11) u8) u8) u8) u4))))) u1))) u
theorem kM_send_r (C : gC p l s m args meth c cX5_send 14 (some .int) RX5 E [] "send") (hI : mI ad) (a1 : Int32) (a2 : Int32) {Q : Int32 → gM → Prop} (u : gM) (H : Heap) (locs : List Loc) (ls : Array Slot) (hS : gS E w0 (gmW E ad u w) H locs) (hl : lv_has ls 14 [(0, .ref (ad 8)), (1, .int a1), (2, .int a2)]) (hw : wM_send a1 a2 Q u) : mGo p l e s m args below meth c 2 44 E ad w0 w (uI Q) H locs (F0 m 0 ls []) := by
  unfold wM_send at hw
  refine lv_iload_n C.x C.b dX5_send_0 rfl (lv_at hl 1 rfl) ?_
  refine gm_callS (rest := []) C hS hl (kM_isHost C.tr hI hw) q1615 q1616 q88 q1617 ny_isHost rfl (Nat.le_of_ble_eq_true rfl) (Nat.le_of_ble_eq_true rfl) rfl (Nat.le_of_ble_eq_true rfl) dX5_send_1 (gm_ki (fun r2 u1 H locs hw hS => ?_))
  refine lv_if_eq (tgt := 14) C.x C.b dX5_send_4 (by decide) (fun c3 => ?_) (fun c3 => ?_)
  · have hw := hw.1 c3
    exact kM_send_14 C hI _ _ _ _ hS (lv_sub hl [0] rfl) hw
  · have hw := hw.2 c3
    refine lv_iload_n C.x C.b dX5_send_7 rfl (lv_at hl 2 rfl) ?_
    refine gm_callS (rest := []) C hS hl (kM_isHost C.tr hI hw) q1615 q1616 q88 q1617 ny_isHost rfl (Nat.le_of_ble_eq_true rfl) (Nat.le_of_ble_eq_true rfl) rfl (Nat.le_of_ble_eq_true rfl) dX5_send_8 (gm_ki (fun r5 u4 H locs hw hS => ?_))
    refine lv_if_ne (tgt := 20) C.x C.b dX5_send_11 (by decide) (fun c6 => ?_) (fun c6 => ?_)
    · have hw := hw.2 c6
      refine lv_iload_n C.x C.b dX5_send_20 rfl (lv_at hl 1 rfl) ?_
      refine lv_iload_n C.x C.b dX5_send_21 rfl (lv_at hl 2 rfl) ?_
      refine lv_icmp_ne (tgt := 31) C.x C.b dX5_send_22 (by decide) (fun c7 => ?_) (fun c7 => ?_)
      · have hw := hw.2 c7
        refine lv_aload_n C.x C.b dX5_send_31 rfl (lv_at hl 0 rfl) ?_
        refine gm_callV (rest := []) C hI hS hl (kM_hold C.tr hI hw) q1539 q1541 qs27 q88 q1542 ny_hold rfl (Nat.le_of_ble_eq_true rfl) (Nat.le_of_ble_eq_true rfl) rfl (Nat.le_of_ble_eq_true rfl) dX5_send_32 (gm_kv (fun u8 H locs hw hS => ?_))
        refine lv_iconst (v := 1) C.x C.b dX5_send_35 (by decide) ?_
        refine lv_istore_n (lv' := [(3, .int 1), (0, .ref (ad 8)), (1, .int a1), (2, .int a2)]) C.x C.b dX5_send_36 rfl hl (by decide) rfl (fun ls hl => ?_)
        refine lv_iconst (v := 1) C.x C.b dX5_send_37 (by decide) ?_
        refine lv_aload_n C.x C.b dX5_send_38 rfl (lv_at hl 1 rfl) ?_
        refine gm_getA C hI hS 0 (by decide) (a := ad 0) rfl q1481 (fun _ h9 => h9) dX5_send_39 ?_
        refine lv_sipush (v := 179) C.x C.b dX5_send_42 (by decide) ?_
        refine lv_iload_n C.x C.b dX5_send_45 rfl (lv_at hl 2 rfl) ?_
        refine lv_iadd C.x C.b dX5_send_46 ?_
        refine gm_ld C hI hS 0 487 (by decide) rfl dX5_send_47 hw (fun v9 hw => ?_)
        refine lv_ishl C.x C.b dX5_send_48 ?_
        refine lv_istore (lv' := [(4, .int (1 <<< (v9 &&& 31))), (3, .int 1), (0, .ref (ad 8)), (1, .int a1), (2, .int a2)]) C.x C.b dX5_send_49 hl (by decide) rfl (fun ls hl => ?_)
        refine lv_iconst (v := 0) C.x C.b dX5_send_51 (by decide) ?_
        refine lv_istore (lv' := [(5, .int 0), (4, .int (1 <<< (v9 &&& 31))), (3, .int 1), (0, .ref (ad 8)), (1, .int a1), (2, .int a2)]) C.x C.b dX5_send_52 hl (by decide) rfl (fun ls hl => ?_)
        refine lv_iconst (v := 0) C.x C.b dX5_send_54 (by decide) ?_
        refine lv_istore (lv' := [(6, .int 0), (5, .int 0), (4, .int (1 <<< (v9 &&& 31))), (3, .int 1), (0, .ref (ad 8)), (1, .int a1), (2, .int a2)]) C.x C.b dX5_send_55 hl (by decide) rfl (fun ls hl => ?_)
        refine lv_aload_n C.x C.b dX5_send_57 rfl (lv_at hl 4 rfl) ?_
        refine gm_getA C hI hS 9 (by decide) (a := ad 5) rfl q1490 (fun _ h9 => h9) dX5_send_58 ?_
        refine lv_iconst (v := 0) C.x C.b dX5_send_61 (by decide) ?_
        refine lv_aload_n C.x C.b dX5_send_62 rfl (lv_at hl 4 rfl) ?_
        refine gm_getA C hI hS 0 (by decide) (a := ad 0) rfl q1481 (fun _ h9 => h9) dX5_send_63 ?_
        refine lv_sipush (v := 179) C.x C.b dX5_send_66 (by decide) ?_
        refine lv_iload_n C.x C.b dX5_send_69 rfl (lv_at hl 5 rfl) ?_
        refine lv_iadd C.x C.b dX5_send_70 ?_
        refine gm_ld C hI hS 0 487 (by decide) rfl dX5_send_71 hw (fun v10 hw => ?_)
        refine gm_st C hI hS 5 8 (by decide) rfl dX5_send_72 hw (fun u11 H locs hw hS => ?_)
        refine lv_aload_n C.x C.b dX5_send_73 rfl (lv_at hl 4 rfl) ?_
        refine gm_getA C hI hS 10 (by decide) (a := ad 6) rfl q1491 (fun _ h9 => h9) dX5_send_74 ?_
        refine lv_iconst (v := 0) C.x C.b dX5_send_77 (by decide) ?_
        refine lv_iconst (v := (-1)) C.x C.b dX5_send_78 (by decide) ?_
        refine gm_st C hI hS 6 8 (by decide) rfl dX5_send_79 hw (fun u12 H locs hw hS => ?_)
        refine lv_aload_n C.x C.b dX5_send_80 rfl (lv_at hl 4 rfl) ?_
        refine lv_aload_n C.x C.b dX5_send_81 rfl (lv_at hl 4 rfl) ?_
        refine gm_getA C hI hS 9 (by decide) (a := ad 5) rfl q1490 (fun _ h9 => h9) dX5_send_82 ?_
        refine lv_iconst (v := 0) C.x C.b dX5_send_85 (by decide) ?_
        refine gm_ld C hI hS 5 8 (by decide) rfl dX5_send_86 hw (fun v13 hw => ?_)
        refine lv_iload_n C.x C.b dX5_send_87 rfl (lv_at hl 5 rfl) ?_
        refine lv_bipush (v := 100) C.x C.b dX5_send_88 (by decide) ?_
        refine gm_callV (rest := []) C hI hS hl (kM_learns C.tr hI hw) q1710 q1712 qs57 q88 q1713 ny_learns rfl (Nat.le_of_ble_eq_true rfl) (Nat.le_of_ble_eq_true rfl) rfl (Nat.le_of_ble_eq_true rfl) dX5_send_90 (gm_kv (fun u14 H locs hw hS => ?_))
        refine lv_iconst (v := 0) C.x C.b dX5_send_93 (by decide) ?_
        refine lv_istore (lv' := [(7, .int 0), (6, .int 0), (5, .int 0), (4, .int (1 <<< (v9 &&& 31))), (3, .int 1), (0, .ref (ad 8)), (1, .int a1), (2, .int a2)]) C.x C.b dX5_send_94 hl (by decide) rfl (fun ls hl => ?_)
        obtain ⟨k15, hw⟩ := hw
        exact kM_send_96 C hI k15 _ _ _ _ _ _ _ _ _ _ _ hS (lv_sub hl [5, 6, 7, 4, 3, 2, 1, 0] rfl) hw
      · have hw := hw.1 c7
        refine lv_aload_n C.x C.b dX5_send_25 rfl (lv_at hl 0 rfl) ?_
        refine lv_iconst (v := 2) C.x C.b dX5_send_26 (by decide) ?_
        refine gm_callV (rest := []) C hI hS hl (kM_fails C.tr hI hw) q1535 q1537 qs26 q88 q1538 ny_fails rfl (Nat.le_of_ble_eq_true rfl) (Nat.le_of_ble_eq_true rfl) rfl (Nat.le_of_ble_eq_true rfl) dX5_send_27 (gm_ki (fun r17 u16 H locs hw hS => ?_))
        exact gm_iret C hS hw dX5_send_30
    · have hw := hw.1 c6
      exact kM_send_14 C hI _ _ _ _ hS (lv_sub hl [0] rfl) hw
theorem kM_send {l : Launch} (ht : l.stackTraces = false) (hI : mI ad) {w : gW} {u : gM} {a1 : Int32} {a2 : Int32} {Q : Int32 → gM → Prop} (hw : wM_send a1 a2 Q u) : gMet l yX5_send (ws_ yX5_send cX5_send 14 (some .int)) E (gmW E ad u w) [.ref (ad 8), .int a1, .int a2] 2 44 (mQ E ad w (uI Q)) gNoX :=
  g_ofW ht (by decide) (Nat.le_of_ble_eq_true rfl) (fun p e s m below meth c ls H C hl hS => kM_send_r C hI _ _ _ _ _ _ hS hl hw)
def wM_entries_36 (K4 : Int32 → Int32 → Int32 → gM → Prop) (Q : Int32 → gM → Prop) (x1 : Int32) (x3 : Int32) (y0 : Int32) (y1 : Int32) (u : gM) : Prop :=
  K4 x1 (y1 + y0) (x3 + 1) u
theorem kM_entries_36 (C : gC p l s m args meth c cX5_entries 4 (some .int) RX5 E [] "entries") (hI : mI ad) {Q : Int32 → gM → Prop} {K4 : Int32 → Int32 → Int32 → gM → Prop} (hK4 : ∀ (x1 : Int32) (x2 : Int32) (x3 : Int32) (u : gM) (H : Heap) (locs : List Loc) (ls : Array Slot), gS E w0 (gmW E ad u w) H locs → lv_has ls 4 [(0, .ref (ad 8)), (1, .int x1), (2, .int x2), (3, .int x3)] → K4 x1 x2 x3 u → mGo p l e s m args below meth c 0 0 E ad w0 w (uI Q) H locs (F0 m 4 ls [])) (x1 : Int32) (x3 : Int32) (y0 : Int32) (y1 : Int32) (u : gM) (H : Heap) (locs : List Loc) (ls : Array Slot) (hS : gS E w0 (gmW E ad u w) H locs) (hl : lv_has ls 4 [(0, .ref (ad 8)), (1, .int x1), (3, .int x3)]) (hw : wM_entries_36 K4 Q x1 x3 y0 y1 u) : mGo p l e s m args below meth c 0 0 E ad w0 w (uI Q) H locs (F0 m 36 ls [.int y0, .int y1]) := by
  unfold wM_entries_36 at hw
  refine lv_iadd C.x C.b dX5_entries_36 ?_
  refine lv_istore_n (lv' := [(2, .int (y1 + y0)), (0, .ref (ad 8)), (1, .int x1), (3, .int x3)]) C.x C.b dX5_entries_37 rfl hl (by decide) rfl (fun ls hl => ?_)
  refine lv_iinc (v := (x3 + 1)) (lv' := [(3, .int (x3 + 1)), (2, .int (y1 + y0)), (0, .ref (ad 8)), (1, .int x1)]) C.x C.b dX5_entries_38 hl (k := 3) rfl rfl (by decide) rfl (fun ls hl => ?_)
  refine lv_goto (tgt := 4) C.x C.b dX5_entries_41 (by decide) ?_
  exact hK4 _ _ _ _ _ _ _ hS (lv_sub hl [2, 3, 1, 0] rfl) hw
def wM_entries_4 (Q : Int32 → gM → Prop) : Nat → Int32 → Int32 → Int32 → gM → Prop
  | 0, _, _, _, _ => False
  | n + 1, x1, x2, x3, u => (8 ≤ x3 → (Q x2 u)) ∧ (¬ 8 ≤ x3 → (uLd 0 487 ((51 + (16 * x1)) + (2 * x3)) (fun v3 => (v3 = (-1) → (wM_entries_36 (fun x1 x2 x3 u => wM_entries_4 Q n x1 x2 x3 u) Q x1 x3 0 x2 u)) ∧ (¬ v3 = (-1) → (wM_entries_36 (fun x1 x2 x3 u => wM_entries_4 Q n x1 x2 x3 u) Q x1 x3 1 x2 u))) u))
theorem kM_entries_4 (C : gC p l s m args meth c cX5_entries 4 (some .int) RX5 E [] "entries") (hI : mI ad) {Q : Int32 → gM → Prop} : ∀ (n : Nat) (x1 : Int32) (x2 : Int32) (x3 : Int32) (u : gM) (H : Heap) (locs : List Loc) (ls : Array Slot), gS E w0 (gmW E ad u w) H locs → lv_has ls 4 [(0, .ref (ad 8)), (1, .int x1), (2, .int x2), (3, .int x3)] → wM_entries_4 Q n x1 x2 x3 u → mGo p l e s m args below meth c 0 0 E ad w0 w (uI Q) H locs (F0 m 4 ls []) := by
  intro n
  induction n with
  | zero =>
    intro x1 x2 x3 u H locs ls hS hl hw
    exact hw.elim
  | succ n ih =>
    intro x1 x2 x3 u H locs ls hS hl hw
    unfold wM_entries_4 at hw
    refine lv_iload_n C.x C.b dX5_entries_4 rfl (lv_at hl 3 rfl) ?_
    refine lv_bipush (v := 8) C.x C.b dX5_entries_5 (by decide) ?_
    refine lv_icmp_ge (tgt := 44) C.x C.b dX5_entries_7 (by decide) (fun c2 => ?_) (fun c2 => ?_)
    · have hw := hw.1 c2
      refine lv_iload_n C.x C.b dX5_entries_44 rfl (lv_at hl 2 rfl) ?_
      exact gm_iret C hS hw dX5_entries_45
    · have hw := hw.2 c2
      refine lv_iload_n C.x C.b dX5_entries_10 rfl (lv_at hl 2 rfl) ?_
      refine lv_aload_n C.x C.b dX5_entries_11 rfl (lv_at hl 0 rfl) ?_
      refine gm_getA C hI hS 0 (by decide) (a := ad 0) rfl q1481 (fun _ h9 => h9) dX5_entries_12 ?_
      refine lv_bipush (v := 51) C.x C.b dX5_entries_15 (by decide) ?_
      refine lv_bipush (v := 16) C.x C.b dX5_entries_17 (by decide) ?_
      refine lv_iload_n C.x C.b dX5_entries_19 rfl (lv_at hl 1 rfl) ?_
      refine lv_imul C.x C.b dX5_entries_20 ?_
      refine lv_iadd C.x C.b dX5_entries_21 ?_
      refine lv_iconst (v := 2) C.x C.b dX5_entries_22 (by decide) ?_
      refine lv_iload_n C.x C.b dX5_entries_23 rfl (lv_at hl 3 rfl) ?_
      refine lv_imul C.x C.b dX5_entries_24 ?_
      refine lv_iadd C.x C.b dX5_entries_25 ?_
      refine gm_ld C hI hS 0 487 (by decide) rfl dX5_entries_26 hw (fun v3 hw => ?_)
      refine lv_iconst (v := (-1)) C.x C.b dX5_entries_27 (by decide) ?_
      refine lv_icmp_eq (tgt := 35) C.x C.b dX5_entries_28 (by decide) (fun c4 => ?_) (fun c4 => ?_)
      · have hw := hw.1 c4
        refine lv_iconst (v := 0) C.x C.b dX5_entries_35 (by decide) ?_
        exact kM_entries_36 C hI ih _ _ _ _ _ _ _ _ hS (lv_sub hl [0, 1, 3] rfl) hw
      · have hw := hw.2 c4
        refine lv_iconst (v := 1) C.x C.b dX5_entries_31 (by decide) ?_
        refine lv_goto (tgt := 36) C.x C.b dX5_entries_32 (by decide) ?_
        exact kM_entries_36 C hI ih _ _ _ _ _ _ _ _ hS (lv_sub hl [0, 1, 3] rfl) hw
def wM_entries (a1 : Int32) (Q : Int32 → gM → Prop) (u : gM) : Prop :=
  ∃ k1 : Nat, wM_entries_4 Q k1 a1 0 0 u
theorem kM_entries_r (C : gC p l s m args meth c cX5_entries 4 (some .int) RX5 E [] "entries") (hI : mI ad) (a1 : Int32) {Q : Int32 → gM → Prop} (u : gM) (H : Heap) (locs : List Loc) (ls : Array Slot) (hS : gS E w0 (gmW E ad u w) H locs) (hl : lv_has ls 4 [(0, .ref (ad 8)), (1, .int a1)]) (hw : wM_entries a1 Q u) : mGo p l e s m args below meth c 0 0 E ad w0 w (uI Q) H locs (F0 m 0 ls []) := by
  unfold wM_entries at hw
  refine lv_iconst (v := 0) C.x C.b dX5_entries_0 (by decide) ?_
  refine lv_istore_n (lv' := [(2, .int 0), (0, .ref (ad 8)), (1, .int a1)]) C.x C.b dX5_entries_1 rfl hl (by decide) rfl (fun ls hl => ?_)
  refine lv_iconst (v := 0) C.x C.b dX5_entries_2 (by decide) ?_
  refine lv_istore_n (lv' := [(3, .int 0), (2, .int 0), (0, .ref (ad 8)), (1, .int a1)]) C.x C.b dX5_entries_3 rfl hl (by decide) rfl (fun ls hl => ?_)
  obtain ⟨k1, hw⟩ := hw
  exact kM_entries_4 C hI k1 _ _ _ _ _ _ _ hS (lv_sub hl [2, 3, 1, 0] rfl) hw
theorem kM_entries {l : Launch} (ht : l.stackTraces = false) (hI : mI ad) {w : gW} {u : gM} {a1 : Int32} {Q : Int32 → gM → Prop} (hw : wM_entries a1 Q u) : gMet l yX5_entries (ws_ yX5_entries cX5_entries 4 (some .int)) E (gmW E ad u w) [.ref (ad 8), .int a1] 0 0 (mQ E ad w (uI Q)) gNoX :=
  g_ofW ht (by decide) (Nat.le_of_ble_eq_true rfl) (fun p e s m below meth c ls H C hl hS => kM_entries_r C hI _ _ _ _ _ hS hl hw)
def wM_bridgeValue (a1 : Int32) (a2 : Int32) (Q : Int32 → gM → Prop) (u : gM) : Prop :=
  (a2 = 0 → (wM_idOf a1 (fun r7 u6 => Q r7 u6) u)) ∧ (¬ a2 = 0 → ((a2 = 5 → (wM_entries a1 (fun r5 u4 => Q r5 u4) u)) ∧ (¬ a2 = 5 → (uLd 0 487 ((11 + (5 * a1)) + a2) (fun v3 => Q v3 u) u))))
theorem kM_bridgeValue_r (C : gC p l s m args meth c cX5_bridgeValue 3 (some .int) RX5 E [] "bridgeValue") (hI : mI ad) (a1 : Int32) (a2 : Int32) {Q : Int32 → gM → Prop} (u : gM) (H : Heap) (locs : List Loc) (ls : Array Slot) (hS : gS E w0 (gmW E ad u w) H locs) (hl : lv_has ls 3 [(0, .ref (ad 8)), (1, .int a1), (2, .int a2)]) (hw : wM_bridgeValue a1 a2 Q u) : mGo p l e s m args below meth c 1 23 E ad w0 w (uI Q) H locs (F0 m 0 ls []) := by
  unfold wM_bridgeValue at hw
  refine lv_iload_n C.x C.b dX5_bridgeValue_0 rfl (lv_at hl 2 rfl) ?_
  refine lv_if_ne (tgt := 12) C.x C.b dX5_bridgeValue_1 (by decide) (fun c1 => ?_) (fun c1 => ?_)
  · have hw := hw.2 c1
    refine lv_iload_n C.x C.b dX5_bridgeValue_12 rfl (lv_at hl 2 rfl) ?_
    refine lv_iconst (v := 5) C.x C.b dX5_bridgeValue_13 (by decide) ?_
    refine lv_icmp_ne (tgt := 25) C.x C.b dX5_bridgeValue_14 (by decide) (fun c2 => ?_) (fun c2 => ?_)
    · have hw := hw.2 c2
      refine lv_aload_n C.x C.b dX5_bridgeValue_25 rfl (lv_at hl 0 rfl) ?_
      refine gm_getA C hI hS 0 (by decide) (a := ad 0) rfl q1481 (fun _ h9 => h9) dX5_bridgeValue_26 ?_
      refine lv_bipush (v := 11) C.x C.b dX5_bridgeValue_29 (by decide) ?_
      refine lv_iconst (v := 5) C.x C.b dX5_bridgeValue_31 (by decide) ?_
      refine lv_iload_n C.x C.b dX5_bridgeValue_32 rfl (lv_at hl 1 rfl) ?_
      refine lv_imul C.x C.b dX5_bridgeValue_33 ?_
      refine lv_iadd C.x C.b dX5_bridgeValue_34 ?_
      refine lv_iload_n C.x C.b dX5_bridgeValue_35 rfl (lv_at hl 2 rfl) ?_
      refine lv_iadd C.x C.b dX5_bridgeValue_36 ?_
      refine gm_ld C hI hS 0 487 (by decide) rfl dX5_bridgeValue_37 hw (fun v3 hw => ?_)
      exact gm_iret C hS hw dX5_bridgeValue_38
    · have hw := hw.1 c2
      refine lv_aload_n C.x C.b dX5_bridgeValue_17 rfl (lv_at hl 0 rfl) ?_
      refine lv_iload_n C.x C.b dX5_bridgeValue_18 rfl (lv_at hl 1 rfl) ?_
      refine gm_callV (rest := []) C hI hS hl (kM_entries C.tr hI hw) q1726 q1728 qs60 q88 q1729 ny_entries rfl (Nat.le_of_ble_eq_true rfl) (Nat.le_of_ble_eq_true rfl) rfl (Nat.le_of_ble_eq_true rfl) dX5_bridgeValue_19 (gm_ki (fun r5 u4 H locs hw hS => ?_))
      refine lv_goto (tgt := 38) C.x C.b dX5_bridgeValue_22 (by decide) ?_
      exact gm_iret C hS hw dX5_bridgeValue_38
  · have hw := hw.1 c1
    refine lv_aload_n C.x C.b dX5_bridgeValue_4 rfl (lv_at hl 0 rfl) ?_
    refine lv_iload_n C.x C.b dX5_bridgeValue_5 rfl (lv_at hl 1 rfl) ?_
    refine gm_callV (rest := []) C hI hS hl (kM_idOf C.tr hI hw) q1473 q1475 qs24 q88 q1476 ny_idOf rfl (Nat.le_of_ble_eq_true rfl) (Nat.le_of_ble_eq_true rfl) rfl (Nat.le_of_ble_eq_true rfl) dX5_bridgeValue_6 (gm_ki (fun r7 u6 H locs hw hS => ?_))
    refine lv_goto (tgt := 38) C.x C.b dX5_bridgeValue_9 (by decide) ?_
    exact gm_iret C hS hw dX5_bridgeValue_38
theorem kM_bridgeValue {l : Launch} (ht : l.stackTraces = false) (hI : mI ad) {w : gW} {u : gM} {a1 : Int32} {a2 : Int32} {Q : Int32 → gM → Prop} (hw : wM_bridgeValue a1 a2 Q u) : gMet l yX5_bridgeValue (ws_ yX5_bridgeValue cX5_bridgeValue 3 (some .int)) E (gmW E ad u w) [.ref (ad 8), .int a1, .int a2] 1 23 (mQ E ad w (uI Q)) gNoX :=
  g_ofW ht (by decide) (Nat.le_of_ble_eq_true rfl) (fun p e s m below meth c ls H C hl hS => kM_bridgeValue_r C hI _ _ _ _ _ _ hS hl hw)
def wM_bridge (a1 : Int32) (a2 : Int32) (Q : Int32 → gM → Prop) (u : gM) : Prop :=
  wM_isBridge a1 (fun r2 u1 => (r2 = 0 → (wM_fails 1 (fun r14 u13 => Q r14 u13) u1)) ∧ (¬ r2 = 0 → (wM_in a2 0 5 (fun r5 u4 => (r5 = 0 → (wM_fails 2 (fun r8 u7 => Q r8 u7) u4)) ∧ (¬ r5 = 0 → (wM_bridgeValue a1 a2 (fun r10 u9 => wM_tells r10 (fun r12 u11 => Q r12 u11) u9) u4))) u1))) u
theorem kM_bridge_r (C : gC p l s m args meth c cX5_bridge 3 (some .int) RX5 E [] "bridge") (hI : mI ad) (a1 : Int32) (a2 : Int32) {Q : Int32 → gM → Prop} (u : gM) (H : Heap) (locs : List Loc) (ls : Array Slot) (hS : gS E w0 (gmW E ad u w) H locs) (hl : lv_has ls 3 [(0, .ref (ad 8)), (1, .int a1), (2, .int a2)]) (hw : wM_bridge a1 a2 Q u) : mGo p l e s m args below meth c 2 45 E ad w0 w (uI Q) H locs (F0 m 0 ls []) := by
  unfold wM_bridge at hw
  refine lv_aload_n C.x C.b dX5_bridge_0 rfl (lv_at hl 0 rfl) ?_
  refine lv_iload_n C.x C.b dX5_bridge_1 rfl (lv_at hl 1 rfl) ?_
  refine gm_callV (rest := []) C hI hS hl (kM_isBridge C.tr hI hw) q1563 q1565 qs31 q88 q1566 ny_isBridge rfl (Nat.le_of_ble_eq_true rfl) (Nat.le_of_ble_eq_true rfl) rfl (Nat.le_of_ble_eq_true rfl) dX5_bridge_2 (gm_ki (fun r2 u1 H locs hw hS => ?_))
  refine lv_if_ne (tgt := 14) C.x C.b dX5_bridge_5 (by decide) (fun c3 => ?_) (fun c3 => ?_)
  · have hw := hw.2 c3
    refine lv_iload_n C.x C.b dX5_bridge_14 rfl (lv_at hl 2 rfl) ?_
    refine lv_iconst (v := 0) C.x C.b dX5_bridge_15 (by decide) ?_
    refine lv_iconst (v := 5) C.x C.b dX5_bridge_16 (by decide) ?_
    refine gm_callS (rest := []) C hS hl (kM_in C.tr hI hw) q1466 q1467 q88 q1468 ny_in rfl (Nat.le_of_ble_eq_true rfl) (Nat.le_of_ble_eq_true rfl) rfl (Nat.le_of_ble_eq_true rfl) dX5_bridge_17 (gm_ki (fun r5 u4 H locs hw hS => ?_))
    refine lv_if_eq (tgt := 36) C.x C.b dX5_bridge_20 (by decide) (fun c6 => ?_) (fun c6 => ?_)
    · have hw := hw.1 c6
      refine lv_aload_n C.x C.b dX5_bridge_36 rfl (lv_at hl 0 rfl) ?_
      refine lv_iconst (v := 2) C.x C.b dX5_bridge_37 (by decide) ?_
      refine gm_callV (rest := []) C hI hS hl (kM_fails C.tr hI hw) q1535 q1537 qs26 q88 q1538 ny_fails rfl (Nat.le_of_ble_eq_true rfl) (Nat.le_of_ble_eq_true rfl) rfl (Nat.le_of_ble_eq_true rfl) dX5_bridge_38 (gm_ki (fun r8 u7 H locs hw hS => ?_))
      exact gm_iret C hS hw dX5_bridge_41
    · have hw := hw.2 c6
      refine lv_aload_n C.x C.b dX5_bridge_23 rfl (lv_at hl 0 rfl) ?_
      refine lv_aload_n C.x C.b dX5_bridge_24 rfl (lv_at hl 0 rfl) ?_
      refine lv_iload_n C.x C.b dX5_bridge_25 rfl (lv_at hl 1 rfl) ?_
      refine lv_iload_n C.x C.b dX5_bridge_26 rfl (lv_at hl 2 rfl) ?_
      refine gm_callV (rest := [.ref (ad 8)]) C hI hS hl (kM_bridgeValue C.tr hI hw) q1722 q1724 qs59 q88 q1725 ny_bridgeValue rfl (Nat.le_of_ble_eq_true rfl) (Nat.le_of_ble_eq_true rfl) rfl (Nat.le_of_ble_eq_true rfl) dX5_bridge_27 (gm_ki (fun r10 u9 H locs hw hS => ?_))
      refine gm_callV (rest := []) C hI hS hl (kM_tells C.tr hI hw) q1547 q1549 qs29 q88 q1550 ny_tells rfl (Nat.le_of_ble_eq_true rfl) (Nat.le_of_ble_eq_true rfl) rfl (Nat.le_of_ble_eq_true rfl) dX5_bridge_30 (gm_ki (fun r12 u11 H locs hw hS => ?_))
      refine lv_goto (tgt := 41) C.x C.b dX5_bridge_33 (by decide) ?_
      exact gm_iret C hS hw dX5_bridge_41
  · have hw := hw.1 c3
    refine lv_aload_n C.x C.b dX5_bridge_8 rfl (lv_at hl 0 rfl) ?_
    refine lv_iconst (v := 1) C.x C.b dX5_bridge_9 (by decide) ?_
    refine gm_callV (rest := []) C hI hS hl (kM_fails C.tr hI hw) q1535 q1537 qs26 q88 q1538 ny_fails rfl (Nat.le_of_ble_eq_true rfl) (Nat.le_of_ble_eq_true rfl) rfl (Nat.le_of_ble_eq_true rfl) dX5_bridge_10 (gm_ki (fun r14 u13 H locs hw hS => ?_))
    exact gm_iret C hS hw dX5_bridge_13
theorem kM_bridge {l : Launch} (ht : l.stackTraces = false) (hI : mI ad) {w : gW} {u : gM} {a1 : Int32} {a2 : Int32} {Q : Int32 → gM → Prop} (hw : wM_bridge a1 a2 Q u) : gMet l yX5_bridge (ws_ yX5_bridge cX5_bridge 3 (some .int)) E (gmW E ad u w) [.ref (ad 8), .int a1, .int a2] 2 45 (mQ E ad w (uI Q)) gNoX :=
  g_ofW ht (by decide) (Nat.le_of_ble_eq_true rfl) (fun p e s m below meth c ls H C hl hS => kM_bridge_r C hI _ _ _ _ _ _ hS hl hw)
def wM_links (Q : Int32 → gM → Prop) (u : gM) : Prop :=
  uLd 0 487 5 (fun v1 => wM_tells v1 (fun r3 u2 => Q r3 u2) u) u
theorem kM_links_r (C : gC p l s m args meth c cX5_links 1 (some .int) RX5 E [] "links") (hI : mI ad) {Q : Int32 → gM → Prop} (u : gM) (H : Heap) (locs : List Loc) (ls : Array Slot) (hS : gS E w0 (gmW E ad u w) H locs) (hl : lv_has ls 1 [(0, .ref (ad 8))]) (hw : wM_links Q u) : mGo p l e s m args below meth c 1 21 E ad w0 w (uI Q) H locs (F0 m 0 ls []) := by
  unfold wM_links at hw
  refine lv_aload_n C.x C.b dX5_links_0 rfl (lv_at hl 0 rfl) ?_
  refine lv_aload_n C.x C.b dX5_links_1 rfl (lv_at hl 0 rfl) ?_
  refine gm_getA C hI hS 0 (by decide) (a := ad 0) rfl q1481 (fun _ h9 => h9) dX5_links_2 ?_
  refine lv_iconst (v := 5) C.x C.b dX5_links_5 (by decide) ?_
  refine gm_ld C hI hS 0 487 (by decide) rfl dX5_links_6 hw (fun v1 hw => ?_)
  refine gm_callV (rest := []) C hI hS hl (kM_tells C.tr hI hw) q1547 q1549 qs29 q88 q1550 ny_tells rfl (Nat.le_of_ble_eq_true rfl) (Nat.le_of_ble_eq_true rfl) rfl (Nat.le_of_ble_eq_true rfl) dX5_links_7 (gm_ki (fun r3 u2 H locs hw hS => ?_))
  exact gm_iret C hS hw dX5_links_10
theorem kM_links {l : Launch} (ht : l.stackTraces = false) (hI : mI ad) {w : gW} {u : gM} {Q : Int32 → gM → Prop} (hw : wM_links Q u) : gMet l yX5_links (ws_ yX5_links cX5_links 1 (some .int)) E (gmW E ad u w) [.ref (ad 8)] 1 21 (mQ E ad w (uI Q)) gNoX :=
  g_ofW ht (by decide) (Nat.le_of_ble_eq_true rfl) (fun p e s m below meth c ls H C hl hS => kM_links_r C hI _ _ _ _ hS hl hw)
def wM_linkValue (a1 : Int32) (a2 : Int32) (Q : Int32 → gM → Prop) (u : gM) : Prop :=
  (7 ≤ a2 → ((a2 = 7 → (wM_carries a1 (fun r6 u5 => (r6 = 0 → (Q 0 u5)) ∧ (¬ r6 = 0 → (Q 1 u5))) u)) ∧ (¬ a2 = 7 → (wM_of a1 7 (fun r4 u3 => Q r4 u3) u)))) ∧ (¬ 7 ≤ a2 → (wM_of a1 a2 (fun r9 u8 => Q r9 u8) u))
theorem kM_linkValue_r (C : gC p l s m args meth c cX5_linkValue 3 (some .int) RX5 E [] "linkValue") (hI : mI ad) (a1 : Int32) (a2 : Int32) {Q : Int32 → gM → Prop} (u : gM) (H : Heap) (locs : List Loc) (ls : Array Slot) (hS : gS E w0 (gmW E ad u w) H locs) (hl : lv_has ls 3 [(0, .ref (ad 8)), (1, .int a1), (2, .int a2)]) (hw : wM_linkValue a1 a2 Q u) : mGo p l e s m args below meth c 2 43 E ad w0 w (uI Q) H locs (F0 m 0 ls []) := by
  unfold wM_linkValue at hw
  refine lv_iload_n C.x C.b dX5_linkValue_0 rfl (lv_at hl 2 rfl) ?_
  refine lv_bipush (v := 7) C.x C.b dX5_linkValue_1 (by decide) ?_
  refine lv_icmp_ge (tgt := 15) C.x C.b dX5_linkValue_3 (by decide) (fun c1 => ?_) (fun c1 => ?_)
  · have hw := hw.1 c1
    refine lv_iload_n C.x C.b dX5_linkValue_15 rfl (lv_at hl 2 rfl) ?_
    refine lv_bipush (v := 7) C.x C.b dX5_linkValue_16 (by decide) ?_
    refine lv_icmp_ne (tgt := 37) C.x C.b dX5_linkValue_18 (by decide) (fun c2 => ?_) (fun c2 => ?_)
    · have hw := hw.2 c2
      refine lv_aload_n C.x C.b dX5_linkValue_37 rfl (lv_at hl 0 rfl) ?_
      refine lv_iload_n C.x C.b dX5_linkValue_38 rfl (lv_at hl 1 rfl) ?_
      refine lv_bipush (v := 7) C.x C.b dX5_linkValue_39 (by decide) ?_
      refine gm_callV (rest := []) C hI hS hl (kM_of C.tr hI hw) q1595 q1597 qs37 q88 q1598 ny_of rfl (Nat.le_of_ble_eq_true rfl) (Nat.le_of_ble_eq_true rfl) rfl (Nat.le_of_ble_eq_true rfl) dX5_linkValue_41 (gm_ki (fun r4 u3 H locs hw hS => ?_))
      exact gm_iret C hS hw dX5_linkValue_44
    · have hw := hw.1 c2
      refine lv_aload_n C.x C.b dX5_linkValue_21 rfl (lv_at hl 0 rfl) ?_
      refine lv_iload_n C.x C.b dX5_linkValue_22 rfl (lv_at hl 1 rfl) ?_
      refine gm_callV (rest := []) C hI hS hl (kM_carries C.tr hI hw) q1698 q1700 qs56 q88 q1701 ny_carries rfl (Nat.le_of_ble_eq_true rfl) (Nat.le_of_ble_eq_true rfl) rfl (Nat.le_of_ble_eq_true rfl) dX5_linkValue_23 (gm_ki (fun r6 u5 H locs hw hS => ?_))
      refine lv_if_eq (tgt := 33) C.x C.b dX5_linkValue_26 (by decide) (fun c7 => ?_) (fun c7 => ?_)
      · have hw := hw.1 c7
        refine lv_iconst (v := 0) C.x C.b dX5_linkValue_33 (by decide) ?_
        refine lv_goto (tgt := 44) C.x C.b dX5_linkValue_34 (by decide) ?_
        exact gm_iret C hS hw dX5_linkValue_44
      · have hw := hw.2 c7
        refine lv_iconst (v := 1) C.x C.b dX5_linkValue_29 (by decide) ?_
        refine lv_goto (tgt := 44) C.x C.b dX5_linkValue_30 (by decide) ?_
        exact gm_iret C hS hw dX5_linkValue_44
  · have hw := hw.2 c1
    refine lv_aload_n C.x C.b dX5_linkValue_6 rfl (lv_at hl 0 rfl) ?_
    refine lv_iload_n C.x C.b dX5_linkValue_7 rfl (lv_at hl 1 rfl) ?_
    refine lv_iload_n C.x C.b dX5_linkValue_8 rfl (lv_at hl 2 rfl) ?_
    refine gm_callV (rest := []) C hI hS hl (kM_of C.tr hI hw) q1595 q1597 qs37 q88 q1598 ny_of rfl (Nat.le_of_ble_eq_true rfl) (Nat.le_of_ble_eq_true rfl) rfl (Nat.le_of_ble_eq_true rfl) dX5_linkValue_9 (gm_ki (fun r9 u8 H locs hw hS => ?_))
    refine lv_goto (tgt := 44) C.x C.b dX5_linkValue_12 (by decide) ?_
    exact gm_iret C hS hw dX5_linkValue_44
theorem kM_linkValue {l : Launch} (ht : l.stackTraces = false) (hI : mI ad) {w : gW} {u : gM} {a1 : Int32} {a2 : Int32} {Q : Int32 → gM → Prop} (hw : wM_linkValue a1 a2 Q u) : gMet l yX5_linkValue (ws_ yX5_linkValue cX5_linkValue 3 (some .int)) E (gmW E ad u w) [.ref (ad 8), .int a1, .int a2] 2 43 (mQ E ad w (uI Q)) gNoX :=
  g_ofW ht (by decide) (Nat.le_of_ble_eq_true rfl) (fun p e s m below meth c ls H C hl hS => kM_linkValue_r C hI _ _ _ _ _ _ hS hl hw)
def wM_link (a1 : Int32) (a2 : Int32) (Q : Int32 → gM → Prop) (u : gM) : Prop :=
  wM_isLink a1 (fun r2 u1 => (r2 = 0 → (wM_fails 1 (fun r14 u13 => Q r14 u13) u1)) ∧ (¬ r2 = 0 → (wM_in a2 0 8 (fun r5 u4 => (r5 = 0 → (wM_fails 2 (fun r8 u7 => Q r8 u7) u4)) ∧ (¬ r5 = 0 → (wM_linkValue a1 a2 (fun r10 u9 => wM_tells r10 (fun r12 u11 => Q r12 u11) u9) u4))) u1))) u
theorem kM_link_r (C : gC p l s m args meth c cX5_link 3 (some .int) RX5 E [] "link") (hI : mI ad) (a1 : Int32) (a2 : Int32) {Q : Int32 → gM → Prop} (u : gM) (H : Heap) (locs : List Loc) (ls : Array Slot) (hS : gS E w0 (gmW E ad u w) H locs) (hl : lv_has ls 3 [(0, .ref (ad 8)), (1, .int a1), (2, .int a2)]) (hw : wM_link a1 a2 Q u) : mGo p l e s m args below meth c 3 65 E ad w0 w (uI Q) H locs (F0 m 0 ls []) := by
  unfold wM_link at hw
  refine lv_aload_n C.x C.b dX5_link_0 rfl (lv_at hl 0 rfl) ?_
  refine lv_iload_n C.x C.b dX5_link_1 rfl (lv_at hl 1 rfl) ?_
  refine gm_callV (rest := []) C hI hS hl (kM_isLink C.tr hI hw) q1591 q1593 qs36 q88 q1594 ny_isLink rfl (Nat.le_of_ble_eq_true rfl) (Nat.le_of_ble_eq_true rfl) rfl (Nat.le_of_ble_eq_true rfl) dX5_link_2 (gm_ki (fun r2 u1 H locs hw hS => ?_))
  refine lv_if_ne (tgt := 14) C.x C.b dX5_link_5 (by decide) (fun c3 => ?_) (fun c3 => ?_)
  · have hw := hw.2 c3
    refine lv_iload_n C.x C.b dX5_link_14 rfl (lv_at hl 2 rfl) ?_
    refine lv_iconst (v := 0) C.x C.b dX5_link_15 (by decide) ?_
    refine lv_bipush (v := 8) C.x C.b dX5_link_16 (by decide) ?_
    refine gm_callS (rest := []) C hS hl (kM_in C.tr hI hw) q1466 q1467 q88 q1468 ny_in rfl (Nat.le_of_ble_eq_true rfl) (Nat.le_of_ble_eq_true rfl) rfl (Nat.le_of_ble_eq_true rfl) dX5_link_18 (gm_ki (fun r5 u4 H locs hw hS => ?_))
    refine lv_if_eq (tgt := 37) C.x C.b dX5_link_21 (by decide) (fun c6 => ?_) (fun c6 => ?_)
    · have hw := hw.1 c6
      refine lv_aload_n C.x C.b dX5_link_37 rfl (lv_at hl 0 rfl) ?_
      refine lv_iconst (v := 2) C.x C.b dX5_link_38 (by decide) ?_
      refine gm_callV (rest := []) C hI hS hl (kM_fails C.tr hI hw) q1535 q1537 qs26 q88 q1538 ny_fails rfl (Nat.le_of_ble_eq_true rfl) (Nat.le_of_ble_eq_true rfl) rfl (Nat.le_of_ble_eq_true rfl) dX5_link_39 (gm_ki (fun r8 u7 H locs hw hS => ?_))
      exact gm_iret C hS hw dX5_link_42
    · have hw := hw.2 c6
      refine lv_aload_n C.x C.b dX5_link_24 rfl (lv_at hl 0 rfl) ?_
      refine lv_aload_n C.x C.b dX5_link_25 rfl (lv_at hl 0 rfl) ?_
      refine lv_iload_n C.x C.b dX5_link_26 rfl (lv_at hl 1 rfl) ?_
      refine lv_iload_n C.x C.b dX5_link_27 rfl (lv_at hl 2 rfl) ?_
      refine gm_callV (rest := [.ref (ad 8)]) C hI hS hl (kM_linkValue C.tr hI hw) q1738 q1740 qs61 q88 q1741 ny_linkValue rfl (Nat.le_of_ble_eq_true rfl) (Nat.le_of_ble_eq_true rfl) rfl (Nat.le_of_ble_eq_true rfl) dX5_link_28 (gm_ki (fun r10 u9 H locs hw hS => ?_))
      refine gm_callV (rest := []) C hI hS hl (kM_tells C.tr hI hw) q1547 q1549 qs29 q88 q1550 ny_tells rfl (Nat.le_of_ble_eq_true rfl) (Nat.le_of_ble_eq_true rfl) rfl (Nat.le_of_ble_eq_true rfl) dX5_link_31 (gm_ki (fun r12 u11 H locs hw hS => ?_))
      refine lv_goto (tgt := 42) C.x C.b dX5_link_34 (by decide) ?_
      exact gm_iret C hS hw dX5_link_42
  · have hw := hw.1 c3
    refine lv_aload_n C.x C.b dX5_link_8 rfl (lv_at hl 0 rfl) ?_
    refine lv_iconst (v := 1) C.x C.b dX5_link_9 (by decide) ?_
    refine gm_callV (rest := []) C hI hS hl (kM_fails C.tr hI hw) q1535 q1537 qs26 q88 q1538 ny_fails rfl (Nat.le_of_ble_eq_true rfl) (Nat.le_of_ble_eq_true rfl) rfl (Nat.le_of_ble_eq_true rfl) dX5_link_10 (gm_ki (fun r14 u13 H locs hw hS => ?_))
    exact gm_iret C hS hw dX5_link_13
theorem kM_link {l : Launch} (ht : l.stackTraces = false) (hI : mI ad) {w : gW} {u : gM} {a1 : Int32} {a2 : Int32} {Q : Int32 → gM → Prop} (hw : wM_link a1 a2 Q u) : gMet l yX5_link (ws_ yX5_link cX5_link 3 (some .int)) E (gmW E ad u w) [.ref (ad 8), .int a1, .int a2] 3 65 (mQ E ad w (uI Q)) gNoX :=
  g_ofW ht (by decide) (Nat.le_of_ble_eq_true rfl) (fun p e s m below meth c ls H C hl hS => kM_link_r C hI _ _ _ _ _ _ hS hl hw)
def wM_port_37 (Q : Int32 → gM → Prop) (x3 : Int32) (y0 : Int32) (y1 : Int32) (y2 : Int32) (u : gM) : Prop :=
  wM_of y2 ((y1 + y0) + x3) (fun r13 u12 => wM_tells r13 (fun r15 u14 => Q r15 u14) u12) u
theorem kM_port_37 (C : gC p l s m args meth c cX5_port 4 (some .int) RX5 E [] "port") (hI : mI ad) {Q : Int32 → gM → Prop} (x3 : Int32) (y0 : Int32) (y1 : Int32) (y2 : Int32) (u : gM) (H : Heap) (locs : List Loc) (ls : Array Slot) (hS : gS E w0 (gmW E ad u w) H locs) (hl : lv_has ls 4 [(3, .int x3)]) (hw : wM_port_37 Q x3 y0 y1 y2 u) : mGo p l e s m args below meth c 2 43 E ad w0 w (uI Q) H locs (F0 m 37 ls [.int y0, .int y1, .int y2, .ref (ad 8), .ref (ad 8)]) := by
  unfold wM_port_37 at hw
  refine lv_iadd C.x C.b dX5_port_37 ?_
  refine lv_iload_n C.x C.b dX5_port_38 rfl (lv_at hl 0 rfl) ?_
  refine lv_iadd C.x C.b dX5_port_39 ?_
  refine gm_callV (rest := [.ref (ad 8)]) C hI hS hl (kM_of C.tr hI hw) q1595 q1597 qs37 q88 q1598 ny_of rfl (Nat.le_of_ble_eq_true rfl) (Nat.le_of_ble_eq_true rfl) rfl (Nat.le_of_ble_eq_true rfl) dX5_port_40 (gm_ki (fun r13 u12 H locs hw hS => ?_))
  refine gm_callV (rest := []) C hI hS hl (kM_tells C.tr hI hw) q1547 q1549 qs29 q88 q1550 ny_tells rfl (Nat.le_of_ble_eq_true rfl) (Nat.le_of_ble_eq_true rfl) rfl (Nat.le_of_ble_eq_true rfl) dX5_port_43 (gm_ki (fun r15 u14 H locs hw hS => ?_))
  refine lv_goto (tgt := 54) C.x C.b dX5_port_46 (by decide) ?_
  exact gm_iret C hS hw dX5_port_54
def wM_port (a1 : Int32) (a2 : Int32) (a3 : Int32) (Q : Int32 → gM → Prop) (u : gM) : Prop :=
  wM_isLink a1 (fun r2 u1 => (r2 = 0 → (wM_fails 1 (fun r11 u10 => Q r11 u10) u1)) ∧ (¬ r2 = 0 → (wM_in a3 0 2 (fun r5 u4 => (r5 = 0 → (wM_fails 2 (fun r8 u7 => Q r8 u7) u4)) ∧ (¬ r5 = 0 → ((a2 = 0 → (wM_port_37 Q a3 0 8 a1 u4)) ∧ (¬ a2 = 0 → (wM_port_37 Q a3 3 8 a1 u4))))) u1))) u
theorem kM_port_r (C : gC p l s m args meth c cX5_port 4 (some .int) RX5 E [] "port") (hI : mI ad) (a1 : Int32) (a2 : Int32) (a3 : Int32) {Q : Int32 → gM → Prop} (u : gM) (H : Heap) (locs : List Loc) (ls : Array Slot) (hS : gS E w0 (gmW E ad u w) H locs) (hl : lv_has ls 4 [(0, .ref (ad 8)), (1, .int a1), (2, .int a2), (3, .int a3)]) (hw : wM_port a1 a2 a3 Q u) : mGo p l e s m args below meth c 2 43 E ad w0 w (uI Q) H locs (F0 m 0 ls []) := by
  unfold wM_port at hw
  refine lv_aload_n C.x C.b dX5_port_0 rfl (lv_at hl 0 rfl) ?_
  refine lv_iload_n C.x C.b dX5_port_1 rfl (lv_at hl 1 rfl) ?_
  refine gm_callV (rest := []) C hI hS hl (kM_isLink C.tr hI hw) q1591 q1593 qs36 q88 q1594 ny_isLink rfl (Nat.le_of_ble_eq_true rfl) (Nat.le_of_ble_eq_true rfl) rfl (Nat.le_of_ble_eq_true rfl) dX5_port_2 (gm_ki (fun r2 u1 H locs hw hS => ?_))
  refine lv_if_ne (tgt := 14) C.x C.b dX5_port_5 (by decide) (fun c3 => ?_) (fun c3 => ?_)
  · have hw := hw.2 c3
    refine lv_iload_n C.x C.b dX5_port_14 rfl (lv_at hl 3 rfl) ?_
    refine lv_iconst (v := 0) C.x C.b dX5_port_15 (by decide) ?_
    refine lv_iconst (v := 2) C.x C.b dX5_port_16 (by decide) ?_
    refine gm_callS (rest := []) C hS hl (kM_in C.tr hI hw) q1466 q1467 q88 q1468 ny_in rfl (Nat.le_of_ble_eq_true rfl) (Nat.le_of_ble_eq_true rfl) rfl (Nat.le_of_ble_eq_true rfl) dX5_port_17 (gm_ki (fun r5 u4 H locs hw hS => ?_))
    refine lv_if_eq (tgt := 49) C.x C.b dX5_port_20 (by decide) (fun c6 => ?_) (fun c6 => ?_)
    · have hw := hw.1 c6
      refine lv_aload_n C.x C.b dX5_port_49 rfl (lv_at hl 0 rfl) ?_
      refine lv_iconst (v := 2) C.x C.b dX5_port_50 (by decide) ?_
      refine gm_callV (rest := []) C hI hS hl (kM_fails C.tr hI hw) q1535 q1537 qs26 q88 q1538 ny_fails rfl (Nat.le_of_ble_eq_true rfl) (Nat.le_of_ble_eq_true rfl) rfl (Nat.le_of_ble_eq_true rfl) dX5_port_51 (gm_ki (fun r8 u7 H locs hw hS => ?_))
      exact gm_iret C hS hw dX5_port_54
    · have hw := hw.2 c6
      refine lv_aload_n C.x C.b dX5_port_23 rfl (lv_at hl 0 rfl) ?_
      refine lv_aload_n C.x C.b dX5_port_24 rfl (lv_at hl 0 rfl) ?_
      refine lv_iload_n C.x C.b dX5_port_25 rfl (lv_at hl 1 rfl) ?_
      refine lv_bipush (v := 8) C.x C.b dX5_port_26 (by decide) ?_
      refine lv_iload_n C.x C.b dX5_port_28 rfl (lv_at hl 2 rfl) ?_
      refine lv_if_eq (tgt := 36) C.x C.b dX5_port_29 (by decide) (fun c9 => ?_) (fun c9 => ?_)
      · have hw := hw.1 c9
        refine lv_iconst (v := 0) C.x C.b dX5_port_36 (by decide) ?_
        exact kM_port_37 C hI _ _ _ _ _ _ _ _ hS (lv_sub hl [3] rfl) hw
      · have hw := hw.2 c9
        refine lv_iconst (v := 3) C.x C.b dX5_port_32 (by decide) ?_
        refine lv_goto (tgt := 37) C.x C.b dX5_port_33 (by decide) ?_
        exact kM_port_37 C hI _ _ _ _ _ _ _ _ hS (lv_sub hl [3] rfl) hw
  · have hw := hw.1 c3
    refine lv_aload_n C.x C.b dX5_port_8 rfl (lv_at hl 0 rfl) ?_
    refine lv_iconst (v := 1) C.x C.b dX5_port_9 (by decide) ?_
    refine gm_callV (rest := []) C hI hS hl (kM_fails C.tr hI hw) q1535 q1537 qs26 q88 q1538 ny_fails rfl (Nat.le_of_ble_eq_true rfl) (Nat.le_of_ble_eq_true rfl) rfl (Nat.le_of_ble_eq_true rfl) dX5_port_10 (gm_ki (fun r11 u10 H locs hw hS => ?_))
    exact gm_iret C hS hw dX5_port_13
theorem kM_port {l : Launch} (ht : l.stackTraces = false) (hI : mI ad) {w : gW} {u : gM} {a1 : Int32} {a2 : Int32} {a3 : Int32} {Q : Int32 → gM → Prop} (hw : wM_port a1 a2 a3 Q u) : gMet l yX5_port (ws_ yX5_port cX5_port 4 (some .int)) E (gmW E ad u w) [.ref (ad 8), .int a1, .int a2, .int a3] 2 43 (mQ E ad w (uI Q)) gNoX :=
  g_ofW ht (by decide) (Nat.le_of_ble_eq_true rfl) (fun p e s m below meth c ls H C hl hS => kM_port_r C hI _ _ _ _ _ _ _ hS hl hw)
def wM_entry_28 (Q : Int32 → gM → Prop) (u : gM) : Prop :=
  wM_fails 1 (fun r12 u11 => Q r12 u11) u
theorem kM_entry_28 (C : gC p l s m args meth c cX5_entry 3 (some .int) RX5 E [] "entry") (hI : mI ad) {Q : Int32 → gM → Prop} (u : gM) (H : Heap) (locs : List Loc) (ls : Array Slot) (hS : gS E w0 (gmW E ad u w) H locs) (hl : lv_has ls 3 [(0, .ref (ad 8))]) (hw : wM_entry_28 Q u) : mGo p l e s m args below meth c 2 43 E ad w0 w (uI Q) H locs (F0 m 28 ls []) := by
  unfold wM_entry_28 at hw
  refine lv_aload_n C.x C.b dX5_entry_28 rfl (lv_at hl 0 rfl) ?_
  refine lv_iconst (v := 1) C.x C.b dX5_entry_29 (by decide) ?_
  refine gm_callV (rest := []) C hI hS hl (kM_fails C.tr hI hw) q1535 q1537 qs26 q88 q1538 ny_fails rfl (Nat.le_of_ble_eq_true rfl) (Nat.le_of_ble_eq_true rfl) rfl (Nat.le_of_ble_eq_true rfl) dX5_entry_30 (gm_ki (fun r12 u11 H locs hw hS => ?_))
  exact gm_iret C hS hw dX5_entry_33
def wM_entry (a1 : Int32) (a2 : Int32) (Q : Int32 → gM → Prop) (u : gM) : Prop :=
  wM_isBridge a1 (fun r2 u1 => (r2 = 0 → (wM_entry_28 Q u1)) ∧ (¬ r2 = 0 → (wM_isHost a2 (fun r5 u4 => (r5 = 0 → (wM_entry_28 Q u4)) ∧ (¬ r5 = 0 → (wM_entryOf a1 a2 (fun r8 u7 => wM_tells r8 (fun r10 u9 => Q r10 u9) u7) u4))) u1))) u
theorem kM_entry_r (C : gC p l s m args meth c cX5_entry 3 (some .int) RX5 E [] "entry") (hI : mI ad) (a1 : Int32) (a2 : Int32) {Q : Int32 → gM → Prop} (u : gM) (H : Heap) (locs : List Loc) (ls : Array Slot) (hS : gS E w0 (gmW E ad u w) H locs) (hl : lv_has ls 3 [(0, .ref (ad 8)), (1, .int a1), (2, .int a2)]) (hw : wM_entry a1 a2 Q u) : mGo p l e s m args below meth c 2 43 E ad w0 w (uI Q) H locs (F0 m 0 ls []) := by
  unfold wM_entry at hw
  refine lv_aload_n C.x C.b dX5_entry_0 rfl (lv_at hl 0 rfl) ?_
  refine lv_iload_n C.x C.b dX5_entry_1 rfl (lv_at hl 1 rfl) ?_
  refine gm_callV (rest := []) C hI hS hl (kM_isBridge C.tr hI hw) q1563 q1565 qs31 q88 q1566 ny_isBridge rfl (Nat.le_of_ble_eq_true rfl) (Nat.le_of_ble_eq_true rfl) rfl (Nat.le_of_ble_eq_true rfl) dX5_entry_2 (gm_ki (fun r2 u1 H locs hw hS => ?_))
  refine lv_if_eq (tgt := 28) C.x C.b dX5_entry_5 (by decide) (fun c3 => ?_) (fun c3 => ?_)
  · have hw := hw.1 c3
    exact kM_entry_28 C hI _ _ _ _ hS (lv_sub hl [0] rfl) hw
  · have hw := hw.2 c3
    refine lv_iload_n C.x C.b dX5_entry_8 rfl (lv_at hl 2 rfl) ?_
    refine gm_callS (rest := []) C hS hl (kM_isHost C.tr hI hw) q1615 q1616 q88 q1617 ny_isHost rfl (Nat.le_of_ble_eq_true rfl) (Nat.le_of_ble_eq_true rfl) rfl (Nat.le_of_ble_eq_true rfl) dX5_entry_9 (gm_ki (fun r5 u4 H locs hw hS => ?_))
    refine lv_if_eq (tgt := 28) C.x C.b dX5_entry_12 (by decide) (fun c6 => ?_) (fun c6 => ?_)
    · have hw := hw.1 c6
      exact kM_entry_28 C hI _ _ _ _ hS (lv_sub hl [0] rfl) hw
    · have hw := hw.2 c6
      refine lv_aload_n C.x C.b dX5_entry_15 rfl (lv_at hl 0 rfl) ?_
      refine lv_aload_n C.x C.b dX5_entry_16 rfl (lv_at hl 0 rfl) ?_
      refine lv_iload_n C.x C.b dX5_entry_17 rfl (lv_at hl 1 rfl) ?_
      refine lv_iload_n C.x C.b dX5_entry_18 rfl (lv_at hl 2 rfl) ?_
      refine gm_callV (rest := [.ref (ad 8)]) C hI hS hl (kM_entryOf C.tr hI hw) q1714 q1716 qs58 q88 q1717 ny_entryOf rfl (Nat.le_of_ble_eq_true rfl) (Nat.le_of_ble_eq_true rfl) rfl (Nat.le_of_ble_eq_true rfl) dX5_entry_19 (gm_ki (fun r8 u7 H locs hw hS => ?_))
      refine gm_callV (rest := []) C hI hS hl (kM_tells C.tr hI hw) q1547 q1549 qs29 q88 q1550 ny_tells rfl (Nat.le_of_ble_eq_true rfl) (Nat.le_of_ble_eq_true rfl) rfl (Nat.le_of_ble_eq_true rfl) dX5_entry_22 (gm_ki (fun r10 u9 H locs hw hS => ?_))
      refine lv_goto (tgt := 33) C.x C.b dX5_entry_25 (by decide) ?_
      exact gm_iret C hS hw dX5_entry_33
theorem kM_entry {l : Launch} (ht : l.stackTraces = false) (hI : mI ad) {w : gW} {u : gM} {a1 : Int32} {a2 : Int32} {Q : Int32 → gM → Prop} (hw : wM_entry a1 a2 Q u) : gMet l yX5_entry (ws_ yX5_entry cX5_entry 3 (some .int)) E (gmW E ad u w) [.ref (ad 8), .int a1, .int a2] 2 43 (mQ E ad w (uI Q)) gNoX :=
  g_ofW ht (by decide) (Nat.le_of_ble_eq_true rfl) (fun p e s m below meth c ls H C hl hS => kM_entry_r C hI _ _ _ _ _ _ hS hl hw)
def wM_won_30 (K4 : Int32 → Int32 → Int32 → gM → Prop) (Q : Int32 → gM → Prop) (x1 : Int32) (x3 : Int32) (y0 : Int32) (y1 : Int32) (u : gM) : Prop :=
  K4 x1 (y1 + y0) (x3 + 1) u
theorem kM_won_30 (C : gC p l s m args meth c cX5_won 4 (some .int) RX5 E [] "won") (hI : mI ad) {Q : Int32 → gM → Prop} {K4 : Int32 → Int32 → Int32 → gM → Prop} (hK4 : ∀ (x1 : Int32) (x2 : Int32) (x3 : Int32) (u : gM) (H : Heap) (locs : List Loc) (ls : Array Slot), gS E w0 (gmW E ad u w) H locs → lv_has ls 4 [(0, .ref (ad 8)), (1, .int x1), (2, .int x2), (3, .int x3)] → K4 x1 x2 x3 u → mGo p l e s m args below meth c 1 22 E ad w0 w (uI Q) H locs (F0 m 4 ls [])) (x1 : Int32) (x3 : Int32) (y0 : Int32) (y1 : Int32) (u : gM) (H : Heap) (locs : List Loc) (ls : Array Slot) (hS : gS E w0 (gmW E ad u w) H locs) (hl : lv_has ls 4 [(0, .ref (ad 8)), (1, .int x1), (3, .int x3)]) (hw : wM_won_30 K4 Q x1 x3 y0 y1 u) : mGo p l e s m args below meth c 1 22 E ad w0 w (uI Q) H locs (F0 m 30 ls [.int y0, .int y1]) := by
  unfold wM_won_30 at hw
  refine lv_iadd C.x C.b dX5_won_30 ?_
  refine lv_istore_n (lv' := [(2, .int (y1 + y0)), (0, .ref (ad 8)), (1, .int x1), (3, .int x3)]) C.x C.b dX5_won_31 rfl hl (by decide) rfl (fun ls hl => ?_)
  refine lv_iinc (v := (x3 + 1)) (lv' := [(3, .int (x3 + 1)), (2, .int (y1 + y0)), (0, .ref (ad 8)), (1, .int x1)]) C.x C.b dX5_won_32 hl (k := 3) rfl rfl (by decide) rfl (fun ls hl => ?_)
  refine lv_goto (tgt := 4) C.x C.b dX5_won_35 (by decide) ?_
  exact hK4 _ _ _ _ _ _ _ hS (lv_sub hl [2, 3, 1, 0] rfl) hw
def wM_won_4 (Q : Int32 → gM → Prop) : Nat → Int32 → Int32 → Int32 → gM → Prop
  | 0, _, _, _, _ => False
  | n + 1, x1, x2, x3, u => uLd 0 487 5 (fun v2 => (v2 ≤ x3 → (Q x2 u)) ∧ (¬ v2 ≤ x3 → (wM_of x3 5 (fun r5 u4 => (r5 = x1 → (wM_won_30 (fun x1 x2 x3 u => wM_won_4 Q n x1 x2 x3 u) Q x1 x3 1 x2 u4)) ∧ (¬ r5 = x1 → (wM_won_30 (fun x1 x2 x3 u => wM_won_4 Q n x1 x2 x3 u) Q x1 x3 0 x2 u4))) u))) u
theorem kM_won_4 (C : gC p l s m args meth c cX5_won 4 (some .int) RX5 E [] "won") (hI : mI ad) {Q : Int32 → gM → Prop} : ∀ (n : Nat) (x1 : Int32) (x2 : Int32) (x3 : Int32) (u : gM) (H : Heap) (locs : List Loc) (ls : Array Slot), gS E w0 (gmW E ad u w) H locs → lv_has ls 4 [(0, .ref (ad 8)), (1, .int x1), (2, .int x2), (3, .int x3)] → wM_won_4 Q n x1 x2 x3 u → mGo p l e s m args below meth c 1 22 E ad w0 w (uI Q) H locs (F0 m 4 ls []) := by
  intro n
  induction n with
  | zero =>
    intro x1 x2 x3 u H locs ls hS hl hw
    exact hw.elim
  | succ n ih =>
    intro x1 x2 x3 u H locs ls hS hl hw
    unfold wM_won_4 at hw
    refine lv_iload_n C.x C.b dX5_won_4 rfl (lv_at hl 3 rfl) ?_
    refine lv_aload_n C.x C.b dX5_won_5 rfl (lv_at hl 0 rfl) ?_
    refine gm_getA C hI hS 0 (by decide) (a := ad 0) rfl q1481 (fun _ h9 => h9) dX5_won_6 ?_
    refine lv_iconst (v := 5) C.x C.b dX5_won_9 (by decide) ?_
    refine gm_ld C hI hS 0 487 (by decide) rfl dX5_won_10 hw (fun v2 hw => ?_)
    refine lv_icmp_ge (tgt := 38) C.x C.b dX5_won_11 (by decide) (fun c3 => ?_) (fun c3 => ?_)
    · have hw := hw.1 c3
      refine lv_iload_n C.x C.b dX5_won_38 rfl (lv_at hl 2 rfl) ?_
      exact gm_iret C hS hw dX5_won_39
    · have hw := hw.2 c3
      refine lv_iload_n C.x C.b dX5_won_14 rfl (lv_at hl 2 rfl) ?_
      refine lv_aload_n C.x C.b dX5_won_15 rfl (lv_at hl 0 rfl) ?_
      refine lv_iload_n C.x C.b dX5_won_16 rfl (lv_at hl 3 rfl) ?_
      refine lv_iconst (v := 5) C.x C.b dX5_won_17 (by decide) ?_
      refine gm_callV (rest := [.int x2]) C hI hS hl (kM_of C.tr hI hw) q1595 q1597 qs37 q88 q1598 ny_of rfl (Nat.le_of_ble_eq_true rfl) (Nat.le_of_ble_eq_true rfl) rfl (Nat.le_of_ble_eq_true rfl) dX5_won_18 (gm_ki (fun r5 u4 H locs hw hS => ?_))
      refine lv_iload_n C.x C.b dX5_won_21 rfl (lv_at hl 1 rfl) ?_
      refine lv_icmp_ne (tgt := 29) C.x C.b dX5_won_22 (by decide) (fun c6 => ?_) (fun c6 => ?_)
      · have hw := hw.2 c6
        refine lv_iconst (v := 0) C.x C.b dX5_won_29 (by decide) ?_
        exact kM_won_30 C hI ih _ _ _ _ _ _ _ _ hS (lv_sub hl [0, 1, 3] rfl) hw
      · have hw := hw.1 c6
        refine lv_iconst (v := 1) C.x C.b dX5_won_25 (by decide) ?_
        refine lv_goto (tgt := 30) C.x C.b dX5_won_26 (by decide) ?_
        exact kM_won_30 C hI ih _ _ _ _ _ _ _ _ hS (lv_sub hl [0, 1, 3] rfl) hw
def wM_won (a1 : Int32) (Q : Int32 → gM → Prop) (u : gM) : Prop :=
  ∃ k1 : Nat, wM_won_4 Q k1 a1 0 0 u
theorem kM_won_r (C : gC p l s m args meth c cX5_won 4 (some .int) RX5 E [] "won") (hI : mI ad) (a1 : Int32) {Q : Int32 → gM → Prop} (u : gM) (H : Heap) (locs : List Loc) (ls : Array Slot) (hS : gS E w0 (gmW E ad u w) H locs) (hl : lv_has ls 4 [(0, .ref (ad 8)), (1, .int a1)]) (hw : wM_won a1 Q u) : mGo p l e s m args below meth c 1 22 E ad w0 w (uI Q) H locs (F0 m 0 ls []) := by
  unfold wM_won at hw
  refine lv_iconst (v := 0) C.x C.b dX5_won_0 (by decide) ?_
  refine lv_istore_n (lv' := [(2, .int 0), (0, .ref (ad 8)), (1, .int a1)]) C.x C.b dX5_won_1 rfl hl (by decide) rfl (fun ls hl => ?_)
  refine lv_iconst (v := 0) C.x C.b dX5_won_2 (by decide) ?_
  refine lv_istore_n (lv' := [(3, .int 0), (2, .int 0), (0, .ref (ad 8)), (1, .int a1)]) C.x C.b dX5_won_3 rfl hl (by decide) rfl (fun ls hl => ?_)
  obtain ⟨k1, hw⟩ := hw
  exact kM_won_4 C hI k1 _ _ _ _ _ _ _ hS (lv_sub hl [2, 3, 1, 0] rfl) hw
theorem kM_won {l : Launch} (ht : l.stackTraces = false) (hI : mI ad) {w : gW} {u : gM} {a1 : Int32} {Q : Int32 → gM → Prop} (hw : wM_won a1 Q u) : gMet l yX5_won (ws_ yX5_won cX5_won 4 (some .int)) E (gmW E ad u w) [.ref (ad 8), .int a1] 1 22 (mQ E ad w (uI Q)) gNoX :=
  g_ofW ht (by decide) (Nat.le_of_ble_eq_true rfl) (fun p e s m below meth c ls H C hl hS => kM_won_r C hI _ _ _ _ _ hS hl hw)
def wM_tenantValue (a1 : Int32) (a2 : Int32) (Q : Int32 → gM → Prop) (u : gM) : Prop :=
  (a2 = 1 → (wM_won a1 (fun r6 u5 => Q r6 u5) u)) ∧ (¬ a2 = 1 → ((a2 = 0 → (uLd 0 487 ((187 + (3 * a1)) + 0) (fun v4 => Q v4 u) u)) ∧ (¬ a2 = 0 → (uLd 0 487 ((187 + (3 * a1)) + (a2 - 1)) (fun v3 => Q v3 u) u))))
theorem kM_tenantValue_r (C : gC p l s m args meth c cX5_tenantValue 3 (some .int) RX5 E [] "tenantValue") (hI : mI ad) (a1 : Int32) (a2 : Int32) {Q : Int32 → gM → Prop} (u : gM) (H : Heap) (locs : List Loc) (ls : Array Slot) (hS : gS E w0 (gmW E ad u w) H locs) (hl : lv_has ls 3 [(0, .ref (ad 8)), (1, .int a1), (2, .int a2)]) (hw : wM_tenantValue a1 a2 Q u) : mGo p l e s m args below meth c 2 45 E ad w0 w (uI Q) H locs (F0 m 0 ls []) := by
  unfold wM_tenantValue at hw
  refine lv_iload_n C.x C.b dX5_tenantValue_0 rfl (lv_at hl 2 rfl) ?_
  refine lv_iconst (v := 1) C.x C.b dX5_tenantValue_1 (by decide) ?_
  refine lv_icmp_ne (tgt := 13) C.x C.b dX5_tenantValue_2 (by decide) (fun c1 => ?_) (fun c1 => ?_)
  · have hw := hw.2 c1
    refine lv_aload_n C.x C.b dX5_tenantValue_13 rfl (lv_at hl 0 rfl) ?_
    refine gm_getA C hI hS 0 (by decide) (a := ad 0) rfl q1481 (fun _ h9 => h9) dX5_tenantValue_14 ?_
    refine lv_sipush (v := 187) C.x C.b dX5_tenantValue_17 (by decide) ?_
    refine lv_iconst (v := 3) C.x C.b dX5_tenantValue_20 (by decide) ?_
    refine lv_iload_n C.x C.b dX5_tenantValue_21 rfl (lv_at hl 1 rfl) ?_
    refine lv_imul C.x C.b dX5_tenantValue_22 ?_
    refine lv_iadd C.x C.b dX5_tenantValue_23 ?_
    refine lv_iload_n C.x C.b dX5_tenantValue_24 rfl (lv_at hl 2 rfl) ?_
    refine lv_if_ne (tgt := 32) C.x C.b dX5_tenantValue_25 (by decide) (fun c2 => ?_) (fun c2 => ?_)
    · have hw := hw.2 c2
      refine lv_iload_n C.x C.b dX5_tenantValue_32 rfl (lv_at hl 2 rfl) ?_
      refine lv_iconst (v := 1) C.x C.b dX5_tenantValue_33 (by decide) ?_
      refine lv_isub C.x C.b dX5_tenantValue_34 ?_
      refine lv_iadd C.x C.b dX5_tenantValue_35 ?_
      refine gm_ld C hI hS 0 487 (by decide) rfl dX5_tenantValue_36 hw (fun v3 hw => ?_)
      exact gm_iret C hS hw dX5_tenantValue_37
    · have hw := hw.1 c2
      refine lv_iconst (v := 0) C.x C.b dX5_tenantValue_28 (by decide) ?_
      refine lv_goto (tgt := 35) C.x C.b dX5_tenantValue_29 (by decide) ?_
      refine lv_iadd C.x C.b dX5_tenantValue_35 ?_
      refine gm_ld C hI hS 0 487 (by decide) rfl dX5_tenantValue_36 hw (fun v4 hw => ?_)
      exact gm_iret C hS hw dX5_tenantValue_37
  · have hw := hw.1 c1
    refine lv_aload_n C.x C.b dX5_tenantValue_5 rfl (lv_at hl 0 rfl) ?_
    refine lv_iload_n C.x C.b dX5_tenantValue_6 rfl (lv_at hl 1 rfl) ?_
    refine gm_callV (rest := []) C hI hS hl (kM_won C.tr hI hw) q1758 q1760 qs63 q88 q1761 ny_won rfl (Nat.le_of_ble_eq_true rfl) (Nat.le_of_ble_eq_true rfl) rfl (Nat.le_of_ble_eq_true rfl) dX5_tenantValue_7 (gm_ki (fun r6 u5 H locs hw hS => ?_))
    refine lv_goto (tgt := 37) C.x C.b dX5_tenantValue_10 (by decide) ?_
    exact gm_iret C hS hw dX5_tenantValue_37
theorem kM_tenantValue {l : Launch} (ht : l.stackTraces = false) (hI : mI ad) {w : gW} {u : gM} {a1 : Int32} {a2 : Int32} {Q : Int32 → gM → Prop} (hw : wM_tenantValue a1 a2 Q u) : gMet l yX5_tenantValue (ws_ yX5_tenantValue cX5_tenantValue 3 (some .int)) E (gmW E ad u w) [.ref (ad 8), .int a1, .int a2] 2 45 (mQ E ad w (uI Q)) gNoX :=
  g_ofW ht (by decide) (Nat.le_of_ble_eq_true rfl) (fun p e s m below meth c ls H C hl hS => kM_tenantValue_r C hI _ _ _ _ _ _ hS hl hw)
def wM_tenant (a1 : Int32) (a2 : Int32) (Q : Int32 → gM → Prop) (u : gM) : Prop :=
  wM_isTenant a1 (fun r2 u1 => (r2 = 0 → (wM_fails 1 (fun r14 u13 => Q r14 u13) u1)) ∧ (¬ r2 = 0 → (wM_in a2 0 3 (fun r5 u4 => (r5 = 0 → (wM_fails 2 (fun r8 u7 => Q r8 u7) u4)) ∧ (¬ r5 = 0 → (wM_tenantValue a1 a2 (fun r10 u9 => wM_tells r10 (fun r12 u11 => Q r12 u11) u9) u4))) u1))) u
theorem kM_tenant_r (C : gC p l s m args meth c cX5_tenant 3 (some .int) RX5 E [] "tenant") (hI : mI ad) (a1 : Int32) (a2 : Int32) {Q : Int32 → gM → Prop} (u : gM) (H : Heap) (locs : List Loc) (ls : Array Slot) (hS : gS E w0 (gmW E ad u w) H locs) (hl : lv_has ls 3 [(0, .ref (ad 8)), (1, .int a1), (2, .int a2)]) (hw : wM_tenant a1 a2 Q u) : mGo p l e s m args below meth c 3 67 E ad w0 w (uI Q) H locs (F0 m 0 ls []) := by
  unfold wM_tenant at hw
  refine lv_iload_n C.x C.b dX5_tenant_0 rfl (lv_at hl 1 rfl) ?_
  refine gm_callS (rest := []) C hS hl (kM_isTenant C.tr hI hw) q1626 q1627 q88 q1628 ny_isTenant rfl (Nat.le_of_ble_eq_true rfl) (Nat.le_of_ble_eq_true rfl) rfl (Nat.le_of_ble_eq_true rfl) dX5_tenant_1 (gm_ki (fun r2 u1 H locs hw hS => ?_))
  refine lv_if_ne (tgt := 13) C.x C.b dX5_tenant_4 (by decide) (fun c3 => ?_) (fun c3 => ?_)
  · have hw := hw.2 c3
    refine lv_iload_n C.x C.b dX5_tenant_13 rfl (lv_at hl 2 rfl) ?_
    refine lv_iconst (v := 0) C.x C.b dX5_tenant_14 (by decide) ?_
    refine lv_iconst (v := 3) C.x C.b dX5_tenant_15 (by decide) ?_
    refine gm_callS (rest := []) C hS hl (kM_in C.tr hI hw) q1466 q1467 q88 q1468 ny_in rfl (Nat.le_of_ble_eq_true rfl) (Nat.le_of_ble_eq_true rfl) rfl (Nat.le_of_ble_eq_true rfl) dX5_tenant_16 (gm_ki (fun r5 u4 H locs hw hS => ?_))
    refine lv_if_eq (tgt := 35) C.x C.b dX5_tenant_19 (by decide) (fun c6 => ?_) (fun c6 => ?_)
    · have hw := hw.1 c6
      refine lv_aload_n C.x C.b dX5_tenant_35 rfl (lv_at hl 0 rfl) ?_
      refine lv_iconst (v := 2) C.x C.b dX5_tenant_36 (by decide) ?_
      refine gm_callV (rest := []) C hI hS hl (kM_fails C.tr hI hw) q1535 q1537 qs26 q88 q1538 ny_fails rfl (Nat.le_of_ble_eq_true rfl) (Nat.le_of_ble_eq_true rfl) rfl (Nat.le_of_ble_eq_true rfl) dX5_tenant_37 (gm_ki (fun r8 u7 H locs hw hS => ?_))
      exact gm_iret C hS hw dX5_tenant_40
    · have hw := hw.2 c6
      refine lv_aload_n C.x C.b dX5_tenant_22 rfl (lv_at hl 0 rfl) ?_
      refine lv_aload_n C.x C.b dX5_tenant_23 rfl (lv_at hl 0 rfl) ?_
      refine lv_iload_n C.x C.b dX5_tenant_24 rfl (lv_at hl 1 rfl) ?_
      refine lv_iload_n C.x C.b dX5_tenant_25 rfl (lv_at hl 2 rfl) ?_
      refine gm_callV (rest := [.ref (ad 8)]) C hI hS hl (kM_tenantValue C.tr hI hw) q1754 q1756 qs62 q88 q1757 ny_tenantValue rfl (Nat.le_of_ble_eq_true rfl) (Nat.le_of_ble_eq_true rfl) rfl (Nat.le_of_ble_eq_true rfl) dX5_tenant_26 (gm_ki (fun r10 u9 H locs hw hS => ?_))
      refine gm_callV (rest := []) C hI hS hl (kM_tells C.tr hI hw) q1547 q1549 qs29 q88 q1550 ny_tells rfl (Nat.le_of_ble_eq_true rfl) (Nat.le_of_ble_eq_true rfl) rfl (Nat.le_of_ble_eq_true rfl) dX5_tenant_29 (gm_ki (fun r12 u11 H locs hw hS => ?_))
      refine lv_goto (tgt := 40) C.x C.b dX5_tenant_32 (by decide) ?_
      exact gm_iret C hS hw dX5_tenant_40
  · have hw := hw.1 c3
    refine lv_aload_n C.x C.b dX5_tenant_7 rfl (lv_at hl 0 rfl) ?_
    refine lv_iconst (v := 1) C.x C.b dX5_tenant_8 (by decide) ?_
    refine gm_callV (rest := []) C hI hS hl (kM_fails C.tr hI hw) q1535 q1537 qs26 q88 q1538 ny_fails rfl (Nat.le_of_ble_eq_true rfl) (Nat.le_of_ble_eq_true rfl) rfl (Nat.le_of_ble_eq_true rfl) dX5_tenant_9 (gm_ki (fun r14 u13 H locs hw hS => ?_))
    exact gm_iret C hS hw dX5_tenant_12
theorem kM_tenant {l : Launch} (ht : l.stackTraces = false) (hI : mI ad) {w : gW} {u : gM} {a1 : Int32} {a2 : Int32} {Q : Int32 → gM → Prop} (hw : wM_tenant a1 a2 Q u) : gMet l yX5_tenant (ws_ yX5_tenant cX5_tenant 3 (some .int)) E (gmW E ad u w) [.ref (ad 8), .int a1, .int a2] 3 67 (mQ E ad w (uI Q)) gNoX :=
  g_ofW ht (by decide) (Nat.le_of_ble_eq_true rfl) (fun p e s m below meth c ls H C hl hS => kM_tenant_r C hI _ _ _ _ _ _ hS hl hw)
def wM_bidOf_31 (Q : Int32 → gM → Prop) (u : gM) : Prop :=
  wM_fails 1 (fun r12 u11 => Q r12 u11) u
theorem kM_bidOf_31 (C : gC p l s m args meth c cX5_bidOf 3 (some .int) RX5 E [] "bidOf") (hI : mI ad) {Q : Int32 → gM → Prop} (u : gM) (H : Heap) (locs : List Loc) (ls : Array Slot) (hS : gS E w0 (gmW E ad u w) H locs) (hl : lv_has ls 3 [(0, .ref (ad 8))]) (hw : wM_bidOf_31 Q u) : mGo p l e s m args below meth c 2 43 E ad w0 w (uI Q) H locs (F0 m 31 ls []) := by
  unfold wM_bidOf_31 at hw
  refine lv_aload_n C.x C.b dX5_bidOf_31 rfl (lv_at hl 0 rfl) ?_
  refine lv_iconst (v := 1) C.x C.b dX5_bidOf_32 (by decide) ?_
  refine gm_callV (rest := []) C hI hS hl (kM_fails C.tr hI hw) q1535 q1537 qs26 q88 q1538 ny_fails rfl (Nat.le_of_ble_eq_true rfl) (Nat.le_of_ble_eq_true rfl) rfl (Nat.le_of_ble_eq_true rfl) dX5_bidOf_33 (gm_ki (fun r12 u11 H locs hw hS => ?_))
  exact gm_iret C hS hw dX5_bidOf_36
def wM_bidOf (a1 : Int32) (a2 : Int32) (Q : Int32 → gM → Prop) (u : gM) : Prop :=
  wM_isTenant a1 (fun r2 u1 => (r2 = 0 → (wM_bidOf_31 Q u1)) ∧ (¬ r2 = 0 → (wM_isLink a2 (fun r5 u4 => (r5 = 0 → (wM_bidOf_31 Q u4)) ∧ (¬ r5 = 0 → (wM_of a2 (14 + a1) (fun r8 u7 => wM_tells r8 (fun r10 u9 => Q r10 u9) u7) u4))) u1))) u
theorem kM_bidOf_r (C : gC p l s m args meth c cX5_bidOf 3 (some .int) RX5 E [] "bidOf") (hI : mI ad) (a1 : Int32) (a2 : Int32) {Q : Int32 → gM → Prop} (u : gM) (H : Heap) (locs : List Loc) (ls : Array Slot) (hS : gS E w0 (gmW E ad u w) H locs) (hl : lv_has ls 3 [(0, .ref (ad 8)), (1, .int a1), (2, .int a2)]) (hw : wM_bidOf a1 a2 Q u) : mGo p l e s m args below meth c 2 43 E ad w0 w (uI Q) H locs (F0 m 0 ls []) := by
  unfold wM_bidOf at hw
  refine lv_iload_n C.x C.b dX5_bidOf_0 rfl (lv_at hl 1 rfl) ?_
  refine gm_callS (rest := []) C hS hl (kM_isTenant C.tr hI hw) q1626 q1627 q88 q1628 ny_isTenant rfl (Nat.le_of_ble_eq_true rfl) (Nat.le_of_ble_eq_true rfl) rfl (Nat.le_of_ble_eq_true rfl) dX5_bidOf_1 (gm_ki (fun r2 u1 H locs hw hS => ?_))
  refine lv_if_eq (tgt := 31) C.x C.b dX5_bidOf_4 (by decide) (fun c3 => ?_) (fun c3 => ?_)
  · have hw := hw.1 c3
    exact kM_bidOf_31 C hI _ _ _ _ hS (lv_sub hl [0] rfl) hw
  · have hw := hw.2 c3
    refine lv_aload_n C.x C.b dX5_bidOf_7 rfl (lv_at hl 0 rfl) ?_
    refine lv_iload_n C.x C.b dX5_bidOf_8 rfl (lv_at hl 2 rfl) ?_
    refine gm_callV (rest := []) C hI hS hl (kM_isLink C.tr hI hw) q1591 q1593 qs36 q88 q1594 ny_isLink rfl (Nat.le_of_ble_eq_true rfl) (Nat.le_of_ble_eq_true rfl) rfl (Nat.le_of_ble_eq_true rfl) dX5_bidOf_9 (gm_ki (fun r5 u4 H locs hw hS => ?_))
    refine lv_if_eq (tgt := 31) C.x C.b dX5_bidOf_12 (by decide) (fun c6 => ?_) (fun c6 => ?_)
    · have hw := hw.1 c6
      exact kM_bidOf_31 C hI _ _ _ _ hS (lv_sub hl [0] rfl) hw
    · have hw := hw.2 c6
      refine lv_aload_n C.x C.b dX5_bidOf_15 rfl (lv_at hl 0 rfl) ?_
      refine lv_aload_n C.x C.b dX5_bidOf_16 rfl (lv_at hl 0 rfl) ?_
      refine lv_iload_n C.x C.b dX5_bidOf_17 rfl (lv_at hl 2 rfl) ?_
      refine lv_bipush (v := 14) C.x C.b dX5_bidOf_18 (by decide) ?_
      refine lv_iload_n C.x C.b dX5_bidOf_20 rfl (lv_at hl 1 rfl) ?_
      refine lv_iadd C.x C.b dX5_bidOf_21 ?_
      refine gm_callV (rest := [.ref (ad 8)]) C hI hS hl (kM_of C.tr hI hw) q1595 q1597 qs37 q88 q1598 ny_of rfl (Nat.le_of_ble_eq_true rfl) (Nat.le_of_ble_eq_true rfl) rfl (Nat.le_of_ble_eq_true rfl) dX5_bidOf_22 (gm_ki (fun r8 u7 H locs hw hS => ?_))
      refine gm_callV (rest := []) C hI hS hl (kM_tells C.tr hI hw) q1547 q1549 qs29 q88 q1550 ny_tells rfl (Nat.le_of_ble_eq_true rfl) (Nat.le_of_ble_eq_true rfl) rfl (Nat.le_of_ble_eq_true rfl) dX5_bidOf_25 (gm_ki (fun r10 u9 H locs hw hS => ?_))
      refine lv_goto (tgt := 36) C.x C.b dX5_bidOf_28 (by decide) ?_
      exact gm_iret C hS hw dX5_bidOf_36
theorem kM_bidOf {l : Launch} (ht : l.stackTraces = false) (hI : mI ad) {w : gW} {u : gM} {a1 : Int32} {a2 : Int32} {Q : Int32 → gM → Prop} (hw : wM_bidOf a1 a2 Q u) : gMet l yX5_bidOf (ws_ yX5_bidOf cX5_bidOf 3 (some .int)) E (gmW E ad u w) [.ref (ad 8), .int a1, .int a2] 2 43 (mQ E ad w (uI Q)) gNoX :=
  g_ofW ht (by decide) (Nat.le_of_ble_eq_true rfl) (fun p e s m below meth c ls H C hl hS => kM_bidOf_r C hI _ _ _ _ _ _ hS hl hw)
def wM_carrying_28 (K4 : Int32 → Int32 → gM → Prop) (Q : Int32 → gM → Prop) (x2 : Int32) (y0 : Int32) (y1 : Int32) (u : gM) : Prop :=
  K4 (y1 + y0) (x2 + 1) u
theorem kM_carrying_28 (C : gC p l s m args meth c cX5_carrying 3 (some .int) RX5 E [] "carrying") (hI : mI ad) {Q : Int32 → gM → Prop} {K4 : Int32 → Int32 → gM → Prop} (hK4 : ∀ (x1 : Int32) (x2 : Int32) (u : gM) (H : Heap) (locs : List Loc) (ls : Array Slot), gS E w0 (gmW E ad u w) H locs → lv_has ls 3 [(0, .ref (ad 8)), (1, .int x1), (2, .int x2)] → K4 x1 x2 u → mGo p l e s m args below meth c 2 43 E ad w0 w (uI Q) H locs (F0 m 4 ls [])) (x2 : Int32) (y0 : Int32) (y1 : Int32) (u : gM) (H : Heap) (locs : List Loc) (ls : Array Slot) (hS : gS E w0 (gmW E ad u w) H locs) (hl : lv_has ls 3 [(0, .ref (ad 8)), (2, .int x2)]) (hw : wM_carrying_28 K4 Q x2 y0 y1 u) : mGo p l e s m args below meth c 2 43 E ad w0 w (uI Q) H locs (F0 m 28 ls [.int y0, .int y1]) := by
  unfold wM_carrying_28 at hw
  refine lv_iadd C.x C.b dX5_carrying_28 ?_
  refine lv_istore_n (lv' := [(1, .int (y1 + y0)), (0, .ref (ad 8)), (2, .int x2)]) C.x C.b dX5_carrying_29 rfl hl (by decide) rfl (fun ls hl => ?_)
  refine lv_iinc (v := (x2 + 1)) (lv' := [(2, .int (x2 + 1)), (1, .int (y1 + y0)), (0, .ref (ad 8))]) C.x C.b dX5_carrying_30 hl (k := 2) rfl rfl (by decide) rfl (fun ls hl => ?_)
  refine lv_goto (tgt := 4) C.x C.b dX5_carrying_33 (by decide) ?_
  exact hK4 _ _ _ _ _ _ hS (lv_sub hl [2, 1, 0] rfl) hw
def wM_carrying_4 (Q : Int32 → gM → Prop) : Nat → Int32 → Int32 → gM → Prop
  | 0, _, _, _ => False
  | n + 1, x1, x2, u => uLd 0 487 5 (fun v2 => (v2 ≤ x2 → (Q x1 u)) ∧ (¬ v2 ≤ x2 → (wM_carries x2 (fun r5 u4 => (r5 = 0 → (wM_carrying_28 (fun x1 x2 u => wM_carrying_4 Q n x1 x2 u) Q x2 0 x1 u4)) ∧ (¬ r5 = 0 → (wM_carrying_28 (fun x1 x2 u => wM_carrying_4 Q n x1 x2 u) Q x2 1 x1 u4))) u))) u
theorem kM_carrying_4 (C : gC p l s m args meth c cX5_carrying 3 (some .int) RX5 E [] "carrying") (hI : mI ad) {Q : Int32 → gM → Prop} : ∀ (n : Nat) (x1 : Int32) (x2 : Int32) (u : gM) (H : Heap) (locs : List Loc) (ls : Array Slot), gS E w0 (gmW E ad u w) H locs → lv_has ls 3 [(0, .ref (ad 8)), (1, .int x1), (2, .int x2)] → wM_carrying_4 Q n x1 x2 u → mGo p l e s m args below meth c 2 43 E ad w0 w (uI Q) H locs (F0 m 4 ls []) := by
  intro n
  induction n with
  | zero =>
    intro x1 x2 u H locs ls hS hl hw
    exact hw.elim
  | succ n ih =>
    intro x1 x2 u H locs ls hS hl hw
    unfold wM_carrying_4 at hw
    refine lv_iload_n C.x C.b dX5_carrying_4 rfl (lv_at hl 2 rfl) ?_
    refine lv_aload_n C.x C.b dX5_carrying_5 rfl (lv_at hl 0 rfl) ?_
    refine gm_getA C hI hS 0 (by decide) (a := ad 0) rfl q1481 (fun _ h9 => h9) dX5_carrying_6 ?_
    refine lv_iconst (v := 5) C.x C.b dX5_carrying_9 (by decide) ?_
    refine gm_ld C hI hS 0 487 (by decide) rfl dX5_carrying_10 hw (fun v2 hw => ?_)
    refine lv_icmp_ge (tgt := 36) C.x C.b dX5_carrying_11 (by decide) (fun c3 => ?_) (fun c3 => ?_)
    · have hw := hw.1 c3
      refine lv_iload_n C.x C.b dX5_carrying_36 rfl (lv_at hl 1 rfl) ?_
      exact gm_iret C hS hw dX5_carrying_37
    · have hw := hw.2 c3
      refine lv_iload_n C.x C.b dX5_carrying_14 rfl (lv_at hl 1 rfl) ?_
      refine lv_aload_n C.x C.b dX5_carrying_15 rfl (lv_at hl 0 rfl) ?_
      refine lv_iload_n C.x C.b dX5_carrying_16 rfl (lv_at hl 2 rfl) ?_
      refine gm_callV (rest := [.int x1]) C hI hS hl (kM_carries C.tr hI hw) q1698 q1700 qs56 q88 q1701 ny_carries rfl (Nat.le_of_ble_eq_true rfl) (Nat.le_of_ble_eq_true rfl) rfl (Nat.le_of_ble_eq_true rfl) dX5_carrying_17 (gm_ki (fun r5 u4 H locs hw hS => ?_))
      refine lv_if_eq (tgt := 27) C.x C.b dX5_carrying_20 (by decide) (fun c6 => ?_) (fun c6 => ?_)
      · have hw := hw.1 c6
        refine lv_iconst (v := 0) C.x C.b dX5_carrying_27 (by decide) ?_
        exact kM_carrying_28 C hI ih _ _ _ _ _ _ _ hS (lv_sub hl [0, 2] rfl) hw
      · have hw := hw.2 c6
        refine lv_iconst (v := 1) C.x C.b dX5_carrying_23 (by decide) ?_
        refine lv_goto (tgt := 28) C.x C.b dX5_carrying_24 (by decide) ?_
        exact kM_carrying_28 C hI ih _ _ _ _ _ _ _ hS (lv_sub hl [0, 2] rfl) hw
def wM_carrying (Q : Int32 → gM → Prop) (u : gM) : Prop :=
  ∃ k1 : Nat, wM_carrying_4 Q k1 0 0 u
theorem kM_carrying_r (C : gC p l s m args meth c cX5_carrying 3 (some .int) RX5 E [] "carrying") (hI : mI ad) {Q : Int32 → gM → Prop} (u : gM) (H : Heap) (locs : List Loc) (ls : Array Slot) (hS : gS E w0 (gmW E ad u w) H locs) (hl : lv_has ls 3 [(0, .ref (ad 8))]) (hw : wM_carrying Q u) : mGo p l e s m args below meth c 2 43 E ad w0 w (uI Q) H locs (F0 m 0 ls []) := by
  unfold wM_carrying at hw
  refine lv_iconst (v := 0) C.x C.b dX5_carrying_0 (by decide) ?_
  refine lv_istore_n (lv' := [(1, .int 0), (0, .ref (ad 8))]) C.x C.b dX5_carrying_1 rfl hl (by decide) rfl (fun ls hl => ?_)
  refine lv_iconst (v := 0) C.x C.b dX5_carrying_2 (by decide) ?_
  refine lv_istore_n (lv' := [(2, .int 0), (1, .int 0), (0, .ref (ad 8))]) C.x C.b dX5_carrying_3 rfl hl (by decide) rfl (fun ls hl => ?_)
  obtain ⟨k1, hw⟩ := hw
  exact kM_carrying_4 C hI k1 _ _ _ _ _ _ hS (lv_sub hl [2, 1, 0] rfl) hw
theorem kM_carrying {l : Launch} (ht : l.stackTraces = false) (hI : mI ad) {w : gW} {u : gM} {Q : Int32 → gM → Prop} (hw : wM_carrying Q u) : gMet l yX5_carrying (ws_ yX5_carrying cX5_carrying 3 (some .int)) E (gmW E ad u w) [.ref (ad 8)] 2 43 (mQ E ad w (uI Q)) gNoX :=
  g_ofW ht (by decide) (Nat.le_of_ble_eq_true rfl) (fun p e s m below meth c ls H C hl hS => kM_carrying_r C hI _ _ _ _ hS hl hw)
def wM_pairs_25 (K4 : Int32 → Int32 → gM → Prop) (Q : Int32 → gM → Prop) : Nat → Int32 → Int32 → Int32 → Int32 → gM → Prop
  | 0, _, _, _, _, _ => False
  | n + 1, x1, x2, x3, x4, u => uLd 0 487 0 (fun v7 => (v7 ≤ x4 → (K4 x1 (x2 + 1) u)) ∧ (¬ v7 ≤ x4 → (∀ z9 : Int32, z9 = (x1 + ((x3 >>> (x4 &&& 31)) &&& 1)) → wM_pairs_25 K4 Q n z9 x2 x3 (x4 + 1) u))) u
theorem kM_pairs_25 (C : gC p l s m args meth c cX5_pairs 5 (some .int) RX5 E [] "pairs") (hI : mI ad) {Q : Int32 → gM → Prop} {K4 : Int32 → Int32 → gM → Prop} (hK4 : ∀ (x1 : Int32) (x2 : Int32) (u : gM) (H : Heap) (locs : List Loc) (ls : Array Slot), gS E w0 (gmW E ad u w) H locs → lv_has ls 5 [(0, .ref (ad 8)), (1, .int x1), (2, .int x2)] → K4 x1 x2 u → mGo p l e s m args below meth c 3 67 E ad w0 w (uI Q) H locs (F0 m 4 ls [])) : ∀ (n : Nat) (x1 : Int32) (x2 : Int32) (x3 : Int32) (x4 : Int32) (u : gM) (H : Heap) (locs : List Loc) (ls : Array Slot), gS E w0 (gmW E ad u w) H locs → lv_has ls 5 [(0, .ref (ad 8)), (1, .int x1), (2, .int x2), (3, .int x3), (4, .int x4)] → wM_pairs_25 K4 Q n x1 x2 x3 x4 u → mGo p l e s m args below meth c 3 67 E ad w0 w (uI Q) H locs (F0 m 25 ls []) := by
  intro n
  induction n with
  | zero =>
    intro x1 x2 x3 x4 u H locs ls hS hl hw
    exact hw.elim
  | succ n ih =>
    intro x1 x2 x3 x4 u H locs ls hS hl hw
    unfold wM_pairs_25 at hw
    refine lv_iload C.x C.b dX5_pairs_25 (lv_at hl 4 rfl) ?_
    refine lv_aload_n C.x C.b dX5_pairs_27 rfl (lv_at hl 0 rfl) ?_
    refine gm_getA C hI hS 0 (by decide) (a := ad 0) rfl q1481 (fun _ h9 => h9) dX5_pairs_28 ?_
    refine lv_iconst (v := 0) C.x C.b dX5_pairs_31 (by decide) ?_
    refine gm_ld C hI hS 0 487 (by decide) rfl dX5_pairs_32 hw (fun v7 hw => ?_)
    refine lv_icmp_ge (tgt := 51) C.x C.b dX5_pairs_33 (by decide) (fun c8 => ?_) (fun c8 => ?_)
    · have hw := hw.1 c8
      refine lv_iinc (v := (x2 + 1)) (lv' := [(2, .int (x2 + 1)), (0, .ref (ad 8)), (1, .int x1), (3, .int x3), (4, .int x4)]) C.x C.b dX5_pairs_51 hl (k := 2) rfl rfl (by decide) rfl (fun ls hl => ?_)
      refine lv_goto (tgt := 4) C.x C.b dX5_pairs_54 (by decide) ?_
      exact hK4 _ _ _ _ _ _ hS (lv_sub hl [1, 2, 0] rfl) hw
    · have hw := hw.2 c8
      refine lv_iload_n C.x C.b dX5_pairs_36 rfl (lv_at hl 1 rfl) ?_
      refine lv_iload_n C.x C.b dX5_pairs_37 rfl (lv_at hl 3 rfl) ?_
      refine lv_iload C.x C.b dX5_pairs_38 (lv_at hl 4 rfl) ?_
      refine lv_ishr C.x C.b dX5_pairs_40 ?_
      refine lv_iconst (v := 1) C.x C.b dX5_pairs_41 (by decide) ?_
      refine lv_iand C.x C.b dX5_pairs_42 ?_
      refine lv_iadd C.x C.b dX5_pairs_43 ?_
      refine lv_topi (fun z9 ez9 => ?_)
      have hw := hw z9 ez9
      refine lv_istore_n (lv' := [(1, .int z9), (0, .ref (ad 8)), (2, .int x2), (3, .int x3), (4, .int x4)]) C.x C.b dX5_pairs_44 rfl hl (by decide) rfl (fun ls hl => ?_)
      refine lv_iinc (v := (x4 + 1)) (lv' := [(4, .int (x4 + 1)), (1, .int z9), (0, .ref (ad 8)), (2, .int x2), (3, .int x3)]) C.x C.b dX5_pairs_45 hl (k := 4) rfl rfl (by decide) rfl (fun ls hl => ?_)
      refine lv_goto (tgt := 25) C.x C.b dX5_pairs_48 (by decide) ?_
      exact ih _ _ _ _ _ _ _ _ hS (lv_sub hl [2, 1, 3, 4, 0] rfl) hw
def wM_pairs_4 (Q : Int32 → gM → Prop) : Nat → Int32 → Int32 → gM → Prop
  | 0, _, _, _ => False
  | n + 1, x1, x2, u => uLd 0 487 0 (fun v2 => (v2 ≤ x2 → (Q x1 u)) ∧ (¬ v2 ≤ x2 → (wM_reached x2 (fun r5 u4 => ∃ k6 : Nat, wM_pairs_25 (fun x1 x2 u => wM_pairs_4 Q n x1 x2 u) Q k6 x1 x2 r5 (x2 + 1) u4) u))) u
theorem kM_pairs_4 (C : gC p l s m args meth c cX5_pairs 5 (some .int) RX5 E [] "pairs") (hI : mI ad) {Q : Int32 → gM → Prop} : ∀ (n : Nat) (x1 : Int32) (x2 : Int32) (u : gM) (H : Heap) (locs : List Loc) (ls : Array Slot), gS E w0 (gmW E ad u w) H locs → lv_has ls 5 [(0, .ref (ad 8)), (1, .int x1), (2, .int x2)] → wM_pairs_4 Q n x1 x2 u → mGo p l e s m args below meth c 3 67 E ad w0 w (uI Q) H locs (F0 m 4 ls []) := by
  intro n
  induction n with
  | zero =>
    intro x1 x2 u H locs ls hS hl hw
    exact hw.elim
  | succ n ih =>
    intro x1 x2 u H locs ls hS hl hw
    unfold wM_pairs_4 at hw
    refine lv_iload_n C.x C.b dX5_pairs_4 rfl (lv_at hl 2 rfl) ?_
    refine lv_aload_n C.x C.b dX5_pairs_5 rfl (lv_at hl 0 rfl) ?_
    refine gm_getA C hI hS 0 (by decide) (a := ad 0) rfl q1481 (fun _ h9 => h9) dX5_pairs_6 ?_
    refine lv_iconst (v := 0) C.x C.b dX5_pairs_9 (by decide) ?_
    refine gm_ld C hI hS 0 487 (by decide) rfl dX5_pairs_10 hw (fun v2 hw => ?_)
    refine lv_icmp_ge (tgt := 57) C.x C.b dX5_pairs_11 (by decide) (fun c3 => ?_) (fun c3 => ?_)
    · have hw := hw.1 c3
      refine lv_iload_n C.x C.b dX5_pairs_57 rfl (lv_at hl 1 rfl) ?_
      exact gm_iret C hS hw dX5_pairs_58
    · have hw := hw.2 c3
      refine lv_aload_n C.x C.b dX5_pairs_14 rfl (lv_at hl 0 rfl) ?_
      refine lv_iload_n C.x C.b dX5_pairs_15 rfl (lv_at hl 2 rfl) ?_
      refine gm_callV (rest := []) C hI hS hl (kM_reached C.tr hI hw) q1694 q1696 qs55 q88 q1697 ny_reached rfl (Nat.le_of_ble_eq_true rfl) (Nat.le_of_ble_eq_true rfl) rfl (Nat.le_of_ble_eq_true rfl) dX5_pairs_16 (gm_ki (fun r5 u4 H locs hw hS => ?_))
      refine lv_istore_n (lv' := [(3, .int r5), (0, .ref (ad 8)), (1, .int x1), (2, .int x2)]) C.x C.b dX5_pairs_19 rfl hl (by decide) rfl (fun ls hl => ?_)
      refine lv_iload_n C.x C.b dX5_pairs_20 rfl (lv_at hl 3 rfl) ?_
      refine lv_iconst (v := 1) C.x C.b dX5_pairs_21 (by decide) ?_
      refine lv_iadd C.x C.b dX5_pairs_22 ?_
      refine lv_istore (lv' := [(4, .int (x2 + 1)), (3, .int r5), (0, .ref (ad 8)), (1, .int x1), (2, .int x2)]) C.x C.b dX5_pairs_23 hl (by decide) rfl (fun ls hl => ?_)
      obtain ⟨k6, hw⟩ := hw
      exact kM_pairs_25 C hI ih k6 _ _ _ _ _ _ _ _ hS (lv_sub hl [2, 3, 4, 1, 0] rfl) hw
def wM_pairs (Q : Int32 → gM → Prop) (u : gM) : Prop :=
  ∃ k1 : Nat, wM_pairs_4 Q k1 0 0 u
theorem kM_pairs_r (C : gC p l s m args meth c cX5_pairs 5 (some .int) RX5 E [] "pairs") (hI : mI ad) {Q : Int32 → gM → Prop} (u : gM) (H : Heap) (locs : List Loc) (ls : Array Slot) (hS : gS E w0 (gmW E ad u w) H locs) (hl : lv_has ls 5 [(0, .ref (ad 8))]) (hw : wM_pairs Q u) : mGo p l e s m args below meth c 3 67 E ad w0 w (uI Q) H locs (F0 m 0 ls []) := by
  unfold wM_pairs at hw
  refine lv_iconst (v := 0) C.x C.b dX5_pairs_0 (by decide) ?_
  refine lv_istore_n (lv' := [(1, .int 0), (0, .ref (ad 8))]) C.x C.b dX5_pairs_1 rfl hl (by decide) rfl (fun ls hl => ?_)
  refine lv_iconst (v := 0) C.x C.b dX5_pairs_2 (by decide) ?_
  refine lv_istore_n (lv' := [(2, .int 0), (1, .int 0), (0, .ref (ad 8))]) C.x C.b dX5_pairs_3 rfl hl (by decide) rfl (fun ls hl => ?_)
  obtain ⟨k1, hw⟩ := hw
  exact kM_pairs_4 C hI k1 _ _ _ _ _ _ hS (lv_sub hl [2, 1, 0] rfl) hw
theorem kM_pairs {l : Launch} (ht : l.stackTraces = false) (hI : mI ad) {w : gW} {u : gM} {Q : Int32 → gM → Prop} (hw : wM_pairs Q u) : gMet l yX5_pairs (ws_ yX5_pairs cX5_pairs 5 (some .int)) E (gmW E ad u w) [.ref (ad 8)] 3 67 (mQ E ad w (uI Q)) gNoX :=
  g_ofW ht (by decide) (Nat.le_of_ble_eq_true rfl) (fun p e s m below meth c ls H C hl hS => kM_pairs_r C hI _ _ _ _ hS hl hw)
def wM_counted (a1 : Int32) (Q : Int32 → gM → Prop) (u : gM) : Prop :=
  (5 ≤ a1 → ((a1 = 5 → (wM_carrying (fun r6 u5 => Q r6 u5) u)) ∧ (¬ a1 = 5 → (wM_pairs (fun r4 u3 => Q r4 u3) u)))) ∧ (¬ 5 ≤ a1 → (uLd 0 487 (6 + a1) (fun v7 => Q v7 u) u))
theorem kM_counted_r (C : gC p l s m args meth c cX5_counted 2 (some .int) RX5 E [] "counted") (hI : mI ad) (a1 : Int32) {Q : Int32 → gM → Prop} (u : gM) (H : Heap) (locs : List Loc) (ls : Array Slot) (hS : gS E w0 (gmW E ad u w) H locs) (hl : lv_has ls 2 [(0, .ref (ad 8)), (1, .int a1)]) (hw : wM_counted a1 Q u) : mGo p l e s m args below meth c 4 91 E ad w0 w (uI Q) H locs (F0 m 0 ls []) := by
  unfold wM_counted at hw
  refine lv_iload_n C.x C.b dX5_counted_0 rfl (lv_at hl 1 rfl) ?_
  refine lv_iconst (v := 5) C.x C.b dX5_counted_1 (by decide) ?_
  refine lv_icmp_ge (tgt := 17) C.x C.b dX5_counted_2 (by decide) (fun c1 => ?_) (fun c1 => ?_)
  · have hw := hw.1 c1
    refine lv_iload_n C.x C.b dX5_counted_17 rfl (lv_at hl 1 rfl) ?_
    refine lv_iconst (v := 5) C.x C.b dX5_counted_18 (by decide) ?_
    refine lv_icmp_ne (tgt := 29) C.x C.b dX5_counted_19 (by decide) (fun c2 => ?_) (fun c2 => ?_)
    · have hw := hw.2 c2
      refine lv_aload_n C.x C.b dX5_counted_29 rfl (lv_at hl 0 rfl) ?_
      refine gm_callV (rest := []) C hI hS hl (kM_pairs C.tr hI hw) q1778 q1780 qs66 q88 q1781 ny_pairs rfl (Nat.le_of_ble_eq_true rfl) (Nat.le_of_ble_eq_true rfl) rfl (Nat.le_of_ble_eq_true rfl) dX5_counted_30 (gm_ki (fun r4 u3 H locs hw hS => ?_))
      exact gm_iret C hS hw dX5_counted_33
    · have hw := hw.1 c2
      refine lv_aload_n C.x C.b dX5_counted_22 rfl (lv_at hl 0 rfl) ?_
      refine gm_callV (rest := []) C hI hS hl (kM_carrying C.tr hI hw) q1774 q1776 qs65 q88 q1777 ny_carrying rfl (Nat.le_of_ble_eq_true rfl) (Nat.le_of_ble_eq_true rfl) rfl (Nat.le_of_ble_eq_true rfl) dX5_counted_23 (gm_ki (fun r6 u5 H locs hw hS => ?_))
      refine lv_goto (tgt := 33) C.x C.b dX5_counted_26 (by decide) ?_
      exact gm_iret C hS hw dX5_counted_33
  · have hw := hw.2 c1
    refine lv_aload_n C.x C.b dX5_counted_5 rfl (lv_at hl 0 rfl) ?_
    refine gm_getA C hI hS 0 (by decide) (a := ad 0) rfl q1481 (fun _ h9 => h9) dX5_counted_6 ?_
    refine lv_bipush (v := 6) C.x C.b dX5_counted_9 (by decide) ?_
    refine lv_iload_n C.x C.b dX5_counted_11 rfl (lv_at hl 1 rfl) ?_
    refine lv_iadd C.x C.b dX5_counted_12 ?_
    refine gm_ld C hI hS 0 487 (by decide) rfl dX5_counted_13 hw (fun v7 hw => ?_)
    refine lv_goto (tgt := 33) C.x C.b dX5_counted_14 (by decide) ?_
    exact gm_iret C hS hw dX5_counted_33
theorem kM_counted {l : Launch} (ht : l.stackTraces = false) (hI : mI ad) {w : gW} {u : gM} {a1 : Int32} {Q : Int32 → gM → Prop} (hw : wM_counted a1 Q u) : gMet l yX5_counted (ws_ yX5_counted cX5_counted 2 (some .int)) E (gmW E ad u w) [.ref (ad 8), .int a1] 4 91 (mQ E ad w (uI Q)) gNoX :=
  g_ofW ht (by decide) (Nat.le_of_ble_eq_true rfl) (fun p e s m below meth c ls H C hl hS => kM_counted_r C hI _ _ _ _ _ hS hl hw)
def wM_count (a1 : Int32) (Q : Int32 → gM → Prop) (u : gM) : Prop :=
  wM_in a1 0 6 (fun r2 u1 => (r2 = 0 → (wM_fails 1 (fun r5 u4 => Q r5 u4) u1)) ∧ (¬ r2 = 0 → (wM_counted a1 (fun r7 u6 => wM_tells r7 (fun r9 u8 => Q r9 u8) u6) u1))) u
theorem kM_count_r (C : gC p l s m args meth c cX5_count 2 (some .int) RX5 E [] "count") (hI : mI ad) (a1 : Int32) {Q : Int32 → gM → Prop} (u : gM) (H : Heap) (locs : List Loc) (ls : Array Slot) (hS : gS E w0 (gmW E ad u w) H locs) (hl : lv_has ls 2 [(0, .ref (ad 8)), (1, .int a1)]) (hw : wM_count a1 Q u) : mGo p l e s m args below meth c 5 112 E ad w0 w (uI Q) H locs (F0 m 0 ls []) := by
  unfold wM_count at hw
  refine lv_iload_n C.x C.b dX5_count_0 rfl (lv_at hl 1 rfl) ?_
  refine lv_iconst (v := 0) C.x C.b dX5_count_1 (by decide) ?_
  refine lv_bipush (v := 6) C.x C.b dX5_count_2 (by decide) ?_
  refine gm_callS (rest := []) C hS hl (kM_in C.tr hI hw) q1466 q1467 q88 q1468 ny_in rfl (Nat.le_of_ble_eq_true rfl) (Nat.le_of_ble_eq_true rfl) rfl (Nat.le_of_ble_eq_true rfl) dX5_count_4 (gm_ki (fun r2 u1 H locs hw hS => ?_))
  refine lv_if_eq (tgt := 22) C.x C.b dX5_count_7 (by decide) (fun c3 => ?_) (fun c3 => ?_)
  · have hw := hw.1 c3
    refine lv_aload_n C.x C.b dX5_count_22 rfl (lv_at hl 0 rfl) ?_
    refine lv_iconst (v := 1) C.x C.b dX5_count_23 (by decide) ?_
    refine gm_callV (rest := []) C hI hS hl (kM_fails C.tr hI hw) q1535 q1537 qs26 q88 q1538 ny_fails rfl (Nat.le_of_ble_eq_true rfl) (Nat.le_of_ble_eq_true rfl) rfl (Nat.le_of_ble_eq_true rfl) dX5_count_24 (gm_ki (fun r5 u4 H locs hw hS => ?_))
    exact gm_iret C hS hw dX5_count_27
  · have hw := hw.2 c3
    refine lv_aload_n C.x C.b dX5_count_10 rfl (lv_at hl 0 rfl) ?_
    refine lv_aload_n C.x C.b dX5_count_11 rfl (lv_at hl 0 rfl) ?_
    refine lv_iload_n C.x C.b dX5_count_12 rfl (lv_at hl 1 rfl) ?_
    refine gm_callV (rest := [.ref (ad 8)]) C hI hS hl (kM_counted C.tr hI hw) q1770 q1772 qs64 q88 q1773 ny_counted rfl (Nat.le_of_ble_eq_true rfl) (Nat.le_of_ble_eq_true rfl) rfl (Nat.le_of_ble_eq_true rfl) dX5_count_13 (gm_ki (fun r7 u6 H locs hw hS => ?_))
    refine gm_callV (rest := []) C hI hS hl (kM_tells C.tr hI hw) q1547 q1549 qs29 q88 q1550 ny_tells rfl (Nat.le_of_ble_eq_true rfl) (Nat.le_of_ble_eq_true rfl) rfl (Nat.le_of_ble_eq_true rfl) dX5_count_16 (gm_ki (fun r9 u8 H locs hw hS => ?_))
    refine lv_goto (tgt := 27) C.x C.b dX5_count_19 (by decide) ?_
    exact gm_iret C hS hw dX5_count_27
theorem kM_count {l : Launch} (ht : l.stackTraces = false) (hI : mI ad) {w : gW} {u : gM} {a1 : Int32} {Q : Int32 → gM → Prop} (hw : wM_count a1 Q u) : gMet l yX5_count (ws_ yX5_count cX5_count 2 (some .int)) E (gmW E ad u w) [.ref (ad 8), .int a1] 5 112 (mQ E ad w (uI Q)) gNoX :=
  g_ofW ht (by decide) (Nat.le_of_ble_eq_true rfl) (fun p e s m below meth c ls H C hl hS => kM_count_r C hI _ _ _ _ _ hS hl hw)
def wM_isWithoutCycle_34 (K4 : Int32 → Int32 → gM → Prop) (Q : Int32 → gM → Prop) (x2 : Int32) (y0 : Int32) (y1 : Int32) (u : gM) : Prop :=
  K4 (y1 + y0) (x2 + 1) u
theorem kM_isWithoutCycle_34 (C : gC p l s m args meth c cX5_isWithoutCycle 3 (some .boolean) RX5 E [] "isWithoutCycle") (hI : mI ad) {Q : Int32 → gM → Prop} {K4 : Int32 → Int32 → gM → Prop} (hK4 : ∀ (x1 : Int32) (x2 : Int32) (u : gM) (H : Heap) (locs : List Loc) (ls : Array Slot), gS E w0 (gmW E ad u w) H locs → lv_has ls 3 [(0, .ref (ad 8)), (1, .int x1), (2, .int x2)] → K4 x1 x2 u → mGo p l e s m args below meth c 3 67 E ad w0 w (uI Q) H locs (F0 m 4 ls [])) (x2 : Int32) (y0 : Int32) (y1 : Int32) (u : gM) (H : Heap) (locs : List Loc) (ls : Array Slot) (hS : gS E w0 (gmW E ad u w) H locs) (hl : lv_has ls 3 [(0, .ref (ad 8)), (2, .int x2)]) (hw : wM_isWithoutCycle_34 K4 Q x2 y0 y1 u) : mGo p l e s m args below meth c 3 67 E ad w0 w (uI Q) H locs (F0 m 34 ls [.int y0, .int y1]) := by
  unfold wM_isWithoutCycle_34 at hw
  refine lv_iadd C.x C.b dX5_isWithoutCycle_34 ?_
  refine lv_istore_n (lv' := [(1, .int (y1 + y0)), (0, .ref (ad 8)), (2, .int x2)]) C.x C.b dX5_isWithoutCycle_35 rfl hl (by decide) rfl (fun ls hl => ?_)
  refine lv_iinc (v := (x2 + 1)) (lv' := [(2, .int (x2 + 1)), (1, .int (y1 + y0)), (0, .ref (ad 8))]) C.x C.b dX5_isWithoutCycle_36 hl (k := 2) rfl rfl (by decide) rfl (fun ls hl => ?_)
  refine lv_goto (tgt := 4) C.x C.b dX5_isWithoutCycle_39 (by decide) ?_
  exact hK4 _ _ _ _ _ _ hS (lv_sub hl [2, 1, 0] rfl) hw
def wM_isWithoutCycle_4 (Q : Int32 → gM → Prop) : Nat → Int32 → Int32 → gM → Prop
  | 0, _, _, _ => False
  | n + 1, x1, x2, u => uLd 0 487 0 (fun v2 => (v2 ≤ x2 → (wM_carrying (fun r5 u4 => uLd 0 487 0 (fun v6 => ((r5 + x1) = v6 → (Q 1 u4)) ∧ (¬ (r5 + x1) = v6 → (Q 0 u4))) u4) u)) ∧ (¬ v2 ≤ x2 → (wM_reached x2 (fun r9 u8 => ((r9 &&& ((1 <<< (x2 &&& 31)) - 1)) = 0 → (wM_isWithoutCycle_34 (fun x1 x2 u => wM_isWithoutCycle_4 Q n x1 x2 u) Q x2 1 x1 u8)) ∧ (¬ (r9 &&& ((1 <<< (x2 &&& 31)) - 1)) = 0 → (wM_isWithoutCycle_34 (fun x1 x2 u => wM_isWithoutCycle_4 Q n x1 x2 u) Q x2 0 x1 u8))) u))) u
theorem kM_isWithoutCycle_4 (C : gC p l s m args meth c cX5_isWithoutCycle 3 (some .boolean) RX5 E [] "isWithoutCycle") (hI : mI ad) {Q : Int32 → gM → Prop} : ∀ (n : Nat) (x1 : Int32) (x2 : Int32) (u : gM) (H : Heap) (locs : List Loc) (ls : Array Slot), gS E w0 (gmW E ad u w) H locs → lv_has ls 3 [(0, .ref (ad 8)), (1, .int x1), (2, .int x2)] → wM_isWithoutCycle_4 Q n x1 x2 u → mGo p l e s m args below meth c 3 67 E ad w0 w (uI Q) H locs (F0 m 4 ls []) := by
  intro n
  induction n with
  | zero =>
    intro x1 x2 u H locs ls hS hl hw
    exact hw.elim
  | succ n ih =>
    intro x1 x2 u H locs ls hS hl hw
    unfold wM_isWithoutCycle_4 at hw
    refine lv_iload_n C.x C.b dX5_isWithoutCycle_4 rfl (lv_at hl 2 rfl) ?_
    refine lv_aload_n C.x C.b dX5_isWithoutCycle_5 rfl (lv_at hl 0 rfl) ?_
    refine gm_getA C hI hS 0 (by decide) (a := ad 0) rfl q1481 (fun _ h9 => h9) dX5_isWithoutCycle_6 ?_
    refine lv_iconst (v := 0) C.x C.b dX5_isWithoutCycle_9 (by decide) ?_
    refine gm_ld C hI hS 0 487 (by decide) rfl dX5_isWithoutCycle_10 hw (fun v2 hw => ?_)
    refine lv_icmp_ge (tgt := 42) C.x C.b dX5_isWithoutCycle_11 (by decide) (fun c3 => ?_) (fun c3 => ?_)
    · have hw := hw.1 c3
      refine lv_aload_n C.x C.b dX5_isWithoutCycle_42 rfl (lv_at hl 0 rfl) ?_
      refine gm_callV (rest := []) C hI hS hl (kM_carrying C.tr hI hw) q1774 q1776 qs65 q88 q1777 ny_carrying rfl (Nat.le_of_ble_eq_true rfl) (Nat.le_of_ble_eq_true rfl) rfl (Nat.le_of_ble_eq_true rfl) dX5_isWithoutCycle_43 (gm_ki (fun r5 u4 H locs hw hS => ?_))
      refine lv_iload_n C.x C.b dX5_isWithoutCycle_46 rfl (lv_at hl 1 rfl) ?_
      refine lv_iadd C.x C.b dX5_isWithoutCycle_47 ?_
      refine lv_aload_n C.x C.b dX5_isWithoutCycle_48 rfl (lv_at hl 0 rfl) ?_
      refine gm_getA C hI hS 0 (by decide) (a := ad 0) rfl q1481 (fun _ h9 => h9) dX5_isWithoutCycle_49 ?_
      refine lv_iconst (v := 0) C.x C.b dX5_isWithoutCycle_52 (by decide) ?_
      refine gm_ld C hI hS 0 487 (by decide) rfl dX5_isWithoutCycle_53 hw (fun v6 hw => ?_)
      refine lv_icmp_ne (tgt := 61) C.x C.b dX5_isWithoutCycle_54 (by decide) (fun c7 => ?_) (fun c7 => ?_)
      · have hw := hw.2 c7
        refine lv_iconst (v := 0) C.x C.b dX5_isWithoutCycle_61 (by decide) ?_
        exact gm_zret C hS rfl hw dX5_isWithoutCycle_62
      · have hw := hw.1 c7
        refine lv_iconst (v := 1) C.x C.b dX5_isWithoutCycle_57 (by decide) ?_
        refine lv_goto (tgt := 62) C.x C.b dX5_isWithoutCycle_58 (by decide) ?_
        exact gm_zret C hS rfl hw dX5_isWithoutCycle_62
    · have hw := hw.2 c3
      refine lv_iload_n C.x C.b dX5_isWithoutCycle_14 rfl (lv_at hl 1 rfl) ?_
      refine lv_aload_n C.x C.b dX5_isWithoutCycle_15 rfl (lv_at hl 0 rfl) ?_
      refine lv_iload_n C.x C.b dX5_isWithoutCycle_16 rfl (lv_at hl 2 rfl) ?_
      refine gm_callV (rest := [.int x1]) C hI hS hl (kM_reached C.tr hI hw) q1694 q1696 qs55 q88 q1697 ny_reached rfl (Nat.le_of_ble_eq_true rfl) (Nat.le_of_ble_eq_true rfl) rfl (Nat.le_of_ble_eq_true rfl) dX5_isWithoutCycle_17 (gm_ki (fun r9 u8 H locs hw hS => ?_))
      refine lv_iconst (v := 1) C.x C.b dX5_isWithoutCycle_20 (by decide) ?_
      refine lv_iload_n C.x C.b dX5_isWithoutCycle_21 rfl (lv_at hl 2 rfl) ?_
      refine lv_ishl C.x C.b dX5_isWithoutCycle_22 ?_
      refine lv_iconst (v := 1) C.x C.b dX5_isWithoutCycle_23 (by decide) ?_
      refine lv_isub C.x C.b dX5_isWithoutCycle_24 ?_
      refine lv_iand C.x C.b dX5_isWithoutCycle_25 ?_
      refine lv_if_ne (tgt := 33) C.x C.b dX5_isWithoutCycle_26 (by decide) (fun c10 => ?_) (fun c10 => ?_)
      · have hw := hw.2 c10
        refine lv_iconst (v := 0) C.x C.b dX5_isWithoutCycle_33 (by decide) ?_
        exact kM_isWithoutCycle_34 C hI ih _ _ _ _ _ _ _ hS (lv_sub hl [0, 2] rfl) hw
      · have hw := hw.1 c10
        refine lv_iconst (v := 1) C.x C.b dX5_isWithoutCycle_29 (by decide) ?_
        refine lv_goto (tgt := 34) C.x C.b dX5_isWithoutCycle_30 (by decide) ?_
        exact kM_isWithoutCycle_34 C hI ih _ _ _ _ _ _ _ hS (lv_sub hl [0, 2] rfl) hw
def wM_isWithoutCycle (Q : Int32 → gM → Prop) (u : gM) : Prop :=
  ∃ k1 : Nat, wM_isWithoutCycle_4 Q k1 0 0 u
theorem kM_isWithoutCycle_r (C : gC p l s m args meth c cX5_isWithoutCycle 3 (some .boolean) RX5 E [] "isWithoutCycle") (hI : mI ad) {Q : Int32 → gM → Prop} (u : gM) (H : Heap) (locs : List Loc) (ls : Array Slot) (hS : gS E w0 (gmW E ad u w) H locs) (hl : lv_has ls 3 [(0, .ref (ad 8))]) (hw : wM_isWithoutCycle Q u) : mGo p l e s m args below meth c 3 67 E ad w0 w (uI Q) H locs (F0 m 0 ls []) := by
  unfold wM_isWithoutCycle at hw
  refine lv_iconst (v := 0) C.x C.b dX5_isWithoutCycle_0 (by decide) ?_
  refine lv_istore_n (lv' := [(1, .int 0), (0, .ref (ad 8))]) C.x C.b dX5_isWithoutCycle_1 rfl hl (by decide) rfl (fun ls hl => ?_)
  refine lv_iconst (v := 0) C.x C.b dX5_isWithoutCycle_2 (by decide) ?_
  refine lv_istore_n (lv' := [(2, .int 0), (1, .int 0), (0, .ref (ad 8))]) C.x C.b dX5_isWithoutCycle_3 rfl hl (by decide) rfl (fun ls hl => ?_)
  obtain ⟨k1, hw⟩ := hw
  exact kM_isWithoutCycle_4 C hI k1 _ _ _ _ _ _ hS (lv_sub hl [2, 1, 0] rfl) hw
theorem kM_isWithoutCycle {l : Launch} (ht : l.stackTraces = false) (hI : mI ad) {w : gW} {u : gM} {Q : Int32 → gM → Prop} (hw : wM_isWithoutCycle Q u) : gMet l yX5_isWithoutCycle (ws_ yX5_isWithoutCycle cX5_isWithoutCycle 3 (some .boolean)) E (gmW E ad u w) [.ref (ad 8)] 3 67 (mQ E ad w (uI Q)) gNoX :=
  g_ofW ht (by decide) (Nat.le_of_ble_eq_true rfl) (fun p e s m below meth c ls H C hl hS => kM_isWithoutCycle_r C hI _ _ _ _ hS hl hw)
def wM_isForest (Q : Int32 → gM → Prop) (u : gM) : Prop :=
  uPt 2 0 (fun u1 => wM_isWithoutCycle (fun r3 u2 => narrow .boolean (.int r3) = .int r3 ∧ Q r3 u2) u1) u
theorem kM_isForest_r (C : gC p l s m args meth c cX5_isForest 1 (some .boolean) RX5 E [] "isForest") (hI : mI ad) {Q : Int32 → gM → Prop} (u : gM) (H : Heap) (locs : List Loc) (ls : Array Slot) (hS : gS E w0 (gmW E ad u w) H locs) (hl : lv_has ls 1 [(0, .ref (ad 8))]) (hw : wM_isForest Q u) : mGo p l e s m args below meth c 4 89 E ad w0 w (uI Q) H locs (F0 m 0 ls []) := by
  unfold wM_isForest at hw
  refine lv_aload_n C.x C.b dX5_isForest_0 rfl (lv_at hl 0 rfl) ?_
  refine lv_iconst (v := 0) C.x C.b dX5_isForest_1 (by decide) ?_
  refine gm_putI C hI hS 6 2 (by decide) rfl q1487 (fun _ h9 => h9) rfl rfl rfl dX5_isForest_2 hw (fun u1 H locs hw hS => ?_)
  refine lv_aload_n C.x C.b dX5_isForest_5 rfl (lv_at hl 0 rfl) ?_
  refine gm_callV (rest := []) C hI hS hl (kM_isWithoutCycle C.tr hI hw) q1786 q1788 qs67 q88 q1789 ny_isWithoutCycle rfl (Nat.le_of_ble_eq_true rfl) (Nat.le_of_ble_eq_true rfl) rfl (Nat.le_of_ble_eq_true rfl) dX5_isForest_6 (gm_ki (fun r3 u2 H locs hw hS => ?_))
  exact gm_zret C hS hw.1 hw.2 dX5_isForest_9
theorem kM_isForest {l : Launch} (ht : l.stackTraces = false) (hI : mI ad) {w : gW} {u : gM} {Q : Int32 → gM → Prop} (hw : wM_isForest Q u) : gMet l yX5_isForest (ws_ yX5_isForest cX5_isForest 1 (some .boolean)) E (gmW E ad u w) [.ref (ad 8)] 4 89 (mQ E ad w (uI Q)) gNoX :=
  g_ofW ht (by decide) (Nat.le_of_ble_eq_true rfl) (fun p e s m below meth c ls H C hl hS => kM_isForest_r C hI _ _ _ _ hS hl hw)
def wM_type (a1 : Int32) (Q : Int32 → gM → Prop) (u : gM) : Prop :=
  wM_in a1 0 127 (fun r2 u1 => (r2 = 0 → (wM_fails 1 (fun r16 u15 => Q r16 u15) u1)) ∧ (¬ r2 = 0 → (uGt 1 (fun v4 => (v4 = 120 → (wM_fails 2 (fun r14 u13 => Q r14 u13) u1)) ∧ (¬ v4 = 120 → (uGt 1 (fun v6 => uSt 3 120 v6 a1 (fun u7 => uGt 1 (fun v8 => uPt 1 (v8 + 1) (fun u9 => uGt 1 (fun v10 => wM_tells v10 (fun r12 u11 => Q r12 u11) u9) u9) u7) u7) u1) u1))) u1))) u
theorem kM_type_r (C : gC p l s m args meth c cX5_type 2 (some .int) RX5 E [] "type") (hI : mI ad) (a1 : Int32) {Q : Int32 → gM → Prop} (u : gM) (H : Heap) (locs : List Loc) (ls : Array Slot) (hS : gS E w0 (gmW E ad u w) H locs) (hl : lv_has ls 2 [(0, .ref (ad 8)), (1, .int a1)]) (hw : wM_type a1 Q u) : mGo p l e s m args below meth c 1 22 E ad w0 w (uI Q) H locs (F0 m 0 ls []) := by
  unfold wM_type at hw
  refine lv_iload_n C.x C.b dX5_type_0 rfl (lv_at hl 1 rfl) ?_
  refine lv_iconst (v := 0) C.x C.b dX5_type_1 (by decide) ?_
  refine lv_bipush (v := 127) C.x C.b dX5_type_2 (by decide) ?_
  refine gm_callS (rest := []) C hS hl (kM_in C.tr hI hw) q1466 q1467 q88 q1468 ny_in rfl (Nat.le_of_ble_eq_true rfl) (Nat.le_of_ble_eq_true rfl) rfl (Nat.le_of_ble_eq_true rfl) dX5_type_4 (gm_ki (fun r2 u1 H locs hw hS => ?_))
  refine lv_if_ne (tgt := 16) C.x C.b dX5_type_7 (by decide) (fun c3 => ?_) (fun c3 => ?_)
  · have hw := hw.2 c3
    refine lv_aload_n C.x C.b dX5_type_16 rfl (lv_at hl 0 rfl) ?_
    refine gm_getI C hI hS 5 1 (by decide) rfl q1486 (fun _ h9 => h9) dX5_type_17 hw (fun v4 hw => ?_)
    refine lv_bipush (v := 120) C.x C.b dX5_type_20 (by decide) ?_
    refine lv_icmp_ne (tgt := 31) C.x C.b dX5_type_22 (by decide) (fun c5 => ?_) (fun c5 => ?_)
    · have hw := hw.2 c5
      refine lv_aload_n C.x C.b dX5_type_31 rfl (lv_at hl 0 rfl) ?_
      refine gm_getA C hI hS 4 (by decide) (a := ad 3) rfl q1485 (fun _ h9 => h9) dX5_type_32 ?_
      refine lv_aload_n C.x C.b dX5_type_35 rfl (lv_at hl 0 rfl) ?_
      refine gm_getI C hI hS 5 1 (by decide) rfl q1486 (fun _ h9 => h9) dX5_type_36 hw (fun v6 hw => ?_)
      refine lv_iload_n C.x C.b dX5_type_39 rfl (lv_at hl 1 rfl) ?_
      refine gm_st C hI hS 3 120 (by decide) rfl dX5_type_40 hw (fun u7 H locs hw hS => ?_)
      refine lv_aload_n C.x C.b dX5_type_41 rfl (lv_at hl 0 rfl) ?_
      refine lv_dup C.x C.b dX5_type_42 rfl ?_
      refine gm_getI C hI hS 5 1 (by decide) rfl q1486 (fun _ h9 => h9) dX5_type_43 hw (fun v8 hw => ?_)
      refine lv_iconst (v := 1) C.x C.b dX5_type_46 (by decide) ?_
      refine lv_iadd C.x C.b dX5_type_47 ?_
      refine gm_putI C hI hS 5 1 (by decide) rfl q1486 (fun _ h9 => h9) rfl rfl rfl dX5_type_48 hw (fun u9 H locs hw hS => ?_)
      refine lv_aload_n C.x C.b dX5_type_51 rfl (lv_at hl 0 rfl) ?_
      refine lv_aload_n C.x C.b dX5_type_52 rfl (lv_at hl 0 rfl) ?_
      refine gm_getI C hI hS 5 1 (by decide) rfl q1486 (fun _ h9 => h9) dX5_type_53 hw (fun v10 hw => ?_)
      refine gm_callV (rest := []) C hI hS hl (kM_tells C.tr hI hw) q1547 q1549 qs29 q88 q1550 ny_tells rfl (Nat.le_of_ble_eq_true rfl) (Nat.le_of_ble_eq_true rfl) rfl (Nat.le_of_ble_eq_true rfl) dX5_type_56 (gm_ki (fun r12 u11 H locs hw hS => ?_))
      exact gm_iret C hS hw dX5_type_59
    · have hw := hw.1 c5
      refine lv_aload_n C.x C.b dX5_type_25 rfl (lv_at hl 0 rfl) ?_
      refine lv_iconst (v := 2) C.x C.b dX5_type_26 (by decide) ?_
      refine gm_callV (rest := []) C hI hS hl (kM_fails C.tr hI hw) q1535 q1537 qs26 q88 q1538 ny_fails rfl (Nat.le_of_ble_eq_true rfl) (Nat.le_of_ble_eq_true rfl) rfl (Nat.le_of_ble_eq_true rfl) dX5_type_27 (gm_ki (fun r14 u13 H locs hw hS => ?_))
      exact gm_iret C hS hw dX5_type_30
  · have hw := hw.1 c3
    refine lv_aload_n C.x C.b dX5_type_10 rfl (lv_at hl 0 rfl) ?_
    refine lv_iconst (v := 1) C.x C.b dX5_type_11 (by decide) ?_
    refine gm_callV (rest := []) C hI hS hl (kM_fails C.tr hI hw) q1535 q1537 qs26 q88 q1538 ny_fails rfl (Nat.le_of_ble_eq_true rfl) (Nat.le_of_ble_eq_true rfl) rfl (Nat.le_of_ble_eq_true rfl) dX5_type_12 (gm_ki (fun r16 u15 H locs hw hS => ?_))
    exact gm_iret C hS hw dX5_type_15
theorem kM_type {l : Launch} (ht : l.stackTraces = false) (hI : mI ad) {w : gW} {u : gM} {a1 : Int32} {Q : Int32 → gM → Prop} (hw : wM_type a1 Q u) : gMet l yX5_type (ws_ yX5_type cX5_type 2 (some .int)) E (gmW E ad u w) [.ref (ad 8), .int a1] 1 22 (mQ E ad w (uI Q)) gNoX :=
  g_ofW ht (by decide) (Nat.le_of_ble_eq_true rfl) (fun p e s m below meth c ls H C hl hS => kM_type_r C hI _ _ _ _ _ hS hl hw)
def wM_clearScript (Q : Int32 → gM → Prop) (u : gM) : Prop :=
  uGt 1 (fun v1 => uPt 1 0 (fun u2 => wM_tells v1 (fun r4 u3 => Q r4 u3) u2) u) u
theorem kM_clearScript_r (C : gC p l s m args meth c cX5_clearScript 2 (some .int) RX5 E [] "clearScript") (hI : mI ad) {Q : Int32 → gM → Prop} (u : gM) (H : Heap) (locs : List Loc) (ls : Array Slot) (hS : gS E w0 (gmW E ad u w) H locs) (hl : lv_has ls 2 [(0, .ref (ad 8))]) (hw : wM_clearScript Q u) : mGo p l e s m args below meth c 1 21 E ad w0 w (uI Q) H locs (F0 m 0 ls []) := by
  unfold wM_clearScript at hw
  refine lv_aload_n C.x C.b dX5_clearScript_0 rfl (lv_at hl 0 rfl) ?_
  refine gm_getI C hI hS 5 1 (by decide) rfl q1486 (fun _ h9 => h9) dX5_clearScript_1 hw (fun v1 hw => ?_)
  refine lv_istore_n (lv' := [(1, .int v1), (0, .ref (ad 8))]) C.x C.b dX5_clearScript_4 rfl hl (by decide) rfl (fun ls hl => ?_)
  refine lv_aload_n C.x C.b dX5_clearScript_5 rfl (lv_at hl 1 rfl) ?_
  refine lv_iconst (v := 0) C.x C.b dX5_clearScript_6 (by decide) ?_
  refine gm_putI C hI hS 5 1 (by decide) rfl q1486 (fun _ h9 => h9) rfl rfl rfl dX5_clearScript_7 hw (fun u2 H locs hw hS => ?_)
  refine lv_aload_n C.x C.b dX5_clearScript_10 rfl (lv_at hl 1 rfl) ?_
  refine lv_iload_n C.x C.b dX5_clearScript_11 rfl (lv_at hl 0 rfl) ?_
  refine gm_callV (rest := []) C hI hS hl (kM_tells C.tr hI hw) q1547 q1549 qs29 q88 q1550 ny_tells rfl (Nat.le_of_ble_eq_true rfl) (Nat.le_of_ble_eq_true rfl) rfl (Nat.le_of_ble_eq_true rfl) dX5_clearScript_12 (gm_ki (fun r4 u3 H locs hw hS => ?_))
  exact gm_iret C hS hw dX5_clearScript_15
theorem kM_clearScript {l : Launch} (ht : l.stackTraces = false) (hI : mI ad) {w : gW} {u : gM} {Q : Int32 → gM → Prop} (hw : wM_clearScript Q u) : gMet l yX5_clearScript (ws_ yX5_clearScript cX5_clearScript 2 (some .int)) E (gmW E ad u w) [.ref (ad 8)] 1 21 (mQ E ad w (uI Q)) gNoX :=
  g_ofW ht (by decide) (Nat.le_of_ble_eq_true rfl) (fun p e s m below meth c ls H C hl hS => kM_clearScript_r C hI _ _ _ _ hS hl hw)
def wM_isIn (a1 : Int32) (a2 : Int32) (Q : Int32 → gM → Prop) (u : gM) : Prop :=
  uGt 4 (fun v1 => uGt 1 (fun v2 => (v2 ≤ v1 → (Q 0 u)) ∧ (¬ v2 ≤ v1 → (uGt 4 (fun v4 => uLd 3 120 v4 (fun v5 => wM_in v5 a1 a2 (fun r7 u6 => (r7 = 0 → (Q 0 u6)) ∧ (¬ r7 = 0 → (Q 1 u6))) u) u) u))) u) u
theorem kM_isIn_r (C : gC p l s m args meth c cX5_isIn 3 (some .boolean) RX5 E [] "isIn") (hI : mI ad) (a1 : Int32) (a2 : Int32) {Q : Int32 → gM → Prop} (u : gM) (H : Heap) (locs : List Loc) (ls : Array Slot) (hS : gS E w0 (gmW E ad u w) H locs) (hl : lv_has ls 3 [(0, .ref (ad 8)), (1, .int a1), (2, .int a2)]) (hw : wM_isIn a1 a2 Q u) : mGo p l e s m args below meth c 1 22 E ad w0 w (uI Q) H locs (F0 m 0 ls []) := by
  unfold wM_isIn at hw
  refine lv_aload_n C.x C.b dX5_isIn_0 rfl (lv_at hl 0 rfl) ?_
  refine gm_getI C hI hS 11 4 (by decide) rfl q1492 (fun _ h9 => h9) dX5_isIn_1 hw (fun v1 hw => ?_)
  refine lv_aload_n C.x C.b dX5_isIn_4 rfl (lv_at hl 0 rfl) ?_
  refine gm_getI C hI hS 5 1 (by decide) rfl q1486 (fun _ h9 => h9) dX5_isIn_5 hw (fun v2 hw => ?_)
  refine lv_icmp_ge (tgt := 32) C.x C.b dX5_isIn_8 (by decide) (fun c3 => ?_) (fun c3 => ?_)
  · have hw := hw.1 c3
    refine lv_iconst (v := 0) C.x C.b dX5_isIn_32 (by decide) ?_
    exact gm_zret C hS rfl hw dX5_isIn_33
  · have hw := hw.2 c3
    refine lv_aload_n C.x C.b dX5_isIn_11 rfl (lv_at hl 0 rfl) ?_
    refine gm_getA C hI hS 4 (by decide) (a := ad 3) rfl q1485 (fun _ h9 => h9) dX5_isIn_12 ?_
    refine lv_aload_n C.x C.b dX5_isIn_15 rfl (lv_at hl 0 rfl) ?_
    refine gm_getI C hI hS 11 4 (by decide) rfl q1492 (fun _ h9 => h9) dX5_isIn_16 hw (fun v4 hw => ?_)
    refine gm_ld C hI hS 3 120 (by decide) rfl dX5_isIn_19 hw (fun v5 hw => ?_)
    refine lv_iload_n C.x C.b dX5_isIn_20 rfl (lv_at hl 1 rfl) ?_
    refine lv_iload_n C.x C.b dX5_isIn_21 rfl (lv_at hl 2 rfl) ?_
    refine gm_callS (rest := []) C hS hl (kM_in C.tr hI hw) q1466 q1467 q88 q1468 ny_in rfl (Nat.le_of_ble_eq_true rfl) (Nat.le_of_ble_eq_true rfl) rfl (Nat.le_of_ble_eq_true rfl) dX5_isIn_22 (gm_ki (fun r7 u6 H locs hw hS => ?_))
    refine lv_if_eq (tgt := 32) C.x C.b dX5_isIn_25 (by decide) (fun c8 => ?_) (fun c8 => ?_)
    · have hw := hw.1 c8
      refine lv_iconst (v := 0) C.x C.b dX5_isIn_32 (by decide) ?_
      exact gm_zret C hS rfl hw dX5_isIn_33
    · have hw := hw.2 c8
      refine lv_iconst (v := 1) C.x C.b dX5_isIn_28 (by decide) ?_
      refine lv_goto (tgt := 33) C.x C.b dX5_isIn_29 (by decide) ?_
      exact gm_zret C hS rfl hw dX5_isIn_33
theorem kM_isIn {l : Launch} (ht : l.stackTraces = false) (hI : mI ad) {w : gW} {u : gM} {a1 : Int32} {a2 : Int32} {Q : Int32 → gM → Prop} (hw : wM_isIn a1 a2 Q u) : gMet l yX5_isIn (ws_ yX5_isIn cX5_isIn 3 (some .boolean)) E (gmW E ad u w) [.ref (ad 8), .int a1, .int a2] 1 22 (mQ E ad w (uI Q)) gNoX :=
  g_ofW ht (by decide) (Nat.le_of_ble_eq_true rfl) (fun p e s m below meth c ls H C hl hS => kM_isIn_r C hI _ _ _ _ _ _ hS hl hw)
def wM_skips_0 (Q : gM → Prop) : Nat → gM → Prop
  | 0, _ => False
  | n + 1, u => wM_isIn 32 32 (fun r3 u2 => (r3 = 0 → (Q u2)) ∧ (¬ r3 = 0 → (uGt 4 (fun v5 => uPt 4 (v5 + 1) (fun u6 => wM_skips_0 Q n u6) u2) u2))) u
theorem kM_skips_0 (C : gC p l s m args meth c cX5_skips 1 none RX5 E [] "skips") (hI : mI ad) {Q : gM → Prop} : ∀ (n : Nat) (u : gM) (H : Heap) (locs : List Loc) (ls : Array Slot), gS E w0 (gmW E ad u w) H locs → lv_has ls 1 [(0, .ref (ad 8))] → wM_skips_0 Q n u → mGo p l e s m args below meth c 2 44 E ad w0 w (uV Q) H locs (F0 m 0 ls []) := by
  intro n
  induction n with
  | zero =>
    intro u H locs ls hS hl hw
    exact hw.elim
  | succ n ih =>
    intro u H locs ls hS hl hw
    unfold wM_skips_0 at hw
    refine lv_aload_n C.x C.b dX5_skips_0 rfl (lv_at hl 0 rfl) ?_
    refine lv_bipush (v := 32) C.x C.b dX5_skips_1 (by decide) ?_
    refine lv_bipush (v := 32) C.x C.b dX5_skips_3 (by decide) ?_
    refine gm_callV (rest := []) C hI hS hl (kM_isIn C.tr hI hw) q1806 q1808 qs69 q88 q1809 ny_isIn rfl (Nat.le_of_ble_eq_true rfl) (Nat.le_of_ble_eq_true rfl) rfl (Nat.le_of_ble_eq_true rfl) dX5_skips_5 (gm_ki (fun r3 u2 H locs hw hS => ?_))
    refine lv_if_eq (tgt := 24) C.x C.b dX5_skips_8 (by decide) (fun c4 => ?_) (fun c4 => ?_)
    · have hw := hw.1 c4
      exact gm_vret C hS hw dX5_skips_24
    · have hw := hw.2 c4
      refine lv_aload_n C.x C.b dX5_skips_11 rfl (lv_at hl 0 rfl) ?_
      refine lv_dup C.x C.b dX5_skips_12 rfl ?_
      refine gm_getI C hI hS 11 4 (by decide) rfl q1492 (fun _ h9 => h9) dX5_skips_13 hw (fun v5 hw => ?_)
      refine lv_iconst (v := 1) C.x C.b dX5_skips_16 (by decide) ?_
      refine lv_iadd C.x C.b dX5_skips_17 ?_
      refine gm_putI C hI hS 11 4 (by decide) rfl q1492 (fun _ h9 => h9) rfl rfl rfl dX5_skips_18 hw (fun u6 H locs hw hS => ?_)
      refine lv_goto (tgt := 0) C.x C.b dX5_skips_21 (by decide) ?_
      exact ih _ _ _ _ hS (lv_sub hl [0] rfl) hw
def wM_skips (Q : gM → Prop) (u : gM) : Prop :=
  ∃ k1 : Nat, wM_skips_0 Q k1 u
theorem kM_skips_r (C : gC p l s m args meth c cX5_skips 1 none RX5 E [] "skips") (hI : mI ad) {Q : gM → Prop} (u : gM) (H : Heap) (locs : List Loc) (ls : Array Slot) (hS : gS E w0 (gmW E ad u w) H locs) (hl : lv_has ls 1 [(0, .ref (ad 8))]) (hw : wM_skips Q u) : mGo p l e s m args below meth c 2 44 E ad w0 w (uV Q) H locs (F0 m 0 ls []) := by
  unfold wM_skips at hw
  obtain ⟨k1, hw⟩ := hw
  exact kM_skips_0 C hI k1 _ _ _ _ hS (lv_sub hl [0] rfl) hw
theorem kM_skips {l : Launch} (ht : l.stackTraces = false) (hI : mI ad) {w : gW} {u : gM} {Q : gM → Prop} (hw : wM_skips Q u) : gMet l yX5_skips (ws_ yX5_skips cX5_skips 1 none) E (gmW E ad u w) [.ref (ad 8)] 2 44 (mQ E ad w (uV Q)) gNoX :=
  g_ofW ht (by decide) (Nat.le_of_ble_eq_true rfl) (fun p e s m below meth c ls H C hl hS => kM_skips_r C hI _ _ _ _ hS hl hw)
def wM_wordOf (a0 : Int32) (a1 : Int32) (Q : Int32 → gM → Prop) (u : gM) : Prop :=
  (a1 = 3 → ((a0 = 6449508 → (Q 2 u)) ∧ (¬ a0 = 6449508 → ((a0 = 6711672 → (Q 4 u)) ∧ (¬ a0 = 6711672 → (Q 0 u)))))) ∧ (¬ a1 = 3 → ((a1 = 4 → ((a0 = 1818848875 → (Q 1 u)) ∧ (¬ a0 = 1818848875 → ((a0 = 1717660012 → (Q 3 u)) ∧ (¬ a0 = 1717660012 → ((a0 = 1886546287 → (Q 5 u)) ∧ (¬ a0 = 1886546287 → ((a0 = 1752134516 → (Q 6 u)) ∧ (¬ a0 = 1752134516 → ((a0 = 1953063787 → (Q 7 u)) ∧ (¬ a0 = 1953063787 → (Q 0 u)))))))))))) ∧ (¬ a1 = 4 → (Q 0 u))))
theorem kM_wordOf_r (C : gC p l s m args meth c cX5_wordOf 2 (some .int) RX5 E [] "wordOf") (hI : mI ad) (a0 : Int32) (a1 : Int32) {Q : Int32 → gM → Prop} (u : gM) (H : Heap) (locs : List Loc) (ls : Array Slot) (hS : gS E w0 (gmW E ad u w) H locs) (hl : lv_has ls 2 [(0, .int a0), (1, .int a1)]) (hw : wM_wordOf a0 a1 Q u) : mGo p l e s m args below meth c 0 0 E ad w0 w (uI Q) H locs (F0 m 0 ls []) := by
  unfold wM_wordOf at hw
  refine lv_iload_n C.x C.b dX5_wordOf_0 rfl (lv_at hl 1 rfl) ?_
  refine lv_iconst (v := 3) C.x C.b dX5_wordOf_1 (by decide) ?_
  refine lv_icmp_ne (tgt := 27) C.x C.b dX5_wordOf_2 (by decide) (fun c1 => ?_) (fun c1 => ?_)
  · have hw := hw.2 c1
    refine lv_iload_n C.x C.b dX5_wordOf_27 rfl (lv_at hl 1 rfl) ?_
    refine lv_iconst (v := 4) C.x C.b dX5_wordOf_28 (by decide) ?_
    refine lv_icmp_eq (tgt := 34) C.x C.b dX5_wordOf_29 (by decide) (fun c2 => ?_) (fun c2 => ?_)
    · have hw := hw.1 c2
      refine lv_iload_n C.x C.b dX5_wordOf_34 rfl (lv_at hl 0 rfl) ?_
      refine lv_ldc C.x C.b C.ow (C.ts _ q1819) dX5_wordOf_35 ?_
      refine lv_icmp_ne (tgt := 44) C.x C.b dX5_wordOf_37 (by decide) (fun c3 => ?_) (fun c3 => ?_)
      · have hw := hw.2 c3
        refine lv_iload_n C.x C.b dX5_wordOf_44 rfl (lv_at hl 0 rfl) ?_
        refine lv_ldc C.x C.b C.ow (C.ts _ q1820) dX5_wordOf_45 ?_
        refine lv_icmp_ne (tgt := 54) C.x C.b dX5_wordOf_47 (by decide) (fun c4 => ?_) (fun c4 => ?_)
        · have hw := hw.2 c4
          refine lv_iload_n C.x C.b dX5_wordOf_54 rfl (lv_at hl 0 rfl) ?_
          refine lv_ldc C.x C.b C.ow (C.ts _ q1821) dX5_wordOf_55 ?_
          refine lv_icmp_ne (tgt := 64) C.x C.b dX5_wordOf_57 (by decide) (fun c5 => ?_) (fun c5 => ?_)
          · have hw := hw.2 c5
            refine lv_iload_n C.x C.b dX5_wordOf_64 rfl (lv_at hl 0 rfl) ?_
            refine lv_ldc C.x C.b C.ow (C.ts _ q1822) dX5_wordOf_65 ?_
            refine lv_icmp_ne (tgt := 75) C.x C.b dX5_wordOf_67 (by decide) (fun c6 => ?_) (fun c6 => ?_)
            · have hw := hw.2 c6
              refine lv_iload_n C.x C.b dX5_wordOf_75 rfl (lv_at hl 0 rfl) ?_
              refine lv_ldc C.x C.b C.ow (C.ts _ q1823) dX5_wordOf_76 ?_
              refine lv_icmp_ne (tgt := 86) C.x C.b dX5_wordOf_78 (by decide) (fun c7 => ?_) (fun c7 => ?_)
              · have hw := hw.2 c7
                refine lv_iconst (v := 0) C.x C.b dX5_wordOf_86 (by decide) ?_
                exact gm_iret C hS hw dX5_wordOf_87
              · have hw := hw.1 c7
                refine lv_bipush (v := 7) C.x C.b dX5_wordOf_81 (by decide) ?_
                refine lv_goto (tgt := 87) C.x C.b dX5_wordOf_83 (by decide) ?_
                exact gm_iret C hS hw dX5_wordOf_87
            · have hw := hw.1 c6
              refine lv_bipush (v := 6) C.x C.b dX5_wordOf_70 (by decide) ?_
              refine lv_goto (tgt := 87) C.x C.b dX5_wordOf_72 (by decide) ?_
              exact gm_iret C hS hw dX5_wordOf_87
          · have hw := hw.1 c5
            refine lv_iconst (v := 5) C.x C.b dX5_wordOf_60 (by decide) ?_
            refine lv_goto (tgt := 87) C.x C.b dX5_wordOf_61 (by decide) ?_
            exact gm_iret C hS hw dX5_wordOf_87
        · have hw := hw.1 c4
          refine lv_iconst (v := 3) C.x C.b dX5_wordOf_50 (by decide) ?_
          refine lv_goto (tgt := 87) C.x C.b dX5_wordOf_51 (by decide) ?_
          exact gm_iret C hS hw dX5_wordOf_87
      · have hw := hw.1 c3
        refine lv_iconst (v := 1) C.x C.b dX5_wordOf_40 (by decide) ?_
        refine lv_goto (tgt := 87) C.x C.b dX5_wordOf_41 (by decide) ?_
        exact gm_iret C hS hw dX5_wordOf_87
    · have hw := hw.2 c2
      refine lv_iconst (v := 0) C.x C.b dX5_wordOf_32 (by decide) ?_
      exact gm_iret C hS hw dX5_wordOf_33
  · have hw := hw.1 c1
    refine lv_iload_n C.x C.b dX5_wordOf_5 rfl (lv_at hl 0 rfl) ?_
    refine lv_ldc C.x C.b C.ow (C.ts _ q1817) dX5_wordOf_6 ?_
    refine lv_icmp_ne (tgt := 15) C.x C.b dX5_wordOf_8 (by decide) (fun c8 => ?_) (fun c8 => ?_)
    · have hw := hw.2 c8
      refine lv_iload_n C.x C.b dX5_wordOf_15 rfl (lv_at hl 0 rfl) ?_
      refine lv_ldc C.x C.b C.ow (C.ts _ q1818) dX5_wordOf_16 ?_
      refine lv_icmp_ne (tgt := 25) C.x C.b dX5_wordOf_18 (by decide) (fun c9 => ?_) (fun c9 => ?_)
      · have hw := hw.2 c9
        refine lv_iconst (v := 0) C.x C.b dX5_wordOf_25 (by decide) ?_
        exact gm_iret C hS hw dX5_wordOf_26
      · have hw := hw.1 c9
        refine lv_iconst (v := 4) C.x C.b dX5_wordOf_21 (by decide) ?_
        refine lv_goto (tgt := 26) C.x C.b dX5_wordOf_22 (by decide) ?_
        exact gm_iret C hS hw dX5_wordOf_26
    · have hw := hw.1 c8
      refine lv_iconst (v := 2) C.x C.b dX5_wordOf_11 (by decide) ?_
      refine lv_goto (tgt := 26) C.x C.b dX5_wordOf_12 (by decide) ?_
      exact gm_iret C hS hw dX5_wordOf_26
theorem kM_wordOf {l : Launch} (ht : l.stackTraces = false) (hI : mI ad) {w : gW} {u : gM} {a0 : Int32} {a1 : Int32} {Q : Int32 → gM → Prop} (hw : wM_wordOf a0 a1 Q u) : gMet l yX5_wordOf (ws_ yX5_wordOf cX5_wordOf 2 (some .int)) E (gmW E ad u w) [.int a0, .int a1] 0 0 (mQ E ad w (uI Q)) gNoX :=
  g_ofW ht (by decide) (Nat.le_of_ble_eq_true rfl) (fun p e s m below meth c ls H C hl hS => kM_wordOf_r C hI _ _ _ _ _ _ hS hl hw)
def wM_numbersOf (a0 : Int32) (Q : Int32 → gM → Prop) (u : gM) : Prop :=
  (3 ≤ a0 → ((a0 = 5 → (Q 2 u)) ∧ (¬ a0 = 5 → ((a0 = 6 → (Q 2 u)) ∧ (¬ a0 = 6 → (Q 1 u)))))) ∧ (¬ 3 ≤ a0 → (Q 3 u))
theorem kM_numbersOf_r (C : gC p l s m args meth c cX5_numbersOf 1 (some .int) RX5 E [] "numbersOf") (hI : mI ad) (a0 : Int32) {Q : Int32 → gM → Prop} (u : gM) (H : Heap) (locs : List Loc) (ls : Array Slot) (hS : gS E w0 (gmW E ad u w) H locs) (hl : lv_has ls 1 [(0, .int a0)]) (hw : wM_numbersOf a0 Q u) : mGo p l e s m args below meth c 0 0 E ad w0 w (uI Q) H locs (F0 m 0 ls []) := by
  unfold wM_numbersOf at hw
  refine lv_iload_n C.x C.b dX5_numbersOf_0 rfl (lv_at hl 0 rfl) ?_
  refine lv_iconst (v := 3) C.x C.b dX5_numbersOf_1 (by decide) ?_
  refine lv_icmp_ge (tgt := 9) C.x C.b dX5_numbersOf_2 (by decide) (fun c1 => ?_) (fun c1 => ?_)
  · have hw := hw.1 c1
    refine lv_iload_n C.x C.b dX5_numbersOf_9 rfl (lv_at hl 0 rfl) ?_
    refine lv_iconst (v := 5) C.x C.b dX5_numbersOf_10 (by decide) ?_
    refine lv_icmp_eq (tgt := 20) C.x C.b dX5_numbersOf_11 (by decide) (fun c2 => ?_) (fun c2 => ?_)
    · have hw := hw.1 c2
      refine lv_iconst (v := 2) C.x C.b dX5_numbersOf_20 (by decide) ?_
      refine lv_goto (tgt := 25) C.x C.b dX5_numbersOf_21 (by decide) ?_
      exact gm_iret C hS hw dX5_numbersOf_25
    · have hw := hw.2 c2
      refine lv_iload_n C.x C.b dX5_numbersOf_14 rfl (lv_at hl 0 rfl) ?_
      refine lv_bipush (v := 6) C.x C.b dX5_numbersOf_15 (by decide) ?_
      refine lv_icmp_ne (tgt := 24) C.x C.b dX5_numbersOf_17 (by decide) (fun c3 => ?_) (fun c3 => ?_)
      · have hw := hw.2 c3
        refine lv_iconst (v := 1) C.x C.b dX5_numbersOf_24 (by decide) ?_
        exact gm_iret C hS hw dX5_numbersOf_25
      · have hw := hw.1 c3
        refine lv_iconst (v := 2) C.x C.b dX5_numbersOf_20 (by decide) ?_
        refine lv_goto (tgt := 25) C.x C.b dX5_numbersOf_21 (by decide) ?_
        exact gm_iret C hS hw dX5_numbersOf_25
  · have hw := hw.2 c1
    refine lv_iconst (v := 3) C.x C.b dX5_numbersOf_5 (by decide) ?_
    refine lv_goto (tgt := 25) C.x C.b dX5_numbersOf_6 (by decide) ?_
    exact gm_iret C hS hw dX5_numbersOf_25
theorem kM_numbersOf {l : Launch} (ht : l.stackTraces = false) (hI : mI ad) {w : gW} {u : gM} {a0 : Int32} {Q : Int32 → gM → Prop} (hw : wM_numbersOf a0 Q u) : gMet l yX5_numbersOf (ws_ yX5_numbersOf cX5_numbersOf 1 (some .int)) E (gmW E ad u w) [.int a0] 0 0 (mQ E ad w (uI Q)) gNoX :=
  g_ofW ht (by decide) (Nat.le_of_ble_eq_true rfl) (fun p e s m below meth c ls H C hl hS => kM_numbersOf_r C hI _ _ _ _ _ hS hl hw)
def wM_isNumber_59 (Q : Int32 → gM → Prop) (x1 : Int32) (x2 : Int32) (x3 : Int32) (u : gM) : Prop :=
  uSt 7 3 x1 x3 (fun u12 => uGt 4 (fun v13 => (v13 ≤ x2 → (Q 0 u12)) ∧ (¬ v13 ≤ x2 → (Q 1 u12))) u12) u
theorem kM_isNumber_59 (C : gC p l s m args meth c cX5_isNumber 4 (some .boolean) RX5 E [] "isNumber") (hI : mI ad) {Q : Int32 → gM → Prop} (x1 : Int32) (x2 : Int32) (x3 : Int32) (u : gM) (H : Heap) (locs : List Loc) (ls : Array Slot) (hS : gS E w0 (gmW E ad u w) H locs) (hl : lv_has ls 4 [(0, .ref (ad 8)), (1, .int x1), (2, .int x2), (3, .int x3)]) (hw : wM_isNumber_59 Q x1 x2 x3 u) : mGo p l e s m args below meth c 2 44 E ad w0 w (uI Q) H locs (F0 m 59 ls []) := by
  unfold wM_isNumber_59 at hw
  refine lv_aload_n C.x C.b dX5_isNumber_59 rfl (lv_at hl 0 rfl) ?_
  refine gm_getA C hI hS 13 (by decide) (a := ad 7) rfl q1494 (fun _ h9 => h9) dX5_isNumber_60 ?_
  refine lv_iload_n C.x C.b dX5_isNumber_63 rfl (lv_at hl 1 rfl) ?_
  refine lv_iload_n C.x C.b dX5_isNumber_64 rfl (lv_at hl 3 rfl) ?_
  refine gm_st C hI hS 7 3 (by decide) rfl dX5_isNumber_65 hw (fun u12 H locs hw hS => ?_)
  refine lv_aload_n C.x C.b dX5_isNumber_66 rfl (lv_at hl 0 rfl) ?_
  refine gm_getI C hI hS 11 4 (by decide) rfl q1492 (fun _ h9 => h9) dX5_isNumber_67 hw (fun v13 hw => ?_)
  refine lv_iload_n C.x C.b dX5_isNumber_70 rfl (lv_at hl 2 rfl) ?_
  refine lv_icmp_le (tgt := 78) C.x C.b dX5_isNumber_71 (by decide) (fun c14 => ?_) (fun c14 => ?_)
  · have hw := hw.1 c14
    refine lv_iconst (v := 0) C.x C.b dX5_isNumber_78 (by decide) ?_
    exact gm_zret C hS rfl hw dX5_isNumber_79
  · have hw := hw.2 c14
    refine lv_iconst (v := 1) C.x C.b dX5_isNumber_74 (by decide) ?_
    refine lv_goto (tgt := 79) C.x C.b dX5_isNumber_75 (by decide) ?_
    exact gm_zret C hS rfl hw dX5_isNumber_79
def wM_isNumber_7 (Q : Int32 → gM → Prop) : Nat → Int32 → Int32 → Int32 → gM → Prop
  | 0, _, _, _, _ => False
  | n + 1, x1, x2, x3, u => wM_isIn 48 57 (fun r4 u3 => (r4 = 0 → (wM_isNumber_59 Q x1 x2 x3 u3)) ∧ (¬ r4 = 0 → (uGt 4 (fun v6 => (4 ≤ (v6 - x2) → (wM_isNumber_59 Q x1 x2 x3 u3)) ∧ (¬ 4 ≤ (v6 - x2) → (uGt 4 (fun v8 => uLd 3 120 v8 (fun v9 => uGt 4 (fun v10 => uPt 4 (v10 + 1) (fun u11 => wM_isNumber_7 Q n x1 x2 (((10 * x3) + v9) - 48) u11) u3) u3) u3) u3))) u3))) u
theorem kM_isNumber_7 (C : gC p l s m args meth c cX5_isNumber 4 (some .boolean) RX5 E [] "isNumber") (hI : mI ad) {Q : Int32 → gM → Prop} : ∀ (n : Nat) (x1 : Int32) (x2 : Int32) (x3 : Int32) (u : gM) (H : Heap) (locs : List Loc) (ls : Array Slot), gS E w0 (gmW E ad u w) H locs → lv_has ls 4 [(0, .ref (ad 8)), (1, .int x1), (2, .int x2), (3, .int x3)] → wM_isNumber_7 Q n x1 x2 x3 u → mGo p l e s m args below meth c 2 44 E ad w0 w (uI Q) H locs (F0 m 7 ls []) := by
  intro n
  induction n with
  | zero =>
    intro x1 x2 x3 u H locs ls hS hl hw
    exact hw.elim
  | succ n ih =>
    intro x1 x2 x3 u H locs ls hS hl hw
    unfold wM_isNumber_7 at hw
    refine lv_aload_n C.x C.b dX5_isNumber_7 rfl (lv_at hl 0 rfl) ?_
    refine lv_bipush (v := 48) C.x C.b dX5_isNumber_8 (by decide) ?_
    refine lv_bipush (v := 57) C.x C.b dX5_isNumber_10 (by decide) ?_
    refine gm_callV (rest := []) C hI hS hl (kM_isIn C.tr hI hw) q1806 q1808 qs69 q88 q1809 ny_isIn rfl (Nat.le_of_ble_eq_true rfl) (Nat.le_of_ble_eq_true rfl) rfl (Nat.le_of_ble_eq_true rfl) dX5_isNumber_12 (gm_ki (fun r4 u3 H locs hw hS => ?_))
    refine lv_if_eq (tgt := 59) C.x C.b dX5_isNumber_15 (by decide) (fun c5 => ?_) (fun c5 => ?_)
    · have hw := hw.1 c5
      exact kM_isNumber_59 C hI _ _ _ _ _ _ _ hS (lv_sub hl [0, 1, 2, 3] rfl) hw
    · have hw := hw.2 c5
      refine lv_aload_n C.x C.b dX5_isNumber_18 rfl (lv_at hl 0 rfl) ?_
      refine gm_getI C hI hS 11 4 (by decide) rfl q1492 (fun _ h9 => h9) dX5_isNumber_19 hw (fun v6 hw => ?_)
      refine lv_iload_n C.x C.b dX5_isNumber_22 rfl (lv_at hl 2 rfl) ?_
      refine lv_isub C.x C.b dX5_isNumber_23 ?_
      refine lv_iconst (v := 4) C.x C.b dX5_isNumber_24 (by decide) ?_
      refine lv_icmp_ge (tgt := 59) C.x C.b dX5_isNumber_25 (by decide) (fun c7 => ?_) (fun c7 => ?_)
      · have hw := hw.1 c7
        exact kM_isNumber_59 C hI _ _ _ _ _ _ _ hS (lv_sub hl [0, 1, 2, 3] rfl) hw
      · have hw := hw.2 c7
        refine lv_bipush (v := 10) C.x C.b dX5_isNumber_28 (by decide) ?_
        refine lv_iload_n C.x C.b dX5_isNumber_30 rfl (lv_at hl 3 rfl) ?_
        refine lv_imul C.x C.b dX5_isNumber_31 ?_
        refine lv_aload_n C.x C.b dX5_isNumber_32 rfl (lv_at hl 0 rfl) ?_
        refine gm_getA C hI hS 4 (by decide) (a := ad 3) rfl q1485 (fun _ h9 => h9) dX5_isNumber_33 ?_
        refine lv_aload_n C.x C.b dX5_isNumber_36 rfl (lv_at hl 0 rfl) ?_
        refine gm_getI C hI hS 11 4 (by decide) rfl q1492 (fun _ h9 => h9) dX5_isNumber_37 hw (fun v8 hw => ?_)
        refine gm_ld C hI hS 3 120 (by decide) rfl dX5_isNumber_40 hw (fun v9 hw => ?_)
        refine lv_iadd C.x C.b dX5_isNumber_41 ?_
        refine lv_bipush (v := 48) C.x C.b dX5_isNumber_42 (by decide) ?_
        refine lv_isub C.x C.b dX5_isNumber_44 ?_
        refine lv_istore_n (lv' := [(3, .int (((10 * x3) + v9) - 48)), (0, .ref (ad 8)), (1, .int x1), (2, .int x2)]) C.x C.b dX5_isNumber_45 rfl hl (by decide) rfl (fun ls hl => ?_)
        refine lv_aload_n C.x C.b dX5_isNumber_46 rfl (lv_at hl 1 rfl) ?_
        refine lv_dup C.x C.b dX5_isNumber_47 rfl ?_
        refine gm_getI C hI hS 11 4 (by decide) rfl q1492 (fun _ h9 => h9) dX5_isNumber_48 hw (fun v10 hw => ?_)
        refine lv_iconst (v := 1) C.x C.b dX5_isNumber_51 (by decide) ?_
        refine lv_iadd C.x C.b dX5_isNumber_52 ?_
        refine gm_putI C hI hS 11 4 (by decide) rfl q1492 (fun _ h9 => h9) rfl rfl rfl dX5_isNumber_53 hw (fun u11 H locs hw hS => ?_)
        refine lv_goto (tgt := 7) C.x C.b dX5_isNumber_56 (by decide) ?_
        exact ih _ _ _ _ _ _ _ hS (lv_sub hl [1, 2, 3, 0] rfl) hw
def wM_isNumber (a1 : Int32) (Q : Int32 → gM → Prop) (u : gM) : Prop :=
  uGt 4 (fun v1 => ∃ k2 : Nat, wM_isNumber_7 Q k2 a1 v1 0 u) u
theorem kM_isNumber_r (C : gC p l s m args meth c cX5_isNumber 4 (some .boolean) RX5 E [] "isNumber") (hI : mI ad) (a1 : Int32) {Q : Int32 → gM → Prop} (u : gM) (H : Heap) (locs : List Loc) (ls : Array Slot) (hS : gS E w0 (gmW E ad u w) H locs) (hl : lv_has ls 4 [(0, .ref (ad 8)), (1, .int a1)]) (hw : wM_isNumber a1 Q u) : mGo p l e s m args below meth c 2 44 E ad w0 w (uI Q) H locs (F0 m 0 ls []) := by
  unfold wM_isNumber at hw
  refine lv_aload_n C.x C.b dX5_isNumber_0 rfl (lv_at hl 0 rfl) ?_
  refine gm_getI C hI hS 11 4 (by decide) rfl q1492 (fun _ h9 => h9) dX5_isNumber_1 hw (fun v1 hw => ?_)
  refine lv_istore_n (lv' := [(2, .int v1), (0, .ref (ad 8)), (1, .int a1)]) C.x C.b dX5_isNumber_4 rfl hl (by decide) rfl (fun ls hl => ?_)
  refine lv_iconst (v := 0) C.x C.b dX5_isNumber_5 (by decide) ?_
  refine lv_istore_n (lv' := [(3, .int 0), (2, .int v1), (0, .ref (ad 8)), (1, .int a1)]) C.x C.b dX5_isNumber_6 rfl hl (by decide) rfl (fun ls hl => ?_)
  obtain ⟨k2, hw⟩ := hw
  exact kM_isNumber_7 C hI k2 _ _ _ _ _ _ _ hS (lv_sub hl [2, 3, 1, 0] rfl) hw
theorem kM_isNumber {l : Launch} (ht : l.stackTraces = false) (hI : mI ad) {w : gW} {u : gM} {a1 : Int32} {Q : Int32 → gM → Prop} (hw : wM_isNumber a1 Q u) : gMet l yX5_isNumber (ws_ yX5_isNumber cX5_isNumber 4 (some .boolean)) E (gmW E ad u w) [.ref (ad 8), .int a1] 2 44 (mQ E ad w (uI Q)) gNoX :=
  g_ofW ht (by decide) (Nat.le_of_ble_eq_true rfl) (fun p e s m below meth c ls H C hl hS => kM_isNumber_r C hI _ _ _ _ _ hS hl hw)
end GW2
