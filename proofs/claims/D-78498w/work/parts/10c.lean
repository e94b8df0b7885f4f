section GC1
variable {p : Program} {l : Launch} {e : Env} {s : State} {m : MethodId} {args : Array Value} {below : List Frame} {meth : Method} {c : Code} {E : gE} {w0 : gW}
def wJ_X4_init (E : gE) (i0 : Nat) (i1 : Int32) (i2 : Int32) (i3 : Int32) (i4 : Int32) (i5 : Int32) (Q : gW → Prop) (w : gW) : Prop :=
  aP i0 3 0 (.int i1) (fun w1 => aP i0 3 1 (.int i2) (fun w2 => aP i0 3 2 (.int i3) (fun w3 => aP i0 3 3 (.int i4) (fun w4 => aP i0 3 4 (.int i5) (fun w5 => Q w5) w4) w3) w2) w1) w
theorem kJ_X4_init_r (C : gC p l s m args meth c cX4_init 6 none RX4 E [] "<init>") (i0 : Nat) (i1 : Int32) (i2 : Int32) (i3 : Int32) (i4 : Int32) (i5 : Int32) {Q : gW → Prop} (w : gW) (H : Heap) (locs : List Loc) (ls : Array Slot) (hS : gS E w0 w H locs) (hl : lv_has ls 6 [(0, .ref i0), (1, .int i1), (2, .int i2), (3, .int i3), (4, .int i4), (5, .int i5)]) (hw : wJ_X4_init E i0 i1 i2 i3 i4 i5 Q w) : gGo p l e s m args below meth c H locs 1 24 E w0 w (gV Q) (gNoX) (F0 m 0 ls []) := by
  unfold wJ_X4_init at hw
  refine lv_aload_n C.x C.b dX4_init_0 rfl (lv_at hl 0 rfl) ?_
  refine W.objInit C.x C.b C.ow (C.ts _ q225) (C.ts _ q115) (C.ts _ q116) rfl (by rw [C.ml]; exact hl.1) rfl dX4_init_1 (Nat.le_of_ble_eq_true rfl) (Nat.le_of_ble_eq_true rfl) ?_
  refine W.eq (g2 := F0 m 4 ls []) rfl ?_
  refine lv_aload_n C.x C.b dX4_init_4 rfl (lv_at hl 0 rfl) ?_
  refine lv_iload_n C.x C.b dX4_init_5 rfl (lv_at hl 1 rfl) ?_
  refine a_PF C hS in_X4 tyX4 tyX4_ok nmX4 rfl (k := 0) (ci := 3) (by decide) q226 (fun _ h9 => h9) rfl rfl rfl rfl dX4_init_6 hw (fun w1 H locs hw hS => ?_)
  refine lv_aload_n C.x C.b dX4_init_9 rfl (lv_at hl 0 rfl) ?_
  refine lv_iload_n C.x C.b dX4_init_10 rfl (lv_at hl 2 rfl) ?_
  refine a_PF C hS in_X4 tyX4 tyX4_ok nmX4 rfl (k := 1) (ci := 3) (by decide) q229 (fun _ h9 => h9) rfl rfl rfl rfl dX4_init_11 hw (fun w2 H locs hw hS => ?_)
  refine lv_aload_n C.x C.b dX4_init_14 rfl (lv_at hl 0 rfl) ?_
  refine lv_iload_n C.x C.b dX4_init_15 rfl (lv_at hl 3 rfl) ?_
  refine a_PF C hS in_X4 tyX4 tyX4_ok nmX4 rfl (k := 2) (ci := 3) (by decide) q232 (fun _ h9 => h9) rfl rfl rfl rfl dX4_init_16 hw (fun w3 H locs hw hS => ?_)
  refine lv_aload_n C.x C.b dX4_init_19 rfl (lv_at hl 0 rfl) ?_
  refine lv_iload C.x C.b dX4_init_20 (lv_at hl 4 rfl) ?_
  refine a_PF C hS in_X4 tyX4 tyX4_ok nmX4 rfl (k := 3) (ci := 3) (by decide) q233 (fun _ h9 => h9) rfl rfl rfl rfl dX4_init_22 hw (fun w4 H locs hw hS => ?_)
  refine lv_aload_n C.x C.b dX4_init_25 rfl (lv_at hl 0 rfl) ?_
  refine lv_iload C.x C.b dX4_init_26 (lv_at hl 5 rfl) ?_
  refine a_PF C hS in_X4 tyX4 tyX4_ok nmX4 rfl (k := 4) (ci := 3) (by decide) q236 (fun _ h9 => h9) rfl rfl rfl rfl dX4_init_28 hw (fun w5 H locs hw hS => ?_)
  exact g_vret C hS ⟨rfl, hw⟩ dX4_init_31
theorem ny_X4_init : gNm yX4_init 5 = true := by decide +kernel
theorem kJ_X4_init {l : Launch} (ht : l.stackTraces = false) {w : gW} {i0 : Nat} {i1 : Int32} {i2 : Int32} {i3 : Int32} {i4 : Int32} {i5 : Int32} {Q : gW → Prop} (hw : wJ_X4_init E i0 i1 i2 i3 i4 i5 Q w) : gMet l yX4_init (ws_ yX4_init cX4_init 6 none) E w [.ref i0, .int i1, .int i2, .int i3, .int i4, .int i5] 1 24 (gV Q) (gNoX) :=
  g_ofW ht (by decide) (Nat.le_of_ble_eq_true rfl) (fun p e s m below meth c ls H C hl hS => kJ_X4_init_r C _ _ _ _ _ _ _ _ _ _ hS hl hw)
def wJ_X4_own (E : gE) (i0 : Int32) (Q : Option Nat → gW → Prop) (w : gW) : Prop :=
  aN E 3 5 [.int 0, .int 0, .int 0, .int 0, .int 0] (fun q1 w2 => wJ_X4_init E q1 i0 0 i0 0 (-1) (fun w3 => Q (some q1) w3) w2) w
theorem kJ_X4_own_r (C : gC p l s m args meth c cX4_own 1 (some (.object "BridgeAuction$Vector")) RX4 E [] "own") (i0 : Int32) {Q : Option Nat → gW → Prop} (w : gW) (H : Heap) (locs : List Loc) (ls : Array Slot) (hS : gS E w0 w H locs) (hl : lv_has ls 1 [(0, .int i0)]) (hw : wJ_X4_own E i0 Q w) : gGo p l e s m args below meth c H locs 2 49 E w0 w (gR Q) (gNoX) (F0 m 0 ls []) := by
  unfold wJ_X4_own at hw
  refine a_N (ci := 3) (fs := [.int 0, .int 0, .int 0, .int 0, .int 0]) C hS in_X4 tyX4 tyX4_ok rfl q220 q221 q83 (by decide) dX4_own_0 hw (fun q1 w2 H hw hS => ?_)
  refine lv_dup C.x C.b dX4_own_3 rfl ?_
  refine lv_iload_n C.x C.b dX4_own_4 rfl (lv_at hl 0 rfl) ?_
  refine lv_iconst (v := 0) C.x C.b dX4_own_5 (by decide) ?_
  refine lv_iload_n C.x C.b dX4_own_6 rfl (lv_at hl 0 rfl) ?_
  refine lv_iconst (v := 0) C.x C.b dX4_own_7 (by decide) ?_
  refine lv_iconst (v := (-1)) C.x C.b dX4_own_8 (by decide) ?_
  refine g_callI (rest := [.ref q1]) C hS hl (kJ_X4_init C.tr hw) rfl q222 q223 q83 q224 ny_X4_init rfl (Nat.le_of_ble_eq_true rfl) (Nat.le_of_ble_eq_true rfl) rfl (Nat.le_of_ble_eq_true rfl) dX4_own_9 (fun X1 w1 H1 l1 q1 ce hx => hx.elim) (fun v w3 H locs hq _ hS => ?_)
  obtain ⟨rfl, hw⟩ := hq
  refine W.eq (g2 := F0 m 12 ls [.ref q1]) rfl ?_
  exact g_aret (r := (some q1)) C (Or.inl ⟨_, rfl⟩) hS ⟨_, rfl, hw⟩ dX4_own_12
theorem ny_X4_own : gNm yX4_own 1 = true := by decide +kernel
theorem kJ_X4_own {l : Launch} (ht : l.stackTraces = false) {w : gW} {i0 : Int32} {Q : Option Nat → gW → Prop} (hw : wJ_X4_own E i0 Q w) : gMet l yX4_own (ws_ yX4_own cX4_own 1 (some (.object "BridgeAuction$Vector"))) E w [.int i0] 2 49 (gR Q) (gNoX) :=
  g_ofW ht (by decide) (Nat.le_of_ble_eq_true rfl) (fun p e s m below meth c ls H C hl hS => kJ_X4_own_r C _ _ _ _ _ hS hl hw)
def wJ_X4_asTold_47 (E : gE) (Q : Option Nat → gW → Prop) (x0 : Nat) (x1 : Int32) (x2 : Int32) (x3 : Int32) (x4 : Int32) (x5 : Int32) (y0 : Int32) (w : gW) : Prop :=
  (y0 = 0 → (aN E 3 5 [.int 0, .int 0, .int 0, .int 0, .int 0] (fun q12 w13 => wJ_X4_init E q12 x1 x2 x3 x4 x5 (fun w14 => Q (some q12) w14) w13) w)) ∧ (¬ y0 = 0 → (Q (some x0) w))
theorem kJ_X4_asTold_47 (C : gC p l s m args meth c cX4_asTold 7 (some (.object "BridgeAuction$Vector")) RX4 E [] "asTold") {Q : Option Nat → gW → Prop} (x0 : Nat) (x1 : Int32) (x2 : Int32) (x3 : Int32) (x4 : Int32) (x5 : Int32) (y0 : Int32) (w : gW) (H : Heap) (locs : List Loc) (ls : Array Slot) (hS : gS E w0 w H locs) (hl : lv_has ls 7 [(0, .ref x0), (1, .int x1), (2, .int x2), (3, .int x3), (4, .int x4), (5, .int x5)]) (hw : wJ_X4_asTold_47 E Q x0 x1 x2 x3 x4 x5 y0 w) : gGo p l e s m args below meth c H locs 2 49 E w0 w (gR Q) (gNoX) (F0 m 47 ls [.int y0]) := by
  unfold wJ_X4_asTold_47 at hw
  refine lv_istore (lv' := [(6, .int y0), (0, .ref x0), (1, .int x1), (2, .int x2), (3, .int x3), (4, .int x4), (5, .int x5)]) C.x C.b dX4_asTold_47 hl (by decide) rfl (fun ls hl => ?_)
  refine lv_iload C.x C.b dX4_asTold_49 (lv_at hl 0 rfl) ?_
  refine lv_if_eq (tgt := 58) C.x C.b dX4_asTold_51 (by decide) (fun c11 => ?_) (fun c11 => ?_)
  · have hw := hw.1 c11
    refine a_N (ci := 3) (fs := [.int 0, .int 0, .int 0, .int 0, .int 0]) C hS in_X4 tyX4 tyX4_ok rfl q220 q221 q83 (by decide) dX4_asTold_58 hw (fun q12 w13 H hw hS => ?_)
    refine lv_dup C.x C.b dX4_asTold_61 rfl ?_
    refine lv_iload_n C.x C.b dX4_asTold_62 rfl (lv_at hl 2 rfl) ?_
    refine lv_iload_n C.x C.b dX4_asTold_63 rfl (lv_at hl 3 rfl) ?_
    refine lv_iload_n C.x C.b dX4_asTold_64 rfl (lv_at hl 4 rfl) ?_
    refine lv_iload C.x C.b dX4_asTold_65 (lv_at hl 5 rfl) ?_
    refine lv_iload C.x C.b dX4_asTold_67 (lv_at hl 6 rfl) ?_
    refine g_callI (rest := [.ref q12]) C hS hl (kJ_X4_init C.tr hw) rfl q222 q223 q83 q224 ny_X4_init rfl (Nat.le_of_ble_eq_true rfl) (Nat.le_of_ble_eq_true rfl) rfl (Nat.le_of_ble_eq_true rfl) dX4_asTold_69 (fun X1 w1 H1 l1 q1 ce hx => hx.elim) (fun v w14 H locs hq _ hS => ?_)
    obtain ⟨rfl, hw⟩ := hq
    refine W.eq (g2 := F0 m 72 ls [.ref q12]) rfl ?_
    exact g_aret (r := (some q12)) C (Or.inl ⟨_, rfl⟩) hS ⟨_, rfl, hw⟩ dX4_asTold_72
  · have hw := hw.2 c11
    refine lv_aload_n C.x C.b dX4_asTold_54 rfl (lv_at hl 1 rfl) ?_
    refine lv_goto (tgt := 72) C.x C.b dX4_asTold_55 (by decide) ?_
    exact g_aret (r := (some x0)) C (Or.inl ⟨_, rfl⟩) hS ⟨_, rfl, hw⟩ dX4_asTold_72
def wJ_X4_asTold_46 (E : gE) (Q : Option Nat → gW → Prop) (x0 : Nat) (x1 : Int32) (x2 : Int32) (x3 : Int32) (x4 : Int32) (x5 : Int32) (w : gW) : Prop :=
  wJ_X4_asTold_47 E Q x0 x1 x2 x3 x4 x5 0 w
theorem kJ_X4_asTold_46 (C : gC p l s m args meth c cX4_asTold 7 (some (.object "BridgeAuction$Vector")) RX4 E [] "asTold") {Q : Option Nat → gW → Prop} (x0 : Nat) (x1 : Int32) (x2 : Int32) (x3 : Int32) (x4 : Int32) (x5 : Int32) (w : gW) (H : Heap) (locs : List Loc) (ls : Array Slot) (hS : gS E w0 w H locs) (hl : lv_has ls 7 [(0, .ref x0), (1, .int x1), (2, .int x2), (3, .int x3), (4, .int x4), (5, .int x5)]) (hw : wJ_X4_asTold_46 E Q x0 x1 x2 x3 x4 x5 w) : gGo p l e s m args below meth c H locs 2 49 E w0 w (gR Q) (gNoX) (F0 m 46 ls []) := by
  unfold wJ_X4_asTold_46 at hw
  refine lv_iconst (v := 0) C.x C.b dX4_asTold_46 (by decide) ?_
  exact kJ_X4_asTold_47 C _ _ _ _ _ _ _ _ _ _ _ hS (lv_sub hl [0, 1, 2, 3, 4, 5] rfl) hw
def wJ_X4_asTold (E : gE) (i0 : Nat) (i1 : Int32) (i2 : Int32) (i3 : Int32) (i4 : Int32) (i5 : Int32) (Q : Option Nat → gW → Prop) (w : gW) : Prop :=
  aI E i0 3 0 (fun v1 => (v1 = i1 → (aI E i0 3 1 (fun v3 => (v3 = i2 → (aI E i0 3 2 (fun v5 => (v5 = i3 → (aI E i0 3 3 (fun v7 => (v7 = i4 → (aI E i0 3 4 (fun v9 => (v9 = i5 → (wJ_X4_asTold_47 E Q i0 i1 i2 i3 i4 i5 1 w)) ∧ (¬ v9 = i5 → (wJ_X4_asTold_46 E Q i0 i1 i2 i3 i4 i5 w))) w)) ∧ (¬ v7 = i4 → (wJ_X4_asTold_46 E Q i0 i1 i2 i3 i4 i5 w))) w)) ∧ (¬ v5 = i3 → (wJ_X4_asTold_46 E Q i0 i1 i2 i3 i4 i5 w))) w)) ∧ (¬ v3 = i2 → (wJ_X4_asTold_46 E Q i0 i1 i2 i3 i4 i5 w))) w)) ∧ (¬ v1 = i1 → (wJ_X4_asTold_46 E Q i0 i1 i2 i3 i4 i5 w))) w
theorem kJ_X4_asTold_r (C : gC p l s m args meth c cX4_asTold 7 (some (.object "BridgeAuction$Vector")) RX4 E [] "asTold") (i0 : Nat) (i1 : Int32) (i2 : Int32) (i3 : Int32) (i4 : Int32) (i5 : Int32) {Q : Option Nat → gW → Prop} (w : gW) (H : Heap) (locs : List Loc) (ls : Array Slot) (hS : gS E w0 w H locs) (hl : lv_has ls 7 [(0, .ref i0), (1, .int i1), (2, .int i2), (3, .int i3), (4, .int i4), (5, .int i5)]) (hw : wJ_X4_asTold E i0 i1 i2 i3 i4 i5 Q w) : gGo p l e s m args below meth c H locs 2 49 E w0 w (gR Q) (gNoX) (F0 m 0 ls []) := by
  unfold wJ_X4_asTold at hw
  refine lv_aload_n C.x C.b dX4_asTold_0 rfl (lv_at hl 0 rfl) ?_
  refine a_I C hS in_X4 rfl (k := 0) (ci := 3) (by decide) q226 (fun _ h9 => h9) dX4_asTold_1 hw (fun v1 hw => ?_)
  refine lv_iload_n C.x C.b dX4_asTold_4 rfl (lv_at hl 1 rfl) ?_
  refine lv_icmp_ne (tgt := 46) C.x C.b dX4_asTold_5 (by decide) (fun c2 => ?_) (fun c2 => ?_)
  · have hw := hw.2 c2
    exact kJ_X4_asTold_46 C _ _ _ _ _ _ _ _ _ _ hS (lv_sub hl [0, 1, 2, 3, 4, 5] rfl) hw
  · have hw := hw.1 c2
    refine lv_aload_n C.x C.b dX4_asTold_8 rfl (lv_at hl 0 rfl) ?_
    refine a_I C hS in_X4 rfl (k := 1) (ci := 3) (by decide) q229 (fun _ h9 => h9) dX4_asTold_9 hw (fun v3 hw => ?_)
    refine lv_iload_n C.x C.b dX4_asTold_12 rfl (lv_at hl 2 rfl) ?_
    refine lv_icmp_ne (tgt := 46) C.x C.b dX4_asTold_13 (by decide) (fun c4 => ?_) (fun c4 => ?_)
    · have hw := hw.2 c4
      exact kJ_X4_asTold_46 C _ _ _ _ _ _ _ _ _ _ hS (lv_sub hl [0, 1, 2, 3, 4, 5] rfl) hw
    · have hw := hw.1 c4
      refine lv_aload_n C.x C.b dX4_asTold_16 rfl (lv_at hl 0 rfl) ?_
      refine a_I C hS in_X4 rfl (k := 2) (ci := 3) (by decide) q232 (fun _ h9 => h9) dX4_asTold_17 hw (fun v5 hw => ?_)
      refine lv_iload_n C.x C.b dX4_asTold_20 rfl (lv_at hl 3 rfl) ?_
      refine lv_icmp_ne (tgt := 46) C.x C.b dX4_asTold_21 (by decide) (fun c6 => ?_) (fun c6 => ?_)
      · have hw := hw.2 c6
        exact kJ_X4_asTold_46 C _ _ _ _ _ _ _ _ _ _ hS (lv_sub hl [0, 1, 2, 3, 4, 5] rfl) hw
      · have hw := hw.1 c6
        refine lv_aload_n C.x C.b dX4_asTold_24 rfl (lv_at hl 0 rfl) ?_
        refine a_I C hS in_X4 rfl (k := 3) (ci := 3) (by decide) q233 (fun _ h9 => h9) dX4_asTold_25 hw (fun v7 hw => ?_)
        refine lv_iload C.x C.b dX4_asTold_28 (lv_at hl 4 rfl) ?_
        refine lv_icmp_ne (tgt := 46) C.x C.b dX4_asTold_30 (by decide) (fun c8 => ?_) (fun c8 => ?_)
        · have hw := hw.2 c8
          exact kJ_X4_asTold_46 C _ _ _ _ _ _ _ _ _ _ hS (lv_sub hl [0, 1, 2, 3, 4, 5] rfl) hw
        · have hw := hw.1 c8
          refine lv_aload_n C.x C.b dX4_asTold_33 rfl (lv_at hl 0 rfl) ?_
          refine a_I C hS in_X4 rfl (k := 4) (ci := 3) (by decide) q236 (fun _ h9 => h9) dX4_asTold_34 hw (fun v9 hw => ?_)
          refine lv_iload C.x C.b dX4_asTold_37 (lv_at hl 5 rfl) ?_
          refine lv_icmp_ne (tgt := 46) C.x C.b dX4_asTold_39 (by decide) (fun c10 => ?_) (fun c10 => ?_)
          · have hw := hw.2 c10
            exact kJ_X4_asTold_46 C _ _ _ _ _ _ _ _ _ _ hS (lv_sub hl [0, 1, 2, 3, 4, 5] rfl) hw
          · have hw := hw.1 c10
            refine lv_iconst (v := 1) C.x C.b dX4_asTold_42 (by decide) ?_
            refine lv_goto (tgt := 47) C.x C.b dX4_asTold_43 (by decide) ?_
            exact kJ_X4_asTold_47 C _ _ _ _ _ _ _ _ _ _ _ hS (lv_sub hl [0, 1, 2, 3, 4, 5] rfl) hw
theorem ny_X4_asTold : gNm yX4_asTold 5 = true := by decide +kernel
theorem kJ_X4_asTold {l : Launch} (ht : l.stackTraces = false) {w : gW} {i0 : Nat} {i1 : Int32} {i2 : Int32} {i3 : Int32} {i4 : Int32} {i5 : Int32} {Q : Option Nat → gW → Prop} (hw : wJ_X4_asTold E i0 i1 i2 i3 i4 i5 Q w) : gMet l yX4_asTold (ws_ yX4_asTold cX4_asTold 7 (some (.object "BridgeAuction$Vector"))) E w [.ref i0, .int i1, .int i2, .int i3, .int i4, .int i5] 2 49 (gR Q) (gNoX) :=
  g_ofW ht (by decide) (Nat.le_of_ble_eq_true rfl) (fun p e s m below meth c ls H C hl hS => kJ_X4_asTold_r C _ _ _ _ _ _ _ _ _ _ hS hl hw)
def wJ_X4_root (E : gE) (i0 : Nat) (Q : Int32 → gW → Prop) (w : gW) : Prop :=
  aI E i0 3 0 (fun v1 => Q v1 w) w
theorem kJ_X4_root_r (C : gC p l s m args meth c cX4_root 1 (some .int) RX4 E [] "root") (i0 : Nat) {Q : Int32 → gW → Prop} (w : gW) (H : Heap) (locs : List Loc) (ls : Array Slot) (hS : gS E w0 w H locs) (hl : lv_has ls 1 [(0, .ref i0)]) (hw : wJ_X4_root E i0 Q w) : gGo p l e s m args below meth c H locs 0 0 E w0 w (gI Q) (gNoX) (F0 m 0 ls []) := by
  unfold wJ_X4_root at hw
  refine lv_aload_n C.x C.b dX4_root_0 rfl (lv_at hl 0 rfl) ?_
  refine a_I C hS in_X4 rfl (k := 0) (ci := 3) (by decide) q226 (fun _ h9 => h9) dX4_root_1 hw (fun v1 hw => ?_)
  exact g_iret C hS ⟨_, rfl, hw⟩ dX4_root_4
theorem ny_X4_root : gNm yX4_root 0 = true := by decide +kernel
theorem kJ_X4_root {l : Launch} (ht : l.stackTraces = false) {w : gW} {i0 : Nat} {Q : Int32 → gW → Prop} (hw : wJ_X4_root E i0 Q w) : gMet l yX4_root (ws_ yX4_root cX4_root 1 (some .int)) E w [.ref i0] 0 0 (gI Q) (gNoX) :=
  g_ofW ht (by decide) (Nat.le_of_ble_eq_true rfl) (fun p e s m below meth c ls H C hl hS => kJ_X4_root_r C _ _ _ _ _ hS hl hw)
def wJ_X4_cost (E : gE) (i0 : Nat) (Q : Int32 → gW → Prop) (w : gW) : Prop :=
  aI E i0 3 1 (fun v1 => Q v1 w) w
theorem kJ_X4_cost_r (C : gC p l s m args meth c cX4_cost 1 (some .int) RX4 E [] "cost") (i0 : Nat) {Q : Int32 → gW → Prop} (w : gW) (H : Heap) (locs : List Loc) (ls : Array Slot) (hS : gS E w0 w H locs) (hl : lv_has ls 1 [(0, .ref i0)]) (hw : wJ_X4_cost E i0 Q w) : gGo p l e s m args below meth c H locs 0 0 E w0 w (gI Q) (gNoX) (F0 m 0 ls []) := by
  unfold wJ_X4_cost at hw
  refine lv_aload_n C.x C.b dX4_cost_0 rfl (lv_at hl 0 rfl) ?_
  refine a_I C hS in_X4 rfl (k := 1) (ci := 3) (by decide) q229 (fun _ h9 => h9) dX4_cost_1 hw (fun v1 hw => ?_)
  exact g_iret C hS ⟨_, rfl, hw⟩ dX4_cost_4
theorem ny_X4_cost : gNm yX4_cost 0 = true := by decide +kernel
theorem kJ_X4_cost {l : Launch} (ht : l.stackTraces = false) {w : gW} {i0 : Nat} {Q : Int32 → gW → Prop} (hw : wJ_X4_cost E i0 Q w) : gMet l yX4_cost (ws_ yX4_cost cX4_cost 1 (some .int)) E w [.ref i0] 0 0 (gI Q) (gNoX) :=
  g_ofW ht (by decide) (Nat.le_of_ble_eq_true rfl) (fun p e s m below meth c ls H C hl hS => kJ_X4_cost_r C _ _ _ _ _ hS hl hw)
def wJ_X4_teller (E : gE) (i0 : Nat) (Q : Int32 → gW → Prop) (w : gW) : Prop :=
  aI E i0 3 2 (fun v1 => Q v1 w) w
theorem kJ_X4_teller_r (C : gC p l s m args meth c cX4_teller 1 (some .int) RX4 E [] "teller") (i0 : Nat) {Q : Int32 → gW → Prop} (w : gW) (H : Heap) (locs : List Loc) (ls : Array Slot) (hS : gS E w0 w H locs) (hl : lv_has ls 1 [(0, .ref i0)]) (hw : wJ_X4_teller E i0 Q w) : gGo p l e s m args below meth c H locs 0 0 E w0 w (gI Q) (gNoX) (F0 m 0 ls []) := by
  unfold wJ_X4_teller at hw
  refine lv_aload_n C.x C.b dX4_teller_0 rfl (lv_at hl 0 rfl) ?_
  refine a_I C hS in_X4 rfl (k := 2) (ci := 3) (by decide) q232 (fun _ h9 => h9) dX4_teller_1 hw (fun v1 hw => ?_)
  exact g_iret C hS ⟨_, rfl, hw⟩ dX4_teller_4
theorem ny_X4_teller : gNm yX4_teller 0 = true := by decide +kernel
theorem kJ_X4_teller {l : Launch} (ht : l.stackTraces = false) {w : gW} {i0 : Nat} {Q : Int32 → gW → Prop} (hw : wJ_X4_teller E i0 Q w) : gMet l yX4_teller (ws_ yX4_teller cX4_teller 1 (some .int)) E w [.ref i0] 0 0 (gI Q) (gNoX) :=
  g_ofW ht (by decide) (Nat.le_of_ble_eq_true rfl) (fun p e s m below meth c ls H C hl hS => kJ_X4_teller_r C _ _ _ _ _ hS hl hw)
def wJ_X7_init (E : gE) (i0 : Nat) (Q : gW → Prop) (w : gW) : Prop :=
  aP i0 6 0 (.int 2) (fun w1 => aP i0 6 1 (.int 0) (fun w2 => Q w2) w1) w
theorem kJ_X7_init_r (C : gC p l s m args meth c cX7_init 1 none RX7 E [] "<init>") (i0 : Nat) {Q : gW → Prop} (w : gW) (H : Heap) (locs : List Loc) (ls : Array Slot) (hS : gS E w0 w H locs) (hl : lv_has ls 1 [(0, .ref i0)]) (hw : wJ_X7_init E i0 Q w) : gGo p l e s m args below meth c H locs 1 24 E w0 w (gV Q) (gNoX) (F0 m 0 ls []) := by
  unfold wJ_X7_init at hw
  refine lv_aload_n C.x C.b dX7_init_0 rfl (lv_at hl 0 rfl) ?_
  refine W.objInit C.x C.b C.ow (C.ts _ q924) (C.ts _ q115) (C.ts _ q116) rfl (by rw [C.ml]; exact hl.1) rfl dX7_init_1 (Nat.le_of_ble_eq_true rfl) (Nat.le_of_ble_eq_true rfl) ?_
  refine W.eq (g2 := F0 m 4 ls []) rfl ?_
  refine lv_aload_n C.x C.b dX7_init_4 rfl (lv_at hl 0 rfl) ?_
  refine lv_iconst (v := 2) C.x C.b dX7_init_5 (by decide) ?_
  refine a_P C hS in_X7 tyX7 tyX7_ok nmX7 rfl (k := 0) (ci := 6) (by decide) q925 (fun _ h9 => h9) rfl rfl rfl dX7_init_6 hw (fun w1 H locs hw hS => ?_)
  refine lv_aload_n C.x C.b dX7_init_9 rfl (lv_at hl 0 rfl) ?_
  refine lv_iconst (v := 0) C.x C.b dX7_init_10 (by decide) ?_
  refine a_P C hS in_X7 tyX7 tyX7_ok nmX7 rfl (k := 1) (ci := 6) (by decide) q926 (fun _ h9 => h9) rfl rfl rfl dX7_init_11 hw (fun w2 H locs hw hS => ?_)
  exact g_vret C hS ⟨rfl, hw⟩ dX7_init_14
theorem ny_X7_init : gNm yX7_init 0 = true := by decide +kernel
theorem kJ_X7_init {l : Launch} (ht : l.stackTraces = false) {w : gW} {i0 : Nat} {Q : gW → Prop} (hw : wJ_X7_init E i0 Q w) : gMet l yX7_init (ws_ yX7_init cX7_init 1 none) E w [.ref i0] 1 24 (gV Q) (gNoX) :=
  g_ofW ht (by decide) (Nat.le_of_ble_eq_true rfl) (fun p e s m below meth c ls H C hl hS => kJ_X7_init_r C _ _ _ _ _ hS hl hw)
def wJ_X7_enter (E : gE) (i0 : Nat) (i1 : Int32) (i2 : Int32) (Q : gW → Prop) (w : gW) : Prop :=
  aP i0 6 1 (.int i1) (fun w1 => aP i0 6 2 (.int i2) (fun w2 => Q w2) w1) w
theorem kJ_X7_enter_r (C : gC p l s m args meth c cX7_enter 3 none RX7 E [] "enter") (i0 : Nat) (i1 : Int32) (i2 : Int32) {Q : gW → Prop} (w : gW) (H : Heap) (locs : List Loc) (ls : Array Slot) (hS : gS E w0 w H locs) (hl : lv_has ls 3 [(0, .ref i0), (1, .int i1), (2, .int i2)]) (hw : wJ_X7_enter E i0 i1 i2 Q w) : gGo p l e s m args below meth c H locs 0 0 E w0 w (gV Q) (gNoX) (F0 m 0 ls []) := by
  unfold wJ_X7_enter at hw
  refine lv_aload_n C.x C.b dX7_enter_0 rfl (lv_at hl 0 rfl) ?_
  refine lv_iload_n C.x C.b dX7_enter_1 rfl (lv_at hl 1 rfl) ?_
  refine a_P C hS in_X7 tyX7 tyX7_ok nmX7 rfl (k := 1) (ci := 6) (by decide) q926 (fun _ h9 => h9) rfl rfl rfl dX7_enter_2 hw (fun w1 H locs hw hS => ?_)
  refine lv_aload_n C.x C.b dX7_enter_5 rfl (lv_at hl 0 rfl) ?_
  refine lv_iload_n C.x C.b dX7_enter_6 rfl (lv_at hl 2 rfl) ?_
  refine a_P C hS in_X7 tyX7 tyX7_ok nmX7 rfl (k := 2) (ci := 6) (by decide) q928 (fun _ h9 => h9) rfl rfl rfl dX7_enter_7 hw (fun w2 H locs hw hS => ?_)
  exact g_vret C hS ⟨rfl, hw⟩ dX7_enter_10
theorem ny_X7_enter : gNm yX7_enter 2 = true := by decide +kernel
theorem kJ_X7_enter {l : Launch} (ht : l.stackTraces = false) {w : gW} {i0 : Nat} {i1 : Int32} {i2 : Int32} {Q : gW → Prop} (hw : wJ_X7_enter E i0 i1 i2 Q w) : gMet l yX7_enter (ws_ yX7_enter cX7_enter 3 none) E w [.ref i0, .int i1, .int i2] 0 0 (gV Q) (gNoX) :=
  g_ofW ht (by decide) (Nat.le_of_ble_eq_true rfl) (fun p e s m below meth c ls H C hl hS => kJ_X7_enter_r C _ _ _ _ _ _ _ hS hl hw)
def wJ_X7_take (E : gE) (i0 : Nat) (i1 : Nat) (Q : gW → Prop) (w : gW) : Prop :=
  aI E i1 6 0 (fun v1 => aP i0 6 0 (.int v1) (fun w2 => aI E i1 6 1 (fun v3 => aP i0 6 1 (.int v3) (fun w4 => aI E i1 6 2 (fun v5 => aP i0 6 2 (.int v5) (fun w6 => Q w6) w4) w4) w2) w2) w) w
theorem kJ_X7_take_r (C : gC p l s m args meth c cX7_take 2 none RX7 E [] "take") (i0 : Nat) (i1 : Nat) {Q : gW → Prop} (w : gW) (H : Heap) (locs : List Loc) (ls : Array Slot) (hS : gS E w0 w H locs) (hl : lv_has ls 2 [(0, .ref i0), (1, .ref i1)]) (hw : wJ_X7_take E i0 i1 Q w) : gGo p l e s m args below meth c H locs 0 0 E w0 w (gV Q) (gNoX) (F0 m 0 ls []) := by
  unfold wJ_X7_take at hw
  refine lv_aload_n C.x C.b dX7_take_0 rfl (lv_at hl 0 rfl) ?_
  refine lv_aload_n C.x C.b dX7_take_1 rfl (lv_at hl 1 rfl) ?_
  refine a_I C hS in_X7 rfl (k := 0) (ci := 6) (by decide) q925 (fun _ h9 => h9) dX7_take_2 hw (fun v1 hw => ?_)
  refine a_P C hS in_X7 tyX7 tyX7_ok nmX7 rfl (k := 0) (ci := 6) (by decide) q925 (fun _ h9 => h9) rfl rfl rfl dX7_take_5 hw (fun w2 H locs hw hS => ?_)
  refine lv_aload_n C.x C.b dX7_take_8 rfl (lv_at hl 0 rfl) ?_
  refine lv_aload_n C.x C.b dX7_take_9 rfl (lv_at hl 1 rfl) ?_
  refine a_I C hS in_X7 rfl (k := 1) (ci := 6) (by decide) q926 (fun _ h9 => h9) dX7_take_10 hw (fun v3 hw => ?_)
  refine a_P C hS in_X7 tyX7 tyX7_ok nmX7 rfl (k := 1) (ci := 6) (by decide) q926 (fun _ h9 => h9) rfl rfl rfl dX7_take_13 hw (fun w4 H locs hw hS => ?_)
  refine lv_aload_n C.x C.b dX7_take_16 rfl (lv_at hl 0 rfl) ?_
  refine lv_aload_n C.x C.b dX7_take_17 rfl (lv_at hl 1 rfl) ?_
  refine a_I C hS in_X7 rfl (k := 2) (ci := 6) (by decide) q928 (fun _ h9 => h9) dX7_take_18 hw (fun v5 hw => ?_)
  refine a_P C hS in_X7 tyX7 tyX7_ok nmX7 rfl (k := 2) (ci := 6) (by decide) q928 (fun _ h9 => h9) rfl rfl rfl dX7_take_21 hw (fun w6 H locs hw hS => ?_)
  exact g_vret C hS ⟨rfl, hw⟩ dX7_take_24
theorem ny_X7_take : gNm yX7_take 1 = true := by decide +kernel
theorem kJ_X7_take {l : Launch} (ht : l.stackTraces = false) {w : gW} {i0 : Nat} {i1 : Nat} {Q : gW → Prop} (hw : wJ_X7_take E i0 i1 Q w) : gMet l yX7_take (ws_ yX7_take cX7_take 2 none) E w [.ref i0, .ref i1] 0 0 (gV Q) (gNoX) :=
  g_ofW ht (by decide) (Nat.le_of_ble_eq_true rfl) (fun p e s m below meth c ls H C hl hS => kJ_X7_take_r C _ _ _ _ _ _ hS hl hw)
def wJ_X7_goOn_114 (E : gE) (Q : Int32 → gW → Prop) (y0 : Int32) (y1 : Int32) (w : gW) : Prop :=
  (y1 = y0 → (Q 0 w)) ∧ (¬ y1 = y0 → (Q 1 w))
theorem kJ_X7_goOn_114 (C : gC p l s m args meth c cX7_goOn 4 (some .boolean) RX7 E [] "goOn") {Q : Int32 → gW → Prop} (y0 : Int32) (y1 : Int32) (w : gW) (H : Heap) (locs : List Loc) (ls : Array Slot) (hS : gS E w0 w H locs) (hl : lv_has ls 4 []) (hw : wJ_X7_goOn_114 E Q y0 y1 w) : gGo p l e s m args below meth c H locs 1 22 E w0 w (gI Q) (gNoX) (F0 m 114 ls [.int y0, .int y1]) := by
  unfold wJ_X7_goOn_114 at hw
  refine lv_icmp_eq (tgt := 121) C.x C.b dX7_goOn_114 (by decide) (fun c22 => ?_) (fun c22 => ?_)
  · have hw := hw.1 c22
    refine lv_iconst (v := 0) C.x C.b dX7_goOn_121 (by decide) ?_
    exact g_zret C hS rfl ⟨_, rfl, hw⟩ dX7_goOn_122
  · have hw := hw.2 c22
    refine lv_iconst (v := 1) C.x C.b dX7_goOn_117 (by decide) ?_
    refine lv_goto (tgt := 122) C.x C.b dX7_goOn_118 (by decide) ?_
    exact g_zret C hS rfl ⟨_, rfl, hw⟩ dX7_goOn_122
def wJ_X7_goOn_100 (E : gE) (Q : Int32 → gW → Prop) (x0 : Nat) (x3 : Int32) (w : gW) : Prop :=
  aI E x0 6 1 (fun v19 => (v19 = 3 → (wJ_X7_goOn_114 E Q 1 x3 w)) ∧ (¬ v19 = 3 → (wJ_X7_goOn_114 E Q 0 x3 w))) w
theorem kJ_X7_goOn_100 (C : gC p l s m args meth c cX7_goOn 4 (some .boolean) RX7 E [] "goOn") {Q : Int32 → gW → Prop} (x0 : Nat) (x3 : Int32) (w : gW) (H : Heap) (locs : List Loc) (ls : Array Slot) (hS : gS E w0 w H locs) (hl : lv_has ls 4 [(0, .ref x0), (3, .int x3)]) (hw : wJ_X7_goOn_100 E Q x0 x3 w) : gGo p l e s m args below meth c H locs 1 22 E w0 w (gI Q) (gNoX) (F0 m 100 ls []) := by
  unfold wJ_X7_goOn_100 at hw
  refine lv_iload_n C.x C.b dX7_goOn_100 rfl (lv_at hl 1 rfl) ?_
  refine lv_aload_n C.x C.b dX7_goOn_101 rfl (lv_at hl 0 rfl) ?_
  refine a_I C hS in_X7 rfl (k := 1) (ci := 6) (by decide) q926 (fun _ h9 => h9) dX7_goOn_102 hw (fun v19 hw => ?_)
  refine lv_iconst (v := 3) C.x C.b dX7_goOn_105 (by decide) ?_
  refine lv_icmp_ne (tgt := 113) C.x C.b dX7_goOn_106 (by decide) (fun c20 => ?_) (fun c20 => ?_)
  · have hw := hw.2 c20
    refine lv_iconst (v := 0) C.x C.b dX7_goOn_113 (by decide) ?_
    exact kJ_X7_goOn_114 C _ _ _ _ _ _ hS (lv_sub hl [] rfl) hw
  · have hw := hw.1 c20
    refine lv_iconst (v := 1) C.x C.b dX7_goOn_109 (by decide) ?_
    refine lv_goto (tgt := 114) C.x C.b dX7_goOn_110 (by decide) ?_
    exact kJ_X7_goOn_114 C _ _ _ _ _ _ hS (lv_sub hl [] rfl) hw
def wJ_X7_goOn_97 (E : gE) (Q : Int32 → gW → Prop) (x0 : Nat) (x3 : Int32) (y0 : Int32) (y1 : Int32) (y2 : Nat) (w : gW) : Prop :=
  aKind E y2 6 (wJ_X7_enter E y2 y1 y0 (fun w21 => wJ_X7_goOn_100 E Q x0 x3 w21) w) w
theorem kJ_X7_goOn_97 (C : gC p l s m args meth c cX7_goOn 4 (some .boolean) RX7 E [] "goOn") {Q : Int32 → gW → Prop} (x0 : Nat) (x3 : Int32) (y0 : Int32) (y1 : Int32) (y2 : Nat) (w : gW) (H : Heap) (locs : List Loc) (ls : Array Slot) (hS : gS E w0 w H locs) (hl : lv_has ls 4 [(0, .ref x0), (3, .int x3)]) (hw : wJ_X7_goOn_97 E Q x0 x3 y0 y1 y2 w) : gGo p l e s m args below meth c H locs 1 22 E w0 w (gI Q) (gNoX) (F0 m 97 ls [.int y0, .int y1, .ref y2]) := by
  unfold wJ_X7_goOn_97 at hw
  obtain ⟨fs, hq, hw⟩ := hw
  refine a_callV (rest := []) C hS hl 6 hq rfl (kJ_X7_enter C.tr hw) q1142 q1144 qs14 q96 q1145 ny_X7_enter rfl (Nat.le_of_ble_eq_true rfl) (Nat.le_of_ble_eq_true rfl) rfl (Nat.le_of_ble_eq_true rfl) dX7_goOn_97 (fun X1 w1 H1 l1 q1 ce hx => hx.elim) (fun v w21 H locs hq _ hS => ?_)
  obtain ⟨rfl, hw⟩ := hq
  refine W.eq (g2 := F0 m 100 ls []) rfl ?_
  exact kJ_X7_goOn_100 C _ _ _ _ _ _ hS (lv_sub hl [0, 1] rfl) hw
def wJ_X7_goOn_13 (E : gE) (Q : Int32 → gW → Prop) (x0 : Nat) (x1 : Int32) (x2 : Int32) (y0 : Int32) (w : gW) : Prop :=
  aP x0 6 0 (.int x1) (fun w3 => aI E x0 6 0 (fun v4 => (v4 = 2 → (aKind E x0 6 (wJ_X7_enter E x0 0 0 (fun w18 => wJ_X7_goOn_100 E Q x0 y0 w18) w3) w3)) ∧ (¬ v4 = 2 → (aI E x0 6 1 (fun v6 => (v6 = 0 → (aKind E x0 6 (wJ_X7_enter E x0 1 x2 (fun w17 => wJ_X7_goOn_100 E Q x0 y0 w17) w3) w3)) ∧ (¬ v6 = 0 → (aI E x0 6 1 (fun v8 => (v8 = 3 → (wJ_X7_goOn_100 E Q x0 y0 w3)) ∧ (¬ v8 = 3 → (aI E x0 6 2 (fun v10 => aP x0 6 2 (.int (v10 - 1)) (fun w11 => aI E x0 6 2 (fun v12 => (v12 = 0 → (aI E x0 6 1 (fun v14 => aI E x0 6 1 (fun v15 => (v15 = 1 → (wJ_X7_goOn_97 E Q x0 y0 x2 (v14 + 1) x0 w11)) ∧ (¬ v15 = 1 → (wJ_X7_goOn_97 E Q x0 y0 0 (v14 + 1) x0 w11))) w11) w11)) ∧ (¬ v12 = 0 → (wJ_X7_goOn_100 E Q x0 y0 w11))) w11) w3) w3))) w3))) w3))) w3) w
theorem kJ_X7_goOn_13 (C : gC p l s m args meth c cX7_goOn 4 (some .boolean) RX7 E [] "goOn") {Q : Int32 → gW → Prop} (x0 : Nat) (x1 : Int32) (x2 : Int32) (y0 : Int32) (w : gW) (H : Heap) (locs : List Loc) (ls : Array Slot) (hS : gS E w0 w H locs) (hl : lv_has ls 4 [(0, .ref x0), (1, .int x1), (2, .int x2)]) (hw : wJ_X7_goOn_13 E Q x0 x1 x2 y0 w) : gGo p l e s m args below meth c H locs 1 22 E w0 w (gI Q) (gNoX) (F0 m 13 ls [.int y0]) := by
  unfold wJ_X7_goOn_13 at hw
  refine lv_istore_n (lv' := [(3, .int y0), (0, .ref x0), (1, .int x1), (2, .int x2)]) C.x C.b dX7_goOn_13 rfl hl (by decide) rfl (fun ls hl => ?_)
  refine lv_aload_n C.x C.b dX7_goOn_14 rfl (lv_at hl 1 rfl) ?_
  refine lv_iload_n C.x C.b dX7_goOn_15 rfl (lv_at hl 2 rfl) ?_
  refine a_P C hS in_X7 tyX7 tyX7_ok nmX7 rfl (k := 0) (ci := 6) (by decide) q925 (fun _ h9 => h9) rfl rfl rfl dX7_goOn_16 hw (fun w3 H locs hw hS => ?_)
  refine lv_aload_n C.x C.b dX7_goOn_19 rfl (lv_at hl 1 rfl) ?_
  refine a_I C hS in_X7 rfl (k := 0) (ci := 6) (by decide) q925 (fun _ h9 => h9) dX7_goOn_20 hw (fun v4 hw => ?_)
  refine lv_iconst (v := 2) C.x C.b dX7_goOn_23 (by decide) ?_
  refine lv_icmp_ne (tgt := 36) C.x C.b dX7_goOn_24 (by decide) (fun c5 => ?_) (fun c5 => ?_)
  · have hw := hw.2 c5
    refine lv_aload_n C.x C.b dX7_goOn_36 rfl (lv_at hl 1 rfl) ?_
    refine a_I C hS in_X7 rfl (k := 1) (ci := 6) (by decide) q926 (fun _ h9 => h9) dX7_goOn_37 hw (fun v6 hw => ?_)
    refine lv_if_ne (tgt := 52) C.x C.b dX7_goOn_40 (by decide) (fun c7 => ?_) (fun c7 => ?_)
    · have hw := hw.2 c7
      refine lv_aload_n C.x C.b dX7_goOn_52 rfl (lv_at hl 1 rfl) ?_
      refine a_I C hS in_X7 rfl (k := 1) (ci := 6) (by decide) q926 (fun _ h9 => h9) dX7_goOn_53 hw (fun v8 hw => ?_)
      refine lv_iconst (v := 3) C.x C.b dX7_goOn_56 (by decide) ?_
      refine lv_icmp_eq (tgt := 100) C.x C.b dX7_goOn_57 (by decide) (fun c9 => ?_) (fun c9 => ?_)
      · have hw := hw.1 c9
        exact kJ_X7_goOn_100 C _ _ _ _ _ _ hS (lv_sub hl [1, 0] rfl) hw
      · have hw := hw.2 c9
        refine lv_aload_n C.x C.b dX7_goOn_60 rfl (lv_at hl 1 rfl) ?_
        refine lv_dup C.x C.b dX7_goOn_61 rfl ?_
        refine a_I C hS in_X7 rfl (k := 2) (ci := 6) (by decide) q928 (fun _ h9 => h9) dX7_goOn_62 hw (fun v10 hw => ?_)
        refine lv_iconst (v := 1) C.x C.b dX7_goOn_65 (by decide) ?_
        refine lv_isub C.x C.b dX7_goOn_66 ?_
        refine a_P C hS in_X7 tyX7 tyX7_ok nmX7 rfl (k := 2) (ci := 6) (by decide) q928 (fun _ h9 => h9) rfl rfl rfl dX7_goOn_67 hw (fun w11 H locs hw hS => ?_)
        refine lv_aload_n C.x C.b dX7_goOn_70 rfl (lv_at hl 1 rfl) ?_
        refine a_I C hS in_X7 rfl (k := 2) (ci := 6) (by decide) q928 (fun _ h9 => h9) dX7_goOn_71 hw (fun v12 hw => ?_)
        refine lv_if_ne (tgt := 100) C.x C.b dX7_goOn_74 (by decide) (fun c13 => ?_) (fun c13 => ?_)
        · have hw := hw.2 c13
          exact kJ_X7_goOn_100 C _ _ _ _ _ _ hS (lv_sub hl [1, 0] rfl) hw
        · have hw := hw.1 c13
          refine lv_aload_n C.x C.b dX7_goOn_77 rfl (lv_at hl 1 rfl) ?_
          refine lv_aload_n C.x C.b dX7_goOn_78 rfl (lv_at hl 1 rfl) ?_
          refine a_I C hS in_X7 rfl (k := 1) (ci := 6) (by decide) q926 (fun _ h9 => h9) dX7_goOn_79 hw (fun v14 hw => ?_)
          refine lv_iconst (v := 1) C.x C.b dX7_goOn_82 (by decide) ?_
          refine lv_iadd C.x C.b dX7_goOn_83 ?_
          refine lv_aload_n C.x C.b dX7_goOn_84 rfl (lv_at hl 1 rfl) ?_
          refine a_I C hS in_X7 rfl (k := 1) (ci := 6) (by decide) q926 (fun _ h9 => h9) dX7_goOn_85 hw (fun v15 hw => ?_)
          refine lv_iconst (v := 1) C.x C.b dX7_goOn_88 (by decide) ?_
          refine lv_icmp_ne (tgt := 96) C.x C.b dX7_goOn_89 (by decide) (fun c16 => ?_) (fun c16 => ?_)
          · have hw := hw.2 c16
            refine lv_iconst (v := 0) C.x C.b dX7_goOn_96 (by decide) ?_
            exact kJ_X7_goOn_97 C _ _ _ _ _ _ _ _ _ hS (lv_sub hl [1, 0] rfl) hw
          · have hw := hw.1 c16
            refine lv_iload_n C.x C.b dX7_goOn_92 rfl (lv_at hl 3 rfl) ?_
            refine lv_goto (tgt := 97) C.x C.b dX7_goOn_93 (by decide) ?_
            exact kJ_X7_goOn_97 C _ _ _ _ _ _ _ _ _ hS (lv_sub hl [1, 0] rfl) hw
    · have hw := hw.1 c7
      refine lv_aload_n C.x C.b dX7_goOn_43 rfl (lv_at hl 1 rfl) ?_
      refine lv_iconst (v := 1) C.x C.b dX7_goOn_44 (by decide) ?_
      refine lv_iload_n C.x C.b dX7_goOn_45 rfl (lv_at hl 3 rfl) ?_
      obtain ⟨fs, hq, hw⟩ := hw
      refine a_callV (rest := []) C hS hl 6 hq rfl (kJ_X7_enter C.tr hw) q1142 q1144 qs14 q96 q1145 ny_X7_enter rfl (Nat.le_of_ble_eq_true rfl) (Nat.le_of_ble_eq_true rfl) rfl (Nat.le_of_ble_eq_true rfl) dX7_goOn_46 (fun X1 w1 H1 l1 q1 ce hx => hx.elim) (fun v w17 H locs hq _ hS => ?_)
      obtain ⟨rfl, hw⟩ := hq
      refine W.eq (g2 := F0 m 49 ls []) rfl ?_
      refine lv_goto (tgt := 100) C.x C.b dX7_goOn_49 (by decide) ?_
      exact kJ_X7_goOn_100 C _ _ _ _ _ _ hS (lv_sub hl [1, 0] rfl) hw
  · have hw := hw.1 c5
    refine lv_aload_n C.x C.b dX7_goOn_27 rfl (lv_at hl 1 rfl) ?_
    refine lv_iconst (v := 0) C.x C.b dX7_goOn_28 (by decide) ?_
    refine lv_iconst (v := 0) C.x C.b dX7_goOn_29 (by decide) ?_
    obtain ⟨fs, hq, hw⟩ := hw
    refine a_callV (rest := []) C hS hl 6 hq rfl (kJ_X7_enter C.tr hw) q1142 q1144 qs14 q96 q1145 ny_X7_enter rfl (Nat.le_of_ble_eq_true rfl) (Nat.le_of_ble_eq_true rfl) rfl (Nat.le_of_ble_eq_true rfl) dX7_goOn_30 (fun X1 w1 H1 l1 q1 ce hx => hx.elim) (fun v w18 H locs hq _ hS => ?_)
    obtain ⟨rfl, hw⟩ := hq
    refine W.eq (g2 := F0 m 33 ls []) rfl ?_
    refine lv_goto (tgt := 100) C.x C.b dX7_goOn_33 (by decide) ?_
    exact kJ_X7_goOn_100 C _ _ _ _ _ _ hS (lv_sub hl [1, 0] rfl) hw
def wJ_X7_goOn (E : gE) (i0 : Nat) (i1 : Int32) (i2 : Int32) (Q : Int32 → gW → Prop) (w : gW) : Prop :=
  aI E i0 6 1 (fun v1 => (v1 = 3 → (wJ_X7_goOn_13 E Q i0 i1 i2 1 w)) ∧ (¬ v1 = 3 → (wJ_X7_goOn_13 E Q i0 i1 i2 0 w))) w
theorem kJ_X7_goOn_r (C : gC p l s m args meth c cX7_goOn 4 (some .boolean) RX7 E [] "goOn") (i0 : Nat) (i1 : Int32) (i2 : Int32) {Q : Int32 → gW → Prop} (w : gW) (H : Heap) (locs : List Loc) (ls : Array Slot) (hS : gS E w0 w H locs) (hl : lv_has ls 4 [(0, .ref i0), (1, .int i1), (2, .int i2)]) (hw : wJ_X7_goOn E i0 i1 i2 Q w) : gGo p l e s m args below meth c H locs 1 22 E w0 w (gI Q) (gNoX) (F0 m 0 ls []) := by
  unfold wJ_X7_goOn at hw
  refine lv_aload_n C.x C.b dX7_goOn_0 rfl (lv_at hl 0 rfl) ?_
  refine a_I C hS in_X7 rfl (k := 1) (ci := 6) (by decide) q926 (fun _ h9 => h9) dX7_goOn_1 hw (fun v1 hw => ?_)
  refine lv_iconst (v := 3) C.x C.b dX7_goOn_4 (by decide) ?_
  refine lv_icmp_ne (tgt := 12) C.x C.b dX7_goOn_5 (by decide) (fun c2 => ?_) (fun c2 => ?_)
  · have hw := hw.2 c2
    refine lv_iconst (v := 0) C.x C.b dX7_goOn_12 (by decide) ?_
    exact kJ_X7_goOn_13 C _ _ _ _ _ _ _ _ hS (lv_sub hl [0, 1, 2] rfl) hw
  · have hw := hw.1 c2
    refine lv_iconst (v := 1) C.x C.b dX7_goOn_8 (by decide) ?_
    refine lv_goto (tgt := 13) C.x C.b dX7_goOn_9 (by decide) ?_
    exact kJ_X7_goOn_13 C _ _ _ _ _ _ _ _ hS (lv_sub hl [0, 1, 2] rfl) hw
theorem ny_X7_goOn : gNm yX7_goOn 2 = true := by decide +kernel
theorem kJ_X7_goOn {l : Launch} (ht : l.stackTraces = false) {w : gW} {i0 : Nat} {i1 : Int32} {i2 : Int32} {Q : Int32 → gW → Prop} (hw : wJ_X7_goOn E i0 i1 i2 Q w) : gMet l yX7_goOn (ws_ yX7_goOn cX7_goOn 4 (some .boolean)) E w [.ref i0, .int i1, .int i2] 1 22 (gI Q) (gNoX) :=
  g_ofW ht (by decide) (Nat.le_of_ble_eq_true rfl) (fun p e s m below meth c ls H C hl hS => kJ_X7_goOn_r C _ _ _ _ _ _ _ hS hl hw)
def wJ_X7_value (E : gE) (i0 : Nat) (i1 : Int32) (Q : Int32 → gW → Prop) (w : gW) : Prop :=
  (i1 = 0 → (aI E i0 6 0 (fun v5 => Q v5 w) w)) ∧ (¬ i1 = 0 → ((i1 = 1 → (aI E i0 6 1 (fun v4 => Q v4 w) w)) ∧ (¬ i1 = 1 → (aI E i0 6 2 (fun v3 => Q v3 w) w))))
theorem kJ_X7_value_r (C : gC p l s m args meth c cX7_value 2 (some .int) RX7 E [] "value") (i0 : Nat) (i1 : Int32) {Q : Int32 → gW → Prop} (w : gW) (H : Heap) (locs : List Loc) (ls : Array Slot) (hS : gS E w0 w H locs) (hl : lv_has ls 2 [(0, .ref i0), (1, .int i1)]) (hw : wJ_X7_value E i0 i1 Q w) : gGo p l e s m args below meth c H locs 0 0 E w0 w (gI Q) (gNoX) (F0 m 0 ls []) := by
  unfold wJ_X7_value at hw
  refine lv_iload_n C.x C.b dX7_value_0 rfl (lv_at hl 1 rfl) ?_
  refine lv_if_ne (tgt := 11) C.x C.b dX7_value_1 (by decide) (fun c1 => ?_) (fun c1 => ?_)
  · have hw := hw.2 c1
    refine lv_iload_n C.x C.b dX7_value_11 rfl (lv_at hl 1 rfl) ?_
    refine lv_iconst (v := 1) C.x C.b dX7_value_12 (by decide) ?_
    refine lv_icmp_ne (tgt := 23) C.x C.b dX7_value_13 (by decide) (fun c2 => ?_) (fun c2 => ?_)
    · have hw := hw.2 c2
      refine lv_aload_n C.x C.b dX7_value_23 rfl (lv_at hl 0 rfl) ?_
      refine a_I C hS in_X7 rfl (k := 2) (ci := 6) (by decide) q928 (fun _ h9 => h9) dX7_value_24 hw (fun v3 hw => ?_)
      exact g_iret C hS ⟨_, rfl, hw⟩ dX7_value_27
    · have hw := hw.1 c2
      refine lv_aload_n C.x C.b dX7_value_16 rfl (lv_at hl 0 rfl) ?_
      refine a_I C hS in_X7 rfl (k := 1) (ci := 6) (by decide) q926 (fun _ h9 => h9) dX7_value_17 hw (fun v4 hw => ?_)
      refine lv_goto (tgt := 27) C.x C.b dX7_value_20 (by decide) ?_
      exact g_iret C hS ⟨_, rfl, hw⟩ dX7_value_27
  · have hw := hw.1 c1
    refine lv_aload_n C.x C.b dX7_value_4 rfl (lv_at hl 0 rfl) ?_
    refine a_I C hS in_X7 rfl (k := 0) (ci := 6) (by decide) q925 (fun _ h9 => h9) dX7_value_5 hw (fun v5 hw => ?_)
    refine lv_goto (tgt := 27) C.x C.b dX7_value_8 (by decide) ?_
    exact g_iret C hS ⟨_, rfl, hw⟩ dX7_value_27
theorem ny_X7_value : gNm yX7_value 1 = true := by decide +kernel
theorem kJ_X7_value {l : Launch} (ht : l.stackTraces = false) {w : gW} {i0 : Nat} {i1 : Int32} {Q : Int32 → gW → Prop} (hw : wJ_X7_value E i0 i1 Q w) : gMet l yX7_value (ws_ yX7_value cX7_value 2 (some .int)) E w [.ref i0, .int i1] 0 0 (gI Q) (gNoX) :=
  g_ofW ht (by decide) (Nat.le_of_ble_eq_true rfl) (fun p e s m below meth c ls H C hl hS => kJ_X7_value_r C _ _ _ _ _ _ hS hl hw)
def wJ_X3_id (E : gE) (i0 : Nat) (Q : Int32 → gW → Prop) (w : gW) : Prop :=
  aI E i0 2 1 (fun v1 => aI E i0 2 0 (fun v2 => Q ((10 * v1) + v2) w) w) w
theorem kJ_X3_id_r (C : gC p l s m args meth c cX3_id 1 (some .int) RX3 E [] "id") (i0 : Nat) {Q : Int32 → gW → Prop} (w : gW) (H : Heap) (locs : List Loc) (ls : Array Slot) (hS : gS E w0 w H locs) (hl : lv_has ls 1 [(0, .ref i0)]) (hw : wJ_X3_id E i0 Q w) : gGo p l e s m args below meth c H locs 0 0 E w0 w (gI Q) (gNoX) (F0 m 0 ls []) := by
  unfold wJ_X3_id at hw
  refine lv_bipush (v := 10) C.x C.b dX3_id_0 (by decide) ?_
  refine lv_aload_n C.x C.b dX3_id_2 rfl (lv_at hl 0 rfl) ?_
  refine a_I C hS in_X3 rfl (k := 1) (ci := 2) (by decide) q259 (fun _ h9 => h9) dX3_id_3 hw (fun v1 hw => ?_)
  refine lv_imul C.x C.b dX3_id_6 ?_
  refine lv_aload_n C.x C.b dX3_id_7 rfl (lv_at hl 0 rfl) ?_
  refine a_I C hS in_X3 rfl (k := 0) (ci := 2) (by decide) q257 (fun _ h9 => h9) dX3_id_8 hw (fun v2 hw => ?_)
  refine lv_iadd C.x C.b dX3_id_11 ?_
  exact g_iret C hS ⟨_, rfl, hw⟩ dX3_id_12
theorem ny_X3_id : gNm yX3_id 0 = true := by decide +kernel
theorem kJ_X3_id {l : Launch} (ht : l.stackTraces = false) {w : gW} {i0 : Nat} {Q : Int32 → gW → Prop} (hw : wJ_X3_id E i0 Q w) : gMet l yX3_id (ws_ yX3_id cX3_id 1 (some .int)) E w [.ref i0] 0 0 (gI Q) (gNoX) :=
  g_ofW ht (by decide) (Nat.le_of_ble_eq_true rfl) (fun p e s m below meth c ls H C hl hS => kJ_X3_id_r C _ _ _ _ _ hS hl hw)
def wJ_X3_flush (E : gE) (i0 : Nat) (Q : gW → Prop) (w : gW) : Prop :=
  aR E i0 2 4 (fun r1 => ∃ a2 : Nat, r1 = some a2 ∧ (wJ_J3_fill E a2 (-1) (fun w3 => Q w3) w)) w
theorem kJ_X3_flush_r (C : gC p l s m args meth c cX3_flush 1 none RX3 E [] "flush") (i0 : Nat) {Q : gW → Prop} (w : gW) (H : Heap) (locs : List Loc) (ls : Array Slot) (hS : gS E w0 w H locs) (hl : lv_has ls 1 [(0, .ref i0)]) (hw : wJ_X3_flush E i0 Q w) : gGo p l e s m args below meth c H locs 1 23 E w0 w (gV Q) (gNoX) (F0 m 0 ls []) := by
  unfold wJ_X3_flush at hw
  refine lv_aload_n C.x C.b dX3_flush_0 rfl (lv_at hl 0 rfl) ?_
  refine a_R C hS in_X3 rfl (k := 4) (ci := 2) (by decide) q264 (fun _ h9 => h9) dX3_flush_1 hw (fun r1 hw => ?_)
  refine lv_iconst (v := (-1)) C.x C.b dX3_flush_4 (by decide) ?_
  obtain ⟨a2, e9, hw9⟩ := hw; subst e9; have hw := hw9; clear hw9
  have hl : lv_has ls 1 [(0, .ref i0)] := hl
  refine W.eq (g2 := F0 m 5 ls [.int (-1), .ref a2]) rfl ?_
  refine g_callS (rest := []) C hS hl (kJ_J3_fill C.tr hw) q254 q255 q84 q256 ny_J3_fill rfl (Nat.le_of_ble_eq_true rfl) (Nat.le_of_ble_eq_true rfl) rfl (Nat.le_of_ble_eq_true rfl) dX3_flush_5 (fun X1 w1 H1 l1 q1 ce hx => hx.elim) (fun v w3 H locs hq _ hS => ?_)
  obtain ⟨rfl, hw⟩ := hq
  refine W.eq (g2 := F0 m 8 ls []) rfl ?_
  exact g_vret C hS ⟨rfl, hw⟩ dX3_flush_8
theorem ny_X3_flush : gNm yX3_flush 0 = true := by decide +kernel
theorem kJ_X3_flush {l : Launch} (ht : l.stackTraces = false) {w : gW} {i0 : Nat} {Q : gW → Prop} (hw : wJ_X3_flush E i0 Q w) : gMet l yX3_flush (ws_ yX3_flush cX3_flush 1 none) E w [.ref i0] 1 23 (gV Q) (gNoX) :=
  g_ofW ht (by decide) (Nat.le_of_ble_eq_true rfl) (fun p e s m below meth c ls H C hl hS => kJ_X3_flush_r C _ _ _ _ _ hS hl hw)
def wJ_X3_root (E : gE) (i0 : Nat) (Q : Int32 → gW → Prop) (w : gW) : Prop :=
  aR E i0 2 2 (fun r1 => ∃ a2 : Nat, r1 = some a2 ∧ (aI E a2 3 0 (fun v3 => Q v3 w) w)) w
theorem kJ_X3_root_r (C : gC p l s m args meth c cX3_root 1 (some .int) RX3 E [] "root") (i0 : Nat) {Q : Int32 → gW → Prop} (w : gW) (H : Heap) (locs : List Loc) (ls : Array Slot) (hS : gS E w0 w H locs) (hl : lv_has ls 1 [(0, .ref i0)]) (hw : wJ_X3_root E i0 Q w) : gGo p l e s m args below meth c H locs 0 0 E w0 w (gI Q) (gNoX) (F0 m 0 ls []) := by
  unfold wJ_X3_root at hw
  refine lv_aload_n C.x C.b dX3_root_0 rfl (lv_at hl 0 rfl) ?_
  refine a_R C hS in_X3 rfl (k := 2) (ci := 2) (by decide) q261 (fun _ h9 => h9) dX3_root_1 hw (fun r1 hw => ?_)
  obtain ⟨a2, e9, hw9⟩ := hw; subst e9; have hw := hw9; clear hw9
  have hl : lv_has ls 1 [(0, .ref i0)] := hl
  refine W.eq (g2 := F0 m 4 ls [.ref a2]) rfl ?_
  refine a_IN C hS in_X4 rfl (k := 0) (ci := 3) (by decide) q227 (fun _ h9 => h9) dX3_root_4 hw (fun v3 hw => ?_)
  exact g_iret C hS ⟨_, rfl, hw⟩ dX3_root_7
theorem ny_X3_root : gNm yX3_root 0 = true := by decide +kernel
theorem kJ_X3_root {l : Launch} (ht : l.stackTraces = false) {w : gW} {i0 : Nat} {Q : Int32 → gW → Prop} (hw : wJ_X3_root E i0 Q w) : gMet l yX3_root (ws_ yX3_root cX3_root 1 (some .int)) E w [.ref i0] 0 0 (gI Q) (gNoX) :=
  g_ofW ht (by decide) (Nat.le_of_ble_eq_true rfl) (fun p e s m below meth c ls H C hl hS => kJ_X3_root_r C _ _ _ _ _ hS hl hw)
def wJ_X3_cost (E : gE) (i0 : Nat) (Q : Int32 → gW → Prop) (w : gW) : Prop :=
  aR E i0 2 2 (fun r1 => ∃ a2 : Nat, r1 = some a2 ∧ (aI E a2 3 1 (fun v3 => Q v3 w) w)) w
theorem kJ_X3_cost_r (C : gC p l s m args meth c cX3_cost 1 (some .int) RX3 E [] "cost") (i0 : Nat) {Q : Int32 → gW → Prop} (w : gW) (H : Heap) (locs : List Loc) (ls : Array Slot) (hS : gS E w0 w H locs) (hl : lv_has ls 1 [(0, .ref i0)]) (hw : wJ_X3_cost E i0 Q w) : gGo p l e s m args below meth c H locs 0 0 E w0 w (gI Q) (gNoX) (F0 m 0 ls []) := by
  unfold wJ_X3_cost at hw
  refine lv_aload_n C.x C.b dX3_cost_0 rfl (lv_at hl 0 rfl) ?_
  refine a_R C hS in_X3 rfl (k := 2) (ci := 2) (by decide) q261 (fun _ h9 => h9) dX3_cost_1 hw (fun r1 hw => ?_)
  obtain ⟨a2, e9, hw9⟩ := hw; subst e9; have hw := hw9; clear hw9
  have hl : lv_has ls 1 [(0, .ref i0)] := hl
  refine W.eq (g2 := F0 m 4 ls [.ref a2]) rfl ?_
  refine a_IN C hS in_X4 rfl (k := 1) (ci := 3) (by decide) q230 (fun _ h9 => h9) dX3_cost_4 hw (fun v3 hw => ?_)
  exact g_iret C hS ⟨_, rfl, hw⟩ dX3_cost_7
theorem ny_X3_cost : gNm yX3_cost 0 = true := by decide +kernel
theorem kJ_X3_cost {l : Launch} (ht : l.stackTraces = false) {w : gW} {i0 : Nat} {Q : Int32 → gW → Prop} (hw : wJ_X3_cost E i0 Q w) : gMet l yX3_cost (ws_ yX3_cost cX3_cost 1 (some .int)) E w [.ref i0] 0 0 (gI Q) (gNoX) :=
  g_ofW ht (by decide) (Nat.le_of_ble_eq_true rfl) (fun p e s m below meth c ls H C hl hS => kJ_X3_cost_r C _ _ _ _ _ hS hl hw)
def wJ_X3_teller (E : gE) (i0 : Nat) (Q : Int32 → gW → Prop) (w : gW) : Prop :=
  aKind E i0 2 (wJ_X3_id E i0 (fun r2 w1 => Q r2 w1) w) w
theorem kJ_X3_teller_r (C : gC p l s m args meth c cX3_teller 1 (some .int) RX3 E [] "teller") (i0 : Nat) {Q : Int32 → gW → Prop} (w : gW) (H : Heap) (locs : List Loc) (ls : Array Slot) (hS : gS E w0 w H locs) (hl : lv_has ls 1 [(0, .ref i0)]) (hw : wJ_X3_teller E i0 Q w) : gGo p l e s m args below meth c H locs 1 20 E w0 w (gI Q) (gNoX) (F0 m 0 ls []) := by
  unfold wJ_X3_teller at hw
  refine lv_aload_n C.x C.b dX3_teller_0 rfl (lv_at hl 0 rfl) ?_
  obtain ⟨fs, hq, hw⟩ := hw
  refine a_callV (rest := []) C hS hl 2 hq rfl (kJ_X3_id C.tr hw) q213 q214 q215 q82 q216 ny_X3_id rfl (Nat.le_of_ble_eq_true rfl) (Nat.le_of_ble_eq_true rfl) rfl (Nat.le_of_ble_eq_true rfl) dX3_teller_1 (fun X1 w1 H1 l1 q1 ce hx => hx.elim) (fun v w1 H locs hq _ hS => ?_)
  obtain ⟨r2, rfl, hw⟩ := hq
  refine W.eq (g2 := F0 m 4 ls [.int r2]) rfl ?_
  exact g_iret C hS ⟨_, rfl, hw⟩ dX3_teller_4
theorem ny_X3_teller : gNm yX3_teller 0 = true := by decide +kernel
theorem kJ_X3_teller {l : Launch} (ht : l.stackTraces = false) {w : gW} {i0 : Nat} {Q : Int32 → gW → Prop} (hw : wJ_X3_teller E i0 Q w) : gMet l yX3_teller (ws_ yX3_teller cX3_teller 1 (some .int)) E w [.ref i0] 1 20 (gI Q) (gNoX) :=
  g_ofW ht (by decide) (Nat.le_of_ble_eq_true rfl) (fun p e s m below meth c ls H C hl hS => kJ_X3_teller_r C _ _ _ _ _ hS hl hw)
def wJ_X3_init (E : gE) (i0 : Nat) (i1 : Int32) (Q : gW → Prop) (w : gW) : Prop :=
  aP i0 2 1 (.int 5) (fun w1 => aA E 0 8 (fun q2 w3 => aP i0 2 4 (.ref q2) (fun w4 => aA E 0 8 (fun q5 w6 => aP i0 2 5 (.ref q5) (fun w7 => aP i0 2 0 (.int i1) (fun w8 => aKind E i0 2 (wJ_X3_id E i0 (fun r10 w9 => wJ_X4_own E r10 (fun r12 w11 => aP i0 2 2 (va_rf r12) (fun w13 => aKind E i0 2 (wJ_X3_flush E i0 (fun w14 => Q w14) w13) w13) w11) w9) w8) w8) w7) w6) w4) w3) w1) w
theorem kJ_X3_init_r (C : gC p l s m args meth c cX3_init 2 none RX3 E [] "<init>") (i0 : Nat) (i1 : Int32) {Q : gW → Prop} (w : gW) (H : Heap) (locs : List Loc) (ls : Array Slot) (hS : gS E w0 w H locs) (hl : lv_has ls 2 [(0, .ref i0), (1, .int i1)]) (hw : wJ_X3_init E i0 i1 Q w) : gGo p l e s m args below meth c H locs 3 69 E w0 w (gV Q) (gNoX) (F0 m 0 ls []) := by
  unfold wJ_X3_init at hw
  refine lv_aload_n C.x C.b dX3_init_0 rfl (lv_at hl 0 rfl) ?_
  refine W.objInit C.x C.b C.ow (C.ts _ q212) (C.ts _ q115) (C.ts _ q116) rfl (by rw [C.ml]; exact hl.1) rfl dX3_init_1 (Nat.le_of_ble_eq_true rfl) (Nat.le_of_ble_eq_true rfl) ?_
  refine W.eq (g2 := F0 m 4 ls []) rfl ?_
  refine lv_aload_n C.x C.b dX3_init_4 rfl (lv_at hl 0 rfl) ?_
  refine lv_iconst (v := 5) C.x C.b dX3_init_5 (by decide) ?_
  refine a_P C hS in_X3 tyX3 tyX3_ok nmX3 rfl (k := 1) (ci := 2) (by decide) q259 (fun _ h9 => h9) rfl rfl rfl dX3_init_6 hw (fun w1 H locs hw hS => ?_)
  refine lv_aload_n C.x C.b dX3_init_9 rfl (lv_at hl 0 rfl) ?_
  refine lv_bipush (v := 8) C.x C.b dX3_init_10 (by decide) ?_
  refine a_A (t := 0) (atype := .int) C hS rfl (by decide) q206 dX3_init_12 hw (fun q2 w3 H hw hS => ?_)
  refine a_PF C hS in_X3 tyX3 tyX3_ok nmX3 rfl (k := 4) (ci := 2) (by decide) q264 (fun _ h9 => h9) rfl rfl rfl rfl dX3_init_14 hw (fun w4 H locs hw hS => ?_)
  refine lv_aload_n C.x C.b dX3_init_17 rfl (lv_at hl 0 rfl) ?_
  refine lv_bipush (v := 8) C.x C.b dX3_init_18 (by decide) ?_
  refine a_A (t := 0) (atype := .int) C hS rfl (by decide) q206 dX3_init_20 hw (fun q5 w6 H hw hS => ?_)
  refine a_PF C hS in_X3 tyX3 tyX3_ok nmX3 rfl (k := 5) (ci := 2) (by decide) q265 (fun _ h9 => h9) rfl rfl rfl rfl dX3_init_22 hw (fun w7 H locs hw hS => ?_)
  refine lv_aload_n C.x C.b dX3_init_25 rfl (lv_at hl 0 rfl) ?_
  refine lv_iload_n C.x C.b dX3_init_26 rfl (lv_at hl 1 rfl) ?_
  refine a_PF C hS in_X3 tyX3 tyX3_ok nmX3 rfl (k := 0) (ci := 2) (by decide) q257 (fun _ h9 => h9) rfl rfl rfl rfl dX3_init_27 hw (fun w8 H locs hw hS => ?_)
  refine lv_aload_n C.x C.b dX3_init_30 rfl (lv_at hl 0 rfl) ?_
  refine lv_aload_n C.x C.b dX3_init_31 rfl (lv_at hl 0 rfl) ?_
  obtain ⟨fs, hq, hw⟩ := hw
  refine a_callV (rest := [.ref i0]) C hS hl 2 hq rfl (kJ_X3_id C.tr hw) q213 q214 q215 q82 q216 ny_X3_id rfl (Nat.le_of_ble_eq_true rfl) (Nat.le_of_ble_eq_true rfl) rfl (Nat.le_of_ble_eq_true rfl) dX3_init_32 (fun X1 w1 H1 l1 q1 ce hx => hx.elim) (fun v w9 H locs hq _ hS => ?_)
  obtain ⟨r10, rfl, hw⟩ := hq
  refine W.eq (g2 := F0 m 35 ls [.int r10, .ref i0]) rfl ?_
  refine g_callS (rest := [.ref i0]) C hS hl (kJ_X4_own C.tr hw) q217 q218 q83 q219 ny_X4_own rfl (Nat.le_of_ble_eq_true rfl) (Nat.le_of_ble_eq_true rfl) rfl (Nat.le_of_ble_eq_true rfl) dX3_init_35 (fun X1 w1 H1 l1 q1 ce hx => hx.elim) (fun v w11 H locs hq _ hS => ?_)
  obtain ⟨r12, rfl, hw⟩ := hq
  refine W.eq (g2 := F0 m 38 ls [va_rf r12, .ref i0]) rfl ?_
  refine a_P C hS in_X3 tyX3 tyX3_ok nmX3 rfl (k := 2) (ci := 2) (by decide) q261 (fun _ h9 => h9) rfl va_rf_nar va_rf_fit dX3_init_38 hw (fun w13 H locs hw hS => ?_)
  refine lv_aload_n C.x C.b dX3_init_41 rfl (lv_at hl 0 rfl) ?_
  obtain ⟨fs, hq, hw⟩ := hw
  refine a_callV (rest := []) C hS hl 2 hq rfl (kJ_X3_flush C.tr hw) q250 q251 q252 q82 q253 ny_X3_flush rfl (Nat.le_of_ble_eq_true rfl) (Nat.le_of_ble_eq_true rfl) rfl (Nat.le_of_ble_eq_true rfl) dX3_init_42 (fun X1 w1 H1 l1 q1 ce hx => hx.elim) (fun v w14 H locs hq _ hS => ?_)
  obtain ⟨rfl, hw⟩ := hq
  refine W.eq (g2 := F0 m 45 ls []) rfl ?_
  exact g_vret C hS ⟨rfl, hw⟩ dX3_init_45
theorem ny_X3_init : gNm yX3_init 1 = true := by decide +kernel
theorem kJ_X3_init {l : Launch} (ht : l.stackTraces = false) {w : gW} {i0 : Nat} {i1 : Int32} {Q : gW → Prop} (hw : wJ_X3_init E i0 i1 Q w) : gMet l yX3_init (ws_ yX3_init cX3_init 2 none) E w [.ref i0, .int i1] 3 69 (gV Q) (gNoX) :=
  g_ofW ht (by decide) (Nat.le_of_ble_eq_true rfl) (fun p e s m below meth c ls H C hl hS => kJ_X3_init_r C _ _ _ _ _ _ hS hl hw)
def wJ_X3_copy (E : gE) (i0 : Nat) (Q : Option Nat → gW → Prop) (w : gW) : Prop :=
  aN E 2 6 [.int 0, .int 0, .null, .null, .null, .null] (fun q1 w2 => aI E i0 2 0 (fun v3 => wJ_X3_init E q1 v3 (fun w4 => aI E i0 2 1 (fun v5 => aP q1 2 1 (.int v5) (fun w6 => aR E i0 2 2 (fun r7 => aP q1 2 2 (va_rf r7) (fun w8 => aR E i0 2 4 (fun r9 => aR E q1 2 4 (fun r10 => ∃ a11 : Nat, r10 = some a11 ∧ (∃ a12 : Nat, r9 = some a12 ∧ (aCp E 0 a12 0 a11 0 8 (fun w13 => aR E i0 2 5 (fun r14 => aR E q1 2 5 (fun r15 => ∃ a16 : Nat, r15 = some a16 ∧ (∃ a17 : Nat, r14 = some a17 ∧ (aCp E 0 a17 0 a16 0 8 (fun w18 => Q (some q1) w18) w13))) w13) w13) w8))) w8) w8) w6) w6) w4) w4) w2) w2) w
theorem kJ_X3_copy_r (C : gC p l s m args meth c cX3_copy 2 (some (.object "BridgeAuction$Bridge")) RX3 E [] "copy") (i0 : Nat) {Q : Option Nat → gW → Prop} (w : gW) (H : Heap) (locs : List Loc) (ls : Array Slot) (hS : gS E w0 w H locs) (hl : lv_has ls 2 [(0, .ref i0)]) (hw : wJ_X3_copy E i0 Q w) : gGo p l e s m args below meth c H locs 4 90 E w0 w (gR Q) (gNoX) (F0 m 0 ls []) := by
  unfold wJ_X3_copy at hw
  refine a_N (ci := 2) (fs := [.int 0, .int 0, .null, .null, .null, .null]) C hS in_X3 tyX3 tyX3_ok rfl q1166 q208 q82 (by decide) dX3_copy_0 hw (fun q1 w2 H hw hS => ?_)
  refine lv_dup C.x C.b dX3_copy_3 rfl ?_
  refine lv_aload_n C.x C.b dX3_copy_4 rfl (lv_at hl 0 rfl) ?_
  refine a_I C hS in_X3 rfl (k := 0) (ci := 2) (by decide) q257 (fun _ h9 => h9) dX3_copy_5 hw (fun v3 hw => ?_)
  refine g_callI (rest := [.ref q1]) C hS hl (kJ_X3_init C.tr hw) rfl q1167 q210 q82 q211 ny_X3_init rfl (Nat.le_of_ble_eq_true rfl) (Nat.le_of_ble_eq_true rfl) rfl (Nat.le_of_ble_eq_true rfl) dX3_copy_8 (fun X1 w1 H1 l1 q1 ce hx => hx.elim) (fun v w4 H locs hq _ hS => ?_)
  obtain ⟨rfl, hw⟩ := hq
  refine W.eq (g2 := F0 m 11 ls [.ref q1]) rfl ?_
  refine lv_astore_n (lv' := [(1, .ref q1), (0, .ref i0)]) C.x C.b dX3_copy_11 rfl hl (by decide) rfl (fun ls hl => ?_)
  refine lv_aload_n C.x C.b dX3_copy_12 rfl (lv_at hl 0 rfl) ?_
  refine lv_aload_n C.x C.b dX3_copy_13 rfl (lv_at hl 1 rfl) ?_
  refine a_I C hS in_X3 rfl (k := 1) (ci := 2) (by decide) q259 (fun _ h9 => h9) dX3_copy_14 hw (fun v5 hw => ?_)
  refine a_P C hS in_X3 tyX3 tyX3_ok nmX3 rfl (k := 1) (ci := 2) (by decide) q259 (fun _ h9 => h9) rfl rfl rfl dX3_copy_17 hw (fun w6 H locs hw hS => ?_)
  refine lv_aload_n C.x C.b dX3_copy_20 rfl (lv_at hl 0 rfl) ?_
  refine lv_aload_n C.x C.b dX3_copy_21 rfl (lv_at hl 1 rfl) ?_
  refine a_R C hS in_X3 rfl (k := 2) (ci := 2) (by decide) q261 (fun _ h9 => h9) dX3_copy_22 hw (fun r7 hw => ?_)
  refine a_P C hS in_X3 tyX3 tyX3_ok nmX3 rfl (k := 2) (ci := 2) (by decide) q261 (fun _ h9 => h9) rfl va_rf_nar va_rf_fit dX3_copy_25 hw (fun w8 H locs hw hS => ?_)
  refine lv_aload_n C.x C.b dX3_copy_28 rfl (lv_at hl 1 rfl) ?_
  refine a_R C hS in_X3 rfl (k := 4) (ci := 2) (by decide) q264 (fun _ h9 => h9) dX3_copy_29 hw (fun r9 hw => ?_)
  refine lv_iconst (v := 0) C.x C.b dX3_copy_32 (by decide) ?_
  refine lv_aload_n C.x C.b dX3_copy_33 rfl (lv_at hl 0 rfl) ?_
  refine a_R C hS in_X3 rfl (k := 4) (ci := 2) (by decide) q264 (fun _ h9 => h9) dX3_copy_34 hw (fun r10 hw => ?_)
  refine lv_iconst (v := 0) C.x C.b dX3_copy_37 (by decide) ?_
  refine lv_bipush (v := 8) C.x C.b dX3_copy_38 (by decide) ?_
  obtain ⟨a11, e9, hw9⟩ := hw; subst e9; have hw := hw9; clear hw9
  have hl : lv_has ls 2 [(1, .ref q1), (0, .ref i0)] := hl
  refine W.eq (g2 := F0 m 40 ls [.int 8, .int 0, .ref a11, .int 0, va_rf r9]) rfl ?_
  obtain ⟨a12, e9, hw9⟩ := hw; subst e9; have hw := hw9; clear hw9
  have hl : lv_has ls 2 [(1, .ref q1), (0, .ref i0)] := hl
  refine W.eq (g2 := F0 m 40 ls [.int 8, .int 0, .ref a11, .int 0, .ref a12]) rfl ?_
  refine a_cp (t := 0) C hS hl (by decide) q1168 q339 q338 q87 (by decide) (Nat.le_of_ble_eq_true rfl) dX3_copy_40 hw (fun w13 H locs hw hS => ?_)
  refine lv_aload_n C.x C.b dX3_copy_43 rfl (lv_at hl 1 rfl) ?_
  refine a_R C hS in_X3 rfl (k := 5) (ci := 2) (by decide) q265 (fun _ h9 => h9) dX3_copy_44 hw (fun r14 hw => ?_)
  refine lv_iconst (v := 0) C.x C.b dX3_copy_47 (by decide) ?_
  refine lv_aload_n C.x C.b dX3_copy_48 rfl (lv_at hl 0 rfl) ?_
  refine a_R C hS in_X3 rfl (k := 5) (ci := 2) (by decide) q265 (fun _ h9 => h9) dX3_copy_49 hw (fun r15 hw => ?_)
  refine lv_iconst (v := 0) C.x C.b dX3_copy_52 (by decide) ?_
  refine lv_bipush (v := 8) C.x C.b dX3_copy_53 (by decide) ?_
  obtain ⟨a16, e9, hw9⟩ := hw; subst e9; have hw := hw9; clear hw9
  have hl : lv_has ls 2 [(1, .ref q1), (0, .ref i0)] := hl
  refine W.eq (g2 := F0 m 55 ls [.int 8, .int 0, .ref a16, .int 0, va_rf r14]) rfl ?_
  obtain ⟨a17, e9, hw9⟩ := hw; subst e9; have hw := hw9; clear hw9
  have hl : lv_has ls 2 [(1, .ref q1), (0, .ref i0)] := hl
  refine W.eq (g2 := F0 m 55 ls [.int 8, .int 0, .ref a16, .int 0, .ref a17]) rfl ?_
  refine a_cp (t := 0) C hS hl (by decide) q1168 q339 q338 q87 (by decide) (Nat.le_of_ble_eq_true rfl) dX3_copy_55 hw (fun w18 H locs hw hS => ?_)
  refine lv_aload_n C.x C.b dX3_copy_58 rfl (lv_at hl 0 rfl) ?_
  exact g_aret (r := (some q1)) C (Or.inl ⟨_, rfl⟩) hS ⟨_, rfl, hw⟩ dX3_copy_59
theorem ny_X3_copy : gNm yX3_copy 0 = true := by decide +kernel
theorem kJ_X3_copy {l : Launch} (ht : l.stackTraces = false) {w : gW} {i0 : Nat} {Q : Option Nat → gW → Prop} (hw : wJ_X3_copy E i0 Q w) : gMet l yX3_copy (ws_ yX3_copy cX3_copy 2 (some (.object "BridgeAuction$Bridge"))) E w [.ref i0] 4 90 (gR Q) (gNoX) :=
  g_ofW ht (by decide) (Nat.le_of_ble_eq_true rfl) (fun p e s m below meth c ls H C hl hS => kJ_X3_copy_r C _ _ _ _ _ hS hl hw)
def wJ_X3_entryCount_37 (E : gE) (K13 : Int32 → Nat → Int32 → Int32 → gW → Prop) (Q : Int32 → gW → Prop) (x2 : Nat) (x3 : Int32) (x4 : Int32) (y0 : Int32) (y1 : Int32) (w : gW) : Prop :=
  K13 (y1 + y0) x2 x3 (x4 + 1) w
theorem kJ_X3_entryCount_37 (C : gC p l s m args meth c cX3_entryCount 6 (some .int) RX3 E [] "entryCount") {Q : Int32 → gW → Prop} {K13 : Int32 → Nat → Int32 → Int32 → gW → Prop} (hK13 : ∀ (x1 : Int32) (x2 : Nat) (x3 : Int32) (x4 : Int32) (w : gW) (H : Heap) (locs : List Loc) (ls : Array Slot), gS E w0 w H locs → lv_has ls 6 [(1, .int x1), (2, .ref x2), (3, .int x3), (4, .int x4)] → K13 x1 x2 x3 x4 w → gGo p l e s m args below meth c H locs 0 0 E w0 w (gI Q) (gNoX) (F0 m 13 ls [])) (x2 : Nat) (x3 : Int32) (x4 : Int32) (y0 : Int32) (y1 : Int32) (w : gW) (H : Heap) (locs : List Loc) (ls : Array Slot) (hS : gS E w0 w H locs) (hl : lv_has ls 6 [(2, .ref x2), (3, .int x3), (4, .int x4)]) (hw : wJ_X3_entryCount_37 E K13 Q x2 x3 x4 y0 y1 w) : gGo p l e s m args below meth c H locs 0 0 E w0 w (gI Q) (gNoX) (F0 m 37 ls [.int y0, .int y1]) := by
  unfold wJ_X3_entryCount_37 at hw
  refine lv_iadd C.x C.b dX3_entryCount_37 ?_
  refine lv_istore_n (lv' := [(1, .int (y1 + y0)), (2, .ref x2), (3, .int x3), (4, .int x4)]) C.x C.b dX3_entryCount_38 rfl hl (by decide) rfl (fun ls hl => ?_)
  refine lv_iinc (v := (x4 + 1)) (lv' := [(4, .int (x4 + 1)), (1, .int (y1 + y0)), (2, .ref x2), (3, .int x3)]) C.x C.b dX3_entryCount_39 hl (k := 3) rfl rfl (by decide) rfl (fun ls hl => ?_)
  refine lv_goto (tgt := 13) C.x C.b dX3_entryCount_42 (by decide) ?_
  exact hK13 _ _ _ _ _ _ _ _ hS (lv_sub hl [1, 2, 3, 0] rfl) hw
def wJ_X3_entryCount_13 (E : gE) (Q : Int32 → gW → Prop) : Nat → Int32 → Nat → Int32 → Int32 → gW → Prop
  | 0, _, _, _, _, _ => False
  | n + 1, x1, x2, x3, x4, w => (x3 ≤ x4 → (Q x1 w)) ∧ (¬ x3 ≤ x4 → (aL E 0 x2 x4 (fun v6 => (v6 = (-1) → (wJ_X3_entryCount_37 E (fun x1 x2 x3 x4 w => wJ_X3_entryCount_13 E Q n x1 x2 x3 x4 w) Q x2 x3 x4 0 x1 w)) ∧ (¬ v6 = (-1) → (wJ_X3_entryCount_37 E (fun x1 x2 x3 x4 w => wJ_X3_entryCount_13 E Q n x1 x2 x3 x4 w) Q x2 x3 x4 1 x1 w))) w))
theorem kJ_X3_entryCount_13 (C : gC p l s m args meth c cX3_entryCount 6 (some .int) RX3 E [] "entryCount") {Q : Int32 → gW → Prop} : ∀ (n : Nat) (x1 : Int32) (x2 : Nat) (x3 : Int32) (x4 : Int32) (w : gW) (H : Heap) (locs : List Loc) (ls : Array Slot), gS E w0 w H locs → lv_has ls 6 [(1, .int x1), (2, .ref x2), (3, .int x3), (4, .int x4)] → wJ_X3_entryCount_13 E Q n x1 x2 x3 x4 w → gGo p l e s m args below meth c H locs 0 0 E w0 w (gI Q) (gNoX) (F0 m 13 ls []) := by
  intro n
  induction n with
  | zero =>
    intro x1 x2 x3 x4 w H locs ls hS hl hw
    exact hw.elim
  | succ n ih =>
    intro x1 x2 x3 x4 w H locs ls hS hl hw
    unfold wJ_X3_entryCount_13 at hw
    refine lv_iload C.x C.b dX3_entryCount_13 (lv_at hl 3 rfl) ?_
    refine lv_iload_n C.x C.b dX3_entryCount_15 rfl (lv_at hl 2 rfl) ?_
    refine lv_icmp_ge (tgt := 45) C.x C.b dX3_entryCount_16 (by decide) (fun c5 => ?_) (fun c5 => ?_)
    · have hw := hw.1 c5
      refine lv_iload_n C.x C.b dX3_entryCount_45 rfl (lv_at hl 0 rfl) ?_
      exact g_iret C hS ⟨_, rfl, hw⟩ dX3_entryCount_46
    · have hw := hw.2 c5
      refine lv_aload_n C.x C.b dX3_entryCount_19 rfl (lv_at hl 1 rfl) ?_
      refine lv_iload C.x C.b dX3_entryCount_20 (lv_at hl 3 rfl) ?_
      refine a_Li C hS dX3_entryCount_22 hw (fun v6 hw => ?_)
      refine lv_istore (lv' := [(5, .int v6), (1, .int x1), (2, .ref x2), (3, .int x3), (4, .int x4)]) C.x C.b dX3_entryCount_23 hl (by decide) rfl (fun ls hl => ?_)
      refine lv_iload_n C.x C.b dX3_entryCount_25 rfl (lv_at hl 1 rfl) ?_
      refine lv_iload C.x C.b dX3_entryCount_26 (lv_at hl 0 rfl) ?_
      refine lv_iconst (v := (-1)) C.x C.b dX3_entryCount_28 (by decide) ?_
      refine lv_icmp_ne (tgt := 36) C.x C.b dX3_entryCount_29 (by decide) (fun c7 => ?_) (fun c7 => ?_)
      · have hw := hw.2 c7
        refine lv_iconst (v := 1) C.x C.b dX3_entryCount_36 (by decide) ?_
        exact kJ_X3_entryCount_37 C ih _ _ _ _ _ _ _ _ _ hS (lv_sub hl [2, 3, 4] rfl) hw
      · have hw := hw.1 c7
        refine lv_iconst (v := 0) C.x C.b dX3_entryCount_32 (by decide) ?_
        refine lv_goto (tgt := 37) C.x C.b dX3_entryCount_33 (by decide) ?_
        exact kJ_X3_entryCount_37 C ih _ _ _ _ _ _ _ _ _ hS (lv_sub hl [2, 3, 4] rfl) hw
def wJ_X3_entryCount (E : gE) (i0 : Nat) (Q : Int32 → gW → Prop) (w : gW) : Prop :=
  aR E i0 2 4 (fun r1 => ∃ a2 : Nat, r1 = some a2 ∧ (aLen E a2 (fun v3 => ∃ k4 : Nat, wJ_X3_entryCount_13 E Q k4 0 a2 v3 0 w) w)) w
theorem kJ_X3_entryCount_r (C : gC p l s m args meth c cX3_entryCount 6 (some .int) RX3 E [] "entryCount") (i0 : Nat) {Q : Int32 → gW → Prop} (w : gW) (H : Heap) (locs : List Loc) (ls : Array Slot) (hS : gS E w0 w H locs) (hl : lv_has ls 6 [(0, .ref i0)]) (hw : wJ_X3_entryCount E i0 Q w) : gGo p l e s m args below meth c H locs 0 0 E w0 w (gI Q) (gNoX) (F0 m 0 ls []) := by
  unfold wJ_X3_entryCount at hw
  refine lv_iconst (v := 0) C.x C.b dX3_entryCount_0 (by decide) ?_
  refine lv_istore_n (lv' := [(1, .int 0), (0, .ref i0)]) C.x C.b dX3_entryCount_1 rfl hl (by decide) rfl (fun ls hl => ?_)
  refine lv_aload_n C.x C.b dX3_entryCount_2 rfl (lv_at hl 1 rfl) ?_
  refine a_R C hS in_X3 rfl (k := 4) (ci := 2) (by decide) q264 (fun _ h9 => h9) dX3_entryCount_3 hw (fun r1 hw => ?_)
  refine a_astore_n (lv' := [(2, va_rf r1), (1, .int 0), (0, .ref i0)]) C dX3_entryCount_6 rfl hl (by decide) (by cases r1 <;> rfl) (fun ls hl => ?_)
  refine a_aload_n C dX3_entryCount_7 rfl (lv_at hl 0 rfl) ?_
  obtain ⟨a2, e9, hw9⟩ := hw; subst e9; have hw := hw9; clear hw9
  have hl : lv_has ls 6 [(2, .ref a2), (1, .int 0), (0, .ref i0)] := hl
  refine W.eq (g2 := F0 m 8 ls [.ref a2]) rfl ?_
  refine a_len C hS dX3_entryCount_8 hw (fun v3 hw => ?_)
  refine lv_istore_n (lv' := [(3, .int v3), (2, .ref a2), (1, .int 0), (0, .ref i0)]) C.x C.b dX3_entryCount_9 rfl hl (by decide) rfl (fun ls hl => ?_)
  refine lv_iconst (v := 0) C.x C.b dX3_entryCount_10 (by decide) ?_
  refine lv_istore (lv' := [(4, .int 0), (3, .int v3), (2, .ref a2), (1, .int 0), (0, .ref i0)]) C.x C.b dX3_entryCount_11 hl (by decide) rfl (fun ls hl => ?_)
  obtain ⟨k4, hw⟩ := hw
  exact kJ_X3_entryCount_13 C k4 _ _ _ _ _ _ _ _ hS (lv_sub hl [3, 2, 1, 0] rfl) hw
theorem ny_X3_entryCount : gNm yX3_entryCount 0 = true := by decide +kernel
theorem kJ_X3_entryCount {l : Launch} (ht : l.stackTraces = false) {w : gW} {i0 : Nat} {Q : Int32 → gW → Prop} (hw : wJ_X3_entryCount E i0 Q w) : gMet l yX3_entryCount (ws_ yX3_entryCount cX3_entryCount 6 (some .int)) E w [.ref i0] 0 0 (gI Q) (gNoX) :=
  g_ofW ht (by decide) (Nat.le_of_ble_eq_true rfl) (fun p e s m below meth c ls H C hl hS => kJ_X3_entryCount_r C _ _ _ _ _ hS hl hw)
def wJ_X3_entry (E : gE) (i0 : Nat) (i1 : Int32) (i2 : Int32) (Q : Int32 → gW → Prop) (w : gW) : Prop :=
  aR E i0 2 4 (fun r1 => ∃ a2 : Nat, r1 = some a2 ∧ (aL E 0 a2 i1 (fun v3 => (v3 = (-1) → (Q (-1) w)) ∧ (¬ v3 = (-1) → (aR E i0 2 5 (fun r5 => ∃ a6 : Nat, r5 = some a6 ∧ (aL E 0 a6 i1 (fun v7 => (50 < (i2 - v7) → (Q (-1) w)) ∧ (¬ 50 < (i2 - v7) → (aR E i0 2 4 (fun r9 => ∃ a10 : Nat, r9 = some a10 ∧ (aL E 0 a10 i1 (fun v11 => Q v11 w) w)) w))) w)) w))) w)) w
theorem kJ_X3_entry_r (C : gC p l s m args meth c cX3_entry 3 (some .int) RX3 E [] "entry") (i0 : Nat) (i1 : Int32) (i2 : Int32) {Q : Int32 → gW → Prop} (w : gW) (H : Heap) (locs : List Loc) (ls : Array Slot) (hS : gS E w0 w H locs) (hl : lv_has ls 3 [(0, .ref i0), (1, .int i1), (2, .int i2)]) (hw : wJ_X3_entry E i0 i1 i2 Q w) : gGo p l e s m args below meth c H locs 0 0 E w0 w (gI Q) (gNoX) (F0 m 0 ls []) := by
  unfold wJ_X3_entry at hw
  refine lv_aload_n C.x C.b dX3_entry_0 rfl (lv_at hl 0 rfl) ?_
  refine a_R C hS in_X3 rfl (k := 4) (ci := 2) (by decide) q264 (fun _ h9 => h9) dX3_entry_1 hw (fun r1 hw => ?_)
  refine lv_iload_n C.x C.b dX3_entry_4 rfl (lv_at hl 1 rfl) ?_
  obtain ⟨a2, e9, hw9⟩ := hw; subst e9; have hw := hw9; clear hw9
  have hl : lv_has ls 3 [(0, .ref i0), (1, .int i1), (2, .int i2)] := hl
  refine W.eq (g2 := F0 m 5 ls [.int i1, .ref a2]) rfl ?_
  refine a_Li C hS dX3_entry_5 hw (fun v3 hw => ?_)
  refine lv_iconst (v := (-1)) C.x C.b dX3_entry_6 (by decide) ?_
  refine lv_icmp_eq (tgt := 32) C.x C.b dX3_entry_7 (by decide) (fun c4 => ?_) (fun c4 => ?_)
  · have hw := hw.1 c4
    refine lv_iconst (v := (-1)) C.x C.b dX3_entry_32 (by decide) ?_
    exact g_iret C hS ⟨_, rfl, hw⟩ dX3_entry_33
  · have hw := hw.2 c4
    refine lv_iload_n C.x C.b dX3_entry_10 rfl (lv_at hl 2 rfl) ?_
    refine lv_aload_n C.x C.b dX3_entry_11 rfl (lv_at hl 0 rfl) ?_
    refine a_R C hS in_X3 rfl (k := 5) (ci := 2) (by decide) q265 (fun _ h9 => h9) dX3_entry_12 hw (fun r5 hw => ?_)
    refine lv_iload_n C.x C.b dX3_entry_15 rfl (lv_at hl 1 rfl) ?_
    obtain ⟨a6, e9, hw9⟩ := hw; subst e9; have hw := hw9; clear hw9
    have hl : lv_has ls 3 [(0, .ref i0), (1, .int i1), (2, .int i2)] := hl
    refine W.eq (g2 := F0 m 16 ls [.int i1, .ref a6, .int i2]) rfl ?_
    refine a_Li C hS dX3_entry_16 hw (fun v7 hw => ?_)
    refine lv_isub C.x C.b dX3_entry_17 ?_
    refine lv_bipush (v := 50) C.x C.b dX3_entry_18 (by decide) ?_
    refine lv_icmp_gt (tgt := 32) C.x C.b dX3_entry_20 (by decide) (fun c8 => ?_) (fun c8 => ?_)
    · have hw := hw.1 c8
      refine lv_iconst (v := (-1)) C.x C.b dX3_entry_32 (by decide) ?_
      exact g_iret C hS ⟨_, rfl, hw⟩ dX3_entry_33
    · have hw := hw.2 c8
      refine lv_aload_n C.x C.b dX3_entry_23 rfl (lv_at hl 0 rfl) ?_
      refine a_R C hS in_X3 rfl (k := 4) (ci := 2) (by decide) q264 (fun _ h9 => h9) dX3_entry_24 hw (fun r9 hw => ?_)
      refine lv_iload_n C.x C.b dX3_entry_27 rfl (lv_at hl 1 rfl) ?_
      obtain ⟨a10, e9, hw9⟩ := hw; subst e9; have hw := hw9; clear hw9
      have hl : lv_has ls 3 [(0, .ref i0), (1, .int i1), (2, .int i2)] := hl
      refine W.eq (g2 := F0 m 28 ls [.int i1, .ref a10]) rfl ?_
      refine a_Li C hS dX3_entry_28 hw (fun v11 hw => ?_)
      refine lv_goto (tgt := 33) C.x C.b dX3_entry_29 (by decide) ?_
      exact g_iret C hS ⟨_, rfl, hw⟩ dX3_entry_33
theorem ny_X3_entry : gNm yX3_entry 2 = true := by decide +kernel
theorem kJ_X3_entry {l : Launch} (ht : l.stackTraces = false) {w : gW} {i0 : Nat} {i1 : Int32} {i2 : Int32} {Q : Int32 → gW → Prop} (hw : wJ_X3_entry E i0 i1 i2 Q w) : gMet l yX3_entry (ws_ yX3_entry cX3_entry 3 (some .int)) E w [.ref i0, .int i1, .int i2] 0 0 (gI Q) (gNoX) :=
  g_ofW ht (by decide) (Nat.le_of_ble_eq_true rfl) (fun p e s m below meth c ls H C hl hS => kJ_X3_entry_r C _ _ _ _ _ _ _ hS hl hw)
def wJ_X3_learn (E : gE) (i0 : Nat) (i1 : Int32) (i2 : Int32) (i3 : Int32) (Q : gW → Prop) (w : gW) : Prop :=
  aR E i0 2 4 (fun r1 => ∃ a2 : Nat, r1 = some a2 ∧ (aS E 0 a2 i1 i2 (fun w3 => aR E i0 2 5 (fun r4 => ∃ a5 : Nat, r4 = some a5 ∧ (aS E 0 a5 i1 i3 (fun w6 => Q w6) w3)) w3) w)) w
theorem kJ_X3_learn_r (C : gC p l s m args meth c cX3_learn 4 none RX3 E [] "learn") (i0 : Nat) (i1 : Int32) (i2 : Int32) (i3 : Int32) {Q : gW → Prop} (w : gW) (H : Heap) (locs : List Loc) (ls : Array Slot) (hS : gS E w0 w H locs) (hl : lv_has ls 4 [(0, .ref i0), (1, .int i1), (2, .int i2), (3, .int i3)]) (hw : wJ_X3_learn E i0 i1 i2 i3 Q w) : gGo p l e s m args below meth c H locs 0 0 E w0 w (gV Q) (gNoX) (F0 m 0 ls []) := by
  unfold wJ_X3_learn at hw
  refine lv_aload_n C.x C.b dX3_learn_0 rfl (lv_at hl 0 rfl) ?_
  refine a_R C hS in_X3 rfl (k := 4) (ci := 2) (by decide) q264 (fun _ h9 => h9) dX3_learn_1 hw (fun r1 hw => ?_)
  refine lv_iload_n C.x C.b dX3_learn_4 rfl (lv_at hl 1 rfl) ?_
  refine lv_iload_n C.x C.b dX3_learn_5 rfl (lv_at hl 2 rfl) ?_
  obtain ⟨a2, e9, hw9⟩ := hw; subst e9; have hw := hw9; clear hw9
  have hl : lv_has ls 4 [(0, .ref i0), (1, .int i1), (2, .int i2), (3, .int i3)] := hl
  refine W.eq (g2 := F0 m 6 ls [.int i2, .int i1, .ref a2]) rfl ?_
  refine a_Si C hS dX3_learn_6 hw (fun w3 H locs hw hS => ?_)
  refine lv_aload_n C.x C.b dX3_learn_7 rfl (lv_at hl 0 rfl) ?_
  refine a_R C hS in_X3 rfl (k := 5) (ci := 2) (by decide) q265 (fun _ h9 => h9) dX3_learn_8 hw (fun r4 hw => ?_)
  refine lv_iload_n C.x C.b dX3_learn_11 rfl (lv_at hl 1 rfl) ?_
  refine lv_iload_n C.x C.b dX3_learn_12 rfl (lv_at hl 3 rfl) ?_
  obtain ⟨a5, e9, hw9⟩ := hw; subst e9; have hw := hw9; clear hw9
  have hl : lv_has ls 4 [(0, .ref i0), (1, .int i1), (2, .int i2), (3, .int i3)] := hl
  refine W.eq (g2 := F0 m 13 ls [.int i3, .int i1, .ref a5]) rfl ?_
  refine a_Si C hS dX3_learn_13 hw (fun w6 H locs hw hS => ?_)
  exact g_vret C hS ⟨rfl, hw⟩ dX3_learn_14
theorem ny_X3_learn : gNm yX3_learn 3 = true := by decide +kernel
theorem kJ_X3_learn {l : Launch} (ht : l.stackTraces = false) {w : gW} {i0 : Nat} {i1 : Int32} {i2 : Int32} {i3 : Int32} {Q : gW → Prop} (hw : wJ_X3_learn E i0 i1 i2 i3 Q w) : gMet l yX3_learn (ws_ yX3_learn cX3_learn 4 none) E w [.ref i0, .int i1, .int i2, .int i3] 0 0 (gV Q) (gNoX) :=
  g_ofW ht (by decide) (Nat.le_of_ble_eq_true rfl) (fun p e s m below meth c ls H C hl hS => kJ_X3_learn_r C _ _ _ _ _ _ _ _ hS hl hw)
def wJ_X3_value (E : gE) (i0 : Nat) (i1 : Int32) (Q : Int32 → gW → Prop) (w : gW) : Prop :=
  (i1 = 0 → (aKind E i0 2 (wJ_X3_id E i0 (fun r2 w1 => Q r2 w1) w) w)) ∧ (¬ i1 = 0 → ((i1 = 1 → (aR E i0 2 2 (fun r3 => ∃ a4 : Nat, r3 = some a4 ∧ (aI E a4 3 0 (fun v5 => Q v5 w) w)) w)) ∧ (¬ i1 = 1 → ((i1 = 2 → (aR E i0 2 2 (fun r6 => ∃ a7 : Nat, r6 = some a7 ∧ (aI E a7 3 1 (fun v8 => Q v8 w) w)) w)) ∧ (¬ i1 = 2 → ((i1 = 3 → (aR E i0 2 2 (fun r9 => ∃ a10 : Nat, r9 = some a10 ∧ (aI E a10 3 3 (fun v11 => Q v11 w) w)) w)) ∧ (¬ i1 = 3 → ((i1 = 4 → (aR E i0 2 2 (fun r12 => ∃ a13 : Nat, r12 = some a13 ∧ (aI E a13 3 4 (fun v14 => Q v14 w) w)) w)) ∧ (¬ i1 = 4 → (aKind E i0 2 (wJ_X3_entryCount E i0 (fun r16 w15 => Q r16 w15) w) w))))))))))
theorem kJ_X3_value_r (C : gC p l s m args meth c cX3_value 2 (some .int) RX3 E [] "value") (i0 : Nat) (i1 : Int32) {Q : Int32 → gW → Prop} (w : gW) (H : Heap) (locs : List Loc) (ls : Array Slot) (hS : gS E w0 w H locs) (hl : lv_has ls 2 [(0, .ref i0), (1, .int i1)]) (hw : wJ_X3_value E i0 i1 Q w) : gGo p l e s m args below meth c H locs 1 25 E w0 w (gI Q) (gNoX) (F0 m 0 ls []) := by
  unfold wJ_X3_value at hw
  refine lv_iload_n C.x C.b dX3_value_0 rfl (lv_at hl 1 rfl) ?_
  rcases Decidable.em (i1 = 0) with c1_0 | c1_0
  · have hw := hw.1 c1_0
    rw [c1_0]
    refine lv_tableIn (tgt := 36) (off := 35) C.x C.b dX3_value_1 (by decide) (by decide) rfl (by decide) ?_
    refine lv_aload_n C.x C.b dX3_value_36 rfl (lv_at hl 0 rfl) ?_
    obtain ⟨fs, hq, hw⟩ := hw
    refine a_callV (rest := []) C hS hl 2 hq rfl (kJ_X3_id C.tr hw) q213 q214 q215 q82 q216 ny_X3_id rfl (Nat.le_of_ble_eq_true rfl) (Nat.le_of_ble_eq_true rfl) rfl (Nat.le_of_ble_eq_true rfl) dX3_value_37 (fun X1 w1 H1 l1 q1 ce hx => hx.elim) (fun v w1 H locs hq _ hS => ?_)
    obtain ⟨r2, rfl, hw⟩ := hq
    refine W.eq (g2 := F0 m 40 ls [.int r2]) rfl ?_
    exact g_iret C hS ⟨_, rfl, hw⟩ dX3_value_40
  · have hw := hw.2 c1_0
    rcases Decidable.em (i1 = 1) with c1_1 | c1_1
    · have hw := hw.1 c1_1
      rw [c1_1]
      refine lv_tableIn (tgt := 41) (off := 40) C.x C.b dX3_value_1 (by decide) (by decide) rfl (by decide) ?_
      refine lv_aload_n C.x C.b dX3_value_41 rfl (lv_at hl 0 rfl) ?_
      refine a_R C hS in_X3 rfl (k := 2) (ci := 2) (by decide) q261 (fun _ h9 => h9) dX3_value_42 hw (fun r3 hw => ?_)
      obtain ⟨a4, e9, hw9⟩ := hw; subst e9; have hw := hw9; clear hw9
      have hl : lv_has ls 2 [(0, .ref i0), (1, .int i1)] := hl
      refine W.eq (g2 := F0 m 45 ls [.ref a4]) rfl ?_
      refine a_IN C hS in_X4 rfl (k := 0) (ci := 3) (by decide) q227 (fun _ h9 => h9) dX3_value_45 hw (fun v5 hw => ?_)
      exact g_iret C hS ⟨_, rfl, hw⟩ dX3_value_48
    · have hw := hw.2 c1_1
      rcases Decidable.em (i1 = 2) with c1_2 | c1_2
      · have hw := hw.1 c1_2
        rw [c1_2]
        refine lv_tableIn (tgt := 49) (off := 48) C.x C.b dX3_value_1 (by decide) (by decide) rfl (by decide) ?_
        refine lv_aload_n C.x C.b dX3_value_49 rfl (lv_at hl 0 rfl) ?_
        refine a_R C hS in_X3 rfl (k := 2) (ci := 2) (by decide) q261 (fun _ h9 => h9) dX3_value_50 hw (fun r6 hw => ?_)
        obtain ⟨a7, e9, hw9⟩ := hw; subst e9; have hw := hw9; clear hw9
        have hl : lv_has ls 2 [(0, .ref i0), (1, .int i1)] := hl
        refine W.eq (g2 := F0 m 53 ls [.ref a7]) rfl ?_
        refine a_IN C hS in_X4 rfl (k := 1) (ci := 3) (by decide) q230 (fun _ h9 => h9) dX3_value_53 hw (fun v8 hw => ?_)
        exact g_iret C hS ⟨_, rfl, hw⟩ dX3_value_56
      · have hw := hw.2 c1_2
        rcases Decidable.em (i1 = 3) with c1_3 | c1_3
        · have hw := hw.1 c1_3
          rw [c1_3]
          refine lv_tableIn (tgt := 57) (off := 56) C.x C.b dX3_value_1 (by decide) (by decide) rfl (by decide) ?_
          refine lv_aload_n C.x C.b dX3_value_57 rfl (lv_at hl 0 rfl) ?_
          refine a_R C hS in_X3 rfl (k := 2) (ci := 2) (by decide) q261 (fun _ h9 => h9) dX3_value_58 hw (fun r9 hw => ?_)
          obtain ⟨a10, e9, hw9⟩ := hw; subst e9; have hw := hw9; clear hw9
          have hl : lv_has ls 2 [(0, .ref i0), (1, .int i1)] := hl
          refine W.eq (g2 := F0 m 61 ls [.ref a10]) rfl ?_
          refine a_IN C hS in_X4 rfl (k := 3) (ci := 3) (by decide) q234 (fun _ h9 => h9) dX3_value_61 hw (fun v11 hw => ?_)
          exact g_iret C hS ⟨_, rfl, hw⟩ dX3_value_64
        · have hw := hw.2 c1_3
          rcases Decidable.em (i1 = 4) with c1_4 | c1_4
          · have hw := hw.1 c1_4
            rw [c1_4]
            refine lv_tableIn (tgt := 65) (off := 64) C.x C.b dX3_value_1 (by decide) (by decide) rfl (by decide) ?_
            refine lv_aload_n C.x C.b dX3_value_65 rfl (lv_at hl 0 rfl) ?_
            refine a_R C hS in_X3 rfl (k := 2) (ci := 2) (by decide) q261 (fun _ h9 => h9) dX3_value_66 hw (fun r12 hw => ?_)
            obtain ⟨a13, e9, hw9⟩ := hw; subst e9; have hw := hw9; clear hw9
            have hl : lv_has ls 2 [(0, .ref i0), (1, .int i1)] := hl
            refine W.eq (g2 := F0 m 69 ls [.ref a13]) rfl ?_
            refine a_IN C hS in_X4 rfl (k := 4) (ci := 3) (by decide) q237 (fun _ h9 => h9) dX3_value_69 hw (fun v14 hw => ?_)
            exact g_iret C hS ⟨_, rfl, hw⟩ dX3_value_72
          · have hw := hw.2 c1_4
            refine lv_tableOut (tgt := 73) C.x C.b dX3_value_1 (by have := lv_neT c1_0 (a := 0) (by decide); have := lv_neT c1_1 (a := 1) (by decide); have := lv_neT c1_2 (a := 2) (by decide); have := lv_neT c1_3 (a := 3) (by decide); have := lv_neT c1_4 (a := 4) (by decide); omega) (by decide) ?_
            refine lv_aload_n C.x C.b dX3_value_73 rfl (lv_at hl 0 rfl) ?_
            obtain ⟨fs, hq, hw⟩ := hw
            refine a_callV (rest := []) C hS hl 2 hq rfl (kJ_X3_entryCount C.tr hw) q1224 q1225 q1226 q82 q1227 ny_X3_entryCount rfl (Nat.le_of_ble_eq_true rfl) (Nat.le_of_ble_eq_true rfl) rfl (Nat.le_of_ble_eq_true rfl) dX3_value_74 (fun X1 w1 H1 l1 q1 ce hx => hx.elim) (fun v w15 H locs hq _ hS => ?_)
            obtain ⟨r16, rfl, hw⟩ := hq
            refine W.eq (g2 := F0 m 77 ls [.int r16]) rfl ?_
            exact g_iret C hS ⟨_, rfl, hw⟩ dX3_value_77
theorem ny_X3_value : gNm yX3_value 1 = true := by decide +kernel
theorem kJ_X3_value {l : Launch} (ht : l.stackTraces = false) {w : gW} {i0 : Nat} {i1 : Int32} {Q : Int32 → gW → Prop} (hw : wJ_X3_value E i0 i1 Q w) : gMet l yX3_value (ws_ yX3_value cX3_value 2 (some .int)) E w [.ref i0, .int i1] 1 25 (gI Q) (gNoX) :=
  g_ofW ht (by decide) (Nat.le_of_ble_eq_true rfl) (fun p e s m below meth c ls H C hl hS => kJ_X3_value_r C _ _ _ _ _ _ hS hl hw)
def wJ_X6_init (E : gE) (i0 : Nat) (i1 : Int32) (i2 : Int32) (i3 : Int32) (Q : gW → Prop) (w : gW) : Prop :=
  aP i0 5 4 (.int 1) (fun w1 => aP i0 5 5 (.int (-1)) (fun w2 => aA E 0 4 (fun q3 w4 => aP i0 5 8 (.ref q3) (fun w5 => aN E 6 3 [.int 0, .int 0, .int 0] (fun q6 w7 => wJ_X7_init E q6 (fun w8 => aP i0 5 9 (.ref q6) (fun w9 => aN E 6 3 [.int 0, .int 0, .int 0] (fun q10 w11 => wJ_X7_init E q10 (fun w12 => aP i0 5 10 (.ref q10) (fun w13 => aP i0 5 0 (.int (if i2 < i1 then i2 else i1)) (fun w14 => aP i0 5 1 (.int (if i1 < i2 then i2 else i1)) (fun w15 => aP i0 5 2 (.int i3) (fun w16 => aP i0 5 3 (.int i3) (fun w17 => Q w17) w16) w15) w14) w13) w12) w11) w9) w8) w7) w5) w4) w2) w1) w
theorem kJ_X6_init_r (C : gC p l s m args meth c cX6_init 4 none RX6 E [] "<init>") (i0 : Nat) (i1 : Int32) (i2 : Int32) (i3 : Int32) {Q : gW → Prop} (w : gW) (H : Heap) (locs : List Loc) (ls : Array Slot) (hS : gS E w0 w H locs) (hl : lv_has ls 4 [(0, .ref i0), (1, .int i1), (2, .int i2), (3, .int i3)]) (hw : wJ_X6_init E i0 i1 i2 i3 Q w) : gGo p l e s m args below meth c H locs 2 44 E w0 w (gV Q) (gNoX) (F0 m 0 ls []) := by
  unfold wJ_X6_init at hw
  refine lv_aload_n C.x C.b dX6_init_0 rfl (lv_at hl 0 rfl) ?_
  refine W.objInit C.x C.b C.ow (C.ts _ q918) (C.ts _ q115) (C.ts _ q116) rfl (by rw [C.ml]; exact hl.1) rfl dX6_init_1 (Nat.le_of_ble_eq_true rfl) (Nat.le_of_ble_eq_true rfl) ?_
  refine W.eq (g2 := F0 m 4 ls []) rfl ?_
  refine lv_aload_n C.x C.b dX6_init_4 rfl (lv_at hl 0 rfl) ?_
  refine lv_iconst (v := 1) C.x C.b dX6_init_5 (by decide) ?_
  refine a_P C hS in_X6 tyX6 tyX6_ok nmX6 rfl (k := 4) (ci := 5) (by decide) q945 (fun _ h9 => h9) rfl rfl rfl dX6_init_6 hw (fun w1 H locs hw hS => ?_)
  refine lv_aload_n C.x C.b dX6_init_9 rfl (lv_at hl 0 rfl) ?_
  refine lv_iconst (v := (-1)) C.x C.b dX6_init_10 (by decide) ?_
  refine a_P C hS in_X6 tyX6 tyX6_ok nmX6 rfl (k := 5) (ci := 5) (by decide) q947 (fun _ h9 => h9) rfl rfl rfl dX6_init_11 hw (fun w2 H locs hw hS => ?_)
  refine lv_aload_n C.x C.b dX6_init_14 rfl (lv_at hl 0 rfl) ?_
  refine lv_iconst (v := 4) C.x C.b dX6_init_15 (by decide) ?_
  refine a_A (t := 0) (atype := .int) C hS rfl (by decide) q206 dX6_init_16 hw (fun q3 w4 H hw hS => ?_)
  refine a_PF C hS in_X6 tyX6 tyX6_ok nmX6 rfl (k := 8) (ci := 5) (by decide) q952 (fun _ h9 => h9) rfl rfl rfl rfl dX6_init_18 hw (fun w5 H locs hw hS => ?_)
  refine lv_aload_n C.x C.b dX6_init_21 rfl (lv_at hl 0 rfl) ?_
  refine a_N (ci := 6) (fs := [.int 0, .int 0, .int 0]) C hS in_X7 tyX7 tyX7_ok rfl q919 q920 q96 (by decide) dX6_init_22 hw (fun q6 w7 H hw hS => ?_)
  refine lv_dup C.x C.b dX6_init_25 rfl ?_
  refine g_callIN (rest := [.ref q6, .ref i0]) C hS hl (kJ_X7_init C.tr hw) rfl q921 q922 q96 q923 ny_X7_init rfl (Nat.le_of_ble_eq_true rfl) (Nat.le_of_ble_eq_true rfl) rfl (Nat.le_of_ble_eq_true rfl) dX6_init_26 (fun X1 w1 H1 l1 q1 ce hx => hx.elim) (fun v w8 H locs hq _ hS => ?_)
  obtain ⟨rfl, hw⟩ := hq
  refine W.eq (g2 := F0 m 29 ls [.ref q6, .ref i0]) rfl ?_
  refine a_PF C hS in_X6 tyX6 tyX6_ok nmX6 rfl (k := 9) (ci := 5) (by decide) q955 (fun _ h9 => h9) rfl rfl rfl rfl dX6_init_29 hw (fun w9 H locs hw hS => ?_)
  refine lv_aload_n C.x C.b dX6_init_32 rfl (lv_at hl 0 rfl) ?_
  refine a_N (ci := 6) (fs := [.int 0, .int 0, .int 0]) C hS in_X7 tyX7 tyX7_ok rfl q919 q920 q96 (by decide) dX6_init_33 hw (fun q10 w11 H hw hS => ?_)
  refine lv_dup C.x C.b dX6_init_36 rfl ?_
  refine g_callIN (rest := [.ref q10, .ref i0]) C hS hl (kJ_X7_init C.tr hw) rfl q921 q922 q96 q923 ny_X7_init rfl (Nat.le_of_ble_eq_true rfl) (Nat.le_of_ble_eq_true rfl) rfl (Nat.le_of_ble_eq_true rfl) dX6_init_37 (fun X1 w1 H1 l1 q1 ce hx => hx.elim) (fun v w12 H locs hq _ hS => ?_)
  obtain ⟨rfl, hw⟩ := hq
  refine W.eq (g2 := F0 m 40 ls [.ref q10, .ref i0]) rfl ?_
  refine a_PF C hS in_X6 tyX6 tyX6_ok nmX6 rfl (k := 10) (ci := 5) (by decide) q958 (fun _ h9 => h9) rfl rfl rfl rfl dX6_init_40 hw (fun w13 H locs hw hS => ?_)
  refine lv_aload_n C.x C.b dX6_init_43 rfl (lv_at hl 0 rfl) ?_
  refine lv_iload_n C.x C.b dX6_init_44 rfl (lv_at hl 1 rfl) ?_
  refine lv_iload_n C.x C.b dX6_init_45 rfl (lv_at hl 2 rfl) ?_
  refine a_min C hS hl q936 q335 q86 q336 (by decide) (Nat.le_of_ble_eq_true rfl) dX6_init_46 ?_
  refine a_PF C hS in_X6 tyX6 tyX6_ok nmX6 rfl (k := 0) (ci := 5) (by decide) q938 (fun _ h9 => h9) rfl rfl rfl rfl dX6_init_49 hw (fun w14 H locs hw hS => ?_)
  refine lv_aload_n C.x C.b dX6_init_52 rfl (lv_at hl 0 rfl) ?_
  refine lv_iload_n C.x C.b dX6_init_53 rfl (lv_at hl 1 rfl) ?_
  refine lv_iload_n C.x C.b dX6_init_54 rfl (lv_at hl 2 rfl) ?_
  refine a_max C hS hl q937 q299 q86 q300 (by decide) (Nat.le_of_ble_eq_true rfl) dX6_init_55 ?_
  refine a_PF C hS in_X6 tyX6 tyX6_ok nmX6 rfl (k := 1) (ci := 5) (by decide) q940 (fun _ h9 => h9) rfl rfl rfl rfl dX6_init_58 hw (fun w15 H locs hw hS => ?_)
  refine lv_aload_n C.x C.b dX6_init_61 rfl (lv_at hl 0 rfl) ?_
  refine lv_iload_n C.x C.b dX6_init_62 rfl (lv_at hl 3 rfl) ?_
  refine a_PF C hS in_X6 tyX6 tyX6_ok nmX6 rfl (k := 2) (ci := 5) (by decide) q942 (fun _ h9 => h9) rfl rfl rfl rfl dX6_init_63 hw (fun w16 H locs hw hS => ?_)
  refine lv_aload_n C.x C.b dX6_init_66 rfl (lv_at hl 0 rfl) ?_
  refine lv_iload_n C.x C.b dX6_init_67 rfl (lv_at hl 3 rfl) ?_
  refine a_P C hS in_X6 tyX6 tyX6_ok nmX6 rfl (k := 3) (ci := 5) (by decide) q943 (fun _ h9 => h9) rfl rfl rfl dX6_init_68 hw (fun w17 H locs hw hS => ?_)
  exact g_vret C hS ⟨rfl, hw⟩ dX6_init_71
theorem ny_X6_init : gNm yX6_init 3 = true := by decide +kernel
theorem kJ_X6_init {l : Launch} (ht : l.stackTraces = false) {w : gW} {i0 : Nat} {i1 : Int32} {i2 : Int32} {i3 : Int32} {Q : gW → Prop} (hw : wJ_X6_init E i0 i1 i2 i3 Q w) : gMet l yX6_init (ws_ yX6_init cX6_init 4 none) E w [.ref i0, .int i1, .int i2, .int i3] 2 44 (gV Q) (gNoX) :=
  g_ofW ht (by decide) (Nat.le_of_ble_eq_true rfl) (fun p e s m below meth c ls H C hl hS => kJ_X6_init_r C _ _ _ _ _ _ _ _ hS hl hw)
def wJ_X6_copy (E : gE) (i0 : Nat) (Q : Option Nat → gW → Prop) (w : gW) : Prop :=
  aN E 5 11 [.int 0, .int 0, .int 0, .int 0, .int 0, .int 0, .int 0, .int 0, .null, .null, .null] (fun q1 w2 => aI E i0 5 0 (fun v3 => aI E i0 5 1 (fun v4 => aI E i0 5 2 (fun v5 => wJ_X6_init E q1 v3 v4 v5 (fun w6 => aI E i0 5 3 (fun v7 => aP q1 5 3 (.int v7) (fun w8 => aI E i0 5 4 (fun v9 => narrow .boolean (.int v9) = .int v9 ∧ fits .boolean (.int v9) = true ∧ (aP q1 5 4 (.int v9) (fun w10 => aI E i0 5 5 (fun v11 => aP q1 5 5 (.int v11) (fun w12 => aI E i0 5 6 (fun v13 => aP q1 5 6 (.int v13) (fun w14 => aI E i0 5 7 (fun v15 => aP q1 5 7 (.int v15) (fun w16 => aR E i0 5 8 (fun r17 => aR E q1 5 8 (fun r18 => ∃ a19 : Nat, r18 = some a19 ∧ (∃ a20 : Nat, r17 = some a20 ∧ (aCp E 0 a20 0 a19 0 4 (fun w21 => aR E q1 5 9 (fun r22 => aR E i0 5 9 (fun r23 => ∃ a24 : Nat, r23 = some a24 ∧ (∃ a25 : Nat, r22 = some a25 ∧ (aKind E a25 6 (wJ_X7_take E a25 a24 (fun w26 => aR E q1 5 10 (fun r27 => aR E i0 5 10 (fun r28 => ∃ a29 : Nat, r28 = some a29 ∧ (∃ a30 : Nat, r27 = some a30 ∧ (aKind E a30 6 (wJ_X7_take E a30 a29 (fun w31 => Q (some q1) w31) w26) w26))) w26) w26) w21) w21))) w21) w21) w16))) w16) w16) w14) w14) w12) w12) w10) w10) w8)) w8) w6) w6) w2) w2) w2) w2) w
theorem kJ_X6_copy_r (C : gC p l s m args meth c cX6_copy 2 (some (.object "BridgeAuction$Link")) RX6 E [] "copy") (i0 : Nat) {Q : Option Nat → gW → Prop} (w : gW) (H : Heap) (locs : List Loc) (ls : Array Slot) (hS : gS E w0 w H locs) (hl : lv_has ls 2 [(0, .ref i0)]) (hw : wJ_X6_copy E i0 Q w) : gGo p l e s m args below meth c H locs 3 67 E w0 w (gR Q) (gNoX) (F0 m 0 ls []) := by
  unfold wJ_X6_copy at hw
  refine a_N (ci := 5) (fs := [.int 0, .int 0, .int 0, .int 0, .int 0, .int 0, .int 0, .int 0, .null, .null, .null]) C hS in_X6 tyX6 tyX6_ok rfl q1173 q914 q95 (by decide) dX6_copy_0 hw (fun q1 w2 H hw hS => ?_)
  refine lv_dup C.x C.b dX6_copy_3 rfl ?_
  refine lv_aload_n C.x C.b dX6_copy_4 rfl (lv_at hl 0 rfl) ?_
  refine a_I C hS in_X6 rfl (k := 0) (ci := 5) (by decide) q938 (fun _ h9 => h9) dX6_copy_5 hw (fun v3 hw => ?_)
  refine lv_aload_n C.x C.b dX6_copy_8 rfl (lv_at hl 0 rfl) ?_
  refine a_I C hS in_X6 rfl (k := 1) (ci := 5) (by decide) q940 (fun _ h9 => h9) dX6_copy_9 hw (fun v4 hw => ?_)
  refine lv_aload_n C.x C.b dX6_copy_12 rfl (lv_at hl 0 rfl) ?_
  refine a_I C hS in_X6 rfl (k := 2) (ci := 5) (by decide) q942 (fun _ h9 => h9) dX6_copy_13 hw (fun v5 hw => ?_)
  refine g_callI (rest := [.ref q1]) C hS hl (kJ_X6_init C.tr hw) rfl q1174 q916 q95 q917 ny_X6_init rfl (Nat.le_of_ble_eq_true rfl) (Nat.le_of_ble_eq_true rfl) rfl (Nat.le_of_ble_eq_true rfl) dX6_copy_16 (fun X1 w1 H1 l1 q1 ce hx => hx.elim) (fun v w6 H locs hq _ hS => ?_)
  obtain ⟨rfl, hw⟩ := hq
  refine W.eq (g2 := F0 m 19 ls [.ref q1]) rfl ?_
  refine lv_astore_n (lv' := [(1, .ref q1), (0, .ref i0)]) C.x C.b dX6_copy_19 rfl hl (by decide) rfl (fun ls hl => ?_)
  refine lv_aload_n C.x C.b dX6_copy_20 rfl (lv_at hl 0 rfl) ?_
  refine lv_aload_n C.x C.b dX6_copy_21 rfl (lv_at hl 1 rfl) ?_
  refine a_I C hS in_X6 rfl (k := 3) (ci := 5) (by decide) q943 (fun _ h9 => h9) dX6_copy_22 hw (fun v7 hw => ?_)
  refine a_P C hS in_X6 tyX6 tyX6_ok nmX6 rfl (k := 3) (ci := 5) (by decide) q943 (fun _ h9 => h9) rfl rfl rfl dX6_copy_25 hw (fun w8 H locs hw hS => ?_)
  refine lv_aload_n C.x C.b dX6_copy_28 rfl (lv_at hl 0 rfl) ?_
  refine lv_aload_n C.x C.b dX6_copy_29 rfl (lv_at hl 1 rfl) ?_
  refine a_I C hS in_X6 rfl (k := 4) (ci := 5) (by decide) q945 (fun _ h9 => h9) dX6_copy_30 hw (fun v9 hw => ?_)
  obtain ⟨hnar, hfit, hw⟩ := hw
  refine a_P C hS in_X6 tyX6 tyX6_ok nmX6 rfl (k := 4) (ci := 5) (by decide) q945 (fun _ h9 => h9) rfl hnar hfit dX6_copy_33 hw (fun w10 H locs hw hS => ?_)
  refine lv_aload_n C.x C.b dX6_copy_36 rfl (lv_at hl 0 rfl) ?_
  refine lv_aload_n C.x C.b dX6_copy_37 rfl (lv_at hl 1 rfl) ?_
  refine a_I C hS in_X6 rfl (k := 5) (ci := 5) (by decide) q947 (fun _ h9 => h9) dX6_copy_38 hw (fun v11 hw => ?_)
  refine a_P C hS in_X6 tyX6 tyX6_ok nmX6 rfl (k := 5) (ci := 5) (by decide) q947 (fun _ h9 => h9) rfl rfl rfl dX6_copy_41 hw (fun w12 H locs hw hS => ?_)
  refine lv_aload_n C.x C.b dX6_copy_44 rfl (lv_at hl 0 rfl) ?_
  refine lv_aload_n C.x C.b dX6_copy_45 rfl (lv_at hl 1 rfl) ?_
  refine a_I C hS in_X6 rfl (k := 6) (ci := 5) (by decide) q949 (fun _ h9 => h9) dX6_copy_46 hw (fun v13 hw => ?_)
  refine a_P C hS in_X6 tyX6 tyX6_ok nmX6 rfl (k := 6) (ci := 5) (by decide) q949 (fun _ h9 => h9) rfl rfl rfl dX6_copy_49 hw (fun w14 H locs hw hS => ?_)
  refine lv_aload_n C.x C.b dX6_copy_52 rfl (lv_at hl 0 rfl) ?_
  refine lv_aload_n C.x C.b dX6_copy_53 rfl (lv_at hl 1 rfl) ?_
  refine a_I C hS in_X6 rfl (k := 7) (ci := 5) (by decide) q951 (fun _ h9 => h9) dX6_copy_54 hw (fun v15 hw => ?_)
  refine a_P C hS in_X6 tyX6 tyX6_ok nmX6 rfl (k := 7) (ci := 5) (by decide) q951 (fun _ h9 => h9) rfl rfl rfl dX6_copy_57 hw (fun w16 H locs hw hS => ?_)
  refine lv_aload_n C.x C.b dX6_copy_60 rfl (lv_at hl 1 rfl) ?_
  refine a_R C hS in_X6 rfl (k := 8) (ci := 5) (by decide) q952 (fun _ h9 => h9) dX6_copy_61 hw (fun r17 hw => ?_)
  refine lv_iconst (v := 0) C.x C.b dX6_copy_64 (by decide) ?_
  refine lv_aload_n C.x C.b dX6_copy_65 rfl (lv_at hl 0 rfl) ?_
  refine a_R C hS in_X6 rfl (k := 8) (ci := 5) (by decide) q952 (fun _ h9 => h9) dX6_copy_66 hw (fun r18 hw => ?_)
  refine lv_iconst (v := 0) C.x C.b dX6_copy_69 (by decide) ?_
  refine lv_iconst (v := 4) C.x C.b dX6_copy_70 (by decide) ?_
  obtain ⟨a19, e9, hw9⟩ := hw; subst e9; have hw := hw9; clear hw9
  have hl : lv_has ls 2 [(1, .ref q1), (0, .ref i0)] := hl
  refine W.eq (g2 := F0 m 71 ls [.int 4, .int 0, .ref a19, .int 0, va_rf r17]) rfl ?_
  obtain ⟨a20, e9, hw9⟩ := hw; subst e9; have hw := hw9; clear hw9
  have hl : lv_has ls 2 [(1, .ref q1), (0, .ref i0)] := hl
  refine W.eq (g2 := F0 m 71 ls [.int 4, .int 0, .ref a19, .int 0, .ref a20]) rfl ?_
  refine a_cp (t := 0) C hS hl (by decide) q1175 q339 q338 q87 (by decide) (Nat.le_of_ble_eq_true rfl) dX6_copy_71 hw (fun w21 H locs hw hS => ?_)
  refine lv_aload_n C.x C.b dX6_copy_74 rfl (lv_at hl 0 rfl) ?_
  refine a_R C hS in_X6 rfl (k := 9) (ci := 5) (by decide) q955 (fun _ h9 => h9) dX6_copy_75 hw (fun r22 hw => ?_)
  refine lv_aload_n C.x C.b dX6_copy_78 rfl (lv_at hl 1 rfl) ?_
  refine a_R C hS in_X6 rfl (k := 9) (ci := 5) (by decide) q955 (fun _ h9 => h9) dX6_copy_79 hw (fun r23 hw => ?_)
  obtain ⟨a24, e9, hw9⟩ := hw; subst e9; have hw := hw9; clear hw9
  have hl : lv_has ls 2 [(1, .ref q1), (0, .ref i0)] := hl
  refine W.eq (g2 := F0 m 82 ls [.ref a24, va_rf r22]) rfl ?_
  obtain ⟨a25, e9, hw9⟩ := hw; subst e9; have hw := hw9; clear hw9
  have hl : lv_has ls 2 [(1, .ref q1), (0, .ref i0)] := hl
  refine W.eq (g2 := F0 m 82 ls [.ref a24, .ref a25]) rfl ?_
  obtain ⟨fs, hq, hw⟩ := hw
  refine a_callV (rest := []) C hS hl 6 hq rfl (kJ_X7_take C.tr hw) q1176 q1177 q1178 q96 q1179 ny_X7_take rfl (Nat.le_of_ble_eq_true rfl) (Nat.le_of_ble_eq_true rfl) rfl (Nat.le_of_ble_eq_true rfl) dX6_copy_82 (fun X1 w1 H1 l1 q1 ce hx => hx.elim) (fun v w26 H locs hq _ hS => ?_)
  obtain ⟨rfl, hw⟩ := hq
  refine W.eq (g2 := F0 m 85 ls []) rfl ?_
  refine lv_aload_n C.x C.b dX6_copy_85 rfl (lv_at hl 0 rfl) ?_
  refine a_R C hS in_X6 rfl (k := 10) (ci := 5) (by decide) q958 (fun _ h9 => h9) dX6_copy_86 hw (fun r27 hw => ?_)
  refine lv_aload_n C.x C.b dX6_copy_89 rfl (lv_at hl 1 rfl) ?_
  refine a_R C hS in_X6 rfl (k := 10) (ci := 5) (by decide) q958 (fun _ h9 => h9) dX6_copy_90 hw (fun r28 hw => ?_)
  obtain ⟨a29, e9, hw9⟩ := hw; subst e9; have hw := hw9; clear hw9
  have hl : lv_has ls 2 [(1, .ref q1), (0, .ref i0)] := hl
  refine W.eq (g2 := F0 m 93 ls [.ref a29, va_rf r27]) rfl ?_
  obtain ⟨a30, e9, hw9⟩ := hw; subst e9; have hw := hw9; clear hw9
  have hl : lv_has ls 2 [(1, .ref q1), (0, .ref i0)] := hl
  refine W.eq (g2 := F0 m 93 ls [.ref a29, .ref a30]) rfl ?_
  obtain ⟨fs, hq, hw⟩ := hw
  refine a_callV (rest := []) C hS hl 6 hq rfl (kJ_X7_take C.tr hw) q1176 q1177 q1178 q96 q1179 ny_X7_take rfl (Nat.le_of_ble_eq_true rfl) (Nat.le_of_ble_eq_true rfl) rfl (Nat.le_of_ble_eq_true rfl) dX6_copy_93 (fun X1 w1 H1 l1 q1 ce hx => hx.elim) (fun v w31 H locs hq _ hS => ?_)
  obtain ⟨rfl, hw⟩ := hq
  refine W.eq (g2 := F0 m 96 ls []) rfl ?_
  refine lv_aload_n C.x C.b dX6_copy_96 rfl (lv_at hl 0 rfl) ?_
  exact g_aret (r := (some q1)) C (Or.inl ⟨_, rfl⟩) hS ⟨_, rfl, hw⟩ dX6_copy_97
theorem ny_X6_copy : gNm yX6_copy 0 = true := by decide +kernel
theorem kJ_X6_copy {l : Launch} (ht : l.stackTraces = false) {w : gW} {i0 : Nat} {Q : Option Nat → gW → Prop} (hw : wJ_X6_copy E i0 Q w) : gMet l yX6_copy (ws_ yX6_copy cX6_copy 2 (some (.object "BridgeAuction$Link"))) E w [.ref i0] 3 67 (gR Q) (gNoX) :=
  g_ofW ht (by decide) (Nat.le_of_ble_eq_true rfl) (fun p e s m below meth c ls H C hl hS => kJ_X6_copy_r C _ _ _ _ _ hS hl hw)
def wJ_X6_isAt (E : gE) (i0 : Nat) (i1 : Int32) (Q : Int32 → gW → Prop) (w : gW) : Prop :=
  aI E i0 5 0 (fun v1 => (v1 = i1 → (Q 1 w)) ∧ (¬ v1 = i1 → (aI E i0 5 1 (fun v3 => (v3 = i1 → (Q 1 w)) ∧ (¬ v3 = i1 → (Q 0 w))) w))) w
theorem kJ_X6_isAt_r (C : gC p l s m args meth c cX6_isAt 2 (some .boolean) RX6 E [] "isAt") (i0 : Nat) (i1 : Int32) {Q : Int32 → gW → Prop} (w : gW) (H : Heap) (locs : List Loc) (ls : Array Slot) (hS : gS E w0 w H locs) (hl : lv_has ls 2 [(0, .ref i0), (1, .int i1)]) (hw : wJ_X6_isAt E i0 i1 Q w) : gGo p l e s m args below meth c H locs 0 0 E w0 w (gI Q) (gNoX) (F0 m 0 ls []) := by
  unfold wJ_X6_isAt at hw
  refine lv_aload_n C.x C.b dX6_isAt_0 rfl (lv_at hl 0 rfl) ?_
  refine a_I C hS in_X6 rfl (k := 0) (ci := 5) (by decide) q938 (fun _ h9 => h9) dX6_isAt_1 hw (fun v1 hw => ?_)
  refine lv_iload_n C.x C.b dX6_isAt_4 rfl (lv_at hl 1 rfl) ?_
  refine lv_icmp_eq (tgt := 16) C.x C.b dX6_isAt_5 (by decide) (fun c2 => ?_) (fun c2 => ?_)
  · have hw := hw.1 c2
    refine lv_iconst (v := 1) C.x C.b dX6_isAt_16 (by decide) ?_
    refine lv_goto (tgt := 21) C.x C.b dX6_isAt_17 (by decide) ?_
    exact g_zret C hS rfl ⟨_, rfl, hw⟩ dX6_isAt_21
  · have hw := hw.2 c2
    refine lv_aload_n C.x C.b dX6_isAt_8 rfl (lv_at hl 0 rfl) ?_
    refine a_I C hS in_X6 rfl (k := 1) (ci := 5) (by decide) q940 (fun _ h9 => h9) dX6_isAt_9 hw (fun v3 hw => ?_)
    refine lv_iload_n C.x C.b dX6_isAt_12 rfl (lv_at hl 1 rfl) ?_
    refine lv_icmp_ne (tgt := 20) C.x C.b dX6_isAt_13 (by decide) (fun c4 => ?_) (fun c4 => ?_)
    · have hw := hw.2 c4
      refine lv_iconst (v := 0) C.x C.b dX6_isAt_20 (by decide) ?_
      exact g_zret C hS rfl ⟨_, rfl, hw⟩ dX6_isAt_21
    · have hw := hw.1 c4
      refine lv_iconst (v := 1) C.x C.b dX6_isAt_16 (by decide) ?_
      refine lv_goto (tgt := 21) C.x C.b dX6_isAt_17 (by decide) ?_
      exact g_zret C hS rfl ⟨_, rfl, hw⟩ dX6_isAt_21
theorem ny_X6_isAt : gNm yX6_isAt 1 = true := by decide +kernel
theorem kJ_X6_isAt {l : Launch} (ht : l.stackTraces = false) {w : gW} {i0 : Nat} {i1 : Int32} {Q : Int32 → gW → Prop} (hw : wJ_X6_isAt E i0 i1 Q w) : gMet l yX6_isAt (ws_ yX6_isAt cX6_isAt 2 (some .boolean)) E w [.ref i0, .int i1] 0 0 (gI Q) (gNoX) :=
  g_ofW ht (by decide) (Nat.le_of_ble_eq_true rfl) (fun p e s m below meth c ls H C hl hS => kJ_X6_isAt_r C _ _ _ _ _ _ hS hl hw)
def wJ_X6_otherEnd (E : gE) (i0 : Nat) (i1 : Int32) (Q : Int32 → gW → Prop) (w : gW) : Prop :=
  aI E i0 5 0 (fun v1 => aI E i0 5 1 (fun v2 => Q ((v1 + v2) - i1) w) w) w
theorem kJ_X6_otherEnd_r (C : gC p l s m args meth c cX6_otherEnd 2 (some .int) RX6 E [] "otherEnd") (i0 : Nat) (i1 : Int32) {Q : Int32 → gW → Prop} (w : gW) (H : Heap) (locs : List Loc) (ls : Array Slot) (hS : gS E w0 w H locs) (hl : lv_has ls 2 [(0, .ref i0), (1, .int i1)]) (hw : wJ_X6_otherEnd E i0 i1 Q w) : gGo p l e s m args below meth c H locs 0 0 E w0 w (gI Q) (gNoX) (F0 m 0 ls []) := by
  unfold wJ_X6_otherEnd at hw
  refine lv_aload_n C.x C.b dX6_otherEnd_0 rfl (lv_at hl 0 rfl) ?_
  refine a_I C hS in_X6 rfl (k := 0) (ci := 5) (by decide) q938 (fun _ h9 => h9) dX6_otherEnd_1 hw (fun v1 hw => ?_)
  refine lv_aload_n C.x C.b dX6_otherEnd_4 rfl (lv_at hl 0 rfl) ?_
  refine a_I C hS in_X6 rfl (k := 1) (ci := 5) (by decide) q940 (fun _ h9 => h9) dX6_otherEnd_5 hw (fun v2 hw => ?_)
  refine lv_iadd C.x C.b dX6_otherEnd_8 ?_
  refine lv_iload_n C.x C.b dX6_otherEnd_9 rfl (lv_at hl 1 rfl) ?_
  refine lv_isub C.x C.b dX6_otherEnd_10 ?_
  exact g_iret C hS ⟨_, rfl, hw⟩ dX6_otherEnd_11
theorem ny_X6_otherEnd : gNm yX6_otherEnd 1 = true := by decide +kernel
theorem kJ_X6_otherEnd {l : Launch} (ht : l.stackTraces = false) {w : gW} {i0 : Nat} {i1 : Int32} {Q : Int32 → gW → Prop} (hw : wJ_X6_otherEnd E i0 i1 Q w) : gMet l yX6_otherEnd (ws_ yX6_otherEnd cX6_otherEnd 2 (some .int)) E w [.ref i0, .int i1] 0 0 (gI Q) (gNoX) :=
  g_ofW ht (by decide) (Nat.le_of_ble_eq_true rfl) (fun p e s m below meth c ls H C hl hS => kJ_X6_otherEnd_r C _ _ _ _ _ _ hS hl hw)
def wJ_X6_carries (E : gE) (i0 : Nat) (Q : Int32 → gW → Prop) (w : gW) : Prop :=
  aI E i0 5 4 (fun v1 => (v1 = 0 → (Q 0 w)) ∧ (¬ v1 = 0 → (aR E i0 5 9 (fun r3 => ∃ a4 : Nat, r3 = some a4 ∧ (aI E a4 6 1 (fun v5 => (v5 = 3 → (aR E i0 5 10 (fun r7 => ∃ a8 : Nat, r7 = some a8 ∧ (aI E a8 6 1 (fun v9 => (v9 = 3 → (Q 1 w)) ∧ (¬ v9 = 3 → (Q 0 w))) w)) w)) ∧ (¬ v5 = 3 → (Q 0 w))) w)) w))) w
theorem kJ_X6_carries_r (C : gC p l s m args meth c cX6_carries 1 (some .boolean) RX6 E [] "carries") (i0 : Nat) {Q : Int32 → gW → Prop} (w : gW) (H : Heap) (locs : List Loc) (ls : Array Slot) (hS : gS E w0 w H locs) (hl : lv_has ls 1 [(0, .ref i0)]) (hw : wJ_X6_carries E i0 Q w) : gGo p l e s m args below meth c H locs 0 0 E w0 w (gI Q) (gNoX) (F0 m 0 ls []) := by
  unfold wJ_X6_carries at hw
  refine lv_aload_n C.x C.b dX6_carries_0 rfl (lv_at hl 0 rfl) ?_
  refine a_I C hS in_X6 rfl (k := 4) (ci := 5) (by decide) q945 (fun _ h9 => h9) dX6_carries_1 hw (fun v1 hw => ?_)
  refine lv_if_eq (tgt := 33) C.x C.b dX6_carries_4 (by decide) (fun c2 => ?_) (fun c2 => ?_)
  · have hw := hw.1 c2
    refine lv_iconst (v := 0) C.x C.b dX6_carries_33 (by decide) ?_
    exact g_zret C hS rfl ⟨_, rfl, hw⟩ dX6_carries_34
  · have hw := hw.2 c2
    refine lv_aload_n C.x C.b dX6_carries_7 rfl (lv_at hl 0 rfl) ?_
    refine a_R C hS in_X6 rfl (k := 9) (ci := 5) (by decide) q955 (fun _ h9 => h9) dX6_carries_8 hw (fun r3 hw => ?_)
    obtain ⟨a4, e9, hw9⟩ := hw; subst e9; have hw := hw9; clear hw9
    have hl : lv_has ls 1 [(0, .ref i0)] := hl
    refine W.eq (g2 := F0 m 11 ls [.ref a4]) rfl ?_
    refine a_IN C hS in_X7 rfl (k := 1) (ci := 6) (by decide) q927 (fun _ h9 => h9) dX6_carries_11 hw (fun v5 hw => ?_)
    refine lv_iconst (v := 3) C.x C.b dX6_carries_14 (by decide) ?_
    refine lv_icmp_ne (tgt := 33) C.x C.b dX6_carries_15 (by decide) (fun c6 => ?_) (fun c6 => ?_)
    · have hw := hw.2 c6
      refine lv_iconst (v := 0) C.x C.b dX6_carries_33 (by decide) ?_
      exact g_zret C hS rfl ⟨_, rfl, hw⟩ dX6_carries_34
    · have hw := hw.1 c6
      refine lv_aload_n C.x C.b dX6_carries_18 rfl (lv_at hl 0 rfl) ?_
      refine a_R C hS in_X6 rfl (k := 10) (ci := 5) (by decide) q958 (fun _ h9 => h9) dX6_carries_19 hw (fun r7 hw => ?_)
      obtain ⟨a8, e9, hw9⟩ := hw; subst e9; have hw := hw9; clear hw9
      have hl : lv_has ls 1 [(0, .ref i0)] := hl
      refine W.eq (g2 := F0 m 22 ls [.ref a8]) rfl ?_
      refine a_IN C hS in_X7 rfl (k := 1) (ci := 6) (by decide) q927 (fun _ h9 => h9) dX6_carries_22 hw (fun v9 hw => ?_)
      refine lv_iconst (v := 3) C.x C.b dX6_carries_25 (by decide) ?_
      refine lv_icmp_ne (tgt := 33) C.x C.b dX6_carries_26 (by decide) (fun c10 => ?_) (fun c10 => ?_)
      · have hw := hw.2 c10
        refine lv_iconst (v := 0) C.x C.b dX6_carries_33 (by decide) ?_
        exact g_zret C hS rfl ⟨_, rfl, hw⟩ dX6_carries_34
      · have hw := hw.1 c10
        refine lv_iconst (v := 1) C.x C.b dX6_carries_29 (by decide) ?_
        refine lv_goto (tgt := 34) C.x C.b dX6_carries_30 (by decide) ?_
        exact g_zret C hS rfl ⟨_, rfl, hw⟩ dX6_carries_34
theorem ny_X6_carries : gNm yX6_carries 0 = true := by decide +kernel
theorem kJ_X6_carries {l : Launch} (ht : l.stackTraces = false) {w : gW} {i0 : Nat} {Q : Int32 → gW → Prop} (hw : wJ_X6_carries E i0 Q w) : gMet l yX6_carries (ws_ yX6_carries cX6_carries 1 (some .boolean)) E w [.ref i0] 0 0 (gI Q) (gNoX) :=
  g_ofW ht (by decide) (Nat.le_of_ble_eq_true rfl) (fun p e s m below meth c ls H C hl hS => kJ_X6_carries_r C _ _ _ _ _ hS hl hw)
def wJ_X6_follow_53 (E : gE) (Q : gW → Prop) (x0 : Nat) (x2 : Int32) (w : gW) : Prop :=
  aP x0 5 3 (.int x2) (fun w11 => aP x0 5 7 (.int 0) (fun w12 => Q w12) w11) w
theorem kJ_X6_follow_53 (C : gC p l s m args meth c cX6_follow 3 none RX6 E [] "follow") {Q : gW → Prop} (x0 : Nat) (x2 : Int32) (w : gW) (H : Heap) (locs : List Loc) (ls : Array Slot) (hS : gS E w0 w H locs) (hl : lv_has ls 3 [(0, .ref x0), (2, .int x2)]) (hw : wJ_X6_follow_53 E Q x0 x2 w) : gGo p l e s m args below meth c H locs 1 24 E w0 w (gV Q) (gNoX) (F0 m 53 ls []) := by
  unfold wJ_X6_follow_53 at hw
  refine lv_aload_n C.x C.b dX6_follow_53 rfl (lv_at hl 0 rfl) ?_
  refine lv_iload_n C.x C.b dX6_follow_54 rfl (lv_at hl 1 rfl) ?_
  refine a_P C hS in_X6 tyX6 tyX6_ok nmX6 rfl (k := 3) (ci := 5) (by decide) q943 (fun _ h9 => h9) rfl rfl rfl dX6_follow_55 hw (fun w11 H locs hw hS => ?_)
  refine lv_aload_n C.x C.b dX6_follow_58 rfl (lv_at hl 0 rfl) ?_
  refine lv_iconst (v := 0) C.x C.b dX6_follow_59 (by decide) ?_
  refine a_P C hS in_X6 tyX6 tyX6_ok nmX6 rfl (k := 7) (ci := 5) (by decide) q951 (fun _ h9 => h9) rfl rfl rfl dX6_follow_60 hw (fun w12 H locs hw hS => ?_)
  exact g_vret C hS ⟨rfl, hw⟩ dX6_follow_63
def wJ_X6_follow_29 (E : gE) (Q : gW → Prop) (x0 : Nat) (x1 : Int32) (x2 : Int32) (y0 : Int32) (y1 : Nat) (w : gW) : Prop :=
  aP y1 5 7 (.int y0) (fun w6 => aI E x0 5 3 (fun v7 => (x1 < (if 0 ≤ (x2 - v7) then (x2 - v7) else 0 - (x2 - v7)) → (wJ_X6_follow_53 E Q x0 x2 w6)) ∧ (¬ x1 < (if 0 ≤ (x2 - v7) then (x2 - v7) else 0 - (x2 - v7)) → (aI E x0 5 7 (fun v9 => (v9 = 3 → (wJ_X6_follow_53 E Q x0 x2 w6)) ∧ (¬ v9 = 3 → (Q w6))) w6))) w6) w
theorem kJ_X6_follow_29 (C : gC p l s m args meth c cX6_follow 3 none RX6 E [] "follow") {Q : gW → Prop} (x0 : Nat) (x1 : Int32) (x2 : Int32) (y0 : Int32) (y1 : Nat) (w : gW) (H : Heap) (locs : List Loc) (ls : Array Slot) (hS : gS E w0 w H locs) (hl : lv_has ls 3 [(0, .ref x0), (1, .int x1), (2, .int x2)]) (hw : wJ_X6_follow_29 E Q x0 x1 x2 y0 y1 w) : gGo p l e s m args below meth c H locs 1 24 E w0 w (gV Q) (gNoX) (F0 m 29 ls [.int y0, .ref y1]) := by
  unfold wJ_X6_follow_29 at hw
  refine a_P C hS in_X6 tyX6 tyX6_ok nmX6 rfl (k := 7) (ci := 5) (by decide) q951 (fun _ h9 => h9) rfl rfl rfl dX6_follow_29 hw (fun w6 H locs hw hS => ?_)
  refine lv_iload_n C.x C.b dX6_follow_32 rfl (lv_at hl 2 rfl) ?_
  refine lv_aload_n C.x C.b dX6_follow_33 rfl (lv_at hl 0 rfl) ?_
  refine a_I C hS in_X6 rfl (k := 3) (ci := 5) (by decide) q943 (fun _ h9 => h9) dX6_follow_34 hw (fun v7 hw => ?_)
  refine lv_isub C.x C.b dX6_follow_37 ?_
  refine a_abs C hS hl q1063 q1064 q86 q1065 (by decide) (Nat.le_of_ble_eq_true rfl) dX6_follow_38 ?_
  refine lv_iload_n C.x C.b dX6_follow_41 rfl (lv_at hl 1 rfl) ?_
  refine lv_icmp_gt (tgt := 53) C.x C.b dX6_follow_42 (by decide) (fun c8 => ?_) (fun c8 => ?_)
  · have hw := hw.1 c8
    exact kJ_X6_follow_53 C _ _ _ _ _ _ hS (lv_sub hl [0, 2] rfl) hw
  · have hw := hw.2 c8
    refine lv_aload_n C.x C.b dX6_follow_45 rfl (lv_at hl 0 rfl) ?_
    refine a_I C hS in_X6 rfl (k := 7) (ci := 5) (by decide) q951 (fun _ h9 => h9) dX6_follow_46 hw (fun v9 hw => ?_)
    refine lv_iconst (v := 3) C.x C.b dX6_follow_49 (by decide) ?_
    refine lv_icmp_ne (tgt := 63) C.x C.b dX6_follow_50 (by decide) (fun c10 => ?_) (fun c10 => ?_)
    · have hw := hw.2 c10
      exact g_vret C hS ⟨rfl, hw⟩ dX6_follow_63
    · have hw := hw.1 c10
      exact kJ_X6_follow_53 C _ _ _ _ _ _ hS (lv_sub hl [0, 2] rfl) hw
def wJ_X6_follow (E : gE) (i0 : Nat) (i1 : Int32) (Q : gW → Prop) (w : gW) : Prop :=
  aI E i0 5 2 (fun v1 => aI E i0 5 6 (fun v2 => aI E i0 5 3 (fun v3 => ((v1 + v2) = v3 → (wJ_X6_follow_29 E Q i0 i1 (v1 + v2) 0 i0 w)) ∧ (¬ (v1 + v2) = v3 → (aI E i0 5 7 (fun v5 => wJ_X6_follow_29 E Q i0 i1 (v1 + v2) (v5 + 1) i0 w) w))) w) w) w
theorem kJ_X6_follow_r (C : gC p l s m args meth c cX6_follow 3 none RX6 E [] "follow") (i0 : Nat) (i1 : Int32) {Q : gW → Prop} (w : gW) (H : Heap) (locs : List Loc) (ls : Array Slot) (hS : gS E w0 w H locs) (hl : lv_has ls 3 [(0, .ref i0), (1, .int i1)]) (hw : wJ_X6_follow E i0 i1 Q w) : gGo p l e s m args below meth c H locs 1 24 E w0 w (gV Q) (gNoX) (F0 m 0 ls []) := by
  unfold wJ_X6_follow at hw
  refine lv_aload_n C.x C.b dX6_follow_0 rfl (lv_at hl 0 rfl) ?_
  refine a_I C hS in_X6 rfl (k := 2) (ci := 5) (by decide) q942 (fun _ h9 => h9) dX6_follow_1 hw (fun v1 hw => ?_)
  refine lv_aload_n C.x C.b dX6_follow_4 rfl (lv_at hl 0 rfl) ?_
  refine a_I C hS in_X6 rfl (k := 6) (ci := 5) (by decide) q949 (fun _ h9 => h9) dX6_follow_5 hw (fun v2 hw => ?_)
  refine lv_iadd C.x C.b dX6_follow_8 ?_
  refine lv_istore_n (lv' := [(2, .int (v1 + v2)), (0, .ref i0), (1, .int i1)]) C.x C.b dX6_follow_9 rfl hl (by decide) rfl (fun ls hl => ?_)
  refine lv_aload_n C.x C.b dX6_follow_10 rfl (lv_at hl 1 rfl) ?_
  refine lv_iload_n C.x C.b dX6_follow_11 rfl (lv_at hl 0 rfl) ?_
  refine lv_aload_n C.x C.b dX6_follow_12 rfl (lv_at hl 1 rfl) ?_
  refine a_I C hS in_X6 rfl (k := 3) (ci := 5) (by decide) q943 (fun _ h9 => h9) dX6_follow_13 hw (fun v3 hw => ?_)
  refine lv_icmp_ne (tgt := 23) C.x C.b dX6_follow_16 (by decide) (fun c4 => ?_) (fun c4 => ?_)
  · have hw := hw.2 c4
    refine lv_aload_n C.x C.b dX6_follow_23 rfl (lv_at hl 1 rfl) ?_
    refine a_I C hS in_X6 rfl (k := 7) (ci := 5) (by decide) q951 (fun _ h9 => h9) dX6_follow_24 hw (fun v5 hw => ?_)
    refine lv_iconst (v := 1) C.x C.b dX6_follow_27 (by decide) ?_
    refine lv_iadd C.x C.b dX6_follow_28 ?_
    exact kJ_X6_follow_29 C _ _ _ _ _ _ _ _ _ hS (lv_sub hl [1, 2, 0] rfl) hw
  · have hw := hw.1 c4
    refine lv_iconst (v := 0) C.x C.b dX6_follow_19 (by decide) ?_
    refine lv_goto (tgt := 29) C.x C.b dX6_follow_20 (by decide) ?_
    exact kJ_X6_follow_29 C _ _ _ _ _ _ _ _ _ hS (lv_sub hl [1, 2, 0] rfl) hw
theorem ny_X6_follow : gNm yX6_follow 1 = true := by decide +kernel
theorem kJ_X6_follow {l : Launch} (ht : l.stackTraces = false) {w : gW} {i0 : Nat} {i1 : Int32} {Q : gW → Prop} (hw : wJ_X6_follow E i0 i1 Q w) : gMet l yX6_follow (ws_ yX6_follow cX6_follow 3 none) E w [.ref i0, .int i1] 1 24 (gV Q) (gNoX) :=
  g_ofW ht (by decide) (Nat.le_of_ble_eq_true rfl) (fun p e s m below meth c ls H C hl hS => kJ_X6_follow_r C _ _ _ _ _ _ hS hl hw)
def wJ_X6_value (E : gE) (i0 : Nat) (i1 : Int32) (Q : Int32 → gW → Prop) (w : gW) : Prop :=
  (i1 = 0 → (aI E i0 5 0 (fun v1 => Q v1 w) w)) ∧ (¬ i1 = 0 → ((i1 = 1 → (aI E i0 5 1 (fun v2 => Q v2 w) w)) ∧ (¬ i1 = 1 → ((i1 = 2 → (aI E i0 5 2 (fun v3 => Q v3 w) w)) ∧ (¬ i1 = 2 → ((i1 = 3 → (aI E i0 5 3 (fun v4 => Q v4 w) w)) ∧ (¬ i1 = 3 → ((i1 = 4 → (aI E i0 5 4 (fun v5 => (v5 = 0 → (Q 0 w)) ∧ (¬ v5 = 0 → (Q 1 w))) w)) ∧ (¬ i1 = 4 → ((i1 = 5 → (aI E i0 5 5 (fun v7 => Q v7 w) w)) ∧ (¬ i1 = 5 → ((i1 = 6 → (aI E i0 5 6 (fun v8 => Q v8 w) w)) ∧ (¬ i1 = 6 → ((i1 = 7 → (aKind E i0 5 (wJ_X6_carries E i0 (fun r10 w9 => (r10 = 0 → (Q 0 w9)) ∧ (¬ r10 = 0 → (Q 1 w9))) w) w)) ∧ (¬ i1 = 7 → (aI E i0 5 7 (fun v12 => Q v12 w) w))))))))))))))))
theorem kJ_X6_value_r (C : gC p l s m args meth c cX6_value 2 (some .int) RX6 E [] "value") (i0 : Nat) (i1 : Int32) {Q : Int32 → gW → Prop} (w : gW) (H : Heap) (locs : List Loc) (ls : Array Slot) (hS : gS E w0 w H locs) (hl : lv_has ls 2 [(0, .ref i0), (1, .int i1)]) (hw : wJ_X6_value E i0 i1 Q w) : gGo p l e s m args below meth c H locs 1 20 E w0 w (gI Q) (gNoX) (F0 m 0 ls []) := by
  unfold wJ_X6_value at hw
  refine lv_iload_n C.x C.b dX6_value_0 rfl (lv_at hl 1 rfl) ?_
  rcases Decidable.em (i1 = 0) with c1_0 | c1_0
  · have hw := hw.1 c1_0
    rw [c1_0]
    refine lv_tableIn (tgt := 48) (off := 47) C.x C.b dX6_value_1 (by decide) (by decide) rfl (by decide) ?_
    refine lv_aload_n C.x C.b dX6_value_48 rfl (lv_at hl 0 rfl) ?_
    refine a_I C hS in_X6 rfl (k := 0) (ci := 5) (by decide) q938 (fun _ h9 => h9) dX6_value_49 hw (fun v1 hw => ?_)
    exact g_iret C hS ⟨_, rfl, hw⟩ dX6_value_52
  · have hw := hw.2 c1_0
    rcases Decidable.em (i1 = 1) with c1_1 | c1_1
    · have hw := hw.1 c1_1
      rw [c1_1]
      refine lv_tableIn (tgt := 53) (off := 52) C.x C.b dX6_value_1 (by decide) (by decide) rfl (by decide) ?_
      refine lv_aload_n C.x C.b dX6_value_53 rfl (lv_at hl 0 rfl) ?_
      refine a_I C hS in_X6 rfl (k := 1) (ci := 5) (by decide) q940 (fun _ h9 => h9) dX6_value_54 hw (fun v2 hw => ?_)
      exact g_iret C hS ⟨_, rfl, hw⟩ dX6_value_57
    · have hw := hw.2 c1_1
      rcases Decidable.em (i1 = 2) with c1_2 | c1_2
      · have hw := hw.1 c1_2
        rw [c1_2]
        refine lv_tableIn (tgt := 58) (off := 57) C.x C.b dX6_value_1 (by decide) (by decide) rfl (by decide) ?_
        refine lv_aload_n C.x C.b dX6_value_58 rfl (lv_at hl 0 rfl) ?_
        refine a_I C hS in_X6 rfl (k := 2) (ci := 5) (by decide) q942 (fun _ h9 => h9) dX6_value_59 hw (fun v3 hw => ?_)
        exact g_iret C hS ⟨_, rfl, hw⟩ dX6_value_62
      · have hw := hw.2 c1_2
        rcases Decidable.em (i1 = 3) with c1_3 | c1_3
        · have hw := hw.1 c1_3
          rw [c1_3]
          refine lv_tableIn (tgt := 63) (off := 62) C.x C.b dX6_value_1 (by decide) (by decide) rfl (by decide) ?_
          refine lv_aload_n C.x C.b dX6_value_63 rfl (lv_at hl 0 rfl) ?_
          refine a_I C hS in_X6 rfl (k := 3) (ci := 5) (by decide) q943 (fun _ h9 => h9) dX6_value_64 hw (fun v4 hw => ?_)
          exact g_iret C hS ⟨_, rfl, hw⟩ dX6_value_67
        · have hw := hw.2 c1_3
          rcases Decidable.em (i1 = 4) with c1_4 | c1_4
          · have hw := hw.1 c1_4
            rw [c1_4]
            refine lv_tableIn (tgt := 68) (off := 67) C.x C.b dX6_value_1 (by decide) (by decide) rfl (by decide) ?_
            refine lv_aload_n C.x C.b dX6_value_68 rfl (lv_at hl 0 rfl) ?_
            refine a_I C hS in_X6 rfl (k := 4) (ci := 5) (by decide) q945 (fun _ h9 => h9) dX6_value_69 hw (fun v5 hw => ?_)
            refine lv_if_eq (tgt := 79) C.x C.b dX6_value_72 (by decide) (fun c6 => ?_) (fun c6 => ?_)
            · have hw := hw.1 c6
              refine lv_iconst (v := 0) C.x C.b dX6_value_79 (by decide) ?_
              exact g_iret C hS ⟨_, rfl, hw⟩ dX6_value_80
            · have hw := hw.2 c6
              refine lv_iconst (v := 1) C.x C.b dX6_value_75 (by decide) ?_
              refine lv_goto (tgt := 80) C.x C.b dX6_value_76 (by decide) ?_
              exact g_iret C hS ⟨_, rfl, hw⟩ dX6_value_80
          · have hw := hw.2 c1_4
            rcases Decidable.em (i1 = 5) with c1_5 | c1_5
            · have hw := hw.1 c1_5
              rw [c1_5]
              refine lv_tableIn (tgt := 81) (off := 80) C.x C.b dX6_value_1 (by decide) (by decide) rfl (by decide) ?_
              refine lv_aload_n C.x C.b dX6_value_81 rfl (lv_at hl 0 rfl) ?_
              refine a_I C hS in_X6 rfl (k := 5) (ci := 5) (by decide) q947 (fun _ h9 => h9) dX6_value_82 hw (fun v7 hw => ?_)
              exact g_iret C hS ⟨_, rfl, hw⟩ dX6_value_85
            · have hw := hw.2 c1_5
              rcases Decidable.em (i1 = 6) with c1_6 | c1_6
              · have hw := hw.1 c1_6
                rw [c1_6]
                refine lv_tableIn (tgt := 86) (off := 85) C.x C.b dX6_value_1 (by decide) (by decide) rfl (by decide) ?_
                refine lv_aload_n C.x C.b dX6_value_86 rfl (lv_at hl 0 rfl) ?_
                refine a_I C hS in_X6 rfl (k := 6) (ci := 5) (by decide) q949 (fun _ h9 => h9) dX6_value_87 hw (fun v8 hw => ?_)
                exact g_iret C hS ⟨_, rfl, hw⟩ dX6_value_90
              · have hw := hw.2 c1_6
                rcases Decidable.em (i1 = 7) with c1_7 | c1_7
                · have hw := hw.1 c1_7
                  rw [c1_7]
                  refine lv_tableIn (tgt := 91) (off := 90) C.x C.b dX6_value_1 (by decide) (by decide) rfl (by decide) ?_
                  refine lv_aload_n C.x C.b dX6_value_91 rfl (lv_at hl 0 rfl) ?_
                  obtain ⟨fs, hq, hw⟩ := hw
                  refine a_callV (rest := []) C hS hl 5 hq rfl (kJ_X6_carries C.tr hw) q1240 q405 q406 q95 q407 ny_X6_carries rfl (Nat.le_of_ble_eq_true rfl) (Nat.le_of_ble_eq_true rfl) rfl (Nat.le_of_ble_eq_true rfl) dX6_value_92 (fun X1 w1 H1 l1 q1 ce hx => hx.elim) (fun v w9 H locs hq _ hS => ?_)
                  obtain ⟨r10, rfl, hw⟩ := hq
                  refine W.eq (g2 := F0 m 95 ls [.int r10]) rfl ?_
                  refine lv_if_eq (tgt := 102) C.x C.b dX6_value_95 (by decide) (fun c11 => ?_) (fun c11 => ?_)
                  · have hw := hw.1 c11
                    refine lv_iconst (v := 0) C.x C.b dX6_value_102 (by decide) ?_
                    exact g_iret C hS ⟨_, rfl, hw⟩ dX6_value_103
                  · have hw := hw.2 c11
                    refine lv_iconst (v := 1) C.x C.b dX6_value_98 (by decide) ?_
                    refine lv_goto (tgt := 103) C.x C.b dX6_value_99 (by decide) ?_
                    exact g_iret C hS ⟨_, rfl, hw⟩ dX6_value_103
                · have hw := hw.2 c1_7
                  refine lv_tableOut (tgt := 104) C.x C.b dX6_value_1 (by have := lv_neT c1_0 (a := 0) (by decide); have := lv_neT c1_1 (a := 1) (by decide); have := lv_neT c1_2 (a := 2) (by decide); have := lv_neT c1_3 (a := 3) (by decide); have := lv_neT c1_4 (a := 4) (by decide); have := lv_neT c1_5 (a := 5) (by decide); have := lv_neT c1_6 (a := 6) (by decide); have := lv_neT c1_7 (a := 7) (by decide); omega) (by decide) ?_
                  refine lv_aload_n C.x C.b dX6_value_104 rfl (lv_at hl 0 rfl) ?_
                  refine a_I C hS in_X6 rfl (k := 7) (ci := 5) (by decide) q951 (fun _ h9 => h9) dX6_value_105 hw (fun v12 hw => ?_)
                  exact g_iret C hS ⟨_, rfl, hw⟩ dX6_value_108
theorem ny_X6_value : gNm yX6_value 1 = true := by decide +kernel
theorem kJ_X6_value {l : Launch} (ht : l.stackTraces = false) {w : gW} {i0 : Nat} {i1 : Int32} {Q : Int32 → gW → Prop} (hw : wJ_X6_value E i0 i1 Q w) : gMet l yX6_value (ws_ yX6_value cX6_value 2 (some .int)) E w [.ref i0, .int i1] 1 20 (gI Q) (gNoX) :=
  g_ofW ht (by decide) (Nat.le_of_ble_eq_true rfl) (fun p e s m below meth c ls H C hl hS => kJ_X6_value_r C _ _ _ _ _ _ hS hl hw)
def wJ_X8_compare (E : gE) (i0 : Nat) (i1 : Nat) (Q : Int32 → gW → Prop) (w : gW) : Prop :=
  aFw E "BridgeAuction$Bridge" (⟨"BridgeAuction$Ranked", "root", "()I"⟩ : MethodName) yX3_root ∧ (aKind E i0 2 (wJ_X3_root E i0 (fun r2 w1 => aFw E "BridgeAuction$Bridge" (⟨"BridgeAuction$Ranked", "root", "()I"⟩ : MethodName) yX3_root ∧ (aKind E i1 2 (wJ_X3_root E i1 (fun r4 w3 => (r2 = r4 → (aFw E "BridgeAuction$Bridge" (⟨"BridgeAuction$Ranked", "cost", "()I"⟩ : MethodName) yX3_cost ∧ (aKind E i0 2 (wJ_X3_cost E i0 (fun r7 w6 => aFw E "BridgeAuction$Bridge" (⟨"BridgeAuction$Ranked", "cost", "()I"⟩ : MethodName) yX3_cost ∧ (aKind E i1 2 (wJ_X3_cost E i1 (fun r9 w8 => (r7 = r9 → (aFw E "BridgeAuction$Bridge" (⟨"BridgeAuction$Ranked", "teller", "()I"⟩ : MethodName) yX3_teller ∧ (aKind E i0 2 (wJ_X3_teller E i0 (fun r12 w11 => aFw E "BridgeAuction$Bridge" (⟨"BridgeAuction$Ranked", "teller", "()I"⟩ : MethodName) yX3_teller ∧ (aKind E i1 2 (wJ_X3_teller E i1 (fun r14 w13 => Q (r12 - r14) w13) w11) w11)) w8) w8))) ∧ (¬ r7 = r9 → (aFw E "BridgeAuction$Bridge" (⟨"BridgeAuction$Ranked", "cost", "()I"⟩ : MethodName) yX3_cost ∧ (aKind E i0 2 (wJ_X3_cost E i0 (fun r16 w15 => aFw E "BridgeAuction$Bridge" (⟨"BridgeAuction$Ranked", "cost", "()I"⟩ : MethodName) yX3_cost ∧ (aKind E i1 2 (wJ_X3_cost E i1 (fun r18 w17 => Q (r16 - r18) w17) w15) w15)) w8) w8)))) w6) w6)) w3) w3))) ∧ (¬ r2 = r4 → (aFw E "BridgeAuction$Bridge" (⟨"BridgeAuction$Ranked", "root", "()I"⟩ : MethodName) yX3_root ∧ (aKind E i0 2 (wJ_X3_root E i0 (fun r20 w19 => aFw E "BridgeAuction$Bridge" (⟨"BridgeAuction$Ranked", "root", "()I"⟩ : MethodName) yX3_root ∧ (aKind E i1 2 (wJ_X3_root E i1 (fun r22 w21 => Q (r20 - r22) w21) w19) w19)) w3) w3)))) w1) w1)) w) w)
theorem kJ_X8_compare_r (C : gC p l s m args meth c cX8_compare 2 (some .int) RX8 E [] "compare") (i0 : Nat) (i1 : Nat) {Q : Int32 → gW → Prop} (w : gW) (H : Heap) (locs : List Loc) (ls : Array Slot) (hS : gS E w0 w H locs) (hl : lv_has ls 2 [(0, .ref i0), (1, .ref i1)]) (hw : wJ_X8_compare E i0 i1 Q w) : gGo p l e s m args below meth c H locs 2 40 E w0 w (gI Q) (gNoX) (F0 m 0 ls []) := by
  unfold wJ_X8_compare at hw
  refine lv_aload_n C.x C.b dX8_compare_0 rfl (lv_at hl 0 rfl) ?_
  obtain ⟨hfw, fs, hq, hw⟩ := hw
  refine a_callIF (x := (⟨"BridgeAuction$Ranked", "root", "()I"⟩ : MethodName)) (rest := []) C hS hl 2 hq rfl (kJ_X3_root C.tr hw) q1095 hfw q1099 q1101 q82 q1103 (by decide +kernel : gNm (⟨"BridgeAuction$Ranked", "root", "()I"⟩ : MethodName) 0 = true) rfl (Nat.le_of_ble_eq_true rfl) (Nat.le_of_ble_eq_true rfl) rfl (Nat.le_of_ble_eq_true rfl) dX8_compare_1 (fun X1 w1 H1 l1 q1 ce hx => hx.elim) (fun v w1 H locs hq _ hS => ?_)
  obtain ⟨r2, rfl, hw⟩ := hq
  refine W.eq (g2 := F0 m 6 ls [.int r2]) rfl ?_
  refine lv_aload_n C.x C.b dX8_compare_6 rfl (lv_at hl 1 rfl) ?_
  obtain ⟨hfw, fs, hq, hw⟩ := hw
  refine a_callIF (x := (⟨"BridgeAuction$Ranked", "root", "()I"⟩ : MethodName)) (rest := [.int r2]) C hS hl 2 hq rfl (kJ_X3_root C.tr hw) q1095 hfw q1099 q1101 q82 q1103 (by decide +kernel : gNm (⟨"BridgeAuction$Ranked", "root", "()I"⟩ : MethodName) 0 = true) rfl (Nat.le_of_ble_eq_true rfl) (Nat.le_of_ble_eq_true rfl) rfl (Nat.le_of_ble_eq_true rfl) dX8_compare_7 (fun X1 w1 H1 l1 q1 ce hx => hx.elim) (fun v w3 H locs hq _ hS => ?_)
  obtain ⟨r4, rfl, hw⟩ := hq
  refine W.eq (g2 := F0 m 12 ls [.int r4, .int r2]) rfl ?_
  refine lv_icmp_eq (tgt := 29) C.x C.b dX8_compare_12 (by decide) (fun c5 => ?_) (fun c5 => ?_)
  · have hw := hw.1 c5
    refine lv_aload_n C.x C.b dX8_compare_29 rfl (lv_at hl 0 rfl) ?_
    obtain ⟨hfw, fs, hq, hw⟩ := hw
    refine a_callIF (x := (⟨"BridgeAuction$Ranked", "cost", "()I"⟩ : MethodName)) (rest := []) C hS hl 2 hq rfl (kJ_X3_cost C.tr hw) q1111 hfw q1114 q1116 q82 q1118 (by decide +kernel : gNm (⟨"BridgeAuction$Ranked", "cost", "()I"⟩ : MethodName) 0 = true) rfl (Nat.le_of_ble_eq_true rfl) (Nat.le_of_ble_eq_true rfl) rfl (Nat.le_of_ble_eq_true rfl) dX8_compare_30 (fun X1 w1 H1 l1 q1 ce hx => hx.elim) (fun v w6 H locs hq _ hS => ?_)
    obtain ⟨r7, rfl, hw⟩ := hq
    refine W.eq (g2 := F0 m 35 ls [.int r7]) rfl ?_
    refine lv_aload_n C.x C.b dX8_compare_35 rfl (lv_at hl 1 rfl) ?_
    obtain ⟨hfw, fs, hq, hw⟩ := hw
    refine a_callIF (x := (⟨"BridgeAuction$Ranked", "cost", "()I"⟩ : MethodName)) (rest := [.int r7]) C hS hl 2 hq rfl (kJ_X3_cost C.tr hw) q1111 hfw q1114 q1116 q82 q1118 (by decide +kernel : gNm (⟨"BridgeAuction$Ranked", "cost", "()I"⟩ : MethodName) 0 = true) rfl (Nat.le_of_ble_eq_true rfl) (Nat.le_of_ble_eq_true rfl) rfl (Nat.le_of_ble_eq_true rfl) dX8_compare_36 (fun X1 w1 H1 l1 q1 ce hx => hx.elim) (fun v w8 H locs hq _ hS => ?_)
    obtain ⟨r9, rfl, hw⟩ := hq
    refine W.eq (g2 := F0 m 41 ls [.int r9, .int r7]) rfl ?_
    refine lv_icmp_eq (tgt := 60) C.x C.b dX8_compare_41 (by decide) (fun c10 => ?_) (fun c10 => ?_)
    · have hw := hw.1 c10
      refine lv_aload_n C.x C.b dX8_compare_60 rfl (lv_at hl 0 rfl) ?_
      obtain ⟨hfw, fs, hq, hw⟩ := hw
      refine a_callIF (x := (⟨"BridgeAuction$Ranked", "teller", "()I"⟩ : MethodName)) (rest := []) C hS hl 2 hq rfl (kJ_X3_teller C.tr hw) q1125 hfw q1128 q1130 q82 q1132 (by decide +kernel : gNm (⟨"BridgeAuction$Ranked", "teller", "()I"⟩ : MethodName) 0 = true) rfl (Nat.le_of_ble_eq_true rfl) (Nat.le_of_ble_eq_true rfl) rfl (Nat.le_of_ble_eq_true rfl) dX8_compare_61 (fun X1 w1 H1 l1 q1 ce hx => hx.elim) (fun v w11 H locs hq _ hS => ?_)
      obtain ⟨r12, rfl, hw⟩ := hq
      refine W.eq (g2 := F0 m 66 ls [.int r12]) rfl ?_
      refine lv_aload_n C.x C.b dX8_compare_66 rfl (lv_at hl 1 rfl) ?_
      obtain ⟨hfw, fs, hq, hw⟩ := hw
      refine a_callIF (x := (⟨"BridgeAuction$Ranked", "teller", "()I"⟩ : MethodName)) (rest := [.int r12]) C hS hl 2 hq rfl (kJ_X3_teller C.tr hw) q1125 hfw q1128 q1130 q82 q1132 (by decide +kernel : gNm (⟨"BridgeAuction$Ranked", "teller", "()I"⟩ : MethodName) 0 = true) rfl (Nat.le_of_ble_eq_true rfl) (Nat.le_of_ble_eq_true rfl) rfl (Nat.le_of_ble_eq_true rfl) dX8_compare_67 (fun X1 w1 H1 l1 q1 ce hx => hx.elim) (fun v w13 H locs hq _ hS => ?_)
      obtain ⟨r14, rfl, hw⟩ := hq
      refine W.eq (g2 := F0 m 72 ls [.int r14, .int r12]) rfl ?_
      refine lv_isub C.x C.b dX8_compare_72 ?_
      exact g_iret C hS ⟨_, rfl, hw⟩ dX8_compare_73
    · have hw := hw.2 c10
      refine lv_aload_n C.x C.b dX8_compare_44 rfl (lv_at hl 0 rfl) ?_
      obtain ⟨hfw, fs, hq, hw⟩ := hw
      refine a_callIF (x := (⟨"BridgeAuction$Ranked", "cost", "()I"⟩ : MethodName)) (rest := []) C hS hl 2 hq rfl (kJ_X3_cost C.tr hw) q1111 hfw q1114 q1116 q82 q1118 (by decide +kernel : gNm (⟨"BridgeAuction$Ranked", "cost", "()I"⟩ : MethodName) 0 = true) rfl (Nat.le_of_ble_eq_true rfl) (Nat.le_of_ble_eq_true rfl) rfl (Nat.le_of_ble_eq_true rfl) dX8_compare_45 (fun X1 w1 H1 l1 q1 ce hx => hx.elim) (fun v w15 H locs hq _ hS => ?_)
      obtain ⟨r16, rfl, hw⟩ := hq
      refine W.eq (g2 := F0 m 50 ls [.int r16]) rfl ?_
      refine lv_aload_n C.x C.b dX8_compare_50 rfl (lv_at hl 1 rfl) ?_
      obtain ⟨hfw, fs, hq, hw⟩ := hw
      refine a_callIF (x := (⟨"BridgeAuction$Ranked", "cost", "()I"⟩ : MethodName)) (rest := [.int r16]) C hS hl 2 hq rfl (kJ_X3_cost C.tr hw) q1111 hfw q1114 q1116 q82 q1118 (by decide +kernel : gNm (⟨"BridgeAuction$Ranked", "cost", "()I"⟩ : MethodName) 0 = true) rfl (Nat.le_of_ble_eq_true rfl) (Nat.le_of_ble_eq_true rfl) rfl (Nat.le_of_ble_eq_true rfl) dX8_compare_51 (fun X1 w1 H1 l1 q1 ce hx => hx.elim) (fun v w17 H locs hq _ hS => ?_)
      obtain ⟨r18, rfl, hw⟩ := hq
      refine W.eq (g2 := F0 m 56 ls [.int r18, .int r16]) rfl ?_
      refine lv_isub C.x C.b dX8_compare_56 ?_
      refine lv_goto (tgt := 73) C.x C.b dX8_compare_57 (by decide) ?_
      exact g_iret C hS ⟨_, rfl, hw⟩ dX8_compare_73
  · have hw := hw.2 c5
    refine lv_aload_n C.x C.b dX8_compare_15 rfl (lv_at hl 0 rfl) ?_
    obtain ⟨hfw, fs, hq, hw⟩ := hw
    refine a_callIF (x := (⟨"BridgeAuction$Ranked", "root", "()I"⟩ : MethodName)) (rest := []) C hS hl 2 hq rfl (kJ_X3_root C.tr hw) q1095 hfw q1099 q1101 q82 q1103 (by decide +kernel : gNm (⟨"BridgeAuction$Ranked", "root", "()I"⟩ : MethodName) 0 = true) rfl (Nat.le_of_ble_eq_true rfl) (Nat.le_of_ble_eq_true rfl) rfl (Nat.le_of_ble_eq_true rfl) dX8_compare_16 (fun X1 w1 H1 l1 q1 ce hx => hx.elim) (fun v w19 H locs hq _ hS => ?_)
    obtain ⟨r20, rfl, hw⟩ := hq
    refine W.eq (g2 := F0 m 21 ls [.int r20]) rfl ?_
    refine lv_aload_n C.x C.b dX8_compare_21 rfl (lv_at hl 1 rfl) ?_
    obtain ⟨hfw, fs, hq, hw⟩ := hw
    refine a_callIF (x := (⟨"BridgeAuction$Ranked", "root", "()I"⟩ : MethodName)) (rest := [.int r20]) C hS hl 2 hq rfl (kJ_X3_root C.tr hw) q1095 hfw q1099 q1101 q82 q1103 (by decide +kernel : gNm (⟨"BridgeAuction$Ranked", "root", "()I"⟩ : MethodName) 0 = true) rfl (Nat.le_of_ble_eq_true rfl) (Nat.le_of_ble_eq_true rfl) rfl (Nat.le_of_ble_eq_true rfl) dX8_compare_22 (fun X1 w1 H1 l1 q1 ce hx => hx.elim) (fun v w21 H locs hq _ hS => ?_)
    obtain ⟨r22, rfl, hw⟩ := hq
    refine W.eq (g2 := F0 m 27 ls [.int r22, .int r20]) rfl ?_
    refine lv_isub C.x C.b dX8_compare_27 ?_
    exact g_iret C hS ⟨_, rfl, hw⟩ dX8_compare_28
theorem ny_X8_compare : gNm yX8_compare 2 = true := by decide +kernel
theorem kJ_X8_compare {l : Launch} (ht : l.stackTraces = false) {w : gW} {i0 : Nat} {i1 : Nat} {Q : Int32 → gW → Prop} (hw : wJ_X8_compare E i0 i1 Q w) : gMet l yX8_compare (ws_ yX8_compare cX8_compare 2 (some .int)) E w [.ref i0, .ref i1] 2 40 (gI Q) (gNoX) :=
  g_ofW ht (by decide) (Nat.le_of_ble_eq_true rfl) (fun p e s m below meth c ls H C hl hS => kJ_X8_compare_r C _ _ _ _ _ _ hS hl hw)
def wJ_X8_comesBefore (E : gE) (i0 : Nat) (i1 : Nat) (Q : Int32 → gW → Prop) (w : gW) : Prop :=
  wJ_X8_compare E i0 i1 (fun r2 w1 => (0 ≤ r2 → (Q 0 w1)) ∧ (¬ 0 ≤ r2 → (Q 1 w1))) w
theorem kJ_X8_comesBefore_r (C : gC p l s m args meth c cX8_comesBefore 2 (some .boolean) RX8 E [] "comesBefore") (i0 : Nat) (i1 : Nat) {Q : Int32 → gW → Prop} (w : gW) (H : Heap) (locs : List Loc) (ls : Array Slot) (hS : gS E w0 w H locs) (hl : lv_has ls 2 [(0, .ref i0), (1, .ref i1)]) (hw : wJ_X8_comesBefore E i0 i1 Q w) : gGo p l e s m args below meth c H locs 3 61 E w0 w (gI Q) (gNoX) (F0 m 0 ls []) := by
  unfold wJ_X8_comesBefore at hw
  refine lv_aload_n C.x C.b dX8_comesBefore_0 rfl (lv_at hl 0 rfl) ?_
  refine lv_aload_n C.x C.b dX8_comesBefore_1 rfl (lv_at hl 1 rfl) ?_
  refine g_callS (rest := []) C hS hl (kJ_X8_compare C.tr hw) q1091 q1092 q101 q1093 ny_X8_compare rfl (Nat.le_of_ble_eq_true rfl) (Nat.le_of_ble_eq_true rfl) rfl (Nat.le_of_ble_eq_true rfl) dX8_comesBefore_2 (fun X1 w1 H1 l1 q1 ce hx => hx.elim) (fun v w1 H locs hq _ hS => ?_)
  obtain ⟨r2, rfl, hw⟩ := hq
  refine W.eq (g2 := F0 m 5 ls [.int r2]) rfl ?_
  refine lv_if_ge (tgt := 12) C.x C.b dX8_comesBefore_5 (by decide) (fun c3 => ?_) (fun c3 => ?_)
  · have hw := hw.1 c3
    refine lv_iconst (v := 0) C.x C.b dX8_comesBefore_12 (by decide) ?_
    exact g_zret C hS rfl ⟨_, rfl, hw⟩ dX8_comesBefore_13
  · have hw := hw.2 c3
    refine lv_iconst (v := 1) C.x C.b dX8_comesBefore_8 (by decide) ?_
    refine lv_goto (tgt := 13) C.x C.b dX8_comesBefore_9 (by decide) ?_
    exact g_zret C hS rfl ⟨_, rfl, hw⟩ dX8_comesBefore_13
theorem ny_X8_comesBefore : gNm yX8_comesBefore 1 = true := by decide +kernel
theorem kJ_X8_comesBefore {l : Launch} (ht : l.stackTraces = false) {w : gW} {i0 : Nat} {i1 : Nat} {Q : Int32 → gW → Prop} (hw : wJ_X8_comesBefore E i0 i1 Q w) : gMet l yX8_comesBefore (ws_ yX8_comesBefore cX8_comesBefore 2 (some .boolean)) E w [.ref i0, .ref i1] 3 61 (gI Q) (gNoX) :=
  g_ofW ht (by decide) (Nat.le_of_ble_eq_true rfl) (fun p e s m below meth c ls H C hl hS => kJ_X8_comesBefore_r C _ _ _ _ _ _ hS hl hw)
end GC1
