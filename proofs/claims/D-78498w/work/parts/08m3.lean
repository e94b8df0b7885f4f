section GW3
variable {p : Program} {l : Launch} {e : Env} {s : State} {m : MethodId} {args : Array Value} {below : List Frame} {meth : Method} {c : Code} {E : gE} {ad : Nat → Nat} {w0 w : gW}
def wM_isCommand_76 (Q : Int32 → gM → Prop) : Nat → Int32 → gM → Prop
  | 0, _, _ => False
  | n + 1, x3, u => uGt 5 (fun v19 => wM_numbersOf v19 (fun r21 u20 => (r21 ≤ x3 → (wM_skips (fun u23 => wM_isIn 59 59 (fun r25 u24 => (r25 = 0 → (Q 0 u24)) ∧ (¬ r25 = 0 → (uGt 4 (fun v27 => uPt 4 (v27 + 1) (fun u28 => Q 1 u28) u24) u24))) u23) u20)) ∧ (¬ r21 ≤ x3 → (uGt 4 (fun v29 => wM_skips (fun u30 => uGt 4 (fun v31 => (v31 = v29 → (Q 0 u30)) ∧ (¬ v31 = v29 → (wM_isNumber x3 (fun r34 u33 => (r34 = 0 → (Q 0 u33)) ∧ (¬ r34 = 0 → (wM_isCommand_76 Q n (x3 + 1) u33))) u30))) u30) u20) u20))) u) u
theorem kM_isCommand_76 (C : gC p l s m args meth c cX5_isCommand 5 (some .boolean) RX5 E [] "isCommand") (hI : mI ad) {Q : Int32 → gM → Prop} : ∀ (n : Nat) (x3 : Int32) (u : gM) (H : Heap) (locs : List Loc) (ls : Array Slot), gS E w0 (gmW E ad u w) H locs → lv_has ls 5 [(0, .ref (ad 8)), (3, .int x3)] → wM_isCommand_76 Q n x3 u → mGo p l e s m args below meth c 3 67 E ad w0 w (uI Q) H locs (F0 m 76 ls []) := by
  intro n
  induction n with
  | zero =>
    intro x3 u H locs ls hS hl hw
    exact hw.elim
  | succ n ih =>
    intro x3 u H locs ls hS hl hw
    unfold wM_isCommand_76 at hw
    refine lv_iload_n C.x C.b dX5_isCommand_76 rfl (lv_at hl 1 rfl) ?_
    refine lv_aload_n C.x C.b dX5_isCommand_77 rfl (lv_at hl 0 rfl) ?_
    refine gm_getI C hI hS 12 5 (by decide) rfl q1493 (fun _ h9 => h9) dX5_isCommand_78 hw (fun v19 hw => ?_)
    refine gm_callS (rest := [.int x3]) C hS hl (kM_numbersOf C.tr hI hw) q1824 q1825 q88 q1826 ny_numbersOf rfl (Nat.le_of_ble_eq_true rfl) (Nat.le_of_ble_eq_true rfl) rfl (Nat.le_of_ble_eq_true rfl) dX5_isCommand_81 (gm_ki (fun r21 u20 H locs hw hS => ?_))
    refine lv_icmp_ge (tgt := 122) C.x C.b dX5_isCommand_84 (by decide) (fun c22 => ?_) (fun c22 => ?_)
    · have hw := hw.1 c22
      refine lv_aload_n C.x C.b dX5_isCommand_122 rfl (lv_at hl 0 rfl) ?_
      refine gm_callV (rest := []) C hI hS hl (kM_skips C.tr hI hw) q1802 q1804 qs68 q88 q1805 ny_skips rfl (Nat.le_of_ble_eq_true rfl) (Nat.le_of_ble_eq_true rfl) rfl (Nat.le_of_ble_eq_true rfl) dX5_isCommand_123 (gm_kv (fun u23 H locs hw hS => ?_))
      refine lv_aload_n C.x C.b dX5_isCommand_126 rfl (lv_at hl 0 rfl) ?_
      refine lv_bipush (v := 59) C.x C.b dX5_isCommand_127 (by decide) ?_
      refine lv_bipush (v := 59) C.x C.b dX5_isCommand_129 (by decide) ?_
      refine gm_callV (rest := []) C hI hS hl (kM_isIn C.tr hI hw) q1806 q1808 qs69 q88 q1809 ny_isIn rfl (Nat.le_of_ble_eq_true rfl) (Nat.le_of_ble_eq_true rfl) rfl (Nat.le_of_ble_eq_true rfl) dX5_isCommand_131 (gm_ki (fun r25 u24 H locs hw hS => ?_))
      refine lv_if_ne (tgt := 139) C.x C.b dX5_isCommand_134 (by decide) (fun c26 => ?_) (fun c26 => ?_)
      · have hw := hw.2 c26
        refine lv_aload_n C.x C.b dX5_isCommand_139 rfl (lv_at hl 0 rfl) ?_
        refine lv_dup C.x C.b dX5_isCommand_140 rfl ?_
        refine gm_getI C hI hS 11 4 (by decide) rfl q1492 (fun _ h9 => h9) dX5_isCommand_141 hw (fun v27 hw => ?_)
        refine lv_iconst (v := 1) C.x C.b dX5_isCommand_144 (by decide) ?_
        refine lv_iadd C.x C.b dX5_isCommand_145 ?_
        refine gm_putI C hI hS 11 4 (by decide) rfl q1492 (fun _ h9 => h9) rfl rfl rfl dX5_isCommand_146 hw (fun u28 H locs hw hS => ?_)
        refine lv_iconst (v := 1) C.x C.b dX5_isCommand_149 (by decide) ?_
        exact gm_zret C hS rfl hw dX5_isCommand_150
      · have hw := hw.1 c26
        refine lv_iconst (v := 0) C.x C.b dX5_isCommand_137 (by decide) ?_
        exact gm_zret C hS rfl hw dX5_isCommand_138
    · have hw := hw.2 c22
      refine lv_aload_n C.x C.b dX5_isCommand_87 rfl (lv_at hl 0 rfl) ?_
      refine gm_getI C hI hS 11 4 (by decide) rfl q1492 (fun _ h9 => h9) dX5_isCommand_88 hw (fun v29 hw => ?_)
      refine lv_istore (lv' := [(4, .int v29), (0, .ref (ad 8)), (3, .int x3)]) C.x C.b dX5_isCommand_91 hl (by decide) rfl (fun ls hl => ?_)
      refine lv_aload_n C.x C.b dX5_isCommand_93 rfl (lv_at hl 1 rfl) ?_
      refine gm_callV (rest := []) C hI hS hl (kM_skips C.tr hI hw) q1802 q1804 qs68 q88 q1805 ny_skips rfl (Nat.le_of_ble_eq_true rfl) (Nat.le_of_ble_eq_true rfl) rfl (Nat.le_of_ble_eq_true rfl) dX5_isCommand_94 (gm_kv (fun u30 H locs hw hS => ?_))
      refine lv_aload_n C.x C.b dX5_isCommand_97 rfl (lv_at hl 1 rfl) ?_
      refine gm_getI C hI hS 11 4 (by decide) rfl q1492 (fun _ h9 => h9) dX5_isCommand_98 hw (fun v31 hw => ?_)
      refine lv_iload C.x C.b dX5_isCommand_101 (lv_at hl 0 rfl) ?_
      refine lv_icmp_eq (tgt := 114) C.x C.b dX5_isCommand_103 (by decide) (fun c32 => ?_) (fun c32 => ?_)
      · have hw := hw.1 c32
        refine lv_iconst (v := 0) C.x C.b dX5_isCommand_114 (by decide) ?_
        exact gm_zret C hS rfl hw dX5_isCommand_115
      · have hw := hw.2 c32
        refine lv_aload_n C.x C.b dX5_isCommand_106 rfl (lv_at hl 1 rfl) ?_
        refine lv_iload_n C.x C.b dX5_isCommand_107 rfl (lv_at hl 2 rfl) ?_
        refine gm_callV (rest := []) C hI hS hl (kM_isNumber C.tr hI hw) q1827 q1829 qs71 q88 q1830 ny_isNumber rfl (Nat.le_of_ble_eq_true rfl) (Nat.le_of_ble_eq_true rfl) rfl (Nat.le_of_ble_eq_true rfl) dX5_isCommand_108 (gm_ki (fun r34 u33 H locs hw hS => ?_))
        refine lv_if_ne (tgt := 116) C.x C.b dX5_isCommand_111 (by decide) (fun c35 => ?_) (fun c35 => ?_)
        · have hw := hw.2 c35
          refine lv_iinc (v := (x3 + 1)) (lv' := [(3, .int (x3 + 1)), (4, .int v29), (0, .ref (ad 8))]) C.x C.b dX5_isCommand_116 hl (k := 2) rfl rfl (by decide) rfl (fun ls hl => ?_)
          refine lv_goto (tgt := 76) C.x C.b dX5_isCommand_119 (by decide) ?_
          exact ih _ _ _ _ _ hS (lv_sub hl [2, 0] rfl) hw
        · have hw := hw.1 c35
          refine lv_iconst (v := 0) C.x C.b dX5_isCommand_114 (by decide) ?_
          exact gm_zret C hS rfl hw dX5_isCommand_115
def wM_isCommand_7 (Q : Int32 → gM → Prop) : Nat → Int32 → Int32 → gM → Prop
  | 0, _, _, _ => False
  | n + 1, x1, x2, u => wM_isIn 97 122 (fun r4 u3 => (r4 = 0 → (uGt 4 (fun v6 => wM_wordOf x2 (v6 - x1) (fun r8 u7 => uPt 5 r8 (fun u9 => uGt 5 (fun v10 => (v10 = 0 → (uPt 4 x1 (fun u13 => Q 0 u13) u9)) ∧ (¬ v10 = 0 → (∃ k12 : Nat, wM_isCommand_76 Q k12 0 u9))) u9) u7) u3) u3)) ∧ (¬ r4 = 0 → (uGt 4 (fun v14 => uLd 3 120 v14 (fun v15 => ∀ z16 : Int32, z16 = ((x2 <<< (8 &&& 31)) ||| v15) → uGt 4 (fun v17 => uPt 4 (v17 + 1) (fun u18 => wM_isCommand_7 Q n x1 z16 u18) u3) u3) u3) u3))) u
theorem kM_isCommand_7 (C : gC p l s m args meth c cX5_isCommand 5 (some .boolean) RX5 E [] "isCommand") (hI : mI ad) {Q : Int32 → gM → Prop} : ∀ (n : Nat) (x1 : Int32) (x2 : Int32) (u : gM) (H : Heap) (locs : List Loc) (ls : Array Slot), gS E w0 (gmW E ad u w) H locs → lv_has ls 5 [(0, .ref (ad 8)), (1, .int x1), (2, .int x2)] → wM_isCommand_7 Q n x1 x2 u → mGo p l e s m args below meth c 3 67 E ad w0 w (uI Q) H locs (F0 m 7 ls []) := by
  intro n
  induction n with
  | zero =>
    intro x1 x2 u H locs ls hS hl hw
    exact hw.elim
  | succ n ih =>
    intro x1 x2 u H locs ls hS hl hw
    unfold wM_isCommand_7 at hw
    refine lv_aload_n C.x C.b dX5_isCommand_7 rfl (lv_at hl 0 rfl) ?_
    refine lv_bipush (v := 97) C.x C.b dX5_isCommand_8 (by decide) ?_
    refine lv_bipush (v := 122) C.x C.b dX5_isCommand_10 (by decide) ?_
    refine gm_callV (rest := []) C hI hS hl (kM_isIn C.tr hI hw) q1806 q1808 qs69 q88 q1809 ny_isIn rfl (Nat.le_of_ble_eq_true rfl) (Nat.le_of_ble_eq_true rfl) rfl (Nat.le_of_ble_eq_true rfl) dX5_isCommand_12 (gm_ki (fun r4 u3 H locs hw hS => ?_))
    refine lv_if_eq (tgt := 46) C.x C.b dX5_isCommand_15 (by decide) (fun c5 => ?_) (fun c5 => ?_)
    · have hw := hw.1 c5
      refine lv_aload_n C.x C.b dX5_isCommand_46 rfl (lv_at hl 0 rfl) ?_
      refine lv_iload_n C.x C.b dX5_isCommand_47 rfl (lv_at hl 2 rfl) ?_
      refine lv_aload_n C.x C.b dX5_isCommand_48 rfl (lv_at hl 0 rfl) ?_
      refine gm_getI C hI hS 11 4 (by decide) rfl q1492 (fun _ h9 => h9) dX5_isCommand_49 hw (fun v6 hw => ?_)
      refine lv_iload_n C.x C.b dX5_isCommand_52 rfl (lv_at hl 1 rfl) ?_
      refine lv_isub C.x C.b dX5_isCommand_53 ?_
      refine gm_callS (rest := [.ref (ad 8)]) C hS hl (kM_wordOf C.tr hI hw) q1814 q1815 q88 q1816 ny_wordOf rfl (Nat.le_of_ble_eq_true rfl) (Nat.le_of_ble_eq_true rfl) rfl (Nat.le_of_ble_eq_true rfl) dX5_isCommand_54 (gm_ki (fun r8 u7 H locs hw hS => ?_))
      refine gm_putI C hI hS 12 5 (by decide) rfl q1493 (fun _ h9 => h9) rfl rfl rfl dX5_isCommand_57 hw (fun u9 H locs hw hS => ?_)
      refine lv_aload_n C.x C.b dX5_isCommand_60 rfl (lv_at hl 0 rfl) ?_
      refine gm_getI C hI hS 12 5 (by decide) rfl q1493 (fun _ h9 => h9) dX5_isCommand_61 hw (fun v10 hw => ?_)
      refine lv_if_ne (tgt := 74) C.x C.b dX5_isCommand_64 (by decide) (fun c11 => ?_) (fun c11 => ?_)
      · have hw := hw.2 c11
        refine lv_iconst (v := 0) C.x C.b dX5_isCommand_74 (by decide) ?_
        refine lv_istore_n (lv' := [(3, .int 0), (0, .ref (ad 8)), (1, .int x1), (2, .int x2)]) C.x C.b dX5_isCommand_75 rfl hl (by decide) rfl (fun ls hl => ?_)
        obtain ⟨k12, hw⟩ := hw
        exact kM_isCommand_76 C hI k12 _ _ _ _ _ hS (lv_sub hl [1, 0] rfl) hw
      · have hw := hw.1 c11
        refine lv_aload_n C.x C.b dX5_isCommand_67 rfl (lv_at hl 0 rfl) ?_
        refine lv_iload_n C.x C.b dX5_isCommand_68 rfl (lv_at hl 1 rfl) ?_
        refine gm_putI C hI hS 11 4 (by decide) rfl q1492 (fun _ h9 => h9) rfl rfl rfl dX5_isCommand_69 hw (fun u13 H locs hw hS => ?_)
        refine lv_iconst (v := 0) C.x C.b dX5_isCommand_72 (by decide) ?_
        exact gm_zret C hS rfl hw dX5_isCommand_73
    · have hw := hw.2 c5
      refine lv_iload_n C.x C.b dX5_isCommand_18 rfl (lv_at hl 2 rfl) ?_
      refine lv_bipush (v := 8) C.x C.b dX5_isCommand_19 (by decide) ?_
      refine lv_ishl C.x C.b dX5_isCommand_21 ?_
      refine lv_aload_n C.x C.b dX5_isCommand_22 rfl (lv_at hl 0 rfl) ?_
      refine gm_getA C hI hS 4 (by decide) (a := ad 3) rfl q1485 (fun _ h9 => h9) dX5_isCommand_23 ?_
      refine lv_aload_n C.x C.b dX5_isCommand_26 rfl (lv_at hl 0 rfl) ?_
      refine gm_getI C hI hS 11 4 (by decide) rfl q1492 (fun _ h9 => h9) dX5_isCommand_27 hw (fun v14 hw => ?_)
      refine gm_ld C hI hS 3 120 (by decide) rfl dX5_isCommand_30 hw (fun v15 hw => ?_)
      refine lv_ior C.x C.b dX5_isCommand_31 ?_
      refine lv_topi (fun z16 ez16 => ?_)
      have hw := hw z16 ez16
      refine lv_istore_n (lv' := [(2, .int z16), (0, .ref (ad 8)), (1, .int x1)]) C.x C.b dX5_isCommand_32 rfl hl (by decide) rfl (fun ls hl => ?_)
      refine lv_aload_n C.x C.b dX5_isCommand_33 rfl (lv_at hl 1 rfl) ?_
      refine lv_dup C.x C.b dX5_isCommand_34 rfl ?_
      refine gm_getI C hI hS 11 4 (by decide) rfl q1492 (fun _ h9 => h9) dX5_isCommand_35 hw (fun v17 hw => ?_)
      refine lv_iconst (v := 1) C.x C.b dX5_isCommand_38 (by decide) ?_
      refine lv_iadd C.x C.b dX5_isCommand_39 ?_
      refine gm_putI C hI hS 11 4 (by decide) rfl q1492 (fun _ h9 => h9) rfl rfl rfl dX5_isCommand_40 hw (fun u18 H locs hw hS => ?_)
      refine lv_goto (tgt := 7) C.x C.b dX5_isCommand_43 (by decide) ?_
      exact ih _ _ _ _ _ _ hS (lv_sub hl [1, 2, 0] rfl) hw
def wM_isCommand (Q : Int32 → gM → Prop) (u : gM) : Prop :=
  uGt 4 (fun v1 => ∃ k2 : Nat, wM_isCommand_7 Q k2 v1 0 u) u
theorem kM_isCommand_r (C : gC p l s m args meth c cX5_isCommand 5 (some .boolean) RX5 E [] "isCommand") (hI : mI ad) {Q : Int32 → gM → Prop} (u : gM) (H : Heap) (locs : List Loc) (ls : Array Slot) (hS : gS E w0 (gmW E ad u w) H locs) (hl : lv_has ls 5 [(0, .ref (ad 8))]) (hw : wM_isCommand Q u) : mGo p l e s m args below meth c 3 67 E ad w0 w (uI Q) H locs (F0 m 0 ls []) := by
  unfold wM_isCommand at hw
  refine lv_aload_n C.x C.b dX5_isCommand_0 rfl (lv_at hl 0 rfl) ?_
  refine gm_getI C hI hS 11 4 (by decide) rfl q1492 (fun _ h9 => h9) dX5_isCommand_1 hw (fun v1 hw => ?_)
  refine lv_istore_n (lv' := [(1, .int v1), (0, .ref (ad 8))]) C.x C.b dX5_isCommand_4 rfl hl (by decide) rfl (fun ls hl => ?_)
  refine lv_iconst (v := 0) C.x C.b dX5_isCommand_5 (by decide) ?_
  refine lv_istore_n (lv' := [(2, .int 0), (1, .int v1), (0, .ref (ad 8))]) C.x C.b dX5_isCommand_6 rfl hl (by decide) rfl (fun ls hl => ?_)
  obtain ⟨k2, hw⟩ := hw
  exact kM_isCommand_7 C hI k2 _ _ _ _ _ _ hS (lv_sub hl [2, 1, 0] rfl) hw
theorem kM_isCommand {l : Launch} (ht : l.stackTraces = false) (hI : mI ad) {w : gW} {u : gM} {Q : Int32 → gM → Prop} (hw : wM_isCommand Q u) : gMet l yX5_isCommand (ws_ yX5_isCommand cX5_isCommand 5 (some .boolean)) E (gmW E ad u w) [.ref (ad 8)] 3 67 (mQ E ad w (uI Q)) gNoX :=
  g_ofW ht (by decide) (Nat.le_of_ble_eq_true rfl) (fun p e s m below meth c ls H C hl hS => kM_isCommand_r C hI _ _ _ _ hS hl hw)
def wM_does (Q : Int32 → gM → Prop) (u : gM) : Prop :=
  uGt 5 (fun v1 => (v1 = 1 → (uLd 7 3 0 (fun v2 => uLd 7 3 1 (fun v3 => uLd 7 3 2 (fun v4 => wM_joins v2 v3 v4 (fun r6 u5 => Q r6 u5) u) u) u) u)) ∧ (¬ v1 = 1 → ((v1 = 2 → (uLd 7 3 0 (fun v7 => uLd 7 3 1 (fun v8 => uLd 7 3 2 (fun v9 => wM_bids v7 v8 v9 (fun r11 u10 => Q r11 u10) u) u) u) u)) ∧ (¬ v1 = 2 → ((v1 = 3 → (uLd 7 3 0 (fun v12 => wM_breaks v12 (fun r14 u13 => Q r14 u13) u) u)) ∧ (¬ v1 = 3 → ((v1 = 4 → (uLd 7 3 0 (fun v15 => wM_mends v15 (fun r17 u16 => Q r17 u16) u) u)) ∧ (¬ v1 = 4 → ((v1 = 5 → (uLd 7 3 0 (fun v18 => uLd 7 3 1 (fun v19 => wM_prioritizes v18 v19 (fun r21 u20 => Q r21 u20) u) u) u)) ∧ (¬ v1 = 5 → ((v1 = 6 → (uLd 7 3 0 (fun v22 => uLd 7 3 1 (fun v23 => wM_moves v22 v23 (fun r25 u24 => Q r25 u24) u) u) u)) ∧ (¬ v1 = 6 → (uLd 7 3 0 (fun v26 => wM_ticks v26 (fun r28 u27 => Q r28 u27) u) u))))))))))))) u
theorem kM_does_r (C : gC p l s m args meth c cX5_does 1 (some .int) RX5 E [] "does") (hI : mI ad) {Q : Int32 → gM → Prop} (u : gM) (H : Heap) (locs : List Loc) (ls : Array Slot) (hS : gS E w0 (gmW E ad u w) H locs) (hl : lv_has ls 1 [(0, .ref (ad 8))]) (hw : wM_does Q u) : mGo p l e s m args below meth c 7 159 E ad w0 w (uI Q) H locs (F0 m 0 ls []) := by
  unfold wM_does at hw
  refine lv_aload_n C.x C.b dX5_does_0 rfl (lv_at hl 0 rfl) ?_
  refine gm_getI C hI hS 12 5 (by decide) rfl q1493 (fun _ h9 => h9) dX5_does_1 hw (fun v1 hw => ?_)
  rcases Decidable.em (v1 = 1) with c4_1 | c4_1
  · have hw := hw.1 c4_1
    rw [c4_1]
    refine lv_tableIn (tgt := 44) (off := 40) C.x C.b dX5_does_4 (by decide) (by decide) rfl (by decide) ?_
    refine lv_aload_n C.x C.b dX5_does_44 rfl (lv_at hl 0 rfl) ?_
    refine lv_aload_n C.x C.b dX5_does_45 rfl (lv_at hl 0 rfl) ?_
    refine gm_getA C hI hS 13 (by decide) (a := ad 7) rfl q1494 (fun _ h9 => h9) dX5_does_46 ?_
    refine lv_iconst (v := 0) C.x C.b dX5_does_49 (by decide) ?_
    refine gm_ld C hI hS 7 3 (by decide) rfl dX5_does_50 hw (fun v2 hw => ?_)
    refine lv_aload_n C.x C.b dX5_does_51 rfl (lv_at hl 0 rfl) ?_
    refine gm_getA C hI hS 13 (by decide) (a := ad 7) rfl q1494 (fun _ h9 => h9) dX5_does_52 ?_
    refine lv_iconst (v := 1) C.x C.b dX5_does_55 (by decide) ?_
    refine gm_ld C hI hS 7 3 (by decide) rfl dX5_does_56 hw (fun v3 hw => ?_)
    refine lv_aload_n C.x C.b dX5_does_57 rfl (lv_at hl 0 rfl) ?_
    refine gm_getA C hI hS 13 (by decide) (a := ad 7) rfl q1494 (fun _ h9 => h9) dX5_does_58 ?_
    refine lv_iconst (v := 2) C.x C.b dX5_does_61 (by decide) ?_
    refine gm_ld C hI hS 7 3 (by decide) rfl dX5_does_62 hw (fun v4 hw => ?_)
    refine gm_callV (rest := []) C hI hS hl (kM_joins C.tr hI hw) q1575 q1577 qs33 q88 q1578 ny_joins rfl (Nat.le_of_ble_eq_true rfl) (Nat.le_of_ble_eq_true rfl) rfl (Nat.le_of_ble_eq_true rfl) dX5_does_63 (gm_ki (fun r6 u5 H locs hw hS => ?_))
    exact gm_iret C hS hw dX5_does_66
  · have hw := hw.2 c4_1
    rcases Decidable.em (v1 = 2) with c4_2 | c4_2
    · have hw := hw.1 c4_2
      rw [c4_2]
      refine lv_tableIn (tgt := 67) (off := 63) C.x C.b dX5_does_4 (by decide) (by decide) rfl (by decide) ?_
      refine lv_aload_n C.x C.b dX5_does_67 rfl (lv_at hl 0 rfl) ?_
      refine lv_aload_n C.x C.b dX5_does_68 rfl (lv_at hl 0 rfl) ?_
      refine gm_getA C hI hS 13 (by decide) (a := ad 7) rfl q1494 (fun _ h9 => h9) dX5_does_69 ?_
      refine lv_iconst (v := 0) C.x C.b dX5_does_72 (by decide) ?_
      refine gm_ld C hI hS 7 3 (by decide) rfl dX5_does_73 hw (fun v7 hw => ?_)
      refine lv_aload_n C.x C.b dX5_does_74 rfl (lv_at hl 0 rfl) ?_
      refine gm_getA C hI hS 13 (by decide) (a := ad 7) rfl q1494 (fun _ h9 => h9) dX5_does_75 ?_
      refine lv_iconst (v := 1) C.x C.b dX5_does_78 (by decide) ?_
      refine gm_ld C hI hS 7 3 (by decide) rfl dX5_does_79 hw (fun v8 hw => ?_)
      refine lv_aload_n C.x C.b dX5_does_80 rfl (lv_at hl 0 rfl) ?_
      refine gm_getA C hI hS 13 (by decide) (a := ad 7) rfl q1494 (fun _ h9 => h9) dX5_does_81 ?_
      refine lv_iconst (v := 2) C.x C.b dX5_does_84 (by decide) ?_
      refine gm_ld C hI hS 7 3 (by decide) rfl dX5_does_85 hw (fun v9 hw => ?_)
      refine gm_callV (rest := []) C hI hS hl (kM_bids C.tr hI hw) q1622 q1624 qs40 q88 q1625 ny_bids rfl (Nat.le_of_ble_eq_true rfl) (Nat.le_of_ble_eq_true rfl) rfl (Nat.le_of_ble_eq_true rfl) dX5_does_86 (gm_ki (fun r11 u10 H locs hw hS => ?_))
      exact gm_iret C hS hw dX5_does_89
    · have hw := hw.2 c4_2
      rcases Decidable.em (v1 = 3) with c4_3 | c4_3
      · have hw := hw.1 c4_3
        rw [c4_3]
        refine lv_tableIn (tgt := 90) (off := 86) C.x C.b dX5_does_4 (by decide) (by decide) rfl (by decide) ?_
        refine lv_aload_n C.x C.b dX5_does_90 rfl (lv_at hl 0 rfl) ?_
        refine lv_aload_n C.x C.b dX5_does_91 rfl (lv_at hl 0 rfl) ?_
        refine gm_getA C hI hS 13 (by decide) (a := ad 7) rfl q1494 (fun _ h9 => h9) dX5_does_92 ?_
        refine lv_iconst (v := 0) C.x C.b dX5_does_95 (by decide) ?_
        refine gm_ld C hI hS 7 3 (by decide) rfl dX5_does_96 hw (fun v12 hw => ?_)
        refine gm_callV (rest := []) C hI hS hl (kM_breaks C.tr hI hw) q1587 q1589 qs35 q88 q1590 ny_breaks rfl (Nat.le_of_ble_eq_true rfl) (Nat.le_of_ble_eq_true rfl) rfl (Nat.le_of_ble_eq_true rfl) dX5_does_97 (gm_ki (fun r14 u13 H locs hw hS => ?_))
        exact gm_iret C hS hw dX5_does_100
      · have hw := hw.2 c4_3
        rcases Decidable.em (v1 = 4) with c4_4 | c4_4
        · have hw := hw.1 c4_4
          rw [c4_4]
          refine lv_tableIn (tgt := 101) (off := 97) C.x C.b dX5_does_4 (by decide) (by decide) rfl (by decide) ?_
          refine lv_aload_n C.x C.b dX5_does_101 rfl (lv_at hl 0 rfl) ?_
          refine lv_aload_n C.x C.b dX5_does_102 rfl (lv_at hl 0 rfl) ?_
          refine gm_getA C hI hS 13 (by decide) (a := ad 7) rfl q1494 (fun _ h9 => h9) dX5_does_103 ?_
          refine lv_iconst (v := 0) C.x C.b dX5_does_106 (by decide) ?_
          refine gm_ld C hI hS 7 3 (by decide) rfl dX5_does_107 hw (fun v15 hw => ?_)
          refine gm_callV (rest := []) C hI hS hl (kM_mends C.tr hI hw) q1603 q1605 qs38 q88 q1606 ny_mends rfl (Nat.le_of_ble_eq_true rfl) (Nat.le_of_ble_eq_true rfl) rfl (Nat.le_of_ble_eq_true rfl) dX5_does_108 (gm_ki (fun r17 u16 H locs hw hS => ?_))
          exact gm_iret C hS hw dX5_does_111
        · have hw := hw.2 c4_4
          rcases Decidable.em (v1 = 5) with c4_5 | c4_5
          · have hw := hw.1 c4_5
            rw [c4_5]
            refine lv_tableIn (tgt := 112) (off := 108) C.x C.b dX5_does_4 (by decide) (by decide) rfl (by decide) ?_
            refine lv_aload_n C.x C.b dX5_does_112 rfl (lv_at hl 0 rfl) ?_
            refine lv_aload_n C.x C.b dX5_does_113 rfl (lv_at hl 0 rfl) ?_
            refine gm_getA C hI hS 13 (by decide) (a := ad 7) rfl q1494 (fun _ h9 => h9) dX5_does_114 ?_
            refine lv_iconst (v := 0) C.x C.b dX5_does_117 (by decide) ?_
            refine gm_ld C hI hS 7 3 (by decide) rfl dX5_does_118 hw (fun v18 hw => ?_)
            refine lv_aload_n C.x C.b dX5_does_119 rfl (lv_at hl 0 rfl) ?_
            refine gm_getA C hI hS 13 (by decide) (a := ad 7) rfl q1494 (fun _ h9 => h9) dX5_does_120 ?_
            refine lv_iconst (v := 1) C.x C.b dX5_does_123 (by decide) ?_
            refine gm_ld C hI hS 7 3 (by decide) rfl dX5_does_124 hw (fun v19 hw => ?_)
            refine gm_callV (rest := []) C hI hS hl (kM_prioritizes C.tr hI hw) q1559 q1561 qs30 q88 q1562 ny_prioritizes rfl (Nat.le_of_ble_eq_true rfl) (Nat.le_of_ble_eq_true rfl) rfl (Nat.le_of_ble_eq_true rfl) dX5_does_125 (gm_ki (fun r21 u20 H locs hw hS => ?_))
            exact gm_iret C hS hw dX5_does_128
          · have hw := hw.2 c4_5
            rcases Decidable.em (v1 = 6) with c4_6 | c4_6
            · have hw := hw.1 c4_6
              rw [c4_6]
              refine lv_tableIn (tgt := 129) (off := 125) C.x C.b dX5_does_4 (by decide) (by decide) rfl (by decide) ?_
              refine lv_aload_n C.x C.b dX5_does_129 rfl (lv_at hl 0 rfl) ?_
              refine lv_aload_n C.x C.b dX5_does_130 rfl (lv_at hl 0 rfl) ?_
              refine gm_getA C hI hS 13 (by decide) (a := ad 7) rfl q1494 (fun _ h9 => h9) dX5_does_131 ?_
              refine lv_iconst (v := 0) C.x C.b dX5_does_134 (by decide) ?_
              refine gm_ld C hI hS 7 3 (by decide) rfl dX5_does_135 hw (fun v22 hw => ?_)
              refine lv_aload_n C.x C.b dX5_does_136 rfl (lv_at hl 0 rfl) ?_
              refine gm_getA C hI hS 13 (by decide) (a := ad 7) rfl q1494 (fun _ h9 => h9) dX5_does_137 ?_
              refine lv_iconst (v := 1) C.x C.b dX5_does_140 (by decide) ?_
              refine gm_ld C hI hS 7 3 (by decide) rfl dX5_does_141 hw (fun v23 hw => ?_)
              refine gm_callV (rest := []) C hI hS hl (kM_moves C.tr hI hw) q1611 q1613 qs39 q88 q1614 ny_moves rfl (Nat.le_of_ble_eq_true rfl) (Nat.le_of_ble_eq_true rfl) rfl (Nat.le_of_ble_eq_true rfl) dX5_does_142 (gm_ki (fun r25 u24 H locs hw hS => ?_))
              exact gm_iret C hS hw dX5_does_145
            · have hw := hw.2 c4_6
              refine lv_tableOut (tgt := 146) C.x C.b dX5_does_4 (by have := lv_neT c4_1 (a := 1) (by decide); have := lv_neT c4_2 (a := 2) (by decide); have := lv_neT c4_3 (a := 3) (by decide); have := lv_neT c4_4 (a := 4) (by decide); have := lv_neT c4_5 (a := 5) (by decide); have := lv_neT c4_6 (a := 6) (by decide); omega) (by decide) ?_
              refine lv_aload_n C.x C.b dX5_does_146 rfl (lv_at hl 0 rfl) ?_
              refine lv_aload_n C.x C.b dX5_does_147 rfl (lv_at hl 0 rfl) ?_
              refine gm_getA C hI hS 13 (by decide) (a := ad 7) rfl q1494 (fun _ h9 => h9) dX5_does_148 ?_
              refine lv_iconst (v := 0) C.x C.b dX5_does_151 (by decide) ?_
              refine gm_ld C hI hS 7 3 (by decide) rfl dX5_does_152 hw (fun v26 hw => ?_)
              refine gm_callV (rest := []) C hI hS hl (kM_ticks C.tr hI hw) q1638 q1640 qs41 q88 q1641 ny_ticks rfl (Nat.le_of_ble_eq_true rfl) (Nat.le_of_ble_eq_true rfl) rfl (Nat.le_of_ble_eq_true rfl) dX5_does_153 (gm_ki (fun r28 u27 H locs hw hS => ?_))
              exact gm_iret C hS hw dX5_does_156
theorem kM_does {l : Launch} (ht : l.stackTraces = false) (hI : mI ad) {w : gW} {u : gM} {Q : Int32 → gM → Prop} (hw : wM_does Q u) : gMet l yX5_does (ws_ yX5_does cX5_does 1 (some .int)) E (gmW E ad u w) [.ref (ad 8)] 7 159 (mQ E ad w (uI Q)) gNoX :=
  g_ofW ht (by decide) (Nat.le_of_ble_eq_true rfl) (fun p e s m below meth c ls H C hl hS => kM_does_r C hI _ _ _ _ hS hl hw)
def wM_run_118 (Q : Int32 → gM → Prop) (x1 : Int32) (u : gM) : Prop :=
  wM_ends x1 (fun r28 u27 => Q r28 u27) u
theorem kM_run_118 (C : gC p l s m args meth c cX5_run 3 (some .int) RX5 E [] "run") (hI : mI ad) {Q : Int32 → gM → Prop} (x1 : Int32) (u : gM) (H : Heap) (locs : List Loc) (ls : Array Slot) (hS : gS E w0 (gmW E ad u w) H locs) (hl : lv_has ls 3 [(0, .ref (ad 8)), (1, .int x1)]) (hw : wM_run_118 Q x1 u) : mGo p l e s m args below meth c 8 179 E ad w0 w (uI Q) H locs (F0 m 118 ls []) := by
  unfold wM_run_118 at hw
  refine lv_aload_n C.x C.b dX5_run_118 rfl (lv_at hl 0 rfl) ?_
  refine lv_iload_n C.x C.b dX5_run_119 rfl (lv_at hl 1 rfl) ?_
  refine gm_callV (rest := []) C hI hS hl (kM_ends C.tr hI hw) q1543 q1545 qs28 q88 q1546 ny_ends rfl (Nat.le_of_ble_eq_true rfl) (Nat.le_of_ble_eq_true rfl) rfl (Nat.le_of_ble_eq_true rfl) dX5_run_120 (gm_ki (fun r28 u27 H locs hw hS => ?_))
  exact gm_iret C hS hw dX5_run_123
def wM_run_109 (K64 : Int32 → Int32 → gM → Prop) (Q : Int32 → gM → Prop) (x2 : Int32) (y0 : Int32) (y1 : Int32) (u : gM) : Prop :=
  wM_skips (fun u30 => K64 (y1 + y0) x2 u30) u
theorem kM_run_109 (C : gC p l s m args meth c cX5_run 3 (some .int) RX5 E [] "run") (hI : mI ad) {Q : Int32 → gM → Prop} {K64 : Int32 → Int32 → gM → Prop} (hK64 : ∀ (x1 : Int32) (x2 : Int32) (u : gM) (H : Heap) (locs : List Loc) (ls : Array Slot), gS E w0 (gmW E ad u w) H locs → lv_has ls 3 [(0, .ref (ad 8)), (1, .int x1), (2, .int x2)] → K64 x1 x2 u → mGo p l e s m args below meth c 8 179 E ad w0 w (uI Q) H locs (F0 m 64 ls [])) (x2 : Int32) (y0 : Int32) (y1 : Int32) (u : gM) (H : Heap) (locs : List Loc) (ls : Array Slot) (hS : gS E w0 (gmW E ad u w) H locs) (hl : lv_has ls 3 [(0, .ref (ad 8)), (2, .int x2)]) (hw : wM_run_109 K64 Q x2 y0 y1 u) : mGo p l e s m args below meth c 8 179 E ad w0 w (uI Q) H locs (F0 m 109 ls [.int y0, .int y1]) := by
  unfold wM_run_109 at hw
  refine lv_iadd C.x C.b dX5_run_109 ?_
  refine lv_istore_n (lv' := [(1, .int (y1 + y0)), (0, .ref (ad 8)), (2, .int x2)]) C.x C.b dX5_run_110 rfl hl (by decide) rfl (fun ls hl => ?_)
  refine lv_aload_n C.x C.b dX5_run_111 rfl (lv_at hl 1 rfl) ?_
  refine gm_callV (rest := []) C hI hS hl (kM_skips C.tr hI hw) q1802 q1804 qs68 q88 q1805 ny_skips rfl (Nat.le_of_ble_eq_true rfl) (Nat.le_of_ble_eq_true rfl) rfl (Nat.le_of_ble_eq_true rfl) dX5_run_112 (gm_kv (fun u30 H locs hw hS => ?_))
  refine lv_goto (tgt := 64) C.x C.b dX5_run_115 (by decide) ?_
  exact hK64 _ _ _ _ _ _ hS (lv_sub hl [1, 0, 2] rfl) hw
def wM_run_98 (K64 : Int32 → Int32 → gM → Prop) (Q : Int32 → gM → Prop) (x1 : Int32) (y0 : Int32) (u : gM) : Prop :=
  (y0 = 0 → (wM_run_109 K64 Q y0 0 x1 u)) ∧ (¬ y0 = 0 → (wM_run_109 K64 Q y0 1 x1 u))
theorem kM_run_98 (C : gC p l s m args meth c cX5_run 3 (some .int) RX5 E [] "run") (hI : mI ad) {Q : Int32 → gM → Prop} {K64 : Int32 → Int32 → gM → Prop} (hK64 : ∀ (x1 : Int32) (x2 : Int32) (u : gM) (H : Heap) (locs : List Loc) (ls : Array Slot), gS E w0 (gmW E ad u w) H locs → lv_has ls 3 [(0, .ref (ad 8)), (1, .int x1), (2, .int x2)] → K64 x1 x2 u → mGo p l e s m args below meth c 8 179 E ad w0 w (uI Q) H locs (F0 m 64 ls [])) (x1 : Int32) (y0 : Int32) (u : gM) (H : Heap) (locs : List Loc) (ls : Array Slot) (hS : gS E w0 (gmW E ad u w) H locs) (hl : lv_has ls 3 [(0, .ref (ad 8)), (1, .int x1)]) (hw : wM_run_98 K64 Q x1 y0 u) : mGo p l e s m args below meth c 8 179 E ad w0 w (uI Q) H locs (F0 m 98 ls [.int y0]) := by
  unfold wM_run_98 at hw
  refine lv_istore_n (lv' := [(2, .int y0), (0, .ref (ad 8)), (1, .int x1)]) C.x C.b dX5_run_98 rfl hl (by decide) rfl (fun ls hl => ?_)
  refine lv_iload_n C.x C.b dX5_run_99 rfl (lv_at hl 2 rfl) ?_
  refine lv_iload_n C.x C.b dX5_run_100 rfl (lv_at hl 0 rfl) ?_
  refine lv_if_eq (tgt := 108) C.x C.b dX5_run_101 (by decide) (fun c29 => ?_) (fun c29 => ?_)
  · have hw := hw.1 c29
    refine lv_iconst (v := 0) C.x C.b dX5_run_108 (by decide) ?_
    exact kM_run_109 C hI hK64 _ _ _ _ _ _ _ hS (lv_sub hl [1, 0] rfl) hw
  · have hw := hw.2 c29
    refine lv_iconst (v := 1) C.x C.b dX5_run_104 (by decide) ?_
    refine lv_goto (tgt := 109) C.x C.b dX5_run_105 (by decide) ?_
    exact kM_run_109 C hI hK64 _ _ _ _ _ _ _ hS (lv_sub hl [1, 0] rfl) hw
def wM_run_97 (K64 : Int32 → Int32 → gM → Prop) (Q : Int32 → gM → Prop) (x1 : Int32) (u : gM) : Prop :=
  wM_run_98 K64 Q x1 0 u
theorem kM_run_97 (C : gC p l s m args meth c cX5_run 3 (some .int) RX5 E [] "run") (hI : mI ad) {Q : Int32 → gM → Prop} {K64 : Int32 → Int32 → gM → Prop} (hK64 : ∀ (x1 : Int32) (x2 : Int32) (u : gM) (H : Heap) (locs : List Loc) (ls : Array Slot), gS E w0 (gmW E ad u w) H locs → lv_has ls 3 [(0, .ref (ad 8)), (1, .int x1), (2, .int x2)] → K64 x1 x2 u → mGo p l e s m args below meth c 8 179 E ad w0 w (uI Q) H locs (F0 m 64 ls [])) (x1 : Int32) (u : gM) (H : Heap) (locs : List Loc) (ls : Array Slot) (hS : gS E w0 (gmW E ad u w) H locs) (hl : lv_has ls 3 [(0, .ref (ad 8)), (1, .int x1)]) (hw : wM_run_97 K64 Q x1 u) : mGo p l e s m args below meth c 8 179 E ad w0 w (uI Q) H locs (F0 m 97 ls []) := by
  unfold wM_run_97 at hw
  refine lv_iconst (v := 0) C.x C.b dX5_run_97 (by decide) ?_
  exact kM_run_98 C hI hK64 _ _ _ _ _ _ hS (lv_sub hl [0, 1] rfl) hw
def wM_run_64 (Q : Int32 → gM → Prop) : Nat → Int32 → Int32 → gM → Prop
  | 0, _, _, _ => False
  | n + 1, x1, x2, u => uGt 4 (fun v17 => uGt 1 (fun v18 => (v18 ≤ v17 → (wM_run_118 Q x1 u)) ∧ (¬ v18 ≤ v17 → ((x2 = 0 → (wM_run_118 Q x1 u)) ∧ (¬ x2 = 0 → (wM_isCommand (fun r22 u21 => (r22 = 0 → (wM_run_97 (fun x1 x2 u => wM_run_64 Q n x1 x2 u) Q x1 u21)) ∧ (¬ r22 = 0 → (wM_does (fun r25 u24 => (r25 = 0 → (wM_run_98 (fun x1 x2 u => wM_run_64 Q n x1 x2 u) Q x1 1 u24)) ∧ (¬ r25 = 0 → (wM_run_97 (fun x1 x2 u => wM_run_64 Q n x1 x2 u) Q x1 u24))) u21))) u))))) u) u
theorem kM_run_64 (C : gC p l s m args meth c cX5_run 3 (some .int) RX5 E [] "run") (hI : mI ad) {Q : Int32 → gM → Prop} : ∀ (n : Nat) (x1 : Int32) (x2 : Int32) (u : gM) (H : Heap) (locs : List Loc) (ls : Array Slot), gS E w0 (gmW E ad u w) H locs → lv_has ls 3 [(0, .ref (ad 8)), (1, .int x1), (2, .int x2)] → wM_run_64 Q n x1 x2 u → mGo p l e s m args below meth c 8 179 E ad w0 w (uI Q) H locs (F0 m 64 ls []) := by
  intro n
  induction n with
  | zero =>
    intro x1 x2 u H locs ls hS hl hw
    exact hw.elim
  | succ n ih =>
    intro x1 x2 u H locs ls hS hl hw
    unfold wM_run_64 at hw
    refine lv_aload_n C.x C.b dX5_run_64 rfl (lv_at hl 0 rfl) ?_
    refine gm_getI C hI hS 11 4 (by decide) rfl q1492 (fun _ h9 => h9) dX5_run_65 hw (fun v17 hw => ?_)
    refine lv_aload_n C.x C.b dX5_run_68 rfl (lv_at hl 0 rfl) ?_
    refine gm_getI C hI hS 5 1 (by decide) rfl q1486 (fun _ h9 => h9) dX5_run_69 hw (fun v18 hw => ?_)
    refine lv_icmp_ge (tgt := 118) C.x C.b dX5_run_72 (by decide) (fun c19 => ?_) (fun c19 => ?_)
    · have hw := hw.1 c19
      exact kM_run_118 C hI _ _ _ _ _ hS (lv_sub hl [0, 1] rfl) hw
    · have hw := hw.2 c19
      refine lv_iload_n C.x C.b dX5_run_75 rfl (lv_at hl 2 rfl) ?_
      refine lv_if_eq (tgt := 118) C.x C.b dX5_run_76 (by decide) (fun c20 => ?_) (fun c20 => ?_)
      · have hw := hw.1 c20
        exact kM_run_118 C hI _ _ _ _ _ hS (lv_sub hl [0, 1] rfl) hw
      · have hw := hw.2 c20
        refine lv_aload_n C.x C.b dX5_run_79 rfl (lv_at hl 0 rfl) ?_
        refine gm_callV (rest := []) C hI hS hl (kM_isCommand C.tr hI hw) q1810 q1812 qs70 q88 q1813 ny_isCommand rfl (Nat.le_of_ble_eq_true rfl) (Nat.le_of_ble_eq_true rfl) rfl (Nat.le_of_ble_eq_true rfl) dX5_run_80 (gm_ki (fun r22 u21 H locs hw hS => ?_))
        refine lv_if_eq (tgt := 97) C.x C.b dX5_run_83 (by decide) (fun c23 => ?_) (fun c23 => ?_)
        · have hw := hw.1 c23
          exact kM_run_97 C hI ih _ _ _ _ _ hS (lv_sub hl [0, 1] rfl) hw
        · have hw := hw.2 c23
          refine lv_aload_n C.x C.b dX5_run_86 rfl (lv_at hl 0 rfl) ?_
          refine gm_callV (rest := []) C hI hS hl (kM_does C.tr hI hw) q1831 q1833 qs72 q88 q1834 ny_does rfl (Nat.le_of_ble_eq_true rfl) (Nat.le_of_ble_eq_true rfl) rfl (Nat.le_of_ble_eq_true rfl) dX5_run_87 (gm_ki (fun r25 u24 H locs hw hS => ?_))
          refine lv_if_ne (tgt := 97) C.x C.b dX5_run_90 (by decide) (fun c26 => ?_) (fun c26 => ?_)
          · have hw := hw.2 c26
            exact kM_run_97 C hI ih _ _ _ _ _ hS (lv_sub hl [0, 1] rfl) hw
          · have hw := hw.1 c26
            refine lv_iconst (v := 1) C.x C.b dX5_run_93 (by decide) ?_
            refine lv_goto (tgt := 98) C.x C.b dX5_run_94 (by decide) ?_
            exact kM_run_98 C hI ih _ _ _ _ _ _ hS (lv_sub hl [0, 1] rfl) hw
def wM_run_14 (Q : Int32 → gM → Prop) : Nat → gM → Prop
  | 0, _ => False
  | n + 1, u => uGt 4 (fun v5 => uGt 1 (fun v6 => (v6 ≤ v5 → (wM_hold (fun u8 => uPt 4 0 (fun u9 => wM_skips (fun u10 => ∃ k11 : Nat, wM_run_64 Q k11 0 1 u10) u9) u8) u)) ∧ (¬ v6 ≤ v5 → (wM_isCommand (fun r13 u12 => (r13 = 0 → (uGt 4 (fun v16 => Q ((-10) - v16) u12) u12)) ∧ (¬ r13 = 0 → (wM_skips (fun u15 => wM_run_14 Q n u15) u12))) u))) u) u
theorem kM_run_14 (C : gC p l s m args meth c cX5_run 3 (some .int) RX5 E [] "run") (hI : mI ad) {Q : Int32 → gM → Prop} : ∀ (n : Nat) (u : gM) (H : Heap) (locs : List Loc) (ls : Array Slot), gS E w0 (gmW E ad u w) H locs → lv_has ls 3 [(0, .ref (ad 8))] → wM_run_14 Q n u → mGo p l e s m args below meth c 8 179 E ad w0 w (uI Q) H locs (F0 m 14 ls []) := by
  intro n
  induction n with
  | zero =>
    intro u H locs ls hS hl hw
    exact hw.elim
  | succ n ih =>
    intro u H locs ls hS hl hw
    unfold wM_run_14 at hw
    refine lv_aload_n C.x C.b dX5_run_14 rfl (lv_at hl 0 rfl) ?_
    refine gm_getI C hI hS 11 4 (by decide) rfl q1492 (fun _ h9 => h9) dX5_run_15 hw (fun v5 hw => ?_)
    refine lv_aload_n C.x C.b dX5_run_18 rfl (lv_at hl 0 rfl) ?_
    refine gm_getI C hI hS 5 1 (by decide) rfl q1486 (fun _ h9 => h9) dX5_run_19 hw (fun v6 hw => ?_)
    refine lv_icmp_ge (tgt := 47) C.x C.b dX5_run_22 (by decide) (fun c7 => ?_) (fun c7 => ?_)
    · have hw := hw.1 c7
      refine lv_aload_n C.x C.b dX5_run_47 rfl (lv_at hl 0 rfl) ?_
      refine gm_callV (rest := []) C hI hS hl (kM_hold C.tr hI hw) q1539 q1541 qs27 q88 q1542 ny_hold rfl (Nat.le_of_ble_eq_true rfl) (Nat.le_of_ble_eq_true rfl) rfl (Nat.le_of_ble_eq_true rfl) dX5_run_48 (gm_kv (fun u8 H locs hw hS => ?_))
      refine lv_iconst (v := 0) C.x C.b dX5_run_51 (by decide) ?_
      refine lv_istore_n (lv' := [(1, .int 0), (0, .ref (ad 8))]) C.x C.b dX5_run_52 rfl hl (by decide) rfl (fun ls hl => ?_)
      refine lv_iconst (v := 1) C.x C.b dX5_run_53 (by decide) ?_
      refine lv_istore_n (lv' := [(2, .int 1), (1, .int 0), (0, .ref (ad 8))]) C.x C.b dX5_run_54 rfl hl (by decide) rfl (fun ls hl => ?_)
      refine lv_aload_n C.x C.b dX5_run_55 rfl (lv_at hl 2 rfl) ?_
      refine lv_iconst (v := 0) C.x C.b dX5_run_56 (by decide) ?_
      refine gm_putI C hI hS 11 4 (by decide) rfl q1492 (fun _ h9 => h9) rfl rfl rfl dX5_run_57 hw (fun u9 H locs hw hS => ?_)
      refine lv_aload_n C.x C.b dX5_run_60 rfl (lv_at hl 2 rfl) ?_
      refine gm_callV (rest := []) C hI hS hl (kM_skips C.tr hI hw) q1802 q1804 qs68 q88 q1805 ny_skips rfl (Nat.le_of_ble_eq_true rfl) (Nat.le_of_ble_eq_true rfl) rfl (Nat.le_of_ble_eq_true rfl) dX5_run_61 (gm_kv (fun u10 H locs hw hS => ?_))
      obtain ⟨k11, hw⟩ := hw
      exact kM_run_64 C hI k11 _ _ _ _ _ _ hS (lv_sub hl [2, 1, 0] rfl) hw
    · have hw := hw.2 c7
      refine lv_aload_n C.x C.b dX5_run_25 rfl (lv_at hl 0 rfl) ?_
      refine gm_callV (rest := []) C hI hS hl (kM_isCommand C.tr hI hw) q1810 q1812 qs70 q88 q1813 ny_isCommand rfl (Nat.le_of_ble_eq_true rfl) (Nat.le_of_ble_eq_true rfl) rfl (Nat.le_of_ble_eq_true rfl) dX5_run_26 (gm_ki (fun r13 u12 H locs hw hS => ?_))
      refine lv_if_ne (tgt := 40) C.x C.b dX5_run_29 (by decide) (fun c14 => ?_) (fun c14 => ?_)
      · have hw := hw.2 c14
        refine lv_aload_n C.x C.b dX5_run_40 rfl (lv_at hl 0 rfl) ?_
        refine gm_callV (rest := []) C hI hS hl (kM_skips C.tr hI hw) q1802 q1804 qs68 q88 q1805 ny_skips rfl (Nat.le_of_ble_eq_true rfl) (Nat.le_of_ble_eq_true rfl) rfl (Nat.le_of_ble_eq_true rfl) dX5_run_41 (gm_kv (fun u15 H locs hw hS => ?_))
        refine lv_goto (tgt := 14) C.x C.b dX5_run_44 (by decide) ?_
        exact ih _ _ _ _ hS (lv_sub hl [0] rfl) hw
      · have hw := hw.1 c14
        refine lv_bipush (v := (-10)) C.x C.b dX5_run_32 (by decide) ?_
        refine lv_aload_n C.x C.b dX5_run_34 rfl (lv_at hl 0 rfl) ?_
        refine gm_getI C hI hS 11 4 (by decide) rfl q1492 (fun _ h9 => h9) dX5_run_35 hw (fun v16 hw => ?_)
        refine lv_isub C.x C.b dX5_run_38 ?_
        exact gm_iret C hS hw dX5_run_39
def wM_run (Q : Int32 → gM → Prop) (u : gM) : Prop :=
  uPt 2 0 (fun u1 => uPt 4 0 (fun u2 => wM_skips (fun u3 => ∃ k4 : Nat, wM_run_14 Q k4 u3) u2) u1) u
theorem kM_run_r (C : gC p l s m args meth c cX5_run 3 (some .int) RX5 E [] "run") (hI : mI ad) {Q : Int32 → gM → Prop} (u : gM) (H : Heap) (locs : List Loc) (ls : Array Slot) (hS : gS E w0 (gmW E ad u w) H locs) (hl : lv_has ls 3 [(0, .ref (ad 8))]) (hw : wM_run Q u) : mGo p l e s m args below meth c 8 179 E ad w0 w (uI Q) H locs (F0 m 0 ls []) := by
  unfold wM_run at hw
  refine lv_aload_n C.x C.b dX5_run_0 rfl (lv_at hl 0 rfl) ?_
  refine lv_iconst (v := 0) C.x C.b dX5_run_1 (by decide) ?_
  refine gm_putI C hI hS 6 2 (by decide) rfl q1487 (fun _ h9 => h9) rfl rfl rfl dX5_run_2 hw (fun u1 H locs hw hS => ?_)
  refine lv_aload_n C.x C.b dX5_run_5 rfl (lv_at hl 0 rfl) ?_
  refine lv_iconst (v := 0) C.x C.b dX5_run_6 (by decide) ?_
  refine gm_putI C hI hS 11 4 (by decide) rfl q1492 (fun _ h9 => h9) rfl rfl rfl dX5_run_7 hw (fun u2 H locs hw hS => ?_)
  refine lv_aload_n C.x C.b dX5_run_10 rfl (lv_at hl 0 rfl) ?_
  refine gm_callV (rest := []) C hI hS hl (kM_skips C.tr hI hw) q1802 q1804 qs68 q88 q1805 ny_skips rfl (Nat.le_of_ble_eq_true rfl) (Nat.le_of_ble_eq_true rfl) rfl (Nat.le_of_ble_eq_true rfl) dX5_run_11 (gm_kv (fun u3 H locs hw hS => ?_))
  obtain ⟨k4, hw⟩ := hw
  exact kM_run_14 C hI k4 _ _ _ _ hS (lv_sub hl [0] rfl) hw
theorem kM_run {l : Launch} (ht : l.stackTraces = false) (hI : mI ad) {w : gW} {u : gM} {Q : Int32 → gM → Prop} (hw : wM_run Q u) : gMet l yX5_run (ws_ yX5_run cX5_run 3 (some .int)) E (gmW E ad u w) [.ref (ad 8)] 8 179 (mQ E ad w (uI Q)) gNoX :=
  g_ofW ht (by decide) (Nat.le_of_ble_eq_true rfl) (fun p e s m below meth c ls H C hl hS => kM_run_r C hI _ _ _ _ hS hl hw)
def wM_undo_25 (Q : Int32 → gM → Prop) : Nat → Int32 → gM → Prop
  | 0, _, _ => False
  | n + 1, x1, u => (487 ≤ x1 → (uGt 0 (fun v9 => wM_tells v9 (fun r11 u10 => Q r11 u10) u) u)) ∧ (¬ 487 ≤ x1 → (uGt 0 (fun v12 => uLd 1 1461 ((487 * v12) + x1) (fun v13 => uSt 0 487 x1 v13 (fun u14 => wM_undo_25 Q n (x1 + 1) u14) u) u) u))
theorem kM_undo_25 (C : gC p l s m args meth c cX5_undo 2 (some .int) RX5 E [] "undo") (hI : mI ad) {Q : Int32 → gM → Prop} : ∀ (n : Nat) (x1 : Int32) (u : gM) (H : Heap) (locs : List Loc) (ls : Array Slot), gS E w0 (gmW E ad u w) H locs → lv_has ls 2 [(0, .ref (ad 8)), (1, .int x1)] → wM_undo_25 Q n x1 u → mGo p l e s m args below meth c 1 21 E ad w0 w (uI Q) H locs (F0 m 25 ls []) := by
  intro n
  induction n with
  | zero =>
    intro x1 u H locs ls hS hl hw
    exact hw.elim
  | succ n ih =>
    intro x1 u H locs ls hS hl hw
    unfold wM_undo_25 at hw
    refine lv_iload_n C.x C.b dX5_undo_25 rfl (lv_at hl 1 rfl) ?_
    refine lv_sipush (v := 487) C.x C.b dX5_undo_26 (by decide) ?_
    refine lv_icmp_ge (tgt := 59) C.x C.b dX5_undo_29 (by decide) (fun c8 => ?_) (fun c8 => ?_)
    · have hw := hw.1 c8
      refine lv_aload_n C.x C.b dX5_undo_59 rfl (lv_at hl 0 rfl) ?_
      refine lv_aload_n C.x C.b dX5_undo_60 rfl (lv_at hl 0 rfl) ?_
      refine gm_getI C hI hS 3 0 (by decide) rfl q1484 (fun _ h9 => h9) dX5_undo_61 hw (fun v9 hw => ?_)
      refine gm_callV (rest := []) C hI hS hl (kM_tells C.tr hI hw) q1547 q1549 qs29 q88 q1550 ny_tells rfl (Nat.le_of_ble_eq_true rfl) (Nat.le_of_ble_eq_true rfl) rfl (Nat.le_of_ble_eq_true rfl) dX5_undo_64 (gm_ki (fun r11 u10 H locs hw hS => ?_))
      exact gm_iret C hS hw dX5_undo_67
    · have hw := hw.2 c8
      refine lv_aload_n C.x C.b dX5_undo_32 rfl (lv_at hl 0 rfl) ?_
      refine gm_getA C hI hS 0 (by decide) (a := ad 0) rfl q1481 (fun _ h9 => h9) dX5_undo_33 ?_
      refine lv_iload_n C.x C.b dX5_undo_36 rfl (lv_at hl 1 rfl) ?_
      refine lv_aload_n C.x C.b dX5_undo_37 rfl (lv_at hl 0 rfl) ?_
      refine gm_getA C hI hS 1 (by decide) (a := ad 1) rfl q1482 (fun _ h9 => h9) dX5_undo_38 ?_
      refine lv_sipush (v := 487) C.x C.b dX5_undo_41 (by decide) ?_
      refine lv_aload_n C.x C.b dX5_undo_44 rfl (lv_at hl 0 rfl) ?_
      refine gm_getI C hI hS 3 0 (by decide) rfl q1484 (fun _ h9 => h9) dX5_undo_45 hw (fun v12 hw => ?_)
      refine lv_imul C.x C.b dX5_undo_48 ?_
      refine lv_iload_n C.x C.b dX5_undo_49 rfl (lv_at hl 1 rfl) ?_
      refine lv_iadd C.x C.b dX5_undo_50 ?_
      refine gm_ld C hI hS 1 1461 (by decide) rfl dX5_undo_51 hw (fun v13 hw => ?_)
      refine gm_st C hI hS 0 487 (by decide) rfl dX5_undo_52 hw (fun u14 H locs hw hS => ?_)
      refine lv_iinc (v := (x1 + 1)) (lv' := [(1, .int (x1 + 1)), (0, .ref (ad 8))]) C.x C.b dX5_undo_53 hl (k := 1) rfl rfl (by decide) rfl (fun ls hl => ?_)
      refine lv_goto (tgt := 25) C.x C.b dX5_undo_56 (by decide) ?_
      exact ih _ _ _ _ _ hS (lv_sub hl [1, 0] rfl) hw
def wM_undo (Q : Int32 → gM → Prop) (u : gM) : Prop :=
  uGt 0 (fun v1 => (v1 = 0 → (wM_fails 1 (fun r7 u6 => Q r7 u6) u)) ∧ (¬ v1 = 0 → (uGt 0 (fun v3 => uPt 0 (v3 - 1) (fun u4 => ∃ k5 : Nat, wM_undo_25 Q k5 0 u4) u) u))) u
theorem kM_undo_r (C : gC p l s m args meth c cX5_undo 2 (some .int) RX5 E [] "undo") (hI : mI ad) {Q : Int32 → gM → Prop} (u : gM) (H : Heap) (locs : List Loc) (ls : Array Slot) (hS : gS E w0 (gmW E ad u w) H locs) (hl : lv_has ls 2 [(0, .ref (ad 8))]) (hw : wM_undo Q u) : mGo p l e s m args below meth c 1 21 E ad w0 w (uI Q) H locs (F0 m 0 ls []) := by
  unfold wM_undo at hw
  refine lv_aload_n C.x C.b dX5_undo_0 rfl (lv_at hl 0 rfl) ?_
  refine gm_getI C hI hS 3 0 (by decide) rfl q1484 (fun _ h9 => h9) dX5_undo_1 hw (fun v1 hw => ?_)
  refine lv_if_ne (tgt := 13) C.x C.b dX5_undo_4 (by decide) (fun c2 => ?_) (fun c2 => ?_)
  · have hw := hw.2 c2
    refine lv_aload_n C.x C.b dX5_undo_13 rfl (lv_at hl 0 rfl) ?_
    refine lv_dup C.x C.b dX5_undo_14 rfl ?_
    refine gm_getI C hI hS 3 0 (by decide) rfl q1484 (fun _ h9 => h9) dX5_undo_15 hw (fun v3 hw => ?_)
    refine lv_iconst (v := 1) C.x C.b dX5_undo_18 (by decide) ?_
    refine lv_isub C.x C.b dX5_undo_19 ?_
    refine gm_putI C hI hS 3 0 (by decide) rfl q1484 (fun _ h9 => h9) rfl rfl rfl dX5_undo_20 hw (fun u4 H locs hw hS => ?_)
    refine lv_iconst (v := 0) C.x C.b dX5_undo_23 (by decide) ?_
    refine lv_istore_n (lv' := [(1, .int 0), (0, .ref (ad 8))]) C.x C.b dX5_undo_24 rfl hl (by decide) rfl (fun ls hl => ?_)
    obtain ⟨k5, hw⟩ := hw
    exact kM_undo_25 C hI k5 _ _ _ _ _ hS (lv_sub hl [1, 0] rfl) hw
  · have hw := hw.1 c2
    refine lv_aload_n C.x C.b dX5_undo_7 rfl (lv_at hl 0 rfl) ?_
    refine lv_iconst (v := 1) C.x C.b dX5_undo_8 (by decide) ?_
    refine gm_callV (rest := []) C hI hS hl (kM_fails C.tr hI hw) q1535 q1537 qs26 q88 q1538 ny_fails rfl (Nat.le_of_ble_eq_true rfl) (Nat.le_of_ble_eq_true rfl) rfl (Nat.le_of_ble_eq_true rfl) dX5_undo_9 (gm_ki (fun r7 u6 H locs hw hS => ?_))
    exact gm_iret C hS hw dX5_undo_12
theorem kM_undo {l : Launch} (ht : l.stackTraces = false) (hI : mI ad) {w : gW} {u : gM} {Q : Int32 → gM → Prop} (hw : wM_undo Q u) : gMet l yX5_undo (ws_ yX5_undo cX5_undo 2 (some .int)) E (gmW E ad u w) [.ref (ad 8)] 1 21 (mQ E ad w (uI Q)) gNoX :=
  g_ofW ht (by decide) (Nat.le_of_ble_eq_true rfl) (fun p e s m below meth c ls H C hl hS => kM_undo_r C hI _ _ _ _ hS hl hw)
def wM_mix (a1 : Int32) (Q : gM → Prop) (u : gM) : Prop :=
  uGh (fun v1 => uPh ((31 * v1) + a1.toInt64) (fun u2 => Q u2) u) u
theorem kM_mix_r (C : gC p l s m args meth c cX5_mix 2 none RX5 E [] "mix") (hI : mI ad) (a1 : Int32) {Q : gM → Prop} (u : gM) (H : Heap) (locs : List Loc) (ls : Array Slot) (hS : gS E w0 (gmW E ad u w) H locs) (hl : lv_has ls 2 [(0, .ref (ad 8)), (1, .int a1)]) (hw : wM_mix a1 Q u) : mGo p l e s m args below meth c 0 0 E ad w0 w (uV Q) H locs (F0 m 0 ls []) := by
  unfold wM_mix at hw
  refine lv_aload_n C.x C.b dX5_mix_0 rfl (lv_at hl 0 rfl) ?_
  refine lv_ldc2 C.x C.b C.ow (C.ts _ q1848) dX5_mix_1 ?_
  refine lv_aload_n C.x C.b dX5_mix_4 rfl (lv_at hl 0 rfl) ?_
  refine gm_getH C hI hS q1495 dX5_mix_5 hw (fun v1 hw => ?_)
  refine lv_lmul C.x C.b dX5_mix_8 ?_
  refine lv_iload_n C.x C.b dX5_mix_9 rfl (lv_at hl 1 rfl) ?_
  refine lv_i2l C.x C.b dX5_mix_10 rfl ?_
  refine lv_ladd C.x C.b dX5_mix_11 ?_
  refine gm_putH C hI hS q1495 dX5_mix_12 hw (fun u2 H locs hw hS => ?_)
  exact gm_vret C hS hw dX5_mix_15
theorem kM_mix {l : Launch} (ht : l.stackTraces = false) (hI : mI ad) {w : gW} {u : gM} {a1 : Int32} {Q : gM → Prop} (hw : wM_mix a1 Q u) : gMet l yX5_mix (ws_ yX5_mix cX5_mix 2 none) E (gmW E ad u w) [.ref (ad 8), .int a1] 0 0 (mQ E ad w (uV Q)) gNoX :=
  g_ofW ht (by decide) (Nat.le_of_ble_eq_true rfl) (fun p e s m below meth c ls H C hl hS => kM_mix_r C hI _ _ _ _ _ hS hl hw)
def wM_mixBridge_26 (Q : gM → Prop) : Nat → Int32 → Int32 → gM → Prop
  | 0, _, _, _ => False
  | n + 1, x1, x2, u => (8 ≤ x2 → (Q u)) ∧ (¬ 8 ≤ x2 → (wM_entryOf x1 x2 (fun r9 u8 => wM_mix r9 (fun u10 => wM_mixBridge_26 Q n x1 (x2 + 1) u10) u8) u))
theorem kM_mixBridge_26 (C : gC p l s m args meth c cX5_mixBridge 3 none RX5 E [] "mixBridge") (hI : mI ad) {Q : gM → Prop} : ∀ (n : Nat) (x1 : Int32) (x2 : Int32) (u : gM) (H : Heap) (locs : List Loc) (ls : Array Slot), gS E w0 (gmW E ad u w) H locs → lv_has ls 3 [(0, .ref (ad 8)), (1, .int x1), (2, .int x2)] → wM_mixBridge_26 Q n x1 x2 u → mGo p l e s m args below meth c 2 45 E ad w0 w (uV Q) H locs (F0 m 26 ls []) := by
  intro n
  induction n with
  | zero =>
    intro x1 x2 u H locs ls hS hl hw
    exact hw.elim
  | succ n ih =>
    intro x1 x2 u H locs ls hS hl hw
    unfold wM_mixBridge_26 at hw
    refine lv_iload_n C.x C.b dX5_mixBridge_26 rfl (lv_at hl 2 rfl) ?_
    refine lv_bipush (v := 8) C.x C.b dX5_mixBridge_27 (by decide) ?_
    refine lv_icmp_ge (tgt := 48) C.x C.b dX5_mixBridge_29 (by decide) (fun c7 => ?_) (fun c7 => ?_)
    · have hw := hw.1 c7
      exact gm_vret C hS hw dX5_mixBridge_48
    · have hw := hw.2 c7
      refine lv_aload_n C.x C.b dX5_mixBridge_32 rfl (lv_at hl 0 rfl) ?_
      refine lv_aload_n C.x C.b dX5_mixBridge_33 rfl (lv_at hl 0 rfl) ?_
      refine lv_iload_n C.x C.b dX5_mixBridge_34 rfl (lv_at hl 1 rfl) ?_
      refine lv_iload_n C.x C.b dX5_mixBridge_35 rfl (lv_at hl 2 rfl) ?_
      refine gm_callV (rest := [.ref (ad 8)]) C hI hS hl (kM_entryOf C.tr hI hw) q1714 q1716 qs58 q88 q1717 ny_entryOf rfl (Nat.le_of_ble_eq_true rfl) (Nat.le_of_ble_eq_true rfl) rfl (Nat.le_of_ble_eq_true rfl) dX5_mixBridge_36 (gm_ki (fun r9 u8 H locs hw hS => ?_))
      refine gm_callV (rest := []) C hI hS hl (kM_mix C.tr hI hw) q1844 q1846 qs73 q88 q1847 ny_mix rfl (Nat.le_of_ble_eq_true rfl) (Nat.le_of_ble_eq_true rfl) rfl (Nat.le_of_ble_eq_true rfl) dX5_mixBridge_39 (gm_kv (fun u10 H locs hw hS => ?_))
      refine lv_iinc (v := (x2 + 1)) (lv' := [(2, .int (x2 + 1)), (0, .ref (ad 8)), (1, .int x1)]) C.x C.b dX5_mixBridge_42 hl (k := 2) rfl rfl (by decide) rfl (fun ls hl => ?_)
      refine lv_goto (tgt := 26) C.x C.b dX5_mixBridge_45 (by decide) ?_
      exact ih _ _ _ _ _ _ hS (lv_sub hl [1, 2, 0] rfl) hw
def wM_mixBridge_2 (Q : gM → Prop) : Nat → Int32 → Int32 → gM → Prop
  | 0, _, _, _ => False
  | n + 1, x1, x2, u => (6 ≤ x2 → (∃ k3 : Nat, wM_mixBridge_26 Q k3 x1 0 u)) ∧ (¬ 6 ≤ x2 → (wM_bridgeValue x1 x2 (fun r5 u4 => wM_mix r5 (fun u6 => wM_mixBridge_2 Q n x1 (x2 + 1) u6) u4) u))
theorem kM_mixBridge_2 (C : gC p l s m args meth c cX5_mixBridge 3 none RX5 E [] "mixBridge") (hI : mI ad) {Q : gM → Prop} : ∀ (n : Nat) (x1 : Int32) (x2 : Int32) (u : gM) (H : Heap) (locs : List Loc) (ls : Array Slot), gS E w0 (gmW E ad u w) H locs → lv_has ls 3 [(0, .ref (ad 8)), (1, .int x1), (2, .int x2)] → wM_mixBridge_2 Q n x1 x2 u → mGo p l e s m args below meth c 2 45 E ad w0 w (uV Q) H locs (F0 m 2 ls []) := by
  intro n
  induction n with
  | zero =>
    intro x1 x2 u H locs ls hS hl hw
    exact hw.elim
  | succ n ih =>
    intro x1 x2 u H locs ls hS hl hw
    unfold wM_mixBridge_2 at hw
    refine lv_iload_n C.x C.b dX5_mixBridge_2 rfl (lv_at hl 2 rfl) ?_
    refine lv_bipush (v := 6) C.x C.b dX5_mixBridge_3 (by decide) ?_
    refine lv_icmp_ge (tgt := 24) C.x C.b dX5_mixBridge_5 (by decide) (fun c2 => ?_) (fun c2 => ?_)
    · have hw := hw.1 c2
      refine lv_iconst (v := 0) C.x C.b dX5_mixBridge_24 (by decide) ?_
      refine lv_istore_n (lv' := [(2, .int 0), (0, .ref (ad 8)), (1, .int x1)]) C.x C.b dX5_mixBridge_25 rfl hl (by decide) rfl (fun ls hl => ?_)
      obtain ⟨k3, hw⟩ := hw
      exact kM_mixBridge_26 C hI k3 _ _ _ _ _ _ hS (lv_sub hl [1, 2, 0] rfl) hw
    · have hw := hw.2 c2
      refine lv_aload_n C.x C.b dX5_mixBridge_8 rfl (lv_at hl 0 rfl) ?_
      refine lv_aload_n C.x C.b dX5_mixBridge_9 rfl (lv_at hl 0 rfl) ?_
      refine lv_iload_n C.x C.b dX5_mixBridge_10 rfl (lv_at hl 1 rfl) ?_
      refine lv_iload_n C.x C.b dX5_mixBridge_11 rfl (lv_at hl 2 rfl) ?_
      refine gm_callV (rest := [.ref (ad 8)]) C hI hS hl (kM_bridgeValue C.tr hI hw) q1722 q1724 qs59 q88 q1725 ny_bridgeValue rfl (Nat.le_of_ble_eq_true rfl) (Nat.le_of_ble_eq_true rfl) rfl (Nat.le_of_ble_eq_true rfl) dX5_mixBridge_12 (gm_ki (fun r5 u4 H locs hw hS => ?_))
      refine gm_callV (rest := []) C hI hS hl (kM_mix C.tr hI hw) q1844 q1846 qs73 q88 q1847 ny_mix rfl (Nat.le_of_ble_eq_true rfl) (Nat.le_of_ble_eq_true rfl) rfl (Nat.le_of_ble_eq_true rfl) dX5_mixBridge_15 (gm_kv (fun u6 H locs hw hS => ?_))
      refine lv_iinc (v := (x2 + 1)) (lv' := [(2, .int (x2 + 1)), (0, .ref (ad 8)), (1, .int x1)]) C.x C.b dX5_mixBridge_18 hl (k := 2) rfl rfl (by decide) rfl (fun ls hl => ?_)
      refine lv_goto (tgt := 2) C.x C.b dX5_mixBridge_21 (by decide) ?_
      exact ih _ _ _ _ _ _ hS (lv_sub hl [1, 2, 0] rfl) hw
def wM_mixBridge (a1 : Int32) (Q : gM → Prop) (u : gM) : Prop :=
  ∃ k1 : Nat, wM_mixBridge_2 Q k1 a1 0 u
theorem kM_mixBridge_r (C : gC p l s m args meth c cX5_mixBridge 3 none RX5 E [] "mixBridge") (hI : mI ad) (a1 : Int32) {Q : gM → Prop} (u : gM) (H : Heap) (locs : List Loc) (ls : Array Slot) (hS : gS E w0 (gmW E ad u w) H locs) (hl : lv_has ls 3 [(0, .ref (ad 8)), (1, .int a1)]) (hw : wM_mixBridge a1 Q u) : mGo p l e s m args below meth c 2 45 E ad w0 w (uV Q) H locs (F0 m 0 ls []) := by
  unfold wM_mixBridge at hw
  refine lv_iconst (v := 0) C.x C.b dX5_mixBridge_0 (by decide) ?_
  refine lv_istore_n (lv' := [(2, .int 0), (0, .ref (ad 8)), (1, .int a1)]) C.x C.b dX5_mixBridge_1 rfl hl (by decide) rfl (fun ls hl => ?_)
  obtain ⟨k1, hw⟩ := hw
  exact kM_mixBridge_2 C hI k1 _ _ _ _ _ _ hS (lv_sub hl [1, 2, 0] rfl) hw
theorem kM_mixBridge {l : Launch} (ht : l.stackTraces = false) (hI : mI ad) {w : gW} {u : gM} {a1 : Int32} {Q : gM → Prop} (hw : wM_mixBridge a1 Q u) : gMet l yX5_mixBridge (ws_ yX5_mixBridge cX5_mixBridge 3 none) E (gmW E ad u w) [.ref (ad 8), .int a1] 2 45 (mQ E ad w (uV Q)) gNoX :=
  g_ofW ht (by decide) (Nat.le_of_ble_eq_true rfl) (fun p e s m below meth c ls H C hl hS => kM_mixBridge_r C hI _ _ _ _ _ hS hl hw)
def wM_mixLink_27 (Q : gM → Prop) : Nat → Int32 → Int32 → gM → Prop
  | 0, _, _, _ => False
  | n + 1, x1, x2, u => (18 ≤ x2 → (Q u)) ∧ (¬ 18 ≤ x2 → (wM_of x1 x2 (fun r9 u8 => wM_mix r9 (fun u10 => wM_mixLink_27 Q n x1 (x2 + 1) u10) u8) u))
theorem kM_mixLink_27 (C : gC p l s m args meth c cX5_mixLink 3 none RX5 E [] "mixLink") (hI : mI ad) {Q : gM → Prop} : ∀ (n : Nat) (x1 : Int32) (x2 : Int32) (u : gM) (H : Heap) (locs : List Loc) (ls : Array Slot), gS E w0 (gmW E ad u w) H locs → lv_has ls 3 [(0, .ref (ad 8)), (1, .int x1), (2, .int x2)] → wM_mixLink_27 Q n x1 x2 u → mGo p l e s m args below meth c 3 65 E ad w0 w (uV Q) H locs (F0 m 27 ls []) := by
  intro n
  induction n with
  | zero =>
    intro x1 x2 u H locs ls hS hl hw
    exact hw.elim
  | succ n ih =>
    intro x1 x2 u H locs ls hS hl hw
    unfold wM_mixLink_27 at hw
    refine lv_iload_n C.x C.b dX5_mixLink_27 rfl (lv_at hl 2 rfl) ?_
    refine lv_bipush (v := 18) C.x C.b dX5_mixLink_28 (by decide) ?_
    refine lv_icmp_ge (tgt := 49) C.x C.b dX5_mixLink_30 (by decide) (fun c7 => ?_) (fun c7 => ?_)
    · have hw := hw.1 c7
      exact gm_vret C hS hw dX5_mixLink_49
    · have hw := hw.2 c7
      refine lv_aload_n C.x C.b dX5_mixLink_33 rfl (lv_at hl 0 rfl) ?_
      refine lv_aload_n C.x C.b dX5_mixLink_34 rfl (lv_at hl 0 rfl) ?_
      refine lv_iload_n C.x C.b dX5_mixLink_35 rfl (lv_at hl 1 rfl) ?_
      refine lv_iload_n C.x C.b dX5_mixLink_36 rfl (lv_at hl 2 rfl) ?_
      refine gm_callV (rest := [.ref (ad 8)]) C hI hS hl (kM_of C.tr hI hw) q1595 q1597 qs37 q88 q1598 ny_of rfl (Nat.le_of_ble_eq_true rfl) (Nat.le_of_ble_eq_true rfl) rfl (Nat.le_of_ble_eq_true rfl) dX5_mixLink_37 (gm_ki (fun r9 u8 H locs hw hS => ?_))
      refine gm_callV (rest := []) C hI hS hl (kM_mix C.tr hI hw) q1844 q1846 qs73 q88 q1847 ny_mix rfl (Nat.le_of_ble_eq_true rfl) (Nat.le_of_ble_eq_true rfl) rfl (Nat.le_of_ble_eq_true rfl) dX5_mixLink_40 (gm_kv (fun u10 H locs hw hS => ?_))
      refine lv_iinc (v := (x2 + 1)) (lv' := [(2, .int (x2 + 1)), (0, .ref (ad 8)), (1, .int x1)]) C.x C.b dX5_mixLink_43 hl (k := 2) rfl rfl (by decide) rfl (fun ls hl => ?_)
      refine lv_goto (tgt := 27) C.x C.b dX5_mixLink_46 (by decide) ?_
      exact ih _ _ _ _ _ _ hS (lv_sub hl [1, 2, 0] rfl) hw
def wM_mixLink_2 (Q : gM → Prop) : Nat → Int32 → Int32 → gM → Prop
  | 0, _, _, _ => False
  | n + 1, x1, x2, u => (9 ≤ x2 → (∃ k3 : Nat, wM_mixLink_27 Q k3 x1 8 u)) ∧ (¬ 9 ≤ x2 → (wM_linkValue x1 x2 (fun r5 u4 => wM_mix r5 (fun u6 => wM_mixLink_2 Q n x1 (x2 + 1) u6) u4) u))
theorem kM_mixLink_2 (C : gC p l s m args meth c cX5_mixLink 3 none RX5 E [] "mixLink") (hI : mI ad) {Q : gM → Prop} : ∀ (n : Nat) (x1 : Int32) (x2 : Int32) (u : gM) (H : Heap) (locs : List Loc) (ls : Array Slot), gS E w0 (gmW E ad u w) H locs → lv_has ls 3 [(0, .ref (ad 8)), (1, .int x1), (2, .int x2)] → wM_mixLink_2 Q n x1 x2 u → mGo p l e s m args below meth c 3 65 E ad w0 w (uV Q) H locs (F0 m 2 ls []) := by
  intro n
  induction n with
  | zero =>
    intro x1 x2 u H locs ls hS hl hw
    exact hw.elim
  | succ n ih =>
    intro x1 x2 u H locs ls hS hl hw
    unfold wM_mixLink_2 at hw
    refine lv_iload_n C.x C.b dX5_mixLink_2 rfl (lv_at hl 2 rfl) ?_
    refine lv_bipush (v := 9) C.x C.b dX5_mixLink_3 (by decide) ?_
    refine lv_icmp_ge (tgt := 24) C.x C.b dX5_mixLink_5 (by decide) (fun c2 => ?_) (fun c2 => ?_)
    · have hw := hw.1 c2
      refine lv_bipush (v := 8) C.x C.b dX5_mixLink_24 (by decide) ?_
      refine lv_istore_n (lv' := [(2, .int 8), (0, .ref (ad 8)), (1, .int x1)]) C.x C.b dX5_mixLink_26 rfl hl (by decide) rfl (fun ls hl => ?_)
      obtain ⟨k3, hw⟩ := hw
      exact kM_mixLink_27 C hI k3 _ _ _ _ _ _ hS (lv_sub hl [1, 2, 0] rfl) hw
    · have hw := hw.2 c2
      refine lv_aload_n C.x C.b dX5_mixLink_8 rfl (lv_at hl 0 rfl) ?_
      refine lv_aload_n C.x C.b dX5_mixLink_9 rfl (lv_at hl 0 rfl) ?_
      refine lv_iload_n C.x C.b dX5_mixLink_10 rfl (lv_at hl 1 rfl) ?_
      refine lv_iload_n C.x C.b dX5_mixLink_11 rfl (lv_at hl 2 rfl) ?_
      refine gm_callV (rest := [.ref (ad 8)]) C hI hS hl (kM_linkValue C.tr hI hw) q1738 q1740 qs61 q88 q1741 ny_linkValue rfl (Nat.le_of_ble_eq_true rfl) (Nat.le_of_ble_eq_true rfl) rfl (Nat.le_of_ble_eq_true rfl) dX5_mixLink_12 (gm_ki (fun r5 u4 H locs hw hS => ?_))
      refine gm_callV (rest := []) C hI hS hl (kM_mix C.tr hI hw) q1844 q1846 qs73 q88 q1847 ny_mix rfl (Nat.le_of_ble_eq_true rfl) (Nat.le_of_ble_eq_true rfl) rfl (Nat.le_of_ble_eq_true rfl) dX5_mixLink_15 (gm_kv (fun u6 H locs hw hS => ?_))
      refine lv_iinc (v := (x2 + 1)) (lv' := [(2, .int (x2 + 1)), (0, .ref (ad 8)), (1, .int x1)]) C.x C.b dX5_mixLink_18 hl (k := 2) rfl rfl (by decide) rfl (fun ls hl => ?_)
      refine lv_goto (tgt := 2) C.x C.b dX5_mixLink_21 (by decide) ?_
      exact ih _ _ _ _ _ _ hS (lv_sub hl [1, 2, 0] rfl) hw
def wM_mixLink (a1 : Int32) (Q : gM → Prop) (u : gM) : Prop :=
  ∃ k1 : Nat, wM_mixLink_2 Q k1 a1 0 u
theorem kM_mixLink_r (C : gC p l s m args meth c cX5_mixLink 3 none RX5 E [] "mixLink") (hI : mI ad) (a1 : Int32) {Q : gM → Prop} (u : gM) (H : Heap) (locs : List Loc) (ls : Array Slot) (hS : gS E w0 (gmW E ad u w) H locs) (hl : lv_has ls 3 [(0, .ref (ad 8)), (1, .int a1)]) (hw : wM_mixLink a1 Q u) : mGo p l e s m args below meth c 3 65 E ad w0 w (uV Q) H locs (F0 m 0 ls []) := by
  unfold wM_mixLink at hw
  refine lv_iconst (v := 0) C.x C.b dX5_mixLink_0 (by decide) ?_
  refine lv_istore_n (lv' := [(2, .int 0), (0, .ref (ad 8)), (1, .int a1)]) C.x C.b dX5_mixLink_1 rfl hl (by decide) rfl (fun ls hl => ?_)
  obtain ⟨k1, hw⟩ := hw
  exact kM_mixLink_2 C hI k1 _ _ _ _ _ _ hS (lv_sub hl [1, 2, 0] rfl) hw
theorem kM_mixLink {l : Launch} (ht : l.stackTraces = false) (hI : mI ad) {w : gW} {u : gM} {a1 : Int32} {Q : gM → Prop} (hw : wM_mixLink a1 Q u) : gMet l yX5_mixLink (ws_ yX5_mixLink cX5_mixLink 3 none) E (gmW E ad u w) [.ref (ad 8), .int a1] 3 65 (mQ E ad w (uV Q)) gNoX :=
  g_ofW ht (by decide) (Nat.le_of_ble_eq_true rfl) (fun p e s m below meth c ls H C hl hS => kM_mixLink_r C hI _ _ _ _ _ hS hl hw)
def wM_digest_199 (Q : Int64 → gM → Prop) (y0 : Int32) (u : gM) : Prop :=
  wM_mix y0 (fun u38 => uGh (fun v39 => Q v39 u38) u38) u
theorem kM_digest_199 (C : gC p l s m args meth c cX5_digest 2 (some .long) RX5 E [] "digest") (hI : mI ad) {Q : Int64 → gM → Prop} (y0 : Int32) (u : gM) (H : Heap) (locs : List Loc) (ls : Array Slot) (hS : gS E w0 (gmW E ad u w) H locs) (hl : lv_has ls 2 [(0, .ref (ad 8))]) (hw : wM_digest_199 Q y0 u) : mGo p l e s m args below meth c 5 112 E ad w0 w (uJ Q) H locs (F0 m 199 ls [.int y0, .ref (ad 8)]) := by
  unfold wM_digest_199 at hw
  refine gm_callV (rest := []) C hI hS hl (kM_mix C.tr hI hw) q1844 q1846 qs73 q88 q1847 ny_mix rfl (Nat.le_of_ble_eq_true rfl) (Nat.le_of_ble_eq_true rfl) rfl (Nat.le_of_ble_eq_true rfl) dX5_digest_199 (gm_kv (fun u38 H locs hw hS => ?_))
  refine lv_aload_n C.x C.b dX5_digest_202 rfl (lv_at hl 0 rfl) ?_
  refine gm_getH C hI hS q1495 dX5_digest_203 hw (fun v39 hw => ?_)
  exact gm_lret C hS hw dX5_digest_206
def wM_digest_165 (Q : Int64 → gM → Prop) : Nat → Int32 → gM → Prop
  | 0, _, _ => False
  | n + 1, x1, u => (7 ≤ x1 → (wM_isWithoutCycle (fun r33 u32 => (r33 = 0 → (wM_digest_199 Q 0 u32)) ∧ (¬ r33 = 0 → (wM_digest_199 Q 1 u32))) u)) ∧ (¬ 7 ≤ x1 → (wM_counted x1 (fun r36 u35 => wM_mix r36 (fun u37 => wM_digest_165 Q n (x1 + 1) u37) u35) u))
theorem kM_digest_165 (C : gC p l s m args meth c cX5_digest 2 (some .long) RX5 E [] "digest") (hI : mI ad) {Q : Int64 → gM → Prop} : ∀ (n : Nat) (x1 : Int32) (u : gM) (H : Heap) (locs : List Loc) (ls : Array Slot), gS E w0 (gmW E ad u w) H locs → lv_has ls 2 [(0, .ref (ad 8)), (1, .int x1)] → wM_digest_165 Q n x1 u → mGo p l e s m args below meth c 5 112 E ad w0 w (uJ Q) H locs (F0 m 165 ls []) := by
  intro n
  induction n with
  | zero =>
    intro x1 u H locs ls hS hl hw
    exact hw.elim
  | succ n ih =>
    intro x1 u H locs ls hS hl hw
    unfold wM_digest_165 at hw
    refine lv_iload_n C.x C.b dX5_digest_165 rfl (lv_at hl 1 rfl) ?_
    refine lv_bipush (v := 7) C.x C.b dX5_digest_166 (by decide) ?_
    refine lv_icmp_ge (tgt := 186) C.x C.b dX5_digest_168 (by decide) (fun c31 => ?_) (fun c31 => ?_)
    · have hw := hw.1 c31
      refine lv_aload_n C.x C.b dX5_digest_186 rfl (lv_at hl 0 rfl) ?_
      refine lv_aload_n C.x C.b dX5_digest_187 rfl (lv_at hl 0 rfl) ?_
      refine gm_callV (rest := [.ref (ad 8)]) C hI hS hl (kM_isWithoutCycle C.tr hI hw) q1786 q1788 qs67 q88 q1789 ny_isWithoutCycle rfl (Nat.le_of_ble_eq_true rfl) (Nat.le_of_ble_eq_true rfl) rfl (Nat.le_of_ble_eq_true rfl) dX5_digest_188 (gm_ki (fun r33 u32 H locs hw hS => ?_))
      refine lv_if_eq (tgt := 198) C.x C.b dX5_digest_191 (by decide) (fun c34 => ?_) (fun c34 => ?_)
      · have hw := hw.1 c34
        refine lv_iconst (v := 0) C.x C.b dX5_digest_198 (by decide) ?_
        exact kM_digest_199 C hI _ _ _ _ _ hS (lv_sub hl [0] rfl) hw
      · have hw := hw.2 c34
        refine lv_iconst (v := 1) C.x C.b dX5_digest_194 (by decide) ?_
        refine lv_goto (tgt := 199) C.x C.b dX5_digest_195 (by decide) ?_
        exact kM_digest_199 C hI _ _ _ _ _ hS (lv_sub hl [0] rfl) hw
    · have hw := hw.2 c31
      refine lv_aload_n C.x C.b dX5_digest_171 rfl (lv_at hl 0 rfl) ?_
      refine lv_aload_n C.x C.b dX5_digest_172 rfl (lv_at hl 0 rfl) ?_
      refine lv_iload_n C.x C.b dX5_digest_173 rfl (lv_at hl 1 rfl) ?_
      refine gm_callV (rest := [.ref (ad 8)]) C hI hS hl (kM_counted C.tr hI hw) q1770 q1772 qs64 q88 q1773 ny_counted rfl (Nat.le_of_ble_eq_true rfl) (Nat.le_of_ble_eq_true rfl) rfl (Nat.le_of_ble_eq_true rfl) dX5_digest_174 (gm_ki (fun r36 u35 H locs hw hS => ?_))
      refine gm_callV (rest := []) C hI hS hl (kM_mix C.tr hI hw) q1844 q1846 qs73 q88 q1847 ny_mix rfl (Nat.le_of_ble_eq_true rfl) (Nat.le_of_ble_eq_true rfl) rfl (Nat.le_of_ble_eq_true rfl) dX5_digest_177 (gm_kv (fun u37 H locs hw hS => ?_))
      refine lv_iinc (v := (x1 + 1)) (lv' := [(1, .int (x1 + 1)), (0, .ref (ad 8))]) C.x C.b dX5_digest_180 hl (k := 1) rfl rfl (by decide) rfl (fun ls hl => ?_)
      refine lv_goto (tgt := 165) C.x C.b dX5_digest_183 (by decide) ?_
      exact ih _ _ _ _ _ hS (lv_sub hl [1, 0] rfl) hw
def wM_digest_137 (Q : Int64 → gM → Prop) : Nat → Int32 → gM → Prop
  | 0, _, _ => False
  | n + 1, x1, u => (16 ≤ x1 → (∃ k27 : Nat, wM_digest_165 Q k27 0 u)) ∧ (¬ 16 ≤ x1 → (wM_tenantValue (x1 / 4) (x1 - x1 / 4 * 4) (fun r29 u28 => wM_mix r29 (fun u30 => wM_digest_137 Q n (x1 + 1) u30) u28) u))
theorem kM_digest_137 (C : gC p l s m args meth c cX5_digest 2 (some .long) RX5 E [] "digest") (hI : mI ad) {Q : Int64 → gM → Prop} : ∀ (n : Nat) (x1 : Int32) (u : gM) (H : Heap) (locs : List Loc) (ls : Array Slot), gS E w0 (gmW E ad u w) H locs → lv_has ls 2 [(0, .ref (ad 8)), (1, .int x1)] → wM_digest_137 Q n x1 u → mGo p l e s m args below meth c 5 112 E ad w0 w (uJ Q) H locs (F0 m 137 ls []) := by
  intro n
  induction n with
  | zero =>
    intro x1 u H locs ls hS hl hw
    exact hw.elim
  | succ n ih =>
    intro x1 u H locs ls hS hl hw
    unfold wM_digest_137 at hw
    refine lv_iload_n C.x C.b dX5_digest_137 rfl (lv_at hl 1 rfl) ?_
    refine lv_bipush (v := 16) C.x C.b dX5_digest_138 (by decide) ?_
    refine lv_icmp_ge (tgt := 163) C.x C.b dX5_digest_140 (by decide) (fun c26 => ?_) (fun c26 => ?_)
    · have hw := hw.1 c26
      refine lv_iconst (v := 0) C.x C.b dX5_digest_163 (by decide) ?_
      refine lv_istore_n (lv' := [(1, .int 0), (0, .ref (ad 8))]) C.x C.b dX5_digest_164 rfl hl (by decide) rfl (fun ls hl => ?_)
      obtain ⟨k27, hw⟩ := hw
      exact kM_digest_165 C hI k27 _ _ _ _ _ hS (lv_sub hl [1, 0] rfl) hw
    · have hw := hw.2 c26
      refine lv_aload_n C.x C.b dX5_digest_143 rfl (lv_at hl 0 rfl) ?_
      refine lv_aload_n C.x C.b dX5_digest_144 rfl (lv_at hl 0 rfl) ?_
      refine lv_iload_n C.x C.b dX5_digest_145 rfl (lv_at hl 1 rfl) ?_
      refine lv_iconst (v := 4) C.x C.b dX5_digest_146 (by decide) ?_
      refine lv_idiv C.x C.b dX5_digest_147 (by decide) ?_
      refine lv_iload_n C.x C.b dX5_digest_148 rfl (lv_at hl 1 rfl) ?_
      refine lv_iconst (v := 4) C.x C.b dX5_digest_149 (by decide) ?_
      refine lv_irem C.x C.b dX5_digest_150 (by decide) ?_
      refine gm_callV (rest := [.ref (ad 8)]) C hI hS hl (kM_tenantValue C.tr hI hw) q1754 q1756 qs62 q88 q1757 ny_tenantValue rfl (Nat.le_of_ble_eq_true rfl) (Nat.le_of_ble_eq_true rfl) rfl (Nat.le_of_ble_eq_true rfl) dX5_digest_151 (gm_ki (fun r29 u28 H locs hw hS => ?_))
      refine gm_callV (rest := []) C hI hS hl (kM_mix C.tr hI hw) q1844 q1846 qs73 q88 q1847 ny_mix rfl (Nat.le_of_ble_eq_true rfl) (Nat.le_of_ble_eq_true rfl) rfl (Nat.le_of_ble_eq_true rfl) dX5_digest_154 (gm_kv (fun u30 H locs hw hS => ?_))
      refine lv_iinc (v := (x1 + 1)) (lv' := [(1, .int (x1 + 1)), (0, .ref (ad 8))]) C.x C.b dX5_digest_157 hl (k := 1) rfl rfl (by decide) rfl (fun ls hl => ?_)
      refine lv_goto (tgt := 137) C.x C.b dX5_digest_160 (by decide) ?_
      exact ih _ _ _ _ _ hS (lv_sub hl [1, 0] rfl) hw
def wM_digest_114 (Q : Int64 → gM → Prop) : Nat → Int32 → gM → Prop
  | 0, _, _ => False
  | n + 1, x1, u => uLd 0 487 5 (fun v22 => (v22 ≤ x1 → (∃ k24 : Nat, wM_digest_137 Q k24 0 u)) ∧ (¬ v22 ≤ x1 → (wM_mixLink x1 (fun u25 => wM_digest_114 Q n (x1 + 1) u25) u))) u
theorem kM_digest_114 (C : gC p l s m args meth c cX5_digest 2 (some .long) RX5 E [] "digest") (hI : mI ad) {Q : Int64 → gM → Prop} : ∀ (n : Nat) (x1 : Int32) (u : gM) (H : Heap) (locs : List Loc) (ls : Array Slot), gS E w0 (gmW E ad u w) H locs → lv_has ls 2 [(0, .ref (ad 8)), (1, .int x1)] → wM_digest_114 Q n x1 u → mGo p l e s m args below meth c 5 112 E ad w0 w (uJ Q) H locs (F0 m 114 ls []) := by
  intro n
  induction n with
  | zero =>
    intro x1 u H locs ls hS hl hw
    exact hw.elim
  | succ n ih =>
    intro x1 u H locs ls hS hl hw
    unfold wM_digest_114 at hw
    refine lv_iload_n C.x C.b dX5_digest_114 rfl (lv_at hl 1 rfl) ?_
    refine lv_aload_n C.x C.b dX5_digest_115 rfl (lv_at hl 0 rfl) ?_
    refine gm_getA C hI hS 0 (by decide) (a := ad 0) rfl q1481 (fun _ h9 => h9) dX5_digest_116 ?_
    refine lv_iconst (v := 5) C.x C.b dX5_digest_119 (by decide) ?_
    refine gm_ld C hI hS 0 487 (by decide) rfl dX5_digest_120 hw (fun v22 hw => ?_)
    refine lv_icmp_ge (tgt := 135) C.x C.b dX5_digest_121 (by decide) (fun c23 => ?_) (fun c23 => ?_)
    · have hw := hw.1 c23
      refine lv_iconst (v := 0) C.x C.b dX5_digest_135 (by decide) ?_
      refine lv_istore_n (lv' := [(1, .int 0), (0, .ref (ad 8))]) C.x C.b dX5_digest_136 rfl hl (by decide) rfl (fun ls hl => ?_)
      obtain ⟨k24, hw⟩ := hw
      exact kM_digest_137 C hI k24 _ _ _ _ _ hS (lv_sub hl [1, 0] rfl) hw
    · have hw := hw.2 c23
      refine lv_aload_n C.x C.b dX5_digest_124 rfl (lv_at hl 0 rfl) ?_
      refine lv_iload_n C.x C.b dX5_digest_125 rfl (lv_at hl 1 rfl) ?_
      refine gm_callV (rest := []) C hI hS hl (kM_mixLink C.tr hI hw) q1853 q1855 qs75 q88 q1856 ny_mixLink rfl (Nat.le_of_ble_eq_true rfl) (Nat.le_of_ble_eq_true rfl) rfl (Nat.le_of_ble_eq_true rfl) dX5_digest_126 (gm_kv (fun u25 H locs hw hS => ?_))
      refine lv_iinc (v := (x1 + 1)) (lv' := [(1, .int (x1 + 1)), (0, .ref (ad 8))]) C.x C.b dX5_digest_129 hl (k := 1) rfl rfl (by decide) rfl (fun ls hl => ?_)
      refine lv_goto (tgt := 114) C.x C.b dX5_digest_132 (by decide) ?_
      exact ih _ _ _ _ _ hS (lv_sub hl [1, 0] rfl) hw
def wM_digest_76 (Q : Int64 → gM → Prop) : Nat → Int32 → gM → Prop
  | 0, _, _ => False
  | n + 1, x1, u => (8 ≤ x1 → (uLd 0 487 5 (fun v17 => wM_mix v17 (fun u18 => ∃ k19 : Nat, wM_digest_114 Q k19 0 u18) u) u)) ∧ (¬ 8 ≤ x1 → (uLd 0 487 (179 + x1) (fun v20 => wM_mix v20 (fun u21 => wM_digest_76 Q n (x1 + 1) u21) u) u))
theorem kM_digest_76 (C : gC p l s m args meth c cX5_digest 2 (some .long) RX5 E [] "digest") (hI : mI ad) {Q : Int64 → gM → Prop} : ∀ (n : Nat) (x1 : Int32) (u : gM) (H : Heap) (locs : List Loc) (ls : Array Slot), gS E w0 (gmW E ad u w) H locs → lv_has ls 2 [(0, .ref (ad 8)), (1, .int x1)] → wM_digest_76 Q n x1 u → mGo p l e s m args below meth c 5 112 E ad w0 w (uJ Q) H locs (F0 m 76 ls []) := by
  intro n
  induction n with
  | zero =>
    intro x1 u H locs ls hS hl hw
    exact hw.elim
  | succ n ih =>
    intro x1 u H locs ls hS hl hw
    unfold wM_digest_76 at hw
    refine lv_iload_n C.x C.b dX5_digest_76 rfl (lv_at hl 1 rfl) ?_
    refine lv_bipush (v := 8) C.x C.b dX5_digest_77 (by decide) ?_
    refine lv_icmp_ge (tgt := 102) C.x C.b dX5_digest_79 (by decide) (fun c16 => ?_) (fun c16 => ?_)
    · have hw := hw.1 c16
      refine lv_aload_n C.x C.b dX5_digest_102 rfl (lv_at hl 0 rfl) ?_
      refine lv_aload_n C.x C.b dX5_digest_103 rfl (lv_at hl 0 rfl) ?_
      refine gm_getA C hI hS 0 (by decide) (a := ad 0) rfl q1481 (fun _ h9 => h9) dX5_digest_104 ?_
      refine lv_iconst (v := 5) C.x C.b dX5_digest_107 (by decide) ?_
      refine gm_ld C hI hS 0 487 (by decide) rfl dX5_digest_108 hw (fun v17 hw => ?_)
      refine gm_callV (rest := []) C hI hS hl (kM_mix C.tr hI hw) q1844 q1846 qs73 q88 q1847 ny_mix rfl (Nat.le_of_ble_eq_true rfl) (Nat.le_of_ble_eq_true rfl) rfl (Nat.le_of_ble_eq_true rfl) dX5_digest_109 (gm_kv (fun u18 H locs hw hS => ?_))
      refine lv_iconst (v := 0) C.x C.b dX5_digest_112 (by decide) ?_
      refine lv_istore_n (lv' := [(1, .int 0), (0, .ref (ad 8))]) C.x C.b dX5_digest_113 rfl hl (by decide) rfl (fun ls hl => ?_)
      obtain ⟨k19, hw⟩ := hw
      exact kM_digest_114 C hI k19 _ _ _ _ _ hS (lv_sub hl [1, 0] rfl) hw
    · have hw := hw.2 c16
      refine lv_aload_n C.x C.b dX5_digest_82 rfl (lv_at hl 0 rfl) ?_
      refine lv_aload_n C.x C.b dX5_digest_83 rfl (lv_at hl 0 rfl) ?_
      refine gm_getA C hI hS 0 (by decide) (a := ad 0) rfl q1481 (fun _ h9 => h9) dX5_digest_84 ?_
      refine lv_sipush (v := 179) C.x C.b dX5_digest_87 (by decide) ?_
      refine lv_iload_n C.x C.b dX5_digest_90 rfl (lv_at hl 1 rfl) ?_
      refine lv_iadd C.x C.b dX5_digest_91 ?_
      refine gm_ld C hI hS 0 487 (by decide) rfl dX5_digest_92 hw (fun v20 hw => ?_)
      refine gm_callV (rest := []) C hI hS hl (kM_mix C.tr hI hw) q1844 q1846 qs73 q88 q1847 ny_mix rfl (Nat.le_of_ble_eq_true rfl) (Nat.le_of_ble_eq_true rfl) rfl (Nat.le_of_ble_eq_true rfl) dX5_digest_93 (gm_kv (fun u21 H locs hw hS => ?_))
      refine lv_iinc (v := (x1 + 1)) (lv' := [(1, .int (x1 + 1)), (0, .ref (ad 8))]) C.x C.b dX5_digest_96 hl (k := 1) rfl rfl (by decide) rfl (fun ls hl => ?_)
      refine lv_goto (tgt := 76) C.x C.b dX5_digest_99 (by decide) ?_
      exact ih _ _ _ _ _ hS (lv_sub hl [1, 0] rfl) hw
def wM_digest_53 (Q : Int64 → gM → Prop) : Nat → Int32 → gM → Prop
  | 0, _, _ => False
  | n + 1, x1, u => uLd 0 487 0 (fun v12 => (v12 ≤ x1 → (∃ k14 : Nat, wM_digest_76 Q k14 0 u)) ∧ (¬ v12 ≤ x1 → (wM_mixBridge x1 (fun u15 => wM_digest_53 Q n (x1 + 1) u15) u))) u
theorem kM_digest_53 (C : gC p l s m args meth c cX5_digest 2 (some .long) RX5 E [] "digest") (hI : mI ad) {Q : Int64 → gM → Prop} : ∀ (n : Nat) (x1 : Int32) (u : gM) (H : Heap) (locs : List Loc) (ls : Array Slot), gS E w0 (gmW E ad u w) H locs → lv_has ls 2 [(0, .ref (ad 8)), (1, .int x1)] → wM_digest_53 Q n x1 u → mGo p l e s m args below meth c 5 112 E ad w0 w (uJ Q) H locs (F0 m 53 ls []) := by
  intro n
  induction n with
  | zero =>
    intro x1 u H locs ls hS hl hw
    exact hw.elim
  | succ n ih =>
    intro x1 u H locs ls hS hl hw
    unfold wM_digest_53 at hw
    refine lv_iload_n C.x C.b dX5_digest_53 rfl (lv_at hl 1 rfl) ?_
    refine lv_aload_n C.x C.b dX5_digest_54 rfl (lv_at hl 0 rfl) ?_
    refine gm_getA C hI hS 0 (by decide) (a := ad 0) rfl q1481 (fun _ h9 => h9) dX5_digest_55 ?_
    refine lv_iconst (v := 0) C.x C.b dX5_digest_58 (by decide) ?_
    refine gm_ld C hI hS 0 487 (by decide) rfl dX5_digest_59 hw (fun v12 hw => ?_)
    refine lv_icmp_ge (tgt := 74) C.x C.b dX5_digest_60 (by decide) (fun c13 => ?_) (fun c13 => ?_)
    · have hw := hw.1 c13
      refine lv_iconst (v := 0) C.x C.b dX5_digest_74 (by decide) ?_
      refine lv_istore_n (lv' := [(1, .int 0), (0, .ref (ad 8))]) C.x C.b dX5_digest_75 rfl hl (by decide) rfl (fun ls hl => ?_)
      obtain ⟨k14, hw⟩ := hw
      exact kM_digest_76 C hI k14 _ _ _ _ _ hS (lv_sub hl [1, 0] rfl) hw
    · have hw := hw.2 c13
      refine lv_aload_n C.x C.b dX5_digest_63 rfl (lv_at hl 0 rfl) ?_
      refine lv_iload_n C.x C.b dX5_digest_64 rfl (lv_at hl 1 rfl) ?_
      refine gm_callV (rest := []) C hI hS hl (kM_mixBridge C.tr hI hw) q1849 q1851 qs74 q88 q1852 ny_mixBridge rfl (Nat.le_of_ble_eq_true rfl) (Nat.le_of_ble_eq_true rfl) rfl (Nat.le_of_ble_eq_true rfl) dX5_digest_65 (gm_kv (fun u15 H locs hw hS => ?_))
      refine lv_iinc (v := (x1 + 1)) (lv' := [(1, .int (x1 + 1)), (0, .ref (ad 8))]) C.x C.b dX5_digest_68 hl (k := 1) rfl rfl (by decide) rfl (fun ls hl => ?_)
      refine lv_goto (tgt := 53) C.x C.b dX5_digest_71 (by decide) ?_
      exact ih _ _ _ _ _ hS (lv_sub hl [1, 0] rfl) hw
def wM_digest_30 (Q : Int64 → gM → Prop) : Nat → Int32 → gM → Prop
  | 0, _, _ => False
  | n + 1, x1, u => (5 ≤ x1 → (∃ k9 : Nat, wM_digest_53 Q k9 0 u)) ∧ (¬ 5 ≤ x1 → (uLd 0 487 x1 (fun v10 => wM_mix v10 (fun u11 => wM_digest_30 Q n (x1 + 1) u11) u) u))
theorem kM_digest_30 (C : gC p l s m args meth c cX5_digest 2 (some .long) RX5 E [] "digest") (hI : mI ad) {Q : Int64 → gM → Prop} : ∀ (n : Nat) (x1 : Int32) (u : gM) (H : Heap) (locs : List Loc) (ls : Array Slot), gS E w0 (gmW E ad u w) H locs → lv_has ls 2 [(0, .ref (ad 8)), (1, .int x1)] → wM_digest_30 Q n x1 u → mGo p l e s m args below meth c 5 112 E ad w0 w (uJ Q) H locs (F0 m 30 ls []) := by
  intro n
  induction n with
  | zero =>
    intro x1 u H locs ls hS hl hw
    exact hw.elim
  | succ n ih =>
    intro x1 u H locs ls hS hl hw
    unfold wM_digest_30 at hw
    refine lv_iload_n C.x C.b dX5_digest_30 rfl (lv_at hl 1 rfl) ?_
    refine lv_iconst (v := 5) C.x C.b dX5_digest_31 (by decide) ?_
    refine lv_icmp_ge (tgt := 51) C.x C.b dX5_digest_32 (by decide) (fun c8 => ?_) (fun c8 => ?_)
    · have hw := hw.1 c8
      refine lv_iconst (v := 0) C.x C.b dX5_digest_51 (by decide) ?_
      refine lv_istore_n (lv' := [(1, .int 0), (0, .ref (ad 8))]) C.x C.b dX5_digest_52 rfl hl (by decide) rfl (fun ls hl => ?_)
      obtain ⟨k9, hw⟩ := hw
      exact kM_digest_53 C hI k9 _ _ _ _ _ hS (lv_sub hl [1, 0] rfl) hw
    · have hw := hw.2 c8
      refine lv_aload_n C.x C.b dX5_digest_35 rfl (lv_at hl 0 rfl) ?_
      refine lv_aload_n C.x C.b dX5_digest_36 rfl (lv_at hl 0 rfl) ?_
      refine gm_getA C hI hS 0 (by decide) (a := ad 0) rfl q1481 (fun _ h9 => h9) dX5_digest_37 ?_
      refine lv_iload_n C.x C.b dX5_digest_40 rfl (lv_at hl 1 rfl) ?_
      refine gm_ld C hI hS 0 487 (by decide) rfl dX5_digest_41 hw (fun v10 hw => ?_)
      refine gm_callV (rest := []) C hI hS hl (kM_mix C.tr hI hw) q1844 q1846 qs73 q88 q1847 ny_mix rfl (Nat.le_of_ble_eq_true rfl) (Nat.le_of_ble_eq_true rfl) rfl (Nat.le_of_ble_eq_true rfl) dX5_digest_42 (gm_kv (fun u11 H locs hw hS => ?_))
      refine lv_iinc (v := (x1 + 1)) (lv' := [(1, .int (x1 + 1)), (0, .ref (ad 8))]) C.x C.b dX5_digest_45 hl (k := 1) rfl rfl (by decide) rfl (fun ls hl => ?_)
      refine lv_goto (tgt := 30) C.x C.b dX5_digest_48 (by decide) ?_
      exact ih _ _ _ _ _ hS (lv_sub hl [1, 0] rfl) hw
def wM_digest (Q : Int64 → gM → Prop) (u : gM) : Prop :=
  uPt 2 0 (fun u1 => uPh 18498 (fun u2 => uGt 0 (fun v3 => wM_mix v3 (fun u4 => uGt 1 (fun v5 => wM_mix v5 (fun u6 => ∃ k7 : Nat, wM_digest_30 Q k7 0 u6) u4) u4) u2) u2) u1) u
theorem kM_digest_r (C : gC p l s m args meth c cX5_digest 2 (some .long) RX5 E [] "digest") (hI : mI ad) {Q : Int64 → gM → Prop} (u : gM) (H : Heap) (locs : List Loc) (ls : Array Slot) (hS : gS E w0 (gmW E ad u w) H locs) (hl : lv_has ls 2 [(0, .ref (ad 8))]) (hw : wM_digest Q u) : mGo p l e s m args below meth c 5 112 E ad w0 w (uJ Q) H locs (F0 m 0 ls []) := by
  unfold wM_digest at hw
  refine lv_aload_n C.x C.b dX5_digest_0 rfl (lv_at hl 0 rfl) ?_
  refine lv_iconst (v := 0) C.x C.b dX5_digest_1 (by decide) ?_
  refine gm_putI C hI hS 6 2 (by decide) rfl q1487 (fun _ h9 => h9) rfl rfl rfl dX5_digest_2 hw (fun u1 H locs hw hS => ?_)
  refine lv_aload_n C.x C.b dX5_digest_5 rfl (lv_at hl 0 rfl) ?_
  refine lv_ldc2 C.x C.b C.ow (C.ts _ q1843) dX5_digest_6 ?_
  refine gm_putH C hI hS q1495 dX5_digest_9 hw (fun u2 H locs hw hS => ?_)
  refine lv_aload_n C.x C.b dX5_digest_12 rfl (lv_at hl 0 rfl) ?_
  refine lv_aload_n C.x C.b dX5_digest_13 rfl (lv_at hl 0 rfl) ?_
  refine gm_getI C hI hS 3 0 (by decide) rfl q1484 (fun _ h9 => h9) dX5_digest_14 hw (fun v3 hw => ?_)
  refine gm_callV (rest := []) C hI hS hl (kM_mix C.tr hI hw) q1844 q1846 qs73 q88 q1847 ny_mix rfl (Nat.le_of_ble_eq_true rfl) (Nat.le_of_ble_eq_true rfl) rfl (Nat.le_of_ble_eq_true rfl) dX5_digest_17 (gm_kv (fun u4 H locs hw hS => ?_))
  refine lv_aload_n C.x C.b dX5_digest_20 rfl (lv_at hl 0 rfl) ?_
  refine lv_aload_n C.x C.b dX5_digest_21 rfl (lv_at hl 0 rfl) ?_
  refine gm_getI C hI hS 5 1 (by decide) rfl q1486 (fun _ h9 => h9) dX5_digest_22 hw (fun v5 hw => ?_)
  refine gm_callV (rest := []) C hI hS hl (kM_mix C.tr hI hw) q1844 q1846 qs73 q88 q1847 ny_mix rfl (Nat.le_of_ble_eq_true rfl) (Nat.le_of_ble_eq_true rfl) rfl (Nat.le_of_ble_eq_true rfl) dX5_digest_25 (gm_kv (fun u6 H locs hw hS => ?_))
  refine lv_iconst (v := 0) C.x C.b dX5_digest_28 (by decide) ?_
  refine lv_istore_n (lv' := [(1, .int 0), (0, .ref (ad 8))]) C.x C.b dX5_digest_29 rfl hl (by decide) rfl (fun ls hl => ?_)
  obtain ⟨k7, hw⟩ := hw
  exact kM_digest_30 C hI k7 _ _ _ _ _ hS (lv_sub hl [1, 0] rfl) hw
theorem kM_digest {l : Launch} (ht : l.stackTraces = false) (hI : mI ad) {w : gW} {u : gM} {Q : Int64 → gM → Prop} (hw : wM_digest Q u) : gMet l yX5_digest (ws_ yX5_digest cX5_digest 2 (some .long)) E (gmW E ad u w) [.ref (ad 8)] 5 112 (mQ E ad w (uJ Q)) gNoX :=
  g_ofW ht (by decide) (Nat.le_of_ble_eq_true rfl) (fun p e s m below meth c ls H C hl hS => kM_digest_r C hI _ _ _ _ hS hl hw)
end GW3
