theorem ny_in : gNm yX5_in 3 = true := by decide +kernel
theorem ny_idOf : gNm yX5_idOf 1 = true := by decide +kernel
theorem ny_startsAnew : gNm yX5_startsAnew 1 = true := by decide +kernel
theorem ny_flushes : gNm yX5_flushes 1 = true := by decide +kernel
theorem ny_begins : gNm yX5_begins 1 = true := by decide +kernel
theorem ny_thrown : gNm yX5_thrown 0 = true := by decide +kernel
theorem ny_fails : gNm yX5_fails 1 = true := by decide +kernel
theorem ny_hold : gNm yX5_hold 0 = true := by decide +kernel
theorem ny_tells : gNm yX5_tells 1 = true := by decide +kernel
theorem ny_ends : gNm yX5_ends 1 = true := by decide +kernel
theorem ny_setBridges : gNm yX5_setBridges 1 = true := by decide +kernel
theorem ny_setTimes : gNm yX5_setTimes 3 = true := by decide +kernel
theorem ny_isBridge : gNm yX5_isBridge 1 = true := by decide +kernel
theorem ny_prioritizes : gNm yX5_prioritizes 2 = true := by decide +kernel
theorem ny_done : gNm yX5_done 1 = true := by decide +kernel
theorem ny_setPriority : gNm yX5_setPriority 2 = true := by decide +kernel
theorem ny_puts : gNm yX5_puts 3 = true := by decide +kernel
theorem ny_joins : gNm yX5_joins 3 = true := by decide +kernel
theorem ny_addLink : gNm yX5_addLink 3 = true := by decide +kernel
theorem ny_isLink : gNm yX5_isLink 1 = true := by decide +kernel
theorem ny_of : gNm yX5_of 2 = true := by decide +kernel
theorem ny_breaks : gNm yX5_breaks 1 = true := by decide +kernel
theorem ny_fail : gNm yX5_fail 1 = true := by decide +kernel
theorem ny_mends : gNm yX5_mends 1 = true := by decide +kernel
theorem ny_fix : gNm yX5_fix 1 = true := by decide +kernel
theorem ny_isHost : gNm yX5_isHost 1 = true := by decide +kernel
theorem ny_moves : gNm yX5_moves 2 = true := by decide +kernel
theorem ny_moveHost : gNm yX5_moveHost 2 = true := by decide +kernel
theorem ny_isTenant : gNm yX5_isTenant 1 = true := by decide +kernel
theorem ny_bids : gNm yX5_bids 3 = true := by decide +kernel
theorem ny_bid : gNm yX5_bid 3 = true := by decide +kernel
theorem ny_grant : gNm yX5_grant 2 = true := by decide +kernel
theorem ny_counts : gNm yX5_counts 2 = true := by decide +kernel
theorem ny_greatest : gNm yX5_greatest 2 = true := by decide +kernel
theorem ny_sells : gNm yX5_sells 1 = true := by decide +kernel
theorem ny_auctions : gNm yX5_auctions 0 = true := by decide +kernel
theorem ny_other : gNm yX5_other 2 = true := by decide +kernel
theorem ny_isAt : gNm yX5_isAt 2 = true := by decide +kernel
theorem ny_finds : gNm yX5_finds 1 = true := by decide +kernel
theorem ny_vectors : gNm yX5_vectors 0 = true := by decide +kernel
theorem ny_isAhead : gNm yX5_isAhead 2 = true := by decide +kernel
theorem ny_roleOf : gNm yX5_roleOf 2 = true := by decide +kernel
theorem ny_goesOn : gNm yX5_goesOn 2 = true := by decide +kernel
theorem ny_carries : gNm yX5_carries 1 = true := by decide +kernel
theorem ny_reached : gNm yX5_reached 1 = true := by decide +kernel
theorem ny_ports : gNm yX5_ports 0 = true := by decide +kernel
theorem ny_ticksOnce : gNm yX5_ticksOnce 0 = true := by decide +kernel
theorem ny_ticks : gNm yX5_ticks 1 = true := by decide +kernel
theorem ny_tick : gNm yX5_tick 1 = true := by decide +kernel
theorem ny_time : gNm yX5_time 0 = true := by decide +kernel
theorem ny_learns : gNm yX5_learns 3 = true := by decide +kernel
theorem ny_entryOf : gNm yX5_entryOf 2 = true := by decide +kernel
theorem ny_send : gNm yX5_send 2 = true := by decide +kernel
theorem ny_entries : gNm yX5_entries 1 = true := by decide +kernel
theorem ny_bridgeValue : gNm yX5_bridgeValue 2 = true := by decide +kernel
theorem ny_bridge : gNm yX5_bridge 2 = true := by decide +kernel
theorem ny_links : gNm yX5_links 0 = true := by decide +kernel
theorem ny_linkValue : gNm yX5_linkValue 2 = true := by decide +kernel
theorem ny_link : gNm yX5_link 2 = true := by decide +kernel
theorem ny_port : gNm yX5_port 3 = true := by decide +kernel
theorem ny_entry : gNm yX5_entry 2 = true := by decide +kernel
theorem ny_won : gNm yX5_won 1 = true := by decide +kernel
theorem ny_tenantValue : gNm yX5_tenantValue 2 = true := by decide +kernel
theorem ny_tenant : gNm yX5_tenant 2 = true := by decide +kernel
theorem ny_bidOf : gNm yX5_bidOf 2 = true := by decide +kernel
theorem ny_carrying : gNm yX5_carrying 0 = true := by decide +kernel
theorem ny_pairs : gNm yX5_pairs 0 = true := by decide +kernel
theorem ny_counted : gNm yX5_counted 1 = true := by decide +kernel
theorem ny_count : gNm yX5_count 1 = true := by decide +kernel
theorem ny_isWithoutCycle : gNm yX5_isWithoutCycle 0 = true := by decide +kernel
theorem ny_isForest : gNm yX5_isForest 0 = true := by decide +kernel
theorem ny_type : gNm yX5_type 1 = true := by decide +kernel
theorem ny_clearScript : gNm yX5_clearScript 0 = true := by decide +kernel
theorem ny_isIn : gNm yX5_isIn 2 = true := by decide +kernel
theorem ny_skips : gNm yX5_skips 0 = true := by decide +kernel
theorem ny_wordOf : gNm yX5_wordOf 2 = true := by decide +kernel
theorem ny_numbersOf : gNm yX5_numbersOf 1 = true := by decide +kernel
theorem ny_isNumber : gNm yX5_isNumber 1 = true := by decide +kernel
theorem ny_isCommand : gNm yX5_isCommand 0 = true := by decide +kernel
theorem ny_does : gNm yX5_does 0 = true := by decide +kernel
theorem ny_run : gNm yX5_run 0 = true := by decide +kernel
theorem ny_undo : gNm yX5_undo 0 = true := by decide +kernel
theorem ny_mix : gNm yX5_mix 1 = true := by decide +kernel
theorem ny_mixBridge : gNm yX5_mixBridge 1 = true := by decide +kernel
theorem ny_mixLink : gNm yX5_mixLink 1 = true := by decide +kernel
theorem ny_digest : gNm yX5_digest 0 = true := by decide +kernel
theorem ny_init : gNm yX5_init 0 = true := by decide +kernel
section GW0
variable {p : Program} {l : Launch} {e : Env} {s : State} {m : MethodId} {args : Array Value} {below : List Frame} {meth : Method} {c : Code} {E : gE} {ad : Nat → Nat} {w0 w : gW}
def wM_in (a0 : Int32) (a1 : Int32) (a2 : Int32) (Q : Int32 → gM → Prop) (u : gM) : Prop :=
  (a0 < a1 → (Q 0 u)) ∧ (¬ a0 < a1 → ((a2 < a0 → (Q 0 u)) ∧ (¬ a2 < a0 → (Q 1 u))))
theorem kM_in_r (C : gC p l s m args meth c cX5_in 3 (some .boolean) RX5 E [] "in") (hI : mI ad) (a0 : Int32) (a1 : Int32) (a2 : Int32) {Q : Int32 → gM → Prop} (u : gM) (H : Heap) (locs : List Loc) (ls : Array Slot) (hS : gS E w0 (gmW E ad u w) H locs) (hl : lv_has ls 3 [(0, .int a0), (1, .int a1), (2, .int a2)]) (hw : wM_in a0 a1 a2 Q u) : mGo p l e s m args below meth c 0 0 E ad w0 w (uI Q) H locs (F0 m 0 ls []) := by
  unfold wM_in at hw
  refine lv_iload_n C.x C.b dX5_in_0 rfl (lv_at hl 0 rfl) ?_
  refine lv_iload_n C.x C.b dX5_in_1 rfl (lv_at hl 1 rfl) ?_
  refine lv_icmp_lt (tgt := 14) C.x C.b dX5_in_2 (by decide) (fun c1 => ?_) (fun c1 => ?_)
  · have hw := hw.1 c1
    refine lv_iconst (v := 0) C.x C.b dX5_in_14 (by decide) ?_
    exact gm_zret C hS rfl hw dX5_in_15
  · have hw := hw.2 c1
    refine lv_iload_n C.x C.b dX5_in_5 rfl (lv_at hl 0 rfl) ?_
    refine lv_iload_n C.x C.b dX5_in_6 rfl (lv_at hl 2 rfl) ?_
    refine lv_icmp_gt (tgt := 14) C.x C.b dX5_in_7 (by decide) (fun c2 => ?_) (fun c2 => ?_)
    · have hw := hw.1 c2
      refine lv_iconst (v := 0) C.x C.b dX5_in_14 (by decide) ?_
      exact gm_zret C hS rfl hw dX5_in_15
    · have hw := hw.2 c2
      refine lv_iconst (v := 1) C.x C.b dX5_in_10 (by decide) ?_
      refine lv_goto (tgt := 15) C.x C.b dX5_in_11 (by decide) ?_
      exact gm_zret C hS rfl hw dX5_in_15
theorem kM_in {l : Launch} (ht : l.stackTraces = false) (hI : mI ad) {w : gW} {u : gM} {a0 : Int32} {a1 : Int32} {a2 : Int32} {Q : Int32 → gM → Prop} (hw : wM_in a0 a1 a2 Q u) : gMet l yX5_in (ws_ yX5_in cX5_in 3 (some .boolean)) E (gmW E ad u w) [.int a0, .int a1, .int a2] 0 0 (mQ E ad w (uI Q)) gNoX :=
  g_ofW ht (by decide) (Nat.le_of_ble_eq_true rfl) (fun p e s m below meth c ls H C hl hS => kM_in_r C hI _ _ _ _ _ _ _ hS hl hw)
def wM_idOf (a1 : Int32) (Q : Int32 → gM → Prop) (u : gM) : Prop :=
  uLd 0 487 (11 + (5 * a1)) (fun v1 => Q ((10 * v1) + a1) u) u
theorem kM_idOf_r (C : gC p l s m args meth c cX5_idOf 2 (some .int) RX5 E [] "idOf") (hI : mI ad) (a1 : Int32) {Q : Int32 → gM → Prop} (u : gM) (H : Heap) (locs : List Loc) (ls : Array Slot) (hS : gS E w0 (gmW E ad u w) H locs) (hl : lv_has ls 2 [(0, .ref (ad 8)), (1, .int a1)]) (hw : wM_idOf a1 Q u) : mGo p l e s m args below meth c 0 0 E ad w0 w (uI Q) H locs (F0 m 0 ls []) := by
  unfold wM_idOf at hw
  refine lv_bipush (v := 10) C.x C.b dX5_idOf_0 (by decide) ?_
  refine lv_aload_n C.x C.b dX5_idOf_2 rfl (lv_at hl 0 rfl) ?_
  refine gm_getA C hI hS 0 (by decide) (a := ad 0) rfl q1481 (fun _ h9 => h9) dX5_idOf_3 ?_
  refine lv_bipush (v := 11) C.x C.b dX5_idOf_6 (by decide) ?_
  refine lv_iconst (v := 5) C.x C.b dX5_idOf_8 (by decide) ?_
  refine lv_iload_n C.x C.b dX5_idOf_9 rfl (lv_at hl 1 rfl) ?_
  refine lv_imul C.x C.b dX5_idOf_10 ?_
  refine lv_iadd C.x C.b dX5_idOf_11 ?_
  refine gm_ld C hI hS 0 487 (by decide) rfl dX5_idOf_12 hw (fun v1 hw => ?_)
  refine lv_imul C.x C.b dX5_idOf_13 ?_
  refine lv_iload_n C.x C.b dX5_idOf_14 rfl (lv_at hl 1 rfl) ?_
  refine lv_iadd C.x C.b dX5_idOf_15 ?_
  exact gm_iret C hS hw dX5_idOf_16
theorem kM_idOf {l : Launch} (ht : l.stackTraces = false) (hI : mI ad) {w : gW} {u : gM} {a1 : Int32} {Q : Int32 → gM → Prop} (hw : wM_idOf a1 Q u) : gMet l yX5_idOf (ws_ yX5_idOf cX5_idOf 2 (some .int)) E (gmW E ad u w) [.ref (ad 8), .int a1] 0 0 (mQ E ad w (uI Q)) gNoX :=
  g_ofW ht (by decide) (Nat.le_of_ble_eq_true rfl) (fun p e s m below meth c ls H C hl hS => kM_idOf_r C hI _ _ _ _ _ hS hl hw)
def wM_startsAnew (a1 : Int32) (Q : gM → Prop) (u : gM) : Prop :=
  wM_idOf a1 (fun r2 u1 => uSt 0 487 ((11 + (5 * a1)) + 1) r2 (fun u3 => uSt 0 487 ((11 + (5 * a1)) + 2) 0 (fun u4 => uSt 0 487 ((11 + (5 * a1)) + 3) 0 (fun u5 => uSt 0 487 ((11 + (5 * a1)) + 4) (-1) (fun u6 => Q u6) u5) u4) u3) u1) u
theorem kM_startsAnew_r (C : gC p l s m args meth c cX5_startsAnew 3 none RX5 E [] "startsAnew") (hI : mI ad) (a1 : Int32) {Q : gM → Prop} (u : gM) (H : Heap) (locs : List Loc) (ls : Array Slot) (hS : gS E w0 (gmW E ad u w) H locs) (hl : lv_has ls 3 [(0, .ref (ad 8)), (1, .int a1)]) (hw : wM_startsAnew a1 Q u) : mGo p l e s m args below meth c 1 21 E ad w0 w (uV Q) H locs (F0 m 0 ls []) := by
  unfold wM_startsAnew at hw
  refine lv_bipush (v := 11) C.x C.b dX5_startsAnew_0 (by decide) ?_
  refine lv_iconst (v := 5) C.x C.b dX5_startsAnew_2 (by decide) ?_
  refine lv_iload_n C.x C.b dX5_startsAnew_3 rfl (lv_at hl 1 rfl) ?_
  refine lv_imul C.x C.b dX5_startsAnew_4 ?_
  refine lv_iadd C.x C.b dX5_startsAnew_5 ?_
  refine lv_istore_n (lv' := [(2, .int (11 + (5 * a1))), (0, .ref (ad 8)), (1, .int a1)]) C.x C.b dX5_startsAnew_6 rfl hl (by decide) rfl (fun ls hl => ?_)
  refine lv_aload_n C.x C.b dX5_startsAnew_7 rfl (lv_at hl 1 rfl) ?_
  refine gm_getA C hI hS 0 (by decide) (a := ad 0) rfl q1481 (fun _ h9 => h9) dX5_startsAnew_8 ?_
  refine lv_iload_n C.x C.b dX5_startsAnew_11 rfl (lv_at hl 0 rfl) ?_
  refine lv_iconst (v := 1) C.x C.b dX5_startsAnew_12 (by decide) ?_
  refine lv_iadd C.x C.b dX5_startsAnew_13 ?_
  refine lv_aload_n C.x C.b dX5_startsAnew_14 rfl (lv_at hl 1 rfl) ?_
  refine lv_iload_n C.x C.b dX5_startsAnew_15 rfl (lv_at hl 2 rfl) ?_
  refine gm_callV (rest := [.int ((11 + (5 * a1)) + 1), .ref (ad 0)]) C hI hS hl (kM_idOf C.tr hI hw) q1473 q1475 qs24 q88 q1476 ny_idOf rfl (Nat.le_of_ble_eq_true rfl) (Nat.le_of_ble_eq_true rfl) rfl (Nat.le_of_ble_eq_true rfl) dX5_startsAnew_16 (gm_ki (fun r2 u1 H locs hw hS => ?_))
  refine gm_st C hI hS 0 487 (by decide) rfl dX5_startsAnew_19 hw (fun u3 H locs hw hS => ?_)
  refine lv_aload_n C.x C.b dX5_startsAnew_20 rfl (lv_at hl 1 rfl) ?_
  refine gm_getA C hI hS 0 (by decide) (a := ad 0) rfl q1481 (fun _ h9 => h9) dX5_startsAnew_21 ?_
  refine lv_iload_n C.x C.b dX5_startsAnew_24 rfl (lv_at hl 0 rfl) ?_
  refine lv_iconst (v := 2) C.x C.b dX5_startsAnew_25 (by decide) ?_
  refine lv_iadd C.x C.b dX5_startsAnew_26 ?_
  refine lv_iconst (v := 0) C.x C.b dX5_startsAnew_27 (by decide) ?_
  refine gm_st C hI hS 0 487 (by decide) rfl dX5_startsAnew_28 hw (fun u4 H locs hw hS => ?_)
  refine lv_aload_n C.x C.b dX5_startsAnew_29 rfl (lv_at hl 1 rfl) ?_
  refine gm_getA C hI hS 0 (by decide) (a := ad 0) rfl q1481 (fun _ h9 => h9) dX5_startsAnew_30 ?_
  refine lv_iload_n C.x C.b dX5_startsAnew_33 rfl (lv_at hl 0 rfl) ?_
  refine lv_iconst (v := 3) C.x C.b dX5_startsAnew_34 (by decide) ?_
  refine lv_iadd C.x C.b dX5_startsAnew_35 ?_
  refine lv_iconst (v := 0) C.x C.b dX5_startsAnew_36 (by decide) ?_
  refine gm_st C hI hS 0 487 (by decide) rfl dX5_startsAnew_37 hw (fun u5 H locs hw hS => ?_)
  refine lv_aload_n C.x C.b dX5_startsAnew_38 rfl (lv_at hl 1 rfl) ?_
  refine gm_getA C hI hS 0 (by decide) (a := ad 0) rfl q1481 (fun _ h9 => h9) dX5_startsAnew_39 ?_
  refine lv_iload_n C.x C.b dX5_startsAnew_42 rfl (lv_at hl 0 rfl) ?_
  refine lv_iconst (v := 4) C.x C.b dX5_startsAnew_43 (by decide) ?_
  refine lv_iadd C.x C.b dX5_startsAnew_44 ?_
  refine lv_iconst (v := (-1)) C.x C.b dX5_startsAnew_45 (by decide) ?_
  refine gm_st C hI hS 0 487 (by decide) rfl dX5_startsAnew_46 hw (fun u6 H locs hw hS => ?_)
  exact gm_vret C hS hw dX5_startsAnew_47
theorem kM_startsAnew {l : Launch} (ht : l.stackTraces = false) (hI : mI ad) {w : gW} {u : gM} {a1 : Int32} {Q : gM → Prop} (hw : wM_startsAnew a1 Q u) : gMet l yX5_startsAnew (ws_ yX5_startsAnew cX5_startsAnew 3 none) E (gmW E ad u w) [.ref (ad 8), .int a1] 1 21 (mQ E ad w (uV Q)) gNoX :=
  g_ofW ht (by decide) (Nat.le_of_ble_eq_true rfl) (fun p e s m below meth c ls H C hl hS => kM_startsAnew_r C hI _ _ _ _ _ hS hl hw)
def wM_flushes_2 (Q : gM → Prop) : Nat → Int32 → Int32 → gM → Prop
  | 0, _, _, _ => False
  | n + 1, x1, x2, u => (8 ≤ x2 → (Q u)) ∧ (¬ 8 ≤ x2 → (uSt 0 487 ((51 + (16 * x1)) + (2 * x2)) (-1) (fun u3 => wM_flushes_2 Q n x1 (x2 + 1) u3) u))
theorem kM_flushes_2 (C : gC p l s m args meth c cX5_flushes 3 none RX5 E [] "flushes") (hI : mI ad) {Q : gM → Prop} : ∀ (n : Nat) (x1 : Int32) (x2 : Int32) (u : gM) (H : Heap) (locs : List Loc) (ls : Array Slot), gS E w0 (gmW E ad u w) H locs → lv_has ls 3 [(0, .ref (ad 8)), (1, .int x1), (2, .int x2)] → wM_flushes_2 Q n x1 x2 u → mGo p l e s m args below meth c 0 0 E ad w0 w (uV Q) H locs (F0 m 2 ls []) := by
  intro n
  induction n with
  | zero =>
    intro x1 x2 u H locs ls hS hl hw
    exact hw.elim
  | succ n ih =>
    intro x1 x2 u H locs ls hS hl hw
    unfold wM_flushes_2 at hw
    refine lv_iload_n C.x C.b dX5_flushes_2 rfl (lv_at hl 2 rfl) ?_
    refine lv_bipush (v := 8) C.x C.b dX5_flushes_3 (by decide) ?_
    refine lv_icmp_ge (tgt := 31) C.x C.b dX5_flushes_5 (by decide) (fun c2 => ?_) (fun c2 => ?_)
    · have hw := hw.1 c2
      exact gm_vret C hS hw dX5_flushes_31
    · have hw := hw.2 c2
      refine lv_aload_n C.x C.b dX5_flushes_8 rfl (lv_at hl 0 rfl) ?_
      refine gm_getA C hI hS 0 (by decide) (a := ad 0) rfl q1481 (fun _ h9 => h9) dX5_flushes_9 ?_
      refine lv_bipush (v := 51) C.x C.b dX5_flushes_12 (by decide) ?_
      refine lv_bipush (v := 16) C.x C.b dX5_flushes_14 (by decide) ?_
      refine lv_iload_n C.x C.b dX5_flushes_16 rfl (lv_at hl 1 rfl) ?_
      refine lv_imul C.x C.b dX5_flushes_17 ?_
      refine lv_iadd C.x C.b dX5_flushes_18 ?_
      refine lv_iconst (v := 2) C.x C.b dX5_flushes_19 (by decide) ?_
      refine lv_iload_n C.x C.b dX5_flushes_20 rfl (lv_at hl 2 rfl) ?_
      refine lv_imul C.x C.b dX5_flushes_21 ?_
      refine lv_iadd C.x C.b dX5_flushes_22 ?_
      refine lv_iconst (v := (-1)) C.x C.b dX5_flushes_23 (by decide) ?_
      refine gm_st C hI hS 0 487 (by decide) rfl dX5_flushes_24 hw (fun u3 H locs hw hS => ?_)
      refine lv_iinc (v := (x2 + 1)) (lv' := [(2, .int (x2 + 1)), (0, .ref (ad 8)), (1, .int x1)]) C.x C.b dX5_flushes_25 hl (k := 2) rfl rfl (by decide) rfl (fun ls hl => ?_)
      refine lv_goto (tgt := 2) C.x C.b dX5_flushes_28 (by decide) ?_
      exact ih _ _ _ _ _ _ hS (lv_sub hl [1, 2, 0] rfl) hw
def wM_flushes (a1 : Int32) (Q : gM → Prop) (u : gM) : Prop :=
  ∃ k1 : Nat, wM_flushes_2 Q k1 a1 0 u
theorem kM_flushes_r (C : gC p l s m args meth c cX5_flushes 3 none RX5 E [] "flushes") (hI : mI ad) (a1 : Int32) {Q : gM → Prop} (u : gM) (H : Heap) (locs : List Loc) (ls : Array Slot) (hS : gS E w0 (gmW E ad u w) H locs) (hl : lv_has ls 3 [(0, .ref (ad 8)), (1, .int a1)]) (hw : wM_flushes a1 Q u) : mGo p l e s m args below meth c 0 0 E ad w0 w (uV Q) H locs (F0 m 0 ls []) := by
  unfold wM_flushes at hw
  refine lv_iconst (v := 0) C.x C.b dX5_flushes_0 (by decide) ?_
  refine lv_istore_n (lv' := [(2, .int 0), (0, .ref (ad 8)), (1, .int a1)]) C.x C.b dX5_flushes_1 rfl hl (by decide) rfl (fun ls hl => ?_)
  obtain ⟨k1, hw⟩ := hw
  exact kM_flushes_2 C hI k1 _ _ _ _ _ _ hS (lv_sub hl [1, 2, 0] rfl) hw
theorem kM_flushes {l : Launch} (ht : l.stackTraces = false) (hI : mI ad) {w : gW} {u : gM} {a1 : Int32} {Q : gM → Prop} (hw : wM_flushes a1 Q u) : gMet l yX5_flushes (ws_ yX5_flushes cX5_flushes 3 none) E (gmW E ad u w) [.ref (ad 8), .int a1] 0 0 (mQ E ad w (uV Q)) gNoX :=
  g_ofW ht (by decide) (Nat.le_of_ble_eq_true rfl) (fun p e s m below meth c ls H C hl hS => kM_flushes_r C hI _ _ _ _ _ hS hl hw)
def wM_begins_112 (Q : gM → Prop) : Nat → Int32 → gM → Prop
  | 0, _, _ => False
  | n + 1, x2, u => (4 ≤ x2 → (Q u)) ∧ (¬ 4 ≤ x2 → (uSt 0 487 (187 + (3 * x2)) 100 (fun u19 => wM_begins_112 Q n (x2 + 1) u19) u))
theorem kM_begins_112 (C : gC p l s m args meth c cX5_begins 3 none RX5 E [] "begins") (hI : mI ad) {Q : gM → Prop} : ∀ (n : Nat) (x2 : Int32) (u : gM) (H : Heap) (locs : List Loc) (ls : Array Slot), gS E w0 (gmW E ad u w) H locs → lv_has ls 3 [(0, .ref (ad 8)), (2, .int x2)] → wM_begins_112 Q n x2 u → mGo p l e s m args below meth c 2 43 E ad w0 w (uV Q) H locs (F0 m 112 ls []) := by
  intro n
  induction n with
  | zero =>
    intro x2 u H locs ls hS hl hw
    exact hw.elim
  | succ n ih =>
    intro x2 u H locs ls hS hl hw
    unfold wM_begins_112 at hw
    refine lv_iload_n C.x C.b dX5_begins_112 rfl (lv_at hl 1 rfl) ?_
    refine lv_iconst (v := 4) C.x C.b dX5_begins_113 (by decide) ?_
    refine lv_icmp_ge (tgt := 137) C.x C.b dX5_begins_114 (by decide) (fun c18 => ?_) (fun c18 => ?_)
    · have hw := hw.1 c18
      exact gm_vret C hS hw dX5_begins_137
    · have hw := hw.2 c18
      refine lv_aload_n C.x C.b dX5_begins_117 rfl (lv_at hl 0 rfl) ?_
      refine gm_getA C hI hS 0 (by decide) (a := ad 0) rfl q1481 (fun _ h9 => h9) dX5_begins_118 ?_
      refine lv_sipush (v := 187) C.x C.b dX5_begins_121 (by decide) ?_
      refine lv_iconst (v := 3) C.x C.b dX5_begins_124 (by decide) ?_
      refine lv_iload_n C.x C.b dX5_begins_125 rfl (lv_at hl 1 rfl) ?_
      refine lv_imul C.x C.b dX5_begins_126 ?_
      refine lv_iadd C.x C.b dX5_begins_127 ?_
      refine lv_bipush (v := 100) C.x C.b dX5_begins_128 (by decide) ?_
      refine gm_st C hI hS 0 487 (by decide) rfl dX5_begins_130 hw (fun u19 H locs hw hS => ?_)
      refine lv_iinc (v := (x2 + 1)) (lv' := [(2, .int (x2 + 1)), (0, .ref (ad 8))]) C.x C.b dX5_begins_131 hl (k := 1) rfl rfl (by decide) rfl (fun ls hl => ?_)
      refine lv_goto (tgt := 112) C.x C.b dX5_begins_134 (by decide) ?_
      exact ih _ _ _ _ _ hS (lv_sub hl [1, 0] rfl) hw
def wM_begins_85 (Q : gM → Prop) : Nat → Int32 → Int32 → gM → Prop
  | 0, _, _, _ => False
  | n + 1, x1, x2, u => (8 ≤ x2 → (∃ k16 : Nat, wM_begins_112 Q k16 0 u)) ∧ (¬ 8 ≤ x2 → (¬ x1 = 0 ∧ (uSt 0 487 (179 + x2) (x2 - x2 / x1 * x1) (fun u17 => wM_begins_85 Q n x1 (x2 + 1) u17) u)))
theorem kM_begins_85 (C : gC p l s m args meth c cX5_begins 3 none RX5 E [] "begins") (hI : mI ad) {Q : gM → Prop} : ∀ (n : Nat) (x1 : Int32) (x2 : Int32) (u : gM) (H : Heap) (locs : List Loc) (ls : Array Slot), gS E w0 (gmW E ad u w) H locs → lv_has ls 3 [(0, .ref (ad 8)), (1, .int x1), (2, .int x2)] → wM_begins_85 Q n x1 x2 u → mGo p l e s m args below meth c 2 43 E ad w0 w (uV Q) H locs (F0 m 85 ls []) := by
  intro n
  induction n with
  | zero =>
    intro x1 x2 u H locs ls hS hl hw
    exact hw.elim
  | succ n ih =>
    intro x1 x2 u H locs ls hS hl hw
    unfold wM_begins_85 at hw
    refine lv_iload_n C.x C.b dX5_begins_85 rfl (lv_at hl 2 rfl) ?_
    refine lv_bipush (v := 8) C.x C.b dX5_begins_86 (by decide) ?_
    refine lv_icmp_ge (tgt := 110) C.x C.b dX5_begins_88 (by decide) (fun c15 => ?_) (fun c15 => ?_)
    · have hw := hw.1 c15
      refine lv_iconst (v := 0) C.x C.b dX5_begins_110 (by decide) ?_
      refine lv_istore_n (lv' := [(2, .int 0), (0, .ref (ad 8)), (1, .int x1)]) C.x C.b dX5_begins_111 rfl hl (by decide) rfl (fun ls hl => ?_)
      obtain ⟨k16, hw⟩ := hw
      exact kM_begins_112 C hI k16 _ _ _ _ _ hS (lv_sub hl [1, 0] rfl) hw
    · have hw := hw.2 c15
      refine lv_aload_n C.x C.b dX5_begins_91 rfl (lv_at hl 0 rfl) ?_
      refine gm_getA C hI hS 0 (by decide) (a := ad 0) rfl q1481 (fun _ h9 => h9) dX5_begins_92 ?_
      refine lv_sipush (v := 179) C.x C.b dX5_begins_95 (by decide) ?_
      refine lv_iload_n C.x C.b dX5_begins_98 rfl (lv_at hl 2 rfl) ?_
      refine lv_iadd C.x C.b dX5_begins_99 ?_
      refine lv_iload_n C.x C.b dX5_begins_100 rfl (lv_at hl 2 rfl) ?_
      refine lv_iload_n C.x C.b dX5_begins_101 rfl (lv_at hl 1 rfl) ?_
      obtain ⟨hne, hw⟩ := hw
      refine lv_irem C.x C.b dX5_begins_102 hne ?_
      refine gm_st C hI hS 0 487 (by decide) rfl dX5_begins_103 hw (fun u17 H locs hw hS => ?_)
      refine lv_iinc (v := (x2 + 1)) (lv' := [(2, .int (x2 + 1)), (0, .ref (ad 8)), (1, .int x1)]) C.x C.b dX5_begins_104 hl (k := 2) rfl rfl (by decide) rfl (fun ls hl => ?_)
      refine lv_goto (tgt := 85) C.x C.b dX5_begins_107 (by decide) ?_
      exact ih _ _ _ _ _ _ hS (lv_sub hl [1, 2, 0] rfl) hw
def wM_begins_49 (Q : gM → Prop) : Nat → Int32 → Int32 → gM → Prop
  | 0, _, _, _ => False
  | n + 1, x1, x2, u => (8 ≤ x2 → (∃ k10 : Nat, wM_begins_85 Q k10 x1 0 u)) ∧ (¬ 8 ≤ x2 → (uSt 0 487 (11 + (5 * x2)) 5 (fun u11 => wM_startsAnew x2 (fun u12 => wM_flushes x2 (fun u13 => wM_begins_49 Q n x1 (x2 + 1) u13) u12) u11) u))
theorem kM_begins_49 (C : gC p l s m args meth c cX5_begins 3 none RX5 E [] "begins") (hI : mI ad) {Q : gM → Prop} : ∀ (n : Nat) (x1 : Int32) (x2 : Int32) (u : gM) (H : Heap) (locs : List Loc) (ls : Array Slot), gS E w0 (gmW E ad u w) H locs → lv_has ls 3 [(0, .ref (ad 8)), (1, .int x1), (2, .int x2)] → wM_begins_49 Q n x1 x2 u → mGo p l e s m args below meth c 2 43 E ad w0 w (uV Q) H locs (F0 m 49 ls []) := by
  intro n
  induction n with
  | zero =>
    intro x1 x2 u H locs ls hS hl hw
    exact hw.elim
  | succ n ih =>
    intro x1 x2 u H locs ls hS hl hw
    unfold wM_begins_49 at hw
    refine lv_iload_n C.x C.b dX5_begins_49 rfl (lv_at hl 2 rfl) ?_
    refine lv_bipush (v := 8) C.x C.b dX5_begins_50 (by decide) ?_
    refine lv_icmp_ge (tgt := 83) C.x C.b dX5_begins_52 (by decide) (fun c9 => ?_) (fun c9 => ?_)
    · have hw := hw.1 c9
      refine lv_iconst (v := 0) C.x C.b dX5_begins_83 (by decide) ?_
      refine lv_istore_n (lv' := [(2, .int 0), (0, .ref (ad 8)), (1, .int x1)]) C.x C.b dX5_begins_84 rfl hl (by decide) rfl (fun ls hl => ?_)
      obtain ⟨k10, hw⟩ := hw
      exact kM_begins_85 C hI k10 _ _ _ _ _ _ hS (lv_sub hl [1, 2, 0] rfl) hw
    · have hw := hw.2 c9
      refine lv_aload_n C.x C.b dX5_begins_55 rfl (lv_at hl 0 rfl) ?_
      refine gm_getA C hI hS 0 (by decide) (a := ad 0) rfl q1481 (fun _ h9 => h9) dX5_begins_56 ?_
      refine lv_bipush (v := 11) C.x C.b dX5_begins_59 (by decide) ?_
      refine lv_iconst (v := 5) C.x C.b dX5_begins_61 (by decide) ?_
      refine lv_iload_n C.x C.b dX5_begins_62 rfl (lv_at hl 2 rfl) ?_
      refine lv_imul C.x C.b dX5_begins_63 ?_
      refine lv_iadd C.x C.b dX5_begins_64 ?_
      refine lv_iconst (v := 5) C.x C.b dX5_begins_65 (by decide) ?_
      refine gm_st C hI hS 0 487 (by decide) rfl dX5_begins_66 hw (fun u11 H locs hw hS => ?_)
      refine lv_aload_n C.x C.b dX5_begins_67 rfl (lv_at hl 0 rfl) ?_
      refine lv_iload_n C.x C.b dX5_begins_68 rfl (lv_at hl 2 rfl) ?_
      refine gm_callV (rest := []) C hI hS hl (kM_startsAnew C.tr hI hw) q1469 q1471 qs23 q88 q1472 ny_startsAnew rfl (Nat.le_of_ble_eq_true rfl) (Nat.le_of_ble_eq_true rfl) rfl (Nat.le_of_ble_eq_true rfl) dX5_begins_69 (gm_kv (fun u12 H locs hw hS => ?_))
      refine lv_aload_n C.x C.b dX5_begins_72 rfl (lv_at hl 0 rfl) ?_
      refine lv_iload_n C.x C.b dX5_begins_73 rfl (lv_at hl 2 rfl) ?_
      refine gm_callV (rest := []) C hI hS hl (kM_flushes C.tr hI hw) q1477 q1479 qs25 q88 q1480 ny_flushes rfl (Nat.le_of_ble_eq_true rfl) (Nat.le_of_ble_eq_true rfl) rfl (Nat.le_of_ble_eq_true rfl) dX5_begins_74 (gm_kv (fun u13 H locs hw hS => ?_))
      refine lv_iinc (v := (x2 + 1)) (lv' := [(2, .int (x2 + 1)), (0, .ref (ad 8)), (1, .int x1)]) C.x C.b dX5_begins_77 hl (k := 2) rfl rfl (by decide) rfl (fun ls hl => ?_)
      refine lv_goto (tgt := 49) C.x C.b dX5_begins_80 (by decide) ?_
      exact ih _ _ _ _ _ _ hS (lv_sub hl [1, 2, 0] rfl) hw
def wM_begins_33 (K2 : Int32 → Int32 → gM → Prop) (Q : gM → Prop) (x1 : Int32) (x2 : Int32) (y0 : Int32) (y1 : Int32) (u : gM) : Prop :=
  uSt 0 487 y1 y0 (fun u14 => K2 x1 (x2 + 1) u14) u
theorem kM_begins_33 (C : gC p l s m args meth c cX5_begins 3 none RX5 E [] "begins") (hI : mI ad) {Q : gM → Prop} {K2 : Int32 → Int32 → gM → Prop} (hK2 : ∀ (x1 : Int32) (x2 : Int32) (u : gM) (H : Heap) (locs : List Loc) (ls : Array Slot), gS E w0 (gmW E ad u w) H locs → lv_has ls 3 [(0, .ref (ad 8)), (1, .int x1), (2, .int x2)] → K2 x1 x2 u → mGo p l e s m args below meth c 2 43 E ad w0 w (uV Q) H locs (F0 m 2 ls [])) (x1 : Int32) (x2 : Int32) (y0 : Int32) (y1 : Int32) (u : gM) (H : Heap) (locs : List Loc) (ls : Array Slot) (hS : gS E w0 (gmW E ad u w) H locs) (hl : lv_has ls 3 [(0, .ref (ad 8)), (1, .int x1), (2, .int x2)]) (hw : wM_begins_33 K2 Q x1 x2 y0 y1 u) : mGo p l e s m args below meth c 2 43 E ad w0 w (uV Q) H locs (F0 m 33 ls [.int y0, .int y1, .ref (ad 0)]) := by
  unfold wM_begins_33 at hw
  refine gm_st C hI hS 0 487 (by decide) rfl dX5_begins_33 hw (fun u14 H locs hw hS => ?_)
  refine lv_iinc (v := (x2 + 1)) (lv' := [(2, .int (x2 + 1)), (0, .ref (ad 8)), (1, .int x1)]) C.x C.b dX5_begins_34 hl (k := 2) rfl rfl (by decide) rfl (fun ls hl => ?_)
  refine lv_goto (tgt := 2) C.x C.b dX5_begins_37 (by decide) ?_
  exact hK2 _ _ _ _ _ _ hS (lv_sub hl [1, 2, 0] rfl) hw
def wM_begins_2 (Q : gM → Prop) : Nat → Int32 → Int32 → gM → Prop
  | 0, _, _, _ => False
  | n + 1, x1, x2, u => (487 ≤ x2 → (uSt 0 487 0 x1 (fun u3 => ∃ k4 : Nat, wM_begins_49 Q k4 x1 0 u3) u)) ∧ (¬ 487 ≤ x2 → (wM_in x2 2 4 (fun r6 u5 => (r6 = 0 → (wM_begins_33 (fun x1 x2 u => wM_begins_2 Q n x1 x2 u) Q x1 x2 0 x2 u5)) ∧ (¬ r6 = 0 → (uLd 0 487 x2 (fun v8 => wM_begins_33 (fun x1 x2 u => wM_begins_2 Q n x1 x2 u) Q x1 x2 v8 x2 u5) u5))) u))
theorem kM_begins_2 (C : gC p l s m args meth c cX5_begins 3 none RX5 E [] "begins") (hI : mI ad) {Q : gM → Prop} : ∀ (n : Nat) (x1 : Int32) (x2 : Int32) (u : gM) (H : Heap) (locs : List Loc) (ls : Array Slot), gS E w0 (gmW E ad u w) H locs → lv_has ls 3 [(0, .ref (ad 8)), (1, .int x1), (2, .int x2)] → wM_begins_2 Q n x1 x2 u → mGo p l e s m args below meth c 2 43 E ad w0 w (uV Q) H locs (F0 m 2 ls []) := by
  intro n
  induction n with
  | zero =>
    intro x1 x2 u H locs ls hS hl hw
    exact hw.elim
  | succ n ih =>
    intro x1 x2 u H locs ls hS hl hw
    unfold wM_begins_2 at hw
    refine lv_iload_n C.x C.b dX5_begins_2 rfl (lv_at hl 2 rfl) ?_
    refine lv_sipush (v := 487) C.x C.b dX5_begins_3 (by decide) ?_
    refine lv_icmp_ge (tgt := 40) C.x C.b dX5_begins_6 (by decide) (fun c2 => ?_) (fun c2 => ?_)
    · have hw := hw.1 c2
      refine lv_aload_n C.x C.b dX5_begins_40 rfl (lv_at hl 0 rfl) ?_
      refine gm_getA C hI hS 0 (by decide) (a := ad 0) rfl q1481 (fun _ h9 => h9) dX5_begins_41 ?_
      refine lv_iconst (v := 0) C.x C.b dX5_begins_44 (by decide) ?_
      refine lv_iload_n C.x C.b dX5_begins_45 rfl (lv_at hl 1 rfl) ?_
      refine gm_st C hI hS 0 487 (by decide) rfl dX5_begins_46 hw (fun u3 H locs hw hS => ?_)
      refine lv_iconst (v := 0) C.x C.b dX5_begins_47 (by decide) ?_
      refine lv_istore_n (lv' := [(2, .int 0), (0, .ref (ad 8)), (1, .int x1)]) C.x C.b dX5_begins_48 rfl hl (by decide) rfl (fun ls hl => ?_)
      obtain ⟨k4, hw⟩ := hw
      exact kM_begins_49 C hI k4 _ _ _ _ _ _ hS (lv_sub hl [1, 2, 0] rfl) hw
    · have hw := hw.2 c2
      refine lv_aload_n C.x C.b dX5_begins_9 rfl (lv_at hl 0 rfl) ?_
      refine gm_getA C hI hS 0 (by decide) (a := ad 0) rfl q1481 (fun _ h9 => h9) dX5_begins_10 ?_
      refine lv_iload_n C.x C.b dX5_begins_13 rfl (lv_at hl 2 rfl) ?_
      refine lv_iload_n C.x C.b dX5_begins_14 rfl (lv_at hl 2 rfl) ?_
      refine lv_iconst (v := 2) C.x C.b dX5_begins_15 (by decide) ?_
      refine lv_iconst (v := 4) C.x C.b dX5_begins_16 (by decide) ?_
      refine gm_callS (rest := [.int x2, .ref (ad 0)]) C hS hl (kM_in C.tr hI hw) q1466 q1467 q88 q1468 ny_in rfl (Nat.le_of_ble_eq_true rfl) (Nat.le_of_ble_eq_true rfl) rfl (Nat.le_of_ble_eq_true rfl) dX5_begins_17 (gm_ki (fun r6 u5 H locs hw hS => ?_))
      refine lv_if_eq (tgt := 32) C.x C.b dX5_begins_20 (by decide) (fun c7 => ?_) (fun c7 => ?_)
      · have hw := hw.1 c7
        refine lv_iconst (v := 0) C.x C.b dX5_begins_32 (by decide) ?_
        exact kM_begins_33 C hI ih _ _ _ _ _ _ _ _ hS (lv_sub hl [0, 1, 2] rfl) hw
      · have hw := hw.2 c7
        refine lv_aload_n C.x C.b dX5_begins_23 rfl (lv_at hl 0 rfl) ?_
        refine gm_getA C hI hS 0 (by decide) (a := ad 0) rfl q1481 (fun _ h9 => h9) dX5_begins_24 ?_
        refine lv_iload_n C.x C.b dX5_begins_27 rfl (lv_at hl 2 rfl) ?_
        refine gm_ld C hI hS 0 487 (by decide) rfl dX5_begins_28 hw (fun v8 hw => ?_)
        refine lv_goto (tgt := 33) C.x C.b dX5_begins_29 (by decide) ?_
        exact kM_begins_33 C hI ih _ _ _ _ _ _ _ _ hS (lv_sub hl [0, 1, 2] rfl) hw
def wM_begins (a1 : Int32) (Q : gM → Prop) (u : gM) : Prop :=
  ∃ k1 : Nat, wM_begins_2 Q k1 a1 0 u
theorem kM_begins_r (C : gC p l s m args meth c cX5_begins 3 none RX5 E [] "begins") (hI : mI ad) (a1 : Int32) {Q : gM → Prop} (u : gM) (H : Heap) (locs : List Loc) (ls : Array Slot) (hS : gS E w0 (gmW E ad u w) H locs) (hl : lv_has ls 3 [(0, .ref (ad 8)), (1, .int a1)]) (hw : wM_begins a1 Q u) : mGo p l e s m args below meth c 2 43 E ad w0 w (uV Q) H locs (F0 m 0 ls []) := by
  unfold wM_begins at hw
  refine lv_iconst (v := 0) C.x C.b dX5_begins_0 (by decide) ?_
  refine lv_istore_n (lv' := [(2, .int 0), (0, .ref (ad 8)), (1, .int a1)]) C.x C.b dX5_begins_1 rfl hl (by decide) rfl (fun ls hl => ?_)
  obtain ⟨k1, hw⟩ := hw
  exact kM_begins_2 C hI k1 _ _ _ _ _ _ hS (lv_sub hl [1, 2, 0] rfl) hw
theorem kM_begins {l : Launch} (ht : l.stackTraces = false) (hI : mI ad) {w : gW} {u : gM} {a1 : Int32} {Q : gM → Prop} (hw : wM_begins a1 Q u) : gMet l yX5_begins (ws_ yX5_begins cX5_begins 3 none) E (gmW E ad u w) [.ref (ad 8), .int a1] 2 43 (mQ E ad w (uV Q)) gNoX :=
  g_ofW ht (by decide) (Nat.le_of_ble_eq_true rfl) (fun p e s m below meth c ls H C hl hS => kM_begins_r C hI _ _ _ _ _ hS hl hw)
def wM_thrown (Q : Int32 → gM → Prop) (u : gM) : Prop :=
  uGt 2 (fun v1 => Q v1 u) u
theorem kM_thrown_r (C : gC p l s m args meth c cX5_thrown 1 (some .int) RX5 E [] "thrown") (hI : mI ad) {Q : Int32 → gM → Prop} (u : gM) (H : Heap) (locs : List Loc) (ls : Array Slot) (hS : gS E w0 (gmW E ad u w) H locs) (hl : lv_has ls 1 [(0, .ref (ad 8))]) (hw : wM_thrown Q u) : mGo p l e s m args below meth c 0 0 E ad w0 w (uI Q) H locs (F0 m 0 ls []) := by
  unfold wM_thrown at hw
  refine lv_aload_n C.x C.b dX5_thrown_0 rfl (lv_at hl 0 rfl) ?_
  refine gm_getI C hI hS 6 2 (by decide) rfl q1487 (fun _ h9 => h9) dX5_thrown_1 hw (fun v1 hw => ?_)
  exact gm_iret C hS hw dX5_thrown_4
theorem kM_thrown {l : Launch} (ht : l.stackTraces = false) (hI : mI ad) {w : gW} {u : gM} {Q : Int32 → gM → Prop} (hw : wM_thrown Q u) : gMet l yX5_thrown (ws_ yX5_thrown cX5_thrown 1 (some .int)) E (gmW E ad u w) [.ref (ad 8)] 0 0 (mQ E ad w (uI Q)) gNoX :=
  g_ofW ht (by decide) (Nat.le_of_ble_eq_true rfl) (fun p e s m below meth c ls H C hl hS => kM_thrown_r C hI _ _ _ _ hS hl hw)
def wM_fails (a1 : Int32) (Q : Int32 → gM → Prop) (u : gM) : Prop :=
  uPt 2 a1 (fun u1 => Q 0 u1) u
theorem kM_fails_r (C : gC p l s m args meth c cX5_fails 2 (some .int) RX5 E [] "fails") (hI : mI ad) (a1 : Int32) {Q : Int32 → gM → Prop} (u : gM) (H : Heap) (locs : List Loc) (ls : Array Slot) (hS : gS E w0 (gmW E ad u w) H locs) (hl : lv_has ls 2 [(0, .ref (ad 8)), (1, .int a1)]) (hw : wM_fails a1 Q u) : mGo p l e s m args below meth c 0 0 E ad w0 w (uI Q) H locs (F0 m 0 ls []) := by
  unfold wM_fails at hw
  refine lv_aload_n C.x C.b dX5_fails_0 rfl (lv_at hl 0 rfl) ?_
  refine lv_iload_n C.x C.b dX5_fails_1 rfl (lv_at hl 1 rfl) ?_
  refine gm_putI C hI hS 6 2 (by decide) rfl q1487 (fun _ h9 => h9) rfl rfl rfl dX5_fails_2 hw (fun u1 H locs hw hS => ?_)
  refine lv_iconst (v := 0) C.x C.b dX5_fails_5 (by decide) ?_
  exact gm_iret C hS hw dX5_fails_6
theorem kM_fails {l : Launch} (ht : l.stackTraces = false) (hI : mI ad) {w : gW} {u : gM} {a1 : Int32} {Q : Int32 → gM → Prop} (hw : wM_fails a1 Q u) : gMet l yX5_fails (ws_ yX5_fails cX5_fails 2 (some .int)) E (gmW E ad u w) [.ref (ad 8), .int a1] 0 0 (mQ E ad w (uI Q)) gNoX :=
  g_ofW ht (by decide) (Nat.le_of_ble_eq_true rfl) (fun p e s m below meth c ls H C hl hS => kM_fails_r C hI _ _ _ _ _ hS hl hw)
def wM_hold_2 (Q : gM → Prop) : Nat → Int32 → gM → Prop
  | 0, _, _ => False
  | n + 1, x1, u => (487 ≤ x1 → (Q u)) ∧ (¬ 487 ≤ x1 → (uLd 0 487 x1 (fun v3 => uSt 2 487 x1 v3 (fun u4 => wM_hold_2 Q n (x1 + 1) u4) u) u))
theorem kM_hold_2 (C : gC p l s m args meth c cX5_hold 2 none RX5 E [] "hold") (hI : mI ad) {Q : gM → Prop} : ∀ (n : Nat) (x1 : Int32) (u : gM) (H : Heap) (locs : List Loc) (ls : Array Slot), gS E w0 (gmW E ad u w) H locs → lv_has ls 2 [(0, .ref (ad 8)), (1, .int x1)] → wM_hold_2 Q n x1 u → mGo p l e s m args below meth c 0 0 E ad w0 w (uV Q) H locs (F0 m 2 ls []) := by
  intro n
  induction n with
  | zero =>
    intro x1 u H locs ls hS hl hw
    exact hw.elim
  | succ n ih =>
    intro x1 u H locs ls hS hl hw
    unfold wM_hold_2 at hw
    refine lv_iload_n C.x C.b dX5_hold_2 rfl (lv_at hl 1 rfl) ?_
    refine lv_sipush (v := 487) C.x C.b dX5_hold_3 (by decide) ?_
    refine lv_icmp_ge (tgt := 27) C.x C.b dX5_hold_6 (by decide) (fun c2 => ?_) (fun c2 => ?_)
    · have hw := hw.1 c2
      exact gm_vret C hS hw dX5_hold_27
    · have hw := hw.2 c2
      refine lv_aload_n C.x C.b dX5_hold_9 rfl (lv_at hl 0 rfl) ?_
      refine gm_getA C hI hS 2 (by decide) (a := ad 2) rfl q1483 (fun _ h9 => h9) dX5_hold_10 ?_
      refine lv_iload_n C.x C.b dX5_hold_13 rfl (lv_at hl 1 rfl) ?_
      refine lv_aload_n C.x C.b dX5_hold_14 rfl (lv_at hl 0 rfl) ?_
      refine gm_getA C hI hS 0 (by decide) (a := ad 0) rfl q1481 (fun _ h9 => h9) dX5_hold_15 ?_
      refine lv_iload_n C.x C.b dX5_hold_18 rfl (lv_at hl 1 rfl) ?_
      refine gm_ld C hI hS 0 487 (by decide) rfl dX5_hold_19 hw (fun v3 hw => ?_)
      refine gm_st C hI hS 2 487 (by decide) rfl dX5_hold_20 hw (fun u4 H locs hw hS => ?_)
      refine lv_iinc (v := (x1 + 1)) (lv' := [(1, .int (x1 + 1)), (0, .ref (ad 8))]) C.x C.b dX5_hold_21 hl (k := 1) rfl rfl (by decide) rfl (fun ls hl => ?_)
      refine lv_goto (tgt := 2) C.x C.b dX5_hold_24 (by decide) ?_
      exact ih _ _ _ _ _ hS (lv_sub hl [1, 0] rfl) hw
def wM_hold (Q : gM → Prop) (u : gM) : Prop :=
  ∃ k1 : Nat, wM_hold_2 Q k1 0 u
theorem kM_hold_r (C : gC p l s m args meth c cX5_hold 2 none RX5 E [] "hold") (hI : mI ad) {Q : gM → Prop} (u : gM) (H : Heap) (locs : List Loc) (ls : Array Slot) (hS : gS E w0 (gmW E ad u w) H locs) (hl : lv_has ls 2 [(0, .ref (ad 8))]) (hw : wM_hold Q u) : mGo p l e s m args below meth c 0 0 E ad w0 w (uV Q) H locs (F0 m 0 ls []) := by
  unfold wM_hold at hw
  refine lv_iconst (v := 0) C.x C.b dX5_hold_0 (by decide) ?_
  refine lv_istore_n (lv' := [(1, .int 0), (0, .ref (ad 8))]) C.x C.b dX5_hold_1 rfl hl (by decide) rfl (fun ls hl => ?_)
  obtain ⟨k1, hw⟩ := hw
  exact kM_hold_2 C hI k1 _ _ _ _ _ hS (lv_sub hl [1, 0] rfl) hw
theorem kM_hold {l : Launch} (ht : l.stackTraces = false) (hI : mI ad) {w : gW} {u : gM} {Q : gM → Prop} (hw : wM_hold Q u) : gMet l yX5_hold (ws_ yX5_hold cX5_hold 2 none) E (gmW E ad u w) [.ref (ad 8)] 0 0 (mQ E ad w (uV Q)) gNoX :=
  g_ofW ht (by decide) (Nat.le_of_ble_eq_true rfl) (fun p e s m below meth c ls H C hl hS => kM_hold_r C hI _ _ _ _ hS hl hw)
def wM_tells (a1 : Int32) (Q : Int32 → gM → Prop) (u : gM) : Prop :=
  uPt 2 0 (fun u1 => Q a1 u1) u
theorem kM_tells_r (C : gC p l s m args meth c cX5_tells 2 (some .int) RX5 E [] "tells") (hI : mI ad) (a1 : Int32) {Q : Int32 → gM → Prop} (u : gM) (H : Heap) (locs : List Loc) (ls : Array Slot) (hS : gS E w0 (gmW E ad u w) H locs) (hl : lv_has ls 2 [(0, .ref (ad 8)), (1, .int a1)]) (hw : wM_tells a1 Q u) : mGo p l e s m args below meth c 0 0 E ad w0 w (uI Q) H locs (F0 m 0 ls []) := by
  unfold wM_tells at hw
  refine lv_aload_n C.x C.b dX5_tells_0 rfl (lv_at hl 0 rfl) ?_
  refine lv_iconst (v := 0) C.x C.b dX5_tells_1 (by decide) ?_
  refine gm_putI C hI hS 6 2 (by decide) rfl q1487 (fun _ h9 => h9) rfl rfl rfl dX5_tells_2 hw (fun u1 H locs hw hS => ?_)
  refine lv_iload_n C.x C.b dX5_tells_5 rfl (lv_at hl 1 rfl) ?_
  exact gm_iret C hS hw dX5_tells_6
theorem kM_tells {l : Launch} (ht : l.stackTraces = false) (hI : mI ad) {w : gW} {u : gM} {a1 : Int32} {Q : Int32 → gM → Prop} (hw : wM_tells a1 Q u) : gMet l yX5_tells (ws_ yX5_tells cX5_tells 2 (some .int)) E (gmW E ad u w) [.ref (ad 8), .int a1] 0 0 (mQ E ad w (uI Q)) gNoX :=
  g_ofW ht (by decide) (Nat.le_of_ble_eq_true rfl) (fun p e s m below meth c ls H C hl hS => kM_tells_r C hI _ _ _ _ _ hS hl hw)
def wM_ends_51 (Q : Int32 → gM → Prop) : Nat → Int32 → Int32 → gM → Prop
  | 0, _, _, _ => False
  | n + 1, x1, x2, u => (487 ≤ x2 → (uGt 0 (fun v11 => uPt 0 (v11 + 1) (fun u12 => wM_tells x1 (fun r14 u13 => Q r14 u13) u12) u) u)) ∧ (¬ 487 ≤ x2 → (uGt 0 (fun v15 => uLd 2 487 x2 (fun v16 => uSt 1 1461 ((487 * v15) + x2) v16 (fun u17 => wM_ends_51 Q n x1 (x2 + 1) u17) u) u) u))
theorem kM_ends_51 (C : gC p l s m args meth c cX5_ends 3 (some .int) RX5 E [] "ends") (hI : mI ad) {Q : Int32 → gM → Prop} : ∀ (n : Nat) (x1 : Int32) (x2 : Int32) (u : gM) (H : Heap) (locs : List Loc) (ls : Array Slot), gS E w0 (gmW E ad u w) H locs → lv_has ls 3 [(0, .ref (ad 8)), (1, .int x1), (2, .int x2)] → wM_ends_51 Q n x1 x2 u → mGo p l e s m args below meth c 1 21 E ad w0 w (uI Q) H locs (F0 m 51 ls []) := by
  intro n
  induction n with
  | zero =>
    intro x1 x2 u H locs ls hS hl hw
    exact hw.elim
  | succ n ih =>
    intro x1 x2 u H locs ls hS hl hw
    unfold wM_ends_51 at hw
    refine lv_iload_n C.x C.b dX5_ends_51 rfl (lv_at hl 2 rfl) ?_
    refine lv_sipush (v := 487) C.x C.b dX5_ends_52 (by decide) ?_
    refine lv_icmp_ge (tgt := 85) C.x C.b dX5_ends_55 (by decide) (fun c10 => ?_) (fun c10 => ?_)
    · have hw := hw.1 c10
      refine lv_aload_n C.x C.b dX5_ends_85 rfl (lv_at hl 0 rfl) ?_
      refine lv_dup C.x C.b dX5_ends_86 rfl ?_
      refine gm_getI C hI hS 3 0 (by decide) rfl q1484 (fun _ h9 => h9) dX5_ends_87 hw (fun v11 hw => ?_)
      refine lv_iconst (v := 1) C.x C.b dX5_ends_90 (by decide) ?_
      refine lv_iadd C.x C.b dX5_ends_91 ?_
      refine gm_putI C hI hS 3 0 (by decide) rfl q1484 (fun _ h9 => h9) rfl rfl rfl dX5_ends_92 hw (fun u12 H locs hw hS => ?_)
      refine lv_aload_n C.x C.b dX5_ends_95 rfl (lv_at hl 0 rfl) ?_
      refine lv_iload_n C.x C.b dX5_ends_96 rfl (lv_at hl 1 rfl) ?_
      refine gm_callV (rest := []) C hI hS hl (kM_tells C.tr hI hw) q1547 q1549 qs29 q88 q1550 ny_tells rfl (Nat.le_of_ble_eq_true rfl) (Nat.le_of_ble_eq_true rfl) rfl (Nat.le_of_ble_eq_true rfl) dX5_ends_97 (gm_ki (fun r14 u13 H locs hw hS => ?_))
      exact gm_iret C hS hw dX5_ends_100
    · have hw := hw.2 c10
      refine lv_aload_n C.x C.b dX5_ends_58 rfl (lv_at hl 0 rfl) ?_
      refine gm_getA C hI hS 1 (by decide) (a := ad 1) rfl q1482 (fun _ h9 => h9) dX5_ends_59 ?_
      refine lv_sipush (v := 487) C.x C.b dX5_ends_62 (by decide) ?_
      refine lv_aload_n C.x C.b dX5_ends_65 rfl (lv_at hl 0 rfl) ?_
      refine gm_getI C hI hS 3 0 (by decide) rfl q1484 (fun _ h9 => h9) dX5_ends_66 hw (fun v15 hw => ?_)
      refine lv_imul C.x C.b dX5_ends_69 ?_
      refine lv_iload_n C.x C.b dX5_ends_70 rfl (lv_at hl 2 rfl) ?_
      refine lv_iadd C.x C.b dX5_ends_71 ?_
      refine lv_aload_n C.x C.b dX5_ends_72 rfl (lv_at hl 0 rfl) ?_
      refine gm_getA C hI hS 2 (by decide) (a := ad 2) rfl q1483 (fun _ h9 => h9) dX5_ends_73 ?_
      refine lv_iload_n C.x C.b dX5_ends_76 rfl (lv_at hl 2 rfl) ?_
      refine gm_ld C hI hS 2 487 (by decide) rfl dX5_ends_77 hw (fun v16 hw => ?_)
      refine gm_st C hI hS 1 1461 (by decide) rfl dX5_ends_78 hw (fun u17 H locs hw hS => ?_)
      refine lv_iinc (v := (x2 + 1)) (lv' := [(2, .int (x2 + 1)), (0, .ref (ad 8)), (1, .int x1)]) C.x C.b dX5_ends_79 hl (k := 2) rfl rfl (by decide) rfl (fun ls hl => ?_)
      refine lv_goto (tgt := 51) C.x C.b dX5_ends_82 (by decide) ?_
      exact ih _ _ _ _ _ _ hS (lv_sub hl [1, 2, 0] rfl) hw
def wM_ends_49 (Q : Int32 → gM → Prop) (x1 : Int32) (u : gM) : Prop :=
  ∃ k4 : Nat, wM_ends_51 Q k4 x1 0 u
theorem kM_ends_49 (C : gC p l s m args meth c cX5_ends 3 (some .int) RX5 E [] "ends") (hI : mI ad) {Q : Int32 → gM → Prop} (x1 : Int32) (u : gM) (H : Heap) (locs : List Loc) (ls : Array Slot) (hS : gS E w0 (gmW E ad u w) H locs) (hl : lv_has ls 3 [(0, .ref (ad 8)), (1, .int x1)]) (hw : wM_ends_49 Q x1 u) : mGo p l e s m args below meth c 1 21 E ad w0 w (uI Q) H locs (F0 m 49 ls []) := by
  unfold wM_ends_49 at hw
  refine lv_iconst (v := 0) C.x C.b dX5_ends_49 (by decide) ?_
  refine lv_istore_n (lv' := [(2, .int 0), (0, .ref (ad 8)), (1, .int x1)]) C.x C.b dX5_ends_50 rfl hl (by decide) rfl (fun ls hl => ?_)
  obtain ⟨k4, hw⟩ := hw
  exact kM_ends_51 C hI k4 _ _ _ _ _ _ hS (lv_sub hl [1, 2, 0] rfl) hw
def wM_ends_10 (Q : Int32 → gM → Prop) : Nat → Int32 → Int32 → gM → Prop
  | 0, _, _, _ => False
  | n + 1, x1, x2, u => (974 ≤ x2 → (uGt 0 (fun v6 => uPt 0 (v6 - 1) (fun u7 => wM_ends_49 Q x1 u7) u) u)) ∧ (¬ 974 ≤ x2 → (uLd 1 1461 (x2 + 487) (fun v8 => uSt 1 1461 x2 v8 (fun u9 => wM_ends_10 Q n x1 (x2 + 1) u9) u) u))
theorem kM_ends_10 (C : gC p l s m args meth c cX5_ends 3 (some .int) RX5 E [] "ends") (hI : mI ad) {Q : Int32 → gM → Prop} : ∀ (n : Nat) (x1 : Int32) (x2 : Int32) (u : gM) (H : Heap) (locs : List Loc) (ls : Array Slot), gS E w0 (gmW E ad u w) H locs → lv_has ls 3 [(0, .ref (ad 8)), (1, .int x1), (2, .int x2)] → wM_ends_10 Q n x1 x2 u → mGo p l e s m args below meth c 1 21 E ad w0 w (uI Q) H locs (F0 m 10 ls []) := by
  intro n
  induction n with
  | zero =>
    intro x1 x2 u H locs ls hS hl hw
    exact hw.elim
  | succ n ih =>
    intro x1 x2 u H locs ls hS hl hw
    unfold wM_ends_10 at hw
    refine lv_iload_n C.x C.b dX5_ends_10 rfl (lv_at hl 2 rfl) ?_
    refine lv_sipush (v := 974) C.x C.b dX5_ends_11 (by decide) ?_
    refine lv_icmp_ge (tgt := 39) C.x C.b dX5_ends_14 (by decide) (fun c5 => ?_) (fun c5 => ?_)
    · have hw := hw.1 c5
      refine lv_aload_n C.x C.b dX5_ends_39 rfl (lv_at hl 0 rfl) ?_
      refine lv_dup C.x C.b dX5_ends_40 rfl ?_
      refine gm_getI C hI hS 3 0 (by decide) rfl q1484 (fun _ h9 => h9) dX5_ends_41 hw (fun v6 hw => ?_)
      refine lv_iconst (v := 1) C.x C.b dX5_ends_44 (by decide) ?_
      refine lv_isub C.x C.b dX5_ends_45 ?_
      refine gm_putI C hI hS 3 0 (by decide) rfl q1484 (fun _ h9 => h9) rfl rfl rfl dX5_ends_46 hw (fun u7 H locs hw hS => ?_)
      exact kM_ends_49 C hI _ _ _ _ _ hS (lv_sub hl [0, 1] rfl) hw
    · have hw := hw.2 c5
      refine lv_aload_n C.x C.b dX5_ends_17 rfl (lv_at hl 0 rfl) ?_
      refine gm_getA C hI hS 1 (by decide) (a := ad 1) rfl q1482 (fun _ h9 => h9) dX5_ends_18 ?_
      refine lv_iload_n C.x C.b dX5_ends_21 rfl (lv_at hl 2 rfl) ?_
      refine lv_aload_n C.x C.b dX5_ends_22 rfl (lv_at hl 0 rfl) ?_
      refine gm_getA C hI hS 1 (by decide) (a := ad 1) rfl q1482 (fun _ h9 => h9) dX5_ends_23 ?_
      refine lv_iload_n C.x C.b dX5_ends_26 rfl (lv_at hl 2 rfl) ?_
      refine lv_sipush (v := 487) C.x C.b dX5_ends_27 (by decide) ?_
      refine lv_iadd C.x C.b dX5_ends_30 ?_
      refine gm_ld C hI hS 1 1461 (by decide) rfl dX5_ends_31 hw (fun v8 hw => ?_)
      refine gm_st C hI hS 1 1461 (by decide) rfl dX5_ends_32 hw (fun u9 H locs hw hS => ?_)
      refine lv_iinc (v := (x2 + 1)) (lv' := [(2, .int (x2 + 1)), (0, .ref (ad 8)), (1, .int x1)]) C.x C.b dX5_ends_33 hl (k := 2) rfl rfl (by decide) rfl (fun ls hl => ?_)
      refine lv_goto (tgt := 10) C.x C.b dX5_ends_36 (by decide) ?_
      exact ih _ _ _ _ _ _ hS (lv_sub hl [1, 2, 0] rfl) hw
def wM_ends (a1 : Int32) (Q : Int32 → gM → Prop) (u : gM) : Prop :=
  uGt 0 (fun v1 => (v1 = 3 → (∃ k3 : Nat, wM_ends_10 Q k3 a1 0 u)) ∧ (¬ v1 = 3 → (wM_ends_49 Q a1 u))) u
theorem kM_ends_r (C : gC p l s m args meth c cX5_ends 3 (some .int) RX5 E [] "ends") (hI : mI ad) (a1 : Int32) {Q : Int32 → gM → Prop} (u : gM) (H : Heap) (locs : List Loc) (ls : Array Slot) (hS : gS E w0 (gmW E ad u w) H locs) (hl : lv_has ls 3 [(0, .ref (ad 8)), (1, .int a1)]) (hw : wM_ends a1 Q u) : mGo p l e s m args below meth c 1 21 E ad w0 w (uI Q) H locs (F0 m 0 ls []) := by
  unfold wM_ends at hw
  refine lv_aload_n C.x C.b dX5_ends_0 rfl (lv_at hl 0 rfl) ?_
  refine gm_getI C hI hS 3 0 (by decide) rfl q1484 (fun _ h9 => h9) dX5_ends_1 hw (fun v1 hw => ?_)
  refine lv_iconst (v := 3) C.x C.b dX5_ends_4 (by decide) ?_
  refine lv_icmp_ne (tgt := 49) C.x C.b dX5_ends_5 (by decide) (fun c2 => ?_) (fun c2 => ?_)
  · have hw := hw.2 c2
    exact kM_ends_49 C hI _ _ _ _ _ hS (lv_sub hl [0, 1] rfl) hw
  · have hw := hw.1 c2
    refine lv_iconst (v := 0) C.x C.b dX5_ends_8 (by decide) ?_
    refine lv_istore_n (lv' := [(2, .int 0), (0, .ref (ad 8)), (1, .int a1)]) C.x C.b dX5_ends_9 rfl hl (by decide) rfl (fun ls hl => ?_)
    obtain ⟨k3, hw⟩ := hw
    exact kM_ends_10 C hI k3 _ _ _ _ _ _ hS (lv_sub hl [1, 2, 0] rfl) hw
theorem kM_ends {l : Launch} (ht : l.stackTraces = false) (hI : mI ad) {w : gW} {u : gM} {a1 : Int32} {Q : Int32 → gM → Prop} (hw : wM_ends a1 Q u) : gMet l yX5_ends (ws_ yX5_ends cX5_ends 3 (some .int)) E (gmW E ad u w) [.ref (ad 8), .int a1] 1 21 (mQ E ad w (uI Q)) gNoX :=
  g_ofW ht (by decide) (Nat.le_of_ble_eq_true rfl) (fun p e s m below meth c ls H C hl hS => kM_ends_r C hI _ _ _ _ _ hS hl hw)
def wM_setBridges (a1 : Int32) (Q : Int32 → gM → Prop) (u : gM) : Prop :=
  wM_in a1 2 8 (fun r2 u1 => (r2 = 0 → (wM_fails 1 (fun r10 u9 => Q r10 u9) u1)) ∧ (¬ r2 = 0 → (wM_hold (fun u4 => uLd 0 487 0 (fun v5 => wM_begins a1 (fun u6 => wM_ends v5 (fun r8 u7 => Q r8 u7) u6) u4) u4) u1))) u
theorem kM_setBridges_r (C : gC p l s m args meth c cX5_setBridges 3 (some .int) RX5 E [] "setBridges") (hI : mI ad) (a1 : Int32) {Q : Int32 → gM → Prop} (u : gM) (H : Heap) (locs : List Loc) (ls : Array Slot) (hS : gS E w0 (gmW E ad u w) H locs) (hl : lv_has ls 3 [(0, .ref (ad 8)), (1, .int a1)]) (hw : wM_setBridges a1 Q u) : mGo p l e s m args below meth c 3 65 E ad w0 w (uI Q) H locs (F0 m 0 ls []) := by
  unfold wM_setBridges at hw
  refine lv_iload_n C.x C.b dX5_setBridges_0 rfl (lv_at hl 1 rfl) ?_
  refine lv_iconst (v := 2) C.x C.b dX5_setBridges_1 (by decide) ?_
  refine lv_bipush (v := 8) C.x C.b dX5_setBridges_2 (by decide) ?_
  refine gm_callS (rest := []) C hS hl (kM_in C.tr hI hw) q1466 q1467 q88 q1468 ny_in rfl (Nat.le_of_ble_eq_true rfl) (Nat.le_of_ble_eq_true rfl) rfl (Nat.le_of_ble_eq_true rfl) dX5_setBridges_4 (gm_ki (fun r2 u1 H locs hw hS => ?_))
  refine lv_if_ne (tgt := 16) C.x C.b dX5_setBridges_7 (by decide) (fun c3 => ?_) (fun c3 => ?_)
  · have hw := hw.2 c3
    refine lv_aload_n C.x C.b dX5_setBridges_16 rfl (lv_at hl 0 rfl) ?_
    refine gm_callV (rest := []) C hI hS hl (kM_hold C.tr hI hw) q1539 q1541 qs27 q88 q1542 ny_hold rfl (Nat.le_of_ble_eq_true rfl) (Nat.le_of_ble_eq_true rfl) rfl (Nat.le_of_ble_eq_true rfl) dX5_setBridges_17 (gm_kv (fun u4 H locs hw hS => ?_))
    refine lv_aload_n C.x C.b dX5_setBridges_20 rfl (lv_at hl 0 rfl) ?_
    refine gm_getA C hI hS 0 (by decide) (a := ad 0) rfl q1481 (fun _ h9 => h9) dX5_setBridges_21 ?_
    refine lv_iconst (v := 0) C.x C.b dX5_setBridges_24 (by decide) ?_
    refine gm_ld C hI hS 0 487 (by decide) rfl dX5_setBridges_25 hw (fun v5 hw => ?_)
    refine lv_istore_n (lv' := [(2, .int v5), (0, .ref (ad 8)), (1, .int a1)]) C.x C.b dX5_setBridges_26 rfl hl (by decide) rfl (fun ls hl => ?_)
    refine lv_aload_n C.x C.b dX5_setBridges_27 rfl (lv_at hl 1 rfl) ?_
    refine lv_iload_n C.x C.b dX5_setBridges_28 rfl (lv_at hl 2 rfl) ?_
    refine gm_callV (rest := []) C hI hS hl (kM_begins C.tr hI hw) q1462 q1464 qs22 q88 q1465 ny_begins rfl (Nat.le_of_ble_eq_true rfl) (Nat.le_of_ble_eq_true rfl) rfl (Nat.le_of_ble_eq_true rfl) dX5_setBridges_29 (gm_kv (fun u6 H locs hw hS => ?_))
    refine lv_aload_n C.x C.b dX5_setBridges_32 rfl (lv_at hl 1 rfl) ?_
    refine lv_iload_n C.x C.b dX5_setBridges_33 rfl (lv_at hl 0 rfl) ?_
    refine gm_callV (rest := []) C hI hS hl (kM_ends C.tr hI hw) q1543 q1545 qs28 q88 q1546 ny_ends rfl (Nat.le_of_ble_eq_true rfl) (Nat.le_of_ble_eq_true rfl) rfl (Nat.le_of_ble_eq_true rfl) dX5_setBridges_34 (gm_ki (fun r8 u7 H locs hw hS => ?_))
    exact gm_iret C hS hw dX5_setBridges_37
  · have hw := hw.1 c3
    refine lv_aload_n C.x C.b dX5_setBridges_10 rfl (lv_at hl 0 rfl) ?_
    refine lv_iconst (v := 1) C.x C.b dX5_setBridges_11 (by decide) ?_
    refine gm_callV (rest := []) C hI hS hl (kM_fails C.tr hI hw) q1535 q1537 qs26 q88 q1538 ny_fails rfl (Nat.le_of_ble_eq_true rfl) (Nat.le_of_ble_eq_true rfl) rfl (Nat.le_of_ble_eq_true rfl) dX5_setBridges_12 (gm_ki (fun r10 u9 H locs hw hS => ?_))
    exact gm_iret C hS hw dX5_setBridges_15
theorem kM_setBridges {l : Launch} (ht : l.stackTraces = false) (hI : mI ad) {w : gW} {u : gM} {a1 : Int32} {Q : Int32 → gM → Prop} (hw : wM_setBridges a1 Q u) : gMet l yX5_setBridges (ws_ yX5_setBridges cX5_setBridges 3 (some .int)) E (gmW E ad u w) [.ref (ad 8), .int a1] 3 65 (mQ E ad w (uI Q)) gNoX :=
  g_ofW ht (by decide) (Nat.le_of_ble_eq_true rfl) (fun p e s m below meth c ls H C hl hS => kM_setBridges_r C hI _ _ _ _ _ hS hl hw)
def wM_setTimes_30 (Q : Int32 → gM → Prop) (u : gM) : Prop :=
  wM_fails 1 (fun r18 u17 => Q r18 u17) u
theorem kM_setTimes_30 (C : gC p l s m args meth c cX5_setTimes 5 (some .int) RX5 E [] "setTimes") (hI : mI ad) {Q : Int32 → gM → Prop} (u : gM) (H : Heap) (locs : List Loc) (ls : Array Slot) (hS : gS E w0 (gmW E ad u w) H locs) (hl : lv_has ls 5 [(0, .ref (ad 8))]) (hw : wM_setTimes_30 Q u) : mGo p l e s m args below meth c 2 43 E ad w0 w (uI Q) H locs (F0 m 30 ls []) := by
  unfold wM_setTimes_30 at hw
  refine lv_aload_n C.x C.b dX5_setTimes_30 rfl (lv_at hl 0 rfl) ?_
  refine lv_iconst (v := 1) C.x C.b dX5_setTimes_31 (by decide) ?_
  refine gm_callV (rest := []) C hI hS hl (kM_fails C.tr hI hw) q1535 q1537 qs26 q88 q1538 ny_fails rfl (Nat.le_of_ble_eq_true rfl) (Nat.le_of_ble_eq_true rfl) rfl (Nat.le_of_ble_eq_true rfl) dX5_setTimes_32 (gm_ki (fun r18 u17 H locs hw hS => ?_))
  exact gm_iret C hS hw dX5_setTimes_35
def wM_setTimes (a1 : Int32) (a2 : Int32) (a3 : Int32) (Q : Int32 → gM → Prop) (u : gM) : Prop :=
  wM_in a1 1 20 (fun r2 u1 => (r2 = 0 → (wM_setTimes_30 Q u1)) ∧ (¬ r2 = 0 → (wM_in a2 5 100 (fun r5 u4 => (r5 = 0 → (wM_setTimes_30 Q u4)) ∧ (¬ r5 = 0 → (wM_in a3 0 100 (fun r8 u7 => (r8 = 0 → (wM_setTimes_30 Q u7)) ∧ (¬ r8 = 0 → (wM_hold (fun u10 => uLd 0 487 3 (fun v11 => uSt 0 487 2 a1 (fun u12 => uSt 0 487 3 a2 (fun u13 => uSt 0 487 4 a3 (fun u14 => wM_ends v11 (fun r16 u15 => Q r16 u15) u14) u13) u12) u10) u10) u7))) u4))) u1))) u
theorem kM_setTimes_r (C : gC p l s m args meth c cX5_setTimes 5 (some .int) RX5 E [] "setTimes") (hI : mI ad) (a1 : Int32) (a2 : Int32) (a3 : Int32) {Q : Int32 → gM → Prop} (u : gM) (H : Heap) (locs : List Loc) (ls : Array Slot) (hS : gS E w0 (gmW E ad u w) H locs) (hl : lv_has ls 5 [(0, .ref (ad 8)), (1, .int a1), (2, .int a2), (3, .int a3)]) (hw : wM_setTimes a1 a2 a3 Q u) : mGo p l e s m args below meth c 2 43 E ad w0 w (uI Q) H locs (F0 m 0 ls []) := by
  unfold wM_setTimes at hw
  refine lv_iload_n C.x C.b dX5_setTimes_0 rfl (lv_at hl 1 rfl) ?_
  refine lv_iconst (v := 1) C.x C.b dX5_setTimes_1 (by decide) ?_
  refine lv_bipush (v := 20) C.x C.b dX5_setTimes_2 (by decide) ?_
  refine gm_callS (rest := []) C hS hl (kM_in C.tr hI hw) q1466 q1467 q88 q1468 ny_in rfl (Nat.le_of_ble_eq_true rfl) (Nat.le_of_ble_eq_true rfl) rfl (Nat.le_of_ble_eq_true rfl) dX5_setTimes_4 (gm_ki (fun r2 u1 H locs hw hS => ?_))
  refine lv_if_eq (tgt := 30) C.x C.b dX5_setTimes_7 (by decide) (fun c3 => ?_) (fun c3 => ?_)
  · have hw := hw.1 c3
    exact kM_setTimes_30 C hI _ _ _ _ hS (lv_sub hl [0] rfl) hw
  · have hw := hw.2 c3
    refine lv_iload_n C.x C.b dX5_setTimes_10 rfl (lv_at hl 2 rfl) ?_
    refine lv_iconst (v := 5) C.x C.b dX5_setTimes_11 (by decide) ?_
    refine lv_bipush (v := 100) C.x C.b dX5_setTimes_12 (by decide) ?_
    refine gm_callS (rest := []) C hS hl (kM_in C.tr hI hw) q1466 q1467 q88 q1468 ny_in rfl (Nat.le_of_ble_eq_true rfl) (Nat.le_of_ble_eq_true rfl) rfl (Nat.le_of_ble_eq_true rfl) dX5_setTimes_14 (gm_ki (fun r5 u4 H locs hw hS => ?_))
    refine lv_if_eq (tgt := 30) C.x C.b dX5_setTimes_17 (by decide) (fun c6 => ?_) (fun c6 => ?_)
    · have hw := hw.1 c6
      exact kM_setTimes_30 C hI _ _ _ _ hS (lv_sub hl [0] rfl) hw
    · have hw := hw.2 c6
      refine lv_iload_n C.x C.b dX5_setTimes_20 rfl (lv_at hl 3 rfl) ?_
      refine lv_iconst (v := 0) C.x C.b dX5_setTimes_21 (by decide) ?_
      refine lv_bipush (v := 100) C.x C.b dX5_setTimes_22 (by decide) ?_
      refine gm_callS (rest := []) C hS hl (kM_in C.tr hI hw) q1466 q1467 q88 q1468 ny_in rfl (Nat.le_of_ble_eq_true rfl) (Nat.le_of_ble_eq_true rfl) rfl (Nat.le_of_ble_eq_true rfl) dX5_setTimes_24 (gm_ki (fun r8 u7 H locs hw hS => ?_))
      refine lv_if_ne (tgt := 36) C.x C.b dX5_setTimes_27 (by decide) (fun c9 => ?_) (fun c9 => ?_)
      · have hw := hw.2 c9
        refine lv_aload_n C.x C.b dX5_setTimes_36 rfl (lv_at hl 0 rfl) ?_
        refine gm_callV (rest := []) C hI hS hl (kM_hold C.tr hI hw) q1539 q1541 qs27 q88 q1542 ny_hold rfl (Nat.le_of_ble_eq_true rfl) (Nat.le_of_ble_eq_true rfl) rfl (Nat.le_of_ble_eq_true rfl) dX5_setTimes_37 (gm_kv (fun u10 H locs hw hS => ?_))
        refine lv_aload_n C.x C.b dX5_setTimes_40 rfl (lv_at hl 0 rfl) ?_
        refine gm_getA C hI hS 0 (by decide) (a := ad 0) rfl q1481 (fun _ h9 => h9) dX5_setTimes_41 ?_
        refine lv_iconst (v := 3) C.x C.b dX5_setTimes_44 (by decide) ?_
        refine gm_ld C hI hS 0 487 (by decide) rfl dX5_setTimes_45 hw (fun v11 hw => ?_)
        refine lv_istore (lv' := [(4, .int v11), (0, .ref (ad 8)), (1, .int a1), (2, .int a2), (3, .int a3)]) C.x C.b dX5_setTimes_46 hl (by decide) rfl (fun ls hl => ?_)
        refine lv_aload_n C.x C.b dX5_setTimes_48 rfl (lv_at hl 1 rfl) ?_
        refine gm_getA C hI hS 0 (by decide) (a := ad 0) rfl q1481 (fun _ h9 => h9) dX5_setTimes_49 ?_
        refine lv_iconst (v := 2) C.x C.b dX5_setTimes_52 (by decide) ?_
        refine lv_iload_n C.x C.b dX5_setTimes_53 rfl (lv_at hl 2 rfl) ?_
        refine gm_st C hI hS 0 487 (by decide) rfl dX5_setTimes_54 hw (fun u12 H locs hw hS => ?_)
        refine lv_aload_n C.x C.b dX5_setTimes_55 rfl (lv_at hl 1 rfl) ?_
        refine gm_getA C hI hS 0 (by decide) (a := ad 0) rfl q1481 (fun _ h9 => h9) dX5_setTimes_56 ?_
        refine lv_iconst (v := 3) C.x C.b dX5_setTimes_59 (by decide) ?_
        refine lv_iload_n C.x C.b dX5_setTimes_60 rfl (lv_at hl 3 rfl) ?_
        refine gm_st C hI hS 0 487 (by decide) rfl dX5_setTimes_61 hw (fun u13 H locs hw hS => ?_)
        refine lv_aload_n C.x C.b dX5_setTimes_62 rfl (lv_at hl 1 rfl) ?_
        refine gm_getA C hI hS 0 (by decide) (a := ad 0) rfl q1481 (fun _ h9 => h9) dX5_setTimes_63 ?_
        refine lv_iconst (v := 4) C.x C.b dX5_setTimes_66 (by decide) ?_
        refine lv_iload_n C.x C.b dX5_setTimes_67 rfl (lv_at hl 4 rfl) ?_
        refine gm_st C hI hS 0 487 (by decide) rfl dX5_setTimes_68 hw (fun u14 H locs hw hS => ?_)
        refine lv_aload_n C.x C.b dX5_setTimes_69 rfl (lv_at hl 1 rfl) ?_
        refine lv_iload C.x C.b dX5_setTimes_70 (lv_at hl 0 rfl) ?_
        refine gm_callV (rest := []) C hI hS hl (kM_ends C.tr hI hw) q1543 q1545 qs28 q88 q1546 ny_ends rfl (Nat.le_of_ble_eq_true rfl) (Nat.le_of_ble_eq_true rfl) rfl (Nat.le_of_ble_eq_true rfl) dX5_setTimes_72 (gm_ki (fun r16 u15 H locs hw hS => ?_))
        exact gm_iret C hS hw dX5_setTimes_75
      · have hw := hw.1 c9
        exact kM_setTimes_30 C hI _ _ _ _ hS (lv_sub hl [0] rfl) hw
theorem kM_setTimes {l : Launch} (ht : l.stackTraces = false) (hI : mI ad) {w : gW} {u : gM} {a1 : Int32} {a2 : Int32} {a3 : Int32} {Q : Int32 → gM → Prop} (hw : wM_setTimes a1 a2 a3 Q u) : gMet l yX5_setTimes (ws_ yX5_setTimes cX5_setTimes 5 (some .int)) E (gmW E ad u w) [.ref (ad 8), .int a1, .int a2, .int a3] 2 43 (mQ E ad w (uI Q)) gNoX :=
  g_ofW ht (by decide) (Nat.le_of_ble_eq_true rfl) (fun p e s m below meth c ls H C hl hS => kM_setTimes_r C hI _ _ _ _ _ _ _ hS hl hw)
def wM_isBridge (a1 : Int32) (Q : Int32 → gM → Prop) (u : gM) : Prop :=
  uLd 0 487 0 (fun v1 => wM_in a1 0 (v1 - 1) (fun r3 u2 => narrow .boolean (.int r3) = .int r3 ∧ Q r3 u2) u) u
theorem kM_isBridge_r (C : gC p l s m args meth c cX5_isBridge 2 (some .boolean) RX5 E [] "isBridge") (hI : mI ad) (a1 : Int32) {Q : Int32 → gM → Prop} (u : gM) (H : Heap) (locs : List Loc) (ls : Array Slot) (hS : gS E w0 (gmW E ad u w) H locs) (hl : lv_has ls 2 [(0, .ref (ad 8)), (1, .int a1)]) (hw : wM_isBridge a1 Q u) : mGo p l e s m args below meth c 1 22 E ad w0 w (uI Q) H locs (F0 m 0 ls []) := by
  unfold wM_isBridge at hw
  refine lv_iload_n C.x C.b dX5_isBridge_0 rfl (lv_at hl 1 rfl) ?_
  refine lv_iconst (v := 0) C.x C.b dX5_isBridge_1 (by decide) ?_
  refine lv_aload_n C.x C.b dX5_isBridge_2 rfl (lv_at hl 0 rfl) ?_
  refine gm_getA C hI hS 0 (by decide) (a := ad 0) rfl q1481 (fun _ h9 => h9) dX5_isBridge_3 ?_
  refine lv_iconst (v := 0) C.x C.b dX5_isBridge_6 (by decide) ?_
  refine gm_ld C hI hS 0 487 (by decide) rfl dX5_isBridge_7 hw (fun v1 hw => ?_)
  refine lv_iconst (v := 1) C.x C.b dX5_isBridge_8 (by decide) ?_
  refine lv_isub C.x C.b dX5_isBridge_9 ?_
  refine gm_callS (rest := []) C hS hl (kM_in C.tr hI hw) q1466 q1467 q88 q1468 ny_in rfl (Nat.le_of_ble_eq_true rfl) (Nat.le_of_ble_eq_true rfl) rfl (Nat.le_of_ble_eq_true rfl) dX5_isBridge_10 (gm_ki (fun r3 u2 H locs hw hS => ?_))
  exact gm_zret C hS hw.1 hw.2 dX5_isBridge_13
theorem kM_isBridge {l : Launch} (ht : l.stackTraces = false) (hI : mI ad) {w : gW} {u : gM} {a1 : Int32} {Q : Int32 → gM → Prop} (hw : wM_isBridge a1 Q u) : gMet l yX5_isBridge (ws_ yX5_isBridge cX5_isBridge 2 (some .boolean)) E (gmW E ad u w) [.ref (ad 8), .int a1] 1 22 (mQ E ad w (uI Q)) gNoX :=
  g_ofW ht (by decide) (Nat.le_of_ble_eq_true rfl) (fun p e s m below meth c ls H C hl hS => kM_isBridge_r C hI _ _ _ _ _ hS hl hw)
def wM_prioritizes (a1 : Int32) (a2 : Int32) (Q : Int32 → gM → Prop) (u : gM) : Prop :=
  wM_isBridge a1 (fun r2 u1 => (r2 = 0 → (Q 1 u1)) ∧ (¬ r2 = 0 → (wM_in a2 0 9 (fun r5 u4 => (r5 = 0 → (Q 2 u4)) ∧ (¬ r5 = 0 → (uLd 0 487 (11 + (5 * a1)) (fun v7 => uPt 3 v7 (fun u8 => uSt 0 487 (11 + (5 * a1)) a2 (fun u9 => wM_startsAnew a1 (fun u10 => Q 0 u10) u9) u8) u4) u4))) u1))) u
theorem kM_prioritizes_r (C : gC p l s m args meth c cX5_prioritizes 3 (some .int) RX5 E [] "prioritizes") (hI : mI ad) (a1 : Int32) (a2 : Int32) {Q : Int32 → gM → Prop} (u : gM) (H : Heap) (locs : List Loc) (ls : Array Slot) (hS : gS E w0 (gmW E ad u w) H locs) (hl : lv_has ls 3 [(0, .ref (ad 8)), (1, .int a1), (2, .int a2)]) (hw : wM_prioritizes a1 a2 Q u) : mGo p l e s m args below meth c 2 43 E ad w0 w (uI Q) H locs (F0 m 0 ls []) := by
  unfold wM_prioritizes at hw
  refine lv_aload_n C.x C.b dX5_prioritizes_0 rfl (lv_at hl 0 rfl) ?_
  refine lv_iload_n C.x C.b dX5_prioritizes_1 rfl (lv_at hl 1 rfl) ?_
  refine gm_callV (rest := []) C hI hS hl (kM_isBridge C.tr hI hw) q1563 q1565 qs31 q88 q1566 ny_isBridge rfl (Nat.le_of_ble_eq_true rfl) (Nat.le_of_ble_eq_true rfl) rfl (Nat.le_of_ble_eq_true rfl) dX5_prioritizes_2 (gm_ki (fun r2 u1 H locs hw hS => ?_))
  refine lv_if_ne (tgt := 10) C.x C.b dX5_prioritizes_5 (by decide) (fun c3 => ?_) (fun c3 => ?_)
  · have hw := hw.2 c3
    refine lv_iload_n C.x C.b dX5_prioritizes_10 rfl (lv_at hl 2 rfl) ?_
    refine lv_iconst (v := 0) C.x C.b dX5_prioritizes_11 (by decide) ?_
    refine lv_bipush (v := 9) C.x C.b dX5_prioritizes_12 (by decide) ?_
    refine gm_callS (rest := []) C hS hl (kM_in C.tr hI hw) q1466 q1467 q88 q1468 ny_in rfl (Nat.le_of_ble_eq_true rfl) (Nat.le_of_ble_eq_true rfl) rfl (Nat.le_of_ble_eq_true rfl) dX5_prioritizes_14 (gm_ki (fun r5 u4 H locs hw hS => ?_))
    refine lv_if_ne (tgt := 22) C.x C.b dX5_prioritizes_17 (by decide) (fun c6 => ?_) (fun c6 => ?_)
    · have hw := hw.2 c6
      refine lv_aload_n C.x C.b dX5_prioritizes_22 rfl (lv_at hl 0 rfl) ?_
      refine lv_aload_n C.x C.b dX5_prioritizes_23 rfl (lv_at hl 0 rfl) ?_
      refine gm_getA C hI hS 0 (by decide) (a := ad 0) rfl q1481 (fun _ h9 => h9) dX5_prioritizes_24 ?_
      refine lv_bipush (v := 11) C.x C.b dX5_prioritizes_27 (by decide) ?_
      refine lv_iconst (v := 5) C.x C.b dX5_prioritizes_29 (by decide) ?_
      refine lv_iload_n C.x C.b dX5_prioritizes_30 rfl (lv_at hl 1 rfl) ?_
      refine lv_imul C.x C.b dX5_prioritizes_31 ?_
      refine lv_iadd C.x C.b dX5_prioritizes_32 ?_
      refine gm_ld C hI hS 0 487 (by decide) rfl dX5_prioritizes_33 hw (fun v7 hw => ?_)
      refine gm_putI C hI hS 7 3 (by decide) rfl q1488 (fun _ h9 => h9) rfl rfl rfl dX5_prioritizes_34 hw (fun u8 H locs hw hS => ?_)
      refine lv_aload_n C.x C.b dX5_prioritizes_37 rfl (lv_at hl 0 rfl) ?_
      refine gm_getA C hI hS 0 (by decide) (a := ad 0) rfl q1481 (fun _ h9 => h9) dX5_prioritizes_38 ?_
      refine lv_bipush (v := 11) C.x C.b dX5_prioritizes_41 (by decide) ?_
      refine lv_iconst (v := 5) C.x C.b dX5_prioritizes_43 (by decide) ?_
      refine lv_iload_n C.x C.b dX5_prioritizes_44 rfl (lv_at hl 1 rfl) ?_
      refine lv_imul C.x C.b dX5_prioritizes_45 ?_
      refine lv_iadd C.x C.b dX5_prioritizes_46 ?_
      refine lv_iload_n C.x C.b dX5_prioritizes_47 rfl (lv_at hl 2 rfl) ?_
      refine gm_st C hI hS 0 487 (by decide) rfl dX5_prioritizes_48 hw (fun u9 H locs hw hS => ?_)
      refine lv_aload_n C.x C.b dX5_prioritizes_49 rfl (lv_at hl 0 rfl) ?_
      refine lv_iload_n C.x C.b dX5_prioritizes_50 rfl (lv_at hl 1 rfl) ?_
      refine gm_callV (rest := []) C hI hS hl (kM_startsAnew C.tr hI hw) q1469 q1471 qs23 q88 q1472 ny_startsAnew rfl (Nat.le_of_ble_eq_true rfl) (Nat.le_of_ble_eq_true rfl) rfl (Nat.le_of_ble_eq_true rfl) dX5_prioritizes_51 (gm_kv (fun u10 H locs hw hS => ?_))
      refine lv_iconst (v := 0) C.x C.b dX5_prioritizes_54 (by decide) ?_
      exact gm_iret C hS hw dX5_prioritizes_55
    · have hw := hw.1 c6
      refine lv_iconst (v := 2) C.x C.b dX5_prioritizes_20 (by decide) ?_
      exact gm_iret C hS hw dX5_prioritizes_21
  · have hw := hw.1 c3
    refine lv_iconst (v := 1) C.x C.b dX5_prioritizes_8 (by decide) ?_
    exact gm_iret C hS hw dX5_prioritizes_9
theorem kM_prioritizes {l : Launch} (ht : l.stackTraces = false) (hI : mI ad) {w : gW} {u : gM} {a1 : Int32} {a2 : Int32} {Q : Int32 → gM → Prop} (hw : wM_prioritizes a1 a2 Q u) : gMet l yX5_prioritizes (ws_ yX5_prioritizes cX5_prioritizes 3 (some .int)) E (gmW E ad u w) [.ref (ad 8), .int a1, .int a2] 2 43 (mQ E ad w (uI Q)) gNoX :=
  g_ofW ht (by decide) (Nat.le_of_ble_eq_true rfl) (fun p e s m below meth c ls H C hl hS => kM_prioritizes_r C hI _ _ _ _ _ _ hS hl hw)
def wM_done (a1 : Int32) (Q : Int32 → gM → Prop) (u : gM) : Prop :=
  (a1 ≤ 0 → (uGt 3 (fun v2 => wM_ends v2 (fun r4 u3 => Q r4 u3) u) u)) ∧ (¬ a1 ≤ 0 → (wM_fails a1 (fun r6 u5 => Q r6 u5) u))
theorem kM_done_r (C : gC p l s m args meth c cX5_done 2 (some .int) RX5 E [] "done") (hI : mI ad) (a1 : Int32) {Q : Int32 → gM → Prop} (u : gM) (H : Heap) (locs : List Loc) (ls : Array Slot) (hS : gS E w0 (gmW E ad u w) H locs) (hl : lv_has ls 2 [(0, .ref (ad 8)), (1, .int a1)]) (hw : wM_done a1 Q u) : mGo p l e s m args below meth c 2 43 E ad w0 w (uI Q) H locs (F0 m 0 ls []) := by
  unfold wM_done at hw
  refine lv_iload_n C.x C.b dX5_done_0 rfl (lv_at hl 1 rfl) ?_
  refine lv_if_le (tgt := 12) C.x C.b dX5_done_1 (by decide) (fun c1 => ?_) (fun c1 => ?_)
  · have hw := hw.1 c1
    refine lv_aload_n C.x C.b dX5_done_12 rfl (lv_at hl 0 rfl) ?_
    refine lv_aload_n C.x C.b dX5_done_13 rfl (lv_at hl 0 rfl) ?_
    refine gm_getI C hI hS 7 3 (by decide) rfl q1488 (fun _ h9 => h9) dX5_done_14 hw (fun v2 hw => ?_)
    refine gm_callV (rest := []) C hI hS hl (kM_ends C.tr hI hw) q1543 q1545 qs28 q88 q1546 ny_ends rfl (Nat.le_of_ble_eq_true rfl) (Nat.le_of_ble_eq_true rfl) rfl (Nat.le_of_ble_eq_true rfl) dX5_done_17 (gm_ki (fun r4 u3 H locs hw hS => ?_))
    exact gm_iret C hS hw dX5_done_20
  · have hw := hw.2 c1
    refine lv_aload_n C.x C.b dX5_done_4 rfl (lv_at hl 0 rfl) ?_
    refine lv_iload_n C.x C.b dX5_done_5 rfl (lv_at hl 1 rfl) ?_
    refine gm_callV (rest := []) C hI hS hl (kM_fails C.tr hI hw) q1535 q1537 qs26 q88 q1538 ny_fails rfl (Nat.le_of_ble_eq_true rfl) (Nat.le_of_ble_eq_true rfl) rfl (Nat.le_of_ble_eq_true rfl) dX5_done_6 (gm_ki (fun r6 u5 H locs hw hS => ?_))
    refine lv_goto (tgt := 20) C.x C.b dX5_done_9 (by decide) ?_
    exact gm_iret C hS hw dX5_done_20
theorem kM_done {l : Launch} (ht : l.stackTraces = false) (hI : mI ad) {w : gW} {u : gM} {a1 : Int32} {Q : Int32 → gM → Prop} (hw : wM_done a1 Q u) : gMet l yX5_done (ws_ yX5_done cX5_done 2 (some .int)) E (gmW E ad u w) [.ref (ad 8), .int a1] 2 43 (mQ E ad w (uI Q)) gNoX :=
  g_ofW ht (by decide) (Nat.le_of_ble_eq_true rfl) (fun p e s m below meth c ls H C hl hS => kM_done_r C hI _ _ _ _ _ hS hl hw)
def wM_setPriority (a1 : Int32) (a2 : Int32) (Q : Int32 → gM → Prop) (u : gM) : Prop :=
  wM_hold (fun u1 => wM_prioritizes a1 a2 (fun r3 u2 => wM_done r3 (fun r5 u4 => Q r5 u4) u2) u1) u
theorem kM_setPriority_r (C : gC p l s m args meth c cX5_setPriority 3 (some .int) RX5 E [] "setPriority") (hI : mI ad) (a1 : Int32) (a2 : Int32) {Q : Int32 → gM → Prop} (u : gM) (H : Heap) (locs : List Loc) (ls : Array Slot) (hS : gS E w0 (gmW E ad u w) H locs) (hl : lv_has ls 3 [(0, .ref (ad 8)), (1, .int a1), (2, .int a2)]) (hw : wM_setPriority a1 a2 Q u) : mGo p l e s m args below meth c 3 65 E ad w0 w (uI Q) H locs (F0 m 0 ls []) := by
  unfold wM_setPriority at hw
  refine lv_aload_n C.x C.b dX5_setPriority_0 rfl (lv_at hl 0 rfl) ?_
  refine gm_callV (rest := []) C hI hS hl (kM_hold C.tr hI hw) q1539 q1541 qs27 q88 q1542 ny_hold rfl (Nat.le_of_ble_eq_true rfl) (Nat.le_of_ble_eq_true rfl) rfl (Nat.le_of_ble_eq_true rfl) dX5_setPriority_1 (gm_kv (fun u1 H locs hw hS => ?_))
  refine lv_aload_n C.x C.b dX5_setPriority_4 rfl (lv_at hl 0 rfl) ?_
  refine lv_aload_n C.x C.b dX5_setPriority_5 rfl (lv_at hl 0 rfl) ?_
  refine lv_iload_n C.x C.b dX5_setPriority_6 rfl (lv_at hl 1 rfl) ?_
  refine lv_iload_n C.x C.b dX5_setPriority_7 rfl (lv_at hl 2 rfl) ?_
  refine gm_callV (rest := [.ref (ad 8)]) C hI hS hl (kM_prioritizes C.tr hI hw) q1559 q1561 qs30 q88 q1562 ny_prioritizes rfl (Nat.le_of_ble_eq_true rfl) (Nat.le_of_ble_eq_true rfl) rfl (Nat.le_of_ble_eq_true rfl) dX5_setPriority_8 (gm_ki (fun r3 u2 H locs hw hS => ?_))
  refine gm_callV (rest := []) C hI hS hl (kM_done C.tr hI hw) q1567 q1569 qs32 q88 q1570 ny_done rfl (Nat.le_of_ble_eq_true rfl) (Nat.le_of_ble_eq_true rfl) rfl (Nat.le_of_ble_eq_true rfl) dX5_setPriority_11 (gm_ki (fun r5 u4 H locs hw hS => ?_))
  exact gm_iret C hS hw dX5_setPriority_14
theorem kM_setPriority {l : Launch} (ht : l.stackTraces = false) (hI : mI ad) {w : gW} {u : gM} {a1 : Int32} {a2 : Int32} {Q : Int32 → gM → Prop} (hw : wM_setPriority a1 a2 Q u) : gMet l yX5_setPriority (ws_ yX5_setPriority cX5_setPriority 3 (some .int)) E (gmW E ad u w) [.ref (ad 8), .int a1, .int a2] 3 65 (mQ E ad w (uI Q)) gNoX :=
  g_ofW ht (by decide) (Nat.le_of_ble_eq_true rfl) (fun p e s m below meth c ls H C hl hS => kM_setPriority_r C hI _ _ _ _ _ _ hS hl hw)
def wM_puts (a1 : Int32) (a2 : Int32) (a3 : Int32) (Q : gM → Prop) (u : gM) : Prop :=
  uSt 0 487 ((199 + (18 * a1)) + a2) a3 (fun u1 => Q u1) u
theorem kM_puts_r (C : gC p l s m args meth c cX5_puts 4 none RX5 E [] "puts") (hI : mI ad) (a1 : Int32) (a2 : Int32) (a3 : Int32) {Q : gM → Prop} (u : gM) (H : Heap) (locs : List Loc) (ls : Array Slot) (hS : gS E w0 (gmW E ad u w) H locs) (hl : lv_has ls 4 [(0, .ref (ad 8)), (1, .int a1), (2, .int a2), (3, .int a3)]) (hw : wM_puts a1 a2 a3 Q u) : mGo p l e s m args below meth c 0 0 E ad w0 w (uV Q) H locs (F0 m 0 ls []) := by
  unfold wM_puts at hw
  refine lv_aload_n C.x C.b dX5_puts_0 rfl (lv_at hl 0 rfl) ?_
  refine gm_getA C hI hS 0 (by decide) (a := ad 0) rfl q1481 (fun _ h9 => h9) dX5_puts_1 ?_
  refine lv_sipush (v := 199) C.x C.b dX5_puts_4 (by decide) ?_
  refine lv_bipush (v := 18) C.x C.b dX5_puts_7 (by decide) ?_
  refine lv_iload_n C.x C.b dX5_puts_9 rfl (lv_at hl 1 rfl) ?_
  refine lv_imul C.x C.b dX5_puts_10 ?_
  refine lv_iadd C.x C.b dX5_puts_11 ?_
  refine lv_iload_n C.x C.b dX5_puts_12 rfl (lv_at hl 2 rfl) ?_
  refine lv_iadd C.x C.b dX5_puts_13 ?_
  refine lv_iload_n C.x C.b dX5_puts_14 rfl (lv_at hl 3 rfl) ?_
  refine gm_st C hI hS 0 487 (by decide) rfl dX5_puts_15 hw (fun u1 H locs hw hS => ?_)
  exact gm_vret C hS hw dX5_puts_16
theorem kM_puts {l : Launch} (ht : l.stackTraces = false) (hI : mI ad) {w : gW} {u : gM} {a1 : Int32} {a2 : Int32} {a3 : Int32} {Q : gM → Prop} (hw : wM_puts a1 a2 a3 Q u) : gMet l yX5_puts (ws_ yX5_puts cX5_puts 4 none) E (gmW E ad u w) [.ref (ad 8), .int a1, .int a2, .int a3] 0 0 (mQ E ad w (uV Q)) gNoX :=
  g_ofW ht (by decide) (Nat.le_of_ble_eq_true rfl) (fun p e s m below meth c ls H C hl hS => kM_puts_r C hI _ _ _ _ _ _ _ hS hl hw)
def wM_joins_130 (Q : Int32 → gM → Prop) (x3 : Int32) (y0 : Int32) (y1 : Int32) (y2 : Int32) (u : gM) : Prop :=
  wM_puts y2 y1 y0 (fun u26 => uGt 3 (fun v27 => wM_puts v27 2 x3 (fun u28 => uGt 3 (fun v29 => wM_puts v29 3 x3 (fun u30 => uGt 3 (fun v31 => wM_puts v31 4 1 (fun u32 => uGt 3 (fun v33 => wM_puts v33 5 (-1) (fun u34 => uGt 3 (fun v35 => wM_puts v35 8 2 (fun u36 => uGt 3 (fun v37 => wM_puts v37 11 2 (fun u38 => Q 0 u38) u36) u36) u34) u34) u32) u32) u30) u30) u28) u28) u26) u26) u
theorem kM_joins_130 (C : gC p l s m args meth c cX5_joins 5 (some .int) RX5 E [] "joins") (hI : mI ad) {Q : Int32 → gM → Prop} (x3 : Int32) (y0 : Int32) (y1 : Int32) (y2 : Int32) (u : gM) (H : Heap) (locs : List Loc) (ls : Array Slot) (hS : gS E w0 (gmW E ad u w) H locs) (hl : lv_has ls 5 [(0, .ref (ad 8)), (3, .int x3)]) (hw : wM_joins_130 Q x3 y0 y1 y2 u) : mGo p l e s m args below meth c 2 43 E ad w0 w (uI Q) H locs (F0 m 130 ls [.int y0, .int y1, .int y2, .ref (ad 8)]) := by
  unfold wM_joins_130 at hw
  refine gm_callV (rest := []) C hI hS hl (kM_puts C.tr hI hw) q1579 q1581 qs34 q88 q1582 ny_puts rfl (Nat.le_of_ble_eq_true rfl) (Nat.le_of_ble_eq_true rfl) rfl (Nat.le_of_ble_eq_true rfl) dX5_joins_130 (gm_kv (fun u26 H locs hw hS => ?_))
  refine lv_aload_n C.x C.b dX5_joins_133 rfl (lv_at hl 0 rfl) ?_
  refine lv_aload_n C.x C.b dX5_joins_134 rfl (lv_at hl 0 rfl) ?_
  refine gm_getI C hI hS 7 3 (by decide) rfl q1488 (fun _ h9 => h9) dX5_joins_135 hw (fun v27 hw => ?_)
  refine lv_iconst (v := 2) C.x C.b dX5_joins_138 (by decide) ?_
  refine lv_iload_n C.x C.b dX5_joins_139 rfl (lv_at hl 1 rfl) ?_
  refine gm_callV (rest := []) C hI hS hl (kM_puts C.tr hI hw) q1579 q1581 qs34 q88 q1582 ny_puts rfl (Nat.le_of_ble_eq_true rfl) (Nat.le_of_ble_eq_true rfl) rfl (Nat.le_of_ble_eq_true rfl) dX5_joins_140 (gm_kv (fun u28 H locs hw hS => ?_))
  refine lv_aload_n C.x C.b dX5_joins_143 rfl (lv_at hl 0 rfl) ?_
  refine lv_aload_n C.x C.b dX5_joins_144 rfl (lv_at hl 0 rfl) ?_
  refine gm_getI C hI hS 7 3 (by decide) rfl q1488 (fun _ h9 => h9) dX5_joins_145 hw (fun v29 hw => ?_)
  refine lv_iconst (v := 3) C.x C.b dX5_joins_148 (by decide) ?_
  refine lv_iload_n C.x C.b dX5_joins_149 rfl (lv_at hl 1 rfl) ?_
  refine gm_callV (rest := []) C hI hS hl (kM_puts C.tr hI hw) q1579 q1581 qs34 q88 q1582 ny_puts rfl (Nat.le_of_ble_eq_true rfl) (Nat.le_of_ble_eq_true rfl) rfl (Nat.le_of_ble_eq_true rfl) dX5_joins_150 (gm_kv (fun u30 H locs hw hS => ?_))
  refine lv_aload_n C.x C.b dX5_joins_153 rfl (lv_at hl 0 rfl) ?_
  refine lv_aload_n C.x C.b dX5_joins_154 rfl (lv_at hl 0 rfl) ?_
  refine gm_getI C hI hS 7 3 (by decide) rfl q1488 (fun _ h9 => h9) dX5_joins_155 hw (fun v31 hw => ?_)
  refine lv_iconst (v := 4) C.x C.b dX5_joins_158 (by decide) ?_
  refine lv_iconst (v := 1) C.x C.b dX5_joins_159 (by decide) ?_
  refine gm_callV (rest := []) C hI hS hl (kM_puts C.tr hI hw) q1579 q1581 qs34 q88 q1582 ny_puts rfl (Nat.le_of_ble_eq_true rfl) (Nat.le_of_ble_eq_true rfl) rfl (Nat.le_of_ble_eq_true rfl) dX5_joins_160 (gm_kv (fun u32 H locs hw hS => ?_))
  refine lv_aload_n C.x C.b dX5_joins_163 rfl (lv_at hl 0 rfl) ?_
  refine lv_aload_n C.x C.b dX5_joins_164 rfl (lv_at hl 0 rfl) ?_
  refine gm_getI C hI hS 7 3 (by decide) rfl q1488 (fun _ h9 => h9) dX5_joins_165 hw (fun v33 hw => ?_)
  refine lv_iconst (v := 5) C.x C.b dX5_joins_168 (by decide) ?_
  refine lv_iconst (v := (-1)) C.x C.b dX5_joins_169 (by decide) ?_
  refine gm_callV (rest := []) C hI hS hl (kM_puts C.tr hI hw) q1579 q1581 qs34 q88 q1582 ny_puts rfl (Nat.le_of_ble_eq_true rfl) (Nat.le_of_ble_eq_true rfl) rfl (Nat.le_of_ble_eq_true rfl) dX5_joins_170 (gm_kv (fun u34 H locs hw hS => ?_))
  refine lv_aload_n C.x C.b dX5_joins_173 rfl (lv_at hl 0 rfl) ?_
  refine lv_aload_n C.x C.b dX5_joins_174 rfl (lv_at hl 0 rfl) ?_
  refine gm_getI C hI hS 7 3 (by decide) rfl q1488 (fun _ h9 => h9) dX5_joins_175 hw (fun v35 hw => ?_)
  refine lv_bipush (v := 8) C.x C.b dX5_joins_178 (by decide) ?_
  refine lv_iconst (v := 2) C.x C.b dX5_joins_180 (by decide) ?_
  refine gm_callV (rest := []) C hI hS hl (kM_puts C.tr hI hw) q1579 q1581 qs34 q88 q1582 ny_puts rfl (Nat.le_of_ble_eq_true rfl) (Nat.le_of_ble_eq_true rfl) rfl (Nat.le_of_ble_eq_true rfl) dX5_joins_181 (gm_kv (fun u36 H locs hw hS => ?_))
  refine lv_aload_n C.x C.b dX5_joins_184 rfl (lv_at hl 0 rfl) ?_
  refine lv_aload_n C.x C.b dX5_joins_185 rfl (lv_at hl 0 rfl) ?_
  refine gm_getI C hI hS 7 3 (by decide) rfl q1488 (fun _ h9 => h9) dX5_joins_186 hw (fun v37 hw => ?_)
  refine lv_bipush (v := 11) C.x C.b dX5_joins_189 (by decide) ?_
  refine lv_iconst (v := 2) C.x C.b dX5_joins_191 (by decide) ?_
  refine gm_callV (rest := []) C hI hS hl (kM_puts C.tr hI hw) q1579 q1581 qs34 q88 q1582 ny_puts rfl (Nat.le_of_ble_eq_true rfl) (Nat.le_of_ble_eq_true rfl) rfl (Nat.le_of_ble_eq_true rfl) dX5_joins_192 (gm_kv (fun u38 H locs hw hS => ?_))
  refine lv_iconst (v := 0) C.x C.b dX5_joins_195 (by decide) ?_
  exact gm_iret C hS hw dX5_joins_196
def wM_joins_111 (Q : Int32 → gM → Prop) (x1 : Int32) (x2 : Int32) (x3 : Int32) (y0 : Int32) (y1 : Int32) (y2 : Int32) (u : gM) : Prop :=
  wM_puts y2 y1 y0 (fun u23 => uGt 3 (fun v24 => (x2 ≤ x1 → (wM_joins_130 Q x3 x1 1 v24 u23)) ∧ (¬ x2 ≤ x1 → (wM_joins_130 Q x3 x2 1 v24 u23))) u23) u
theorem kM_joins_111 (C : gC p l s m args meth c cX5_joins 5 (some .int) RX5 E [] "joins") (hI : mI ad) {Q : Int32 → gM → Prop} (x1 : Int32) (x2 : Int32) (x3 : Int32) (y0 : Int32) (y1 : Int32) (y2 : Int32) (u : gM) (H : Heap) (locs : List Loc) (ls : Array Slot) (hS : gS E w0 (gmW E ad u w) H locs) (hl : lv_has ls 5 [(0, .ref (ad 8)), (1, .int x1), (2, .int x2), (3, .int x3)]) (hw : wM_joins_111 Q x1 x2 x3 y0 y1 y2 u) : mGo p l e s m args below meth c 2 43 E ad w0 w (uI Q) H locs (F0 m 111 ls [.int y0, .int y1, .int y2, .ref (ad 8)]) := by
  unfold wM_joins_111 at hw
  refine gm_callV (rest := []) C hI hS hl (kM_puts C.tr hI hw) q1579 q1581 qs34 q88 q1582 ny_puts rfl (Nat.le_of_ble_eq_true rfl) (Nat.le_of_ble_eq_true rfl) rfl (Nat.le_of_ble_eq_true rfl) dX5_joins_111 (gm_kv (fun u23 H locs hw hS => ?_))
  refine lv_aload_n C.x C.b dX5_joins_114 rfl (lv_at hl 0 rfl) ?_
  refine lv_aload_n C.x C.b dX5_joins_115 rfl (lv_at hl 0 rfl) ?_
  refine gm_getI C hI hS 7 3 (by decide) rfl q1488 (fun _ h9 => h9) dX5_joins_116 hw (fun v24 hw => ?_)
  refine lv_iconst (v := 1) C.x C.b dX5_joins_119 (by decide) ?_
  refine lv_iload_n C.x C.b dX5_joins_120 rfl (lv_at hl 1 rfl) ?_
  refine lv_iload_n C.x C.b dX5_joins_121 rfl (lv_at hl 2 rfl) ?_
  refine lv_icmp_ge (tgt := 129) C.x C.b dX5_joins_122 (by decide) (fun c25 => ?_) (fun c25 => ?_)
  · have hw := hw.1 c25
    refine lv_iload_n C.x C.b dX5_joins_129 rfl (lv_at hl 1 rfl) ?_
    exact kM_joins_130 C hI _ _ _ _ _ _ _ _ hS (lv_sub hl [0, 3] rfl) hw
  · have hw := hw.2 c25
    refine lv_iload_n C.x C.b dX5_joins_125 rfl (lv_at hl 2 rfl) ?_
    refine lv_goto (tgt := 130) C.x C.b dX5_joins_126 (by decide) ?_
    exact kM_joins_130 C hI _ _ _ _ _ _ _ _ hS (lv_sub hl [0, 3] rfl) hw
def wM_joins_71 (Q : Int32 → gM → Prop) : Nat → Int32 → Int32 → Int32 → Int32 → gM → Prop
  | 0, _, _, _, _, _ => False
  | n + 1, x1, x2, x3, x4, u => (18 ≤ x4 → (uGt 3 (fun v19 => (x2 ≤ x1 → (wM_joins_111 Q x1 x2 x3 x2 0 v19 u)) ∧ (¬ x2 ≤ x1 → (wM_joins_111 Q x1 x2 x3 x1 0 v19 u))) u)) ∧ (¬ 18 ≤ x4 → (uGt 3 (fun v21 => wM_puts v21 x4 0 (fun u22 => wM_joins_71 Q n x1 x2 x3 (x4 + 1) u22) u) u))
theorem kM_joins_71 (C : gC p l s m args meth c cX5_joins 5 (some .int) RX5 E [] "joins") (hI : mI ad) {Q : Int32 → gM → Prop} : ∀ (n : Nat) (x1 : Int32) (x2 : Int32) (x3 : Int32) (x4 : Int32) (u : gM) (H : Heap) (locs : List Loc) (ls : Array Slot), gS E w0 (gmW E ad u w) H locs → lv_has ls 5 [(0, .ref (ad 8)), (1, .int x1), (2, .int x2), (3, .int x3), (4, .int x4)] → wM_joins_71 Q n x1 x2 x3 x4 u → mGo p l e s m args below meth c 2 43 E ad w0 w (uI Q) H locs (F0 m 71 ls []) := by
  intro n
  induction n with
  | zero =>
    intro x1 x2 x3 x4 u H locs ls hS hl hw
    exact hw.elim
  | succ n ih =>
    intro x1 x2 x3 x4 u H locs ls hS hl hw
    unfold wM_joins_71 at hw
    refine lv_iload C.x C.b dX5_joins_71 (lv_at hl 4 rfl) ?_
    refine lv_bipush (v := 18) C.x C.b dX5_joins_73 (by decide) ?_
    refine lv_icmp_ge (tgt := 95) C.x C.b dX5_joins_75 (by decide) (fun c18 => ?_) (fun c18 => ?_)
    · have hw := hw.1 c18
      refine lv_aload_n C.x C.b dX5_joins_95 rfl (lv_at hl 0 rfl) ?_
      refine lv_aload_n C.x C.b dX5_joins_96 rfl (lv_at hl 0 rfl) ?_
      refine gm_getI C hI hS 7 3 (by decide) rfl q1488 (fun _ h9 => h9) dX5_joins_97 hw (fun v19 hw => ?_)
      refine lv_iconst (v := 0) C.x C.b dX5_joins_100 (by decide) ?_
      refine lv_iload_n C.x C.b dX5_joins_101 rfl (lv_at hl 1 rfl) ?_
      refine lv_iload_n C.x C.b dX5_joins_102 rfl (lv_at hl 2 rfl) ?_
      refine lv_icmp_ge (tgt := 110) C.x C.b dX5_joins_103 (by decide) (fun c20 => ?_) (fun c20 => ?_)
      · have hw := hw.1 c20
        refine lv_iload_n C.x C.b dX5_joins_110 rfl (lv_at hl 2 rfl) ?_
        exact kM_joins_111 C hI _ _ _ _ _ _ _ _ _ _ hS (lv_sub hl [0, 1, 2, 3] rfl) hw
      · have hw := hw.2 c20
        refine lv_iload_n C.x C.b dX5_joins_106 rfl (lv_at hl 1 rfl) ?_
        refine lv_goto (tgt := 111) C.x C.b dX5_joins_107 (by decide) ?_
        exact kM_joins_111 C hI _ _ _ _ _ _ _ _ _ _ hS (lv_sub hl [0, 1, 2, 3] rfl) hw
    · have hw := hw.2 c18
      refine lv_aload_n C.x C.b dX5_joins_78 rfl (lv_at hl 0 rfl) ?_
      refine lv_aload_n C.x C.b dX5_joins_79 rfl (lv_at hl 0 rfl) ?_
      refine gm_getI C hI hS 7 3 (by decide) rfl q1488 (fun _ h9 => h9) dX5_joins_80 hw (fun v21 hw => ?_)
      refine lv_iload C.x C.b dX5_joins_83 (lv_at hl 4 rfl) ?_
      refine lv_iconst (v := 0) C.x C.b dX5_joins_85 (by decide) ?_
      refine gm_callV (rest := []) C hI hS hl (kM_puts C.tr hI hw) q1579 q1581 qs34 q88 q1582 ny_puts rfl (Nat.le_of_ble_eq_true rfl) (Nat.le_of_ble_eq_true rfl) rfl (Nat.le_of_ble_eq_true rfl) dX5_joins_86 (gm_kv (fun u22 H locs hw hS => ?_))
      refine lv_iinc (v := (x4 + 1)) (lv' := [(4, .int (x4 + 1)), (0, .ref (ad 8)), (1, .int x1), (2, .int x2), (3, .int x3)]) C.x C.b dX5_joins_89 hl (k := 4) rfl rfl (by decide) rfl (fun ls hl => ?_)
      refine lv_goto (tgt := 71) C.x C.b dX5_joins_92 (by decide) ?_
      exact ih _ _ _ _ _ _ _ _ hS (lv_sub hl [1, 2, 3, 4, 0] rfl) hw
def wM_joins (a1 : Int32) (a2 : Int32) (a3 : Int32) (Q : Int32 → gM → Prop) (u : gM) : Prop :=
  wM_isBridge a1 (fun r2 u1 => (r2 = 0 → (Q 1 u1)) ∧ (¬ r2 = 0 → (wM_isBridge a2 (fun r5 u4 => (r5 = 0 → (Q 1 u4)) ∧ (¬ r5 = 0 → ((a1 = a2 → (Q 2 u4)) ∧ (¬ a1 = a2 → (wM_in a3 1 100 (fun r9 u8 => (r9 = 0 → (Q 2 u8)) ∧ (¬ r9 = 0 → (uLd 0 487 5 (fun v11 => (v11 = 16 → (Q 3 u8)) ∧ (¬ v11 = 16 → (uLd 0 487 5 (fun v13 => uPt 3 v13 (fun u14 => uLd 0 487 5 (fun v15 => uSt 0 487 5 (v15 + 1) (fun u16 => ∃ k17 : Nat, wM_joins_71 Q k17 a1 a2 a3 0 u16) u14) u14) u8) u8))) u8))) u4))))) u1))) u
theorem kM_joins_r (C : gC p l s m args meth c cX5_joins 5 (some .int) RX5 E [] "joins") (hI : mI ad) (a1 : Int32) (a2 : Int32) (a3 : Int32) {Q : Int32 → gM → Prop} (u : gM) (H : Heap) (locs : List Loc) (ls : Array Slot) (hS : gS E w0 (gmW E ad u w) H locs) (hl : lv_has ls 5 [(0, .ref (ad 8)), (1, .int a1), (2, .int a2), (3, .int a3)]) (hw : wM_joins a1 a2 a3 Q u) : mGo p l e s m args below meth c 2 43 E ad w0 w (uI Q) H locs (F0 m 0 ls []) := by
  unfold wM_joins at hw
  refine lv_aload_n C.x C.b dX5_joins_0 rfl (lv_at hl 0 rfl) ?_
  refine lv_iload_n C.x C.b dX5_joins_1 rfl (lv_at hl 1 rfl) ?_
  refine gm_callV (rest := []) C hI hS hl (kM_isBridge C.tr hI hw) q1563 q1565 qs31 q88 q1566 ny_isBridge rfl (Nat.le_of_ble_eq_true rfl) (Nat.le_of_ble_eq_true rfl) rfl (Nat.le_of_ble_eq_true rfl) dX5_joins_2 (gm_ki (fun r2 u1 H locs hw hS => ?_))
  refine lv_if_eq (tgt := 16) C.x C.b dX5_joins_5 (by decide) (fun c3 => ?_) (fun c3 => ?_)
  · have hw := hw.1 c3
    refine lv_iconst (v := 1) C.x C.b dX5_joins_16 (by decide) ?_
    exact gm_iret C hS hw dX5_joins_17
  · have hw := hw.2 c3
    refine lv_aload_n C.x C.b dX5_joins_8 rfl (lv_at hl 0 rfl) ?_
    refine lv_iload_n C.x C.b dX5_joins_9 rfl (lv_at hl 2 rfl) ?_
    refine gm_callV (rest := []) C hI hS hl (kM_isBridge C.tr hI hw) q1563 q1565 qs31 q88 q1566 ny_isBridge rfl (Nat.le_of_ble_eq_true rfl) (Nat.le_of_ble_eq_true rfl) rfl (Nat.le_of_ble_eq_true rfl) dX5_joins_10 (gm_ki (fun r5 u4 H locs hw hS => ?_))
    refine lv_if_ne (tgt := 18) C.x C.b dX5_joins_13 (by decide) (fun c6 => ?_) (fun c6 => ?_)
    · have hw := hw.2 c6
      refine lv_iload_n C.x C.b dX5_joins_18 rfl (lv_at hl 1 rfl) ?_
      refine lv_iload_n C.x C.b dX5_joins_19 rfl (lv_at hl 2 rfl) ?_
      refine lv_icmp_eq (tgt := 33) C.x C.b dX5_joins_20 (by decide) (fun c7 => ?_) (fun c7 => ?_)
      · have hw := hw.1 c7
        refine lv_iconst (v := 2) C.x C.b dX5_joins_33 (by decide) ?_
        exact gm_iret C hS hw dX5_joins_34
      · have hw := hw.2 c7
        refine lv_iload_n C.x C.b dX5_joins_23 rfl (lv_at hl 3 rfl) ?_
        refine lv_iconst (v := 1) C.x C.b dX5_joins_24 (by decide) ?_
        refine lv_bipush (v := 100) C.x C.b dX5_joins_25 (by decide) ?_
        refine gm_callS (rest := []) C hS hl (kM_in C.tr hI hw) q1466 q1467 q88 q1468 ny_in rfl (Nat.le_of_ble_eq_true rfl) (Nat.le_of_ble_eq_true rfl) rfl (Nat.le_of_ble_eq_true rfl) dX5_joins_27 (gm_ki (fun r9 u8 H locs hw hS => ?_))
        refine lv_if_ne (tgt := 35) C.x C.b dX5_joins_30 (by decide) (fun c10 => ?_) (fun c10 => ?_)
        · have hw := hw.2 c10
          refine lv_aload_n C.x C.b dX5_joins_35 rfl (lv_at hl 0 rfl) ?_
          refine gm_getA C hI hS 0 (by decide) (a := ad 0) rfl q1481 (fun _ h9 => h9) dX5_joins_36 ?_
          refine lv_iconst (v := 5) C.x C.b dX5_joins_39 (by decide) ?_
          refine gm_ld C hI hS 0 487 (by decide) rfl dX5_joins_40 hw (fun v11 hw => ?_)
          refine lv_bipush (v := 16) C.x C.b dX5_joins_41 (by decide) ?_
          refine lv_icmp_ne (tgt := 48) C.x C.b dX5_joins_43 (by decide) (fun c12 => ?_) (fun c12 => ?_)
          · have hw := hw.2 c12
            refine lv_aload_n C.x C.b dX5_joins_48 rfl (lv_at hl 0 rfl) ?_
            refine lv_aload_n C.x C.b dX5_joins_49 rfl (lv_at hl 0 rfl) ?_
            refine gm_getA C hI hS 0 (by decide) (a := ad 0) rfl q1481 (fun _ h9 => h9) dX5_joins_50 ?_
            refine lv_iconst (v := 5) C.x C.b dX5_joins_53 (by decide) ?_
            refine gm_ld C hI hS 0 487 (by decide) rfl dX5_joins_54 hw (fun v13 hw => ?_)
            refine gm_putI C hI hS 7 3 (by decide) rfl q1488 (fun _ h9 => h9) rfl rfl rfl dX5_joins_55 hw (fun u14 H locs hw hS => ?_)
            refine lv_aload_n C.x C.b dX5_joins_58 rfl (lv_at hl 0 rfl) ?_
            refine gm_getA C hI hS 0 (by decide) (a := ad 0) rfl q1481 (fun _ h9 => h9) dX5_joins_59 ?_
            refine lv_iconst (v := 5) C.x C.b dX5_joins_62 (by decide) ?_
            refine lv_dup2_11 C.x C.b dX5_joins_63 rfl rfl ?_
            refine gm_ld C hI hS 0 487 (by decide) rfl dX5_joins_64 hw (fun v15 hw => ?_)
            refine lv_iconst (v := 1) C.x C.b dX5_joins_65 (by decide) ?_
            refine lv_iadd C.x C.b dX5_joins_66 ?_
            refine gm_st C hI hS 0 487 (by decide) rfl dX5_joins_67 hw (fun u16 H locs hw hS => ?_)
            refine lv_iconst (v := 0) C.x C.b dX5_joins_68 (by decide) ?_
            refine lv_istore (lv' := [(4, .int 0), (0, .ref (ad 8)), (1, .int a1), (2, .int a2), (3, .int a3)]) C.x C.b dX5_joins_69 hl (by decide) rfl (fun ls hl => ?_)
            obtain ⟨k17, hw⟩ := hw
            exact kM_joins_71 C hI k17 _ _ _ _ _ _ _ _ hS (lv_sub hl [1, 2, 3, 4, 0] rfl) hw
          · have hw := hw.1 c12
            refine lv_iconst (v := 3) C.x C.b dX5_joins_46 (by decide) ?_
            exact gm_iret C hS hw dX5_joins_47
        · have hw := hw.1 c10
          refine lv_iconst (v := 2) C.x C.b dX5_joins_33 (by decide) ?_
          exact gm_iret C hS hw dX5_joins_34
    · have hw := hw.1 c6
      refine lv_iconst (v := 1) C.x C.b dX5_joins_16 (by decide) ?_
      exact gm_iret C hS hw dX5_joins_17
theorem kM_joins {l : Launch} (ht : l.stackTraces = false) (hI : mI ad) {w : gW} {u : gM} {a1 : Int32} {a2 : Int32} {a3 : Int32} {Q : Int32 → gM → Prop} (hw : wM_joins a1 a2 a3 Q u) : gMet l yX5_joins (ws_ yX5_joins cX5_joins 5 (some .int)) E (gmW E ad u w) [.ref (ad 8), .int a1, .int a2, .int a3] 2 43 (mQ E ad w (uI Q)) gNoX :=
  g_ofW ht (by decide) (Nat.le_of_ble_eq_true rfl) (fun p e s m below meth c ls H C hl hS => kM_joins_r C hI _ _ _ _ _ _ _ hS hl hw)
def wM_addLink (a1 : Int32) (a2 : Int32) (a3 : Int32) (Q : Int32 → gM → Prop) (u : gM) : Prop :=
  wM_hold (fun u1 => wM_joins a1 a2 a3 (fun r3 u2 => wM_done r3 (fun r5 u4 => Q r5 u4) u2) u1) u
theorem kM_addLink_r (C : gC p l s m args meth c cX5_addLink 4 (some .int) RX5 E [] "addLink") (hI : mI ad) (a1 : Int32) (a2 : Int32) (a3 : Int32) {Q : Int32 → gM → Prop} (u : gM) (H : Heap) (locs : List Loc) (ls : Array Slot) (hS : gS E w0 (gmW E ad u w) H locs) (hl : lv_has ls 4 [(0, .ref (ad 8)), (1, .int a1), (2, .int a2), (3, .int a3)]) (hw : wM_addLink a1 a2 a3 Q u) : mGo p l e s m args below meth c 3 67 E ad w0 w (uI Q) H locs (F0 m 0 ls []) := by
  unfold wM_addLink at hw
  refine lv_aload_n C.x C.b dX5_addLink_0 rfl (lv_at hl 0 rfl) ?_
  refine gm_callV (rest := []) C hI hS hl (kM_hold C.tr hI hw) q1539 q1541 qs27 q88 q1542 ny_hold rfl (Nat.le_of_ble_eq_true rfl) (Nat.le_of_ble_eq_true rfl) rfl (Nat.le_of_ble_eq_true rfl) dX5_addLink_1 (gm_kv (fun u1 H locs hw hS => ?_))
  refine lv_aload_n C.x C.b dX5_addLink_4 rfl (lv_at hl 0 rfl) ?_
  refine lv_aload_n C.x C.b dX5_addLink_5 rfl (lv_at hl 0 rfl) ?_
  refine lv_iload_n C.x C.b dX5_addLink_6 rfl (lv_at hl 1 rfl) ?_
  refine lv_iload_n C.x C.b dX5_addLink_7 rfl (lv_at hl 2 rfl) ?_
  refine lv_iload_n C.x C.b dX5_addLink_8 rfl (lv_at hl 3 rfl) ?_
  refine gm_callV (rest := [.ref (ad 8)]) C hI hS hl (kM_joins C.tr hI hw) q1575 q1577 qs33 q88 q1578 ny_joins rfl (Nat.le_of_ble_eq_true rfl) (Nat.le_of_ble_eq_true rfl) rfl (Nat.le_of_ble_eq_true rfl) dX5_addLink_9 (gm_ki (fun r3 u2 H locs hw hS => ?_))
  refine gm_callV (rest := []) C hI hS hl (kM_done C.tr hI hw) q1567 q1569 qs32 q88 q1570 ny_done rfl (Nat.le_of_ble_eq_true rfl) (Nat.le_of_ble_eq_true rfl) rfl (Nat.le_of_ble_eq_true rfl) dX5_addLink_12 (gm_ki (fun r5 u4 H locs hw hS => ?_))
  exact gm_iret C hS hw dX5_addLink_15
theorem kM_addLink {l : Launch} (ht : l.stackTraces = false) (hI : mI ad) {w : gW} {u : gM} {a1 : Int32} {a2 : Int32} {a3 : Int32} {Q : Int32 → gM → Prop} (hw : wM_addLink a1 a2 a3 Q u) : gMet l yX5_addLink (ws_ yX5_addLink cX5_addLink 4 (some .int)) E (gmW E ad u w) [.ref (ad 8), .int a1, .int a2, .int a3] 3 67 (mQ E ad w (uI Q)) gNoX :=
  g_ofW ht (by decide) (Nat.le_of_ble_eq_true rfl) (fun p e s m below meth c ls H C hl hS => kM_addLink_r C hI _ _ _ _ _ _ _ hS hl hw)
def wM_isLink (a1 : Int32) (Q : Int32 → gM → Prop) (u : gM) : Prop :=
  uLd 0 487 5 (fun v1 => wM_in a1 0 (v1 - 1) (fun r3 u2 => narrow .boolean (.int r3) = .int r3 ∧ Q r3 u2) u) u
theorem kM_isLink_r (C : gC p l s m args meth c cX5_isLink 2 (some .boolean) RX5 E [] "isLink") (hI : mI ad) (a1 : Int32) {Q : Int32 → gM → Prop} (u : gM) (H : Heap) (locs : List Loc) (ls : Array Slot) (hS : gS E w0 (gmW E ad u w) H locs) (hl : lv_has ls 2 [(0, .ref (ad 8)), (1, .int a1)]) (hw : wM_isLink a1 Q u) : mGo p l e s m args below meth c 1 22 E ad w0 w (uI Q) H locs (F0 m 0 ls []) := by
  unfold wM_isLink at hw
  refine lv_iload_n C.x C.b dX5_isLink_0 rfl (lv_at hl 1 rfl) ?_
  refine lv_iconst (v := 0) C.x C.b dX5_isLink_1 (by decide) ?_
  refine lv_aload_n C.x C.b dX5_isLink_2 rfl (lv_at hl 0 rfl) ?_
  refine gm_getA C hI hS 0 (by decide) (a := ad 0) rfl q1481 (fun _ h9 => h9) dX5_isLink_3 ?_
  refine lv_iconst (v := 5) C.x C.b dX5_isLink_6 (by decide) ?_
  refine gm_ld C hI hS 0 487 (by decide) rfl dX5_isLink_7 hw (fun v1 hw => ?_)
  refine lv_iconst (v := 1) C.x C.b dX5_isLink_8 (by decide) ?_
  refine lv_isub C.x C.b dX5_isLink_9 ?_
  refine gm_callS (rest := []) C hS hl (kM_in C.tr hI hw) q1466 q1467 q88 q1468 ny_in rfl (Nat.le_of_ble_eq_true rfl) (Nat.le_of_ble_eq_true rfl) rfl (Nat.le_of_ble_eq_true rfl) dX5_isLink_10 (gm_ki (fun r3 u2 H locs hw hS => ?_))
  exact gm_zret C hS hw.1 hw.2 dX5_isLink_13
theorem kM_isLink {l : Launch} (ht : l.stackTraces = false) (hI : mI ad) {w : gW} {u : gM} {a1 : Int32} {Q : Int32 → gM → Prop} (hw : wM_isLink a1 Q u) : gMet l yX5_isLink (ws_ yX5_isLink cX5_isLink 2 (some .boolean)) E (gmW E ad u w) [.ref (ad 8), .int a1] 1 22 (mQ E ad w (uI Q)) gNoX :=
  g_ofW ht (by decide) (Nat.le_of_ble_eq_true rfl) (fun p e s m below meth c ls H C hl hS => kM_isLink_r C hI _ _ _ _ _ hS hl hw)
def wM_of (a1 : Int32) (a2 : Int32) (Q : Int32 → gM → Prop) (u : gM) : Prop :=
  uLd 0 487 ((199 + (18 * a1)) + a2) (fun v1 => Q v1 u) u
theorem kM_of_r (C : gC p l s m args meth c cX5_of 3 (some .int) RX5 E [] "of") (hI : mI ad) (a1 : Int32) (a2 : Int32) {Q : Int32 → gM → Prop} (u : gM) (H : Heap) (locs : List Loc) (ls : Array Slot) (hS : gS E w0 (gmW E ad u w) H locs) (hl : lv_has ls 3 [(0, .ref (ad 8)), (1, .int a1), (2, .int a2)]) (hw : wM_of a1 a2 Q u) : mGo p l e s m args below meth c 0 0 E ad w0 w (uI Q) H locs (F0 m 0 ls []) := by
  unfold wM_of at hw
  refine lv_aload_n C.x C.b dX5_of_0 rfl (lv_at hl 0 rfl) ?_
  refine gm_getA C hI hS 0 (by decide) (a := ad 0) rfl q1481 (fun _ h9 => h9) dX5_of_1 ?_
  refine lv_sipush (v := 199) C.x C.b dX5_of_4 (by decide) ?_
  refine lv_bipush (v := 18) C.x C.b dX5_of_7 (by decide) ?_
  refine lv_iload_n C.x C.b dX5_of_9 rfl (lv_at hl 1 rfl) ?_
  refine lv_imul C.x C.b dX5_of_10 ?_
  refine lv_iadd C.x C.b dX5_of_11 ?_
  refine lv_iload_n C.x C.b dX5_of_12 rfl (lv_at hl 2 rfl) ?_
  refine lv_iadd C.x C.b dX5_of_13 ?_
  refine gm_ld C hI hS 0 487 (by decide) rfl dX5_of_14 hw (fun v1 hw => ?_)
  exact gm_iret C hS hw dX5_of_15
theorem kM_of {l : Launch} (ht : l.stackTraces = false) (hI : mI ad) {w : gW} {u : gM} {a1 : Int32} {a2 : Int32} {Q : Int32 → gM → Prop} (hw : wM_of a1 a2 Q u) : gMet l yX5_of (ws_ yX5_of cX5_of 3 (some .int)) E (gmW E ad u w) [.ref (ad 8), .int a1, .int a2] 0 0 (mQ E ad w (uI Q)) gNoX :=
  g_ofW ht (by decide) (Nat.le_of_ble_eq_true rfl) (fun p e s m below meth c ls H C hl hS => kM_of_r C hI _ _ _ _ _ _ hS hl hw)
def wM_breaks_125 (Q : Int32 → gM → Prop) (x1 : Int32) (u : gM) : Prop :=
  wM_puts x1 5 (-1) (fun u26 => wM_puts x1 6 0 (fun u27 => Q 0 u27) u26) u
theorem kM_breaks_125 (C : gC p l s m args meth c cX5_breaks 4 (some .int) RX5 E [] "breaks") (hI : mI ad) {Q : Int32 → gM → Prop} (x1 : Int32) (u : gM) (H : Heap) (locs : List Loc) (ls : Array Slot) (hS : gS E w0 (gmW E ad u w) H locs) (hl : lv_has ls 4 [(0, .ref (ad 8)), (1, .int x1)]) (hw : wM_breaks_125 Q x1 u) : mGo p l e s m args below meth c 2 43 E ad w0 w (uI Q) H locs (F0 m 125 ls []) := by
  unfold wM_breaks_125 at hw
  refine lv_aload_n C.x C.b dX5_breaks_125 rfl (lv_at hl 0 rfl) ?_
  refine lv_iload_n C.x C.b dX5_breaks_126 rfl (lv_at hl 1 rfl) ?_
  refine lv_iconst (v := 5) C.x C.b dX5_breaks_127 (by decide) ?_
  refine lv_iconst (v := (-1)) C.x C.b dX5_breaks_128 (by decide) ?_
  refine gm_callV (rest := []) C hI hS hl (kM_puts C.tr hI hw) q1579 q1581 qs34 q88 q1582 ny_puts rfl (Nat.le_of_ble_eq_true rfl) (Nat.le_of_ble_eq_true rfl) rfl (Nat.le_of_ble_eq_true rfl) dX5_breaks_129 (gm_kv (fun u26 H locs hw hS => ?_))
  refine lv_aload_n C.x C.b dX5_breaks_132 rfl (lv_at hl 0 rfl) ?_
  refine lv_iload_n C.x C.b dX5_breaks_133 rfl (lv_at hl 1 rfl) ?_
  refine lv_bipush (v := 6) C.x C.b dX5_breaks_134 (by decide) ?_
  refine lv_iconst (v := 0) C.x C.b dX5_breaks_136 (by decide) ?_
  refine gm_callV (rest := []) C hI hS hl (kM_puts C.tr hI hw) q1579 q1581 qs34 q88 q1582 ny_puts rfl (Nat.le_of_ble_eq_true rfl) (Nat.le_of_ble_eq_true rfl) rfl (Nat.le_of_ble_eq_true rfl) dX5_breaks_137 (gm_kv (fun u27 H locs hw hS => ?_))
  refine lv_iconst (v := 0) C.x C.b dX5_breaks_140 (by decide) ?_
  exact gm_iret C hS hw dX5_breaks_141
def wM_breaks (a1 : Int32) (Q : Int32 → gM → Prop) (u : gM) : Prop :=
  wM_isLink a1 (fun r2 u1 => (r2 = 0 → (Q 1 u1)) ∧ (¬ r2 = 0 → (wM_of a1 4 (fun r5 u4 => (r5 = 0 → (Q 2 u4)) ∧ (¬ r5 = 0 → (wM_puts a1 4 0 (fun u7 => uPt 3 0 (fun u8 => wM_of a1 5 (fun r10 u9 => (r10 < 0 → (wM_breaks_125 Q a1 u9)) ∧ (¬ r10 < 0 → (uLd 0 487 3 (fun v12 => uLd 0 487 1 (fun v13 => uLd 0 487 3 (fun v14 => ¬ v14 = 0 ∧ (∀ z15 : Int32, z15 = (v12 - (v13 - v13 / v14 * v14)) → wM_of a1 6 (fun r17 u16 => uLd 0 487 3 (fun v18 => ¬ v18 = 0 ∧ (uPt 3 ((r17 * z15) / v18) (fun u19 => uLd 0 487 (187 + (3 * r10)) (fun v20 => uGt 3 (fun v21 => uSt 0 487 (187 + (3 * r10)) (v20 + v21) (fun u22 => uLd 0 487 ((187 + (3 * r10)) + 2) (fun v23 => uGt 3 (fun v24 => uSt 0 487 ((187 + (3 * r10)) + 2) (v23 + v24) (fun u25 => wM_breaks_125 Q a1 u25) u22) u22) u22) u19) u19) u19) u16)) u16) u9)) u9) u9) u9))) u8) u7) u4))) u1))) u
theorem kM_breaks_r (C : gC p l s m args meth c cX5_breaks 4 (some .int) RX5 E [] "breaks") (hI : mI ad) (a1 : Int32) {Q : Int32 → gM → Prop} (u : gM) (H : Heap) (locs : List Loc) (ls : Array Slot) (hS : gS E w0 (gmW E ad u w) H locs) (hl : lv_has ls 4 [(0, .ref (ad 8)), (1, .int a1)]) (hw : wM_breaks a1 Q u) : mGo p l e s m args below meth c 2 43 E ad w0 w (uI Q) H locs (F0 m 0 ls []) := by
  unfold wM_breaks at hw
  refine lv_aload_n C.x C.b dX5_breaks_0 rfl (lv_at hl 0 rfl) ?_
  refine lv_iload_n C.x C.b dX5_breaks_1 rfl (lv_at hl 1 rfl) ?_
  refine gm_callV (rest := []) C hI hS hl (kM_isLink C.tr hI hw) q1591 q1593 qs36 q88 q1594 ny_isLink rfl (Nat.le_of_ble_eq_true rfl) (Nat.le_of_ble_eq_true rfl) rfl (Nat.le_of_ble_eq_true rfl) dX5_breaks_2 (gm_ki (fun r2 u1 H locs hw hS => ?_))
  refine lv_if_ne (tgt := 10) C.x C.b dX5_breaks_5 (by decide) (fun c3 => ?_) (fun c3 => ?_)
  · have hw := hw.2 c3
    refine lv_aload_n C.x C.b dX5_breaks_10 rfl (lv_at hl 0 rfl) ?_
    refine lv_iload_n C.x C.b dX5_breaks_11 rfl (lv_at hl 1 rfl) ?_
    refine lv_iconst (v := 4) C.x C.b dX5_breaks_12 (by decide) ?_
    refine gm_callV (rest := []) C hI hS hl (kM_of C.tr hI hw) q1595 q1597 qs37 q88 q1598 ny_of rfl (Nat.le_of_ble_eq_true rfl) (Nat.le_of_ble_eq_true rfl) rfl (Nat.le_of_ble_eq_true rfl) dX5_breaks_13 (gm_ki (fun r5 u4 H locs hw hS => ?_))
    refine lv_if_ne (tgt := 21) C.x C.b dX5_breaks_16 (by decide) (fun c6 => ?_) (fun c6 => ?_)
    · have hw := hw.2 c6
      refine lv_aload_n C.x C.b dX5_breaks_21 rfl (lv_at hl 0 rfl) ?_
      refine lv_iload_n C.x C.b dX5_breaks_22 rfl (lv_at hl 1 rfl) ?_
      refine lv_iconst (v := 4) C.x C.b dX5_breaks_23 (by decide) ?_
      refine lv_iconst (v := 0) C.x C.b dX5_breaks_24 (by decide) ?_
      refine gm_callV (rest := []) C hI hS hl (kM_puts C.tr hI hw) q1579 q1581 qs34 q88 q1582 ny_puts rfl (Nat.le_of_ble_eq_true rfl) (Nat.le_of_ble_eq_true rfl) rfl (Nat.le_of_ble_eq_true rfl) dX5_breaks_25 (gm_kv (fun u7 H locs hw hS => ?_))
      refine lv_aload_n C.x C.b dX5_breaks_28 rfl (lv_at hl 0 rfl) ?_
      refine lv_iconst (v := 0) C.x C.b dX5_breaks_29 (by decide) ?_
      refine gm_putI C hI hS 7 3 (by decide) rfl q1488 (fun _ h9 => h9) rfl rfl rfl dX5_breaks_30 hw (fun u8 H locs hw hS => ?_)
      refine lv_aload_n C.x C.b dX5_breaks_33 rfl (lv_at hl 0 rfl) ?_
      refine lv_iload_n C.x C.b dX5_breaks_34 rfl (lv_at hl 1 rfl) ?_
      refine lv_iconst (v := 5) C.x C.b dX5_breaks_35 (by decide) ?_
      refine gm_callV (rest := []) C hI hS hl (kM_of C.tr hI hw) q1595 q1597 qs37 q88 q1598 ny_of rfl (Nat.le_of_ble_eq_true rfl) (Nat.le_of_ble_eq_true rfl) rfl (Nat.le_of_ble_eq_true rfl) dX5_breaks_36 (gm_ki (fun r10 u9 H locs hw hS => ?_))
      refine lv_istore_n (lv' := [(2, .int r10), (0, .ref (ad 8)), (1, .int a1)]) C.x C.b dX5_breaks_39 rfl hl (by decide) rfl (fun ls hl => ?_)
      refine lv_iload_n C.x C.b dX5_breaks_40 rfl (lv_at hl 0 rfl) ?_
      refine lv_if_lt (tgt := 125) C.x C.b dX5_breaks_41 (by decide) (fun c11 => ?_) (fun c11 => ?_)
      · have hw := hw.1 c11
        exact kM_breaks_125 C hI _ _ _ _ _ hS (lv_sub hl [1, 2] rfl) hw
      · have hw := hw.2 c11
        refine lv_aload_n C.x C.b dX5_breaks_44 rfl (lv_at hl 1 rfl) ?_
        refine gm_getA C hI hS 0 (by decide) (a := ad 0) rfl q1481 (fun _ h9 => h9) dX5_breaks_45 ?_
        refine lv_iconst (v := 3) C.x C.b dX5_breaks_48 (by decide) ?_
        refine gm_ld C hI hS 0 487 (by decide) rfl dX5_breaks_49 hw (fun v12 hw => ?_)
        refine lv_aload_n C.x C.b dX5_breaks_50 rfl (lv_at hl 1 rfl) ?_
        refine gm_getA C hI hS 0 (by decide) (a := ad 0) rfl q1481 (fun _ h9 => h9) dX5_breaks_51 ?_
        refine lv_iconst (v := 1) C.x C.b dX5_breaks_54 (by decide) ?_
        refine gm_ld C hI hS 0 487 (by decide) rfl dX5_breaks_55 hw (fun v13 hw => ?_)
        refine lv_aload_n C.x C.b dX5_breaks_56 rfl (lv_at hl 1 rfl) ?_
        refine gm_getA C hI hS 0 (by decide) (a := ad 0) rfl q1481 (fun _ h9 => h9) dX5_breaks_57 ?_
        refine lv_iconst (v := 3) C.x C.b dX5_breaks_60 (by decide) ?_
        refine gm_ld C hI hS 0 487 (by decide) rfl dX5_breaks_61 hw (fun v14 hw => ?_)
        obtain ⟨hne, hw⟩ := hw
        refine lv_irem C.x C.b dX5_breaks_62 hne ?_
        refine lv_isub C.x C.b dX5_breaks_63 ?_
        refine lv_topi (fun z15 ez15 => ?_)
        have hw := hw z15 ez15
        refine lv_istore_n (lv' := [(3, .int z15), (2, .int r10), (0, .ref (ad 8)), (1, .int a1)]) C.x C.b dX5_breaks_64 rfl hl (by decide) rfl (fun ls hl => ?_)
        refine lv_aload_n C.x C.b dX5_breaks_65 rfl (lv_at hl 2 rfl) ?_
        refine lv_aload_n C.x C.b dX5_breaks_66 rfl (lv_at hl 2 rfl) ?_
        refine lv_iload_n C.x C.b dX5_breaks_67 rfl (lv_at hl 3 rfl) ?_
        refine lv_bipush (v := 6) C.x C.b dX5_breaks_68 (by decide) ?_
        refine gm_callV (rest := [.ref (ad 8)]) C hI hS hl (kM_of C.tr hI hw) q1595 q1597 qs37 q88 q1598 ny_of rfl (Nat.le_of_ble_eq_true rfl) (Nat.le_of_ble_eq_true rfl) rfl (Nat.le_of_ble_eq_true rfl) dX5_breaks_70 (gm_ki (fun r17 u16 H locs hw hS => ?_))
        refine lv_iload_n C.x C.b dX5_breaks_73 rfl (lv_at hl 0 rfl) ?_
        refine lv_imul C.x C.b dX5_breaks_74 ?_
        refine lv_aload_n C.x C.b dX5_breaks_75 rfl (lv_at hl 2 rfl) ?_
        refine gm_getA C hI hS 0 (by decide) (a := ad 0) rfl q1481 (fun _ h9 => h9) dX5_breaks_76 ?_
        refine lv_iconst (v := 3) C.x C.b dX5_breaks_79 (by decide) ?_
        refine gm_ld C hI hS 0 487 (by decide) rfl dX5_breaks_80 hw (fun v18 hw => ?_)
        obtain ⟨hne, hw⟩ := hw
        refine lv_idiv C.x C.b dX5_breaks_81 hne ?_
        refine gm_putI C hI hS 7 3 (by decide) rfl q1488 (fun _ h9 => h9) rfl rfl rfl dX5_breaks_82 hw (fun u19 H locs hw hS => ?_)
        refine lv_aload_n C.x C.b dX5_breaks_85 rfl (lv_at hl 2 rfl) ?_
        refine gm_getA C hI hS 0 (by decide) (a := ad 0) rfl q1481 (fun _ h9 => h9) dX5_breaks_86 ?_
        refine lv_sipush (v := 187) C.x C.b dX5_breaks_89 (by decide) ?_
        refine lv_iconst (v := 3) C.x C.b dX5_breaks_92 (by decide) ?_
        refine lv_iload_n C.x C.b dX5_breaks_93 rfl (lv_at hl 1 rfl) ?_
        refine lv_imul C.x C.b dX5_breaks_94 ?_
        refine lv_iadd C.x C.b dX5_breaks_95 ?_
        refine lv_dup2_11 C.x C.b dX5_breaks_96 rfl rfl ?_
        refine gm_ld C hI hS 0 487 (by decide) rfl dX5_breaks_97 hw (fun v20 hw => ?_)
        refine lv_aload_n C.x C.b dX5_breaks_98 rfl (lv_at hl 2 rfl) ?_
        refine gm_getI C hI hS 7 3 (by decide) rfl q1488 (fun _ h9 => h9) dX5_breaks_99 hw (fun v21 hw => ?_)
        refine lv_iadd C.x C.b dX5_breaks_102 ?_
        refine gm_st C hI hS 0 487 (by decide) rfl dX5_breaks_103 hw (fun u22 H locs hw hS => ?_)
        refine lv_aload_n C.x C.b dX5_breaks_104 rfl (lv_at hl 2 rfl) ?_
        refine gm_getA C hI hS 0 (by decide) (a := ad 0) rfl q1481 (fun _ h9 => h9) dX5_breaks_105 ?_
        refine lv_sipush (v := 187) C.x C.b dX5_breaks_108 (by decide) ?_
        refine lv_iconst (v := 3) C.x C.b dX5_breaks_111 (by decide) ?_
        refine lv_iload_n C.x C.b dX5_breaks_112 rfl (lv_at hl 1 rfl) ?_
        refine lv_imul C.x C.b dX5_breaks_113 ?_
        refine lv_iadd C.x C.b dX5_breaks_114 ?_
        refine lv_iconst (v := 2) C.x C.b dX5_breaks_115 (by decide) ?_
        refine lv_iadd C.x C.b dX5_breaks_116 ?_
        refine lv_dup2_11 C.x C.b dX5_breaks_117 rfl rfl ?_
        refine gm_ld C hI hS 0 487 (by decide) rfl dX5_breaks_118 hw (fun v23 hw => ?_)
        refine lv_aload_n C.x C.b dX5_breaks_119 rfl (lv_at hl 2 rfl) ?_
        refine gm_getI C hI hS 7 3 (by decide) rfl q1488 (fun _ h9 => h9) dX5_breaks_120 hw (fun v24 hw => ?_)
        refine lv_iadd C.x C.b dX5_breaks_123 ?_
        refine gm_st C hI hS 0 487 (by decide) rfl dX5_breaks_124 hw (fun u25 H locs hw hS => ?_)
        exact kM_breaks_125 C hI _ _ _ _ _ hS (lv_sub hl [2, 3] rfl) hw
    · have hw := hw.1 c6
      refine lv_iconst (v := 2) C.x C.b dX5_breaks_19 (by decide) ?_
      exact gm_iret C hS hw dX5_breaks_20
  · have hw := hw.1 c3
    refine lv_iconst (v := 1) C.x C.b dX5_breaks_8 (by decide) ?_
    exact gm_iret C hS hw dX5_breaks_9
theorem kM_breaks {l : Launch} (ht : l.stackTraces = false) (hI : mI ad) {w : gW} {u : gM} {a1 : Int32} {Q : Int32 → gM → Prop} (hw : wM_breaks a1 Q u) : gMet l yX5_breaks (ws_ yX5_breaks cX5_breaks 4 (some .int)) E (gmW E ad u w) [.ref (ad 8), .int a1] 2 43 (mQ E ad w (uI Q)) gNoX :=
  g_ofW ht (by decide) (Nat.le_of_ble_eq_true rfl) (fun p e s m below meth c ls H C hl hS => kM_breaks_r C hI _ _ _ _ _ hS hl hw)
def wM_fail (a1 : Int32) (Q : Int32 → gM → Prop) (u : gM) : Prop :=
  wM_hold (fun u1 => wM_breaks a1 (fun r3 u2 => wM_done r3 (fun r5 u4 => Q r5 u4) u2) u1) u
theorem kM_fail_r (C : gC p l s m args meth c cX5_fail 2 (some .int) RX5 E [] "fail") (hI : mI ad) (a1 : Int32) {Q : Int32 → gM → Prop} (u : gM) (H : Heap) (locs : List Loc) (ls : Array Slot) (hS : gS E w0 (gmW E ad u w) H locs) (hl : lv_has ls 2 [(0, .ref (ad 8)), (1, .int a1)]) (hw : wM_fail a1 Q u) : mGo p l e s m args below meth c 3 66 E ad w0 w (uI Q) H locs (F0 m 0 ls []) := by
  unfold wM_fail at hw
  refine lv_aload_n C.x C.b dX5_fail_0 rfl (lv_at hl 0 rfl) ?_
  refine gm_callV (rest := []) C hI hS hl (kM_hold C.tr hI hw) q1539 q1541 qs27 q88 q1542 ny_hold rfl (Nat.le_of_ble_eq_true rfl) (Nat.le_of_ble_eq_true rfl) rfl (Nat.le_of_ble_eq_true rfl) dX5_fail_1 (gm_kv (fun u1 H locs hw hS => ?_))
  refine lv_aload_n C.x C.b dX5_fail_4 rfl (lv_at hl 0 rfl) ?_
  refine lv_aload_n C.x C.b dX5_fail_5 rfl (lv_at hl 0 rfl) ?_
  refine lv_iload_n C.x C.b dX5_fail_6 rfl (lv_at hl 1 rfl) ?_
  refine gm_callV (rest := [.ref (ad 8)]) C hI hS hl (kM_breaks C.tr hI hw) q1587 q1589 qs35 q88 q1590 ny_breaks rfl (Nat.le_of_ble_eq_true rfl) (Nat.le_of_ble_eq_true rfl) rfl (Nat.le_of_ble_eq_true rfl) dX5_fail_7 (gm_ki (fun r3 u2 H locs hw hS => ?_))
  refine gm_callV (rest := []) C hI hS hl (kM_done C.tr hI hw) q1567 q1569 qs32 q88 q1570 ny_done rfl (Nat.le_of_ble_eq_true rfl) (Nat.le_of_ble_eq_true rfl) rfl (Nat.le_of_ble_eq_true rfl) dX5_fail_10 (gm_ki (fun r5 u4 H locs hw hS => ?_))
  exact gm_iret C hS hw dX5_fail_13
theorem kM_fail {l : Launch} (ht : l.stackTraces = false) (hI : mI ad) {w : gW} {u : gM} {a1 : Int32} {Q : Int32 → gM → Prop} (hw : wM_fail a1 Q u) : gMet l yX5_fail (ws_ yX5_fail cX5_fail 2 (some .int)) E (gmW E ad u w) [.ref (ad 8), .int a1] 3 66 (mQ E ad w (uI Q)) gNoX :=
  g_ofW ht (by decide) (Nat.le_of_ble_eq_true rfl) (fun p e s m below meth c ls H C hl hS => kM_fail_r C hI _ _ _ _ _ hS hl hw)
def wM_mends_36 (Q : Int32 → gM → Prop) : Nat → Int32 → gM → Prop
  | 0, _, _ => False
  | n + 1, x2, u => uLd 0 487 5 (fun v10 => (v10 ≤ x2 → (Q 0 u)) ∧ (¬ v10 ≤ x2 → (uGt 3 (fun v12 => wM_of x2 4 (fun r14 u13 => uPt 3 (v12 + r14) (fun u15 => wM_mends_36 Q n (x2 + 1) u15) u13) u) u))) u
theorem kM_mends_36 (C : gC p l s m args meth c cX5_mends 3 (some .int) RX5 E [] "mends") (hI : mI ad) {Q : Int32 → gM → Prop} : ∀ (n : Nat) (x2 : Int32) (u : gM) (H : Heap) (locs : List Loc) (ls : Array Slot), gS E w0 (gmW E ad u w) H locs → lv_has ls 3 [(0, .ref (ad 8)), (2, .int x2)] → wM_mends_36 Q n x2 u → mGo p l e s m args below meth c 2 43 E ad w0 w (uI Q) H locs (F0 m 36 ls []) := by
  intro n
  induction n with
  | zero =>
    intro x2 u H locs ls hS hl hw
    exact hw.elim
  | succ n ih =>
    intro x2 u H locs ls hS hl hw
    unfold wM_mends_36 at hw
    refine lv_iload_n C.x C.b dX5_mends_36 rfl (lv_at hl 1 rfl) ?_
    refine lv_aload_n C.x C.b dX5_mends_37 rfl (lv_at hl 0 rfl) ?_
    refine gm_getA C hI hS 0 (by decide) (a := ad 0) rfl q1481 (fun _ h9 => h9) dX5_mends_38 ?_
    refine lv_iconst (v := 5) C.x C.b dX5_mends_41 (by decide) ?_
    refine gm_ld C hI hS 0 487 (by decide) rfl dX5_mends_42 hw (fun v10 hw => ?_)
    refine lv_icmp_ge (tgt := 67) C.x C.b dX5_mends_43 (by decide) (fun c11 => ?_) (fun c11 => ?_)
    · have hw := hw.1 c11
      refine lv_iconst (v := 0) C.x C.b dX5_mends_67 (by decide) ?_
      exact gm_iret C hS hw dX5_mends_68
    · have hw := hw.2 c11
      refine lv_aload_n C.x C.b dX5_mends_46 rfl (lv_at hl 0 rfl) ?_
      refine lv_dup C.x C.b dX5_mends_47 rfl ?_
      refine gm_getI C hI hS 7 3 (by decide) rfl q1488 (fun _ h9 => h9) dX5_mends_48 hw (fun v12 hw => ?_)
      refine lv_aload_n C.x C.b dX5_mends_51 rfl (lv_at hl 0 rfl) ?_
      refine lv_iload_n C.x C.b dX5_mends_52 rfl (lv_at hl 1 rfl) ?_
      refine lv_iconst (v := 4) C.x C.b dX5_mends_53 (by decide) ?_
      refine gm_callV (rest := [.int v12, .ref (ad 8)]) C hI hS hl (kM_of C.tr hI hw) q1595 q1597 qs37 q88 q1598 ny_of rfl (Nat.le_of_ble_eq_true rfl) (Nat.le_of_ble_eq_true rfl) rfl (Nat.le_of_ble_eq_true rfl) dX5_mends_54 (gm_ki (fun r14 u13 H locs hw hS => ?_))
      refine lv_iadd C.x C.b dX5_mends_57 ?_
      refine gm_putI C hI hS 7 3 (by decide) rfl q1488 (fun _ h9 => h9) rfl rfl rfl dX5_mends_58 hw (fun u15 H locs hw hS => ?_)
      refine lv_iinc (v := (x2 + 1)) (lv' := [(2, .int (x2 + 1)), (0, .ref (ad 8))]) C.x C.b dX5_mends_61 hl (k := 1) rfl rfl (by decide) rfl (fun ls hl => ?_)
      refine lv_goto (tgt := 36) C.x C.b dX5_mends_64 (by decide) ?_
      exact ih _ _ _ _ _ hS (lv_sub hl [1, 0] rfl) hw
def wM_mends (a1 : Int32) (Q : Int32 → gM → Prop) (u : gM) : Prop :=
  wM_isLink a1 (fun r2 u1 => (r2 = 0 → (Q 1 u1)) ∧ (¬ r2 = 0 → (wM_of a1 4 (fun r5 u4 => (r5 = 1 → (Q 2 u4)) ∧ (¬ r5 = 1 → (wM_puts a1 4 1 (fun u7 => uPt 3 0 (fun u8 => ∃ k9 : Nat, wM_mends_36 Q k9 0 u8) u7) u4))) u1))) u
theorem kM_mends_r (C : gC p l s m args meth c cX5_mends 3 (some .int) RX5 E [] "mends") (hI : mI ad) (a1 : Int32) {Q : Int32 → gM → Prop} (u : gM) (H : Heap) (locs : List Loc) (ls : Array Slot) (hS : gS E w0 (gmW E ad u w) H locs) (hl : lv_has ls 3 [(0, .ref (ad 8)), (1, .int a1)]) (hw : wM_mends a1 Q u) : mGo p l e s m args below meth c 2 43 E ad w0 w (uI Q) H locs (F0 m 0 ls []) := by
  unfold wM_mends at hw
  refine lv_aload_n C.x C.b dX5_mends_0 rfl (lv_at hl 0 rfl) ?_
  refine lv_iload_n C.x C.b dX5_mends_1 rfl (lv_at hl 1 rfl) ?_
  refine gm_callV (rest := []) C hI hS hl (kM_isLink C.tr hI hw) q1591 q1593 qs36 q88 q1594 ny_isLink rfl (Nat.le_of_ble_eq_true rfl) (Nat.le_of_ble_eq_true rfl) rfl (Nat.le_of_ble_eq_true rfl) dX5_mends_2 (gm_ki (fun r2 u1 H locs hw hS => ?_))
  refine lv_if_ne (tgt := 10) C.x C.b dX5_mends_5 (by decide) (fun c3 => ?_) (fun c3 => ?_)
  · have hw := hw.2 c3
    refine lv_aload_n C.x C.b dX5_mends_10 rfl (lv_at hl 0 rfl) ?_
    refine lv_iload_n C.x C.b dX5_mends_11 rfl (lv_at hl 1 rfl) ?_
    refine lv_iconst (v := 4) C.x C.b dX5_mends_12 (by decide) ?_
    refine gm_callV (rest := []) C hI hS hl (kM_of C.tr hI hw) q1595 q1597 qs37 q88 q1598 ny_of rfl (Nat.le_of_ble_eq_true rfl) (Nat.le_of_ble_eq_true rfl) rfl (Nat.le_of_ble_eq_true rfl) dX5_mends_13 (gm_ki (fun r5 u4 H locs hw hS => ?_))
    refine lv_iconst (v := 1) C.x C.b dX5_mends_16 (by decide) ?_
    refine lv_icmp_ne (tgt := 22) C.x C.b dX5_mends_17 (by decide) (fun c6 => ?_) (fun c6 => ?_)
    · have hw := hw.2 c6
      refine lv_aload_n C.x C.b dX5_mends_22 rfl (lv_at hl 0 rfl) ?_
      refine lv_iload_n C.x C.b dX5_mends_23 rfl (lv_at hl 1 rfl) ?_
      refine lv_iconst (v := 4) C.x C.b dX5_mends_24 (by decide) ?_
      refine lv_iconst (v := 1) C.x C.b dX5_mends_25 (by decide) ?_
      refine gm_callV (rest := []) C hI hS hl (kM_puts C.tr hI hw) q1579 q1581 qs34 q88 q1582 ny_puts rfl (Nat.le_of_ble_eq_true rfl) (Nat.le_of_ble_eq_true rfl) rfl (Nat.le_of_ble_eq_true rfl) dX5_mends_26 (gm_kv (fun u7 H locs hw hS => ?_))
      refine lv_aload_n C.x C.b dX5_mends_29 rfl (lv_at hl 0 rfl) ?_
      refine lv_iconst (v := 0) C.x C.b dX5_mends_30 (by decide) ?_
      refine gm_putI C hI hS 7 3 (by decide) rfl q1488 (fun _ h9 => h9) rfl rfl rfl dX5_mends_31 hw (fun u8 H locs hw hS => ?_)
      refine lv_iconst (v := 0) C.x C.b dX5_mends_34 (by decide) ?_
      refine lv_istore_n (lv' := [(2, .int 0), (0, .ref (ad 8)), (1, .int a1)]) C.x C.b dX5_mends_35 rfl hl (by decide) rfl (fun ls hl => ?_)
      obtain ⟨k9, hw⟩ := hw
      exact kM_mends_36 C hI k9 _ _ _ _ _ hS (lv_sub hl [1, 0] rfl) hw
    · have hw := hw.1 c6
      refine lv_iconst (v := 2) C.x C.b dX5_mends_20 (by decide) ?_
      exact gm_iret C hS hw dX5_mends_21
  · have hw := hw.1 c3
    refine lv_iconst (v := 1) C.x C.b dX5_mends_8 (by decide) ?_
    exact gm_iret C hS hw dX5_mends_9
theorem kM_mends {l : Launch} (ht : l.stackTraces = false) (hI : mI ad) {w : gW} {u : gM} {a1 : Int32} {Q : Int32 → gM → Prop} (hw : wM_mends a1 Q u) : gMet l yX5_mends (ws_ yX5_mends cX5_mends 3 (some .int)) E (gmW E ad u w) [.ref (ad 8), .int a1] 2 43 (mQ E ad w (uI Q)) gNoX :=
  g_ofW ht (by decide) (Nat.le_of_ble_eq_true rfl) (fun p e s m below meth c ls H C hl hS => kM_mends_r C hI _ _ _ _ _ hS hl hw)
def wM_fix (a1 : Int32) (Q : Int32 → gM → Prop) (u : gM) : Prop :=
  wM_hold (fun u1 => wM_mends a1 (fun r3 u2 => wM_done r3 (fun r5 u4 => Q r5 u4) u2) u1) u
theorem kM_fix_r (C : gC p l s m args meth c cX5_fix 2 (some .int) RX5 E [] "fix") (hI : mI ad) (a1 : Int32) {Q : Int32 → gM → Prop} (u : gM) (H : Heap) (locs : List Loc) (ls : Array Slot) (hS : gS E w0 (gmW E ad u w) H locs) (hl : lv_has ls 2 [(0, .ref (ad 8)), (1, .int a1)]) (hw : wM_fix a1 Q u) : mGo p l e s m args below meth c 3 65 E ad w0 w (uI Q) H locs (F0 m 0 ls []) := by
  unfold wM_fix at hw
  refine lv_aload_n C.x C.b dX5_fix_0 rfl (lv_at hl 0 rfl) ?_
  refine gm_callV (rest := []) C hI hS hl (kM_hold C.tr hI hw) q1539 q1541 qs27 q88 q1542 ny_hold rfl (Nat.le_of_ble_eq_true rfl) (Nat.le_of_ble_eq_true rfl) rfl (Nat.le_of_ble_eq_true rfl) dX5_fix_1 (gm_kv (fun u1 H locs hw hS => ?_))
  refine lv_aload_n C.x C.b dX5_fix_4 rfl (lv_at hl 0 rfl) ?_
  refine lv_aload_n C.x C.b dX5_fix_5 rfl (lv_at hl 0 rfl) ?_
  refine lv_iload_n C.x C.b dX5_fix_6 rfl (lv_at hl 1 rfl) ?_
  refine gm_callV (rest := [.ref (ad 8)]) C hI hS hl (kM_mends C.tr hI hw) q1603 q1605 qs38 q88 q1606 ny_mends rfl (Nat.le_of_ble_eq_true rfl) (Nat.le_of_ble_eq_true rfl) rfl (Nat.le_of_ble_eq_true rfl) dX5_fix_7 (gm_ki (fun r3 u2 H locs hw hS => ?_))
  refine gm_callV (rest := []) C hI hS hl (kM_done C.tr hI hw) q1567 q1569 qs32 q88 q1570 ny_done rfl (Nat.le_of_ble_eq_true rfl) (Nat.le_of_ble_eq_true rfl) rfl (Nat.le_of_ble_eq_true rfl) dX5_fix_10 (gm_ki (fun r5 u4 H locs hw hS => ?_))
  exact gm_iret C hS hw dX5_fix_13
theorem kM_fix {l : Launch} (ht : l.stackTraces = false) (hI : mI ad) {w : gW} {u : gM} {a1 : Int32} {Q : Int32 → gM → Prop} (hw : wM_fix a1 Q u) : gMet l yX5_fix (ws_ yX5_fix cX5_fix 2 (some .int)) E (gmW E ad u w) [.ref (ad 8), .int a1] 3 65 (mQ E ad w (uI Q)) gNoX :=
  g_ofW ht (by decide) (Nat.le_of_ble_eq_true rfl) (fun p e s m below meth c ls H C hl hS => kM_fix_r C hI _ _ _ _ _ hS hl hw)
def wM_isHost (a0 : Int32) (Q : Int32 → gM → Prop) (u : gM) : Prop :=
  wM_in a0 0 7 (fun r2 u1 => narrow .boolean (.int r2) = .int r2 ∧ Q r2 u1) u
theorem kM_isHost_r (C : gC p l s m args meth c cX5_isHost 1 (some .boolean) RX5 E [] "isHost") (hI : mI ad) (a0 : Int32) {Q : Int32 → gM → Prop} (u : gM) (H : Heap) (locs : List Loc) (ls : Array Slot) (hS : gS E w0 (gmW E ad u w) H locs) (hl : lv_has ls 1 [(0, .int a0)]) (hw : wM_isHost a0 Q u) : mGo p l e s m args below meth c 1 22 E ad w0 w (uI Q) H locs (F0 m 0 ls []) := by
  unfold wM_isHost at hw
  refine lv_iload_n C.x C.b dX5_isHost_0 rfl (lv_at hl 0 rfl) ?_
  refine lv_iconst (v := 0) C.x C.b dX5_isHost_1 (by decide) ?_
  refine lv_bipush (v := 7) C.x C.b dX5_isHost_2 (by decide) ?_
  refine gm_callS (rest := []) C hS hl (kM_in C.tr hI hw) q1466 q1467 q88 q1468 ny_in rfl (Nat.le_of_ble_eq_true rfl) (Nat.le_of_ble_eq_true rfl) rfl (Nat.le_of_ble_eq_true rfl) dX5_isHost_4 (gm_ki (fun r2 u1 H locs hw hS => ?_))
  exact gm_zret C hS hw.1 hw.2 dX5_isHost_7
theorem kM_isHost {l : Launch} (ht : l.stackTraces = false) (hI : mI ad) {w : gW} {u : gM} {a0 : Int32} {Q : Int32 → gM → Prop} (hw : wM_isHost a0 Q u) : gMet l yX5_isHost (ws_ yX5_isHost cX5_isHost 1 (some .boolean)) E (gmW E ad u w) [.int a0] 1 22 (mQ E ad w (uI Q)) gNoX :=
  g_ofW ht (by decide) (Nat.le_of_ble_eq_true rfl) (fun p e s m below meth c ls H C hl hS => kM_isHost_r C hI _ _ _ _ _ hS hl hw)
def wM_moves (a1 : Int32) (a2 : Int32) (Q : Int32 → gM → Prop) (u : gM) : Prop :=
  wM_isHost a1 (fun r2 u1 => (r2 = 0 → (Q 1 u1)) ∧ (¬ r2 = 0 → (wM_isBridge a2 (fun r5 u4 => (r5 = 0 → (Q 1 u4)) ∧ (¬ r5 = 0 → (uLd 0 487 (179 + a1) (fun v7 => uPt 3 v7 (fun u8 => uSt 0 487 (179 + a1) a2 (fun u9 => Q 0 u9) u8) u4) u4))) u1))) u
theorem kM_moves_r (C : gC p l s m args meth c cX5_moves 3 (some .int) RX5 E [] "moves") (hI : mI ad) (a1 : Int32) (a2 : Int32) {Q : Int32 → gM → Prop} (u : gM) (H : Heap) (locs : List Loc) (ls : Array Slot) (hS : gS E w0 (gmW E ad u w) H locs) (hl : lv_has ls 3 [(0, .ref (ad 8)), (1, .int a1), (2, .int a2)]) (hw : wM_moves a1 a2 Q u) : mGo p l e s m args below meth c 2 43 E ad w0 w (uI Q) H locs (F0 m 0 ls []) := by
  unfold wM_moves at hw
  refine lv_iload_n C.x C.b dX5_moves_0 rfl (lv_at hl 1 rfl) ?_
  refine gm_callS (rest := []) C hS hl (kM_isHost C.tr hI hw) q1615 q1616 q88 q1617 ny_isHost rfl (Nat.le_of_ble_eq_true rfl) (Nat.le_of_ble_eq_true rfl) rfl (Nat.le_of_ble_eq_true rfl) dX5_moves_1 (gm_ki (fun r2 u1 H locs hw hS => ?_))
  refine lv_if_eq (tgt := 15) C.x C.b dX5_moves_4 (by decide) (fun c3 => ?_) (fun c3 => ?_)
  · have hw := hw.1 c3
    refine lv_iconst (v := 1) C.x C.b dX5_moves_15 (by decide) ?_
    exact gm_iret C hS hw dX5_moves_16
  · have hw := hw.2 c3
    refine lv_aload_n C.x C.b dX5_moves_7 rfl (lv_at hl 0 rfl) ?_
    refine lv_iload_n C.x C.b dX5_moves_8 rfl (lv_at hl 2 rfl) ?_
    refine gm_callV (rest := []) C hI hS hl (kM_isBridge C.tr hI hw) q1563 q1565 qs31 q88 q1566 ny_isBridge rfl (Nat.le_of_ble_eq_true rfl) (Nat.le_of_ble_eq_true rfl) rfl (Nat.le_of_ble_eq_true rfl) dX5_moves_9 (gm_ki (fun r5 u4 H locs hw hS => ?_))
    refine lv_if_ne (tgt := 17) C.x C.b dX5_moves_12 (by decide) (fun c6 => ?_) (fun c6 => ?_)
    · have hw := hw.2 c6
      refine lv_aload_n C.x C.b dX5_moves_17 rfl (lv_at hl 0 rfl) ?_
      refine lv_aload_n C.x C.b dX5_moves_18 rfl (lv_at hl 0 rfl) ?_
      refine gm_getA C hI hS 0 (by decide) (a := ad 0) rfl q1481 (fun _ h9 => h9) dX5_moves_19 ?_
      refine lv_sipush (v := 179) C.x C.b dX5_moves_22 (by decide) ?_
      refine lv_iload_n C.x C.b dX5_moves_25 rfl (lv_at hl 1 rfl) ?_
      refine lv_iadd C.x C.b dX5_moves_26 ?_
      refine gm_ld C hI hS 0 487 (by decide) rfl dX5_moves_27 hw (fun v7 hw => ?_)
      refine gm_putI C hI hS 7 3 (by decide) rfl q1488 (fun _ h9 => h9) rfl rfl rfl dX5_moves_28 hw (fun u8 H locs hw hS => ?_)
      refine lv_aload_n C.x C.b dX5_moves_31 rfl (lv_at hl 0 rfl) ?_
      refine gm_getA C hI hS 0 (by decide) (a := ad 0) rfl q1481 (fun _ h9 => h9) dX5_moves_32 ?_
      refine lv_sipush (v := 179) C.x C.b dX5_moves_35 (by decide) ?_
      refine lv_iload_n C.x C.b dX5_moves_38 rfl (lv_at hl 1 rfl) ?_
      refine lv_iadd C.x C.b dX5_moves_39 ?_
      refine lv_iload_n C.x C.b dX5_moves_40 rfl (lv_at hl 2 rfl) ?_
      refine gm_st C hI hS 0 487 (by decide) rfl dX5_moves_41 hw (fun u9 H locs hw hS => ?_)
      refine lv_iconst (v := 0) C.x C.b dX5_moves_42 (by decide) ?_
      exact gm_iret C hS hw dX5_moves_43
    · have hw := hw.1 c6
      refine lv_iconst (v := 1) C.x C.b dX5_moves_15 (by decide) ?_
      exact gm_iret C hS hw dX5_moves_16
theorem kM_moves {l : Launch} (ht : l.stackTraces = false) (hI : mI ad) {w : gW} {u : gM} {a1 : Int32} {a2 : Int32} {Q : Int32 → gM → Prop} (hw : wM_moves a1 a2 Q u) : gMet l yX5_moves (ws_ yX5_moves cX5_moves 3 (some .int)) E (gmW E ad u w) [.ref (ad 8), .int a1, .int a2] 2 43 (mQ E ad w (uI Q)) gNoX :=
  g_ofW ht (by decide) (Nat.le_of_ble_eq_true rfl) (fun p e s m below meth c ls H C hl hS => kM_moves_r C hI _ _ _ _ _ _ hS hl hw)
def wM_moveHost (a1 : Int32) (a2 : Int32) (Q : Int32 → gM → Prop) (u : gM) : Prop :=
  wM_hold (fun u1 => wM_moves a1 a2 (fun r3 u2 => wM_done r3 (fun r5 u4 => Q r5 u4) u2) u1) u
theorem kM_moveHost_r (C : gC p l s m args meth c cX5_moveHost 3 (some .int) RX5 E [] "moveHost") (hI : mI ad) (a1 : Int32) (a2 : Int32) {Q : Int32 → gM → Prop} (u : gM) (H : Heap) (locs : List Loc) (ls : Array Slot) (hS : gS E w0 (gmW E ad u w) H locs) (hl : lv_has ls 3 [(0, .ref (ad 8)), (1, .int a1), (2, .int a2)]) (hw : wM_moveHost a1 a2 Q u) : mGo p l e s m args below meth c 3 65 E ad w0 w (uI Q) H locs (F0 m 0 ls []) := by
  unfold wM_moveHost at hw
  refine lv_aload_n C.x C.b dX5_moveHost_0 rfl (lv_at hl 0 rfl) ?_
  refine gm_callV (rest := []) C hI hS hl (kM_hold C.tr hI hw) q1539 q1541 qs27 q88 q1542 ny_hold rfl (Nat.le_of_ble_eq_true rfl) (Nat.le_of_ble_eq_true rfl) rfl (Nat.le_of_ble_eq_true rfl) dX5_moveHost_1 (gm_kv (fun u1 H locs hw hS => ?_))
  refine lv_aload_n C.x C.b dX5_moveHost_4 rfl (lv_at hl 0 rfl) ?_
  refine lv_aload_n C.x C.b dX5_moveHost_5 rfl (lv_at hl 0 rfl) ?_
  refine lv_iload_n C.x C.b dX5_moveHost_6 rfl (lv_at hl 1 rfl) ?_
  refine lv_iload_n C.x C.b dX5_moveHost_7 rfl (lv_at hl 2 rfl) ?_
  refine gm_callV (rest := [.ref (ad 8)]) C hI hS hl (kM_moves C.tr hI hw) q1611 q1613 qs39 q88 q1614 ny_moves rfl (Nat.le_of_ble_eq_true rfl) (Nat.le_of_ble_eq_true rfl) rfl (Nat.le_of_ble_eq_true rfl) dX5_moveHost_8 (gm_ki (fun r3 u2 H locs hw hS => ?_))
  refine gm_callV (rest := []) C hI hS hl (kM_done C.tr hI hw) q1567 q1569 qs32 q88 q1570 ny_done rfl (Nat.le_of_ble_eq_true rfl) (Nat.le_of_ble_eq_true rfl) rfl (Nat.le_of_ble_eq_true rfl) dX5_moveHost_11 (gm_ki (fun r5 u4 H locs hw hS => ?_))
  exact gm_iret C hS hw dX5_moveHost_14
theorem kM_moveHost {l : Launch} (ht : l.stackTraces = false) (hI : mI ad) {w : gW} {u : gM} {a1 : Int32} {a2 : Int32} {Q : Int32 → gM → Prop} (hw : wM_moveHost a1 a2 Q u) : gMet l yX5_moveHost (ws_ yX5_moveHost cX5_moveHost 3 (some .int)) E (gmW E ad u w) [.ref (ad 8), .int a1, .int a2] 3 65 (mQ E ad w (uI Q)) gNoX :=
  g_ofW ht (by decide) (Nat.le_of_ble_eq_true rfl) (fun p e s m below meth c ls H C hl hS => kM_moveHost_r C hI _ _ _ _ _ _ hS hl hw)
def wM_isTenant (a0 : Int32) (Q : Int32 → gM → Prop) (u : gM) : Prop :=
  wM_in a0 0 3 (fun r2 u1 => narrow .boolean (.int r2) = .int r2 ∧ Q r2 u1) u
theorem kM_isTenant_r (C : gC p l s m args meth c cX5_isTenant 1 (some .boolean) RX5 E [] "isTenant") (hI : mI ad) (a0 : Int32) {Q : Int32 → gM → Prop} (u : gM) (H : Heap) (locs : List Loc) (ls : Array Slot) (hS : gS E w0 (gmW E ad u w) H locs) (hl : lv_has ls 1 [(0, .int a0)]) (hw : wM_isTenant a0 Q u) : mGo p l e s m args below meth c 1 22 E ad w0 w (uI Q) H locs (F0 m 0 ls []) := by
  unfold wM_isTenant at hw
  refine lv_iload_n C.x C.b dX5_isTenant_0 rfl (lv_at hl 0 rfl) ?_
  refine lv_iconst (v := 0) C.x C.b dX5_isTenant_1 (by decide) ?_
  refine lv_iconst (v := 3) C.x C.b dX5_isTenant_2 (by decide) ?_
  refine gm_callS (rest := []) C hS hl (kM_in C.tr hI hw) q1466 q1467 q88 q1468 ny_in rfl (Nat.le_of_ble_eq_true rfl) (Nat.le_of_ble_eq_true rfl) rfl (Nat.le_of_ble_eq_true rfl) dX5_isTenant_3 (gm_ki (fun r2 u1 H locs hw hS => ?_))
  exact gm_zret C hS hw.1 hw.2 dX5_isTenant_6
theorem kM_isTenant {l : Launch} (ht : l.stackTraces = false) (hI : mI ad) {w : gW} {u : gM} {a0 : Int32} {Q : Int32 → gM → Prop} (hw : wM_isTenant a0 Q u) : gMet l yX5_isTenant (ws_ yX5_isTenant cX5_isTenant 1 (some .boolean)) E (gmW E ad u w) [.int a0] 1 22 (mQ E ad w (uI Q)) gNoX :=
  g_ofW ht (by decide) (Nat.le_of_ble_eq_true rfl) (fun p e s m below meth c ls H C hl hS => kM_isTenant_r C hI _ _ _ _ _ hS hl hw)
def wM_bids (a1 : Int32) (a2 : Int32) (a3 : Int32) (Q : Int32 → gM → Prop) (u : gM) : Prop :=
  wM_isTenant a1 (fun r2 u1 => (r2 = 0 → (Q 1 u1)) ∧ (¬ r2 = 0 → (wM_isLink a2 (fun r5 u4 => (r5 = 0 → (Q 1 u4)) ∧ (¬ r5 = 0 → (wM_in a3 0 1000 (fun r8 u7 => (r8 = 0 → (Q 2 u7)) ∧ (¬ r8 = 0 → (wM_of a2 (14 + a1) (fun r11 u10 => uPt 3 r11 (fun u12 => wM_puts a2 (14 + a1) a3 (fun u13 => Q 0 u13) u12) u10) u7))) u4))) u1))) u
theorem kM_bids_r (C : gC p l s m args meth c cX5_bids 4 (some .int) RX5 E [] "bids") (hI : mI ad) (a1 : Int32) (a2 : Int32) (a3 : Int32) {Q : Int32 → gM → Prop} (u : gM) (H : Heap) (locs : List Loc) (ls : Array Slot) (hS : gS E w0 (gmW E ad u w) H locs) (hl : lv_has ls 4 [(0, .ref (ad 8)), (1, .int a1), (2, .int a2), (3, .int a3)]) (hw : wM_bids a1 a2 a3 Q u) : mGo p l e s m args below meth c 2 43 E ad w0 w (uI Q) H locs (F0 m 0 ls []) := by
  unfold wM_bids at hw
  refine lv_iload_n C.x C.b dX5_bids_0 rfl (lv_at hl 1 rfl) ?_
  refine gm_callS (rest := []) C hS hl (kM_isTenant C.tr hI hw) q1626 q1627 q88 q1628 ny_isTenant rfl (Nat.le_of_ble_eq_true rfl) (Nat.le_of_ble_eq_true rfl) rfl (Nat.le_of_ble_eq_true rfl) dX5_bids_1 (gm_ki (fun r2 u1 H locs hw hS => ?_))
  refine lv_if_eq (tgt := 15) C.x C.b dX5_bids_4 (by decide) (fun c3 => ?_) (fun c3 => ?_)
  · have hw := hw.1 c3
    refine lv_iconst (v := 1) C.x C.b dX5_bids_15 (by decide) ?_
    exact gm_iret C hS hw dX5_bids_16
  · have hw := hw.2 c3
    refine lv_aload_n C.x C.b dX5_bids_7 rfl (lv_at hl 0 rfl) ?_
    refine lv_iload_n C.x C.b dX5_bids_8 rfl (lv_at hl 2 rfl) ?_
    refine gm_callV (rest := []) C hI hS hl (kM_isLink C.tr hI hw) q1591 q1593 qs36 q88 q1594 ny_isLink rfl (Nat.le_of_ble_eq_true rfl) (Nat.le_of_ble_eq_true rfl) rfl (Nat.le_of_ble_eq_true rfl) dX5_bids_9 (gm_ki (fun r5 u4 H locs hw hS => ?_))
    refine lv_if_ne (tgt := 17) C.x C.b dX5_bids_12 (by decide) (fun c6 => ?_) (fun c6 => ?_)
    · have hw := hw.2 c6
      refine lv_iload_n C.x C.b dX5_bids_17 rfl (lv_at hl 3 rfl) ?_
      refine lv_iconst (v := 0) C.x C.b dX5_bids_18 (by decide) ?_
      refine lv_sipush (v := 1000) C.x C.b dX5_bids_19 (by decide) ?_
      refine gm_callS (rest := []) C hS hl (kM_in C.tr hI hw) q1466 q1467 q88 q1468 ny_in rfl (Nat.le_of_ble_eq_true rfl) (Nat.le_of_ble_eq_true rfl) rfl (Nat.le_of_ble_eq_true rfl) dX5_bids_22 (gm_ki (fun r8 u7 H locs hw hS => ?_))
      refine lv_if_ne (tgt := 30) C.x C.b dX5_bids_25 (by decide) (fun c9 => ?_) (fun c9 => ?_)
      · have hw := hw.2 c9
        refine lv_aload_n C.x C.b dX5_bids_30 rfl (lv_at hl 0 rfl) ?_
        refine lv_aload_n C.x C.b dX5_bids_31 rfl (lv_at hl 0 rfl) ?_
        refine lv_iload_n C.x C.b dX5_bids_32 rfl (lv_at hl 2 rfl) ?_
        refine lv_bipush (v := 14) C.x C.b dX5_bids_33 (by decide) ?_
        refine lv_iload_n C.x C.b dX5_bids_35 rfl (lv_at hl 1 rfl) ?_
        refine lv_iadd C.x C.b dX5_bids_36 ?_
        refine gm_callV (rest := [.ref (ad 8)]) C hI hS hl (kM_of C.tr hI hw) q1595 q1597 qs37 q88 q1598 ny_of rfl (Nat.le_of_ble_eq_true rfl) (Nat.le_of_ble_eq_true rfl) rfl (Nat.le_of_ble_eq_true rfl) dX5_bids_37 (gm_ki (fun r11 u10 H locs hw hS => ?_))
        refine gm_putI C hI hS 7 3 (by decide) rfl q1488 (fun _ h9 => h9) rfl rfl rfl dX5_bids_40 hw (fun u12 H locs hw hS => ?_)
        refine lv_aload_n C.x C.b dX5_bids_43 rfl (lv_at hl 0 rfl) ?_
        refine lv_iload_n C.x C.b dX5_bids_44 rfl (lv_at hl 2 rfl) ?_
        refine lv_bipush (v := 14) C.x C.b dX5_bids_45 (by decide) ?_
        refine lv_iload_n C.x C.b dX5_bids_47 rfl (lv_at hl 1 rfl) ?_
        refine lv_iadd C.x C.b dX5_bids_48 ?_
        refine lv_iload_n C.x C.b dX5_bids_49 rfl (lv_at hl 3 rfl) ?_
        refine gm_callV (rest := []) C hI hS hl (kM_puts C.tr hI hw) q1579 q1581 qs34 q88 q1582 ny_puts rfl (Nat.le_of_ble_eq_true rfl) (Nat.le_of_ble_eq_true rfl) rfl (Nat.le_of_ble_eq_true rfl) dX5_bids_50 (gm_kv (fun u13 H locs hw hS => ?_))
        refine lv_iconst (v := 0) C.x C.b dX5_bids_53 (by decide) ?_
        exact gm_iret C hS hw dX5_bids_54
      · have hw := hw.1 c9
        refine lv_iconst (v := 2) C.x C.b dX5_bids_28 (by decide) ?_
        exact gm_iret C hS hw dX5_bids_29
    · have hw := hw.1 c6
      refine lv_iconst (v := 1) C.x C.b dX5_bids_15 (by decide) ?_
      exact gm_iret C hS hw dX5_bids_16
theorem kM_bids {l : Launch} (ht : l.stackTraces = false) (hI : mI ad) {w : gW} {u : gM} {a1 : Int32} {a2 : Int32} {a3 : Int32} {Q : Int32 → gM → Prop} (hw : wM_bids a1 a2 a3 Q u) : gMet l yX5_bids (ws_ yX5_bids cX5_bids 4 (some .int)) E (gmW E ad u w) [.ref (ad 8), .int a1, .int a2, .int a3] 2 43 (mQ E ad w (uI Q)) gNoX :=
  g_ofW ht (by decide) (Nat.le_of_ble_eq_true rfl) (fun p e s m below meth c ls H C hl hS => kM_bids_r C hI _ _ _ _ _ _ _ hS hl hw)
def wM_bid (a1 : Int32) (a2 : Int32) (a3 : Int32) (Q : Int32 → gM → Prop) (u : gM) : Prop :=
  wM_hold (fun u1 => wM_bids a1 a2 a3 (fun r3 u2 => wM_done r3 (fun r5 u4 => Q r5 u4) u2) u1) u
theorem kM_bid_r (C : gC p l s m args meth c cX5_bid 4 (some .int) RX5 E [] "bid") (hI : mI ad) (a1 : Int32) (a2 : Int32) (a3 : Int32) {Q : Int32 → gM → Prop} (u : gM) (H : Heap) (locs : List Loc) (ls : Array Slot) (hS : gS E w0 (gmW E ad u w) H locs) (hl : lv_has ls 4 [(0, .ref (ad 8)), (1, .int a1), (2, .int a2), (3, .int a3)]) (hw : wM_bid a1 a2 a3 Q u) : mGo p l e s m args below meth c 3 66 E ad w0 w (uI Q) H locs (F0 m 0 ls []) := by
  unfold wM_bid at hw
  refine lv_aload_n C.x C.b dX5_bid_0 rfl (lv_at hl 0 rfl) ?_
  refine gm_callV (rest := []) C hI hS hl (kM_hold C.tr hI hw) q1539 q1541 qs27 q88 q1542 ny_hold rfl (Nat.le_of_ble_eq_true rfl) (Nat.le_of_ble_eq_true rfl) rfl (Nat.le_of_ble_eq_true rfl) dX5_bid_1 (gm_kv (fun u1 H locs hw hS => ?_))
  refine lv_aload_n C.x C.b dX5_bid_4 rfl (lv_at hl 0 rfl) ?_
  refine lv_aload_n C.x C.b dX5_bid_5 rfl (lv_at hl 0 rfl) ?_
  refine lv_iload_n C.x C.b dX5_bid_6 rfl (lv_at hl 1 rfl) ?_
  refine lv_iload_n C.x C.b dX5_bid_7 rfl (lv_at hl 2 rfl) ?_
  refine lv_iload_n C.x C.b dX5_bid_8 rfl (lv_at hl 3 rfl) ?_
  refine gm_callV (rest := [.ref (ad 8)]) C hI hS hl (kM_bids C.tr hI hw) q1622 q1624 qs40 q88 q1625 ny_bids rfl (Nat.le_of_ble_eq_true rfl) (Nat.le_of_ble_eq_true rfl) rfl (Nat.le_of_ble_eq_true rfl) dX5_bid_9 (gm_ki (fun r3 u2 H locs hw hS => ?_))
  refine gm_callV (rest := []) C hI hS hl (kM_done C.tr hI hw) q1567 q1569 qs32 q88 q1570 ny_done rfl (Nat.le_of_ble_eq_true rfl) (Nat.le_of_ble_eq_true rfl) rfl (Nat.le_of_ble_eq_true rfl) dX5_bid_12 (gm_ki (fun r5 u4 H locs hw hS => ?_))
  exact gm_iret C hS hw dX5_bid_15
theorem kM_bid {l : Launch} (ht : l.stackTraces = false) (hI : mI ad) {w : gW} {u : gM} {a1 : Int32} {a2 : Int32} {a3 : Int32} {Q : Int32 → gM → Prop} (hw : wM_bid a1 a2 a3 Q u) : gMet l yX5_bid (ws_ yX5_bid cX5_bid 4 (some .int)) E (gmW E ad u w) [.ref (ad 8), .int a1, .int a2, .int a3] 3 66 (mQ E ad w (uI Q)) gNoX :=
  g_ofW ht (by decide) (Nat.le_of_ble_eq_true rfl) (fun p e s m below meth c ls H C hl hS => kM_bid_r C hI _ _ _ _ _ _ _ hS hl hw)
def wM_grant (a1 : Int32) (a2 : Int32) (Q : Int32 → gM → Prop) (u : gM) : Prop :=
  wM_isTenant a1 (fun r2 u1 => (r2 = 0 → (wM_fails 1 (fun r20 u19 => Q r20 u19) u1)) ∧ (¬ r2 = 0 → (wM_in a2 0 10000 (fun r5 u4 => (r5 = 0 → (wM_fails 2 (fun r18 u17 => Q r18 u17) u4)) ∧ (¬ r5 = 0 → (uLd 0 487 (187 + (3 * a1)) (fun v7 => ((v7 + a2) ≤ 1000000 → (wM_hold (fun u9 => uLd 0 487 (187 + (3 * a1)) (fun v10 => uSt 0 487 (187 + (3 * a1)) (v10 + a2) (fun u11 => uLd 0 487 (187 + (3 * a1)) (fun v12 => wM_ends v12 (fun r14 u13 => Q r14 u13) u11) u11) u9) u9) u4)) ∧ (¬ (v7 + a2) ≤ 1000000 → (wM_fails 3 (fun r16 u15 => Q r16 u15) u4))) u4))) u1))) u
theorem kM_grant_r (C : gC p l s m args meth c cX5_grant 3 (some .int) RX5 E [] "grant") (hI : mI ad) (a1 : Int32) (a2 : Int32) {Q : Int32 → gM → Prop} (u : gM) (H : Heap) (locs : List Loc) (ls : Array Slot) (hS : gS E w0 (gmW E ad u w) H locs) (hl : lv_has ls 3 [(0, .ref (ad 8)), (1, .int a1), (2, .int a2)]) (hw : wM_grant a1 a2 Q u) : mGo p l e s m args below meth c 2 43 E ad w0 w (uI Q) H locs (F0 m 0 ls []) := by
  unfold wM_grant at hw
  refine lv_iload_n C.x C.b dX5_grant_0 rfl (lv_at hl 1 rfl) ?_
  refine gm_callS (rest := []) C hS hl (kM_isTenant C.tr hI hw) q1626 q1627 q88 q1628 ny_isTenant rfl (Nat.le_of_ble_eq_true rfl) (Nat.le_of_ble_eq_true rfl) rfl (Nat.le_of_ble_eq_true rfl) dX5_grant_1 (gm_ki (fun r2 u1 H locs hw hS => ?_))
  refine lv_if_ne (tgt := 13) C.x C.b dX5_grant_4 (by decide) (fun c3 => ?_) (fun c3 => ?_)
  · have hw := hw.2 c3
    refine lv_iload_n C.x C.b dX5_grant_13 rfl (lv_at hl 2 rfl) ?_
    refine lv_iconst (v := 0) C.x C.b dX5_grant_14 (by decide) ?_
    refine lv_sipush (v := 10000) C.x C.b dX5_grant_15 (by decide) ?_
    refine gm_callS (rest := []) C hS hl (kM_in C.tr hI hw) q1466 q1467 q88 q1468 ny_in rfl (Nat.le_of_ble_eq_true rfl) (Nat.le_of_ble_eq_true rfl) rfl (Nat.le_of_ble_eq_true rfl) dX5_grant_18 (gm_ki (fun r5 u4 H locs hw hS => ?_))
    refine lv_if_ne (tgt := 30) C.x C.b dX5_grant_21 (by decide) (fun c6 => ?_) (fun c6 => ?_)
    · have hw := hw.2 c6
      refine lv_aload_n C.x C.b dX5_grant_30 rfl (lv_at hl 0 rfl) ?_
      refine gm_getA C hI hS 0 (by decide) (a := ad 0) rfl q1481 (fun _ h9 => h9) dX5_grant_31 ?_
      refine lv_sipush (v := 187) C.x C.b dX5_grant_34 (by decide) ?_
      refine lv_iconst (v := 3) C.x C.b dX5_grant_37 (by decide) ?_
      refine lv_iload_n C.x C.b dX5_grant_38 rfl (lv_at hl 1 rfl) ?_
      refine lv_imul C.x C.b dX5_grant_39 ?_
      refine lv_iadd C.x C.b dX5_grant_40 ?_
      refine gm_ld C hI hS 0 487 (by decide) rfl dX5_grant_41 hw (fun v7 hw => ?_)
      refine lv_iload_n C.x C.b dX5_grant_42 rfl (lv_at hl 2 rfl) ?_
      refine lv_iadd C.x C.b dX5_grant_43 ?_
      refine lv_ldc C.x C.b C.ow (C.ts _ q1633) dX5_grant_44 ?_
      refine lv_icmp_le (tgt := 55) C.x C.b dX5_grant_46 (by decide) (fun c8 => ?_) (fun c8 => ?_)
      · have hw := hw.1 c8
        refine lv_aload_n C.x C.b dX5_grant_55 rfl (lv_at hl 0 rfl) ?_
        refine gm_callV (rest := []) C hI hS hl (kM_hold C.tr hI hw) q1539 q1541 qs27 q88 q1542 ny_hold rfl (Nat.le_of_ble_eq_true rfl) (Nat.le_of_ble_eq_true rfl) rfl (Nat.le_of_ble_eq_true rfl) dX5_grant_56 (gm_kv (fun u9 H locs hw hS => ?_))
        refine lv_aload_n C.x C.b dX5_grant_59 rfl (lv_at hl 0 rfl) ?_
        refine gm_getA C hI hS 0 (by decide) (a := ad 0) rfl q1481 (fun _ h9 => h9) dX5_grant_60 ?_
        refine lv_sipush (v := 187) C.x C.b dX5_grant_63 (by decide) ?_
        refine lv_iconst (v := 3) C.x C.b dX5_grant_66 (by decide) ?_
        refine lv_iload_n C.x C.b dX5_grant_67 rfl (lv_at hl 1 rfl) ?_
        refine lv_imul C.x C.b dX5_grant_68 ?_
        refine lv_iadd C.x C.b dX5_grant_69 ?_
        refine lv_dup2_11 C.x C.b dX5_grant_70 rfl rfl ?_
        refine gm_ld C hI hS 0 487 (by decide) rfl dX5_grant_71 hw (fun v10 hw => ?_)
        refine lv_iload_n C.x C.b dX5_grant_72 rfl (lv_at hl 2 rfl) ?_
        refine lv_iadd C.x C.b dX5_grant_73 ?_
        refine gm_st C hI hS 0 487 (by decide) rfl dX5_grant_74 hw (fun u11 H locs hw hS => ?_)
        refine lv_aload_n C.x C.b dX5_grant_75 rfl (lv_at hl 0 rfl) ?_
        refine lv_aload_n C.x C.b dX5_grant_76 rfl (lv_at hl 0 rfl) ?_
        refine gm_getA C hI hS 0 (by decide) (a := ad 0) rfl q1481 (fun _ h9 => h9) dX5_grant_77 ?_
        refine lv_sipush (v := 187) C.x C.b dX5_grant_80 (by decide) ?_
        refine lv_iconst (v := 3) C.x C.b dX5_grant_83 (by decide) ?_
        refine lv_iload_n C.x C.b dX5_grant_84 rfl (lv_at hl 1 rfl) ?_
        refine lv_imul C.x C.b dX5_grant_85 ?_
        refine lv_iadd C.x C.b dX5_grant_86 ?_
        refine gm_ld C hI hS 0 487 (by decide) rfl dX5_grant_87 hw (fun v12 hw => ?_)
        refine gm_callV (rest := []) C hI hS hl (kM_ends C.tr hI hw) q1543 q1545 qs28 q88 q1546 ny_ends rfl (Nat.le_of_ble_eq_true rfl) (Nat.le_of_ble_eq_true rfl) rfl (Nat.le_of_ble_eq_true rfl) dX5_grant_88 (gm_ki (fun r14 u13 H locs hw hS => ?_))
        exact gm_iret C hS hw dX5_grant_91
      · have hw := hw.2 c8
        refine lv_aload_n C.x C.b dX5_grant_49 rfl (lv_at hl 0 rfl) ?_
        refine lv_iconst (v := 3) C.x C.b dX5_grant_50 (by decide) ?_
        refine gm_callV (rest := []) C hI hS hl (kM_fails C.tr hI hw) q1535 q1537 qs26 q88 q1538 ny_fails rfl (Nat.le_of_ble_eq_true rfl) (Nat.le_of_ble_eq_true rfl) rfl (Nat.le_of_ble_eq_true rfl) dX5_grant_51 (gm_ki (fun r16 u15 H locs hw hS => ?_))
        exact gm_iret C hS hw dX5_grant_54
    · have hw := hw.1 c6
      refine lv_aload_n C.x C.b dX5_grant_24 rfl (lv_at hl 0 rfl) ?_
      refine lv_iconst (v := 2) C.x C.b dX5_grant_25 (by decide) ?_
      refine gm_callV (rest := []) C hI hS hl (kM_fails C.tr hI hw) q1535 q1537 qs26 q88 q1538 ny_fails rfl (Nat.le_of_ble_eq_true rfl) (Nat.le_of_ble_eq_true rfl) rfl (Nat.le_of_ble_eq_true rfl) dX5_grant_26 (gm_ki (fun r18 u17 H locs hw hS => ?_))
      exact gm_iret C hS hw dX5_grant_29
  · have hw := hw.1 c3
    refine lv_aload_n C.x C.b dX5_grant_7 rfl (lv_at hl 0 rfl) ?_
    refine lv_iconst (v := 1) C.x C.b dX5_grant_8 (by decide) ?_
    refine gm_callV (rest := []) C hI hS hl (kM_fails C.tr hI hw) q1535 q1537 qs26 q88 q1538 ny_fails rfl (Nat.le_of_ble_eq_true rfl) (Nat.le_of_ble_eq_true rfl) rfl (Nat.le_of_ble_eq_true rfl) dX5_grant_9 (gm_ki (fun r20 u19 H locs hw hS => ?_))
    exact gm_iret C hS hw dX5_grant_12
theorem kM_grant {l : Launch} (ht : l.stackTraces = false) (hI : mI ad) {w : gW} {u : gM} {a1 : Int32} {a2 : Int32} {Q : Int32 → gM → Prop} (hw : wM_grant a1 a2 Q u) : gMet l yX5_grant (ws_ yX5_grant cX5_grant 3 (some .int)) E (gmW E ad u w) [.ref (ad 8), .int a1, .int a2] 2 43 (mQ E ad w (uI Q)) gNoX :=
  g_ofW ht (by decide) (Nat.le_of_ble_eq_true rfl) (fun p e s m below meth c ls H C hl hS => kM_grant_r C hI _ _ _ _ _ _ hS hl hw)
def wM_counts (a1 : Int32) (a2 : Int32) (Q : Int32 → gM → Prop) (u : gM) : Prop :=
  wM_of a2 (14 + a1) (fun r2 u1 => (r2 ≤ 0 → (Q 0 u1)) ∧ (¬ r2 ≤ 0 → (uLd 0 487 (187 + (3 * a1)) (fun v4 => (v4 < r2 → (Q 0 u1)) ∧ (¬ v4 < r2 → (Q 1 u1))) u1))) u
theorem kM_counts_r (C : gC p l s m args meth c cX5_counts 4 (some .boolean) RX5 E [] "counts") (hI : mI ad) (a1 : Int32) (a2 : Int32) {Q : Int32 → gM → Prop} (u : gM) (H : Heap) (locs : List Loc) (ls : Array Slot) (hS : gS E w0 (gmW E ad u w) H locs) (hl : lv_has ls 4 [(0, .ref (ad 8)), (1, .int a1), (2, .int a2)]) (hw : wM_counts a1 a2 Q u) : mGo p l e s m args below meth c 1 22 E ad w0 w (uI Q) H locs (F0 m 0 ls []) := by
  unfold wM_counts at hw
  refine lv_aload_n C.x C.b dX5_counts_0 rfl (lv_at hl 0 rfl) ?_
  refine lv_iload_n C.x C.b dX5_counts_1 rfl (lv_at hl 2 rfl) ?_
  refine lv_bipush (v := 14) C.x C.b dX5_counts_2 (by decide) ?_
  refine lv_iload_n C.x C.b dX5_counts_4 rfl (lv_at hl 1 rfl) ?_
  refine lv_iadd C.x C.b dX5_counts_5 ?_
  refine gm_callV (rest := []) C hI hS hl (kM_of C.tr hI hw) q1595 q1597 qs37 q88 q1598 ny_of rfl (Nat.le_of_ble_eq_true rfl) (Nat.le_of_ble_eq_true rfl) rfl (Nat.le_of_ble_eq_true rfl) dX5_counts_6 (gm_ki (fun r2 u1 H locs hw hS => ?_))
  refine lv_istore_n (lv' := [(3, .int r2), (0, .ref (ad 8)), (1, .int a1), (2, .int a2)]) C.x C.b dX5_counts_9 rfl hl (by decide) rfl (fun ls hl => ?_)
  refine lv_iload_n C.x C.b dX5_counts_10 rfl (lv_at hl 0 rfl) ?_
  refine lv_if_le (tgt := 34) C.x C.b dX5_counts_11 (by decide) (fun c3 => ?_) (fun c3 => ?_)
  · have hw := hw.1 c3
    refine lv_iconst (v := 0) C.x C.b dX5_counts_34 (by decide) ?_
    exact gm_zret C hS rfl hw dX5_counts_35
  · have hw := hw.2 c3
    refine lv_iload_n C.x C.b dX5_counts_14 rfl (lv_at hl 0 rfl) ?_
    refine lv_aload_n C.x C.b dX5_counts_15 rfl (lv_at hl 1 rfl) ?_
    refine gm_getA C hI hS 0 (by decide) (a := ad 0) rfl q1481 (fun _ h9 => h9) dX5_counts_16 ?_
    refine lv_sipush (v := 187) C.x C.b dX5_counts_19 (by decide) ?_
    refine lv_iconst (v := 3) C.x C.b dX5_counts_22 (by decide) ?_
    refine lv_iload_n C.x C.b dX5_counts_23 rfl (lv_at hl 2 rfl) ?_
    refine lv_imul C.x C.b dX5_counts_24 ?_
    refine lv_iadd C.x C.b dX5_counts_25 ?_
    refine gm_ld C hI hS 0 487 (by decide) rfl dX5_counts_26 hw (fun v4 hw => ?_)
    refine lv_icmp_gt (tgt := 34) C.x C.b dX5_counts_27 (by decide) (fun c5 => ?_) (fun c5 => ?_)
    · have hw := hw.1 c5
      refine lv_iconst (v := 0) C.x C.b dX5_counts_34 (by decide) ?_
      exact gm_zret C hS rfl hw dX5_counts_35
    · have hw := hw.2 c5
      refine lv_iconst (v := 1) C.x C.b dX5_counts_30 (by decide) ?_
      refine lv_goto (tgt := 35) C.x C.b dX5_counts_31 (by decide) ?_
      exact gm_zret C hS rfl hw dX5_counts_35
theorem kM_counts {l : Launch} (ht : l.stackTraces = false) (hI : mI ad) {w : gW} {u : gM} {a1 : Int32} {a2 : Int32} {Q : Int32 → gM → Prop} (hw : wM_counts a1 a2 Q u) : gMet l yX5_counts (ws_ yX5_counts cX5_counts 4 (some .boolean)) E (gmW E ad u w) [.ref (ad 8), .int a1, .int a2] 1 22 (mQ E ad w (uI Q)) gNoX :=
  g_ofW ht (by decide) (Nat.le_of_ble_eq_true rfl) (fun p e s m below meth c ls H C hl hS => kM_counts_r C hI _ _ _ _ _ _ hS hl hw)
def wM_greatest_60 (K5 : Int32 → Int32 → Int32 → Int32 → gM → Prop) (Q : Int32 → gM → Prop) (x1 : Int32) (x2 : Int32) (x4 : Int32) (y0 : Int32) (u : gM) : Prop :=
  K5 x1 x2 y0 (x4 + 1) u
theorem kM_greatest_60 (C : gC p l s m args meth c cX5_greatest 5 (some .int) RX5 E [] "greatest") (hI : mI ad) {Q : Int32 → gM → Prop} {K5 : Int32 → Int32 → Int32 → Int32 → gM → Prop} (hK5 : ∀ (x1 : Int32) (x2 : Int32) (x3 : Int32) (x4 : Int32) (u : gM) (H : Heap) (locs : List Loc) (ls : Array Slot), gS E w0 (gmW E ad u w) H locs → lv_has ls 5 [(0, .ref (ad 8)), (1, .int x1), (2, .int x2), (3, .int x3), (4, .int x4)] → K5 x1 x2 x3 x4 u → mGo p l e s m args below meth c 2 45 E ad w0 w (uI Q) H locs (F0 m 5 ls [])) (x1 : Int32) (x2 : Int32) (x4 : Int32) (y0 : Int32) (u : gM) (H : Heap) (locs : List Loc) (ls : Array Slot) (hS : gS E w0 (gmW E ad u w) H locs) (hl : lv_has ls 5 [(0, .ref (ad 8)), (1, .int x1), (2, .int x2), (4, .int x4)]) (hw : wM_greatest_60 K5 Q x1 x2 x4 y0 u) : mGo p l e s m args below meth c 2 45 E ad w0 w (uI Q) H locs (F0 m 60 ls [.int y0]) := by
  unfold wM_greatest_60 at hw
  refine lv_istore_n (lv' := [(3, .int y0), (0, .ref (ad 8)), (1, .int x1), (2, .int x2), (4, .int x4)]) C.x C.b dX5_greatest_60 rfl hl (by decide) rfl (fun ls hl => ?_)
  refine lv_iinc (v := (x4 + 1)) (lv' := [(4, .int (x4 + 1)), (3, .int y0), (0, .ref (ad 8)), (1, .int x1), (2, .int x2)]) C.x C.b dX5_greatest_61 hl (k := 4) rfl rfl (by decide) rfl (fun ls hl => ?_)
  refine lv_goto (tgt := 5) C.x C.b dX5_greatest_64 (by decide) ?_
  exact hK5 _ _ _ _ _ _ _ _ hS (lv_sub hl [2, 3, 4, 1, 0] rfl) hw
def wM_greatest_59 (K5 : Int32 → Int32 → Int32 → Int32 → gM → Prop) (Q : Int32 → gM → Prop) (x1 : Int32) (x2 : Int32) (x3 : Int32) (x4 : Int32) (u : gM) : Prop :=
  wM_greatest_60 K5 Q x1 x2 x4 x3 u
theorem kM_greatest_59 (C : gC p l s m args meth c cX5_greatest 5 (some .int) RX5 E [] "greatest") (hI : mI ad) {Q : Int32 → gM → Prop} {K5 : Int32 → Int32 → Int32 → Int32 → gM → Prop} (hK5 : ∀ (x1 : Int32) (x2 : Int32) (x3 : Int32) (x4 : Int32) (u : gM) (H : Heap) (locs : List Loc) (ls : Array Slot), gS E w0 (gmW E ad u w) H locs → lv_has ls 5 [(0, .ref (ad 8)), (1, .int x1), (2, .int x2), (3, .int x3), (4, .int x4)] → K5 x1 x2 x3 x4 u → mGo p l e s m args below meth c 2 45 E ad w0 w (uI Q) H locs (F0 m 5 ls [])) (x1 : Int32) (x2 : Int32) (x3 : Int32) (x4 : Int32) (u : gM) (H : Heap) (locs : List Loc) (ls : Array Slot) (hS : gS E w0 (gmW E ad u w) H locs) (hl : lv_has ls 5 [(0, .ref (ad 8)), (1, .int x1), (2, .int x2), (3, .int x3), (4, .int x4)]) (hw : wM_greatest_59 K5 Q x1 x2 x3 x4 u) : mGo p l e s m args below meth c 2 45 E ad w0 w (uI Q) H locs (F0 m 59 ls []) := by
  unfold wM_greatest_59 at hw
  refine lv_iload_n C.x C.b dX5_greatest_59 rfl (lv_at hl 3 rfl) ?_
  exact kM_greatest_60 C hI hK5 _ _ _ _ _ _ _ _ hS (lv_sub hl [0, 1, 2, 4] rfl) hw
def wM_greatest_54 (K5 : Int32 → Int32 → Int32 → Int32 → gM → Prop) (Q : Int32 → gM → Prop) (x1 : Int32) (x2 : Int32) (x4 : Int32) (u : gM) : Prop :=
  wM_greatest_60 K5 Q x1 x2 x4 x4 u
theorem kM_greatest_54 (C : gC p l s m args meth c cX5_greatest 5 (some .int) RX5 E [] "greatest") (hI : mI ad) {Q : Int32 → gM → Prop} {K5 : Int32 → Int32 → Int32 → Int32 → gM → Prop} (hK5 : ∀ (x1 : Int32) (x2 : Int32) (x3 : Int32) (x4 : Int32) (u : gM) (H : Heap) (locs : List Loc) (ls : Array Slot), gS E w0 (gmW E ad u w) H locs → lv_has ls 5 [(0, .ref (ad 8)), (1, .int x1), (2, .int x2), (3, .int x3), (4, .int x4)] → K5 x1 x2 x3 x4 u → mGo p l e s m args below meth c 2 45 E ad w0 w (uI Q) H locs (F0 m 5 ls [])) (x1 : Int32) (x2 : Int32) (x4 : Int32) (u : gM) (H : Heap) (locs : List Loc) (ls : Array Slot) (hS : gS E w0 (gmW E ad u w) H locs) (hl : lv_has ls 5 [(0, .ref (ad 8)), (1, .int x1), (2, .int x2), (4, .int x4)]) (hw : wM_greatest_54 K5 Q x1 x2 x4 u) : mGo p l e s m args below meth c 2 45 E ad w0 w (uI Q) H locs (F0 m 54 ls []) := by
  unfold wM_greatest_54 at hw
  refine lv_iload C.x C.b dX5_greatest_54 (lv_at hl 3 rfl) ?_
  refine lv_goto (tgt := 60) C.x C.b dX5_greatest_56 (by decide) ?_
  exact kM_greatest_60 C hI hK5 _ _ _ _ _ _ _ _ hS (lv_sub hl [0, 1, 2, 3] rfl) hw
def wM_greatest_5 (Q : Int32 → gM → Prop) : Nat → Int32 → Int32 → Int32 → Int32 → gM → Prop
  | 0, _, _, _, _, _ => False
  | n + 1, x1, x2, x3, x4, u => (4 ≤ x4 → (Q x3 u)) ∧ (¬ 4 ≤ x4 → ((x4 = x2 → (wM_greatest_59 (fun x1 x2 x3 x4 u => wM_greatest_5 Q n x1 x2 x3 x4 u) Q x1 x2 x3 x4 u)) ∧ (¬ x4 = x2 → (wM_counts x4 x1 (fun r5 u4 => (r5 = 0 → (wM_greatest_59 (fun x1 x2 x3 x4 u => wM_greatest_5 Q n x1 x2 x3 x4 u) Q x1 x2 x3 x4 u4)) ∧ (¬ r5 = 0 → ((x3 = (-1) → (wM_greatest_54 (fun x1 x2 x3 x4 u => wM_greatest_5 Q n x1 x2 x3 x4 u) Q x1 x2 x4 u4)) ∧ (¬ x3 = (-1) → (wM_of x1 (14 + x4) (fun r9 u8 => wM_of x1 (14 + x3) (fun r11 u10 => (r9 ≤ r11 → (wM_greatest_59 (fun x1 x2 x3 x4 u => wM_greatest_5 Q n x1 x2 x3 x4 u) Q x1 x2 x3 x4 u10)) ∧ (¬ r9 ≤ r11 → (wM_greatest_54 (fun x1 x2 x3 x4 u => wM_greatest_5 Q n x1 x2 x3 x4 u) Q x1 x2 x4 u10))) u8) u4))))) u))))
theorem kM_greatest_5 (C : gC p l s m args meth c cX5_greatest 5 (some .int) RX5 E [] "greatest") (hI : mI ad) {Q : Int32 → gM → Prop} : ∀ (n : Nat) (x1 : Int32) (x2 : Int32) (x3 : Int32) (x4 : Int32) (u : gM) (H : Heap) (locs : List Loc) (ls : Array Slot), gS E w0 (gmW E ad u w) H locs → lv_has ls 5 [(0, .ref (ad 8)), (1, .int x1), (2, .int x2), (3, .int x3), (4, .int x4)] → wM_greatest_5 Q n x1 x2 x3 x4 u → mGo p l e s m args below meth c 2 45 E ad w0 w (uI Q) H locs (F0 m 5 ls []) := by
  intro n
  induction n with
  | zero =>
    intro x1 x2 x3 x4 u H locs ls hS hl hw
    exact hw.elim
  | succ n ih =>
    intro x1 x2 x3 x4 u H locs ls hS hl hw
    unfold wM_greatest_5 at hw
    refine lv_iload C.x C.b dX5_greatest_5 (lv_at hl 4 rfl) ?_
    refine lv_iconst (v := 4) C.x C.b dX5_greatest_7 (by decide) ?_
    refine lv_icmp_ge (tgt := 67) C.x C.b dX5_greatest_8 (by decide) (fun c2 => ?_) (fun c2 => ?_)
    · have hw := hw.1 c2
      refine lv_iload_n C.x C.b dX5_greatest_67 rfl (lv_at hl 3 rfl) ?_
      exact gm_iret C hS hw dX5_greatest_68
    · have hw := hw.2 c2
      refine lv_iload C.x C.b dX5_greatest_11 (lv_at hl 4 rfl) ?_
      refine lv_iload_n C.x C.b dX5_greatest_13 rfl (lv_at hl 2 rfl) ?_
      refine lv_icmp_eq (tgt := 59) C.x C.b dX5_greatest_14 (by decide) (fun c3 => ?_) (fun c3 => ?_)
      · have hw := hw.1 c3
        exact kM_greatest_59 C hI ih _ _ _ _ _ _ _ _ hS (lv_sub hl [0, 1, 2, 3, 4] rfl) hw
      · have hw := hw.2 c3
        refine lv_aload_n C.x C.b dX5_greatest_17 rfl (lv_at hl 0 rfl) ?_
        refine lv_iload C.x C.b dX5_greatest_18 (lv_at hl 4 rfl) ?_
        refine lv_iload_n C.x C.b dX5_greatest_20 rfl (lv_at hl 1 rfl) ?_
        refine gm_callV (rest := []) C hI hS hl (kM_counts C.tr hI hw) q1658 q1660 qs46 q88 q1661 ny_counts rfl (Nat.le_of_ble_eq_true rfl) (Nat.le_of_ble_eq_true rfl) rfl (Nat.le_of_ble_eq_true rfl) dX5_greatest_21 (gm_ki (fun r5 u4 H locs hw hS => ?_))
        refine lv_if_eq (tgt := 59) C.x C.b dX5_greatest_24 (by decide) (fun c6 => ?_) (fun c6 => ?_)
        · have hw := hw.1 c6
          exact kM_greatest_59 C hI ih _ _ _ _ _ _ _ _ hS (lv_sub hl [0, 1, 2, 3, 4] rfl) hw
        · have hw := hw.2 c6
          refine lv_iload_n C.x C.b dX5_greatest_27 rfl (lv_at hl 3 rfl) ?_
          refine lv_iconst (v := (-1)) C.x C.b dX5_greatest_28 (by decide) ?_
          refine lv_icmp_eq (tgt := 54) C.x C.b dX5_greatest_29 (by decide) (fun c7 => ?_) (fun c7 => ?_)
          · have hw := hw.1 c7
            exact kM_greatest_54 C hI ih _ _ _ _ _ _ _ hS (lv_sub hl [0, 1, 2, 4] rfl) hw
          · have hw := hw.2 c7
            refine lv_aload_n C.x C.b dX5_greatest_32 rfl (lv_at hl 0 rfl) ?_
            refine lv_iload_n C.x C.b dX5_greatest_33 rfl (lv_at hl 1 rfl) ?_
            refine lv_bipush (v := 14) C.x C.b dX5_greatest_34 (by decide) ?_
            refine lv_iload C.x C.b dX5_greatest_36 (lv_at hl 4 rfl) ?_
            refine lv_iadd C.x C.b dX5_greatest_38 ?_
            refine gm_callV (rest := []) C hI hS hl (kM_of C.tr hI hw) q1595 q1597 qs37 q88 q1598 ny_of rfl (Nat.le_of_ble_eq_true rfl) (Nat.le_of_ble_eq_true rfl) rfl (Nat.le_of_ble_eq_true rfl) dX5_greatest_39 (gm_ki (fun r9 u8 H locs hw hS => ?_))
            refine lv_aload_n C.x C.b dX5_greatest_42 rfl (lv_at hl 0 rfl) ?_
            refine lv_iload_n C.x C.b dX5_greatest_43 rfl (lv_at hl 1 rfl) ?_
            refine lv_bipush (v := 14) C.x C.b dX5_greatest_44 (by decide) ?_
            refine lv_iload_n C.x C.b dX5_greatest_46 rfl (lv_at hl 3 rfl) ?_
            refine lv_iadd C.x C.b dX5_greatest_47 ?_
            refine gm_callV (rest := [.int r9]) C hI hS hl (kM_of C.tr hI hw) q1595 q1597 qs37 q88 q1598 ny_of rfl (Nat.le_of_ble_eq_true rfl) (Nat.le_of_ble_eq_true rfl) rfl (Nat.le_of_ble_eq_true rfl) dX5_greatest_48 (gm_ki (fun r11 u10 H locs hw hS => ?_))
            refine lv_icmp_le (tgt := 59) C.x C.b dX5_greatest_51 (by decide) (fun c12 => ?_) (fun c12 => ?_)
            · have hw := hw.1 c12
              exact kM_greatest_59 C hI ih _ _ _ _ _ _ _ _ hS (lv_sub hl [0, 1, 2, 3, 4] rfl) hw
            · have hw := hw.2 c12
              exact kM_greatest_54 C hI ih _ _ _ _ _ _ _ hS (lv_sub hl [0, 1, 2, 4] rfl) hw
def wM_greatest (a1 : Int32) (a2 : Int32) (Q : Int32 → gM → Prop) (u : gM) : Prop :=
  ∃ k1 : Nat, wM_greatest_5 Q k1 a1 a2 (-1) 0 u
theorem kM_greatest_r (C : gC p l s m args meth c cX5_greatest 5 (some .int) RX5 E [] "greatest") (hI : mI ad) (a1 : Int32) (a2 : Int32) {Q : Int32 → gM → Prop} (u : gM) (H : Heap) (locs : List Loc) (ls : Array Slot) (hS : gS E w0 (gmW E ad u w) H locs) (hl : lv_has ls 5 [(0, .ref (ad 8)), (1, .int a1), (2, .int a2)]) (hw : wM_greatest a1 a2 Q u) : mGo p l e s m args below meth c 2 45 E ad w0 w (uI Q) H locs (F0 m 0 ls []) := by
  unfold wM_greatest at hw
  refine lv_iconst (v := (-1)) C.x C.b dX5_greatest_0 (by decide) ?_
  refine lv_istore_n (lv' := [(3, .int (-1)), (0, .ref (ad 8)), (1, .int a1), (2, .int a2)]) C.x C.b dX5_greatest_1 rfl hl (by decide) rfl (fun ls hl => ?_)
  refine lv_iconst (v := 0) C.x C.b dX5_greatest_2 (by decide) ?_
  refine lv_istore (lv' := [(4, .int 0), (3, .int (-1)), (0, .ref (ad 8)), (1, .int a1), (2, .int a2)]) C.x C.b dX5_greatest_3 hl (by decide) rfl (fun ls hl => ?_)
  obtain ⟨k1, hw⟩ := hw
  exact kM_greatest_5 C hI k1 _ _ _ _ _ _ _ _ hS (lv_sub hl [2, 3, 4, 1, 0] rfl) hw
theorem kM_greatest {l : Launch} (ht : l.stackTraces = false) (hI : mI ad) {w : gW} {u : gM} {a1 : Int32} {a2 : Int32} {Q : Int32 → gM → Prop} (hw : wM_greatest a1 a2 Q u) : gMet l yX5_greatest (ws_ yX5_greatest cX5_greatest 5 (some .int)) E (gmW E ad u w) [.ref (ad 8), .int a1, .int a2] 2 45 (mQ E ad w (uI Q)) gNoX :=
  g_ofW ht (by decide) (Nat.le_of_ble_eq_true rfl) (fun p e s m below meth c ls H C hl hS => kM_greatest_r C hI _ _ _ _ _ _ hS hl hw)
end GW0
