section GLW
variable {p : Program} {l : Launch} {e : Env} {s : State} {m : MethodId} {args : Array Value} {below : List Frame} {meth : Method} {c : Code} {E : gE} {w0 : gW}
def wJ_X5_init (E : gE) (i0 : Nat) (Q : gW → Prop) (w : gW) : Prop :=
  aA E 0 487 (fun q1 w2 => aP i0 4 0 (.ref q1) (fun w3 => aA E 0 1461 (fun q4 w5 => aP i0 4 1 (.ref q4) (fun w6 => aA E 0 487 (fun q7 w8 => aP i0 4 2 (.ref q7) (fun w9 => aA E 0 120 (fun q10 w11 => aP i0 4 4 (.ref q10) (fun w12 => aA E 0 32 (fun q13 w14 => aP i0 4 8 (.ref q13) (fun w15 => aA E 0 8 (fun q16 w17 => aP i0 4 9 (.ref q16) (fun w18 => aA E 0 8 (fun q19 w20 => aP i0 4 10 (.ref q19) (fun w21 => aA E 0 3 (fun q22 w23 => aP i0 4 13 (.ref q22) (fun w24 => aR E i0 4 0 (fun r25 => ∃ a26 : Nat, r25 = some a26 ∧ (aS E 0 a26 2 3 (fun w27 => aR E i0 4 0 (fun r28 => ∃ a29 : Nat, r28 = some a29 ∧ (aS E 0 a29 3 10 (fun w30 => aR E i0 4 0 (fun r31 => ∃ a32 : Nat, r31 = some a32 ∧ (aS E 0 a32 4 5 (fun w33 => aMV E i0 (fun Q u => wM_begins 4 Q u) (fun w34 => Q w34) w33) w30)) w30) w27)) w27) w24)) w24) w23) w21) w20) w18) w17) w15) w14) w12) w11) w9) w8) w6) w5) w3) w2) w
theorem kJ_X5_init_r (C : gC p l s m args meth c cX5_init 1 none RX5 E [] "<init>") (i0 : Nat) {Q : gW → Prop} (w : gW) (H : Heap) (locs : List Loc) (ls : Array Slot) (hS : gS E w0 w H locs) (hl : lv_has ls 1 [(0, .ref i0)]) (hw : wJ_X5_init E i0 Q w) : gGo p l e s m args below meth c H locs 3 65 E w0 w (gV Q) (gNoX) (F0 m 0 ls []) := by
  unfold wJ_X5_init at hw
  refine lv_aload_n C.x C.b dX5_init_0 rfl (lv_at hl 0 rfl) ?_
  refine W.objInit C.x C.b C.ow (C.ts _ q1461) (C.ts _ q115) (C.ts _ q116) rfl (by rw [C.ml]; exact hl.1) rfl dX5_init_1 (Nat.le_of_ble_eq_true rfl) (Nat.le_of_ble_eq_true rfl) ?_
  refine W.eq (g2 := F0 m 4 ls []) rfl ?_
  refine lv_aload_n C.x C.b dX5_init_4 rfl (lv_at hl 0 rfl) ?_
  refine lv_sipush (v := 487) C.x C.b dX5_init_5 (by decide) ?_
  refine a_A (t := 0) (atype := .int) C hS rfl (by decide) q206 dX5_init_8 hw (fun q1 w2 H hw hS => ?_)
  refine a_PF C hS in_X5 tyX5 tyX5_ok nmX5 rfl (k := 0) (ci := 4) (by decide) q1481 (fun _ h9 => h9) rfl rfl rfl rfl dX5_init_10 hw (fun w3 H locs hw hS => ?_)
  refine lv_aload_n C.x C.b dX5_init_13 rfl (lv_at hl 0 rfl) ?_
  refine lv_sipush (v := 1461) C.x C.b dX5_init_14 (by decide) ?_
  refine a_A (t := 0) (atype := .int) C hS rfl (by decide) q206 dX5_init_17 hw (fun q4 w5 H hw hS => ?_)
  refine a_PF C hS in_X5 tyX5 tyX5_ok nmX5 rfl (k := 1) (ci := 4) (by decide) q1482 (fun _ h9 => h9) rfl rfl rfl rfl dX5_init_19 hw (fun w6 H locs hw hS => ?_)
  refine lv_aload_n C.x C.b dX5_init_22 rfl (lv_at hl 0 rfl) ?_
  refine lv_sipush (v := 487) C.x C.b dX5_init_23 (by decide) ?_
  refine a_A (t := 0) (atype := .int) C hS rfl (by decide) q206 dX5_init_26 hw (fun q7 w8 H hw hS => ?_)
  refine a_PF C hS in_X5 tyX5 tyX5_ok nmX5 rfl (k := 2) (ci := 4) (by decide) q1483 (fun _ h9 => h9) rfl rfl rfl rfl dX5_init_28 hw (fun w9 H locs hw hS => ?_)
  refine lv_aload_n C.x C.b dX5_init_31 rfl (lv_at hl 0 rfl) ?_
  refine lv_bipush (v := 120) C.x C.b dX5_init_32 (by decide) ?_
  refine a_A (t := 0) (atype := .int) C hS rfl (by decide) q206 dX5_init_34 hw (fun q10 w11 H hw hS => ?_)
  refine a_PF C hS in_X5 tyX5 tyX5_ok nmX5 rfl (k := 4) (ci := 4) (by decide) q1485 (fun _ h9 => h9) rfl rfl rfl rfl dX5_init_36 hw (fun w12 H locs hw hS => ?_)
  refine lv_aload_n C.x C.b dX5_init_39 rfl (lv_at hl 0 rfl) ?_
  refine lv_bipush (v := 32) C.x C.b dX5_init_40 (by decide) ?_
  refine a_A (t := 0) (atype := .int) C hS rfl (by decide) q206 dX5_init_42 hw (fun q13 w14 H hw hS => ?_)
  refine a_PF C hS in_X5 tyX5 tyX5_ok nmX5 rfl (k := 8) (ci := 4) (by decide) q1489 (fun _ h9 => h9) rfl rfl rfl rfl dX5_init_44 hw (fun w15 H locs hw hS => ?_)
  refine lv_aload_n C.x C.b dX5_init_47 rfl (lv_at hl 0 rfl) ?_
  refine lv_bipush (v := 8) C.x C.b dX5_init_48 (by decide) ?_
  refine a_A (t := 0) (atype := .int) C hS rfl (by decide) q206 dX5_init_50 hw (fun q16 w17 H hw hS => ?_)
  refine a_PF C hS in_X5 tyX5 tyX5_ok nmX5 rfl (k := 9) (ci := 4) (by decide) q1490 (fun _ h9 => h9) rfl rfl rfl rfl dX5_init_52 hw (fun w18 H locs hw hS => ?_)
  refine lv_aload_n C.x C.b dX5_init_55 rfl (lv_at hl 0 rfl) ?_
  refine lv_bipush (v := 8) C.x C.b dX5_init_56 (by decide) ?_
  refine a_A (t := 0) (atype := .int) C hS rfl (by decide) q206 dX5_init_58 hw (fun q19 w20 H hw hS => ?_)
  refine a_PF C hS in_X5 tyX5 tyX5_ok nmX5 rfl (k := 10) (ci := 4) (by decide) q1491 (fun _ h9 => h9) rfl rfl rfl rfl dX5_init_60 hw (fun w21 H locs hw hS => ?_)
  refine lv_aload_n C.x C.b dX5_init_63 rfl (lv_at hl 0 rfl) ?_
  refine lv_iconst (v := 3) C.x C.b dX5_init_64 (by decide) ?_
  refine a_A (t := 0) (atype := .int) C hS rfl (by decide) q206 dX5_init_65 hw (fun q22 w23 H hw hS => ?_)
  refine a_PF C hS in_X5 tyX5 tyX5_ok nmX5 rfl (k := 13) (ci := 4) (by decide) q1494 (fun _ h9 => h9) rfl rfl rfl rfl dX5_init_67 hw (fun w24 H locs hw hS => ?_)
  refine lv_aload_n C.x C.b dX5_init_70 rfl (lv_at hl 0 rfl) ?_
  refine a_R C hS in_X5 rfl (k := 0) (ci := 4) (by decide) q1481 (fun _ h9 => h9) dX5_init_71 hw (fun r25 hw => ?_)
  refine lv_iconst (v := 2) C.x C.b dX5_init_74 (by decide) ?_
  refine lv_iconst (v := 3) C.x C.b dX5_init_75 (by decide) ?_
  obtain ⟨a26, e9, hw9⟩ := hw; subst e9; have hw := hw9; clear hw9
  have hl : lv_has ls 1 [(0, .ref i0)] := hl
  refine W.eq (g2 := F0 m 76 ls [.int 3, .int 2, .ref a26]) rfl ?_
  refine a_Si C hS dX5_init_76 hw (fun w27 H locs hw hS => ?_)
  refine lv_aload_n C.x C.b dX5_init_77 rfl (lv_at hl 0 rfl) ?_
  refine a_R C hS in_X5 rfl (k := 0) (ci := 4) (by decide) q1481 (fun _ h9 => h9) dX5_init_78 hw (fun r28 hw => ?_)
  refine lv_iconst (v := 3) C.x C.b dX5_init_81 (by decide) ?_
  refine lv_bipush (v := 10) C.x C.b dX5_init_82 (by decide) ?_
  obtain ⟨a29, e9, hw9⟩ := hw; subst e9; have hw := hw9; clear hw9
  have hl : lv_has ls 1 [(0, .ref i0)] := hl
  refine W.eq (g2 := F0 m 84 ls [.int 10, .int 3, .ref a29]) rfl ?_
  refine a_Si C hS dX5_init_84 hw (fun w30 H locs hw hS => ?_)
  refine lv_aload_n C.x C.b dX5_init_85 rfl (lv_at hl 0 rfl) ?_
  refine a_R C hS in_X5 rfl (k := 0) (ci := 4) (by decide) q1481 (fun _ h9 => h9) dX5_init_86 hw (fun r31 hw => ?_)
  refine lv_iconst (v := 4) C.x C.b dX5_init_89 (by decide) ?_
  refine lv_iconst (v := 5) C.x C.b dX5_init_90 (by decide) ?_
  obtain ⟨a32, e9, hw9⟩ := hw; subst e9; have hw := hw9; clear hw9
  have hl : lv_has ls 1 [(0, .ref i0)] := hl
  refine W.eq (g2 := F0 m 91 ls [.int 5, .int 4, .ref a32]) rfl ?_
  refine a_Si C hS dX5_init_91 hw (fun w33 H locs hw hS => ?_)
  refine lv_aload_n C.x C.b dX5_init_92 rfl (lv_at hl 0 rfl) ?_
  refine lv_iconst (v := 4) C.x C.b dX5_init_93 (by decide) ?_
  refine a_mV (rest := []) (As := [.int 4]) C hS hl hw (fun ad u wb Q hI h => kM_begins C.tr hI h) q1462 q1464 qs22 q88 q1465 (by decide +kernel : gNm yX5_begins 1 = true) rfl (Nat.le_of_ble_eq_true rfl) (Nat.le_of_ble_eq_true rfl) rfl (Nat.le_of_ble_eq_true rfl) dX5_init_94 (fun w34 H locs hw hS => ?_)
  exact g_vret C hS ⟨rfl, hw⟩ dX5_init_97
theorem ny_X5_init : gNm yX5_init 0 = true := by decide +kernel
theorem kJ_X5_init {l : Launch} (ht : l.stackTraces = false) {w : gW} {i0 : Nat} {Q : gW → Prop} (hw : wJ_X5_init E i0 Q w) : gMet l yX5_init (ws_ yX5_init cX5_init 1 none) E w [.ref i0] 3 65 (gV Q) (gNoX) :=
  g_ofW ht (by decide) (Nat.le_of_ble_eq_true rfl) (fun p e s m below meth c ls H C hl hS => kJ_X5_init_r C _ _ _ _ _ hS hl hw)
end GLW
