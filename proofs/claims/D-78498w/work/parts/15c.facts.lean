/-! FACTS: what the plain laws may take of the start -/
set_option maxRecDepth 100000
theorem gl_A {s : State} : ∀ a : Nat, a < s.heap.size → ¬ s.heap.size ≤ a := fun _ h => Nat.not_le.mpr h
def gStrs : List (String × Nat × String) := [("BridgeAuction", 19, "link"), ("BridgeAuction", 25, "bid"), ("BridgeAuction", 27, "fail"), ("BridgeAuction", 29, "fix"), ("BridgeAuction", 31, "prio"), ("BridgeAuction", 33, "host"), ("BridgeAuction", 35, "tick"), ("BridgeAuction", 90, "bridges"), ("BridgeAuction", 123, "times"), ("BridgeAuction", 149, "tenant"), ("BridgeAuction", 160, "credits"), ("BridgeAuction", 166, "too many credits"), ("BridgeAuction", 183, "what"), ("BridgeAuction", 215, "bridge or host"), ("BridgeAuction", 226, "tenant or link"), ("BridgeAuction", 242, "byte"), ("BridgeAuction", 247, "script"), ("BridgeAuction", 275, "nothing saved"), ("BridgeAuction$Network", 109, "bridge"), ("BridgeAuction$Network", 118, "link"), ("BridgeAuction$Network", 125, "priority"), ("BridgeAuction$Network", 147, "links"), ("BridgeAuction$Network", 161, "link is down"), ("BridgeAuction$Network", 169, "link is up"), ("BridgeAuction$Network", 173, "host or bridge"), ("BridgeAuction$Network", 177, "tenant or link"), ("BridgeAuction$Network", 181, "credits"), ("BridgeAuction$Network", 187, "ticks"), ("BridgeAuction$Network", 280, "host"), ("BridgeAuction$Network", 282, "hosts")]
/-- the constants that are compared: place, text, bytes, hash -/
def gWords : List (Nat × String × List Int32 × Int32) := [(19, "link", [108, 105, 110, 107], 3321850), (25, "bid", [98, 105, 100], 97533), (27, "fail", [102, 97, 105, 108], 3135262), (29, "fix", [102, 105, 120], 101397), (31, "prio", [112, 114, 105, 111], 3449512), (33, "host", [104, 111, 115, 116], 3208616), (35, "tick", [116, 105, 99, 107], 3559837)]
def gLamN (i : Nat) : String := ["lambda$commandOf$0", "lambda$commandOf$1", "lambda$commandOf$2", "lambda$commandOf$3", "lambda$commandOf$4", "lambda$commandOf$5", "lambda$commandOf$6"].getD i ""
def gEnv (E : gE) : Prop :=
  (gThZ E) ∧
  (aNc E "java/lang/IllegalArgumentException" "java/lang/IndexOutOfBoundsException") ∧
  (aNc E "java/lang/IllegalStateException" "java/lang/IllegalArgumentException") ∧
  (aNc E "java/lang/IllegalStateException" "java/lang/IndexOutOfBoundsException") ∧
  (aFw E "BridgeAuction$Bridge" (⟨"BridgeAuction$Ranked", "root", "()I"⟩ : MethodName) yX3_root) ∧
  (aFw E "BridgeAuction$Bridge" (⟨"BridgeAuction$Ranked", "cost", "()I"⟩ : MethodName) yX3_cost) ∧
  (aFw E "BridgeAuction$Bridge" (⟨"BridgeAuction$Ranked", "teller", "()I"⟩ : MethodName) yX3_teller) ∧
  (aDf E "BridgeAuction$Network" 249 "BridgeAuction$Bridge" "BridgeAuction$Ranked" (⟨"BridgeAuction$Bridge", "comesBefore", "(LBridgeAuction$Ranked;)Z"⟩ : MethodName) yX8_comesBefore) ∧
  (∃ mi : Nat, ∀ U : State, gZ E U → va_Mi "[Ljava/lang/Object;" mi U) ∧
  (∀ x ∈ gStrs, ∃ a : Nat, ∀ U : State, gZ E U → vk_R x.1 x.2.1 x.2.2 a U) ∧
  (∀ x ∈ gWords, ∃ a va : Nat, (∀ U : State, gZ E U → vk_R "BridgeAuction" x.1 x.2.1 a U) ∧ (∀ w : gW, gAt E w a (.inr (10, [.ref va, .int 0, .int x.2.2.2, .int 0]))) ∧ ∀ w : gW, gAtL E w 1 va x.2.2.1.length (fun j => x.2.2.1.getD j 0)) ∧
  (gSt E "java/lang/String" "COMPACT_STRINGS" "Z" (.int 1)) ∧
  (∃ a : Nat, gSt E "java/util/ArrayList" "DEFAULTCAPACITY_EMPTY_ELEMENTDATA" "[Ljava/lang/Object;" (.ref a) ∧ a < gB E ∧ ∀ w : gW, gAtN E w a 0) ∧
  (∀ i, i < 7 → ∃ b : Nat, gLam E (216 + 6 * i) (gLamN i) b) ∧
  (gLC E = gB E + 1200384 ∧ gLS E = 5487274)
theorem gEnv.thr {E : gE} (h : gEnv E) : gThZ E := h.1
theorem gEnv.nc1 {E : gE} (h : gEnv E) : aNc E "java/lang/IllegalArgumentException" "java/lang/IndexOutOfBoundsException" := h.2.1
theorem gEnv.nc2 {E : gE} (h : gEnv E) : aNc E "java/lang/IllegalStateException" "java/lang/IllegalArgumentException" := h.2.2.1
theorem gEnv.nc3 {E : gE} (h : gEnv E) : aNc E "java/lang/IllegalStateException" "java/lang/IndexOutOfBoundsException" := h.2.2.2.1
theorem gEnv.fwr {E : gE} (h : gEnv E) : aFw E "BridgeAuction$Bridge" (⟨"BridgeAuction$Ranked", "root", "()I"⟩ : MethodName) yX3_root := h.2.2.2.2.1
theorem gEnv.fwc {E : gE} (h : gEnv E) : aFw E "BridgeAuction$Bridge" (⟨"BridgeAuction$Ranked", "cost", "()I"⟩ : MethodName) yX3_cost := h.2.2.2.2.2.1
theorem gEnv.fwt {E : gE} (h : gEnv E) : aFw E "BridgeAuction$Bridge" (⟨"BridgeAuction$Ranked", "teller", "()I"⟩ : MethodName) yX3_teller := h.2.2.2.2.2.2.1
theorem gEnv.df {E : gE} (h : gEnv E) : aDf E "BridgeAuction$Network" 249 "BridgeAuction$Bridge" "BridgeAuction$Ranked" (⟨"BridgeAuction$Bridge", "comesBefore", "(LBridgeAuction$Ranked;)Z"⟩ : MethodName) yX8_comesBefore := h.2.2.2.2.2.2.2.1
theorem gEnv.mir {E : gE} (h : gEnv E) : ∃ mi : Nat, ∀ U : State, gZ E U → va_Mi "[Ljava/lang/Object;" mi U := h.2.2.2.2.2.2.2.2.1
theorem gEnv.str {E : gE} (h : gEnv E) : ∀ x ∈ gStrs, ∃ a : Nat, ∀ U : State, gZ E U → vk_R x.1 x.2.1 x.2.2 a U := h.2.2.2.2.2.2.2.2.2.1
theorem gEnv.cst {E : gE} (h : gEnv E) : ∀ x ∈ gWords, ∃ a va : Nat, (∀ U : State, gZ E U → vk_R "BridgeAuction" x.1 x.2.1 a U) ∧ (∀ w : gW, gAt E w a (.inr (10, [.ref va, .int 0, .int x.2.2.2, .int 0]))) ∧ ∀ w : gW, gAtL E w 1 va x.2.2.1.length (fun j => x.2.2.1.getD j 0) := h.2.2.2.2.2.2.2.2.2.2.1
theorem gEnv.cs {E : gE} (h : gEnv E) : gSt E "java/lang/String" "COMPACT_STRINGS" "Z" (.int 1) := h.2.2.2.2.2.2.2.2.2.2.2.1
theorem gEnv.ed {E : gE} (h : gEnv E) : ∃ a : Nat, gSt E "java/util/ArrayList" "DEFAULTCAPACITY_EMPTY_ELEMENTDATA" "[Ljava/lang/Object;" (.ref a) ∧ a < gB E ∧ ∀ w : gW, gAtN E w a 0 := h.2.2.2.2.2.2.2.2.2.2.2.2.1
theorem gEnv.lam {E : gE} (h : gEnv E) : ∀ i, i < 7 → ∃ b : Nat, gLam E (216 + 6 * i) (gLamN i) b := h.2.2.2.2.2.2.2.2.2.2.2.2.2.1
theorem gEnv.lim {E : gE} (h : gEnv E) : gLC E = gB E + 1200384 ∧ gLS E = 5487274 := h.2.2.2.2.2.2.2.2.2.2.2.2.2.2
theorem gl_string {s : State} {b : Addr} {D : va_G} {Tt : Nat → ClassId} (hK : va_K D gCl (gl_tys Tt) s) {own tx : String} {k : Nat} {bs : List Int32} {hv : Int32} (hn : bs.length < 2 ^ 31) (h1 : (Cond.stringRef own k tx).before #[Value.ref b] s = true) (h2 : (Cond.exactly (.string own k) "java/lang/String").before #[Value.ref b] s = true)
    (h3 : (Cond.eq (.field (.string own k) "java/lang/String" "coder" "B") (.int 0)).before #[Value.ref b] s = true) (h4 : (Cond.eq (.field (.string own k) "java/lang/String" "hash" "I") (.int hv)).before #[Value.ref b] s = true) (h5 : (Cond.eq (.field (.string own k) "java/lang/String" "hashIsZero" "Z") (.int 0)).before #[Value.ref b] s = true)
    (h6 : (Cond.arrayOf (.field (.string own k) "java/lang/String" "value" "[B") .byte).before #[Value.ref b] s = true) (h7 : (Cond.eq (.length (.field (.string own k) "java/lang/String" "value" "[B")) (.int (Int32.ofNat bs.length))).before #[Value.ref b] s = true) (h8 : ∀ j : Nat, j < bs.length → (Cond.eq (.elem (.field (.string own k) "java/lang/String" "value" "[B") (.int (Int32.ofNat j))) (.int (bs.getD j 0))).before #[Value.ref b] s = true) :
    ∃ a va : Nat, (∀ U : State, s.WarmedH U.vm → vk_R own k tx a U) ∧ (∀ w : gW, gAt (gl_E s D Tt) w a (.inr (10, [.ref va, .int 0, .int hv, .int 0]))) ∧ ∀ w : gW, gAtL (gl_E s D Tt) w 1 va bs.length (fun j => bs.getD j 0) := by
  obtain ⟨a, c, cell, kA, q1, q2, q3, q4, q5, q6, -⟩ := Cond.exactly_spec h2
  obtain ⟨t, ht, hT⟩ := va_Tof (f := fun j => .int (bs.getD j 0)) (A := fun q => s.heap.size ≤ q) hn h6 (va_eqt h7) (fun j hj => va_eqt (h8 j hj)) gl_A
  have f0 := vk_OFof (A := fun q => s.heap.size ≤ q) q1 ht gl_A
  have f1 := vk_OFof (A := fun q => s.heap.size ≤ q) q1 (va_eqt h3) gl_A
  have f2 := vk_OFof (A := fun q => s.heap.size ≤ q) q1 (va_eqt h4) gl_A
  have f3 := vk_OFof (A := fun q => s.heap.size ≤ q) q1 (va_eqt h5) gl_A
  have hkn := hK.1 10 _ rfl
  have hfit : ∀ {o n d : String} {v : Value} {i : Nat}, va_OF o n d v a (fun q => s.heap.size ≤ q) s s.heap → SlotIs s o n d i → cell.slots[i]? = some v := by
    intro o n d v i h hs
    obtain ⟨cf, kf, fi, f, cell2, e1, e2, e3, e4, e5, e6⟩ := h
    obtain ⟨cf', kf', fi', f', g1, g2⟩ := hs
    cases q3.symm.trans e3
    have hff : f = f' := by
      have h9 := e1.symm.trans g1
      simp only [Option.some.injEq, Prod.mk.injEq] at h9
      exact h9.2.2.2
    subst hff
    rw [← g2]
    exact e5
  have hlt : a < s.heap.size := (Array.getElem?_eq_some_iff.mp q3).1
  have hvm : cell.vm ≠ .unknown := by
    obtain ⟨cf, kf, fi, f, cell2, e1, e2, e3, e4, e5, e6⟩ := f0
    cases q3.symm.trans e3
    exact e4
  refine ⟨a, t, fun U hW => vk_R.warm hW (vk_R.of h1 q1), fun w => Or.inr ⟨hlt, _, rfl, cell, q3, ?_, q5, hvm, ?_⟩, fun w => Or.inr fun U hW => va_T.moved hW.alike hT⟩
  · rw [q6]
    exact Option.some.inj (q2.symm.trans hkn.2.1)
  · intro k9 hk9
    have hk9 : k9 < 4 := hk9
    match k9, hk9 with
    | 0, _ => exact hfit f0 (hkn.1 0 (by decide))
    | 1, _ => exact hfit f1 (hkn.1 1 (by decide))
    | 2, _ => exact hfit f2 (hkn.1 2 (by decide))
    | 3, _ => exact hfit f3 (hkn.1 3 (by decide))
theorem gl_lam {s : State} {b : Addr} {D : va_G} {Tt : Nat → ClassId} {pc index : Nat} {nm : String} (hface : (Cond.interfaceMethod "BridgeAuction$Command" "BridgeAuction$Command" "run" "(LBridgeAuction$Network;III)I").before #[Value.ref b] s = true) (hdecl : (Cond.declares lmR).before #[Value.ref b] s = true)
    (h : (Cond.lambdaSite yX1_commandOf pc index (lmS nm)).before #[Value.ref b] s = true) : ∃ a : Nat, gLam (gl_E s D Tt) pc nm a := by
  obtain ⟨c, one, hat⟩ := Cond.lambdaSite_spec h
  obtain ⟨m, k, cf, i0, p0, l, hm, hk, hcf, hsh, hin, hfind, hmade, hcall, hl⟩ := State.lambdaAt?_spec hat
  rcases hl with ⟨a, cell, rfl, rfl, hcap, hcell, rfl, hvm, hslots⟩ | ⟨-, -, hcap⟩
  · refine ⟨a, cell, hcell, hvm, fun U hW => ⟨?_, ?_⟩⟩
    · have hW : s.WarmedH U.vm := hW
      obtain ⟨k', hk', he⟩ := hW.alike.2.2 _ _ hk
      have hU : s.setVm U.vm = s.setVm U.vm := rfl
      refine ⟨m, k', i0, p0, ?_, hk', by rw [he]; exact hfind, Lambda.isMade_warmer hW hmade, ?_⟩
      · have h9 := State.methodNamed?_setVm (s := s) hW.alike yX1_commandOf
        rw [hm] at h9
        have h8 : U.methodNamed? yX1_commandOf = (s.setVm U.vm).methodNamed? yX1_commandOf := by simp only [State.methodNamed?, State.vm_setVm]
        rw [h8]; exact h9
      · have hA := hW.alike
        simp only [State.lambdaCallable, hA.findClass, hA.assignable, hA.superclasses, hA.declaredIn] at hcall ⊢
        exact hcall
    · have hW : s.WarmedH U.vm := hW
      obtain ⟨r, meth, hn, -⟩ := Cond.declares_spec hdecl
      have h9 : (Cond.interfaceMethod "BridgeAuction$Command" "BridgeAuction$Command" "run" "(LBridgeAuction$Network;III)I").before #[Value.ref b] (s.setVm U.vm) = true := by
        rw [Cond.interfaceMethod_setVm hW.alike (r := r) hn ⟨by decide, by decide⟩]
        exact hface
      exact va_tabs (u := s.setVm U.vm) rfl rfl h9
  · exact absurd rfl hcap
set_option maxHeartbeats 4000000 in
theorem gl_env {p : Program} {s : State} {m : MethodId} {meth : Method} {c : Code} {b L : Nat} {xs : Nat → Int32} (C0 : lw_At p s m meth c b L xs) {D : va_G} {Tt : Nat → ClassId} (hK : va_K D gCl (gl_tys Tt) s) : gEnv (gl_E s D Tt) := by
  obtain ⟨hx, hb, hr, hml, hown, hts, hX, hbl, hlocks, hgv⟩ := id C0
  have hs := flat_of_before _ hgv
  refine ⟨?thr, ?nc1, ?nc2, ?nc3, ?fwr, ?fwc, ?fwt, ?df, ?mir, ?str, ?cst, ?cs, ?ed, ?lam, ⟨rfl, rfl⟩⟩
  case thr =>
    intro U hW
    have hW : s.WarmedH U.vm := hW
    exact ⟨vx_Zq.moved hW.alike (vx_Zqof (hts (.laysStatic Bundle.tN "UNASSIGNED_STACK" Bundle.steD) (List.mem_of_getElem? (i := 637) rfl : _ ∈ lw_tbl)) (hts _ (lw_all_tbl q89)) (hs _ (by decide +kernel)) gl_A), vx_Zq.moved hW.alike (vx_Zqof (hts (.laysStatic Bundle.tN "SUPPRESSED_SENTINEL" Bundle.listD) (List.mem_of_getElem? (i := 639) rfl : _ ∈ lw_tbl)) (hts _ (lw_all_tbl q89)) (hs _ (by decide +kernel)) gl_A)⟩
  case nc1 => exact fun U hW => va_Nc.moved (show s.WarmedH U.vm from hW).alike (va_Nc.of (hs (.not (.castable "java/lang/IllegalArgumentException" "java/lang/IndexOutOfBoundsException")) (by decide +kernel)))
  case nc2 => exact fun U hW => va_Nc.moved (show s.WarmedH U.vm from hW).alike (va_Nc.of (hs (.not (.castable "java/lang/IllegalStateException" "java/lang/IllegalArgumentException")) (by decide +kernel)))
  case nc3 => exact fun U hW => va_Nc.moved (show s.WarmedH U.vm from hW).alike (va_Nc.of (hs (.not (.castable "java/lang/IllegalStateException" "java/lang/IndexOutOfBoundsException")) (by decide +kernel)))
  case fwr => exact fun U hW => va_Fw.moved ⟨by decide, by decide⟩ (show s.WarmedH U.vm from hW).alike (va_Fw.of (hts _ (List.mem_of_getElem? (i := 1097) rfl : _ ∈ lw_tbl)) (hts _ (List.mem_of_getElem? (i := 1096) rfl : _ ∈ lw_tbl)) (hts _ (List.mem_of_getElem? (i := 1102) rfl : _ ∈ lw_tbl)) (hts _ (List.mem_of_getElem? (i := 1100) rfl : _ ∈ lw_tbl)) (hts _ (List.mem_of_getElem? (i := 1098) rfl : _ ∈ lw_tbl)))
  case fwc => exact fun U hW => va_Fw.moved ⟨by decide, by decide⟩ (show s.WarmedH U.vm from hW).alike (va_Fw.of (hts _ (List.mem_of_getElem? (i := 1113) rfl : _ ∈ lw_tbl)) (hts _ (List.mem_of_getElem? (i := 1112) rfl : _ ∈ lw_tbl)) (hts _ (List.mem_of_getElem? (i := 1117) rfl : _ ∈ lw_tbl)) (hts _ (List.mem_of_getElem? (i := 1115) rfl : _ ∈ lw_tbl)) (hts _ (List.mem_of_getElem? (i := 1098) rfl : _ ∈ lw_tbl)))
  case fwt => exact fun U hW => va_Fw.moved ⟨by decide, by decide⟩ (show s.WarmedH U.vm from hW).alike (va_Fw.of (hts _ (List.mem_of_getElem? (i := 1127) rfl : _ ∈ lw_tbl)) (hts _ (List.mem_of_getElem? (i := 1126) rfl : _ ∈ lw_tbl)) (hts _ (List.mem_of_getElem? (i := 1131) rfl : _ ∈ lw_tbl)) (hts _ (List.mem_of_getElem? (i := 1129) rfl : _ ∈ lw_tbl)) (hts _ (List.mem_of_getElem? (i := 1098) rfl : _ ∈ lw_tbl)))
  case df =>
    intro A U hW
    have hW : s.WarmedH U.vm := hW
    have d1 := hs (.methodLink "BridgeAuction$Network" 249 ⟨"BridgeAuction$Bridge", "comesBefore", "(LBridgeAuction$Ranked;)Z"⟩) (by decide +kernel)
    have d2 := hs (.sameMethod "BridgeAuction$Bridge" "BridgeAuction$Ranked" "comesBefore" "(LBridgeAuction$Ranked;)Z") (by decide +kernel)
    have d3 := hs (.landsInDefault "BridgeAuction$Bridge" ⟨"BridgeAuction$Bridge", "comesBefore", "(LBridgeAuction$Ranked;)Z"⟩ ⟨"BridgeAuction$Ranked", "comesBefore", "(LBridgeAuction$Ranked;)Z"⟩) (by decide +kernel)
    refine ⟨word_at hW (good_of_word rfl) d1, word_at hW (good_of_word rfl) d2, ?_⟩
    obtain ⟨cn, ck, r1, hcn, hck, hni, hf, hn1⟩ := Cond.sameMethod_found d2
    have hcnm : ck.name = "BridgeAuction$Bridge" := by
      obtain ⟨k9, h9, h8⟩ := Vm.findClass_spec hcn
      cases hck.symm.trans h9
      exact h8
    have h9 := Cond.landsInDefault_setVm (args := #[Value.ref b]) (args' := A) (s := s) hW.alike (cls := "BridgeAuction$Bridge") (x := ⟨"BridgeAuction$Bridge", "comesBefore", "(LBridgeAuction$Ranked;)Z"⟩) (y := ⟨"BridgeAuction$Ranked", "comesBefore", "(LBridgeAuction$Ranked;)Z"⟩)
      (State.methodFound?_setVm_class hW.alike hcn hck hni (fun y => by simp [signaturePolymorphic, hcnm]) _ _)
    have h10 := h9.trans d3
    exact h10
  case mir =>
    obtain ⟨mi, h⟩ := va_Mi.of (hs (.isRef (.mirror "[Ljava/lang/Object;")) (by decide +kernel))
    exact ⟨mi, fun U hW => h.moved (show s.WarmedH U.vm from hW).alike⟩
  case str =>
    intro x hx
    have hx2 : x ∈ gStrs := hx
    simp only [gStrs, List.mem_cons, List.not_mem_nil, or_false] at hx2
    rcases hx2 with rfl | rfl | rfl | rfl | rfl | rfl | rfl | rfl | rfl | rfl | rfl | rfl | rfl | rfl | rfl | rfl | rfl | rfl | rfl | rfl | rfl | rfl | rfl | rfl | rfl | rfl | rfl | rfl | rfl | rfl
    · obtain ⟨a, c9, cell9, k9, q1, -⟩ := Cond.exactly_spec (hs (.exactly (.string "BridgeAuction" 19) "java/lang/String") (by decide +kernel))
      exact ⟨a, fun U hW => vk_R.warm (show s.WarmedH U.vm from hW) (vk_R.of (hts _ (List.mem_of_getElem? (i := 843) rfl : _ ∈ lw_tbl)) q1)⟩
    · obtain ⟨a, c9, cell9, k9, q1, -⟩ := Cond.exactly_spec (hs (.exactly (.string "BridgeAuction" 25) "java/lang/String") (by decide +kernel))
      exact ⟨a, fun U hW => vk_R.warm (show s.WarmedH U.vm from hW) (vk_R.of (hts _ (List.mem_of_getElem? (i := 852) rfl : _ ∈ lw_tbl)) q1)⟩
    · obtain ⟨a, c9, cell9, k9, q1, -⟩ := Cond.exactly_spec (hs (.exactly (.string "BridgeAuction" 27) "java/lang/String") (by decide +kernel))
      exact ⟨a, fun U hW => vk_R.warm (show s.WarmedH U.vm from hW) (vk_R.of (hts _ (List.mem_of_getElem? (i := 853) rfl : _ ∈ lw_tbl)) q1)⟩
    · obtain ⟨a, c9, cell9, k9, q1, -⟩ := Cond.exactly_spec (hs (.exactly (.string "BridgeAuction" 29) "java/lang/String") (by decide +kernel))
      exact ⟨a, fun U hW => vk_R.warm (show s.WarmedH U.vm from hW) (vk_R.of (hts _ (List.mem_of_getElem? (i := 854) rfl : _ ∈ lw_tbl)) q1)⟩
    · obtain ⟨a, c9, cell9, k9, q1, -⟩ := Cond.exactly_spec (hs (.exactly (.string "BridgeAuction" 31) "java/lang/String") (by decide +kernel))
      exact ⟨a, fun U hW => vk_R.warm (show s.WarmedH U.vm from hW) (vk_R.of (hts _ (List.mem_of_getElem? (i := 855) rfl : _ ∈ lw_tbl)) q1)⟩
    · obtain ⟨a, c9, cell9, k9, q1, -⟩ := Cond.exactly_spec (hs (.exactly (.string "BridgeAuction" 33) "java/lang/String") (by decide +kernel))
      exact ⟨a, fun U hW => vk_R.warm (show s.WarmedH U.vm from hW) (vk_R.of (hts _ (List.mem_of_getElem? (i := 856) rfl : _ ∈ lw_tbl)) q1)⟩
    · obtain ⟨a, c9, cell9, k9, q1, -⟩ := Cond.exactly_spec (hs (.exactly (.string "BridgeAuction" 35) "java/lang/String") (by decide +kernel))
      exact ⟨a, fun U hW => vk_R.warm (show s.WarmedH U.vm from hW) (vk_R.of (hts _ (List.mem_of_getElem? (i := 857) rfl : _ ∈ lw_tbl)) q1)⟩
    · obtain ⟨a, c9, cell9, k9, q1, -⟩ := Cond.exactly_spec (hs (.exactly (.string "BridgeAuction" 90) "java/lang/String") (by decide +kernel))
      exact ⟨a, fun U hW => vk_R.warm (show s.WarmedH U.vm from hW) (vk_R.of (hts _ (List.mem_of_getElem? (i := 1276) rfl : _ ∈ lw_tbl)) q1)⟩
    · obtain ⟨a, c9, cell9, k9, q1, -⟩ := Cond.exactly_spec (hs (.exactly (.string "BridgeAuction" 123) "java/lang/String") (by decide +kernel))
      exact ⟨a, fun U hW => vk_R.warm (show s.WarmedH U.vm from hW) (vk_R.of (hts _ (List.mem_of_getElem? (i := 1288) rfl : _ ∈ lw_tbl)) q1)⟩
    · obtain ⟨a, c9, cell9, k9, q1, -⟩ := Cond.exactly_spec (hs (.exactly (.string "BridgeAuction" 149) "java/lang/String") (by decide +kernel))
      exact ⟨a, fun U hW => vk_R.warm (show s.WarmedH U.vm from hW) (vk_R.of (hts _ (List.mem_of_getElem? (i := 1344) rfl : _ ∈ lw_tbl)) q1)⟩
    · obtain ⟨a, c9, cell9, k9, q1, -⟩ := Cond.exactly_spec (hs (.exactly (.string "BridgeAuction" 160) "java/lang/String") (by decide +kernel))
      exact ⟨a, fun U hW => vk_R.warm (show s.WarmedH U.vm from hW) (vk_R.of (hts _ (List.mem_of_getElem? (i := 1347) rfl : _ ∈ lw_tbl)) q1)⟩
    · obtain ⟨a, c9, cell9, k9, q1, -⟩ := Cond.exactly_spec (hs (.exactly (.string "BridgeAuction" 166) "java/lang/String") (by decide +kernel))
      exact ⟨a, fun U hW => vk_R.warm (show s.WarmedH U.vm from hW) (vk_R.of (hts _ (List.mem_of_getElem? (i := 1349) rfl : _ ∈ lw_tbl)) q1)⟩
    · obtain ⟨a, c9, cell9, k9, q1, -⟩ := Cond.exactly_spec (hs (.exactly (.string "BridgeAuction" 183) "java/lang/String") (by decide +kernel))
      exact ⟨a, fun U hW => vk_R.warm (show s.WarmedH U.vm from hW) (vk_R.of (hts _ (List.mem_of_getElem? (i := 1388) rfl : _ ∈ lw_tbl)) q1)⟩
    · obtain ⟨a, c9, cell9, k9, q1, -⟩ := Cond.exactly_spec (hs (.exactly (.string "BridgeAuction" 215) "java/lang/String") (by decide +kernel))
      exact ⟨a, fun U hW => vk_R.warm (show s.WarmedH U.vm from hW) (vk_R.of (hts _ (List.mem_of_getElem? (i := 1413) rfl : _ ∈ lw_tbl)) q1)⟩
    · obtain ⟨a, c9, cell9, k9, q1, -⟩ := Cond.exactly_spec (hs (.exactly (.string "BridgeAuction" 226) "java/lang/String") (by decide +kernel))
      exact ⟨a, fun U hW => vk_R.warm (show s.WarmedH U.vm from hW) (vk_R.of (hts _ (List.mem_of_getElem? (i := 1429) rfl : _ ∈ lw_tbl)) q1)⟩
    · obtain ⟨a, c9, cell9, k9, q1, -⟩ := Cond.exactly_spec (hs (.exactly (.string "BridgeAuction" 242) "java/lang/String") (by decide +kernel))
      exact ⟨a, fun U hW => vk_R.warm (show s.WarmedH U.vm from hW) (vk_R.of (hts _ (List.mem_of_getElem? (i := 1446) rfl : _ ∈ lw_tbl)) q1)⟩
    · obtain ⟨a, c9, cell9, k9, q1, -⟩ := Cond.exactly_spec (hs (.exactly (.string "BridgeAuction" 247) "java/lang/String") (by decide +kernel))
      exact ⟨a, fun U hW => vk_R.warm (show s.WarmedH U.vm from hW) (vk_R.of (hts _ (List.mem_of_getElem? (i := 1447) rfl : _ ∈ lw_tbl)) q1)⟩
    · obtain ⟨a, c9, cell9, k9, q1, -⟩ := Cond.exactly_spec (hs (.exactly (.string "BridgeAuction" 275) "java/lang/String") (by decide +kernel))
      exact ⟨a, fun U hW => vk_R.warm (show s.WarmedH U.vm from hW) (vk_R.of (hts _ (List.mem_of_getElem? (i := 1455) rfl : _ ∈ lw_tbl)) q1)⟩
    · obtain ⟨a, c9, cell9, k9, q1, -⟩ := Cond.exactly_spec (hs (.exactly (.string "BridgeAuction$Network" 109) "java/lang/String") (by decide +kernel))
      exact ⟨a, fun U hW => vk_R.warm (show s.WarmedH U.vm from hW) (vk_R.of (hts _ (List.mem_of_getElem? (i := 869) rfl : _ ∈ lw_tbl)) q1)⟩
    · obtain ⟨a, c9, cell9, k9, q1, -⟩ := Cond.exactly_spec (hs (.exactly (.string "BridgeAuction$Network" 118) "java/lang/String") (by decide +kernel))
      exact ⟨a, fun U hW => vk_R.warm (show s.WarmedH U.vm from hW) (vk_R.of (hts _ (List.mem_of_getElem? (i := 889) rfl : _ ∈ lw_tbl)) q1)⟩
    · obtain ⟨a, c9, cell9, k9, q1, -⟩ := Cond.exactly_spec (hs (.exactly (.string "BridgeAuction$Network" 125) "java/lang/String") (by decide +kernel))
      exact ⟨a, fun U hW => vk_R.warm (show s.WarmedH U.vm from hW) (vk_R.of (hts _ (List.mem_of_getElem? (i := 1027) rfl : _ ∈ lw_tbl)) q1)⟩
    · obtain ⟨a, c9, cell9, k9, q1, -⟩ := Cond.exactly_spec (hs (.exactly (.string "BridgeAuction$Network" 147) "java/lang/String") (by decide +kernel))
      exact ⟨a, fun U hW => vk_R.warm (show s.WarmedH U.vm from hW) (vk_R.of (hts _ (List.mem_of_getElem? (i := 895) rfl : _ ∈ lw_tbl)) q1)⟩
    · obtain ⟨a, c9, cell9, k9, q1, -⟩ := Cond.exactly_spec (hs (.exactly (.string "BridgeAuction$Network" 161) "java/lang/String") (by decide +kernel))
      exact ⟨a, fun U hW => vk_R.warm (show s.WarmedH U.vm from hW) (vk_R.of (hts _ (List.mem_of_getElem? (i := 1008) rfl : _ ∈ lw_tbl)) q1)⟩
    · obtain ⟨a, c9, cell9, k9, q1, -⟩ := Cond.exactly_spec (hs (.exactly (.string "BridgeAuction$Network" 169) "java/lang/String") (by decide +kernel))
      exact ⟨a, fun U hW => vk_R.warm (show s.WarmedH U.vm from hW) (vk_R.of (hts _ (List.mem_of_getElem? (i := 1015) rfl : _ ∈ lw_tbl)) q1)⟩
    · obtain ⟨a, c9, cell9, k9, q1, -⟩ := Cond.exactly_spec (hs (.exactly (.string "BridgeAuction$Network" 173) "java/lang/String") (by decide +kernel))
      exact ⟨a, fun U hW => vk_R.warm (show s.WarmedH U.vm from hW) (vk_R.of (hts _ (List.mem_of_getElem? (i := 1037) rfl : _ ∈ lw_tbl)) q1)⟩
    · obtain ⟨a, c9, cell9, k9, q1, -⟩ := Cond.exactly_spec (hs (.exactly (.string "BridgeAuction$Network" 177) "java/lang/String") (by decide +kernel))
      exact ⟨a, fun U hW => vk_R.warm (show s.WarmedH U.vm from hW) (vk_R.of (hts _ (List.mem_of_getElem? (i := 995) rfl : _ ∈ lw_tbl)) q1)⟩
    · obtain ⟨a, c9, cell9, k9, q1, -⟩ := Cond.exactly_spec (hs (.exactly (.string "BridgeAuction$Network" 181) "java/lang/String") (by decide +kernel))
      exact ⟨a, fun U hW => vk_R.warm (show s.WarmedH U.vm from hW) (vk_R.of (hts _ (List.mem_of_getElem? (i := 997) rfl : _ ∈ lw_tbl)) q1)⟩
    · obtain ⟨a, c9, cell9, k9, q1, -⟩ := Cond.exactly_spec (hs (.exactly (.string "BridgeAuction$Network" 187) "java/lang/String") (by decide +kernel))
      exact ⟨a, fun U hW => vk_R.warm (show s.WarmedH U.vm from hW) (vk_R.of (hts _ (List.mem_of_getElem? (i := 1045) rfl : _ ∈ lw_tbl)) q1)⟩
    · obtain ⟨a, c9, cell9, k9, q1, -⟩ := Cond.exactly_spec (hs (.exactly (.string "BridgeAuction$Network" 280) "java/lang/String") (by decide +kernel))
      exact ⟨a, fun U hW => vk_R.warm (show s.WarmedH U.vm from hW) (vk_R.of (hts _ (List.mem_of_getElem? (i := 1369) rfl : _ ∈ lw_tbl)) q1)⟩
    · obtain ⟨a, c9, cell9, k9, q1, -⟩ := Cond.exactly_spec (hs (.exactly (.string "BridgeAuction$Network" 282) "java/lang/String") (by decide +kernel))
      exact ⟨a, fun U hW => vk_R.warm (show s.WarmedH U.vm from hW) (vk_R.of (hts _ (List.mem_of_getElem? (i := 1370) rfl : _ ∈ lw_tbl)) q1)⟩
  case cst =>
    intro x hx
    have hx2 : x ∈ gWords := hx
    simp only [gWords, List.mem_cons, List.not_mem_nil, or_false] at hx2
    rcases hx2 with rfl | rfl | rfl | rfl | rfl | rfl | rfl
    · refine gl_string hK (by decide) (hts _ (List.mem_of_getElem? (i := 843) rfl : _ ∈ lw_tbl)) (hs _ (by decide +kernel)) (hs _ (by decide +kernel)) (hs _ (by decide +kernel)) (hs _ (by decide +kernel)) (hs _ (by decide +kernel)) (hs _ (by decide +kernel)) ?_
      intro j hj
      match j, hj with
      | 0, _ => exact hs _ (by decide +kernel)
      | 1, _ => exact hs _ (by decide +kernel)
      | 2, _ => exact hs _ (by decide +kernel)
      | 3, _ => exact hs _ (by decide +kernel)
      | j + 4, hj => exact absurd hj (by simp)
    · refine gl_string hK (by decide) (hts _ (List.mem_of_getElem? (i := 852) rfl : _ ∈ lw_tbl)) (hs _ (by decide +kernel)) (hs _ (by decide +kernel)) (hs _ (by decide +kernel)) (hs _ (by decide +kernel)) (hs _ (by decide +kernel)) (hs _ (by decide +kernel)) ?_
      intro j hj
      match j, hj with
      | 0, _ => exact hs _ (by decide +kernel)
      | 1, _ => exact hs _ (by decide +kernel)
      | 2, _ => exact hs _ (by decide +kernel)
      | j + 3, hj => exact absurd hj (by simp)
    · refine gl_string hK (by decide) (hts _ (List.mem_of_getElem? (i := 853) rfl : _ ∈ lw_tbl)) (hs _ (by decide +kernel)) (hs _ (by decide +kernel)) (hs _ (by decide +kernel)) (hs _ (by decide +kernel)) (hs _ (by decide +kernel)) (hs _ (by decide +kernel)) ?_
      intro j hj
      match j, hj with
      | 0, _ => exact hs _ (by decide +kernel)
      | 1, _ => exact hs _ (by decide +kernel)
      | 2, _ => exact hs _ (by decide +kernel)
      | 3, _ => exact hs _ (by decide +kernel)
      | j + 4, hj => exact absurd hj (by simp)
    · refine gl_string hK (by decide) (hts _ (List.mem_of_getElem? (i := 854) rfl : _ ∈ lw_tbl)) (hs _ (by decide +kernel)) (hs _ (by decide +kernel)) (hs _ (by decide +kernel)) (hs _ (by decide +kernel)) (hs _ (by decide +kernel)) (hs _ (by decide +kernel)) ?_
      intro j hj
      match j, hj with
      | 0, _ => exact hs _ (by decide +kernel)
      | 1, _ => exact hs _ (by decide +kernel)
      | 2, _ => exact hs _ (by decide +kernel)
      | j + 3, hj => exact absurd hj (by simp)
    · refine gl_string hK (by decide) (hts _ (List.mem_of_getElem? (i := 855) rfl : _ ∈ lw_tbl)) (hs _ (by decide +kernel)) (hs _ (by decide +kernel)) (hs _ (by decide +kernel)) (hs _ (by decide +kernel)) (hs _ (by decide +kernel)) (hs _ (by decide +kernel)) ?_
      intro j hj
      match j, hj with
      | 0, _ => exact hs _ (by decide +kernel)
      | 1, _ => exact hs _ (by decide +kernel)
      | 2, _ => exact hs _ (by decide +kernel)
      | 3, _ => exact hs _ (by decide +kernel)
      | j + 4, hj => exact absurd hj (by simp)
    · refine gl_string hK (by decide) (hts _ (List.mem_of_getElem? (i := 856) rfl : _ ∈ lw_tbl)) (hs _ (by decide +kernel)) (hs _ (by decide +kernel)) (hs _ (by decide +kernel)) (hs _ (by decide +kernel)) (hs _ (by decide +kernel)) (hs _ (by decide +kernel)) ?_
      intro j hj
      match j, hj with
      | 0, _ => exact hs _ (by decide +kernel)
      | 1, _ => exact hs _ (by decide +kernel)
      | 2, _ => exact hs _ (by decide +kernel)
      | 3, _ => exact hs _ (by decide +kernel)
      | j + 4, hj => exact absurd hj (by simp)
    · refine gl_string hK (by decide) (hts _ (List.mem_of_getElem? (i := 857) rfl : _ ∈ lw_tbl)) (hs _ (by decide +kernel)) (hs _ (by decide +kernel)) (hs _ (by decide +kernel)) (hs _ (by decide +kernel)) (hs _ (by decide +kernel)) (hs _ (by decide +kernel)) ?_
      intro j hj
      match j, hj with
      | 0, _ => exact hs _ (by decide +kernel)
      | 1, _ => exact hs _ (by decide +kernel)
      | 2, _ => exact hs _ (by decide +kernel)
      | 3, _ => exact hs _ (by decide +kernel)
      | j + 4, hj => exact absurd hj (by simp)
  case cs =>
    intro U hW
    exact va_Z.moved (show s.WarmedH U.vm from hW).alike (va_Zof (hts _ (List.mem_of_getElem? (i := 475) rfl : _ ∈ lw_tbl)) (hts _ (lw_all_tbl q99)) (va_eqt (hs (.eq (.static "java/lang/String" "COMPACT_STRINGS" "Z") (.int 1)) (by decide +kernel))) gl_A)
  case ed =>
    have hl := hs (.eq (.length (.static "java/util/ArrayList" "DEFAULTCAPACITY_EMPTY_ELEMENTDATA" "[Ljava/lang/Object;")) (.int 0)) (by decide +kernel)
    obtain ⟨t, ht, hT⟩ := va_Tof (N := 0) (f := fun _ => .null) (A := fun q => s.heap.size ≤ q) (by decide) (hs (.arrayOf (.static "java/util/ArrayList" "DEFAULTCAPACITY_EMPTY_ELEMENTDATA" "[Ljava/lang/Object;") (.object "java/lang/Object")) (by decide +kernel)) (va_eqt hl) (fun j hj => absurd hj (Nat.not_lt_zero j)) gl_A
    refine ⟨t, fun U hW => va_Z.moved (show s.WarmedH U.vm from hW).alike (va_Zof (hts _ (List.mem_of_getElem? (i := 139) rfl : _ ∈ lw_tbl)) (hts _ (lw_all_tbl q81)) ht gl_A), ?_, fun w => Or.inr ⟨_, _, fun U hW => va_T.moved (show s.WarmedH U.vm from hW).alike hT⟩⟩
    obtain ⟨cell, g1, -⟩ := hT
    exact (Array.getElem?_eq_some_iff.mp g1).1
  case lam =>
    intro i hi
    have hf := hts _ (List.mem_of_getElem? (i := 1202) rfl : _ ∈ lw_tbl)
    have hd := hts _ q1203
    match i, hi with
    | 0, _ => exact gl_lam (index := 37) (nm := "lambda$commandOf$0") hf hd (hs _ (by decide +kernel))
    | 1, _ => exact gl_lam (index := 41) (nm := "lambda$commandOf$1") hf hd (hs _ (by decide +kernel))
    | 2, _ => exact gl_lam (index := 42) (nm := "lambda$commandOf$2") hf hd (hs _ (by decide +kernel))
    | 3, _ => exact gl_lam (index := 43) (nm := "lambda$commandOf$3") hf hd (hs _ (by decide +kernel))
    | 4, _ => exact gl_lam (index := 44) (nm := "lambda$commandOf$4") hf hd (hs _ (by decide +kernel))
    | 5, _ => exact gl_lam (index := 45) (nm := "lambda$commandOf$5") hf hd (hs _ (by decide +kernel))
    | 6, _ => exact gl_lam (index := 46) (nm := "lambda$commandOf$6") hf hd (hs _ (by decide +kernel))
    | i + 7, hi => exact absurd hi (by omega)
