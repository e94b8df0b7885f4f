/-! ROWS over any world: a throw of a new exception whose message lies in a local -/
def gTw (ws : List Cond) : Prop := (∀ w ∈ ws, w ∈ lw_tbl) ∧ (∀ w ∈ ws, (goodWord w || gRide w) = true) ∧ ∀ w ∈ ws, vx_ot w = true
theorem gTw.mk {ws : List Cond} (ps : List Nat) (hp : ws = ps.filterMap (fun i => lw_tbl[i]?)) (hg : ws.all (fun w => goodWord w || gRide w) = true) (ho : ws.all vx_ot = true) : gTw ws := by
  refine ⟨fun w h => ?_, fun w h => List.all_eq_true.mp hg w h, fun w h => List.all_eq_true.mp ho w h⟩
  rw [hp] at h
  obtain ⟨i, -, hi⟩ := List.mem_filterMap.mp h
  exact List.mem_of_getElem? hi
def gThZ (E : gE) : Prop := ∀ U : State, gZ E U → vx_Zq Bundle.tN "UNASSIGNED_STACK" Bundle.steD (fun q => gB E ≤ q) U (gH0 E) ∧ vx_Zq Bundle.tN "SUPPRESSED_SENTINEL" Bundle.listD (fun q => gB E ≤ q) U (gH0 E)
def aThr (E : gE) (Cn : String) (X : String → gW → Prop) (w : gW) : Prop := gThZ E ∧ w.2.1 + 1 ≤ gLC E ∧ w.2.2 + 6 ≤ gLS E ∧ X Cn (gNone w 6)
section GFt
variable {p : Program} {l : Launch} {e : Env} {s : State} {m : MethodId} {args : Array Value} {below : List Frame} {meth : Method} {c : Code} {H : Heap} {locs : List Loc} {cells slots : Nat} {Q : State → Prop}
variable {cc : ByteArray} {pc nL : Nat} {ls : Array Slot} {rest st0 : List Value} {ret : Option FieldType} {own nm : String} {E : gE} {tb : List ExceptionTableEntry} {w0 w : gW} {F Lc : Nat} {Qn Qn2 : Option Value → gW → Prop} {Qx Qx2 : String → gW → Prop} {a : Nat}
theorem gTw.at {ws : List Cond} (h : gTw ws) (C : gC p l s m args meth c cc nL ret own E tb nm) : ∀ w ∈ ws, w.before args s = true := by
  intro w hw
  have h1 := h.2.1 w hw
  simp only [Bool.or_eq_true] at h1
  by_cases g : goodWord w = true
  · exact C.ts _ (lw_g (h.1 w hw) g)
  · have hr : gRide w = true := by
      rcases h1 with g1 | g1
      · exact absurd g1 g
      · exact g1
    have ho : w.onTables = true := by
      have h3 := h.2.2 w hw
      simp only [vx_ot, Bool.or_eq_true] at h3
      rcases h3 with g1 | g1
      · exact g1
      · exact absurd g1 g
    exact va_Nw.use ho (C.nw (h.1 w hw) hr)
theorem a_throwA (C : gC p l s m args meth c cc nL ret own E [] nm) (hS : gS E w0 w H locs) {lv : List (Nat × Value)} (hl : lv_has ls nL lv) {cls : String} {names : List String} {ik ic sa : Nat}
    (hcls : Bundle.fit cls = true) (hnames : ∀ n ∈ names, Bundle.fit n = true) (hk : Cond.classLink own ik cls ∈ lw_all) (hini : Cond.initialized cls ∈ lw_all) (hat : gTw (vx_atS own ic cls names))
    (d0 : decode cc pc = .ok (.new ik, 3)) (d3 : decode cc (pc + 3) = .ok (.dup, 1)) (d4 : decode cc (pc + 4) = .ok (.aload_n 1, 1)) (d5 : decode cc (pc + 5) = .ok (.invokespecial ic, 3)) (d8 : decode cc (pc + 8) = .ok (.athrow, 1))
    (hsa : ls[1]? = some (.val (.ref sa))) (hRframes : names.length + 3 < F) (hRlocals : (rest.map fun v => v.category).sum + (13 * (names.length + 1) + 43) ≤ Lc)
    (hw : aThr E cls Qx w) : gGo p l e s m args below meth c H locs F Lc E w0 w Qn Qx (F0 m pc ls rest) := by
  obtain ⟨hz, hr1, hr2, hx⟩ := hw
  have hsize : ls.size = c.maxLocals := by rw [C.ml]; exact hl.1
  have hL0 := hS.2.2.1
  intro T hT X
  have htr : e.platform.stackTraces = false := (show e.platform.stackTraces = l.stackTraces by rw [X.admits.platform]).trans C.tr
  have Y := vx_rebase X (R' := { frames := F, locals := Lc, cells := 1, slots := 6 }) (Nat.le_refl _) (Nat.le_refl _) (by show w.2.1 - w0.2.1 + 1 ≤ gLC E - w0.2.1; have := hL0.1; omega) (by show w.2.2 - w0.2.2 + 6 ≤ gLS E - w0.2.2; have := hL0.2; omega)
  obtain ⟨s', hA⟩ : ∃ z, z = (T.setVm s.vm).setFrames (.invoking m args :: below) := ⟨_, rfl⟩
  rw [← hA] at Y
  have hvm : s'.vm = s.vm := by rw [hA]; rfl
  have hhp : s'.heap = H := by rw [hA]; exact hT
  have hW0 : s.WarmedH s'.vm := by rw [hvm]; exact State.WarmedH.refl s
  have hat' : ∀ w ∈ vx_atS own ic cls names, w.before args s' = true := fun w hw => vx_ot_at hW0 hvm.symm (hat.2.2 w hw) (hat.at C w hw)
  have hk' : (Cond.classLink own ik cls).before args s' = true := vx_ot_at hW0 hvm.symm (by rfl) (C.ts _ hk)
  have hini' : (Cond.initialized cls).before args s' = true := vx_ot_at hW0 hvm.symm (by rfl) (C.ts _ hini)
  have hkp : ∀ q : Nat, q < (gH0 E).size → ¬ gB E ≤ q → H[q]? = (gH0 E)[q]? := fun q hq _ => hS.1.2.2.1 q hq
  have hU' : vx_Zq Bundle.tN "UNASSIGNED_STACK" Bundle.steD (fun q => gB E ≤ q) s' s'.heap := by rw [hhp]; exact vx_Zq.moved hW0.alike ((hz s C.k.2.2).1.kept hkp)
  have hN' : vx_Zq Bundle.tN "SUPPRESSED_SENTINEL" Bundle.listD (fun q => gB E ≤ q) s' s'.heap := by rw [hhp]; exact vx_Zq.moved hW0.alike ((hz s C.k.2.2).2.kept hkp)
  have h : ∀ w ∈ Bundle.ownAtoms own ic cls names, w.before args s' = true := vx_own hat' (vx_isRefq hU'.1) (vx_isRefq hN'.1) hU'.2.word hN'.2.word
  have hown' : s'.vm.findClass own = some m.cls := by rw [hvm]; exact C.ow
  have hins : (Cond.instantiable cls 6).before args s' = true := h _ (by simp [Bundle.ownAtoms])
  obtain ⟨vm₁, cX, kX, hfX, hkX, -, -, X₁, st1⟩ := Y.newCold C.x (own := own) (C := cls) (index := ik) (n := 6) hown' hk' hins hini'
    (g := F0 m pc ls rest) rfl (by rw [C.b]; exact d0) (Nat.le_refl _) (Nat.le_refl _)
  generalize hT1 : (T.setVm vm₁).pushCell { cls := cX, slots := kX.instanceTypes.map defaultValue, vm := .none } = T1 at X₁ st1
  have hcat : (Value.ref T.heap.size).category = 1 := rfl
  have hcellA : T1.heap[T.heap.size]? = some (freshCell cX kX) := by rw [← hT1]; exact State.heap_pushCell_size _ _
  have d3' : decode c.code (pc + 3) = .ok (.dup, 1) := by rw [C.b]; exact d3
  have d4' : decode c.code (pc + 4) = .ok (.aload_n 1, 1) := by rw [C.b]; exact d4
  obtain ⟨U, hsteps, hrun, hend, hW, hsame, ce, hce, hO⟩ := X₁.ctorThrowS C.x htr (own := own) (cls := cls) (names := names) (ic := ic) hown' hcls hnames h (fun x hx => nomatch hx) hfX hkX hcellA (by rw [hhp, hT]; exact Nat.le_refl _) (msg := .ref sa) rfl
    (g := { method := m, pc := pc + 5, locals := ls, stack := .ref sa :: .ref T.heap.size :: .ref T.heap.size :: rest, locked := none }) rfl hsize rfl rfl (rest := rest) rfl
    (by rw [C.b]; exact d5) (by rw [C.b]; exact d8) (by rw [C.tbl]; intro x hx; cases hx) hRframes (by simp only [List.map_cons, List.sum_cons, hcat]; show 2 * 0 + _ + _ ≤ Lc; omega) C.lk
  obtain ⟨f1, f2⟩ := vx_frame hsame
  have hsz : U.heap.size ≤ H.size + 1 := by rw [← hhp]; exact hsame.2.2.1
  rw [hhp] at f1 f2
  have hWs : s.WarmedH U.vm := State.WarmedH.trans hW0 hW
  have hcl : s.vm.findClass cls = some ce.cls := by
    have h9 := hO.cls
    rw [hvm] at h9
    exact h9
  have hlt : T.heap.size < U.heap.size := (Array.getElem?_eq_some_iff.mp hce).1
  rw [hT] at hlt hce
  have hsz2 : U.heap.size = H.size + 1 := by omega
  have hall : s.sameButNew ({ U with vm := s.vm } : State) locs ((gNone w 6).2.1 - w0.2.1) ((gNone w 6).2.2 - w0.2.2) := by
    subst hA
    obtain ⟨e1, e2⟩ := hsame
    rw [State.setFrames_setFrames] at e1
    have h2 : (T.setVm s.vm).sameButNew ({ U with vm := s.vm } : State) [] (0 + 1) (0 + 6) := ⟨e1, e2⟩
    have h3 := X.same.trans h2
    rw [List.append_nil] at h3
    exact h3.mono (by show w.2.1 - w0.2.1 + (0 + 1) ≤ w.2.1 + 1 - w0.2.1; have := hL0.1; omega) (by show w.2.2 - w0.2.2 + (0 + 6) ≤ w.2.2 + 6 - w0.2.2; have := hL0.2; omega)
  refine ⟨U, ?_, .threw T.heap.size, hrun, hend, gNone w 6, ?_, ⟨hr1, hr2⟩, ⟨by have := hL0.1; show w0.2.1 ≤ w.2.1 + 1; omega, by have := hL0.2; show w0.2.2 ≤ w.2.2 + 6; omega⟩, Or.inr ⟨T.heap.size, cls, rfl, hx, cls, ce, locs, rfl, by rw [hT]; exact hce, hO.vm, hcl, hWs, hall, hS.2.2.2⟩⟩
  · refine st1 _ ?_
    show Steps p.tables e below (T1.setTop { method := m, pc := pc + 3, locals := ls, stack := .ref T.heap.size :: rest, locked := none }) _
    jvm_step X₁.here [X₁.here.top, C.x, d3', Value.category]
    jvm_step X₁.here [X₁.here.top, C.x, d4', hsa, Value.isRef]
    exact hsteps
  · have hR := hS.1
    have z0 := hR.1
    refine ⟨by rw [hsz2, z0]; rfl, by show gB E ≤ w.2.1 + 1; have := hR.2.1; omega, fun q hq => ?_, fun q e9 h9 => ?_, fun q c9 hq h9 => ?_⟩
    · rw [f2 q (by rw [z0]; have := hR.2.1; omega) (fun z hz => nomatch hz)]
      exact hR.2.2.1 q hq
    · obtain ⟨g1, g2⟩ := hR.2.2.2.1 q e9 h9
      exact ⟨g1, g2.kept (f2 q g2.lt (fun z hz => nomatch hz))⟩
    · by_cases hqz : q < H.size
      · rw [f2 q hqz (fun z hz => nomatch hz)] at h9
        exact hR.2.2.2.2 q c9 hq h9
      · have hq2 : q < U.heap.size := (Array.getElem?_eq_some_iff.mp h9).1
        have : q = H.size := by omega
        subst this
        rw [hce] at h9
        cases h9
        rw [hO.vm]; rfl
end GFt
theorem at_requireIndex : gTw (vx_atS "BridgeAuction" 3 "java/lang/IndexOutOfBoundsException" ["java/lang/RuntimeException", "java/lang/Exception"]) := gTw.mk [89, 632, 641, 646, 649, 651, 633, 634, 115, 116, 635, 640, 647, 742, 622, 743, 624, 744, 626, 636, 638, 628, 738, 739, 741, 628, 883, 884, 885, 732, 614, 732, 733, 734, 735, 616, 735, 736, 737, 738, 618, 882, 874, 875, 876, 645, 877, 878, 879, 880, 631, 630, 881] (by decide +kernel) (by decide +kernel) (by decide +kernel)
theorem at_requireArgument : gTw (vx_atS "BridgeAuction" 9 "java/lang/IllegalArgumentException" ["java/lang/RuntimeException", "java/lang/Exception"]) := gTw.mk [89, 632, 641, 646, 649, 651, 633, 634, 115, 116, 635, 640, 647, 742, 622, 743, 624, 744, 626, 636, 638, 628, 738, 739, 741, 628, 729, 730, 731, 732, 614, 732, 733, 734, 735, 616, 735, 736, 737, 738, 618, 894, 611, 612, 619, 620, 621, 623, 625, 627, 631, 630, 629] (by decide +kernel) (by decide +kernel) (by decide +kernel)
theorem at_requireState : gTw (vx_atS "BridgeAuction" 12 "java/lang/IllegalStateException" ["java/lang/RuntimeException", "java/lang/Exception"]) := gTw.mk [89, 632, 641, 646, 649, 651, 633, 634, 115, 116, 635, 640, 647, 742, 622, 743, 624, 744, 626, 636, 638, 628, 738, 739, 741, 628, 909, 910, 911, 732, 614, 732, 733, 734, 735, 616, 735, 736, 737, 738, 618, 908, 900, 901, 902, 644, 903, 904, 905, 906, 631, 630, 907] (by decide +kernel) (by decide +kernel) (by decide +kernel)
