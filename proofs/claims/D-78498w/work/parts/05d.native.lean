/-! ROWS over any world, native members: Math, arraycopy, clone, getClass; what is thrown -/
theorem gS.setL {E : gE} {w0 w : gW} {H H1 : Heap} {locs L : List Loc} (h : gS E w0 w H locs) {q : Nat} {e0 e : va_E} (hq : w.1 q = some e0) (he : va_at (gD E) gCl (q, e) H1) (hz : H1.size = H.size) (ho : ∀ x : Nat, x ≠ q → H1[x]? = H[x]?) (hL : ∀ z ∈ L, z.base = q) : gS E w0 (gSet w q e) H1 (locs ++ L) := by
  obtain ⟨h1, h2, h3, h4⟩ := h.set (i := 0) hq he hz ho
  refine ⟨h1, h2, h3, fun z hz2 => ?_⟩
  rcases List.mem_append.mp hz2 with g | g
  · exact h4 z (List.mem_append_left _ g)
  · rw [hL z g]
    exact h4 ⟨q, 0⟩ (List.mem_append_right _ (List.mem_singleton.mpr rfl))
def aCp (E : gE) (t src : Nat) (sp : Int32) (dst : Nat) (dp n : Int32) (K : gW → Prop) (w : gW) : Prop :=
  ∃ (n0 : Nat) (f : Nat → Int32) (n1 : Nat) (g : Nat → Int32), gAt E w src (.inl (gT E t, n0, .inl f)) ∧ w.1 dst = some (.inl (gT E t, n1, .inl g)) ∧ ¬ sp < 0 ∧ ¬ dp < 0 ∧ ¬ n < 0 ∧ sp.toNatClampNeg + n.toNatClampNeg ≤ n0 ∧ dp.toNatClampNeg + n.toNatClampNeg ≤ n1 ∧
    (∀ i, i < n.toNatClampNeg → fits (gTy t) (.int (f (sp.toNatClampNeg + i))) = true) ∧ K (gSet w dst (.inl (gT E t, n1, .inl (va_cpy f g sp.toNatClampNeg dp.toNatClampNeg n.toNatClampNeg))))
def aCpr (E : gE) (t src : Nat) (sp : Int32) (dst : Nat) (dp n : Int32) (K : gW → Prop) (w : gW) : Prop :=
  ∃ (n0 : Nat) (f : Nat → Option Nat) (n1 : Nat) (g : Nat → Option Nat), gAt E w src (.inl (gT E t, n0, .inr (.inr (.inr (.inr f))))) ∧ w.1 dst = some (.inl (gT E t, n1, .inr (.inr (.inr (.inr g))))) ∧ ¬ sp < 0 ∧ ¬ dp < 0 ∧ ¬ n < 0 ∧ sp.toNatClampNeg + n.toNatClampNeg ≤ n0 ∧ dp.toNatClampNeg + n.toNatClampNeg ≤ n1 ∧
    (∀ i, i < n.toNatClampNeg → gElem E w t (f (sp.toNatClampNeg + i))) ∧ K (gSet w dst (.inl (gT E t, n1, .inr (.inr (.inr (.inr (va_cpy f g sp.toNatClampNeg dp.toNatClampNeg n.toNatClampNeg)))))))
def aCl (E : gE) (a : Nat) (K : Nat → gW → Prop) (w : gW) : Prop :=
  ∃ (n : Nat) (f : Nat → Int32), gAt E w a (.inl (gT E 1, n, .inl f)) ∧ w.2.1 + 1 ≤ gLC E ∧ w.2.2 + n ≤ gLS E ∧ (∀ i, i < n → fits .byte (.int (f i)) = true) ∧ (gWf w → gB E ≤ w.2.1 → K w.2.1 (gNew w (.inl (gT E 1, n, .inl f)) n))
def aMir (E : gE) (Cn : String) (K : Nat → Prop) : Prop := ∃ mi : Nat, (∀ U : State, gZ E U → va_Mi Cn mi U) ∧ K mi
theorem gN_nn {z : Int32} (hz : ¬ z < 0) : z.toInt = (z.toNatClampNeg : Int) := by
  have hz0 : (0 : Int) ≤ z.toInt := by
    have := Int32.not_lt.mp hz
    simpa using Int32.le_iff_toInt_le.mp this
  show z.toInt = ((z.toInt.toNat : Nat) : Int)
  omega
section GFe
variable {p : Program} {l : Launch} {e : Env} {s : State} {m : MethodId} {args : Array Value} {below : List Frame} {meth : Method} {c : Code} {H : Heap} {locs : List Loc} {cells slots : Nat} {Q : State → Prop}
variable {cc : ByteArray} {pc nL : Nat} {ls : Array Slot} {rest st0 : List Value} {ret : Option FieldType} {own nm : String} {E : gE} {tb : List ExceptionTableEntry} {w0 w : gW} {F Lc : Nat} {Qn Qn2 : Option Value → gW → Prop} {Qx Qx2 : String → gW → Prop} {a : Nat}
theorem g_hc (hS : gS E w0 w H locs) : w.2.1 - w0.2.1 ≤ (gRm F Lc E w0).cells ∧ w.2.2 - w0.2.2 ≤ (gRm F Lc E w0).slots := by
  have h1 := hS.2.1
  exact ⟨Nat.sub_le_sub_right h1.1 _, Nat.sub_le_sub_right h1.2 _⟩
theorem a_max (C : gC p l s m args meth c cc nL ret own E tb nm) (hS : gS E w0 w H locs) {lv : List (Nat × Value)} (hl : lv_has ls nL lv) {index : Nat} (hlk : Cond.methodLink own index Lib.Math.max.name ∈ lw_all) (hst : Cond.static Lib.Math.max.name ∈ lw_all) (hin : Cond.initialized "java/lang/Math" ∈ lw_all) (hco : Cond.code Lib.Math.max.name Lib.Math.max.code 2 (some .int) ∈ lw_all) (hF : 1 ≤ F) (hL : (rest.map fun v => v.category).sum + 13 ≤ Lc) {x y : Int32} (hdg : decode cc pc = .ok (.invokestatic index, 3))
    (kk : gGo p l e s m args below meth c H locs F Lc E w0 w Qn Qx (F0 m (pc + 3) ls (.int (if x < y then y else x) :: rest))) : gGo p l e s m args below meth c H locs F Lc E w0 w Qn Qx (F0 m pc ls (.int y :: .int x :: rest)) :=
  va_mmax C.x C.b (by rw [C.ml]; exact hl.1.symm) C.ow (C.ts _ hlk) (C.ts _ hst) (C.ts _ hin) (C.ts _ hco) hF hL (g_hc (F := F) (Lc := Lc) hS).1 (g_hc (F := F) (Lc := Lc) hS).2 hdg kk
theorem a_min (C : gC p l s m args meth c cc nL ret own E tb nm) (hS : gS E w0 w H locs) {lv : List (Nat × Value)} (hl : lv_has ls nL lv) {index : Nat} (hlk : Cond.methodLink own index Lib.Math.min.name ∈ lw_all) (hst : Cond.static Lib.Math.min.name ∈ lw_all) (hin : Cond.initialized "java/lang/Math" ∈ lw_all) (hco : Cond.code Lib.Math.min.name Lib.Math.min.code 2 (some .int) ∈ lw_all) (hF : 1 ≤ F) (hL : (rest.map fun v => v.category).sum + 13 ≤ Lc) {x y : Int32} (hdg : decode cc pc = .ok (.invokestatic index, 3))
    (kk : gGo p l e s m args below meth c H locs F Lc E w0 w Qn Qx (F0 m (pc + 3) ls (.int (if y < x then y else x) :: rest))) : gGo p l e s m args below meth c H locs F Lc E w0 w Qn Qx (F0 m pc ls (.int y :: .int x :: rest)) :=
  va_mmin C.x C.b (by rw [C.ml]; exact hl.1.symm) C.ow (C.ts _ hlk) (C.ts _ hst) (C.ts _ hin) (C.ts _ hco) hF hL (g_hc (F := F) (Lc := Lc) hS).1 (g_hc (F := F) (Lc := Lc) hS).2 hdg kk
theorem a_abs (C : gC p l s m args meth c cc nL ret own E tb nm) (hS : gS E w0 w H locs) {lv : List (Nat × Value)} (hl : lv_has ls nL lv) {index : Nat} (hlk : Cond.methodLink own index Lib.Math.abs.name ∈ lw_all) (hst : Cond.static Lib.Math.abs.name ∈ lw_all) (hin : Cond.initialized "java/lang/Math" ∈ lw_all) (hco : Cond.code Lib.Math.abs.name Lib.Math.abs.code 1 (some .int) ∈ lw_all) (hF : 1 ≤ F) (hL : (rest.map fun v => v.category).sum + 13 ≤ Lc) {x : Int32} (hdg : decode cc pc = .ok (.invokestatic index, 3))
    (kk : gGo p l e s m args below meth c H locs F Lc E w0 w Qn Qx (F0 m (pc + 3) ls (.int (if 0 ≤ x then x else 0 - x) :: rest))) : gGo p l e s m args below meth c H locs F Lc E w0 w Qn Qx (F0 m pc ls (.int x :: rest)) :=
  va_mabs C.x C.b (by rw [C.ml]; exact hl.1.symm) C.ow (C.ts _ hlk) (C.ts _ hst) (C.ts _ hin) (C.ts _ hco) hF hL (g_hc (F := F) (Lc := Lc) hS).1 (g_hc (F := F) (Lc := Lc) hS).2 hdg kk
theorem a_cp {t : Nat} (C : gC p l s m args meth c cc nL ret own E tb nm) (hS : gS E w0 w H locs) {lv : List (Nat × Value)} (hl : lv_has ls nL lv) (ht : t < 3) {index : Nat} (hlk : Cond.methodLink own index arraycopyName ∈ lw_all) (hnat : Cond.native arraycopyName ∈ lw_all) (hst : Cond.static arraycopyName ∈ lw_all) (hin : Cond.initialized "java/lang/System" ∈ lw_all)
    (hF : 1 ≤ F) (hL : (rest.map fun v => v.category).sum + (nativeFrameWords "java/lang/System" "arraycopy" 5 + 11) ≤ Lc) (hdg : decode cc pc = .ok (.invokestatic index, 3)) {a0 : Nat} {sp dp n : Int32} {K : gW → Prop} (hw : aCp E t a0 sp a dp n K w)
    (kk : ∀ (w1 : gW) (H1 : Heap) (locs1 : List Loc), K w1 → gS E w0 w1 H1 locs1 → gGo p l e s m args below meth c H1 locs1 F Lc E w0 w1 Qn Qx (F0 m (pc + 3) ls rest)) : gGo p l e s m args below meth c H locs F Lc E w0 w Qn Qx (F0 m pc ls (.int n :: .int dp :: .ref a :: .int sp :: .ref a0 :: rest)) := by
  obtain ⟨n0, f, n1, g, ha0, ha1, h1, h2, h3, h4, h5, hfit, hw⟩ := hw
  have hml : c.maxLocals = ls.size := by rw [C.ml]; exact hl.1.symm
  have hprim : refKind (gTy t) = false := by
    match t, ht with
    | 0, _ => rfl
    | 1, _ => rfl
    | 2, _ => rfl
  have ht0 := gTys_at (E := E) t (by omega)
  intro T hT X
  have hc0 : H[a0]? = some (vp_cell (gT E t) (n0, .inl f)) := gAt.P hS.1 ha0 0 _ rfl
  have hc1 : H[a]? = some (vp_cell (gT E t) (n1, .inl g)) := hS.one ha1 0 _ rfl
  obtain ⟨-, k0, hk0, cm0, hkk0⟩ := (C.K.2 t _ ht0).1 n0 (fun j => .int (f j))
  obtain ⟨-, k1, hk1, cm1, hkk1⟩ := (C.K.2 t _ ht0).1 n1 (fun j => .int (g j))
  obtain ⟨vm', X', step⟩ := X.arraycopy C.x C.ow (C.ts _ hlk) (C.ts _ hnat) (C.ts _ hst) (C.ts _ hin) (src := a0) (dst := a) (cs := vp_cell (gT E t) (n0, .inl f)) (cd := vp_cell (gT E t) (n1, .inl g)) (srcPos := sp) (destPos := dp) (n := n) (by rw [hT]; exact hc0) (by rw [hT]; exact hc1)
    (fun _ h => by cases h) (fun _ h => by cases h) (fun h => by cases h) (fun h => by cases h) hk0 hk1 hkk0 hkk1 (by simp [hprim]) h1 h2 h3
    (by rw [gN_nn h1, gN_nn h3]; show ¬ _ > ((arrV (gT E t) n0 (fun j => .int (f j))).slots.size : Int); rw [arrV_size]; omega)
    (by rw [gN_nn h2, gN_nn h3]; show ¬ _ > ((arrV (gT E t) n1 (fun j => .int (g j))).slots.size : Int); rw [arrV_size]; omega)
    (fun vm₁ _ i hi => by
      have e : (vp_cell (gT E t) (n0, .inl f)).slots.getD (sp.toNatClampNeg + i) .null = .int (f (sp.toNatClampNeg + i)) := by
        show (arrV (gT E t) n0 (fun j => .int (f j))).slots.getD _ _ = _
        rw [Array.getD_eq_getD_getElem?, arrV_read _ _ (by omega)]
        rfl
      refine ⟨?_, ?_⟩
      · rw [e]
        exact hfit i hi
      · rw [e]
        exact trivial)
    (g := F0 m pc ls (.int n :: .int dp :: .ref a :: .int sp :: .ref a0 :: rest)) rfl (by rw [hml]) (rest := rest) rfl (by rw [C.b]; exact hdg) hF (by show 2 * 0 + _ + _ ≤ Lc; omega)
  have e1 : copied (vp_cell (gT E t) (n0, .inl f)) (vp_cell (gT E t) (n1, .inl g)) sp dp n = vp_cell (gT E t) (n1, .inl (va_cpy f g sp.toNatClampNeg dp.toNatClampNeg n.toNatClampNeg)) := va_copied (fun z => .int z) (gT E t) (gT E t) f g h4
  rw [e1] at X' step
  have hla : a < H.size := (Array.getElem?_eq_some_iff.mp hc1).1
  have hheap : ((T.setVm vm').setCell a (vp_cell (gT E t) (n1, .inl (va_cpy f g sp.toNatClampNeg dp.toNatClampNeg n.toNatClampNeg)))).heap = H.setIfInBounds a (vp_cell (gT E t) (n1, .inl (va_cpy f g sp.toNatClampNeg dp.toNatClampNeg n.toNatClampNeg))) := by rw [← hT]; rfl
  have oq : ∀ q : Nat, q ≠ a → (H.setIfInBounds a (vp_cell (gT E t) (n1, .inl (va_cpy f g sp.toNatClampNeg dp.toNatClampNeg n.toNatClampNeg))))[q]? = H[q]? := fun q hq => by simp [Array.getElem?_setIfInBounds, Ne.symm hq]
  obtain ⟨t2, a1, b1⟩ := kk _ _ _ hw (hS.setL ha1 (show (H.setIfInBounds a _)[a]? = some _ by simp [Array.getElem?_setIfInBounds, hla]) (by simp) oq (fun z hz => by
    obtain ⟨j, -, hj⟩ := List.mem_map.mp hz
    rw [← hj])) _ hheap X'
  exact ⟨t2, step t2 a1, b1⟩
theorem a_cpr {t : Nat} {Cn : String} (C : gC p l s m args meth c cc nL ret own E tb nm) (hS : gS E w0 w H locs) {lv : List (Nat × Value)} (hl : lv_has ls nL lv) (ht0 : (gTys E)[t]? = some (gT E t, .object Cn)) (hCn : (t = 4 ∧ Cn = RX2) ∨ (t = 3 ∧ Cn = "java/lang/Object")) {index : Nat} (hlk : Cond.methodLink own index arraycopyName ∈ lw_all) (hnat : Cond.native arraycopyName ∈ lw_all) (hst : Cond.static arraycopyName ∈ lw_all) (hin : Cond.initialized "java/lang/System" ∈ lw_all)
    (hF : 1 ≤ F) (hL : (rest.map fun v => v.category).sum + (nativeFrameWords "java/lang/System" "arraycopy" 5 + 11) ≤ Lc) (hdg : decode cc pc = .ok (.invokestatic index, 3)) {a0 : Nat} {sp dp n : Int32} {K : gW → Prop} (hw : aCpr E t a0 sp a dp n K w)
    (kk : ∀ (w1 : gW) (H1 : Heap) (locs1 : List Loc), K w1 → gS E w0 w1 H1 locs1 → gGo p l e s m args below meth c H1 locs1 F Lc E w0 w1 Qn Qx (F0 m (pc + 3) ls rest)) : gGo p l e s m args below meth c H locs F Lc E w0 w Qn Qx (F0 m pc ls (.int n :: .int dp :: .ref a :: .int sp :: .ref a0 :: rest)) := by
  obtain ⟨n0, f, n1, g, ha0, ha1, h1, h2, h3, h4, h5, hel, hw⟩ := hw
  have hml : c.maxLocals = ls.size := by rw [C.ml]; exact hl.1.symm
  intro T hT X
  have hc0 : H[a0]? = some (vp_cell (gT E t) (n0, .inr (.inr (.inr (.inr f))))) := gAt.P hS.1 ha0 0 _ rfl
  have hc1 : H[a]? = some (vp_cell (gT E t) (n1, .inr (.inr (.inr (.inr g))))) := hS.one ha1 0 _ rfl
  obtain ⟨-, k0, hk0, cm0, hkk0⟩ := (C.K.2 t _ ht0).1 n0 (fun j => va_rf (f j))
  obtain ⟨-, k1, hk1, cm1, hkk1⟩ := (C.K.2 t _ ht0).1 n1 (fun j => va_rf (g j))
  obtain ⟨vm', X', step⟩ := X.arraycopy C.x C.ow (C.ts _ hlk) (C.ts _ hnat) (C.ts _ hst) (C.ts _ hin) (src := a0) (dst := a) (cs := vp_cell (gT E t) (n0, .inr (.inr (.inr (.inr f))))) (cd := vp_cell (gT E t) (n1, .inr (.inr (.inr (.inr g))))) (srcPos := sp) (destPos := dp) (n := n) (by rw [hT]; exact hc0) (by rw [hT]; exact hc1)
    (fun _ h => by cases h) (fun _ h => by cases h) (fun h => by cases h) (fun h => by cases h) hk0 hk1 hkk0 hkk1 rfl h1 h2 h3
    (by rw [gN_nn h1, gN_nn h3]; show ¬ _ > ((arrV (gT E t) n0 (fun j => va_rf (f j))).slots.size : Int); rw [arrV_size]; omega)
    (by rw [gN_nn h2, gN_nn h3]; show ¬ _ > ((arrV (gT E t) n1 (fun j => va_rf (g j))).slots.size : Int); rw [arrV_size]; omega)
    (fun vm₁ hal i hi => by
      have e : (vp_cell (gT E t) (n0, .inr (.inr (.inr (.inr f))))).slots.getD (sp.toNatClampNeg + i) .null = va_rf (f (sp.toNatClampNeg + i)) := by
        show (arrV (gT E t) n0 (fun j => va_rf (f j))).slots.getD _ _ = _
        rw [Array.getD_eq_getD_getElem?, arrV_read _ _ (by omega)]
        rfl
      rw [e]
      rcases hel i hi with hy | ⟨y, ci, fs, hy, hv, hci, h4t⟩
      · rw [hy]
        exact ⟨rfl, trivial⟩
      · rw [hy]
        obtain ⟨r', hr', cellV, g1, g2, g3, -⟩ := hv.O hS.1
        have hcls := (C.K.1 ci r' hr').2
        obtain ⟨kA, comp, r1, r2, r3, -⟩ := (C.K.2 t _ ht0).2
        cases hk1.symm.trans r1
        cases hkk1.symm.trans r2
        have hasg : s.vm.assignable ((gD E).1 ci) cm1 = true := by
          rcases hCn with ⟨e4, e5⟩ | ⟨e4, e5⟩
          · have hc1 : ci = 1 := h4t e4
            subst hc1
            subst e5
            have hr2 : r' = (RX2, TX2, 15) := Option.some.inj (hr'.symm.trans rfl)
            subst hr2
            have hcomp : cm1 = (gD E).1 1 := Option.some.inj (r3.symm.trans hcls.1)
            rw [hcomp]
            exact va_assign hcls
          · subst e5
            obtain ⟨c0, t1, f1, f2, f3⟩ := Cond.castable_spec (va_Nw.use (A := args) rfl (C.nw (g_castO ci r' hr') rfl))
            cases hcls.1.symm.trans f1
            cases r3.symm.trans f2
            exact f3
        obtain ⟨kC, hkC, -⟩ := hcls.2
        obtain ⟨kE, hkE, -⟩ := Vm.findClass_spec r3
        obtain ⟨kC', hkC', -⟩ := hal.2.2 _ _ hkC
        obtain ⟨kE', hkE', -⟩ := hal.2.2 _ _ hkE
        refine ⟨rfl, cellV, (show T.heap[y]? = some cellV by rw [hT]; exact g1), (fun q h => by rw [h] at g3; cases g3), ?_, ?_, ?_⟩
        · rw [g2]
          exact ⟨kC', hkC'⟩
        · exact ⟨kE', hkE'⟩
        · show vm₁.assignable _ _ = true
          rw [hal.assignable, g2]
          exact hasg)
    (g := F0 m pc ls (.int n :: .int dp :: .ref a :: .int sp :: .ref a0 :: rest)) rfl (by rw [hml]) (rest := rest) rfl (by rw [C.b]; exact hdg) hF (by show 2 * 0 + _ + _ ≤ Lc; omega)
  have e1 : copied (vp_cell (gT E t) (n0, .inr (.inr (.inr (.inr f))))) (vp_cell (gT E t) (n1, .inr (.inr (.inr (.inr g))))) sp dp n = vp_cell (gT E t) (n1, .inr (.inr (.inr (.inr (va_cpy f g sp.toNatClampNeg dp.toNatClampNeg n.toNatClampNeg))))) := by
    rw [vp_cell_q, vp_cell_q, vp_cell_q]
    exact va_copied (fun z => va_rf z) (gT E t) (gT E t) f g h4
  rw [e1] at X' step
  have hla : a < H.size := (Array.getElem?_eq_some_iff.mp hc1).1
  have hheap : ((T.setVm vm').setCell a (vp_cell (gT E t) (n1, .inr (.inr (.inr (.inr (va_cpy f g sp.toNatClampNeg dp.toNatClampNeg n.toNatClampNeg))))))).heap = H.setIfInBounds a (vp_cell (gT E t) (n1, .inr (.inr (.inr (.inr (va_cpy f g sp.toNatClampNeg dp.toNatClampNeg n.toNatClampNeg)))))) := by rw [← hT]; rfl
  have oq : ∀ q : Nat, q ≠ a → (H.setIfInBounds a (vp_cell (gT E t) (n1, .inr (.inr (.inr (.inr (va_cpy f g sp.toNatClampNeg dp.toNatClampNeg n.toNatClampNeg)))))))[q]? = H[q]? := fun q hq => by simp [Array.getElem?_setIfInBounds, Ne.symm hq]
  obtain ⟨t2, a1, b1⟩ := kk _ _ _ hw (hS.setL ha1 (show (H.setIfInBounds a _)[a]? = some _ by simp [Array.getElem?_setIfInBounds, hla]) (by simp) oq (fun z hz => by
    obtain ⟨j, -, hj⟩ := List.mem_map.mp hz
    rw [← hj])) _ hheap X'
  exact ⟨t2, step t2 a1, b1⟩
theorem a_ldcM (C : gC p l s m args meth c cc nL ret own E tb nm) {Cn : String} {index : Nat} (hlink : Cond.classLink own index Cn ∈ lw_all) (hdg : decode cc pc = .ok (.ldc index, 2)) {K : Nat → Prop} (hw : aMir E Cn K)
    (kk : ∀ a : Nat, K a → W p l e (gRm F Lc E w0) s m args below meth c H locs cells slots Q (F0 m (pc + 2) ls (.ref a :: rest))) : W p l e (gRm F Lc E w0) s m args below meth c H locs cells slots Q (F0 m pc ls rest) := by
  obtain ⟨a, h1, h2⟩ := hw
  exact va_ldcM C.x C.b C.ow (C.ts _ hlink) (h1 s C.k.2.2) hdg (kk a h2)
end GFe
/-! ROWS over any world: clone of a byte array, getClass of an Object array, checkcast of arrays -/
def aGc (E : gE) (a : Nat) (K : Nat → Prop) (w : gW) : Prop := ∃ (n : Nat) (f : Nat → Option Nat) (mi : Nat), gAt E w a (.inl (gT E 3, n, .inr (.inr (.inr (.inr f))))) ∧ (∀ U : State, gZ E U → va_Mi "[Ljava/lang/Object;" mi U) ∧ K mi
def aKindA (E : gE) (t a : Nat) (K : Prop) (w : gW) : Prop := ∃ (n : Nat) (x : (Nat → Int32) ⊕ (Nat → Int64) ⊕ (Nat → UInt32) ⊕ (Nat → UInt64) ⊕ (Nat → Option Nat)), gAt E w a (.inl (gT E t, n, x)) ∧ K
section GFf
variable {p : Program} {l : Launch} {e : Env} {s : State} {m : MethodId} {args : Array Value} {below : List Frame} {meth : Method} {c : Code} {H : Heap} {locs : List Loc} {cells slots : Nat} {Q : State → Prop}
variable {cc : ByteArray} {pc nL : Nat} {ls : Array Slot} {rest st0 : List Value} {ret : Option FieldType} {own nm : String} {E : gE} {tb : List ExceptionTableEntry} {w0 w : gW} {F Lc : Nat} {Qn Qn2 : Option Value → gW → Prop} {Qx Qx2 : String → gW → Prop} {a : Nat}
theorem a_castB (C : gC p l s m args meth c cc nL ret own E tb nm) (hS : gS E w0 w H locs) {index : Nat} (hlink : Cond.classLink own index "[B" ∈ lw_all) (hdg : decode cc pc = .ok (.checkcast index, 3)) {K : Prop} (hw : aKindA E 1 a K w)
    (kk : K → W p l e (gRm F Lc E w0) s m args below meth c H locs cells slots Q (F0 m (pc + 3) ls (.ref a :: rest))) : W p l e (gRm F Lc E w0) s m args below meth c H locs cells slots Q (F0 m pc ls (.ref a :: rest)) := by
  obtain ⟨n, x, h1, h2⟩ := hw
  exact va_castA C.x C.b C.ow (C.ts _ hlink) (gAt.P hS.1 h1) 0 rfl (va_nm_byte (C.K.2 1 _ rfl).2) hdg (kk h2)
theorem a_castO (C : gC p l s m args meth c cc nL ret own E tb nm) (hS : gS E w0 w H locs) {index : Nat} (hlink : Cond.classLink own index "[Ljava/lang/Object;" ∈ lw_all) (hdg : decode cc pc = .ok (.checkcast index, 3)) {K : Prop} (hw : aKindA E 3 a K w)
    (kk : K → W p l e (gRm F Lc E w0) s m args below meth c H locs cells slots Q (F0 m (pc + 3) ls (.ref a :: rest))) : W p l e (gRm F Lc E w0) s m args below meth c H locs cells slots Q (F0 m pc ls (.ref a :: rest)) := by
  obtain ⟨n, x, h1, h2⟩ := hw
  exact va_castA C.x C.b C.ow (C.ts _ hlink) (gAt.P hS.1 h1) 0 rfl (va_nmO (C.K.2 3 _ rfl).2 (by decide +kernel)) hdg (kk h2)
theorem a_getC (C : gC p l s m args meth c cc nL ret own E tb nm) (hS : gS E w0 w H locs) {lv : List (Nat × Value)} (hl : lv_has ls nL lv) {index : Nat} (hlk : Cond.methodLink own index ⟨"java/lang/Object", "getClass", "()Ljava/lang/Class;"⟩ ∈ lw_all)
    (hF : 1 ≤ F) (hL : (rest.map fun v => v.category).sum + 14 ≤ Lc) (hdg : decode cc pc = .ok (.invokevirtual index, 3)) {K : Nat → Prop} (hw : aGc E a K w)
    (kk : ∀ mi : Nat, K mi → gGo p l e s m args below meth c H locs F Lc E w0 w Qn Qx (F0 m (pc + 3) ls (.ref mi :: rest))) : gGo p l e s m args below meth c H locs F Lc E w0 w Qn Qx (F0 m pc ls (.ref a :: rest)) := by
  obtain ⟨n, f, mi, h1, h2, h3⟩ := hw
  have hc0 : H[a]? = some (vp_cell (gT E 3) (n, .inr (.inr (.inr (.inr f))))) := gAt.P hS.1 h1 0 _ rfl
  have hnm : s.vm.findClass "[Ljava/lang/Object;" = some (gT E 3) := va_nmO (C.K.2 3 _ rfl).2 (by decide +kernel)
  exact va_getC C.x C.b (by rw [C.ml]; exact hl.1.symm) C.ow (C.ts _ hlk) (va_Dc.use (va_Dc.of (va_Nw.use (A := args) rfl (C.nw q1889 rfl)))) (C := "[Ljava/lang/Object;") (C.ts _ q1888) (C.ts _ q309) (C.ts _ q327) (h2 s C.k.2.2) ⟨_, hc0, rfl, hnm⟩ hF hL hdg (kk mi h3)
theorem a_clone (C : gC p l s m args meth c cc nL ret own E tb nm) (hS : gS E w0 w H locs) {lv : List (Nat × Value)} (hl : lv_has ls nL lv) {index : Nat} (hlk : Cond.methodLink own index ⟨"[B", "clone", "()Ljava/lang/Object;"⟩ ∈ lw_all)
    (hF : 1 ≤ F) (hL : (rest.map fun v => v.category).sum + 14 ≤ Lc) (hdg : decode cc pc = .ok (.invokevirtual index, 3)) {K : Nat → gW → Prop} (hw : aCl E a K w)
    (kk : ∀ (q : Nat) (w1 : gW) (H1 : Heap), K q w1 → gS E w0 w1 H1 locs → gGo p l e s m args below meth c H1 locs F Lc E w0 w1 Qn Qx (F0 m (pc + 3) ls (.ref q :: rest))) : gGo p l e s m args below meth c H locs F Lc E w0 w Qn Qx (F0 m pc ls (.ref a :: rest)) := by
  obtain ⟨n, f, ha, h1, h2, hfit, hK⟩ := hw
  have hml : c.maxLocals = ls.size := by rw [C.ml]; exact hl.1.symm
  have hL0 := hS.2.2.1
  have z0 := hS.1.1
  have hnm : s.vm.findClass "[B" = some (gT E 1) := va_nm_byte (C.K.2 1 _ rfl).2
  obtain ⟨c0, t0', f1, f2, f3⟩ := Cond.castable_spec (va_Nw.use (A := args) rfl (C.nw q521 rfl))
  cases hnm.symm.trans f1
  intro T hT X
  have hcellT : T.heap[a]? = some (vp_cell (gT E 1) (n, .inl f)) := by rw [hT]; exact gAt.P hS.1 ha 0 _ rfl
  obtain ⟨-, kA, hkA, comp, hkind⟩ := State.isArrayOf_alike X.warmed.alike ((C.K.2 1 _ rfl).1 0 (fun _ => .null))
  obtain ⟨-, kS, hkS, compS, hkindS⟩ := (C.K.2 1 _ rfl).1 0 (fun _ => .null)
  have hsz : (vp_cell (gT E 1) (n, .inl f)).slots.size = n := arrV_size _ _ _
  obtain ⟨vm', X', st⟩ := X.cloneArray C.x C.ow (C.ts _ hlk) (C.ts _ q517) (C.ts _ q518) (C.ts _ q519) (C.ts _ q520) (a := a) (cell := vp_cell (gT E 1) (n, .inl f)) hcellT (fun k h => by cases h) (fun h => by cases h) hnm f2 f3
    (fun i v hv => by
      have hk' : T.vm.classes[gT E 1]? = some kA := hkA
      have hfv : fits .byte v = true := va_fit (cA := gT E 1) (n := n) (F := fun j => .int (f j)) (fun j hj => hfit j hj) i v hv
      simpa [State.fitsSlot, State.slotType?, vp_cell, arrV, hk', hkind] using hfv)
    (g := F0 m pc ls (.ref a :: rest)) rfl (by rw [hml]) rfl (by rw [C.b]; exact hdg) hF (by show 2 * 0 + (rest.map fun v => v.category).sum + 14 ≤ Lc; omega) (by show w.2.1 - w0.2.1 + 1 ≤ gLC E - w0.2.1; have := hL0.1; omega) (by rw [hsz]; show w.2.2 - w0.2.2 + n ≤ gLS E - w0.2.2; have := hL0.2; omega) (hloader := Vm.clonesLoader_of_array hkS hkindS)
  have hcellE : ({ cls := (vp_cell (gT E 1) (n, .inl f)).cls, slots := (vp_cell (gT E 1) (n, .inl f)).slots } : Cell) = vp_cell (gT E 1) (n, .inl f) := rfl
  rw [hcellE, hsz] at X'
  generalize hH1 : H.push (vp_cell (gT E 1) (n, .inl f)) = H1
  have z1 : H1.size = H.size + 1 := by rw [← hH1, Array.size_push]
  have e1 : H1[H.size]? = some (vp_cell (gT E 1) (n, .inl f)) := by rw [← hH1, Array.getElem?_push_size]
  have o1 : ∀ q : Nat, q < H.size → H1[q]? = H[q]? := fun q hq => by rw [← hH1, Array.getElem?_push, if_neg (Nat.ne_of_lt hq)]
  obtain ⟨t, b1, b2⟩ := kk _ _ H1 (hK hS.wf hS.1.2.1) (hS.new (n := n) (e := .inl (gT E 1, n, .inl f)) (show H1[H.size]? = some _ from e1) z1 o1 h1 h2) ((T.setVm vm').pushCell (vp_cell (gT E 1) (n, .inl f))) (by rw [← hH1, ← hT]; rfl) (by
    have q1 : (gNew w (.inl (gT E 1, n, .inl f)) n).2.1 - w0.2.1 = w.2.1 - w0.2.1 + 1 := by show w.2.1 + 1 - w0.2.1 = _; have := hL0.1; omega
    have q2 : (gNew w (.inl (gT E 1, n, .inl f)) n).2.2 - w0.2.2 = w.2.2 - w0.2.2 + n := by show w.2.2 + n - w0.2.2 = _; have := hL0.2; omega
    rw [q1, q2]
    exact X')
  refine ⟨t, st t ?_, b2⟩
  rw [hcellE, hT, z0]
  exact b1
end GFf
