section GLX
variable {p : Program} {l : Launch} {e : Env} {s : State} {m : MethodId} {args : Array Value} {below : List Frame} {meth : Method} {c : Code} {E : gE} {w0 : gW}
variable {tb : List ExceptionTableEntry} {nm : String}
def wJ_L_law_1563 (E : gE) (K23 : Nat → Nat → Nat → Nat → Int32 → gW → Prop) (Q : Int32 → gW → Prop) (x0 : Nat) (x1 : Nat) (x2 : Nat) (x3 : Nat) (x4 : Int32) (w : gW) : Prop :=
  K23 x0 x1 x2 x3 (x4 + 4) w
theorem kJ_L_law_1563 (C : gC p l s m args meth c cL_law 7 (some .boolean) RX0 E tb nm) {Q : Int32 → gW → Prop} {K23 : Nat → Nat → Nat → Nat → Int32 → gW → Prop} (hK23 : ∀ (x0 : Nat) (x1 : Nat) (x2 : Nat) (x3 : Nat) (x4 : Int32) (w : gW) (H : Heap) (locs : List Loc) (ls : Array Slot), gS E w0 w H locs → lv_has ls 7 [(0, .ref x0), (1, .ref x1), (2, .ref x2), (3, .ref x3), (4, .int x4)] → K23 x0 x1 x2 x3 x4 w → gGo p l e s m args below meth c H locs 8192 104096 E w0 w (gI Q) (gNoX) (F0 m 23 ls [])) (x0 : Nat) (x1 : Nat) (x2 : Nat) (x3 : Nat) (x4 : Int32) (w : gW) (H : Heap) (locs : List Loc) (ls : Array Slot) (hS : gS E w0 w H locs) (hl : lv_has ls 7 [(0, .ref x0), (1, .ref x1), (2, .ref x2), (3, .ref x3), (4, .int x4)]) (hw : wJ_L_law_1563 E K23 Q x0 x1 x2 x3 x4 w) : gGo p l e s m args below meth c H locs 8192 104096 E w0 w (gI Q) (gNoX) (F0 m 1563 ls []) := by
  unfold wJ_L_law_1563 at hw
  refine lv_iinc (v := (x4 + 4)) (lv' := [(4, .int (x4 + 4)), (0, .ref x0), (1, .ref x1), (2, .ref x2), (3, .ref x3)]) C.x C.b dL_law_1563 hl (k := 4) rfl rfl (by decide) rfl (fun ls hl => ?_)
  refine lv_goto (tgt := 23) C.x C.b dL_law_1566 (by decide) ?_
  exact hK23 _ _ _ _ _ _ _ _ _ hS (lv_sub hl [1, 2, 3, 4, 0] rfl) hw
def wJ_L_law_209 (E : gE) (K23 : Nat → Nat → Nat → Nat → Int32 → gW → Prop) (Q : Int32 → gW → Prop) (x0 : Nat) (x1 : Nat) (x2 : Nat) (x3 : Nat) (x4 : Int32) (w : gW) : Prop :=
  wJ_L_law_1563 E K23 Q x0 x1 x2 x3 x4 w
theorem kJ_L_law_209 (C : gC p l s m args meth c cL_law 7 (some .boolean) RX0 E tb nm) {Q : Int32 → gW → Prop} {K23 : Nat → Nat → Nat → Nat → Int32 → gW → Prop} (hK23 : ∀ (x0 : Nat) (x1 : Nat) (x2 : Nat) (x3 : Nat) (x4 : Int32) (w : gW) (H : Heap) (locs : List Loc) (ls : Array Slot), gS E w0 w H locs → lv_has ls 7 [(0, .ref x0), (1, .ref x1), (2, .ref x2), (3, .ref x3), (4, .int x4)] → K23 x0 x1 x2 x3 x4 w → gGo p l e s m args below meth c H locs 8192 104096 E w0 w (gI Q) (gNoX) (F0 m 23 ls [])) (x0 : Nat) (x1 : Nat) (x2 : Nat) (x3 : Nat) (x4 : Int32) (w : gW) (H : Heap) (locs : List Loc) (ls : Array Slot) (hS : gS E w0 w H locs) (hl : lv_has ls 7 [(0, .ref x0), (1, .ref x1), (2, .ref x2), (3, .ref x3), (4, .int x4)]) (hw : wJ_L_law_209 E K23 Q x0 x1 x2 x3 x4 w) : gGo p l e s m args below meth c H locs 8192 104096 E w0 w (gI Q) (gNoX) (F0 m 209 ls []) := by
  unfold wJ_L_law_209 at hw
  refine lv_goto (tgt := 1563) C.x C.b dL_law_209 (by decide) ?_
  exact kJ_L_law_1563 C hK23 _ _ _ _ _ _ _ _ _ hS (lv_sub hl [0, 1, 2, 3, 4] rfl) hw
def wJ_L_law_289 (E : gE) (K23 : Nat → Nat → Nat → Nat → Int32 → gW → Prop) (Q : Int32 → gW → Prop) (x0 : Nat) (x1 : Nat) (x2 : Nat) (x3 : Nat) (x4 : Int32) (w : gW) : Prop :=
  wJ_L_law_1563 E K23 Q x0 x1 x2 x3 x4 w
theorem kJ_L_law_289 (C : gC p l s m args meth c cL_law 7 (some .boolean) RX0 E tb nm) {Q : Int32 → gW → Prop} {K23 : Nat → Nat → Nat → Nat → Int32 → gW → Prop} (hK23 : ∀ (x0 : Nat) (x1 : Nat) (x2 : Nat) (x3 : Nat) (x4 : Int32) (w : gW) (H : Heap) (locs : List Loc) (ls : Array Slot), gS E w0 w H locs → lv_has ls 7 [(0, .ref x0), (1, .ref x1), (2, .ref x2), (3, .ref x3), (4, .int x4)] → K23 x0 x1 x2 x3 x4 w → gGo p l e s m args below meth c H locs 8192 104096 E w0 w (gI Q) (gNoX) (F0 m 23 ls [])) (x0 : Nat) (x1 : Nat) (x2 : Nat) (x3 : Nat) (x4 : Int32) (w : gW) (H : Heap) (locs : List Loc) (ls : Array Slot) (hS : gS E w0 w H locs) (hl : lv_has ls 7 [(0, .ref x0), (1, .ref x1), (2, .ref x2), (3, .ref x3), (4, .int x4)]) (hw : wJ_L_law_289 E K23 Q x0 x1 x2 x3 x4 w) : gGo p l e s m args below meth c H locs 8192 104096 E w0 w (gI Q) (gNoX) (F0 m 289 ls []) := by
  unfold wJ_L_law_289 at hw
  refine lv_goto (tgt := 1563) C.x C.b dL_law_289 (by decide) ?_
  exact kJ_L_law_1563 C hK23 _ _ _ _ _ _ _ _ _ hS (lv_sub hl [0, 1, 2, 3, 4] rfl) hw
def wJ_L_law_357 (E : gE) (K23 : Nat → Nat → Nat → Nat → Int32 → gW → Prop) (Q : Int32 → gW → Prop) (x0 : Nat) (x1 : Nat) (x2 : Nat) (x3 : Nat) (x4 : Int32) (w : gW) : Prop :=
  wJ_L_law_1563 E K23 Q x0 x1 x2 x3 x4 w
theorem kJ_L_law_357 (C : gC p l s m args meth c cL_law 7 (some .boolean) RX0 E tb nm) {Q : Int32 → gW → Prop} {K23 : Nat → Nat → Nat → Nat → Int32 → gW → Prop} (hK23 : ∀ (x0 : Nat) (x1 : Nat) (x2 : Nat) (x3 : Nat) (x4 : Int32) (w : gW) (H : Heap) (locs : List Loc) (ls : Array Slot), gS E w0 w H locs → lv_has ls 7 [(0, .ref x0), (1, .ref x1), (2, .ref x2), (3, .ref x3), (4, .int x4)] → K23 x0 x1 x2 x3 x4 w → gGo p l e s m args below meth c H locs 8192 104096 E w0 w (gI Q) (gNoX) (F0 m 23 ls [])) (x0 : Nat) (x1 : Nat) (x2 : Nat) (x3 : Nat) (x4 : Int32) (w : gW) (H : Heap) (locs : List Loc) (ls : Array Slot) (hS : gS E w0 w H locs) (hl : lv_has ls 7 [(0, .ref x0), (1, .ref x1), (2, .ref x2), (3, .ref x3), (4, .int x4)]) (hw : wJ_L_law_357 E K23 Q x0 x1 x2 x3 x4 w) : gGo p l e s m args below meth c H locs 8192 104096 E w0 w (gI Q) (gNoX) (F0 m 357 ls []) := by
  unfold wJ_L_law_357 at hw
  refine lv_goto (tgt := 1563) C.x C.b dL_law_357 (by decide) ?_
  exact kJ_L_law_1563 C hK23 _ _ _ _ _ _ _ _ _ hS (lv_sub hl [0, 1, 2, 3, 4] rfl) hw
def wJ_L_law_437 (E : gE) (K23 : Nat → Nat → Nat → Nat → Int32 → gW → Prop) (Q : Int32 → gW → Prop) (x0 : Nat) (x1 : Nat) (x2 : Nat) (x3 : Nat) (x4 : Int32) (w : gW) : Prop :=
  wJ_L_law_1563 E K23 Q x0 x1 x2 x3 x4 w
theorem kJ_L_law_437 (C : gC p l s m args meth c cL_law 7 (some .boolean) RX0 E tb nm) {Q : Int32 → gW → Prop} {K23 : Nat → Nat → Nat → Nat → Int32 → gW → Prop} (hK23 : ∀ (x0 : Nat) (x1 : Nat) (x2 : Nat) (x3 : Nat) (x4 : Int32) (w : gW) (H : Heap) (locs : List Loc) (ls : Array Slot), gS E w0 w H locs → lv_has ls 7 [(0, .ref x0), (1, .ref x1), (2, .ref x2), (3, .ref x3), (4, .int x4)] → K23 x0 x1 x2 x3 x4 w → gGo p l e s m args below meth c H locs 8192 104096 E w0 w (gI Q) (gNoX) (F0 m 23 ls [])) (x0 : Nat) (x1 : Nat) (x2 : Nat) (x3 : Nat) (x4 : Int32) (w : gW) (H : Heap) (locs : List Loc) (ls : Array Slot) (hS : gS E w0 w H locs) (hl : lv_has ls 7 [(0, .ref x0), (1, .ref x1), (2, .ref x2), (3, .ref x3), (4, .int x4)]) (hw : wJ_L_law_437 E K23 Q x0 x1 x2 x3 x4 w) : gGo p l e s m args below meth c H locs 8192 104096 E w0 w (gI Q) (gNoX) (F0 m 437 ls []) := by
  unfold wJ_L_law_437 at hw
  refine lv_goto (tgt := 1563) C.x C.b dL_law_437 (by decide) ?_
  exact kJ_L_law_1563 C hK23 _ _ _ _ _ _ _ _ _ hS (lv_sub hl [0, 1, 2, 3, 4] rfl) hw
def wJ_L_law_493 (E : gE) (K23 : Nat → Nat → Nat → Nat → Int32 → gW → Prop) (Q : Int32 → gW → Prop) (x0 : Nat) (x1 : Nat) (x2 : Nat) (x3 : Nat) (x4 : Int32) (w : gW) : Prop :=
  wJ_L_law_1563 E K23 Q x0 x1 x2 x3 x4 w
theorem kJ_L_law_493 (C : gC p l s m args meth c cL_law 7 (some .boolean) RX0 E tb nm) {Q : Int32 → gW → Prop} {K23 : Nat → Nat → Nat → Nat → Int32 → gW → Prop} (hK23 : ∀ (x0 : Nat) (x1 : Nat) (x2 : Nat) (x3 : Nat) (x4 : Int32) (w : gW) (H : Heap) (locs : List Loc) (ls : Array Slot), gS E w0 w H locs → lv_has ls 7 [(0, .ref x0), (1, .ref x1), (2, .ref x2), (3, .ref x3), (4, .int x4)] → K23 x0 x1 x2 x3 x4 w → gGo p l e s m args below meth c H locs 8192 104096 E w0 w (gI Q) (gNoX) (F0 m 23 ls [])) (x0 : Nat) (x1 : Nat) (x2 : Nat) (x3 : Nat) (x4 : Int32) (w : gW) (H : Heap) (locs : List Loc) (ls : Array Slot) (hS : gS E w0 w H locs) (hl : lv_has ls 7 [(0, .ref x0), (1, .ref x1), (2, .ref x2), (3, .ref x3), (4, .int x4)]) (hw : wJ_L_law_493 E K23 Q x0 x1 x2 x3 x4 w) : gGo p l e s m args below meth c H locs 8192 104096 E w0 w (gI Q) (gNoX) (F0 m 493 ls []) := by
  unfold wJ_L_law_493 at hw
  refine lv_goto (tgt := 1563) C.x C.b dL_law_493 (by decide) ?_
  exact kJ_L_law_1563 C hK23 _ _ _ _ _ _ _ _ _ hS (lv_sub hl [0, 1, 2, 3, 4] rfl) hw
def wJ_L_law_549 (E : gE) (K23 : Nat → Nat → Nat → Nat → Int32 → gW → Prop) (Q : Int32 → gW → Prop) (x0 : Nat) (x1 : Nat) (x2 : Nat) (x3 : Nat) (x4 : Int32) (w : gW) : Prop :=
  wJ_L_law_1563 E K23 Q x0 x1 x2 x3 x4 w
theorem kJ_L_law_549 (C : gC p l s m args meth c cL_law 7 (some .boolean) RX0 E tb nm) {Q : Int32 → gW → Prop} {K23 : Nat → Nat → Nat → Nat → Int32 → gW → Prop} (hK23 : ∀ (x0 : Nat) (x1 : Nat) (x2 : Nat) (x3 : Nat) (x4 : Int32) (w : gW) (H : Heap) (locs : List Loc) (ls : Array Slot), gS E w0 w H locs → lv_has ls 7 [(0, .ref x0), (1, .ref x1), (2, .ref x2), (3, .ref x3), (4, .int x4)] → K23 x0 x1 x2 x3 x4 w → gGo p l e s m args below meth c H locs 8192 104096 E w0 w (gI Q) (gNoX) (F0 m 23 ls [])) (x0 : Nat) (x1 : Nat) (x2 : Nat) (x3 : Nat) (x4 : Int32) (w : gW) (H : Heap) (locs : List Loc) (ls : Array Slot) (hS : gS E w0 w H locs) (hl : lv_has ls 7 [(0, .ref x0), (1, .ref x1), (2, .ref x2), (3, .ref x3), (4, .int x4)]) (hw : wJ_L_law_549 E K23 Q x0 x1 x2 x3 x4 w) : gGo p l e s m args below meth c H locs 8192 104096 E w0 w (gI Q) (gNoX) (F0 m 549 ls []) := by
  unfold wJ_L_law_549 at hw
  refine lv_goto (tgt := 1563) C.x C.b dL_law_549 (by decide) ?_
  exact kJ_L_law_1563 C hK23 _ _ _ _ _ _ _ _ _ hS (lv_sub hl [0, 1, 2, 3, 4] rfl) hw
def wJ_L_law_617 (E : gE) (K23 : Nat → Nat → Nat → Nat → Int32 → gW → Prop) (Q : Int32 → gW → Prop) (x0 : Nat) (x1 : Nat) (x2 : Nat) (x3 : Nat) (x4 : Int32) (w : gW) : Prop :=
  wJ_L_law_1563 E K23 Q x0 x1 x2 x3 x4 w
theorem kJ_L_law_617 (C : gC p l s m args meth c cL_law 7 (some .boolean) RX0 E tb nm) {Q : Int32 → gW → Prop} {K23 : Nat → Nat → Nat → Nat → Int32 → gW → Prop} (hK23 : ∀ (x0 : Nat) (x1 : Nat) (x2 : Nat) (x3 : Nat) (x4 : Int32) (w : gW) (H : Heap) (locs : List Loc) (ls : Array Slot), gS E w0 w H locs → lv_has ls 7 [(0, .ref x0), (1, .ref x1), (2, .ref x2), (3, .ref x3), (4, .int x4)] → K23 x0 x1 x2 x3 x4 w → gGo p l e s m args below meth c H locs 8192 104096 E w0 w (gI Q) (gNoX) (F0 m 23 ls [])) (x0 : Nat) (x1 : Nat) (x2 : Nat) (x3 : Nat) (x4 : Int32) (w : gW) (H : Heap) (locs : List Loc) (ls : Array Slot) (hS : gS E w0 w H locs) (hl : lv_has ls 7 [(0, .ref x0), (1, .ref x1), (2, .ref x2), (3, .ref x3), (4, .int x4)]) (hw : wJ_L_law_617 E K23 Q x0 x1 x2 x3 x4 w) : gGo p l e s m args below meth c H locs 8192 104096 E w0 w (gI Q) (gNoX) (F0 m 617 ls []) := by
  unfold wJ_L_law_617 at hw
  refine lv_goto (tgt := 1563) C.x C.b dL_law_617 (by decide) ?_
  exact kJ_L_law_1563 C hK23 _ _ _ _ _ _ _ _ _ hS (lv_sub hl [0, 1, 2, 3, 4] rfl) hw
def wJ_L_law_697 (E : gE) (K23 : Nat → Nat → Nat → Nat → Int32 → gW → Prop) (Q : Int32 → gW → Prop) (x0 : Nat) (x1 : Nat) (x2 : Nat) (x3 : Nat) (x4 : Int32) (w : gW) : Prop :=
  wJ_L_law_1563 E K23 Q x0 x1 x2 x3 x4 w
theorem kJ_L_law_697 (C : gC p l s m args meth c cL_law 7 (some .boolean) RX0 E tb nm) {Q : Int32 → gW → Prop} {K23 : Nat → Nat → Nat → Nat → Int32 → gW → Prop} (hK23 : ∀ (x0 : Nat) (x1 : Nat) (x2 : Nat) (x3 : Nat) (x4 : Int32) (w : gW) (H : Heap) (locs : List Loc) (ls : Array Slot), gS E w0 w H locs → lv_has ls 7 [(0, .ref x0), (1, .ref x1), (2, .ref x2), (3, .ref x3), (4, .int x4)] → K23 x0 x1 x2 x3 x4 w → gGo p l e s m args below meth c H locs 8192 104096 E w0 w (gI Q) (gNoX) (F0 m 23 ls [])) (x0 : Nat) (x1 : Nat) (x2 : Nat) (x3 : Nat) (x4 : Int32) (w : gW) (H : Heap) (locs : List Loc) (ls : Array Slot) (hS : gS E w0 w H locs) (hl : lv_has ls 7 [(0, .ref x0), (1, .ref x1), (2, .ref x2), (3, .ref x3), (4, .int x4)]) (hw : wJ_L_law_697 E K23 Q x0 x1 x2 x3 x4 w) : gGo p l e s m args below meth c H locs 8192 104096 E w0 w (gI Q) (gNoX) (F0 m 697 ls []) := by
  unfold wJ_L_law_697 at hw
  refine lv_goto (tgt := 1563) C.x C.b dL_law_697 (by decide) ?_
  exact kJ_L_law_1563 C hK23 _ _ _ _ _ _ _ _ _ hS (lv_sub hl [0, 1, 2, 3, 4] rfl) hw
def wJ_L_law_765 (E : gE) (K23 : Nat → Nat → Nat → Nat → Int32 → gW → Prop) (Q : Int32 → gW → Prop) (x0 : Nat) (x1 : Nat) (x2 : Nat) (x3 : Nat) (x4 : Int32) (w : gW) : Prop :=
  wJ_L_law_1563 E K23 Q x0 x1 x2 x3 x4 w
theorem kJ_L_law_765 (C : gC p l s m args meth c cL_law 7 (some .boolean) RX0 E tb nm) {Q : Int32 → gW → Prop} {K23 : Nat → Nat → Nat → Nat → Int32 → gW → Prop} (hK23 : ∀ (x0 : Nat) (x1 : Nat) (x2 : Nat) (x3 : Nat) (x4 : Int32) (w : gW) (H : Heap) (locs : List Loc) (ls : Array Slot), gS E w0 w H locs → lv_has ls 7 [(0, .ref x0), (1, .ref x1), (2, .ref x2), (3, .ref x3), (4, .int x4)] → K23 x0 x1 x2 x3 x4 w → gGo p l e s m args below meth c H locs 8192 104096 E w0 w (gI Q) (gNoX) (F0 m 23 ls [])) (x0 : Nat) (x1 : Nat) (x2 : Nat) (x3 : Nat) (x4 : Int32) (w : gW) (H : Heap) (locs : List Loc) (ls : Array Slot) (hS : gS E w0 w H locs) (hl : lv_has ls 7 [(0, .ref x0), (1, .ref x1), (2, .ref x2), (3, .ref x3), (4, .int x4)]) (hw : wJ_L_law_765 E K23 Q x0 x1 x2 x3 x4 w) : gGo p l e s m args below meth c H locs 8192 104096 E w0 w (gI Q) (gNoX) (F0 m 765 ls []) := by
  unfold wJ_L_law_765 at hw
  refine lv_goto (tgt := 1563) C.x C.b dL_law_765 (by decide) ?_
  exact kJ_L_law_1563 C hK23 _ _ _ _ _ _ _ _ _ hS (lv_sub hl [0, 1, 2, 3, 4] rfl) hw
def wJ_L_law_821 (E : gE) (K23 : Nat → Nat → Nat → Nat → Int32 → gW → Prop) (Q : Int32 → gW → Prop) (x0 : Nat) (x1 : Nat) (x2 : Nat) (x3 : Nat) (x4 : Int32) (w : gW) : Prop :=
  wJ_L_law_1563 E K23 Q x0 x1 x2 x3 x4 w
theorem kJ_L_law_821 (C : gC p l s m args meth c cL_law 7 (some .boolean) RX0 E tb nm) {Q : Int32 → gW → Prop} {K23 : Nat → Nat → Nat → Nat → Int32 → gW → Prop} (hK23 : ∀ (x0 : Nat) (x1 : Nat) (x2 : Nat) (x3 : Nat) (x4 : Int32) (w : gW) (H : Heap) (locs : List Loc) (ls : Array Slot), gS E w0 w H locs → lv_has ls 7 [(0, .ref x0), (1, .ref x1), (2, .ref x2), (3, .ref x3), (4, .int x4)] → K23 x0 x1 x2 x3 x4 w → gGo p l e s m args below meth c H locs 8192 104096 E w0 w (gI Q) (gNoX) (F0 m 23 ls [])) (x0 : Nat) (x1 : Nat) (x2 : Nat) (x3 : Nat) (x4 : Int32) (w : gW) (H : Heap) (locs : List Loc) (ls : Array Slot) (hS : gS E w0 w H locs) (hl : lv_has ls 7 [(0, .ref x0), (1, .ref x1), (2, .ref x2), (3, .ref x3), (4, .int x4)]) (hw : wJ_L_law_821 E K23 Q x0 x1 x2 x3 x4 w) : gGo p l e s m args below meth c H locs 8192 104096 E w0 w (gI Q) (gNoX) (F0 m 821 ls []) := by
  unfold wJ_L_law_821 at hw
  refine lv_goto (tgt := 1563) C.x C.b dL_law_821 (by decide) ?_
  exact kJ_L_law_1563 C hK23 _ _ _ _ _ _ _ _ _ hS (lv_sub hl [0, 1, 2, 3, 4] rfl) hw
def wJ_L_law_902 (E : gE) (K23 : Nat → Nat → Nat → Nat → Int32 → gW → Prop) (Q : Int32 → gW → Prop) (x0 : Nat) (x1 : Nat) (x2 : Nat) (x3 : Nat) (x4 : Int32) (w : gW) : Prop :=
  wJ_L_law_1563 E K23 Q x0 x1 x2 x3 x4 w
theorem kJ_L_law_902 (C : gC p l s m args meth c cL_law 7 (some .boolean) RX0 E tb nm) {Q : Int32 → gW → Prop} {K23 : Nat → Nat → Nat → Nat → Int32 → gW → Prop} (hK23 : ∀ (x0 : Nat) (x1 : Nat) (x2 : Nat) (x3 : Nat) (x4 : Int32) (w : gW) (H : Heap) (locs : List Loc) (ls : Array Slot), gS E w0 w H locs → lv_has ls 7 [(0, .ref x0), (1, .ref x1), (2, .ref x2), (3, .ref x3), (4, .int x4)] → K23 x0 x1 x2 x3 x4 w → gGo p l e s m args below meth c H locs 8192 104096 E w0 w (gI Q) (gNoX) (F0 m 23 ls [])) (x0 : Nat) (x1 : Nat) (x2 : Nat) (x3 : Nat) (x4 : Int32) (w : gW) (H : Heap) (locs : List Loc) (ls : Array Slot) (hS : gS E w0 w H locs) (hl : lv_has ls 7 [(0, .ref x0), (1, .ref x1), (2, .ref x2), (3, .ref x3), (4, .int x4)]) (hw : wJ_L_law_902 E K23 Q x0 x1 x2 x3 x4 w) : gGo p l e s m args below meth c H locs 8192 104096 E w0 w (gI Q) (gNoX) (F0 m 902 ls []) := by
  unfold wJ_L_law_902 at hw
  refine lv_goto (tgt := 1563) C.x C.b dL_law_902 (by decide) ?_
  exact kJ_L_law_1563 C hK23 _ _ _ _ _ _ _ _ _ hS (lv_sub hl [0, 1, 2, 3, 4] rfl) hw
def wJ_L_law_970 (E : gE) (K23 : Nat → Nat → Nat → Nat → Int32 → gW → Prop) (Q : Int32 → gW → Prop) (x0 : Nat) (x1 : Nat) (x2 : Nat) (x3 : Nat) (x4 : Int32) (w : gW) : Prop :=
  wJ_L_law_1563 E K23 Q x0 x1 x2 x3 x4 w
theorem kJ_L_law_970 (C : gC p l s m args meth c cL_law 7 (some .boolean) RX0 E tb nm) {Q : Int32 → gW → Prop} {K23 : Nat → Nat → Nat → Nat → Int32 → gW → Prop} (hK23 : ∀ (x0 : Nat) (x1 : Nat) (x2 : Nat) (x3 : Nat) (x4 : Int32) (w : gW) (H : Heap) (locs : List Loc) (ls : Array Slot), gS E w0 w H locs → lv_has ls 7 [(0, .ref x0), (1, .ref x1), (2, .ref x2), (3, .ref x3), (4, .int x4)] → K23 x0 x1 x2 x3 x4 w → gGo p l e s m args below meth c H locs 8192 104096 E w0 w (gI Q) (gNoX) (F0 m 23 ls [])) (x0 : Nat) (x1 : Nat) (x2 : Nat) (x3 : Nat) (x4 : Int32) (w : gW) (H : Heap) (locs : List Loc) (ls : Array Slot) (hS : gS E w0 w H locs) (hl : lv_has ls 7 [(0, .ref x0), (1, .ref x1), (2, .ref x2), (3, .ref x3), (4, .int x4)]) (hw : wJ_L_law_970 E K23 Q x0 x1 x2 x3 x4 w) : gGo p l e s m args below meth c H locs 8192 104096 E w0 w (gI Q) (gNoX) (F0 m 970 ls []) := by
  unfold wJ_L_law_970 at hw
  refine lv_goto (tgt := 1563) C.x C.b dL_law_970 (by decide) ?_
  exact kJ_L_law_1563 C hK23 _ _ _ _ _ _ _ _ _ hS (lv_sub hl [0, 1, 2, 3, 4] rfl) hw
def wJ_L_law_1051 (E : gE) (K23 : Nat → Nat → Nat → Nat → Int32 → gW → Prop) (Q : Int32 → gW → Prop) (x0 : Nat) (x1 : Nat) (x2 : Nat) (x3 : Nat) (x4 : Int32) (w : gW) : Prop :=
  wJ_L_law_1563 E K23 Q x0 x1 x2 x3 x4 w
theorem kJ_L_law_1051 (C : gC p l s m args meth c cL_law 7 (some .boolean) RX0 E tb nm) {Q : Int32 → gW → Prop} {K23 : Nat → Nat → Nat → Nat → Int32 → gW → Prop} (hK23 : ∀ (x0 : Nat) (x1 : Nat) (x2 : Nat) (x3 : Nat) (x4 : Int32) (w : gW) (H : Heap) (locs : List Loc) (ls : Array Slot), gS E w0 w H locs → lv_has ls 7 [(0, .ref x0), (1, .ref x1), (2, .ref x2), (3, .ref x3), (4, .int x4)] → K23 x0 x1 x2 x3 x4 w → gGo p l e s m args below meth c H locs 8192 104096 E w0 w (gI Q) (gNoX) (F0 m 23 ls [])) (x0 : Nat) (x1 : Nat) (x2 : Nat) (x3 : Nat) (x4 : Int32) (w : gW) (H : Heap) (locs : List Loc) (ls : Array Slot) (hS : gS E w0 w H locs) (hl : lv_has ls 7 [(0, .ref x0), (1, .ref x1), (2, .ref x2), (3, .ref x3), (4, .int x4)]) (hw : wJ_L_law_1051 E K23 Q x0 x1 x2 x3 x4 w) : gGo p l e s m args below meth c H locs 8192 104096 E w0 w (gI Q) (gNoX) (F0 m 1051 ls []) := by
  unfold wJ_L_law_1051 at hw
  refine lv_goto (tgt := 1563) C.x C.b dL_law_1051 (by decide) ?_
  exact kJ_L_law_1563 C hK23 _ _ _ _ _ _ _ _ _ hS (lv_sub hl [0, 1, 2, 3, 4] rfl) hw
def wJ_L_law_1147 (E : gE) (K23 : Nat → Nat → Nat → Nat → Int32 → gW → Prop) (Q : Int32 → gW → Prop) (x0 : Nat) (x1 : Nat) (x2 : Nat) (x3 : Nat) (x4 : Int32) (w : gW) : Prop :=
  wJ_L_law_1563 E K23 Q x0 x1 x2 x3 x4 w
theorem kJ_L_law_1147 (C : gC p l s m args meth c cL_law 7 (some .boolean) RX0 E tb nm) {Q : Int32 → gW → Prop} {K23 : Nat → Nat → Nat → Nat → Int32 → gW → Prop} (hK23 : ∀ (x0 : Nat) (x1 : Nat) (x2 : Nat) (x3 : Nat) (x4 : Int32) (w : gW) (H : Heap) (locs : List Loc) (ls : Array Slot), gS E w0 w H locs → lv_has ls 7 [(0, .ref x0), (1, .ref x1), (2, .ref x2), (3, .ref x3), (4, .int x4)] → K23 x0 x1 x2 x3 x4 w → gGo p l e s m args below meth c H locs 8192 104096 E w0 w (gI Q) (gNoX) (F0 m 23 ls [])) (x0 : Nat) (x1 : Nat) (x2 : Nat) (x3 : Nat) (x4 : Int32) (w : gW) (H : Heap) (locs : List Loc) (ls : Array Slot) (hS : gS E w0 w H locs) (hl : lv_has ls 7 [(0, .ref x0), (1, .ref x1), (2, .ref x2), (3, .ref x3), (4, .int x4)]) (hw : wJ_L_law_1147 E K23 Q x0 x1 x2 x3 x4 w) : gGo p l e s m args below meth c H locs 8192 104096 E w0 w (gI Q) (gNoX) (F0 m 1147 ls []) := by
  unfold wJ_L_law_1147 at hw
  refine lv_goto (tgt := 1563) C.x C.b dL_law_1147 (by decide) ?_
  exact kJ_L_law_1563 C hK23 _ _ _ _ _ _ _ _ _ hS (lv_sub hl [0, 1, 2, 3, 4] rfl) hw
def wJ_L_law_1108 (E : gE) (K23 : Nat → Nat → Nat → Nat → Int32 → gW → Prop) (Q : Int32 → gW → Prop) (x0 : Nat) (x1 : Nat) (x2 : Nat) (x3 : Nat) (x4 : Int32) (x5 : Int32) (y0 : Int32) (y1 : Int32) (y2 : Nat) (w : gW) : Prop :=
  aL E 0 x0 (x4 + 3) (fun v308 => aMI E y2 (fun Q u => wM_port y1 y0 v308 Q u) (fun r310 w309 => aMI E x2 (fun Q u => wM_thrown Q u) (fun r312 w311 => (r312 = x5 → ((x5 = 0 → (aLj E x3 0 (fun v315 => ((lg_cmp v315 r310.toInt64) = 0 → (wJ_L_law_1147 E K23 Q x0 x1 x2 x3 x4 w311)) ∧ (¬ (lg_cmp v315 r310.toInt64) = 0 → (Q 0 w311))) w311)) ∧ (¬ x5 = 0 → (wJ_L_law_1147 E K23 Q x0 x1 x2 x3 x4 w311)))) ∧ (¬ r312 = x5 → (Q 0 w311))) w309) w) w
theorem kJ_L_law_1108 (C : gC p l s m args meth c cL_law 7 (some .boolean) RX0 E tb nm) {Q : Int32 → gW → Prop} {K23 : Nat → Nat → Nat → Nat → Int32 → gW → Prop} (hK23 : ∀ (x0 : Nat) (x1 : Nat) (x2 : Nat) (x3 : Nat) (x4 : Int32) (w : gW) (H : Heap) (locs : List Loc) (ls : Array Slot), gS E w0 w H locs → lv_has ls 7 [(0, .ref x0), (1, .ref x1), (2, .ref x2), (3, .ref x3), (4, .int x4)] → K23 x0 x1 x2 x3 x4 w → gGo p l e s m args below meth c H locs 8192 104096 E w0 w (gI Q) (gNoX) (F0 m 23 ls [])) (x0 : Nat) (x1 : Nat) (x2 : Nat) (x3 : Nat) (x4 : Int32) (x5 : Int32) (y0 : Int32) (y1 : Int32) (y2 : Nat) (w : gW) (H : Heap) (locs : List Loc) (ls : Array Slot) (hS : gS E w0 w H locs) (hl : lv_has ls 7 [(0, .ref x0), (1, .ref x1), (2, .ref x2), (3, .ref x3), (4, .int x4), (5, .int x5)]) (hw : wJ_L_law_1108 E K23 Q x0 x1 x2 x3 x4 x5 y0 y1 y2 w) : gGo p l e s m args below meth c H locs 8192 104096 E w0 w (gI Q) (gNoX) (F0 m 1108 ls [.int y0, .int y1, .ref y2]) := by
  unfold wJ_L_law_1108 at hw
  refine lv_aload_n C.x C.b dL_law_1108 rfl (lv_at hl 0 rfl) ?_
  refine lv_iload C.x C.b dL_law_1109 (lv_at hl 4 rfl) ?_
  refine lv_iconst (v := 3) C.x C.b dL_law_1111 (by decide) ?_
  refine lv_iadd C.x C.b dL_law_1112 ?_
  refine a_Li C hS dL_law_1113 hw (fun v308 hw => ?_)
  refine a_mI (rest := []) (As := [.int y1, .int y0, .int v308]) C hS hl hw (fun ad u wb Q hI h => kM_port C.tr hI h) q1742 q1743 q1744 q88 q1745 (by decide +kernel : gNm yX5_port 3 = true) rfl (Nat.le_of_ble_eq_true rfl) (Nat.le_of_ble_eq_true rfl) rfl (Nat.le_of_ble_eq_true rfl) dL_law_1114 (fun r310 w309 H locs hw hS => ?_)
  refine lv_istore (lv' := [(6, .int r310), (0, .ref x0), (1, .ref x1), (2, .ref x2), (3, .ref x3), (4, .int x4), (5, .int x5)]) C.x C.b dL_law_1117 hl (by decide) rfl (fun ls hl => ?_)
  refine lv_aload_n C.x C.b dL_law_1119 rfl (lv_at hl 3 rfl) ?_
  refine a_mI (rest := []) (As := []) C hS hl hw (fun ad u wb Q hI h => kM_thrown C.tr hI h) q1527 q1528 q1529 q88 q1530 (by decide +kernel : gNm yX5_thrown 0 = true) rfl (Nat.le_of_ble_eq_true rfl) (Nat.le_of_ble_eq_true rfl) rfl (Nat.le_of_ble_eq_true rfl) dL_law_1120 (fun r312 w311 H locs hw hS => ?_)
  refine lv_iload C.x C.b dL_law_1123 (lv_at hl 6 rfl) ?_
  refine lv_icmp_eq (tgt := 1130) C.x C.b dL_law_1125 (by decide) (fun c313 => ?_) (fun c313 => ?_)
  · have hw := hw.1 c313
    refine lv_iload C.x C.b dL_law_1130 (lv_at hl 6 rfl) ?_
    refine lv_if_ne (tgt := 1147) C.x C.b dL_law_1132 (by decide) (fun c314 => ?_) (fun c314 => ?_)
    · have hw := hw.2 c314
      exact kJ_L_law_1147 C hK23 _ _ _ _ _ _ _ _ _ hS (lv_sub hl [1, 2, 3, 4, 5] rfl) hw
    · have hw := hw.1 c314
      refine lv_aload_n C.x C.b dL_law_1135 rfl (lv_at hl 4 rfl) ?_
      refine lv_iconst (v := 0) C.x C.b dL_law_1136 (by decide) ?_
      refine a_Lj C hS dL_law_1137 hw (fun v315 hw => ?_)
      refine lv_iload C.x C.b dL_law_1138 (lv_at hl 0 rfl) ?_
      refine lv_i2l C.x C.b dL_law_1140 rfl ?_
      refine W.lcmp C.x C.b dL_law_1141 ?_
      refine lv_if_eq (tgt := 1147) C.x C.b dL_law_1142 (by decide) (fun c316 => ?_) (fun c316 => ?_)
      · have hw := hw.1 c316
        exact kJ_L_law_1147 C hK23 _ _ _ _ _ _ _ _ _ hS (lv_sub hl [1, 2, 3, 4, 5] rfl) hw
      · have hw := hw.2 c316
        refine lv_iconst (v := 0) C.x C.b dL_law_1145 (by decide) ?_
        exact g_zret C hS rfl ⟨_, rfl, hw⟩ dL_law_1146
  · have hw := hw.2 c313
    refine lv_iconst (v := 0) C.x C.b dL_law_1128 (by decide) ?_
    exact g_zret C hS rfl ⟨_, rfl, hw⟩ dL_law_1129
def wJ_L_law_1075 (E : gE) (K23 : Nat → Nat → Nat → Nat → Int32 → gW → Prop) (Q : Int32 → gW → Prop) (x0 : Nat) (x1 : Nat) (x2 : Nat) (x3 : Nat) (x4 : Int32) (y0 : Int32) (y1 : Int32) (y2 : Nat) (w : gW) : Prop :=
  aL E 0 x0 (x4 + 3) (fun v302 => wJ_X0_port E y2 y1 y0 v302 x3 (fun r304 w303 => aL E 0 x0 (x4 + 1) (fun v305 => aL E 0 x0 (x4 + 2) (fun v306 => (v306 = 0 → (wJ_L_law_1108 E K23 Q x0 x1 x2 x3 x4 r304 0 v305 x2 w303)) ∧ (¬ v306 = 0 → (wJ_L_law_1108 E K23 Q x0 x1 x2 x3 x4 r304 1 v305 x2 w303))) w303) w303) w) w
theorem kJ_L_law_1075 (C : gC p l s m args meth c cL_law 7 (some .boolean) RX0 E tb nm) {Q : Int32 → gW → Prop} {K23 : Nat → Nat → Nat → Nat → Int32 → gW → Prop} (hK23 : ∀ (x0 : Nat) (x1 : Nat) (x2 : Nat) (x3 : Nat) (x4 : Int32) (w : gW) (H : Heap) (locs : List Loc) (ls : Array Slot), gS E w0 w H locs → lv_has ls 7 [(0, .ref x0), (1, .ref x1), (2, .ref x2), (3, .ref x3), (4, .int x4)] → K23 x0 x1 x2 x3 x4 w → gGo p l e s m args below meth c H locs 8192 104096 E w0 w (gI Q) (gNoX) (F0 m 23 ls [])) (x0 : Nat) (x1 : Nat) (x2 : Nat) (x3 : Nat) (x4 : Int32) (y0 : Int32) (y1 : Int32) (y2 : Nat) (w : gW) (H : Heap) (locs : List Loc) (ls : Array Slot) (hS : gS E w0 w H locs) (hl : lv_has ls 7 [(0, .ref x0), (1, .ref x1), (2, .ref x2), (3, .ref x3), (4, .int x4)]) (hw : wJ_L_law_1075 E K23 Q x0 x1 x2 x3 x4 y0 y1 y2 w) : gGo p l e s m args below meth c H locs 8192 104096 E w0 w (gI Q) (gNoX) (F0 m 1075 ls [.int y0, .int y1, .ref y2]) := by
  unfold wJ_L_law_1075 at hw
  refine lv_aload_n C.x C.b dL_law_1075 rfl (lv_at hl 0 rfl) ?_
  refine lv_iload C.x C.b dL_law_1076 (lv_at hl 4 rfl) ?_
  refine lv_iconst (v := 3) C.x C.b dL_law_1078 (by decide) ?_
  refine lv_iadd C.x C.b dL_law_1079 ?_
  refine a_Li C hS dL_law_1080 hw (fun v302 hw => ?_)
  refine lv_aload_n C.x C.b dL_law_1081 rfl (lv_at hl 3 rfl) ?_
  refine g_callSH (rest := []) C hS hl (kJ_X0_port C.tr hw) q1397 q1398 q76 q1399 ny_X0_port rfl (Nat.le_of_ble_eq_true rfl) (Nat.le_of_ble_eq_true rfl) rfl (Nat.le_of_ble_eq_true rfl) dL_law_1082 (fun X1 w1 H1 l1 q1 ce hx => hx.elim) (fun v w303 H locs hq _ hS => ?_)
  obtain ⟨r304, rfl, hw⟩ := hq
  refine W.eq (g2 := F0 m 1085 ls [.int r304]) rfl ?_
  refine lv_istore (lv' := [(5, .int r304), (0, .ref x0), (1, .ref x1), (2, .ref x2), (3, .ref x3), (4, .int x4)]) C.x C.b dL_law_1085 hl (by decide) rfl (fun ls hl => ?_)
  refine lv_aload_n C.x C.b dL_law_1087 rfl (lv_at hl 3 rfl) ?_
  refine lv_aload_n C.x C.b dL_law_1088 rfl (lv_at hl 1 rfl) ?_
  refine lv_iload C.x C.b dL_law_1089 (lv_at hl 5 rfl) ?_
  refine lv_iconst (v := 1) C.x C.b dL_law_1091 (by decide) ?_
  refine lv_iadd C.x C.b dL_law_1092 ?_
  refine a_Li C hS dL_law_1093 hw (fun v305 hw => ?_)
  refine lv_aload_n C.x C.b dL_law_1094 rfl (lv_at hl 1 rfl) ?_
  refine lv_iload C.x C.b dL_law_1095 (lv_at hl 5 rfl) ?_
  refine lv_iconst (v := 2) C.x C.b dL_law_1097 (by decide) ?_
  refine lv_iadd C.x C.b dL_law_1098 ?_
  refine a_Li C hS dL_law_1099 hw (fun v306 hw => ?_)
  refine lv_if_eq (tgt := 1107) C.x C.b dL_law_1100 (by decide) (fun c307 => ?_) (fun c307 => ?_)
  · have hw := hw.1 c307
    refine lv_iconst (v := 0) C.x C.b dL_law_1107 (by decide) ?_
    exact kJ_L_law_1108 C hK23 _ _ _ _ _ _ _ _ _ _ _ _ _ hS (lv_sub hl [1, 2, 3, 4, 5, 0] rfl) hw
  · have hw := hw.2 c307
    refine lv_iconst (v := 1) C.x C.b dL_law_1103 (by decide) ?_
    refine lv_goto (tgt := 1108) C.x C.b dL_law_1104 (by decide) ?_
    exact kJ_L_law_1108 C hK23 _ _ _ _ _ _ _ _ _ _ _ _ _ hS (lv_sub hl [1, 2, 3, 4, 5, 0] rfl) hw
def wJ_L_law_1215 (E : gE) (K23 : Nat → Nat → Nat → Nat → Int32 → gW → Prop) (Q : Int32 → gW → Prop) (x0 : Nat) (x1 : Nat) (x2 : Nat) (x3 : Nat) (x4 : Int32) (w : gW) : Prop :=
  wJ_L_law_1563 E K23 Q x0 x1 x2 x3 x4 w
theorem kJ_L_law_1215 (C : gC p l s m args meth c cL_law 7 (some .boolean) RX0 E tb nm) {Q : Int32 → gW → Prop} {K23 : Nat → Nat → Nat → Nat → Int32 → gW → Prop} (hK23 : ∀ (x0 : Nat) (x1 : Nat) (x2 : Nat) (x3 : Nat) (x4 : Int32) (w : gW) (H : Heap) (locs : List Loc) (ls : Array Slot), gS E w0 w H locs → lv_has ls 7 [(0, .ref x0), (1, .ref x1), (2, .ref x2), (3, .ref x3), (4, .int x4)] → K23 x0 x1 x2 x3 x4 w → gGo p l e s m args below meth c H locs 8192 104096 E w0 w (gI Q) (gNoX) (F0 m 23 ls [])) (x0 : Nat) (x1 : Nat) (x2 : Nat) (x3 : Nat) (x4 : Int32) (w : gW) (H : Heap) (locs : List Loc) (ls : Array Slot) (hS : gS E w0 w H locs) (hl : lv_has ls 7 [(0, .ref x0), (1, .ref x1), (2, .ref x2), (3, .ref x3), (4, .int x4)]) (hw : wJ_L_law_1215 E K23 Q x0 x1 x2 x3 x4 w) : gGo p l e s m args below meth c H locs 8192 104096 E w0 w (gI Q) (gNoX) (F0 m 1215 ls []) := by
  unfold wJ_L_law_1215 at hw
  refine lv_goto (tgt := 1563) C.x C.b dL_law_1215 (by decide) ?_
  exact kJ_L_law_1563 C hK23 _ _ _ _ _ _ _ _ _ hS (lv_sub hl [0, 1, 2, 3, 4] rfl) hw
def wJ_L_law_1283 (E : gE) (K23 : Nat → Nat → Nat → Nat → Int32 → gW → Prop) (Q : Int32 → gW → Prop) (x0 : Nat) (x1 : Nat) (x2 : Nat) (x3 : Nat) (x4 : Int32) (w : gW) : Prop :=
  wJ_L_law_1563 E K23 Q x0 x1 x2 x3 x4 w
theorem kJ_L_law_1283 (C : gC p l s m args meth c cL_law 7 (some .boolean) RX0 E tb nm) {Q : Int32 → gW → Prop} {K23 : Nat → Nat → Nat → Nat → Int32 → gW → Prop} (hK23 : ∀ (x0 : Nat) (x1 : Nat) (x2 : Nat) (x3 : Nat) (x4 : Int32) (w : gW) (H : Heap) (locs : List Loc) (ls : Array Slot), gS E w0 w H locs → lv_has ls 7 [(0, .ref x0), (1, .ref x1), (2, .ref x2), (3, .ref x3), (4, .int x4)] → K23 x0 x1 x2 x3 x4 w → gGo p l e s m args below meth c H locs 8192 104096 E w0 w (gI Q) (gNoX) (F0 m 23 ls [])) (x0 : Nat) (x1 : Nat) (x2 : Nat) (x3 : Nat) (x4 : Int32) (w : gW) (H : Heap) (locs : List Loc) (ls : Array Slot) (hS : gS E w0 w H locs) (hl : lv_has ls 7 [(0, .ref x0), (1, .ref x1), (2, .ref x2), (3, .ref x3), (4, .int x4)]) (hw : wJ_L_law_1283 E K23 Q x0 x1 x2 x3 x4 w) : gGo p l e s m args below meth c H locs 8192 104096 E w0 w (gI Q) (gNoX) (F0 m 1283 ls []) := by
  unfold wJ_L_law_1283 at hw
  refine lv_goto (tgt := 1563) C.x C.b dL_law_1283 (by decide) ?_
  exact kJ_L_law_1563 C hK23 _ _ _ _ _ _ _ _ _ hS (lv_sub hl [0, 1, 2, 3, 4] rfl) hw
def wJ_L_law_1351 (E : gE) (K23 : Nat → Nat → Nat → Nat → Int32 → gW → Prop) (Q : Int32 → gW → Prop) (x0 : Nat) (x1 : Nat) (x2 : Nat) (x3 : Nat) (x4 : Int32) (w : gW) : Prop :=
  wJ_L_law_1563 E K23 Q x0 x1 x2 x3 x4 w
theorem kJ_L_law_1351 (C : gC p l s m args meth c cL_law 7 (some .boolean) RX0 E tb nm) {Q : Int32 → gW → Prop} {K23 : Nat → Nat → Nat → Nat → Int32 → gW → Prop} (hK23 : ∀ (x0 : Nat) (x1 : Nat) (x2 : Nat) (x3 : Nat) (x4 : Int32) (w : gW) (H : Heap) (locs : List Loc) (ls : Array Slot), gS E w0 w H locs → lv_has ls 7 [(0, .ref x0), (1, .ref x1), (2, .ref x2), (3, .ref x3), (4, .int x4)] → K23 x0 x1 x2 x3 x4 w → gGo p l e s m args below meth c H locs 8192 104096 E w0 w (gI Q) (gNoX) (F0 m 23 ls [])) (x0 : Nat) (x1 : Nat) (x2 : Nat) (x3 : Nat) (x4 : Int32) (w : gW) (H : Heap) (locs : List Loc) (ls : Array Slot) (hS : gS E w0 w H locs) (hl : lv_has ls 7 [(0, .ref x0), (1, .ref x1), (2, .ref x2), (3, .ref x3), (4, .int x4)]) (hw : wJ_L_law_1351 E K23 Q x0 x1 x2 x3 x4 w) : gGo p l e s m args below meth c H locs 8192 104096 E w0 w (gI Q) (gNoX) (F0 m 1351 ls []) := by
  unfold wJ_L_law_1351 at hw
  refine lv_goto (tgt := 1563) C.x C.b dL_law_1351 (by decide) ?_
  exact kJ_L_law_1563 C hK23 _ _ _ _ _ _ _ _ _ hS (lv_sub hl [0, 1, 2, 3, 4] rfl) hw
def wJ_L_law_1407 (E : gE) (K23 : Nat → Nat → Nat → Nat → Int32 → gW → Prop) (Q : Int32 → gW → Prop) (x0 : Nat) (x1 : Nat) (x2 : Nat) (x3 : Nat) (x4 : Int32) (w : gW) : Prop :=
  wJ_L_law_1563 E K23 Q x0 x1 x2 x3 x4 w
theorem kJ_L_law_1407 (C : gC p l s m args meth c cL_law 7 (some .boolean) RX0 E tb nm) {Q : Int32 → gW → Prop} {K23 : Nat → Nat → Nat → Nat → Int32 → gW → Prop} (hK23 : ∀ (x0 : Nat) (x1 : Nat) (x2 : Nat) (x3 : Nat) (x4 : Int32) (w : gW) (H : Heap) (locs : List Loc) (ls : Array Slot), gS E w0 w H locs → lv_has ls 7 [(0, .ref x0), (1, .ref x1), (2, .ref x2), (3, .ref x3), (4, .int x4)] → K23 x0 x1 x2 x3 x4 w → gGo p l e s m args below meth c H locs 8192 104096 E w0 w (gI Q) (gNoX) (F0 m 23 ls [])) (x0 : Nat) (x1 : Nat) (x2 : Nat) (x3 : Nat) (x4 : Int32) (w : gW) (H : Heap) (locs : List Loc) (ls : Array Slot) (hS : gS E w0 w H locs) (hl : lv_has ls 7 [(0, .ref x0), (1, .ref x1), (2, .ref x2), (3, .ref x3), (4, .int x4)]) (hw : wJ_L_law_1407 E K23 Q x0 x1 x2 x3 x4 w) : gGo p l e s m args below meth c H locs 8192 104096 E w0 w (gI Q) (gNoX) (F0 m 1407 ls []) := by
  unfold wJ_L_law_1407 at hw
  refine lv_goto (tgt := 1563) C.x C.b dL_law_1407 (by decide) ?_
  exact kJ_L_law_1563 C hK23 _ _ _ _ _ _ _ _ _ hS (lv_sub hl [0, 1, 2, 3, 4] rfl) hw
def wJ_L_law_1476 (E : gE) (K23 : Nat → Nat → Nat → Nat → Int32 → gW → Prop) (Q : Int32 → gW → Prop) (x0 : Nat) (x1 : Nat) (x2 : Nat) (x3 : Nat) (x4 : Int32) (w : gW) : Prop :=
  wJ_L_law_1563 E K23 Q x0 x1 x2 x3 x4 w
theorem kJ_L_law_1476 (C : gC p l s m args meth c cL_law 7 (some .boolean) RX0 E tb nm) {Q : Int32 → gW → Prop} {K23 : Nat → Nat → Nat → Nat → Int32 → gW → Prop} (hK23 : ∀ (x0 : Nat) (x1 : Nat) (x2 : Nat) (x3 : Nat) (x4 : Int32) (w : gW) (H : Heap) (locs : List Loc) (ls : Array Slot), gS E w0 w H locs → lv_has ls 7 [(0, .ref x0), (1, .ref x1), (2, .ref x2), (3, .ref x3), (4, .int x4)] → K23 x0 x1 x2 x3 x4 w → gGo p l e s m args below meth c H locs 8192 104096 E w0 w (gI Q) (gNoX) (F0 m 23 ls [])) (x0 : Nat) (x1 : Nat) (x2 : Nat) (x3 : Nat) (x4 : Int32) (w : gW) (H : Heap) (locs : List Loc) (ls : Array Slot) (hS : gS E w0 w H locs) (hl : lv_has ls 7 [(0, .ref x0), (1, .ref x1), (2, .ref x2), (3, .ref x3), (4, .int x4)]) (hw : wJ_L_law_1476 E K23 Q x0 x1 x2 x3 x4 w) : gGo p l e s m args below meth c H locs 8192 104096 E w0 w (gI Q) (gNoX) (F0 m 1476 ls []) := by
  unfold wJ_L_law_1476 at hw
  refine lv_goto (tgt := 1563) C.x C.b dL_law_1476 (by decide) ?_
  exact kJ_L_law_1563 C hK23 _ _ _ _ _ _ _ _ _ hS (lv_sub hl [0, 1, 2, 3, 4] rfl) hw
def wJ_L_law_1546 (E : gE) (K23 : Nat → Nat → Nat → Nat → Int32 → gW → Prop) (Q : Int32 → gW → Prop) (x0 : Nat) (x1 : Nat) (x2 : Nat) (x3 : Nat) (x4 : Int32) (w : gW) : Prop :=
  wJ_L_law_1563 E K23 Q x0 x1 x2 x3 x4 w
theorem kJ_L_law_1546 (C : gC p l s m args meth c cL_law 7 (some .boolean) RX0 E tb nm) {Q : Int32 → gW → Prop} {K23 : Nat → Nat → Nat → Nat → Int32 → gW → Prop} (hK23 : ∀ (x0 : Nat) (x1 : Nat) (x2 : Nat) (x3 : Nat) (x4 : Int32) (w : gW) (H : Heap) (locs : List Loc) (ls : Array Slot), gS E w0 w H locs → lv_has ls 7 [(0, .ref x0), (1, .ref x1), (2, .ref x2), (3, .ref x3), (4, .int x4)] → K23 x0 x1 x2 x3 x4 w → gGo p l e s m args below meth c H locs 8192 104096 E w0 w (gI Q) (gNoX) (F0 m 23 ls [])) (x0 : Nat) (x1 : Nat) (x2 : Nat) (x3 : Nat) (x4 : Int32) (w : gW) (H : Heap) (locs : List Loc) (ls : Array Slot) (hS : gS E w0 w H locs) (hl : lv_has ls 7 [(0, .ref x0), (1, .ref x1), (2, .ref x2), (3, .ref x3), (4, .int x4)]) (hw : wJ_L_law_1546 E K23 Q x0 x1 x2 x3 x4 w) : gGo p l e s m args below meth c H locs 8192 104096 E w0 w (gI Q) (gNoX) (F0 m 1546 ls []) := by
  unfold wJ_L_law_1546 at hw
  refine lv_goto (tgt := 1563) C.x C.b dL_law_1546 (by decide) ?_
  exact kJ_L_law_1563 C hK23 _ _ _ _ _ _ _ _ _ hS (lv_sub hl [0, 1, 2, 3, 4] rfl) hw
def wJ_L_law_23 (E : gE) (Q : Int32 → gW → Prop) : Nat → Nat → Nat → Nat → Nat → Int32 → gW → Prop
  | 0, _, _, _, _, _, _ => False
  | n + 1, x0, x1, x2, x3, x4, w => aLen E x0 (fun v10 => ((v10 - 4) < x4 → (Q 1 w)) ∧ (¬ (v10 - 4) < x4 → (aL E 0 x0 x4 (fun v12 => ((v12 &&& 31) = 0 → (aL E 0 x0 (x4 + 1) (fun v13 => wJ_X0_setBridges E x1 v13 x3 (fun r15 w14 => aL E 0 x0 (x4 + 1) (fun v16 => aMI E x2 (fun Q u => wM_setBridges v16 Q u) (fun r18 w17 => aMI E x2 (fun Q u => wM_thrown Q u) (fun r20 w19 => (r20 = r15 → ((r15 = 0 → (aLj E x3 0 (fun v23 => ((lg_cmp v23 r18.toInt64) = 0 → (wJ_L_law_209 E (fun x0 x1 x2 x3 x4 w => wJ_L_law_23 E Q n x0 x1 x2 x3 x4 w) Q x0 x1 x2 x3 x4 w19)) ∧ (¬ (lg_cmp v23 r18.toInt64) = 0 → (Q 0 w19))) w19)) ∧ (¬ r15 = 0 → (wJ_L_law_209 E (fun x0 x1 x2 x3 x4 w => wJ_L_law_23 E Q n x0 x1 x2 x3 x4 w) Q x0 x1 x2 x3 x4 w19)))) ∧ (¬ r20 = r15 → (Q 0 w19))) w17) w14) w14) w) w)) ∧ (¬ (v12 &&& 31) = 0 → (((v12 &&& 31) = 1 → (aL E 0 x0 (x4 + 1) (fun v25 => aL E 0 x0 (x4 + 2) (fun v26 => aL E 0 x0 (x4 + 3) (fun v27 => wJ_X0_setTimes E x1 v25 v26 v27 x3 (fun r29 w28 => aL E 0 x0 (x4 + 1) (fun v30 => aL E 0 x0 (x4 + 2) (fun v31 => aL E 0 x0 (x4 + 3) (fun v32 => aMI E x2 (fun Q u => wM_setTimes v30 v31 v32 Q u) (fun r34 w33 => aMI E x2 (fun Q u => wM_thrown Q u) (fun r36 w35 => (r36 = r29 → ((r29 = 0 → (aLj E x3 0 (fun v39 => ((lg_cmp v39 r34.toInt64) = 0 → (wJ_L_law_289 E (fun x0 x1 x2 x3 x4 w => wJ_L_law_23 E Q n x0 x1 x2 x3 x4 w) Q x0 x1 x2 x3 x4 w35)) ∧ (¬ (lg_cmp v39 r34.toInt64) = 0 → (Q 0 w35))) w35)) ∧ (¬ r29 = 0 → (wJ_L_law_289 E (fun x0 x1 x2 x3 x4 w => wJ_L_law_23 E Q n x0 x1 x2 x3 x4 w) Q x0 x1 x2 x3 x4 w35)))) ∧ (¬ r36 = r29 → (Q 0 w35))) w33) w28) w28) w28) w28) w) w) w) w)) ∧ (¬ (v12 &&& 31) = 1 → (((v12 &&& 31) = 2 → (aL E 0 x0 (x4 + 1) (fun v41 => aL E 0 x0 (x4 + 2) (fun v42 => wJ_X0_setPriority E x1 v41 v42 x3 (fun r44 w43 => aL E 0 x0 (x4 + 1) (fun v45 => aL E 0 x0 (x4 + 2) (fun v46 => aMI E x2 (fun Q u => wM_setPriority v45 v46 Q u) (fun r48 w47 => aMI E x2 (fun Q u => wM_thrown Q u) (fun r50 w49 => (r50 = r44 → ((r44 = 0 → (aLj E x3 0 (fun v53 => ((lg_cmp v53 r48.toInt64) = 0 → (wJ_L_law_357 E (fun x0 x1 x2 x3 x4 w => wJ_L_law_23 E Q n x0 x1 x2 x3 x4 w) Q x0 x1 x2 x3 x4 w49)) ∧ (¬ (lg_cmp v53 r48.toInt64) = 0 → (Q 0 w49))) w49)) ∧ (¬ r44 = 0 → (wJ_L_law_357 E (fun x0 x1 x2 x3 x4 w => wJ_L_law_23 E Q n x0 x1 x2 x3 x4 w) Q x0 x1 x2 x3 x4 w49)))) ∧ (¬ r50 = r44 → (Q 0 w49))) w47) w43) w43) w43) w) w) w)) ∧ (¬ (v12 &&& 31) = 2 → (((v12 &&& 31) = 3 → (aL E 0 x0 (x4 + 1) (fun v55 => aL E 0 x0 (x4 + 2) (fun v56 => aL E 0 x0 (x4 + 3) (fun v57 => wJ_X0_addLink E x1 v55 v56 v57 x3 (fun r59 w58 => aL E 0 x0 (x4 + 1) (fun v60 => aL E 0 x0 (x4 + 2) (fun v61 => aL E 0 x0 (x4 + 3) (fun v62 => aMI E x2 (fun Q u => wM_addLink v60 v61 v62 Q u) (fun r64 w63 => aMI E x2 (fun Q u => wM_thrown Q u) (fun r66 w65 => (r66 = r59 → ((r59 = 0 → (aLj E x3 0 (fun v69 => ((lg_cmp v69 r64.toInt64) = 0 → (wJ_L_law_437 E (fun x0 x1 x2 x3 x4 w => wJ_L_law_23 E Q n x0 x1 x2 x3 x4 w) Q x0 x1 x2 x3 x4 w65)) ∧ (¬ (lg_cmp v69 r64.toInt64) = 0 → (Q 0 w65))) w65)) ∧ (¬ r59 = 0 → (wJ_L_law_437 E (fun x0 x1 x2 x3 x4 w => wJ_L_law_23 E Q n x0 x1 x2 x3 x4 w) Q x0 x1 x2 x3 x4 w65)))) ∧ (¬ r66 = r59 → (Q 0 w65))) w63) w58) w58) w58) w58) w) w) w) w)) ∧ (¬ (v12 &&& 31) = 3 → (((v12 &&& 31) = 4 → (aL E 0 x0 (x4 + 1) (fun v71 => wJ_X0_fail E x1 v71 x3 (fun r73 w72 => aL E 0 x0 (x4 + 1) (fun v74 => aMI E x2 (fun Q u => wM_fail v74 Q u) (fun r76 w75 => aMI E x2 (fun Q u => wM_thrown Q u) (fun r78 w77 => (r78 = r73 → ((r73 = 0 → (aLj E x3 0 (fun v81 => ((lg_cmp v81 r76.toInt64) = 0 → (wJ_L_law_493 E (fun x0 x1 x2 x3 x4 w => wJ_L_law_23 E Q n x0 x1 x2 x3 x4 w) Q x0 x1 x2 x3 x4 w77)) ∧ (¬ (lg_cmp v81 r76.toInt64) = 0 → (Q 0 w77))) w77)) ∧ (¬ r73 = 0 → (wJ_L_law_493 E (fun x0 x1 x2 x3 x4 w => wJ_L_law_23 E Q n x0 x1 x2 x3 x4 w) Q x0 x1 x2 x3 x4 w77)))) ∧ (¬ r78 = r73 → (Q 0 w77))) w75) w72) w72) w) w)) ∧ (¬ (v12 &&& 31) = 4 → (((v12 &&& 31) = 5 → (aL E 0 x0 (x4 + 1) (fun v83 => wJ_X0_fix E x1 v83 x3 (fun r85 w84 => aL E 0 x0 (x4 + 1) (fun v86 => aMI E x2 (fun Q u => wM_fix v86 Q u) (fun r88 w87 => aMI E x2 (fun Q u => wM_thrown Q u) (fun r90 w89 => (r90 = r85 → ((r85 = 0 → (aLj E x3 0 (fun v93 => ((lg_cmp v93 r88.toInt64) = 0 → (wJ_L_law_549 E (fun x0 x1 x2 x3 x4 w => wJ_L_law_23 E Q n x0 x1 x2 x3 x4 w) Q x0 x1 x2 x3 x4 w89)) ∧ (¬ (lg_cmp v93 r88.toInt64) = 0 → (Q 0 w89))) w89)) ∧ (¬ r85 = 0 → (wJ_L_law_549 E (fun x0 x1 x2 x3 x4 w => wJ_L_law_23 E Q n x0 x1 x2 x3 x4 w) Q x0 x1 x2 x3 x4 w89)))) ∧ (¬ r90 = r85 → (Q 0 w89))) w87) w84) w84) w) w)) ∧ (¬ (v12 &&& 31) = 5 → (((v12 &&& 31) = 6 → (aL E 0 x0 (x4 + 1) (fun v95 => aL E 0 x0 (x4 + 2) (fun v96 => wJ_X0_moveHost E x1 v95 v96 x3 (fun r98 w97 => aL E 0 x0 (x4 + 1) (fun v99 => aL E 0 x0 (x4 + 2) (fun v100 => aMI E x2 (fun Q u => wM_moveHost v99 v100 Q u) (fun r102 w101 => aMI E x2 (fun Q u => wM_thrown Q u) (fun r104 w103 => (r104 = r98 → ((r98 = 0 → (aLj E x3 0 (fun v107 => ((lg_cmp v107 r102.toInt64) = 0 → (wJ_L_law_617 E (fun x0 x1 x2 x3 x4 w => wJ_L_law_23 E Q n x0 x1 x2 x3 x4 w) Q x0 x1 x2 x3 x4 w103)) ∧ (¬ (lg_cmp v107 r102.toInt64) = 0 → (Q 0 w103))) w103)) ∧ (¬ r98 = 0 → (wJ_L_law_617 E (fun x0 x1 x2 x3 x4 w => wJ_L_law_23 E Q n x0 x1 x2 x3 x4 w) Q x0 x1 x2 x3 x4 w103)))) ∧ (¬ r104 = r98 → (Q 0 w103))) w101) w97) w97) w97) w) w) w)) ∧ (¬ (v12 &&& 31) = 6 → (((v12 &&& 31) = 7 → (aL E 0 x0 (x4 + 1) (fun v109 => aL E 0 x0 (x4 + 2) (fun v110 => aL E 0 x0 (x4 + 3) (fun v111 => wJ_X0_bid E x1 v109 v110 v111 x3 (fun r113 w112 => aL E 0 x0 (x4 + 1) (fun v114 => aL E 0 x0 (x4 + 2) (fun v115 => aL E 0 x0 (x4 + 3) (fun v116 => aMI E x2 (fun Q u => wM_bid v114 v115 v116 Q u) (fun r118 w117 => aMI E x2 (fun Q u => wM_thrown Q u) (fun r120 w119 => (r120 = r113 → ((r113 = 0 → (aLj E x3 0 (fun v123 => ((lg_cmp v123 r118.toInt64) = 0 → (wJ_L_law_697 E (fun x0 x1 x2 x3 x4 w => wJ_L_law_23 E Q n x0 x1 x2 x3 x4 w) Q x0 x1 x2 x3 x4 w119)) ∧ (¬ (lg_cmp v123 r118.toInt64) = 0 → (Q 0 w119))) w119)) ∧ (¬ r113 = 0 → (wJ_L_law_697 E (fun x0 x1 x2 x3 x4 w => wJ_L_law_23 E Q n x0 x1 x2 x3 x4 w) Q x0 x1 x2 x3 x4 w119)))) ∧ (¬ r120 = r113 → (Q 0 w119))) w117) w112) w112) w112) w112) w) w) w) w)) ∧ (¬ (v12 &&& 31) = 7 → (((v12 &&& 31) = 8 → (aL E 0 x0 (x4 + 1) (fun v125 => aL E 0 x0 (x4 + 2) (fun v126 => wJ_X0_grant E x1 v125 v126 x3 (fun r128 w127 => aL E 0 x0 (x4 + 1) (fun v129 => aL E 0 x0 (x4 + 2) (fun v130 => aMI E x2 (fun Q u => wM_grant v129 v130 Q u) (fun r132 w131 => aMI E x2 (fun Q u => wM_thrown Q u) (fun r134 w133 => (r134 = r128 → ((r128 = 0 → (aLj E x3 0 (fun v137 => ((lg_cmp v137 r132.toInt64) = 0 → (wJ_L_law_765 E (fun x0 x1 x2 x3 x4 w => wJ_L_law_23 E Q n x0 x1 x2 x3 x4 w) Q x0 x1 x2 x3 x4 w133)) ∧ (¬ (lg_cmp v137 r132.toInt64) = 0 → (Q 0 w133))) w133)) ∧ (¬ r128 = 0 → (wJ_L_law_765 E (fun x0 x1 x2 x3 x4 w => wJ_L_law_23 E Q n x0 x1 x2 x3 x4 w) Q x0 x1 x2 x3 x4 w133)))) ∧ (¬ r134 = r128 → (Q 0 w133))) w131) w127) w127) w127) w) w) w)) ∧ (¬ (v12 &&& 31) = 8 → (((v12 &&& 31) = 9 → (aL E 0 x0 (x4 + 1) (fun v139 => wJ_X0_tick E x1 v139 x3 (fun r141 w140 => aL E 0 x0 (x4 + 1) (fun v142 => aMI E x2 (fun Q u => wM_tick v142 Q u) (fun r144 w143 => aMI E x2 (fun Q u => wM_thrown Q u) (fun r146 w145 => (r146 = r141 → ((r141 = 0 → (aLj E x3 0 (fun v149 => ((lg_cmp v149 r144.toInt64) = 0 → (wJ_L_law_821 E (fun x0 x1 x2 x3 x4 w => wJ_L_law_23 E Q n x0 x1 x2 x3 x4 w) Q x0 x1 x2 x3 x4 w145)) ∧ (¬ (lg_cmp v149 r144.toInt64) = 0 → (Q 0 w145))) w145)) ∧ (¬ r141 = 0 → (wJ_L_law_821 E (fun x0 x1 x2 x3 x4 w => wJ_L_law_23 E Q n x0 x1 x2 x3 x4 w) Q x0 x1 x2 x3 x4 w145)))) ∧ (¬ r146 = r141 → (Q 0 w145))) w143) w140) w140) w) w)) ∧ (¬ (v12 &&& 31) = 9 → (((v12 &&& 31) = 10 → (aKind E x1 0 (wJ_X1_time E x1 (fun r152 w151 => aMI E x2 (fun Q u => wM_time Q u) (fun r154 w153 => (r152 = r154 → (wJ_L_law_1563 E (fun x0 x1 x2 x3 x4 w => wJ_L_law_23 E Q n x0 x1 x2 x3 x4 w) Q x0 x1 x2 x3 x4 w153)) ∧ (¬ r152 = r154 → (Q 0 w153))) w151) w) w)) ∧ (¬ (v12 &&& 31) = 10 → (((v12 &&& 31) = 11 → (aL E 0 x0 (x4 + 1) (fun v156 => aL E 0 x0 (x4 + 2) (fun v157 => wJ_X0_send E x1 v156 v157 x3 (fun r159 w158 => aL E 0 x0 (x4 + 1) (fun v160 => aL E 0 x0 (x4 + 2) (fun v161 => aMI E x2 (fun Q u => wM_send v160 v161 Q u) (fun r163 w162 => aMI E x2 (fun Q u => wM_thrown Q u) (fun r165 w164 => (r165 = r159 → ((r159 = 0 → (aLj E x3 0 (fun v168 => ((lg_cmp v168 r163.toInt64) = 0 → (wJ_L_law_902 E (fun x0 x1 x2 x3 x4 w => wJ_L_law_23 E Q n x0 x1 x2 x3 x4 w) Q x0 x1 x2 x3 x4 w164)) ∧ (¬ (lg_cmp v168 r163.toInt64) = 0 → (Q 0 w164))) w164)) ∧ (¬ r159 = 0 → (wJ_L_law_902 E (fun x0 x1 x2 x3 x4 w => wJ_L_law_23 E Q n x0 x1 x2 x3 x4 w) Q x0 x1 x2 x3 x4 w164)))) ∧ (¬ r165 = r159 → (Q 0 w164))) w162) w158) w158) w158) w) w) w)) ∧ (¬ (v12 &&& 31) = 11 → (((v12 &&& 31) = 12 → (aL E 0 x0 (x4 + 1) (fun v170 => aL E 0 x0 (x4 + 2) (fun v171 => wJ_X0_bridge E x1 v170 v171 x3 (fun r173 w172 => aL E 0 x0 (x4 + 1) (fun v174 => aL E 0 x0 (x4 + 2) (fun v175 => aMI E x2 (fun Q u => wM_bridge v174 v175 Q u) (fun r177 w176 => aMI E x2 (fun Q u => wM_thrown Q u) (fun r179 w178 => (r179 = r173 → ((r173 = 0 → (aLj E x3 0 (fun v182 => ((lg_cmp v182 r177.toInt64) = 0 → (wJ_L_law_970 E (fun x0 x1 x2 x3 x4 w => wJ_L_law_23 E Q n x0 x1 x2 x3 x4 w) Q x0 x1 x2 x3 x4 w178)) ∧ (¬ (lg_cmp v182 r177.toInt64) = 0 → (Q 0 w178))) w178)) ∧ (¬ r173 = 0 → (wJ_L_law_970 E (fun x0 x1 x2 x3 x4 w => wJ_L_law_23 E Q n x0 x1 x2 x3 x4 w) Q x0 x1 x2 x3 x4 w178)))) ∧ (¬ r179 = r173 → (Q 0 w178))) w176) w172) w172) w172) w) w) w)) ∧ (¬ (v12 &&& 31) = 12 → (((v12 &&& 31) = 13 → (aKind E x1 0 (wJ_X1_links E x1 (fun r185 w184 => aMI E x2 (fun Q u => wM_links Q u) (fun r187 w186 => (r185 = r187 → (wJ_L_law_1563 E (fun x0 x1 x2 x3 x4 w => wJ_L_law_23 E Q n x0 x1 x2 x3 x4 w) Q x0 x1 x2 x3 x4 w186)) ∧ (¬ r185 = r187 → (Q 0 w186))) w184) w) w)) ∧ (¬ (v12 &&& 31) = 13 → (((v12 &&& 31) = 14 → (aL E 0 x0 (x4 + 1) (fun v189 => aL E 0 x0 (x4 + 2) (fun v190 => wJ_X0_link E x1 v189 v190 x3 (fun r192 w191 => aL E 0 x0 (x4 + 1) (fun v193 => aL E 0 x0 (x4 + 2) (fun v194 => aMI E x2 (fun Q u => wM_link v193 v194 Q u) (fun r196 w195 => aMI E x2 (fun Q u => wM_thrown Q u) (fun r198 w197 => (r198 = r192 → ((r192 = 0 → (aLj E x3 0 (fun v201 => ((lg_cmp v201 r196.toInt64) = 0 → (wJ_L_law_1051 E (fun x0 x1 x2 x3 x4 w => wJ_L_law_23 E Q n x0 x1 x2 x3 x4 w) Q x0 x1 x2 x3 x4 w197)) ∧ (¬ (lg_cmp v201 r196.toInt64) = 0 → (Q 0 w197))) w197)) ∧ (¬ r192 = 0 → (wJ_L_law_1051 E (fun x0 x1 x2 x3 x4 w => wJ_L_law_23 E Q n x0 x1 x2 x3 x4 w) Q x0 x1 x2 x3 x4 w197)))) ∧ (¬ r198 = r192 → (Q 0 w197))) w195) w191) w191) w191) w) w) w)) ∧ (¬ (v12 &&& 31) = 14 → (((v12 &&& 31) = 15 → (aL E 0 x0 (x4 + 1) (fun v203 => aL E 0 x0 (x4 + 2) (fun v204 => (v204 = 0 → (wJ_L_law_1075 E (fun x0 x1 x2 x3 x4 w => wJ_L_law_23 E Q n x0 x1 x2 x3 x4 w) Q x0 x1 x2 x3 x4 0 v203 x1 w)) ∧ (¬ v204 = 0 → (wJ_L_law_1075 E (fun x0 x1 x2 x3 x4 w => wJ_L_law_23 E Q n x0 x1 x2 x3 x4 w) Q x0 x1 x2 x3 x4 1 v203 x1 w))) w) w)) ∧ (¬ (v12 &&& 31) = 15 → (((v12 &&& 31) = 16 → (aL E 0 x0 (x4 + 1) (fun v206 => aL E 0 x0 (x4 + 2) (fun v207 => wJ_X0_entry E x1 v206 v207 x3 (fun r209 w208 => aL E 0 x0 (x4 + 1) (fun v210 => aL E 0 x0 (x4 + 2) (fun v211 => aMI E x2 (fun Q u => wM_entry v210 v211 Q u) (fun r213 w212 => aMI E x2 (fun Q u => wM_thrown Q u) (fun r215 w214 => (r215 = r209 → ((r209 = 0 → (aLj E x3 0 (fun v218 => ((lg_cmp v218 r213.toInt64) = 0 → (wJ_L_law_1215 E (fun x0 x1 x2 x3 x4 w => wJ_L_law_23 E Q n x0 x1 x2 x3 x4 w) Q x0 x1 x2 x3 x4 w214)) ∧ (¬ (lg_cmp v218 r213.toInt64) = 0 → (Q 0 w214))) w214)) ∧ (¬ r209 = 0 → (wJ_L_law_1215 E (fun x0 x1 x2 x3 x4 w => wJ_L_law_23 E Q n x0 x1 x2 x3 x4 w) Q x0 x1 x2 x3 x4 w214)))) ∧ (¬ r215 = r209 → (Q 0 w214))) w212) w208) w208) w208) w) w) w)) ∧ (¬ (v12 &&& 31) = 16 → (((v12 &&& 31) = 17 → (aL E 0 x0 (x4 + 1) (fun v220 => aL E 0 x0 (x4 + 2) (fun v221 => wJ_X0_tenant E x1 v220 v221 x3 (fun r223 w222 => aL E 0 x0 (x4 + 1) (fun v224 => aL E 0 x0 (x4 + 2) (fun v225 => aMI E x2 (fun Q u => wM_tenant v224 v225 Q u) (fun r227 w226 => aMI E x2 (fun Q u => wM_thrown Q u) (fun r229 w228 => (r229 = r223 → ((r223 = 0 → (aLj E x3 0 (fun v232 => ((lg_cmp v232 r227.toInt64) = 0 → (wJ_L_law_1283 E (fun x0 x1 x2 x3 x4 w => wJ_L_law_23 E Q n x0 x1 x2 x3 x4 w) Q x0 x1 x2 x3 x4 w228)) ∧ (¬ (lg_cmp v232 r227.toInt64) = 0 → (Q 0 w228))) w228)) ∧ (¬ r223 = 0 → (wJ_L_law_1283 E (fun x0 x1 x2 x3 x4 w => wJ_L_law_23 E Q n x0 x1 x2 x3 x4 w) Q x0 x1 x2 x3 x4 w228)))) ∧ (¬ r229 = r223 → (Q 0 w228))) w226) w222) w222) w222) w) w) w)) ∧ (¬ (v12 &&& 31) = 17 → (((v12 &&& 31) = 18 → (aL E 0 x0 (x4 + 1) (fun v234 => aL E 0 x0 (x4 + 2) (fun v235 => wJ_X0_bidOf E x1 v234 v235 x3 (fun r237 w236 => aL E 0 x0 (x4 + 1) (fun v238 => aL E 0 x0 (x4 + 2) (fun v239 => aMI E x2 (fun Q u => wM_bidOf v238 v239 Q u) (fun r241 w240 => aMI E x2 (fun Q u => wM_thrown Q u) (fun r243 w242 => (r243 = r237 → ((r237 = 0 → (aLj E x3 0 (fun v246 => ((lg_cmp v246 r241.toInt64) = 0 → (wJ_L_law_1351 E (fun x0 x1 x2 x3 x4 w => wJ_L_law_23 E Q n x0 x1 x2 x3 x4 w) Q x0 x1 x2 x3 x4 w242)) ∧ (¬ (lg_cmp v246 r241.toInt64) = 0 → (Q 0 w242))) w242)) ∧ (¬ r237 = 0 → (wJ_L_law_1351 E (fun x0 x1 x2 x3 x4 w => wJ_L_law_23 E Q n x0 x1 x2 x3 x4 w) Q x0 x1 x2 x3 x4 w242)))) ∧ (¬ r243 = r237 → (Q 0 w242))) w240) w236) w236) w236) w) w) w)) ∧ (¬ (v12 &&& 31) = 18 → (((v12 &&& 31) = 19 → (aL E 0 x0 (x4 + 1) (fun v248 => wJ_X0_count E x1 v248 x3 (fun r250 w249 => aL E 0 x0 (x4 + 1) (fun v251 => aMI E x2 (fun Q u => wM_count v251 Q u) (fun r253 w252 => aMI E x2 (fun Q u => wM_thrown Q u) (fun r255 w254 => (r255 = r250 → ((r250 = 0 → (aLj E x3 0 (fun v258 => ((lg_cmp v258 r253.toInt64) = 0 → (wJ_L_law_1407 E (fun x0 x1 x2 x3 x4 w => wJ_L_law_23 E Q n x0 x1 x2 x3 x4 w) Q x0 x1 x2 x3 x4 w254)) ∧ (¬ (lg_cmp v258 r253.toInt64) = 0 → (Q 0 w254))) w254)) ∧ (¬ r250 = 0 → (wJ_L_law_1407 E (fun x0 x1 x2 x3 x4 w => wJ_L_law_23 E Q n x0 x1 x2 x3 x4 w) Q x0 x1 x2 x3 x4 w254)))) ∧ (¬ r255 = r250 → (Q 0 w254))) w252) w249) w249) w) w)) ∧ (¬ (v12 &&& 31) = 19 → (((v12 &&& 31) = 20 → (aKind E x1 0 (wJ_X1_isForest E x1 (fun r261 w260 => aMI E x2 (fun Q u => wM_isForest Q u) (fun r263 w262 => (r261 = r263 → (wJ_L_law_1563 E (fun x0 x1 x2 x3 x4 w => wJ_L_law_23 E Q n x0 x1 x2 x3 x4 w) Q x0 x1 x2 x3 x4 w262)) ∧ (¬ r261 = r263 → (Q 0 w262))) w260) w) w)) ∧ (¬ (v12 &&& 31) = 20 → (((v12 &&& 31) = 21 → (aL E 0 x0 (x4 + 1) (fun v265 => wJ_X0_type E x1 v265 x3 (fun r267 w266 => aL E 0 x0 (x4 + 1) (fun v268 => aMI E x2 (fun Q u => wM_type v268 Q u) (fun r270 w269 => aMI E x2 (fun Q u => wM_thrown Q u) (fun r272 w271 => (r272 = r267 → ((r267 = 0 → (aLj E x3 0 (fun v275 => ((lg_cmp v275 r270.toInt64) = 0 → (wJ_L_law_1476 E (fun x0 x1 x2 x3 x4 w => wJ_L_law_23 E Q n x0 x1 x2 x3 x4 w) Q x0 x1 x2 x3 x4 w271)) ∧ (¬ (lg_cmp v275 r270.toInt64) = 0 → (Q 0 w271))) w271)) ∧ (¬ r267 = 0 → (wJ_L_law_1476 E (fun x0 x1 x2 x3 x4 w => wJ_L_law_23 E Q n x0 x1 x2 x3 x4 w) Q x0 x1 x2 x3 x4 w271)))) ∧ (¬ r272 = r267 → (Q 0 w271))) w269) w266) w266) w) w)) ∧ (¬ (v12 &&& 31) = 21 → (((v12 &&& 31) = 22 → (aKind E x1 0 (wJ_X1_clearScript E x1 (fun r278 w277 => aMI E x2 (fun Q u => wM_clearScript Q u) (fun r280 w279 => (r278 = r280 → (wJ_L_law_1563 E (fun x0 x1 x2 x3 x4 w => wJ_L_law_23 E Q n x0 x1 x2 x3 x4 w) Q x0 x1 x2 x3 x4 w279)) ∧ (¬ r278 = r280 → (Q 0 w279))) w277) w) w)) ∧ (¬ (v12 &&& 31) = 22 → (((v12 &&& 31) = 23 → (aKind E x1 0 (wJ_X1_run E x1 (fun r283 w282 => aMI E x2 (fun Q u => wM_run Q u) (fun r285 w284 => (r283 = r285 → (wJ_L_law_1563 E (fun x0 x1 x2 x3 x4 w => wJ_L_law_23 E Q n x0 x1 x2 x3 x4 w) Q x0 x1 x2 x3 x4 w284)) ∧ (¬ r283 = r285 → (Q 0 w284))) w282) w) w)) ∧ (¬ (v12 &&& 31) = 23 → (((v12 &&& 31) = 24 → (wJ_X0_undo E x1 x3 (fun r288 w287 => aMI E x2 (fun Q u => wM_undo Q u) (fun r290 w289 => aMI E x2 (fun Q u => wM_thrown Q u) (fun r292 w291 => (r292 = r288 → ((r288 = 0 → (aLj E x3 0 (fun v295 => ((lg_cmp v295 r290.toInt64) = 0 → (wJ_L_law_1546 E (fun x0 x1 x2 x3 x4 w => wJ_L_law_23 E Q n x0 x1 x2 x3 x4 w) Q x0 x1 x2 x3 x4 w291)) ∧ (¬ (lg_cmp v295 r290.toInt64) = 0 → (Q 0 w291))) w291)) ∧ (¬ r288 = 0 → (wJ_L_law_1546 E (fun x0 x1 x2 x3 x4 w => wJ_L_law_23 E Q n x0 x1 x2 x3 x4 w) Q x0 x1 x2 x3 x4 w291)))) ∧ (¬ r292 = r288 → (Q 0 w291))) w289) w287) w)) ∧ (¬ (v12 &&& 31) = 24 → (((v12 &&& 31) = 25 → (aKind E x1 0 (wJ_X1_digest E x1 (fun r298 w297 => aMJ E x2 (fun Q u => wM_digest Q u) (fun r300 w299 => ((lg_cmp r298 r300) = 0 → (wJ_L_law_1563 E (fun x0 x1 x2 x3 x4 w => wJ_L_law_23 E Q n x0 x1 x2 x3 x4 w) Q x0 x1 x2 x3 x4 w299)) ∧ (¬ (lg_cmp r298 r300) = 0 → (Q 0 w299))) w297) w) w)) ∧ (¬ (v12 &&& 31) = 25 → (wJ_L_law_1563 E (fun x0 x1 x2 x3 x4 w => wJ_L_law_23 E Q n x0 x1 x2 x3 x4 w) Q x0 x1 x2 x3 x4 w))))))))))))))))))))))))))))))))))))))))))))))))))))) w))) w
theorem kJ_L_law_23 (C : gC p l s m args meth c cL_law 7 (some .boolean) RX0 E tb nm) {Q : Int32 → gW → Prop} : ∀ (n : Nat) (x0 : Nat) (x1 : Nat) (x2 : Nat) (x3 : Nat) (x4 : Int32) (w : gW) (H : Heap) (locs : List Loc) (ls : Array Slot), gS E w0 w H locs → lv_has ls 7 [(0, .ref x0), (1, .ref x1), (2, .ref x2), (3, .ref x3), (4, .int x4)] → wJ_L_law_23 E Q n x0 x1 x2 x3 x4 w → gGo p l e s m args below meth c H locs 8192 104096 E w0 w (gI Q) (gNoX) (F0 m 23 ls []) := by
  intro n
  induction n with
  | zero =>
    intro x0 x1 x2 x3 x4 w H locs ls hS hl hw
    exact hw.elim
  | succ n ih =>
    intro x0 x1 x2 x3 x4 w H locs ls hS hl hw
    unfold wJ_L_law_23 at hw
    refine lv_iload C.x C.b dL_law_23 (lv_at hl 4 rfl) ?_
    refine lv_aload_n C.x C.b dL_law_25 rfl (lv_at hl 0 rfl) ?_
    refine a_len C hS dL_law_26 hw (fun v10 hw => ?_)
    refine lv_iconst (v := 4) C.x C.b dL_law_27 (by decide) ?_
    refine lv_isub C.x C.b dL_law_28 ?_
    refine lv_icmp_gt (tgt := 1569) C.x C.b dL_law_29 (by decide) (fun c11 => ?_) (fun c11 => ?_)
    · have hw := hw.1 c11
      refine lv_iconst (v := 1) C.x C.b dL_law_1569 (by decide) ?_
      exact g_zret C hS rfl ⟨_, rfl, hw⟩ dL_law_1570
    · have hw := hw.2 c11
      refine lv_aload_n C.x C.b dL_law_32 rfl (lv_at hl 0 rfl) ?_
      refine lv_iload C.x C.b dL_law_33 (lv_at hl 4 rfl) ?_
      refine a_Li C hS dL_law_35 hw (fun v12 hw => ?_)
      refine lv_bipush (v := 31) C.x C.b dL_law_36 (by decide) ?_
      refine lv_iand C.x C.b dL_law_38 ?_
      rcases Decidable.em ((v12 &&& 31) = 0) with c39_0 | c39_0
      · have hw := hw.1 c39_0
        rw [c39_0]
        refine lv_tableIn (tgt := 156) (off := 117) C.x C.b dL_law_39 (by decide) (by decide) rfl (by decide) ?_
        refine lv_aload_n C.x C.b dL_law_156 rfl (lv_at hl 1 rfl) ?_
        refine lv_aload_n C.x C.b dL_law_157 rfl (lv_at hl 0 rfl) ?_
        refine lv_iload C.x C.b dL_law_158 (lv_at hl 4 rfl) ?_
        refine lv_iconst (v := 1) C.x C.b dL_law_160 (by decide) ?_
        refine lv_iadd C.x C.b dL_law_161 ?_
        refine a_Li C hS dL_law_162 hw (fun v13 hw => ?_)
        refine lv_aload_n C.x C.b dL_law_163 rfl (lv_at hl 3 rfl) ?_
        refine g_callSH (rest := []) C hS hl (kJ_X0_setBridges C.tr hw) q1265 q1266 q76 q1267 ny_X0_setBridges rfl (Nat.le_of_ble_eq_true rfl) (Nat.le_of_ble_eq_true rfl) rfl (Nat.le_of_ble_eq_true rfl) dL_law_164 (fun X1 w1 H1 l1 q1 ce hx => hx.elim) (fun v w14 H locs hq _ hS => ?_)
        obtain ⟨r15, rfl, hw⟩ := hq
        refine W.eq (g2 := F0 m 167 ls [.int r15]) rfl ?_
        refine lv_istore (lv' := [(5, .int r15), (0, .ref x0), (1, .ref x1), (2, .ref x2), (3, .ref x3), (4, .int x4)]) C.x C.b dL_law_167 hl (by decide) rfl (fun ls hl => ?_)
        refine lv_aload_n C.x C.b dL_law_169 rfl (lv_at hl 3 rfl) ?_
        refine lv_aload_n C.x C.b dL_law_170 rfl (lv_at hl 1 rfl) ?_
        refine lv_iload C.x C.b dL_law_171 (lv_at hl 5 rfl) ?_
        refine lv_iconst (v := 1) C.x C.b dL_law_173 (by decide) ?_
        refine lv_iadd C.x C.b dL_law_174 ?_
        refine a_Li C hS dL_law_175 hw (fun v16 hw => ?_)
        refine a_mI (rest := []) (As := [.int v16]) C hS hl hw (fun ad u wb Q hI h => kM_setBridges C.tr hI h) q1531 q1532 q1533 q88 q1534 (by decide +kernel : gNm yX5_setBridges 1 = true) rfl (Nat.le_of_ble_eq_true rfl) (Nat.le_of_ble_eq_true rfl) rfl (Nat.le_of_ble_eq_true rfl) dL_law_176 (fun r18 w17 H locs hw hS => ?_)
        refine lv_istore (lv' := [(6, .int r18), (5, .int r15), (0, .ref x0), (1, .ref x1), (2, .ref x2), (3, .ref x3), (4, .int x4)]) C.x C.b dL_law_179 hl (by decide) rfl (fun ls hl => ?_)
        refine lv_aload_n C.x C.b dL_law_181 rfl (lv_at hl 4 rfl) ?_
        refine a_mI (rest := []) (As := []) C hS hl hw (fun ad u wb Q hI h => kM_thrown C.tr hI h) q1527 q1528 q1529 q88 q1530 (by decide +kernel : gNm yX5_thrown 0 = true) rfl (Nat.le_of_ble_eq_true rfl) (Nat.le_of_ble_eq_true rfl) rfl (Nat.le_of_ble_eq_true rfl) dL_law_182 (fun r20 w19 H locs hw hS => ?_)
        refine lv_iload C.x C.b dL_law_185 (lv_at hl 1 rfl) ?_
        refine lv_icmp_eq (tgt := 192) C.x C.b dL_law_187 (by decide) (fun c21 => ?_) (fun c21 => ?_)
        · have hw := hw.1 c21
          refine lv_iload C.x C.b dL_law_192 (lv_at hl 1 rfl) ?_
          refine lv_if_ne (tgt := 209) C.x C.b dL_law_194 (by decide) (fun c22 => ?_) (fun c22 => ?_)
          · have hw := hw.2 c22
            exact kJ_L_law_209 C ih _ _ _ _ _ _ _ _ _ hS (lv_sub hl [2, 3, 4, 5, 6] rfl) hw
          · have hw := hw.1 c22
            refine lv_aload_n C.x C.b dL_law_197 rfl (lv_at hl 5 rfl) ?_
            refine lv_iconst (v := 0) C.x C.b dL_law_198 (by decide) ?_
            refine a_Lj C hS dL_law_199 hw (fun v23 hw => ?_)
            refine lv_iload C.x C.b dL_law_200 (lv_at hl 0 rfl) ?_
            refine lv_i2l C.x C.b dL_law_202 rfl ?_
            refine W.lcmp C.x C.b dL_law_203 ?_
            refine lv_if_eq (tgt := 209) C.x C.b dL_law_204 (by decide) (fun c24 => ?_) (fun c24 => ?_)
            · have hw := hw.1 c24
              exact kJ_L_law_209 C ih _ _ _ _ _ _ _ _ _ hS (lv_sub hl [2, 3, 4, 5, 6] rfl) hw
            · have hw := hw.2 c24
              refine lv_iconst (v := 0) C.x C.b dL_law_207 (by decide) ?_
              exact g_zret C hS rfl ⟨_, rfl, hw⟩ dL_law_208
        · have hw := hw.2 c21
          refine lv_iconst (v := 0) C.x C.b dL_law_190 (by decide) ?_
          exact g_zret C hS rfl ⟨_, rfl, hw⟩ dL_law_191
      · have hw := hw.2 c39_0
        rcases Decidable.em ((v12 &&& 31) = 1) with c39_1 | c39_1
        · have hw := hw.1 c39_1
          rw [c39_1]
          refine lv_tableIn (tgt := 212) (off := 173) C.x C.b dL_law_39 (by decide) (by decide) rfl (by decide) ?_
          refine lv_aload_n C.x C.b dL_law_212 rfl (lv_at hl 1 rfl) ?_
          refine lv_aload_n C.x C.b dL_law_213 rfl (lv_at hl 0 rfl) ?_
          refine lv_iload C.x C.b dL_law_214 (lv_at hl 4 rfl) ?_
          refine lv_iconst (v := 1) C.x C.b dL_law_216 (by decide) ?_
          refine lv_iadd C.x C.b dL_law_217 ?_
          refine a_Li C hS dL_law_218 hw (fun v25 hw => ?_)
          refine lv_aload_n C.x C.b dL_law_219 rfl (lv_at hl 0 rfl) ?_
          refine lv_iload C.x C.b dL_law_220 (lv_at hl 4 rfl) ?_
          refine lv_iconst (v := 2) C.x C.b dL_law_222 (by decide) ?_
          refine lv_iadd C.x C.b dL_law_223 ?_
          refine a_Li C hS dL_law_224 hw (fun v26 hw => ?_)
          refine lv_aload_n C.x C.b dL_law_225 rfl (lv_at hl 0 rfl) ?_
          refine lv_iload C.x C.b dL_law_226 (lv_at hl 4 rfl) ?_
          refine lv_iconst (v := 3) C.x C.b dL_law_228 (by decide) ?_
          refine lv_iadd C.x C.b dL_law_229 ?_
          refine a_Li C hS dL_law_230 hw (fun v27 hw => ?_)
          refine lv_aload_n C.x C.b dL_law_231 rfl (lv_at hl 3 rfl) ?_
          refine g_callSH (rest := []) C hS hl (kJ_X0_setTimes C.tr hw) q1278 q1279 q76 q1280 ny_X0_setTimes rfl (Nat.le_of_ble_eq_true rfl) (Nat.le_of_ble_eq_true rfl) rfl (Nat.le_of_ble_eq_true rfl) dL_law_232 (fun X1 w1 H1 l1 q1 ce hx => hx.elim) (fun v w28 H locs hq _ hS => ?_)
          obtain ⟨r29, rfl, hw⟩ := hq
          refine W.eq (g2 := F0 m 235 ls [.int r29]) rfl ?_
          refine lv_istore (lv' := [(5, .int r29), (0, .ref x0), (1, .ref x1), (2, .ref x2), (3, .ref x3), (4, .int x4)]) C.x C.b dL_law_235 hl (by decide) rfl (fun ls hl => ?_)
          refine lv_aload_n C.x C.b dL_law_237 rfl (lv_at hl 3 rfl) ?_
          refine lv_aload_n C.x C.b dL_law_238 rfl (lv_at hl 1 rfl) ?_
          refine lv_iload C.x C.b dL_law_239 (lv_at hl 5 rfl) ?_
          refine lv_iconst (v := 1) C.x C.b dL_law_241 (by decide) ?_
          refine lv_iadd C.x C.b dL_law_242 ?_
          refine a_Li C hS dL_law_243 hw (fun v30 hw => ?_)
          refine lv_aload_n C.x C.b dL_law_244 rfl (lv_at hl 1 rfl) ?_
          refine lv_iload C.x C.b dL_law_245 (lv_at hl 5 rfl) ?_
          refine lv_iconst (v := 2) C.x C.b dL_law_247 (by decide) ?_
          refine lv_iadd C.x C.b dL_law_248 ?_
          refine a_Li C hS dL_law_249 hw (fun v31 hw => ?_)
          refine lv_aload_n C.x C.b dL_law_250 rfl (lv_at hl 1 rfl) ?_
          refine lv_iload C.x C.b dL_law_251 (lv_at hl 5 rfl) ?_
          refine lv_iconst (v := 3) C.x C.b dL_law_253 (by decide) ?_
          refine lv_iadd C.x C.b dL_law_254 ?_
          refine a_Li C hS dL_law_255 hw (fun v32 hw => ?_)
          refine a_mI (rest := []) (As := [.int v30, .int v31, .int v32]) C hS hl hw (fun ad u wb Q hI h => kM_setTimes C.tr hI h) q1551 q1552 q1553 q88 q1554 (by decide +kernel : gNm yX5_setTimes 3 = true) rfl (Nat.le_of_ble_eq_true rfl) (Nat.le_of_ble_eq_true rfl) rfl (Nat.le_of_ble_eq_true rfl) dL_law_256 (fun r34 w33 H locs hw hS => ?_)
          refine lv_istore (lv' := [(6, .int r34), (5, .int r29), (0, .ref x0), (1, .ref x1), (2, .ref x2), (3, .ref x3), (4, .int x4)]) C.x C.b dL_law_259 hl (by decide) rfl (fun ls hl => ?_)
          refine lv_aload_n C.x C.b dL_law_261 rfl (lv_at hl 4 rfl) ?_
          refine a_mI (rest := []) (As := []) C hS hl hw (fun ad u wb Q hI h => kM_thrown C.tr hI h) q1527 q1528 q1529 q88 q1530 (by decide +kernel : gNm yX5_thrown 0 = true) rfl (Nat.le_of_ble_eq_true rfl) (Nat.le_of_ble_eq_true rfl) rfl (Nat.le_of_ble_eq_true rfl) dL_law_262 (fun r36 w35 H locs hw hS => ?_)
          refine lv_iload C.x C.b dL_law_265 (lv_at hl 1 rfl) ?_
          refine lv_icmp_eq (tgt := 272) C.x C.b dL_law_267 (by decide) (fun c37 => ?_) (fun c37 => ?_)
          · have hw := hw.1 c37
            refine lv_iload C.x C.b dL_law_272 (lv_at hl 1 rfl) ?_
            refine lv_if_ne (tgt := 289) C.x C.b dL_law_274 (by decide) (fun c38 => ?_) (fun c38 => ?_)
            · have hw := hw.2 c38
              exact kJ_L_law_289 C ih _ _ _ _ _ _ _ _ _ hS (lv_sub hl [2, 3, 4, 5, 6] rfl) hw
            · have hw := hw.1 c38
              refine lv_aload_n C.x C.b dL_law_277 rfl (lv_at hl 5 rfl) ?_
              refine lv_iconst (v := 0) C.x C.b dL_law_278 (by decide) ?_
              refine a_Lj C hS dL_law_279 hw (fun v39 hw => ?_)
              refine lv_iload C.x C.b dL_law_280 (lv_at hl 0 rfl) ?_
              refine lv_i2l C.x C.b dL_law_282 rfl ?_
              refine W.lcmp C.x C.b dL_law_283 ?_
              refine lv_if_eq (tgt := 289) C.x C.b dL_law_284 (by decide) (fun c40 => ?_) (fun c40 => ?_)
              · have hw := hw.1 c40
                exact kJ_L_law_289 C ih _ _ _ _ _ _ _ _ _ hS (lv_sub hl [2, 3, 4, 5, 6] rfl) hw
              · have hw := hw.2 c40
                refine lv_iconst (v := 0) C.x C.b dL_law_287 (by decide) ?_
                exact g_zret C hS rfl ⟨_, rfl, hw⟩ dL_law_288
          · have hw := hw.2 c37
            refine lv_iconst (v := 0) C.x C.b dL_law_270 (by decide) ?_
            exact g_zret C hS rfl ⟨_, rfl, hw⟩ dL_law_271
        · have hw := hw.2 c39_1
          rcases Decidable.em ((v12 &&& 31) = 2) with c39_2 | c39_2
          · have hw := hw.1 c39_2
            rw [c39_2]
            refine lv_tableIn (tgt := 292) (off := 253) C.x C.b dL_law_39 (by decide) (by decide) rfl (by decide) ?_
            refine lv_aload_n C.x C.b dL_law_292 rfl (lv_at hl 1 rfl) ?_
            refine lv_aload_n C.x C.b dL_law_293 rfl (lv_at hl 0 rfl) ?_
            refine lv_iload C.x C.b dL_law_294 (lv_at hl 4 rfl) ?_
            refine lv_iconst (v := 1) C.x C.b dL_law_296 (by decide) ?_
            refine lv_iadd C.x C.b dL_law_297 ?_
            refine a_Li C hS dL_law_298 hw (fun v41 hw => ?_)
            refine lv_aload_n C.x C.b dL_law_299 rfl (lv_at hl 0 rfl) ?_
            refine lv_iload C.x C.b dL_law_300 (lv_at hl 4 rfl) ?_
            refine lv_iconst (v := 2) C.x C.b dL_law_302 (by decide) ?_
            refine lv_iadd C.x C.b dL_law_303 ?_
            refine a_Li C hS dL_law_304 hw (fun v42 hw => ?_)
            refine lv_aload_n C.x C.b dL_law_305 rfl (lv_at hl 3 rfl) ?_
            refine g_callSH (rest := []) C hS hl (kJ_X0_setPriority C.tr hw) q1289 q1290 q76 q1291 ny_X0_setPriority rfl (Nat.le_of_ble_eq_true rfl) (Nat.le_of_ble_eq_true rfl) rfl (Nat.le_of_ble_eq_true rfl) dL_law_306 (fun X1 w1 H1 l1 q1 ce hx => hx.elim) (fun v w43 H locs hq _ hS => ?_)
            obtain ⟨r44, rfl, hw⟩ := hq
            refine W.eq (g2 := F0 m 309 ls [.int r44]) rfl ?_
            refine lv_istore (lv' := [(5, .int r44), (0, .ref x0), (1, .ref x1), (2, .ref x2), (3, .ref x3), (4, .int x4)]) C.x C.b dL_law_309 hl (by decide) rfl (fun ls hl => ?_)
            refine lv_aload_n C.x C.b dL_law_311 rfl (lv_at hl 3 rfl) ?_
            refine lv_aload_n C.x C.b dL_law_312 rfl (lv_at hl 1 rfl) ?_
            refine lv_iload C.x C.b dL_law_313 (lv_at hl 5 rfl) ?_
            refine lv_iconst (v := 1) C.x C.b dL_law_315 (by decide) ?_
            refine lv_iadd C.x C.b dL_law_316 ?_
            refine a_Li C hS dL_law_317 hw (fun v45 hw => ?_)
            refine lv_aload_n C.x C.b dL_law_318 rfl (lv_at hl 1 rfl) ?_
            refine lv_iload C.x C.b dL_law_319 (lv_at hl 5 rfl) ?_
            refine lv_iconst (v := 2) C.x C.b dL_law_321 (by decide) ?_
            refine lv_iadd C.x C.b dL_law_322 ?_
            refine a_Li C hS dL_law_323 hw (fun v46 hw => ?_)
            refine a_mI (rest := []) (As := [.int v45, .int v46]) C hS hl hw (fun ad u wb Q hI h => kM_setPriority C.tr hI h) q1555 q1556 q1557 q88 q1558 (by decide +kernel : gNm yX5_setPriority 2 = true) rfl (Nat.le_of_ble_eq_true rfl) (Nat.le_of_ble_eq_true rfl) rfl (Nat.le_of_ble_eq_true rfl) dL_law_324 (fun r48 w47 H locs hw hS => ?_)
            refine lv_istore (lv' := [(6, .int r48), (5, .int r44), (0, .ref x0), (1, .ref x1), (2, .ref x2), (3, .ref x3), (4, .int x4)]) C.x C.b dL_law_327 hl (by decide) rfl (fun ls hl => ?_)
            refine lv_aload_n C.x C.b dL_law_329 rfl (lv_at hl 4 rfl) ?_
            refine a_mI (rest := []) (As := []) C hS hl hw (fun ad u wb Q hI h => kM_thrown C.tr hI h) q1527 q1528 q1529 q88 q1530 (by decide +kernel : gNm yX5_thrown 0 = true) rfl (Nat.le_of_ble_eq_true rfl) (Nat.le_of_ble_eq_true rfl) rfl (Nat.le_of_ble_eq_true rfl) dL_law_330 (fun r50 w49 H locs hw hS => ?_)
            refine lv_iload C.x C.b dL_law_333 (lv_at hl 1 rfl) ?_
            refine lv_icmp_eq (tgt := 340) C.x C.b dL_law_335 (by decide) (fun c51 => ?_) (fun c51 => ?_)
            · have hw := hw.1 c51
              refine lv_iload C.x C.b dL_law_340 (lv_at hl 1 rfl) ?_
              refine lv_if_ne (tgt := 357) C.x C.b dL_law_342 (by decide) (fun c52 => ?_) (fun c52 => ?_)
              · have hw := hw.2 c52
                exact kJ_L_law_357 C ih _ _ _ _ _ _ _ _ _ hS (lv_sub hl [2, 3, 4, 5, 6] rfl) hw
              · have hw := hw.1 c52
                refine lv_aload_n C.x C.b dL_law_345 rfl (lv_at hl 5 rfl) ?_
                refine lv_iconst (v := 0) C.x C.b dL_law_346 (by decide) ?_
                refine a_Lj C hS dL_law_347 hw (fun v53 hw => ?_)
                refine lv_iload C.x C.b dL_law_348 (lv_at hl 0 rfl) ?_
                refine lv_i2l C.x C.b dL_law_350 rfl ?_
                refine W.lcmp C.x C.b dL_law_351 ?_
                refine lv_if_eq (tgt := 357) C.x C.b dL_law_352 (by decide) (fun c54 => ?_) (fun c54 => ?_)
                · have hw := hw.1 c54
                  exact kJ_L_law_357 C ih _ _ _ _ _ _ _ _ _ hS (lv_sub hl [2, 3, 4, 5, 6] rfl) hw
                · have hw := hw.2 c54
                  refine lv_iconst (v := 0) C.x C.b dL_law_355 (by decide) ?_
                  exact g_zret C hS rfl ⟨_, rfl, hw⟩ dL_law_356
            · have hw := hw.2 c51
              refine lv_iconst (v := 0) C.x C.b dL_law_338 (by decide) ?_
              exact g_zret C hS rfl ⟨_, rfl, hw⟩ dL_law_339
          · have hw := hw.2 c39_2
            rcases Decidable.em ((v12 &&& 31) = 3) with c39_3 | c39_3
            · have hw := hw.1 c39_3
              rw [c39_3]
              refine lv_tableIn (tgt := 360) (off := 321) C.x C.b dL_law_39 (by decide) (by decide) rfl (by decide) ?_
              refine lv_aload_n C.x C.b dL_law_360 rfl (lv_at hl 1 rfl) ?_
              refine lv_aload_n C.x C.b dL_law_361 rfl (lv_at hl 0 rfl) ?_
              refine lv_iload C.x C.b dL_law_362 (lv_at hl 4 rfl) ?_
              refine lv_iconst (v := 1) C.x C.b dL_law_364 (by decide) ?_
              refine lv_iadd C.x C.b dL_law_365 ?_
              refine a_Li C hS dL_law_366 hw (fun v55 hw => ?_)
              refine lv_aload_n C.x C.b dL_law_367 rfl (lv_at hl 0 rfl) ?_
              refine lv_iload C.x C.b dL_law_368 (lv_at hl 4 rfl) ?_
              refine lv_iconst (v := 2) C.x C.b dL_law_370 (by decide) ?_
              refine lv_iadd C.x C.b dL_law_371 ?_
              refine a_Li C hS dL_law_372 hw (fun v56 hw => ?_)
              refine lv_aload_n C.x C.b dL_law_373 rfl (lv_at hl 0 rfl) ?_
              refine lv_iload C.x C.b dL_law_374 (lv_at hl 4 rfl) ?_
              refine lv_iconst (v := 3) C.x C.b dL_law_376 (by decide) ?_
              refine lv_iadd C.x C.b dL_law_377 ?_
              refine a_Li C hS dL_law_378 hw (fun v57 hw => ?_)
              refine lv_aload_n C.x C.b dL_law_379 rfl (lv_at hl 3 rfl) ?_
              refine g_callSH (rest := []) C hS hl (kJ_X0_addLink C.tr hw) q1297 q1298 q76 q1299 ny_X0_addLink rfl (Nat.le_of_ble_eq_true rfl) (Nat.le_of_ble_eq_true rfl) rfl (Nat.le_of_ble_eq_true rfl) dL_law_380 (fun X1 w1 H1 l1 q1 ce hx => hx.elim) (fun v w58 H locs hq _ hS => ?_)
              obtain ⟨r59, rfl, hw⟩ := hq
              refine W.eq (g2 := F0 m 383 ls [.int r59]) rfl ?_
              refine lv_istore (lv' := [(5, .int r59), (0, .ref x0), (1, .ref x1), (2, .ref x2), (3, .ref x3), (4, .int x4)]) C.x C.b dL_law_383 hl (by decide) rfl (fun ls hl => ?_)
              refine lv_aload_n C.x C.b dL_law_385 rfl (lv_at hl 3 rfl) ?_
              refine lv_aload_n C.x C.b dL_law_386 rfl (lv_at hl 1 rfl) ?_
              refine lv_iload C.x C.b dL_law_387 (lv_at hl 5 rfl) ?_
              refine lv_iconst (v := 1) C.x C.b dL_law_389 (by decide) ?_
              refine lv_iadd C.x C.b dL_law_390 ?_
              refine a_Li C hS dL_law_391 hw (fun v60 hw => ?_)
              refine lv_aload_n C.x C.b dL_law_392 rfl (lv_at hl 1 rfl) ?_
              refine lv_iload C.x C.b dL_law_393 (lv_at hl 5 rfl) ?_
              refine lv_iconst (v := 2) C.x C.b dL_law_395 (by decide) ?_
              refine lv_iadd C.x C.b dL_law_396 ?_
              refine a_Li C hS dL_law_397 hw (fun v61 hw => ?_)
              refine lv_aload_n C.x C.b dL_law_398 rfl (lv_at hl 1 rfl) ?_
              refine lv_iload C.x C.b dL_law_399 (lv_at hl 5 rfl) ?_
              refine lv_iconst (v := 3) C.x C.b dL_law_401 (by decide) ?_
              refine lv_iadd C.x C.b dL_law_402 ?_
              refine a_Li C hS dL_law_403 hw (fun v62 hw => ?_)
              refine a_mI (rest := []) (As := [.int v60, .int v61, .int v62]) C hS hl hw (fun ad u wb Q hI h => kM_addLink C.tr hI h) q1571 q1572 q1573 q88 q1574 (by decide +kernel : gNm yX5_addLink 3 = true) rfl (Nat.le_of_ble_eq_true rfl) (Nat.le_of_ble_eq_true rfl) rfl (Nat.le_of_ble_eq_true rfl) dL_law_404 (fun r64 w63 H locs hw hS => ?_)
              refine lv_istore (lv' := [(6, .int r64), (5, .int r59), (0, .ref x0), (1, .ref x1), (2, .ref x2), (3, .ref x3), (4, .int x4)]) C.x C.b dL_law_407 hl (by decide) rfl (fun ls hl => ?_)
              refine lv_aload_n C.x C.b dL_law_409 rfl (lv_at hl 4 rfl) ?_
              refine a_mI (rest := []) (As := []) C hS hl hw (fun ad u wb Q hI h => kM_thrown C.tr hI h) q1527 q1528 q1529 q88 q1530 (by decide +kernel : gNm yX5_thrown 0 = true) rfl (Nat.le_of_ble_eq_true rfl) (Nat.le_of_ble_eq_true rfl) rfl (Nat.le_of_ble_eq_true rfl) dL_law_410 (fun r66 w65 H locs hw hS => ?_)
              refine lv_iload C.x C.b dL_law_413 (lv_at hl 1 rfl) ?_
              refine lv_icmp_eq (tgt := 420) C.x C.b dL_law_415 (by decide) (fun c67 => ?_) (fun c67 => ?_)
              · have hw := hw.1 c67
                refine lv_iload C.x C.b dL_law_420 (lv_at hl 1 rfl) ?_
                refine lv_if_ne (tgt := 437) C.x C.b dL_law_422 (by decide) (fun c68 => ?_) (fun c68 => ?_)
                · have hw := hw.2 c68
                  exact kJ_L_law_437 C ih _ _ _ _ _ _ _ _ _ hS (lv_sub hl [2, 3, 4, 5, 6] rfl) hw
                · have hw := hw.1 c68
                  refine lv_aload_n C.x C.b dL_law_425 rfl (lv_at hl 5 rfl) ?_
                  refine lv_iconst (v := 0) C.x C.b dL_law_426 (by decide) ?_
                  refine a_Lj C hS dL_law_427 hw (fun v69 hw => ?_)
                  refine lv_iload C.x C.b dL_law_428 (lv_at hl 0 rfl) ?_
                  refine lv_i2l C.x C.b dL_law_430 rfl ?_
                  refine W.lcmp C.x C.b dL_law_431 ?_
                  refine lv_if_eq (tgt := 437) C.x C.b dL_law_432 (by decide) (fun c70 => ?_) (fun c70 => ?_)
                  · have hw := hw.1 c70
                    exact kJ_L_law_437 C ih _ _ _ _ _ _ _ _ _ hS (lv_sub hl [2, 3, 4, 5, 6] rfl) hw
                  · have hw := hw.2 c70
                    refine lv_iconst (v := 0) C.x C.b dL_law_435 (by decide) ?_
                    exact g_zret C hS rfl ⟨_, rfl, hw⟩ dL_law_436
              · have hw := hw.2 c67
                refine lv_iconst (v := 0) C.x C.b dL_law_418 (by decide) ?_
                exact g_zret C hS rfl ⟨_, rfl, hw⟩ dL_law_419
            · have hw := hw.2 c39_3
              rcases Decidable.em ((v12 &&& 31) = 4) with c39_4 | c39_4
              · have hw := hw.1 c39_4
                rw [c39_4]
                refine lv_tableIn (tgt := 440) (off := 401) C.x C.b dL_law_39 (by decide) (by decide) rfl (by decide) ?_
                refine lv_aload_n C.x C.b dL_law_440 rfl (lv_at hl 1 rfl) ?_
                refine lv_aload_n C.x C.b dL_law_441 rfl (lv_at hl 0 rfl) ?_
                refine lv_iload C.x C.b dL_law_442 (lv_at hl 4 rfl) ?_
                refine lv_iconst (v := 1) C.x C.b dL_law_444 (by decide) ?_
                refine lv_iadd C.x C.b dL_law_445 ?_
                refine a_Li C hS dL_law_446 hw (fun v71 hw => ?_)
                refine lv_aload_n C.x C.b dL_law_447 rfl (lv_at hl 3 rfl) ?_
                refine g_callSH (rest := []) C hS hl (kJ_X0_fail C.tr hw) q1305 q1306 q76 q1307 ny_X0_fail rfl (Nat.le_of_ble_eq_true rfl) (Nat.le_of_ble_eq_true rfl) rfl (Nat.le_of_ble_eq_true rfl) dL_law_448 (fun X1 w1 H1 l1 q1 ce hx => hx.elim) (fun v w72 H locs hq _ hS => ?_)
                obtain ⟨r73, rfl, hw⟩ := hq
                refine W.eq (g2 := F0 m 451 ls [.int r73]) rfl ?_
                refine lv_istore (lv' := [(5, .int r73), (0, .ref x0), (1, .ref x1), (2, .ref x2), (3, .ref x3), (4, .int x4)]) C.x C.b dL_law_451 hl (by decide) rfl (fun ls hl => ?_)
                refine lv_aload_n C.x C.b dL_law_453 rfl (lv_at hl 3 rfl) ?_
                refine lv_aload_n C.x C.b dL_law_454 rfl (lv_at hl 1 rfl) ?_
                refine lv_iload C.x C.b dL_law_455 (lv_at hl 5 rfl) ?_
                refine lv_iconst (v := 1) C.x C.b dL_law_457 (by decide) ?_
                refine lv_iadd C.x C.b dL_law_458 ?_
                refine a_Li C hS dL_law_459 hw (fun v74 hw => ?_)
                refine a_mI (rest := []) (As := [.int v74]) C hS hl hw (fun ad u wb Q hI h => kM_fail C.tr hI h) q1583 q1584 q1585 q88 q1586 (by decide +kernel : gNm yX5_fail 1 = true) rfl (Nat.le_of_ble_eq_true rfl) (Nat.le_of_ble_eq_true rfl) rfl (Nat.le_of_ble_eq_true rfl) dL_law_460 (fun r76 w75 H locs hw hS => ?_)
                refine lv_istore (lv' := [(6, .int r76), (5, .int r73), (0, .ref x0), (1, .ref x1), (2, .ref x2), (3, .ref x3), (4, .int x4)]) C.x C.b dL_law_463 hl (by decide) rfl (fun ls hl => ?_)
                refine lv_aload_n C.x C.b dL_law_465 rfl (lv_at hl 4 rfl) ?_
                refine a_mI (rest := []) (As := []) C hS hl hw (fun ad u wb Q hI h => kM_thrown C.tr hI h) q1527 q1528 q1529 q88 q1530 (by decide +kernel : gNm yX5_thrown 0 = true) rfl (Nat.le_of_ble_eq_true rfl) (Nat.le_of_ble_eq_true rfl) rfl (Nat.le_of_ble_eq_true rfl) dL_law_466 (fun r78 w77 H locs hw hS => ?_)
                refine lv_iload C.x C.b dL_law_469 (lv_at hl 1 rfl) ?_
                refine lv_icmp_eq (tgt := 476) C.x C.b dL_law_471 (by decide) (fun c79 => ?_) (fun c79 => ?_)
                · have hw := hw.1 c79
                  refine lv_iload C.x C.b dL_law_476 (lv_at hl 1 rfl) ?_
                  refine lv_if_ne (tgt := 493) C.x C.b dL_law_478 (by decide) (fun c80 => ?_) (fun c80 => ?_)
                  · have hw := hw.2 c80
                    exact kJ_L_law_493 C ih _ _ _ _ _ _ _ _ _ hS (lv_sub hl [2, 3, 4, 5, 6] rfl) hw
                  · have hw := hw.1 c80
                    refine lv_aload_n C.x C.b dL_law_481 rfl (lv_at hl 5 rfl) ?_
                    refine lv_iconst (v := 0) C.x C.b dL_law_482 (by decide) ?_
                    refine a_Lj C hS dL_law_483 hw (fun v81 hw => ?_)
                    refine lv_iload C.x C.b dL_law_484 (lv_at hl 0 rfl) ?_
                    refine lv_i2l C.x C.b dL_law_486 rfl ?_
                    refine W.lcmp C.x C.b dL_law_487 ?_
                    refine lv_if_eq (tgt := 493) C.x C.b dL_law_488 (by decide) (fun c82 => ?_) (fun c82 => ?_)
                    · have hw := hw.1 c82
                      exact kJ_L_law_493 C ih _ _ _ _ _ _ _ _ _ hS (lv_sub hl [2, 3, 4, 5, 6] rfl) hw
                    · have hw := hw.2 c82
                      refine lv_iconst (v := 0) C.x C.b dL_law_491 (by decide) ?_
                      exact g_zret C hS rfl ⟨_, rfl, hw⟩ dL_law_492
                · have hw := hw.2 c79
                  refine lv_iconst (v := 0) C.x C.b dL_law_474 (by decide) ?_
                  exact g_zret C hS rfl ⟨_, rfl, hw⟩ dL_law_475
              · have hw := hw.2 c39_4
                rcases Decidable.em ((v12 &&& 31) = 5) with c39_5 | c39_5
                · have hw := hw.1 c39_5
                  rw [c39_5]
                  refine lv_tableIn (tgt := 496) (off := 457) C.x C.b dL_law_39 (by decide) (by decide) rfl (by decide) ?_
                  refine lv_aload_n C.x C.b dL_law_496 rfl (lv_at hl 1 rfl) ?_
                  refine lv_aload_n C.x C.b dL_law_497 rfl (lv_at hl 0 rfl) ?_
                  refine lv_iload C.x C.b dL_law_498 (lv_at hl 4 rfl) ?_
                  refine lv_iconst (v := 1) C.x C.b dL_law_500 (by decide) ?_
                  refine lv_iadd C.x C.b dL_law_501 ?_
                  refine a_Li C hS dL_law_502 hw (fun v83 hw => ?_)
                  refine lv_aload_n C.x C.b dL_law_503 rfl (lv_at hl 3 rfl) ?_
                  refine g_callSH (rest := []) C hS hl (kJ_X0_fix C.tr hw) q1312 q1313 q76 q1314 ny_X0_fix rfl (Nat.le_of_ble_eq_true rfl) (Nat.le_of_ble_eq_true rfl) rfl (Nat.le_of_ble_eq_true rfl) dL_law_504 (fun X1 w1 H1 l1 q1 ce hx => hx.elim) (fun v w84 H locs hq _ hS => ?_)
                  obtain ⟨r85, rfl, hw⟩ := hq
                  refine W.eq (g2 := F0 m 507 ls [.int r85]) rfl ?_
                  refine lv_istore (lv' := [(5, .int r85), (0, .ref x0), (1, .ref x1), (2, .ref x2), (3, .ref x3), (4, .int x4)]) C.x C.b dL_law_507 hl (by decide) rfl (fun ls hl => ?_)
                  refine lv_aload_n C.x C.b dL_law_509 rfl (lv_at hl 3 rfl) ?_
                  refine lv_aload_n C.x C.b dL_law_510 rfl (lv_at hl 1 rfl) ?_
                  refine lv_iload C.x C.b dL_law_511 (lv_at hl 5 rfl) ?_
                  refine lv_iconst (v := 1) C.x C.b dL_law_513 (by decide) ?_
                  refine lv_iadd C.x C.b dL_law_514 ?_
                  refine a_Li C hS dL_law_515 hw (fun v86 hw => ?_)
                  refine a_mI (rest := []) (As := [.int v86]) C hS hl hw (fun ad u wb Q hI h => kM_fix C.tr hI h) q1599 q1600 q1601 q88 q1602 (by decide +kernel : gNm yX5_fix 1 = true) rfl (Nat.le_of_ble_eq_true rfl) (Nat.le_of_ble_eq_true rfl) rfl (Nat.le_of_ble_eq_true rfl) dL_law_516 (fun r88 w87 H locs hw hS => ?_)
                  refine lv_istore (lv' := [(6, .int r88), (5, .int r85), (0, .ref x0), (1, .ref x1), (2, .ref x2), (3, .ref x3), (4, .int x4)]) C.x C.b dL_law_519 hl (by decide) rfl (fun ls hl => ?_)
                  refine lv_aload_n C.x C.b dL_law_521 rfl (lv_at hl 4 rfl) ?_
                  refine a_mI (rest := []) (As := []) C hS hl hw (fun ad u wb Q hI h => kM_thrown C.tr hI h) q1527 q1528 q1529 q88 q1530 (by decide +kernel : gNm yX5_thrown 0 = true) rfl (Nat.le_of_ble_eq_true rfl) (Nat.le_of_ble_eq_true rfl) rfl (Nat.le_of_ble_eq_true rfl) dL_law_522 (fun r90 w89 H locs hw hS => ?_)
                  refine lv_iload C.x C.b dL_law_525 (lv_at hl 1 rfl) ?_
                  refine lv_icmp_eq (tgt := 532) C.x C.b dL_law_527 (by decide) (fun c91 => ?_) (fun c91 => ?_)
                  · have hw := hw.1 c91
                    refine lv_iload C.x C.b dL_law_532 (lv_at hl 1 rfl) ?_
                    refine lv_if_ne (tgt := 549) C.x C.b dL_law_534 (by decide) (fun c92 => ?_) (fun c92 => ?_)
                    · have hw := hw.2 c92
                      exact kJ_L_law_549 C ih _ _ _ _ _ _ _ _ _ hS (lv_sub hl [2, 3, 4, 5, 6] rfl) hw
                    · have hw := hw.1 c92
                      refine lv_aload_n C.x C.b dL_law_537 rfl (lv_at hl 5 rfl) ?_
                      refine lv_iconst (v := 0) C.x C.b dL_law_538 (by decide) ?_
                      refine a_Lj C hS dL_law_539 hw (fun v93 hw => ?_)
                      refine lv_iload C.x C.b dL_law_540 (lv_at hl 0 rfl) ?_
                      refine lv_i2l C.x C.b dL_law_542 rfl ?_
                      refine W.lcmp C.x C.b dL_law_543 ?_
                      refine lv_if_eq (tgt := 549) C.x C.b dL_law_544 (by decide) (fun c94 => ?_) (fun c94 => ?_)
                      · have hw := hw.1 c94
                        exact kJ_L_law_549 C ih _ _ _ _ _ _ _ _ _ hS (lv_sub hl [2, 3, 4, 5, 6] rfl) hw
                      · have hw := hw.2 c94
                        refine lv_iconst (v := 0) C.x C.b dL_law_547 (by decide) ?_
                        exact g_zret C hS rfl ⟨_, rfl, hw⟩ dL_law_548
                  · have hw := hw.2 c91
                    refine lv_iconst (v := 0) C.x C.b dL_law_530 (by decide) ?_
                    exact g_zret C hS rfl ⟨_, rfl, hw⟩ dL_law_531
                · have hw := hw.2 c39_5
                  rcases Decidable.em ((v12 &&& 31) = 6) with c39_6 | c39_6
                  · have hw := hw.1 c39_6
                    rw [c39_6]
                    refine lv_tableIn (tgt := 552) (off := 513) C.x C.b dL_law_39 (by decide) (by decide) rfl (by decide) ?_
                    refine lv_aload_n C.x C.b dL_law_552 rfl (lv_at hl 1 rfl) ?_
                    refine lv_aload_n C.x C.b dL_law_553 rfl (lv_at hl 0 rfl) ?_
                    refine lv_iload C.x C.b dL_law_554 (lv_at hl 4 rfl) ?_
                    refine lv_iconst (v := 1) C.x C.b dL_law_556 (by decide) ?_
                    refine lv_iadd C.x C.b dL_law_557 ?_
                    refine a_Li C hS dL_law_558 hw (fun v95 hw => ?_)
                    refine lv_aload_n C.x C.b dL_law_559 rfl (lv_at hl 0 rfl) ?_
                    refine lv_iload C.x C.b dL_law_560 (lv_at hl 4 rfl) ?_
                    refine lv_iconst (v := 2) C.x C.b dL_law_562 (by decide) ?_
                    refine lv_iadd C.x C.b dL_law_563 ?_
                    refine a_Li C hS dL_law_564 hw (fun v96 hw => ?_)
                    refine lv_aload_n C.x C.b dL_law_565 rfl (lv_at hl 3 rfl) ?_
                    refine g_callSH (rest := []) C hS hl (kJ_X0_moveHost C.tr hw) q1319 q1320 q76 q1321 ny_X0_moveHost rfl (Nat.le_of_ble_eq_true rfl) (Nat.le_of_ble_eq_true rfl) rfl (Nat.le_of_ble_eq_true rfl) dL_law_566 (fun X1 w1 H1 l1 q1 ce hx => hx.elim) (fun v w97 H locs hq _ hS => ?_)
                    obtain ⟨r98, rfl, hw⟩ := hq
                    refine W.eq (g2 := F0 m 569 ls [.int r98]) rfl ?_
                    refine lv_istore (lv' := [(5, .int r98), (0, .ref x0), (1, .ref x1), (2, .ref x2), (3, .ref x3), (4, .int x4)]) C.x C.b dL_law_569 hl (by decide) rfl (fun ls hl => ?_)
                    refine lv_aload_n C.x C.b dL_law_571 rfl (lv_at hl 3 rfl) ?_
                    refine lv_aload_n C.x C.b dL_law_572 rfl (lv_at hl 1 rfl) ?_
                    refine lv_iload C.x C.b dL_law_573 (lv_at hl 5 rfl) ?_
                    refine lv_iconst (v := 1) C.x C.b dL_law_575 (by decide) ?_
                    refine lv_iadd C.x C.b dL_law_576 ?_
                    refine a_Li C hS dL_law_577 hw (fun v99 hw => ?_)
                    refine lv_aload_n C.x C.b dL_law_578 rfl (lv_at hl 1 rfl) ?_
                    refine lv_iload C.x C.b dL_law_579 (lv_at hl 5 rfl) ?_
                    refine lv_iconst (v := 2) C.x C.b dL_law_581 (by decide) ?_
                    refine lv_iadd C.x C.b dL_law_582 ?_
                    refine a_Li C hS dL_law_583 hw (fun v100 hw => ?_)
                    refine a_mI (rest := []) (As := [.int v99, .int v100]) C hS hl hw (fun ad u wb Q hI h => kM_moveHost C.tr hI h) q1607 q1608 q1609 q88 q1610 (by decide +kernel : gNm yX5_moveHost 2 = true) rfl (Nat.le_of_ble_eq_true rfl) (Nat.le_of_ble_eq_true rfl) rfl (Nat.le_of_ble_eq_true rfl) dL_law_584 (fun r102 w101 H locs hw hS => ?_)
                    refine lv_istore (lv' := [(6, .int r102), (5, .int r98), (0, .ref x0), (1, .ref x1), (2, .ref x2), (3, .ref x3), (4, .int x4)]) C.x C.b dL_law_587 hl (by decide) rfl (fun ls hl => ?_)
                    refine lv_aload_n C.x C.b dL_law_589 rfl (lv_at hl 4 rfl) ?_
                    refine a_mI (rest := []) (As := []) C hS hl hw (fun ad u wb Q hI h => kM_thrown C.tr hI h) q1527 q1528 q1529 q88 q1530 (by decide +kernel : gNm yX5_thrown 0 = true) rfl (Nat.le_of_ble_eq_true rfl) (Nat.le_of_ble_eq_true rfl) rfl (Nat.le_of_ble_eq_true rfl) dL_law_590 (fun r104 w103 H locs hw hS => ?_)
                    refine lv_iload C.x C.b dL_law_593 (lv_at hl 1 rfl) ?_
                    refine lv_icmp_eq (tgt := 600) C.x C.b dL_law_595 (by decide) (fun c105 => ?_) (fun c105 => ?_)
                    · have hw := hw.1 c105
                      refine lv_iload C.x C.b dL_law_600 (lv_at hl 1 rfl) ?_
                      refine lv_if_ne (tgt := 617) C.x C.b dL_law_602 (by decide) (fun c106 => ?_) (fun c106 => ?_)
                      · have hw := hw.2 c106
                        exact kJ_L_law_617 C ih _ _ _ _ _ _ _ _ _ hS (lv_sub hl [2, 3, 4, 5, 6] rfl) hw
                      · have hw := hw.1 c106
                        refine lv_aload_n C.x C.b dL_law_605 rfl (lv_at hl 5 rfl) ?_
                        refine lv_iconst (v := 0) C.x C.b dL_law_606 (by decide) ?_
                        refine a_Lj C hS dL_law_607 hw (fun v107 hw => ?_)
                        refine lv_iload C.x C.b dL_law_608 (lv_at hl 0 rfl) ?_
                        refine lv_i2l C.x C.b dL_law_610 rfl ?_
                        refine W.lcmp C.x C.b dL_law_611 ?_
                        refine lv_if_eq (tgt := 617) C.x C.b dL_law_612 (by decide) (fun c108 => ?_) (fun c108 => ?_)
                        · have hw := hw.1 c108
                          exact kJ_L_law_617 C ih _ _ _ _ _ _ _ _ _ hS (lv_sub hl [2, 3, 4, 5, 6] rfl) hw
                        · have hw := hw.2 c108
                          refine lv_iconst (v := 0) C.x C.b dL_law_615 (by decide) ?_
                          exact g_zret C hS rfl ⟨_, rfl, hw⟩ dL_law_616
                    · have hw := hw.2 c105
                      refine lv_iconst (v := 0) C.x C.b dL_law_598 (by decide) ?_
                      exact g_zret C hS rfl ⟨_, rfl, hw⟩ dL_law_599
                  · have hw := hw.2 c39_6
                    rcases Decidable.em ((v12 &&& 31) = 7) with c39_7 | c39_7
                    · have hw := hw.1 c39_7
                      rw [c39_7]
                      refine lv_tableIn (tgt := 620) (off := 581) C.x C.b dL_law_39 (by decide) (by decide) rfl (by decide) ?_
                      refine lv_aload_n C.x C.b dL_law_620 rfl (lv_at hl 1 rfl) ?_
                      refine lv_aload_n C.x C.b dL_law_621 rfl (lv_at hl 0 rfl) ?_
                      refine lv_iload C.x C.b dL_law_622 (lv_at hl 4 rfl) ?_
                      refine lv_iconst (v := 1) C.x C.b dL_law_624 (by decide) ?_
                      refine lv_iadd C.x C.b dL_law_625 ?_
                      refine a_Li C hS dL_law_626 hw (fun v109 hw => ?_)
                      refine lv_aload_n C.x C.b dL_law_627 rfl (lv_at hl 0 rfl) ?_
                      refine lv_iload C.x C.b dL_law_628 (lv_at hl 4 rfl) ?_
                      refine lv_iconst (v := 2) C.x C.b dL_law_630 (by decide) ?_
                      refine lv_iadd C.x C.b dL_law_631 ?_
                      refine a_Li C hS dL_law_632 hw (fun v110 hw => ?_)
                      refine lv_aload_n C.x C.b dL_law_633 rfl (lv_at hl 0 rfl) ?_
                      refine lv_iload C.x C.b dL_law_634 (lv_at hl 4 rfl) ?_
                      refine lv_iconst (v := 3) C.x C.b dL_law_636 (by decide) ?_
                      refine lv_iadd C.x C.b dL_law_637 ?_
                      refine a_Li C hS dL_law_638 hw (fun v111 hw => ?_)
                      refine lv_aload_n C.x C.b dL_law_639 rfl (lv_at hl 3 rfl) ?_
                      refine g_callSH (rest := []) C hS hl (kJ_X0_bid C.tr hw) q1326 q1327 q76 q1328 ny_X0_bid rfl (Nat.le_of_ble_eq_true rfl) (Nat.le_of_ble_eq_true rfl) rfl (Nat.le_of_ble_eq_true rfl) dL_law_640 (fun X1 w1 H1 l1 q1 ce hx => hx.elim) (fun v w112 H locs hq _ hS => ?_)
                      obtain ⟨r113, rfl, hw⟩ := hq
                      refine W.eq (g2 := F0 m 643 ls [.int r113]) rfl ?_
                      refine lv_istore (lv' := [(5, .int r113), (0, .ref x0), (1, .ref x1), (2, .ref x2), (3, .ref x3), (4, .int x4)]) C.x C.b dL_law_643 hl (by decide) rfl (fun ls hl => ?_)
                      refine lv_aload_n C.x C.b dL_law_645 rfl (lv_at hl 3 rfl) ?_
                      refine lv_aload_n C.x C.b dL_law_646 rfl (lv_at hl 1 rfl) ?_
                      refine lv_iload C.x C.b dL_law_647 (lv_at hl 5 rfl) ?_
                      refine lv_iconst (v := 1) C.x C.b dL_law_649 (by decide) ?_
                      refine lv_iadd C.x C.b dL_law_650 ?_
                      refine a_Li C hS dL_law_651 hw (fun v114 hw => ?_)
                      refine lv_aload_n C.x C.b dL_law_652 rfl (lv_at hl 1 rfl) ?_
                      refine lv_iload C.x C.b dL_law_653 (lv_at hl 5 rfl) ?_
                      refine lv_iconst (v := 2) C.x C.b dL_law_655 (by decide) ?_
                      refine lv_iadd C.x C.b dL_law_656 ?_
                      refine a_Li C hS dL_law_657 hw (fun v115 hw => ?_)
                      refine lv_aload_n C.x C.b dL_law_658 rfl (lv_at hl 1 rfl) ?_
                      refine lv_iload C.x C.b dL_law_659 (lv_at hl 5 rfl) ?_
                      refine lv_iconst (v := 3) C.x C.b dL_law_661 (by decide) ?_
                      refine lv_iadd C.x C.b dL_law_662 ?_
                      refine a_Li C hS dL_law_663 hw (fun v116 hw => ?_)
                      refine a_mI (rest := []) (As := [.int v114, .int v115, .int v116]) C hS hl hw (fun ad u wb Q hI h => kM_bid C.tr hI h) q1618 q1619 q1620 q88 q1621 (by decide +kernel : gNm yX5_bid 3 = true) rfl (Nat.le_of_ble_eq_true rfl) (Nat.le_of_ble_eq_true rfl) rfl (Nat.le_of_ble_eq_true rfl) dL_law_664 (fun r118 w117 H locs hw hS => ?_)
                      refine lv_istore (lv' := [(6, .int r118), (5, .int r113), (0, .ref x0), (1, .ref x1), (2, .ref x2), (3, .ref x3), (4, .int x4)]) C.x C.b dL_law_667 hl (by decide) rfl (fun ls hl => ?_)
                      refine lv_aload_n C.x C.b dL_law_669 rfl (lv_at hl 4 rfl) ?_
                      refine a_mI (rest := []) (As := []) C hS hl hw (fun ad u wb Q hI h => kM_thrown C.tr hI h) q1527 q1528 q1529 q88 q1530 (by decide +kernel : gNm yX5_thrown 0 = true) rfl (Nat.le_of_ble_eq_true rfl) (Nat.le_of_ble_eq_true rfl) rfl (Nat.le_of_ble_eq_true rfl) dL_law_670 (fun r120 w119 H locs hw hS => ?_)
                      refine lv_iload C.x C.b dL_law_673 (lv_at hl 1 rfl) ?_
                      refine lv_icmp_eq (tgt := 680) C.x C.b dL_law_675 (by decide) (fun c121 => ?_) (fun c121 => ?_)
                      · have hw := hw.1 c121
                        refine lv_iload C.x C.b dL_law_680 (lv_at hl 1 rfl) ?_
                        refine lv_if_ne (tgt := 697) C.x C.b dL_law_682 (by decide) (fun c122 => ?_) (fun c122 => ?_)
                        · have hw := hw.2 c122
                          exact kJ_L_law_697 C ih _ _ _ _ _ _ _ _ _ hS (lv_sub hl [2, 3, 4, 5, 6] rfl) hw
                        · have hw := hw.1 c122
                          refine lv_aload_n C.x C.b dL_law_685 rfl (lv_at hl 5 rfl) ?_
                          refine lv_iconst (v := 0) C.x C.b dL_law_686 (by decide) ?_
                          refine a_Lj C hS dL_law_687 hw (fun v123 hw => ?_)
                          refine lv_iload C.x C.b dL_law_688 (lv_at hl 0 rfl) ?_
                          refine lv_i2l C.x C.b dL_law_690 rfl ?_
                          refine W.lcmp C.x C.b dL_law_691 ?_
                          refine lv_if_eq (tgt := 697) C.x C.b dL_law_692 (by decide) (fun c124 => ?_) (fun c124 => ?_)
                          · have hw := hw.1 c124
                            exact kJ_L_law_697 C ih _ _ _ _ _ _ _ _ _ hS (lv_sub hl [2, 3, 4, 5, 6] rfl) hw
                          · have hw := hw.2 c124
                            refine lv_iconst (v := 0) C.x C.b dL_law_695 (by decide) ?_
                            exact g_zret C hS rfl ⟨_, rfl, hw⟩ dL_law_696
                      · have hw := hw.2 c121
                        refine lv_iconst (v := 0) C.x C.b dL_law_678 (by decide) ?_
                        exact g_zret C hS rfl ⟨_, rfl, hw⟩ dL_law_679
                    · have hw := hw.2 c39_7
                      rcases Decidable.em ((v12 &&& 31) = 8) with c39_8 | c39_8
                      · have hw := hw.1 c39_8
                        rw [c39_8]
                        refine lv_tableIn (tgt := 700) (off := 661) C.x C.b dL_law_39 (by decide) (by decide) rfl (by decide) ?_
                        refine lv_aload_n C.x C.b dL_law_700 rfl (lv_at hl 1 rfl) ?_
                        refine lv_aload_n C.x C.b dL_law_701 rfl (lv_at hl 0 rfl) ?_
                        refine lv_iload C.x C.b dL_law_702 (lv_at hl 4 rfl) ?_
                        refine lv_iconst (v := 1) C.x C.b dL_law_704 (by decide) ?_
                        refine lv_iadd C.x C.b dL_law_705 ?_
                        refine a_Li C hS dL_law_706 hw (fun v125 hw => ?_)
                        refine lv_aload_n C.x C.b dL_law_707 rfl (lv_at hl 0 rfl) ?_
                        refine lv_iload C.x C.b dL_law_708 (lv_at hl 4 rfl) ?_
                        refine lv_iconst (v := 2) C.x C.b dL_law_710 (by decide) ?_
                        refine lv_iadd C.x C.b dL_law_711 ?_
                        refine a_Li C hS dL_law_712 hw (fun v126 hw => ?_)
                        refine lv_aload_n C.x C.b dL_law_713 rfl (lv_at hl 3 rfl) ?_
                        refine g_callSH (rest := []) C hS hl (kJ_X0_grant C.tr hw) q1333 q1334 q76 q1335 ny_X0_grant rfl (Nat.le_of_ble_eq_true rfl) (Nat.le_of_ble_eq_true rfl) rfl (Nat.le_of_ble_eq_true rfl) dL_law_714 (fun X1 w1 H1 l1 q1 ce hx => hx.elim) (fun v w127 H locs hq _ hS => ?_)
                        obtain ⟨r128, rfl, hw⟩ := hq
                        refine W.eq (g2 := F0 m 717 ls [.int r128]) rfl ?_
                        refine lv_istore (lv' := [(5, .int r128), (0, .ref x0), (1, .ref x1), (2, .ref x2), (3, .ref x3), (4, .int x4)]) C.x C.b dL_law_717 hl (by decide) rfl (fun ls hl => ?_)
                        refine lv_aload_n C.x C.b dL_law_719 rfl (lv_at hl 3 rfl) ?_
                        refine lv_aload_n C.x C.b dL_law_720 rfl (lv_at hl 1 rfl) ?_
                        refine lv_iload C.x C.b dL_law_721 (lv_at hl 5 rfl) ?_
                        refine lv_iconst (v := 1) C.x C.b dL_law_723 (by decide) ?_
                        refine lv_iadd C.x C.b dL_law_724 ?_
                        refine a_Li C hS dL_law_725 hw (fun v129 hw => ?_)
                        refine lv_aload_n C.x C.b dL_law_726 rfl (lv_at hl 1 rfl) ?_
                        refine lv_iload C.x C.b dL_law_727 (lv_at hl 5 rfl) ?_
                        refine lv_iconst (v := 2) C.x C.b dL_law_729 (by decide) ?_
                        refine lv_iadd C.x C.b dL_law_730 ?_
                        refine a_Li C hS dL_law_731 hw (fun v130 hw => ?_)
                        refine a_mI (rest := []) (As := [.int v129, .int v130]) C hS hl hw (fun ad u wb Q hI h => kM_grant C.tr hI h) q1629 q1630 q1631 q88 q1632 (by decide +kernel : gNm yX5_grant 2 = true) rfl (Nat.le_of_ble_eq_true rfl) (Nat.le_of_ble_eq_true rfl) rfl (Nat.le_of_ble_eq_true rfl) dL_law_732 (fun r132 w131 H locs hw hS => ?_)
                        refine lv_istore (lv' := [(6, .int r132), (5, .int r128), (0, .ref x0), (1, .ref x1), (2, .ref x2), (3, .ref x3), (4, .int x4)]) C.x C.b dL_law_735 hl (by decide) rfl (fun ls hl => ?_)
                        refine lv_aload_n C.x C.b dL_law_737 rfl (lv_at hl 4 rfl) ?_
                        refine a_mI (rest := []) (As := []) C hS hl hw (fun ad u wb Q hI h => kM_thrown C.tr hI h) q1527 q1528 q1529 q88 q1530 (by decide +kernel : gNm yX5_thrown 0 = true) rfl (Nat.le_of_ble_eq_true rfl) (Nat.le_of_ble_eq_true rfl) rfl (Nat.le_of_ble_eq_true rfl) dL_law_738 (fun r134 w133 H locs hw hS => ?_)
                        refine lv_iload C.x C.b dL_law_741 (lv_at hl 1 rfl) ?_
                        refine lv_icmp_eq (tgt := 748) C.x C.b dL_law_743 (by decide) (fun c135 => ?_) (fun c135 => ?_)
                        · have hw := hw.1 c135
                          refine lv_iload C.x C.b dL_law_748 (lv_at hl 1 rfl) ?_
                          refine lv_if_ne (tgt := 765) C.x C.b dL_law_750 (by decide) (fun c136 => ?_) (fun c136 => ?_)
                          · have hw := hw.2 c136
                            exact kJ_L_law_765 C ih _ _ _ _ _ _ _ _ _ hS (lv_sub hl [2, 3, 4, 5, 6] rfl) hw
                          · have hw := hw.1 c136
                            refine lv_aload_n C.x C.b dL_law_753 rfl (lv_at hl 5 rfl) ?_
                            refine lv_iconst (v := 0) C.x C.b dL_law_754 (by decide) ?_
                            refine a_Lj C hS dL_law_755 hw (fun v137 hw => ?_)
                            refine lv_iload C.x C.b dL_law_756 (lv_at hl 0 rfl) ?_
                            refine lv_i2l C.x C.b dL_law_758 rfl ?_
                            refine W.lcmp C.x C.b dL_law_759 ?_
                            refine lv_if_eq (tgt := 765) C.x C.b dL_law_760 (by decide) (fun c138 => ?_) (fun c138 => ?_)
                            · have hw := hw.1 c138
                              exact kJ_L_law_765 C ih _ _ _ _ _ _ _ _ _ hS (lv_sub hl [2, 3, 4, 5, 6] rfl) hw
                            · have hw := hw.2 c138
                              refine lv_iconst (v := 0) C.x C.b dL_law_763 (by decide) ?_
                              exact g_zret C hS rfl ⟨_, rfl, hw⟩ dL_law_764
                        · have hw := hw.2 c135
                          refine lv_iconst (v := 0) C.x C.b dL_law_746 (by decide) ?_
                          exact g_zret C hS rfl ⟨_, rfl, hw⟩ dL_law_747
                      · have hw := hw.2 c39_8
                        rcases Decidable.em ((v12 &&& 31) = 9) with c39_9 | c39_9
                        · have hw := hw.1 c39_9
                          rw [c39_9]
                          refine lv_tableIn (tgt := 768) (off := 729) C.x C.b dL_law_39 (by decide) (by decide) rfl (by decide) ?_
                          refine lv_aload_n C.x C.b dL_law_768 rfl (lv_at hl 1 rfl) ?_
                          refine lv_aload_n C.x C.b dL_law_769 rfl (lv_at hl 0 rfl) ?_
                          refine lv_iload C.x C.b dL_law_770 (lv_at hl 4 rfl) ?_
                          refine lv_iconst (v := 1) C.x C.b dL_law_772 (by decide) ?_
                          refine lv_iadd C.x C.b dL_law_773 ?_
                          refine a_Li C hS dL_law_774 hw (fun v139 hw => ?_)
                          refine lv_aload_n C.x C.b dL_law_775 rfl (lv_at hl 3 rfl) ?_
                          refine g_callSH (rest := []) C hS hl (kJ_X0_tick C.tr hw) q1351 q1352 q76 q1353 ny_X0_tick rfl (Nat.le_of_ble_eq_true rfl) (Nat.le_of_ble_eq_true rfl) rfl (Nat.le_of_ble_eq_true rfl) dL_law_776 (fun X1 w1 H1 l1 q1 ce hx => hx.elim) (fun v w140 H locs hq _ hS => ?_)
                          obtain ⟨r141, rfl, hw⟩ := hq
                          refine W.eq (g2 := F0 m 779 ls [.int r141]) rfl ?_
                          refine lv_istore (lv' := [(5, .int r141), (0, .ref x0), (1, .ref x1), (2, .ref x2), (3, .ref x3), (4, .int x4)]) C.x C.b dL_law_779 hl (by decide) rfl (fun ls hl => ?_)
                          refine lv_aload_n C.x C.b dL_law_781 rfl (lv_at hl 3 rfl) ?_
                          refine lv_aload_n C.x C.b dL_law_782 rfl (lv_at hl 1 rfl) ?_
                          refine lv_iload C.x C.b dL_law_783 (lv_at hl 5 rfl) ?_
                          refine lv_iconst (v := 1) C.x C.b dL_law_785 (by decide) ?_
                          refine lv_iadd C.x C.b dL_law_786 ?_
                          refine a_Li C hS dL_law_787 hw (fun v142 hw => ?_)
                          refine a_mI (rest := []) (As := [.int v142]) C hS hl hw (fun ad u wb Q hI h => kM_tick C.tr hI h) q1634 q1635 q1636 q88 q1637 (by decide +kernel : gNm yX5_tick 1 = true) rfl (Nat.le_of_ble_eq_true rfl) (Nat.le_of_ble_eq_true rfl) rfl (Nat.le_of_ble_eq_true rfl) dL_law_788 (fun r144 w143 H locs hw hS => ?_)
                          refine lv_istore (lv' := [(6, .int r144), (5, .int r141), (0, .ref x0), (1, .ref x1), (2, .ref x2), (3, .ref x3), (4, .int x4)]) C.x C.b dL_law_791 hl (by decide) rfl (fun ls hl => ?_)
                          refine lv_aload_n C.x C.b dL_law_793 rfl (lv_at hl 4 rfl) ?_
                          refine a_mI (rest := []) (As := []) C hS hl hw (fun ad u wb Q hI h => kM_thrown C.tr hI h) q1527 q1528 q1529 q88 q1530 (by decide +kernel : gNm yX5_thrown 0 = true) rfl (Nat.le_of_ble_eq_true rfl) (Nat.le_of_ble_eq_true rfl) rfl (Nat.le_of_ble_eq_true rfl) dL_law_794 (fun r146 w145 H locs hw hS => ?_)
                          refine lv_iload C.x C.b dL_law_797 (lv_at hl 1 rfl) ?_
                          refine lv_icmp_eq (tgt := 804) C.x C.b dL_law_799 (by decide) (fun c147 => ?_) (fun c147 => ?_)
                          · have hw := hw.1 c147
                            refine lv_iload C.x C.b dL_law_804 (lv_at hl 1 rfl) ?_
                            refine lv_if_ne (tgt := 821) C.x C.b dL_law_806 (by decide) (fun c148 => ?_) (fun c148 => ?_)
                            · have hw := hw.2 c148
                              exact kJ_L_law_821 C ih _ _ _ _ _ _ _ _ _ hS (lv_sub hl [2, 3, 4, 5, 6] rfl) hw
                            · have hw := hw.1 c148
                              refine lv_aload_n C.x C.b dL_law_809 rfl (lv_at hl 5 rfl) ?_
                              refine lv_iconst (v := 0) C.x C.b dL_law_810 (by decide) ?_
                              refine a_Lj C hS dL_law_811 hw (fun v149 hw => ?_)
                              refine lv_iload C.x C.b dL_law_812 (lv_at hl 0 rfl) ?_
                              refine lv_i2l C.x C.b dL_law_814 rfl ?_
                              refine W.lcmp C.x C.b dL_law_815 ?_
                              refine lv_if_eq (tgt := 821) C.x C.b dL_law_816 (by decide) (fun c150 => ?_) (fun c150 => ?_)
                              · have hw := hw.1 c150
                                exact kJ_L_law_821 C ih _ _ _ _ _ _ _ _ _ hS (lv_sub hl [2, 3, 4, 5, 6] rfl) hw
                              · have hw := hw.2 c150
                                refine lv_iconst (v := 0) C.x C.b dL_law_819 (by decide) ?_
                                exact g_zret C hS rfl ⟨_, rfl, hw⟩ dL_law_820
                          · have hw := hw.2 c147
                            refine lv_iconst (v := 0) C.x C.b dL_law_802 (by decide) ?_
                            exact g_zret C hS rfl ⟨_, rfl, hw⟩ dL_law_803
                        · have hw := hw.2 c39_9
                          rcases Decidable.em ((v12 &&& 31) = 10) with c39_10 | c39_10
                          · have hw := hw.1 c39_10
                            rw [c39_10]
                            refine lv_tableIn (tgt := 824) (off := 785) C.x C.b dL_law_39 (by decide) (by decide) rfl (by decide) ?_
                            refine lv_aload_n C.x C.b dL_law_824 rfl (lv_at hl 1 rfl) ?_
                            obtain ⟨fs, hq, hw⟩ := hw
                            refine a_callV (rest := []) C hS hl 0 hq rfl (kJ_X1_time C.tr hw) q364 q365 q366 q77 q367 ny_X1_time rfl (Nat.le_of_ble_eq_true rfl) (Nat.le_of_ble_eq_true rfl) rfl (Nat.le_of_ble_eq_true rfl) dL_law_825 (fun X1 w1 H1 l1 q1 ce hx => hx.elim) (fun v w151 H locs hq _ hS => ?_)
                            obtain ⟨r152, rfl, hw⟩ := hq
                            refine W.eq (g2 := F0 m 828 ls [.int r152]) rfl ?_
                            refine lv_aload_n C.x C.b dL_law_828 rfl (lv_at hl 2 rfl) ?_
                            refine a_mI (rest := [.int r152]) (As := []) C hS hl hw (fun ad u wb Q hI h => kM_time C.tr hI h) q1702 q1703 q1704 q88 q1705 (by decide +kernel : gNm yX5_time 0 = true) rfl (Nat.le_of_ble_eq_true rfl) (Nat.le_of_ble_eq_true rfl) rfl (Nat.le_of_ble_eq_true rfl) dL_law_829 (fun r154 w153 H locs hw hS => ?_)
                            refine lv_icmp_eq (tgt := 1563) C.x C.b dL_law_832 (by decide) (fun c155 => ?_) (fun c155 => ?_)
                            · have hw := hw.1 c155
                              exact kJ_L_law_1563 C ih _ _ _ _ _ _ _ _ _ hS (lv_sub hl [0, 1, 2, 3, 4] rfl) hw
                            · have hw := hw.2 c155
                              refine lv_iconst (v := 0) C.x C.b dL_law_835 (by decide) ?_
                              exact g_zret C hS rfl ⟨_, rfl, hw⟩ dL_law_836
                          · have hw := hw.2 c39_10
                            rcases Decidable.em ((v12 &&& 31) = 11) with c39_11 | c39_11
                            · have hw := hw.1 c39_11
                              rw [c39_11]
                              refine lv_tableIn (tgt := 837) (off := 798) C.x C.b dL_law_39 (by decide) (by decide) rfl (by decide) ?_
                              refine lv_aload_n C.x C.b dL_law_837 rfl (lv_at hl 1 rfl) ?_
                              refine lv_aload_n C.x C.b dL_law_838 rfl (lv_at hl 0 rfl) ?_
                              refine lv_iload C.x C.b dL_law_839 (lv_at hl 4 rfl) ?_
                              refine lv_iconst (v := 1) C.x C.b dL_law_841 (by decide) ?_
                              refine lv_iadd C.x C.b dL_law_842 ?_
                              refine a_Li C hS dL_law_843 hw (fun v156 hw => ?_)
                              refine lv_aload_n C.x C.b dL_law_844 rfl (lv_at hl 0 rfl) ?_
                              refine lv_iload C.x C.b dL_law_845 (lv_at hl 4 rfl) ?_
                              refine lv_iconst (v := 2) C.x C.b dL_law_847 (by decide) ?_
                              refine lv_iadd C.x C.b dL_law_848 ?_
                              refine a_Li C hS dL_law_849 hw (fun v157 hw => ?_)
                              refine lv_aload_n C.x C.b dL_law_850 rfl (lv_at hl 3 rfl) ?_
                              refine g_callSH (rest := []) C hS hl (kJ_X0_send C.tr hw) q1358 q1359 q76 q1360 ny_X0_send rfl (Nat.le_of_ble_eq_true rfl) (Nat.le_of_ble_eq_true rfl) rfl (Nat.le_of_ble_eq_true rfl) dL_law_851 (fun X1 w1 H1 l1 q1 ce hx => hx.elim) (fun v w158 H locs hq _ hS => ?_)
                              obtain ⟨r159, rfl, hw⟩ := hq
                              refine W.eq (g2 := F0 m 854 ls [.int r159]) rfl ?_
                              refine lv_istore (lv' := [(5, .int r159), (0, .ref x0), (1, .ref x1), (2, .ref x2), (3, .ref x3), (4, .int x4)]) C.x C.b dL_law_854 hl (by decide) rfl (fun ls hl => ?_)
                              refine lv_aload_n C.x C.b dL_law_856 rfl (lv_at hl 3 rfl) ?_
                              refine lv_aload_n C.x C.b dL_law_857 rfl (lv_at hl 1 rfl) ?_
                              refine lv_iload C.x C.b dL_law_858 (lv_at hl 5 rfl) ?_
                              refine lv_iconst (v := 1) C.x C.b dL_law_860 (by decide) ?_
                              refine lv_iadd C.x C.b dL_law_861 ?_
                              refine a_Li C hS dL_law_862 hw (fun v160 hw => ?_)
                              refine lv_aload_n C.x C.b dL_law_863 rfl (lv_at hl 1 rfl) ?_
                              refine lv_iload C.x C.b dL_law_864 (lv_at hl 5 rfl) ?_
                              refine lv_iconst (v := 2) C.x C.b dL_law_866 (by decide) ?_
                              refine lv_iadd C.x C.b dL_law_867 ?_
                              refine a_Li C hS dL_law_868 hw (fun v161 hw => ?_)
                              refine a_mI (rest := []) (As := [.int v160, .int v161]) C hS hl hw (fun ad u wb Q hI h => kM_send C.tr hI h) q1706 q1707 q1708 q88 q1709 (by decide +kernel : gNm yX5_send 2 = true) rfl (Nat.le_of_ble_eq_true rfl) (Nat.le_of_ble_eq_true rfl) rfl (Nat.le_of_ble_eq_true rfl) dL_law_869 (fun r163 w162 H locs hw hS => ?_)
                              refine lv_istore (lv' := [(6, .int r163), (5, .int r159), (0, .ref x0), (1, .ref x1), (2, .ref x2), (3, .ref x3), (4, .int x4)]) C.x C.b dL_law_872 hl (by decide) rfl (fun ls hl => ?_)
                              refine lv_aload_n C.x C.b dL_law_874 rfl (lv_at hl 4 rfl) ?_
                              refine a_mI (rest := []) (As := []) C hS hl hw (fun ad u wb Q hI h => kM_thrown C.tr hI h) q1527 q1528 q1529 q88 q1530 (by decide +kernel : gNm yX5_thrown 0 = true) rfl (Nat.le_of_ble_eq_true rfl) (Nat.le_of_ble_eq_true rfl) rfl (Nat.le_of_ble_eq_true rfl) dL_law_875 (fun r165 w164 H locs hw hS => ?_)
                              refine lv_iload C.x C.b dL_law_878 (lv_at hl 1 rfl) ?_
                              refine lv_icmp_eq (tgt := 885) C.x C.b dL_law_880 (by decide) (fun c166 => ?_) (fun c166 => ?_)
                              · have hw := hw.1 c166
                                refine lv_iload C.x C.b dL_law_885 (lv_at hl 1 rfl) ?_
                                refine lv_if_ne (tgt := 902) C.x C.b dL_law_887 (by decide) (fun c167 => ?_) (fun c167 => ?_)
                                · have hw := hw.2 c167
                                  exact kJ_L_law_902 C ih _ _ _ _ _ _ _ _ _ hS (lv_sub hl [2, 3, 4, 5, 6] rfl) hw
                                · have hw := hw.1 c167
                                  refine lv_aload_n C.x C.b dL_law_890 rfl (lv_at hl 5 rfl) ?_
                                  refine lv_iconst (v := 0) C.x C.b dL_law_891 (by decide) ?_
                                  refine a_Lj C hS dL_law_892 hw (fun v168 hw => ?_)
                                  refine lv_iload C.x C.b dL_law_893 (lv_at hl 0 rfl) ?_
                                  refine lv_i2l C.x C.b dL_law_895 rfl ?_
                                  refine W.lcmp C.x C.b dL_law_896 ?_
                                  refine lv_if_eq (tgt := 902) C.x C.b dL_law_897 (by decide) (fun c169 => ?_) (fun c169 => ?_)
                                  · have hw := hw.1 c169
                                    exact kJ_L_law_902 C ih _ _ _ _ _ _ _ _ _ hS (lv_sub hl [2, 3, 4, 5, 6] rfl) hw
                                  · have hw := hw.2 c169
                                    refine lv_iconst (v := 0) C.x C.b dL_law_900 (by decide) ?_
                                    exact g_zret C hS rfl ⟨_, rfl, hw⟩ dL_law_901
                              · have hw := hw.2 c166
                                refine lv_iconst (v := 0) C.x C.b dL_law_883 (by decide) ?_
                                exact g_zret C hS rfl ⟨_, rfl, hw⟩ dL_law_884
                            · have hw := hw.2 c39_11
                              rcases Decidable.em ((v12 &&& 31) = 12) with c39_12 | c39_12
                              · have hw := hw.1 c39_12
                                rw [c39_12]
                                refine lv_tableIn (tgt := 905) (off := 866) C.x C.b dL_law_39 (by decide) (by decide) rfl (by decide) ?_
                                refine lv_aload_n C.x C.b dL_law_905 rfl (lv_at hl 1 rfl) ?_
                                refine lv_aload_n C.x C.b dL_law_906 rfl (lv_at hl 0 rfl) ?_
                                refine lv_iload C.x C.b dL_law_907 (lv_at hl 4 rfl) ?_
                                refine lv_iconst (v := 1) C.x C.b dL_law_909 (by decide) ?_
                                refine lv_iadd C.x C.b dL_law_910 ?_
                                refine a_Li C hS dL_law_911 hw (fun v170 hw => ?_)
                                refine lv_aload_n C.x C.b dL_law_912 rfl (lv_at hl 0 rfl) ?_
                                refine lv_iload C.x C.b dL_law_913 (lv_at hl 4 rfl) ?_
                                refine lv_iconst (v := 2) C.x C.b dL_law_915 (by decide) ?_
                                refine lv_iadd C.x C.b dL_law_916 ?_
                                refine a_Li C hS dL_law_917 hw (fun v171 hw => ?_)
                                refine lv_aload_n C.x C.b dL_law_918 rfl (lv_at hl 3 rfl) ?_
                                refine g_callSH (rest := []) C hS hl (kJ_X0_bridge C.tr hw) q1380 q1381 q76 q1382 ny_X0_bridge rfl (Nat.le_of_ble_eq_true rfl) (Nat.le_of_ble_eq_true rfl) rfl (Nat.le_of_ble_eq_true rfl) dL_law_919 (fun X1 w1 H1 l1 q1 ce hx => hx.elim) (fun v w172 H locs hq _ hS => ?_)
                                obtain ⟨r173, rfl, hw⟩ := hq
                                refine W.eq (g2 := F0 m 922 ls [.int r173]) rfl ?_
                                refine lv_istore (lv' := [(5, .int r173), (0, .ref x0), (1, .ref x1), (2, .ref x2), (3, .ref x3), (4, .int x4)]) C.x C.b dL_law_922 hl (by decide) rfl (fun ls hl => ?_)
                                refine lv_aload_n C.x C.b dL_law_924 rfl (lv_at hl 3 rfl) ?_
                                refine lv_aload_n C.x C.b dL_law_925 rfl (lv_at hl 1 rfl) ?_
                                refine lv_iload C.x C.b dL_law_926 (lv_at hl 5 rfl) ?_
                                refine lv_iconst (v := 1) C.x C.b dL_law_928 (by decide) ?_
                                refine lv_iadd C.x C.b dL_law_929 ?_
                                refine a_Li C hS dL_law_930 hw (fun v174 hw => ?_)
                                refine lv_aload_n C.x C.b dL_law_931 rfl (lv_at hl 1 rfl) ?_
                                refine lv_iload C.x C.b dL_law_932 (lv_at hl 5 rfl) ?_
                                refine lv_iconst (v := 2) C.x C.b dL_law_934 (by decide) ?_
                                refine lv_iadd C.x C.b dL_law_935 ?_
                                refine a_Li C hS dL_law_936 hw (fun v175 hw => ?_)
                                refine a_mI (rest := []) (As := [.int v174, .int v175]) C hS hl hw (fun ad u wb Q hI h => kM_bridge C.tr hI h) q1718 q1719 q1720 q88 q1721 (by decide +kernel : gNm yX5_bridge 2 = true) rfl (Nat.le_of_ble_eq_true rfl) (Nat.le_of_ble_eq_true rfl) rfl (Nat.le_of_ble_eq_true rfl) dL_law_937 (fun r177 w176 H locs hw hS => ?_)
                                refine lv_istore (lv' := [(6, .int r177), (5, .int r173), (0, .ref x0), (1, .ref x1), (2, .ref x2), (3, .ref x3), (4, .int x4)]) C.x C.b dL_law_940 hl (by decide) rfl (fun ls hl => ?_)
                                refine lv_aload_n C.x C.b dL_law_942 rfl (lv_at hl 4 rfl) ?_
                                refine a_mI (rest := []) (As := []) C hS hl hw (fun ad u wb Q hI h => kM_thrown C.tr hI h) q1527 q1528 q1529 q88 q1530 (by decide +kernel : gNm yX5_thrown 0 = true) rfl (Nat.le_of_ble_eq_true rfl) (Nat.le_of_ble_eq_true rfl) rfl (Nat.le_of_ble_eq_true rfl) dL_law_943 (fun r179 w178 H locs hw hS => ?_)
                                refine lv_iload C.x C.b dL_law_946 (lv_at hl 1 rfl) ?_
                                refine lv_icmp_eq (tgt := 953) C.x C.b dL_law_948 (by decide) (fun c180 => ?_) (fun c180 => ?_)
                                · have hw := hw.1 c180
                                  refine lv_iload C.x C.b dL_law_953 (lv_at hl 1 rfl) ?_
                                  refine lv_if_ne (tgt := 970) C.x C.b dL_law_955 (by decide) (fun c181 => ?_) (fun c181 => ?_)
                                  · have hw := hw.2 c181
                                    exact kJ_L_law_970 C ih _ _ _ _ _ _ _ _ _ hS (lv_sub hl [2, 3, 4, 5, 6] rfl) hw
                                  · have hw := hw.1 c181
                                    refine lv_aload_n C.x C.b dL_law_958 rfl (lv_at hl 5 rfl) ?_
                                    refine lv_iconst (v := 0) C.x C.b dL_law_959 (by decide) ?_
                                    refine a_Lj C hS dL_law_960 hw (fun v182 hw => ?_)
                                    refine lv_iload C.x C.b dL_law_961 (lv_at hl 0 rfl) ?_
                                    refine lv_i2l C.x C.b dL_law_963 rfl ?_
                                    refine W.lcmp C.x C.b dL_law_964 ?_
                                    refine lv_if_eq (tgt := 970) C.x C.b dL_law_965 (by decide) (fun c183 => ?_) (fun c183 => ?_)
                                    · have hw := hw.1 c183
                                      exact kJ_L_law_970 C ih _ _ _ _ _ _ _ _ _ hS (lv_sub hl [2, 3, 4, 5, 6] rfl) hw
                                    · have hw := hw.2 c183
                                      refine lv_iconst (v := 0) C.x C.b dL_law_968 (by decide) ?_
                                      exact g_zret C hS rfl ⟨_, rfl, hw⟩ dL_law_969
                                · have hw := hw.2 c180
                                  refine lv_iconst (v := 0) C.x C.b dL_law_951 (by decide) ?_
                                  exact g_zret C hS rfl ⟨_, rfl, hw⟩ dL_law_952
                              · have hw := hw.2 c39_12
                                rcases Decidable.em ((v12 &&& 31) = 13) with c39_13 | c39_13
                                · have hw := hw.1 c39_13
                                  rw [c39_13]
                                  refine lv_tableIn (tgt := 973) (off := 934) C.x C.b dL_law_39 (by decide) (by decide) rfl (by decide) ?_
                                  refine lv_aload_n C.x C.b dL_law_973 rfl (lv_at hl 1 rfl) ?_
                                  obtain ⟨fs, hq, hw⟩ := hw
                                  refine a_callV (rest := []) C hS hl 0 hq rfl (kJ_X1_links C.tr hw) q368 q369 q370 q77 q371 ny_X1_links rfl (Nat.le_of_ble_eq_true rfl) (Nat.le_of_ble_eq_true rfl) rfl (Nat.le_of_ble_eq_true rfl) dL_law_974 (fun X1 w1 H1 l1 q1 ce hx => hx.elim) (fun v w184 H locs hq _ hS => ?_)
                                  obtain ⟨r185, rfl, hw⟩ := hq
                                  refine W.eq (g2 := F0 m 977 ls [.int r185]) rfl ?_
                                  refine lv_aload_n C.x C.b dL_law_977 rfl (lv_at hl 2 rfl) ?_
                                  refine a_mI (rest := [.int r185]) (As := []) C hS hl hw (fun ad u wb Q hI h => kM_links C.tr hI h) q1730 q1731 q1732 q88 q1733 (by decide +kernel : gNm yX5_links 0 = true) rfl (Nat.le_of_ble_eq_true rfl) (Nat.le_of_ble_eq_true rfl) rfl (Nat.le_of_ble_eq_true rfl) dL_law_978 (fun r187 w186 H locs hw hS => ?_)
                                  refine lv_icmp_eq (tgt := 1563) C.x C.b dL_law_981 (by decide) (fun c188 => ?_) (fun c188 => ?_)
                                  · have hw := hw.1 c188
                                    exact kJ_L_law_1563 C ih _ _ _ _ _ _ _ _ _ hS (lv_sub hl [0, 1, 2, 3, 4] rfl) hw
                                  · have hw := hw.2 c188
                                    refine lv_iconst (v := 0) C.x C.b dL_law_984 (by decide) ?_
                                    exact g_zret C hS rfl ⟨_, rfl, hw⟩ dL_law_985
                                · have hw := hw.2 c39_13
                                  rcases Decidable.em ((v12 &&& 31) = 14) with c39_14 | c39_14
                                  · have hw := hw.1 c39_14
                                    rw [c39_14]
                                    refine lv_tableIn (tgt := 986) (off := 947) C.x C.b dL_law_39 (by decide) (by decide) rfl (by decide) ?_
                                    refine lv_aload_n C.x C.b dL_law_986 rfl (lv_at hl 1 rfl) ?_
                                    refine lv_aload_n C.x C.b dL_law_987 rfl (lv_at hl 0 rfl) ?_
                                    refine lv_iload C.x C.b dL_law_988 (lv_at hl 4 rfl) ?_
                                    refine lv_iconst (v := 1) C.x C.b dL_law_990 (by decide) ?_
                                    refine lv_iadd C.x C.b dL_law_991 ?_
                                    refine a_Li C hS dL_law_992 hw (fun v189 hw => ?_)
                                    refine lv_aload_n C.x C.b dL_law_993 rfl (lv_at hl 0 rfl) ?_
                                    refine lv_iload C.x C.b dL_law_994 (lv_at hl 4 rfl) ?_
                                    refine lv_iconst (v := 2) C.x C.b dL_law_996 (by decide) ?_
                                    refine lv_iadd C.x C.b dL_law_997 ?_
                                    refine a_Li C hS dL_law_998 hw (fun v190 hw => ?_)
                                    refine lv_aload_n C.x C.b dL_law_999 rfl (lv_at hl 3 rfl) ?_
                                    refine g_callSH (rest := []) C hS hl (kJ_X0_link C.tr hw) q1389 q1390 q76 q1391 ny_X0_link rfl (Nat.le_of_ble_eq_true rfl) (Nat.le_of_ble_eq_true rfl) rfl (Nat.le_of_ble_eq_true rfl) dL_law_1000 (fun X1 w1 H1 l1 q1 ce hx => hx.elim) (fun v w191 H locs hq _ hS => ?_)
                                    obtain ⟨r192, rfl, hw⟩ := hq
                                    refine W.eq (g2 := F0 m 1003 ls [.int r192]) rfl ?_
                                    refine lv_istore (lv' := [(5, .int r192), (0, .ref x0), (1, .ref x1), (2, .ref x2), (3, .ref x3), (4, .int x4)]) C.x C.b dL_law_1003 hl (by decide) rfl (fun ls hl => ?_)
                                    refine lv_aload_n C.x C.b dL_law_1005 rfl (lv_at hl 3 rfl) ?_
                                    refine lv_aload_n C.x C.b dL_law_1006 rfl (lv_at hl 1 rfl) ?_
                                    refine lv_iload C.x C.b dL_law_1007 (lv_at hl 5 rfl) ?_
                                    refine lv_iconst (v := 1) C.x C.b dL_law_1009 (by decide) ?_
                                    refine lv_iadd C.x C.b dL_law_1010 ?_
                                    refine a_Li C hS dL_law_1011 hw (fun v193 hw => ?_)
                                    refine lv_aload_n C.x C.b dL_law_1012 rfl (lv_at hl 1 rfl) ?_
                                    refine lv_iload C.x C.b dL_law_1013 (lv_at hl 5 rfl) ?_
                                    refine lv_iconst (v := 2) C.x C.b dL_law_1015 (by decide) ?_
                                    refine lv_iadd C.x C.b dL_law_1016 ?_
                                    refine a_Li C hS dL_law_1017 hw (fun v194 hw => ?_)
                                    refine a_mI (rest := []) (As := [.int v193, .int v194]) C hS hl hw (fun ad u wb Q hI h => kM_link C.tr hI h) q1734 q1735 q1736 q88 q1737 (by decide +kernel : gNm yX5_link 2 = true) rfl (Nat.le_of_ble_eq_true rfl) (Nat.le_of_ble_eq_true rfl) rfl (Nat.le_of_ble_eq_true rfl) dL_law_1018 (fun r196 w195 H locs hw hS => ?_)
                                    refine lv_istore (lv' := [(6, .int r196), (5, .int r192), (0, .ref x0), (1, .ref x1), (2, .ref x2), (3, .ref x3), (4, .int x4)]) C.x C.b dL_law_1021 hl (by decide) rfl (fun ls hl => ?_)
                                    refine lv_aload_n C.x C.b dL_law_1023 rfl (lv_at hl 4 rfl) ?_
                                    refine a_mI (rest := []) (As := []) C hS hl hw (fun ad u wb Q hI h => kM_thrown C.tr hI h) q1527 q1528 q1529 q88 q1530 (by decide +kernel : gNm yX5_thrown 0 = true) rfl (Nat.le_of_ble_eq_true rfl) (Nat.le_of_ble_eq_true rfl) rfl (Nat.le_of_ble_eq_true rfl) dL_law_1024 (fun r198 w197 H locs hw hS => ?_)
                                    refine lv_iload C.x C.b dL_law_1027 (lv_at hl 1 rfl) ?_
                                    refine lv_icmp_eq (tgt := 1034) C.x C.b dL_law_1029 (by decide) (fun c199 => ?_) (fun c199 => ?_)
                                    · have hw := hw.1 c199
                                      refine lv_iload C.x C.b dL_law_1034 (lv_at hl 1 rfl) ?_
                                      refine lv_if_ne (tgt := 1051) C.x C.b dL_law_1036 (by decide) (fun c200 => ?_) (fun c200 => ?_)
                                      · have hw := hw.2 c200
                                        exact kJ_L_law_1051 C ih _ _ _ _ _ _ _ _ _ hS (lv_sub hl [2, 3, 4, 5, 6] rfl) hw
                                      · have hw := hw.1 c200
                                        refine lv_aload_n C.x C.b dL_law_1039 rfl (lv_at hl 5 rfl) ?_
                                        refine lv_iconst (v := 0) C.x C.b dL_law_1040 (by decide) ?_
                                        refine a_Lj C hS dL_law_1041 hw (fun v201 hw => ?_)
                                        refine lv_iload C.x C.b dL_law_1042 (lv_at hl 0 rfl) ?_
                                        refine lv_i2l C.x C.b dL_law_1044 rfl ?_
                                        refine W.lcmp C.x C.b dL_law_1045 ?_
                                        refine lv_if_eq (tgt := 1051) C.x C.b dL_law_1046 (by decide) (fun c202 => ?_) (fun c202 => ?_)
                                        · have hw := hw.1 c202
                                          exact kJ_L_law_1051 C ih _ _ _ _ _ _ _ _ _ hS (lv_sub hl [2, 3, 4, 5, 6] rfl) hw
                                        · have hw := hw.2 c202
                                          refine lv_iconst (v := 0) C.x C.b dL_law_1049 (by decide) ?_
                                          exact g_zret C hS rfl ⟨_, rfl, hw⟩ dL_law_1050
                                    · have hw := hw.2 c199
                                      refine lv_iconst (v := 0) C.x C.b dL_law_1032 (by decide) ?_
                                      exact g_zret C hS rfl ⟨_, rfl, hw⟩ dL_law_1033
                                  · have hw := hw.2 c39_14
                                    rcases Decidable.em ((v12 &&& 31) = 15) with c39_15 | c39_15
                                    · have hw := hw.1 c39_15
                                      rw [c39_15]
                                      refine lv_tableIn (tgt := 1054) (off := 1015) C.x C.b dL_law_39 (by decide) (by decide) rfl (by decide) ?_
                                      refine lv_aload_n C.x C.b dL_law_1054 rfl (lv_at hl 1 rfl) ?_
                                      refine lv_aload_n C.x C.b dL_law_1055 rfl (lv_at hl 0 rfl) ?_
                                      refine lv_iload C.x C.b dL_law_1056 (lv_at hl 4 rfl) ?_
                                      refine lv_iconst (v := 1) C.x C.b dL_law_1058 (by decide) ?_
                                      refine lv_iadd C.x C.b dL_law_1059 ?_
                                      refine a_Li C hS dL_law_1060 hw (fun v203 hw => ?_)
                                      refine lv_aload_n C.x C.b dL_law_1061 rfl (lv_at hl 0 rfl) ?_
                                      refine lv_iload C.x C.b dL_law_1062 (lv_at hl 4 rfl) ?_
                                      refine lv_iconst (v := 2) C.x C.b dL_law_1064 (by decide) ?_
                                      refine lv_iadd C.x C.b dL_law_1065 ?_
                                      refine a_Li C hS dL_law_1066 hw (fun v204 hw => ?_)
                                      refine lv_if_eq (tgt := 1074) C.x C.b dL_law_1067 (by decide) (fun c205 => ?_) (fun c205 => ?_)
                                      · have hw := hw.1 c205
                                        refine lv_iconst (v := 0) C.x C.b dL_law_1074 (by decide) ?_
                                        exact kJ_L_law_1075 C ih _ _ _ _ _ _ _ _ _ _ _ _ hS (lv_sub hl [0, 1, 2, 3, 4] rfl) hw
                                      · have hw := hw.2 c205
                                        refine lv_iconst (v := 1) C.x C.b dL_law_1070 (by decide) ?_
                                        refine lv_goto (tgt := 1075) C.x C.b dL_law_1071 (by decide) ?_
                                        exact kJ_L_law_1075 C ih _ _ _ _ _ _ _ _ _ _ _ _ hS (lv_sub hl [0, 1, 2, 3, 4] rfl) hw
                                    · have hw := hw.2 c39_15
                                      rcases Decidable.em ((v12 &&& 31) = 16) with c39_16 | c39_16
                                      · have hw := hw.1 c39_16
                                        rw [c39_16]
                                        refine lv_tableIn (tgt := 1150) (off := 1111) C.x C.b dL_law_39 (by decide) (by decide) rfl (by decide) ?_
                                        refine lv_aload_n C.x C.b dL_law_1150 rfl (lv_at hl 1 rfl) ?_
                                        refine lv_aload_n C.x C.b dL_law_1151 rfl (lv_at hl 0 rfl) ?_
                                        refine lv_iload C.x C.b dL_law_1152 (lv_at hl 4 rfl) ?_
                                        refine lv_iconst (v := 1) C.x C.b dL_law_1154 (by decide) ?_
                                        refine lv_iadd C.x C.b dL_law_1155 ?_
                                        refine a_Li C hS dL_law_1156 hw (fun v206 hw => ?_)
                                        refine lv_aload_n C.x C.b dL_law_1157 rfl (lv_at hl 0 rfl) ?_
                                        refine lv_iload C.x C.b dL_law_1158 (lv_at hl 4 rfl) ?_
                                        refine lv_iconst (v := 2) C.x C.b dL_law_1160 (by decide) ?_
                                        refine lv_iadd C.x C.b dL_law_1161 ?_
                                        refine a_Li C hS dL_law_1162 hw (fun v207 hw => ?_)
                                        refine lv_aload_n C.x C.b dL_law_1163 rfl (lv_at hl 3 rfl) ?_
                                        refine g_callSH (rest := []) C hS hl (kJ_X0_entry C.tr hw) q1404 q1405 q76 q1406 ny_X0_entry rfl (Nat.le_of_ble_eq_true rfl) (Nat.le_of_ble_eq_true rfl) rfl (Nat.le_of_ble_eq_true rfl) dL_law_1164 (fun X1 w1 H1 l1 q1 ce hx => hx.elim) (fun v w208 H locs hq _ hS => ?_)
                                        obtain ⟨r209, rfl, hw⟩ := hq
                                        refine W.eq (g2 := F0 m 1167 ls [.int r209]) rfl ?_
                                        refine lv_istore (lv' := [(5, .int r209), (0, .ref x0), (1, .ref x1), (2, .ref x2), (3, .ref x3), (4, .int x4)]) C.x C.b dL_law_1167 hl (by decide) rfl (fun ls hl => ?_)
                                        refine lv_aload_n C.x C.b dL_law_1169 rfl (lv_at hl 3 rfl) ?_
                                        refine lv_aload_n C.x C.b dL_law_1170 rfl (lv_at hl 1 rfl) ?_
                                        refine lv_iload C.x C.b dL_law_1171 (lv_at hl 5 rfl) ?_
                                        refine lv_iconst (v := 1) C.x C.b dL_law_1173 (by decide) ?_
                                        refine lv_iadd C.x C.b dL_law_1174 ?_
                                        refine a_Li C hS dL_law_1175 hw (fun v210 hw => ?_)
                                        refine lv_aload_n C.x C.b dL_law_1176 rfl (lv_at hl 1 rfl) ?_
                                        refine lv_iload C.x C.b dL_law_1177 (lv_at hl 5 rfl) ?_
                                        refine lv_iconst (v := 2) C.x C.b dL_law_1179 (by decide) ?_
                                        refine lv_iadd C.x C.b dL_law_1180 ?_
                                        refine a_Li C hS dL_law_1181 hw (fun v211 hw => ?_)
                                        refine a_mI (rest := []) (As := [.int v210, .int v211]) C hS hl hw (fun ad u wb Q hI h => kM_entry C.tr hI h) q1746 q1747 q1748 q88 q1749 (by decide +kernel : gNm yX5_entry 2 = true) rfl (Nat.le_of_ble_eq_true rfl) (Nat.le_of_ble_eq_true rfl) rfl (Nat.le_of_ble_eq_true rfl) dL_law_1182 (fun r213 w212 H locs hw hS => ?_)
                                        refine lv_istore (lv' := [(6, .int r213), (5, .int r209), (0, .ref x0), (1, .ref x1), (2, .ref x2), (3, .ref x3), (4, .int x4)]) C.x C.b dL_law_1185 hl (by decide) rfl (fun ls hl => ?_)
                                        refine lv_aload_n C.x C.b dL_law_1187 rfl (lv_at hl 4 rfl) ?_
                                        refine a_mI (rest := []) (As := []) C hS hl hw (fun ad u wb Q hI h => kM_thrown C.tr hI h) q1527 q1528 q1529 q88 q1530 (by decide +kernel : gNm yX5_thrown 0 = true) rfl (Nat.le_of_ble_eq_true rfl) (Nat.le_of_ble_eq_true rfl) rfl (Nat.le_of_ble_eq_true rfl) dL_law_1188 (fun r215 w214 H locs hw hS => ?_)
                                        refine lv_iload C.x C.b dL_law_1191 (lv_at hl 1 rfl) ?_
                                        refine lv_icmp_eq (tgt := 1198) C.x C.b dL_law_1193 (by decide) (fun c216 => ?_) (fun c216 => ?_)
                                        · have hw := hw.1 c216
                                          refine lv_iload C.x C.b dL_law_1198 (lv_at hl 1 rfl) ?_
                                          refine lv_if_ne (tgt := 1215) C.x C.b dL_law_1200 (by decide) (fun c217 => ?_) (fun c217 => ?_)
                                          · have hw := hw.2 c217
                                            exact kJ_L_law_1215 C ih _ _ _ _ _ _ _ _ _ hS (lv_sub hl [2, 3, 4, 5, 6] rfl) hw
                                          · have hw := hw.1 c217
                                            refine lv_aload_n C.x C.b dL_law_1203 rfl (lv_at hl 5 rfl) ?_
                                            refine lv_iconst (v := 0) C.x C.b dL_law_1204 (by decide) ?_
                                            refine a_Lj C hS dL_law_1205 hw (fun v218 hw => ?_)
                                            refine lv_iload C.x C.b dL_law_1206 (lv_at hl 0 rfl) ?_
                                            refine lv_i2l C.x C.b dL_law_1208 rfl ?_
                                            refine W.lcmp C.x C.b dL_law_1209 ?_
                                            refine lv_if_eq (tgt := 1215) C.x C.b dL_law_1210 (by decide) (fun c219 => ?_) (fun c219 => ?_)
                                            · have hw := hw.1 c219
                                              exact kJ_L_law_1215 C ih _ _ _ _ _ _ _ _ _ hS (lv_sub hl [2, 3, 4, 5, 6] rfl) hw
                                            · have hw := hw.2 c219
                                              refine lv_iconst (v := 0) C.x C.b dL_law_1213 (by decide) ?_
                                              exact g_zret C hS rfl ⟨_, rfl, hw⟩ dL_law_1214
                                        · have hw := hw.2 c216
                                          refine lv_iconst (v := 0) C.x C.b dL_law_1196 (by decide) ?_
                                          exact g_zret C hS rfl ⟨_, rfl, hw⟩ dL_law_1197
                                      · have hw := hw.2 c39_16
                                        rcases Decidable.em ((v12 &&& 31) = 17) with c39_17 | c39_17
                                        · have hw := hw.1 c39_17
                                          rw [c39_17]
                                          refine lv_tableIn (tgt := 1218) (off := 1179) C.x C.b dL_law_39 (by decide) (by decide) rfl (by decide) ?_
                                          refine lv_aload_n C.x C.b dL_law_1218 rfl (lv_at hl 1 rfl) ?_
                                          refine lv_aload_n C.x C.b dL_law_1219 rfl (lv_at hl 0 rfl) ?_
                                          refine lv_iload C.x C.b dL_law_1220 (lv_at hl 4 rfl) ?_
                                          refine lv_iconst (v := 1) C.x C.b dL_law_1222 (by decide) ?_
                                          refine lv_iadd C.x C.b dL_law_1223 ?_
                                          refine a_Li C hS dL_law_1224 hw (fun v220 hw => ?_)
                                          refine lv_aload_n C.x C.b dL_law_1225 rfl (lv_at hl 0 rfl) ?_
                                          refine lv_iload C.x C.b dL_law_1226 (lv_at hl 4 rfl) ?_
                                          refine lv_iconst (v := 2) C.x C.b dL_law_1228 (by decide) ?_
                                          refine lv_iadd C.x C.b dL_law_1229 ?_
                                          refine a_Li C hS dL_law_1230 hw (fun v221 hw => ?_)
                                          refine lv_aload_n C.x C.b dL_law_1231 rfl (lv_at hl 3 rfl) ?_
                                          refine g_callSH (rest := []) C hS hl (kJ_X0_tenant C.tr hw) q1414 q1415 q76 q1416 ny_X0_tenant rfl (Nat.le_of_ble_eq_true rfl) (Nat.le_of_ble_eq_true rfl) rfl (Nat.le_of_ble_eq_true rfl) dL_law_1232 (fun X1 w1 H1 l1 q1 ce hx => hx.elim) (fun v w222 H locs hq _ hS => ?_)
                                          obtain ⟨r223, rfl, hw⟩ := hq
                                          refine W.eq (g2 := F0 m 1235 ls [.int r223]) rfl ?_
                                          refine lv_istore (lv' := [(5, .int r223), (0, .ref x0), (1, .ref x1), (2, .ref x2), (3, .ref x3), (4, .int x4)]) C.x C.b dL_law_1235 hl (by decide) rfl (fun ls hl => ?_)
                                          refine lv_aload_n C.x C.b dL_law_1237 rfl (lv_at hl 3 rfl) ?_
                                          refine lv_aload_n C.x C.b dL_law_1238 rfl (lv_at hl 1 rfl) ?_
                                          refine lv_iload C.x C.b dL_law_1239 (lv_at hl 5 rfl) ?_
                                          refine lv_iconst (v := 1) C.x C.b dL_law_1241 (by decide) ?_
                                          refine lv_iadd C.x C.b dL_law_1242 ?_
                                          refine a_Li C hS dL_law_1243 hw (fun v224 hw => ?_)
                                          refine lv_aload_n C.x C.b dL_law_1244 rfl (lv_at hl 1 rfl) ?_
                                          refine lv_iload C.x C.b dL_law_1245 (lv_at hl 5 rfl) ?_
                                          refine lv_iconst (v := 2) C.x C.b dL_law_1247 (by decide) ?_
                                          refine lv_iadd C.x C.b dL_law_1248 ?_
                                          refine a_Li C hS dL_law_1249 hw (fun v225 hw => ?_)
                                          refine a_mI (rest := []) (As := [.int v224, .int v225]) C hS hl hw (fun ad u wb Q hI h => kM_tenant C.tr hI h) q1750 q1751 q1752 q88 q1753 (by decide +kernel : gNm yX5_tenant 2 = true) rfl (Nat.le_of_ble_eq_true rfl) (Nat.le_of_ble_eq_true rfl) rfl (Nat.le_of_ble_eq_true rfl) dL_law_1250 (fun r227 w226 H locs hw hS => ?_)
                                          refine lv_istore (lv' := [(6, .int r227), (5, .int r223), (0, .ref x0), (1, .ref x1), (2, .ref x2), (3, .ref x3), (4, .int x4)]) C.x C.b dL_law_1253 hl (by decide) rfl (fun ls hl => ?_)
                                          refine lv_aload_n C.x C.b dL_law_1255 rfl (lv_at hl 4 rfl) ?_
                                          refine a_mI (rest := []) (As := []) C hS hl hw (fun ad u wb Q hI h => kM_thrown C.tr hI h) q1527 q1528 q1529 q88 q1530 (by decide +kernel : gNm yX5_thrown 0 = true) rfl (Nat.le_of_ble_eq_true rfl) (Nat.le_of_ble_eq_true rfl) rfl (Nat.le_of_ble_eq_true rfl) dL_law_1256 (fun r229 w228 H locs hw hS => ?_)
                                          refine lv_iload C.x C.b dL_law_1259 (lv_at hl 1 rfl) ?_
                                          refine lv_icmp_eq (tgt := 1266) C.x C.b dL_law_1261 (by decide) (fun c230 => ?_) (fun c230 => ?_)
                                          · have hw := hw.1 c230
                                            refine lv_iload C.x C.b dL_law_1266 (lv_at hl 1 rfl) ?_
                                            refine lv_if_ne (tgt := 1283) C.x C.b dL_law_1268 (by decide) (fun c231 => ?_) (fun c231 => ?_)
                                            · have hw := hw.2 c231
                                              exact kJ_L_law_1283 C ih _ _ _ _ _ _ _ _ _ hS (lv_sub hl [2, 3, 4, 5, 6] rfl) hw
                                            · have hw := hw.1 c231
                                              refine lv_aload_n C.x C.b dL_law_1271 rfl (lv_at hl 5 rfl) ?_
                                              refine lv_iconst (v := 0) C.x C.b dL_law_1272 (by decide) ?_
                                              refine a_Lj C hS dL_law_1273 hw (fun v232 hw => ?_)
                                              refine lv_iload C.x C.b dL_law_1274 (lv_at hl 0 rfl) ?_
                                              refine lv_i2l C.x C.b dL_law_1276 rfl ?_
                                              refine W.lcmp C.x C.b dL_law_1277 ?_
                                              refine lv_if_eq (tgt := 1283) C.x C.b dL_law_1278 (by decide) (fun c233 => ?_) (fun c233 => ?_)
                                              · have hw := hw.1 c233
                                                exact kJ_L_law_1283 C ih _ _ _ _ _ _ _ _ _ hS (lv_sub hl [2, 3, 4, 5, 6] rfl) hw
                                              · have hw := hw.2 c233
                                                refine lv_iconst (v := 0) C.x C.b dL_law_1281 (by decide) ?_
                                                exact g_zret C hS rfl ⟨_, rfl, hw⟩ dL_law_1282
                                          · have hw := hw.2 c230
                                            refine lv_iconst (v := 0) C.x C.b dL_law_1264 (by decide) ?_
                                            exact g_zret C hS rfl ⟨_, rfl, hw⟩ dL_law_1265
                                        · have hw := hw.2 c39_17
                                          rcases Decidable.em ((v12 &&& 31) = 18) with c39_18 | c39_18
                                          · have hw := hw.1 c39_18
                                            rw [c39_18]
                                            refine lv_tableIn (tgt := 1286) (off := 1247) C.x C.b dL_law_39 (by decide) (by decide) rfl (by decide) ?_
                                            refine lv_aload_n C.x C.b dL_law_1286 rfl (lv_at hl 1 rfl) ?_
                                            refine lv_aload_n C.x C.b dL_law_1287 rfl (lv_at hl 0 rfl) ?_
                                            refine lv_iload C.x C.b dL_law_1288 (lv_at hl 4 rfl) ?_
                                            refine lv_iconst (v := 1) C.x C.b dL_law_1290 (by decide) ?_
                                            refine lv_iadd C.x C.b dL_law_1291 ?_
                                            refine a_Li C hS dL_law_1292 hw (fun v234 hw => ?_)
                                            refine lv_aload_n C.x C.b dL_law_1293 rfl (lv_at hl 0 rfl) ?_
                                            refine lv_iload C.x C.b dL_law_1294 (lv_at hl 4 rfl) ?_
                                            refine lv_iconst (v := 2) C.x C.b dL_law_1296 (by decide) ?_
                                            refine lv_iadd C.x C.b dL_law_1297 ?_
                                            refine a_Li C hS dL_law_1298 hw (fun v235 hw => ?_)
                                            refine lv_aload_n C.x C.b dL_law_1299 rfl (lv_at hl 3 rfl) ?_
                                            refine g_callSH (rest := []) C hS hl (kJ_X0_bidOf C.tr hw) q1421 q1422 q76 q1423 ny_X0_bidOf rfl (Nat.le_of_ble_eq_true rfl) (Nat.le_of_ble_eq_true rfl) rfl (Nat.le_of_ble_eq_true rfl) dL_law_1300 (fun X1 w1 H1 l1 q1 ce hx => hx.elim) (fun v w236 H locs hq _ hS => ?_)
                                            obtain ⟨r237, rfl, hw⟩ := hq
                                            refine W.eq (g2 := F0 m 1303 ls [.int r237]) rfl ?_
                                            refine lv_istore (lv' := [(5, .int r237), (0, .ref x0), (1, .ref x1), (2, .ref x2), (3, .ref x3), (4, .int x4)]) C.x C.b dL_law_1303 hl (by decide) rfl (fun ls hl => ?_)
                                            refine lv_aload_n C.x C.b dL_law_1305 rfl (lv_at hl 3 rfl) ?_
                                            refine lv_aload_n C.x C.b dL_law_1306 rfl (lv_at hl 1 rfl) ?_
                                            refine lv_iload C.x C.b dL_law_1307 (lv_at hl 5 rfl) ?_
                                            refine lv_iconst (v := 1) C.x C.b dL_law_1309 (by decide) ?_
                                            refine lv_iadd C.x C.b dL_law_1310 ?_
                                            refine a_Li C hS dL_law_1311 hw (fun v238 hw => ?_)
                                            refine lv_aload_n C.x C.b dL_law_1312 rfl (lv_at hl 1 rfl) ?_
                                            refine lv_iload C.x C.b dL_law_1313 (lv_at hl 5 rfl) ?_
                                            refine lv_iconst (v := 2) C.x C.b dL_law_1315 (by decide) ?_
                                            refine lv_iadd C.x C.b dL_law_1316 ?_
                                            refine a_Li C hS dL_law_1317 hw (fun v239 hw => ?_)
                                            refine a_mI (rest := []) (As := [.int v238, .int v239]) C hS hl hw (fun ad u wb Q hI h => kM_bidOf C.tr hI h) q1762 q1763 q1764 q88 q1765 (by decide +kernel : gNm yX5_bidOf 2 = true) rfl (Nat.le_of_ble_eq_true rfl) (Nat.le_of_ble_eq_true rfl) rfl (Nat.le_of_ble_eq_true rfl) dL_law_1318 (fun r241 w240 H locs hw hS => ?_)
                                            refine lv_istore (lv' := [(6, .int r241), (5, .int r237), (0, .ref x0), (1, .ref x1), (2, .ref x2), (3, .ref x3), (4, .int x4)]) C.x C.b dL_law_1321 hl (by decide) rfl (fun ls hl => ?_)
                                            refine lv_aload_n C.x C.b dL_law_1323 rfl (lv_at hl 4 rfl) ?_
                                            refine a_mI (rest := []) (As := []) C hS hl hw (fun ad u wb Q hI h => kM_thrown C.tr hI h) q1527 q1528 q1529 q88 q1530 (by decide +kernel : gNm yX5_thrown 0 = true) rfl (Nat.le_of_ble_eq_true rfl) (Nat.le_of_ble_eq_true rfl) rfl (Nat.le_of_ble_eq_true rfl) dL_law_1324 (fun r243 w242 H locs hw hS => ?_)
                                            refine lv_iload C.x C.b dL_law_1327 (lv_at hl 1 rfl) ?_
                                            refine lv_icmp_eq (tgt := 1334) C.x C.b dL_law_1329 (by decide) (fun c244 => ?_) (fun c244 => ?_)
                                            · have hw := hw.1 c244
                                              refine lv_iload C.x C.b dL_law_1334 (lv_at hl 1 rfl) ?_
                                              refine lv_if_ne (tgt := 1351) C.x C.b dL_law_1336 (by decide) (fun c245 => ?_) (fun c245 => ?_)
                                              · have hw := hw.2 c245
                                                exact kJ_L_law_1351 C ih _ _ _ _ _ _ _ _ _ hS (lv_sub hl [2, 3, 4, 5, 6] rfl) hw
                                              · have hw := hw.1 c245
                                                refine lv_aload_n C.x C.b dL_law_1339 rfl (lv_at hl 5 rfl) ?_
                                                refine lv_iconst (v := 0) C.x C.b dL_law_1340 (by decide) ?_
                                                refine a_Lj C hS dL_law_1341 hw (fun v246 hw => ?_)
                                                refine lv_iload C.x C.b dL_law_1342 (lv_at hl 0 rfl) ?_
                                                refine lv_i2l C.x C.b dL_law_1344 rfl ?_
                                                refine W.lcmp C.x C.b dL_law_1345 ?_
                                                refine lv_if_eq (tgt := 1351) C.x C.b dL_law_1346 (by decide) (fun c247 => ?_) (fun c247 => ?_)
                                                · have hw := hw.1 c247
                                                  exact kJ_L_law_1351 C ih _ _ _ _ _ _ _ _ _ hS (lv_sub hl [2, 3, 4, 5, 6] rfl) hw
                                                · have hw := hw.2 c247
                                                  refine lv_iconst (v := 0) C.x C.b dL_law_1349 (by decide) ?_
                                                  exact g_zret C hS rfl ⟨_, rfl, hw⟩ dL_law_1350
                                            · have hw := hw.2 c244
                                              refine lv_iconst (v := 0) C.x C.b dL_law_1332 (by decide) ?_
                                              exact g_zret C hS rfl ⟨_, rfl, hw⟩ dL_law_1333
                                          · have hw := hw.2 c39_18
                                            rcases Decidable.em ((v12 &&& 31) = 19) with c39_19 | c39_19
                                            · have hw := hw.1 c39_19
                                              rw [c39_19]
                                              refine lv_tableIn (tgt := 1354) (off := 1315) C.x C.b dL_law_39 (by decide) (by decide) rfl (by decide) ?_
                                              refine lv_aload_n C.x C.b dL_law_1354 rfl (lv_at hl 1 rfl) ?_
                                              refine lv_aload_n C.x C.b dL_law_1355 rfl (lv_at hl 0 rfl) ?_
                                              refine lv_iload C.x C.b dL_law_1356 (lv_at hl 4 rfl) ?_
                                              refine lv_iconst (v := 1) C.x C.b dL_law_1358 (by decide) ?_
                                              refine lv_iadd C.x C.b dL_law_1359 ?_
                                              refine a_Li C hS dL_law_1360 hw (fun v248 hw => ?_)
                                              refine lv_aload_n C.x C.b dL_law_1361 rfl (lv_at hl 3 rfl) ?_
                                              refine g_callSH (rest := []) C hS hl (kJ_X0_count C.tr hw) q1430 q1431 q76 q1432 ny_X0_count rfl (Nat.le_of_ble_eq_true rfl) (Nat.le_of_ble_eq_true rfl) rfl (Nat.le_of_ble_eq_true rfl) dL_law_1362 (fun X1 w1 H1 l1 q1 ce hx => hx.elim) (fun v w249 H locs hq _ hS => ?_)
                                              obtain ⟨r250, rfl, hw⟩ := hq
                                              refine W.eq (g2 := F0 m 1365 ls [.int r250]) rfl ?_
                                              refine lv_istore (lv' := [(5, .int r250), (0, .ref x0), (1, .ref x1), (2, .ref x2), (3, .ref x3), (4, .int x4)]) C.x C.b dL_law_1365 hl (by decide) rfl (fun ls hl => ?_)
                                              refine lv_aload_n C.x C.b dL_law_1367 rfl (lv_at hl 3 rfl) ?_
                                              refine lv_aload_n C.x C.b dL_law_1368 rfl (lv_at hl 1 rfl) ?_
                                              refine lv_iload C.x C.b dL_law_1369 (lv_at hl 5 rfl) ?_
                                              refine lv_iconst (v := 1) C.x C.b dL_law_1371 (by decide) ?_
                                              refine lv_iadd C.x C.b dL_law_1372 ?_
                                              refine a_Li C hS dL_law_1373 hw (fun v251 hw => ?_)
                                              refine a_mI (rest := []) (As := [.int v251]) C hS hl hw (fun ad u wb Q hI h => kM_count C.tr hI h) q1766 q1767 q1768 q88 q1769 (by decide +kernel : gNm yX5_count 1 = true) rfl (Nat.le_of_ble_eq_true rfl) (Nat.le_of_ble_eq_true rfl) rfl (Nat.le_of_ble_eq_true rfl) dL_law_1374 (fun r253 w252 H locs hw hS => ?_)
                                              refine lv_istore (lv' := [(6, .int r253), (5, .int r250), (0, .ref x0), (1, .ref x1), (2, .ref x2), (3, .ref x3), (4, .int x4)]) C.x C.b dL_law_1377 hl (by decide) rfl (fun ls hl => ?_)
                                              refine lv_aload_n C.x C.b dL_law_1379 rfl (lv_at hl 4 rfl) ?_
                                              refine a_mI (rest := []) (As := []) C hS hl hw (fun ad u wb Q hI h => kM_thrown C.tr hI h) q1527 q1528 q1529 q88 q1530 (by decide +kernel : gNm yX5_thrown 0 = true) rfl (Nat.le_of_ble_eq_true rfl) (Nat.le_of_ble_eq_true rfl) rfl (Nat.le_of_ble_eq_true rfl) dL_law_1380 (fun r255 w254 H locs hw hS => ?_)
                                              refine lv_iload C.x C.b dL_law_1383 (lv_at hl 1 rfl) ?_
                                              refine lv_icmp_eq (tgt := 1390) C.x C.b dL_law_1385 (by decide) (fun c256 => ?_) (fun c256 => ?_)
                                              · have hw := hw.1 c256
                                                refine lv_iload C.x C.b dL_law_1390 (lv_at hl 1 rfl) ?_
                                                refine lv_if_ne (tgt := 1407) C.x C.b dL_law_1392 (by decide) (fun c257 => ?_) (fun c257 => ?_)
                                                · have hw := hw.2 c257
                                                  exact kJ_L_law_1407 C ih _ _ _ _ _ _ _ _ _ hS (lv_sub hl [2, 3, 4, 5, 6] rfl) hw
                                                · have hw := hw.1 c257
                                                  refine lv_aload_n C.x C.b dL_law_1395 rfl (lv_at hl 5 rfl) ?_
                                                  refine lv_iconst (v := 0) C.x C.b dL_law_1396 (by decide) ?_
                                                  refine a_Lj C hS dL_law_1397 hw (fun v258 hw => ?_)
                                                  refine lv_iload C.x C.b dL_law_1398 (lv_at hl 0 rfl) ?_
                                                  refine lv_i2l C.x C.b dL_law_1400 rfl ?_
                                                  refine W.lcmp C.x C.b dL_law_1401 ?_
                                                  refine lv_if_eq (tgt := 1407) C.x C.b dL_law_1402 (by decide) (fun c259 => ?_) (fun c259 => ?_)
                                                  · have hw := hw.1 c259
                                                    exact kJ_L_law_1407 C ih _ _ _ _ _ _ _ _ _ hS (lv_sub hl [2, 3, 4, 5, 6] rfl) hw
                                                  · have hw := hw.2 c259
                                                    refine lv_iconst (v := 0) C.x C.b dL_law_1405 (by decide) ?_
                                                    exact g_zret C hS rfl ⟨_, rfl, hw⟩ dL_law_1406
                                              · have hw := hw.2 c256
                                                refine lv_iconst (v := 0) C.x C.b dL_law_1388 (by decide) ?_
                                                exact g_zret C hS rfl ⟨_, rfl, hw⟩ dL_law_1389
                                            · have hw := hw.2 c39_19
                                              rcases Decidable.em ((v12 &&& 31) = 20) with c39_20 | c39_20
                                              · have hw := hw.1 c39_20
                                                rw [c39_20]
                                                refine lv_tableIn (tgt := 1410) (off := 1371) C.x C.b dL_law_39 (by decide) (by decide) rfl (by decide) ?_
                                                refine lv_aload_n C.x C.b dL_law_1410 rfl (lv_at hl 1 rfl) ?_
                                                obtain ⟨fs, hq, hw⟩ := hw
                                                refine a_callV (rest := []) C hS hl 0 hq rfl (kJ_X1_isForest C.tr hw) q376 q377 q378 q77 q379 ny_X1_isForest rfl (Nat.le_of_ble_eq_true rfl) (Nat.le_of_ble_eq_true rfl) rfl (Nat.le_of_ble_eq_true rfl) dL_law_1411 (fun X1 w1 H1 l1 q1 ce hx => hx.elim) (fun v w260 H locs hq _ hS => ?_)
                                                obtain ⟨r261, rfl, hw⟩ := hq
                                                refine W.eq (g2 := F0 m 1414 ls [.int r261]) rfl ?_
                                                refine lv_aload_n C.x C.b dL_law_1414 rfl (lv_at hl 2 rfl) ?_
                                                refine a_mI (rest := [.int r261]) (As := []) C hS hl hw (fun ad u wb Q hI h => kM_isForest C.tr hI h) q1782 q1783 q1784 q88 q1785 (by decide +kernel : gNm yX5_isForest 0 = true) rfl (Nat.le_of_ble_eq_true rfl) (Nat.le_of_ble_eq_true rfl) rfl (Nat.le_of_ble_eq_true rfl) dL_law_1415 (fun r263 w262 H locs hw hS => ?_)
                                                refine lv_icmp_eq (tgt := 1563) C.x C.b dL_law_1418 (by decide) (fun c264 => ?_) (fun c264 => ?_)
                                                · have hw := hw.1 c264
                                                  exact kJ_L_law_1563 C ih _ _ _ _ _ _ _ _ _ hS (lv_sub hl [0, 1, 2, 3, 4] rfl) hw
                                                · have hw := hw.2 c264
                                                  refine lv_iconst (v := 0) C.x C.b dL_law_1421 (by decide) ?_
                                                  exact g_zret C hS rfl ⟨_, rfl, hw⟩ dL_law_1422
                                              · have hw := hw.2 c39_20
                                                rcases Decidable.em ((v12 &&& 31) = 21) with c39_21 | c39_21
                                                · have hw := hw.1 c39_21
                                                  rw [c39_21]
                                                  refine lv_tableIn (tgt := 1423) (off := 1384) C.x C.b dL_law_39 (by decide) (by decide) rfl (by decide) ?_
                                                  refine lv_aload_n C.x C.b dL_law_1423 rfl (lv_at hl 1 rfl) ?_
                                                  refine lv_aload_n C.x C.b dL_law_1424 rfl (lv_at hl 0 rfl) ?_
                                                  refine lv_iload C.x C.b dL_law_1425 (lv_at hl 4 rfl) ?_
                                                  refine lv_iconst (v := 1) C.x C.b dL_law_1427 (by decide) ?_
                                                  refine lv_iadd C.x C.b dL_law_1428 ?_
                                                  refine a_Li C hS dL_law_1429 hw (fun v265 hw => ?_)
                                                  refine lv_aload_n C.x C.b dL_law_1430 rfl (lv_at hl 3 rfl) ?_
                                                  refine g_callSH (rest := []) C hS hl (kJ_X0_type C.tr hw) q1438 q1439 q76 q1440 ny_X0_type rfl (Nat.le_of_ble_eq_true rfl) (Nat.le_of_ble_eq_true rfl) rfl (Nat.le_of_ble_eq_true rfl) dL_law_1431 (fun X1 w1 H1 l1 q1 ce hx => hx.elim) (fun v w266 H locs hq _ hS => ?_)
                                                  obtain ⟨r267, rfl, hw⟩ := hq
                                                  refine W.eq (g2 := F0 m 1434 ls [.int r267]) rfl ?_
                                                  refine lv_istore (lv' := [(5, .int r267), (0, .ref x0), (1, .ref x1), (2, .ref x2), (3, .ref x3), (4, .int x4)]) C.x C.b dL_law_1434 hl (by decide) rfl (fun ls hl => ?_)
                                                  refine lv_aload_n C.x C.b dL_law_1436 rfl (lv_at hl 3 rfl) ?_
                                                  refine lv_aload_n C.x C.b dL_law_1437 rfl (lv_at hl 1 rfl) ?_
                                                  refine lv_iload C.x C.b dL_law_1438 (lv_at hl 5 rfl) ?_
                                                  refine lv_iconst (v := 1) C.x C.b dL_law_1440 (by decide) ?_
                                                  refine lv_iadd C.x C.b dL_law_1441 ?_
                                                  refine a_Li C hS dL_law_1442 hw (fun v268 hw => ?_)
                                                  refine a_mI (rest := []) (As := [.int v268]) C hS hl hw (fun ad u wb Q hI h => kM_type C.tr hI h) q1790 q1791 q1792 q88 q1793 (by decide +kernel : gNm yX5_type 1 = true) rfl (Nat.le_of_ble_eq_true rfl) (Nat.le_of_ble_eq_true rfl) rfl (Nat.le_of_ble_eq_true rfl) dL_law_1443 (fun r270 w269 H locs hw hS => ?_)
                                                  refine lv_istore (lv' := [(6, .int r270), (5, .int r267), (0, .ref x0), (1, .ref x1), (2, .ref x2), (3, .ref x3), (4, .int x4)]) C.x C.b dL_law_1446 hl (by decide) rfl (fun ls hl => ?_)
                                                  refine lv_aload_n C.x C.b dL_law_1448 rfl (lv_at hl 4 rfl) ?_
                                                  refine a_mI (rest := []) (As := []) C hS hl hw (fun ad u wb Q hI h => kM_thrown C.tr hI h) q1527 q1528 q1529 q88 q1530 (by decide +kernel : gNm yX5_thrown 0 = true) rfl (Nat.le_of_ble_eq_true rfl) (Nat.le_of_ble_eq_true rfl) rfl (Nat.le_of_ble_eq_true rfl) dL_law_1449 (fun r272 w271 H locs hw hS => ?_)
                                                  refine lv_iload C.x C.b dL_law_1452 (lv_at hl 1 rfl) ?_
                                                  refine lv_icmp_eq (tgt := 1459) C.x C.b dL_law_1454 (by decide) (fun c273 => ?_) (fun c273 => ?_)
                                                  · have hw := hw.1 c273
                                                    refine lv_iload C.x C.b dL_law_1459 (lv_at hl 1 rfl) ?_
                                                    refine lv_if_ne (tgt := 1476) C.x C.b dL_law_1461 (by decide) (fun c274 => ?_) (fun c274 => ?_)
                                                    · have hw := hw.2 c274
                                                      exact kJ_L_law_1476 C ih _ _ _ _ _ _ _ _ _ hS (lv_sub hl [2, 3, 4, 5, 6] rfl) hw
                                                    · have hw := hw.1 c274
                                                      refine lv_aload_n C.x C.b dL_law_1464 rfl (lv_at hl 5 rfl) ?_
                                                      refine lv_iconst (v := 0) C.x C.b dL_law_1465 (by decide) ?_
                                                      refine a_Lj C hS dL_law_1466 hw (fun v275 hw => ?_)
                                                      refine lv_iload C.x C.b dL_law_1467 (lv_at hl 0 rfl) ?_
                                                      refine lv_i2l C.x C.b dL_law_1469 rfl ?_
                                                      refine W.lcmp C.x C.b dL_law_1470 ?_
                                                      refine lv_if_eq (tgt := 1476) C.x C.b dL_law_1471 (by decide) (fun c276 => ?_) (fun c276 => ?_)
                                                      · have hw := hw.1 c276
                                                        exact kJ_L_law_1476 C ih _ _ _ _ _ _ _ _ _ hS (lv_sub hl [2, 3, 4, 5, 6] rfl) hw
                                                      · have hw := hw.2 c276
                                                        refine lv_iconst (v := 0) C.x C.b dL_law_1474 (by decide) ?_
                                                        exact g_zret C hS rfl ⟨_, rfl, hw⟩ dL_law_1475
                                                  · have hw := hw.2 c273
                                                    refine lv_iconst (v := 0) C.x C.b dL_law_1457 (by decide) ?_
                                                    exact g_zret C hS rfl ⟨_, rfl, hw⟩ dL_law_1458
                                                · have hw := hw.2 c39_21
                                                  rcases Decidable.em ((v12 &&& 31) = 22) with c39_22 | c39_22
                                                  · have hw := hw.1 c39_22
                                                    rw [c39_22]
                                                    refine lv_tableIn (tgt := 1479) (off := 1440) C.x C.b dL_law_39 (by decide) (by decide) rfl (by decide) ?_
                                                    refine lv_aload_n C.x C.b dL_law_1479 rfl (lv_at hl 1 rfl) ?_
                                                    obtain ⟨fs, hq, hw⟩ := hw
                                                    refine a_callV (rest := []) C hS hl 0 hq rfl (kJ_X1_clearScript C.tr hw) q413 q414 q415 q77 q416 ny_X1_clearScript rfl (Nat.le_of_ble_eq_true rfl) (Nat.le_of_ble_eq_true rfl) rfl (Nat.le_of_ble_eq_true rfl) dL_law_1480 (fun X1 w1 H1 l1 q1 ce hx => hx.elim) (fun v w277 H locs hq _ hS => ?_)
                                                    obtain ⟨r278, rfl, hw⟩ := hq
                                                    refine W.eq (g2 := F0 m 1483 ls [.int r278]) rfl ?_
                                                    refine lv_aload_n C.x C.b dL_law_1483 rfl (lv_at hl 2 rfl) ?_
                                                    refine a_mI (rest := [.int r278]) (As := []) C hS hl hw (fun ad u wb Q hI h => kM_clearScript C.tr hI h) q1794 q1795 q1796 q88 q1797 (by decide +kernel : gNm yX5_clearScript 0 = true) rfl (Nat.le_of_ble_eq_true rfl) (Nat.le_of_ble_eq_true rfl) rfl (Nat.le_of_ble_eq_true rfl) dL_law_1484 (fun r280 w279 H locs hw hS => ?_)
                                                    refine lv_icmp_eq (tgt := 1563) C.x C.b dL_law_1487 (by decide) (fun c281 => ?_) (fun c281 => ?_)
                                                    · have hw := hw.1 c281
                                                      exact kJ_L_law_1563 C ih _ _ _ _ _ _ _ _ _ hS (lv_sub hl [0, 1, 2, 3, 4] rfl) hw
                                                    · have hw := hw.2 c281
                                                      refine lv_iconst (v := 0) C.x C.b dL_law_1490 (by decide) ?_
                                                      exact g_zret C hS rfl ⟨_, rfl, hw⟩ dL_law_1491
                                                  · have hw := hw.2 c39_22
                                                    rcases Decidable.em ((v12 &&& 31) = 23) with c39_23 | c39_23
                                                    · have hw := hw.1 c39_23
                                                      rw [c39_23]
                                                      refine lv_tableIn (tgt := 1492) (off := 1453) C.x C.b dL_law_39 (by decide) (by decide) rfl (by decide) ?_
                                                      refine lv_aload_n C.x C.b dL_law_1492 rfl (lv_at hl 1 rfl) ?_
                                                      obtain ⟨fs, hq, hw⟩ := hw
                                                      refine a_callV (rest := []) C hS hl 0 hq rfl (kJ_X1_run C.tr hw) q417 q418 q419 q77 q420 ny_X1_run rfl (Nat.le_of_ble_eq_true rfl) (Nat.le_of_ble_eq_true rfl) rfl (Nat.le_of_ble_eq_true rfl) dL_law_1493 (fun X1 w1 H1 l1 q1 ce hx => hx.elim) (fun v w282 H locs hq _ hS => ?_)
                                                      obtain ⟨r283, rfl, hw⟩ := hq
                                                      refine W.eq (g2 := F0 m 1496 ls [.int r283]) rfl ?_
                                                      refine lv_aload_n C.x C.b dL_law_1496 rfl (lv_at hl 2 rfl) ?_
                                                      refine a_mI (rest := [.int r283]) (As := []) C hS hl hw (fun ad u wb Q hI h => kM_run C.tr hI h) q1798 q1799 q1800 q88 q1801 (by decide +kernel : gNm yX5_run 0 = true) rfl (Nat.le_of_ble_eq_true rfl) (Nat.le_of_ble_eq_true rfl) rfl (Nat.le_of_ble_eq_true rfl) dL_law_1497 (fun r285 w284 H locs hw hS => ?_)
                                                      refine lv_icmp_eq (tgt := 1563) C.x C.b dL_law_1500 (by decide) (fun c286 => ?_) (fun c286 => ?_)
                                                      · have hw := hw.1 c286
                                                        exact kJ_L_law_1563 C ih _ _ _ _ _ _ _ _ _ hS (lv_sub hl [0, 1, 2, 3, 4] rfl) hw
                                                      · have hw := hw.2 c286
                                                        refine lv_iconst (v := 0) C.x C.b dL_law_1503 (by decide) ?_
                                                        exact g_zret C hS rfl ⟨_, rfl, hw⟩ dL_law_1504
                                                    · have hw := hw.2 c39_23
                                                      rcases Decidable.em ((v12 &&& 31) = 24) with c39_24 | c39_24
                                                      · have hw := hw.1 c39_24
                                                        rw [c39_24]
                                                        refine lv_tableIn (tgt := 1505) (off := 1466) C.x C.b dL_law_39 (by decide) (by decide) rfl (by decide) ?_
                                                        refine lv_aload_n C.x C.b dL_law_1505 rfl (lv_at hl 1 rfl) ?_
                                                        refine lv_aload_n C.x C.b dL_law_1506 rfl (lv_at hl 3 rfl) ?_
                                                        refine g_callSH (rest := []) C hS hl (kJ_X0_undo C.tr hw) q1448 q1449 q76 q1450 ny_X0_undo rfl (Nat.le_of_ble_eq_true rfl) (Nat.le_of_ble_eq_true rfl) rfl (Nat.le_of_ble_eq_true rfl) dL_law_1507 (fun X1 w1 H1 l1 q1 ce hx => hx.elim) (fun v w287 H locs hq _ hS => ?_)
                                                        obtain ⟨r288, rfl, hw⟩ := hq
                                                        refine W.eq (g2 := F0 m 1510 ls [.int r288]) rfl ?_
                                                        refine lv_istore (lv' := [(5, .int r288), (0, .ref x0), (1, .ref x1), (2, .ref x2), (3, .ref x3), (4, .int x4)]) C.x C.b dL_law_1510 hl (by decide) rfl (fun ls hl => ?_)
                                                        refine lv_aload_n C.x C.b dL_law_1512 rfl (lv_at hl 3 rfl) ?_
                                                        refine a_mI (rest := []) (As := []) C hS hl hw (fun ad u wb Q hI h => kM_undo C.tr hI h) q1835 q1836 q1837 q88 q1838 (by decide +kernel : gNm yX5_undo 0 = true) rfl (Nat.le_of_ble_eq_true rfl) (Nat.le_of_ble_eq_true rfl) rfl (Nat.le_of_ble_eq_true rfl) dL_law_1513 (fun r290 w289 H locs hw hS => ?_)
                                                        refine lv_istore (lv' := [(6, .int r290), (5, .int r288), (0, .ref x0), (1, .ref x1), (2, .ref x2), (3, .ref x3), (4, .int x4)]) C.x C.b dL_law_1516 hl (by decide) rfl (fun ls hl => ?_)
                                                        refine lv_aload_n C.x C.b dL_law_1518 rfl (lv_at hl 4 rfl) ?_
                                                        refine a_mI (rest := []) (As := []) C hS hl hw (fun ad u wb Q hI h => kM_thrown C.tr hI h) q1527 q1528 q1529 q88 q1530 (by decide +kernel : gNm yX5_thrown 0 = true) rfl (Nat.le_of_ble_eq_true rfl) (Nat.le_of_ble_eq_true rfl) rfl (Nat.le_of_ble_eq_true rfl) dL_law_1519 (fun r292 w291 H locs hw hS => ?_)
                                                        refine lv_iload C.x C.b dL_law_1522 (lv_at hl 1 rfl) ?_
                                                        refine lv_icmp_eq (tgt := 1529) C.x C.b dL_law_1524 (by decide) (fun c293 => ?_) (fun c293 => ?_)
                                                        · have hw := hw.1 c293
                                                          refine lv_iload C.x C.b dL_law_1529 (lv_at hl 1 rfl) ?_
                                                          refine lv_if_ne (tgt := 1546) C.x C.b dL_law_1531 (by decide) (fun c294 => ?_) (fun c294 => ?_)
                                                          · have hw := hw.2 c294
                                                            exact kJ_L_law_1546 C ih _ _ _ _ _ _ _ _ _ hS (lv_sub hl [2, 3, 4, 5, 6] rfl) hw
                                                          · have hw := hw.1 c294
                                                            refine lv_aload_n C.x C.b dL_law_1534 rfl (lv_at hl 5 rfl) ?_
                                                            refine lv_iconst (v := 0) C.x C.b dL_law_1535 (by decide) ?_
                                                            refine a_Lj C hS dL_law_1536 hw (fun v295 hw => ?_)
                                                            refine lv_iload C.x C.b dL_law_1537 (lv_at hl 0 rfl) ?_
                                                            refine lv_i2l C.x C.b dL_law_1539 rfl ?_
                                                            refine W.lcmp C.x C.b dL_law_1540 ?_
                                                            refine lv_if_eq (tgt := 1546) C.x C.b dL_law_1541 (by decide) (fun c296 => ?_) (fun c296 => ?_)
                                                            · have hw := hw.1 c296
                                                              exact kJ_L_law_1546 C ih _ _ _ _ _ _ _ _ _ hS (lv_sub hl [2, 3, 4, 5, 6] rfl) hw
                                                            · have hw := hw.2 c296
                                                              refine lv_iconst (v := 0) C.x C.b dL_law_1544 (by decide) ?_
                                                              exact g_zret C hS rfl ⟨_, rfl, hw⟩ dL_law_1545
                                                        · have hw := hw.2 c293
                                                          refine lv_iconst (v := 0) C.x C.b dL_law_1527 (by decide) ?_
                                                          exact g_zret C hS rfl ⟨_, rfl, hw⟩ dL_law_1528
                                                      · have hw := hw.2 c39_24
                                                        rcases Decidable.em ((v12 &&& 31) = 25) with c39_25 | c39_25
                                                        · have hw := hw.1 c39_25
                                                          rw [c39_25]
                                                          refine lv_tableIn (tgt := 1549) (off := 1510) C.x C.b dL_law_39 (by decide) (by decide) rfl (by decide) ?_
                                                          refine lv_aload_n C.x C.b dL_law_1549 rfl (lv_at hl 1 rfl) ?_
                                                          obtain ⟨fs, hq, hw⟩ := hw
                                                          refine a_callV (rest := []) C hS hl 0 hq rfl (kJ_X1_digest C.tr hw) q1209 q1210 q1211 q77 q1212 ny_X1_digest rfl (Nat.le_of_ble_eq_true rfl) (Nat.le_of_ble_eq_true rfl) rfl (Nat.le_of_ble_eq_true rfl) dL_law_1550 (fun X1 w1 H1 l1 q1 ce hx => hx.elim) (fun v w297 H locs hq _ hS => ?_)
                                                          obtain ⟨r298, rfl, hw⟩ := hq
                                                          refine W.eq (g2 := F0 m 1553 ls [.long r298]) rfl ?_
                                                          refine lv_aload_n C.x C.b dL_law_1553 rfl (lv_at hl 2 rfl) ?_
                                                          refine a_mJ (rest := [.long r298]) (As := []) C hS hl hw (fun ad u wb Q hI h => kM_digest C.tr hI h) q1839 q1840 q1841 q88 q1842 (by decide +kernel : gNm yX5_digest 0 = true) rfl (Nat.le_of_ble_eq_true rfl) (Nat.le_of_ble_eq_true rfl) rfl (Nat.le_of_ble_eq_true rfl) dL_law_1554 (fun r300 w299 H locs hw hS => ?_)
                                                          refine W.lcmp C.x C.b dL_law_1557 ?_
                                                          refine lv_if_eq (tgt := 1563) C.x C.b dL_law_1558 (by decide) (fun c301 => ?_) (fun c301 => ?_)
                                                          · have hw := hw.1 c301
                                                            exact kJ_L_law_1563 C ih _ _ _ _ _ _ _ _ _ hS (lv_sub hl [0, 1, 2, 3, 4] rfl) hw
                                                          · have hw := hw.2 c301
                                                            refine lv_iconst (v := 0) C.x C.b dL_law_1561 (by decide) ?_
                                                            exact g_zret C hS rfl ⟨_, rfl, hw⟩ dL_law_1562
                                                        · have hw := hw.2 c39_25
                                                          refine lv_tableOut (tgt := 1563) C.x C.b dL_law_39 (by have := lv_neT c39_0 (a := 0) (by decide); have := lv_neT c39_1 (a := 1) (by decide); have := lv_neT c39_2 (a := 2) (by decide); have := lv_neT c39_3 (a := 3) (by decide); have := lv_neT c39_4 (a := 4) (by decide); have := lv_neT c39_5 (a := 5) (by decide); have := lv_neT c39_6 (a := 6) (by decide); have := lv_neT c39_7 (a := 7) (by decide); have := lv_neT c39_8 (a := 8) (by decide); have := lv_neT c39_9 (a := 9) (by decide); have := lv_neT c39_10 (a := 10) (by decide); have := lv_neT c39_11 (a := 11) (by decide); have := lv_neT c39_12 (a := 12) (by decide); have := lv_neT c39_13 (a := 13) (by decide); have := lv_neT c39_14 (a := 14) (by decide); have := lv_neT c39_15 (a := 15) (by decide); have := lv_neT c39_16 (a := 16) (by decide); have := lv_neT c39_17 (a := 17) (by decide); have := lv_neT c39_18 (a := 18) (by decide); have := lv_neT c39_19 (a := 19) (by decide); have := lv_neT c39_20 (a := 20) (by decide); have := lv_neT c39_21 (a := 21) (by decide); have := lv_neT c39_22 (a := 22) (by decide); have := lv_neT c39_23 (a := 23) (by decide); have := lv_neT c39_24 (a := 24) (by decide); have := lv_neT c39_25 (a := 25) (by decide); omega) (by decide) ?_
                                                          exact kJ_L_law_1563 C ih _ _ _ _ _ _ _ _ _ hS (lv_sub hl [0, 1, 2, 3, 4] rfl) hw
def wJ_L_law (E : gE) (i0 : Nat) (Q : Int32 → gW → Prop) (w : gW) : Prop :=
  aN E 0 5 [.null, .null, .int 0, .null, .int 0] (fun q1 w2 => wJ_X1_init E q1 (fun w3 => aN E 4 15 [.null, .null, .null, .int 0, .null, .int 0, .int 0, .int 0, .null, .null, .null, .int 0, .int 0, .null, .long 0] (fun q4 w5 => wJ_X5_init E q4 (fun w6 => aAj E 1 (fun q7 w8 => ∃ k9 : Nat, wJ_L_law_23 E Q k9 i0 q1 q4 q7 0 w8) w6) w5) w3) w2) w
theorem kJ_L_law_r (C : gC p l s m args meth c cL_law 7 (some .boolean) RX0 E tb nm) (i0 : Nat) {Q : Int32 → gW → Prop} (w : gW) (H : Heap) (locs : List Loc) (ls : Array Slot) (hS : gS E w0 w H locs) (hl : lv_has ls 7 [(0, .ref i0)]) (hw : wJ_L_law E i0 Q w) : gGo p l e s m args below meth c H locs 8192 104096 E w0 w (gI Q) (gNoX) (F0 m 0 ls []) := by
  unfold wJ_L_law at hw
  refine a_N (ci := 0) (fs := [.null, .null, .int 0, .null, .int 0]) C hS in_X1 tyX1 tyX1_ok rfl q109 q110 q77 (by decide) dL_law_0 hw (fun q1 w2 H hw hS => ?_)
  refine lv_dup C.x C.b dL_law_3 rfl ?_
  refine g_callI (rest := [.ref q1]) C hS hl (kJ_X1_init C.tr hw) rfl q111 q112 q77 q113 ny_X1_init rfl (Nat.le_of_ble_eq_true rfl) (Nat.le_of_ble_eq_true rfl) rfl (Nat.le_of_ble_eq_true rfl) dL_law_4 (fun X1 w1 H1 l1 q1 ce hx => hx.elim) (fun v w3 H locs hq _ hS => ?_)
  obtain ⟨rfl, hw⟩ := hq
  refine W.eq (g2 := F0 m 7 ls [.ref q1]) rfl ?_
  refine lv_astore_n (lv' := [(1, .ref q1), (0, .ref i0)]) C.x C.b dL_law_7 rfl hl (by decide) rfl (fun ls hl => ?_)
  refine a_N (ci := 4) (fs := [.null, .null, .null, .int 0, .null, .int 0, .int 0, .int 0, .null, .null, .null, .int 0, .int 0, .null, .long 0]) C hS in_X5 tyX5 tyX5_ok rfl q1456 q1457 q88 (by decide) dL_law_8 hw (fun q4 w5 H hw hS => ?_)
  refine lv_dup C.x C.b dL_law_11 rfl ?_
  refine g_callI (rest := [.ref q4]) C hS hl (kJ_X5_init C.tr hw) rfl q1458 q1459 q88 q1460 ny_X5_init rfl (Nat.le_of_ble_eq_true rfl) (Nat.le_of_ble_eq_true rfl) rfl (Nat.le_of_ble_eq_true rfl) dL_law_12 (fun X1 w1 H1 l1 q1 ce hx => hx.elim) (fun v w6 H locs hq _ hS => ?_)
  obtain ⟨rfl, hw⟩ := hq
  refine W.eq (g2 := F0 m 15 ls [.ref q4]) rfl ?_
  refine lv_astore_n (lv' := [(2, .ref q4), (1, .ref q1), (0, .ref i0)]) C.x C.b dL_law_15 rfl hl (by decide) rfl (fun ls hl => ?_)
  refine lv_iconst (v := 1) C.x C.b dL_law_16 (by decide) ?_
  refine a_Aj C hS q1857 dL_law_17 hw (fun q7 w8 H hw hS => ?_)
  refine lv_astore_n (lv' := [(3, .ref q7), (2, .ref q4), (1, .ref q1), (0, .ref i0)]) C.x C.b dL_law_19 rfl hl (by decide) rfl (fun ls hl => ?_)
  refine lv_iconst (v := 0) C.x C.b dL_law_20 (by decide) ?_
  refine lv_istore (lv' := [(4, .int 0), (3, .ref q7), (2, .ref q4), (1, .ref q1), (0, .ref i0)]) C.x C.b dL_law_21 hl (by decide) rfl (fun ls hl => ?_)
  obtain ⟨k9, hw⟩ := hw
  exact kJ_L_law_23 C k9 _ _ _ _ _ _ _ _ _ hS (lv_sub hl [4, 3, 2, 1, 0] rfl) hw
end GLX
