section GW1
variable {p : Program} {l : Launch} {e : Env} {s : State} {m : MethodId} {args : Array Value} {below : List Frame} {meth : Method} {c : Code} {E : gE} {ad : Nat → Nat} {w0 w : gW}
def wM_sells_240 (Q : gM → Prop) (y0 : Int32) (y1 : Int32) (y2 : Int32) (u : gM) : Prop :=
  wM_puts y2 y1 y0 (fun u39 => Q u39) u
theorem kM_sells_240 (C : gC p l s m args meth c cX5_sells 8 none RX5 E [] "sells") (hI : mI ad) {Q : gM → Prop} (y0 : Int32) (y1 : Int32) (y2 : Int32) (u : gM) (H : Heap) (locs : List Loc) (ls : Array Slot) (hS : gS E w0 (gmW E ad u w) H locs) (hl : lv_has ls 8 []) (hw : wM_sells_240 Q y0 y1 y2 u) : mGo p l e s m args below meth c 3 69 E ad w0 w (uV Q) H locs (F0 m 240 ls [.int y0, .int y1, .int y2, .ref (ad 8)]) := by
  unfold wM_sells_240 at hw
  refine gm_callV (rest := []) C hI hS hl (kM_puts C.tr hI hw) q1579 q1581 qs34 q88 q1582 ny_puts rfl (Nat.le_of_ble_eq_true rfl) (Nat.le_of_ble_eq_true rfl) rfl (Nat.le_of_ble_eq_true rfl) dX5_sells_240 (gm_kv (fun u39 H locs hw hS => ?_))
  exact gm_vret C hS hw dX5_sells_243
def wM_sells_222 (Q : gM → Prop) (x1 : Int32) (x6 : Int32) (x7 : Int32) (y0 : Int32) (y1 : Int32) (y2 : Int32) (u : gM) : Prop :=
  wM_puts y2 y1 y0 (fun u37 => (x7 = 0 → (wM_sells_240 Q x6 7 x1 u37)) ∧ (¬ x7 = 0 → (wM_sells_240 Q 0 7 x1 u37))) u
theorem kM_sells_222 (C : gC p l s m args meth c cX5_sells 8 none RX5 E [] "sells") (hI : mI ad) {Q : gM → Prop} (x1 : Int32) (x6 : Int32) (x7 : Int32) (y0 : Int32) (y1 : Int32) (y2 : Int32) (u : gM) (H : Heap) (locs : List Loc) (ls : Array Slot) (hS : gS E w0 (gmW E ad u w) H locs) (hl : lv_has ls 8 [(0, .ref (ad 8)), (1, .int x1), (6, .int x6), (7, .int x7)]) (hw : wM_sells_222 Q x1 x6 x7 y0 y1 y2 u) : mGo p l e s m args below meth c 3 69 E ad w0 w (uV Q) H locs (F0 m 222 ls [.int y0, .int y1, .int y2, .ref (ad 8)]) := by
  unfold wM_sells_222 at hw
  refine gm_callV (rest := []) C hI hS hl (kM_puts C.tr hI hw) q1579 q1581 qs34 q88 q1582 ny_puts rfl (Nat.le_of_ble_eq_true rfl) (Nat.le_of_ble_eq_true rfl) rfl (Nat.le_of_ble_eq_true rfl) dX5_sells_222 (gm_kv (fun u37 H locs hw hS => ?_))
  refine lv_aload_n C.x C.b dX5_sells_225 rfl (lv_at hl 0 rfl) ?_
  refine lv_iload_n C.x C.b dX5_sells_226 rfl (lv_at hl 1 rfl) ?_
  refine lv_bipush (v := 7) C.x C.b dX5_sells_227 (by decide) ?_
  refine lv_iload C.x C.b dX5_sells_229 (lv_at hl 3 rfl) ?_
  refine lv_if_eq (tgt := 238) C.x C.b dX5_sells_231 (by decide) (fun c38 => ?_) (fun c38 => ?_)
  · have hw := hw.1 c38
    refine lv_iload C.x C.b dX5_sells_238 (lv_at hl 2 rfl) ?_
    exact kM_sells_240 C hI _ _ _ _ _ _ _ hS (lv_sub hl [] rfl) hw
  · have hw := hw.2 c38
    refine lv_iconst (v := 0) C.x C.b dX5_sells_234 (by decide) ?_
    refine lv_goto (tgt := 240) C.x C.b dX5_sells_235 (by decide) ?_
    exact kM_sells_240 C hI _ _ _ _ _ _ _ hS (lv_sub hl [] rfl) hw
def wM_sells_194 (Q : gM → Prop) (x1 : Int32) (x4 : Int32) (x6 : Int32) (y0 : Int32) (u : gM) : Prop :=
  (y0 = 0 → (wM_of x1 3 (fun r34 u33 => wM_sells_222 Q x1 x6 y0 r34 3 x1 u33) u)) ∧ (¬ y0 = 0 → (wM_of x1 2 (fun r36 u35 => wM_sells_222 Q x1 x6 y0 (r36 + x4) 3 x1 u35) u))
theorem kM_sells_194 (C : gC p l s m args meth c cX5_sells 8 none RX5 E [] "sells") (hI : mI ad) {Q : gM → Prop} (x1 : Int32) (x4 : Int32) (x6 : Int32) (y0 : Int32) (u : gM) (H : Heap) (locs : List Loc) (ls : Array Slot) (hS : gS E w0 (gmW E ad u w) H locs) (hl : lv_has ls 8 [(0, .ref (ad 8)), (1, .int x1), (4, .int x4), (6, .int x6)]) (hw : wM_sells_194 Q x1 x4 x6 y0 u) : mGo p l e s m args below meth c 3 69 E ad w0 w (uV Q) H locs (F0 m 194 ls [.int y0]) := by
  unfold wM_sells_194 at hw
  refine lv_istore (lv' := [(7, .int y0), (0, .ref (ad 8)), (1, .int x1), (4, .int x4), (6, .int x6)]) C.x C.b dX5_sells_194 hl (by decide) rfl (fun ls hl => ?_)
  refine lv_aload_n C.x C.b dX5_sells_196 rfl (lv_at hl 1 rfl) ?_
  refine lv_iload_n C.x C.b dX5_sells_197 rfl (lv_at hl 2 rfl) ?_
  refine lv_iconst (v := 3) C.x C.b dX5_sells_198 (by decide) ?_
  refine lv_iload C.x C.b dX5_sells_199 (lv_at hl 0 rfl) ?_
  refine lv_if_eq (tgt := 216) C.x C.b dX5_sells_201 (by decide) (fun c32 => ?_) (fun c32 => ?_)
  · have hw := hw.1 c32
    refine lv_aload_n C.x C.b dX5_sells_216 rfl (lv_at hl 1 rfl) ?_
    refine lv_iload_n C.x C.b dX5_sells_217 rfl (lv_at hl 2 rfl) ?_
    refine lv_iconst (v := 3) C.x C.b dX5_sells_218 (by decide) ?_
    refine gm_callV (rest := [.int 3, .int x1, .ref (ad 8)]) C hI hS hl (kM_of C.tr hI hw) q1595 q1597 qs37 q88 q1598 ny_of rfl (Nat.le_of_ble_eq_true rfl) (Nat.le_of_ble_eq_true rfl) rfl (Nat.le_of_ble_eq_true rfl) dX5_sells_219 (gm_ki (fun r34 u33 H locs hw hS => ?_))
    exact kM_sells_222 C hI _ _ _ _ _ _ _ _ _ _ hS (lv_sub hl [1, 2, 4, 0] rfl) hw
  · have hw := hw.2 c32
    refine lv_aload_n C.x C.b dX5_sells_204 rfl (lv_at hl 1 rfl) ?_
    refine lv_iload_n C.x C.b dX5_sells_205 rfl (lv_at hl 2 rfl) ?_
    refine lv_iconst (v := 2) C.x C.b dX5_sells_206 (by decide) ?_
    refine gm_callV (rest := [.int 3, .int x1, .ref (ad 8)]) C hI hS hl (kM_of C.tr hI hw) q1595 q1597 qs37 q88 q1598 ny_of rfl (Nat.le_of_ble_eq_true rfl) (Nat.le_of_ble_eq_true rfl) rfl (Nat.le_of_ble_eq_true rfl) dX5_sells_207 (gm_ki (fun r36 u35 H locs hw hS => ?_))
    refine lv_iload C.x C.b dX5_sells_210 (lv_at hl 3 rfl) ?_
    refine lv_iadd C.x C.b dX5_sells_212 ?_
    refine lv_goto (tgt := 222) C.x C.b dX5_sells_213 (by decide) ?_
    exact kM_sells_222 C hI _ _ _ _ _ _ _ _ _ _ hS (lv_sub hl [1, 2, 4, 0] rfl) hw
def wM_sells_189 (Q : gM → Prop) (x1 : Int32) (x4 : Int32) (x6 : Int32) (u : gM) : Prop :=
  wM_sells_194 Q x1 x4 x6 1 u
theorem kM_sells_189 (C : gC p l s m args meth c cX5_sells 8 none RX5 E [] "sells") (hI : mI ad) {Q : gM → Prop} (x1 : Int32) (x4 : Int32) (x6 : Int32) (u : gM) (H : Heap) (locs : List Loc) (ls : Array Slot) (hS : gS E w0 (gmW E ad u w) H locs) (hl : lv_has ls 8 [(0, .ref (ad 8)), (1, .int x1), (4, .int x4), (6, .int x6)]) (hw : wM_sells_189 Q x1 x4 x6 u) : mGo p l e s m args below meth c 3 69 E ad w0 w (uV Q) H locs (F0 m 189 ls []) := by
  unfold wM_sells_189 at hw
  refine lv_iconst (v := 1) C.x C.b dX5_sells_189 (by decide) ?_
  refine lv_goto (tgt := 194) C.x C.b dX5_sells_190 (by decide) ?_
  exact kM_sells_194 C hI _ _ _ _ _ _ _ _ hS (lv_sub hl [0, 1, 2, 3] rfl) hw
def wM_sells_158 (Q : gM → Prop) (x1 : Int32) (x4 : Int32) (x5 : Int32) (y0 : Int32) (u : gM) : Prop :=
  uLd 0 487 4 (fun v27 => (v27 < x5 → (wM_sells_189 Q x1 x4 y0 u)) ∧ (¬ v27 < x5 → (uLd 0 487 4 (fun v29 => (v29 < (-x5) → (wM_sells_189 Q x1 x4 y0 u)) ∧ (¬ v29 < (-x5) → ((y0 = 3 → (wM_sells_189 Q x1 x4 y0 u)) ∧ (¬ y0 = 3 → (wM_sells_194 Q x1 x4 y0 0 u))))) u))) u
theorem kM_sells_158 (C : gC p l s m args meth c cX5_sells 8 none RX5 E [] "sells") (hI : mI ad) {Q : gM → Prop} (x1 : Int32) (x4 : Int32) (x5 : Int32) (y0 : Int32) (u : gM) (H : Heap) (locs : List Loc) (ls : Array Slot) (hS : gS E w0 (gmW E ad u w) H locs) (hl : lv_has ls 8 [(0, .ref (ad 8)), (1, .int x1), (4, .int x4), (5, .int x5)]) (hw : wM_sells_158 Q x1 x4 x5 y0 u) : mGo p l e s m args below meth c 3 69 E ad w0 w (uV Q) H locs (F0 m 158 ls [.int y0]) := by
  unfold wM_sells_158 at hw
  refine lv_istore (lv' := [(6, .int y0), (0, .ref (ad 8)), (1, .int x1), (4, .int x4), (5, .int x5)]) C.x C.b dX5_sells_158 hl (by decide) rfl (fun ls hl => ?_)
  refine lv_iload C.x C.b dX5_sells_160 (lv_at hl 4 rfl) ?_
  refine lv_aload_n C.x C.b dX5_sells_162 rfl (lv_at hl 1 rfl) ?_
  refine gm_getA C hI hS 0 (by decide) (a := ad 0) rfl q1481 (fun _ h9 => h9) dX5_sells_163 ?_
  refine lv_iconst (v := 4) C.x C.b dX5_sells_166 (by decide) ?_
  refine gm_ld C hI hS 0 487 (by decide) rfl dX5_sells_167 hw (fun v27 hw => ?_)
  refine lv_icmp_gt (tgt := 189) C.x C.b dX5_sells_168 (by decide) (fun c28 => ?_) (fun c28 => ?_)
  · have hw := hw.1 c28
    exact kM_sells_189 C hI _ _ _ _ _ _ _ hS (lv_sub hl [1, 2, 3, 0] rfl) hw
  · have hw := hw.2 c28
    refine lv_iload C.x C.b dX5_sells_171 (lv_at hl 4 rfl) ?_
    refine lv_ineg C.x C.b dX5_sells_173 ?_
    refine lv_aload_n C.x C.b dX5_sells_174 rfl (lv_at hl 1 rfl) ?_
    refine gm_getA C hI hS 0 (by decide) (a := ad 0) rfl q1481 (fun _ h9 => h9) dX5_sells_175 ?_
    refine lv_iconst (v := 4) C.x C.b dX5_sells_178 (by decide) ?_
    refine gm_ld C hI hS 0 487 (by decide) rfl dX5_sells_179 hw (fun v29 hw => ?_)
    refine lv_icmp_gt (tgt := 189) C.x C.b dX5_sells_180 (by decide) (fun c30 => ?_) (fun c30 => ?_)
    · have hw := hw.1 c30
      exact kM_sells_189 C hI _ _ _ _ _ _ _ hS (lv_sub hl [1, 2, 3, 0] rfl) hw
    · have hw := hw.2 c30
      refine lv_iload C.x C.b dX5_sells_183 (lv_at hl 0 rfl) ?_
      refine lv_iconst (v := 3) C.x C.b dX5_sells_185 (by decide) ?_
      refine lv_icmp_ne (tgt := 193) C.x C.b dX5_sells_186 (by decide) (fun c31 => ?_) (fun c31 => ?_)
      · have hw := hw.2 c31
        refine lv_iconst (v := 0) C.x C.b dX5_sells_193 (by decide) ?_
        exact kM_sells_194 C hI _ _ _ _ _ _ _ _ hS (lv_sub hl [1, 2, 3, 0] rfl) hw
      · have hw := hw.1 c31
        exact kM_sells_189 C hI _ _ _ _ _ _ _ hS (lv_sub hl [1, 2, 3, 0] rfl) hw
def wM_sells_122 (Q : gM → Prop) (x1 : Int32) (x4 : Int32) (u : gM) : Prop :=
  wM_of x1 2 (fun r21 u20 => wM_of x1 3 (fun r23 u22 => (((r21 + x4) - r23) = 0 → (wM_sells_158 Q x1 x4 ((r21 + x4) - r23) 0 u22)) ∧ (¬ ((r21 + x4) - r23) = 0 → (wM_of x1 7 (fun r26 u25 => wM_sells_158 Q x1 x4 ((r21 + x4) - r23) (r26 + 1) u25) u22))) u20) u
theorem kM_sells_122 (C : gC p l s m args meth c cX5_sells 8 none RX5 E [] "sells") (hI : mI ad) {Q : gM → Prop} (x1 : Int32) (x4 : Int32) (u : gM) (H : Heap) (locs : List Loc) (ls : Array Slot) (hS : gS E w0 (gmW E ad u w) H locs) (hl : lv_has ls 8 [(0, .ref (ad 8)), (1, .int x1), (4, .int x4)]) (hw : wM_sells_122 Q x1 x4 u) : mGo p l e s m args below meth c 3 69 E ad w0 w (uV Q) H locs (F0 m 122 ls []) := by
  unfold wM_sells_122 at hw
  refine lv_aload_n C.x C.b dX5_sells_122 rfl (lv_at hl 0 rfl) ?_
  refine lv_iload_n C.x C.b dX5_sells_123 rfl (lv_at hl 1 rfl) ?_
  refine lv_iconst (v := 2) C.x C.b dX5_sells_124 (by decide) ?_
  refine gm_callV (rest := []) C hI hS hl (kM_of C.tr hI hw) q1595 q1597 qs37 q88 q1598 ny_of rfl (Nat.le_of_ble_eq_true rfl) (Nat.le_of_ble_eq_true rfl) rfl (Nat.le_of_ble_eq_true rfl) dX5_sells_125 (gm_ki (fun r21 u20 H locs hw hS => ?_))
  refine lv_iload C.x C.b dX5_sells_128 (lv_at hl 2 rfl) ?_
  refine lv_iadd C.x C.b dX5_sells_130 ?_
  refine lv_aload_n C.x C.b dX5_sells_131 rfl (lv_at hl 0 rfl) ?_
  refine lv_iload_n C.x C.b dX5_sells_132 rfl (lv_at hl 1 rfl) ?_
  refine lv_iconst (v := 3) C.x C.b dX5_sells_133 (by decide) ?_
  refine gm_callV (rest := [.int (r21 + x4)]) C hI hS hl (kM_of C.tr hI hw) q1595 q1597 qs37 q88 q1598 ny_of rfl (Nat.le_of_ble_eq_true rfl) (Nat.le_of_ble_eq_true rfl) rfl (Nat.le_of_ble_eq_true rfl) dX5_sells_134 (gm_ki (fun r23 u22 H locs hw hS => ?_))
  refine lv_isub C.x C.b dX5_sells_137 ?_
  refine lv_istore (lv' := [(5, .int ((r21 + x4) - r23)), (0, .ref (ad 8)), (1, .int x1), (4, .int x4)]) C.x C.b dX5_sells_138 hl (by decide) rfl (fun ls hl => ?_)
  refine lv_iload C.x C.b dX5_sells_140 (lv_at hl 0 rfl) ?_
  refine lv_if_ne (tgt := 149) C.x C.b dX5_sells_142 (by decide) (fun c24 => ?_) (fun c24 => ?_)
  · have hw := hw.2 c24
    refine lv_aload_n C.x C.b dX5_sells_149 rfl (lv_at hl 1 rfl) ?_
    refine lv_iload_n C.x C.b dX5_sells_150 rfl (lv_at hl 2 rfl) ?_
    refine lv_bipush (v := 7) C.x C.b dX5_sells_151 (by decide) ?_
    refine gm_callV (rest := []) C hI hS hl (kM_of C.tr hI hw) q1595 q1597 qs37 q88 q1598 ny_of rfl (Nat.le_of_ble_eq_true rfl) (Nat.le_of_ble_eq_true rfl) rfl (Nat.le_of_ble_eq_true rfl) dX5_sells_153 (gm_ki (fun r26 u25 H locs hw hS => ?_))
    refine lv_iconst (v := 1) C.x C.b dX5_sells_156 (by decide) ?_
    refine lv_iadd C.x C.b dX5_sells_157 ?_
    exact kM_sells_158 C hI _ _ _ _ _ _ _ _ hS (lv_sub hl [1, 2, 3, 0] rfl) hw
  · have hw := hw.1 c24
    refine lv_iconst (v := 0) C.x C.b dX5_sells_145 (by decide) ?_
    refine lv_goto (tgt := 158) C.x C.b dX5_sells_146 (by decide) ?_
    exact kM_sells_158 C hI _ _ _ _ _ _ _ _ hS (lv_sub hl [1, 2, 3, 0] rfl) hw
def wM_sells_64 (Q : gM → Prop) (x1 : Int32) (x2 : Int32) (y0 : Int32) (u : gM) : Prop :=
  wM_puts x1 5 x2 (fun u13 => wM_puts x1 6 y0 (fun u14 => (x2 < 0 → (wM_sells_122 Q x1 y0 u14)) ∧ (¬ x2 < 0 → (uLd 0 487 (187 + (3 * x2)) (fun v16 => uSt 0 487 (187 + (3 * x2)) (v16 - y0) (fun u17 => uLd 0 487 ((187 + (3 * x2)) + 1) (fun v18 => uSt 0 487 ((187 + (3 * x2)) + 1) (v18 + y0) (fun u19 => wM_sells_122 Q x1 y0 u19) u17) u17) u14) u14))) u13) u
theorem kM_sells_64 (C : gC p l s m args meth c cX5_sells 8 none RX5 E [] "sells") (hI : mI ad) {Q : gM → Prop} (x1 : Int32) (x2 : Int32) (y0 : Int32) (u : gM) (H : Heap) (locs : List Loc) (ls : Array Slot) (hS : gS E w0 (gmW E ad u w) H locs) (hl : lv_has ls 8 [(0, .ref (ad 8)), (1, .int x1), (2, .int x2)]) (hw : wM_sells_64 Q x1 x2 y0 u) : mGo p l e s m args below meth c 3 69 E ad w0 w (uV Q) H locs (F0 m 64 ls [.int y0]) := by
  unfold wM_sells_64 at hw
  refine lv_istore (lv' := [(4, .int y0), (0, .ref (ad 8)), (1, .int x1), (2, .int x2)]) C.x C.b dX5_sells_64 hl (by decide) rfl (fun ls hl => ?_)
  refine lv_aload_n C.x C.b dX5_sells_66 rfl (lv_at hl 1 rfl) ?_
  refine lv_iload_n C.x C.b dX5_sells_67 rfl (lv_at hl 2 rfl) ?_
  refine lv_iconst (v := 5) C.x C.b dX5_sells_68 (by decide) ?_
  refine lv_iload_n C.x C.b dX5_sells_69 rfl (lv_at hl 3 rfl) ?_
  refine gm_callV (rest := []) C hI hS hl (kM_puts C.tr hI hw) q1579 q1581 qs34 q88 q1582 ny_puts rfl (Nat.le_of_ble_eq_true rfl) (Nat.le_of_ble_eq_true rfl) rfl (Nat.le_of_ble_eq_true rfl) dX5_sells_70 (gm_kv (fun u13 H locs hw hS => ?_))
  refine lv_aload_n C.x C.b dX5_sells_73 rfl (lv_at hl 1 rfl) ?_
  refine lv_iload_n C.x C.b dX5_sells_74 rfl (lv_at hl 2 rfl) ?_
  refine lv_bipush (v := 6) C.x C.b dX5_sells_75 (by decide) ?_
  refine lv_iload C.x C.b dX5_sells_77 (lv_at hl 0 rfl) ?_
  refine gm_callV (rest := []) C hI hS hl (kM_puts C.tr hI hw) q1579 q1581 qs34 q88 q1582 ny_puts rfl (Nat.le_of_ble_eq_true rfl) (Nat.le_of_ble_eq_true rfl) rfl (Nat.le_of_ble_eq_true rfl) dX5_sells_79 (gm_kv (fun u14 H locs hw hS => ?_))
  refine lv_iload_n C.x C.b dX5_sells_82 rfl (lv_at hl 3 rfl) ?_
  refine lv_if_lt (tgt := 122) C.x C.b dX5_sells_83 (by decide) (fun c15 => ?_) (fun c15 => ?_)
  · have hw := hw.1 c15
    exact kM_sells_122 C hI _ _ _ _ _ _ hS (lv_sub hl [1, 2, 0] rfl) hw
  · have hw := hw.2 c15
    refine lv_aload_n C.x C.b dX5_sells_86 rfl (lv_at hl 1 rfl) ?_
    refine gm_getA C hI hS 0 (by decide) (a := ad 0) rfl q1481 (fun _ h9 => h9) dX5_sells_87 ?_
    refine lv_sipush (v := 187) C.x C.b dX5_sells_90 (by decide) ?_
    refine lv_iconst (v := 3) C.x C.b dX5_sells_93 (by decide) ?_
    refine lv_iload_n C.x C.b dX5_sells_94 rfl (lv_at hl 3 rfl) ?_
    refine lv_imul C.x C.b dX5_sells_95 ?_
    refine lv_iadd C.x C.b dX5_sells_96 ?_
    refine lv_dup2_11 C.x C.b dX5_sells_97 rfl rfl ?_
    refine gm_ld C hI hS 0 487 (by decide) rfl dX5_sells_98 hw (fun v16 hw => ?_)
    refine lv_iload C.x C.b dX5_sells_99 (lv_at hl 0 rfl) ?_
    refine lv_isub C.x C.b dX5_sells_101 ?_
    refine gm_st C hI hS 0 487 (by decide) rfl dX5_sells_102 hw (fun u17 H locs hw hS => ?_)
    refine lv_aload_n C.x C.b dX5_sells_103 rfl (lv_at hl 1 rfl) ?_
    refine gm_getA C hI hS 0 (by decide) (a := ad 0) rfl q1481 (fun _ h9 => h9) dX5_sells_104 ?_
    refine lv_sipush (v := 187) C.x C.b dX5_sells_107 (by decide) ?_
    refine lv_iconst (v := 3) C.x C.b dX5_sells_110 (by decide) ?_
    refine lv_iload_n C.x C.b dX5_sells_111 rfl (lv_at hl 3 rfl) ?_
    refine lv_imul C.x C.b dX5_sells_112 ?_
    refine lv_iadd C.x C.b dX5_sells_113 ?_
    refine lv_iconst (v := 1) C.x C.b dX5_sells_114 (by decide) ?_
    refine lv_iadd C.x C.b dX5_sells_115 ?_
    refine lv_dup2_11 C.x C.b dX5_sells_116 rfl rfl ?_
    refine gm_ld C hI hS 0 487 (by decide) rfl dX5_sells_117 hw (fun v18 hw => ?_)
    refine lv_iload C.x C.b dX5_sells_118 (lv_at hl 0 rfl) ?_
    refine lv_iadd C.x C.b dX5_sells_120 ?_
    refine gm_st C hI hS 0 487 (by decide) rfl dX5_sells_121 hw (fun u19 H locs hw hS => ?_)
    exact kM_sells_122 C hI _ _ _ _ _ _ hS (lv_sub hl [1, 2, 0] rfl) hw
def wM_sells_36 (Q : gM → Prop) (x1 : Int32) (x2 : Int32) (y0 : Int32) (u : gM) : Prop :=
  (x2 = (-1) → (wM_sells_64 Q x1 x2 0 u)) ∧ (¬ x2 = (-1) → ((y0 = (-1) → (wM_sells_64 Q x1 x2 1 u)) ∧ (¬ y0 = (-1) → (wM_of x1 (14 + y0) (fun r12 u11 => wM_sells_64 Q x1 x2 r12 u11) u))))
theorem kM_sells_36 (C : gC p l s m args meth c cX5_sells 8 none RX5 E [] "sells") (hI : mI ad) {Q : gM → Prop} (x1 : Int32) (x2 : Int32) (y0 : Int32) (u : gM) (H : Heap) (locs : List Loc) (ls : Array Slot) (hS : gS E w0 (gmW E ad u w) H locs) (hl : lv_has ls 8 [(0, .ref (ad 8)), (1, .int x1), (2, .int x2)]) (hw : wM_sells_36 Q x1 x2 y0 u) : mGo p l e s m args below meth c 3 69 E ad w0 w (uV Q) H locs (F0 m 36 ls [.int y0]) := by
  unfold wM_sells_36 at hw
  refine lv_istore_n (lv' := [(3, .int y0), (0, .ref (ad 8)), (1, .int x1), (2, .int x2)]) C.x C.b dX5_sells_36 rfl hl (by decide) rfl (fun ls hl => ?_)
  refine lv_iload_n C.x C.b dX5_sells_37 rfl (lv_at hl 3 rfl) ?_
  refine lv_iconst (v := (-1)) C.x C.b dX5_sells_38 (by decide) ?_
  refine lv_icmp_ne (tgt := 46) C.x C.b dX5_sells_39 (by decide) (fun c9 => ?_) (fun c9 => ?_)
  · have hw := hw.2 c9
    refine lv_iload_n C.x C.b dX5_sells_46 rfl (lv_at hl 0 rfl) ?_
    refine lv_iconst (v := (-1)) C.x C.b dX5_sells_47 (by decide) ?_
    refine lv_icmp_ne (tgt := 55) C.x C.b dX5_sells_48 (by decide) (fun c10 => ?_) (fun c10 => ?_)
    · have hw := hw.2 c10
      refine lv_aload_n C.x C.b dX5_sells_55 rfl (lv_at hl 1 rfl) ?_
      refine lv_iload_n C.x C.b dX5_sells_56 rfl (lv_at hl 2 rfl) ?_
      refine lv_bipush (v := 14) C.x C.b dX5_sells_57 (by decide) ?_
      refine lv_iload_n C.x C.b dX5_sells_59 rfl (lv_at hl 0 rfl) ?_
      refine lv_iadd C.x C.b dX5_sells_60 ?_
      refine gm_callV (rest := []) C hI hS hl (kM_of C.tr hI hw) q1595 q1597 qs37 q88 q1598 ny_of rfl (Nat.le_of_ble_eq_true rfl) (Nat.le_of_ble_eq_true rfl) rfl (Nat.le_of_ble_eq_true rfl) dX5_sells_61 (gm_ki (fun r12 u11 H locs hw hS => ?_))
      exact kM_sells_64 C hI _ _ _ _ _ _ _ hS (lv_sub hl [1, 2, 3] rfl) hw
    · have hw := hw.1 c10
      refine lv_iconst (v := 1) C.x C.b dX5_sells_51 (by decide) ?_
      refine lv_goto (tgt := 64) C.x C.b dX5_sells_52 (by decide) ?_
      exact kM_sells_64 C hI _ _ _ _ _ _ _ hS (lv_sub hl [1, 2, 3] rfl) hw
  · have hw := hw.1 c9
    refine lv_iconst (v := 0) C.x C.b dX5_sells_42 (by decide) ?_
    refine lv_goto (tgt := 64) C.x C.b dX5_sells_43 (by decide) ?_
    exact kM_sells_64 C hI _ _ _ _ _ _ _ hS (lv_sub hl [1, 2, 3] rfl) hw
def wM_sells_20 (Q : gM → Prop) (x1 : Int32) (y0 : Int32) (u : gM) : Prop :=
  (y0 = (-1) → (wM_sells_36 Q x1 y0 (-1) u)) ∧ (¬ y0 = (-1) → (wM_greatest x1 y0 (fun r8 u7 => wM_sells_36 Q x1 y0 r8 u7) u))
theorem kM_sells_20 (C : gC p l s m args meth c cX5_sells 8 none RX5 E [] "sells") (hI : mI ad) {Q : gM → Prop} (x1 : Int32) (y0 : Int32) (u : gM) (H : Heap) (locs : List Loc) (ls : Array Slot) (hS : gS E w0 (gmW E ad u w) H locs) (hl : lv_has ls 8 [(0, .ref (ad 8)), (1, .int x1)]) (hw : wM_sells_20 Q x1 y0 u) : mGo p l e s m args below meth c 3 69 E ad w0 w (uV Q) H locs (F0 m 20 ls [.int y0]) := by
  unfold wM_sells_20 at hw
  refine lv_istore_n (lv' := [(2, .int y0), (0, .ref (ad 8)), (1, .int x1)]) C.x C.b dX5_sells_20 rfl hl (by decide) rfl (fun ls hl => ?_)
  refine lv_iload_n C.x C.b dX5_sells_21 rfl (lv_at hl 0 rfl) ?_
  refine lv_iconst (v := (-1)) C.x C.b dX5_sells_22 (by decide) ?_
  refine lv_icmp_ne (tgt := 30) C.x C.b dX5_sells_23 (by decide) (fun c6 => ?_) (fun c6 => ?_)
  · have hw := hw.2 c6
    refine lv_aload_n C.x C.b dX5_sells_30 rfl (lv_at hl 1 rfl) ?_
    refine lv_iload_n C.x C.b dX5_sells_31 rfl (lv_at hl 2 rfl) ?_
    refine lv_iload_n C.x C.b dX5_sells_32 rfl (lv_at hl 0 rfl) ?_
    refine gm_callV (rest := []) C hI hS hl (kM_greatest C.tr hI hw) q1654 q1656 qs45 q88 q1657 ny_greatest rfl (Nat.le_of_ble_eq_true rfl) (Nat.le_of_ble_eq_true rfl) rfl (Nat.le_of_ble_eq_true rfl) dX5_sells_33 (gm_ki (fun r8 u7 H locs hw hS => ?_))
    exact kM_sells_36 C hI _ _ _ _ _ _ _ hS (lv_sub hl [1, 2, 0] rfl) hw
  · have hw := hw.1 c6
    refine lv_iconst (v := (-1)) C.x C.b dX5_sells_26 (by decide) ?_
    refine lv_goto (tgt := 36) C.x C.b dX5_sells_27 (by decide) ?_
    exact kM_sells_36 C hI _ _ _ _ _ _ _ hS (lv_sub hl [1, 2, 0] rfl) hw
def wM_sells (a1 : Int32) (Q : gM → Prop) (u : gM) : Prop :=
  wM_of a1 4 (fun r2 u1 => (r2 = 1 → (wM_greatest a1 (-1) (fun r5 u4 => wM_sells_20 Q a1 r5 u4) u1)) ∧ (¬ r2 = 1 → (wM_sells_20 Q a1 (-1) u1))) u
theorem kM_sells_r (C : gC p l s m args meth c cX5_sells 8 none RX5 E [] "sells") (hI : mI ad) (a1 : Int32) {Q : gM → Prop} (u : gM) (H : Heap) (locs : List Loc) (ls : Array Slot) (hS : gS E w0 (gmW E ad u w) H locs) (hl : lv_has ls 8 [(0, .ref (ad 8)), (1, .int a1)]) (hw : wM_sells a1 Q u) : mGo p l e s m args below meth c 3 69 E ad w0 w (uV Q) H locs (F0 m 0 ls []) := by
  unfold wM_sells at hw
  refine lv_aload_n C.x C.b dX5_sells_0 rfl (lv_at hl 0 rfl) ?_
  refine lv_iload_n C.x C.b dX5_sells_1 rfl (lv_at hl 1 rfl) ?_
  refine lv_iconst (v := 4) C.x C.b dX5_sells_2 (by decide) ?_
  refine gm_callV (rest := []) C hI hS hl (kM_of C.tr hI hw) q1595 q1597 qs37 q88 q1598 ny_of rfl (Nat.le_of_ble_eq_true rfl) (Nat.le_of_ble_eq_true rfl) rfl (Nat.le_of_ble_eq_true rfl) dX5_sells_3 (gm_ki (fun r2 u1 H locs hw hS => ?_))
  refine lv_iconst (v := 1) C.x C.b dX5_sells_6 (by decide) ?_
  refine lv_icmp_ne (tgt := 19) C.x C.b dX5_sells_7 (by decide) (fun c3 => ?_) (fun c3 => ?_)
  · have hw := hw.2 c3
    refine lv_iconst (v := (-1)) C.x C.b dX5_sells_19 (by decide) ?_
    exact kM_sells_20 C hI _ _ _ _ _ _ hS (lv_sub hl [0, 1] rfl) hw
  · have hw := hw.1 c3
    refine lv_aload_n C.x C.b dX5_sells_10 rfl (lv_at hl 0 rfl) ?_
    refine lv_iload_n C.x C.b dX5_sells_11 rfl (lv_at hl 1 rfl) ?_
    refine lv_iconst (v := (-1)) C.x C.b dX5_sells_12 (by decide) ?_
    refine gm_callV (rest := []) C hI hS hl (kM_greatest C.tr hI hw) q1654 q1656 qs45 q88 q1657 ny_greatest rfl (Nat.le_of_ble_eq_true rfl) (Nat.le_of_ble_eq_true rfl) rfl (Nat.le_of_ble_eq_true rfl) dX5_sells_13 (gm_ki (fun r5 u4 H locs hw hS => ?_))
    refine lv_goto (tgt := 20) C.x C.b dX5_sells_16 (by decide) ?_
    exact kM_sells_20 C hI _ _ _ _ _ _ hS (lv_sub hl [0, 1] rfl) hw
theorem kM_sells {l : Launch} (ht : l.stackTraces = false) (hI : mI ad) {w : gW} {u : gM} {a1 : Int32} {Q : gM → Prop} (hw : wM_sells a1 Q u) : gMet l yX5_sells (ws_ yX5_sells cX5_sells 8 none) E (gmW E ad u w) [.ref (ad 8), .int a1] 3 69 (mQ E ad w (uV Q)) gNoX :=
  g_ofW ht (by decide) (Nat.le_of_ble_eq_true rfl) (fun p e s m below meth c ls H C hl hS => kM_sells_r C hI _ _ _ _ _ hS hl hw)
def wM_auctions_59 (Q : gM → Prop) : Nat → Int32 → gM → Prop
  | 0, _, _ => False
  | n + 1, x1, u => uLd 0 487 5 (fun v8 => (v8 ≤ x1 → (Q u)) ∧ (¬ v8 ≤ x1 → (wM_sells x1 (fun u10 => wM_auctions_59 Q n (x1 + 1) u10) u))) u
theorem kM_auctions_59 (C : gC p l s m args meth c cX5_auctions 2 none RX5 E [] "auctions") (hI : mI ad) {Q : gM → Prop} : ∀ (n : Nat) (x1 : Int32) (u : gM) (H : Heap) (locs : List Loc) (ls : Array Slot), gS E w0 (gmW E ad u w) H locs → lv_has ls 2 [(0, .ref (ad 8)), (1, .int x1)] → wM_auctions_59 Q n x1 u → mGo p l e s m args below meth c 4 96 E ad w0 w (uV Q) H locs (F0 m 59 ls []) := by
  intro n
  induction n with
  | zero =>
    intro x1 u H locs ls hS hl hw
    exact hw.elim
  | succ n ih =>
    intro x1 u H locs ls hS hl hw
    unfold wM_auctions_59 at hw
    refine lv_iload_n C.x C.b dX5_auctions_59 rfl (lv_at hl 1 rfl) ?_
    refine lv_aload_n C.x C.b dX5_auctions_60 rfl (lv_at hl 0 rfl) ?_
    refine gm_getA C hI hS 0 (by decide) (a := ad 0) rfl q1481 (fun _ h9 => h9) dX5_auctions_61 ?_
    refine lv_iconst (v := 5) C.x C.b dX5_auctions_64 (by decide) ?_
    refine gm_ld C hI hS 0 487 (by decide) rfl dX5_auctions_65 hw (fun v8 hw => ?_)
    refine lv_icmp_ge (tgt := 80) C.x C.b dX5_auctions_66 (by decide) (fun c9 => ?_) (fun c9 => ?_)
    · have hw := hw.1 c9
      exact gm_vret C hS hw dX5_auctions_80
    · have hw := hw.2 c9
      refine lv_aload_n C.x C.b dX5_auctions_69 rfl (lv_at hl 0 rfl) ?_
      refine lv_iload_n C.x C.b dX5_auctions_70 rfl (lv_at hl 1 rfl) ?_
      refine gm_callV (rest := []) C hI hS hl (kM_sells C.tr hI hw) q1650 q1652 qs44 q88 q1653 ny_sells rfl (Nat.le_of_ble_eq_true rfl) (Nat.le_of_ble_eq_true rfl) rfl (Nat.le_of_ble_eq_true rfl) dX5_auctions_71 (gm_kv (fun u10 H locs hw hS => ?_))
      refine lv_iinc (v := (x1 + 1)) (lv' := [(1, .int (x1 + 1)), (0, .ref (ad 8))]) C.x C.b dX5_auctions_74 hl (k := 1) rfl rfl (by decide) rfl (fun ls hl => ?_)
      refine lv_goto (tgt := 59) C.x C.b dX5_auctions_77 (by decide) ?_
      exact ih _ _ _ _ _ hS (lv_sub hl [1, 0] rfl) hw
def wM_auctions_13 (Q : gM → Prop) : Nat → Int32 → gM → Prop
  | 0, _, _ => False
  | n + 1, x1, u => (4 ≤ x1 → (∃ k5 : Nat, wM_auctions_59 Q k5 0 u)) ∧ (¬ 4 ≤ x1 → (uLd 0 487 (187 + (3 * x1)) (fun v6 => uSt 0 487 (187 + (3 * x1)) (((9 * v6) / 10) + 20) (fun u7 => wM_auctions_13 Q n (x1 + 1) u7) u) u))
theorem kM_auctions_13 (C : gC p l s m args meth c cX5_auctions 2 none RX5 E [] "auctions") (hI : mI ad) {Q : gM → Prop} : ∀ (n : Nat) (x1 : Int32) (u : gM) (H : Heap) (locs : List Loc) (ls : Array Slot), gS E w0 (gmW E ad u w) H locs → lv_has ls 2 [(0, .ref (ad 8)), (1, .int x1)] → wM_auctions_13 Q n x1 u → mGo p l e s m args below meth c 4 96 E ad w0 w (uV Q) H locs (F0 m 13 ls []) := by
  intro n
  induction n with
  | zero =>
    intro x1 u H locs ls hS hl hw
    exact hw.elim
  | succ n ih =>
    intro x1 u H locs ls hS hl hw
    unfold wM_auctions_13 at hw
    refine lv_iload_n C.x C.b dX5_auctions_13 rfl (lv_at hl 1 rfl) ?_
    refine lv_iconst (v := 4) C.x C.b dX5_auctions_14 (by decide) ?_
    refine lv_icmp_ge (tgt := 57) C.x C.b dX5_auctions_15 (by decide) (fun c4 => ?_) (fun c4 => ?_)
    · have hw := hw.1 c4
      refine lv_iconst (v := 0) C.x C.b dX5_auctions_57 (by decide) ?_
      refine lv_istore_n (lv' := [(1, .int 0), (0, .ref (ad 8))]) C.x C.b dX5_auctions_58 rfl hl (by decide) rfl (fun ls hl => ?_)
      obtain ⟨k5, hw⟩ := hw
      exact kM_auctions_59 C hI k5 _ _ _ _ _ hS (lv_sub hl [1, 0] rfl) hw
    · have hw := hw.2 c4
      refine lv_aload_n C.x C.b dX5_auctions_18 rfl (lv_at hl 0 rfl) ?_
      refine gm_getA C hI hS 0 (by decide) (a := ad 0) rfl q1481 (fun _ h9 => h9) dX5_auctions_19 ?_
      refine lv_sipush (v := 187) C.x C.b dX5_auctions_22 (by decide) ?_
      refine lv_iconst (v := 3) C.x C.b dX5_auctions_25 (by decide) ?_
      refine lv_iload_n C.x C.b dX5_auctions_26 rfl (lv_at hl 1 rfl) ?_
      refine lv_imul C.x C.b dX5_auctions_27 ?_
      refine lv_iadd C.x C.b dX5_auctions_28 ?_
      refine lv_bipush (v := 9) C.x C.b dX5_auctions_29 (by decide) ?_
      refine lv_aload_n C.x C.b dX5_auctions_31 rfl (lv_at hl 0 rfl) ?_
      refine gm_getA C hI hS 0 (by decide) (a := ad 0) rfl q1481 (fun _ h9 => h9) dX5_auctions_32 ?_
      refine lv_sipush (v := 187) C.x C.b dX5_auctions_35 (by decide) ?_
      refine lv_iconst (v := 3) C.x C.b dX5_auctions_38 (by decide) ?_
      refine lv_iload_n C.x C.b dX5_auctions_39 rfl (lv_at hl 1 rfl) ?_
      refine lv_imul C.x C.b dX5_auctions_40 ?_
      refine lv_iadd C.x C.b dX5_auctions_41 ?_
      refine gm_ld C hI hS 0 487 (by decide) rfl dX5_auctions_42 hw (fun v6 hw => ?_)
      refine lv_imul C.x C.b dX5_auctions_43 ?_
      refine lv_bipush (v := 10) C.x C.b dX5_auctions_44 (by decide) ?_
      refine lv_idiv C.x C.b dX5_auctions_46 (by decide) ?_
      refine lv_bipush (v := 20) C.x C.b dX5_auctions_47 (by decide) ?_
      refine lv_iadd C.x C.b dX5_auctions_49 ?_
      refine gm_st C hI hS 0 487 (by decide) rfl dX5_auctions_50 hw (fun u7 H locs hw hS => ?_)
      refine lv_iinc (v := (x1 + 1)) (lv' := [(1, .int (x1 + 1)), (0, .ref (ad 8))]) C.x C.b dX5_auctions_51 hl (k := 1) rfl rfl (by decide) rfl (fun ls hl => ?_)
      refine lv_goto (tgt := 13) C.x C.b dX5_auctions_54 (by decide) ?_
      exact ih _ _ _ _ _ hS (lv_sub hl [1, 0] rfl) hw
def wM_auctions (Q : gM → Prop) (u : gM) : Prop :=
  uLd 0 487 6 (fun v1 => uSt 0 487 6 (v1 + 1) (fun u2 => ∃ k3 : Nat, wM_auctions_13 Q k3 0 u2) u) u
theorem kM_auctions_r (C : gC p l s m args meth c cX5_auctions 2 none RX5 E [] "auctions") (hI : mI ad) {Q : gM → Prop} (u : gM) (H : Heap) (locs : List Loc) (ls : Array Slot) (hS : gS E w0 (gmW E ad u w) H locs) (hl : lv_has ls 2 [(0, .ref (ad 8))]) (hw : wM_auctions Q u) : mGo p l e s m args below meth c 4 96 E ad w0 w (uV Q) H locs (F0 m 0 ls []) := by
  unfold wM_auctions at hw
  refine lv_aload_n C.x C.b dX5_auctions_0 rfl (lv_at hl 0 rfl) ?_
  refine gm_getA C hI hS 0 (by decide) (a := ad 0) rfl q1481 (fun _ h9 => h9) dX5_auctions_1 ?_
  refine lv_bipush (v := 6) C.x C.b dX5_auctions_4 (by decide) ?_
  refine lv_dup2_11 C.x C.b dX5_auctions_6 rfl rfl ?_
  refine gm_ld C hI hS 0 487 (by decide) rfl dX5_auctions_7 hw (fun v1 hw => ?_)
  refine lv_iconst (v := 1) C.x C.b dX5_auctions_8 (by decide) ?_
  refine lv_iadd C.x C.b dX5_auctions_9 ?_
  refine gm_st C hI hS 0 487 (by decide) rfl dX5_auctions_10 hw (fun u2 H locs hw hS => ?_)
  refine lv_iconst (v := 0) C.x C.b dX5_auctions_11 (by decide) ?_
  refine lv_istore_n (lv' := [(1, .int 0), (0, .ref (ad 8))]) C.x C.b dX5_auctions_12 rfl hl (by decide) rfl (fun ls hl => ?_)
  obtain ⟨k3, hw⟩ := hw
  exact kM_auctions_13 C hI k3 _ _ _ _ _ hS (lv_sub hl [1, 0] rfl) hw
theorem kM_auctions {l : Launch} (ht : l.stackTraces = false) (hI : mI ad) {w : gW} {u : gM} {Q : gM → Prop} (hw : wM_auctions Q u) : gMet l yX5_auctions (ws_ yX5_auctions cX5_auctions 2 none) E (gmW E ad u w) [.ref (ad 8)] 4 96 (mQ E ad w (uV Q)) gNoX :=
  g_ofW ht (by decide) (Nat.le_of_ble_eq_true rfl) (fun p e s m below meth c ls H C hl hS => kM_auctions_r C hI _ _ _ _ hS hl hw)
def wM_other (a1 : Int32) (a2 : Int32) (Q : Int32 → gM → Prop) (u : gM) : Prop :=
  wM_of a1 0 (fun r2 u1 => (r2 = a2 → (wM_of a1 1 (fun r7 u6 => Q r7 u6) u1)) ∧ (¬ r2 = a2 → (wM_of a1 0 (fun r5 u4 => Q r5 u4) u1))) u
theorem kM_other_r (C : gC p l s m args meth c cX5_other 3 (some .int) RX5 E [] "other") (hI : mI ad) (a1 : Int32) (a2 : Int32) {Q : Int32 → gM → Prop} (u : gM) (H : Heap) (locs : List Loc) (ls : Array Slot) (hS : gS E w0 (gmW E ad u w) H locs) (hl : lv_has ls 3 [(0, .ref (ad 8)), (1, .int a1), (2, .int a2)]) (hw : wM_other a1 a2 Q u) : mGo p l e s m args below meth c 1 22 E ad w0 w (uI Q) H locs (F0 m 0 ls []) := by
  unfold wM_other at hw
  refine lv_aload_n C.x C.b dX5_other_0 rfl (lv_at hl 0 rfl) ?_
  refine lv_iload_n C.x C.b dX5_other_1 rfl (lv_at hl 1 rfl) ?_
  refine lv_iconst (v := 0) C.x C.b dX5_other_2 (by decide) ?_
  refine gm_callV (rest := []) C hI hS hl (kM_of C.tr hI hw) q1595 q1597 qs37 q88 q1598 ny_of rfl (Nat.le_of_ble_eq_true rfl) (Nat.le_of_ble_eq_true rfl) rfl (Nat.le_of_ble_eq_true rfl) dX5_other_3 (gm_ki (fun r2 u1 H locs hw hS => ?_))
  refine lv_iload_n C.x C.b dX5_other_6 rfl (lv_at hl 2 rfl) ?_
  refine lv_icmp_ne (tgt := 19) C.x C.b dX5_other_7 (by decide) (fun c3 => ?_) (fun c3 => ?_)
  · have hw := hw.2 c3
    refine lv_aload_n C.x C.b dX5_other_19 rfl (lv_at hl 0 rfl) ?_
    refine lv_iload_n C.x C.b dX5_other_20 rfl (lv_at hl 1 rfl) ?_
    refine lv_iconst (v := 0) C.x C.b dX5_other_21 (by decide) ?_
    refine gm_callV (rest := []) C hI hS hl (kM_of C.tr hI hw) q1595 q1597 qs37 q88 q1598 ny_of rfl (Nat.le_of_ble_eq_true rfl) (Nat.le_of_ble_eq_true rfl) rfl (Nat.le_of_ble_eq_true rfl) dX5_other_22 (gm_ki (fun r5 u4 H locs hw hS => ?_))
    exact gm_iret C hS hw dX5_other_25
  · have hw := hw.1 c3
    refine lv_aload_n C.x C.b dX5_other_10 rfl (lv_at hl 0 rfl) ?_
    refine lv_iload_n C.x C.b dX5_other_11 rfl (lv_at hl 1 rfl) ?_
    refine lv_iconst (v := 1) C.x C.b dX5_other_12 (by decide) ?_
    refine gm_callV (rest := []) C hI hS hl (kM_of C.tr hI hw) q1595 q1597 qs37 q88 q1598 ny_of rfl (Nat.le_of_ble_eq_true rfl) (Nat.le_of_ble_eq_true rfl) rfl (Nat.le_of_ble_eq_true rfl) dX5_other_13 (gm_ki (fun r7 u6 H locs hw hS => ?_))
    refine lv_goto (tgt := 25) C.x C.b dX5_other_16 (by decide) ?_
    exact gm_iret C hS hw dX5_other_25
theorem kM_other {l : Launch} (ht : l.stackTraces = false) (hI : mI ad) {w : gW} {u : gM} {a1 : Int32} {a2 : Int32} {Q : Int32 → gM → Prop} (hw : wM_other a1 a2 Q u) : gMet l yX5_other (ws_ yX5_other cX5_other 3 (some .int)) E (gmW E ad u w) [.ref (ad 8), .int a1, .int a2] 1 22 (mQ E ad w (uI Q)) gNoX :=
  g_ofW ht (by decide) (Nat.le_of_ble_eq_true rfl) (fun p e s m below meth c ls H C hl hS => kM_other_r C hI _ _ _ _ _ _ hS hl hw)
def wM_isAt (a1 : Int32) (a2 : Int32) (Q : Int32 → gM → Prop) (u : gM) : Prop :=
  wM_of a1 0 (fun r2 u1 => (r2 = a2 → (Q 1 u1)) ∧ (¬ r2 = a2 → (wM_of a1 1 (fun r5 u4 => (r5 = a2 → (Q 1 u4)) ∧ (¬ r5 = a2 → (Q 0 u4))) u1))) u
theorem kM_isAt_r (C : gC p l s m args meth c cX5_isAt 3 (some .boolean) RX5 E [] "isAt") (hI : mI ad) (a1 : Int32) (a2 : Int32) {Q : Int32 → gM → Prop} (u : gM) (H : Heap) (locs : List Loc) (ls : Array Slot) (hS : gS E w0 (gmW E ad u w) H locs) (hl : lv_has ls 3 [(0, .ref (ad 8)), (1, .int a1), (2, .int a2)]) (hw : wM_isAt a1 a2 Q u) : mGo p l e s m args below meth c 1 22 E ad w0 w (uI Q) H locs (F0 m 0 ls []) := by
  unfold wM_isAt at hw
  refine lv_aload_n C.x C.b dX5_isAt_0 rfl (lv_at hl 0 rfl) ?_
  refine lv_iload_n C.x C.b dX5_isAt_1 rfl (lv_at hl 1 rfl) ?_
  refine lv_iconst (v := 0) C.x C.b dX5_isAt_2 (by decide) ?_
  refine gm_callV (rest := []) C hI hS hl (kM_of C.tr hI hw) q1595 q1597 qs37 q88 q1598 ny_of rfl (Nat.le_of_ble_eq_true rfl) (Nat.le_of_ble_eq_true rfl) rfl (Nat.le_of_ble_eq_true rfl) dX5_isAt_3 (gm_ki (fun r2 u1 H locs hw hS => ?_))
  refine lv_iload_n C.x C.b dX5_isAt_6 rfl (lv_at hl 2 rfl) ?_
  refine lv_icmp_eq (tgt := 20) C.x C.b dX5_isAt_7 (by decide) (fun c3 => ?_) (fun c3 => ?_)
  · have hw := hw.1 c3
    refine lv_iconst (v := 1) C.x C.b dX5_isAt_20 (by decide) ?_
    refine lv_goto (tgt := 25) C.x C.b dX5_isAt_21 (by decide) ?_
    exact gm_zret C hS rfl hw dX5_isAt_25
  · have hw := hw.2 c3
    refine lv_aload_n C.x C.b dX5_isAt_10 rfl (lv_at hl 0 rfl) ?_
    refine lv_iload_n C.x C.b dX5_isAt_11 rfl (lv_at hl 1 rfl) ?_
    refine lv_iconst (v := 1) C.x C.b dX5_isAt_12 (by decide) ?_
    refine gm_callV (rest := []) C hI hS hl (kM_of C.tr hI hw) q1595 q1597 qs37 q88 q1598 ny_of rfl (Nat.le_of_ble_eq_true rfl) (Nat.le_of_ble_eq_true rfl) rfl (Nat.le_of_ble_eq_true rfl) dX5_isAt_13 (gm_ki (fun r5 u4 H locs hw hS => ?_))
    refine lv_iload_n C.x C.b dX5_isAt_16 rfl (lv_at hl 2 rfl) ?_
    refine lv_icmp_ne (tgt := 24) C.x C.b dX5_isAt_17 (by decide) (fun c6 => ?_) (fun c6 => ?_)
    · have hw := hw.2 c6
      refine lv_iconst (v := 0) C.x C.b dX5_isAt_24 (by decide) ?_
      exact gm_zret C hS rfl hw dX5_isAt_25
    · have hw := hw.1 c6
      refine lv_iconst (v := 1) C.x C.b dX5_isAt_20 (by decide) ?_
      refine lv_goto (tgt := 25) C.x C.b dX5_isAt_21 (by decide) ?_
      exact gm_zret C hS rfl hw dX5_isAt_25
theorem kM_isAt {l : Launch} (ht : l.stackTraces = false) (hI : mI ad) {w : gW} {u : gM} {a1 : Int32} {a2 : Int32} {Q : Int32 → gM → Prop} (hw : wM_isAt a1 a2 Q u) : gMet l yX5_isAt (ws_ yX5_isAt cX5_isAt 3 (some .boolean)) E (gmW E ad u w) [.ref (ad 8), .int a1, .int a2] 1 22 (mQ E ad w (uI Q)) gNoX :=
  g_ofW ht (by decide) (Nat.le_of_ble_eq_true rfl) (fun p e s m below meth c ls H C hl hS => kM_isAt_r C hI _ _ _ _ _ _ hS hl hw)
def wM_finds_194 (K24 : Int32 → Int32 → Int32 → Int32 → Int32 → Int32 → Int32 → gM → Prop) (Q : gM → Prop) (x1 : Int32) (x2 : Int32) (x3 : Int32) (x4 : Int32) (x5 : Int32) (x6 : Int32) (x7 : Int32) (u : gM) : Prop :=
  K24 x1 x2 x3 x4 x5 x6 (x7 + 1) u
theorem kM_finds_194 (C : gC p l s m args meth c cX5_finds 12 none RX5 E [] "finds") (hI : mI ad) {Q : gM → Prop} {K24 : Int32 → Int32 → Int32 → Int32 → Int32 → Int32 → Int32 → gM → Prop} (hK24 : ∀ (x1 : Int32) (x2 : Int32) (x3 : Int32) (x4 : Int32) (x5 : Int32) (x6 : Int32) (x7 : Int32) (u : gM) (H : Heap) (locs : List Loc) (ls : Array Slot), gS E w0 (gmW E ad u w) H locs → lv_has ls 12 [(0, .ref (ad 8)), (1, .int x1), (2, .int x2), (3, .int x3), (4, .int x4), (5, .int x5), (6, .int x6), (7, .int x7)] → K24 x1 x2 x3 x4 x5 x6 x7 u → mGo p l e s m args below meth c 2 44 E ad w0 w (uV Q) H locs (F0 m 24 ls [])) (x1 : Int32) (x2 : Int32) (x3 : Int32) (x4 : Int32) (x5 : Int32) (x6 : Int32) (x7 : Int32) (u : gM) (H : Heap) (locs : List Loc) (ls : Array Slot) (hS : gS E w0 (gmW E ad u w) H locs) (hl : lv_has ls 12 [(0, .ref (ad 8)), (1, .int x1), (2, .int x2), (3, .int x3), (4, .int x4), (5, .int x5), (6, .int x6), (7, .int x7)]) (hw : wM_finds_194 K24 Q x1 x2 x3 x4 x5 x6 x7 u) : mGo p l e s m args below meth c 2 44 E ad w0 w (uV Q) H locs (F0 m 194 ls []) := by
  unfold wM_finds_194 at hw
  refine lv_iinc (v := (x7 + 1)) (lv' := [(7, .int (x7 + 1)), (0, .ref (ad 8)), (1, .int x1), (2, .int x2), (3, .int x3), (4, .int x4), (5, .int x5), (6, .int x6)]) C.x C.b dX5_finds_194 hl (k := 7) rfl rfl (by decide) rfl (fun ls hl => ?_)
  refine lv_goto (tgt := 24) C.x C.b dX5_finds_197 (by decide) ?_
  exact hK24 _ _ _ _ _ _ _ _ _ _ _ hS (lv_sub hl [1, 2, 3, 4, 5, 6, 7, 0] rfl) hw
def wM_finds_160 (K24 : Int32 → Int32 → Int32 → Int32 → Int32 → Int32 → Int32 → gM → Prop) (Q : gM → Prop) (x1 : Int32) (x7 : Int32) (x9 : Int32) (x10 : Int32) (x11 : Int32) (u : gM) : Prop :=
  uLd 0 487 (x9 + 1) (fun v34 => uLd 0 487 (x9 + 3) (fun v35 => wM_finds_194 K24 Q x1 v34 x10 (v35 + 1) x7 x11 x7 u) u) u
theorem kM_finds_160 (C : gC p l s m args meth c cX5_finds 12 none RX5 E [] "finds") (hI : mI ad) {Q : gM → Prop} {K24 : Int32 → Int32 → Int32 → Int32 → Int32 → Int32 → Int32 → gM → Prop} (hK24 : ∀ (x1 : Int32) (x2 : Int32) (x3 : Int32) (x4 : Int32) (x5 : Int32) (x6 : Int32) (x7 : Int32) (u : gM) (H : Heap) (locs : List Loc) (ls : Array Slot), gS E w0 (gmW E ad u w) H locs → lv_has ls 12 [(0, .ref (ad 8)), (1, .int x1), (2, .int x2), (3, .int x3), (4, .int x4), (5, .int x5), (6, .int x6), (7, .int x7)] → K24 x1 x2 x3 x4 x5 x6 x7 u → mGo p l e s m args below meth c 2 44 E ad w0 w (uV Q) H locs (F0 m 24 ls [])) (x1 : Int32) (x7 : Int32) (x9 : Int32) (x10 : Int32) (x11 : Int32) (u : gM) (H : Heap) (locs : List Loc) (ls : Array Slot) (hS : gS E w0 (gmW E ad u w) H locs) (hl : lv_has ls 12 [(0, .ref (ad 8)), (1, .int x1), (7, .int x7), (9, .int x9), (10, .int x10), (11, .int x11)]) (hw : wM_finds_160 K24 Q x1 x7 x9 x10 x11 u) : mGo p l e s m args below meth c 2 44 E ad w0 w (uV Q) H locs (F0 m 160 ls []) := by
  unfold wM_finds_160 at hw
  refine lv_aload_n C.x C.b dX5_finds_160 rfl (lv_at hl 0 rfl) ?_
  refine gm_getA C hI hS 0 (by decide) (a := ad 0) rfl q1481 (fun _ h9 => h9) dX5_finds_161 ?_
  refine lv_iload C.x C.b dX5_finds_164 (lv_at hl 3 rfl) ?_
  refine lv_iconst (v := 1) C.x C.b dX5_finds_166 (by decide) ?_
  refine lv_iadd C.x C.b dX5_finds_167 ?_
  refine gm_ld C hI hS 0 487 (by decide) rfl dX5_finds_168 hw (fun v34 hw => ?_)
  refine lv_istore_n (lv' := [(2, .int v34), (0, .ref (ad 8)), (1, .int x1), (7, .int x7), (9, .int x9), (10, .int x10), (11, .int x11)]) C.x C.b dX5_finds_169 rfl hl (by decide) rfl (fun ls hl => ?_)
  refine lv_iload C.x C.b dX5_finds_170 (lv_at hl 5 rfl) ?_
  refine lv_istore_n (lv' := [(3, .int x10), (2, .int v34), (0, .ref (ad 8)), (1, .int x1), (7, .int x7), (9, .int x9), (10, .int x10), (11, .int x11)]) C.x C.b dX5_finds_172 rfl hl (by decide) rfl (fun ls hl => ?_)
  refine lv_aload_n C.x C.b dX5_finds_173 rfl (lv_at hl 2 rfl) ?_
  refine gm_getA C hI hS 0 (by decide) (a := ad 0) rfl q1481 (fun _ h9 => h9) dX5_finds_174 ?_
  refine lv_iload C.x C.b dX5_finds_177 (lv_at hl 5 rfl) ?_
  refine lv_iconst (v := 3) C.x C.b dX5_finds_179 (by decide) ?_
  refine lv_iadd C.x C.b dX5_finds_180 ?_
  refine gm_ld C hI hS 0 487 (by decide) rfl dX5_finds_181 hw (fun v35 hw => ?_)
  refine lv_iconst (v := 1) C.x C.b dX5_finds_182 (by decide) ?_
  refine lv_iadd C.x C.b dX5_finds_183 ?_
  refine lv_istore (lv' := [(4, .int (v35 + 1)), (3, .int x10), (2, .int v34), (0, .ref (ad 8)), (1, .int x1), (7, .int x7), (9, .int x9), (10, .int x10), (11, .int x11)]) C.x C.b dX5_finds_184 hl (by decide) rfl (fun ls hl => ?_)
  refine lv_iload C.x C.b dX5_finds_186 (lv_at hl 5 rfl) ?_
  refine lv_istore (lv' := [(5, .int x7), (4, .int (v35 + 1)), (3, .int x10), (2, .int v34), (0, .ref (ad 8)), (1, .int x1), (7, .int x7), (9, .int x9), (10, .int x10), (11, .int x11)]) C.x C.b dX5_finds_188 hl (by decide) rfl (fun ls hl => ?_)
  refine lv_iload C.x C.b dX5_finds_190 (lv_at hl 9 rfl) ?_
  refine lv_istore (lv' := [(6, .int x11), (5, .int x7), (4, .int (v35 + 1)), (3, .int x10), (2, .int v34), (0, .ref (ad 8)), (1, .int x1), (7, .int x7), (9, .int x9), (10, .int x10), (11, .int x11)]) C.x C.b dX5_finds_192 hl (by decide) rfl (fun ls hl => ?_)
  exact kM_finds_194 C hI hK24 _ _ _ _ _ _ _ _ _ _ _ hS (lv_sub hl [5, 6, 4, 3, 2, 1, 0, 7] rfl) hw
def wM_finds_24 (Q : gM → Prop) : Nat → Int32 → Int32 → Int32 → Int32 → Int32 → Int32 → Int32 → gM → Prop
  | 0, _, _, _, _, _, _, _, _ => False
  | n + 1, x1, x2, x3, x4, x5, x6, x7, u => uLd 0 487 5 (fun v6 => (v6 ≤ x7 → (uSt 4 32 (4 * x1) x2 (fun u8 => uSt 4 32 ((4 * x1) + 1) x3 (fun u9 => uSt 4 32 ((4 * x1) + 2) x4 (fun u10 => uSt 4 32 ((4 * x1) + 3) x5 (fun u11 => Q u11) u10) u9) u8) u)) ∧ (¬ v6 ≤ x7 → (wM_other x7 x1 (fun r13 u12 => wM_isAt x7 x1 (fun r15 u14 => (r15 = 0 → (wM_finds_194 (fun x1 x2 x3 x4 x5 x6 x7 u => wM_finds_24 Q n x1 x2 x3 x4 x5 x6 x7 u) Q x1 x2 x3 x4 x5 x6 x7 u14)) ∧ (¬ r15 = 0 → (wM_of x7 4 (fun r18 u17 => (r18 = 1 → (uLd 0 487 ((11 + (5 * r13)) + 3) (fun v20 => (10 ≤ v20 → (wM_finds_194 (fun x1 x2 x3 x4 x5 x6 x7 u => wM_finds_24 Q n x1 x2 x3 x4 x5 x6 x7 u) Q x1 x2 x3 x4 x5 x6 x7 u17)) ∧ (¬ 10 ≤ v20 → (uLd 0 487 ((11 + (5 * r13)) + 2) (fun v22 => wM_of x7 3 (fun r24 u23 => wM_idOf r13 (fun r26 u25 => uLd 0 487 ((11 + (5 * r13)) + 1) (fun v27 => (v27 < x2 → (wM_finds_160 (fun x1 x2 x3 x4 x5 x6 x7 u => wM_finds_24 Q n x1 x2 x3 x4 x5 x6 x7 u) Q x1 x7 (11 + (5 * r13)) (v22 + r24) r26 u25)) ∧ (¬ v27 < x2 → (uLd 0 487 ((11 + (5 * r13)) + 1) (fun v29 => (v29 = x2 → (((v22 + r24) < x3 → (wM_finds_160 (fun x1 x2 x3 x4 x5 x6 x7 u => wM_finds_24 Q n x1 x2 x3 x4 x5 x6 x7 u) Q x1 x7 (11 + (5 * r13)) (v22 + r24) r26 u25)) ∧ (¬ (v22 + r24) < x3 → (((v22 + r24) = x3 → ((x6 ≤ r26 → (wM_finds_194 (fun x1 x2 x3 x4 x5 x6 x7 u => wM_finds_24 Q n x1 x2 x3 x4 x5 x6 x7 u) Q x1 x2 x3 x4 x5 x6 x7 u25)) ∧ (¬ x6 ≤ r26 → (wM_finds_160 (fun x1 x2 x3 x4 x5 x6 x7 u => wM_finds_24 Q n x1 x2 x3 x4 x5 x6 x7 u) Q x1 x7 (11 + (5 * r13)) (v22 + r24) r26 u25)))) ∧ (¬ (v22 + r24) = x3 → (wM_finds_194 (fun x1 x2 x3 x4 x5 x6 x7 u => wM_finds_24 Q n x1 x2 x3 x4 x5 x6 x7 u) Q x1 x2 x3 x4 x5 x6 x7 u25)))))) ∧ (¬ v29 = x2 → (wM_finds_194 (fun x1 x2 x3 x4 x5 x6 x7 u => wM_finds_24 Q n x1 x2 x3 x4 x5 x6 x7 u) Q x1 x2 x3 x4 x5 x6 x7 u25))) u25))) u25) u23) u17) u17))) u17)) ∧ (¬ r18 = 1 → (wM_finds_194 (fun x1 x2 x3 x4 x5 x6 x7 u => wM_finds_24 Q n x1 x2 x3 x4 x5 x6 x7 u) Q x1 x2 x3 x4 x5 x6 x7 u17))) u14))) u12) u))) u
theorem kM_finds_24 (C : gC p l s m args meth c cX5_finds 12 none RX5 E [] "finds") (hI : mI ad) {Q : gM → Prop} : ∀ (n : Nat) (x1 : Int32) (x2 : Int32) (x3 : Int32) (x4 : Int32) (x5 : Int32) (x6 : Int32) (x7 : Int32) (u : gM) (H : Heap) (locs : List Loc) (ls : Array Slot), gS E w0 (gmW E ad u w) H locs → lv_has ls 12 [(0, .ref (ad 8)), (1, .int x1), (2, .int x2), (3, .int x3), (4, .int x4), (5, .int x5), (6, .int x6), (7, .int x7)] → wM_finds_24 Q n x1 x2 x3 x4 x5 x6 x7 u → mGo p l e s m args below meth c 2 44 E ad w0 w (uV Q) H locs (F0 m 24 ls []) := by
  intro n
  induction n with
  | zero =>
    intro x1 x2 x3 x4 x5 x6 x7 u H locs ls hS hl hw
    exact hw.elim
  | succ n ih =>
    intro x1 x2 x3 x4 x5 x6 x7 u H locs ls hS hl hw
    unfold wM_finds_24 at hw
    refine lv_iload C.x C.b dX5_finds_24 (lv_at hl 7 rfl) ?_
    refine lv_aload_n C.x C.b dX5_finds_26 rfl (lv_at hl 0 rfl) ?_
    refine gm_getA C hI hS 0 (by decide) (a := ad 0) rfl q1481 (fun _ h9 => h9) dX5_finds_27 ?_
    refine lv_iconst (v := 5) C.x C.b dX5_finds_30 (by decide) ?_
    refine gm_ld C hI hS 0 487 (by decide) rfl dX5_finds_31 hw (fun v6 hw => ?_)
    refine lv_icmp_ge (tgt := 200) C.x C.b dX5_finds_32 (by decide) (fun c7 => ?_) (fun c7 => ?_)
    · have hw := hw.1 c7
      refine lv_aload_n C.x C.b dX5_finds_200 rfl (lv_at hl 0 rfl) ?_
      refine gm_getA C hI hS 8 (by decide) (a := ad 4) rfl q1489 (fun _ h9 => h9) dX5_finds_201 ?_
      refine lv_iconst (v := 4) C.x C.b dX5_finds_204 (by decide) ?_
      refine lv_iload_n C.x C.b dX5_finds_205 rfl (lv_at hl 1 rfl) ?_
      refine lv_imul C.x C.b dX5_finds_206 ?_
      refine lv_iload_n C.x C.b dX5_finds_207 rfl (lv_at hl 2 rfl) ?_
      refine gm_st C hI hS 4 32 (by decide) rfl dX5_finds_208 hw (fun u8 H locs hw hS => ?_)
      refine lv_aload_n C.x C.b dX5_finds_209 rfl (lv_at hl 0 rfl) ?_
      refine gm_getA C hI hS 8 (by decide) (a := ad 4) rfl q1489 (fun _ h9 => h9) dX5_finds_210 ?_
      refine lv_iconst (v := 4) C.x C.b dX5_finds_213 (by decide) ?_
      refine lv_iload_n C.x C.b dX5_finds_214 rfl (lv_at hl 1 rfl) ?_
      refine lv_imul C.x C.b dX5_finds_215 ?_
      refine lv_iconst (v := 1) C.x C.b dX5_finds_216 (by decide) ?_
      refine lv_iadd C.x C.b dX5_finds_217 ?_
      refine lv_iload_n C.x C.b dX5_finds_218 rfl (lv_at hl 3 rfl) ?_
      refine gm_st C hI hS 4 32 (by decide) rfl dX5_finds_219 hw (fun u9 H locs hw hS => ?_)
      refine lv_aload_n C.x C.b dX5_finds_220 rfl (lv_at hl 0 rfl) ?_
      refine gm_getA C hI hS 8 (by decide) (a := ad 4) rfl q1489 (fun _ h9 => h9) dX5_finds_221 ?_
      refine lv_iconst (v := 4) C.x C.b dX5_finds_224 (by decide) ?_
      refine lv_iload_n C.x C.b dX5_finds_225 rfl (lv_at hl 1 rfl) ?_
      refine lv_imul C.x C.b dX5_finds_226 ?_
      refine lv_iconst (v := 2) C.x C.b dX5_finds_227 (by decide) ?_
      refine lv_iadd C.x C.b dX5_finds_228 ?_
      refine lv_iload C.x C.b dX5_finds_229 (lv_at hl 4 rfl) ?_
      refine gm_st C hI hS 4 32 (by decide) rfl dX5_finds_231 hw (fun u10 H locs hw hS => ?_)
      refine lv_aload_n C.x C.b dX5_finds_232 rfl (lv_at hl 0 rfl) ?_
      refine gm_getA C hI hS 8 (by decide) (a := ad 4) rfl q1489 (fun _ h9 => h9) dX5_finds_233 ?_
      refine lv_iconst (v := 4) C.x C.b dX5_finds_236 (by decide) ?_
      refine lv_iload_n C.x C.b dX5_finds_237 rfl (lv_at hl 1 rfl) ?_
      refine lv_imul C.x C.b dX5_finds_238 ?_
      refine lv_iconst (v := 3) C.x C.b dX5_finds_239 (by decide) ?_
      refine lv_iadd C.x C.b dX5_finds_240 ?_
      refine lv_iload C.x C.b dX5_finds_241 (lv_at hl 5 rfl) ?_
      refine gm_st C hI hS 4 32 (by decide) rfl dX5_finds_243 hw (fun u11 H locs hw hS => ?_)
      exact gm_vret C hS hw dX5_finds_244
    · have hw := hw.2 c7
      refine lv_aload_n C.x C.b dX5_finds_35 rfl (lv_at hl 0 rfl) ?_
      refine lv_iload C.x C.b dX5_finds_36 (lv_at hl 7 rfl) ?_
      refine lv_iload_n C.x C.b dX5_finds_38 rfl (lv_at hl 1 rfl) ?_
      refine gm_callV (rest := []) C hI hS hl (kM_other C.tr hI hw) q1670 q1672 qs49 q88 q1673 ny_other rfl (Nat.le_of_ble_eq_true rfl) (Nat.le_of_ble_eq_true rfl) rfl (Nat.le_of_ble_eq_true rfl) dX5_finds_39 (gm_ki (fun r13 u12 H locs hw hS => ?_))
      refine lv_istore (lv' := [(8, .int r13), (0, .ref (ad 8)), (1, .int x1), (2, .int x2), (3, .int x3), (4, .int x4), (5, .int x5), (6, .int x6), (7, .int x7)]) C.x C.b dX5_finds_42 hl (by decide) rfl (fun ls hl => ?_)
      refine lv_bipush (v := 11) C.x C.b dX5_finds_44 (by decide) ?_
      refine lv_iconst (v := 5) C.x C.b dX5_finds_46 (by decide) ?_
      refine lv_iload C.x C.b dX5_finds_47 (lv_at hl 0 rfl) ?_
      refine lv_imul C.x C.b dX5_finds_49 ?_
      refine lv_iadd C.x C.b dX5_finds_50 ?_
      refine lv_istore (lv' := [(9, .int (11 + (5 * r13))), (8, .int r13), (0, .ref (ad 8)), (1, .int x1), (2, .int x2), (3, .int x3), (4, .int x4), (5, .int x5), (6, .int x6), (7, .int x7)]) C.x C.b dX5_finds_51 hl (by decide) rfl (fun ls hl => ?_)
      refine lv_aload_n C.x C.b dX5_finds_53 rfl (lv_at hl 2 rfl) ?_
      refine lv_iload C.x C.b dX5_finds_54 (lv_at hl 9 rfl) ?_
      refine lv_iload_n C.x C.b dX5_finds_56 rfl (lv_at hl 3 rfl) ?_
      refine gm_callV (rest := []) C hI hS hl (kM_isAt C.tr hI hw) q1674 q1676 qs50 q88 q1677 ny_isAt rfl (Nat.le_of_ble_eq_true rfl) (Nat.le_of_ble_eq_true rfl) rfl (Nat.le_of_ble_eq_true rfl) dX5_finds_57 (gm_ki (fun r15 u14 H locs hw hS => ?_))
      refine lv_if_eq (tgt := 194) C.x C.b dX5_finds_60 (by decide) (fun c16 => ?_) (fun c16 => ?_)
      · have hw := hw.1 c16
        exact kM_finds_194 C hI ih _ _ _ _ _ _ _ _ _ _ _ hS (lv_sub hl [2, 3, 4, 5, 6, 7, 8, 9] rfl) hw
      · have hw := hw.2 c16
        refine lv_aload_n C.x C.b dX5_finds_63 rfl (lv_at hl 2 rfl) ?_
        refine lv_iload C.x C.b dX5_finds_64 (lv_at hl 9 rfl) ?_
        refine lv_iconst (v := 4) C.x C.b dX5_finds_66 (by decide) ?_
        refine gm_callV (rest := []) C hI hS hl (kM_of C.tr hI hw) q1595 q1597 qs37 q88 q1598 ny_of rfl (Nat.le_of_ble_eq_true rfl) (Nat.le_of_ble_eq_true rfl) rfl (Nat.le_of_ble_eq_true rfl) dX5_finds_67 (gm_ki (fun r18 u17 H locs hw hS => ?_))
        refine lv_iconst (v := 1) C.x C.b dX5_finds_70 (by decide) ?_
        refine lv_icmp_ne (tgt := 194) C.x C.b dX5_finds_71 (by decide) (fun c19 => ?_) (fun c19 => ?_)
        · have hw := hw.2 c19
          exact kM_finds_194 C hI ih _ _ _ _ _ _ _ _ _ _ _ hS (lv_sub hl [2, 3, 4, 5, 6, 7, 8, 9] rfl) hw
        · have hw := hw.1 c19
          refine lv_aload_n C.x C.b dX5_finds_74 rfl (lv_at hl 2 rfl) ?_
          refine gm_getA C hI hS 0 (by decide) (a := ad 0) rfl q1481 (fun _ h9 => h9) dX5_finds_75 ?_
          refine lv_iload C.x C.b dX5_finds_78 (lv_at hl 0 rfl) ?_
          refine lv_iconst (v := 3) C.x C.b dX5_finds_80 (by decide) ?_
          refine lv_iadd C.x C.b dX5_finds_81 ?_
          refine gm_ld C hI hS 0 487 (by decide) rfl dX5_finds_82 hw (fun v20 hw => ?_)
          refine lv_bipush (v := 10) C.x C.b dX5_finds_83 (by decide) ?_
          refine lv_icmp_ge (tgt := 194) C.x C.b dX5_finds_85 (by decide) (fun c21 => ?_) (fun c21 => ?_)
          · have hw := hw.1 c21
            exact kM_finds_194 C hI ih _ _ _ _ _ _ _ _ _ _ _ hS (lv_sub hl [2, 3, 4, 5, 6, 7, 8, 9] rfl) hw
          · have hw := hw.2 c21
            refine lv_aload_n C.x C.b dX5_finds_88 rfl (lv_at hl 2 rfl) ?_
            refine gm_getA C hI hS 0 (by decide) (a := ad 0) rfl q1481 (fun _ h9 => h9) dX5_finds_89 ?_
            refine lv_iload C.x C.b dX5_finds_92 (lv_at hl 0 rfl) ?_
            refine lv_iconst (v := 2) C.x C.b dX5_finds_94 (by decide) ?_
            refine lv_iadd C.x C.b dX5_finds_95 ?_
            refine gm_ld C hI hS 0 487 (by decide) rfl dX5_finds_96 hw (fun v22 hw => ?_)
            refine lv_aload_n C.x C.b dX5_finds_97 rfl (lv_at hl 2 rfl) ?_
            refine lv_iload C.x C.b dX5_finds_98 (lv_at hl 9 rfl) ?_
            refine lv_iconst (v := 3) C.x C.b dX5_finds_100 (by decide) ?_
            refine gm_callV (rest := [.int v22]) C hI hS hl (kM_of C.tr hI hw) q1595 q1597 qs37 q88 q1598 ny_of rfl (Nat.le_of_ble_eq_true rfl) (Nat.le_of_ble_eq_true rfl) rfl (Nat.le_of_ble_eq_true rfl) dX5_finds_101 (gm_ki (fun r24 u23 H locs hw hS => ?_))
            refine lv_iadd C.x C.b dX5_finds_104 ?_
            refine lv_istore (lv' := [(10, .int (v22 + r24)), (9, .int (11 + (5 * r13))), (8, .int r13), (0, .ref (ad 8)), (1, .int x1), (2, .int x2), (3, .int x3), (4, .int x4), (5, .int x5), (6, .int x6), (7, .int x7)]) C.x C.b dX5_finds_105 hl (by decide) rfl (fun ls hl => ?_)
            refine lv_aload_n C.x C.b dX5_finds_107 rfl (lv_at hl 3 rfl) ?_
            refine lv_iload C.x C.b dX5_finds_108 (lv_at hl 2 rfl) ?_
            refine gm_callV (rest := []) C hI hS hl (kM_idOf C.tr hI hw) q1473 q1475 qs24 q88 q1476 ny_idOf rfl (Nat.le_of_ble_eq_true rfl) (Nat.le_of_ble_eq_true rfl) rfl (Nat.le_of_ble_eq_true rfl) dX5_finds_110 (gm_ki (fun r26 u25 H locs hw hS => ?_))
            refine lv_istore (lv' := [(11, .int r26), (10, .int (v22 + r24)), (9, .int (11 + (5 * r13))), (8, .int r13), (0, .ref (ad 8)), (1, .int x1), (2, .int x2), (3, .int x3), (4, .int x4), (5, .int x5), (6, .int x6), (7, .int x7)]) C.x C.b dX5_finds_113 hl (by decide) rfl (fun ls hl => ?_)
            refine lv_aload_n C.x C.b dX5_finds_115 rfl (lv_at hl 4 rfl) ?_
            refine gm_getA C hI hS 0 (by decide) (a := ad 0) rfl q1481 (fun _ h9 => h9) dX5_finds_116 ?_
            refine lv_iload C.x C.b dX5_finds_119 (lv_at hl 2 rfl) ?_
            refine lv_iconst (v := 1) C.x C.b dX5_finds_121 (by decide) ?_
            refine lv_iadd C.x C.b dX5_finds_122 ?_
            refine gm_ld C hI hS 0 487 (by decide) rfl dX5_finds_123 hw (fun v27 hw => ?_)
            refine lv_iload_n C.x C.b dX5_finds_124 rfl (lv_at hl 6 rfl) ?_
            refine lv_icmp_lt (tgt := 160) C.x C.b dX5_finds_125 (by decide) (fun c28 => ?_) (fun c28 => ?_)
            · have hw := hw.1 c28
              exact kM_finds_160 C hI ih _ _ _ _ _ _ _ _ _ hS (lv_sub hl [4, 5, 11, 2, 1, 0] rfl) hw
            · have hw := hw.2 c28
              refine lv_aload_n C.x C.b dX5_finds_128 rfl (lv_at hl 4 rfl) ?_
              refine gm_getA C hI hS 0 (by decide) (a := ad 0) rfl q1481 (fun _ h9 => h9) dX5_finds_129 ?_
              refine lv_iload C.x C.b dX5_finds_132 (lv_at hl 2 rfl) ?_
              refine lv_iconst (v := 1) C.x C.b dX5_finds_134 (by decide) ?_
              refine lv_iadd C.x C.b dX5_finds_135 ?_
              refine gm_ld C hI hS 0 487 (by decide) rfl dX5_finds_136 hw (fun v29 hw => ?_)
              refine lv_iload_n C.x C.b dX5_finds_137 rfl (lv_at hl 6 rfl) ?_
              refine lv_icmp_ne (tgt := 194) C.x C.b dX5_finds_138 (by decide) (fun c30 => ?_) (fun c30 => ?_)
              · have hw := hw.2 c30
                exact kM_finds_194 C hI ih _ _ _ _ _ _ _ _ _ _ _ hS (lv_sub hl [4, 5, 6, 7, 8, 9, 10, 11] rfl) hw
              · have hw := hw.1 c30
                refine lv_iload C.x C.b dX5_finds_141 (lv_at hl 1 rfl) ?_
                refine lv_iload_n C.x C.b dX5_finds_143 rfl (lv_at hl 7 rfl) ?_
                refine lv_icmp_lt (tgt := 160) C.x C.b dX5_finds_144 (by decide) (fun c31 => ?_) (fun c31 => ?_)
                · have hw := hw.1 c31
                  exact kM_finds_160 C hI ih _ _ _ _ _ _ _ _ _ hS (lv_sub hl [4, 5, 11, 2, 1, 0] rfl) hw
                · have hw := hw.2 c31
                  refine lv_iload C.x C.b dX5_finds_147 (lv_at hl 1 rfl) ?_
                  refine lv_iload_n C.x C.b dX5_finds_149 rfl (lv_at hl 7 rfl) ?_
                  refine lv_icmp_ne (tgt := 194) C.x C.b dX5_finds_150 (by decide) (fun c32 => ?_) (fun c32 => ?_)
                  · have hw := hw.2 c32
                    exact kM_finds_194 C hI ih _ _ _ _ _ _ _ _ _ _ _ hS (lv_sub hl [4, 5, 6, 7, 8, 9, 10, 11] rfl) hw
                  · have hw := hw.1 c32
                    refine lv_iload C.x C.b dX5_finds_153 (lv_at hl 0 rfl) ?_
                    refine lv_iload C.x C.b dX5_finds_155 (lv_at hl 10 rfl) ?_
                    refine lv_icmp_ge (tgt := 194) C.x C.b dX5_finds_157 (by decide) (fun c33 => ?_) (fun c33 => ?_)
                    · have hw := hw.1 c33
                      exact kM_finds_194 C hI ih _ _ _ _ _ _ _ _ _ _ _ hS (lv_sub hl [4, 5, 6, 7, 8, 9, 10, 11] rfl) hw
                    · have hw := hw.2 c33
                      exact kM_finds_160 C hI ih _ _ _ _ _ _ _ _ _ hS (lv_sub hl [4, 5, 11, 2, 1, 0] rfl) hw
def wM_finds (a1 : Int32) (Q : gM → Prop) (u : gM) : Prop :=
  wM_idOf a1 (fun r2 u1 => wM_idOf a1 (fun r4 u3 => ∃ k5 : Nat, wM_finds_24 Q k5 a1 r2 0 0 (-1) r4 0 u3) u1) u
theorem kM_finds_r (C : gC p l s m args meth c cX5_finds 12 none RX5 E [] "finds") (hI : mI ad) (a1 : Int32) {Q : gM → Prop} (u : gM) (H : Heap) (locs : List Loc) (ls : Array Slot) (hS : gS E w0 (gmW E ad u w) H locs) (hl : lv_has ls 12 [(0, .ref (ad 8)), (1, .int a1)]) (hw : wM_finds a1 Q u) : mGo p l e s m args below meth c 2 44 E ad w0 w (uV Q) H locs (F0 m 0 ls []) := by
  unfold wM_finds at hw
  refine lv_aload_n C.x C.b dX5_finds_0 rfl (lv_at hl 0 rfl) ?_
  refine lv_iload_n C.x C.b dX5_finds_1 rfl (lv_at hl 1 rfl) ?_
  refine gm_callV (rest := []) C hI hS hl (kM_idOf C.tr hI hw) q1473 q1475 qs24 q88 q1476 ny_idOf rfl (Nat.le_of_ble_eq_true rfl) (Nat.le_of_ble_eq_true rfl) rfl (Nat.le_of_ble_eq_true rfl) dX5_finds_2 (gm_ki (fun r2 u1 H locs hw hS => ?_))
  refine lv_istore_n (lv' := [(2, .int r2), (0, .ref (ad 8)), (1, .int a1)]) C.x C.b dX5_finds_5 rfl hl (by decide) rfl (fun ls hl => ?_)
  refine lv_iconst (v := 0) C.x C.b dX5_finds_6 (by decide) ?_
  refine lv_istore_n (lv' := [(3, .int 0), (2, .int r2), (0, .ref (ad 8)), (1, .int a1)]) C.x C.b dX5_finds_7 rfl hl (by decide) rfl (fun ls hl => ?_)
  refine lv_iconst (v := 0) C.x C.b dX5_finds_8 (by decide) ?_
  refine lv_istore (lv' := [(4, .int 0), (3, .int 0), (2, .int r2), (0, .ref (ad 8)), (1, .int a1)]) C.x C.b dX5_finds_9 hl (by decide) rfl (fun ls hl => ?_)
  refine lv_iconst (v := (-1)) C.x C.b dX5_finds_11 (by decide) ?_
  refine lv_istore (lv' := [(5, .int (-1)), (4, .int 0), (3, .int 0), (2, .int r2), (0, .ref (ad 8)), (1, .int a1)]) C.x C.b dX5_finds_12 hl (by decide) rfl (fun ls hl => ?_)
  refine lv_aload_n C.x C.b dX5_finds_14 rfl (lv_at hl 4 rfl) ?_
  refine lv_iload_n C.x C.b dX5_finds_15 rfl (lv_at hl 5 rfl) ?_
  refine gm_callV (rest := []) C hI hS hl (kM_idOf C.tr hI hw) q1473 q1475 qs24 q88 q1476 ny_idOf rfl (Nat.le_of_ble_eq_true rfl) (Nat.le_of_ble_eq_true rfl) rfl (Nat.le_of_ble_eq_true rfl) dX5_finds_16 (gm_ki (fun r4 u3 H locs hw hS => ?_))
  refine lv_istore (lv' := [(6, .int r4), (5, .int (-1)), (4, .int 0), (3, .int 0), (2, .int r2), (0, .ref (ad 8)), (1, .int a1)]) C.x C.b dX5_finds_19 hl (by decide) rfl (fun ls hl => ?_)
  refine lv_iconst (v := 0) C.x C.b dX5_finds_21 (by decide) ?_
  refine lv_istore (lv' := [(7, .int 0), (6, .int r4), (5, .int (-1)), (4, .int 0), (3, .int 0), (2, .int r2), (0, .ref (ad 8)), (1, .int a1)]) C.x C.b dX5_finds_22 hl (by decide) rfl (fun ls hl => ?_)
  obtain ⟨k5, hw⟩ := hw
  exact kM_finds_24 C hI k5 _ _ _ _ _ _ _ _ _ _ _ hS (lv_sub hl [6, 7, 5, 4, 3, 2, 1, 0] rfl) hw
theorem kM_finds {l : Launch} (ht : l.stackTraces = false) (hI : mI ad) {w : gW} {u : gM} {a1 : Int32} {Q : gM → Prop} (hw : wM_finds a1 Q u) : gMet l yX5_finds (ws_ yX5_finds cX5_finds 12 none) E (gmW E ad u w) [.ref (ad 8), .int a1] 2 44 (mQ E ad w (uV Q)) gNoX :=
  g_ofW ht (by decide) (Nat.le_of_ble_eq_true rfl) (fun p e s m below meth c ls H C hl hS => kM_finds_r C hI _ _ _ _ _ hS hl hw)
def wM_vectors_37 (K25 : Int32 → gM → Prop) (Q : gM → Prop) : Nat → Int32 → Int32 → gM → Prop
  | 0, _, _, _ => False
  | n + 1, x1, x2, u => (4 ≤ x2 → (K25 (x1 + 1) u)) ∧ (¬ 4 ≤ x2 → (uLd 4 32 ((4 * x1) + x2) (fun v10 => uSt 0 487 (((11 + (5 * x1)) + 1) + x2) v10 (fun u11 => wM_vectors_37 K25 Q n x1 (x2 + 1) u11) u) u))
theorem kM_vectors_37 (C : gC p l s m args meth c cX5_vectors 3 none RX5 E [] "vectors") (hI : mI ad) {Q : gM → Prop} {K25 : Int32 → gM → Prop} (hK25 : ∀ (x1 : Int32) (u : gM) (H : Heap) (locs : List Loc) (ls : Array Slot), gS E w0 (gmW E ad u w) H locs → lv_has ls 3 [(0, .ref (ad 8)), (1, .int x1)] → K25 x1 u → mGo p l e s m args below meth c 3 75 E ad w0 w (uV Q) H locs (F0 m 25 ls [])) : ∀ (n : Nat) (x1 : Int32) (x2 : Int32) (u : gM) (H : Heap) (locs : List Loc) (ls : Array Slot), gS E w0 (gmW E ad u w) H locs → lv_has ls 3 [(0, .ref (ad 8)), (1, .int x1), (2, .int x2)] → wM_vectors_37 K25 Q n x1 x2 u → mGo p l e s m args below meth c 3 75 E ad w0 w (uV Q) H locs (F0 m 37 ls []) := by
  intro n
  induction n with
  | zero =>
    intro x1 x2 u H locs ls hS hl hw
    exact hw.elim
  | succ n ih =>
    intro x1 x2 u H locs ls hS hl hw
    unfold wM_vectors_37 at hw
    refine lv_iload_n C.x C.b dX5_vectors_37 rfl (lv_at hl 2 rfl) ?_
    refine lv_iconst (v := 4) C.x C.b dX5_vectors_38 (by decide) ?_
    refine lv_icmp_ge (tgt := 73) C.x C.b dX5_vectors_39 (by decide) (fun c9 => ?_) (fun c9 => ?_)
    · have hw := hw.1 c9
      refine lv_iinc (v := (x1 + 1)) (lv' := [(1, .int (x1 + 1)), (0, .ref (ad 8)), (2, .int x2)]) C.x C.b dX5_vectors_73 hl (k := 1) rfl rfl (by decide) rfl (fun ls hl => ?_)
      refine lv_goto (tgt := 25) C.x C.b dX5_vectors_76 (by decide) ?_
      exact hK25 _ _ _ _ _ hS (lv_sub hl [1, 0] rfl) hw
    · have hw := hw.2 c9
      refine lv_aload_n C.x C.b dX5_vectors_42 rfl (lv_at hl 0 rfl) ?_
      refine gm_getA C hI hS 0 (by decide) (a := ad 0) rfl q1481 (fun _ h9 => h9) dX5_vectors_43 ?_
      refine lv_bipush (v := 11) C.x C.b dX5_vectors_46 (by decide) ?_
      refine lv_iconst (v := 5) C.x C.b dX5_vectors_48 (by decide) ?_
      refine lv_iload_n C.x C.b dX5_vectors_49 rfl (lv_at hl 1 rfl) ?_
      refine lv_imul C.x C.b dX5_vectors_50 ?_
      refine lv_iadd C.x C.b dX5_vectors_51 ?_
      refine lv_iconst (v := 1) C.x C.b dX5_vectors_52 (by decide) ?_
      refine lv_iadd C.x C.b dX5_vectors_53 ?_
      refine lv_iload_n C.x C.b dX5_vectors_54 rfl (lv_at hl 2 rfl) ?_
      refine lv_iadd C.x C.b dX5_vectors_55 ?_
      refine lv_aload_n C.x C.b dX5_vectors_56 rfl (lv_at hl 0 rfl) ?_
      refine gm_getA C hI hS 8 (by decide) (a := ad 4) rfl q1489 (fun _ h9 => h9) dX5_vectors_57 ?_
      refine lv_iconst (v := 4) C.x C.b dX5_vectors_60 (by decide) ?_
      refine lv_iload_n C.x C.b dX5_vectors_61 rfl (lv_at hl 1 rfl) ?_
      refine lv_imul C.x C.b dX5_vectors_62 ?_
      refine lv_iload_n C.x C.b dX5_vectors_63 rfl (lv_at hl 2 rfl) ?_
      refine lv_iadd C.x C.b dX5_vectors_64 ?_
      refine gm_ld C hI hS 4 32 (by decide) rfl dX5_vectors_65 hw (fun v10 hw => ?_)
      refine gm_st C hI hS 0 487 (by decide) rfl dX5_vectors_66 hw (fun u11 H locs hw hS => ?_)
      refine lv_iinc (v := (x2 + 1)) (lv' := [(2, .int (x2 + 1)), (0, .ref (ad 8)), (1, .int x1)]) C.x C.b dX5_vectors_67 hl (k := 2) rfl rfl (by decide) rfl (fun ls hl => ?_)
      refine lv_goto (tgt := 37) C.x C.b dX5_vectors_70 (by decide) ?_
      exact ih _ _ _ _ _ _ hS (lv_sub hl [1, 2, 0] rfl) hw
def wM_vectors_25 (Q : gM → Prop) : Nat → Int32 → gM → Prop
  | 0, _, _ => False
  | n + 1, x1, u => uLd 0 487 0 (fun v6 => (v6 ≤ x1 → (Q u)) ∧ (¬ v6 ≤ x1 → (∃ k8 : Nat, wM_vectors_37 (fun x1 u => wM_vectors_25 Q n x1 u) Q k8 x1 0 u))) u
theorem kM_vectors_25 (C : gC p l s m args meth c cX5_vectors 3 none RX5 E [] "vectors") (hI : mI ad) {Q : gM → Prop} : ∀ (n : Nat) (x1 : Int32) (u : gM) (H : Heap) (locs : List Loc) (ls : Array Slot), gS E w0 (gmW E ad u w) H locs → lv_has ls 3 [(0, .ref (ad 8)), (1, .int x1)] → wM_vectors_25 Q n x1 u → mGo p l e s m args below meth c 3 75 E ad w0 w (uV Q) H locs (F0 m 25 ls []) := by
  intro n
  induction n with
  | zero =>
    intro x1 u H locs ls hS hl hw
    exact hw.elim
  | succ n ih =>
    intro x1 u H locs ls hS hl hw
    unfold wM_vectors_25 at hw
    refine lv_iload_n C.x C.b dX5_vectors_25 rfl (lv_at hl 1 rfl) ?_
    refine lv_aload_n C.x C.b dX5_vectors_26 rfl (lv_at hl 0 rfl) ?_
    refine gm_getA C hI hS 0 (by decide) (a := ad 0) rfl q1481 (fun _ h9 => h9) dX5_vectors_27 ?_
    refine lv_iconst (v := 0) C.x C.b dX5_vectors_30 (by decide) ?_
    refine gm_ld C hI hS 0 487 (by decide) rfl dX5_vectors_31 hw (fun v6 hw => ?_)
    refine lv_icmp_ge (tgt := 79) C.x C.b dX5_vectors_32 (by decide) (fun c7 => ?_) (fun c7 => ?_)
    · have hw := hw.1 c7
      exact gm_vret C hS hw dX5_vectors_79
    · have hw := hw.2 c7
      refine lv_iconst (v := 0) C.x C.b dX5_vectors_35 (by decide) ?_
      refine lv_istore_n (lv' := [(2, .int 0), (0, .ref (ad 8)), (1, .int x1)]) C.x C.b dX5_vectors_36 rfl hl (by decide) rfl (fun ls hl => ?_)
      obtain ⟨k8, hw⟩ := hw
      exact kM_vectors_37 C hI ih k8 _ _ _ _ _ _ hS (lv_sub hl [1, 2, 0] rfl) hw
def wM_vectors_2 (Q : gM → Prop) : Nat → Int32 → gM → Prop
  | 0, _, _ => False
  | n + 1, x1, u => uLd 0 487 0 (fun v2 => (v2 ≤ x1 → (∃ k4 : Nat, wM_vectors_25 Q k4 0 u)) ∧ (¬ v2 ≤ x1 → (wM_finds x1 (fun u5 => wM_vectors_2 Q n (x1 + 1) u5) u))) u
theorem kM_vectors_2 (C : gC p l s m args meth c cX5_vectors 3 none RX5 E [] "vectors") (hI : mI ad) {Q : gM → Prop} : ∀ (n : Nat) (x1 : Int32) (u : gM) (H : Heap) (locs : List Loc) (ls : Array Slot), gS E w0 (gmW E ad u w) H locs → lv_has ls 3 [(0, .ref (ad 8)), (1, .int x1)] → wM_vectors_2 Q n x1 u → mGo p l e s m args below meth c 3 75 E ad w0 w (uV Q) H locs (F0 m 2 ls []) := by
  intro n
  induction n with
  | zero =>
    intro x1 u H locs ls hS hl hw
    exact hw.elim
  | succ n ih =>
    intro x1 u H locs ls hS hl hw
    unfold wM_vectors_2 at hw
    refine lv_iload_n C.x C.b dX5_vectors_2 rfl (lv_at hl 1 rfl) ?_
    refine lv_aload_n C.x C.b dX5_vectors_3 rfl (lv_at hl 0 rfl) ?_
    refine gm_getA C hI hS 0 (by decide) (a := ad 0) rfl q1481 (fun _ h9 => h9) dX5_vectors_4 ?_
    refine lv_iconst (v := 0) C.x C.b dX5_vectors_7 (by decide) ?_
    refine gm_ld C hI hS 0 487 (by decide) rfl dX5_vectors_8 hw (fun v2 hw => ?_)
    refine lv_icmp_ge (tgt := 23) C.x C.b dX5_vectors_9 (by decide) (fun c3 => ?_) (fun c3 => ?_)
    · have hw := hw.1 c3
      refine lv_iconst (v := 0) C.x C.b dX5_vectors_23 (by decide) ?_
      refine lv_istore_n (lv' := [(1, .int 0), (0, .ref (ad 8))]) C.x C.b dX5_vectors_24 rfl hl (by decide) rfl (fun ls hl => ?_)
      obtain ⟨k4, hw⟩ := hw
      exact kM_vectors_25 C hI k4 _ _ _ _ _ hS (lv_sub hl [1, 0] rfl) hw
    · have hw := hw.2 c3
      refine lv_aload_n C.x C.b dX5_vectors_12 rfl (lv_at hl 0 rfl) ?_
      refine lv_iload_n C.x C.b dX5_vectors_13 rfl (lv_at hl 1 rfl) ?_
      refine gm_callV (rest := []) C hI hS hl (kM_finds C.tr hI hw) q1666 q1668 qs48 q88 q1669 ny_finds rfl (Nat.le_of_ble_eq_true rfl) (Nat.le_of_ble_eq_true rfl) rfl (Nat.le_of_ble_eq_true rfl) dX5_vectors_14 (gm_kv (fun u5 H locs hw hS => ?_))
      refine lv_iinc (v := (x1 + 1)) (lv' := [(1, .int (x1 + 1)), (0, .ref (ad 8))]) C.x C.b dX5_vectors_17 hl (k := 1) rfl rfl (by decide) rfl (fun ls hl => ?_)
      refine lv_goto (tgt := 2) C.x C.b dX5_vectors_20 (by decide) ?_
      exact ih _ _ _ _ _ hS (lv_sub hl [1, 0] rfl) hw
def wM_vectors (Q : gM → Prop) (u : gM) : Prop :=
  ∃ k1 : Nat, wM_vectors_2 Q k1 0 u
theorem kM_vectors_r (C : gC p l s m args meth c cX5_vectors 3 none RX5 E [] "vectors") (hI : mI ad) {Q : gM → Prop} (u : gM) (H : Heap) (locs : List Loc) (ls : Array Slot) (hS : gS E w0 (gmW E ad u w) H locs) (hl : lv_has ls 3 [(0, .ref (ad 8))]) (hw : wM_vectors Q u) : mGo p l e s m args below meth c 3 75 E ad w0 w (uV Q) H locs (F0 m 0 ls []) := by
  unfold wM_vectors at hw
  refine lv_iconst (v := 0) C.x C.b dX5_vectors_0 (by decide) ?_
  refine lv_istore_n (lv' := [(1, .int 0), (0, .ref (ad 8))]) C.x C.b dX5_vectors_1 rfl hl (by decide) rfl (fun ls hl => ?_)
  obtain ⟨k1, hw⟩ := hw
  exact kM_vectors_2 C hI k1 _ _ _ _ _ hS (lv_sub hl [1, 0] rfl) hw
theorem kM_vectors {l : Launch} (ht : l.stackTraces = false) (hI : mI ad) {w : gW} {u : gM} {Q : gM → Prop} (hw : wM_vectors Q u) : gMet l yX5_vectors (ws_ yX5_vectors cX5_vectors 3 none) E (gmW E ad u w) [.ref (ad 8)] 3 75 (mQ E ad w (uV Q)) gNoX :=
  g_ofW ht (by decide) (Nat.le_of_ble_eq_true rfl) (fun p e s m below meth c ls H C hl hS => kM_vectors_r C hI _ _ _ _ hS hl hw)
def wM_isAhead (a1 : Int32) (a2 : Int32) (Q : Int32 → gM → Prop) (u : gM) : Prop :=
  uLd 0 487 ((11 + (5 * a1)) + 1) (fun v1 => uLd 0 487 ((11 + (5 * a2)) + 1) (fun v2 => (v1 = v2 → (uLd 0 487 ((11 + (5 * a1)) + 2) (fun v4 => uLd 0 487 ((11 + (5 * a2)) + 2) (fun v5 => (v4 = v5 → (wM_idOf a1 (fun r8 u7 => wM_idOf a2 (fun r10 u9 => (r10 ≤ r8 → (Q 0 u9)) ∧ (¬ r10 ≤ r8 → (Q 1 u9))) u7) u)) ∧ (¬ v4 = v5 → (uLd 0 487 ((11 + (5 * a1)) + 2) (fun v12 => uLd 0 487 ((11 + (5 * a2)) + 2) (fun v13 => (v13 ≤ v12 → (Q 0 u)) ∧ (¬ v13 ≤ v12 → (Q 1 u))) u) u))) u) u)) ∧ (¬ v1 = v2 → (uLd 0 487 ((11 + (5 * a1)) + 1) (fun v15 => uLd 0 487 ((11 + (5 * a2)) + 1) (fun v16 => (v16 ≤ v15 → (Q 0 u)) ∧ (¬ v16 ≤ v15 → (Q 1 u))) u) u))) u) u
theorem kM_isAhead_r (C : gC p l s m args meth c cX5_isAhead 5 (some .boolean) RX5 E [] "isAhead") (hI : mI ad) (a1 : Int32) (a2 : Int32) {Q : Int32 → gM → Prop} (u : gM) (H : Heap) (locs : List Loc) (ls : Array Slot) (hS : gS E w0 (gmW E ad u w) H locs) (hl : lv_has ls 5 [(0, .ref (ad 8)), (1, .int a1), (2, .int a2)]) (hw : wM_isAhead a1 a2 Q u) : mGo p l e s m args below meth c 1 21 E ad w0 w (uI Q) H locs (F0 m 0 ls []) := by
  unfold wM_isAhead at hw
  refine lv_bipush (v := 11) C.x C.b dX5_isAhead_0 (by decide) ?_
  refine lv_iconst (v := 5) C.x C.b dX5_isAhead_2 (by decide) ?_
  refine lv_iload_n C.x C.b dX5_isAhead_3 rfl (lv_at hl 1 rfl) ?_
  refine lv_imul C.x C.b dX5_isAhead_4 ?_
  refine lv_iadd C.x C.b dX5_isAhead_5 ?_
  refine lv_istore_n (lv' := [(3, .int (11 + (5 * a1))), (0, .ref (ad 8)), (1, .int a1), (2, .int a2)]) C.x C.b dX5_isAhead_6 rfl hl (by decide) rfl (fun ls hl => ?_)
  refine lv_bipush (v := 11) C.x C.b dX5_isAhead_7 (by decide) ?_
  refine lv_iconst (v := 5) C.x C.b dX5_isAhead_9 (by decide) ?_
  refine lv_iload_n C.x C.b dX5_isAhead_10 rfl (lv_at hl 3 rfl) ?_
  refine lv_imul C.x C.b dX5_isAhead_11 ?_
  refine lv_iadd C.x C.b dX5_isAhead_12 ?_
  refine lv_istore (lv' := [(4, .int (11 + (5 * a2))), (3, .int (11 + (5 * a1))), (0, .ref (ad 8)), (1, .int a1), (2, .int a2)]) C.x C.b dX5_isAhead_13 hl (by decide) rfl (fun ls hl => ?_)
  refine lv_aload_n C.x C.b dX5_isAhead_15 rfl (lv_at hl 2 rfl) ?_
  refine gm_getA C hI hS 0 (by decide) (a := ad 0) rfl q1481 (fun _ h9 => h9) dX5_isAhead_16 ?_
  refine lv_iload_n C.x C.b dX5_isAhead_19 rfl (lv_at hl 1 rfl) ?_
  refine lv_iconst (v := 1) C.x C.b dX5_isAhead_20 (by decide) ?_
  refine lv_iadd C.x C.b dX5_isAhead_21 ?_
  refine gm_ld C hI hS 0 487 (by decide) rfl dX5_isAhead_22 hw (fun v1 hw => ?_)
  refine lv_aload_n C.x C.b dX5_isAhead_23 rfl (lv_at hl 2 rfl) ?_
  refine gm_getA C hI hS 0 (by decide) (a := ad 0) rfl q1481 (fun _ h9 => h9) dX5_isAhead_24 ?_
  refine lv_iload C.x C.b dX5_isAhead_27 (lv_at hl 0 rfl) ?_
  refine lv_iconst (v := 1) C.x C.b dX5_isAhead_29 (by decide) ?_
  refine lv_iadd C.x C.b dX5_isAhead_30 ?_
  refine gm_ld C hI hS 0 487 (by decide) rfl dX5_isAhead_31 hw (fun v2 hw => ?_)
  refine lv_icmp_eq (tgt := 61) C.x C.b dX5_isAhead_32 (by decide) (fun c3 => ?_) (fun c3 => ?_)
  · have hw := hw.1 c3
    refine lv_aload_n C.x C.b dX5_isAhead_61 rfl (lv_at hl 2 rfl) ?_
    refine gm_getA C hI hS 0 (by decide) (a := ad 0) rfl q1481 (fun _ h9 => h9) dX5_isAhead_62 ?_
    refine lv_iload_n C.x C.b dX5_isAhead_65 rfl (lv_at hl 1 rfl) ?_
    refine lv_iconst (v := 2) C.x C.b dX5_isAhead_66 (by decide) ?_
    refine lv_iadd C.x C.b dX5_isAhead_67 ?_
    refine gm_ld C hI hS 0 487 (by decide) rfl dX5_isAhead_68 hw (fun v4 hw => ?_)
    refine lv_aload_n C.x C.b dX5_isAhead_69 rfl (lv_at hl 2 rfl) ?_
    refine gm_getA C hI hS 0 (by decide) (a := ad 0) rfl q1481 (fun _ h9 => h9) dX5_isAhead_70 ?_
    refine lv_iload C.x C.b dX5_isAhead_73 (lv_at hl 0 rfl) ?_
    refine lv_iconst (v := 2) C.x C.b dX5_isAhead_75 (by decide) ?_
    refine lv_iadd C.x C.b dX5_isAhead_76 ?_
    refine gm_ld C hI hS 0 487 (by decide) rfl dX5_isAhead_77 hw (fun v5 hw => ?_)
    refine lv_icmp_eq (tgt := 109) C.x C.b dX5_isAhead_78 (by decide) (fun c6 => ?_) (fun c6 => ?_)
    · have hw := hw.1 c6
      refine lv_aload_n C.x C.b dX5_isAhead_109 rfl (lv_at hl 2 rfl) ?_
      refine lv_iload_n C.x C.b dX5_isAhead_110 rfl (lv_at hl 3 rfl) ?_
      refine gm_callV (rest := []) C hI hS hl (kM_idOf C.tr hI hw) q1473 q1475 qs24 q88 q1476 ny_idOf rfl (Nat.le_of_ble_eq_true rfl) (Nat.le_of_ble_eq_true rfl) rfl (Nat.le_of_ble_eq_true rfl) dX5_isAhead_111 (gm_ki (fun r8 u7 H locs hw hS => ?_))
      refine lv_aload_n C.x C.b dX5_isAhead_114 rfl (lv_at hl 2 rfl) ?_
      refine lv_iload_n C.x C.b dX5_isAhead_115 rfl (lv_at hl 4 rfl) ?_
      refine gm_callV (rest := [.int r8]) C hI hS hl (kM_idOf C.tr hI hw) q1473 q1475 qs24 q88 q1476 ny_idOf rfl (Nat.le_of_ble_eq_true rfl) (Nat.le_of_ble_eq_true rfl) rfl (Nat.le_of_ble_eq_true rfl) dX5_isAhead_116 (gm_ki (fun r10 u9 H locs hw hS => ?_))
      refine lv_icmp_ge (tgt := 126) C.x C.b dX5_isAhead_119 (by decide) (fun c11 => ?_) (fun c11 => ?_)
      · have hw := hw.1 c11
        refine lv_iconst (v := 0) C.x C.b dX5_isAhead_126 (by decide) ?_
        exact gm_zret C hS rfl hw dX5_isAhead_127
      · have hw := hw.2 c11
        refine lv_iconst (v := 1) C.x C.b dX5_isAhead_122 (by decide) ?_
        refine lv_goto (tgt := 127) C.x C.b dX5_isAhead_123 (by decide) ?_
        exact gm_zret C hS rfl hw dX5_isAhead_127
    · have hw := hw.2 c6
      refine lv_aload_n C.x C.b dX5_isAhead_81 rfl (lv_at hl 2 rfl) ?_
      refine gm_getA C hI hS 0 (by decide) (a := ad 0) rfl q1481 (fun _ h9 => h9) dX5_isAhead_82 ?_
      refine lv_iload_n C.x C.b dX5_isAhead_85 rfl (lv_at hl 1 rfl) ?_
      refine lv_iconst (v := 2) C.x C.b dX5_isAhead_86 (by decide) ?_
      refine lv_iadd C.x C.b dX5_isAhead_87 ?_
      refine gm_ld C hI hS 0 487 (by decide) rfl dX5_isAhead_88 hw (fun v12 hw => ?_)
      refine lv_aload_n C.x C.b dX5_isAhead_89 rfl (lv_at hl 2 rfl) ?_
      refine gm_getA C hI hS 0 (by decide) (a := ad 0) rfl q1481 (fun _ h9 => h9) dX5_isAhead_90 ?_
      refine lv_iload C.x C.b dX5_isAhead_93 (lv_at hl 0 rfl) ?_
      refine lv_iconst (v := 2) C.x C.b dX5_isAhead_95 (by decide) ?_
      refine lv_iadd C.x C.b dX5_isAhead_96 ?_
      refine gm_ld C hI hS 0 487 (by decide) rfl dX5_isAhead_97 hw (fun v13 hw => ?_)
      refine lv_icmp_ge (tgt := 105) C.x C.b dX5_isAhead_98 (by decide) (fun c14 => ?_) (fun c14 => ?_)
      · have hw := hw.1 c14
        refine lv_iconst (v := 0) C.x C.b dX5_isAhead_105 (by decide) ?_
        refine lv_goto (tgt := 127) C.x C.b dX5_isAhead_106 (by decide) ?_
        exact gm_zret C hS rfl hw dX5_isAhead_127
      · have hw := hw.2 c14
        refine lv_iconst (v := 1) C.x C.b dX5_isAhead_101 (by decide) ?_
        refine lv_goto (tgt := 127) C.x C.b dX5_isAhead_102 (by decide) ?_
        exact gm_zret C hS rfl hw dX5_isAhead_127
  · have hw := hw.2 c3
    refine lv_aload_n C.x C.b dX5_isAhead_35 rfl (lv_at hl 2 rfl) ?_
    refine gm_getA C hI hS 0 (by decide) (a := ad 0) rfl q1481 (fun _ h9 => h9) dX5_isAhead_36 ?_
    refine lv_iload_n C.x C.b dX5_isAhead_39 rfl (lv_at hl 1 rfl) ?_
    refine lv_iconst (v := 1) C.x C.b dX5_isAhead_40 (by decide) ?_
    refine lv_iadd C.x C.b dX5_isAhead_41 ?_
    refine gm_ld C hI hS 0 487 (by decide) rfl dX5_isAhead_42 hw (fun v15 hw => ?_)
    refine lv_aload_n C.x C.b dX5_isAhead_43 rfl (lv_at hl 2 rfl) ?_
    refine gm_getA C hI hS 0 (by decide) (a := ad 0) rfl q1481 (fun _ h9 => h9) dX5_isAhead_44 ?_
    refine lv_iload C.x C.b dX5_isAhead_47 (lv_at hl 0 rfl) ?_
    refine lv_iconst (v := 1) C.x C.b dX5_isAhead_49 (by decide) ?_
    refine lv_iadd C.x C.b dX5_isAhead_50 ?_
    refine gm_ld C hI hS 0 487 (by decide) rfl dX5_isAhead_51 hw (fun v16 hw => ?_)
    refine lv_icmp_ge (tgt := 59) C.x C.b dX5_isAhead_52 (by decide) (fun c17 => ?_) (fun c17 => ?_)
    · have hw := hw.1 c17
      refine lv_iconst (v := 0) C.x C.b dX5_isAhead_59 (by decide) ?_
      exact gm_zret C hS rfl hw dX5_isAhead_60
    · have hw := hw.2 c17
      refine lv_iconst (v := 1) C.x C.b dX5_isAhead_55 (by decide) ?_
      refine lv_goto (tgt := 60) C.x C.b dX5_isAhead_56 (by decide) ?_
      exact gm_zret C hS rfl hw dX5_isAhead_60
theorem kM_isAhead {l : Launch} (ht : l.stackTraces = false) (hI : mI ad) {w : gW} {u : gM} {a1 : Int32} {a2 : Int32} {Q : Int32 → gM → Prop} (hw : wM_isAhead a1 a2 Q u) : gMet l yX5_isAhead (ws_ yX5_isAhead cX5_isAhead 5 (some .boolean)) E (gmW E ad u w) [.ref (ad 8), .int a1, .int a2] 1 21 (mQ E ad w (uI Q)) gNoX :=
  g_ofW ht (by decide) (Nat.le_of_ble_eq_true rfl) (fun p e s m below meth c ls H C hl hS => kM_isAhead_r C hI _ _ _ _ _ _ hS hl hw)
def wM_roleOf (a1 : Int32) (a2 : Int32) (Q : Int32 → gM → Prop) (u : gM) : Prop :=
  wM_of a1 4 (fun r2 u1 => (r2 = 0 → (Q 2 u1)) ∧ (¬ r2 = 0 → (uLd 0 487 ((11 + (5 * a2)) + 4) (fun v4 => (v4 = a1 → (Q 0 u1)) ∧ (¬ v4 = a1 → (wM_other a1 a2 (fun r7 u6 => wM_isAhead a2 r7 (fun r9 u8 => (r9 = 0 → (Q 2 u8)) ∧ (¬ r9 = 0 → (Q 1 u8))) u6) u1))) u1))) u
theorem kM_roleOf_r (C : gC p l s m args meth c cX5_roleOf 3 (some .int) RX5 E [] "roleOf") (hI : mI ad) (a1 : Int32) (a2 : Int32) {Q : Int32 → gM → Prop} (u : gM) (H : Heap) (locs : List Loc) (ls : Array Slot) (hS : gS E w0 (gmW E ad u w) H locs) (hl : lv_has ls 3 [(0, .ref (ad 8)), (1, .int a1), (2, .int a2)]) (hw : wM_roleOf a1 a2 Q u) : mGo p l e s m args below meth c 2 45 E ad w0 w (uI Q) H locs (F0 m 0 ls []) := by
  unfold wM_roleOf at hw
  refine lv_aload_n C.x C.b dX5_roleOf_0 rfl (lv_at hl 0 rfl) ?_
  refine lv_iload_n C.x C.b dX5_roleOf_1 rfl (lv_at hl 1 rfl) ?_
  refine lv_iconst (v := 4) C.x C.b dX5_roleOf_2 (by decide) ?_
  refine gm_callV (rest := []) C hI hS hl (kM_of C.tr hI hw) q1595 q1597 qs37 q88 q1598 ny_of rfl (Nat.le_of_ble_eq_true rfl) (Nat.le_of_ble_eq_true rfl) rfl (Nat.le_of_ble_eq_true rfl) dX5_roleOf_3 (gm_ki (fun r2 u1 H locs hw hS => ?_))
  refine lv_if_ne (tgt := 11) C.x C.b dX5_roleOf_6 (by decide) (fun c3 => ?_) (fun c3 => ?_)
  · have hw := hw.2 c3
    refine lv_aload_n C.x C.b dX5_roleOf_11 rfl (lv_at hl 0 rfl) ?_
    refine gm_getA C hI hS 0 (by decide) (a := ad 0) rfl q1481 (fun _ h9 => h9) dX5_roleOf_12 ?_
    refine lv_bipush (v := 11) C.x C.b dX5_roleOf_15 (by decide) ?_
    refine lv_iconst (v := 5) C.x C.b dX5_roleOf_17 (by decide) ?_
    refine lv_iload_n C.x C.b dX5_roleOf_18 rfl (lv_at hl 2 rfl) ?_
    refine lv_imul C.x C.b dX5_roleOf_19 ?_
    refine lv_iadd C.x C.b dX5_roleOf_20 ?_
    refine lv_iconst (v := 4) C.x C.b dX5_roleOf_21 (by decide) ?_
    refine lv_iadd C.x C.b dX5_roleOf_22 ?_
    refine gm_ld C hI hS 0 487 (by decide) rfl dX5_roleOf_23 hw (fun v4 hw => ?_)
    refine lv_iload_n C.x C.b dX5_roleOf_24 rfl (lv_at hl 1 rfl) ?_
    refine lv_icmp_ne (tgt := 32) C.x C.b dX5_roleOf_25 (by decide) (fun c5 => ?_) (fun c5 => ?_)
    · have hw := hw.2 c5
      refine lv_aload_n C.x C.b dX5_roleOf_32 rfl (lv_at hl 0 rfl) ?_
      refine lv_iload_n C.x C.b dX5_roleOf_33 rfl (lv_at hl 2 rfl) ?_
      refine lv_aload_n C.x C.b dX5_roleOf_34 rfl (lv_at hl 0 rfl) ?_
      refine lv_iload_n C.x C.b dX5_roleOf_35 rfl (lv_at hl 1 rfl) ?_
      refine lv_iload_n C.x C.b dX5_roleOf_36 rfl (lv_at hl 2 rfl) ?_
      refine gm_callV (rest := [.int a2, .ref (ad 8)]) C hI hS hl (kM_other C.tr hI hw) q1670 q1672 qs49 q88 q1673 ny_other rfl (Nat.le_of_ble_eq_true rfl) (Nat.le_of_ble_eq_true rfl) rfl (Nat.le_of_ble_eq_true rfl) dX5_roleOf_37 (gm_ki (fun r7 u6 H locs hw hS => ?_))
      refine gm_callV (rest := []) C hI hS hl (kM_isAhead C.tr hI hw) q1690 q1692 qs54 q88 q1693 ny_isAhead rfl (Nat.le_of_ble_eq_true rfl) (Nat.le_of_ble_eq_true rfl) rfl (Nat.le_of_ble_eq_true rfl) dX5_roleOf_40 (gm_ki (fun r9 u8 H locs hw hS => ?_))
      refine lv_if_eq (tgt := 50) C.x C.b dX5_roleOf_43 (by decide) (fun c10 => ?_) (fun c10 => ?_)
      · have hw := hw.1 c10
        refine lv_iconst (v := 2) C.x C.b dX5_roleOf_50 (by decide) ?_
        exact gm_iret C hS hw dX5_roleOf_51
      · have hw := hw.2 c10
        refine lv_iconst (v := 1) C.x C.b dX5_roleOf_46 (by decide) ?_
        refine lv_goto (tgt := 51) C.x C.b dX5_roleOf_47 (by decide) ?_
        exact gm_iret C hS hw dX5_roleOf_51
    · have hw := hw.1 c5
      refine lv_iconst (v := 0) C.x C.b dX5_roleOf_28 (by decide) ?_
      refine lv_goto (tgt := 51) C.x C.b dX5_roleOf_29 (by decide) ?_
      exact gm_iret C hS hw dX5_roleOf_51
  · have hw := hw.1 c3
    refine lv_iconst (v := 2) C.x C.b dX5_roleOf_9 (by decide) ?_
    exact gm_iret C hS hw dX5_roleOf_10
theorem kM_roleOf {l : Launch} (ht : l.stackTraces = false) (hI : mI ad) {w : gW} {u : gM} {a1 : Int32} {a2 : Int32} {Q : Int32 → gM → Prop} (hw : wM_roleOf a1 a2 Q u) : gMet l yX5_roleOf (ws_ yX5_roleOf cX5_roleOf 3 (some .int)) E (gmW E ad u w) [.ref (ad 8), .int a1, .int a2] 2 45 (mQ E ad w (uI Q)) gNoX :=
  g_ofW ht (by decide) (Nat.le_of_ble_eq_true rfl) (fun p e s m below meth c ls H C hl hS => kM_roleOf_r C hI _ _ _ _ _ _ hS hl hw)
def wM_goesOn_198 (Q : Int32 → gM → Prop) (y0 : Int32) (y1 : Int32) (u : gM) : Prop :=
  (y1 = y0 → (Q 0 u)) ∧ (¬ y1 = y0 → (Q 1 u))
theorem kM_goesOn_198 (C : gC p l s m args meth c cX5_goesOn 5 (some .boolean) RX5 E [] "goesOn") (hI : mI ad) {Q : Int32 → gM → Prop} (y0 : Int32) (y1 : Int32) (u : gM) (H : Heap) (locs : List Loc) (ls : Array Slot) (hS : gS E w0 (gmW E ad u w) H locs) (hl : lv_has ls 5 []) (hw : wM_goesOn_198 Q y0 y1 u) : mGo p l e s m args below meth c 3 67 E ad w0 w (uI Q) H locs (F0 m 198 ls [.int y0, .int y1]) := by
  unfold wM_goesOn_198 at hw
  refine lv_icmp_eq (tgt := 205) C.x C.b dX5_goesOn_198 (by decide) (fun c28 => ?_) (fun c28 => ?_)
  · have hw := hw.1 c28
    refine lv_iconst (v := 0) C.x C.b dX5_goesOn_205 (by decide) ?_
    exact gm_zret C hS rfl hw dX5_goesOn_206
  · have hw := hw.2 c28
    refine lv_iconst (v := 1) C.x C.b dX5_goesOn_201 (by decide) ?_
    refine lv_goto (tgt := 206) C.x C.b dX5_goesOn_202 (by decide) ?_
    exact gm_zret C hS rfl hw dX5_goesOn_206
def wM_goesOn_181 (Q : Int32 → gM → Prop) (x3 : Int32) (y0 : Int32) (u : gM) : Prop :=
  uLd 0 487 (x3 + 1) (fun v26 => (v26 = 3 → (wM_goesOn_198 Q 1 y0 u)) ∧ (¬ v26 = 3 → (wM_goesOn_198 Q 0 y0 u))) u
theorem kM_goesOn_181 (C : gC p l s m args meth c cX5_goesOn 5 (some .boolean) RX5 E [] "goesOn") (hI : mI ad) {Q : Int32 → gM → Prop} (x3 : Int32) (y0 : Int32) (u : gM) (H : Heap) (locs : List Loc) (ls : Array Slot) (hS : gS E w0 (gmW E ad u w) H locs) (hl : lv_has ls 5 [(0, .ref (ad 8)), (3, .int x3)]) (hw : wM_goesOn_181 Q x3 y0 u) : mGo p l e s m args below meth c 3 67 E ad w0 w (uI Q) H locs (F0 m 181 ls [.int y0]) := by
  unfold wM_goesOn_181 at hw
  refine lv_aload_n C.x C.b dX5_goesOn_181 rfl (lv_at hl 0 rfl) ?_
  refine gm_getA C hI hS 0 (by decide) (a := ad 0) rfl q1481 (fun _ h9 => h9) dX5_goesOn_182 ?_
  refine lv_iload_n C.x C.b dX5_goesOn_185 rfl (lv_at hl 1 rfl) ?_
  refine lv_iconst (v := 1) C.x C.b dX5_goesOn_186 (by decide) ?_
  refine lv_iadd C.x C.b dX5_goesOn_187 ?_
  refine gm_ld C hI hS 0 487 (by decide) rfl dX5_goesOn_188 hw (fun v26 hw => ?_)
  refine lv_iconst (v := 3) C.x C.b dX5_goesOn_189 (by decide) ?_
  refine lv_icmp_ne (tgt := 197) C.x C.b dX5_goesOn_190 (by decide) (fun c27 => ?_) (fun c27 => ?_)
  · have hw := hw.2 c27
    refine lv_iconst (v := 0) C.x C.b dX5_goesOn_197 (by decide) ?_
    exact kM_goesOn_198 C hI _ _ _ _ _ _ hS (lv_sub hl [] rfl) hw
  · have hw := hw.1 c27
    refine lv_iconst (v := 1) C.x C.b dX5_goesOn_193 (by decide) ?_
    refine lv_goto (tgt := 198) C.x C.b dX5_goesOn_194 (by decide) ?_
    exact kM_goesOn_198 C hI _ _ _ _ _ _ hS (lv_sub hl [] rfl) hw
def wM_goesOn_170 (Q : Int32 → gM → Prop) (x3 : Int32) (x4 : Int32) (u : gM) : Prop :=
  (x4 = 3 → (wM_goesOn_181 Q x3 1 u)) ∧ (¬ x4 = 3 → (wM_goesOn_181 Q x3 0 u))
theorem kM_goesOn_170 (C : gC p l s m args meth c cX5_goesOn 5 (some .boolean) RX5 E [] "goesOn") (hI : mI ad) {Q : Int32 → gM → Prop} (x3 : Int32) (x4 : Int32) (u : gM) (H : Heap) (locs : List Loc) (ls : Array Slot) (hS : gS E w0 (gmW E ad u w) H locs) (hl : lv_has ls 5 [(0, .ref (ad 8)), (3, .int x3), (4, .int x4)]) (hw : wM_goesOn_170 Q x3 x4 u) : mGo p l e s m args below meth c 3 67 E ad w0 w (uI Q) H locs (F0 m 170 ls []) := by
  unfold wM_goesOn_170 at hw
  refine lv_iload C.x C.b dX5_goesOn_170 (lv_at hl 2 rfl) ?_
  refine lv_iconst (v := 3) C.x C.b dX5_goesOn_172 (by decide) ?_
  refine lv_icmp_ne (tgt := 180) C.x C.b dX5_goesOn_173 (by decide) (fun c24 => ?_) (fun c24 => ?_)
  · have hw := hw.2 c24
    refine lv_iconst (v := 0) C.x C.b dX5_goesOn_180 (by decide) ?_
    exact kM_goesOn_181 C hI _ _ _ _ _ _ hS (lv_sub hl [0, 1] rfl) hw
  · have hw := hw.1 c24
    refine lv_iconst (v := 1) C.x C.b dX5_goesOn_176 (by decide) ?_
    refine lv_goto (tgt := 181) C.x C.b dX5_goesOn_177 (by decide) ?_
    exact kM_goesOn_181 C hI _ _ _ _ _ _ hS (lv_sub hl [0, 1] rfl) hw
def wM_goesOn_169 (Q : Int32 → gM → Prop) (x3 : Int32) (x4 : Int32) (y0 : Int32) (y1 : Int32) (u : gM) : Prop :=
  uSt 0 487 y1 y0 (fun u25 => wM_goesOn_170 Q x3 x4 u25) u
theorem kM_goesOn_169 (C : gC p l s m args meth c cX5_goesOn 5 (some .boolean) RX5 E [] "goesOn") (hI : mI ad) {Q : Int32 → gM → Prop} (x3 : Int32) (x4 : Int32) (y0 : Int32) (y1 : Int32) (u : gM) (H : Heap) (locs : List Loc) (ls : Array Slot) (hS : gS E w0 (gmW E ad u w) H locs) (hl : lv_has ls 5 [(0, .ref (ad 8)), (3, .int x3), (4, .int x4)]) (hw : wM_goesOn_169 Q x3 x4 y0 y1 u) : mGo p l e s m args below meth c 3 67 E ad w0 w (uI Q) H locs (F0 m 169 ls [.int y0, .int y1, .ref (ad 0)]) := by
  unfold wM_goesOn_169 at hw
  refine gm_st C hI hS 0 487 (by decide) rfl dX5_goesOn_169 hw (fun u25 H locs hw hS => ?_)
  exact kM_goesOn_170 C hI _ _ _ _ _ _ hS (lv_sub hl [0, 1, 2] rfl) hw
def wM_goesOn (a1 : Int32) (a2 : Int32) (Q : Int32 → gM → Prop) (u : gM) : Prop :=
  ∀ z1 : Int32, z1 = (((199 + (18 * a1)) + 8) + (3 * a2)) → uLd 0 487 (z1 + 1) (fun v2 => wM_of a1 a2 (fun r4 u3 => wM_roleOf a1 r4 (fun r6 u5 => uSt 0 487 z1 r6 (fun u7 => uLd 0 487 z1 (fun v8 => (v8 = 2 → (uSt 0 487 (z1 + 1) 0 (fun u22 => uSt 0 487 (z1 + 2) 0 (fun u23 => wM_goesOn_170 Q z1 v2 u23) u22) u7)) ∧ (¬ v8 = 2 → ((v2 = 0 → (uSt 0 487 (z1 + 1) 1 (fun u19 => uLd 0 487 2 (fun v20 => uSt 0 487 (z1 + 2) v20 (fun u21 => wM_goesOn_170 Q z1 v2 u21) u19) u19) u7)) ∧ (¬ v2 = 0 → ((v2 = 3 → (wM_goesOn_170 Q z1 v2 u7)) ∧ (¬ v2 = 3 → (uLd 0 487 (z1 + 2) (fun v12 => uSt 0 487 (z1 + 2) (v12 - 1) (fun u13 => uLd 0 487 (z1 + 2) (fun v14 => (v14 = 0 → (uSt 0 487 (z1 + 1) (v2 + 1) (fun u16 => (v2 = 1 → (uLd 0 487 2 (fun v18 => wM_goesOn_169 Q z1 v2 v18 (z1 + 2) u16) u16)) ∧ (¬ v2 = 1 → (wM_goesOn_169 Q z1 v2 0 (z1 + 2) u16))) u13)) ∧ (¬ v14 = 0 → (wM_goesOn_170 Q z1 v2 u13))) u13) u7) u7))))))) u7) u5) u3) u) u
theorem kM_goesOn_r (C : gC p l s m args meth c cX5_goesOn 5 (some .boolean) RX5 E [] "goesOn") (hI : mI ad) (a1 : Int32) (a2 : Int32) {Q : Int32 → gM → Prop} (u : gM) (H : Heap) (locs : List Loc) (ls : Array Slot) (hS : gS E w0 (gmW E ad u w) H locs) (hl : lv_has ls 5 [(0, .ref (ad 8)), (1, .int a1), (2, .int a2)]) (hw : wM_goesOn a1 a2 Q u) : mGo p l e s m args below meth c 3 67 E ad w0 w (uI Q) H locs (F0 m 0 ls []) := by
  unfold wM_goesOn at hw
  refine lv_sipush (v := 199) C.x C.b dX5_goesOn_0 (by decide) ?_
  refine lv_bipush (v := 18) C.x C.b dX5_goesOn_3 (by decide) ?_
  refine lv_iload_n C.x C.b dX5_goesOn_5 rfl (lv_at hl 1 rfl) ?_
  refine lv_imul C.x C.b dX5_goesOn_6 ?_
  refine lv_iadd C.x C.b dX5_goesOn_7 ?_
  refine lv_bipush (v := 8) C.x C.b dX5_goesOn_8 (by decide) ?_
  refine lv_iadd C.x C.b dX5_goesOn_10 ?_
  refine lv_iconst (v := 3) C.x C.b dX5_goesOn_11 (by decide) ?_
  refine lv_iload_n C.x C.b dX5_goesOn_12 rfl (lv_at hl 2 rfl) ?_
  refine lv_imul C.x C.b dX5_goesOn_13 ?_
  refine lv_iadd C.x C.b dX5_goesOn_14 ?_
  refine lv_topi (fun z1 ez1 => ?_)
  have hw := hw z1 ez1
  refine lv_istore_n (lv' := [(3, .int z1), (0, .ref (ad 8)), (1, .int a1), (2, .int a2)]) C.x C.b dX5_goesOn_15 rfl hl (by decide) rfl (fun ls hl => ?_)
  refine lv_aload_n C.x C.b dX5_goesOn_16 rfl (lv_at hl 1 rfl) ?_
  refine gm_getA C hI hS 0 (by decide) (a := ad 0) rfl q1481 (fun _ h9 => h9) dX5_goesOn_17 ?_
  refine lv_iload_n C.x C.b dX5_goesOn_20 rfl (lv_at hl 0 rfl) ?_
  refine lv_iconst (v := 1) C.x C.b dX5_goesOn_21 (by decide) ?_
  refine lv_iadd C.x C.b dX5_goesOn_22 ?_
  refine gm_ld C hI hS 0 487 (by decide) rfl dX5_goesOn_23 hw (fun v2 hw => ?_)
  refine lv_istore (lv' := [(4, .int v2), (3, .int z1), (0, .ref (ad 8)), (1, .int a1), (2, .int a2)]) C.x C.b dX5_goesOn_24 hl (by decide) rfl (fun ls hl => ?_)
  refine lv_aload_n C.x C.b dX5_goesOn_26 rfl (lv_at hl 2 rfl) ?_
  refine gm_getA C hI hS 0 (by decide) (a := ad 0) rfl q1481 (fun _ h9 => h9) dX5_goesOn_27 ?_
  refine lv_iload_n C.x C.b dX5_goesOn_30 rfl (lv_at hl 1 rfl) ?_
  refine lv_aload_n C.x C.b dX5_goesOn_31 rfl (lv_at hl 2 rfl) ?_
  refine lv_iload_n C.x C.b dX5_goesOn_32 rfl (lv_at hl 3 rfl) ?_
  refine lv_aload_n C.x C.b dX5_goesOn_33 rfl (lv_at hl 2 rfl) ?_
  refine lv_iload_n C.x C.b dX5_goesOn_34 rfl (lv_at hl 3 rfl) ?_
  refine lv_iload_n C.x C.b dX5_goesOn_35 rfl (lv_at hl 4 rfl) ?_
  refine gm_callV (rest := [.int a1, .ref (ad 8), .int z1, .ref (ad 0)]) C hI hS hl (kM_of C.tr hI hw) q1595 q1597 qs37 q88 q1598 ny_of rfl (Nat.le_of_ble_eq_true rfl) (Nat.le_of_ble_eq_true rfl) rfl (Nat.le_of_ble_eq_true rfl) dX5_goesOn_36 (gm_ki (fun r4 u3 H locs hw hS => ?_))
  refine gm_callV (rest := [.int z1, .ref (ad 0)]) C hI hS hl (kM_roleOf C.tr hI hw) q1686 q1688 qs53 q88 q1689 ny_roleOf rfl (Nat.le_of_ble_eq_true rfl) (Nat.le_of_ble_eq_true rfl) rfl (Nat.le_of_ble_eq_true rfl) dX5_goesOn_39 (gm_ki (fun r6 u5 H locs hw hS => ?_))
  refine gm_st C hI hS 0 487 (by decide) rfl dX5_goesOn_42 hw (fun u7 H locs hw hS => ?_)
  refine lv_aload_n C.x C.b dX5_goesOn_43 rfl (lv_at hl 2 rfl) ?_
  refine gm_getA C hI hS 0 (by decide) (a := ad 0) rfl q1481 (fun _ h9 => h9) dX5_goesOn_44 ?_
  refine lv_iload_n C.x C.b dX5_goesOn_47 rfl (lv_at hl 1 rfl) ?_
  refine gm_ld C hI hS 0 487 (by decide) rfl dX5_goesOn_48 hw (fun v8 hw => ?_)
  refine lv_iconst (v := 2) C.x C.b dX5_goesOn_49 (by decide) ?_
  refine lv_icmp_ne (tgt := 74) C.x C.b dX5_goesOn_50 (by decide) (fun c9 => ?_) (fun c9 => ?_)
  · have hw := hw.2 c9
    refine lv_iload C.x C.b dX5_goesOn_74 (lv_at hl 0 rfl) ?_
    refine lv_if_ne (tgt := 105) C.x C.b dX5_goesOn_76 (by decide) (fun c10 => ?_) (fun c10 => ?_)
    · have hw := hw.2 c10
      refine lv_iload C.x C.b dX5_goesOn_105 (lv_at hl 0 rfl) ?_
      refine lv_iconst (v := 3) C.x C.b dX5_goesOn_107 (by decide) ?_
      refine lv_icmp_eq (tgt := 170) C.x C.b dX5_goesOn_108 (by decide) (fun c11 => ?_) (fun c11 => ?_)
      · have hw := hw.1 c11
        exact kM_goesOn_170 C hI _ _ _ _ _ _ hS (lv_sub hl [2, 1, 0] rfl) hw
      · have hw := hw.2 c11
        refine lv_aload_n C.x C.b dX5_goesOn_111 rfl (lv_at hl 2 rfl) ?_
        refine gm_getA C hI hS 0 (by decide) (a := ad 0) rfl q1481 (fun _ h9 => h9) dX5_goesOn_112 ?_
        refine lv_iload_n C.x C.b dX5_goesOn_115 rfl (lv_at hl 1 rfl) ?_
        refine lv_iconst (v := 2) C.x C.b dX5_goesOn_116 (by decide) ?_
        refine lv_iadd C.x C.b dX5_goesOn_117 ?_
        refine lv_dup2_11 C.x C.b dX5_goesOn_118 rfl rfl ?_
        refine gm_ld C hI hS 0 487 (by decide) rfl dX5_goesOn_119 hw (fun v12 hw => ?_)
        refine lv_iconst (v := 1) C.x C.b dX5_goesOn_120 (by decide) ?_
        refine lv_isub C.x C.b dX5_goesOn_121 ?_
        refine gm_st C hI hS 0 487 (by decide) rfl dX5_goesOn_122 hw (fun u13 H locs hw hS => ?_)
        refine lv_aload_n C.x C.b dX5_goesOn_123 rfl (lv_at hl 2 rfl) ?_
        refine gm_getA C hI hS 0 (by decide) (a := ad 0) rfl q1481 (fun _ h9 => h9) dX5_goesOn_124 ?_
        refine lv_iload_n C.x C.b dX5_goesOn_127 rfl (lv_at hl 1 rfl) ?_
        refine lv_iconst (v := 2) C.x C.b dX5_goesOn_128 (by decide) ?_
        refine lv_iadd C.x C.b dX5_goesOn_129 ?_
        refine gm_ld C hI hS 0 487 (by decide) rfl dX5_goesOn_130 hw (fun v14 hw => ?_)
        refine lv_if_ne (tgt := 170) C.x C.b dX5_goesOn_131 (by decide) (fun c15 => ?_) (fun c15 => ?_)
        · have hw := hw.2 c15
          exact kM_goesOn_170 C hI _ _ _ _ _ _ hS (lv_sub hl [2, 1, 0] rfl) hw
        · have hw := hw.1 c15
          refine lv_aload_n C.x C.b dX5_goesOn_134 rfl (lv_at hl 2 rfl) ?_
          refine gm_getA C hI hS 0 (by decide) (a := ad 0) rfl q1481 (fun _ h9 => h9) dX5_goesOn_135 ?_
          refine lv_iload_n C.x C.b dX5_goesOn_138 rfl (lv_at hl 1 rfl) ?_
          refine lv_iconst (v := 1) C.x C.b dX5_goesOn_139 (by decide) ?_
          refine lv_iadd C.x C.b dX5_goesOn_140 ?_
          refine lv_iload C.x C.b dX5_goesOn_141 (lv_at hl 0 rfl) ?_
          refine lv_iconst (v := 1) C.x C.b dX5_goesOn_143 (by decide) ?_
          refine lv_iadd C.x C.b dX5_goesOn_144 ?_
          refine gm_st C hI hS 0 487 (by decide) rfl dX5_goesOn_145 hw (fun u16 H locs hw hS => ?_)
          refine lv_aload_n C.x C.b dX5_goesOn_146 rfl (lv_at hl 2 rfl) ?_
          refine gm_getA C hI hS 0 (by decide) (a := ad 0) rfl q1481 (fun _ h9 => h9) dX5_goesOn_147 ?_
          refine lv_iload_n C.x C.b dX5_goesOn_150 rfl (lv_at hl 1 rfl) ?_
          refine lv_iconst (v := 2) C.x C.b dX5_goesOn_151 (by decide) ?_
          refine lv_iadd C.x C.b dX5_goesOn_152 ?_
          refine lv_iload C.x C.b dX5_goesOn_153 (lv_at hl 0 rfl) ?_
          refine lv_iconst (v := 1) C.x C.b dX5_goesOn_155 (by decide) ?_
          refine lv_icmp_ne (tgt := 168) C.x C.b dX5_goesOn_156 (by decide) (fun c17 => ?_) (fun c17 => ?_)
          · have hw := hw.2 c17
            refine lv_iconst (v := 0) C.x C.b dX5_goesOn_168 (by decide) ?_
            exact kM_goesOn_169 C hI _ _ _ _ _ _ _ _ hS (lv_sub hl [2, 1, 0] rfl) hw
          · have hw := hw.1 c17
            refine lv_aload_n C.x C.b dX5_goesOn_159 rfl (lv_at hl 2 rfl) ?_
            refine gm_getA C hI hS 0 (by decide) (a := ad 0) rfl q1481 (fun _ h9 => h9) dX5_goesOn_160 ?_
            refine lv_iconst (v := 2) C.x C.b dX5_goesOn_163 (by decide) ?_
            refine gm_ld C hI hS 0 487 (by decide) rfl dX5_goesOn_164 hw (fun v18 hw => ?_)
            refine lv_goto (tgt := 169) C.x C.b dX5_goesOn_165 (by decide) ?_
            exact kM_goesOn_169 C hI _ _ _ _ _ _ _ _ hS (lv_sub hl [2, 1, 0] rfl) hw
    · have hw := hw.1 c10
      refine lv_aload_n C.x C.b dX5_goesOn_79 rfl (lv_at hl 2 rfl) ?_
      refine gm_getA C hI hS 0 (by decide) (a := ad 0) rfl q1481 (fun _ h9 => h9) dX5_goesOn_80 ?_
      refine lv_iload_n C.x C.b dX5_goesOn_83 rfl (lv_at hl 1 rfl) ?_
      refine lv_iconst (v := 1) C.x C.b dX5_goesOn_84 (by decide) ?_
      refine lv_iadd C.x C.b dX5_goesOn_85 ?_
      refine lv_iconst (v := 1) C.x C.b dX5_goesOn_86 (by decide) ?_
      refine gm_st C hI hS 0 487 (by decide) rfl dX5_goesOn_87 hw (fun u19 H locs hw hS => ?_)
      refine lv_aload_n C.x C.b dX5_goesOn_88 rfl (lv_at hl 2 rfl) ?_
      refine gm_getA C hI hS 0 (by decide) (a := ad 0) rfl q1481 (fun _ h9 => h9) dX5_goesOn_89 ?_
      refine lv_iload_n C.x C.b dX5_goesOn_92 rfl (lv_at hl 1 rfl) ?_
      refine lv_iconst (v := 2) C.x C.b dX5_goesOn_93 (by decide) ?_
      refine lv_iadd C.x C.b dX5_goesOn_94 ?_
      refine lv_aload_n C.x C.b dX5_goesOn_95 rfl (lv_at hl 2 rfl) ?_
      refine gm_getA C hI hS 0 (by decide) (a := ad 0) rfl q1481 (fun _ h9 => h9) dX5_goesOn_96 ?_
      refine lv_iconst (v := 2) C.x C.b dX5_goesOn_99 (by decide) ?_
      refine gm_ld C hI hS 0 487 (by decide) rfl dX5_goesOn_100 hw (fun v20 hw => ?_)
      refine gm_st C hI hS 0 487 (by decide) rfl dX5_goesOn_101 hw (fun u21 H locs hw hS => ?_)
      refine lv_goto (tgt := 170) C.x C.b dX5_goesOn_102 (by decide) ?_
      exact kM_goesOn_170 C hI _ _ _ _ _ _ hS (lv_sub hl [2, 1, 0] rfl) hw
  · have hw := hw.1 c9
    refine lv_aload_n C.x C.b dX5_goesOn_53 rfl (lv_at hl 2 rfl) ?_
    refine gm_getA C hI hS 0 (by decide) (a := ad 0) rfl q1481 (fun _ h9 => h9) dX5_goesOn_54 ?_
    refine lv_iload_n C.x C.b dX5_goesOn_57 rfl (lv_at hl 1 rfl) ?_
    refine lv_iconst (v := 1) C.x C.b dX5_goesOn_58 (by decide) ?_
    refine lv_iadd C.x C.b dX5_goesOn_59 ?_
    refine lv_iconst (v := 0) C.x C.b dX5_goesOn_60 (by decide) ?_
    refine gm_st C hI hS 0 487 (by decide) rfl dX5_goesOn_61 hw (fun u22 H locs hw hS => ?_)
    refine lv_aload_n C.x C.b dX5_goesOn_62 rfl (lv_at hl 2 rfl) ?_
    refine gm_getA C hI hS 0 (by decide) (a := ad 0) rfl q1481 (fun _ h9 => h9) dX5_goesOn_63 ?_
    refine lv_iload_n C.x C.b dX5_goesOn_66 rfl (lv_at hl 1 rfl) ?_
    refine lv_iconst (v := 2) C.x C.b dX5_goesOn_67 (by decide) ?_
    refine lv_iadd C.x C.b dX5_goesOn_68 ?_
    refine lv_iconst (v := 0) C.x C.b dX5_goesOn_69 (by decide) ?_
    refine gm_st C hI hS 0 487 (by decide) rfl dX5_goesOn_70 hw (fun u23 H locs hw hS => ?_)
    refine lv_goto (tgt := 170) C.x C.b dX5_goesOn_71 (by decide) ?_
    exact kM_goesOn_170 C hI _ _ _ _ _ _ hS (lv_sub hl [2, 1, 0] rfl) hw
theorem kM_goesOn {l : Launch} (ht : l.stackTraces = false) (hI : mI ad) {w : gW} {u : gM} {a1 : Int32} {a2 : Int32} {Q : Int32 → gM → Prop} (hw : wM_goesOn a1 a2 Q u) : gMet l yX5_goesOn (ws_ yX5_goesOn cX5_goesOn 5 (some .boolean)) E (gmW E ad u w) [.ref (ad 8), .int a1, .int a2] 3 67 (mQ E ad w (uI Q)) gNoX :=
  g_ofW ht (by decide) (Nat.le_of_ble_eq_true rfl) (fun p e s m below meth c ls H C hl hS => kM_goesOn_r C hI _ _ _ _ _ _ hS hl hw)
def wM_carries (a1 : Int32) (Q : Int32 → gM → Prop) (u : gM) : Prop :=
  wM_of a1 4 (fun r2 u1 => (r2 = 1 → (wM_of a1 9 (fun r5 u4 => (r5 = 3 → (wM_of a1 12 (fun r8 u7 => (r8 = 3 → (Q 1 u7)) ∧ (¬ r8 = 3 → (Q 0 u7))) u4)) ∧ (¬ r5 = 3 → (Q 0 u4))) u1)) ∧ (¬ r2 = 1 → (Q 0 u1))) u
theorem kM_carries_r (C : gC p l s m args meth c cX5_carries 2 (some .boolean) RX5 E [] "carries") (hI : mI ad) (a1 : Int32) {Q : Int32 → gM → Prop} (u : gM) (H : Heap) (locs : List Loc) (ls : Array Slot) (hS : gS E w0 (gmW E ad u w) H locs) (hl : lv_has ls 2 [(0, .ref (ad 8)), (1, .int a1)]) (hw : wM_carries a1 Q u) : mGo p l e s m args below meth c 1 22 E ad w0 w (uI Q) H locs (F0 m 0 ls []) := by
  unfold wM_carries at hw
  refine lv_aload_n C.x C.b dX5_carries_0 rfl (lv_at hl 0 rfl) ?_
  refine lv_iload_n C.x C.b dX5_carries_1 rfl (lv_at hl 1 rfl) ?_
  refine lv_iconst (v := 4) C.x C.b dX5_carries_2 (by decide) ?_
  refine gm_callV (rest := []) C hI hS hl (kM_of C.tr hI hw) q1595 q1597 qs37 q88 q1598 ny_of rfl (Nat.le_of_ble_eq_true rfl) (Nat.le_of_ble_eq_true rfl) rfl (Nat.le_of_ble_eq_true rfl) dX5_carries_3 (gm_ki (fun r2 u1 H locs hw hS => ?_))
  refine lv_iconst (v := 1) C.x C.b dX5_carries_6 (by decide) ?_
  refine lv_icmp_ne (tgt := 36) C.x C.b dX5_carries_7 (by decide) (fun c3 => ?_) (fun c3 => ?_)
  · have hw := hw.2 c3
    refine lv_iconst (v := 0) C.x C.b dX5_carries_36 (by decide) ?_
    exact gm_zret C hS rfl hw dX5_carries_37
  · have hw := hw.1 c3
    refine lv_aload_n C.x C.b dX5_carries_10 rfl (lv_at hl 0 rfl) ?_
    refine lv_iload_n C.x C.b dX5_carries_11 rfl (lv_at hl 1 rfl) ?_
    refine lv_bipush (v := 9) C.x C.b dX5_carries_12 (by decide) ?_
    refine gm_callV (rest := []) C hI hS hl (kM_of C.tr hI hw) q1595 q1597 qs37 q88 q1598 ny_of rfl (Nat.le_of_ble_eq_true rfl) (Nat.le_of_ble_eq_true rfl) rfl (Nat.le_of_ble_eq_true rfl) dX5_carries_14 (gm_ki (fun r5 u4 H locs hw hS => ?_))
    refine lv_iconst (v := 3) C.x C.b dX5_carries_17 (by decide) ?_
    refine lv_icmp_ne (tgt := 36) C.x C.b dX5_carries_18 (by decide) (fun c6 => ?_) (fun c6 => ?_)
    · have hw := hw.2 c6
      refine lv_iconst (v := 0) C.x C.b dX5_carries_36 (by decide) ?_
      exact gm_zret C hS rfl hw dX5_carries_37
    · have hw := hw.1 c6
      refine lv_aload_n C.x C.b dX5_carries_21 rfl (lv_at hl 0 rfl) ?_
      refine lv_iload_n C.x C.b dX5_carries_22 rfl (lv_at hl 1 rfl) ?_
      refine lv_bipush (v := 12) C.x C.b dX5_carries_23 (by decide) ?_
      refine gm_callV (rest := []) C hI hS hl (kM_of C.tr hI hw) q1595 q1597 qs37 q88 q1598 ny_of rfl (Nat.le_of_ble_eq_true rfl) (Nat.le_of_ble_eq_true rfl) rfl (Nat.le_of_ble_eq_true rfl) dX5_carries_25 (gm_ki (fun r8 u7 H locs hw hS => ?_))
      refine lv_iconst (v := 3) C.x C.b dX5_carries_28 (by decide) ?_
      refine lv_icmp_ne (tgt := 36) C.x C.b dX5_carries_29 (by decide) (fun c9 => ?_) (fun c9 => ?_)
      · have hw := hw.2 c9
        refine lv_iconst (v := 0) C.x C.b dX5_carries_36 (by decide) ?_
        exact gm_zret C hS rfl hw dX5_carries_37
      · have hw := hw.1 c9
        refine lv_iconst (v := 1) C.x C.b dX5_carries_32 (by decide) ?_
        refine lv_goto (tgt := 37) C.x C.b dX5_carries_33 (by decide) ?_
        exact gm_zret C hS rfl hw dX5_carries_37
theorem kM_carries {l : Launch} (ht : l.stackTraces = false) (hI : mI ad) {w : gW} {u : gM} {a1 : Int32} {Q : Int32 → gM → Prop} (hw : wM_carries a1 Q u) : gMet l yX5_carries (ws_ yX5_carries cX5_carries 2 (some .boolean)) E (gmW E ad u w) [.ref (ad 8), .int a1] 1 22 (mQ E ad w (uI Q)) gNoX :=
  g_ofW ht (by decide) (Nat.le_of_ble_eq_true rfl) (fun p e s m below meth c ls H C hl hS => kM_carries_r C hI _ _ _ _ _ hS hl hw)
def wM_reached_82 (K6 : Int32 → Int32 → gM → Prop) (K15 : Int32 → Int32 → Int32 → gM → Prop) (Q : Int32 → gM → Prop) (x2 : Int32) (x3 : Int32) (x4 : Int32) (u : gM) : Prop :=
  K15 x2 x3 (x4 + 1) u
theorem kM_reached_82 (C : gC p l s m args meth c cX5_reached 5 (some .int) RX5 E [] "reached") (hI : mI ad) {Q : Int32 → gM → Prop} {K6 : Int32 → Int32 → gM → Prop} (hK6 : ∀ (x2 : Int32) (x3 : Int32) (u : gM) (H : Heap) (locs : List Loc) (ls : Array Slot), gS E w0 (gmW E ad u w) H locs → lv_has ls 5 [(0, .ref (ad 8)), (2, .int x2), (3, .int x3)] → K6 x2 x3 u → mGo p l e s m args below meth c 2 43 E ad w0 w (uI Q) H locs (F0 m 6 ls [])) {K15 : Int32 → Int32 → Int32 → gM → Prop} (hK15 : ∀ (x2 : Int32) (x3 : Int32) (x4 : Int32) (u : gM) (H : Heap) (locs : List Loc) (ls : Array Slot), gS E w0 (gmW E ad u w) H locs → lv_has ls 5 [(0, .ref (ad 8)), (2, .int x2), (3, .int x3), (4, .int x4)] → K15 x2 x3 x4 u → mGo p l e s m args below meth c 2 43 E ad w0 w (uI Q) H locs (F0 m 15 ls [])) (x2 : Int32) (x3 : Int32) (x4 : Int32) (u : gM) (H : Heap) (locs : List Loc) (ls : Array Slot) (hS : gS E w0 (gmW E ad u w) H locs) (hl : lv_has ls 5 [(0, .ref (ad 8)), (2, .int x2), (3, .int x3), (4, .int x4)]) (hw : wM_reached_82 K6 K15 Q x2 x3 x4 u) : mGo p l e s m args below meth c 2 43 E ad w0 w (uI Q) H locs (F0 m 82 ls []) := by
  unfold wM_reached_82 at hw
  refine lv_iinc (v := (x4 + 1)) (lv' := [(4, .int (x4 + 1)), (0, .ref (ad 8)), (2, .int x2), (3, .int x3)]) C.x C.b dX5_reached_82 hl (k := 3) rfl rfl (by decide) rfl (fun ls hl => ?_)
  refine lv_goto (tgt := 15) C.x C.b dX5_reached_85 (by decide) ?_
  exact hK15 _ _ _ _ _ _ _ hS (lv_sub hl [1, 2, 3, 0] rfl) hw
def wM_reached_15 (K6 : Int32 → Int32 → gM → Prop) (Q : Int32 → gM → Prop) : Nat → Int32 → Int32 → Int32 → gM → Prop
  | 0, _, _, _, _ => False
  | n + 1, x2, x3, x4, u => uLd 0 487 5 (fun v4 => (v4 ≤ x4 → (K6 x2 (x3 + 1) u)) ∧ (¬ v4 ≤ x4 → (wM_carries x4 (fun r7 u6 => (r7 = 0 → (wM_reached_82 K6 (fun x2 x3 x4 u => wM_reached_15 K6 Q n x2 x3 x4 u) Q x2 x3 x4 u6)) ∧ (¬ r7 = 0 → (wM_of x4 0 (fun r10 u9 => wM_of x4 1 (fun r12 u11 => ((((x2 >>> (r10 &&& 31)) ||| (x2 >>> (r12 &&& 31))) &&& 1) = 1 → (wM_of x4 0 (fun r15 u14 => wM_of x4 1 (fun r17 u16 => ∀ z18 : Int32, z18 = (x2 ||| ((1 <<< (r15 &&& 31)) ||| (1 <<< (r17 &&& 31)))) → wM_reached_82 K6 (fun x2 x3 x4 u => wM_reached_15 K6 Q n x2 x3 x4 u) Q z18 x3 x4 u16) u14) u11)) ∧ (¬ (((x2 >>> (r10 &&& 31)) ||| (x2 >>> (r12 &&& 31))) &&& 1) = 1 → (wM_reached_82 K6 (fun x2 x3 x4 u => wM_reached_15 K6 Q n x2 x3 x4 u) Q x2 x3 x4 u11))) u9) u6))) u))) u
theorem kM_reached_15 (C : gC p l s m args meth c cX5_reached 5 (some .int) RX5 E [] "reached") (hI : mI ad) {Q : Int32 → gM → Prop} {K6 : Int32 → Int32 → gM → Prop} (hK6 : ∀ (x2 : Int32) (x3 : Int32) (u : gM) (H : Heap) (locs : List Loc) (ls : Array Slot), gS E w0 (gmW E ad u w) H locs → lv_has ls 5 [(0, .ref (ad 8)), (2, .int x2), (3, .int x3)] → K6 x2 x3 u → mGo p l e s m args below meth c 2 43 E ad w0 w (uI Q) H locs (F0 m 6 ls [])) : ∀ (n : Nat) (x2 : Int32) (x3 : Int32) (x4 : Int32) (u : gM) (H : Heap) (locs : List Loc) (ls : Array Slot), gS E w0 (gmW E ad u w) H locs → lv_has ls 5 [(0, .ref (ad 8)), (2, .int x2), (3, .int x3), (4, .int x4)] → wM_reached_15 K6 Q n x2 x3 x4 u → mGo p l e s m args below meth c 2 43 E ad w0 w (uI Q) H locs (F0 m 15 ls []) := by
  intro n
  induction n with
  | zero =>
    intro x2 x3 x4 u H locs ls hS hl hw
    exact hw.elim
  | succ n ih =>
    intro x2 x3 x4 u H locs ls hS hl hw
    unfold wM_reached_15 at hw
    refine lv_iload C.x C.b dX5_reached_15 (lv_at hl 3 rfl) ?_
    refine lv_aload_n C.x C.b dX5_reached_17 rfl (lv_at hl 0 rfl) ?_
    refine gm_getA C hI hS 0 (by decide) (a := ad 0) rfl q1481 (fun _ h9 => h9) dX5_reached_18 ?_
    refine lv_iconst (v := 5) C.x C.b dX5_reached_21 (by decide) ?_
    refine gm_ld C hI hS 0 487 (by decide) rfl dX5_reached_22 hw (fun v4 hw => ?_)
    refine lv_icmp_ge (tgt := 88) C.x C.b dX5_reached_23 (by decide) (fun c5 => ?_) (fun c5 => ?_)
    · have hw := hw.1 c5
      refine lv_iinc (v := (x3 + 1)) (lv' := [(3, .int (x3 + 1)), (0, .ref (ad 8)), (2, .int x2), (4, .int x4)]) C.x C.b dX5_reached_88 hl (k := 2) rfl rfl (by decide) rfl (fun ls hl => ?_)
      refine lv_goto (tgt := 6) C.x C.b dX5_reached_91 (by decide) ?_
      exact hK6 _ _ _ _ _ _ hS (lv_sub hl [1, 2, 0] rfl) hw
    · have hw := hw.2 c5
      refine lv_aload_n C.x C.b dX5_reached_26 rfl (lv_at hl 0 rfl) ?_
      refine lv_iload C.x C.b dX5_reached_27 (lv_at hl 3 rfl) ?_
      refine gm_callV (rest := []) C hI hS hl (kM_carries C.tr hI hw) q1698 q1700 qs56 q88 q1701 ny_carries rfl (Nat.le_of_ble_eq_true rfl) (Nat.le_of_ble_eq_true rfl) rfl (Nat.le_of_ble_eq_true rfl) dX5_reached_29 (gm_ki (fun r7 u6 H locs hw hS => ?_))
      refine lv_if_eq (tgt := 82) C.x C.b dX5_reached_32 (by decide) (fun c8 => ?_) (fun c8 => ?_)
      · have hw := hw.1 c8
        exact kM_reached_82 C hI hK6 ih _ _ _ _ _ _ _ hS (lv_sub hl [0, 1, 2, 3] rfl) hw
      · have hw := hw.2 c8
        refine lv_iload_n C.x C.b dX5_reached_35 rfl (lv_at hl 1 rfl) ?_
        refine lv_aload_n C.x C.b dX5_reached_36 rfl (lv_at hl 0 rfl) ?_
        refine lv_iload C.x C.b dX5_reached_37 (lv_at hl 3 rfl) ?_
        refine lv_iconst (v := 0) C.x C.b dX5_reached_39 (by decide) ?_
        refine gm_callV (rest := [.int x2]) C hI hS hl (kM_of C.tr hI hw) q1595 q1597 qs37 q88 q1598 ny_of rfl (Nat.le_of_ble_eq_true rfl) (Nat.le_of_ble_eq_true rfl) rfl (Nat.le_of_ble_eq_true rfl) dX5_reached_40 (gm_ki (fun r10 u9 H locs hw hS => ?_))
        refine lv_ishr C.x C.b dX5_reached_43 ?_
        refine lv_iload_n C.x C.b dX5_reached_44 rfl (lv_at hl 1 rfl) ?_
        refine lv_aload_n C.x C.b dX5_reached_45 rfl (lv_at hl 0 rfl) ?_
        refine lv_iload C.x C.b dX5_reached_46 (lv_at hl 3 rfl) ?_
        refine lv_iconst (v := 1) C.x C.b dX5_reached_48 (by decide) ?_
        refine gm_callV (rest := [.int x2, .int (x2 >>> (r10 &&& 31))]) C hI hS hl (kM_of C.tr hI hw) q1595 q1597 qs37 q88 q1598 ny_of rfl (Nat.le_of_ble_eq_true rfl) (Nat.le_of_ble_eq_true rfl) rfl (Nat.le_of_ble_eq_true rfl) dX5_reached_49 (gm_ki (fun r12 u11 H locs hw hS => ?_))
        refine lv_ishr C.x C.b dX5_reached_52 ?_
        refine lv_ior C.x C.b dX5_reached_53 ?_
        refine lv_iconst (v := 1) C.x C.b dX5_reached_54 (by decide) ?_
        refine lv_iand C.x C.b dX5_reached_55 ?_
        refine lv_iconst (v := 1) C.x C.b dX5_reached_56 (by decide) ?_
        refine lv_icmp_ne (tgt := 82) C.x C.b dX5_reached_57 (by decide) (fun c13 => ?_) (fun c13 => ?_)
        · have hw := hw.2 c13
          exact kM_reached_82 C hI hK6 ih _ _ _ _ _ _ _ hS (lv_sub hl [0, 1, 2, 3] rfl) hw
        · have hw := hw.1 c13
          refine lv_iload_n C.x C.b dX5_reached_60 rfl (lv_at hl 1 rfl) ?_
          refine lv_iconst (v := 1) C.x C.b dX5_reached_61 (by decide) ?_
          refine lv_aload_n C.x C.b dX5_reached_62 rfl (lv_at hl 0 rfl) ?_
          refine lv_iload C.x C.b dX5_reached_63 (lv_at hl 3 rfl) ?_
          refine lv_iconst (v := 0) C.x C.b dX5_reached_65 (by decide) ?_
          refine gm_callV (rest := [.int 1, .int x2]) C hI hS hl (kM_of C.tr hI hw) q1595 q1597 qs37 q88 q1598 ny_of rfl (Nat.le_of_ble_eq_true rfl) (Nat.le_of_ble_eq_true rfl) rfl (Nat.le_of_ble_eq_true rfl) dX5_reached_66 (gm_ki (fun r15 u14 H locs hw hS => ?_))
          refine lv_ishl C.x C.b dX5_reached_69 ?_
          refine lv_iconst (v := 1) C.x C.b dX5_reached_70 (by decide) ?_
          refine lv_aload_n C.x C.b dX5_reached_71 rfl (lv_at hl 0 rfl) ?_
          refine lv_iload C.x C.b dX5_reached_72 (lv_at hl 3 rfl) ?_
          refine lv_iconst (v := 1) C.x C.b dX5_reached_74 (by decide) ?_
          refine gm_callV (rest := [.int 1, .int (1 <<< (r15 &&& 31)), .int x2]) C hI hS hl (kM_of C.tr hI hw) q1595 q1597 qs37 q88 q1598 ny_of rfl (Nat.le_of_ble_eq_true rfl) (Nat.le_of_ble_eq_true rfl) rfl (Nat.le_of_ble_eq_true rfl) dX5_reached_75 (gm_ki (fun r17 u16 H locs hw hS => ?_))
          refine lv_ishl C.x C.b dX5_reached_78 ?_
          refine lv_ior C.x C.b dX5_reached_79 ?_
          refine lv_ior C.x C.b dX5_reached_80 ?_
          refine lv_topi (fun z18 ez18 => ?_)
          have hw := hw z18 ez18
          refine lv_istore_n (lv' := [(2, .int z18), (0, .ref (ad 8)), (3, .int x3), (4, .int x4)]) C.x C.b dX5_reached_81 rfl hl (by decide) rfl (fun ls hl => ?_)
          exact kM_reached_82 C hI hK6 ih _ _ _ _ _ _ _ hS (lv_sub hl [1, 0, 2, 3] rfl) hw
def wM_reached_6 (Q : Int32 → gM → Prop) : Nat → Int32 → Int32 → gM → Prop
  | 0, _, _, _ => False
  | n + 1, x2, x3, u => (8 ≤ x3 → (Q x2 u)) ∧ (¬ 8 ≤ x3 → (∃ k3 : Nat, wM_reached_15 (fun x2 x3 u => wM_reached_6 Q n x2 x3 u) Q k3 x2 x3 0 u))
theorem kM_reached_6 (C : gC p l s m args meth c cX5_reached 5 (some .int) RX5 E [] "reached") (hI : mI ad) {Q : Int32 → gM → Prop} : ∀ (n : Nat) (x2 : Int32) (x3 : Int32) (u : gM) (H : Heap) (locs : List Loc) (ls : Array Slot), gS E w0 (gmW E ad u w) H locs → lv_has ls 5 [(0, .ref (ad 8)), (2, .int x2), (3, .int x3)] → wM_reached_6 Q n x2 x3 u → mGo p l e s m args below meth c 2 43 E ad w0 w (uI Q) H locs (F0 m 6 ls []) := by
  intro n
  induction n with
  | zero =>
    intro x2 x3 u H locs ls hS hl hw
    exact hw.elim
  | succ n ih =>
    intro x2 x3 u H locs ls hS hl hw
    unfold wM_reached_6 at hw
    refine lv_iload_n C.x C.b dX5_reached_6 rfl (lv_at hl 2 rfl) ?_
    refine lv_bipush (v := 8) C.x C.b dX5_reached_7 (by decide) ?_
    refine lv_icmp_ge (tgt := 94) C.x C.b dX5_reached_9 (by decide) (fun c2 => ?_) (fun c2 => ?_)
    · have hw := hw.1 c2
      refine lv_iload_n C.x C.b dX5_reached_94 rfl (lv_at hl 1 rfl) ?_
      exact gm_iret C hS hw dX5_reached_95
    · have hw := hw.2 c2
      refine lv_iconst (v := 0) C.x C.b dX5_reached_12 (by decide) ?_
      refine lv_istore (lv' := [(4, .int 0), (0, .ref (ad 8)), (2, .int x2), (3, .int x3)]) C.x C.b dX5_reached_13 hl (by decide) rfl (fun ls hl => ?_)
      obtain ⟨k3, hw⟩ := hw
      exact kM_reached_15 C hI ih k3 _ _ _ _ _ _ _ hS (lv_sub hl [1, 2, 3, 0] rfl) hw
def wM_reached (a1 : Int32) (Q : Int32 → gM → Prop) (u : gM) : Prop :=
  ∃ k1 : Nat, wM_reached_6 Q k1 (1 <<< (a1 &&& 31)) 0 u
theorem kM_reached_r (C : gC p l s m args meth c cX5_reached 5 (some .int) RX5 E [] "reached") (hI : mI ad) (a1 : Int32) {Q : Int32 → gM → Prop} (u : gM) (H : Heap) (locs : List Loc) (ls : Array Slot) (hS : gS E w0 (gmW E ad u w) H locs) (hl : lv_has ls 5 [(0, .ref (ad 8)), (1, .int a1)]) (hw : wM_reached a1 Q u) : mGo p l e s m args below meth c 2 43 E ad w0 w (uI Q) H locs (F0 m 0 ls []) := by
  unfold wM_reached at hw
  refine lv_iconst (v := 1) C.x C.b dX5_reached_0 (by decide) ?_
  refine lv_iload_n C.x C.b dX5_reached_1 rfl (lv_at hl 1 rfl) ?_
  refine lv_ishl C.x C.b dX5_reached_2 ?_
  refine lv_istore_n (lv' := [(2, .int (1 <<< (a1 &&& 31))), (0, .ref (ad 8)), (1, .int a1)]) C.x C.b dX5_reached_3 rfl hl (by decide) rfl (fun ls hl => ?_)
  refine lv_iconst (v := 0) C.x C.b dX5_reached_4 (by decide) ?_
  refine lv_istore_n (lv' := [(3, .int 0), (2, .int (1 <<< (a1 &&& 31))), (0, .ref (ad 8)), (1, .int a1)]) C.x C.b dX5_reached_5 rfl hl (by decide) rfl (fun ls hl => ?_)
  obtain ⟨k1, hw⟩ := hw
  exact kM_reached_6 C hI k1 _ _ _ _ _ _ hS (lv_sub hl [2, 1, 0] rfl) hw
theorem kM_reached {l : Launch} (ht : l.stackTraces = false) (hI : mI ad) {w : gW} {u : gM} {a1 : Int32} {Q : Int32 → gM → Prop} (hw : wM_reached a1 Q u) : gMet l yX5_reached (ws_ yX5_reached cX5_reached 5 (some .int)) E (gmW E ad u w) [.ref (ad 8), .int a1] 2 43 (mQ E ad w (uI Q)) gNoX :=
  g_ofW ht (by decide) (Nat.le_of_ble_eq_true rfl) (fun p e s m below meth c ls H C hl hS => kM_reached_r C hI _ _ _ _ _ hS hl hw)
def wM_ports_128 (K104 : Int32 → Int32 → gM → Prop) (Q : gM → Prop) (x2 : Int32) (x3 : Int32) (u : gM) : Prop :=
  K104 x2 (x3 + 1) u
theorem kM_ports_128 (C : gC p l s m args meth c cX5_ports 4 none RX5 E [] "ports") (hI : mI ad) {Q : gM → Prop} {K104 : Int32 → Int32 → gM → Prop} (hK104 : ∀ (x2 : Int32) (x3 : Int32) (u : gM) (H : Heap) (locs : List Loc) (ls : Array Slot), gS E w0 (gmW E ad u w) H locs → lv_has ls 4 [(0, .ref (ad 8)), (2, .int x2), (3, .int x3)] → K104 x2 x3 u → mGo p l e s m args below meth c 4 91 E ad w0 w (uV Q) H locs (F0 m 104 ls [])) (x2 : Int32) (x3 : Int32) (u : gM) (H : Heap) (locs : List Loc) (ls : Array Slot) (hS : gS E w0 (gmW E ad u w) H locs) (hl : lv_has ls 4 [(0, .ref (ad 8)), (2, .int x2), (3, .int x3)]) (hw : wM_ports_128 K104 Q x2 x3 u) : mGo p l e s m args below meth c 4 91 E ad w0 w (uV Q) H locs (F0 m 128 ls []) := by
  unfold wM_ports_128 at hw
  refine lv_iinc (v := (x3 + 1)) (lv' := [(3, .int (x3 + 1)), (0, .ref (ad 8)), (2, .int x2)]) C.x C.b dX5_ports_128 hl (k := 2) rfl rfl (by decide) rfl (fun ls hl => ?_)
  refine lv_goto (tgt := 104) C.x C.b dX5_ports_131 (by decide) ?_
  exact hK104 _ _ _ _ _ _ hS (lv_sub hl [1, 2, 0] rfl) hw
def wM_ports_104 (Q : gM → Prop) : Nat → Int32 → Int32 → gM → Prop
  | 0, _, _, _ => False
  | n + 1, x2, x3, u => uLd 0 487 0 (fun v19 => (v19 ≤ x3 → (Q u)) ∧ (¬ v19 ≤ x3 → ((((x2 >>> (x3 &&& 31)) &&& 1) = 1 → (wM_flushes x3 (fun u22 => wM_ports_128 (fun x2 x3 u => wM_ports_104 Q n x2 x3 u) Q x2 x3 u22) u)) ∧ (¬ ((x2 >>> (x3 &&& 31)) &&& 1) = 1 → (wM_ports_128 (fun x2 x3 u => wM_ports_104 Q n x2 x3 u) Q x2 x3 u))))) u
theorem kM_ports_104 (C : gC p l s m args meth c cX5_ports 4 none RX5 E [] "ports") (hI : mI ad) {Q : gM → Prop} : ∀ (n : Nat) (x2 : Int32) (x3 : Int32) (u : gM) (H : Heap) (locs : List Loc) (ls : Array Slot), gS E w0 (gmW E ad u w) H locs → lv_has ls 4 [(0, .ref (ad 8)), (2, .int x2), (3, .int x3)] → wM_ports_104 Q n x2 x3 u → mGo p l e s m args below meth c 4 91 E ad w0 w (uV Q) H locs (F0 m 104 ls []) := by
  intro n
  induction n with
  | zero =>
    intro x2 x3 u H locs ls hS hl hw
    exact hw.elim
  | succ n ih =>
    intro x2 x3 u H locs ls hS hl hw
    unfold wM_ports_104 at hw
    refine lv_iload_n C.x C.b dX5_ports_104 rfl (lv_at hl 2 rfl) ?_
    refine lv_aload_n C.x C.b dX5_ports_105 rfl (lv_at hl 0 rfl) ?_
    refine gm_getA C hI hS 0 (by decide) (a := ad 0) rfl q1481 (fun _ h9 => h9) dX5_ports_106 ?_
    refine lv_iconst (v := 0) C.x C.b dX5_ports_109 (by decide) ?_
    refine gm_ld C hI hS 0 487 (by decide) rfl dX5_ports_110 hw (fun v19 hw => ?_)
    refine lv_icmp_ge (tgt := 134) C.x C.b dX5_ports_111 (by decide) (fun c20 => ?_) (fun c20 => ?_)
    · have hw := hw.1 c20
      exact gm_vret C hS hw dX5_ports_134
    · have hw := hw.2 c20
      refine lv_iload_n C.x C.b dX5_ports_114 rfl (lv_at hl 1 rfl) ?_
      refine lv_iload_n C.x C.b dX5_ports_115 rfl (lv_at hl 2 rfl) ?_
      refine lv_ishr C.x C.b dX5_ports_116 ?_
      refine lv_iconst (v := 1) C.x C.b dX5_ports_117 (by decide) ?_
      refine lv_iand C.x C.b dX5_ports_118 ?_
      refine lv_iconst (v := 1) C.x C.b dX5_ports_119 (by decide) ?_
      refine lv_icmp_ne (tgt := 128) C.x C.b dX5_ports_120 (by decide) (fun c21 => ?_) (fun c21 => ?_)
      · have hw := hw.2 c21
        exact kM_ports_128 C hI ih _ _ _ _ _ _ hS (lv_sub hl [0, 1, 2] rfl) hw
      · have hw := hw.1 c21
        refine lv_aload_n C.x C.b dX5_ports_123 rfl (lv_at hl 0 rfl) ?_
        refine lv_iload_n C.x C.b dX5_ports_124 rfl (lv_at hl 2 rfl) ?_
        refine gm_callV (rest := []) C hI hS hl (kM_flushes C.tr hI hw) q1477 q1479 qs25 q88 q1480 ny_flushes rfl (Nat.le_of_ble_eq_true rfl) (Nat.le_of_ble_eq_true rfl) rfl (Nat.le_of_ble_eq_true rfl) dX5_ports_125 (gm_kv (fun u22 H locs hw hS => ?_))
        exact kM_ports_128 C hI ih _ _ _ _ _ _ hS (lv_sub hl [0, 1, 2] rfl) hw
def wM_ports_94 (K65 : Int32 → Int32 → Int32 → gM → Prop) (Q : gM → Prop) (x1 : Int32) (x3 : Int32) (y0 : Int32) (y1 : Int32) (u : gM) : Prop :=
  K65 x1 (y1 ||| y0) (x3 + 1) u
theorem kM_ports_94 (C : gC p l s m args meth c cX5_ports 4 none RX5 E [] "ports") (hI : mI ad) {Q : gM → Prop} {K65 : Int32 → Int32 → Int32 → gM → Prop} (hK65 : ∀ (x1 : Int32) (x2 : Int32) (x3 : Int32) (u : gM) (H : Heap) (locs : List Loc) (ls : Array Slot), gS E w0 (gmW E ad u w) H locs → lv_has ls 4 [(0, .ref (ad 8)), (1, .int x1), (2, .int x2), (3, .int x3)] → K65 x1 x2 x3 u → mGo p l e s m args below meth c 4 91 E ad w0 w (uV Q) H locs (F0 m 65 ls [])) (x1 : Int32) (x3 : Int32) (y0 : Int32) (y1 : Int32) (u : gM) (H : Heap) (locs : List Loc) (ls : Array Slot) (hS : gS E w0 (gmW E ad u w) H locs) (hl : lv_has ls 4 [(0, .ref (ad 8)), (1, .int x1), (3, .int x3)]) (hw : wM_ports_94 K65 Q x1 x3 y0 y1 u) : mGo p l e s m args below meth c 4 91 E ad w0 w (uV Q) H locs (F0 m 94 ls [.int y0, .int y1]) := by
  unfold wM_ports_94 at hw
  refine lv_ior C.x C.b dX5_ports_94 ?_
  refine lv_istore_n (lv' := [(2, .int (y1 ||| y0)), (0, .ref (ad 8)), (1, .int x1), (3, .int x3)]) C.x C.b dX5_ports_95 rfl hl (by decide) rfl (fun ls hl => ?_)
  refine lv_iinc (v := (x3 + 1)) (lv' := [(3, .int (x3 + 1)), (2, .int (y1 ||| y0)), (0, .ref (ad 8)), (1, .int x1)]) C.x C.b dX5_ports_96 hl (k := 3) rfl rfl (by decide) rfl (fun ls hl => ?_)
  refine lv_goto (tgt := 65) C.x C.b dX5_ports_99 (by decide) ?_
  exact hK65 _ _ _ _ _ _ _ hS (lv_sub hl [2, 3, 1, 0] rfl) hw
def wM_ports_65 (Q : gM → Prop) : Nat → Int32 → Int32 → Int32 → gM → Prop
  | 0, _, _, _, _ => False
  | n + 1, x1, x2, x3, u => uLd 0 487 0 (fun v13 => (v13 ≤ x3 → (∃ k15 : Nat, wM_ports_104 Q k15 x2 0 u)) ∧ (¬ v13 ≤ x3 → ((((x1 >>> (x3 &&& 31)) &&& 1) = 1 → (wM_reached x3 (fun r18 u17 => wM_ports_94 (fun x1 x2 x3 u => wM_ports_65 Q n x1 x2 x3 u) Q x1 x3 r18 x2 u17) u)) ∧ (¬ ((x1 >>> (x3 &&& 31)) &&& 1) = 1 → (wM_ports_94 (fun x1 x2 x3 u => wM_ports_65 Q n x1 x2 x3 u) Q x1 x3 0 x2 u))))) u
theorem kM_ports_65 (C : gC p l s m args meth c cX5_ports 4 none RX5 E [] "ports") (hI : mI ad) {Q : gM → Prop} : ∀ (n : Nat) (x1 : Int32) (x2 : Int32) (x3 : Int32) (u : gM) (H : Heap) (locs : List Loc) (ls : Array Slot), gS E w0 (gmW E ad u w) H locs → lv_has ls 4 [(0, .ref (ad 8)), (1, .int x1), (2, .int x2), (3, .int x3)] → wM_ports_65 Q n x1 x2 x3 u → mGo p l e s m args below meth c 4 91 E ad w0 w (uV Q) H locs (F0 m 65 ls []) := by
  intro n
  induction n with
  | zero =>
    intro x1 x2 x3 u H locs ls hS hl hw
    exact hw.elim
  | succ n ih =>
    intro x1 x2 x3 u H locs ls hS hl hw
    unfold wM_ports_65 at hw
    refine lv_iload_n C.x C.b dX5_ports_65 rfl (lv_at hl 3 rfl) ?_
    refine lv_aload_n C.x C.b dX5_ports_66 rfl (lv_at hl 0 rfl) ?_
    refine gm_getA C hI hS 0 (by decide) (a := ad 0) rfl q1481 (fun _ h9 => h9) dX5_ports_67 ?_
    refine lv_iconst (v := 0) C.x C.b dX5_ports_70 (by decide) ?_
    refine gm_ld C hI hS 0 487 (by decide) rfl dX5_ports_71 hw (fun v13 hw => ?_)
    refine lv_icmp_ge (tgt := 102) C.x C.b dX5_ports_72 (by decide) (fun c14 => ?_) (fun c14 => ?_)
    · have hw := hw.1 c14
      refine lv_iconst (v := 0) C.x C.b dX5_ports_102 (by decide) ?_
      refine lv_istore_n (lv' := [(3, .int 0), (0, .ref (ad 8)), (1, .int x1), (2, .int x2)]) C.x C.b dX5_ports_103 rfl hl (by decide) rfl (fun ls hl => ?_)
      obtain ⟨k15, hw⟩ := hw
      exact kM_ports_104 C hI k15 _ _ _ _ _ _ hS (lv_sub hl [1, 3, 0] rfl) hw
    · have hw := hw.2 c14
      refine lv_iload_n C.x C.b dX5_ports_75 rfl (lv_at hl 2 rfl) ?_
      refine lv_iload_n C.x C.b dX5_ports_76 rfl (lv_at hl 1 rfl) ?_
      refine lv_iload_n C.x C.b dX5_ports_77 rfl (lv_at hl 3 rfl) ?_
      refine lv_ishr C.x C.b dX5_ports_78 ?_
      refine lv_iconst (v := 1) C.x C.b dX5_ports_79 (by decide) ?_
      refine lv_iand C.x C.b dX5_ports_80 ?_
      refine lv_iconst (v := 1) C.x C.b dX5_ports_81 (by decide) ?_
      refine lv_icmp_ne (tgt := 93) C.x C.b dX5_ports_82 (by decide) (fun c16 => ?_) (fun c16 => ?_)
      · have hw := hw.2 c16
        refine lv_iconst (v := 0) C.x C.b dX5_ports_93 (by decide) ?_
        exact kM_ports_94 C hI ih _ _ _ _ _ _ _ _ hS (lv_sub hl [0, 1, 3] rfl) hw
      · have hw := hw.1 c16
        refine lv_aload_n C.x C.b dX5_ports_85 rfl (lv_at hl 0 rfl) ?_
        refine lv_iload_n C.x C.b dX5_ports_86 rfl (lv_at hl 3 rfl) ?_
        refine gm_callV (rest := [.int x2]) C hI hS hl (kM_reached C.tr hI hw) q1694 q1696 qs55 q88 q1697 ny_reached rfl (Nat.le_of_ble_eq_true rfl) (Nat.le_of_ble_eq_true rfl) rfl (Nat.le_of_ble_eq_true rfl) dX5_ports_87 (gm_ki (fun r18 u17 H locs hw hS => ?_))
        refine lv_goto (tgt := 94) C.x C.b dX5_ports_90 (by decide) ?_
        exact kM_ports_94 C hI ih _ _ _ _ _ _ _ _ hS (lv_sub hl [0, 1, 3] rfl) hw
def wM_ports_55 (K4 : Int32 → Int32 → gM → Prop) (Q : gM → Prop) (x1 : Int32) (x2 : Int32) (u : gM) : Prop :=
  K4 x1 (x2 + 1) u
theorem kM_ports_55 (C : gC p l s m args meth c cX5_ports 4 none RX5 E [] "ports") (hI : mI ad) {Q : gM → Prop} {K4 : Int32 → Int32 → gM → Prop} (hK4 : ∀ (x1 : Int32) (x2 : Int32) (u : gM) (H : Heap) (locs : List Loc) (ls : Array Slot), gS E w0 (gmW E ad u w) H locs → lv_has ls 4 [(0, .ref (ad 8)), (1, .int x1), (2, .int x2)] → K4 x1 x2 u → mGo p l e s m args below meth c 4 91 E ad w0 w (uV Q) H locs (F0 m 4 ls [])) (x1 : Int32) (x2 : Int32) (u : gM) (H : Heap) (locs : List Loc) (ls : Array Slot) (hS : gS E w0 (gmW E ad u w) H locs) (hl : lv_has ls 4 [(0, .ref (ad 8)), (1, .int x1), (2, .int x2)]) (hw : wM_ports_55 K4 Q x1 x2 u) : mGo p l e s m args below meth c 4 91 E ad w0 w (uV Q) H locs (F0 m 55 ls []) := by
  unfold wM_ports_55 at hw
  refine lv_iinc (v := (x2 + 1)) (lv' := [(2, .int (x2 + 1)), (0, .ref (ad 8)), (1, .int x1)]) C.x C.b dX5_ports_55 hl (k := 2) rfl rfl (by decide) rfl (fun ls hl => ?_)
  refine lv_goto (tgt := 4) C.x C.b dX5_ports_58 (by decide) ?_
  exact hK4 _ _ _ _ _ _ hS (lv_sub hl [1, 2, 0] rfl) hw
def wM_ports_4 (Q : gM → Prop) : Nat → Int32 → Int32 → gM → Prop
  | 0, _, _, _ => False
  | n + 1, x1, x2, u => uLd 0 487 5 (fun v2 => ((2 * v2) ≤ x2 → (∃ k4 : Nat, wM_ports_65 Q k4 x1 0 0 u)) ∧ (¬ (2 * v2) ≤ x2 → (wM_goesOn (x2 / 2) (x2 - x2 / 2 * 2) (fun r6 u5 => (r6 = 0 → (wM_ports_55 (fun x1 x2 u => wM_ports_4 Q n x1 x2 u) Q x1 x2 u5)) ∧ (¬ r6 = 0 → (uLd 0 487 7 (fun v8 => uSt 0 487 7 (v8 + 1) (fun u9 => wM_of (x2 / 2) (x2 - x2 / 2 * 2) (fun r11 u10 => ∀ z12 : Int32, z12 = (x1 ||| (1 <<< (r11 &&& 31))) → wM_ports_55 (fun x1 x2 u => wM_ports_4 Q n x1 x2 u) Q z12 x2 u10) u9) u5) u5))) u))) u
theorem kM_ports_4 (C : gC p l s m args meth c cX5_ports 4 none RX5 E [] "ports") (hI : mI ad) {Q : gM → Prop} : ∀ (n : Nat) (x1 : Int32) (x2 : Int32) (u : gM) (H : Heap) (locs : List Loc) (ls : Array Slot), gS E w0 (gmW E ad u w) H locs → lv_has ls 4 [(0, .ref (ad 8)), (1, .int x1), (2, .int x2)] → wM_ports_4 Q n x1 x2 u → mGo p l e s m args below meth c 4 91 E ad w0 w (uV Q) H locs (F0 m 4 ls []) := by
  intro n
  induction n with
  | zero =>
    intro x1 x2 u H locs ls hS hl hw
    exact hw.elim
  | succ n ih =>
    intro x1 x2 u H locs ls hS hl hw
    unfold wM_ports_4 at hw
    refine lv_iload_n C.x C.b dX5_ports_4 rfl (lv_at hl 2 rfl) ?_
    refine lv_iconst (v := 2) C.x C.b dX5_ports_5 (by decide) ?_
    refine lv_aload_n C.x C.b dX5_ports_6 rfl (lv_at hl 0 rfl) ?_
    refine gm_getA C hI hS 0 (by decide) (a := ad 0) rfl q1481 (fun _ h9 => h9) dX5_ports_7 ?_
    refine lv_iconst (v := 5) C.x C.b dX5_ports_10 (by decide) ?_
    refine gm_ld C hI hS 0 487 (by decide) rfl dX5_ports_11 hw (fun v2 hw => ?_)
    refine lv_imul C.x C.b dX5_ports_12 ?_
    refine lv_icmp_ge (tgt := 61) C.x C.b dX5_ports_13 (by decide) (fun c3 => ?_) (fun c3 => ?_)
    · have hw := hw.1 c3
      refine lv_iconst (v := 0) C.x C.b dX5_ports_61 (by decide) ?_
      refine lv_istore_n (lv' := [(2, .int 0), (0, .ref (ad 8)), (1, .int x1)]) C.x C.b dX5_ports_62 rfl hl (by decide) rfl (fun ls hl => ?_)
      refine lv_iconst (v := 0) C.x C.b dX5_ports_63 (by decide) ?_
      refine lv_istore_n (lv' := [(3, .int 0), (2, .int 0), (0, .ref (ad 8)), (1, .int x1)]) C.x C.b dX5_ports_64 rfl hl (by decide) rfl (fun ls hl => ?_)
      obtain ⟨k4, hw⟩ := hw
      exact kM_ports_65 C hI k4 _ _ _ _ _ _ _ hS (lv_sub hl [2, 3, 1, 0] rfl) hw
    · have hw := hw.2 c3
      refine lv_aload_n C.x C.b dX5_ports_16 rfl (lv_at hl 0 rfl) ?_
      refine lv_iload_n C.x C.b dX5_ports_17 rfl (lv_at hl 2 rfl) ?_
      refine lv_iconst (v := 2) C.x C.b dX5_ports_18 (by decide) ?_
      refine lv_idiv C.x C.b dX5_ports_19 (by decide) ?_
      refine lv_iload_n C.x C.b dX5_ports_20 rfl (lv_at hl 2 rfl) ?_
      refine lv_iconst (v := 2) C.x C.b dX5_ports_21 (by decide) ?_
      refine lv_irem C.x C.b dX5_ports_22 (by decide) ?_
      refine gm_callV (rest := []) C hI hS hl (kM_goesOn C.tr hI hw) q1682 q1684 qs52 q88 q1685 ny_goesOn rfl (Nat.le_of_ble_eq_true rfl) (Nat.le_of_ble_eq_true rfl) rfl (Nat.le_of_ble_eq_true rfl) dX5_ports_23 (gm_ki (fun r6 u5 H locs hw hS => ?_))
      refine lv_if_eq (tgt := 55) C.x C.b dX5_ports_26 (by decide) (fun c7 => ?_) (fun c7 => ?_)
      · have hw := hw.1 c7
        exact kM_ports_55 C hI ih _ _ _ _ _ _ hS (lv_sub hl [0, 1, 2] rfl) hw
      · have hw := hw.2 c7
        refine lv_aload_n C.x C.b dX5_ports_29 rfl (lv_at hl 0 rfl) ?_
        refine gm_getA C hI hS 0 (by decide) (a := ad 0) rfl q1481 (fun _ h9 => h9) dX5_ports_30 ?_
        refine lv_bipush (v := 7) C.x C.b dX5_ports_33 (by decide) ?_
        refine lv_dup2_11 C.x C.b dX5_ports_35 rfl rfl ?_
        refine gm_ld C hI hS 0 487 (by decide) rfl dX5_ports_36 hw (fun v8 hw => ?_)
        refine lv_iconst (v := 1) C.x C.b dX5_ports_37 (by decide) ?_
        refine lv_iadd C.x C.b dX5_ports_38 ?_
        refine gm_st C hI hS 0 487 (by decide) rfl dX5_ports_39 hw (fun u9 H locs hw hS => ?_)
        refine lv_iload_n C.x C.b dX5_ports_40 rfl (lv_at hl 1 rfl) ?_
        refine lv_iconst (v := 1) C.x C.b dX5_ports_41 (by decide) ?_
        refine lv_aload_n C.x C.b dX5_ports_42 rfl (lv_at hl 0 rfl) ?_
        refine lv_iload_n C.x C.b dX5_ports_43 rfl (lv_at hl 2 rfl) ?_
        refine lv_iconst (v := 2) C.x C.b dX5_ports_44 (by decide) ?_
        refine lv_idiv C.x C.b dX5_ports_45 (by decide) ?_
        refine lv_iload_n C.x C.b dX5_ports_46 rfl (lv_at hl 2 rfl) ?_
        refine lv_iconst (v := 2) C.x C.b dX5_ports_47 (by decide) ?_
        refine lv_irem C.x C.b dX5_ports_48 (by decide) ?_
        refine gm_callV (rest := [.int 1, .int x1]) C hI hS hl (kM_of C.tr hI hw) q1595 q1597 qs37 q88 q1598 ny_of rfl (Nat.le_of_ble_eq_true rfl) (Nat.le_of_ble_eq_true rfl) rfl (Nat.le_of_ble_eq_true rfl) dX5_ports_49 (gm_ki (fun r11 u10 H locs hw hS => ?_))
        refine lv_ishl C.x C.b dX5_ports_52 ?_
        refine lv_ior C.x C.b dX5_ports_53 ?_
        refine lv_topi (fun z12 ez12 => ?_)
        have hw := hw z12 ez12
        refine lv_istore_n (lv' := [(1, .int z12), (0, .ref (ad 8)), (2, .int x2)]) C.x C.b dX5_ports_54 rfl hl (by decide) rfl (fun ls hl => ?_)
        exact kM_ports_55 C hI ih _ _ _ _ _ _ hS (lv_sub hl [1, 0, 2] rfl) hw
def wM_ports (Q : gM → Prop) (u : gM) : Prop :=
  ∃ k1 : Nat, wM_ports_4 Q k1 0 0 u
theorem kM_ports_r (C : gC p l s m args meth c cX5_ports 4 none RX5 E [] "ports") (hI : mI ad) {Q : gM → Prop} (u : gM) (H : Heap) (locs : List Loc) (ls : Array Slot) (hS : gS E w0 (gmW E ad u w) H locs) (hl : lv_has ls 4 [(0, .ref (ad 8))]) (hw : wM_ports Q u) : mGo p l e s m args below meth c 4 91 E ad w0 w (uV Q) H locs (F0 m 0 ls []) := by
  unfold wM_ports at hw
  refine lv_iconst (v := 0) C.x C.b dX5_ports_0 (by decide) ?_
  refine lv_istore_n (lv' := [(1, .int 0), (0, .ref (ad 8))]) C.x C.b dX5_ports_1 rfl hl (by decide) rfl (fun ls hl => ?_)
  refine lv_iconst (v := 0) C.x C.b dX5_ports_2 (by decide) ?_
  refine lv_istore_n (lv' := [(2, .int 0), (1, .int 0), (0, .ref (ad 8))]) C.x C.b dX5_ports_3 rfl hl (by decide) rfl (fun ls hl => ?_)
  obtain ⟨k1, hw⟩ := hw
  exact kM_ports_4 C hI k1 _ _ _ _ _ _ hS (lv_sub hl [2, 1, 0] rfl) hw
theorem kM_ports {l : Launch} (ht : l.stackTraces = false) (hI : mI ad) {w : gW} {u : gM} {Q : gM → Prop} (hw : wM_ports Q u) : gMet l yX5_ports (ws_ yX5_ports cX5_ports 4 none) E (gmW E ad u w) [.ref (ad 8)] 4 91 (mQ E ad w (uV Q)) gNoX :=
  g_ofW ht (by decide) (Nat.le_of_ble_eq_true rfl) (fun p e s m below meth c ls H C hl hS => kM_ports_r C hI _ _ _ _ hS hl hw)
def wM_ticksOnce_30 (Q : gM → Prop) (u : gM) : Prop :=
  wM_vectors (fun u7 => wM_ports (fun u8 => Q u8) u7) u
theorem kM_ticksOnce_30 (C : gC p l s m args meth c cX5_ticksOnce 1 none RX5 E [] "ticksOnce") (hI : mI ad) {Q : gM → Prop} (u : gM) (H : Heap) (locs : List Loc) (ls : Array Slot) (hS : gS E w0 (gmW E ad u w) H locs) (hl : lv_has ls 1 [(0, .ref (ad 8))]) (hw : wM_ticksOnce_30 Q u) : mGo p l e s m args below meth c 5 117 E ad w0 w (uV Q) H locs (F0 m 30 ls []) := by
  unfold wM_ticksOnce_30 at hw
  refine lv_aload_n C.x C.b dX5_ticksOnce_30 rfl (lv_at hl 0 rfl) ?_
  refine gm_callV (rest := []) C hI hS hl (kM_vectors C.tr hI hw) q1662 q1664 qs47 q88 q1665 ny_vectors rfl (Nat.le_of_ble_eq_true rfl) (Nat.le_of_ble_eq_true rfl) rfl (Nat.le_of_ble_eq_true rfl) dX5_ticksOnce_31 (gm_kv (fun u7 H locs hw hS => ?_))
  refine lv_aload_n C.x C.b dX5_ticksOnce_34 rfl (lv_at hl 0 rfl) ?_
  refine gm_callV (rest := []) C hI hS hl (kM_ports C.tr hI hw) q1678 q1680 qs51 q88 q1681 ny_ports rfl (Nat.le_of_ble_eq_true rfl) (Nat.le_of_ble_eq_true rfl) rfl (Nat.le_of_ble_eq_true rfl) dX5_ticksOnce_35 (gm_kv (fun u8 H locs hw hS => ?_))
  exact gm_vret C hS hw dX5_ticksOnce_38
def wM_ticksOnce (Q : gM → Prop) (u : gM) : Prop :=
  uLd 0 487 1 (fun v1 => uSt 0 487 1 (v1 + 1) (fun u2 => uLd 0 487 1 (fun v3 => uLd 0 487 3 (fun v4 => ¬ v4 = 0 ∧ (((v3 - v3 / v4 * v4) = 0 → (wM_auctions (fun u6 => wM_ticksOnce_30 Q u6) u2)) ∧ (¬ (v3 - v3 / v4 * v4) = 0 → (wM_ticksOnce_30 Q u2)))) u2) u2) u) u
theorem kM_ticksOnce_r (C : gC p l s m args meth c cX5_ticksOnce 1 none RX5 E [] "ticksOnce") (hI : mI ad) {Q : gM → Prop} (u : gM) (H : Heap) (locs : List Loc) (ls : Array Slot) (hS : gS E w0 (gmW E ad u w) H locs) (hl : lv_has ls 1 [(0, .ref (ad 8))]) (hw : wM_ticksOnce Q u) : mGo p l e s m args below meth c 5 117 E ad w0 w (uV Q) H locs (F0 m 0 ls []) := by
  unfold wM_ticksOnce at hw
  refine lv_aload_n C.x C.b dX5_ticksOnce_0 rfl (lv_at hl 0 rfl) ?_
  refine gm_getA C hI hS 0 (by decide) (a := ad 0) rfl q1481 (fun _ h9 => h9) dX5_ticksOnce_1 ?_
  refine lv_iconst (v := 1) C.x C.b dX5_ticksOnce_4 (by decide) ?_
  refine lv_dup2_11 C.x C.b dX5_ticksOnce_5 rfl rfl ?_
  refine gm_ld C hI hS 0 487 (by decide) rfl dX5_ticksOnce_6 hw (fun v1 hw => ?_)
  refine lv_iconst (v := 1) C.x C.b dX5_ticksOnce_7 (by decide) ?_
  refine lv_iadd C.x C.b dX5_ticksOnce_8 ?_
  refine gm_st C hI hS 0 487 (by decide) rfl dX5_ticksOnce_9 hw (fun u2 H locs hw hS => ?_)
  refine lv_aload_n C.x C.b dX5_ticksOnce_10 rfl (lv_at hl 0 rfl) ?_
  refine gm_getA C hI hS 0 (by decide) (a := ad 0) rfl q1481 (fun _ h9 => h9) dX5_ticksOnce_11 ?_
  refine lv_iconst (v := 1) C.x C.b dX5_ticksOnce_14 (by decide) ?_
  refine gm_ld C hI hS 0 487 (by decide) rfl dX5_ticksOnce_15 hw (fun v3 hw => ?_)
  refine lv_aload_n C.x C.b dX5_ticksOnce_16 rfl (lv_at hl 0 rfl) ?_
  refine gm_getA C hI hS 0 (by decide) (a := ad 0) rfl q1481 (fun _ h9 => h9) dX5_ticksOnce_17 ?_
  refine lv_iconst (v := 3) C.x C.b dX5_ticksOnce_20 (by decide) ?_
  refine gm_ld C hI hS 0 487 (by decide) rfl dX5_ticksOnce_21 hw (fun v4 hw => ?_)
  obtain ⟨hne, hw⟩ := hw
  refine lv_irem C.x C.b dX5_ticksOnce_22 hne ?_
  refine lv_if_ne (tgt := 30) C.x C.b dX5_ticksOnce_23 (by decide) (fun c5 => ?_) (fun c5 => ?_)
  · have hw := hw.2 c5
    exact kM_ticksOnce_30 C hI _ _ _ _ hS (lv_sub hl [0] rfl) hw
  · have hw := hw.1 c5
    refine lv_aload_n C.x C.b dX5_ticksOnce_26 rfl (lv_at hl 0 rfl) ?_
    refine gm_callV (rest := []) C hI hS hl (kM_auctions C.tr hI hw) q1646 q1648 qs43 q88 q1649 ny_auctions rfl (Nat.le_of_ble_eq_true rfl) (Nat.le_of_ble_eq_true rfl) rfl (Nat.le_of_ble_eq_true rfl) dX5_ticksOnce_27 (gm_kv (fun u6 H locs hw hS => ?_))
    exact kM_ticksOnce_30 C hI _ _ _ _ hS (lv_sub hl [0] rfl) hw
theorem kM_ticksOnce {l : Launch} (ht : l.stackTraces = false) (hI : mI ad) {w : gW} {u : gM} {Q : gM → Prop} (hw : wM_ticksOnce Q u) : gMet l yX5_ticksOnce (ws_ yX5_ticksOnce cX5_ticksOnce 1 none) E (gmW E ad u w) [.ref (ad 8)] 5 117 (mQ E ad w (uV Q)) gNoX :=
  g_ofW ht (by decide) (Nat.le_of_ble_eq_true rfl) (fun p e s m below meth c ls H C hl hS => kM_ticksOnce_r C hI _ _ _ _ hS hl hw)
def wM_ticks_15 (Q : Int32 → gM → Prop) : Nat → Int32 → Int32 → gM → Prop
  | 0, _, _, _ => False
  | n + 1, x1, x2, u => (x1 ≤ x2 → (uLd 0 487 1 (fun v6 => uPt 3 v6 (fun u7 => Q 0 u7) u) u)) ∧ (¬ x1 ≤ x2 → (wM_ticksOnce (fun u8 => wM_ticks_15 Q n x1 (x2 + 1) u8) u))
theorem kM_ticks_15 (C : gC p l s m args meth c cX5_ticks 3 (some .int) RX5 E [] "ticks") (hI : mI ad) {Q : Int32 → gM → Prop} : ∀ (n : Nat) (x1 : Int32) (x2 : Int32) (u : gM) (H : Heap) (locs : List Loc) (ls : Array Slot), gS E w0 (gmW E ad u w) H locs → lv_has ls 3 [(0, .ref (ad 8)), (1, .int x1), (2, .int x2)] → wM_ticks_15 Q n x1 x2 u → mGo p l e s m args below meth c 6 137 E ad w0 w (uI Q) H locs (F0 m 15 ls []) := by
  intro n
  induction n with
  | zero =>
    intro x1 x2 u H locs ls hS hl hw
    exact hw.elim
  | succ n ih =>
    intro x1 x2 u H locs ls hS hl hw
    unfold wM_ticks_15 at hw
    refine lv_iload_n C.x C.b dX5_ticks_15 rfl (lv_at hl 2 rfl) ?_
    refine lv_iload_n C.x C.b dX5_ticks_16 rfl (lv_at hl 1 rfl) ?_
    refine lv_icmp_ge (tgt := 30) C.x C.b dX5_ticks_17 (by decide) (fun c5 => ?_) (fun c5 => ?_)
    · have hw := hw.1 c5
      refine lv_aload_n C.x C.b dX5_ticks_30 rfl (lv_at hl 0 rfl) ?_
      refine lv_aload_n C.x C.b dX5_ticks_31 rfl (lv_at hl 0 rfl) ?_
      refine gm_getA C hI hS 0 (by decide) (a := ad 0) rfl q1481 (fun _ h9 => h9) dX5_ticks_32 ?_
      refine lv_iconst (v := 1) C.x C.b dX5_ticks_35 (by decide) ?_
      refine gm_ld C hI hS 0 487 (by decide) rfl dX5_ticks_36 hw (fun v6 hw => ?_)
      refine gm_putI C hI hS 7 3 (by decide) rfl q1488 (fun _ h9 => h9) rfl rfl rfl dX5_ticks_37 hw (fun u7 H locs hw hS => ?_)
      refine lv_iconst (v := 0) C.x C.b dX5_ticks_40 (by decide) ?_
      exact gm_iret C hS hw dX5_ticks_41
    · have hw := hw.2 c5
      refine lv_aload_n C.x C.b dX5_ticks_20 rfl (lv_at hl 0 rfl) ?_
      refine gm_callV (rest := []) C hI hS hl (kM_ticksOnce C.tr hI hw) q1642 q1644 qs42 q88 q1645 ny_ticksOnce rfl (Nat.le_of_ble_eq_true rfl) (Nat.le_of_ble_eq_true rfl) rfl (Nat.le_of_ble_eq_true rfl) dX5_ticks_21 (gm_kv (fun u8 H locs hw hS => ?_))
      refine lv_iinc (v := (x2 + 1)) (lv' := [(2, .int (x2 + 1)), (0, .ref (ad 8)), (1, .int x1)]) C.x C.b dX5_ticks_24 hl (k := 2) rfl rfl (by decide) rfl (fun ls hl => ?_)
      refine lv_goto (tgt := 15) C.x C.b dX5_ticks_27 (by decide) ?_
      exact ih _ _ _ _ _ _ hS (lv_sub hl [1, 2, 0] rfl) hw
def wM_ticks (a1 : Int32) (Q : Int32 → gM → Prop) (u : gM) : Prop :=
  wM_in a1 1 200 (fun r2 u1 => (r2 = 0 → (Q 1 u1)) ∧ (¬ r2 = 0 → (∃ k4 : Nat, wM_ticks_15 Q k4 a1 0 u1))) u
theorem kM_ticks_r (C : gC p l s m args meth c cX5_ticks 3 (some .int) RX5 E [] "ticks") (hI : mI ad) (a1 : Int32) {Q : Int32 → gM → Prop} (u : gM) (H : Heap) (locs : List Loc) (ls : Array Slot) (hS : gS E w0 (gmW E ad u w) H locs) (hl : lv_has ls 3 [(0, .ref (ad 8)), (1, .int a1)]) (hw : wM_ticks a1 Q u) : mGo p l e s m args below meth c 6 137 E ad w0 w (uI Q) H locs (F0 m 0 ls []) := by
  unfold wM_ticks at hw
  refine lv_iload_n C.x C.b dX5_ticks_0 rfl (lv_at hl 1 rfl) ?_
  refine lv_iconst (v := 1) C.x C.b dX5_ticks_1 (by decide) ?_
  refine lv_sipush (v := 200) C.x C.b dX5_ticks_2 (by decide) ?_
  refine gm_callS (rest := []) C hS hl (kM_in C.tr hI hw) q1466 q1467 q88 q1468 ny_in rfl (Nat.le_of_ble_eq_true rfl) (Nat.le_of_ble_eq_true rfl) rfl (Nat.le_of_ble_eq_true rfl) dX5_ticks_5 (gm_ki (fun r2 u1 H locs hw hS => ?_))
  refine lv_if_ne (tgt := 13) C.x C.b dX5_ticks_8 (by decide) (fun c3 => ?_) (fun c3 => ?_)
  · have hw := hw.2 c3
    refine lv_iconst (v := 0) C.x C.b dX5_ticks_13 (by decide) ?_
    refine lv_istore_n (lv' := [(2, .int 0), (0, .ref (ad 8)), (1, .int a1)]) C.x C.b dX5_ticks_14 rfl hl (by decide) rfl (fun ls hl => ?_)
    obtain ⟨k4, hw⟩ := hw
    exact kM_ticks_15 C hI k4 _ _ _ _ _ _ hS (lv_sub hl [1, 2, 0] rfl) hw
  · have hw := hw.1 c3
    refine lv_iconst (v := 1) C.x C.b dX5_ticks_11 (by decide) ?_
    exact gm_iret C hS hw dX5_ticks_12
theorem kM_ticks {l : Launch} (ht : l.stackTraces = false) (hI : mI ad) {w : gW} {u : gM} {a1 : Int32} {Q : Int32 → gM → Prop} (hw : wM_ticks a1 Q u) : gMet l yX5_ticks (ws_ yX5_ticks cX5_ticks 3 (some .int)) E (gmW E ad u w) [.ref (ad 8), .int a1] 6 137 (mQ E ad w (uI Q)) gNoX :=
  g_ofW ht (by decide) (Nat.le_of_ble_eq_true rfl) (fun p e s m below meth c ls H C hl hS => kM_ticks_r C hI _ _ _ _ _ hS hl hw)
end GW1
