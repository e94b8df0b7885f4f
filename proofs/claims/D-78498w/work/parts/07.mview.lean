/-! MODEL: the cells of a BridgeAuctionModel as one value: rows 0..7 its arrays (s, past, aside, script, fresh, queue, cameBy, numbers), row 8 its ints (pasts, typed, thrown, answer, at, word), and the long h -/
/-- some cells of a world, by labels: their addresses, what lies there -/
noncomputable def gOv (P : Nat → Prop) (ad : Nat → Nat) (c : Nat → va_E) (w : gW) : gW :=
  (fun q => @dite _ (∃ k, P k ∧ ad k = q) (Classical.propDecidable _) (fun h => some (c (Classical.choose h))) (fun _ => w.1 q), w.2)
theorem gOv_at {P : Nat → Prop} {ad : Nat → Nat} {c : Nat → va_E} {w : gW} (hI : ∀ i j, P i → P j → ad i = ad j → i = j) {k : Nat} (hk : P k) : (gOv P ad c w).1 (ad k) = some (c k) := by
  have h : ∃ j, P j ∧ ad j = ad k := ⟨k, hk, rfl⟩
  show @dite _ (∃ j, P j ∧ ad j = ad k) (Classical.propDecidable _) (fun h => some (c (Classical.choose h))) (fun _ => w.1 (ad k)) = _
  rw [dif_pos h]
  have hs := Classical.choose_spec h
  rw [hI _ _ hs.1 hk hs.2]
theorem gOv_out {P : Nat → Prop} {ad : Nat → Nat} {c : Nat → va_E} {w : gW} {q : Nat} (h : ∀ k, P k → ad k ≠ q) : (gOv P ad c w).1 q = w.1 q := by
  have h2 : ¬ ∃ j, P j ∧ ad j = q := fun ⟨j, h1, h3⟩ => h j h1 h3
  show @dite _ (∃ j, P j ∧ ad j = q) (Classical.propDecidable _) (fun h => some (c (Classical.choose h))) (fun _ => w.1 q) = _
  rw [dif_neg h2]
theorem gOv_set {P : Nat → Prop} {ad : Nat → Nat} {c c2 : Nat → va_E} {w : gW} {e : va_E} (hI : ∀ i j, P i → P j → ad i = ad j → i = j) {k : Nat} (hk : P k) (h1 : c2 k = e) (h2 : ∀ j, P j → j ≠ k → c2 j = c j) : gSet (gOv P ad c w) (ad k) e = gOv P ad c2 w := by
  refine Prod.ext ?_ rfl
  funext q
  show va_up (gOv P ad c w).1 (ad k) (some e) q = (gOv P ad c2 w).1 q
  by_cases hq : ∃ j, P j ∧ ad j = q
  · obtain ⟨j, hj, rfl⟩ := hq
    rw [gOv_at hI hj]
    by_cases hjk : j = k
    · subst hjk
      simp [va_up, h1]
    · have hne : ad j ≠ ad k := fun h => hjk (hI _ _ hj hk h)
      simp only [va_up, if_neg hne]
      rw [gOv_at hI hj, h2 j hj hjk]
  · have ho : ∀ j, P j → ad j ≠ q := fun j h3 h4 => hq ⟨j, h3, h4⟩
    have hne : q ≠ ad k := fun h => ho k hk h.symm
    simp only [va_up, if_neg hne]
    rw [gOv_out ho, gOv_out ho]
abbrev gM : Type := (Nat → Nat → Int32) × Int64
def uA (u : gM) (k : Nat) (f : Nat → Int32) : gM := (fun a => if a = k then f else u.1 a, u.2)
def su (u : gM) (k i : Nat) (x : Int32) : gM := uA u k (upd (u.1 k) i x)
def uH (u : gM) (h : Int64) : gM := (u.1, h)
def uLd (k n : Nat) (i : Int32) (K : Int32 → Prop) (u : gM) : Prop := vp_in i n ∧ K (u.1 k i.toNatClampNeg)
def uSt (k n : Nat) (i x : Int32) (K : gM → Prop) (u : gM) : Prop := vp_in i n ∧ K (su u k i.toNatClampNeg x)
def uGt (j : Nat) (K : Int32 → Prop) (u : gM) : Prop := K (u.1 8 j)
def uPt (j : Nat) (x : Int32) (K : gM → Prop) (u : gM) : Prop := K (su u 8 j x)
def uGh (K : Int64 → Prop) (u : gM) : Prop := K u.2
def uPh (x : Int64) (K : gM → Prop) (u : gM) : Prop := K (uH u x)
def uI (Q : Int32 → gM → Prop) : Option Value → gM → Prop := fun v u => ∃ r : Int32, v = some (.int r) ∧ Q r u
def uJ (Q : Int64 → gM → Prop) : Option Value → gM → Prop := fun v u => ∃ r : Int64, v = some (.long r) ∧ Q r u
def uV (Q : gM → Prop) : Option Value → gM → Prop := fun v u => v = none ∧ Q u
def mLen : Nat → Nat := fun k => match k with
  | 0 => 487
  | 1 => 1461
  | 2 => 487
  | 3 => 120
  | 4 => 32
  | 5 => 8
  | 6 => 8
  | _ => 3
def mObj (ad : Nat → Nat) (u : gM) : List Value := [.ref (ad 0), .ref (ad 1), .ref (ad 2), .int (u.1 8 0), .ref (ad 3), .int (u.1 8 1), .int (u.1 8 2), .int (u.1 8 3), .ref (ad 4), .ref (ad 5), .ref (ad 6), .int (u.1 8 4), .int (u.1 8 5), .ref (ad 7), .long u.2]
def mCell (E : gE) (ad : Nat → Nat) (u : gM) (k : Nat) : va_E := if k = 8 then .inr (4, mObj ad u) else .inl (gT E 0, mLen k, .inl (u.1 k))
/-- the world w with a Model's cells over it -/
noncomputable def gmW (E : gE) (ad : Nat → Nat) (u : gM) (w : gW) : gW := gOv (fun k => k < 9) ad (mCell E ad u) w
def mI (ad : Nat → Nat) : Prop := ∀ i j, i < 9 → j < 9 → ad i = ad j → i = j
def mQ (E : gE) (ad : Nat → Nat) (w : gW) (Qn : Option Value → gM → Prop) : Option Value → gW → Prop := fun v w' => ∃ u' : gM, w' = gmW E ad u' w ∧ Qn v u'
theorem gm_obj {E : gE} {ad : Nat → Nat} {u : gM} {w : gW} (hI : mI ad) : (gmW E ad u w).1 (ad 8) = some (.inr (4, mObj ad u)) := by
  unfold gmW
  rw [gOv_at hI (by decide)]
  rfl
theorem gm_arr {E : gE} {ad : Nat → Nat} {u : gM} {w : gW} (hI : mI ad) {k : Nat} (hk : k < 8) : (gmW E ad u w).1 (ad k) = some (.inl (gT E 0, mLen k, .inl (u.1 k))) := by
  unfold gmW
  rw [gOv_at hI (by omega)]
  unfold mCell
  rw [if_neg (by omega)]
theorem gm_setA {E : gE} {ad : Nat → Nat} {u : gM} {w : gW} (hI : mI ad) {k : Nat} (hk : k < 8) {f : Nat → Int32} : gSet (gmW E ad u w) (ad k) (.inl (gT E 0, mLen k, .inl f)) = gmW E ad (uA u k f) w := by
  unfold gmW
  refine gOv_set hI (by omega) ?_ ?_
  · unfold mCell
    rw [if_neg (by omega)]
    simp [uA]
  · intro j hj hjk
    unfold mCell
    by_cases h8 : j = 8
    · have hk8 : ¬ (8 : Nat) = k := by omega
      simp [h8, mObj, uA, hk8]
    · simp [h8, uA, hjk]
theorem gm_setO {E : gE} {ad : Nat → Nat} {u u2 : gM} {w : gW} (hI : mI ad) (h : ∀ k, k < 8 → u2.1 k = u.1 k) : gSet (gmW E ad u w) (ad 8) (.inr (4, mObj ad u2)) = gmW E ad u2 w := by
  unfold gmW
  refine gOv_set hI (by omega) ?_ ?_
  · rfl
  · intro j hj hjk
    unfold mCell
    simp [hjk, h j (by omega)]
theorem su_row {u : gM} {j : Nat} {x : Int32} : ∀ k, k < 8 → (su u 8 j x).1 k = u.1 k := by
  intro k hk
  show (if k = 8 then _ else u.1 k) = u.1 k
  rw [if_neg (by omega)]
section GMR
variable {p : Program} {l : Launch} {e : Env} {R : Room} {s : State} {m : MethodId} {args : Array Value} {below : List Frame} {meth : Method} {c : Code} {H : Heap} {locs : List Loc} {cells slots : Nat} {Q : State → Prop}
variable {cc : ByteArray} {pc nL : Nat} {ls : Array Slot} {rest : List Value} {ret : Option FieldType} {own nm : String} {E : gE} {tb : List ExceptionTableEntry} {w0 w : gW} {ad : Nat → Nat} {u : gM}
theorem gm_getA (C : gC p l s m args meth c cc nL ret RX5 E tb nm) (hI : mI ad) (hS : gS E w0 (gmW E ad u w) H locs) {index : Nat} (fk : Nat) (hk : fk < 15) {a : Nat} (hv : (mObj ad u)[fk]? = some (.ref a)) (hlink : Cond.fieldLink RX5 index RX5 (TX5 fk).2.1 (TX5 fk).2.2.1 ∈ lw_all) (hsame : ∀ x, s.fieldFound? (TX5 fk).1 (TX5 fk).2.1 (TX5 fk).2.2.1 = some x → s.fieldFound? RX5 (TX5 fk).2.1 (TX5 fk).2.2.1 = some x) (hdg : decode cc pc = .ok (.getfield index, 3))
    (kk : W p l e R s m args below meth c H locs cells slots Q (F0 m (pc + 3) ls (.ref a :: rest))) : W p l e R s m args below meth c H locs cells slots Q (F0 m pc ls (.ref (ad 8) :: rest)) :=
  g_get C hS (gm_obj hI) in_X5 rfl fk hk hlink hsame hv hdg kk
theorem gm_getI (C : gC p l s m args meth c cc nL ret RX5 E tb nm) (hI : mI ad) (hS : gS E w0 (gmW E ad u w) H locs) {index : Nat} (fk j : Nat) (hk : fk < 15) (hv : (mObj ad u)[fk]? = some (.int (u.1 8 j))) (hlink : Cond.fieldLink RX5 index RX5 (TX5 fk).2.1 (TX5 fk).2.2.1 ∈ lw_all) (hsame : ∀ x, s.fieldFound? (TX5 fk).1 (TX5 fk).2.1 (TX5 fk).2.2.1 = some x → s.fieldFound? RX5 (TX5 fk).2.1 (TX5 fk).2.2.1 = some x) (hdg : decode cc pc = .ok (.getfield index, 3)) {K : Int32 → Prop} (hw : uGt j K u)
    (kk : ∀ v : Int32, K v → W p l e R s m args below meth c H locs cells slots Q (F0 m (pc + 3) ls (.int v :: rest))) : W p l e R s m args below meth c H locs cells slots Q (F0 m pc ls (.ref (ad 8) :: rest)) :=
  g_get C hS (gm_obj hI) in_X5 rfl fk hk hlink hsame hv hdg (kk _ hw)
theorem gm_getH (C : gC p l s m args meth c cc nL ret RX5 E tb nm) (hI : mI ad) (hS : gS E w0 (gmW E ad u w) H locs) {index : Nat} (hlink : Cond.fieldLink RX5 index RX5 (TX5 14).2.1 (TX5 14).2.2.1 ∈ lw_all) (hdg : decode cc pc = .ok (.getfield index, 3)) {K : Int64 → Prop} (hw : uGh K u)
    (kk : ∀ v : Int64, K v → W p l e R s m args below meth c H locs cells slots Q (F0 m (pc + 3) ls (.long v :: rest))) : W p l e R s m args below meth c H locs cells slots Q (F0 m pc ls (.ref (ad 8) :: rest)) :=
  g_get C hS (gm_obj hI) in_X5 rfl 14 (by decide) hlink (fun _ h => h) rfl hdg (kk _ hw)
theorem gm_putI (C : gC p l s m args meth c cc nL ret RX5 E tb nm) (hI : mI ad) (hS : gS E w0 (gmW E ad u w) H locs) {index : Nat} (fk j : Nat) (hk : fk < 15) {x : Int32} (hset : (mObj ad u).set fk (.int x) = mObj ad (su u 8 j x)) (hlink : Cond.fieldLink RX5 index RX5 (TX5 fk).2.1 (TX5 fk).2.2.1 ∈ lw_all) (hsame : ∀ x, s.fieldFound? (TX5 fk).1 (TX5 fk).2.1 (TX5 fk).2.2.1 = some x → s.fieldFound? RX5 (TX5 fk).2.1 (TX5 fk).2.2.1 = some x) (hfin : (TX5 fk).2.2.2 = false) (hn : narrow (tyX5 fk) (.int x) = .int x) (hfit : fits (tyX5 fk) (.int x) = true) (hdg : decode cc pc = .ok (.putfield index, 3)) {K : gM → Prop} (hw : uPt j x K u)
    (kk : ∀ (u1 : gM) (H1 : Heap) (locs1 : List Loc), K u1 → gS E w0 (gmW E ad u1 w) H1 locs1 → W p l e R s m args below meth c H1 locs1 cells slots Q (F0 m (pc + 3) ls rest)) : W p l e R s m args below meth c H locs cells slots Q (F0 m pc ls (.int x :: .ref (ad 8) :: rest)) := by
  refine g_put C hS (gm_obj hI) in_X5 tyX5 tyX5_ok nmX5 rfl fk hk hlink hsame hfin hn hfit (show fk < 15 from hk) hdg fun H1 locs1 h1 => ?_
  rw [hset, gm_setO hI su_row] at h1
  exact kk _ _ _ hw h1
theorem gm_putH (C : gC p l s m args meth c cc nL ret RX5 E tb nm) (hI : mI ad) (hS : gS E w0 (gmW E ad u w) H locs) {index : Nat} {x : Int64} (hlink : Cond.fieldLink RX5 index RX5 (TX5 14).2.1 (TX5 14).2.2.1 ∈ lw_all) (hdg : decode cc pc = .ok (.putfield index, 3)) {K : gM → Prop} (hw : uPh x K u)
    (kk : ∀ (u1 : gM) (H1 : Heap) (locs1 : List Loc), K u1 → gS E w0 (gmW E ad u1 w) H1 locs1 → W p l e R s m args below meth c H1 locs1 cells slots Q (F0 m (pc + 3) ls rest)) : W p l e R s m args below meth c H locs cells slots Q (F0 m pc ls (.long x :: .ref (ad 8) :: rest)) := by
  refine g_put C hS (gm_obj hI) in_X5 tyX5 tyX5_ok nmX5 rfl 14 (by decide) hlink (fun _ h => h) rfl rfl rfl (show 14 < 15 by decide) hdg fun H1 locs1 h1 => ?_
  rw [show (mObj ad u).set 14 (.long x) = mObj ad (uH u x) from rfl, gm_setO (u := u) (u2 := uH u x) hI (fun _ _ => rfl)] at h1
  exact kk _ _ _ hw h1
theorem gm_ld (C : gC p l s m args meth c cc nL ret own E tb nm) (hI : mI ad) (hS : gS E w0 (gmW E ad u w) H locs) (k n : Nat) (hk : k < 8) (hn : mLen k = n) {i : Int32} (hdg : decode cc pc = .ok (.iaload, 1)) {K : Int32 → Prop} (hw : uLd k n i K u)
    (kk : ∀ v : Int32, K v → W p l e R s m args below meth c H locs cells slots Q (F0 m (pc + 1) ls (.int v :: rest))) : W p l e R s m args below meth c H locs cells slots Q (F0 m pc ls (.int i :: .ref (ad k) :: rest)) := by
  subst hn
  exact g_iald C hS (gm_arr hI hk) hw.1 hdg (kk _ hw.2)
theorem gm_st (C : gC p l s m args meth c cc nL ret own E tb nm) (hI : mI ad) (hS : gS E w0 (gmW E ad u w) H locs) (k n : Nat) (hk : k < 8) (hn : mLen k = n) {i x : Int32} (hdg : decode cc pc = .ok (.iastore, 1)) {K : gM → Prop} (hw : uSt k n i x K u)
    (kk : ∀ (u1 : gM) (H1 : Heap) (locs1 : List Loc), K u1 → gS E w0 (gmW E ad u1 w) H1 locs1 → W p l e R s m args below meth c H1 locs1 cells slots Q (F0 m (pc + 1) ls rest)) : W p l e R s m args below meth c H locs cells slots Q (F0 m pc ls (.int x :: .int i :: .ref (ad k) :: rest)) := by
  subst hn
  refine g_iast C hS (gm_arr hI hk) hw.1 hdg fun H1 locs1 h1 => ?_
  rw [gm_setA hI hk] at h1
  exact kk _ _ _ hw.2 h1
abbrev mGo (p : Program) (l : Launch) (e : Env) (s : State) (m : MethodId) (args : Array Value) (below : List Frame) (meth : Method) (c : Code) (F Lc : Nat) (E : gE) (ad : Nat → Nat) (w0 w : gW) (Qn : Option Value → gM → Prop) (H : Heap) (locs : List Loc) (g : JFrame) : Prop :=
  W p l e (gRm F Lc E w0) s m args below meth c H locs (w.2.1 - w0.2.1) (w.2.2 - w0.2.2) (gMQ below E w0 (mQ E ad w Qn) gNoX args s) g
variable {F Lc : Nat} {Qn Qc : Option Value → gM → Prop} {st0 : List Value}
theorem gm_callS (C : gC p l s m args meth c cc nL ret own E tb nm) (hS : gS E w0 (gmW E ad u w) H locs) {lv : List (Nat × Value)} (hl : lv_has ls nL lv) {y : MethodName} {index n : Nat} {bytes : ByteArray} {maxL : Nat} {ry : Option FieldType} {F2 Lc2 : Nat} {As : List Value}
    (hM : gMet l y (ws_ y bytes maxL ry) E (gmW E ad u w) As F2 Lc2 (mQ E ad w Qc) gNoX) (hlk : Cond.methodLink own index y ∈ lw_all) (hst : Cond.static y ∈ lw_all) (hin : Cond.initialized y.cls ∈ lw_all) (hco : Cond.code y bytes maxL ry ∈ lw_all) (hy : gNm y n = true) (hn : As.length = n)
    (hF : F2 + 1 ≤ F) (hLc : 8 + (maxL + 11) + Lc2 ≤ Lc) (hst0 : st0 = As.reverse ++ rest) (hrm : (rest.map fun v => v.category).sum ≤ 8) (hdg : decode cc pc = .ok (.invokestatic index, 3))
    (kk : ∀ (v : Option Value) (u1 : gM) (H1 : Heap) (locs1 : List Loc), Qc v u1 → gS E w0 (gmW E ad u1 w) H1 locs1 → mGo p l e s m args below meth c F Lc E ad w0 w Qn H1 locs1 (F0 m (pc + 3) ls (v.toList ++ rest))) :
    mGo p l e s m args below meth c F Lc E ad w0 w Qn H locs (F0 m pc ls st0) := by
  refine g_callS (w := gmW E ad u w) C hS hl hM hlk hst hin hco hy hn hF hLc hst0 hrm hdg (fun X w1 H1 l1 q ce hx => hx.elim) (fun v w1 H1 l1 hq _ hS1 => ?_)
  obtain ⟨u1, rfl, hq⟩ := hq
  exact kk v u1 H1 l1 hq hS1
theorem gm_callV (C : gC p l s m args meth c cc nL ret own E tb nm) (hI : mI ad) (hS : gS E w0 (gmW E ad u w) H locs) {lv : List (Nat × Value)} (hl : lv_has ls nL lv) {y : MethodName} {index n : Nat} {bytes : ByteArray} {maxL : Nat} {ry : Option FieldType} {F2 Lc2 : Nat} {As : List Value}
    (hM : gMet l y (ws_ y bytes maxL ry) E (gmW E ad u w) (.ref (ad 8) :: As) F2 Lc2 (mQ E ad w Qc) gNoX) (hlk : Cond.methodLink own index y ∈ lw_all) (hinst : Cond.instanceMethod y ∈ lw_all) (hsel : Cond.selects RX5 y y ∈ lw_all) (hin : Cond.initialized y.cls ∈ lw_all) (hco : Cond.code y bytes maxL ry ∈ lw_all) (hy : gNm y n = true) (hn : As.length = n)
    (hF : F2 + 1 ≤ F) (hLc : 8 + (maxL + 11) + Lc2 ≤ Lc) (hst0 : st0 = As.reverse ++ .ref (ad 8) :: rest) (hrm : (rest.map fun v => v.category).sum ≤ 8) (hdg : decode cc pc = .ok (.invokevirtual index, 3))
    (kk : ∀ (v : Option Value) (u1 : gM) (H1 : Heap) (locs1 : List Loc), Qc v u1 → gS E w0 (gmW E ad u1 w) H1 locs1 → mGo p l e s m args below meth c F Lc E ad w0 w Qn H1 locs1 (F0 m (pc + 3) ls (v.toList ++ rest))) :
    mGo p l e s m args below meth c F Lc E ad w0 w Qn H locs (F0 m pc ls st0) := by
  refine g_callV (w := gmW E ad u w) C hS hl 4 (gm_obj hI) rfl hM hlk hinst hsel hin hco hy hn hF hLc hst0 hrm hdg (fun X w1 H1 l1 q ce hx => hx.elim) (fun v w1 H1 l1 hq _ hS1 => ?_)
  obtain ⟨u1, rfl, hq⟩ := hq
  exact kk v u1 H1 l1 hq hS1
theorem gm_ki {K : Int32 → gM → Prop} (kk : ∀ (r : Int32) (u1 : gM) (H1 : Heap) (locs1 : List Loc), K r u1 → gS E w0 (gmW E ad u1 w) H1 locs1 → mGo p l e s m args below meth c F Lc E ad w0 w Qn H1 locs1 (F0 m (pc + 3) ls (.int r :: rest))) (v : Option Value) (u1 : gM) (H1 : Heap) (locs1 : List Loc) (h : uI K v u1) (hS : gS E w0 (gmW E ad u1 w) H1 locs1) : mGo p l e s m args below meth c F Lc E ad w0 w Qn H1 locs1 (F0 m (pc + 3) ls (v.toList ++ rest)) := by
  obtain ⟨r, rfl, hw⟩ := h
  exact kk r u1 H1 locs1 hw hS
theorem gm_kj {K : Int64 → gM → Prop} (kk : ∀ (r : Int64) (u1 : gM) (H1 : Heap) (locs1 : List Loc), K r u1 → gS E w0 (gmW E ad u1 w) H1 locs1 → mGo p l e s m args below meth c F Lc E ad w0 w Qn H1 locs1 (F0 m (pc + 3) ls (.long r :: rest))) (v : Option Value) (u1 : gM) (H1 : Heap) (locs1 : List Loc) (h : uJ K v u1) (hS : gS E w0 (gmW E ad u1 w) H1 locs1) : mGo p l e s m args below meth c F Lc E ad w0 w Qn H1 locs1 (F0 m (pc + 3) ls (v.toList ++ rest)) := by
  obtain ⟨r, rfl, hw⟩ := h
  exact kk r u1 H1 locs1 hw hS
theorem gm_kv {K : gM → Prop} (kk : ∀ (u1 : gM) (H1 : Heap) (locs1 : List Loc), K u1 → gS E w0 (gmW E ad u1 w) H1 locs1 → mGo p l e s m args below meth c F Lc E ad w0 w Qn H1 locs1 (F0 m (pc + 3) ls rest)) (v : Option Value) (u1 : gM) (H1 : Heap) (locs1 : List Loc) (h : uV K v u1) (hS : gS E w0 (gmW E ad u1 w) H1 locs1) : mGo p l e s m args below meth c F Lc E ad w0 w Qn H1 locs1 (F0 m (pc + 3) ls (v.toList ++ rest)) := by
  obtain ⟨rfl, hw⟩ := h
  exact kk u1 H1 locs1 hw hS
theorem gm_iret {K : Int32 → gM → Prop} (C : gC p l s m args meth c cc nL (some .int) own E tb nm) (hS : gS E w0 (gmW E ad u w) H locs) {v : Int32} (hw : K v u) (hdg : decode cc pc = .ok (.ireturn, 1)) : mGo p l e s m args below meth c F Lc E ad w0 w (uI K) H locs (F0 m pc ls [.int v]) :=
  g_iret (w := gmW E ad u w) C hS ⟨u, rfl, v, rfl, hw⟩ hdg
theorem gm_zret {K : Int32 → gM → Prop} (C : gC p l s m args meth c cc nL (some .boolean) own E tb nm) (hS : gS E w0 (gmW E ad u w) H locs) {v : Int32} (hn : narrow .boolean (.int v) = .int v) (hw : K v u) (hdg : decode cc pc = .ok (.ireturn, 1)) : mGo p l e s m args below meth c F Lc E ad w0 w (uI K) H locs (F0 m pc ls [.int v]) :=
  g_zret (w := gmW E ad u w) C hS hn ⟨u, rfl, v, rfl, hw⟩ hdg
theorem gm_lret {K : Int64 → gM → Prop} (C : gC p l s m args meth c cc nL (some .long) own E tb nm) (hS : gS E w0 (gmW E ad u w) H locs) {v : Int64} (hw : K v u) (hdg : decode cc pc = .ok (.lreturn, 1)) : mGo p l e s m args below meth c F Lc E ad w0 w (uJ K) H locs (F0 m pc ls [.long v]) :=
  g_lret (w := gmW E ad u w) C hS ⟨u, rfl, v, rfl, hw⟩ hdg
theorem gm_vret {K : gM → Prop} (C : gC p l s m args meth c cc nL none own E tb nm) (hS : gS E w0 (gmW E ad u w) H locs) (hw : K u) (hdg : decode cc pc = .ok (.return_, 1)) : mGo p l e s m args below meth c F Lc E ad w0 w (uV K) H locs (F0 m pc ls []) :=
  g_vret (w := gmW E ad u w) C hS ⟨u, rfl, rfl, hw⟩ hdg
end GMR
