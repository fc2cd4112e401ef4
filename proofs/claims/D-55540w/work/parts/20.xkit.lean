/-! THE ABSTRACT HEAP: what is known of the cells behind the law's start, each with a name (its owner) that is ours alone -/
set_option maxRecDepth 100000
abbrev xk_E : Type := (Nat × Nat) × va_E
abbrev xk_H : Type := Nat → Option xk_E
/-- the run's constants: classes, field places; array classes int, byte, boolean, Object; the launch; the law's start and argument -/
abbrev xk_G : Type := va_G × (Nat → ClassId) × Launch × State × Array Value
abbrev xk_D (g : xk_G) : va_G := g.1
abbrev xk_T (g : xk_G) : Nat → ClassId := g.2.1
abbrev xk_l (g : xk_G) : Launch := g.2.2.1
abbrev xk_s (g : xk_G) : State := g.2.2.2.1
abbrev xk_a (g : xk_G) : Array Value := g.2.2.2.2
/-- 0 model, 1 TulipLines, 2 Bed, 3 Bulb, 4 Crossing, 5 Once, 6 Finder, 7 Reader, 8 Wrong, 9 Refusal, 10 SyntaxException, 11 ArrayList, 12 ArrayDeque, 13 its iterator, 14 StringBuilder, 15 String -/
def xk_Cl : List vw_C := [(RX2, TX2, 21), (RX0, TX0, 8), (RX1, TX1, 7), (RX5, TX5, 8), (RX6, TX6, 3), (RX7, TX7, 1), (RX8, TX8, 2), (RX9, TX9, 2), (RX3, TX3, 7), (RX4, TX4, 8), (RX10, TX10, 7), (RJ2, TJ2, 3), (RJ3, TJ3, 3), (RJ10, TJ10, 4), (RJ5, TJ5, 4), (RJ6, TJ6, 4)]
def xk_Ty (g : xk_G) : List (ClassId × FieldType) := [(xk_T g 0, .int), (xk_T g 1, .byte), (xk_T g 2, .boolean), (xk_T g 3, .object "java/lang/Object")]
def xk_A (g : xk_G) : Nat → Prop := fun q => (xk_s g).heap.size ≤ q
def xk_R (g : xk_G) (X : xk_H) (H : Heap) : Prop := ∀ (a : Nat) (o : Nat × Nat) (e : va_E), X a = some (o, e) → xk_A g a ∧ va_at (xk_D g) xk_Cl (a, e) H
/-- the start's facts -/
def xk_0 (g : xk_G) : Prop := (xk_l g).flags = flags0 ∧ (∀ w ∈ lw_tbl, w.before (xk_a g) (xk_s g) = true) ∧ (Jvm.Cond.and given_1 narrow_1).before (xk_a g) (xk_s g) = true
/-- what holds at every method's start -/
def xk_K (g : xk_G) (s : State) : Prop := va_K (xk_D g) xk_Cl (xk_Ty g) s ∧ (xk_s g).WarmedH s.vm ∧ (xk_s g).heap.size ≤ s.heap.size ∧ (∀ q : Nat, q < (xk_s g).heap.size → s.heap[q]? = (xk_s g).heap[q]?) ∧ xk_0 g
def xk_I (g : xk_G) (s : State) (H : Heap) (X : xk_H) (locs : List Loc) : Prop := va_S (xk_A g) s.heap H locs ∧ xk_R g X H
def xk_B (g : xk_G) (p : Program) (s : State) (m : MethodId) (args : Array Value) (meth : Method) (c : Code) (own : String) (cc : ByteArray) (nL : Nat) : Prop :=
  p.tables.exec = Jvm.exec ∧ c.code = cc ∧ c.maxLocals = nL ∧ s.vm.findClass own = some m.cls ∧ (∀ w ∈ lw_all, w.before args s = true) ∧ meth.locks = false ∧ xk_K g s
def xk_P (g : xk_G) (av : List Value) (X : xk_H) : Array Value → State → Prop := fun v U => v = av.toArray ∧ xk_K g U ∧ xk_R g X U.heap
def xk_Q (g : xk_G) (Qp : Option Value → xk_H → Prop) : Array Value → State → Outcome → State → Prop := fun _ st o t => (∃ (v : Option Value) (X : xk_H), o = .returned v ∧ Qp v X ∧ xk_R g X t.heap) ∧ va_F (xk_A g) st t
/-- THE CONTRACT: with the arguments av, in any heap that holds X, y returns; answer and heap are as Qp says -/
def xk_C (g : xk_G) (y : MethodName) (ws : List Cond) (rm : Room) (av : List Value) (X : xk_H) (Qp : Option Value → xk_H → Prop) : Prop := Met (xk_l g) y ws rm (xk_P g av X) (xk_Q g Qp) rm.cells rm.slots (xk_A g)
def xk_Qi (r : Int32) (P : xk_H → Prop) : Option Value → xk_H → Prop := fun v X => v = some (.int r) ∧ P X
def xk_Qv (P : xk_H → Prop) : Option Value → xk_H → Prop := fun v X => v = none ∧ P X
def xk_Qr (P : Nat → xk_H → Prop) : Option Value → xk_H → Prop := fun v X => ∃ q : Nat, v = some (.ref q) ∧ P q X
def xk_Qq (r : Option Nat) (P : xk_H → Prop) : Option Value → xk_H → Prop := fun v X => v = some (va_rf r) ∧ P X
/-- contents: an int (0), byte (1), boolean (2) array of small numbers; an array of references -/
abbrev xk_iA (g : xk_G) (t n : Nat) (f : Nat → Nat) : va_E := .inl (xk_T g t, n, .inl (fun j => nI (f j)))
abbrev xk_qA (g : xk_G) (n : Nat) (f : Nat → Option Nat) : va_E := .inl (xk_T g 3, n, .inr (.inr (.inr (.inr f))))
def xk_U (X : xk_H) (a : Nat) (z : xk_E) : xk_H := fun b => if b = a then some z else X b
theorem xk_Us {X : xk_H} {a : Nat} {z : xk_E} : xk_U X a z a = some z := by simp [xk_U]
theorem xk_Un {X : xk_H} {a b : Nat} {z : xk_E} (h : b ≠ a) : xk_U X a z b = X b := by simp [xk_U, h]
/-- more is known -/
def xk_le (X X1 : xk_H) : Prop := ∀ (a : Nat) (z : xk_E), X a = some z → X1 a = some z
theorem xk_le.rf {X : xk_H} : xk_le X X := fun _ _ h => h
theorem xk_le.tr {X X1 X2 : xk_H} (h : xk_le X X1) (h2 : xk_le X1 X2) : xk_le X X2 := fun a z q => h2 a z (h a z q)
theorem xk_le.fresh {X X1 : xk_H} {a : Nat} (h0 : X a = none) (hn : ∀ b, b ≠ a → X1 b = X b) : xk_le X X1 := fun b z q => by
  by_cases hb : b = a
  · subst hb; rw [h0] at q; cases q
  · rw [hn b hb]; exact q
theorem xk_R.le {g : xk_G} {X X1 : xk_H} {H : Heap} (h : xk_R g X1 H) (hl : xk_le X X1) : xk_R g X H := fun a o e q => h a o e (hl a _ q)
theorem xk_I.le {g : xk_G} {s : State} {X X1 : xk_H} {H : Heap} {locs : List Loc} (h : xk_I g s H X1 locs) (hl : xk_le X X1) : xk_I g s H X locs := ⟨h.1, h.2.le hl⟩
/-- cells of other names are other cells -/
theorem xk_ne {X : xk_H} {a b : Nat} {o1 o2 : Nat × Nat} {e1 e2 : va_E} (ha : X a = some (o1, e1)) (hb : X b = some (o2, e2)) (h : o2 ≠ o1) : b ≠ a := fun q => h (by
  subst q
  have := ha.symm.trans hb
  cases this
  rfl)
theorem xk_off {X X1 : xk_H} {a b : Nat} {o1 o2 : Nat × Nat} {e1 e2 : va_E} (hn : ∀ b, b ≠ a → X1 b = X b) (hb : X b = some (o2, e2)) (ha : X a = some (o1, e1)) (h : o2 ≠ o1) : X1 b = some (o2, e2) := (hn b (xk_ne ha hb h)).trans hb
theorem xk_on1 {r i j : Nat} (h : i ≠ j) : ((r, i) : Nat × Nat) ≠ (r, j) := fun q => h (by cases q; rfl)
theorem xk_on2 {r i k j : Nat} (h : i ≠ j) : ((r, i) : Nat × Nat) ≠ (k, j) := fun q => h (by cases q; rfl)
theorem xk_on0 {r i k j : Nat} (h : r ≠ k) : ((r, i) : Nat × Nat) ≠ (k, j) := fun q => h (by cases q; rfl)
theorem xk_K.call {g : xk_G} {s U : State} {H : Heap} {locs : List Loc} (h : xk_K g s) (hS : va_S (xk_A g) s.heap H locs) (hU : U.heap = H) (hW : s.WarmedH U.vm) : xk_K g U :=
  ⟨va_K.moved hW.alike h.1, State.WarmedH.trans h.2.1 hW, by rw [hU]; exact Nat.le_trans h.2.2.1 hS.1, fun q hq => by rw [hU, hS.2.1 q (Nat.lt_of_lt_of_le hq h.2.2.1) (fun z => Nat.not_le.mpr hq z)]; exact h.2.2.2.1 q hq, h.2.2.2.2⟩
theorem xk_blind {g : xk_G} {av : List Value} {X : xk_H} : FrameBlind (xk_P g av X) := fun a U gg mk h => ⟨h.1, ⟨va_K.moved (u := U) (U := U.calling gg mk a) (Vm.Alike.refl U.vm) h.2.1.1, h.2.1.2⟩, h.2.2⟩
theorem xk_one {g : xk_G} {X : xk_H} {H : Heap} {a : Nat} {o : Nat × Nat} {e : va_E} (h : xk_R g X H) (ha : X a = some (o, e)) : va_P (xk_D g) xk_Cl [(a, e)] H := by
  intro k q hk
  have hz : k < 1 := (List.getElem?_eq_some_iff.mp hk).1
  rw [show k = 0 by omega] at hk
  cases hk
  exact (h a o e ha).2
theorem xk_lt {g : xk_G} {X : xk_H} {H : Heap} {a : Nat} {z : xk_E} (h : xk_R g X H) (ha : X a = some z) : a < H.size := (h a z.1 z.2 ha).2.lt
/-- all that is known, as a list -/
theorem xk_enum {g : xk_G} {X : xk_H} {H : Heap} (h : xk_R g X H) : ∃ ws : va_W, va_P (xk_D g) xk_Cl ws H ∧ va_D (xk_A g) ws ∧ (∀ (b : Nat) (o : Nat × Nat) (e : va_E), X b = some (o, e) → ∃ j : Nat, ws[j]? = some (b, e)) ∧ ∀ (j : Nat) (q : Nat × va_E), ws[j]? = some q → ∃ o : Nat × Nat, X q.1 = some (o, q.2) := by
  generalize hws : (List.range H.size).filterMap (fun a => (X a).map (fun z => ((a, z.2) : Nat × va_E))) = ws
  have hin : ∀ (q : Nat × va_E), q ∈ ws → ∃ o : Nat × Nat, X q.1 = some (o, q.2) := by
    intro q hq
    rw [← hws] at hq
    obtain ⟨a, -, ha⟩ := List.mem_filterMap.mp hq
    cases hx : X a with
    | none => rw [hx] at ha; cases ha
    | some z =>
      rw [hx] at ha
      cases ha
      exact ⟨z.1, hx⟩
  have hpw : ws.Pairwise (fun p q => p.1 < q.1) := by
    rw [← hws]
    refine List.Pairwise.filterMap _ ?_ List.pairwise_lt_range
    intro a a' haa b hb b' hb'
    cases hx : X a with
    | none => rw [hx] at hb; cases hb
    | some z =>
      cases hy : X a' with
      | none => rw [hy] at hb'; cases hb'
      | some z' =>
        rw [hx] at hb; rw [hy] at hb'
        cases hb; cases hb'
        exact haa
  refine ⟨ws, fun k q hk => ?_, ⟨fun i j p q hi hj he => ?_, fun k q hk => ?_⟩, fun b o e hb => ?_, fun j q hj => hin q (List.mem_of_getElem? hj)⟩
  · obtain ⟨o, ho⟩ := hin q (List.mem_of_getElem? hk)
    exact (h q.1 o q.2 ho).2
  · obtain ⟨hi1, hi2⟩ := List.getElem?_eq_some_iff.mp hi
    obtain ⟨hj1, hj2⟩ := List.getElem?_eq_some_iff.mp hj
    rcases Nat.lt_trichotomy i j with hl | hl | hl
    · have := List.pairwise_iff_getElem.mp hpw i j hi1 hj1 hl
      rw [hi2, hj2] at this
      omega
    · exact hl
    · have := List.pairwise_iff_getElem.mp hpw j i hj1 hi1 hl
      rw [hi2, hj2] at this
      omega
  · obtain ⟨o, ho⟩ := hin q (List.mem_of_getElem? hk)
    exact (h q.1 o q.2 ho).1
  · refine List.getElem?_of_mem ?_
    rw [← hws]
    exact List.mem_filterMap.mpr ⟨b, List.mem_range.mpr (xk_lt h hb), by rw [hb]; rfl⟩
/-- a write, as the kit tells it over the list -/
theorem xk_wr {g : xk_G} {X : xk_H} {H H1 : Heap} {a q0 : Nat} {o : Nat × Nat} {e e' : va_E} {ws : va_W} (h : xk_R g X H) (ha : X a = some (o, e)) (hj : ∀ (b : Nat) (o : Nat × Nat) (e : va_E), X b = some (o, e) → ∃ j : Nat, ws[j]? = some (b, e)) (hq : ws[q0]? = some (a, e))
    (hP : va_P (xk_D g) xk_Cl (ws.set q0 (a, e')) H1) : xk_R g (xk_U X a (o, e')) H1 := by
  have hlt : q0 < ws.length := (List.getElem?_eq_some_iff.mp hq).1
  intro b ob eb hb
  by_cases hab : b = a
  · subst hab
    rw [xk_Us] at hb
    cases hb
    refine ⟨(h b o e ha).1, hP q0 _ ?_⟩
    rw [List.getElem?_set_self hlt]
  · rw [xk_Un hab] at hb
    obtain ⟨j, hj⟩ := hj b ob eb hb
    refine ⟨(h b ob eb hb).1, hP j _ ?_⟩
    rw [List.getElem?_set_ne (fun hqj => hab (by
      subst hqj
      have := hj.symm.trans hq
      cases this
      rfl))]
    exact hj
theorem xk_new {g : xk_G} {X : xk_H} {H H1 : Heap} {q : Nat} {e : va_E} {ws : va_W} (ow : Nat × Nat) (h : xk_R g X H) (hj : ∀ (b : Nat) (o : Nat × Nat) (e : va_E), X b = some (o, e) → ∃ j : Nat, ws[j]? = some (b, e))
    (hP : va_P (xk_D g) xk_Cl (ws ++ [(q, e)]) H1) (hD : va_D (xk_A g) (ws ++ [(q, e)])) : X q = none ∧ xk_R g (xk_U X q (ow, e)) H1 := by
  have hl : (ws ++ [(q, e)])[ws.length]? = some (q, e) := by simp
  have old : ∀ (b : Nat) (o : Nat × Nat) (e' : va_E), X b = some (o, e') → ∃ j : Nat, j < ws.length ∧ (ws ++ [(q, e)])[j]? = some (b, e') := by
    intro b o e' hb
    obtain ⟨j, hj⟩ := hj b o e' hb
    have hlt : j < ws.length := (List.getElem?_eq_some_iff.mp hj).1
    exact ⟨j, hlt, by rw [List.getElem?_append_left hlt]; exact hj⟩
  have hn : X q = none := by
    cases hx : X q with
    | none => rfl
    | some z =>
      obtain ⟨j, hlt, hj⟩ := old q z.1 z.2 hx
      have := hD.1 j ws.length _ _ hj hl rfl
      omega
  refine ⟨hn, fun b ob eb hb => ?_⟩
  by_cases hbq : b = q
  · subst hbq
    rw [xk_Us] at hb
    cases hb
    exact ⟨hD.2 _ _ hl, hP _ _ hl⟩
  · rw [xk_Un hbq] at hb
    obtain ⟨j, hlt, hj⟩ := old b ob eb hb
    exact ⟨(h b ob eb hb).1, hP _ _ hj⟩
section XK
variable {g : xk_G} {p : Program} {e : Env} {R : Room} {s : State} {m : MethodId} {args : Array Value} {below : List Frame} {meth : Method} {c : Code} {H : Heap} {locs : List Loc} {cells slots : Nat} {Q : State → Prop}
variable {cc : ByteArray} {pc nL : Nat} {own : String} {ls : Array Slot} {rest st0 : List Value} {X : xk_H} {l : Launch}
theorem xk_B.ts (B : xk_B g p s m args meth c own cc nL) : ∀ w ∈ lw_all, w.before args s = true := B.2.2.2.2.1
theorem xk_B.K (B : xk_B g p s m args meth c own cc nL) : xk_K g s := B.2.2.2.2.2.2
theorem xk_B.ow (B : xk_B g p s m args meth c own cc nL) : s.vm.findClass own = some m.cls := B.2.2.2.1
theorem xk_B.lk (B : xk_B g p s m args meth c own cc nL) : meth.locks = false := B.2.2.2.2.2.1
theorem xk_ofW {y : MethodName} {maxL : Nat} {ret : Option FieldType} {rm : Room} {av : List Value} {Qp : Option Value → xk_H → Prop} (hy : plainName y.cls = true) (hpl : (lg_sl av).length ≤ maxL)
    (body : ∀ (p : Program) (e : Env) (s : State) (m : MethodId) (args : Array Value) (below : List Frame) (meth : Method) (c : Code), xk_B g p s m args meth c y.cls cc maxL → meth.sig.returnType = ret → meth.name = y.name → args = av.toArray → xk_I g s s.heap X [] → ∀ ls : Array Slot, lv_has ls maxL (lv_args 0 av) →
      W p (xk_l g) e rm s m args below meth c s.heap [] 0 0 (MQ below (xk_Q g Qp) args s rm.cells rm.slots (xk_A g)) (F0 m 0 ls [])) : xk_C g y (ws_ y cc maxL ret) rm av X Qp := by
  refine Met.ofW (cc := cc) (maxL := maxL) (ret := ret) hy rfl ?_
  intro p e s m args below meth c s₁ B hml hv
  obtain ⟨rfl, hK, hR⟩ := hv
  have hts := atoms_spec (ws := ws_ y cc maxL ret) B.pre
  rw [lg_entry_eq]
  exact body p e s m _ below meth c ⟨B.exec, B.bytes, hml, findClass_of_methodNamed B.named, fun w h => hts w (List.mem_cons_of_mem _ h), B.notSynchronized, hK⟩ B.returns (name_of_methodNamed B.named B.method).1 rfl ⟨va_S.rf, hR⟩ _ (lv_entry av hpl)
/-- a computed number by another name -/
theorem xk_top {x y : Int32} (h : x = y) (k : W p l e R s m args below meth c H locs cells slots Q (F0 m pc ls (.int y :: rest))) : W p l e R s m args below meth c H locs cells slots Q (F0 m pc ls (.int x :: rest)) := h ▸ k
theorem xk_get (B : xk_B g p s m args meth c own cc nL) (hI : xk_I g s H X locs) {a : Nat} {o : Nat × Nat} {ci : Nat} {fs : List Value} (ha : X a = some (o, .inr (ci, fs))) {C : String} {T : u_T} {N : Nat} (hc : xk_Cl[ci]? = some (C, T, N)) (hin : ∀ w ∈ u_ws C T N, w ∈ lw_all)
    (k : Nat) (hk : k < N) {index : Nat} (hlink : Cond.fieldLink own index (T k).1 (T k).2.1 (T k).2.2.1 ∈ lw_all) {v : Value} (hv : fs[k]? = some v) (hdg : decode cc pc = .ok (.getfield index, 3))
    (kk : W p l e R s m args below meth c H locs cells slots Q (F0 m (pc + 3) ls (v :: rest))) : W p l e R s m args below meth c H locs cells slots Q (F0 m pc ls (.ref a :: rest)) :=
  va_get B.1 B.2.1 (Ts := lw_all) B.ts hin B.ow B.K.1 (xk_one hI.2 ha) 0 rfl hc k hk (B.ts _ hlink) (fun _ h => h) hv hdg kk
theorem xk_put (B : xk_B g p s m args meth c own cc nL) (hI : xk_I g s H X locs) {a : Nat} {o : Nat × Nat} {ci : Nat} {fs : List Value} (ha : X a = some (o, .inr (ci, fs))) {C : String} {T : u_T} {N : Nat} (hc : xk_Cl[ci]? = some (C, T, N)) (hin : ∀ w ∈ u_ws C T N, w ∈ lw_all) (ty0 : Nat → FieldType) (hty : ∀ k, k < N → parseFieldDescriptor (T k).2.2.1 = some (ty0 k)) (hnm : ∀ a, a < N → ∀ b, b < N → a ≠ b → (T a).2.1 ≠ (T b).2.1)
    (k : Nat) (hk : k < N) {index : Nat} (hlink : Cond.fieldLink own index (T k).1 (T k).2.1 (T k).2.2.1 ∈ lw_all) (hfin : (T k).2.2.2 = false) {v : Value} (hn : narrow (ty0 k) v = v) (hfit : fits (ty0 k) v = true) (hl : k < fs.length) (hdg : decode cc pc = .ok (.putfield index, 3))
    (kk : ∀ (X1 : xk_H) (H1 : Heap) (locs1 : List Loc), X1 a = some (o, .inr (ci, fs.set k v)) → (∀ b, b ≠ a → X1 b = X b) → xk_I g s H1 X1 locs1 → W p l e R s m args below meth c H1 locs1 cells slots Q (F0 m (pc + 3) ls rest)) : W p l e R s m args below meth c H locs cells slots Q (F0 m pc ls (v :: .ref a :: rest)) := by
  obtain ⟨ws, hP, hD, hj, -⟩ := xk_enum hI.2
  obtain ⟨q0, hq0⟩ := hj a o _ ha
  refine va_put B.1 B.2.1 (Ts := lw_all) B.ts hin ty0 hty hnm B.ow B.K.1 hP hD hI.1 q0 hq0 hc k hk (B.ts _ hlink) (fun _ h => h) hfin (hty k hk) hn hfit hl hdg (fun H1 locs1 hP1 hD1 hS1 => ?_)
  exact kk _ H1 locs1 xk_Us (fun b hb => xk_Un hb) ⟨hS1, xk_wr hI.2 ha hj hq0 hP1⟩
theorem xk_putF (B : xk_B g p s m args meth c own cc nL) (hI : xk_I g s H X locs) (hname : meth.name = "<init>") {a : Nat} {o : Nat × Nat} {ci : Nat} {fs : List Value} (ha : X a = some (o, .inr (ci, fs))) {C : String} {T : u_T} {N : Nat} (hc : xk_Cl[ci]? = some (C, T, N)) (hin : ∀ w ∈ u_ws C T N, w ∈ lw_all) (ty0 : Nat → FieldType) (hty : ∀ k, k < N → parseFieldDescriptor (T k).2.2.1 = some (ty0 k)) (hnm : ∀ a, a < N → ∀ b, b < N → a ≠ b → (T a).2.1 ≠ (T b).2.1)
    (k : Nat) (hk : k < N) {index : Nat} (hlink : Cond.fieldLink own index (T k).1 (T k).2.1 (T k).2.2.1 ∈ lw_all) (hfin : (T k).2.2.2 = true) (hdecl : (T k).1 = own) {v : Value} (hn : narrow (ty0 k) v = v) (hfit : fits (ty0 k) v = true) (hl : k < fs.length) (hdg : decode cc pc = .ok (.putfield index, 3))
    (kk : ∀ (X1 : xk_H) (H1 : Heap) (locs1 : List Loc), X1 a = some (o, .inr (ci, fs.set k v)) → (∀ b, b ≠ a → X1 b = X b) → xk_I g s H1 X1 locs1 → W p l e R s m args below meth c H1 locs1 cells slots Q (F0 m (pc + 3) ls rest)) : W p l e R s m args below meth c H locs cells slots Q (F0 m pc ls (v :: .ref a :: rest)) := by
  obtain ⟨ws, hP, hD, hj, -⟩ := xk_enum hI.2
  obtain ⟨q0, hq0⟩ := hj a o _ ha
  refine va_putF B.1 B.2.1 (Ts := lw_all) B.ts hin ty0 hty hnm B.ow B.K.1 hP hD hI.1 q0 hq0 hc k hk (B.ts _ hlink) (fun _ h => h) hfin hname hdecl (hty k hk) hn hfit hl hdg (fun H1 locs1 hP1 hD1 hS1 => ?_)
  exact kk _ H1 locs1 xk_Us (fun b hb => xk_Un hb) ⟨hS1, xk_wr hI.2 ha hj hq0 hP1⟩
theorem xk_iald (B : xk_B g p s m args meth c own cc nL) (hI : xk_I g s H X locs) {a : Nat} {o : Nat × Nat} {n : Nat} {f : Nat → Nat} (ha : X a = some (o, xk_iA g 0 n f)) {i : Nat} (hi : i < n) (hn : n < 2147483648) (hdg : decode cc pc = .ok (.iaload, 1))
    (kk : W p l e R s m args below meth c H locs cells slots Q (F0 m (pc + 1) ls (.int (nI (f i)) :: rest))) : W p l e R s m args below meth c H locs cells slots Q (F0 m pc ls (.int (nI i) :: .ref a :: rest)) := by
  refine va_iald B.1 B.2.1 B.K.1 (xk_one hI.2 ha) 0 0 rfl rfl (vp_in_nI hi hn) hdg ?_
  show W p l e R s m args below meth c H locs cells slots Q (F0 m (pc + 1) ls (.int (nI (f (nI i).toNatClampNeg)) :: rest))
  rw [nI_clamp (by omega)]
  exact kk
theorem xk_bald (B : xk_B g p s m args meth c own cc nL) (hI : xk_I g s H X locs) {a : Nat} {o : Nat × Nat} {n : Nat} {f : Nat → Nat} (ha : X a = some (o, xk_iA g 1 n f)) {i : Nat} (hi : i < n) (hn : n < 2147483648) (hdg : decode cc pc = .ok (.baload, 1))
    (kk : W p l e R s m args below meth c H locs cells slots Q (F0 m (pc + 1) ls (.int (nI (f i)) :: rest))) : W p l e R s m args below meth c H locs cells slots Q (F0 m pc ls (.int (nI i) :: .ref a :: rest)) := by
  refine va_bald B.1 B.2.1 B.K.1 (xk_one hI.2 ha) 0 1 rfl rfl (vp_in_nI hi hn) hdg ?_
  show W p l e R s m args below meth c H locs cells slots Q (F0 m (pc + 1) ls (.int (nI (f (nI i).toNatClampNeg)) :: rest))
  rw [nI_clamp (by omega)]
  exact kk
theorem xk_zald (B : xk_B g p s m args meth c own cc nL) (hI : xk_I g s H X locs) {a : Nat} {o : Nat × Nat} {n : Nat} {f : Nat → Nat} (ha : X a = some (o, xk_iA g 2 n f)) {i : Nat} (hi : i < n) (hn : n < 2147483648) (hdg : decode cc pc = .ok (.baload, 1))
    (kk : W p l e R s m args below meth c H locs cells slots Q (F0 m (pc + 1) ls (.int (nI (f i)) :: rest))) : W p l e R s m args below meth c H locs cells slots Q (F0 m pc ls (.int (nI i) :: .ref a :: rest)) := by
  refine va_zald B.1 B.2.1 B.K.1 (xk_one hI.2 ha) 0 2 rfl rfl (vp_in_nI hi hn) hdg ?_
  show W p l e R s m args below meth c H locs cells slots Q (F0 m (pc + 1) ls (.int (nI (f (nI i).toNatClampNeg)) :: rest))
  rw [nI_clamp (by omega)]
  exact kk
theorem xk_upd {f : Nat → Nat} {i v : Nat} (hi : i < 2147483648) {x : Int32} (hx : x = nI v) : upd (fun j => nI (f j)) (nI i).toNatClampNeg x = fun j => nI (va_up f i v j) := by
  rw [nI_clamp hi, hx]
  funext j
  by_cases h : j = i
  · simp [upd, va_up, h]
  · simp [upd, va_up, h]
theorem xk_iast (B : xk_B g p s m args meth c own cc nL) (hI : xk_I g s H X locs) {a : Nat} {o : Nat × Nat} {n : Nat} {f : Nat → Nat} (ha : X a = some (o, xk_iA g 0 n f)) {i v : Nat} (hi : i < n) (hn : n < 2147483648) (hdg : decode cc pc = .ok (.iastore, 1))
    (kk : ∀ (X1 : xk_H) (H1 : Heap) (locs1 : List Loc), X1 a = some (o, xk_iA g 0 n (va_up f i v)) → (∀ b, b ≠ a → X1 b = X b) → xk_I g s H1 X1 locs1 → W p l e R s m args below meth c H1 locs1 cells slots Q (F0 m (pc + 1) ls rest)) : W p l e R s m args below meth c H locs cells slots Q (F0 m pc ls (.int (nI v) :: .int (nI i) :: .ref a :: rest)) := by
  obtain ⟨ws, hP, hD, hj, -⟩ := xk_enum hI.2
  obtain ⟨q0, hq0⟩ := hj a o _ ha
  refine va_iast B.1 B.2.1 B.K.1 hP hD hI.1 q0 0 hq0 rfl (vp_in_nI hi hn) hdg (fun H1 locs1 hP1 hD1 hS1 => ?_)
  rw [xk_upd (by omega) rfl] at hP1
  exact kk _ H1 locs1 xk_Us (fun b hb => xk_Un hb) ⟨hS1, xk_wr hI.2 ha hj hq0 hP1⟩
theorem xk_nz {v : Nat} (h : v ≤ 1) : vp_nar .boolean (nI v) = nI v := by
  rcases (show v = 0 ∨ v = 1 by omega) with rfl | rfl <;> decide
theorem xk_nb {v : Nat} (h : v < 128) : vp_nar .byte (nI v) = nI v := by
  rw [vp_nar_byte]
  revert v
  decide
theorem xk_zast (B : xk_B g p s m args meth c own cc nL) (hI : xk_I g s H X locs) {a : Nat} {o : Nat × Nat} {n : Nat} {f : Nat → Nat} (ha : X a = some (o, xk_iA g 2 n f)) {i v : Nat} (hv : v ≤ 1) (hi : i < n) (hn : n < 2147483648) (hdg : decode cc pc = .ok (.bastore, 1))
    (kk : ∀ (X1 : xk_H) (H1 : Heap) (locs1 : List Loc), X1 a = some (o, xk_iA g 2 n (va_up f i v)) → (∀ b, b ≠ a → X1 b = X b) → xk_I g s H1 X1 locs1 → W p l e R s m args below meth c H1 locs1 cells slots Q (F0 m (pc + 1) ls rest)) : W p l e R s m args below meth c H locs cells slots Q (F0 m pc ls (.int (nI v) :: .int (nI i) :: .ref a :: rest)) := by
  obtain ⟨ws, hP, hD, hj, -⟩ := xk_enum hI.2
  obtain ⟨q0, hq0⟩ := hj a o _ ha
  refine va_zast B.1 B.2.1 B.K.1 hP hD hI.1 q0 2 hq0 rfl (vp_in_nI hi hn) hdg (fun H1 locs1 hP1 hD1 hS1 => ?_)
  rw [xk_upd (by omega) (xk_nz hv)] at hP1
  exact kk _ H1 locs1 xk_Us (fun b hb => xk_Un hb) ⟨hS1, xk_wr hI.2 ha hj hq0 hP1⟩
theorem xk_bast (B : xk_B g p s m args meth c own cc nL) (hI : xk_I g s H X locs) {a : Nat} {o : Nat × Nat} {n : Nat} {f : Nat → Nat} (ha : X a = some (o, xk_iA g 1 n f)) {i v : Nat} (hv : v < 128) (hi : i < n) (hn : n < 2147483648) (hdg : decode cc pc = .ok (.bastore, 1))
    (kk : ∀ (X1 : xk_H) (H1 : Heap) (locs1 : List Loc), X1 a = some (o, xk_iA g 1 n (va_up f i v)) → (∀ b, b ≠ a → X1 b = X b) → xk_I g s H1 X1 locs1 → W p l e R s m args below meth c H1 locs1 cells slots Q (F0 m (pc + 1) ls rest)) : W p l e R s m args below meth c H locs cells slots Q (F0 m pc ls (.int (nI v) :: .int (nI i) :: .ref a :: rest)) := by
  obtain ⟨ws, hP, hD, hj, -⟩ := xk_enum hI.2
  obtain ⟨q0, hq0⟩ := hj a o _ ha
  refine va_bast B.1 B.2.1 B.K.1 hP hD hI.1 q0 1 hq0 rfl (vp_in_nI hi hn) hdg (fun H1 locs1 hP1 hD1 hS1 => ?_)
  rw [xk_upd (by omega) (xk_nb hv)] at hP1
  exact kk _ H1 locs1 xk_Us (fun b hb => xk_Un hb) ⟨hS1, xk_wr hI.2 ha hj hq0 hP1⟩
theorem xk_aald (B : xk_B g p s m args meth c own cc nL) (hI : xk_I g s H X locs) {a : Nat} {o : Nat × Nat} {n : Nat} {f : Nat → Option Nat} (ha : X a = some (o, xk_qA g n f)) {i : Nat} (hi : i < n) (hn : n < 2147483648) (hdg : decode cc pc = .ok (.aaload, 1))
    (kk : W p l e R s m args below meth c H locs cells slots Q (F0 m (pc + 1) ls (va_rf (f i) :: rest))) : W p l e R s m args below meth c H locs cells slots Q (F0 m pc ls (.int (nI i) :: .ref a :: rest)) := by
  refine va_aldq B.1 B.2.1 B.K.1 (xk_one hI.2 ha) 0 3 rfl rfl (vp_in_nI hi hn) hdg ?_
  rw [nI_clamp (by omega)]
  exact kk
theorem xk_alen (B : xk_B g p s m args meth c own cc nL) (hI : xk_I g s H X locs) {a : Nat} {o : Nat × Nat} {t n : Nat} {x : (Nat → Int32) ⊕ (Nat → Int64) ⊕ (Nat → UInt32) ⊕ (Nat → UInt64) ⊕ (Nat → Option Nat)} (ha : X a = some (o, .inl (xk_T g t, n, x))) {ty : FieldType} (ht : (xk_Ty g)[t]? = some (xk_T g t, ty)) (hdg : decode cc pc = .ok (.arraylength, 1))
    (kk : W p l e R s m args below meth c H locs cells slots Q (F0 m (pc + 1) ls (.int (nI n) :: rest))) : W p l e R s m args below meth c H locs cells slots Q (F0 m pc ls (.ref a :: rest)) :=
  va_alen B.1 B.2.1 B.K.1 (xk_one hI.2 ha) 0 t rfl ht rfl hdg kk
/-- a new object; its name is ours to choose -/
theorem xk_newo (B : xk_B g p s m args meth c own cc nL) (hI : xk_I g s H X locs) (ow : Nat → Nat × Nat) {ci : Nat} {C : String} {T : u_T} {N : Nat} (hc : xk_Cl[ci]? = some (C, T, N)) (hin : ∀ w ∈ u_ws C T N, w ∈ lw_all) (ty0 : Nat → FieldType) (hty : ∀ k, k < N → parseFieldDescriptor (T k).2.2.1 = some (ty0 k))
    {index : Nat} (hcl : Cond.classLink own index C ∈ lw_all) (hinst : Cond.instantiable C N ∈ lw_all) (hini : Cond.initialized C ∈ lw_all) {fs : List Value} (hfs : ∀ j, j < N → defaultValue (ty0 j) = vp_V fs j) (hcells : cells + 1 ≤ R.cells) (hslots : slots + N ≤ R.slots) (hdg : decode cc pc = .ok (.new index, 3))
    (kk : ∀ (q : Nat) (X1 : xk_H) (H1 : Heap), X q = none → X1 q = some (ow q, .inr (ci, fs)) → (∀ b, b ≠ q → X1 b = X b) → xk_I g s H1 X1 locs → W p l e R s m args below meth c H1 locs (cells + 1) (slots + N) Q (F0 m (pc + 3) ls (.ref q :: rest))) : W p l e R s m args below meth c H locs cells slots Q (F0 m pc ls rest) := by
  obtain ⟨ws, hP, hD, hj, -⟩ := xk_enum hI.2
  refine va_new B.1 B.2.1 (Ts := lw_all) B.ts hin ty0 hty B.ow (B.ts _ hcl) (B.ts _ hinst) (B.ts _ hini) B.K.1 hP hD hI.1 (fun q hq => Nat.le_trans B.K.2.2.1 hq) hc hfs hcells hslots hdg (fun q H1 hP1 hD1 hS1 => ?_)
  obtain ⟨h0, hR⟩ := xk_new (ow q) hI.2 hj hP1 hD1
  exact kk q _ H1 h0 xk_Us (fun b hb => xk_Un hb) ⟨hS1, hR⟩
/-- the end of a method -/
theorem xk_reti {Qp : Option Value → xk_H → Prop} {mc ms : Nat} (B : xk_B g p s m args meth c own cc nL) (hI : xk_I g s H X locs) {ty : FieldType} (hr : meth.sig.returnType = some ty) {v : Int32} (hn : narrow ty (.int v) = .int v) (hdg : decode cc pc = .ok (.ireturn, 1)) (hc : cells ≤ mc) (hs : slots ≤ ms) (hq : Qp (some (.int v)) X) :
    W p l e R s m args below meth c H locs cells slots (MQ below (xk_Q g Qp) args s mc ms (xk_A g)) (F0 m pc ls [.int v]) :=
  W.widen hc hs (W.zret B.1 B.2.1 hr hn (fun t ht _ => ⟨⟨_, X, rfl, hq, by rw [ht]; exact hI.2⟩, hI.1.F ht⟩) hI.1.2.2 hdg B.lk)
theorem xk_retv {Qp : Option Value → xk_H → Prop} {mc ms : Nat} (B : xk_B g p s m args meth c own cc nL) (hI : xk_I g s H X locs) (hr : meth.sig.returnType = none) (hdg : decode cc pc = .ok (.return_, 1)) (hc : cells ≤ mc) (hs : slots ≤ ms) (hq : Qp none X) :
    W p l e R s m args below meth c H locs cells slots (MQ below (xk_Q g Qp) args s mc ms (xk_A g)) (F0 m pc ls []) :=
  W.widen hc hs (W.vret B.1 B.2.1 hr (fun t ht _ => ⟨⟨_, X, rfl, hq, by rw [ht]; exact hI.2⟩, hI.1.F ht⟩) hI.1.2.2 hdg B.lk)
theorem xk_retr {Qp : Option Value → xk_H → Prop} {mc ms : Nat} (B : xk_B g p s m args meth c own cc nL) (hI : xk_I g s H X locs) {rt : FieldType} (hr : meth.sig.returnType = some rt) (hrt : (∃ n, rt = .object n) ∨ ∃ t, rt = .array t) {v : Value} (hv : v = .null ∨ ∃ a, v = .ref a) (hdg : decode cc pc = .ok (.areturn, 1)) (hc : cells ≤ mc) (hs : slots ≤ ms) (hq : Qp (some v) X) :
    W p l e R s m args below meth c H locs cells slots (MQ below (xk_Q g Qp) args s mc ms (xk_A g)) (F0 m pc ls [v]) :=
  W.widen hc hs (W.aret B.1 B.2.1 hr hrt hv (fun t ht _ => ⟨⟨_, X, rfl, hq, by rw [ht]; exact hI.2⟩, hI.1.F ht⟩) hI.1.2.2 hdg B.lk)
/-- behind a call -/
theorem xk_run {Qp : Option Value → xk_H → Prop} {a : Array Value} {mc ms : Nat} (hr : va_Run p l e R s m args below meth c H locs cells slots mc ms (F0 m pc ls st0) rest (xk_Q g Qp a) (xk_A g)) (hI : xk_I g s H X locs)
    (kk : ∀ (v : Option Value) (X1 : xk_H) (H1 : Heap) (locs1 : List Loc), Qp v X1 → xk_I g s H1 X1 locs1 → W p l e R s m args below meth c H1 locs1 (cells + mc) (slots + ms) Q (F0 m (pc + 3) ls (v.toList ++ rest))) : W p l e R s m args below meth c H locs cells slots Q (F0 m pc ls st0) := by
  intro T hT XT
  have hS := hI.1
  obtain ⟨v, st₀, t, T', L, h0, X', hL, e1, e2, ⟨⟨v', X1, hv, hp, hR⟩, hz, hk⟩, st⟩ := hr T hT XT
  cases hv
  rw [h0] at hz hk
  obtain ⟨t2, a1, b1⟩ := kk _ X1 T'.heap (locs ++ L) hp ⟨⟨Nat.le_trans hS.1 (by rw [e1]; exact hz), fun q h1 h2 => by rw [e1, hk q (Nat.lt_of_lt_of_le h1 hS.1) h2]; exact hS.2.1 q h1 h2, fun q hq => by
      rcases List.mem_append.mp hq with h | h
      · exact hS.2.2 q h
      · exact hL q h⟩, by rw [e1]; exact hR⟩ T' rfl X'
  exact ⟨t2, st t2 a1, b1⟩
theorem xk_ri {r : Int32} {P : xk_H → Prop} {a : Array Value} {mc ms : Nat} (hr : va_Run p l e R s m args below meth c H locs cells slots mc ms (F0 m pc ls st0) rest (xk_Q g (xk_Qi r P) a) (xk_A g)) (hI : xk_I g s H X locs)
    (kk : ∀ (X1 : xk_H) (H1 : Heap) (locs1 : List Loc), P X1 → xk_I g s H1 X1 locs1 → W p l e R s m args below meth c H1 locs1 (cells + mc) (slots + ms) Q (F0 m (pc + 3) ls (.int r :: rest))) : W p l e R s m args below meth c H locs cells slots Q (F0 m pc ls st0) :=
  xk_run hr hI (fun _ X1 H1 locs1 hq hI1 => by obtain ⟨rfl, hq⟩ := hq; exact kk X1 H1 locs1 hq hI1)
theorem xk_rv {P : xk_H → Prop} {a : Array Value} {mc ms : Nat} (hr : va_Run p l e R s m args below meth c H locs cells slots mc ms (F0 m pc ls st0) rest (xk_Q g (xk_Qv P) a) (xk_A g)) (hI : xk_I g s H X locs)
    (kk : ∀ (X1 : xk_H) (H1 : Heap) (locs1 : List Loc), P X1 → xk_I g s H1 X1 locs1 → W p l e R s m args below meth c H1 locs1 (cells + mc) (slots + ms) Q (F0 m (pc + 3) ls rest)) : W p l e R s m args below meth c H locs cells slots Q (F0 m pc ls st0) :=
  xk_run hr hI (fun _ X1 H1 locs1 hq hI1 => by obtain ⟨rfl, hq⟩ := hq; exact kk X1 H1 locs1 hq hI1)
theorem xk_rr {P : Nat → xk_H → Prop} {a : Array Value} {mc ms : Nat} (hr : va_Run p l e R s m args below meth c H locs cells slots mc ms (F0 m pc ls st0) rest (xk_Q g (xk_Qr P) a) (xk_A g)) (hI : xk_I g s H X locs)
    (kk : ∀ (q : Nat) (X1 : xk_H) (H1 : Heap) (locs1 : List Loc), P q X1 → xk_I g s H1 X1 locs1 → W p l e R s m args below meth c H1 locs1 (cells + mc) (slots + ms) Q (F0 m (pc + 3) ls (.ref q :: rest))) : W p l e R s m args below meth c H locs cells slots Q (F0 m pc ls st0) :=
  xk_run hr hI (fun _ X1 H1 locs1 hq hI1 => by obtain ⟨q, rfl, hq⟩ := hq; exact kk q X1 H1 locs1 hq hI1)
theorem xk_rq {r : Option Nat} {P : xk_H → Prop} {a : Array Value} {mc ms : Nat} (hr : va_Run p l e R s m args below meth c H locs cells slots mc ms (F0 m pc ls st0) rest (xk_Q g (xk_Qq r P) a) (xk_A g)) (hI : xk_I g s H X locs)
    (kk : ∀ (X1 : xk_H) (H1 : Heap) (locs1 : List Loc), P X1 → xk_I g s H1 X1 locs1 → W p l e R s m args below meth c H1 locs1 (cells + mc) (slots + ms) Q (F0 m (pc + 3) ls (va_rf r :: rest))) : W p l e R s m args below meth c H locs cells slots Q (F0 m pc ls st0) :=
  xk_run hr hI (fun _ X1 H1 locs1 hq hI1 => by obtain ⟨rfl, hq⟩ := hq; exact kk X1 H1 locs1 hq hI1)
/-- .. that leaves the world as it was -/
theorem xk_ri0 {r : Int32} {a : Array Value} {mc ms : Nat} (hr : va_Run p l e R s m args below meth c H locs cells slots mc ms (F0 m pc ls st0) rest (xk_Q g (xk_Qi r (fun X1 => X1 = X)) a) (xk_A g)) (hI : xk_I g s H X locs)
    (kk : ∀ (H1 : Heap) (locs1 : List Loc), xk_I g s H1 X locs1 → W p l e R s m args below meth c H1 locs1 (cells + mc) (slots + ms) Q (F0 m (pc + 3) ls (.int r :: rest))) : W p l e R s m args below meth c H locs cells slots Q (F0 m pc ls st0) :=
  xk_ri hr hI (fun X1 H1 locs1 hq hI1 => kk H1 locs1 (by rw [← hq]; exact hI1))
theorem xk_rv0 {a : Array Value} {mc ms : Nat} (hr : va_Run p l e R s m args below meth c H locs cells slots mc ms (F0 m pc ls st0) rest (xk_Q g (xk_Qv (fun X1 => X1 = X)) a) (xk_A g)) (hI : xk_I g s H X locs)
    (kk : ∀ (H1 : Heap) (locs1 : List Loc), xk_I g s H1 X locs1 → W p l e R s m args below meth c H1 locs1 (cells + mc) (slots + ms) Q (F0 m (pc + 3) ls rest)) : W p l e R s m args below meth c H locs cells slots Q (F0 m pc ls st0) :=
  xk_rv hr hI (fun X1 H1 locs1 hq hI1 => kk H1 locs1 (by rw [← hq]; exact hI1))
theorem xk_rq0 {r : Option Nat} {a : Array Value} {mc ms : Nat} (hr : va_Run p l e R s m args below meth c H locs cells slots mc ms (F0 m pc ls st0) rest (xk_Q g (xk_Qq r (fun X1 => X1 = X)) a) (xk_A g)) (hI : xk_I g s H X locs)
    (kk : ∀ (H1 : Heap) (locs1 : List Loc), xk_I g s H1 X locs1 → W p l e R s m args below meth c H1 locs1 (cells + mc) (slots + ms) Q (F0 m (pc + 3) ls (va_rf r :: rest))) : W p l e R s m args below meth c H locs cells slots Q (F0 m pc ls st0) :=
  xk_rq hr hI (fun X1 H1 locs1 hq hI1 => kk H1 locs1 (by rw [← hq]; exact hI1))
/-- calls: through an object, static, of a constructor -/
theorem xk_cV (B : xk_B g p s m args meth c own cc nL) (hI : xk_I g s H X locs) {lv : List (Nat × Value)} (hl : lv_has ls nL lv) {y : MethodName} {bytes : ByteArray} {maxL : Nat} {ret : Option FieldType} {rm : Room} {b : Nat} {Qp : Option Value → xk_H → Prop} (As : List Value) (rest : List Value) (n : Nat) (hM : xk_C g y (ws_ y bytes maxL ret) rm (.ref b :: As) X Qp)
    {C : String} {index : Nat} {o : Nat × Nat} {ci : Nat} {fs : List Value} {T : u_T} {N : Nat} (hrv : X b = some (o, .inr (ci, fs))) (hc : xk_Cl[ci]? = some (C, T, N)) (hG : GoodIn lw_all (wsV own index C y (ws_ y bytes maxL ret)))
    (hd : y.cls = C ∧ y.cls ≠ "java/lang/invoke/MethodHandle" ∧ y.cls ≠ "java/lang/invoke/VarHandle" ∧ (parseMethodDescriptor y.desc).map (fun d => d.parameters.length) = some n)
    (hRm : rm.frames + 1 ≤ R.frames ∧ 8 + (maxL + 11) + rm.locals ≤ R.locals) (hn : As.length = n) (hst : st0 = As.reverse ++ .ref b :: rest) (hW : (rest.map fun v => v.category).sum ≤ 8) (hdg : decode cc pc = .ok (.invokevirtual index, 3)) (hfc : cells + rm.cells ≤ R.cells) (hfs : slots + rm.slots ≤ R.slots) :
    va_Run p (xk_l g) e R s m args below meth c H locs cells slots rm.cells rm.slots (F0 m pc ls st0) rest (xk_Q g Qp (Value.ref b :: As).toArray) (xk_A g) :=
  va_runV (As := As) (rest := rest) ⟨B.1, B.2.1, B.2.2.1, B.ow, B.ts⟩ hM (cwV n B.ts hG rfl rfl rfl hd hRm) ⟨xk_blind, va_recv (q0 := 0) B.K.1 (xk_one hI.2 hrv) hc rfl, fun U hU hW => ⟨rfl, xk_K.call B.K hI.1 hU hW, by rw [hU]; exact hI.2⟩⟩ rfl hn hl.1 hst (lv_room hW) hdg ⟨hfc, hfs⟩
theorem xk_cS (B : xk_B g p s m args meth c own cc nL) (hI : xk_I g s H X locs) {lv : List (Nat × Value)} (hl : lv_has ls nL lv) {y : MethodName} {bytes : ByteArray} {maxL : Nat} {ret : Option FieldType} {rm : Room} {Qp : Option Value → xk_H → Prop} (As : List Value) (rest : List Value) (n : Nat) (hM : xk_C g y (ws_ y bytes maxL ret) rm As X Qp)
    {index : Nat} (hG : GoodIn lw_all (va_wsS own index y (ws_ y bytes maxL ret)))
    (hd : y.cls ≠ "java/lang/invoke/MethodHandle" ∧ y.cls ≠ "java/lang/invoke/VarHandle" ∧ (parseMethodDescriptor y.desc).map (fun d => d.parameters.length) = some n)
    (hRm : rm.frames + 1 ≤ R.frames ∧ 8 + (maxL + 11) + rm.locals ≤ R.locals) (hn : As.length = n) (hst : st0 = As.reverse ++ rest) (hW : (rest.map fun v => v.category).sum ≤ 8) (hdg : decode cc pc = .ok (.invokestatic index, 3)) (hfc : cells + rm.cells ≤ R.cells) (hfs : slots + rm.slots ≤ R.slots) :
    va_Run p (xk_l g) e R s m args below meth c H locs cells slots rm.cells rm.slots (F0 m pc ls st0) rest (xk_Q g Qp As.toArray) (xk_A g) :=
  va_runS (As := As) (rest := rest) ⟨B.1, B.2.1, B.2.2.1, B.ow, B.ts⟩ hM (va_cwS n B.ts hG rfl rfl rfl hd hRm) ⟨xk_blind, fun U hU hW => ⟨rfl, xk_K.call B.K hI.1 hU hW, by rw [hU]; exact hI.2⟩⟩ rfl hn hl.1 hst (lv_room hW) hdg ⟨hfc, hfs⟩
theorem xk_cI (B : xk_B g p s m args meth c own cc nL) (hI : xk_I g s H X locs) {lv : List (Nat × Value)} (hl : lv_has ls nL lv) {y : MethodName} {bytes : ByteArray} {maxL : Nat} {rm : Room} {b : Nat} {Qp : Option Value → xk_H → Prop} (As : List Value) (rest : List Value) (n : Nat) (hM : xk_C g y (ws_ y bytes maxL none) rm (.ref b :: As) X Qp)
    {index : Nat} (hcode : Cond.code y bytes maxL none ∈ lw_all) (hini : Cond.initialized y.cls ∈ lw_all) (hlink : Cond.methodLink own index y ∈ lw_all) (hinst : Cond.instanceMethod y ∈ lw_all) (hy1 : y.name = "<init>")
    (hd : y.cls ≠ "java/lang/invoke/MethodHandle" ∧ y.cls ≠ "java/lang/invoke/VarHandle" ∧ (parseMethodDescriptor y.desc).map (fun d => d.parameters.length) = some n)
    (hRm : rm.frames + 1 ≤ R.frames ∧ 8 + (maxL + 11) + rm.locals ≤ R.locals) (hn : As.length = n) (hst : st0 = As.reverse ++ .ref b :: rest) (hW : (rest.map fun v => v.category).sum ≤ 8) (hdg : decode cc pc = .ok (.invokespecial index, 3)) (hfc : cells + rm.cells ≤ R.cells) (hfs : slots + rm.slots ≤ R.slots) :
    va_Run p (xk_l g) e R s m args below meth c H locs cells slots rm.cells rm.slots (F0 m pc ls st0) rest (xk_Q g Qp (Value.ref b :: As).toArray) (xk_A g) :=
  va_runI (As := As) (rest := rest) ⟨B.1, B.2.1, B.2.2.1, B.ow, B.ts⟩ hM (cwI n B.ts (lw_meth hcode) rfl rfl rfl (B.ts _ hini) (B.ts _ hlink) (B.ts _ hinst) hy1 hd hRm) ⟨xk_blind, fun U hU hW => ⟨rfl, xk_K.call B.K hI.1 hU hW, by rw [hU]; exact hI.2⟩⟩ rfl hn hl.1 hst (lv_room hW) hdg ⟨hfc, hfs⟩
end XK
