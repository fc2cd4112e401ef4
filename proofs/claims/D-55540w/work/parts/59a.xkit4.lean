/-! MORE ROWS: the start's own cells, statics, casts, references, arraycopy, calls of inherited, nest mates' and interfaces' methods, contracts that throw -/
set_option maxRecDepth 100000
/-- a cell of the start's heap, that nobody writes -/
def xk_old (g : xk_G) (a : Nat) (z : va_E) : Prop := a < (xk_s g).heap.size ∧ va_at (xk_D g) xk_Cl (a, z) (xk_s g).heap
/-- an object's cell, as a heap of Objects takes it -/
def xk_ob (s : State) (H : Heap) (v : Nat) : Prop := ∃ cv : Cell, H[v]? = some cv ∧ cv.vm = .none ∧ (∃ kv : Class, s.vm.classes[cv.cls]? = some kv) ∧ ∀ comp : ClassId, s.vm.findClass "java/lang/Object" = some comp → s.vm.assignable cv.cls comp = true
theorem xk_K.nwC {g : xk_G} {s : State} (h : xk_K g s) {C T : String} (hw : Cond.castable C T ∈ lw_tbl) : va_Nw (.castable C T) s := va_Nw.warmC h.2.1 (va_Nw.of rfl (h.2.2.2.2.2.1 _ hw))
theorem xk_K.nwM {g : xk_G} {s : State} (h : xk_K g s) {a : String} {i : Nat} {x : MethodName} {b : String} (hw : Cond.methodLinkNest a i x b ∈ lw_tbl) : va_Nw (.methodLinkNest a i x b) s := va_Nw.warmM h.2.1 (va_Nw.of rfl (h.2.2.2.2.2.1 _ hw))
theorem xk_K.nwF {g : xk_G} {s : State} (h : xk_K g s) {a : String} {i : Nat} {b n d z : String} (hw : Cond.fieldLinkNest a i b n d z ∈ lw_tbl) : va_Nw (.fieldLinkNest a i b n d z) s := va_Nw.warmF h.2.1 (va_Nw.of rfl (h.2.2.2.2.2.1 _ hw))
theorem xk_K.fw {g : xk_G} {s : State} (h : xk_K g s) {C : String} {x y : MethodName} (hx : x.cls ≠ "java/lang/invoke/MethodHandle" ∧ x.cls ≠ "java/lang/invoke/VarHandle") (h1 : Cond.declares x ∈ lw_tbl) (h2 : Cond.interfaceMethod x.cls x.cls x.name x.desc ∈ lw_tbl) (h3 : Cond.publicMethod y ∈ lw_tbl) (h4 : Cond.unhidden C x.name x.desc ∈ lw_tbl) (h5 : Cond.castable C x.cls ∈ lw_tbl) : va_Fw C x y s :=
  va_Fw.moved hx h.2.1.alike (va_Fw.of (h.2.2.2.2.2.1 _ h1) (h.2.2.2.2.2.1 _ h2) (h.2.2.2.2.2.1 _ h3) (h.2.2.2.2.2.1 _ h4) (h.2.2.2.2.2.1 _ h5))
/-- statics of the start -/
def xk_Z (g : xk_G) (C n d : String) (v : Value) : Prop := va_Z C n d v (xk_A g) (xk_s g) (xk_s g).heap
def xk_st (g : xk_G) (C n d : String) : Nat := match (Term.static C n d).eval (xk_a g) (xk_s g) none [] (xk_s g) with
  | some (.ref a) => a
  | _ => 0
theorem xk_0.nar {g : xk_G} (h : xk_0 g) : ∀ w ∈ flatC (Jvm.Cond.and given_1 narrow_1), w.before (xk_a g) (xk_s g) = true := flat_of_before _ h.2.2
theorem xk_0.Z {g : xk_G} (h : xk_0 g) {C n d : String} {v : Value} (hl : Cond.laysStatic C n d ∈ lw_tbl) (hi : Cond.initialized C ∈ lw_all) (hv : (Term.static C n d).eval (xk_a g) (xk_s g) none [] (xk_s g) = some v) : xk_Z g C n d v := va_Zof (h.2.1 _ hl) (h.2.1 _ (lw_all_tbl hi)) hv (fun a ha hz => Nat.not_le.mpr ha hz)
theorem xk_0.Zi {g : xk_G} (h : xk_0 g) {C n d : String} {z : Int32} (hl : Cond.laysStatic C n d ∈ lw_tbl) (hi : Cond.initialized C ∈ lw_all) (hn : Cond.eq (.static C n d) (.int z) ∈ flatC (Jvm.Cond.and given_1 narrow_1)) : xk_Z g C n d (.int z) := h.Z hl hi (va_eqi (h.nar _ hn))
theorem xk_0.Zq {g : xk_G} (h : xk_0 g) {C n d : String} (hl : Cond.laysStatic C n d ∈ lw_tbl) (hi : Cond.initialized C ∈ lw_all) (hn : Cond.isRef (.static C n d) ∈ flatC (Jvm.Cond.and given_1 narrow_1)) : ∃ r : Option Nat, xk_Z g C n d (va_rf r) := by
  obtain ⟨v, hv, hr⟩ := Cond.isRef_spec (h.nar _ hn)
  cases v with
  | null => exact ⟨none, h.Z hl hi hv⟩
  | ref a => exact ⟨some a, h.Z hl hi hv⟩
  | _ => cases hr
section X4
variable {g : xk_G} {p : Program} {e : Env} {R : Room} {s : State} {m : MethodId} {args : Array Value} {below : List Frame} {meth : Method} {c : Code} {H : Heap} {locs : List Loc} {cells slots : Nat} {Q : State → Prop}
variable {cc : ByteArray} {pc nL : Nat} {own : String} {ls : Array Slot} {rest st0 : List Value} {X : xk_H} {l : Launch}
theorem xk_H0 (B : xk_B g p s m args meth c own cc nL) (hI : xk_I g s H X locs) {a : Nat} (h : a < (xk_s g).heap.size) : H[a]? = (xk_s g).heap[a]? :=
  (hI.1.2.1 a (Nat.lt_of_lt_of_le h B.K.2.2.1) (fun z => Nat.not_le.mpr h z)).trans (B.K.2.2.2.1 a h)
theorem xk_oneO (B : xk_B g p s m args meth c own cc nL) (hI : xk_I g s H X locs) {a : Nat} {z : va_E} (h : xk_old g a z) : va_P (xk_D g) xk_Cl [(a, z)] H := by
  intro k q hk
  have hz : k < 1 := (List.getElem?_eq_some_iff.mp hk).1
  rw [show k = 0 by omega] at hk
  cases hk
  exact h.2.kept (xk_H0 B hI h.1)
theorem xk_Zm (B : xk_B g p s m args meth c own cc nL) {C n d : String} {v : Value} (hZ : xk_Z g C n d v) : va_Z C n d v (xk_A g) s s.heap := (va_Z.moved B.K.2.1.alike hZ).kept (fun a ha _ => B.K.2.2.2.1 a ha)
theorem xk_Tm (B : xk_B g p s m args meth c own cc nL) {ty : FieldType} {t N : Nat} {f : Nat → Value} (hT : va_T ty t N f (xk_A g) (xk_s g) (xk_s g).heap) : va_T ty t N f (xk_A g) s s.heap := (va_T.moved B.K.2.1.alike hT).kept (fun a ha _ => B.K.2.2.2.1 a ha)
theorem xk_gets (B : xk_B g p s m args meth c own cc nL) (hI : xk_I g s H X locs) {C n d : String} {v : Value} {index : Nat} (hZ : xk_Z g C n d v) (hlink : Cond.fieldLink own index C n d ∈ lw_all) (hdg : decode cc pc = .ok (.getstatic index, 3))
    (kk : W p l e R s m args below meth c H locs cells slots Q (F0 m (pc + 3) ls (v :: rest))) : W p l e R s m args below meth c H locs cells slots Q (F0 m pc ls rest) :=
  va_gets B.1 B.2.1 (xk_Zm B hZ) hI.1 B.ow (B.ts _ hlink) (fun _ h => h) hdg kk
/-- an old array of bytes, an old array's length -/
theorem xk_baldO (B : xk_B g p s m args meth c own cc nL) (hI : xk_I g s H X locs) {a n : Nat} {f : Nat → Value} (hT : va_T .byte a n f (xk_A g) (xk_s g) (xk_s g).heap) {i : Nat} {v : Value} (hi : i < n) (hn : n < 2147483648) (hv : f i = v) (hdg : decode cc pc = .ok (.baload, 1))
    (kk : W p l e R s m args below meth c H locs cells slots Q (F0 m (pc + 1) ls (v :: rest))) : W p l e R s m args below meth c H locs cells slots Q (F0 m pc ls (.int (nI i) :: .ref a :: rest)) :=
  va_tb B.1 B.2.1 (xk_Tm B hT) hI.1 (vp_in_nI hi hn) (by rw [nI_clamp (by omega)]; exact hv) hdg kk
theorem xk_alenO (B : xk_B g p s m args meth c own cc nL) (hI : xk_I g s H X locs) {a n : Nat} {ty : FieldType} {f : Nat → Value} (hT : va_T ty a n f (xk_A g) (xk_s g) (xk_s g).heap) (hdg : decode cc pc = .ok (.arraylength, 1))
    (kk : W p l e R s m args below meth c H locs cells slots Q (F0 m (pc + 1) ls (.int (nI n) :: rest))) : W p l e R s m args below meth c H locs cells slots Q (F0 m pc ls (.ref a :: rest)) :=
  va_tlen B.1 B.2.1 (xk_Tm B hT) hI.1 rfl hdg kk
theorem xk_getO (B : xk_B g p s m args meth c own cc nL) (hI : xk_I g s H X locs) {a : Nat} {ci : Nat} {fs : List Value} (ha : xk_old g a (.inr (ci, fs))) {C : String} {T : u_T} {N : Nat} (hc : xk_Cl[ci]? = some (C, T, N)) (hin : ∀ w ∈ u_ws C T N, w ∈ lw_all)
    (k : Nat) (hk : k < N) {index : Nat} (hlink : Cond.fieldLink own index (T k).1 (T k).2.1 (T k).2.2.1 ∈ lw_all) {v : Value} (hv : fs[k]? = some v) (hdg : decode cc pc = .ok (.getfield index, 3))
    (kk : W p l e R s m args below meth c H locs cells slots Q (F0 m (pc + 3) ls (v :: rest))) : W p l e R s m args below meth c H locs cells slots Q (F0 m pc ls (.ref a :: rest)) :=
  va_get B.1 B.2.1 (Ts := lw_all) B.ts hin B.ow B.K.1 (xk_oneO B hI ha) 0 rfl hc k hk (B.ts _ hlink) (fun _ h => h) hv hdg kk
/-- a field that the reference names by a subclass -/
theorem xk_getU (B : xk_B g p s m args meth c own cc nL) (hI : xk_I g s H X locs) {a : Nat} {o : Nat × Nat} {ci : Nat} {fs : List Value} (ha : X a = some (o, .inr (ci, fs))) {C : String} {T : u_T} {N : Nat} (hc : xk_Cl[ci]? = some (C, T, N)) (hin : ∀ w ∈ u_ws C T N, w ∈ lw_all)
    (k : Nat) (hk : k < N) {index : Nat} {ref : String} (hlink : Cond.fieldLink own index ref (T k).2.1 (T k).2.2.1 ∈ lw_all) (hsame : ∀ x, s.fieldFound? (T k).1 (T k).2.1 (T k).2.2.1 = some x → s.fieldFound? ref (T k).2.1 (T k).2.2.1 = some x) {v : Value} (hv : fs[k]? = some v) (hdg : decode cc pc = .ok (.getfield index, 3))
    (kk : W p l e R s m args below meth c H locs cells slots Q (F0 m (pc + 3) ls (v :: rest))) : W p l e R s m args below meth c H locs cells slots Q (F0 m pc ls (.ref a :: rest)) :=
  va_get B.1 B.2.1 (Ts := lw_all) B.ts hin B.ow B.K.1 (xk_one hI.2 ha) 0 rfl hc k hk (B.ts _ hlink) hsame hv hdg kk
/-- a nest mate's private field -/
theorem xk_getN (B : xk_B g p s m args meth c own cc nL) (hI : xk_I g s H X locs) {a : Nat} {o : Nat × Nat} {ci : Nat} {fs : List Value} (ha : X a = some (o, .inr (ci, fs))) {C : String} {T : u_T} {N : Nat} (hc : xk_Cl[ci]? = some (C, T, N)) (hin : ∀ w ∈ u_ws C T N, w ∈ lw_all)
    (k : Nat) (hk : k < N) {index : Nat} {host : String} (hlink : Cond.fieldLinkNest own index (T k).1 (T k).2.1 (T k).2.2.1 host ∈ lw_tbl) {v : Value} (hv : fs[k]? = some v) (hdg : decode cc pc = .ok (.getfield index, 3))
    (kk : W p l e R s m args below meth c H locs cells slots Q (F0 m (pc + 3) ls (v :: rest))) : W p l e R s m args below meth c H locs cells slots Q (F0 m pc ls (.ref a :: rest)) :=
  va_getN B.1 B.2.1 (Ts := lw_all) B.ts hin B.ow B.K.1 (xk_one hI.2 ha) 0 rfl hc k hk (va_Nw.use rfl (B.K.nwF hlink)) (fun _ h => h) hv hdg kk
theorem xk_cast (B : xk_B g p s m args meth c own cc nL) (hI : xk_I g s H X locs) {a : Nat} {o : Nat × Nat} {ci : Nat} {fs : List Value} (ha : X a = some (o, .inr (ci, fs))) {C : String} {T : u_T} {N : Nat} (hc : xk_Cl[ci]? = some (C, T, N)) {nm : String} {index : Nat} (hlink : Cond.classLink own index nm ∈ lw_all) (hcast : Cond.castable C nm ∈ lw_tbl) (hdg : decode cc pc = .ok (.checkcast index, 3))
    (kk : W p l e R s m args below meth c H locs cells slots Q (F0 m (pc + 3) ls (.ref a :: rest))) : W p l e R s m args below meth c H locs cells slots Q (F0 m pc ls (.ref a :: rest)) :=
  va_castY B.1 B.2.1 B.ow (B.ts _ hlink) (B.K.nwC hcast) (va_recv (q0 := 0) B.K.1 (xk_one hI.2 ha) hc rfl) hdg kk
/-- comparing references, null -/
theorem xk_acmp_eq (hx : p.tables.exec = Jvm.exec) (hb : c.code = cc) {x y : Nat} {off : Int} {tgt : Nat} (hdg : decode cc pc = .ok (.if_acmp .eq off, 3)) (ht : (pc : Int) + off = (tgt : Int))
    (kt : x = y → W p l e R s m args below meth c H locs cells slots Q (F0 m tgt ls rest)) (kf : ¬ x = y → W p l e R s m args below meth c H locs cells slots Q (F0 m (pc + 3) ls rest)) : W p l e R s m args below meth c H locs cells slots Q (F0 m pc ls (.ref y :: .ref x :: rest)) :=
  lv_acmp_eq (rx := some x) (ry := some y) hx hb hdg ht (fun h => kt (Option.some.inj h)) (fun h => kf (fun z => h (congrArg some z)))
theorem xk_acmp_ne (hx : p.tables.exec = Jvm.exec) (hb : c.code = cc) {x y : Nat} {off : Int} {tgt : Nat} (hdg : decode cc pc = .ok (.if_acmp .ne off, 3)) (ht : (pc : Int) + off = (tgt : Int))
    (kt : ¬ x = y → W p l e R s m args below meth c H locs cells slots Q (F0 m tgt ls rest)) (kf : x = y → W p l e R s m args below meth c H locs cells slots Q (F0 m (pc + 3) ls rest)) : W p l e R s m args below meth c H locs cells slots Q (F0 m pc ls (.ref y :: .ref x :: rest)) :=
  lv_acmp_ne (rx := some x) (ry := some y) hx hb hdg ht (fun h => kt (fun z => h (congrArg some z))) (fun h => kf (Option.some.inj h))
theorem xk_ifnull (hx : p.tables.exec = Jvm.exec) (hb : c.code = cc) {r : Option Nat} {off : Int} {tgt : Nat} (hdg : decode cc pc = .ok (.ifnull off, 3)) (ht : (pc : Int) + off = (tgt : Int))
    (kt : r = none → W p l e R s m args below meth c H locs cells slots Q (F0 m tgt ls rest)) (kf : ∀ a : Nat, r = some a → W p l e R s m args below meth c H locs cells slots Q (F0 m (pc + 3) ls rest)) : W p l e R s m args below meth c H locs cells slots Q (F0 m pc ls (va_rf r :: rest)) := by
  cases r with
  | none => exact lv_ifnullN hx hb hdg ht (kt rfl)
  | some a => exact lv_ifnull hx hb hdg (kf a rfl)
theorem xk_ifnonnull (hx : p.tables.exec = Jvm.exec) (hb : c.code = cc) {r : Option Nat} {off : Int} {tgt : Nat} (hdg : decode cc pc = .ok (.ifnonnull off, 3)) (ht : (pc : Int) + off = (tgt : Int))
    (kt : ∀ a : Nat, r = some a → W p l e R s m args below meth c H locs cells slots Q (F0 m tgt ls rest)) (kf : r = none → W p l e R s m args below meth c H locs cells slots Q (F0 m (pc + 3) ls rest)) : W p l e R s m args below meth c H locs cells slots Q (F0 m pc ls (va_rf r :: rest)) := by
  cases r with
  | none => exact lv_ifnonnullN hx hb hdg (kf rfl)
  | some a => exact lv_ifnonnull hx hb hdg ht (kt a rfl)
/-- storing an object -/
theorem xk_obI (B : xk_B g p s m args meth c own cc nL) (hI : xk_I g s H X locs) {a : Nat} {o : Nat × Nat} {ci : Nat} {fs : List Value} (ha : X a = some (o, .inr (ci, fs))) {C : String} {T : u_T} {N : Nat} (hc : xk_Cl[ci]? = some (C, T, N)) (hcast : Cond.castable C "java/lang/Object" ∈ lw_tbl) : xk_ob s H a := by
  obtain ⟨r, h1, cell, q1, q2, q3, q4⟩ := xk_one hI.2 ha 0 _ rfl
  have hr : r = (C, T, N) := Option.some.inj (h1.symm.trans hc)
  subst hr
  obtain ⟨hS, hfc, kC, hkC, hkind⟩ := B.K.1.1 ci _ hc
  obtain ⟨c0, t0, f1, f2, f3⟩ := Cond.castable_spec (va_Nw.use (A := args) rfl (B.K.nwC hcast))
  cases Option.some.inj (f1.symm.trans hfc)
  exact ⟨cell, q1, q3, ⟨kC, by rw [q2]; exact hkC⟩, fun comp hcomp => by cases Option.some.inj (hcomp.symm.trans f2); rw [q2]; exact f3⟩
theorem xk_aastO (B : xk_B g p s m args meth c own cc nL) (hI : xk_I g s H X locs) {a v : Nat} {o : Nat × Nat} {n : Nat} {f : Nat → Option Nat} (ha : X a = some (o, xk_qA g n f)) (hv : xk_ob s H v) {i : Nat} (hi : i < n) (hn : n < 2147483648) (hdg : decode cc pc = .ok (.aastore, 1))
    (kk : ∀ (X1 : xk_H) (H1 : Heap) (locs1 : List Loc), X1 a = some (o, xk_qA g n (va_up f i (some v))) → (∀ b, b ≠ a → X1 b = X b) → xk_I g s H1 X1 locs1 → W p l e R s m args below meth c H1 locs1 cells slots Q (F0 m (pc + 1) ls rest)) : W p l e R s m args below meth c H locs cells slots Q (F0 m pc ls (.ref v :: .int (nI i) :: .ref a :: rest)) := by
  obtain ⟨ws, hP, hD, hj, -⟩ := xk_enum hI.2
  obtain ⟨q0, hq0⟩ := hj a o _ ha
  obtain ⟨cv, g1, g2, ⟨kv, hkv⟩, g3⟩ := hv
  obtain ⟨kA, comp, k1, k2, k3, -⟩ := (B.K.1.2 3 (xk_T g 3, .object "java/lang/Object") rfl).2
  obtain ⟨k9, h9, -⟩ := Vm.findClass_spec k3
  have hcl : (nI i).toNatClampNeg = i := nI_clamp (by omega)
  refine W.aast (v := v) (j := nI i) B.1 B.2.1 (hP q0 _ hq0) (fun q h => by cases h) (fun h => by cases h) k1 k2 rfl h9 ⟨nI_pos (by omega), by show _ < (arrV _ _ _).slots.size; rw [arrV_size, hcl]; exact hi⟩ g1 (fun q h => by rw [g2] at h; cases h) hkv (g3 _ k3) rfl rfl hdg fun H1 e1 z oq => ?_
  rw [hcl] at e1 ⊢
  refine kk _ H1 _ xk_Us (fun b hb => xk_Un hb) ⟨hI.1.put z oq (hD.2 q0 _ hq0), xk_wr hI.2 ha hj hq0 (hP.set hD hq0 ?_ oq)⟩
  show H1[a]? = some (vp_cell _ _)
  rw [e1]
  show some ((vp_cell (xk_T g 3) (n, .inr (.inr (.inr (.inr f))))).setSlot i (.ref v)) = _
  rw [vp_cell_q, vp_cell_q, arrV_store]
  congr 2
  funext q
  by_cases hq : q = i
  · subst hq
    simp [updV, va_up, va_rf]
  · simp [updV, va_up, hq]
end X4
