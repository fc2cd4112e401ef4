/-! exceptions of our own: fresh objects, their constructors, wants, refuseIf -/
set_option maxRecDepth 100000
def xk_frH (g : xk_G) (ci a : Nat) (s : State) (H : Heap) : Prop := ∃ kC : Class, s.vm.classes[(xk_D g).1 ci]? = some kC ∧ H[a]? = some (freshCell ((xk_D g).1 ci) kC)
def xk_PM (g : xk_G) (ci a : Nat) (av : List Value) (X : xk_H) : Array Value → State → Prop := fun v U => xk_P g av X v U ∧ xk_fr0 g ci a U
/-- a constructor's contract on a fresh object -/
def xk_CM (g : xk_G) (y : MethodName) (ws : List Cond) (rm : Room) (ci a : Nat) (av : List Value) (X : xk_H) (Qp : Option Value → xk_H → Prop) : Prop := Met (xk_l g) y ws rm (xk_PM g ci a av X) (xk_Q g Qp) rm.cells rm.slots (xk_A g)
theorem xk_blindM {g : xk_G} {ci a : Nat} {av : List Value} {X : xk_H} : FrameBlind (xk_PM g ci a av X) := fun v U gg mk h => ⟨xk_blind v U gg mk h.1, h.2⟩
def tb_wr (E : String) (q : Nat) (X1 : xk_H) (code : Int32) : Prop := E = RX3 ∧ ∃ (ow : Nat × Nat) (fs : List Value), X1 q = some (ow, .inr (8, fs)) ∧ fs[6]? = some (.int code)
def tb_re (E : String) (q : Nat) (X1 : xk_H) (x y : Int32) : Prop := E = RX4 ∧ ∃ (ow : Nat × Nat) (fs : List Value), X1 q = some (ow, .inr (9, fs)) ∧ fs[6]? = some (.int x) ∧ fs[7]? = some (.int y)
def tb_sy (E : String) (q : Nat) (X1 : xk_H) (x : Int32) : Prop := E = RX10 ∧ ∃ (ow : Nat × Nat) (fs : List Value), X1 q = some (ow, .inr (10, fs)) ∧ fs[6]? = some (.int x)
section XM
variable {g : xk_G} {p : Program} {e : Env} {R : Room} {s : State} {m : MethodId} {args : Array Value} {below : List Frame} {meth : Method} {c : Code} {H : Heap} {locs : List Loc} {cells slots : Nat} {Q : State → Prop}
variable {cc : ByteArray} {pc nL : Nat} {own : String} {ls : Array Slot} {rest st0 : List Value} {X : xk_H} {l : Launch}
theorem xk_newoF (B : xk_B g p s m args meth c own cc nL) (hI : xk_I g s H X locs) (ow : Nat → Nat × Nat) {ci : Nat} {C : String} {T : u_T} {N : Nat} (hc : xk_Cl[ci]? = some (C, T, N)) (hin : ∀ w ∈ u_ws C T N, w ∈ lw_all) (ty0 : Nat → FieldType) (hty : ∀ k, k < N → parseFieldDescriptor (T k).2.2.1 = some (ty0 k))
    {index : Nat} (hcl : Cond.classLink own index C ∈ lw_all) (hinst : Cond.instantiable C N ∈ lw_all) (hini : Cond.initialized C ∈ lw_all) {fs : List Value} (hfs : ∀ j, j < N → defaultValue (ty0 j) = vp_V fs j) (hcells : cells + 1 ≤ R.cells) (hslots : slots + N ≤ R.slots) (hdg : decode cc pc = .ok (.new index, 3))
    (kk : ∀ (q : Nat) (X1 : xk_H) (H1 : Heap), X q = none → X1 q = some (ow q, .inr (ci, fs)) → (∀ b, b ≠ q → X1 b = X b) → xk_I g s H1 X1 locs → xk_frH g ci q s H1 → W p l e R s m args below meth c H1 locs (cells + 1) (slots + N) Q (F0 m (pc + 3) ls (.ref q :: rest))) : W p l e R s m args below meth c H locs cells slots Q (F0 m pc ls rest) := by
  obtain ⟨ws, hP, hD, hj, -⟩ := xk_enum hI.2
  have hKn := B.K.1.1 ci _ hc
  refine W.newcK B.1 B.2.1 B.ow (B.ts _ hcl) (B.ts _ hinst) (B.ts _ hini) rfl hdg hcells hslots hKn.2.1 rfl fun H1 kC hkC e1 z1 o1 => ?_
  have hk : ∀ (k : Nat) (x : Nat × va_E), ws[k]? = some x → H1[x.1]? = H[x.1]? := fun k x hx => o1 x.1 ((hP k x hx).lt)
  have hP1 : va_P (xk_D g) xk_Cl (ws ++ [(H.size, .inr (ci, fs))]) H1 := (hP.kept hk).app (fun k x hx => by
    have hz : k < 1 := (List.getElem?_eq_some_iff.mp hx).1
    rw [show k = 0 by omega] at hx
    cases hx
    exact ⟨_, hc, (u_born ty0 B.ts hin hKn hkC e1 hty).to hfs⟩)
  have hD1 : va_D (xk_A g) (ws ++ [(H.size, .inr (ci, fs))]) := hD.push hP rfl (Nat.le_trans B.K.2.2.1 hI.1.1)
  obtain ⟨h0, hR⟩ := xk_new (ow H.size) hI.2 hj hP1 hD1
  exact kk H.size _ H1 h0 xk_Us (fun b hb => xk_Un hb) ⟨⟨Nat.le_trans hI.1.1 (by omega), fun x h1 h2 => (o1 x (Nat.lt_of_lt_of_le h1 hI.1.1)).trans (hI.1.2.1 x h1 h2), hI.1.2.2⟩, hR⟩ ⟨kC, hkC, e1⟩
theorem xk_cIM (B : xk_B g p s m args meth c own cc nL) (hI : xk_I g s H X locs) {lv : List (Nat × Value)} (hl : lv_has ls nL lv) {y : MethodName} {bytes : ByteArray} {maxL : Nat} {rm : Room} {b ci : Nat} {Qp : Option Value → xk_H → Prop} (As : List Value) (rest : List Value) (n : Nat) (hM : xk_CM g y (ws_ y bytes maxL none) rm ci b (.ref b :: As) X Qp) (hfr : xk_frH g ci b s H)
    {index : Nat} (hcode : Cond.code y bytes maxL none ∈ lw_all) (hini : Cond.initialized y.cls ∈ lw_all) (hlink : Cond.methodLink own index y ∈ lw_all) (hinst : Cond.instanceMethod y ∈ lw_all) (hy1 : y.name = "<init>")
    (hd : y.cls ≠ "java/lang/invoke/MethodHandle" ∧ y.cls ≠ "java/lang/invoke/VarHandle" ∧ (parseMethodDescriptor y.desc).map (fun d => d.parameters.length) = some n)
    (hRm : rm.frames + 1 ≤ R.frames ∧ 8 + (maxL + 11) + rm.locals ≤ R.locals) (hn : As.length = n) (hst : st0 = As.reverse ++ .ref b :: rest) (hW : (rest.map fun v => v.category).sum ≤ 8) (hdg : decode cc pc = .ok (.invokespecial index, 3)) (hfc : cells + rm.cells ≤ R.cells) (hfs : slots + rm.slots ≤ R.slots) :
    va_Run p (xk_l g) e R s m args below meth c H locs cells slots rm.cells rm.slots (F0 m pc ls st0) rest (xk_Q g Qp (Value.ref b :: As).toArray) (xk_A g) :=
  va_runI (As := As) (rest := rest) ⟨B.1, B.2.1, B.2.2.1, B.ow, B.ts⟩ hM (cwI n B.ts (lw_meth hcode) rfl rfl rfl (B.ts _ hini) (B.ts _ hlink) (B.ts _ hinst) hy1 hd hRm) ⟨xk_blindM, fun U hU hW => ⟨⟨rfl, xk_K.call B.K hI.1 hU hW, by rw [hU]; exact hI.2⟩, by
    obtain ⟨kC, h1, h2⟩ := hfr
    obtain ⟨kC', h3, h4⟩ := hW.alike.2.2 _ _ h1
    refine ⟨kC', h3, ?_⟩
    rw [hU, h2]
    rw [h4]⟩⟩ rfl hn hl.1 hst (lv_room hW) hdg ⟨hfc, hfs⟩
theorem xk_ofWM {y : MethodName} {maxL : Nat} {ret : Option FieldType} {rm : Room} {ci a : Nat} {av : List Value} {Qp : Option Value → xk_H → Prop} (hy : plainName y.cls = true) (hpl : (lg_sl av).length ≤ maxL)
    (body : ∀ (p : Program) (e : Env) (s : State) (m : MethodId) (args : Array Value) (below : List Frame) (meth : Method) (c : Code), xk_B g p s m args meth c y.cls cc maxL → meth.sig.returnType = ret → meth.name = y.name → args = av.toArray → xk_I g s s.heap X [] → xk_fr0 g ci a s → ∀ ls : Array Slot, lv_has ls maxL (lv_args 0 av) →
      W p (xk_l g) e rm s m args below meth c s.heap [] 0 0 (MQ below (xk_Q g Qp) args s rm.cells rm.slots (xk_A g)) (F0 m 0 ls [])) : xk_CM g y (ws_ y cc maxL ret) rm ci a av X Qp := by
  refine Met.ofW (cc := cc) (maxL := maxL) (ret := ret) hy rfl ?_
  intro p e s m args below meth c s₁ B hml hv
  obtain ⟨⟨rfl, hK, hR⟩, hfr⟩ := hv
  have hts := atoms_spec (ws := ws_ y cc maxL ret) B.pre
  rw [lg_entry_eq]
  exact body p e s m _ below meth c ⟨B.exec, B.bytes, hml, findClass_of_methodNamed B.named, fun w h => hts w (List.mem_cons_of_mem _ h), B.notSynchronized, hK⟩ B.returns (name_of_methodNamed B.named B.method).1 rfl ⟨va_S.rf, hR⟩ hfr _ (lv_entry av hpl)
end XM
set_option maxHeartbeats 4000000 in
theorem cx_wrong (g : xk_G) {X : xk_H} {a : Nat} {ow : Nat × Nat} {x : Int32} (hO : X a = some (ow, .inr (8, [.null, .null, .null, .null, .null, .int (nI 0), .int (nI 0)]))) : xk_CM g yX3_init (ws_ yX3_init cX3_init 2 none) ({ frames := 4, cells := 0, slots := 0, locals := 60 } : Room) 8 a [.ref a, .int x] X (xk_Qv (fun X1 => (∃ fs : List Value, X1 a = some (ow, .inr (8, fs)) ∧ fs[6]? = some (.int x)) ∧ xk_f1 ow X X1)) := by
  refine xk_ofWM (by decide +kernel) (Nat.le_of_ble_eq_true rfl) (fun p e s m args below meth c B hr hname hargs hI hfr ls hl => ?_)
  have B : xk_B g p s m args meth c RX3 cX3_init 2 := B
  have hl : lv_has ls 2 [(0, .ref a), (1, .int x)] := hl
  have hx := B.1
  have hb := B.2.1
  refine lv_aload_n hx hb dX3_init_0 rfl (lv_at hl 0 rfl) ?_
  refine xk_superX B hI hO rfl hfr q269 q275 q276 q277 q279 q281 q285 (B.2.2.1.trans hl.1.symm) q310 (Nat.le_of_ble_eq_true rfl) (Nat.le_of_ble_eq_true rfl) dX3_init_1 (fun fs0 X1 H1 L1 hlen h1 hn1 hI1 => ?_)
  have hfm0 : xk_f1 ow X X1 := xk_fx.put xk_fx.rf hn1 hO (Or.inl rfl)
  refine lv_aload_n hx hb dX3_init_4 rfl (lv_at hl 0 rfl) ?_
  refine lv_iload_n hx hb dX3_init_5 rfl (lv_at hl 1 rfl) ?_
  refine xk_putF B hI1 hname h1 rfl in_X3 tyX3 tyX3_ok nmX3 6 (by decide) q314 rfl rfl rfl rfl (by simp [hlen]) dX3_init_6 (fun X2 H2 L2 h2 hn2 hI2 => ?_)
  have hfm1 : xk_f1 ow X X2 := xk_fx.put hfm0 hn2 h1 (Or.inl rfl)
  exact xk_retv B hI2 hr dX3_init_9 (Nat.le_of_ble_eq_true rfl) (Nat.le_of_ble_eq_true rfl) (⟨rfl, ⟨_, h2, by simp [hlen]⟩, hfm1⟩)
set_option maxHeartbeats 4000000 in
theorem cx_refusal (g : xk_G) {X : xk_H} {a : Nat} {ow : Nat × Nat} {x y : Int32} (hO : X a = some (ow, .inr (9, [.null, .null, .null, .null, .null, .int (nI 0), .int (nI 0), .int (nI 0)]))) : xk_CM g yX4_init (ws_ yX4_init cX4_init 3 none) ({ frames := 4, cells := 0, slots := 0, locals := 60 } : Room) 9 a [.ref a, .int x, .int y] X (xk_Qv (fun X1 => (∃ fs : List Value, X1 a = some (ow, .inr (9, fs)) ∧ fs[6]? = some (.int x) ∧ fs[7]? = some (.int y)) ∧ xk_f1 ow X X1)) := by
  refine xk_ofWM (by decide +kernel) (Nat.le_of_ble_eq_true rfl) (fun p e s m args below meth c B hr hname hargs hI hfr ls hl => ?_)
  have B : xk_B g p s m args meth c RX4 cX4_init 3 := B
  have hl : lv_has ls 3 [(0, .ref a), (1, .int x), (2, .int y)] := hl
  have hx := B.1
  have hb := B.2.1
  refine lv_aload_n hx hb dX4_init_0 rfl (lv_at hl 0 rfl) ?_
  refine xk_superX B hI hO rfl hfr q346 q348 q299 q349 q350 q351 q353 (B.2.2.1.trans hl.1.symm) q357 (Nat.le_of_ble_eq_true rfl) (Nat.le_of_ble_eq_true rfl) dX4_init_1 (fun fs0 X1 H1 L1 hlen h1 hn1 hI1 => ?_)
  have hfm0 : xk_f1 ow X X1 := xk_fx.put xk_fx.rf hn1 hO (Or.inl rfl)
  refine lv_aload_n hx hb dX4_init_4 rfl (lv_at hl 0 rfl) ?_
  refine lv_iload_n hx hb dX4_init_5 rfl (lv_at hl 1 rfl) ?_
  refine xk_putF B hI1 hname h1 rfl in_X4 tyX4 tyX4_ok nmX4 6 (by decide) q358 rfl rfl rfl rfl (by simp [hlen]) dX4_init_6 (fun X2 H2 L2 h2 hn2 hI2 => ?_)
  have hfm1 : xk_f1 ow X X2 := xk_fx.put hfm0 hn2 h1 (Or.inl rfl)
  refine lv_aload_n hx hb dX4_init_9 rfl (lv_at hl 0 rfl) ?_
  refine lv_iload_n hx hb dX4_init_10 rfl (lv_at hl 2 rfl) ?_
  refine xk_putF B hI2 hname h2 rfl in_X4 tyX4 tyX4_ok nmX4 7 (by decide) q360 rfl rfl rfl rfl (by simp [hlen]) dX4_init_11 (fun X3 H3 L3 h3 hn3 hI3 => ?_)
  have hfm2 : xk_f1 ow X X3 := xk_fx.put hfm1 hn3 h2 (Or.inl rfl)
  exact xk_retv B hI3 hr dX4_init_14 (Nat.le_of_ble_eq_true rfl) (Nat.le_of_ble_eq_true rfl) (⟨rfl, ⟨_, h3, by simp [hlen], by simp [hlen]⟩, hfm2⟩)
set_option maxHeartbeats 4000000 in
theorem cx_syntax (g : xk_G) {X : xk_H} {a : Nat} {ow : Nat × Nat} {x : Int32} (hO : X a = some (ow, .inr (10, [.null, .null, .null, .null, .null, .int (nI 0), .int (nI 0)]))) : xk_CM g yX10_init (ws_ yX10_init cX10_init 2 none) ({ frames := 4, cells := 0, slots := 0, locals := 60 } : Room) 10 a [.ref a, .int x] X (xk_Qv (fun X1 => (∃ fs : List Value, X1 a = some (ow, .inr (10, fs)) ∧ fs[6]? = some (.int x)) ∧ xk_f1 ow X X1)) := by
  refine xk_ofWM (by decide +kernel) (Nat.le_of_ble_eq_true rfl) (fun p e s m args below meth c B hr hname hargs hI hfr ls hl => ?_)
  have B : xk_B g p s m args meth c RX10 cX10_init 2 := B
  have hl : lv_has ls 2 [(0, .ref a), (1, .int x)] := hl
  have hx := B.1
  have hb := B.2.1
  refine lv_aload_n hx hb dX10_init_0 rfl (lv_at hl 0 rfl) ?_
  refine xk_superX B hI hO rfl hfr q1274 q1276 q300 q1277 q1278 q1279 q1281 (B.2.2.1.trans hl.1.symm) q1285 (Nat.le_of_ble_eq_true rfl) (Nat.le_of_ble_eq_true rfl) dX10_init_1 (fun fs0 X1 H1 L1 hlen h1 hn1 hI1 => ?_)
  have hfm0 : xk_f1 ow X X1 := xk_fx.put xk_fx.rf hn1 hO (Or.inl rfl)
  refine lv_aload_n hx hb dX10_init_4 rfl (lv_at hl 0 rfl) ?_
  refine lv_iload_n hx hb dX10_init_5 rfl (lv_at hl 1 rfl) ?_
  refine xk_putF B hI1 hname h1 rfl in_X10 tyX10 tyX10_ok nmX10 6 (by decide) q1286 rfl rfl rfl rfl (by simp [hlen]) dX10_init_6 (fun X2 H2 L2 h2 hn2 hI2 => ?_)
  have hfm1 : xk_f1 ow X X2 := xk_fx.put hfm0 hn2 h1 (Or.inl rfl)
  exact xk_retv B hI2 hr dX10_init_9 (Nat.le_of_ble_eq_true rfl) (Nat.le_of_ble_eq_true rfl) (⟨rfl, ⟨_, h2, by simp [hlen]⟩, hfm1⟩)
