/-! a lambda's call, whole -/
set_option maxRecDepth 100000
section XL7
variable {g : xk_G} {p : Program} {e : Env} {R : Room} {s : State} {m : MethodId} {args : Array Value} {below : List Frame} {meth : Method} {c : Code} {H : Heap} {locs : List Loc} {cells slots : Nat} {Q : State → Prop}
variable {cc : ByteArray} {pc nL : Nat} {own : String} {ls : Array Slot} {rest st0 : List Value} {X : xk_H} {l : Launch}
theorem xl_end (hx : p.tables.exec = Jvm.exec) (hb : c.code = cc) (hml : c.maxLocals = nL) (hex : c.exceptionTable.toList = []) (hlk : meth.locks = false) (hret : meth.sig.returnType = some .int) (K : xk_K g s) (tsw : ∀ w ∈ lw_all, w.before args s = true) {σ : Lambda.Shape} {cK : ClassId} (hm : m = ⟨cK, 1⟩) (hF : xl_F cK σ s.vm) {bytes : ByteArray} {maxL mi ci ni : Nat} {fs : List Nat} {tys : List FieldType} (hk : xl_chk σ bytes maxL mi ci ni fs tys = true)
    {y : MethodName} (hy : y.cls = "TulipLines" ∧ y.name = σ.implName ∧ y.desc = σ.implDesc.toString) {bytesI : ByteArray} {maxLI : Nat} {ret : Option FieldType} {rm : Room} {As : List Value} {Qp : Option Value → xk_H → Prop} {Qx : String → Nat → xk_H → Prop} (hM : xk_CX g y (ws_ y bytesI maxLI ret) rm As X Qp Qx) (hQi : ∀ (v : Option Value) (X1 : xk_H), Qp v X1 → ∃ r : Int32, v = some (.int r))
    (h6 : Cond.code y bytesI maxLI ret ∈ lw_all) (h4 : Cond.static y ∈ lw_all) (h5 : Cond.initialized y.cls ∈ lw_all) (hI : xk_I g s H X []) (hn : (parseMethodDescriptor y.desc).map (fun d => d.parameters.length) = some As.length) (hls : ls.size = nL) (hdg : decode cc pc = .ok (.invokestatic mi, 3)) (hdr : decode cc (pc + 3) = .ok (.ireturn, 1))
    (hRm : rm.frames + 1 ≤ R.frames ∧ 8 + (maxLI + 11) + rm.locals ≤ R.locals) (hfc : rm.cells ≤ R.cells) (hfs : rm.slots ≤ R.slots) (hst : st0 = As.reverse) :
    W p (xk_l g) e R s m args below meth c H [] 0 0 (vx_MQ below (xk_Q g Qp) (xk_XC g Qx) args s R.cells R.slots (xk_A g)) (F0 m pc ls st0) := by
  refine xk_runX (xl_runS hx hb hml K tsw hm hF hk hy hM h6 h4 h5 hI hn hls hdg hRm (by omega) (by omega) hst) hI (fun E q ce X1 H1 locs1 hq hI1 hce hcv hcl => ?_) (fun v X1 H1 locs1 hq hI1 => ?_)
  · exact vx_out (fun x hx => by rw [hex] at hx; cases hx) hlk hce hcv hcl (fun t ht _ => ⟨X1, hq, by rw [ht]; exact hI1.2, hI1.1.F ht⟩) hI1.1.2.2 (by omega) (by omega)
  · obtain ⟨r, rfl⟩ := hQi v X1 hq
    exact vx_ret (W.widen (by omega) (by omega) (W.zret hx hb hret rfl (fun t ht _ => ⟨⟨_, X1, rfl, hq, by rw [ht]; exact hI1.2⟩, hI1.1.F ht⟩) hI1.1.2.2 hdr hlk))
theorem xl_call1 (B : xk_B g p s m args meth c own cc nL) (hI : xk_I g s H X locs) {lv : List (Nat × Value)} (hl : lv_has ls nL lv) {x : MethodName} {pc9 ix : Nat} {σ : Lambda.Shape} (hw : Cond.lambdaSite x pc9 ix σ ∈ flatC (Jvm.Cond.and given_1 narrow_1)) (hxc : x.cls = "TulipLines")
    {bytes : ByteArray} {mi ci ni i1 : Nat} {tys : List FieldType} (hk : xl_chk σ bytes 2 mi ci ni [i1] tys = true) (hcap : σ.captured = tys) (hn : tys ≠ []) {f : Nat} {o : Nat × Nat} {a0 : vp_A} (hf : X f = some (o, .inl (xl_c g x pc9 ix σ, a0))) (v1 : Value) (hv1 : ∀ cK : ClassId, (vp_cell cK a0).slots[0]? = some v1) (b : Nat) (rest : List Value)
    (e0 : decode bytes 0 = .ok (.aload_n 0, 1)) (e1 : decode bytes 1 = .ok (.getfield i1, 3)) (e4 : decode bytes 4 = .ok (.aload_n 1, 1)) (e5 : decode bytes 5 = .ok (.invokestatic mi, 3)) (e8 : decode bytes 8 = .ok (.ireturn, 1))
    {index count : Nat} {xi : MethodName} (hxi : xi = ⟨σ.iface, σ.name, σ.sam.toString⟩) (hlink : Cond.methodLink own index xi ∈ lw_all) (hdecl : Cond.declares xi ∈ lw_tbl) (hface : Cond.interfaceMethod xi.cls xi.cls xi.name xi.desc ∈ lw_tbl)
    (hd : xi.cls ≠ "java/lang/invoke/MethodHandle" ∧ xi.cls ≠ "java/lang/invoke/VarHandle" ∧ (parseMethodDescriptor xi.desc).map (fun d => d.parameters.length) = some 1)
    {y : MethodName} (hy : y.cls = "TulipLines" ∧ y.name = σ.implName ∧ y.desc = σ.implDesc.toString) {bytesI : ByteArray} {maxLI : Nat} {ret : Option FieldType} {rm : Room} {Qp : Option Value → xk_H → Prop} {Qx : String → Nat → xk_H → Prop} (hM : xk_CX g y (ws_ y bytesI maxLI ret) rm [v1, .ref b] X Qp Qx) (hQi : ∀ (v : Option Value) (X1 : xk_H), Qp v X1 → ∃ r : Int32, v = some (.int r))
    (h6 : Cond.code y bytesI maxLI ret ∈ lw_all) (h4 : Cond.static y ∈ lw_all) (h5 : Cond.initialized y.cls ∈ lw_all) (hn2 : (parseMethodDescriptor y.desc).map (fun d => d.parameters.length) = some 2)
    (hRm : rm.frames + 2 ≤ R.frames ∧ 8 + (2 + 11) + (8 + (maxLI + 11) + rm.locals) ≤ R.locals) (hst : st0 = .ref b :: .ref f :: rest) (hW : (rest.map fun v => v.category).sum ≤ 8) (hdg : decode cc pc = .ok (.invokeinterface index count, 5)) (hfc : cells + rm.cells ≤ R.cells) (hfs : slots + rm.slots ≤ R.slots) :
    vx_Run5 p (xk_l g) e R s m args below meth c H locs cells slots rm.cells rm.slots (F0 m pc ls st0) rest (xk_Q g Qp #[.ref f, .ref b]) (xk_XC g Qx) (xk_A g) := by
  refine xl_calls (rm := { frames := rm.frames + 1, cells := rm.cells, slots := rm.slots, locals := 8 + (maxLI + 11) + rm.locals }) B hI hl hw hxc hk hcap hn hf (.ref b) rest hxi hlink hdecl hface hd ⟨by show rm.frames + 1 + 1 ≤ _; omega, hRm.2⟩ hst hW hdg hfc hfs (fun s' methk ck below' K' hR' hF' hb hml hex hlk hret tsw => ?_)
  have hI' : xk_I g s' s'.heap X [] := ⟨va_S.rf, hR'⟩
  rw [show entryFrame ⟨xl_c g x pc9 ix σ, 1⟩ #[.ref f, .ref b] 2 = entryFrame ⟨xl_c g x pc9 ix σ, 1⟩ [.ref f, .ref b].toArray 2 from rfl, lg_entry_eq]
  have hls := lv_entry (n := 2) [.ref f, .ref b] (Nat.le_of_ble_eq_true rfl)
  generalize lg_sl [.ref f, .ref b] ++ _ = lsx at hls ⊢
  have hkn : (vp_cell (xl_c g x pc9 ix σ) a0).vm ≠ .unknown := by
    obtain ⟨n0, c0⟩ := a0
    rcases c0 with c0 | c0 | c0 | c0 | c0 <;> simp [vp_cell, arrV]
  refine lv_aload_n B.1 hb e0 rfl (lv_at hls 0 rfl) ?_
  refine xl_get B.1 hb K' rfl hF' hk (j := 0) rfl (cell := vp_cell (xl_c g x pc9 ix σ) a0) ((hR' f o _ hf).2) hkn (hv1 _) e1 ?_
  refine lv_aload_n B.1 hb e4 rfl (lv_at hls 1 rfl) ?_
  exact xl_end (R := { frames := rm.frames + 1, cells := rm.cells, slots := rm.slots, locals := 8 + (maxLI + 11) + rm.locals }) B.1 hb hml hex hlk hret K' tsw rfl hF' hk hy hM hQi h6 h4 h5 hI' hn2 hls.1 e5 e8 ⟨by exact Nat.le_refl _, by exact Nat.le_refl _⟩ (by exact Nat.le_refl _) (by exact Nat.le_refl _) rfl
theorem xl_call2 (B : xk_B g p s m args meth c own cc nL) (hI : xk_I g s H X locs) {lv : List (Nat × Value)} (hl : lv_has ls nL lv) {x : MethodName} {pc9 ix : Nat} {σ : Lambda.Shape} (hw : Cond.lambdaSite x pc9 ix σ ∈ flatC (Jvm.Cond.and given_1 narrow_1)) (hxc : x.cls = "TulipLines")
    {bytes : ByteArray} {mi ci ni i1 i2 : Nat} {tys : List FieldType} (hk : xl_chk σ bytes 2 mi ci ni [i1, i2] tys = true) (hcap : σ.captured = tys) (hn : tys ≠ []) {f : Nat} {o : Nat × Nat} {a0 : vp_A} (hf : X f = some (o, .inl (xl_c g x pc9 ix σ, a0))) (v1 : Value) (hv1 : ∀ cK : ClassId, (vp_cell cK a0).slots[0]? = some v1) (v2 : Value) (hv2 : ∀ cK : ClassId, (vp_cell cK a0).slots[1]? = some v2) (b : Nat) (rest : List Value)
    (e0 : decode bytes 0 = .ok (.aload_n 0, 1)) (e1 : decode bytes 1 = .ok (.getfield i1, 3)) (e4 : decode bytes 4 = .ok (.aload_n 0, 1)) (e5 : decode bytes 5 = .ok (.getfield i2, 3)) (e8 : decode bytes 8 = .ok (.aload_n 1, 1)) (e9 : decode bytes 9 = .ok (.invokestatic mi, 3)) (e12 : decode bytes 12 = .ok (.ireturn, 1))
    {index count : Nat} {xi : MethodName} (hxi : xi = ⟨σ.iface, σ.name, σ.sam.toString⟩) (hlink : Cond.methodLink own index xi ∈ lw_all) (hdecl : Cond.declares xi ∈ lw_tbl) (hface : Cond.interfaceMethod xi.cls xi.cls xi.name xi.desc ∈ lw_tbl)
    (hd : xi.cls ≠ "java/lang/invoke/MethodHandle" ∧ xi.cls ≠ "java/lang/invoke/VarHandle" ∧ (parseMethodDescriptor xi.desc).map (fun d => d.parameters.length) = some 1)
    {y : MethodName} (hy : y.cls = "TulipLines" ∧ y.name = σ.implName ∧ y.desc = σ.implDesc.toString) {bytesI : ByteArray} {maxLI : Nat} {ret : Option FieldType} {rm : Room} {Qp : Option Value → xk_H → Prop} {Qx : String → Nat → xk_H → Prop} (hM : xk_CX g y (ws_ y bytesI maxLI ret) rm [v1, v2, .ref b] X Qp Qx) (hQi : ∀ (v : Option Value) (X1 : xk_H), Qp v X1 → ∃ r : Int32, v = some (.int r))
    (h6 : Cond.code y bytesI maxLI ret ∈ lw_all) (h4 : Cond.static y ∈ lw_all) (h5 : Cond.initialized y.cls ∈ lw_all) (hn2 : (parseMethodDescriptor y.desc).map (fun d => d.parameters.length) = some 3)
    (hRm : rm.frames + 2 ≤ R.frames ∧ 8 + (2 + 11) + (8 + (maxLI + 11) + rm.locals) ≤ R.locals) (hst : st0 = .ref b :: .ref f :: rest) (hW : (rest.map fun v => v.category).sum ≤ 8) (hdg : decode cc pc = .ok (.invokeinterface index count, 5)) (hfc : cells + rm.cells ≤ R.cells) (hfs : slots + rm.slots ≤ R.slots) :
    vx_Run5 p (xk_l g) e R s m args below meth c H locs cells slots rm.cells rm.slots (F0 m pc ls st0) rest (xk_Q g Qp #[.ref f, .ref b]) (xk_XC g Qx) (xk_A g) := by
  refine xl_calls (rm := { frames := rm.frames + 1, cells := rm.cells, slots := rm.slots, locals := 8 + (maxLI + 11) + rm.locals }) B hI hl hw hxc hk hcap hn hf (.ref b) rest hxi hlink hdecl hface hd ⟨by show rm.frames + 1 + 1 ≤ _; omega, hRm.2⟩ hst hW hdg hfc hfs (fun s' methk ck below' K' hR' hF' hb hml hex hlk hret tsw => ?_)
  have hI' : xk_I g s' s'.heap X [] := ⟨va_S.rf, hR'⟩
  rw [show entryFrame ⟨xl_c g x pc9 ix σ, 1⟩ #[.ref f, .ref b] 2 = entryFrame ⟨xl_c g x pc9 ix σ, 1⟩ [.ref f, .ref b].toArray 2 from rfl, lg_entry_eq]
  have hls := lv_entry (n := 2) [.ref f, .ref b] (Nat.le_of_ble_eq_true rfl)
  generalize lg_sl [.ref f, .ref b] ++ _ = lsx at hls ⊢
  have hkn : (vp_cell (xl_c g x pc9 ix σ) a0).vm ≠ .unknown := by
    obtain ⟨n0, c0⟩ := a0
    rcases c0 with c0 | c0 | c0 | c0 | c0 <;> simp [vp_cell, arrV]
  refine lv_aload_n B.1 hb e0 rfl (lv_at hls 0 rfl) ?_
  refine xl_get B.1 hb K' rfl hF' hk (j := 0) rfl (cell := vp_cell (xl_c g x pc9 ix σ) a0) ((hR' f o _ hf).2) hkn (hv1 _) e1 ?_
  refine lv_aload_n B.1 hb e4 rfl (lv_at hls 0 rfl) ?_
  refine xl_get B.1 hb K' rfl hF' hk (j := 1) rfl (cell := vp_cell (xl_c g x pc9 ix σ) a0) ((hR' f o _ hf).2) hkn (hv2 _) e5 ?_
  refine lv_aload_n B.1 hb e8 rfl (lv_at hls 1 rfl) ?_
  exact xl_end (R := { frames := rm.frames + 1, cells := rm.cells, slots := rm.slots, locals := 8 + (maxLI + 11) + rm.locals }) B.1 hb hml hex hlk hret K' tsw rfl hF' hk hy hM hQi h6 h4 h5 hI' hn2 hls.1 e9 e12 ⟨by exact Nat.le_refl _, by exact Nat.le_refl _⟩ (by exact Nat.le_refl _) (by exact Nat.le_refl _) rfl
theorem xl_call3 (B : xk_B g p s m args meth c own cc nL) (hI : xk_I g s H X locs) {lv : List (Nat × Value)} (hl : lv_has ls nL lv) {x : MethodName} {pc9 ix : Nat} {σ : Lambda.Shape} (hw : Cond.lambdaSite x pc9 ix σ ∈ flatC (Jvm.Cond.and given_1 narrow_1)) (hxc : x.cls = "TulipLines")
    {bytes : ByteArray} {mi ci ni i1 i2 i3 : Nat} {tys : List FieldType} (hk : xl_chk σ bytes 2 mi ci ni [i1, i2, i3] tys = true) (hcap : σ.captured = tys) (hn : tys ≠ []) {f : Nat} {o : Nat × Nat} {a0 : vp_A} (hf : X f = some (o, .inl (xl_c g x pc9 ix σ, a0))) (v1 : Value) (hv1 : ∀ cK : ClassId, (vp_cell cK a0).slots[0]? = some v1) (v2 : Value) (hv2 : ∀ cK : ClassId, (vp_cell cK a0).slots[1]? = some v2) (v3 : Value) (hv3 : ∀ cK : ClassId, (vp_cell cK a0).slots[2]? = some v3) (b : Nat) (rest : List Value)
    (e0 : decode bytes 0 = .ok (.aload_n 0, 1)) (e1 : decode bytes 1 = .ok (.getfield i1, 3)) (e4 : decode bytes 4 = .ok (.aload_n 0, 1)) (e5 : decode bytes 5 = .ok (.getfield i2, 3)) (e8 : decode bytes 8 = .ok (.aload_n 0, 1)) (e9 : decode bytes 9 = .ok (.getfield i3, 3)) (e12 : decode bytes 12 = .ok (.aload_n 1, 1)) (e13 : decode bytes 13 = .ok (.invokestatic mi, 3)) (e16 : decode bytes 16 = .ok (.ireturn, 1))
    {index count : Nat} {xi : MethodName} (hxi : xi = ⟨σ.iface, σ.name, σ.sam.toString⟩) (hlink : Cond.methodLink own index xi ∈ lw_all) (hdecl : Cond.declares xi ∈ lw_tbl) (hface : Cond.interfaceMethod xi.cls xi.cls xi.name xi.desc ∈ lw_tbl)
    (hd : xi.cls ≠ "java/lang/invoke/MethodHandle" ∧ xi.cls ≠ "java/lang/invoke/VarHandle" ∧ (parseMethodDescriptor xi.desc).map (fun d => d.parameters.length) = some 1)
    {y : MethodName} (hy : y.cls = "TulipLines" ∧ y.name = σ.implName ∧ y.desc = σ.implDesc.toString) {bytesI : ByteArray} {maxLI : Nat} {ret : Option FieldType} {rm : Room} {Qp : Option Value → xk_H → Prop} {Qx : String → Nat → xk_H → Prop} (hM : xk_CX g y (ws_ y bytesI maxLI ret) rm [v1, v2, v3, .ref b] X Qp Qx) (hQi : ∀ (v : Option Value) (X1 : xk_H), Qp v X1 → ∃ r : Int32, v = some (.int r))
    (h6 : Cond.code y bytesI maxLI ret ∈ lw_all) (h4 : Cond.static y ∈ lw_all) (h5 : Cond.initialized y.cls ∈ lw_all) (hn2 : (parseMethodDescriptor y.desc).map (fun d => d.parameters.length) = some 4)
    (hRm : rm.frames + 2 ≤ R.frames ∧ 8 + (2 + 11) + (8 + (maxLI + 11) + rm.locals) ≤ R.locals) (hst : st0 = .ref b :: .ref f :: rest) (hW : (rest.map fun v => v.category).sum ≤ 8) (hdg : decode cc pc = .ok (.invokeinterface index count, 5)) (hfc : cells + rm.cells ≤ R.cells) (hfs : slots + rm.slots ≤ R.slots) :
    vx_Run5 p (xk_l g) e R s m args below meth c H locs cells slots rm.cells rm.slots (F0 m pc ls st0) rest (xk_Q g Qp #[.ref f, .ref b]) (xk_XC g Qx) (xk_A g) := by
  refine xl_calls (rm := { frames := rm.frames + 1, cells := rm.cells, slots := rm.slots, locals := 8 + (maxLI + 11) + rm.locals }) B hI hl hw hxc hk hcap hn hf (.ref b) rest hxi hlink hdecl hface hd ⟨by show rm.frames + 1 + 1 ≤ _; omega, hRm.2⟩ hst hW hdg hfc hfs (fun s' methk ck below' K' hR' hF' hb hml hex hlk hret tsw => ?_)
  have hI' : xk_I g s' s'.heap X [] := ⟨va_S.rf, hR'⟩
  rw [show entryFrame ⟨xl_c g x pc9 ix σ, 1⟩ #[.ref f, .ref b] 2 = entryFrame ⟨xl_c g x pc9 ix σ, 1⟩ [.ref f, .ref b].toArray 2 from rfl, lg_entry_eq]
  have hls := lv_entry (n := 2) [.ref f, .ref b] (Nat.le_of_ble_eq_true rfl)
  generalize lg_sl [.ref f, .ref b] ++ _ = lsx at hls ⊢
  have hkn : (vp_cell (xl_c g x pc9 ix σ) a0).vm ≠ .unknown := by
    obtain ⟨n0, c0⟩ := a0
    rcases c0 with c0 | c0 | c0 | c0 | c0 <;> simp [vp_cell, arrV]
  refine lv_aload_n B.1 hb e0 rfl (lv_at hls 0 rfl) ?_
  refine xl_get B.1 hb K' rfl hF' hk (j := 0) rfl (cell := vp_cell (xl_c g x pc9 ix σ) a0) ((hR' f o _ hf).2) hkn (hv1 _) e1 ?_
  refine lv_aload_n B.1 hb e4 rfl (lv_at hls 0 rfl) ?_
  refine xl_get B.1 hb K' rfl hF' hk (j := 1) rfl (cell := vp_cell (xl_c g x pc9 ix σ) a0) ((hR' f o _ hf).2) hkn (hv2 _) e5 ?_
  refine lv_aload_n B.1 hb e8 rfl (lv_at hls 0 rfl) ?_
  refine xl_get B.1 hb K' rfl hF' hk (j := 2) rfl (cell := vp_cell (xl_c g x pc9 ix σ) a0) ((hR' f o _ hf).2) hkn (hv3 _) e9 ?_
  refine lv_aload_n B.1 hb e12 rfl (lv_at hls 1 rfl) ?_
  exact xl_end (R := { frames := rm.frames + 1, cells := rm.cells, slots := rm.slots, locals := 8 + (maxLI + 11) + rm.locals }) B.1 hb hml hex hlk hret K' tsw rfl hF' hk hy hM hQi h6 h4 h5 hI' hn2 hls.1 e13 e16 ⟨by exact Nat.le_refl _, by exact Nat.le_refl _⟩ (by exact Nat.le_refl _) (by exact Nat.le_refl _) rfl
def xl_ckc (σ : Lambda.Shape) (cx : Nat) (C : String) : Bool := (σ.file "TulipLines").any fun (D : ClassFile) => (match D.constantPool[cx]? with | some (.class_ n) => decide (D.constantPool.string? n = some C) | _ => false) && decide (cx ≠ D.thisClass)
theorem xl_cast (hx : p.tables.exec = Jvm.exec) (hb : c.code = cc) (K : xk_K g s) {σ : Lambda.Shape} {cK : ClassId} (hm : m = ⟨cK, 1⟩) (hF : xl_F cK σ s.vm) {cx : Nat} {C : String} (hkc : xl_ckc σ cx C = true)
    {a : Nat} {cell : Cell} (hcell : H[a]? = some cell) (hobj : cell.vm = .none) (hcl : s.vm.findClass C = some cell.cls) (hdg : decode cc pc = .ok (.checkcast cx, 3))
    (kk : W p l e R s m args below meth c H locs cells slots Q (F0 m (pc + 3) ls (.ref a :: rest))) : W p l e R s m args below meth c H locs cells slots Q (F0 m pc ls (.ref a :: rest)) := by
  intro T hT X
  obtain ⟨t, a1, b1⟩ := kk T hT X
  obtain ⟨d, dk, hd, hdn, hmade⟩ := hF.moved X.warmed
  obtain ⟨dk', k, ok, tk, file, cf, object, iface, t9, lay, methods, target, found, hd', hkk, hfile, hcf, ho, -, hok, hlay, hms, ht, htk, hg, -, hrec, -, -, -, -, hpool, hmeth, hfld, hity, hres, -⟩ := Lambda.isMade_spec hmade
  cases hd.symm.trans hd'
  rw [hdn] at hcf
  simp only [xl_ckc, Option.any_eq_true, Bool.and_eq_true, decide_eq_true_eq] at hkc
  obtain ⟨D, hD, hci, hne⟩ := hkc
  cases hcf.symm.trans hD
  have hcl2 : T.vm.findClass C = some cell.cls := by rw [X.warmed.alike.findClass]; exact hcl
  have hrdy : T.vm.classReady cK cx cell.cls := by
    cases hcp : cf.constantPool[cx]? with
    | none => rw [hcp] at hci; cases hci
    | some z =>
      cases z with
      | class_ n =>
        rw [hcp] at hci
        exact ⟨k, hkk, hres cx _ (Lambda.resolvedOf_class hcp hne (of_decide_eq_true hci) hcl2)⟩
      | _ => rw [hcp] at hci; cases hci
  obtain ⟨ks, hks, -⟩ := Vm.findClass_spec hcl2
  refine ⟨t, ?_, b1⟩
  subst hm
  jvm_step X.here [hx, hb, hdg, checkcast.wp_ready (e := e) (s := T) (f := F0 ⟨cK, 1⟩ pc ls (.ref a :: rest)) X.here.top hrdy rfl]
  exact ⟨cell, by rw [hT]; exact hcell, (fun k h => by rw [hobj] at h; cases h), ks, hks, ks, hks, by rw [if_pos (Vm.assignable_self _ _)]; exact a1⟩
theorem xl_callF (B : xk_B g p s m args meth c own cc nL) (hI : xk_I g s H X locs) {lv : List (Nat × Value)} (hl : lv_has ls nL lv) {x : MethodName} {pc9 ix : Nat} {σ : Lambda.Shape} (hw : Cond.lambdaSite x pc9 ix σ ∈ flatC (Jvm.Cond.and given_1 narrow_1)) (hxc : x.cls = "TulipLines")
    {bytes : ByteArray} {mi ci ni i1 : Nat} {tys : List FieldType} (hk : xl_chk σ bytes 2 mi ci ni [i1] tys = true) {cx : Nat} {C : String} (hkc : xl_ckc σ cx C = true) (hcap : σ.captured = tys) (hn : tys ≠ []) {f : Nat} {o : Nat × Nat} {a0 : vp_A} (hf : X f = some (o, .inl (xl_c g x pc9 ix σ, a0))) (v1 : Value) (hv1 : ∀ cK : ClassId, (vp_cell cK a0).slots[0]? = some v1) (b : Nat) {ob : Nat × Nat} {cib : Nat} {fsb : List Value} (hob : X b = some (ob, .inr (cib, fsb))) {TC : u_T} {NC : Nat} (hcb : xk_Cl[cib]? = some (C, TC, NC)) (rest : List Value)
    (e0 : decode bytes 0 = .ok (.aload_n 0, 1)) (e1 : decode bytes 1 = .ok (.getfield i1, 3)) (e4 : decode bytes 4 = .ok (.aload_n 1, 1)) (e5 : decode bytes 5 = .ok (.checkcast cx, 3)) (e8 : decode bytes 8 = .ok (.invokestatic mi, 3)) (e11 : decode bytes 11 = .ok (.ireturn, 1))
    {index count : Nat} {xi : MethodName} (hxi : xi = ⟨σ.iface, σ.name, σ.sam.toString⟩) (hlink : Cond.methodLink own index xi ∈ lw_all) (hdecl : Cond.declares xi ∈ lw_tbl) (hface : Cond.interfaceMethod xi.cls xi.cls xi.name xi.desc ∈ lw_tbl)
    (hd : xi.cls ≠ "java/lang/invoke/MethodHandle" ∧ xi.cls ≠ "java/lang/invoke/VarHandle" ∧ (parseMethodDescriptor xi.desc).map (fun d => d.parameters.length) = some 1)
    {y : MethodName} (hy : y.cls = "TulipLines" ∧ y.name = σ.implName ∧ y.desc = σ.implDesc.toString) {bytesI : ByteArray} {maxLI : Nat} {ret : Option FieldType} {rm : Room} {Qp : Option Value → xk_H → Prop} {Qx : String → Nat → xk_H → Prop} (hM : xk_CX g y (ws_ y bytesI maxLI ret) rm [v1, .ref b] X Qp Qx) (hQi : ∀ (v : Option Value) (X1 : xk_H), Qp v X1 → ∃ r : Int32, v = some (.int r))
    (h6 : Cond.code y bytesI maxLI ret ∈ lw_all) (h4 : Cond.static y ∈ lw_all) (h5 : Cond.initialized y.cls ∈ lw_all) (hn2 : (parseMethodDescriptor y.desc).map (fun d => d.parameters.length) = some 2)
    (hRm : rm.frames + 2 ≤ R.frames ∧ 8 + (2 + 11) + (8 + (maxLI + 11) + rm.locals) ≤ R.locals) (hst : st0 = .ref b :: .ref f :: rest) (hW : (rest.map fun v => v.category).sum ≤ 8) (hdg : decode cc pc = .ok (.invokeinterface index count, 5)) (hfc : cells + rm.cells ≤ R.cells) (hfs : slots + rm.slots ≤ R.slots) :
    vx_Run5 p (xk_l g) e R s m args below meth c H locs cells slots rm.cells rm.slots (F0 m pc ls st0) rest (xk_Q g Qp #[.ref f, .ref b]) (xk_XC g Qx) (xk_A g) := by
  refine xl_calls (rm := { frames := rm.frames + 1, cells := rm.cells, slots := rm.slots, locals := 8 + (maxLI + 11) + rm.locals }) B hI hl hw hxc hk hcap hn hf (.ref b) rest hxi hlink hdecl hface hd ⟨by show rm.frames + 1 + 1 ≤ _; omega, hRm.2⟩ hst hW hdg hfc hfs (fun s' methk ck below' K' hR' hF' hb hml hex hlk hret tsw => ?_)
  have hI' : xk_I g s' s'.heap X [] := ⟨va_S.rf, hR'⟩
  rw [show entryFrame ⟨xl_c g x pc9 ix σ, 1⟩ #[.ref f, .ref b] 2 = entryFrame ⟨xl_c g x pc9 ix σ, 1⟩ [.ref f, .ref b].toArray 2 from rfl, lg_entry_eq]
  have hls := lv_entry (n := 2) [.ref f, .ref b] (Nat.le_of_ble_eq_true rfl)
  generalize lg_sl [.ref f, .ref b] ++ _ = lsx at hls ⊢
  have hkn : (vp_cell (xl_c g x pc9 ix σ) a0).vm ≠ .unknown := by
    obtain ⟨n0, c0⟩ := a0
    rcases c0 with c0 | c0 | c0 | c0 | c0 <;> simp [vp_cell, arrV]
  refine lv_aload_n B.1 hb e0 rfl (lv_at hls 0 rfl) ?_
  refine xl_get B.1 hb K' rfl hF' hk (j := 0) rfl (cell := vp_cell (xl_c g x pc9 ix σ) a0) ((hR' f o _ hf).2) hkn (hv1 _) e1 ?_
  refine lv_aload_n B.1 hb e4 rfl (lv_at hls 1 rfl) ?_
  obtain ⟨rb, hb1, hb2⟩ := (hR' b ob _ hob).2
  have hrb : rb = (C, TC, NC) := Option.some.inj (hb1.symm.trans hcb)
  subst hrb
  obtain ⟨cellb, q2, q3, q4⟩ := hb2
  refine xl_cast B.1 hb K' rfl hF' hkc q2 q4.1 (by rw [q3]; exact (K'.1.1 cib _ hcb).2.1) e5 ?_
  exact xl_end (R := { frames := rm.frames + 1, cells := rm.cells, slots := rm.slots, locals := 8 + (maxLI + 11) + rm.locals }) B.1 hb hml hex hlk hret K' tsw rfl hF' hk hy hM hQi h6 h4 h5 hI' hn2 hls.1 e8 e11 ⟨by exact Nat.le_refl _, by exact Nat.le_refl _⟩ (by exact Nat.le_refl _) (by exact Nat.le_refl _) rfl
end XL7
