/-! calls of inherited, nest mates', superclasses' and interfaces' methods; contracts that may throw -/
set_option maxRecDepth 100000
def xk_XC (g : xk_G) (Qx : String → Nat → xk_H → Prop) : String → Addr → State → State → Prop := fun E q st t => ∃ X : xk_H, Qx E q X ∧ xk_R g X t.heap ∧ va_F (xk_A g) st t
/-- a contract that may throw: Qx the class's name, the object, the world -/
def xk_CX (g : xk_G) (y : MethodName) (ws : List Cond) (rm : Room) (av : List Value) (X : xk_H) (Qp : Option Value → xk_H → Prop) (Qx : String → Nat → xk_H → Prop) : Prop := vx_Met (xk_l g) y ws rm (xk_P g av X) (xk_Q g Qp) (xk_XC g Qx) rm.cells rm.slots (xk_A g)
/-- an answer, one of two worlds of post: for contracts whose answer hangs on the start -/
def xk_Qs (P : Option Value → xk_H → Prop) : Option Value → xk_H → Prop := P
section X5
variable {g : xk_G} {p : Program} {e : Env} {R : Room} {s : State} {m : MethodId} {args : Array Value} {below : List Frame} {meth : Method} {c : Code} {H : Heap} {locs : List Loc} {cells slots : Nat} {Q : State → Prop}
variable {cc : ByteArray} {pc nL : Nat} {own : String} {ls : Array Slot} {rest st0 : List Value} {X : xk_H} {l : Launch}
theorem xk_cU (B : xk_B g p s m args meth c own cc nL) (hI : xk_I g s H X locs) {lv : List (Nat × Value)} (hl : lv_has ls nL lv) {x y : MethodName} {owner : String} {bytes : ByteArray} {maxL : Nat} {ret : Option FieldType} {rm : Room} {b : Nat} {Qp : Option Value → xk_H → Prop} (As : List Value) (rest : List Value) (n : Nat) (hM : xk_C g y (ws_ y bytes maxL ret) rm (.ref b :: As) X Qp)
    {index : Nat} {C : String} {o : Nat × Nat} {ci : Nat} {fs : List Value} {T : u_T} {N : Nat} (hrv : X b = some (o, .inr (ci, fs))) (hc : xk_Cl[ci]? = some (C, T, N)) (h1 : Cond.methodLink own index x ∈ lw_all) (h2 : Cond.sameMethod x.cls owner x.name x.desc ∈ lw_all) (h3 : Cond.selects C x y ∈ lw_all) (h4 : Cond.instanceMethod y ∈ lw_all) (h5 : Cond.initialized y.cls ∈ lw_all) (h6 : Cond.code y bytes maxL ret ∈ lw_all)
    (hyx : y = ⟨owner, x.name, x.desc⟩) (hd : owner ≠ "java/lang/invoke/MethodHandle" ∧ owner ≠ "java/lang/invoke/VarHandle" ∧ (parseMethodDescriptor x.desc).map (fun d => d.parameters.length) = some n)
    (hRm : rm.frames + 1 ≤ R.frames ∧ 8 + (maxL + 11) + rm.locals ≤ R.locals) (hn : As.length = n) (hst : st0 = As.reverse ++ .ref b :: rest) (hW : (rest.map fun v => v.category).sum ≤ 8) (hdg : decode cc pc = .ok (.invokevirtual index, 3)) (hfc : cells + rm.cells ≤ R.cells) (hfs : slots + rm.slots ≤ R.slots) :
    va_Run p (xk_l g) e R s m args below meth c H locs cells slots rm.cells rm.slots (F0 m pc ls st0) rest (xk_Q g Qp (Value.ref b :: As).toArray) (xk_A g) :=
  va_runU (As := As) (rest := rest) ⟨B.1, B.2.1, B.2.2.1, B.ow, B.ts⟩ hM (va_cwU n B.ts (lw_app (fun w hw => by simp only [List.mem_cons, List.not_mem_nil, or_false] at hw; rcases hw with rfl | rfl | rfl | rfl | rfl <;> assumption) (lw_meth h6)) rfl rfl rfl hyx hd hRm) ⟨xk_blind, va_recv (q0 := 0) B.K.1 (xk_one hI.2 hrv) hc rfl, fun U hU hW => ⟨rfl, xk_K.call B.K hI.1 hU hW, by rw [hU]; exact hI.2⟩⟩ rfl hn hl.1 hst (lv_room hW) hdg ⟨hfc, hfs⟩
theorem xk_cO (B : xk_B g p s m args meth c own cc nL) (hI : xk_I g s H X locs) {lv : List (Nat × Value)} (hl : lv_has ls nL lv) {x y : MethodName} {owner : String} {bytes : ByteArray} {maxL : Nat} {ret : Option FieldType} {rm : Room} {b : Nat} {Qp : Option Value → xk_H → Prop} (As : List Value) (rest : List Value) (n : Nat) (hM : xk_C g y (ws_ y bytes maxL ret) rm (.ref b :: As) X Qp)
    {index : Nat} {C : String} {o : Nat × Nat} {ci : Nat} {fs : List Value} {T : u_T} {N : Nat} (hrv : X b = some (o, .inr (ci, fs))) (hc : xk_Cl[ci]? = some (C, T, N)) (h1 : Cond.methodLink own index x ∈ lw_all) (h2 : Cond.sameMethod x.cls owner x.name x.desc ∈ lw_all) (h0 : Cond.instanceMethod ⟨owner, x.name, x.desc⟩ ∈ lw_all) (h3 : Cond.selects C x y ∈ lw_all) (h4 : Cond.instanceMethod y ∈ lw_all) (h5 : Cond.initialized y.cls ∈ lw_all) (h6 : Cond.code y bytes maxL ret ∈ lw_all)
    {b0 : ByteArray} {m0 : Nat} {r0 : Option FieldType} (hc0 : Cond.code ⟨owner, x.name, x.desc⟩ b0 m0 r0 ∈ lw_all) (hd : owner ≠ "java/lang/invoke/MethodHandle" ∧ owner ≠ "java/lang/invoke/VarHandle" ∧ (parseMethodDescriptor x.desc).map (fun d => d.parameters.length) = some n)
    (hRm : rm.frames + 1 ≤ R.frames ∧ 8 + (maxL + 11) + rm.locals ≤ R.locals) (hn : As.length = n) (hst : st0 = As.reverse ++ .ref b :: rest) (hW : (rest.map fun v => v.category).sum ≤ 8) (hdg : decode cc pc = .ok (.invokevirtual index, 3)) (hfc : cells + rm.cells ≤ R.cells) (hfs : slots + rm.slots ≤ R.slots) :
    va_Run p (xk_l g) e R s m args below meth c H locs cells slots rm.cells rm.slots (F0 m pc ls st0) rest (xk_Q g Qp (Value.ref b :: As).toArray) (xk_A g) :=
  va_runU (As := As) (rest := rest) ⟨B.1, B.2.1, B.2.2.1, B.ow, B.ts⟩ hM (va_cwO n B.ts (lw_app (fun w hw => by simp only [List.mem_cons, List.not_mem_nil, or_false] at hw; rcases hw with rfl | rfl | rfl | rfl | rfl | rfl <;> assumption) (lw_meth h6)) rfl rfl rfl hc0 hd hRm) ⟨xk_blind, va_recv (q0 := 0) B.K.1 (xk_one hI.2 hrv) hc rfl, fun U hU hW => ⟨rfl, xk_K.call B.K hI.1 hU hW, by rw [hU]; exact hI.2⟩⟩ rfl hn hl.1 hst (lv_room hW) hdg ⟨hfc, hfs⟩
theorem xk_cSU (B : xk_B g p s m args meth c own cc nL) (hI : xk_I g s H X locs) {lv : List (Nat × Value)} (hl : lv_has ls nL lv) {y : MethodName} {bytes : ByteArray} {maxL : Nat} {ret : Option FieldType} {rm : Room} {b : Nat} {Qp : Option Value → xk_H → Prop} (As : List Value) (rest : List Value) (n : Nat) (hM : xk_C g y (ws_ y bytes maxL ret) rm (.ref b :: As) X Qp)
    {index : Nat} {C : String} {o : Nat × Nat} {ci : Nat} {fs : List Value} {T : u_T} {N : Nat} (hrv : X b = some (o, .inr (ci, fs))) (hc : xk_Cl[ci]? = some (C, T, N)) (h1 : Cond.methodLink own index y ∈ lw_all) (h2 : Cond.sameMethod y.cls y.cls y.name y.desc ∈ lw_all) (h3 : Cond.superclass own y.cls ∈ lw_all) (h4 : Cond.instanceMethod y ∈ lw_all) (h5 : Cond.initialized y.cls ∈ lw_all) (h6 : Cond.code y bytes maxL ret ∈ lw_all)
    (hd : y.name ≠ "<init>" ∧ (parseMethodDescriptor y.desc).map (fun d => d.parameters.length) = some n)
    (hRm : rm.frames + 1 ≤ R.frames ∧ 8 + (maxL + 11) + rm.locals ≤ R.locals) (hn : As.length = n) (hst : st0 = As.reverse ++ .ref b :: rest) (hW : (rest.map fun v => v.category).sum ≤ 8) (hdg : decode cc pc = .ok (.invokespecial index, 3)) (hfc : cells + rm.cells ≤ R.cells) (hfs : slots + rm.slots ≤ R.slots) :
    va_Run p (xk_l g) e R s m args below meth c H locs cells slots rm.cells rm.slots (F0 m pc ls st0) rest (xk_Q g Qp (Value.ref b :: As).toArray) (xk_A g) :=
  va_runSU (As := As) (rest := rest) ((B.K.1.1 ci _ hc).2) ⟨B.1, B.2.1, B.2.2.1, B.ow, B.ts⟩ hM (va_cwSU n B.ts (lw_app (fun w hw => by simp only [List.mem_cons, List.not_mem_nil, or_false] at hw; rcases hw with rfl | rfl | rfl | rfl | rfl <;> assumption) (lw_meth h6)) rfl rfl rfl hd hRm) ⟨xk_blind, va_recv (q0 := 0) B.K.1 (xk_one hI.2 hrv) hc rfl, fun U hU hW => ⟨rfl, xk_K.call B.K hI.1 hU hW, by rw [hU]; exact hI.2⟩⟩ rfl hn hl.1 hst (lv_room hW) hdg ⟨hfc, hfs⟩
theorem xk_cF (B : xk_B g p s m args meth c own cc nL) (hI : xk_I g s H X locs) {lv : List (Nat × Value)} (hl : lv_has ls nL lv) {x y : MethodName} {bytes : ByteArray} {maxL : Nat} {ret : Option FieldType} {rm : Room} {b : Nat} {Qp : Option Value → xk_H → Prop} (As : List Value) (rest : List Value) (n : Nat) (hM : xk_C g y (ws_ y bytes maxL ret) rm (.ref b :: As) X Qp)
    {index count : Nat} {C : String} {o : Nat × Nat} {ci : Nat} {fs : List Value} {T : u_T} {N : Nat} (hrv : X b = some (o, .inr (ci, fs))) (hc : xk_Cl[ci]? = some (C, T, N)) (h1 : Cond.methodLink own index x ∈ lw_all) (h3 : Cond.selects C x y ∈ lw_all) (h4 : Cond.instanceMethod y ∈ lw_all) (h5 : Cond.initialized y.cls ∈ lw_all) (h6 : Cond.code y bytes maxL ret ∈ lw_all) (hF : va_Fw C x y s)
    (hd : x.cls ≠ "java/lang/invoke/MethodHandle" ∧ x.cls ≠ "java/lang/invoke/VarHandle" ∧ (parseMethodDescriptor x.desc).map (fun d => d.parameters.length) = some n)
    (hRm : rm.frames + 1 ≤ R.frames ∧ 8 + (maxL + 11) + rm.locals ≤ R.locals) (hn : As.length = n) (hst : st0 = As.reverse ++ .ref b :: rest) (hW : (rest.map fun v => v.category).sum ≤ 8) (hdg : decode cc pc = .ok (.invokeinterface index count, 5)) (hfc : cells + rm.cells ≤ R.cells) (hfs : slots + rm.slots ≤ R.slots) :
    va_Run5 p (xk_l g) e R s m args below meth c H locs cells slots rm.cells rm.slots (F0 m pc ls st0) rest (xk_Q g Qp (Value.ref b :: As).toArray) (xk_A g) :=
  va_runF (As := As) (rest := rest) ((B.K.1.1 ci _ hc).2) ⟨B.1, B.2.1, B.2.2.1, B.ow, B.ts⟩ hM (va_cwF n B.ts (lw_app (fun w hw => by simp only [List.mem_cons, List.not_mem_nil, or_false] at hw; rcases hw with rfl | rfl | rfl | rfl <;> assumption) (lw_meth h6)) rfl rfl rfl hF hd hRm) ⟨xk_blind, va_recv (q0 := 0) B.K.1 (xk_one hI.2 hrv) hc rfl, fun U hU hW => ⟨rfl, xk_K.call B.K hI.1 hU hW, by rw [hU]; exact hI.2⟩⟩ rfl hn hl.1 hst (lv_room hW) hdg ⟨hfc, hfs⟩
theorem xk_cVN (B : xk_B g p s m args meth c own cc nL) (hI : xk_I g s H X locs) {lv : List (Nat × Value)} (hl : lv_has ls nL lv) {y : MethodName} {host : String} {bytes : ByteArray} {maxL : Nat} {ret : Option FieldType} {rm : Room} {b : Nat} {Qp : Option Value → xk_H → Prop} (As : List Value) (rest : List Value) (n : Nat) (hM : xk_C g y (ws_ y bytes maxL ret) rm (.ref b :: As) X Qp)
    {index : Nat} {C : String} {o : Nat × Nat} {ci : Nat} {fs : List Value} {T : u_T} {N : Nat} (hrv : X b = some (o, .inr (ci, fs))) (hc : xk_Cl[ci]? = some (C, T, N)) (h1 : Cond.methodLinkNest own index y host ∈ lw_tbl) (h3 : Cond.selects C y y ∈ lw_all) (h4 : Cond.instanceMethod y ∈ lw_all) (h5 : Cond.initialized y.cls ∈ lw_all) (h6 : Cond.code y bytes maxL ret ∈ lw_all)
    (hd : y.cls ≠ "java/lang/invoke/MethodHandle" ∧ y.cls ≠ "java/lang/invoke/VarHandle" ∧ (parseMethodDescriptor y.desc).map (fun d => d.parameters.length) = some n)
    (hRm : rm.frames + 1 ≤ R.frames ∧ 8 + (maxL + 11) + rm.locals ≤ R.locals) (hn : As.length = n) (hst : st0 = As.reverse ++ .ref b :: rest) (hW : (rest.map fun v => v.category).sum ≤ 8) (hdg : decode cc pc = .ok (.invokevirtual index, 3)) (hfc : cells + rm.cells ≤ R.cells) (hfs : slots + rm.slots ≤ R.slots) :
    va_Run p (xk_l g) e R s m args below meth c H locs cells slots rm.cells rm.slots (F0 m pc ls st0) rest (xk_Q g Qp (Value.ref b :: As).toArray) (xk_A g) :=
  va_runVN (As := As) (rest := rest) ⟨B.1, B.2.1, B.2.2.1, B.ow, B.ts⟩ hM ⟨va_cnB n B.ts (lw_meth h6) rfl rfl rfl (B.K.nwM h1) (B.ts _ h5) hd hRm, B.ts _ h4, B.ts _ h3⟩ ⟨xk_blind, va_recv (q0 := 0) B.K.1 (xk_one hI.2 hrv) hc rfl, fun U hU hW => ⟨rfl, xk_K.call B.K hI.1 hU hW, by rw [hU]; exact hI.2⟩⟩ rfl hn hl.1 hst (lv_room hW) hdg ⟨hfc, hfs⟩
theorem xk_cSN (B : xk_B g p s m args meth c own cc nL) (hI : xk_I g s H X locs) {lv : List (Nat × Value)} (hl : lv_has ls nL lv) {y : MethodName} {host : String} {bytes : ByteArray} {maxL : Nat} {ret : Option FieldType} {rm : Room} {Qp : Option Value → xk_H → Prop} (As : List Value) (rest : List Value) (n : Nat) (hM : xk_C g y (ws_ y bytes maxL ret) rm As X Qp)
    {index : Nat} (h1 : Cond.methodLinkNest own index y host ∈ lw_tbl) (h4 : Cond.static y ∈ lw_all) (h5 : Cond.initialized y.cls ∈ lw_all) (h6 : Cond.code y bytes maxL ret ∈ lw_all)
    (hd : y.cls ≠ "java/lang/invoke/MethodHandle" ∧ y.cls ≠ "java/lang/invoke/VarHandle" ∧ (parseMethodDescriptor y.desc).map (fun d => d.parameters.length) = some n)
    (hRm : rm.frames + 1 ≤ R.frames ∧ 8 + (maxL + 11) + rm.locals ≤ R.locals) (hn : As.length = n) (hst : st0 = As.reverse ++ rest) (hW : (rest.map fun v => v.category).sum ≤ 8) (hdg : decode cc pc = .ok (.invokestatic index, 3)) (hfc : cells + rm.cells ≤ R.cells) (hfs : slots + rm.slots ≤ R.slots) :
    va_Run p (xk_l g) e R s m args below meth c H locs cells slots rm.cells rm.slots (F0 m pc ls st0) rest (xk_Q g Qp As.toArray) (xk_A g) :=
  va_runSN (As := As) (rest := rest) ⟨B.1, B.2.1, B.2.2.1, B.ow, B.ts⟩ hM ⟨va_cnB n B.ts (lw_meth h6) rfl rfl rfl (B.K.nwM h1) (B.ts _ h5) hd hRm, B.ts _ h4, trivial⟩ ⟨xk_blind, fun U hU hW => ⟨rfl, xk_K.call B.K hI.1 hU hW, by rw [hU]; exact hI.2⟩⟩ rfl hn hl.1 hst (lv_room hW) hdg ⟨hfc, hfs⟩
theorem xk_cIN (B : xk_B g p s m args meth c own cc nL) (hI : xk_I g s H X locs) {lv : List (Nat × Value)} (hl : lv_has ls nL lv) {y : MethodName} {host : String} {bytes : ByteArray} {maxL : Nat} {rm : Room} {b : Nat} {Qp : Option Value → xk_H → Prop} (As : List Value) (rest : List Value) (n : Nat) (hM : xk_C g y (ws_ y bytes maxL none) rm (.ref b :: As) X Qp)
    {index : Nat} (h1 : Cond.methodLinkNest own index y host ∈ lw_tbl) (h4 : Cond.instanceMethod y ∈ lw_all) (h5 : Cond.initialized y.cls ∈ lw_all) (h6 : Cond.code y bytes maxL none ∈ lw_all) (hy1 : y.name = "<init>")
    (hd : y.cls ≠ "java/lang/invoke/MethodHandle" ∧ y.cls ≠ "java/lang/invoke/VarHandle" ∧ (parseMethodDescriptor y.desc).map (fun d => d.parameters.length) = some n)
    (hRm : rm.frames + 1 ≤ R.frames ∧ 8 + (maxL + 11) + rm.locals ≤ R.locals) (hn : As.length = n) (hst : st0 = As.reverse ++ .ref b :: rest) (hW : (rest.map fun v => v.category).sum ≤ 8) (hdg : decode cc pc = .ok (.invokespecial index, 3)) (hfc : cells + rm.cells ≤ R.cells) (hfs : slots + rm.slots ≤ R.slots) :
    va_Run p (xk_l g) e R s m args below meth c H locs cells slots rm.cells rm.slots (F0 m pc ls st0) rest (xk_Q g Qp (Value.ref b :: As).toArray) (xk_A g) :=
  va_runIN (As := As) (rest := rest) ⟨B.1, B.2.1, B.2.2.1, B.ow, B.ts⟩ hM ⟨va_cnB n B.ts (lw_meth h6) rfl rfl rfl (B.K.nwM h1) (B.ts _ h5) hd hRm, hy1, B.ts _ h4⟩ ⟨xk_blind, fun U hU hW => ⟨rfl, xk_K.call B.K hI.1 hU hW, by rw [hU]; exact hI.2⟩⟩ rfl hn hl.1 hst (lv_room hW) hdg ⟨hfc, hfs⟩
theorem xk_cVX (B : xk_B g p s m args meth c own cc nL) (hI : xk_I g s H X locs) {lv : List (Nat × Value)} (hl : lv_has ls nL lv) {y : MethodName} {bytes : ByteArray} {maxL : Nat} {ret : Option FieldType} {rm : Room} {b : Nat} {Qp : Option Value → xk_H → Prop} {Qx : String → Nat → xk_H → Prop} (As : List Value) (rest : List Value) (n : Nat) (hM : xk_CX g y (ws_ y bytes maxL ret) rm (.ref b :: As) X Qp Qx)
    {index : Nat} {C : String} {o : Nat × Nat} {ci : Nat} {fs : List Value} {T : u_T} {N : Nat} (hrv : X b = some (o, .inr (ci, fs))) (hc : xk_Cl[ci]? = some (C, T, N)) (hG : GoodIn lw_all (wsV own index C y (ws_ y bytes maxL ret)))
    (hd : y.cls = C ∧ y.cls ≠ "java/lang/invoke/MethodHandle" ∧ y.cls ≠ "java/lang/invoke/VarHandle" ∧ (parseMethodDescriptor y.desc).map (fun d => d.parameters.length) = some n)
    (hRm : rm.frames + 1 ≤ R.frames ∧ 8 + (maxL + 11) + rm.locals ≤ R.locals) (hn : As.length = n) (hst : st0 = As.reverse ++ .ref b :: rest) (hW : (rest.map fun v => v.category).sum ≤ 8) (hdg : decode cc pc = .ok (.invokevirtual index, 3)) (hfc : cells + rm.cells ≤ R.cells) (hfs : slots + rm.slots ≤ R.slots) :
    vx_Run p (xk_l g) e R s m args below meth c H locs cells slots rm.cells rm.slots (F0 m pc ls st0) rest (xk_Q g Qp (Value.ref b :: As).toArray) (xk_XC g Qx) (xk_A g) :=
  vx_runV (As := As) (rest := rest) ⟨B.1, B.2.1, B.2.2.1, B.ow, B.ts⟩ hM (cwV n B.ts hG rfl rfl rfl hd hRm) ⟨xk_blind, va_recv (q0 := 0) B.K.1 (xk_one hI.2 hrv) hc rfl, fun U hU hW => ⟨rfl, xk_K.call B.K hI.1 hU hW, by rw [hU]; exact hI.2⟩⟩ rfl hn hl.1 hst (lv_room hW) hdg ⟨hfc, hfs⟩
theorem xk_cSX (B : xk_B g p s m args meth c own cc nL) (hI : xk_I g s H X locs) {lv : List (Nat × Value)} (hl : lv_has ls nL lv) {y : MethodName} {bytes : ByteArray} {maxL : Nat} {ret : Option FieldType} {rm : Room} {Qp : Option Value → xk_H → Prop} {Qx : String → Nat → xk_H → Prop} (As : List Value) (rest : List Value) (n : Nat) (hM : xk_CX g y (ws_ y bytes maxL ret) rm As X Qp Qx)
    {index : Nat} (hG : GoodIn lw_all (va_wsS own index y (ws_ y bytes maxL ret)))
    (hd : y.cls ≠ "java/lang/invoke/MethodHandle" ∧ y.cls ≠ "java/lang/invoke/VarHandle" ∧ (parseMethodDescriptor y.desc).map (fun d => d.parameters.length) = some n)
    (hRm : rm.frames + 1 ≤ R.frames ∧ 8 + (maxL + 11) + rm.locals ≤ R.locals) (hn : As.length = n) (hst : st0 = As.reverse ++ rest) (hW : (rest.map fun v => v.category).sum ≤ 8) (hdg : decode cc pc = .ok (.invokestatic index, 3)) (hfc : cells + rm.cells ≤ R.cells) (hfs : slots + rm.slots ≤ R.slots) :
    vx_Run p (xk_l g) e R s m args below meth c H locs cells slots rm.cells rm.slots (F0 m pc ls st0) rest (xk_Q g Qp As.toArray) (xk_XC g Qx) (xk_A g) :=
  vx_runS (As := As) (rest := rest) ⟨B.1, B.2.1, B.2.2.1, B.ow, B.ts⟩ hM (va_cwS n B.ts hG rfl rfl rfl hd hRm) ⟨xk_blind, fun U hU hW => ⟨rfl, xk_K.call B.K hI.1 hU hW, by rw [hU]; exact hI.2⟩⟩ rfl hn hl.1 hst (lv_room hW) hdg ⟨hfc, hfs⟩
theorem xk_cVNX (B : xk_B g p s m args meth c own cc nL) (hI : xk_I g s H X locs) {lv : List (Nat × Value)} (hl : lv_has ls nL lv) {y : MethodName} {host : String} {bytes : ByteArray} {maxL : Nat} {ret : Option FieldType} {rm : Room} {b : Nat} {Qp : Option Value → xk_H → Prop} {Qx : String → Nat → xk_H → Prop} (As : List Value) (rest : List Value) (n : Nat) (hM : xk_CX g y (ws_ y bytes maxL ret) rm (.ref b :: As) X Qp Qx)
    {index : Nat} {C : String} {o : Nat × Nat} {ci : Nat} {fs : List Value} {T : u_T} {N : Nat} (hrv : X b = some (o, .inr (ci, fs))) (hc : xk_Cl[ci]? = some (C, T, N)) (h1 : Cond.methodLinkNest own index y host ∈ lw_tbl) (h3 : Cond.selects C y y ∈ lw_all) (h4 : Cond.instanceMethod y ∈ lw_all) (h5 : Cond.initialized y.cls ∈ lw_all) (h6 : Cond.code y bytes maxL ret ∈ lw_all)
    (hd : y.cls ≠ "java/lang/invoke/MethodHandle" ∧ y.cls ≠ "java/lang/invoke/VarHandle" ∧ (parseMethodDescriptor y.desc).map (fun d => d.parameters.length) = some n)
    (hRm : rm.frames + 1 ≤ R.frames ∧ 8 + (maxL + 11) + rm.locals ≤ R.locals) (hn : As.length = n) (hst : st0 = As.reverse ++ .ref b :: rest) (hW : (rest.map fun v => v.category).sum ≤ 8) (hdg : decode cc pc = .ok (.invokevirtual index, 3)) (hfc : cells + rm.cells ≤ R.cells) (hfs : slots + rm.slots ≤ R.slots) :
    vx_Run p (xk_l g) e R s m args below meth c H locs cells slots rm.cells rm.slots (F0 m pc ls st0) rest (xk_Q g Qp (Value.ref b :: As).toArray) (xk_XC g Qx) (xk_A g) :=
  vx_runVN (As := As) (rest := rest) ⟨B.1, B.2.1, B.2.2.1, B.ow, B.ts⟩ hM ⟨va_cnB n B.ts (lw_meth h6) rfl rfl rfl (B.K.nwM h1) (B.ts _ h5) hd hRm, B.ts _ h4, B.ts _ h3⟩ ⟨xk_blind, va_recv (q0 := 0) B.K.1 (xk_one hI.2 hrv) hc rfl, fun U hU hW => ⟨rfl, xk_K.call B.K hI.1 hU hW, by rw [hU]; exact hI.2⟩⟩ rfl hn hl.1 hst (lv_room hW) hdg ⟨hfc, hfs⟩
theorem xk_cSNX (B : xk_B g p s m args meth c own cc nL) (hI : xk_I g s H X locs) {lv : List (Nat × Value)} (hl : lv_has ls nL lv) {y : MethodName} {host : String} {bytes : ByteArray} {maxL : Nat} {ret : Option FieldType} {rm : Room} {Qp : Option Value → xk_H → Prop} {Qx : String → Nat → xk_H → Prop} (As : List Value) (rest : List Value) (n : Nat) (hM : xk_CX g y (ws_ y bytes maxL ret) rm As X Qp Qx)
    {index : Nat} (h1 : Cond.methodLinkNest own index y host ∈ lw_tbl) (h4 : Cond.static y ∈ lw_all) (h5 : Cond.initialized y.cls ∈ lw_all) (h6 : Cond.code y bytes maxL ret ∈ lw_all)
    (hd : y.cls ≠ "java/lang/invoke/MethodHandle" ∧ y.cls ≠ "java/lang/invoke/VarHandle" ∧ (parseMethodDescriptor y.desc).map (fun d => d.parameters.length) = some n)
    (hRm : rm.frames + 1 ≤ R.frames ∧ 8 + (maxL + 11) + rm.locals ≤ R.locals) (hn : As.length = n) (hst : st0 = As.reverse ++ rest) (hW : (rest.map fun v => v.category).sum ≤ 8) (hdg : decode cc pc = .ok (.invokestatic index, 3)) (hfc : cells + rm.cells ≤ R.cells) (hfs : slots + rm.slots ≤ R.slots) :
    vx_Run p (xk_l g) e R s m args below meth c H locs cells slots rm.cells rm.slots (F0 m pc ls st0) rest (xk_Q g Qp As.toArray) (xk_XC g Qx) (xk_A g) :=
  vx_runSN (As := As) (rest := rest) ⟨B.1, B.2.1, B.2.2.1, B.ow, B.ts⟩ hM ⟨va_cnB n B.ts (lw_meth h6) rfl rfl rfl (B.K.nwM h1) (B.ts _ h5) hd hRm, B.ts _ h4, trivial⟩ ⟨xk_blind, fun U hU hW => ⟨rfl, xk_K.call B.K hI.1 hU hW, by rw [hU]; exact hI.2⟩⟩ rfl hn hl.1 hst (lv_room hW) hdg ⟨hfc, hfs⟩
theorem xk_run5 {Qp : Option Value → xk_H → Prop} {a : Array Value} {mc ms : Nat} (hr : va_Run5 p l e R s m args below meth c H locs cells slots mc ms (F0 m pc ls st0) rest (xk_Q g Qp a) (xk_A g)) (hI : xk_I g s H X locs)
    (kk : ∀ (v : Option Value) (X1 : xk_H) (H1 : Heap) (locs1 : List Loc), Qp v X1 → xk_I g s H1 X1 locs1 → W p l e R s m args below meth c H1 locs1 (cells + mc) (slots + ms) Q (F0 m (pc + 5) ls (v.toList ++ rest))) : W p l e R s m args below meth c H locs cells slots Q (F0 m pc ls st0) := by
  intro T hT XT
  have hS := hI.1
  obtain ⟨v, st₀, t, T', L, h0, X', hL, e1, e2, ⟨⟨v', X1, hv, hp, hR⟩, hz, hk⟩, st⟩ := hr T hT XT
  cases hv
  rw [h0] at hz hk
  obtain ⟨t2, a1, b1⟩ := kk _ X1 T'.heap (locs ++ L) hp ⟨⟨Nat.le_trans hS.1 (by rw [e1]; exact hz), fun q h1 h2 => by rw [e1, hk q (Nat.lt_of_lt_of_le h1 hS.1) h2]; exact hS.2.1 q h1 h2, fun q hq => by
      rcases List.mem_append.mp hq with h | h
      · exact hS.2.2 q h
      · exact hL q h⟩, by rw [e1]; exact hR⟩ T' rfl X'
  exact ⟨t2, st t2 a1, b1⟩
theorem xk_runX {Qp : Option Value → xk_H → Prop} {Qx : String → Nat → xk_H → Prop} {a : Array Value} {mc ms : Nat} (hr : vx_Run p l e R s m args below meth c H locs cells slots mc ms (F0 m pc ls st0) rest (xk_Q g Qp a) (xk_XC g Qx) (xk_A g)) (hI : xk_I g s H X locs)
    (kx : ∀ (E : String) (q : Nat) (ce : Cell) (X1 : xk_H) (H1 : Heap) (locs1 : List Loc), Qx E q X1 → xk_I g s H1 X1 locs1 → H1[q]? = some ce → ce.vm = .none → s.vm.findClass E = some ce.cls → vx_W p l e R s m args below meth c H1 locs1 (cells + mc) (slots + ms) Q (F0 m pc ls rest) q)
    (kk : ∀ (v : Option Value) (X1 : xk_H) (H1 : Heap) (locs1 : List Loc), Qp v X1 → xk_I g s H1 X1 locs1 → W p l e R s m args below meth c H1 locs1 (cells + mc) (slots + ms) Q (F0 m (pc + 3) ls (v.toList ++ rest))) : W p l e R s m args below meth c H locs cells slots Q (F0 m pc ls st0) := by
  intro T hT XT
  have hS := hI.1
  rcases hr T hT XT with ⟨v, st₀, t, T', L, h0, X', hL, e1, e2, ⟨⟨v', X1, hv, hp, hR⟩, hz, hk⟩, st⟩ | ⟨q, st₀, t, T', L, E, ce, h0, X', hL, e1, e2, ⟨X1, hp, hR, hz, hk⟩, hce, hcv, hcl, st⟩
  · cases hv
    rw [h0] at hz hk
    obtain ⟨t2, a1, b1⟩ := kk _ X1 T'.heap (locs ++ L) hp ⟨⟨Nat.le_trans hS.1 (by rw [e1]; exact hz), fun q h1 h2 => by rw [e1, hk q (Nat.lt_of_lt_of_le h1 hS.1) h2]; exact hS.2.1 q h1 h2, fun q hq => by
      rcases List.mem_append.mp hq with h | h
      · exact hS.2.2 q h
      · exact hL q h⟩, by rw [e1]; exact hR⟩ T' rfl X'
    exact ⟨t2, st t2 a1, b1⟩
  · rw [h0] at hz hk
    obtain ⟨t2, a1, b1⟩ := kx E q ce X1 T'.heap (locs ++ L) hp ⟨⟨Nat.le_trans hS.1 (by rw [e1]; exact hz), fun q h1 h2 => by rw [e1, hk q (Nat.lt_of_lt_of_le h1 hS.1) h2]; exact hS.2.1 q h1 h2, fun q hq => by
      rcases List.mem_append.mp hq with h | h
      · exact hS.2.2 q h
      · exact hL q h⟩, by rw [e1]; exact hR⟩ (by rw [e1]; exact hce) hcv hcl T' rfl X'
    exact ⟨t2, st.trans a1, b1⟩
theorem xk_run5X {Qp : Option Value → xk_H → Prop} {Qx : String → Nat → xk_H → Prop} {a : Array Value} {mc ms : Nat} (hr : vx_Run5 p l e R s m args below meth c H locs cells slots mc ms (F0 m pc ls st0) rest (xk_Q g Qp a) (xk_XC g Qx) (xk_A g)) (hI : xk_I g s H X locs)
    (kx : ∀ (E : String) (q : Nat) (ce : Cell) (X1 : xk_H) (H1 : Heap) (locs1 : List Loc), Qx E q X1 → xk_I g s H1 X1 locs1 → H1[q]? = some ce → ce.vm = .none → s.vm.findClass E = some ce.cls → vx_W p l e R s m args below meth c H1 locs1 (cells + mc) (slots + ms) Q (F0 m pc ls rest) q)
    (kk : ∀ (v : Option Value) (X1 : xk_H) (H1 : Heap) (locs1 : List Loc), Qp v X1 → xk_I g s H1 X1 locs1 → W p l e R s m args below meth c H1 locs1 (cells + mc) (slots + ms) Q (F0 m (pc + 5) ls (v.toList ++ rest))) : W p l e R s m args below meth c H locs cells slots Q (F0 m pc ls st0) := by
  intro T hT XT
  have hS := hI.1
  rcases hr T hT XT with ⟨v, st₀, t, T', L, h0, X', hL, e1, e2, ⟨⟨v', X1, hv, hp, hR⟩, hz, hk⟩, st⟩ | ⟨q, st₀, t, T', L, E, ce, h0, X', hL, e1, e2, ⟨X1, hp, hR, hz, hk⟩, hce, hcv, hcl, st⟩
  · cases hv
    rw [h0] at hz hk
    obtain ⟨t2, a1, b1⟩ := kk _ X1 T'.heap (locs ++ L) hp ⟨⟨Nat.le_trans hS.1 (by rw [e1]; exact hz), fun q h1 h2 => by rw [e1, hk q (Nat.lt_of_lt_of_le h1 hS.1) h2]; exact hS.2.1 q h1 h2, fun q hq => by
      rcases List.mem_append.mp hq with h | h
      · exact hS.2.2 q h
      · exact hL q h⟩, by rw [e1]; exact hR⟩ T' rfl X'
    exact ⟨t2, st t2 a1, b1⟩
  · rw [h0] at hz hk
    obtain ⟨t2, a1, b1⟩ := kx E q ce X1 T'.heap (locs ++ L) hp ⟨⟨Nat.le_trans hS.1 (by rw [e1]; exact hz), fun q h1 h2 => by rw [e1, hk q (Nat.lt_of_lt_of_le h1 hS.1) h2]; exact hS.2.1 q h1 h2, fun q hq => by
      rcases List.mem_append.mp hq with h | h
      · exact hS.2.2 q h
      · exact hL q h⟩, by rw [e1]; exact hR⟩ (by rw [e1]; exact hce) hcv hcl T' rfl X'
    exact ⟨t2, st.trans a1, b1⟩
theorem xk_ri5 {r : Int32} {P : xk_H → Prop} {a : Array Value} {mc ms : Nat} (hr : va_Run5 p l e R s m args below meth c H locs cells slots mc ms (F0 m pc ls st0) rest (xk_Q g (xk_Qi r P) a) (xk_A g)) (hI : xk_I g s H X locs)
    (kk : ∀ (X1 : xk_H) (H1 : Heap) (locs1 : List Loc), P X1 → xk_I g s H1 X1 locs1 → W p l e R s m args below meth c H1 locs1 (cells + mc) (slots + ms) Q (F0 m (pc + 5) ls (.int r :: rest))) : W p l e R s m args below meth c H locs cells slots Q (F0 m pc ls st0) :=
  xk_run5 hr hI (fun _ X1 H1 locs1 hq hI1 => by obtain ⟨rfl, hq⟩ := hq; exact kk X1 H1 locs1 hq hI1)
theorem xk_ri50 {r : Int32} {a : Array Value} {mc ms : Nat} (hr : va_Run5 p l e R s m args below meth c H locs cells slots mc ms (F0 m pc ls st0) rest (xk_Q g (xk_Qi r (fun X1 => X1 = X)) a) (xk_A g)) (hI : xk_I g s H X locs)
    (kk : ∀ (H1 : Heap) (locs1 : List Loc), xk_I g s H1 X locs1 → W p l e R s m args below meth c H1 locs1 (cells + mc) (slots + ms) Q (F0 m (pc + 5) ls (.int r :: rest))) : W p l e R s m args below meth c H locs cells slots Q (F0 m pc ls st0) :=
  xk_ri5 hr hI (fun X1 H1 locs1 hq hI1 => kk H1 locs1 (by rw [← hq]; exact hI1))
theorem xk_rq5 {r : Option Nat} {P : xk_H → Prop} {a : Array Value} {mc ms : Nat} (hr : va_Run5 p l e R s m args below meth c H locs cells slots mc ms (F0 m pc ls st0) rest (xk_Q g (xk_Qq r P) a) (xk_A g)) (hI : xk_I g s H X locs)
    (kk : ∀ (X1 : xk_H) (H1 : Heap) (locs1 : List Loc), P X1 → xk_I g s H1 X1 locs1 → W p l e R s m args below meth c H1 locs1 (cells + mc) (slots + ms) Q (F0 m (pc + 5) ls (va_rf r :: rest))) : W p l e R s m args below meth c H locs cells slots Q (F0 m pc ls st0) :=
  xk_run5 hr hI (fun _ X1 H1 locs1 hq hI1 => by obtain ⟨rfl, hq⟩ := hq; exact kk X1 H1 locs1 hq hI1)
/-- it goes on to the caller -/
theorem xk_outX (B : xk_B g p s m args meth c own cc nL) (hI : xk_I g s H X locs) (hex : ∀ x ∈ c.exceptionTable.toList, False) {Qp : Option Value → xk_H → Prop} {Qx : String → Nat → xk_H → Prop} {mc ms : Nat} {E : String} {q : Nat} {ce : Cell} (hce : H[q]? = some ce) (hcv : ce.vm = .none) (hcl : s.vm.findClass E = some ce.cls) (hc : cells ≤ mc) (hs : slots ≤ ms) (hq : Qx E q X) :
    vx_W p l e R s m args below meth c H locs cells slots (vx_MQ below (xk_Q g Qp) (xk_XC g Qx) args s mc ms (xk_A g)) (F0 m pc ls rest) q :=
  vx_out (fun x hx => (hex x hx).elim) B.lk hce hcv hcl (fun t ht _ => ⟨X, hq, by rw [ht]; exact hI.2, hI.1.F ht⟩) hI.1.2.2 hc hs
/-- throwing an object of ours -/
theorem xk_thr (B : xk_B g p s m args meth c own cc nL) (hI : xk_I g s H X locs) (hex : ∀ x ∈ c.exceptionTable.toList, False) {Qp : Option Value → xk_H → Prop} {Qx : String → Nat → xk_H → Prop} {mc ms : Nat} {q : Nat} {o : Nat × Nat} {ci : Nat} {fs : List Value} (ha : X q = some (o, .inr (ci, fs))) {C : String} {T : u_T} {N : Nat} (hcl : xk_Cl[ci]? = some (C, T, N)) (hdg : decode cc pc = .ok (.athrow, 1)) (hc : cells ≤ mc) (hs : slots ≤ ms) (hq : Qx C q X) :
    W p l e R s m args below meth c H locs cells slots (vx_MQ below (xk_Q g Qp) (xk_XC g Qx) args s mc ms (xk_A g)) (F0 m pc ls (.ref q :: rest)) := by
  obtain ⟨r, h1, cell, q1, q2, q3, q4⟩ := xk_one hI.2 ha 0 _ rfl
  have hr : r = (C, T, N) := Option.some.inj (h1.symm.trans hcl)
  subst hr
  obtain ⟨hS, hfc, -⟩ := B.K.1.1 ci _ hcl
  exact vx_athrow B.1 B.2.1 hdg (xk_outX B hI hex q1 q3 (by rw [q2]; exact hfc) hc hs hq)
theorem xk_ofWX {y : MethodName} {maxL : Nat} {ret : Option FieldType} {rm : Room} {av : List Value} {Qp : Option Value → xk_H → Prop} {Qx : String → Nat → xk_H → Prop} (hy : plainName y.cls = true) (hpl : (lg_sl av).length ≤ maxL)
    (body : ∀ (p : Program) (e : Env) (s : State) (m : MethodId) (args : Array Value) (below : List Frame) (meth : Method) (c : Code), xk_B g p s m args meth c y.cls cc maxL → (∀ x ∈ c.exceptionTable.toList, False) → meth.sig.returnType = ret → meth.name = y.name → args = av.toArray → xk_I g s s.heap X [] → ∀ ls : Array Slot, lv_has ls maxL (lv_args 0 av) →
      W p (xk_l g) e rm s m args below meth c s.heap [] 0 0 (vx_MQ below (xk_Q g Qp) (xk_XC g Qx) args s rm.cells rm.slots (xk_A g)) (F0 m 0 ls [])) : xk_CX g y (ws_ y cc maxL ret) rm av X Qp Qx := by
  refine vx_ofW (cc := cc) (maxL := maxL) (ret := ret) hy rfl ?_
  intro p e s m args below meth c s₁ B hml hex hv
  obtain ⟨rfl, hK, hR⟩ := hv
  have hts := atoms_spec (ws := ws_ y cc maxL ret) B.pre
  rw [lg_entry_eq]
  exact body p e s m _ below meth c ⟨B.exec, B.bytes, hml, findClass_of_methodNamed B.named, fun w h => hts w (List.mem_cons_of_mem _ h), B.notSynchronized, hK⟩ hex B.returns (name_of_methodNamed B.named B.method).1 rfl ⟨va_S.rf, hR⟩ _ (lv_entry av hpl)
end X5
