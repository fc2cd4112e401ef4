/-! calling a lambda -/
set_option maxRecDepth 100000
section XL4
variable {p : Program} {l : Launch} {e : Env} {R : Room} {s : State} {m : MethodId} {args : Array Value} {below : List Frame} {meth : Method} {c : Code} {T : State} {locs : List Loc} {cells slots : Nat}
/-- the inner walk has thrown -/
theorem xl_outT (X : Stand p l e R s m args below meth c T locs cells slots) {g : JFrame} (hg : g.method = m) {mk : MethodId} {a : Array Value} {t : State} {q : Addr} {L : List Loc} {k n : Nat}
    (hend : Ended t (.java g :: below) (.threw q)) (hW : (T.calling g mk a).WarmedH t.vm) (hsame : (T.calling g mk a).sameButNew ({ t with vm := (T.calling g mk a).vm } : State) L k n) :
    ∃ T', Stand p l e R s m args below meth c T' (locs ++ L) (cells + k) (slots + n) ∧ T'.heap = t.heap ∧ T'.vm = t.vm ∧ t = (T'.setTop g).pushFrame (.throwing q) := by
  subst hg
  have htop := X.here.top
  obtain ⟨e2, q2, q3, q4, q5, q6⟩ := hsame
  have e3 : t = ({ (T.calling g mk a).setFrames t.frames with heap := t.heap, slotsUsed := t.slotsUsed } : State).setVm t.vm := by
    have : t = ({ t with vm := (T.calling g mk a).vm } : State).setVm t.vm := rfl
    rw [e2] at this
    exact this
  have hf₂ : t.frames = .throwing q :: .java g :: below := hend
  have hW' : T.WarmedH t.vm := hW
  obtain ⟨g₀, hr⟩ := X.frames_eq
  have ht : t = ((({ T with heap := t.heap, slotsUsed := t.slotsUsed } : State).setVm t.vm).setTop g).pushFrame (.throwing q) := by
    have hr' : (({ T with heap := t.heap, slotsUsed := t.slotsUsed } : State).setVm t.vm).frames = .java g₀ :: below := hr
    refine e3.trans ?_
    rw [hf₂, State.calling_eq htop, State.setFrames_setFrames, State.pushFrame, State.frames_setTop _ hr', State.setTop_of_frames _ hr', State.setFrames_setFrames]
    rfl
  have hB : T.sameButNew ({ T with heap := t.heap, slotsUsed := t.slotsUsed } : State) L k n := by
    refine ⟨?_, q2, q3, q4, q5, q6⟩
    obtain ⟨th, hth, -⟩ := State.frames_cons hr
    show ({ T with heap := t.heap, slotsUsed := t.slotsUsed } : State) = { T.setFrames T.frames with heap := t.heap, slotsUsed := t.slotsUsed }
    rw [State.setFrames_self hth]
  exact ⟨({ T with heap := t.heap, slotsUsed := t.slotsUsed } : State).setVm t.vm,
    ⟨X.admits, X.cas, X.clock, X.frames, X.room, X.hears, X.method, X.code, (X.here.setHeapUsed t.heap t.slotsUsed).setVm hW'.alike, X.tail, State.WarmedH.trans X.warmed hW', X.limits, X.bytes, X.same.trans (hB.setVm s.vm)⟩, rfl, rfl, ht⟩
end XL4
section XL5
variable {g : xk_G} {p : Program} {e : Env} {R : Room} {s : State} {m : MethodId} {args : Array Value} {below : List Frame} {meth : Method} {c : Code} {H : Heap} {locs : List Loc} {cells slots : Nat} {Q : State → Prop}
variable {cc : ByteArray} {pc nL : Nat} {own : String} {ls : Array Slot} {rest st0 : List Value} {X : xk_H} {l : Launch}
/-- what is known of a made class in a state -/
def xl_F (cK : ClassId) (σ : Lambda.Shape) (vm : Vm) : Prop := ∃ (d : ClassId) (dk : Class), vm.classes[d]? = some dk ∧ dk.name = "TulipLines" ∧ Lambda.isMade { classPath := fun _ => none } vm d σ cK = true
theorem xl_F.moved {cK : ClassId} {σ : Lambda.Shape} {s : State} {vm : Vm} (hW : s.WarmedH vm) (h : xl_F cK σ s.vm) : xl_F cK σ vm := by
  obtain ⟨d, dk, h1, h2, h3⟩ := h
  obtain ⟨dk', h4, h5⟩ := hW.alike.2.2 _ _ h1
  exact ⟨d, dk', h4, by rw [h5]; exact h2, Lambda.isMade_warmer hW h3⟩
theorem xl_I {s : State} (h : xk_K g s) {x : MethodName} (hx : x.cls ≠ "java/lang/invoke/MethodHandle" ∧ x.cls ≠ "java/lang/invoke/VarHandle") (h1 : Cond.declares x ∈ lw_tbl) (h2 : Cond.interfaceMethod x.cls x.cls x.name x.desc ∈ lw_tbl) : (Cond.declares x).before #[] s = true ∧ (Cond.interfaceMethod x.cls x.cls x.name x.desc).before #[] s = true := by
  have hvm := h.2.1.alike
  have g1 : (Cond.declares x).before #[] (xk_s g) = true := va_any rfl (h.2.2.2.2.2.1 _ h1)
  have g2 : (Cond.interfaceMethod x.cls x.cls x.name x.desc).before #[] (xk_s g) = true := va_any rfl (h.2.2.2.2.2.1 _ h2)
  obtain ⟨r, meth, hn, -⟩ := Cond.declares_spec g1
  have tr : ∀ {c : Cond}, c.onTables = true → c.before #[] ((xk_s g).setVm s.vm) = true → c.before #[] s = true := by
    intro c hc h
    have e := Cond.onTables_vm (A := #[]) (A' := #[]) (U := xk_s g) (U' := s) s.vm c hc
    have hU : s.setVm s.vm = s := rfl
    rw [hU] at e
    rw [← e]
    exact h
  exact ⟨tr rfl (by rw [Cond.declares_setVm hvm]; exact g1), tr rfl (by rw [Cond.interfaceMethod_setVm hvm (r := r) hn hx]; exact g2)⟩
theorem xl_calls (B : xk_B g p s m args meth c own cc nL) (hI : xk_I g s H X locs) {lv : List (Nat × Value)} (hl : lv_has ls nL lv) {x : MethodName} {pc9 ix : Nat} {σ : Lambda.Shape} (hw : Cond.lambdaSite x pc9 ix σ ∈ flatC (Jvm.Cond.and given_1 narrow_1)) (hxc : x.cls = "TulipLines")
    {bytes : ByteArray} {maxL mi ci ni : Nat} {fs : List Nat} {tys : List FieldType} (hk : xl_chk σ bytes maxL mi ci ni fs tys = true) (hcap : σ.captured = tys) (hn : tys ≠ []) {f : Nat} {o : Nat × Nat} {a0 : vp_A} (hf : X f = some (o, .inl (xl_c g x pc9 ix σ, a0))) (arg : Value) (rest : List Value)
    {index count : Nat} {xi : MethodName} (hxi : xi = ⟨σ.iface, σ.name, σ.sam.toString⟩) (hlink : Cond.methodLink own index xi ∈ lw_all) (hdecl : Cond.declares xi ∈ lw_tbl) (hface : Cond.interfaceMethod xi.cls xi.cls xi.name xi.desc ∈ lw_tbl)
    (hd : xi.cls ≠ "java/lang/invoke/MethodHandle" ∧ xi.cls ≠ "java/lang/invoke/VarHandle" ∧ (parseMethodDescriptor xi.desc).map (fun d => d.parameters.length) = some 1)
    {rm : Room} {Qp : Option Value → xk_H → Prop} {Qx : String → Nat → xk_H → Prop} (hRm : rm.frames + 1 ≤ R.frames ∧ 8 + (maxL + 11) + rm.locals ≤ R.locals) (hst : st0 = arg :: .ref f :: rest) (hW : (rest.map fun v => v.category).sum ≤ 8) (hdg : decode cc pc = .ok (.invokeinterface index count, 5)) (hfc : cells + rm.cells ≤ R.cells) (hfs : slots + rm.slots ≤ R.slots)
    (inner : ∀ (s' : State) (methk : Method) (ck : Code) (below' : List Frame), xk_K g s' → xk_R g X s'.heap → xl_F (xl_c g x pc9 ix σ) σ s'.vm → ck.code = bytes → ck.maxLocals = maxL → ck.exceptionTable.toList = [] → methk.locks = false → methk.sig.returnType = some .int → (∀ w ∈ lw_all, w.before #[.ref f, arg] s' = true) →
      W p (xk_l g) e rm s' ⟨xl_c g x pc9 ix σ, 1⟩ #[.ref f, arg] below' methk ck s'.heap [] 0 0 (vx_MQ below' (xk_Q g Qp) (xk_XC g Qx) #[.ref f, arg] s' rm.cells rm.slots (xk_A g)) (entryFrame ⟨xl_c g x pc9 ix σ, 1⟩ #[.ref f, arg] maxL)) :
    vx_Run5 p (xk_l g) e R s m args below meth c H locs cells slots rm.cells rm.slots (F0 m pc ls st0) rest (xk_Q g Qp #[.ref f, arg]) (xk_XC g Qx) (xk_A g) := by
  intro T hT XT
  have hW0 := B.K.2.1
  obtain ⟨m0, k0, cf, i0, p0, lk, hm0, hk0, -, -, -, -, hmade, hcan, -⟩ := State.lambdaAt?_spec (xl_at B.K.2.2.2.2 hw (by rw [hcap]; exact hn))
  obtain ⟨k00, hk00, hnk0⟩ := className_of_methodNamed hm0
  cases hk0.symm.trans hk00
  have hF0 : xl_F (xl_c g x pc9 ix σ) σ s.vm := xl_F.moved hW0 ⟨m0.cls, k0, hk0, hnk0.trans hxc, hmade⟩
  obtain ⟨d1, dk1, hd1, hdn1, hmade1⟩ := id hF0
  obtain ⟨kK, tk, file, methk, ck, t, target, hkK, hkn, hkind, hity, hfile, hpool, hpnt, hmk, hck, hbytes, hml, hex, hlk, hfl, hret, -⟩ := xl_made hk hd1 hdn1 (xl_O B.K (Vm.Alike.refl _)) hmade1
  obtain ⟨-, -, -, -, -, -, -, iface', -, -, -, -, found, -, -, -, -, -, hi', -, -, -, -, -, -, hfound', -, -, -, -, -, -, -, -, -, -, hsel⟩ := Lambda.isMade_spec hmade1
  obtain ⟨w1, w2⟩ := xl_I B.K ⟨hd.1, hd.2.1⟩ hdecl hface
  obtain ⟨r0, r, hnr, hrm, hstR, hsigR⟩ := Cond.declares_spec w1
  obtain ⟨cL, kL, r1, hcL, hkL, hiL, hfoundL, hn1⟩ := Cond.interfaceMethod_spec w2
  have hxe : (⟨xi.cls, xi.name, xi.desc⟩ : MethodName) = xi := rfl
  rw [hxe] at hn1
  cases hnr.symm.trans hn1
  have hr0cls : r0.cls = cL := Option.some.inj ((findClass_of_methodNamed hnr).symm.trans hcL)
  obtain ⟨hnameR, hdescR⟩ := name_of_methodNamed hnr hrm
  have ec : xi.cls = σ.iface := by rw [hxi]
  have en : xi.name = σ.name := by rw [hxi]
  have ed : xi.desc = σ.sam.toString := by rw [hxi]
  rw [ec] at hcL
  cases hcL.symm.trans hi'
  have hfr : found = r0 := by
    have h1 := hfoundL
    rw [ec, en, ed] at h1
    simp only [State.methodFound?, hcL, hkL, hiL, Option.bind_eq_bind, Option.bind_some] at h1
    rw [hfound'] at h1
    exact Option.some.inj h1
  subst hfr
  have hcan1 : s.lambdaCallable σ (xl_c g x pc9 ix σ) = true := by
    have hA := hW0.alike
    simp only [State.lambdaCallable, hA.findClass, hA.assignable, hA.superclasses, hA.declaredIn] at hcan ⊢
    exact hcan
  obtain ⟨i2, hi2, hasg, hway⟩ := State.lambdaCallable_spec hcan1
  cases hcL.symm.trans hi2
  have hlf : f < H.size := xk_lt hI.2 hf
  have hcell : T.heap[f]? = some (vp_cell (xl_c g x pc9 ix σ) a0) := by rw [hT]; exact (hI.2 f o _ hf).2
  have hvm0 : (vp_cell (xl_c g x pc9 ix σ) a0).vm = .none := by
    obtain ⟨n0, c0⟩ := a0
    rcases c0 with c0 | c0 | c0 | c0 | c0 <;> rfl
  have hcls0 : (vp_cell (xl_c g x pc9 ix σ) a0).cls = xl_c g x pc9 ix σ := by
    obtain ⟨n0, c0⟩ := a0
    rcases c0 with c0 | c0 | c0 | c0 | c0 <;> rfl
  have hsz : (F0 m pc ls rest).locals.size = c.maxLocals := by rw [B.2.2.1]; exact hl.1
  have hdc : decode c.code pc = .ok (.invokeinterface index count, 5) := by rw [B.2.1]; exact hdg
  obtain ⟨vm₁, X₁, hstep₁⟩ := XT.invokeinterface B.1 B.ow (B.ts _ hlink) hnr hrm hstR (by rw [hr0cls]; exact hkL) hiL ⟨hd.1, hd.2.1⟩ (a := f) hcell (fun z h => by rw [hvm0] at h; cases h) (by rw [hcls0]; exact hkK) (by rw [hcls0, hr0cls]; exact hasg)
    (m' := ⟨xl_c g x pc9 ix σ, 1⟩) (meth' := methk) (by rw [hcls0, Launch.admits_selectMethod XT.admits]; exact hsel) hmk (by rw [hcls0, hnameR, hdescR, en, ed]; exact hway) (by rw [hfl]; decide) (by simp [Method.isAbstract, hfl, hasFlag, Acc.abstract])
    (g := F0 m pc ls st0) rfl (argsL := [arg]) (rest := rest) (by
      have h2 := hd.2.2
      rw [hsigR] at h2
      exact (Option.some.inj h2).symm) hst hdc
  have hW1 : s.WarmedH vm₁ := X₁.warmed
  obtain ⟨d2, dk2, hd2, hdn2, hmade2⟩ := hF0.moved hW1
  obtain ⟨kK2, tk2, file2, methk2, ck2, t2, target2, hkK2, hkn2, hkind2, hity2, hfile2, hpool2, hpnt2, hmk2, hck2, hbytes2, hml2, hex2, hlk2, hfl2, hret2, -⟩ := xl_made hk hd2 hdn2 (xl_O B.K hW1.alike) hmade2
  have hpk : (T.setVm vm₁).plainMethod ⟨xl_c g x pc9 ix σ, 1⟩ := State.plainMethod.of_name (fun k' hk' => by cases hkK2.symm.trans hk'; rw [hkn2]; decide)
  obtain ⟨Y₀, hin⟩ := X₁.into (g := F0 m pc ls rest) rfl hsz hdc #[.ref f, arg] (R' := rm) hmk2 hck2 hlk2 hpk hRm.1 (by rw [hml2]; show 2 * 0 + (rest.map fun v => v.category).sum + (maxL + 11) + rm.locals ≤ _; omega) hfc hfs
  have hK' : xk_K g ((T.setVm vm₁).calling (F0 m pc ls rest) ⟨xl_c g x pc9 ix σ, 1⟩ #[.ref f, arg]) := xk_K.call B.K hI.1 (show T.heap = H from hT) hW1
  have hWin := inner ((T.setVm vm₁).calling (F0 m pc ls rest) ⟨xl_c g x pc9 ix σ, 1⟩ #[.ref f, arg]) methk2 ck2 (.java (F0 m pc ls rest) :: below) hK' (by show xk_R g X T.heap; rw [hT]; exact hI.2) (hF0.moved hW1) hbytes2 hml2 hex2 hlk2 hret2 (fun w hw => pay_in B.ts (fun w hw => ⟨hw, good_of_word (List.mem_filter.mp hw).2⟩) w hw #[.ref f, arg] _ hW1)
  obtain ⟨tt, hsteps, oo, hrun, hend, hq⟩ := hWin (((T.setVm vm₁).setTop (F0 m pc ls rest)).pushFrame (.java (entryFrame ⟨xl_c g x pc9 ix σ, 1⟩ #[.ref f, arg] ck2.maxLocals))) rfl Y₀
  have hgo : ∀ tg, Steps p.tables e below tt tg → Steps p.tables e below (T.setTop (F0 m pc ls st0)) tg := fun tg htg => hstep₁ tg fun acts => by
    rw [hin acts]
    have hs2 := hsteps
    rw [← hml2] at hs2
    exact (Steps.weaken (mid := [.java (F0 m pc ls rest)]) hs2).trans htg
  rcases hq with ⟨hqc, L, hfe, hL⟩ | ⟨q, rfl, E, ce, L, hx, hce, hcv, hcl, hW₂, hsm, hL⟩
  · obtain ⟨⟨v, rfl⟩, hW₂, hsm⟩ := id hfe
    obtain ⟨T', X', hW', -, ht⟩ := X₁.outOf (g := F0 m pc ls rest) rfl hdc hend hW₂ hsm
    exact Or.inl ⟨v, _, tt, T', L, show T.heap = H from hT, X', hL, by rw [ht]; rfl, by rw [ht]; rfl, hqc, fun tg htg => hgo tg (by rw [ht]; exact htg)⟩
  · obtain ⟨T', X', e1, e2, ht⟩ := xl_outT X₁ (g := F0 m pc ls rest) rfl hend hW₂ hsm
    exact Or.inr ⟨q, _, tt, T', L, E, ce, show T.heap = H from hT, X', hL, e1, e2, hx, hce, hcv, vx_cls (T := T) hW1 hcl, hgo _ (by rw [ht]; exact Steps.refl _)⟩
end XL5
