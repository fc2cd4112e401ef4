/-! exceptions of our own: the constructor of Exception on a fresh object of a subclass (launches without stack traces) -/
set_option maxRecDepth 100000
def xk_fr0 (g : xk_G) (ci a : Nat) (U : State) : Prop := ∃ kC : Class, U.vm.classes[(xk_D g).1 ci]? = some kC ∧ U.heap[a]? = some (freshCell ((xk_D g).1 ci) kC)
theorem xk_zU {g : xk_G} {s : State} (h : xk_K g s) : vx_Zq Bundle.tN "UNASSIGNED_STACK" Bundle.steD (xk_A g) s s.heap :=
  vx_Zq.kept (vx_Zq.moved h.2.1.alike (vx_Zqof (h.2.2.2.2.2.1 _ q293) (h.2.2.2.2.2.1 _ (lw_all_tbl q80)) (h.2.2.2.2.nar _ (by decide +kernel)) (fun a ha hz => Nat.not_le.mpr ha hz))) (fun a ha _ => h.2.2.2.1 a ha)
theorem xk_zN {g : xk_G} {s : State} (h : xk_K g s) : vx_Zq Bundle.tN "SUPPRESSED_SENTINEL" Bundle.listD (xk_A g) s s.heap :=
  vx_Zq.kept (vx_Zq.moved h.2.1.alike (vx_Zqof (h.2.2.2.2.2.1 _ q295) (h.2.2.2.2.2.1 _ (lw_all_tbl q80)) (h.2.2.2.2.nar _ (by decide +kernel)) (fun a ha hz => Nat.not_le.mpr ha hz))) (fun a ha _ => h.2.2.2.1 a ha)
section XT
variable {g : xk_G} {p : Program} {e : Env} {R : Room} {s : State} {m : MethodId} {args : Array Value} {below : List Frame} {meth : Method} {c : Code} {H : Heap} {locs : List Loc} {cells slots : Nat} {Q : State → Prop}
variable {cc : ByteArray} {pc nL : Nat} {own : String} {ls : Array Slot} {rest st0 : List Value} {X : xk_H} {l : Launch}
theorem xk_wordsT (B : xk_B g p s m args meth c own cc nL) : ∀ w ∈ Bundle.throwableAtoms, w.before args s = true := by
  intro w hw
  simp only [Bundle.throwableAtoms, List.mem_cons, List.not_mem_nil, or_false] at hw
  rcases hw with rfl | rfl | rfl | rfl | rfl | rfl | rfl | rfl | rfl | rfl | rfl | rfl | rfl | rfl | rfl | rfl | rfl | rfl | rfl | rfl | rfl | rfl | rfl | rfl
  · exact B.ts _ q80
  · exact B.ts _ q288
  · exact B.ts _ q297
  · exact B.ts _ q301
  · exact B.ts _ q304
  · exact B.ts _ q306
  · exact B.ts _ q289
  · exact B.ts _ q290
  · exact B.ts _ q108
  · exact B.ts _ q109
  · exact B.ts _ q291
  · exact B.ts _ q296
  · exact B.ts _ q302
  · exact B.ts _ q317
  · exact B.ts _ q278
  · exact B.ts _ q318
  · exact B.ts _ q280
  · exact B.ts _ q319
  · exact B.ts _ q282
  · exact B.ts _ q292
  · exact (xk_zU B.K).2.word
  · exact B.ts _ q294
  · exact (xk_zN B.K).2.word
  · exact B.ts _ q284
theorem xk_wordsE (B : xk_B g p s m args meth c own cc nL) : ∀ w ∈ Bundle.chain0Atoms "java/lang/Exception" [], w.before args s = true := by
  intro w hw
  simp only [Bundle.chain0Atoms, Bundle.passAtoms, List.mem_cons, List.not_mem_nil, or_false] at hw
  rcases hw with rfl | rfl | rfl | rfl | rfl
  · exact B.ts _ q311
  · exact B.ts _ q312
  · exact B.ts _ q313
  · exact B.ts _ q289
  · exact va_Nw.use rfl (va_Nw.warmD B.K.2.1 (va_Nw.of rfl (B.K.2.2.2.2.2.1 _ q273)))
set_option maxHeartbeats 4000000 in
theorem xk_superX (B : xk_B g p s m args meth c own cc nL) (hI : xk_I g s s.heap X []) {a : Nat} {o : Nat × Nat} {ci : Nat} {fs : List Value} (ha : X a = some (o, .inr (ci, fs))) {C : String} {T0 : u_T} {N : Nat} (hc : xk_Cl[ci]? = some (C, T0, N)) (hfr : xk_fr0 g ci a s)
    (hcat : Cond.instantiable C N ∈ lw_all) (w1 : Cond.selects C Bundle.tFill0 Bundle.tFill0 ∈ lw_all) (w2 : Cond.selects C Bundle.tFill Bundle.tFill ∈ lw_all) (w3 : Cond.lays C Bundle.tN "cause" "Ljava/lang/Throwable;" ∈ lw_all) (w4 : Cond.lays C Bundle.tN "stackTrace" Bundle.steD ∈ lw_all) (w5 : Cond.lays C Bundle.tN "suppressedExceptions" Bundle.listD ∈ lw_all) (w6 : Cond.lays C Bundle.tN "backtrace" "Ljava/lang/Object;" ∈ lw_all)
    (hml : c.maxLocals = ls.size) {ic : Nat} (hlink : Cond.methodLink own ic (Bundle.init0 "java/lang/Exception") ∈ lw_all) (hRf : 3 < R.frames) (hRl : (rest.map fun v => v.category).sum + 55 ≤ R.locals) (hdg : decode cc pc = .ok (.invokespecial ic, 3))
    (kk : ∀ (fs1 : List Value) (X1 : xk_H) (H1 : Heap) (locs1 : List Loc), fs1.length = N → X1 a = some (o, .inr (ci, fs1)) → (∀ b, b ≠ a → X1 b = X b) → xk_I g s H1 X1 locs1 → W p (xk_l g) e R s m args below meth c H1 locs1 cells slots Q (F0 m (pc + 3) ls rest)) :
    W p (xk_l g) e R s m args below meth c s.heap [] cells slots Q (F0 m pc ls (.ref a :: rest)) := by
  intro T hT Y
  have hexec := B.1
  have hst : (xk_l g).stackTraces = false := by unfold Launch.stackTraces; rw [B.K.2.2.2.2.1]; decide
  have htr : e.platform.stackTraces = false := (show e.platform.stackTraces = (xk_l g).stackTraces by rw [Y.admits.platform]).trans hst
  have howns : e.platform.frameOwnsMonitors = true := by rw [Y.admits.platform]
  have hfin : e.platform.finalization = false := by rw [Y.admits.platform]
  have hpl : e.platform.magicAccessors = ({} : Platform).magicAccessors := by rw [Y.admits.platform]
  obtain ⟨T9, Z, L, LZ, Y9⟩ := ThrowableC.of_atoms (args := args) howns hfin hpl (xk_wordsT B)
  obtain ⟨P1, Ps, hlen, L1, hL, hP1m, hlink1, hlinkP⟩ := Bundle.chain0 (args := args) hpl Y9.init0 [] "java/lang/Exception" (by decide) (fun _ h => nomatch h) (xk_wordsE B)
  have hPs : Ps = [] := List.length_eq_zero_iff.mp hlen
  subst hPs
  obtain ⟨kX, hkX, hcellH⟩ := hfr
  obtain ⟨hS9, hfound, -⟩ := B.K.1.1 ci _ hc
  obtain ⟨c1, kX', hc1, hk, hord, -, -, hn6⟩ := Cond.instantiable_spec (B.ts _ hcat)
  cases Option.some.inj (hc1.symm.trans hfound)
  cases Option.some.inj (hkX.symm.trans hk)
  have hsel0 : selectMethod e.platform s.vm ((xk_D g).1 ci) T9.fill0 = .method T9.fill0 := by
    obtain ⟨c2, r2, m2, q1, q2, q3, q4, -⟩ := Cond.selects_spec (B.ts _ w1)
    cases Option.some.inj (q1.symm.trans hfound)
    cases Option.some.inj (q2.symm.trans (State.methodFound?_of_named Y9.fill0 (by decide)))
    cases Option.some.inj (q3.symm.trans Y9.fill0)
    rw [Launch.admits_selectMethod Y.admits]; exact q4
  have hselF : selectMethod e.platform s.vm ((xk_D g).1 ci) T9.fill = .method T9.fill := by
    obtain ⟨c2, r2, m2, q1, q2, q3, q4, -⟩ := Cond.selects_spec (B.ts _ w2)
    cases Option.some.inj (q1.symm.trans hfound)
    cases Option.some.inj (q2.symm.trans (State.methodFound?_of_named Y9.fill (by decide)))
    cases Option.some.inj (q3.symm.trans Y9.fill)
    rw [Launch.admits_selectMethod Y.admits]; exact q4
  obtain ⟨cellS0, hcS0, hiss⟩ := Y9.statics
  obtain ⟨u0, hu0⟩ := Cond.staticRefV Y9.unassigned L.unassignedStatic L.statics hcS0 hiss (vx_isRefq (args := args) (xk_zU B.K).1)
  obtain ⟨sen, hsen⟩ := Cond.staticRefV Y9.sentinel L.sentinelStatic L.statics hcS0 hiss (vx_isRefq (args := args) (xk_zN B.K).1)
  obtain ⟨ci198, i198, fB, hk198, hg198, ha198, hsB, -, hnB, htB, hffB⟩ := Cond.ownField (t := .object "java/lang/Object") Y9.found L.cls (by decide +kernel) (B.ts _ q287) (B.ts _ q286) e.platform hpl
  have hneS : T9.aS ≠ a := fun h => by
    rw [h, hcellH] at hcS0
    cases hcS0
    cases hiss
  have hknownS : cellS0.vm ≠ .unknown := fun h => by rw [h] at hiss; cases hiss
  obtain ⟨tyC, dC, hdC, hdnC⟩ := Cond.laysAt hfound hk Y9.cause (B.ts _ w3)
  obtain ⟨tyS, dS, hdS, hdnS⟩ := Cond.laysAt hfound hk Y9.stack (B.ts _ w4)
  obtain ⟨tyP, dP, hdP, hdnP⟩ := Cond.laysAt hfound hk Y9.supp (B.ts _ w5)
  obtain ⟨tyB, dB, hdB, hdnB⟩ := Cond.laysAt hfound hk hffB (B.ts _ w6)
  have bC := Cond.laysApart hdB hdC hdnB hdnC (by rw [hnB, Y9.causeName]; decide)
  have bS := Cond.laysApart hdB hdS hdnB hdnS (by rw [hnB, Y9.stackName]; decide)
  have bP := Cond.laysApart hdB hdP hdnB hdnP (by rw [hnB, Y9.suppName]; decide)
  have hskip : SkipFacts T9 e.platform s (fun u => u) u0 ((preparedCellV T9.toThrowableT (freshCell ((xk_D g).1 ci) kX) a u0 sen).withEntry T.cur) :=
    ⟨{ ci198 := ci198, i198 := i198, fBack := fB }, ⟨hk198, hg198, ha198, hsB⟩, by
      have := fresh_default (c := (xk_D g).1 ci) tyB
      rw [htB] at this
      simpa [preparedCellV, Cell.setSlot, Cell.withEntry, Array.getElem?_setIfInBounds, bC, bS, bP, bC.symm, bS.symm, bP.symm, defaultValue] using this, fun _ _ => rfl⟩
  have hd6 : decode c.code pc = .ok (.invokespecial ic, 3) := by rw [B.2.1]; exact hdg
  obtain ⟨tm, methC, cdC, kC, vm₁, hnC, -, -, -, -, -, -, -, hW₁, st1⟩ := Steps.initCold (tb := p.tables) (e := e) (below := below) (s := s) (U := T) Y.here hexec Y.warmed hpl B.ow (t := Bundle.init0 "java/lang/Exception") rfl rfl (by decide)
    (B.ts _ hlink) (B.ts _ q311) (bytes := Bundle.five) (maxL := 1) (B.ts _ q312)
    (f := F0 m pc ls (.ref a :: rest)) rfl (a := a) (rest := rest) rfl hd6
  cases Option.some.inj (hnC.symm.trans hP1m)
  have X₁ := Y.noted hW₁
  obtain ⟨vm₂, X₂, st2⟩ := X₁.ctorPlainOffV hexec (g := F0 m pc ls rest) rfl hml.symm T9 L Z LZ [P1]
    (fun P hP => by rcases List.mem_cons.mp hP with rfl | hP; exact L1; exact hL P hP) ⟨hlink1, hlinkP⟩ (u0 := u0) (sen := sen) (self := a) (cell := freshCell ((xk_D g).1 ci) kX) (cellS := cellS0)
    (by show T.heap[a]? = _; rw [hT]; exact hcellH) (fun _ => by simp) (by simp) rfl rfl hsel0 hselF (by show T.heap[T9.aS]? = _; rw [hT]; exact hcS0) hneS hknownS hu0 hsen
    (Takes.of_laid hk hord tyC (by rw [Y9.causeType]; rfl)) (Takes.of_laid hk hord tyS (by rw [Y9.stackType]; exact fits_refV_array _ u0)) (Takes.of_laid hk hord tyP (by rw [Y9.suppType]; exact fits_refV_object _ sen)) Y9.objLocals hskip htr [] hd6
    (by simp only [List.length_cons, List.length_nil]; omega) (by simp only [List.length_cons, List.length_nil]; show 2 * 0 + _ + _ ≤ _; omega)
  obtain ⟨r9, h19, cell9, q1, q2, q3, q4⟩ := xk_one hI.2 ha 0 _ rfl
  have hr9 : r9 = (C, T0, N) := Option.some.inj (h19.symm.trans hc)
  subst hr9
  have q1 : s.heap[a]? = some cell9 := q1
  have hce : cell9 = freshCell ((xk_D g).1 ci) kX := Option.some.inj (q1.symm.trans hcellH)
  subst hce
  have hal : a < s.heap.size := (Array.getElem?_eq_some_iff.mp hcellH).1
  generalize hnew : (preparedCellV T9.toThrowableT (freshCell ((xk_D g).1 ci) kX) a u0 sen).setSlot T9.fStack.slot u0.v = ce at X₂ st2
  have hsz : ce.slots.size = (freshCell ((xk_D g).1 ci) kX).slots.size := by rw [← hnew]; simp [preparedCellV, Cell.setSlot]
  have hcls : ce.cls = (xk_D g).1 ci := by rw [← hnew]; rfl
  have hvm9 : ce.vm = .none := by rw [← hnew]; rfl
  have hh : (((T.setVm vm₁).setVm vm₂).setCell a ce).heap[a]? = some ce := heapAt_setCell_self _ (by show a < T.heap.size; rw [hT]; exact hal)
  have ho : ∀ q, q ≠ a → (((T.setVm vm₁).setVm vm₂).setCell a ce).heap[q]? = s.heap[q]? := fun q hq => by rw [heapAt_setCell_ne _ (Ne.symm hq)]; show T.heap[q]? = _; rw [hT]
  have hz : (((T.setVm vm₁).setVm vm₂).setCell a ce).heap.size = s.heap.size := by rw [size_setCell]; show T.heap.size = _; rw [hT]
  obtain ⟨t, a1, b1⟩ := kk ((List.range N).map (fun k => ce.slots.getD ((xk_D g).2 ci k) .null)) (xk_U X a (o, .inr (ci, (List.range N).map (fun k => ce.slots.getD ((xk_D g).2 ci k) .null)))) _ _ (by simp) xk_Us (fun b hb => xk_Un hb)
    ⟨⟨Nat.le_of_eq hz.symm, fun q _ hq => ho q (fun z => hq (by rw [z]; exact (hI.2 a o _ ha).1)), fun y hy => by
        simp only [List.mem_append, List.not_mem_nil, List.mem_cons, or_false, false_or] at hy
        rcases hy with rfl | rfl | rfl | rfl <;> exact (hI.2 a o _ ha).1⟩, fun b ob eb hb => by
      by_cases hab : b = a
      · subst hab
        rw [xk_Us] at hb
        cases hb
        refine ⟨(hI.2 b _ _ ha).1, _, hc, ce, hh, hcls, hvm9, fun k hk => ?_⟩
        have h5 := q4 k hk
        have h6 : (xk_D g).2 ci k < ce.slots.size := by rw [hsz]; exact (Array.getElem?_eq_some_iff.mp h5).1
        rw [Array.getElem?_eq_getElem h6]
        simp [vp_V, hk, Array.getD_eq_getD_getElem?, h6]
      · rw [xk_Un hab] at hb
        exact ⟨(hI.2 b ob eb hb).1, (hI.2 b ob eb hb).2.kept (ho b hab)⟩⟩ _ rfl X₂
  exact ⟨t, st1 _ (fun acts => by rw [doInvoke_state]; exact st2 _ a1), b1⟩
end XT
