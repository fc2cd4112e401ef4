/-! inside a lambda's made class -/
set_option maxRecDepth 100000
section XL6
variable {g : xk_G} {p : Program} {e : Env} {R : Room} {s : State} {m : MethodId} {args : Array Value} {below : List Frame} {meth : Method} {c : Code} {H : Heap} {locs : List Loc} {cells slots : Nat} {Q : State → Prop}
variable {cc : ByteArray} {pc nL : Nat} {own : String} {ls : Array Slot} {rest st0 : List Value} {X : xk_H} {l : Launch}
/-- a captured value -/
theorem xl_get (hx : p.tables.exec = Jvm.exec) (hb : c.code = cc) (K : xk_K g s) {σ : Lambda.Shape} {cK : ClassId} (hm : m = ⟨cK, 1⟩) (hF : xl_F cK σ s.vm) {bytes : ByteArray} {maxL mi ci ni : Nat} {fs : List Nat} {tys : List FieldType} (hk : xl_chk σ bytes maxL mi ci ni fs tys = true) {index j : Nat} (hj : fs[j]? = some index)
    {a : Nat} {cell : Cell} {v : Value} (hcell : H[a]? = some cell) (hknown : cell.vm ≠ .unknown) (hslot : cell.slots[j]? = some v) (hdg : decode cc pc = .ok (.getfield index, 3))
    (kk : W p l e R s m args below meth c H locs cells slots Q (F0 m (pc + 3) ls (v :: rest))) : W p l e R s m args below meth c H locs cells slots Q (F0 m pc ls (.ref a :: rest)) := by
  intro T hT X
  obtain ⟨t, a1, b1⟩ := kk T hT X
  obtain ⟨d, dk, hd, hdn, hmade⟩ := hF.moved X.warmed
  obtain ⟨_, _, _, _, _, _, _, _, _, _, _, _, _, _, _, _, _, _, _, _, _, _, _, _, _, _, _, hfl⟩ := xl_made hk hd hdn (xl_O K X.warmed.alike) hmade
  obtain ⟨fl, h1, h2, h3⟩ := hfl j index hj
  refine ⟨t, ?_, b1⟩
  subst hm
  jvm_step X.here [hx, hb, hdg, getfield.wp_ready (e := e) (s := T) (f := F0 ⟨cK, 1⟩ pc ls (.ref a :: rest)) X.here.top h1 h2 rfl (by rw [hT]; exact hcell) hknown (show cell.slots[fl.slot]? = some v by rw [h3]; exact hslot)]
  exact a1
theorem xl_runS (hx : p.tables.exec = Jvm.exec) (hb : c.code = cc) (hml : c.maxLocals = nL) (K : xk_K g s) (tsw : ∀ w ∈ lw_all, w.before args s = true) {σ : Lambda.Shape} {cK : ClassId} (hm : m = ⟨cK, 1⟩) (hF : xl_F cK σ s.vm) {bytes : ByteArray} {maxL mi ci ni : Nat} {fs : List Nat} {tys : List FieldType} (hk : xl_chk σ bytes maxL mi ci ni fs tys = true)
    {y : MethodName} (hy : y.cls = "TulipLines" ∧ y.name = σ.implName ∧ y.desc = σ.implDesc.toString) {bytesI : ByteArray} {maxLI : Nat} {ret : Option FieldType} {rm : Room} {As : List Value} {Qp : Option Value → xk_H → Prop} {Qx : String → Nat → xk_H → Prop} (hM : xk_CX g y (ws_ y bytesI maxLI ret) rm As X Qp Qx)
    (h6 : Cond.code y bytesI maxLI ret ∈ lw_all) (h4 : Cond.static y ∈ lw_all) (h5 : Cond.initialized y.cls ∈ lw_all) (hI : xk_I g s H X locs) (hn : (parseMethodDescriptor y.desc).map (fun d => d.parameters.length) = some As.length) (hls : ls.size = nL) (hdg : decode cc pc = .ok (.invokestatic mi, 3))
    (hRm : rm.frames + 1 ≤ R.frames ∧ 8 + (maxLI + 11) + rm.locals ≤ R.locals) (hfc : cells + rm.cells ≤ R.cells) (hfs : slots + rm.slots ≤ R.slots) (hst : st0 = As.reverse) :
    vx_Run p (xk_l g) e R s m args below meth c H locs cells slots rm.cells rm.slots (F0 m pc ls st0) [] (xk_Q g Qp As.toArray) (xk_XC g Qx) (xk_A g) := by
  intro T hT XT
  have hW := XT.warmed
  obtain ⟨d, dk, hd, hdn, hmade⟩ := hF.moved hW
  obtain ⟨kK, tk, file, methk, ck, t, target, hkK, hkn, hkind, hity, hfile, hpool, hpnt, hmk, hck, hbytes, hml2, hex, hlk, hfl, hret, htf, htk, hlook, hready, hclsR, -⟩ := xl_made hk hd hdn (xl_O K hW.alike) hmade
  obtain ⟨mk, hnamed⟩ := Cond.code_named (tsw _ h6)
  obtain ⟨methT, cT, hmethT, hcT, hbytesT, hlocT, hretT, hlocksT, -, hsigT⟩ := Cond.code_spec hnamed (tsw _ h6)
  have hstaticT : methT.isStatic = true := Cond.static_spec hnamed hmethT (tsw _ h4)
  obtain ⟨kT, hkT, hnameT⟩ := className_of_methodNamed hnamed
  have hfT : s.vm.findClass "TulipLines" = some mk.cls := by
    have := findClass_of_methodNamed hnamed
    rw [hy.1] at this
    exact this
  have hinitK : kT.init = .initialized := Cond.initialized_spec (findClass_of_methodNamed hnamed) hkT (tsw _ h5)
  have hfT2 : T.vm.findClass "TulipLines" = some mk.cls := by rw [hW.alike.findClass]; exact hfT
  cases htf.symm.trans hfT2
  obtain ⟨kT2, hkT2, heT⟩ := hW.alike.2.2 _ _ hkT
  cases htk.symm.trans hkT2
  have hnT : T.methodNamed? y = some mk := XT.named hnamed
  have ht : target = mk := by
    have h1 : T.methodFound? y.cls y.name y.desc = some mk := State.methodFound?_of_named hnT (by rw [hy.1]; decide)
    rw [hy.1, hy.2.1, hy.2.2] at h1
    simp only [State.methodFound?, hfT2, hkT2, Option.bind_eq_bind, Option.bind_some] at h1
    rw [hlook] at h1
    exact Option.some.inj h1
  subst ht
  have hmethT2 : T.vm.method? target = some methT := by rw [hW.alike.method?]; exact hmethT
  have hsp : ∀ z : Method, signaturePolymorphic tk z = false := by
    have : tk.name = "TulipLines" := by rw [heT]; show kT.name = _; rw [hnameT, hy.1]
    intro z
    simp [signaturePolymorphic, this]
  obtain ⟨b, hmem⟩ := memberRef_ask' (e := e) (vm := T.vm) (d := cK) (index := mi) hkK hfile (Or.inl hpool) hpnt
  have hlen : As.length = methT.sig.parameters.length := by
    rw [hsigT] at hn
    exact (Option.some.inj hn).symm
  have hK : vx_Back (xk_l g) R p e below s args y 3 8 (PreOf R rm.cells rm.slots (xk_P g As X)) (PostOf (xk_Q g Qp) rm.cells rm.slots (xk_A g)) (vx_Post (xk_XC g Qx) rm.cells rm.slots (xk_A g)) :=
    vx_back (bytes := bytesI) (maxL := maxLI) (ret := ret) hM xk_blind rfl rfl hRm.1 hRm.2 (pay_in tsw (lw_meth h6)) (by exact List.mem_cons_self) (fun a' U hW => word_at hW (good_of_word (List.mem_filter.mp h5).2) (tsw _ h5))
  have hgo : ∀ tg, Steps p.tables e below (doInvoke e (T.setTop (F0 m pc ls [])) [] target As.toArray).1 tg → Steps p.tables e below (T.setTop (F0 m pc ls st0)) tg := by
    intro tg htg
    subst hm
    jvm_step XT.here [hx, hb, hdg, invokestatic.wp_ready (e := e) (s := T) (m := target) (k := tk) (meth := methT) (args := As) (rest := []) (f := F0 ⟨cK, 1⟩ pc ls st0) XT.here.top ⟨ci, _, _, b, target.cls, tk, hmem, hclsR, htk, by simp [hsp]⟩ hready htk hmethT2 (hsp _) hstaticT (by rw [heT]; exact hinitK) hlen (by rw [List.append_nil]; exact hst)]
    intro acts
    rw [doInvoke_state]
    exact htg
  rcases hK m meth c ⟨T, locs, cells, slots⟩ (F0 m pc ls []) (.invokestatic mi) target As.toArray XT rfl (by rw [hml]; exact hls) (by rw [hb]; exact hdg) (by simp) hnT ⟨hfc, hfs, rfl, xk_K.call K hI.1 hT hW, by show xk_R g _ T.heap; rw [hT]; exact hI.2⟩ with ⟨v, ⟨U', l2, c2, s2⟩, X', ⟨g', mk', t, L, e1, e2, hq, h1, hL, h2, h3⟩, st⟩ | ⟨q, ⟨U', l2, c2, s2⟩, X', ⟨g', mk', t, L, E, ce, e1, e2, hq, hce, hcv, hcl, h1, hL, h2, h3⟩, st⟩
  · dsimp only [Pt.U, Pt.locs, Pt.cells, Pt.slots] at X' e1 e2 h1 h2 h3 st
    subst h1; subst h2; subst h3
    exact Or.inl ⟨v, T.calling g' mk' As.toArray, t, U', L, hT, X', hL, e1, e2, hq, fun tg htg => hgo _ (st.trans htg)⟩
  · dsimp only [Pt.U, Pt.locs, Pt.cells, Pt.slots] at X' e1 e2 h1 h2 h3 st hcl
    subst h1; subst h2; subst h3
    exact Or.inr ⟨q, T.calling g' mk' As.toArray, t, U', L, E, ce, hT, X', hL, e1, e2, hq, hce, hcv, by rw [hW.alike.findClass] at hcl; exact hcl, hgo _ st⟩
end XL6
