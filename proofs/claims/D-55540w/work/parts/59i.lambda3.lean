/-! making a lambda -/
set_option maxRecDepth 100000
def xl_c (g : xk_G) (x : MethodName) (pc ix : Nat) (σ : Lambda.Shape) : ClassId := (((xk_s g).lambdaAt? x pc ix σ).map (fun z => z.1)).getD 0
theorem xl_at {g : xk_G} (h : xk_0 g) {x : MethodName} {pc ix : Nat} {σ : Lambda.Shape} (hw : Cond.lambdaSite x pc ix σ ∈ flatC (Jvm.Cond.and given_1 narrow_1)) (hcap : σ.captured ≠ []) : (xk_s g).lambdaAt? x pc ix σ = some (xl_c g x pc ix σ, none) := by
  obtain ⟨c, one, hc⟩ := Cond.lambdaSite_spec (h.nar _ hw)
  obtain ⟨_, _, _, _, _, _, _, _, _, _, _, _, _, _, hl⟩ := State.lambdaAt?_spec hc
  have h1 : one = none := by
    rcases hl with ⟨a, cell, -, -, h1, -⟩ | ⟨-, h1, -⟩
    · exact absurd h1 hcap
    · exact h1
  have h2 : xl_c g x pc ix σ = c := by unfold xl_c; rw [hc]; rfl
  rw [h2, ← h1]
  exact hc
/-- Object has no fields -/
theorem xl_O {g : xk_G} {s : State} (hK : xk_K g s) {vm : Vm} (hA : s.vm.Alike vm) : ∀ o ok, vm.findClass "java/lang/Object" = some o → vm.classes[o]? = some ok → ok.instanceTypes.size = 0 := by
  intro o ok ho hok
  obtain ⟨c, k, h1, h2, -, -, -, h6⟩ := Cond.instantiable_spec (hK.nw (lw_all_tbl q1840) rfl)
  rw [hA.findClass] at ho
  cases h1.symm.trans ho
  obtain ⟨k', h3, h4⟩ := hA.2.2 _ _ h2
  cases h3.symm.trans hok
  rw [h4]
  exact h6
theorem xl_desc {cf : ClassFile} {ix : Nat} {σ : Lambda.Shape} (h : Lambda.shapeOf? cf ix = some σ) : ∃ bsm nt name desc sig, cf.constantPool[ix]? = some (.invokeDynamic bsm nt) ∧ cf.constantPool.nameAndType? nt = some (name, desc) ∧ parseLongMethodDescriptor desc = some sig ∧ sig.parameters = σ.captured := by
  unfold Lambda.shapeOf? at h
  split at h
  · rename_i b nt hcp
    obtain ⟨en, -, h⟩ := Option.bind_eq_some_iff.mp h
    obtain ⟨bm, -, h⟩ := Option.bind_eq_some_iff.mp h
    cases hr : cf.constantPool[bm.bootstrapMethodRef]? with
    | none => rw [hr] at h; exact nomatch (show (none : Option Lambda.Shape) = some σ from h)
    | some zr =>
      rw [hr] at h
      cases zr with
      | methodHandle kd r =>
        rcases kd with _ | _ | _ | _ | _ | _ | _ | kd
        · exact nomatch (show (none : Option Lambda.Shape) = some σ from h)
        · exact nomatch (show (none : Option Lambda.Shape) = some σ from h)
        · exact nomatch (show (none : Option Lambda.Shape) = some σ from h)
        · exact nomatch (show (none : Option Lambda.Shape) = some σ from h)
        · exact nomatch (show (none : Option Lambda.Shape) = some σ from h)
        · exact nomatch (show (none : Option Lambda.Shape) = some σ from h)
        · obtain ⟨u, -, h⟩ := Option.bind_eq_some_iff.mp h
          generalize bm.bootstrapArguments = ba at h
          obtain ⟨ba⟩ := ba
          rcases ba with _ | ⟨a0, _ | ⟨a1, _ | ⟨a2, _ | ⟨a3, ba⟩⟩⟩⟩
          · exact nomatch (show (none : Option Lambda.Shape) = some σ from h)
          · exact nomatch (show (none : Option Lambda.Shape) = some σ from h)
          · exact nomatch (show (none : Option Lambda.Shape) = some σ from h)
          · conv at h => lhs; whnf
            split at h
            · split at h
              · split at h
                · obtain ⟨nd, hnd, h⟩ := Option.bind_eq_some_iff.mp h
                  obtain ⟨site, hsite, h⟩ := Option.bind_eq_some_iff.mp h
                  refine ⟨b, nt, nd.1, nd.2, site, hcp, hnd, parseLong_of_parse hsite, ?_⟩
                  cases hrt : site.returnType with
                  | none => rw [hrt] at h; exact nomatch (show (none : Option Lambda.Shape) = some σ from h)
                  | some zt =>
                    rw [hrt] at h
                    cases zt with
                    | object iface =>
                      obtain ⟨im, -, h⟩ := Option.bind_eq_some_iff.mp h
                      obtain ⟨s1, -, h⟩ := Option.bind_eq_some_iff.mp h
                      obtain ⟨s2, -, h⟩ := Option.bind_eq_some_iff.mp h
                      obtain ⟨s3, -, h⟩ := Option.bind_eq_some_iff.mp h
                      obtain ⟨s4, -, h⟩ := Option.bind_eq_some_iff.mp h
                      obtain ⟨s5, -, h⟩ := Option.bind_eq_some_iff.mp h
                      cases h
                      rfl
                    | _ => exact nomatch (show (none : Option Lambda.Shape) = some σ from h)
                · cases h
              · cases h
            · cases h
          · exact nomatch (show (none : Option Lambda.Shape) = some σ from h)
        · exact nomatch (show (none : Option Lambda.Shape) = some σ from h)
      | _ => exact nomatch (show (none : Option Lambda.Shape) = some σ from h)
  · cases h
section XL3
variable {g : xk_G} {p : Program} {e : Env} {R : Room} {s : State} {m : MethodId} {args : Array Value} {below : List Frame} {meth : Method} {c : Code} {H : Heap} {locs : List Loc} {cells slots : Nat} {Q : State → Prop}
variable {cc : ByteArray} {pc nL : Nat} {own : String} {ls : Array Slot} {rest st0 : List Value} {X : xk_H} {l : Launch}
theorem xk_ofWL {y : MethodName} {maxL : Nat} {ret : Option FieldType} {rm : Room} {av : List Value} {Qp : Option Value → xk_H → Prop} (hy : plainName y.cls = true) (hpl : (lg_sl av).length ≤ maxL)
    (body : ∀ (p : Program) (e : Env) (s : State) (m : MethodId) (args : Array Value) (below : List Frame) (meth : Method) (c : Code), xk_B g p s m args meth c y.cls cc maxL → s.methodNamed? y = some m → meth.sig.returnType = ret → meth.name = y.name → args = av.toArray → xk_I g s s.heap X [] → ∀ ls : Array Slot, lv_has ls maxL (lv_args 0 av) →
      W p (xk_l g) e rm s m args below meth c s.heap [] 0 0 (MQ below (xk_Q g Qp) args s rm.cells rm.slots (xk_A g)) (F0 m 0 ls [])) : xk_C g y (ws_ y cc maxL ret) rm av X Qp := by
  refine Met.ofW (cc := cc) (maxL := maxL) (ret := ret) hy rfl ?_
  intro p e s m args below meth c s₁ B hml hv
  obtain ⟨rfl, hK, hR⟩ := hv
  have hts := atoms_spec (ws := ws_ y cc maxL ret) B.pre
  rw [lg_entry_eq]
  exact body p e s m _ below meth c ⟨B.exec, B.bytes, hml, findClass_of_methodNamed B.named, fun w h => hts w (List.mem_cons_of_mem _ h), B.notSynchronized, hK⟩ B.named B.returns (name_of_methodNamed B.named B.method).1 rfl ⟨va_S.rf, hR⟩ _ (lv_entry av hpl)
theorem xl_makes (B : xk_B g p s m args meth c "TulipLines" cc nL) (hI : xk_I g s H X locs) {lv : List (Nat × Value)} (hl : lv_has ls nL lv) (ow : Nat → Nat × Nat) {x : MethodName} {ix : Nat} {σ : Lambda.Shape} (hnm : s.methodNamed? x = some m) (hxc : x.cls = "TulipLines") (hw : Cond.lambdaSite x pc ix σ ∈ flatC (Jvm.Cond.and given_1 narrow_1))
    {bytes : ByteArray} {maxL mi ci ni : Nat} {fs : List Nat} {tys : List FieldType} (hk : xl_chk σ bytes maxL mi ci ni fs tys = true) {vals : List Value} (a0 : vp_A) (ha0 : ∀ cK : ClassId, vp_cell cK a0 = { cls := cK, slots := vals.toArray, vm := .none })
    (hcap : σ.captured = tys) (hn : tys ≠ []) (hzip : (tys.zip vals).map (fun z => narrow z.1 z.2) = vals) (hfit : ∀ (i : Nat) (t : FieldType) (v : Value), tys[i]? = some t → vals[i]? = some v → fits t v = true) (hlen : vals.length = tys.length) (hdg : decode cc pc = .ok (.invokedynamic ix, 5))
    (hst : st0 = vals.reverse ++ rest) (hwd : (st0.map fun v => v.category).sum + 3072 ≤ R.locals) (hcells : cells + 1 ≤ R.cells) (hslots : slots + vals.length ≤ R.slots)
    (kk : ∀ (q : Nat) (X1 : xk_H) (H1 : Heap), X q = none → X1 q = some (ow q, .inl (xl_c g x pc ix σ, a0)) → (∀ b, b ≠ q → X1 b = X b) → xk_I g s H1 X1 locs → W p l e R s m args below meth c H1 locs (cells + 1) (slots + vals.length) Q (F0 m (pc + 5) ls (.ref q :: rest))) : W p l e R s m args below meth c H locs cells slots Q (F0 m pc ls st0) := by
  intro T hT XT
  have hW := B.K.2.1
  obtain ⟨m0, k0, cf, i0, p0, lk, hm0, hk0, hcf, hsh, -, hfind, hmade, -, hl2⟩ := State.lambdaAt?_spec (xl_at B.K.2.2.2.2 hw (by rw [hcap]; exact hn))
  obtain ⟨rfl, -, -⟩ : lk = .makes (xl_c g x pc ix σ) ∧ (none : Option Addr) = none ∧ σ.captured ≠ [] := by
    rcases hl2 with ⟨a, cell, -, h1, -⟩ | h1
    · cases h1
    · exact h1
  have hm1 : s.methodNamed? x = some m0 := by
    have := State.methodNamed?_setVm (s := xk_s g) hW.alike x
    rw [hm0] at this
    exact this
  cases hnm.symm.trans hm1
  obtain ⟨k1, hk1, he1⟩ := hW.alike.2.2 _ _ hk0
  have hcf1 : k1.cf = some cf := by rw [he1]; exact hcf
  have hfind1 : (k1.callSites.find? fun y => y.1 == m.idx && y.2.1 == pc) = some (i0, p0, .makes (xl_c g x pc ix σ)) := by rw [he1]; exact hfind
  obtain ⟨k2, hk2, hnk⟩ := className_of_methodNamed hnm
  cases hk1.symm.trans hk2
  have hmade1 := Lambda.isMade_warmer hW hmade
  obtain ⟨kK, tk, file, methk, ck, t, target, hkK, -, hkind, hity, -⟩ := xl_made hk hk1 (hnk.trans hxc) (xl_O B.K (Vm.Alike.refl _)) hmade1
  have hdesc : ∃ bsm nt name desc sig, cf.constantPool[ix]? = some (.invokeDynamic bsm nt) ∧ cf.constantPool.nameAndType? nt = some (name, desc) ∧ parseLongMethodDescriptor desc = some sig ∧ sig.parameters = σ.captured := by
    exact xl_desc hsh
  obtain ⟨bsm, nt, name, desc, sig, hc1, hc2, hc3, hc4⟩ := hdesc
  have hsl : ((kK.instanceTypes.toList.zip vals).map fun (t, v) => narrow t v) = vals := by rw [hity]; exact hzip
  obtain ⟨X', st⟩ := XT.lambdaMakes B.1 (g := F0 m pc ls st0) rfl (by rw [B.2.2.1]; exact hl.1) (by rw [B.2.1]; exact hdg) (vals := vals) (rest := rest) hk1 hfind1 hcf1 hc1 hc2 hc3 (by rw [hc4, hcap]; exact hlen) hst hkK
    (by rw [XT.admits.platform]; show 2 * 0 + (st0.map fun v => v.category).sum + 3072 ≤ _; omega) hcells (by rw [hsl]; exact hslots)
    (fun i v hv => by
      rw [hsl] at hv
      have hv' : vals[i]? = some v := by simpa using hv
      have hi : i < tys.length := by rw [← hlen]; exact (List.getElem?_eq_some_iff.mp hv').1
      have ht : kK.instanceTypes[i]? = some tys[i] := by rw [← Array.getElem?_toList, hity]; exact List.getElem?_eq_getElem hi
      simp only [State.fitsSlot, State.slotType?, hkK, hkind, ht, Option.bind_eq_bind, Option.bind_some]
      exact hfit i _ v (List.getElem?_eq_getElem hi) hv')
  rw [hsl] at X' st
  obtain ⟨ws, hP, hD, hj, -⟩ := xk_enum hI.2
  have hP1 : va_P (xk_D g) xk_Cl (ws ++ [(H.size, .inl (xl_c g x pc ix σ, a0))]) (H.push { cls := xl_c g x pc ix σ, slots := vals.toArray, vm := .none }) := (hP.kept (fun k q hq => by rw [Array.getElem?_push, if_neg (Nat.ne_of_lt (hP k q hq).lt)])).app (fun k q hq => by
    have hz : k < 1 := (List.getElem?_eq_some_iff.mp hq).1
    rw [show k = 0 by omega] at hq
    cases hq
    show _ = some (vp_cell _ a0)
    rw [ha0, Array.getElem?_push_size])
  have hD1 : va_D (xk_A g) (ws ++ [(H.size, .inl (xl_c g x pc ix σ, a0))]) := hD.push hP rfl (Nat.le_trans B.K.2.2.1 hI.1.1)
  obtain ⟨h0, hR⟩ := xk_new (ow H.size) hI.2 hj hP1 hD1
  have e1 : (T.pushCell { cls := xl_c g x pc ix σ, slots := vals.toArray, vm := .none }).heap = H.push { cls := xl_c g x pc ix σ, slots := vals.toArray, vm := .none } := by rw [State.heap_pushCell, hT]
  obtain ⟨t2, a1, b1⟩ := kk H.size _ _ h0 xk_Us (fun b hb => xk_Un hb) ⟨⟨Nat.le_trans hI.1.1 (by simp), fun x h1 h2 => by rw [Array.getElem?_push, if_neg (Nat.ne_of_lt (Nat.lt_of_lt_of_le h1 hI.1.1))]; exact hI.1.2.1 x h1 h2, hI.1.2.2⟩, hR⟩ _ e1 (by simpa using X')
  refine ⟨t2, st t2 ?_, b1⟩
  rw [hT]
  exact a1
end XL3
