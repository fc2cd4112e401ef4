/-! what a made class holds -/
set_option maxRecDepth 100000
theorem xl_made {vm : Vm} {d cK : ClassId} {σ : Lambda.Shape} {bytes : ByteArray} {maxL mi ci ni : Nat} {fs : List Nat} {tys : List FieldType} (hk : xl_chk σ bytes maxL mi ci ni fs tys = true) {dk : Class} (hd : vm.classes[d]? = some dk) (hname : dk.name = "TulipLines")
    (hO : ∀ o ok, vm.findClass "java/lang/Object" = some o → vm.classes[o]? = some ok → ok.instanceTypes.size = 0) (h : Lambda.isMade { classPath := fun _ => none } vm d σ cK = true) :
    ∃ (k tk : Class) (file : ClassFile) (methk : Method) (ck : Code) (t : ClassId) (target : MethodId), vm.classes[cK]? = some k ∧ k.name = "TulipLines$$Lambda" ∧ k.kind = .ordinary ∧ k.instanceTypes.toList = tys ∧ k.cf = some file ∧ file.constantPool[mi]? = some (.methodref ci ni) ∧ file.constantPool.nameAndType? ni = some (σ.implName, σ.implDesc.toString) ∧
      vm.method? ⟨cK, 1⟩ = some methk ∧ methk.code = some ck ∧ ck.code = bytes ∧ ck.maxLocals = maxL ∧ ck.exceptionTable.toList = [] ∧ methk.locks = false ∧ methk.accessFlags = 1 ∧ methk.sig.returnType = some .int ∧
      vm.findClass "TulipLines" = some t ∧ vm.classes[t]? = some tk ∧ ((methodIn t σ.implName σ.implDesc.toString tk.isInterface none).ask { classPath := fun _ => none } vm).1 = .ok target ∧ vm.methodReady cK mi target ∧ vm.classReady cK ci t ∧
      (∀ (j x : Nat), fs[j]? = some x → ∃ fl : Field, vm.fieldReady cK x cK fl ∧ fl.isStatic = false ∧ fl.slot = j) := by
  obtain ⟨dk', k, ok, tk, file, cf, object, iface, t, lay, methods, target, found, hd', hkk, hfile, hcf, ho, -, hok, hlay, hms, ht, htk, hg, -, hrec, -, -, -, -, hpool, hmeth, hfld, hity, hres, -⟩ := Lambda.isMade_spec h
  cases hd.symm.trans hd'
  rw [hname] at hcf
  have hsz := hO _ _ ho hok
  simp only [xl_chk, Option.any_eq_true, Bool.and_eq_true, decide_eq_true_eq] at hk
  obtain ⟨D, hD, ⟨⟨⟨⟨⟨⟨⟨fw, hfw, ⟨⟨⟨cd, hcd, hcb, hcm⟩, hfl⟩, hfn⟩, hfr⟩, hmi⟩, hcn⟩, hni⟩, hci⟩, hne⟩, himp⟩, ⟨lay', hlay', hty, hfs⟩⟩ := hk
  cases hcf.symm.trans hD
  rw [hsz] at hlay
  cases hlay.symm.trans hlay'
  rw [hms] at hfw
  obtain ⟨b, hb, hsame⟩ := hmeth 1 fw hfw
  obtain ⟨s1, s2, s3, s4, x, y, hx, hy, c1, c2, c3, c4⟩ := Lambda.sameMethod_spec hsame
  rw [hcd] at hx
  cases hx
  rw [himp] at ht
  have hok0 : ok.instanceTypes.toList = [] := List.length_eq_zero_iff.mp (by rw [Array.length_toList]; exact hsz)
  refine ⟨k, tk, file, b, y, t, target, hkk, by rw [hrec.1, hname]; rfl, hrec.2.1, ?_, hfile, by rw [hpool.2.1]; exact hmi, by rw [hpool.2.1]; exact hni, ?_, hy, ?_, ?_, ?_, ?_, ?_, ?_, ht, htk, hg, ⟨k, hkk, hres mi _ (Lambda.resolvedOf_method hmi hcn ht htk hni hg)⟩, ?_, ?_⟩
  · rw [hity.1, Array.toList_append, hok0, hty]; rfl
  · simp [Vm.method?, hkk, hb]
  · rw [c3]; exact ByteArray.ext hcb
  · rw [c2]; exact hcm
  · rw [c4]
  · simp [Method.locks, Method.isSynchronized, s4, hfl, hasFlag, Acc.synchronized]
  · rw [s4]; exact hfl
  · rw [s3]; exact hfr
  · cases hcp : cf.constantPool[ci]? with
    | none => rw [hcp] at hci; cases hci
    | some z =>
      cases z with
      | class_ n =>
        rw [hcp] at hci
        exact ⟨k, hkk, hres ci _ (Lambda.resolvedOf_class hcp hne (of_decide_eq_true hci) ht)⟩
      | _ => rw [hcp] at hci; cases hci
  · intro j x hj
    have h1 := List.all_eq_true.mp hfs (x, j) (List.mem_zipIdx_iff_getElem?.mpr hj)
    dsimp only at h1
    cases hcp : cf.constantPool[x]? with
    | none => rw [hcp] at h1; cases h1
    | some z =>
      rw [hcp] at h1
      cases z with
      | fieldref a1 nt =>
        simp only [Option.any_eq_true, Bool.and_eq_true, decide_eq_true_eq, Bool.not_eq_true'] at h1
        obtain ⟨w, hw, hfi, fl, hfl2, hsl, hst⟩ := h1
        exact ⟨fl, ⟨k, j, k, hkk, hres x _ (Lambda.resolvedOf_field hcp (show _ = some (w.1, w.2) from hw) hfi), hkk, hfld j fl hfl2⟩, hst, hsl⟩
      | _ => cases h1
