/-! rows: casts to an object's own class, references read, arraycopy, min, chars; lists of references; owners' frames -/
set_option maxRecDepth 100000
theorem xk_fitrf (t : FieldType) (r : Option Nat) (h : (∃ n, t = .object n) ∨ ∃ z, t = .array z) : fits t (va_rf r) = true := by
  rcases h with ⟨n, rfl⟩ | ⟨z, rfl⟩ <;> cases r <;> rfl
theorem tl_min {a b : Nat} (ha : a < 2147483648) (hb : b < 2147483648) : (if nI b < nI a then nI b else nI a) = nI (if b < a then b else a) := by
  by_cases h : b < a
  · rw [if_pos h, if_pos ((nI_ltI (by omega) (by omega)).mpr h)]
  · rw [if_neg h, if_neg (fun z => h ((nI_ltI (by omega) (by omega)).mp z))]
theorem xk_i2c {a : Nat} (h : a < 65536) : ((nI a).toUInt32 % 65536).toInt32 = nI a := by
  rw [pk_char, pk_tn (by omega), Nat.mod_eq_of_lt h]
theorem xk_i2b {a : Nat} (h : a < 128) : (nI a).toInt8.toInt32 = nI a := by
  revert a
  decide
/-- classes: what an array of Objects may hold -/
def xk_kd (g : xk_G) : va_E → Prop
  | .inr o => ∃ (C : String) (T : u_T) (N : Nat), xk_Cl[o.1]? = some (C, T, N) ∧ Cond.castable C "java/lang/Object" ∈ lw_tbl
  | .inl o => (∃ kv : Class, (xk_s g).vm.classes[o.1]? = some kv) ∧ ∀ comp : ClassId, (xk_s g).vm.findClass "java/lang/Object" = some comp → (xk_s g).vm.assignable o.1 comp = true
def xk_isO (g : xk_G) (X : xk_H) (y : Nat) : Prop := ∃ (o : Nat × Nat) (z : va_E), X y = some (o, z) ∧ xk_kd g z
theorem xk_isO.le {g : xk_G} {X X1 : xk_H} {y : Nat} (h : xk_isO g X y) (hl : xk_le X X1) : xk_isO g X1 y := by
  obtain ⟨o, z, h1, h2⟩ := h
  exact ⟨o, z, hl _ _ h1, h2⟩
theorem xk_kd5 {g : xk_G} {fs : List Value} : xk_kd g (.inr (3, fs)) := ⟨_, _, _, rfl, q1825⟩
theorem xk_kd2 {g : xk_G} {fs : List Value} : xk_kd g (.inr (2, fs)) := ⟨_, _, _, rfl, q1817⟩
theorem xk_kd7 {g : xk_G} {fs : List Value} : xk_kd g (.inr (5, fs)) := ⟨_, _, _, rfl, q1827⟩
/-- the static lists' empty array -/
def xk_Em (g : xk_G) : Nat := xk_st g "java/util/ArrayList" "DEFAULTCAPACITY_EMPTY_ELEMENTDATA" "[Ljava/lang/Object;"
theorem xk_stE {g : xk_G} (h : xk_0 g) : xk_Z g "java/util/ArrayList" "DEFAULTCAPACITY_EMPTY_ELEMENTDATA" "[Ljava/lang/Object;" (.ref (xk_Em g)) ∧ va_T (.object "java/lang/Object") (xk_Em g) 0 (fun _ => .null) (xk_A g) (xk_s g) (xk_s g).heap := by
  have h1 : (Cond.arrayOf (.static "java/util/ArrayList" "DEFAULTCAPACITY_EMPTY_ELEMENTDATA" "[Ljava/lang/Object;") (.object "java/lang/Object")).before (xk_a g) (xk_s g) = true := h.nar _ (by decide +kernel)
  have h2 : (Cond.eq (.length (.static "java/util/ArrayList" "DEFAULTCAPACITY_EMPTY_ELEMENTDATA" "[Ljava/lang/Object;")) (.int 0)).before (xk_a g) (xk_s g) = true := h.nar _ (by decide +kernel)
  obtain ⟨t, ht, hT⟩ := va_Tof (N := 0) (f := fun _ => .null) (A := xk_A g) (by decide) h1 (va_eqt h2) (fun j hj => absurd hj (Nat.not_lt_zero j)) (fun a ha hz => Nat.not_le.mpr ha hz)
  have e : xk_Em g = t := by
    unfold xk_Em xk_st
    rw [ht]
  rw [e]
  exact ⟨h.Z q129 q73 ht, hT⟩
section X6
variable {g : xk_G} {p : Program} {e : Env} {R : Room} {s : State} {m : MethodId} {args : Array Value} {below : List Frame} {meth : Method} {c : Code} {H : Heap} {locs : List Loc} {cells slots : Nat} {Q : State → Prop}
variable {cc : ByteArray} {pc nL : Nat} {own : String} {ls : Array Slot} {rest st0 : List Value} {X : xk_H} {l : Launch}
theorem xk_castS (B : xk_B g p s m args meth c own cc nL) (hI : xk_I g s H X locs) {a : Nat} {o : Nat × Nat} {ci : Nat} {fs : List Value} (ha : X a = some (o, .inr (ci, fs))) {C : String} {T : u_T} {N : Nat} (hc : xk_Cl[ci]? = some (C, T, N)) {index : Nat} (hlink : Cond.classLink own index C ∈ lw_all) (hdg : decode cc pc = .ok (.checkcast index, 3))
    (kk : W p l e R s m args below meth c H locs cells slots Q (F0 m (pc + 3) ls (.ref a :: rest))) : W p l e R s m args below meth c H locs cells slots Q (F0 m pc ls (.ref a :: rest)) :=
  va_castS B.1 B.2.1 B.ow (B.ts _ hlink) (B.K.1.1 ci _ hc).2 (va_recv (q0 := 0) B.K.1 (xk_one hI.2 ha) hc rfl) hdg kk
theorem xk_aaldS (B : xk_B g p s m args meth c own cc nL) (hI : xk_I g s H X locs) {a : Nat} {o : Nat × Nat} {n : Nat} {f : Nat → Option Nat} (ha : X a = some (o, xk_qA g n f)) {i : Nat} (hi : i < n) (hn : n < 2147483648) (hdg : decode cc pc = .ok (.aaload, 1)) {r : Option Nat} (hr : f i = r)
    (kk : W p l e R s m args below meth c H locs cells slots Q (F0 m (pc + 1) ls (va_rf r :: rest))) : W p l e R s m args below meth c H locs cells slots Q (F0 m pc ls (.int (nI i) :: .ref a :: rest)) := by
  subst hr
  exact xk_aald B hI ha hi hn hdg kk
theorem xk_isO.ob (B : xk_B g p s m args meth c own cc nL) (hI : xk_I g s H X locs) {y : Nat} (h : xk_isO g X y) : xk_ob s H y := by
  obtain ⟨o, z, h1, h2⟩ := h
  rcases z with ⟨cA, x⟩ | ⟨ci, fs⟩
  · obtain ⟨⟨kv, hkv⟩, h3⟩ := h2
    have hcell : H[y]? = some (vp_cell cA x) := xk_one hI.2 h1 0 _ rfl
    obtain ⟨kv', hkv', -⟩ := B.K.2.1.alike.2.2 _ _ hkv
    have hcls : (vp_cell cA x).cls = cA := by obtain ⟨n, f | f | f | f | f⟩ := x <;> rfl
    refine ⟨_, hcell, by obtain ⟨n, f | f | f | f | f⟩ := x <;> rfl, ⟨kv', by rw [hcls]; exact hkv'⟩, fun comp hcomp => ?_⟩
    rw [B.K.2.1.alike.findClass] at hcomp
    rw [B.K.2.1.alike.assignable, hcls]
    exact h3 comp hcomp
  · obtain ⟨C, T, N, h3, h4⟩ := h2
    exact xk_obI B hI h1 h3 h4
theorem xk_min (B : xk_B g p s m args meth c own cc nL) {lv : List (Nat × Value)} (hl : lv_has ls nL lv) {index : Nat} (hlink : Cond.methodLink own index Lib.Math.min.name ∈ lw_all) (hstat : Cond.static Lib.Math.min.name ∈ lw_all) (hini : Cond.initialized "java/lang/Math" ∈ lw_all) (hcode : Cond.code Lib.Math.min.name Lib.Math.min.code 2 (some .int) ∈ lw_all)
    (hframes : 1 ≤ R.frames) (hlocals : (rest.map fun v => v.category).sum + 13 ≤ R.locals) (hc : cells ≤ R.cells) (hs : slots ≤ R.slots) {x y z : Int32} (hz : (if y < x then y else x) = z) (hdg : decode cc pc = .ok (.invokestatic index, 3))
    (kk : W p l e R s m args below meth c H locs cells slots Q (F0 m (pc + 3) ls (.int z :: rest))) : W p l e R s m args below meth c H locs cells slots Q (F0 m pc ls (.int y :: .int x :: rest)) := by
  subst hz
  exact va_mmin B.1 B.2.1 (B.2.2.1.trans hl.1.symm) B.ow (B.ts _ hlink) (B.ts _ hstat) (B.ts _ hini) (B.ts _ hcode) hframes hlocals hc hs hdg kk
theorem xk_putU (B : xk_B g p s m args meth c own cc nL) (hI : xk_I g s H X locs) {a : Nat} {o : Nat × Nat} {ci : Nat} {fs : List Value} (ha : X a = some (o, .inr (ci, fs))) {C : String} {T : u_T} {N : Nat} (hc : xk_Cl[ci]? = some (C, T, N)) (hin : ∀ w ∈ u_ws C T N, w ∈ lw_all) (ty0 : Nat → FieldType) (hty : ∀ k, k < N → parseFieldDescriptor (T k).2.2.1 = some (ty0 k)) (hnm : ∀ a, a < N → ∀ b, b < N → a ≠ b → (T a).2.1 ≠ (T b).2.1)
    (k : Nat) (hk : k < N) {index : Nat} {ref : String} (hlink : Cond.fieldLink own index ref (T k).2.1 (T k).2.2.1 ∈ lw_all) (hsame : ∀ x, s.fieldFound? (T k).1 (T k).2.1 (T k).2.2.1 = some x → s.fieldFound? ref (T k).2.1 (T k).2.2.1 = some x) (hfin : (T k).2.2.2 = false) {v : Value} (hn : narrow (ty0 k) v = v) (hfit : fits (ty0 k) v = true) (hl : k < fs.length) (hdg : decode cc pc = .ok (.putfield index, 3))
    (kk : ∀ (X1 : xk_H) (H1 : Heap) (locs1 : List Loc), X1 a = some (o, .inr (ci, fs.set k v)) → (∀ b, b ≠ a → X1 b = X b) → xk_I g s H1 X1 locs1 → W p l e R s m args below meth c H1 locs1 cells slots Q (F0 m (pc + 3) ls rest)) : W p l e R s m args below meth c H locs cells slots Q (F0 m pc ls (v :: .ref a :: rest)) := by
  obtain ⟨ws, hP, hD, hj, -⟩ := xk_enum hI.2
  obtain ⟨q0, hq0⟩ := hj a o _ ha
  refine va_put B.1 B.2.1 (Ts := lw_all) B.ts hin ty0 hty hnm B.ow B.K.1 hP hD hI.1 q0 hq0 hc k hk (B.ts _ hlink) hsame hfin (hty k hk) hn hfit hl hdg (fun H1 locs1 hP1 hD1 hS1 => ?_)
  exact kk _ H1 locs1 xk_Us (fun b hb => xk_Un hb) ⟨hS1, xk_wr hI.2 ha hj hq0 hP1⟩
theorem xk_copyi (B : xk_B g p s m args meth c own cc nL) (hI : xk_I g s H X locs) (hml : c.maxLocals = ls.size) {index : Nat} (hlink : Cond.methodLink own index arraycopyName ∈ lw_all) (hnat : Cond.native arraycopyName ∈ lw_all) (hstat : Cond.static arraycopyName ∈ lw_all) (hini : Cond.initialized "java/lang/System" ∈ lw_all) (t : Nat) {ty : FieldType} (ht : (xk_Ty g)[t]? = some (xk_T g t, ty)) (hprim : refKind ty = false)
    {a0 a1 n0 n1 : Nat} {o0 o1 : Nat × Nat} {f h : Nat → Nat} (ha0 : X a0 = some (o0, xk_iA g t n0 f)) (ha1 : X a1 = some (o1, xk_iA g t n1 h)) {sp dp n : Nat} (h4 : sp + n ≤ n0) (h5 : dp + n ≤ n1) (h6 : n0 < 2147483648) (h7 : n1 < 2147483648) (hfit : ∀ i, i < n → fits ty (.int (nI (f (sp + i)))) = true)
    (hframes : 1 ≤ R.frames) (hlocals : (rest.map fun v => v.category).sum + 18 ≤ R.locals) (hdg : decode cc pc = .ok (.invokestatic index, 3))
    (kk : ∀ (X1 : xk_H) (H1 : Heap) (locs1 : List Loc), X1 a1 = some (o1, xk_iA g t n1 (va_cpy f h sp dp n)) → (∀ b, b ≠ a1 → X1 b = X b) → xk_I g s H1 X1 locs1 → W p l e R s m args below meth c H1 locs1 cells slots Q (F0 m (pc + 3) ls rest)) :
    W p l e R s m args below meth c H locs cells slots Q (F0 m pc ls (.int (nI n) :: .int (nI dp) :: .ref a1 :: .int (nI sp) :: .ref a0 :: rest)) := by
  obtain ⟨ws, hP, hD, hj, -⟩ := xk_enum hI.2
  obtain ⟨q0, hq0⟩ := hj a0 o0 _ ha0
  obtain ⟨q1, hq1⟩ := hj a1 o1 _ ha1
  have c1 : (nI sp).toNatClampNeg = sp := nI_clamp (by omega)
  have c2 : (nI dp).toNatClampNeg = dp := nI_clamp (by omega)
  have c3 : (nI n).toNatClampNeg = n := nI_clamp (by omega)
  have hw : nativeFrameWords "java/lang/System" "arraycopy" 5 = 7 := by decide
  refine va_copyi B.1 B.2.1 hml B.ow (B.ts _ hlink) (B.ts _ hnat) (B.ts _ hstat) (B.ts _ hini) B.K.1 hP hD hI.1 q0 q1 t t hq0 hq1 ht ht hprim (nI_pos (by omega)) (nI_pos (by omega)) (nI_pos (by omega)) (by rw [c1, c3]; exact h4) (by rw [c2, c3]; exact h5) (fun i hi => by rw [c1]; rw [c3] at hi; exact hfit i hi) hframes (by omega) hdg (fun H1 locs1 hP1 hD1 hS1 => ?_)
  have e1 : va_cpy (fun j => nI (f j)) (fun j => nI (h j)) (nI sp).toNatClampNeg (nI dp).toNatClampNeg (nI n).toNatClampNeg = fun j => nI (va_cpy f h sp dp n j) := by
    rw [c1, c2, c3]
    funext j
    unfold va_cpy
    split <;> rfl
  rw [e1] at hP1
  exact kk _ H1 locs1 xk_Us (fun b hb => xk_Un hb) ⟨hS1, xk_wr hI.2 ha1 hj hq1 hP1⟩
set_option maxHeartbeats 1000000 in
theorem xk_copyq (B : xk_B g p s m args meth c own cc nL) (hI : xk_I g s H X locs) (hml : c.maxLocals = ls.size) {index : Nat} (hlink : Cond.methodLink own index arraycopyName ∈ lw_all) (hnat : Cond.native arraycopyName ∈ lw_all) (hstat : Cond.static arraycopyName ∈ lw_all) (hini : Cond.initialized "java/lang/System" ∈ lw_all)
    {a0 a n0 n1 : Nat} {o0 o1 : Nat × Nat} {f h : Nat → Option Nat} (ha0 : X a0 = some (o0, xk_qA g n0 f)) (ha1 : X a = some (o1, xk_qA g n1 h)) {sp dp n : Nat} (h4 : sp + n ≤ n0) (h5 : dp + n ≤ n1) (h6 : n0 < 2147483648) (h7 : n1 < 2147483648) (hel : ∀ i, i < n → ∀ y : Nat, f (sp + i) = some y → xk_ob s H y)
    (hframes : 1 ≤ R.frames) (hlocals : (rest.map fun v => v.category).sum + 18 ≤ R.locals) (hdg : decode cc pc = .ok (.invokestatic index, 3))
    (kk : ∀ (X1 : xk_H) (H1 : Heap) (locs1 : List Loc), X1 a = some (o1, xk_qA g n1 (va_cpy f h sp dp n)) → (∀ b, b ≠ a → X1 b = X b) → xk_I g s H1 X1 locs1 → W p l e R s m args below meth c H1 locs1 cells slots Q (F0 m (pc + 3) ls rest)) :
    W p l e R s m args below meth c H locs cells slots Q (F0 m pc ls (.int (nI n) :: .int (nI dp) :: .ref a :: .int (nI sp) :: .ref a0 :: rest)) := by
  obtain ⟨ws, hP, hD, hj, -⟩ := xk_enum hI.2
  obtain ⟨q0, hq0⟩ := hj a0 o0 _ ha0
  obtain ⟨q1, hq1⟩ := hj a o1 _ ha1
  have c1 : (nI sp).toNatClampNeg = sp := nI_clamp (by omega)
  have c2 : (nI dp).toNatClampNeg = dp := nI_clamp (by omega)
  have c3 : (nI n).toNatClampNeg = n := nI_clamp (by omega)
  have d1 : (nI sp).toInt = (sp : Int) := nI_toInt (by omega)
  have d2 : (nI dp).toInt = (dp : Int) := nI_toInt (by omega)
  have d3 : (nI n).toInt = (n : Int) := nI_toInt (by omega)
  have hw : nativeFrameWords "java/lang/System" "arraycopy" 5 = 7 := by decide
  have hS := hI.1
  intro T hT Y
  have hc0 : H[a0]? = some (vp_cell (xk_T g 3) (n0, .inr (.inr (.inr (.inr f))))) := hP q0 _ hq0
  have hc1 : H[a]? = some (vp_cell (xk_T g 3) (n1, .inr (.inr (.inr (.inr h))))) := hP q1 _ hq1
  have ht : (xk_Ty g)[3]? = some (xk_T g 3, .object "java/lang/Object") := rfl
  obtain ⟨-, k0, hk0, cm0, hkk0⟩ := (B.K.1.2 3 _ ht).1 n0 (fun j => va_rf (f j))
  obtain ⟨-, k1, hk1, cm1, hkk1⟩ := (B.K.1.2 3 _ ht).1 n1 (fun j => va_rf (h j))
  obtain ⟨vm', Y', step⟩ := Y.arraycopy B.1 B.ow (B.ts _ hlink) (B.ts _ hnat) (B.ts _ hstat) (B.ts _ hini) (src := a0) (dst := a) (cs := vp_cell (xk_T g 3) (n0, .inr (.inr (.inr (.inr f))))) (cd := vp_cell (xk_T g 3) (n1, .inr (.inr (.inr (.inr h))))) (srcPos := nI sp) (destPos := nI dp) (n := nI n) (by rw [hT]; exact hc0) (by rw [hT]; exact hc1)
    (fun _ h => by cases h) (fun _ h => by cases h) (fun h => by cases h) (fun h => by cases h) hk0 hk1 hkk0 hkk1 rfl (nI_pos (by omega)) (nI_pos (by omega)) (nI_pos (by omega))
    (by rw [d1, d3]; show ¬ _ > ((arrV (xk_T g 3) n0 (fun j => va_rf (f j))).slots.size : Int); rw [arrV_size]; omega)
    (by rw [d2, d3]; show ¬ _ > ((arrV (xk_T g 3) n1 (fun j => va_rf (h j))).slots.size : Int); rw [arrV_size]; omega)
    (fun vm₁ hal i hi => by
      rw [c3] at hi
      rw [c1]
      have e1 : (vp_cell (xk_T g 3) (n0, .inr (.inr (.inr (.inr f))))).slots.getD (sp + i) .null = va_rf (f (sp + i)) := by
        show (arrV (xk_T g 3) n0 (fun j => va_rf (f j))).slots.getD _ _ = _
        rw [Array.getD_eq_getD_getElem?, arrV_read _ _ (by omega)]
        rfl
      rw [e1]
      cases hy : f (sp + i) with
      | none => exact ⟨rfl, trivial⟩
      | some y =>
        obtain ⟨cellV, g1, g2, ⟨kC, hkC⟩, g3⟩ := hel i hi y hy
        obtain ⟨kA, comp, r1, r2, r3, -⟩ := (B.K.1.2 3 _ ht).2
        cases hk1.symm.trans r1
        cases hkk1.symm.trans r2
        obtain ⟨kE, hkE, -⟩ := Vm.findClass_spec r3
        obtain ⟨kC', hkC', -⟩ := hal.2.2 _ _ hkC
        obtain ⟨kE', hkE', -⟩ := hal.2.2 _ _ hkE
        refine ⟨rfl, cellV, (show T.heap[y]? = some cellV by rw [hT]; exact g1), (fun q h => by rw [h] at g2; cases g2), ⟨kC', hkC'⟩, ?_, ?_⟩
        · exact ⟨kE', hkE'⟩
        · show vm₁.assignable _ _ = true
          rw [hal.assignable]
          exact g3 _ r3)
    (g := F0 m pc ls (.int (nI n) :: .int (nI dp) :: .ref a :: .int (nI sp) :: .ref a0 :: rest)) rfl (by rw [hml]) (rest := rest) rfl (by rw [B.2.1]; exact hdg) hframes (by show 2 * 0 + _ + _ ≤ _; omega)
  have e1 : copied (vp_cell (xk_T g 3) (n0, .inr (.inr (.inr (.inr f))))) (vp_cell (xk_T g 3) (n1, .inr (.inr (.inr (.inr h))))) (nI sp) (nI dp) (nI n) = vp_cell (xk_T g 3) (n1, .inr (.inr (.inr (.inr (va_cpy f h (nI sp).toNatClampNeg (nI dp).toNatClampNeg (nI n).toNatClampNeg))))) := by
    rw [vp_cell_q, vp_cell_q, vp_cell_q]
    exact va_copied (fun z => va_rf z) (xk_T g 3) (xk_T g 3) f h (by rw [c1, c3]; exact h4)
  rw [e1, c1, c2, c3] at Y' step
  have hl : a < H.size := (Array.getElem?_eq_some_iff.mp hc1).1
  have hheap : ((T.setVm vm').setCell a (vp_cell (xk_T g 3) (n1, .inr (.inr (.inr (.inr (va_cpy f h sp dp n))))))).heap = H.setIfInBounds a (vp_cell (xk_T g 3) (n1, .inr (.inr (.inr (.inr (va_cpy f h sp dp n)))))) := by rw [← hT]; rfl
  have oq : ∀ q : Nat, q ≠ a → (H.setIfInBounds a (vp_cell (xk_T g 3) (n1, .inr (.inr (.inr (.inr (va_cpy f h sp dp n)))))))[q]? = H[q]? := fun q hq => by simp [Array.getElem?_setIfInBounds, Ne.symm hq]
  obtain ⟨t, a1, b1⟩ := kk _ _ _ xk_Us (fun b hb => xk_Un hb) ⟨⟨by simp; exact hS.1, fun q g1 g2 => by
      rw [oq q (fun e => g2 (by rw [e]; exact hD.2 q1 _ hq1))]
      exact hS.2.1 q g1 g2, fun q hq => by
      rcases List.mem_append.mp hq with h | h
      · exact hS.2.2 q h
      · obtain ⟨z, -, hz⟩ := List.mem_map.mp h
        rw [← hz]
        exact hD.2 q1 _ hq1⟩, xk_wr hI.2 ha1 hj hq1 (hP.set hD hq1 (show (H.setIfInBounds a _)[a]? = some _ by simp [Array.getElem?_setIfInBounds, hl]) oq)⟩ _ hheap Y'
  exact ⟨t, step t a1, b1⟩
end X6
