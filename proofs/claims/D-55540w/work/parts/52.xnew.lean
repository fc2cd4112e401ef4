/-! NEW ARRAYS -/
set_option maxRecDepth 100000
section XN
variable {g : xk_G} {p : Program} {e : Env} {R : Room} {s : State} {m : MethodId} {args : Array Value} {below : List Frame} {meth : Method} {c : Code} {H : Heap} {locs : List Loc} {cells slots : Nat} {Q : State → Prop}
variable {cc : ByteArray} {pc nL : Nat} {own : String} {ls : Array Slot} {rest st0 : List Value} {X : xk_H} {l : Launch}
theorem xk_newi (B : xk_B g p s m args meth c own cc nL) (hI : xk_I g s H X locs) (ow : Nat → Nat × Nat) (t : Nat) {atype : ArrayType} {ty : FieldType} {nm : String} (harr : Cond.arrayClass (newarray.typeOf atype) ∈ lw_all) (hty : newarray.typeOf atype = ty) (ht : (xk_Ty g)[t]? = some (xk_T g t, ty)) (hnm : ∀ cA : ClassId, va_RA s cA ty → s.vm.findClass nm = some cA)
    {n : Nat} (hn : n < 2147483648) (ha : ∀ cA : ClassId, vp_cell cA (n, .inl (fun _ => nI 0)) = arrV cA n (fun _ => defaultValue ty)) (hbytes : n * componentBytes ty ≤ 536870912) (hcells : cells + 1 ≤ R.cells) (hslots : slots + n ≤ R.slots) (hdg : decode cc pc = .ok (.newarray atype, 2))
    (kk : ∀ (q : Nat) (X1 : xk_H) (H1 : Heap), X q = none → X1 q = some (ow q, xk_iA g t n (fun _ => 0)) → (∀ b, b ≠ q → X1 b = X b) → xk_I g s H1 X1 locs → W p l e R s m args below meth c H1 locs (cells + 1) (slots + n) Q (F0 m (pc + 2) ls (.ref q :: rest))) : W p l e R s m args below meth c H locs cells slots Q (F0 m pc ls (.int (nI n) :: rest)) := by
  obtain ⟨ws, hP, hD, hj, -⟩ := xk_enum hI.2
  refine va_newa (a0 := (n, .inl (fun _ => nI 0))) B.1 B.2.1 (B.ts _ harr) hty B.K.1 hP hD hI.1 (fun q hq => Nat.le_trans B.K.2.2.1 hq) ha (nI_pos (by omega)) (nI_clamp (by omega)) hbytes hcells hslots hdg (fun q cA H1 hK1 hP1 hD1 hS1 => ?_)
  have h1 : (xk_Ty g ++ [(cA, ty)])[(xk_Ty g).length]? = some (cA, ty) := by simp
  have e1 := hnm cA (hK1.2 _ _ h1).2
  have e2 := hnm _ (B.K.1.2 _ _ ht).2
  have e3 : cA = xk_T g t := Option.some.inj (e1.symm.trans e2)
  subst e3
  obtain ⟨h0, hR⟩ := xk_new (ow q) hI.2 hj hP1 hD1
  exact kk q _ H1 h0 xk_Us (fun b hb => xk_Un hb) ⟨hS1, hR⟩
/-- an array of Objects -/
theorem xk_newq (B : xk_B g p s m args meth c own cc nL) (hI : xk_I g s H X locs) (ow : Nat → Nat × Nat) {index : Nat} (hclink : Cond.classLink own index "java/lang/Object" ∈ lw_all) (hover : va_AO "java/lang/Object" s)
    {n : Nat} (hn : n < 2147483648) (hbytes : n * 4 ≤ 536870912) (hcells : cells + 1 ≤ R.cells) (hslots : slots + n ≤ R.slots) (hdg : decode cc pc = .ok (.anewarray index, 3))
    (kk : ∀ (q : Nat) (X1 : xk_H) (H1 : Heap), X q = none → X1 q = some (ow q, xk_qA g n (fun _ => none)) → (∀ b, b ≠ q → X1 b = X b) → xk_I g s H1 X1 locs → W p l e R s m args below meth c H1 locs (cells + 1) (slots + n) Q (F0 m (pc + 3) ls (.ref q :: rest))) : W p l e R s m args below meth c H locs cells slots Q (F0 m pc ls (.int (nI n) :: rest)) := by
  obtain ⟨ws, hP, hD, hj, -⟩ := xk_enum hI.2
  refine va_newq B.1 B.2.1 B.ow (B.ts _ hclink) hover B.K.1 hP hD hI.1 (fun q hq => Nat.le_trans B.K.2.2.1 hq) (nI_pos (by omega)) (nI_clamp (by omega)) hbytes hcells hslots hdg (fun q cA H1 hK1 hP1 hD1 hS1 => ?_)
  have h1 : (xk_Ty g ++ [(cA, .object "java/lang/Object")])[(xk_Ty g).length]? = some (cA, .object "java/lang/Object") := by simp
  obtain ⟨-, -, -, -, -, e1⟩ := (hK1.2 _ _ h1).2
  obtain ⟨-, -, -, -, -, e2⟩ := (B.K.1.2 3 (xk_T g 3, .object "java/lang/Object") rfl).2
  have e3 : cA = xk_T g 3 := Option.some.inj (e1.symm.trans e2)
  subst e3
  obtain ⟨h0, hR⟩ := xk_new (ow q) hI.2 hj hP1 hD1
  exact kk q _ H1 h0 xk_Us (fun b hb => xk_Un hb) ⟨hS1, hR⟩
/-- a table's word, at every method's start -/
theorem xk_K.tb {s : State} (h : xk_K g s) {w : Cond} (hw : w ∈ lw_tbl) (hc : (w.onTables && w.keeps) = true) (args : Array Value) : w.before args s = true := word_at h.2.1 (Or.inl hc) (h.2.2.2.2.2.1 w hw)
theorem xk_K.nw {s : State} (h : xk_K g s) {w : Cond} (hw : w ∈ lw_tbl) (hc : (w.onTables && w.keeps) = true) : va_Nw w s := h.tb hw hc #[]
theorem xk_K.ao {s : State} (h : xk_K g s) : va_AO "java/lang/Object" s := va_AO.moved h.2.1.alike (va_AO.of (h.2.2.2.2.2.1 _ q182))
/-- storing a reference, storing null -/
theorem xk_aast (B : xk_B g p s m args meth c own cc nL) (hI : xk_I g s H X locs) {a : Nat} {o : Nat × Nat} {n : Nat} {f : Nat → Option Nat} (ha : X a = some (o, xk_qA g n f)) {i : Nat} (hi : i < n) (hn : n < 2147483648) (hdg : decode cc pc = .ok (.aastore, 1))
    {v : Value} {r : Option Nat} (hv : v = va_rf r)
    (kk : ∀ (X1 : xk_H) (H1 : Heap) (locs1 : List Loc), X1 a = some (o, xk_qA g n (va_up f i r)) → (∀ b, b ≠ a → X1 b = X b) → xk_I g s H1 X1 locs1 → W p l e R s m args below meth c H1 locs1 cells slots Q (F0 m (pc + 1) ls rest)) (hnull : r = none) : W p l e R s m args below meth c H locs cells slots Q (F0 m pc ls (v :: .int (nI i) :: .ref a :: rest)) := by
  subst hnull
  subst hv
  obtain ⟨ws, hP, hD, hj, -⟩ := xk_enum hI.2
  obtain ⟨q0, hq0⟩ := hj a o _ ha
  refine va_astqN B.1 B.2.1 B.K.1 hP hD hI.1 q0 3 hq0 rfl (vp_in_nI hi hn) hdg (fun H1 locs1 hP1 hD1 hS1 => ?_)
  rw [nI_clamp (by omega)] at hP1
  exact kk _ H1 locs1 xk_Us (fun b hb => xk_Un hb) ⟨hS1, xk_wr hI.2 ha hj hq0 hP1⟩
theorem xk_fr.new {r a : Nat} {X X1 X2 : xk_H} (h : xk_fr r X X1) (h0 : X1 a = none) (hn : ∀ b, b ≠ a → X2 b = X1 b) : xk_fr r X X2 := h.le (xk_le.fresh h0 hn)
end XN
