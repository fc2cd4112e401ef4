/-! frames by owner; fresh roots; lists of references -/
set_option maxRecDepth 100000
def xk_fx (P : Nat × Nat → Prop) (X X1 : xk_H) : Prop := ∀ (a : Nat) (o : Nat × Nat) (e : va_E), X a = some (o, e) → ¬ P o → X1 a = some (o, e)
/-- no owner of that root -/
def xk_nr (r : Nat) (X : xk_H) : Prop := ∀ (a : Nat) (o : Nat × Nat) (e : va_E), X a = some (o, e) → o.1 ≠ r
theorem xk_fx.rf {P : Nat × Nat → Prop} {X : xk_H} : xk_fx P X X := fun _ _ _ h _ => h
theorem xk_fx.le {P : Nat × Nat → Prop} {X X1 X2 : xk_H} (h : xk_fx P X X1) (h2 : xk_le X1 X2) : xk_fx P X X2 := fun a o e q n => h2 a _ (h a o e q n)
theorem xk_fx.put {P : Nat × Nat → Prop} {X X1 X2 : xk_H} {c : Nat} {o2 : Nat × Nat} {e2 : va_E} (h : xk_fx P X X1) (hn : ∀ b, b ≠ c → X2 b = X1 b) (hc : X1 c = some (o2, e2)) (hP : P o2 ∨ xk_nr o2.1 X) : xk_fx P X X2 := fun a o e q n => by
  have h1 := h a o e q n
  by_cases ha : a = c
  · subst ha
    rw [h1] at hc
    cases hc
    rcases hP with hP | hP
    · exact absurd hP n
    · exact absurd rfl (hP _ _ _ q)
  · rw [hn a ha]; exact h1
theorem xk_fx.tr {P P2 : Nat × Nat → Prop} {X X1 X2 : xk_H} (h : xk_fx P X X1) (h2 : xk_fx P2 X1 X2) (hi : ∀ (a : Nat) (o : Nat × Nat) (e : va_E), X a = some (o, e) → P2 o → P o) : xk_fx P X X2 := fun a o e q n => h2 a o e (h a o e q n) (fun z => n (hi a o e q z))
theorem xk_fx.tole {X X1 : xk_H} (h : xk_fx (fun _ => False) X X1) : xk_le X X1 := fun a z q => h a z.1 z.2 q id
theorem xk_le.fx {P : Nat × Nat → Prop} {X X1 : xk_H} (h : xk_le X X1) : xk_fx P X X1 := fun a o e q _ => h a _ q
theorem xk_nr.back {P : Nat × Nat → Prop} {X X1 : xk_H} {r : Nat} (hr : xk_nr r X1) (h : xk_fx P X X1) (hP : ∀ o : Nat × Nat, P o → o.1 ≠ r) : xk_nr r X := fun a o e q => by
  by_cases hp : P o
  · exact hP o hp
  · exact hr a o e (h a o e q hp)
theorem xk_root {g : xk_G} {X : xk_H} {H : Heap} (h : xk_R g X H) : ∃ r : Nat, xk_nr r X := by
  have key : ∀ n : Nat, ∃ r : Nat, ∀ a, a < n → ∀ (o : Nat × Nat) (e : va_E), X a = some (o, e) → o.1 < r := by
    intro n
    induction n with
    | zero => exact ⟨0, fun a ha => by omega⟩
    | succ n ih =>
      obtain ⟨r, hr⟩ := ih
      cases hx : X n with
      | none =>
        refine ⟨r, fun a ha o e q => ?_⟩
        by_cases han : a = n
        · subst han; rw [hx] at q; cases q
        · exact hr a (by omega) o e q
      | some z =>
        refine ⟨max r (z.1.1 + 1), fun a ha o e q => ?_⟩
        by_cases han : a = n
        · subst han
          rw [hx] at q
          cases q
          exact Nat.lt_of_lt_of_le (Nat.lt_succ_self _) (Nat.le_max_right _ _)
        · exact Nat.lt_of_lt_of_le (hr a (by omega) o e q) (Nat.le_max_left _ _)
  obtain ⟨r, hr⟩ := key H.size
  exact ⟨r, fun a o e q z => Nat.lt_irrefl r (by have := hr a (xk_lt h q) o e q; rw [z] at this; exact this)⟩
/-- how far a list grows: its capacity, the arrays and places that the n-th add makes, and all adds up to n -/
def tl_cap (n : Nat) : Nat := if n = 0 then 0 else if n ≤ 10 then 10 else if n ≤ 15 then 15 else if n ≤ 22 then 22 else if n ≤ 33 then 33 else 49
def tl_gc (n : Nat) : Nat := if n = tl_cap n then 1 else 0
def tl_gs (n : Nat) : Nat := if n = tl_cap n then tl_cap (n + 1) else 0
def tl_gcs : Nat → Nat
  | 0 => 0
  | n + 1 => tl_gcs n + tl_gc n
def tl_gss : Nat → Nat
  | 0 => 0
  | n + 1 => tl_gss n + tl_gs n
theorem tl_cap_k {n : Nat} (h : n ≤ 49) : n ≤ tl_cap n ∧ tl_cap n ≤ 49 := by
  unfold tl_cap
  repeat' split
  all_goals omega
theorem tl_cap_room {n : Nat} (h : n ≤ 49) (h0 : 0 < n) (hn : n ≠ tl_cap n) : tl_cap (n + 1) = tl_cap n := by
  revert n
  decide
theorem tl_cap_full {n : Nat} (h : n ≤ 48) (h0 : 0 < n) (hn : n = tl_cap n) : 10 ≤ n ∧ n ≤ 33 ∧ tl_cap (n + 1) = n + n / 2 := by
  revert n
  decide
theorem tl_gcs_k : ∀ n, n ≤ 48 → tl_gcs n ≤ 5 ∧ tl_gss n ≤ 129 := by decide
theorem tl_gcs12 : ∀ n, n ≤ 12 → tl_gcs n ≤ 2 ∧ tl_gss n ≤ 25 := by decide
/-- l: the list, a its array -/
def tb_L (g : xk_G) (X : xk_H) (l a : Nat) (ow ow2 : Nat × Nat) (mc : Int32) (n : Nat) (pp : Nat → Nat) : Prop :=
  X l = some (ow, .inr (11, [.int mc, .ref a, .int (nI n)])) ∧ n ≤ 49 ∧ ((n = 0 ∧ a = xk_Em g) ∨ ∃ h : Nat → Option Nat, X a = some (ow2, xk_qA g (tl_cap n) h) ∧ 0 < n ∧ ∀ i, i < n → h i = some (pp i))
theorem tb_L.kp {g : xk_G} {X X1 : xk_H} {l a : Nat} {ow ow2 : Nat × Nat} {mc : Int32} {n : Nat} {pp : Nat → Nat} (h : tb_L g X l a ow ow2 mc n pp) (k1 : ∀ (a : Nat) (e : va_E), X a = some (ow, e) → X1 a = some (ow, e)) (k2 : ∀ (a : Nat) (e : va_E), X a = some (ow2, e) → X1 a = some (ow2, e)) : tb_L g X1 l a ow ow2 mc n pp := by
  obtain ⟨h1, h2, h3⟩ := h
  refine ⟨k1 _ _ h1, h2, ?_⟩
  rcases h3 with h3 | ⟨f, h4, h5⟩
  · exact Or.inl h3
  · exact Or.inr ⟨f, k2 _ _ h4, h5⟩
theorem tb_L.le {g : xk_G} {X X1 : xk_H} {l a : Nat} {ow ow2 : Nat × Nat} {mc : Int32} {n : Nat} {pp : Nat → Nat} (h : tb_L g X l a ow ow2 mc n pp) (hl : xk_le X X1) : tb_L g X1 l a ow ow2 mc n pp := h.kp (fun _ _ q => hl _ _ q) (fun _ _ q => hl _ _ q)
theorem tb_L.ext {g : xk_G} {X : xk_H} {l a : Nat} {ow ow2 : Nat × Nat} {mc : Int32} {n : Nat} {pp qq : Nat → Nat} (h : tb_L g X l a ow ow2 mc n pp) (he : ∀ i, i < n → pp i = qq i) : tb_L g X l a ow ow2 mc n qq := by
  obtain ⟨h1, h2, h3⟩ := h
  refine ⟨h1, h2, ?_⟩
  rcases h3 with h3 | ⟨f, h4, h5, h6⟩
  · exact Or.inl h3
  · exact Or.inr ⟨f, h4, h5, fun i hi => by rw [h6 i hi, he i hi]⟩
abbrev xk_f2 (o1 o2 : Nat × Nat) (X X1 : xk_H) : Prop := xk_fx (fun o => o = o1 ∨ o = o2) X X1
abbrev xk_f1 (o1 : Nat × Nat) (X X1 : xk_H) : Prop := xk_fx (fun o => o = o1) X X1
/-- an iterator of the list l, at place k -/
def tb_It (X : xk_H) (it l : Nat) (ow : Nat × Nat) (mc : Int32) (k : Nat) : Prop := ∃ lr : Int32, X it = some (ow, .inr (13, [.int (nI k), .int lr, .int mc, .ref l]))
theorem tb_It.kp {X X1 : xk_H} {it l : Nat} {ow : Nat × Nat} {mc : Int32} {k : Nat} (h : tb_It X it l ow mc k) (k1 : ∀ (a : Nat) (e : va_E), X a = some (ow, e) → X1 a = some (ow, e)) : tb_It X1 it l ow mc k := by
  obtain ⟨lr, h⟩ := h
  exact ⟨lr, k1 _ _ h⟩
/-! class objects -/
def xk_mi (g : xk_G) : Nat := match (Term.mirror "[Ljava/lang/Object;").eval (xk_a g) (xk_s g) none [] (xk_s g) with
  | some (.ref a) => a
  | _ => 0
theorem xk_miK {g : xk_G} {s : State} (h : xk_K g s) : va_Mi "[Ljava/lang/Object;" (xk_mi g) s := by
  have h1 : (Cond.isRef (.mirror "[Ljava/lang/Object;")).before (xk_a g) (xk_s g) = true := h.2.2.2.2.nar _ (by decide +kernel)
  obtain ⟨v, hv, -⟩ := Cond.isRef_spec h1
  obtain ⟨c, k, a, h2, h3, h4, h5⟩ := Term.mirror_spec hv
  have e : xk_mi g = a := by
    unfold xk_mi
    rw [hv, h5]
  rw [e]
  exact va_Mi.moved h.2.1.alike ⟨c, k, h2, h3, h4⟩
section X7
variable {g : xk_G} {p : Program} {e : Env} {R : Room} {s : State} {m : MethodId} {args : Array Value} {below : List Frame} {meth : Method} {c : Code} {H : Heap} {locs : List Loc} {cells slots : Nat} {Q : State → Prop}
variable {cc : ByteArray} {pc nL : Nat} {own : String} {ls : Array Slot} {rest st0 : List Value} {X : xk_H} {l : Launch}
theorem xk_ldcM (B : xk_B g p s m args meth c own cc nL) {index : Nat} (hlink : Cond.classLink own index "[Ljava/lang/Object;" ∈ lw_all) (hdg : decode cc pc = .ok (.ldc index, 2))
    (kk : W p l e R s m args below meth c H locs cells slots Q (F0 m (pc + 2) ls (.ref (xk_mi g) :: rest))) : W p l e R s m args below meth c H locs cells slots Q (F0 m pc ls rest) :=
  va_ldcM B.1 B.2.1 B.ow (B.ts _ hlink) (xk_miK B.K) hdg kk
theorem xk_getC (B : xk_B g p s m args meth c own cc nL) (hI : xk_I g s H X locs) (hml : c.maxLocals = ls.size) {index : Nat} (hlink : Cond.methodLink own index ⟨"java/lang/Object", "getClass", "()Ljava/lang/Class;"⟩ ∈ lw_all)
    {a n : Nat} {o : Nat × Nat} {f : Nat → Option Nat} (ha : X a = some (o, xk_qA g n f)) (hframes : 1 ≤ R.frames) (hlocals : (rest.map fun v => v.category).sum + 14 ≤ R.locals) (hdg : decode cc pc = .ok (.invokevirtual index, 3))
    (kk : W p l e R s m args below meth c H locs cells slots Q (F0 m (pc + 3) ls (.ref (xk_mi g) :: rest))) : W p l e R s m args below meth c H locs cells slots Q (F0 m pc ls (.ref a :: rest)) :=
  va_getC B.1 B.2.1 hml B.ow (B.ts _ hlink) (va_Dc.use (va_Dc.moved B.K.2.1.alike (va_Dc.of (B.K.2.2.2.2.2.1 _ q1835)))) (B.ts _ q1834) (B.ts _ q498) (B.ts _ q516) (xk_miK B.K)
    ⟨_, xk_one hI.2 ha 0 _ rfl, rfl, va_nmO (B.K.1.2 3 (xk_T g 3, .object "java/lang/Object") rfl).2 (by decide)⟩ hframes hlocals hdg kk
end X7
/-- an object whose owner isn't in P -/
def xk_isX (g : xk_G) (X : xk_H) (P : Nat × Nat → Prop) (y : Nat) : Prop := ∃ (o : Nat × Nat) (z : va_E), X y = some (o, z) ∧ xk_kd g z ∧ ¬ P o
theorem xk_isX.fx {g : xk_G} {X X1 : xk_H} {P : Nat × Nat → Prop} {y : Nat} (h : xk_isX g X P y) (hf : xk_fx P X X1) : xk_isX g X1 P y := by
  obtain ⟨o, z, h1, h2, h3⟩ := h
  exact ⟨o, z, hf _ _ _ h1 h3, h2, h3⟩
theorem xk_isX.o {g : xk_G} {X : xk_H} {P : Nat × Nat → Prop} {y : Nat} (h : xk_isX g X P y) : xk_isO g X y := by
  obtain ⟨o, z, h1, h2, -⟩ := h
  exact ⟨o, z, h1, h2⟩
abbrev xk_is2 (g : xk_G) (X : xk_H) (o1 o2 : Nat × Nat) (y : Nat) : Prop := xk_isX g X (fun o => o = o1 ∨ o = o2) y
def tl_insf (pp : Nat → Nat) (i v : Nat) : Nat → Nat := fun j => if j < i then pp j else if j = i then v else pp (j - 1)
/-- what an add comes to -/
theorem tb_L.addE {g : xk_G} {X : xk_H} {l q v : Nat} {ow ow2 : Nat × Nat} {mc : Int32} {f : Nat → Option Nat} {pp : Nat → Nat} (h1 : X l = some (ow, .inr (11, [.int mc, .ref q, .int (nI 1)]))) (h2 : X q = some (ow2, xk_qA g 10 f)) (h3 : f 0 = some v) : tb_L g X l q ow ow2 mc 1 (va_up pp 0 v) :=
  ⟨h1, by decide, Or.inr ⟨f, h2, by decide, fun i hi => by rw [show i = 0 by omega, h3, tl_us]⟩⟩
