/-! ROWS over the own kit: branches on small numbers and truth values, small arithmetic, loads of references that may be null -/
set_option maxRecDepth 100000
def xk_z (b : Bool) : Int32 := if b then 1 else 0
theorem xk_z1 : xk_z true = nI 1 := by decide
theorem xk_z0 : xk_z false = nI 0 := by decide
theorem xk_nz1 (b : Bool) : narrow .boolean (.int (xk_z b)) = .int (xk_z b) := by cases b <;> decide
theorem xk_fz1 (b : Bool) : fits .boolean (.int (xk_z b)) = true := by cases b <;> decide
theorem xk_nz2 {v : Nat} (h : v ≤ 1) : narrow .boolean (.int (nI v)) = .int (nI v) := by
  rcases (show v = 0 ∨ v = 1 by omega) with rfl | rfl <;> decide
theorem xk_fz2 {v : Nat} (h : v ≤ 1) : fits .boolean (.int (nI v)) = true := by
  rcases (show v = 0 ∨ v = 1 by omega) with rfl | rfl <;> decide
theorem xk_nc2 {v : Nat} (h : v < 65536) : narrow .char (.int (nI v)) = .int (nI v) := (pk_charN h).1
theorem xk_fc2 {v : Nat} (h : v < 65536) : fits .char (.int (nI v)) = true := (pk_charN h).2
theorem xk_nb2 {v : Nat} (h : v < 128) : narrow .byte (.int (nI v)) = .int (nI v) := by
  revert v
  decide
theorem xk_fb2 {v : Nat} (h : v < 128) : fits .byte (.int (nI v)) = true := by
  revert v
  decide
theorem xk_inc (a : Nat) : nI a + Int32.ofInt 1 = nI (a + 1) := (nI_1 a)
theorem xk_dec {a : Nat} (h : 0 < a) : nI a + Int32.ofInt (-1) = nI (a - 1) := by
  obtain ⟨b, rfl⟩ : ∃ b, a = b + 1 := ⟨a - 1, by omega⟩
  rw [Nat.add_sub_cancel]
  exact pk_m1 b
theorem xk_ne0 {a : Nat} (h : 0 < a) (h2 : a < 2147483648) : ¬ nI a = 0 := fun q => by
  have := (nI_eq (a := a) (b := 0) (by omega) (by omega)).mp q
  omega
theorem xk_and (a b : Nat) : nI a &&& nI b = nI (a &&& b) := by
  apply Int32.toBitVec_inj.mp
  show BitVec.ofNat 32 a &&& BitVec.ofNat 32 b = BitVec.ofNat 32 (a &&& b)
  apply BitVec.eq_of_getLsbD_eq
  intro i hi
  simp [BitVec.getLsbD_ofNat, Nat.testBit_and, hi]
theorem xk_or (a b : Nat) : nI a ||| nI b = nI (a ||| b) := by
  apply Int32.toBitVec_inj.mp
  show BitVec.ofNat 32 a ||| BitVec.ofNat 32 b = BitVec.ofNat 32 (a ||| b)
  apply BitVec.eq_of_getLsbD_eq
  intro i hi
  simp [BitVec.getLsbD_ofNat, Nat.testBit_or, hi]
theorem xk_xor (a b : Nat) : nI a ^^^ nI b = nI (a ^^^ b) := by
  apply Int32.toBitVec_inj.mp
  show BitVec.ofNat 32 a ^^^ BitVec.ofNat 32 b = BitVec.ofNat 32 (a ^^^ b)
  apply BitVec.eq_of_getLsbD_eq
  intro i hi
  simp [BitVec.getLsbD_ofNat, Nat.testBit_xor, hi]
theorem xk_s31 : ∀ n : Nat, n < 32 → ((nI n &&& 31).toBitVec.smod 32).toNat = n := by decide
theorem xk_shl {a k : Nat} (hk : k < 32) (h : a * 2 ^ k < 4294967296) : nI a <<< (nI k &&& 31) = nI (a * 2 ^ k) := pk_shlN _ k (xk_s31 k hk) (by simpa using h)
theorem xk_shl1 {k : Nat} (hk : k < 31) : nI 1 <<< (nI k &&& 31) = nI (2 ^ k) := by
  have h : 2 ^ k ≤ 2 ^ 30 := Nat.pow_le_pow_right (by decide) (by omega)
  have := xk_shl (a := 1) (k := k) (by omega) (by omega)
  rwa [Nat.one_mul] at this
theorem xk_shr {a k : Nat} (h : a < 2147483648) (hk : k < 32) : nI a >>> (nI k &&& 31) = nI (a / 2 ^ k) := pk_shrN (by simpa using h) _ k (xk_s31 k hk)
theorem xk_m1lt {a : Nat} (h : a < 2147483648) : (-1 : Int32) < nI a ∧ ¬ nI a ≤ (-1 : Int32) ∧ nI a ≠ (-1 : Int32) := by
  have e : (nI a).toInt = a := nI_toInt (by omega)
  refine ⟨?_, ?_, ?_⟩
  · rw [Int32.lt_iff_toInt_lt, e]
    have : (-1 : Int32).toInt = -1 := by decide
    omega
  · rw [Int32.le_iff_toInt_le, e]
    have : (-1 : Int32).toInt = -1 := by decide
    omega
  · intro q
    have := congrArg Int32.toInt q
    rw [e] at this
    have h2 : (-1 : Int32).toInt = -1 := by decide
    omega
theorem xk_isrf (r : Option Nat) : va_rf r = .null ∨ ∃ a, va_rf r = .ref a := by
  cases r with
  | none => exact Or.inl rfl
  | some a => exact Or.inr ⟨a, rfl⟩
theorem xk_catrf (r : Option Nat) : (va_rf r).category = 1 := by cases r <;> rfl
theorem xk_narf (ty : FieldType) (r : Option Nat) : narrow ty (va_rf r) = va_rf r := by
  cases r <;> cases ty <;> rfl
section XR
variable {g : xk_G} {p : Program} {e : Env} {R : Room} {s : State} {m : MethodId} {args : Array Value} {below : List Frame} {meth : Method} {c : Code} {H : Heap} {locs : List Loc} {cells slots : Nat} {Q : State → Prop}
variable {cc : ByteArray} {pc nL : Nat} {own : String} {ls : Array Slot} {rest st0 : List Value} {X : xk_H} {l : Launch}
theorem xk_ldc (B : xk_B g p s m args meth c own cc nL) {index : Nat} {n v : Int32} (hconst : Cond.constant own index n ∈ lw_all) (hdg : decode cc pc = .ok (.ldc index, 2)) (hv : n = v) (k : W p l e R s m args below meth c H locs cells slots Q (F0 m (pc + 2) ls (.int v :: rest))) : W p l e R s m args below meth c H locs cells slots Q (F0 m pc ls rest) :=
  lv_ldc B.1 B.2.1 B.ow (B.ts _ hconst) hdg (hv ▸ k)
theorem xk_icmp_eq (hx : p.tables.exec = Jvm.exec) (hb : c.code = cc) {a b : Nat} {off : Int} {tgt : Nat} (ha : a < 2147483648) (hb2 : b < 2147483648) (hdg : decode cc pc = .ok (.if_icmp .eq off, 3)) (ht : (pc : Int) + off = (tgt : Int)) (kt : a = b → W p l e R s m args below meth c H locs cells slots Q (F0 m tgt ls rest)) (kf : a ≠ b → W p l e R s m args below meth c H locs cells slots Q (F0 m (pc + 3) ls rest)) : W p l e R s m args below meth c H locs cells slots Q (F0 m pc ls (.int (nI b) :: .int (nI a) :: rest)) :=
  lv_icmp_eq (tgt := tgt) hx hb hdg ht (fun q => kt ((nI_eq (by omega) (by omega)).mp q)) (fun q => kf (fun z => q ((nI_eq (by omega) (by omega)).mpr z)))
theorem xk_icmp_eq_t (hx : p.tables.exec = Jvm.exec) (hb : c.code = cc) {a b : Nat} {off : Int} {tgt : Nat} (ha : a < 2147483648) (hb2 : b < 2147483648) (hdg : decode cc pc = .ok (.if_icmp .eq off, 3)) (ht : (pc : Int) + off = (tgt : Int)) (h : a = b) (kt : W p l e R s m args below meth c H locs cells slots Q (F0 m tgt ls rest)) : W p l e R s m args below meth c H locs cells slots Q (F0 m pc ls (.int (nI b) :: .int (nI a) :: rest)) :=
  xk_icmp_eq (tgt := tgt) hx hb ha hb2 hdg ht (fun _ => kt) (fun q => absurd h (by omega))
theorem xk_icmp_eq_f (hx : p.tables.exec = Jvm.exec) (hb : c.code = cc) {a b : Nat} {off : Int} {tgt : Nat} (ha : a < 2147483648) (hb2 : b < 2147483648) (hdg : decode cc pc = .ok (.if_icmp .eq off, 3)) (ht : (pc : Int) + off = (tgt : Int)) (h : a ≠ b) (kf : W p l e R s m args below meth c H locs cells slots Q (F0 m (pc + 3) ls rest)) : W p l e R s m args below meth c H locs cells slots Q (F0 m pc ls (.int (nI b) :: .int (nI a) :: rest)) :=
  xk_icmp_eq (tgt := tgt) hx hb ha hb2 hdg ht (fun q => absurd h (by omega)) (fun _ => kf)
theorem xk_raw_icmp_eq_t (hx : p.tables.exec = Jvm.exec) (hb : c.code = cc) {x y : Int32} {off : Int} {tgt : Nat} (hdg : decode cc pc = .ok (.if_icmp .eq off, 3)) (ht : (pc : Int) + off = (tgt : Int)) (h : x = y) (kt : W p l e R s m args below meth c H locs cells slots Q (F0 m tgt ls rest)) : W p l e R s m args below meth c H locs cells slots Q (F0 m pc ls (.int y :: .int x :: rest)) := lv_icmp_eq (tgt := tgt) hx hb hdg ht (fun _ => kt) (fun q => absurd h q)
theorem xk_raw_icmp_eq_f (hx : p.tables.exec = Jvm.exec) (hb : c.code = cc) {x y : Int32} {off : Int} {tgt : Nat} (hdg : decode cc pc = .ok (.if_icmp .eq off, 3)) (ht : (pc : Int) + off = (tgt : Int)) (h : ¬ (x = y)) (kf : W p l e R s m args below meth c H locs cells slots Q (F0 m (pc + 3) ls rest)) : W p l e R s m args below meth c H locs cells slots Q (F0 m pc ls (.int y :: .int x :: rest)) := lv_icmp_eq (tgt := tgt) hx hb hdg ht (fun q => absurd q h) (fun _ => kf)
theorem xk_icmp_ne (hx : p.tables.exec = Jvm.exec) (hb : c.code = cc) {a b : Nat} {off : Int} {tgt : Nat} (ha : a < 2147483648) (hb2 : b < 2147483648) (hdg : decode cc pc = .ok (.if_icmp .ne off, 3)) (ht : (pc : Int) + off = (tgt : Int)) (kt : a ≠ b → W p l e R s m args below meth c H locs cells slots Q (F0 m tgt ls rest)) (kf : a = b → W p l e R s m args below meth c H locs cells slots Q (F0 m (pc + 3) ls rest)) : W p l e R s m args below meth c H locs cells slots Q (F0 m pc ls (.int (nI b) :: .int (nI a) :: rest)) :=
  lv_icmp_ne (tgt := tgt) hx hb hdg ht (fun q => kt (fun z => q ((nI_eq (by omega) (by omega)).mpr z))) (fun q => kf ((nI_eq (by omega) (by omega)).mp q))
theorem xk_icmp_ne_t (hx : p.tables.exec = Jvm.exec) (hb : c.code = cc) {a b : Nat} {off : Int} {tgt : Nat} (ha : a < 2147483648) (hb2 : b < 2147483648) (hdg : decode cc pc = .ok (.if_icmp .ne off, 3)) (ht : (pc : Int) + off = (tgt : Int)) (h : a ≠ b) (kt : W p l e R s m args below meth c H locs cells slots Q (F0 m tgt ls rest)) : W p l e R s m args below meth c H locs cells slots Q (F0 m pc ls (.int (nI b) :: .int (nI a) :: rest)) :=
  xk_icmp_ne (tgt := tgt) hx hb ha hb2 hdg ht (fun _ => kt) (fun q => absurd h (by omega))
theorem xk_icmp_ne_f (hx : p.tables.exec = Jvm.exec) (hb : c.code = cc) {a b : Nat} {off : Int} {tgt : Nat} (ha : a < 2147483648) (hb2 : b < 2147483648) (hdg : decode cc pc = .ok (.if_icmp .ne off, 3)) (ht : (pc : Int) + off = (tgt : Int)) (h : a = b) (kf : W p l e R s m args below meth c H locs cells slots Q (F0 m (pc + 3) ls rest)) : W p l e R s m args below meth c H locs cells slots Q (F0 m pc ls (.int (nI b) :: .int (nI a) :: rest)) :=
  xk_icmp_ne (tgt := tgt) hx hb ha hb2 hdg ht (fun q => absurd h (by omega)) (fun _ => kf)
theorem xk_raw_icmp_ne_t (hx : p.tables.exec = Jvm.exec) (hb : c.code = cc) {x y : Int32} {off : Int} {tgt : Nat} (hdg : decode cc pc = .ok (.if_icmp .ne off, 3)) (ht : (pc : Int) + off = (tgt : Int)) (h : ¬ x = y) (kt : W p l e R s m args below meth c H locs cells slots Q (F0 m tgt ls rest)) : W p l e R s m args below meth c H locs cells slots Q (F0 m pc ls (.int y :: .int x :: rest)) := lv_icmp_ne (tgt := tgt) hx hb hdg ht (fun _ => kt) (fun q => absurd q h)
theorem xk_raw_icmp_ne_f (hx : p.tables.exec = Jvm.exec) (hb : c.code = cc) {x y : Int32} {off : Int} {tgt : Nat} (hdg : decode cc pc = .ok (.if_icmp .ne off, 3)) (ht : (pc : Int) + off = (tgt : Int)) (h : ¬ (¬ x = y)) (kf : W p l e R s m args below meth c H locs cells slots Q (F0 m (pc + 3) ls rest)) : W p l e R s m args below meth c H locs cells slots Q (F0 m pc ls (.int y :: .int x :: rest)) := lv_icmp_ne (tgt := tgt) hx hb hdg ht (fun q => absurd q h) (fun _ => kf)
theorem xk_icmp_lt (hx : p.tables.exec = Jvm.exec) (hb : c.code = cc) {a b : Nat} {off : Int} {tgt : Nat} (ha : a < 2147483648) (hb2 : b < 2147483648) (hdg : decode cc pc = .ok (.if_icmp .lt off, 3)) (ht : (pc : Int) + off = (tgt : Int)) (kt : a < b → W p l e R s m args below meth c H locs cells slots Q (F0 m tgt ls rest)) (kf : b ≤ a → W p l e R s m args below meth c H locs cells slots Q (F0 m (pc + 3) ls rest)) : W p l e R s m args below meth c H locs cells slots Q (F0 m pc ls (.int (nI b) :: .int (nI a) :: rest)) :=
  lv_icmp_lt (tgt := tgt) hx hb hdg ht (fun q => kt ((nI_ltI (by omega) (by omega)).mp q)) (fun q => kf (Nat.not_lt.mp (fun z => q ((nI_ltI (by omega) (by omega)).mpr z))))
theorem xk_icmp_lt_t (hx : p.tables.exec = Jvm.exec) (hb : c.code = cc) {a b : Nat} {off : Int} {tgt : Nat} (ha : a < 2147483648) (hb2 : b < 2147483648) (hdg : decode cc pc = .ok (.if_icmp .lt off, 3)) (ht : (pc : Int) + off = (tgt : Int)) (h : a < b) (kt : W p l e R s m args below meth c H locs cells slots Q (F0 m tgt ls rest)) : W p l e R s m args below meth c H locs cells slots Q (F0 m pc ls (.int (nI b) :: .int (nI a) :: rest)) :=
  xk_icmp_lt (tgt := tgt) hx hb ha hb2 hdg ht (fun _ => kt) (fun q => absurd h (by omega))
theorem xk_icmp_lt_f (hx : p.tables.exec = Jvm.exec) (hb : c.code = cc) {a b : Nat} {off : Int} {tgt : Nat} (ha : a < 2147483648) (hb2 : b < 2147483648) (hdg : decode cc pc = .ok (.if_icmp .lt off, 3)) (ht : (pc : Int) + off = (tgt : Int)) (h : b ≤ a) (kf : W p l e R s m args below meth c H locs cells slots Q (F0 m (pc + 3) ls rest)) : W p l e R s m args below meth c H locs cells slots Q (F0 m pc ls (.int (nI b) :: .int (nI a) :: rest)) :=
  xk_icmp_lt (tgt := tgt) hx hb ha hb2 hdg ht (fun q => absurd h (by omega)) (fun _ => kf)
theorem xk_raw_icmp_lt_t (hx : p.tables.exec = Jvm.exec) (hb : c.code = cc) {x y : Int32} {off : Int} {tgt : Nat} (hdg : decode cc pc = .ok (.if_icmp .lt off, 3)) (ht : (pc : Int) + off = (tgt : Int)) (h : x < y) (kt : W p l e R s m args below meth c H locs cells slots Q (F0 m tgt ls rest)) : W p l e R s m args below meth c H locs cells slots Q (F0 m pc ls (.int y :: .int x :: rest)) := lv_icmp_lt (tgt := tgt) hx hb hdg ht (fun _ => kt) (fun q => absurd h q)
theorem xk_raw_icmp_lt_f (hx : p.tables.exec = Jvm.exec) (hb : c.code = cc) {x y : Int32} {off : Int} {tgt : Nat} (hdg : decode cc pc = .ok (.if_icmp .lt off, 3)) (ht : (pc : Int) + off = (tgt : Int)) (h : ¬ (x < y)) (kf : W p l e R s m args below meth c H locs cells slots Q (F0 m (pc + 3) ls rest)) : W p l e R s m args below meth c H locs cells slots Q (F0 m pc ls (.int y :: .int x :: rest)) := lv_icmp_lt (tgt := tgt) hx hb hdg ht (fun q => absurd q h) (fun _ => kf)
theorem xk_icmp_ge (hx : p.tables.exec = Jvm.exec) (hb : c.code = cc) {a b : Nat} {off : Int} {tgt : Nat} (ha : a < 2147483648) (hb2 : b < 2147483648) (hdg : decode cc pc = .ok (.if_icmp .ge off, 3)) (ht : (pc : Int) + off = (tgt : Int)) (kt : b ≤ a → W p l e R s m args below meth c H locs cells slots Q (F0 m tgt ls rest)) (kf : a < b → W p l e R s m args below meth c H locs cells slots Q (F0 m (pc + 3) ls rest)) : W p l e R s m args below meth c H locs cells slots Q (F0 m pc ls (.int (nI b) :: .int (nI a) :: rest)) :=
  lv_icmp_ge (tgt := tgt) hx hb hdg ht (fun q => kt ((nI_leI (by omega) (by omega)).mp q)) (fun q => kf (Nat.not_le.mp (fun z => q ((nI_leI (by omega) (by omega)).mpr z))))
theorem xk_icmp_ge_t (hx : p.tables.exec = Jvm.exec) (hb : c.code = cc) {a b : Nat} {off : Int} {tgt : Nat} (ha : a < 2147483648) (hb2 : b < 2147483648) (hdg : decode cc pc = .ok (.if_icmp .ge off, 3)) (ht : (pc : Int) + off = (tgt : Int)) (h : b ≤ a) (kt : W p l e R s m args below meth c H locs cells slots Q (F0 m tgt ls rest)) : W p l e R s m args below meth c H locs cells slots Q (F0 m pc ls (.int (nI b) :: .int (nI a) :: rest)) :=
  xk_icmp_ge (tgt := tgt) hx hb ha hb2 hdg ht (fun _ => kt) (fun q => absurd h (by omega))
theorem xk_icmp_ge_f (hx : p.tables.exec = Jvm.exec) (hb : c.code = cc) {a b : Nat} {off : Int} {tgt : Nat} (ha : a < 2147483648) (hb2 : b < 2147483648) (hdg : decode cc pc = .ok (.if_icmp .ge off, 3)) (ht : (pc : Int) + off = (tgt : Int)) (h : a < b) (kf : W p l e R s m args below meth c H locs cells slots Q (F0 m (pc + 3) ls rest)) : W p l e R s m args below meth c H locs cells slots Q (F0 m pc ls (.int (nI b) :: .int (nI a) :: rest)) :=
  xk_icmp_ge (tgt := tgt) hx hb ha hb2 hdg ht (fun q => absurd h (by omega)) (fun _ => kf)
theorem xk_raw_icmp_ge_t (hx : p.tables.exec = Jvm.exec) (hb : c.code = cc) {x y : Int32} {off : Int} {tgt : Nat} (hdg : decode cc pc = .ok (.if_icmp .ge off, 3)) (ht : (pc : Int) + off = (tgt : Int)) (h : y ≤ x) (kt : W p l e R s m args below meth c H locs cells slots Q (F0 m tgt ls rest)) : W p l e R s m args below meth c H locs cells slots Q (F0 m pc ls (.int y :: .int x :: rest)) := lv_icmp_ge (tgt := tgt) hx hb hdg ht (fun _ => kt) (fun q => absurd h q)
theorem xk_raw_icmp_ge_f (hx : p.tables.exec = Jvm.exec) (hb : c.code = cc) {x y : Int32} {off : Int} {tgt : Nat} (hdg : decode cc pc = .ok (.if_icmp .ge off, 3)) (ht : (pc : Int) + off = (tgt : Int)) (h : ¬ (y ≤ x)) (kf : W p l e R s m args below meth c H locs cells slots Q (F0 m (pc + 3) ls rest)) : W p l e R s m args below meth c H locs cells slots Q (F0 m pc ls (.int y :: .int x :: rest)) := lv_icmp_ge (tgt := tgt) hx hb hdg ht (fun q => absurd q h) (fun _ => kf)
theorem xk_icmp_gt (hx : p.tables.exec = Jvm.exec) (hb : c.code = cc) {a b : Nat} {off : Int} {tgt : Nat} (ha : a < 2147483648) (hb2 : b < 2147483648) (hdg : decode cc pc = .ok (.if_icmp .gt off, 3)) (ht : (pc : Int) + off = (tgt : Int)) (kt : b < a → W p l e R s m args below meth c H locs cells slots Q (F0 m tgt ls rest)) (kf : a ≤ b → W p l e R s m args below meth c H locs cells slots Q (F0 m (pc + 3) ls rest)) : W p l e R s m args below meth c H locs cells slots Q (F0 m pc ls (.int (nI b) :: .int (nI a) :: rest)) :=
  lv_icmp_gt (tgt := tgt) hx hb hdg ht (fun q => kt ((nI_ltI (by omega) (by omega)).mp q)) (fun q => kf (Nat.not_lt.mp (fun z => q ((nI_ltI (by omega) (by omega)).mpr z))))
theorem xk_icmp_gt_t (hx : p.tables.exec = Jvm.exec) (hb : c.code = cc) {a b : Nat} {off : Int} {tgt : Nat} (ha : a < 2147483648) (hb2 : b < 2147483648) (hdg : decode cc pc = .ok (.if_icmp .gt off, 3)) (ht : (pc : Int) + off = (tgt : Int)) (h : b < a) (kt : W p l e R s m args below meth c H locs cells slots Q (F0 m tgt ls rest)) : W p l e R s m args below meth c H locs cells slots Q (F0 m pc ls (.int (nI b) :: .int (nI a) :: rest)) :=
  xk_icmp_gt (tgt := tgt) hx hb ha hb2 hdg ht (fun _ => kt) (fun q => absurd h (by omega))
theorem xk_icmp_gt_f (hx : p.tables.exec = Jvm.exec) (hb : c.code = cc) {a b : Nat} {off : Int} {tgt : Nat} (ha : a < 2147483648) (hb2 : b < 2147483648) (hdg : decode cc pc = .ok (.if_icmp .gt off, 3)) (ht : (pc : Int) + off = (tgt : Int)) (h : a ≤ b) (kf : W p l e R s m args below meth c H locs cells slots Q (F0 m (pc + 3) ls rest)) : W p l e R s m args below meth c H locs cells slots Q (F0 m pc ls (.int (nI b) :: .int (nI a) :: rest)) :=
  xk_icmp_gt (tgt := tgt) hx hb ha hb2 hdg ht (fun q => absurd h (by omega)) (fun _ => kf)
theorem xk_raw_icmp_gt_t (hx : p.tables.exec = Jvm.exec) (hb : c.code = cc) {x y : Int32} {off : Int} {tgt : Nat} (hdg : decode cc pc = .ok (.if_icmp .gt off, 3)) (ht : (pc : Int) + off = (tgt : Int)) (h : y < x) (kt : W p l e R s m args below meth c H locs cells slots Q (F0 m tgt ls rest)) : W p l e R s m args below meth c H locs cells slots Q (F0 m pc ls (.int y :: .int x :: rest)) := lv_icmp_gt (tgt := tgt) hx hb hdg ht (fun _ => kt) (fun q => absurd h q)
theorem xk_raw_icmp_gt_f (hx : p.tables.exec = Jvm.exec) (hb : c.code = cc) {x y : Int32} {off : Int} {tgt : Nat} (hdg : decode cc pc = .ok (.if_icmp .gt off, 3)) (ht : (pc : Int) + off = (tgt : Int)) (h : ¬ (y < x)) (kf : W p l e R s m args below meth c H locs cells slots Q (F0 m (pc + 3) ls rest)) : W p l e R s m args below meth c H locs cells slots Q (F0 m pc ls (.int y :: .int x :: rest)) := lv_icmp_gt (tgt := tgt) hx hb hdg ht (fun q => absurd q h) (fun _ => kf)
theorem xk_icmp_le (hx : p.tables.exec = Jvm.exec) (hb : c.code = cc) {a b : Nat} {off : Int} {tgt : Nat} (ha : a < 2147483648) (hb2 : b < 2147483648) (hdg : decode cc pc = .ok (.if_icmp .le off, 3)) (ht : (pc : Int) + off = (tgt : Int)) (kt : a ≤ b → W p l e R s m args below meth c H locs cells slots Q (F0 m tgt ls rest)) (kf : b < a → W p l e R s m args below meth c H locs cells slots Q (F0 m (pc + 3) ls rest)) : W p l e R s m args below meth c H locs cells slots Q (F0 m pc ls (.int (nI b) :: .int (nI a) :: rest)) :=
  lv_icmp_le (tgt := tgt) hx hb hdg ht (fun q => kt ((nI_leI (by omega) (by omega)).mp q)) (fun q => kf (Nat.not_le.mp (fun z => q ((nI_leI (by omega) (by omega)).mpr z))))
theorem xk_icmp_le_t (hx : p.tables.exec = Jvm.exec) (hb : c.code = cc) {a b : Nat} {off : Int} {tgt : Nat} (ha : a < 2147483648) (hb2 : b < 2147483648) (hdg : decode cc pc = .ok (.if_icmp .le off, 3)) (ht : (pc : Int) + off = (tgt : Int)) (h : a ≤ b) (kt : W p l e R s m args below meth c H locs cells slots Q (F0 m tgt ls rest)) : W p l e R s m args below meth c H locs cells slots Q (F0 m pc ls (.int (nI b) :: .int (nI a) :: rest)) :=
  xk_icmp_le (tgt := tgt) hx hb ha hb2 hdg ht (fun _ => kt) (fun q => absurd h (by omega))
theorem xk_icmp_le_f (hx : p.tables.exec = Jvm.exec) (hb : c.code = cc) {a b : Nat} {off : Int} {tgt : Nat} (ha : a < 2147483648) (hb2 : b < 2147483648) (hdg : decode cc pc = .ok (.if_icmp .le off, 3)) (ht : (pc : Int) + off = (tgt : Int)) (h : b < a) (kf : W p l e R s m args below meth c H locs cells slots Q (F0 m (pc + 3) ls rest)) : W p l e R s m args below meth c H locs cells slots Q (F0 m pc ls (.int (nI b) :: .int (nI a) :: rest)) :=
  xk_icmp_le (tgt := tgt) hx hb ha hb2 hdg ht (fun q => absurd h (by omega)) (fun _ => kf)
theorem xk_raw_icmp_le_t (hx : p.tables.exec = Jvm.exec) (hb : c.code = cc) {x y : Int32} {off : Int} {tgt : Nat} (hdg : decode cc pc = .ok (.if_icmp .le off, 3)) (ht : (pc : Int) + off = (tgt : Int)) (h : x ≤ y) (kt : W p l e R s m args below meth c H locs cells slots Q (F0 m tgt ls rest)) : W p l e R s m args below meth c H locs cells slots Q (F0 m pc ls (.int y :: .int x :: rest)) := lv_icmp_le (tgt := tgt) hx hb hdg ht (fun _ => kt) (fun q => absurd h q)
theorem xk_raw_icmp_le_f (hx : p.tables.exec = Jvm.exec) (hb : c.code = cc) {x y : Int32} {off : Int} {tgt : Nat} (hdg : decode cc pc = .ok (.if_icmp .le off, 3)) (ht : (pc : Int) + off = (tgt : Int)) (h : ¬ (x ≤ y)) (kf : W p l e R s m args below meth c H locs cells slots Q (F0 m (pc + 3) ls rest)) : W p l e R s m args below meth c H locs cells slots Q (F0 m pc ls (.int y :: .int x :: rest)) := lv_icmp_le (tgt := tgt) hx hb hdg ht (fun q => absurd q h) (fun _ => kf)
theorem xk_if_eq (hx : p.tables.exec = Jvm.exec) (hb : c.code = cc) {a : Nat} {off : Int} {tgt : Nat} (ha : a < 2147483648) (hdg : decode cc pc = .ok (.ifCond .eq off, 3)) (ht : (pc : Int) + off = (tgt : Int)) (kt : a = 0 → W p l e R s m args below meth c H locs cells slots Q (F0 m tgt ls rest)) (kf : 0 < a → W p l e R s m args below meth c H locs cells slots Q (F0 m (pc + 3) ls rest)) : W p l e R s m args below meth c H locs cells slots Q (F0 m pc ls (.int (nI a) :: rest)) :=
  lv_if_eq (tgt := tgt) hx hb hdg ht (fun q => kt ((nI_eq (a := a) (b := 0) (by omega) (by omega)).mp q)) (fun q => kf (Nat.pos_of_ne_zero (fun z => q ((nI_eq (a := a) (b := 0) (by omega) (by omega)).mpr z))))
theorem xk_if_eq_t (hx : p.tables.exec = Jvm.exec) (hb : c.code = cc) {a : Nat} {off : Int} {tgt : Nat} (ha : a < 2147483648) (hdg : decode cc pc = .ok (.ifCond .eq off, 3)) (ht : (pc : Int) + off = (tgt : Int)) (h : a = 0) (kt : W p l e R s m args below meth c H locs cells slots Q (F0 m tgt ls rest)) : W p l e R s m args below meth c H locs cells slots Q (F0 m pc ls (.int (nI a) :: rest)) :=
  xk_if_eq (tgt := tgt) hx hb ha hdg ht (fun _ => kt) (fun q => by first | omega | exact q.elim | exact h.elim)
theorem xk_if_eq_f (hx : p.tables.exec = Jvm.exec) (hb : c.code = cc) {a : Nat} {off : Int} {tgt : Nat} (ha : a < 2147483648) (hdg : decode cc pc = .ok (.ifCond .eq off, 3)) (ht : (pc : Int) + off = (tgt : Int)) (h : 0 < a) (kf : W p l e R s m args below meth c H locs cells slots Q (F0 m (pc + 3) ls rest)) : W p l e R s m args below meth c H locs cells slots Q (F0 m pc ls (.int (nI a) :: rest)) :=
  xk_if_eq (tgt := tgt) hx hb ha hdg ht (fun q => by first | omega | exact q.elim | exact h.elim) (fun _ => kf)
theorem xk_raw_if_eq_t (hx : p.tables.exec = Jvm.exec) (hb : c.code = cc) {x : Int32} {off : Int} {tgt : Nat} (hdg : decode cc pc = .ok (.ifCond .eq off, 3)) (ht : (pc : Int) + off = (tgt : Int)) (h : x = 0) (kt : W p l e R s m args below meth c H locs cells slots Q (F0 m tgt ls rest)) : W p l e R s m args below meth c H locs cells slots Q (F0 m pc ls (.int x :: rest)) := lv_if_eq (tgt := tgt) hx hb hdg ht (fun _ => kt) (fun q => absurd h q)
theorem xk_raw_if_eq_f (hx : p.tables.exec = Jvm.exec) (hb : c.code = cc) {x : Int32} {off : Int} {tgt : Nat} (hdg : decode cc pc = .ok (.ifCond .eq off, 3)) (ht : (pc : Int) + off = (tgt : Int)) (h : ¬ (x = 0)) (kf : W p l e R s m args below meth c H locs cells slots Q (F0 m (pc + 3) ls rest)) : W p l e R s m args below meth c H locs cells slots Q (F0 m pc ls (.int x :: rest)) := lv_if_eq (tgt := tgt) hx hb hdg ht (fun q => absurd q h) (fun _ => kf)
theorem xk_if_ne (hx : p.tables.exec = Jvm.exec) (hb : c.code = cc) {a : Nat} {off : Int} {tgt : Nat} (ha : a < 2147483648) (hdg : decode cc pc = .ok (.ifCond .ne off, 3)) (ht : (pc : Int) + off = (tgt : Int)) (kt : 0 < a → W p l e R s m args below meth c H locs cells slots Q (F0 m tgt ls rest)) (kf : a = 0 → W p l e R s m args below meth c H locs cells slots Q (F0 m (pc + 3) ls rest)) : W p l e R s m args below meth c H locs cells slots Q (F0 m pc ls (.int (nI a) :: rest)) :=
  lv_if_ne (tgt := tgt) hx hb hdg ht (fun q => kt (Nat.pos_of_ne_zero (fun z => q ((nI_eq (a := a) (b := 0) (by omega) (by omega)).mpr z)))) (fun q => kf ((nI_eq (a := a) (b := 0) (by omega) (by omega)).mp q))
theorem xk_if_ne_t (hx : p.tables.exec = Jvm.exec) (hb : c.code = cc) {a : Nat} {off : Int} {tgt : Nat} (ha : a < 2147483648) (hdg : decode cc pc = .ok (.ifCond .ne off, 3)) (ht : (pc : Int) + off = (tgt : Int)) (h : 0 < a) (kt : W p l e R s m args below meth c H locs cells slots Q (F0 m tgt ls rest)) : W p l e R s m args below meth c H locs cells slots Q (F0 m pc ls (.int (nI a) :: rest)) :=
  xk_if_ne (tgt := tgt) hx hb ha hdg ht (fun _ => kt) (fun q => by first | omega | exact q.elim | exact h.elim)
theorem xk_if_ne_f (hx : p.tables.exec = Jvm.exec) (hb : c.code = cc) {a : Nat} {off : Int} {tgt : Nat} (ha : a < 2147483648) (hdg : decode cc pc = .ok (.ifCond .ne off, 3)) (ht : (pc : Int) + off = (tgt : Int)) (h : a = 0) (kf : W p l e R s m args below meth c H locs cells slots Q (F0 m (pc + 3) ls rest)) : W p l e R s m args below meth c H locs cells slots Q (F0 m pc ls (.int (nI a) :: rest)) :=
  xk_if_ne (tgt := tgt) hx hb ha hdg ht (fun q => by first | omega | exact q.elim | exact h.elim) (fun _ => kf)
theorem xk_raw_if_ne_t (hx : p.tables.exec = Jvm.exec) (hb : c.code = cc) {x : Int32} {off : Int} {tgt : Nat} (hdg : decode cc pc = .ok (.ifCond .ne off, 3)) (ht : (pc : Int) + off = (tgt : Int)) (h : ¬ x = 0) (kt : W p l e R s m args below meth c H locs cells slots Q (F0 m tgt ls rest)) : W p l e R s m args below meth c H locs cells slots Q (F0 m pc ls (.int x :: rest)) := lv_if_ne (tgt := tgt) hx hb hdg ht (fun _ => kt) (fun q => absurd q h)
theorem xk_raw_if_ne_f (hx : p.tables.exec = Jvm.exec) (hb : c.code = cc) {x : Int32} {off : Int} {tgt : Nat} (hdg : decode cc pc = .ok (.ifCond .ne off, 3)) (ht : (pc : Int) + off = (tgt : Int)) (h : ¬ (¬ x = 0)) (kf : W p l e R s m args below meth c H locs cells slots Q (F0 m (pc + 3) ls rest)) : W p l e R s m args below meth c H locs cells slots Q (F0 m pc ls (.int x :: rest)) := lv_if_ne (tgt := tgt) hx hb hdg ht (fun q => absurd q h) (fun _ => kf)
theorem xk_if_gt (hx : p.tables.exec = Jvm.exec) (hb : c.code = cc) {a : Nat} {off : Int} {tgt : Nat} (ha : a < 2147483648) (hdg : decode cc pc = .ok (.ifCond .gt off, 3)) (ht : (pc : Int) + off = (tgt : Int)) (kt : 0 < a → W p l e R s m args below meth c H locs cells slots Q (F0 m tgt ls rest)) (kf : a = 0 → W p l e R s m args below meth c H locs cells slots Q (F0 m (pc + 3) ls rest)) : W p l e R s m args below meth c H locs cells slots Q (F0 m pc ls (.int (nI a) :: rest)) :=
  lv_if_gt (tgt := tgt) hx hb hdg ht (fun q => kt ((nI_ltI (a := 0) (b := a) (by omega) (by omega)).mp q)) (fun q => kf (Nat.eq_zero_of_not_pos (fun z => q ((nI_ltI (a := 0) (b := a) (by omega) (by omega)).mpr z))))
theorem xk_if_gt_t (hx : p.tables.exec = Jvm.exec) (hb : c.code = cc) {a : Nat} {off : Int} {tgt : Nat} (ha : a < 2147483648) (hdg : decode cc pc = .ok (.ifCond .gt off, 3)) (ht : (pc : Int) + off = (tgt : Int)) (h : 0 < a) (kt : W p l e R s m args below meth c H locs cells slots Q (F0 m tgt ls rest)) : W p l e R s m args below meth c H locs cells slots Q (F0 m pc ls (.int (nI a) :: rest)) :=
  xk_if_gt (tgt := tgt) hx hb ha hdg ht (fun _ => kt) (fun q => by first | omega | exact q.elim | exact h.elim)
theorem xk_if_gt_f (hx : p.tables.exec = Jvm.exec) (hb : c.code = cc) {a : Nat} {off : Int} {tgt : Nat} (ha : a < 2147483648) (hdg : decode cc pc = .ok (.ifCond .gt off, 3)) (ht : (pc : Int) + off = (tgt : Int)) (h : a = 0) (kf : W p l e R s m args below meth c H locs cells slots Q (F0 m (pc + 3) ls rest)) : W p l e R s m args below meth c H locs cells slots Q (F0 m pc ls (.int (nI a) :: rest)) :=
  xk_if_gt (tgt := tgt) hx hb ha hdg ht (fun q => by first | omega | exact q.elim | exact h.elim) (fun _ => kf)
theorem xk_raw_if_gt_t (hx : p.tables.exec = Jvm.exec) (hb : c.code = cc) {x : Int32} {off : Int} {tgt : Nat} (hdg : decode cc pc = .ok (.ifCond .gt off, 3)) (ht : (pc : Int) + off = (tgt : Int)) (h : 0 < x) (kt : W p l e R s m args below meth c H locs cells slots Q (F0 m tgt ls rest)) : W p l e R s m args below meth c H locs cells slots Q (F0 m pc ls (.int x :: rest)) := lv_if_gt (tgt := tgt) hx hb hdg ht (fun _ => kt) (fun q => absurd h q)
theorem xk_raw_if_gt_f (hx : p.tables.exec = Jvm.exec) (hb : c.code = cc) {x : Int32} {off : Int} {tgt : Nat} (hdg : decode cc pc = .ok (.ifCond .gt off, 3)) (ht : (pc : Int) + off = (tgt : Int)) (h : ¬ (0 < x)) (kf : W p l e R s m args below meth c H locs cells slots Q (F0 m (pc + 3) ls rest)) : W p l e R s m args below meth c H locs cells slots Q (F0 m pc ls (.int x :: rest)) := lv_if_gt (tgt := tgt) hx hb hdg ht (fun q => absurd q h) (fun _ => kf)
theorem xk_if_le (hx : p.tables.exec = Jvm.exec) (hb : c.code = cc) {a : Nat} {off : Int} {tgt : Nat} (ha : a < 2147483648) (hdg : decode cc pc = .ok (.ifCond .le off, 3)) (ht : (pc : Int) + off = (tgt : Int)) (kt : a = 0 → W p l e R s m args below meth c H locs cells slots Q (F0 m tgt ls rest)) (kf : 0 < a → W p l e R s m args below meth c H locs cells slots Q (F0 m (pc + 3) ls rest)) : W p l e R s m args below meth c H locs cells slots Q (F0 m pc ls (.int (nI a) :: rest)) :=
  lv_if_le (tgt := tgt) hx hb hdg ht (fun q => kt (Nat.le_zero.mp ((nI_leI (a := a) (b := 0) (by omega) (by omega)).mp q))) (fun q => kf (Nat.pos_of_ne_zero (fun z => q ((nI_leI (a := a) (b := 0) (by omega) (by omega)).mpr (Nat.le_zero.mpr z)))))
theorem xk_if_le_t (hx : p.tables.exec = Jvm.exec) (hb : c.code = cc) {a : Nat} {off : Int} {tgt : Nat} (ha : a < 2147483648) (hdg : decode cc pc = .ok (.ifCond .le off, 3)) (ht : (pc : Int) + off = (tgt : Int)) (h : a = 0) (kt : W p l e R s m args below meth c H locs cells slots Q (F0 m tgt ls rest)) : W p l e R s m args below meth c H locs cells slots Q (F0 m pc ls (.int (nI a) :: rest)) :=
  xk_if_le (tgt := tgt) hx hb ha hdg ht (fun _ => kt) (fun q => by first | omega | exact q.elim | exact h.elim)
theorem xk_if_le_f (hx : p.tables.exec = Jvm.exec) (hb : c.code = cc) {a : Nat} {off : Int} {tgt : Nat} (ha : a < 2147483648) (hdg : decode cc pc = .ok (.ifCond .le off, 3)) (ht : (pc : Int) + off = (tgt : Int)) (h : 0 < a) (kf : W p l e R s m args below meth c H locs cells slots Q (F0 m (pc + 3) ls rest)) : W p l e R s m args below meth c H locs cells slots Q (F0 m pc ls (.int (nI a) :: rest)) :=
  xk_if_le (tgt := tgt) hx hb ha hdg ht (fun q => by first | omega | exact q.elim | exact h.elim) (fun _ => kf)
theorem xk_raw_if_le_t (hx : p.tables.exec = Jvm.exec) (hb : c.code = cc) {x : Int32} {off : Int} {tgt : Nat} (hdg : decode cc pc = .ok (.ifCond .le off, 3)) (ht : (pc : Int) + off = (tgt : Int)) (h : x ≤ 0) (kt : W p l e R s m args below meth c H locs cells slots Q (F0 m tgt ls rest)) : W p l e R s m args below meth c H locs cells slots Q (F0 m pc ls (.int x :: rest)) := lv_if_le (tgt := tgt) hx hb hdg ht (fun _ => kt) (fun q => absurd h q)
theorem xk_raw_if_le_f (hx : p.tables.exec = Jvm.exec) (hb : c.code = cc) {x : Int32} {off : Int} {tgt : Nat} (hdg : decode cc pc = .ok (.ifCond .le off, 3)) (ht : (pc : Int) + off = (tgt : Int)) (h : ¬ (x ≤ 0)) (kf : W p l e R s m args below meth c H locs cells slots Q (F0 m (pc + 3) ls rest)) : W p l e R s m args below meth c H locs cells slots Q (F0 m pc ls (.int x :: rest)) := lv_if_le (tgt := tgt) hx hb hdg ht (fun q => absurd q h) (fun _ => kf)
theorem xk_if_lt (hx : p.tables.exec = Jvm.exec) (hb : c.code = cc) {a : Nat} {off : Int} {tgt : Nat} (ha : a < 2147483648) (hdg : decode cc pc = .ok (.ifCond .lt off, 3)) (ht : (pc : Int) + off = (tgt : Int)) (kt : False → W p l e R s m args below meth c H locs cells slots Q (F0 m tgt ls rest)) (kf : True → W p l e R s m args below meth c H locs cells slots Q (F0 m (pc + 3) ls rest)) : W p l e R s m args below meth c H locs cells slots Q (F0 m pc ls (.int (nI a) :: rest)) :=
  lv_if_lt (tgt := tgt) hx hb hdg ht (fun q => kt (absurd ((nI_ltI (a := a) (b := 0) (by omega) (by omega)).mp q) (Nat.not_lt_zero _))) (fun q => kf (trivial))
theorem xk_if_lt_t (hx : p.tables.exec = Jvm.exec) (hb : c.code = cc) {a : Nat} {off : Int} {tgt : Nat} (ha : a < 2147483648) (hdg : decode cc pc = .ok (.ifCond .lt off, 3)) (ht : (pc : Int) + off = (tgt : Int)) (h : False) (kt : W p l e R s m args below meth c H locs cells slots Q (F0 m tgt ls rest)) : W p l e R s m args below meth c H locs cells slots Q (F0 m pc ls (.int (nI a) :: rest)) :=
  xk_if_lt (tgt := tgt) hx hb ha hdg ht (fun _ => kt) (fun q => by first | omega | exact q.elim | exact h.elim)
theorem xk_if_lt_f (hx : p.tables.exec = Jvm.exec) (hb : c.code = cc) {a : Nat} {off : Int} {tgt : Nat} (ha : a < 2147483648) (hdg : decode cc pc = .ok (.ifCond .lt off, 3)) (ht : (pc : Int) + off = (tgt : Int)) (h : True) (kf : W p l e R s m args below meth c H locs cells slots Q (F0 m (pc + 3) ls rest)) : W p l e R s m args below meth c H locs cells slots Q (F0 m pc ls (.int (nI a) :: rest)) :=
  xk_if_lt (tgt := tgt) hx hb ha hdg ht (fun q => by first | omega | exact q.elim | exact h.elim) (fun _ => kf)
theorem xk_raw_if_lt_t (hx : p.tables.exec = Jvm.exec) (hb : c.code = cc) {x : Int32} {off : Int} {tgt : Nat} (hdg : decode cc pc = .ok (.ifCond .lt off, 3)) (ht : (pc : Int) + off = (tgt : Int)) (h : x < 0) (kt : W p l e R s m args below meth c H locs cells slots Q (F0 m tgt ls rest)) : W p l e R s m args below meth c H locs cells slots Q (F0 m pc ls (.int x :: rest)) := lv_if_lt (tgt := tgt) hx hb hdg ht (fun _ => kt) (fun q => absurd h q)
theorem xk_raw_if_lt_f (hx : p.tables.exec = Jvm.exec) (hb : c.code = cc) {x : Int32} {off : Int} {tgt : Nat} (hdg : decode cc pc = .ok (.ifCond .lt off, 3)) (ht : (pc : Int) + off = (tgt : Int)) (h : ¬ (x < 0)) (kf : W p l e R s m args below meth c H locs cells slots Q (F0 m (pc + 3) ls rest)) : W p l e R s m args below meth c H locs cells slots Q (F0 m pc ls (.int x :: rest)) := lv_if_lt (tgt := tgt) hx hb hdg ht (fun q => absurd q h) (fun _ => kf)
theorem xk_if_ge (hx : p.tables.exec = Jvm.exec) (hb : c.code = cc) {a : Nat} {off : Int} {tgt : Nat} (ha : a < 2147483648) (hdg : decode cc pc = .ok (.ifCond .ge off, 3)) (ht : (pc : Int) + off = (tgt : Int)) (kt : True → W p l e R s m args below meth c H locs cells slots Q (F0 m tgt ls rest)) (kf : False → W p l e R s m args below meth c H locs cells slots Q (F0 m (pc + 3) ls rest)) : W p l e R s m args below meth c H locs cells slots Q (F0 m pc ls (.int (nI a) :: rest)) :=
  lv_if_ge (tgt := tgt) hx hb hdg ht (fun q => kt (trivial)) (fun q => kf (q ((nI_leI (a := 0) (b := a) (by omega) (by omega)).mpr (Nat.zero_le _))))
theorem xk_if_ge_t (hx : p.tables.exec = Jvm.exec) (hb : c.code = cc) {a : Nat} {off : Int} {tgt : Nat} (ha : a < 2147483648) (hdg : decode cc pc = .ok (.ifCond .ge off, 3)) (ht : (pc : Int) + off = (tgt : Int)) (h : True) (kt : W p l e R s m args below meth c H locs cells slots Q (F0 m tgt ls rest)) : W p l e R s m args below meth c H locs cells slots Q (F0 m pc ls (.int (nI a) :: rest)) :=
  xk_if_ge (tgt := tgt) hx hb ha hdg ht (fun _ => kt) (fun q => by first | omega | exact q.elim | exact h.elim)
theorem xk_if_ge_f (hx : p.tables.exec = Jvm.exec) (hb : c.code = cc) {a : Nat} {off : Int} {tgt : Nat} (ha : a < 2147483648) (hdg : decode cc pc = .ok (.ifCond .ge off, 3)) (ht : (pc : Int) + off = (tgt : Int)) (h : False) (kf : W p l e R s m args below meth c H locs cells slots Q (F0 m (pc + 3) ls rest)) : W p l e R s m args below meth c H locs cells slots Q (F0 m pc ls (.int (nI a) :: rest)) :=
  xk_if_ge (tgt := tgt) hx hb ha hdg ht (fun q => by first | omega | exact q.elim | exact h.elim) (fun _ => kf)
theorem xk_raw_if_ge_t (hx : p.tables.exec = Jvm.exec) (hb : c.code = cc) {x : Int32} {off : Int} {tgt : Nat} (hdg : decode cc pc = .ok (.ifCond .ge off, 3)) (ht : (pc : Int) + off = (tgt : Int)) (h : 0 ≤ x) (kt : W p l e R s m args below meth c H locs cells slots Q (F0 m tgt ls rest)) : W p l e R s m args below meth c H locs cells slots Q (F0 m pc ls (.int x :: rest)) := lv_if_ge (tgt := tgt) hx hb hdg ht (fun _ => kt) (fun q => absurd h q)
theorem xk_raw_if_ge_f (hx : p.tables.exec = Jvm.exec) (hb : c.code = cc) {x : Int32} {off : Int} {tgt : Nat} (hdg : decode cc pc = .ok (.ifCond .ge off, 3)) (ht : (pc : Int) + off = (tgt : Int)) (h : ¬ (0 ≤ x)) (kf : W p l e R s m args below meth c H locs cells slots Q (F0 m (pc + 3) ls rest)) : W p l e R s m args below meth c H locs cells slots Q (F0 m pc ls (.int x :: rest)) := lv_if_ge (tgt := tgt) hx hb hdg ht (fun q => absurd q h) (fun _ => kf)
theorem xk_if_eq_z (hx : p.tables.exec = Jvm.exec) (hb : c.code = cc) {b : Bool} {off : Int} {tgt : Nat} (hdg : decode cc pc = .ok (.ifCond .eq off, 3)) (ht : (pc : Int) + off = (tgt : Int)) (kt : b = false → W p l e R s m args below meth c H locs cells slots Q (F0 m tgt ls rest)) (kf : b = true → W p l e R s m args below meth c H locs cells slots Q (F0 m (pc + 3) ls rest)) : W p l e R s m args below meth c H locs cells slots Q (F0 m pc ls (.int (xk_z b) :: rest)) := by
  cases b
  · exact lv_if_eq (tgt := tgt) hx hb hdg ht (fun _ => kt rfl) (fun q => absurd rfl q)
  · exact lv_if_eq (tgt := tgt) hx hb hdg ht (fun q => absurd q (by decide)) (fun _ => kf rfl)
theorem xk_if_eq_z_t (hx : p.tables.exec = Jvm.exec) (hb : c.code = cc) {b : Bool} {off : Int} {tgt : Nat} (hdg : decode cc pc = .ok (.ifCond .eq off, 3)) (ht : (pc : Int) + off = (tgt : Int)) (h : b = false) (kt : W p l e R s m args below meth c H locs cells slots Q (F0 m tgt ls rest)) : W p l e R s m args below meth c H locs cells slots Q (F0 m pc ls (.int (xk_z b) :: rest)) := xk_if_eq_z (tgt := tgt) hx hb hdg ht (fun _ => kt) (fun q => by rw [h] at q; cases q)
theorem xk_if_eq_z_f (hx : p.tables.exec = Jvm.exec) (hb : c.code = cc) {b : Bool} {off : Int} {tgt : Nat} (hdg : decode cc pc = .ok (.ifCond .eq off, 3)) (ht : (pc : Int) + off = (tgt : Int)) (h : b = true) (kf : W p l e R s m args below meth c H locs cells slots Q (F0 m (pc + 3) ls rest)) : W p l e R s m args below meth c H locs cells slots Q (F0 m pc ls (.int (xk_z b) :: rest)) := xk_if_eq_z (tgt := tgt) hx hb hdg ht (fun q => by rw [h] at q; cases q) (fun _ => kf)
theorem xk_if_ne_z (hx : p.tables.exec = Jvm.exec) (hb : c.code = cc) {b : Bool} {off : Int} {tgt : Nat} (hdg : decode cc pc = .ok (.ifCond .ne off, 3)) (ht : (pc : Int) + off = (tgt : Int)) (kt : b = true → W p l e R s m args below meth c H locs cells slots Q (F0 m tgt ls rest)) (kf : b = false → W p l e R s m args below meth c H locs cells slots Q (F0 m (pc + 3) ls rest)) : W p l e R s m args below meth c H locs cells slots Q (F0 m pc ls (.int (xk_z b) :: rest)) := by
  cases b
  · exact lv_if_ne (tgt := tgt) hx hb hdg ht (fun q => absurd rfl q) (fun _ => kf rfl)
  · exact lv_if_ne (tgt := tgt) hx hb hdg ht (fun _ => kt rfl) (fun q => absurd q (by decide))
theorem xk_if_ne_z_t (hx : p.tables.exec = Jvm.exec) (hb : c.code = cc) {b : Bool} {off : Int} {tgt : Nat} (hdg : decode cc pc = .ok (.ifCond .ne off, 3)) (ht : (pc : Int) + off = (tgt : Int)) (h : b = true) (kt : W p l e R s m args below meth c H locs cells slots Q (F0 m tgt ls rest)) : W p l e R s m args below meth c H locs cells slots Q (F0 m pc ls (.int (xk_z b) :: rest)) := xk_if_ne_z (tgt := tgt) hx hb hdg ht (fun _ => kt) (fun q => by rw [h] at q; cases q)
theorem xk_if_ne_z_f (hx : p.tables.exec = Jvm.exec) (hb : c.code = cc) {b : Bool} {off : Int} {tgt : Nat} (hdg : decode cc pc = .ok (.ifCond .ne off, 3)) (ht : (pc : Int) + off = (tgt : Int)) (h : b = false) (kf : W p l e R s m args below meth c H locs cells slots Q (F0 m (pc + 3) ls rest)) : W p l e R s m args below meth c H locs cells slots Q (F0 m pc ls (.int (xk_z b) :: rest)) := xk_if_ne_z (tgt := tgt) hx hb hdg ht (fun q => by rw [h] at q; cases q) (fun _ => kf)
theorem xk_aload_n (hexec : p.tables.exec = Jvm.exec) (hb : c.code = cc) {k : Fin 4} {i : Nat} {x : Value} (hdg : decode cc pc = .ok (.aload_n k, 1)) (hi : (k : Nat) = i) (hl : ls[i]? = some (.val x)) (hv : x = .null ∨ ∃ a, x = .ref a)
    (k : W p l e R s m args below meth c H locs cells slots Q (F0 m (pc + 1) ls (x :: rest))) : W p l e R s m args below meth c H locs cells slots Q (F0 m pc ls (rest)) := by
  rcases hv with rfl | ⟨a, rfl⟩
  · subst hi
    intro T hT X
    obtain ⟨t, a, b⟩ := k T hT X
    refine ⟨t, ?_, b⟩
    jvm_step X.here [X.here.top, hexec, hb, hdg, hl, Value.isRef]
    exact a
  · exact lv_aload_n hexec hb hdg hi hl k
theorem xk_aload (hexec : p.tables.exec = Jvm.exec) (hb : c.code = cc) {i : Nat} {x : Value} (hdg : decode cc pc = .ok (.aload i, 2)) (hl : ls[i]? = some (.val x)) (hv : x = .null ∨ ∃ a, x = .ref a)
    (k : W p l e R s m args below meth c H locs cells slots Q (F0 m (pc + 2) ls (x :: rest))) : W p l e R s m args below meth c H locs cells slots Q (F0 m pc ls (rest)) := by
  rcases hv with rfl | ⟨a, rfl⟩
  · exact lv_aloadN hexec hb hdg hl k
  · exact lv_aload hexec hb hdg hl k
theorem xk_astore (hexec : p.tables.exec = Jvm.exec) (hb : c.code = cc) {i nL : Nat} {x : Value} {lv lv' : List (Nat × Value)} (hdg : decode cc pc = .ok (.astore i, 2)) (h : lv_has ls nL lv) (hn : i < nL) (hv : x = .null ∨ ∃ a, x = .ref a) (hl : (i, x) :: lv.filter (fun q => !(q.1 == i) && !(q.1 + 1 == i && q.2.category == 2)) = lv')
    (kk : ∀ ls' : Array Slot, lv_has ls' nL lv' → W p l e R s m args below meth c H locs cells slots Q (F0 m (pc + 2) ls' rest)) : W p l e R s m args below meth c H locs cells slots Q (F0 m pc ls (x :: rest)) := by
  rcases hv with rfl | ⟨a, rfl⟩
  · exact lv_astoreN hexec hb hdg h hn hl kk
  · exact lv_astore hexec hb hdg h hn hl kk
theorem xk_astore_n (hexec : p.tables.exec = Jvm.exec) (hb : c.code = cc) {k : Fin 4} {i nL : Nat} {x : Value} {lv lv' : List (Nat × Value)} (hdg : decode cc pc = .ok (.astore_n k, 1)) (hi : (k : Nat) = i) (h : lv_has ls nL lv) (hn : i < nL) (hv : x = .null ∨ ∃ a, x = .ref a) (hl : (i, x) :: lv.filter (fun q => !(q.1 == i) && !(q.1 + 1 == i && q.2.category == 2)) = lv')
    (kk : ∀ ls' : Array Slot, lv_has ls' nL lv' → W p l e R s m args below meth c H locs cells slots Q (F0 m (pc + 1) ls' rest)) : W p l e R s m args below meth c H locs cells slots Q (F0 m pc ls (x :: rest)) := by
  rcases hv with rfl | ⟨a, rfl⟩
  · subst hi
    obtain ⟨ls', e', h'⟩ := lv_store1 (v := .null) h hn rfl
    intro T hT X
    obtain ⟨t, a, b⟩ := kk ls' (hl ▸ h') T hT X
    refine ⟨t, ?_, b⟩
    jvm_step X.here [X.here.top, ↓top_set X.here.top, hexec, hb, hdg, e', Value.isRef]
    exact a
  · exact lv_astore_n hexec hb hdg hi h hn hl kk
end XR
