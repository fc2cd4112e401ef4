/-! what stands behind an array's end does not matter; texts -/
set_option maxRecDepth 100000
theorem xk_ghost {g : xk_G} {s : State} {H : Heap} {X : xk_H} {locs : List Loc} {a t n : Nat} {o : Nat × Nat} {f f2 : Nat → Nat} (hI : xk_I g s H X locs) (ha : X a = some (o, xk_iA g t n f)) (h : ∀ j, j < n → f j = f2 j) : ∃ X1 : xk_H, X1 a = some (o, xk_iA g t n f2) ∧ (∀ b, b ≠ a → X1 b = X b) ∧ xk_I g s H X1 locs := by
  refine ⟨xk_U X a (o, xk_iA g t n f2), xk_Us, fun b hb => xk_Un hb, hI.1, fun b ob e hb => ?_⟩
  by_cases hab : b = a
  · subst hab
    rw [xk_Us] at hb
    cases hb
    obtain ⟨h1, h2⟩ := hI.2 b o _ ha
    refine ⟨h1, ?_⟩
    show H[b]? = some (vp_cell (xk_T g t) (n, .inl fun j => nI (f2 j)))
    have h3 : H[b]? = some (vp_cell (xk_T g t) (n, .inl fun j => nI (f j))) := h2
    rw [h3, vp_cell_i, vp_cell_i]
    unfold arrV
    congr 2
    apply congrArg
    funext j
    exact congrArg (fun z => Value.int (nI z)) (h j.val j.isLt)
  · rw [xk_Un hab] at hb
    exact hI.2 b ob e hb
theorem xk_div1 {a : Nat} (h : a < 2147483648) : nI a / nI 1 = nI a := by rw [pk_div h (by decide) (by decide), Nat.div_one]
def tl_puts (L : Nat → Nat) (n : Nat) : List Nat → Nat → Nat
  | [] => L
  | c :: cs => tl_puts (va_up L n c) (n + 1) cs
theorem tl_puts_s (L : Nat → Nat) (n c : Nat) (cs : List Nat) : tl_puts L n (cs ++ [c]) = va_up (tl_puts L n cs) (n + cs.length) c := by
  induction cs generalizing L n with
  | nil => rfl
  | cons d cs ih =>
    show tl_puts (va_up L n d) (n + 1) (cs ++ [c]) = va_up (tl_puts (va_up L n d) (n + 1) cs) (n + (cs.length + 1)) c
    rw [ih, show n + 1 + cs.length = n + (cs.length + 1) by omega]
def tl_nil : List Nat := []
theorem tl_nil_len : tl_nil.length = 0 := rfl
def tl_dig (v : Nat) : List Nat := if v ≤ 9 then [48 + v] else [48 + v / 10, 48 + v % 10]
theorem tl_dig_len (v : Nat) : (tl_dig v).length ≤ 2 := by
  unfold tl_dig
  split <;> simp
def tl_pet (p : Nat) : Nat → List Nat
  | 0 => []
  | k + 1 => tl_pet p k ++ [if tl_bit p k = 1 then 82 else 119]
theorem tl_pet_len (p k : Nat) : (tl_pet p k).length = k := by
  induction k with
  | zero => rfl
  | succ k ih => simp [tl_pet, ih]
def tl_dsc (m : Nat → Nat) (b : Nat) : List Nat :=
  let c1 := tl_dig b ++ [61] ++ tl_pet (m (14 + 7 * b)) 8 ++ [35] ++ tl_dig (tl_wor m (m (14 + 7 * b)) 8)
  let c2 := if 0 < m (14 + 7 * b + 1) then c1 ++ [126] ++ tl_dig (m (14 + 7 * b + 1) - 1) ++ [120] ++ tl_dig (m (14 + 7 * b + 2) - 1) else c1
  if tl_al m b = true then c2 else c2 ++ [43]
def tl_tel (m : Nat → Nat) : Nat → List Nat
  | 0 => []
  | k + 1 => (if 0 < k then tl_tel m k ++ [44] else tl_tel m k) ++ tl_dig (tl_atN m k)
theorem tl_tel_len (m : Nat → Nat) (k : Nat) : (tl_tel m k).length ≤ 3 * k := by
  induction k with
  | zero => exact Nat.le_refl _
  | succ k ih =>
    have := tl_dig_len (tl_atN m k)
    simp only [tl_tel, List.length_append]
    split
    · simp only [List.length_append, List.length_cons, List.length_nil]; omega
    · omega
theorem tl_at_lt {m : Nat → Nat} {pl b : Nat} (h : tl_at m pl = some b) : b < m 0 := by
  rw [tl_at_ord] at h
  exact (tl_ord_mem.mp (List.mem_of_getElem? h)).1
noncomputable def tl_wIn (m : Nat → Nat) (x : Int32) : Int32 :=
  if tl_rng x 0 20 = true then (match tl_at (tl_yrs m (tl_n x)) 0 with
    | none => -4
    | some b => nI (tl_wor (tl_yrs m (tl_n x)) (tl_yrs m (tl_n x) (14 + 7 * b)) 8)) else -2
/-- the sign at a place of the text and 1; 0: the end -/
def tl_hc (t : Nat → Nat) (z pl : Nat) : Nat := if pl < z then t pl + 1 else 0
def tl_exw (t : Nat → Nat) (z w pl c : Nat) : Nat := if w = 0 ∧ tl_hc t z pl = c + 1 then 0 else 1
def tl_isd (h : Nat) : Bool := decide (49 ≤ h ∧ h ≤ 58)
def tl_dgw (t : Nat → Nat) (z w pl : Nat) : Nat := if w = 0 ∧ tl_isd (tl_hc t z pl) = true then 0 else 1
def tl_dgv (t : Nat → Nat) (z w pl : Nat) : Nat := if tl_dgw t z w pl = 0 then tl_hc t z pl - 49 else 0
def tl_stp (w pl : Nat) : Nat := if w = 0 then pl + 1 else pl
theorem tl_d_rng {h : Nat} (hh : h < 1000) : tl_rng (tl_d h) 48 57 = tl_isd h := by
  unfold tl_rng tl_isd
  cases h with
  | zero => decide
  | succ k =>
    show decide (48 ≤ (nI k).toInt ∧ (nI k).toInt ≤ 57) = _
    rw [nI_toInt (by omega)]
    exact decide_eq_decide.mpr (by omega)
theorem tl_d_eq {h c : Nat} (hh : h < 1000) (hc : c < 1000) : tl_d h = nI c ↔ h = c + 1 := by
  cases h with
  | zero =>
    constructor
    · intro q
      have := (xk_m1lt (a := c) (by omega)).2.2
      exact absurd q.symm this
    · intro q; omega
  | succ k =>
    show nI k = nI c ↔ _
    rw [nI_eq (by omega) (by omega)]
    omega
