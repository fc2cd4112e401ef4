/-! the bed's picture; plain laws of insertion, patterns, numbers -/
set_option maxRecDepth 100000
def tb_bf (mm : Nat → Nat) (i : Nat) : List Value := [.int (nI i), .int (nI (mm (14 + 7 * i))), .int (tm_it (mm (14 + 7 * i + 1))), .int (tm_it (mm (14 + 7 * i + 2))), .int (nI (mm (14 + 7 * i + 4))), .int (nI (mm (14 + 7 * i + 5))), .int (nI (mm (14 + 7 * i + 6))), .int (nI (1 - mm (14 + 7 * i + 3)))]
def tb_F (X : xk_H) (r : Nat) (mm : Nat → Nat) (n : Nat) (pp : Nat → Nat) : Prop := ∀ i, i < n → X (pp i) = some ((r, 10 + i), .inr (3, tb_bf mm i))
theorem tb_F.kp {X X1 : xk_H} {r n : Nat} {mm pp : Nat → Nat} (h : tb_F X r mm n pp) (k : ∀ (i : Nat), i < n → ∀ (a : Nat) (e : va_E), X a = some ((r, 10 + i), e) → X1 a = some ((r, 10 + i), e)) : tb_F X1 r mm n pp := fun i hi => k i hi _ _ (h i hi)
theorem tb_F.le {X X1 : xk_H} {r n : Nat} {mm pp : Nat → Nat} (h : tb_F X r mm n pp) (hl : xk_le X X1) : tb_F X1 r mm n pp := fun i hi => hl _ _ (h i hi)
theorem tb_F.inj {X : xk_H} {r n : Nat} {mm pp : Nat → Nat} (h : tb_F X r mm n pp) {i j : Nat} (hi : i < n) (hj : j < n) (he : pp i = pp j) : i = j := by
  have h1 := h i hi
  rw [he, h j hj] at h1
  have h2 := congrArg (fun z => z.map (fun y : xk_E => y.1.2)) h1
  simp only [Option.map_some, Option.some.injEq] at h2
  omega
theorem tb_F.iff {X : xk_H} {r n : Nat} {mm pp : Nat → Nat} (h : tb_F X r mm n pp) {i j : Nat} (hi : i < n) (hj : j < n) : pp i = pp j ↔ i = j := ⟨h.inj hi hj, fun z => by rw [z]⟩
def tl_wf (mm : Nat → Nat) : Nat → Nat := fun k => if k < 8 then mm (6 + k) else 0
theorem tl_wf_lt {mm : Nat → Nat} {k : Nat} (h : k < 8) : tl_wf mm k = mm (6 + k) := if_pos h
theorem tl_wf_cg {mm m2 : Nat → Nat} (h : ∀ k, k < 8 → m2 (6 + k) = mm (6 + k)) : tl_wf m2 = tl_wf mm := funext fun k => by
  by_cases hk : k < 8
  · rw [tl_wf_lt hk, tl_wf_lt hk, h k hk]
  · simp [tl_wf, hk]
theorem tl_wf_up {mm : Nat → Nat} {i v : Nat} (hi : i < 8) : va_up (tl_wf mm) i v = tl_wf (va_up mm (6 + i) v) := funext fun k => by
  by_cases hk : k = i
  · subst hk; simp [tl_wf, va_up, hi]
  · by_cases h8 : k < 8
    · simp [tl_wf, va_up, hk, h8]
    · simp [tl_wf, va_up, hk, h8]
/-- r: the bed's root; b the bed, w its weights, l its list, a the list's array, pp its bulbs -/
def tb_B (g : xk_G) (X : xk_H) (r b w l a : Nat) (mc : Int32) (pp mm : Nat → Nat) : Prop :=
  X b = some ((r, 1), .inr (2, [.ref l, .ref w, .int (nI (mm 2)), .int (nI (mm 3)), .int (nI (mm 4)), .int (nI (mm 5)), .int (nI (mm 1))])) ∧ X w = some ((r, 2), xk_iA g 0 8 (tl_wf mm)) ∧ tb_L g X l a (r, 3) (r, 4) mc (mm 0) pp ∧ tb_F X r mm (mm 0) pp
theorem tb_B.kp {g : xk_G} {X X1 : xk_H} {r b w l a : Nat} {mc : Int32} {pp mm : Nat → Nat} (h : tb_B g X r b w l a mc pp mm) (k : ∀ (i : Nat) (a : Nat) (e : va_E), X a = some ((r, i), e) → X1 a = some ((r, i), e)) : tb_B g X1 r b w l a mc pp mm := by
  obtain ⟨h1, h2, h3, h4⟩ := h
  exact ⟨k _ _ _ h1, k _ _ _ h2, h3.kp (k 3) (k 4), h4.kp (fun i _ => k (10 + i))⟩
theorem tb_B.le {g : xk_G} {X X1 : xk_H} {r b w l a : Nat} {mc : Int32} {pp mm : Nat → Nat} (h : tb_B g X r b w l a mc pp mm) (hl : xk_le X X1) : tb_B g X1 r b w l a mc pp mm := h.kp (fun _ _ _ q => hl _ _ q)
/-- the bed with what isn't asked hidden -/
def tb_Bd (g : xk_G) (X : xk_H) (r b : Nat) (mm : Nat → Nat) : Prop := ∃ (w l a : Nat) (mc : Int32) (pp : Nat → Nat), tb_B g X r b w l a mc pp mm
theorem tb_Bd.kp {g : xk_G} {X X1 : xk_H} {r b : Nat} {mm : Nat → Nat} (h : tb_Bd g X r b mm) (k : ∀ (i : Nat) (a : Nat) (e : va_E), X a = some ((r, i), e) → X1 a = some ((r, i), e)) : tb_Bd g X1 r b mm := by
  obtain ⟨w, l, a, mc, pp, h⟩ := h
  exact ⟨w, l, a, mc, pp, h.kp k⟩
theorem tl_isb_eq {mm : Nat → Nat} (h : mm 0 ≤ 40) : (nI (mm 0) - nI 1).toInt = (mm 0 : Int) - 1 := pk_sub_toInt (by omega) (by decide)
theorem tl_bit_red {p k : Nat} (hp : p < 2147483648) (hk : k < 32) : (nI p >>> (nI k &&& 31)) &&& 1 = nI (tl_bit p k) := by
  rw [xk_shr hp hk]
  exact xk_and _ 1
/-- inserting at the first place whose holder isn't ahead -/
theorem tl_ins_at {mm : Nat → Nat} {b : Nat} : ∀ (L : List Nat) (at9 : Nat), at9 ≤ L.length → (∀ j, j < at9 → tl_ahd mm (L.getD j 0) b = true) → (at9 < L.length → ¬ tl_ahd mm (L.getD at9 0) b = true) → ∀ j, (tl_ins mm b L).getD j 0 = (if j < at9 then L.getD j 0 else if j = at9 then b else L.getD (j - 1) 0) := by
  intro L
  induction L with
  | nil =>
    intro at9 h1 h2 h3 j
    have h0 : at9 = 0 := Nat.le_zero.mp h1
    subst h0
    cases j with
    | zero => rfl
    | succ j => simp [tl_ins]
  | cons o L ih =>
    intro at9 h1 h2 h3 j
    cases at9 with
    | zero =>
      have h4 : ¬ tl_ahd mm o b = true := h3 (Nat.zero_lt_succ _)
      simp only [tl_ins, if_neg h4]
      cases j with
      | zero => rfl
      | succ j => simp
    | succ k =>
      have h4 : tl_ahd mm o b = true := h2 0 (Nat.zero_lt_succ _)
      simp only [tl_ins, if_pos h4]
      cases j with
      | zero => simp
      | succ j =>
        have h5 := ih k (Nat.le_of_succ_le_succ h1) (fun i hi => h2 (i + 1) (by omega)) (fun hi => h3 (Nat.succ_lt_succ hi)) j
        rw [List.getD_cons_succ, h5]
        by_cases q1 : j < k
        · rw [if_pos q1, if_pos (show j + 1 < k + 1 by omega), List.getD_cons_succ]
        · rw [if_neg q1, if_neg (show ¬ j + 1 < k + 1 by omega)]
          by_cases q2 : j = k
          · rw [if_pos q2, if_pos (show j + 1 = k + 1 by omega)]
          · rw [if_neg q2, if_neg (show ¬ j + 1 = k + 1 by omega)]
            obtain ⟨i, rfl⟩ : ∃ i, j = i + 1 := ⟨j - 1, by omega⟩
            rfl
theorem tl_atN_ord (mm : Nat → Nat) (j : Nat) : tl_atN mm j = (tl_ord mm (mm 0)).getD j 0 := by
  unfold tl_atN
  rw [tl_at_ord, List.getD_eq_getElem?_getD]
theorem tl_ord_lt {mm : Nat → Nat} {k j : Nat} (hj : j < (tl_ord mm k).length) : (tl_ord mm k).getD j 0 < k ∧ tl_al mm ((tl_ord mm k).getD j 0) = true := by
  have h : (tl_ord mm k)[j]? = some ((tl_ord mm k).getD j 0) := by
    rw [List.getD_eq_getElem?_getD, List.getElem?_eq_getElem hj]; rfl
  exact tl_ord_mem.mp (List.mem_of_getElem? h)
