/-! one order of a text -/
set_option maxRecDepth 100000
theorem tl_nm_z {t : Nat → Nat} {z : Nat} (f w v pl : Nat) (h : pl ≤ z) : (tl_nm t z f w v pl).2 ≤ z := by
  induction f generalizing v pl with
  | zero => exact h
  | succ f ih =>
    show (if w = 0 ∧ tl_isd (tl_hc t z pl) = true then tl_nm t z f w (10 * v + (tl_hc t z pl - 49)) (pl + 1) else (v, pl)).2 ≤ z
    by_cases h2 : w = 0 ∧ tl_isd (tl_hc t z pl) = true
    · rw [if_pos h2]
      have := (of_decide_eq_true h2.2 : 49 ≤ tl_hc t z pl ∧ tl_hc t z pl ≤ 58)
      have := tl_hc_z (t := t) (z := z) (pl := pl) (by omega)
      exact ih _ _ (by omega)
    · rw [if_neg h2]; exact h
theorem tl_num_z {t : Nat → Nat} {z w pl mo : Nat} (h : pl ≤ z) : (tl_num t z w pl mo).2 ≤ z := tl_nm_z _ _ _ _ (tl_dgw_z h)
/-- the reader's state: wrong, place -/
def tl_sN (t : Nat → Nat) (z mo : Nat) (s : Nat × Nat) : Nat × Nat := (tl_dgw t z s.1 s.2, (tl_num t z s.1 s.2 mo).2)
def tl_sE (t : Nat → Nat) (z c : Nat) (s : Nat × Nat) : Nat × Nat := (tl_exw t z s.1 s.2 c, tl_stp (tl_exw t z s.1 s.2 c) s.2)
def tl_sD (t : Nat → Nat) (z : Nat) (s : Nat × Nat) : Nat × Nat := (tl_dgw t z s.1 s.2, tl_stp (tl_dgw t z s.1 s.2) s.2)
def tl_isl (h : Nat) : Bool := decide (h = 113 ∨ h = 121 ∨ h = 101 ∨ h = 120 ∨ h = 109 ∨ h = 115 ∨ h = 122 ∨ h = 105)
def tl_x1 (t : Nat → Nat) (z pl : Nat) : Nat × Nat := tl_sE t z 44 (tl_sN t z 2 (0, pl + 1))
def tl_x2 (t : Nat → Nat) (z pl : Nat) : Nat × Nat := tl_sE t z 64 (tl_sN t z 2 (tl_x1 t z pl))
def tl_h1 (t : Nat → Nat) (z pl : Nat) : Nat × Nat := tl_sE t z 61 (tl_sD t z (0, pl + 1))
def tl_oS (t : Nat → Nat) (z pl h : Nat) : Nat × Nat := if h = 121 then tl_sD t z (tl_x2 t z pl) else if h = 101 then tl_sN t z 2 (0, pl + 1) else if h = 105 then tl_sD t z (tl_h1 t z pl) else tl_sN t z 3 (0, pl + 1)
def tl_vN (t : Nat → Nat) (z mo : Nat) (s : Nat × Nat) : Nat := (tl_num t z s.1 s.2 mo).1
def tl_vD (t : Nat → Nat) (z : Nat) (s : Nat × Nat) : Nat := tl_dgv t z s.1 s.2
def tl_oA (t : Nat → Nat) (z om pl h : Nat) (O : Nat → Nat) : Nat → Nat :=
  if h = 121 then va_up (va_up (va_up (va_up O (4 * om) (h - 1)) (4 * om + 1) (tl_vN t z 2 (0, pl + 1))) (4 * om + 2) (tl_vN t z 2 (tl_x1 t z pl))) (4 * om + 3) (tl_vD t z (tl_x2 t z pl))
  else if h = 101 then va_up (va_up O (4 * om) (h - 1)) (4 * om + 1) (tl_vN t z 2 (0, pl + 1))
  else if h = 105 then va_up (va_up (va_up O (4 * om) (h - 1)) (4 * om + 1) (tl_vD t z (0, pl + 1))) (4 * om + 2) (tl_vD t z (tl_h1 t z pl))
  else va_up (va_up O (4 * om) (h - 1)) (4 * om + 1) (tl_vN t z 3 (0, pl + 1))
noncomputable def tl_does (m : Nat → Nat) (c a b d : Nat) : tl_O :=
  if c = 112 then tl_plant m (nI a) else if c = 120 then tl_cross m (nI a) (nI b) (nI d) else if c = 100 then tl_die m (nI a) else if c = 119 then tl_set m 2 (nI a) 0 255 else if c = 108 then tl_set m 3 (nI a) 0 100 else if c = 114 then tl_set m 5 (nI a) 2 12 else if c = 121 then tl_years m (nI a) else tl_heavy m (nI a) (nI b)
