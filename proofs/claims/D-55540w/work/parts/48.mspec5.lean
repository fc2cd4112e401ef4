/-! numbers read off a text -/
set_option maxRecDepth 100000

def tl_nm (t : Nat → Nat) (z : Nat) : Nat → Nat → Nat → Nat → Nat × Nat
  | 0, _, v, pl => (v, pl)
  | f + 1, w, v, pl => if w = 0 ∧ tl_isd (tl_hc t z pl) = true then tl_nm t z f w (10 * v + (tl_hc t z pl - 49)) (pl + 1) else (v, pl)
/-- a number of at most 'most' digits: value, place behind; whether it is wrong: tl_dgw -/
def tl_num (t : Nat → Nat) (z w pl most : Nat) : Nat × Nat := tl_nm t z (most - 1) (tl_dgw t z w pl) (tl_dgv t z w pl) (tl_stp (tl_dgw t z w pl) pl)
theorem tl_dgv_le (t : Nat → Nat) (z w pl : Nat) : tl_dgv t z w pl ≤ 9 := by
  unfold tl_dgv
  by_cases h : tl_dgw t z w pl = 0
  · rw [if_pos h]
    unfold tl_dgw at h
    by_cases h2 : w = 0 ∧ tl_isd (tl_hc t z pl) = true
    · have := (of_decide_eq_true h2.2 : 49 ≤ tl_hc t z pl ∧ tl_hc t z pl ≤ 58)
      omega
    · rw [if_neg h2] at h; omega
  · rw [if_neg h]; omega
theorem tl_dgw_le (t : Nat → Nat) (z w pl : Nat) : tl_dgw t z w pl ≤ 1 := by
  unfold tl_dgw
  split <;> omega
theorem tl_exw_le (t : Nat → Nat) (z w pl c : Nat) : tl_exw t z w pl c ≤ 1 := by
  unfold tl_exw
  split <;> omega
theorem tl_hc_z {t : Nat → Nat} {z pl : Nat} (h : 0 < tl_hc t z pl) : pl < z := by
  unfold tl_hc at h
  by_cases h1 : pl < z
  · exact h1
  · rw [if_neg h1] at h; omega
theorem tl_dgw_z {t : Nat → Nat} {z w pl : Nat} (hz : pl ≤ z) : tl_stp (tl_dgw t z w pl) pl ≤ z := by
  unfold tl_stp
  by_cases h : tl_dgw t z w pl = 0
  · rw [if_pos h]
    unfold tl_dgw at h
    by_cases h2 : w = 0 ∧ tl_isd (tl_hc t z pl) = true
    · have := (of_decide_eq_true h2.2 : 49 ≤ tl_hc t z pl ∧ tl_hc t z pl ≤ 58)
      have := tl_hc_z (t := t) (z := z) (pl := pl) (by omega)
      omega
    · rw [if_neg h2] at h; omega
  · rw [if_neg h]; exact hz
theorem tl_exw_z {t : Nat → Nat} {z w pl c : Nat} (hz : pl ≤ z) : tl_stp (tl_exw t z w pl c) pl ≤ z := by
  unfold tl_stp
  by_cases h : tl_exw t z w pl c = 0
  · rw [if_pos h]
    unfold tl_exw at h
    by_cases h2 : w = 0 ∧ tl_hc t z pl = c + 1
    · have := tl_hc_z (t := t) (z := z) (pl := pl) (by omega)
      omega
    · rw [if_neg h2] at h; omega
  · rw [if_neg h]; exact hz

