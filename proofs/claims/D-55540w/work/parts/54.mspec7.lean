/-! the mean: floats -/
set_option maxRecDepth 100000
def tl_ms (m : Nat → Nat) : Nat → Nat
  | 0 => 0
  | n + 1 => tl_ms m n + (if tl_al m n = true then tl_wor m (m (14 + 7 * n)) 8 else 0)
theorem tl_ms_le {m : Nat → Nat} (h : ∀ k, k < 8 → m (6 + k) ≤ 9) (n : Nat) : tl_ms m n ≤ 72 * tl_liv m n := by
  induction n with
  | zero => exact Nat.le_refl _
  | succ n ih =>
    have := tl_wor_le (m := m) (p := m (14 + 7 * n)) h
    simp only [tl_ms, tl_liv]
    by_cases ha : tl_al m n = true
    · have h1 : m (14 + 7 * n + 3) = 1 := of_decide_eq_true ha
      rw [if_pos ha, h1]; omega
    · rw [if_neg ha]; omega
def tl_fl (a n : Nat) : UInt32 := FP.fdiv (FP.i2f (nI a)) (FP.i2f (nI n))
def tl_fok (a n : Nat) : Bool := decide (tl_fl a n &&& 0x7fffffff ≤ 0x7f800000) && decide (Op.cmpValue (FP.fcmp (tl_fl a n) (tl_fl a n)) .l = 0)
theorem tl_fok_all : ∀ a, a < 865 → ∀ n, n < 12 → tl_fok a (n + 1) = true := by decide +kernel
theorem tl_fl_ok {a n : Nat} (ha : a ≤ 864) (h1 : 1 ≤ n) (h12 : n ≤ 12) : vf_n32 (tl_fl a n) ∧ Op.cmpValue (FP.fcmp (tl_fl a n) (tl_fl a n)) .l = 0 := by
  have h := tl_fok_all a (by omega) (n - 1) (by omega)
  rw [show n - 1 + 1 = n by omega] at h
  unfold tl_fok at h
  rw [Bool.and_eq_true] at h
  have h1 : tl_fl a n &&& 0x7fffffff ≤ 0x7f800000 := of_decide_eq_true h.1
  exact ⟨h1, of_decide_eq_true h.2⟩
noncomputable def tl_bits (a n : Nat) : Int32 := xk_hide (tl_fl a n).toInt32
noncomputable def tl_mean (m : Nat → Nat) : Int32 := if tl_liv m (m 0) = 0 then -4 else tl_bits (tl_ms m (m 0)) (tl_liv m (m 0))
