/-! sums, accounts, undo, texts of the row -/
set_option maxRecDepth 100000
def tl_sm (m : Nat → Nat) (w : Nat) : Nat → Nat
  | 0 => 0
  | n + 1 => tl_sm m w n + (if 0 < m (14 + 7 * n + w) then 1 else 0)
theorem tl_sm_le (m : Nat → Nat) (w n : Nat) : tl_sm m w n ≤ n := by
  induction n with
  | zero => exact Nat.le_refl _
  | succ n ih =>
    simp only [tl_sm]
    split <;> omega
def tl_ws (m : Nat → Nat) : Nat → Nat
  | 0 => 0
  | n + 1 => tl_ws m n + m (6 + n)
def tl_old (m : Nat → Nat) : Nat → Nat
  | 0 => 0
  | n + 1 => if tl_old m n < m (14 + 7 * n + 5) then m (14 + 7 * n + 5) else tl_old m n
theorem tl_old_le {m : Nat → Nat} {n : Nat} (h : ∀ b, b < n → m (14 + 7 * b + 5) ≤ b) : tl_old m n ≤ n := by
  induction n with
  | zero => exact Nat.le_refl _
  | succ n ih =>
    have := ih (fun b hb => h b (by omega))
    have := h n (by omega)
    simp only [tl_old]
    split <;> omega
def tl_acc (m S : Nat → Nat) (x : Int32) : Int32 :=
  if x = nI 0 then nI (m 0) else if x = nI 1 then nI (tl_liv m (m 0)) else if x = nI 2 then nI (tl_sm m 1 (m 0)) else if x = nI 3 then nI (tl_sm m 6 (m 0)) else if x = nI 4 then nI (m 1) else if x = nI 5 then nI (m 2) else if x = nI 6 then nI (tl_ws m 8) else if x = nI 7 then nI (m 3) else if x = nI 8 then nI (m 4) else if x = nI 9 then nI (m 5) else if x = nI 10 then nI (tl_old m (m 0)) else if x = nI 11 then nI (S 5) else if x = nI 12 then nI (S 1) else -2
def tl_refu (S : Nat → Nat) (x : Int32) : Int32 :=
  if tl_rng x 0 2 = true then (if S 2 = 0 then -4 else if tl_n x = 0 then nI (S 2) else if tl_n x = 1 then nI (S 3) else tm_it (S 4)) else -2
def tl_sgn (h : Nat → Nat) (n : Nat) (x : Int32) : Int32 := if tl_rng x 0 ((n : Int) - 1) = true then nI (h (tl_n x)) else -1
def tl_app (S : Nat → Nat) (x : Int32) : Bool := tl_rng x 32 126 && decide (S 5 ≠ 70)
/-- the rule of the patterns -/
def tl_wel1 (m : Nat → Nat) (b : Nat) : Nat := (m (14 + 7 * b) ^^^ m (14 + 7 * (m (14 + 7 * b + 1) - 1))) &&& (m (14 + 7 * b) ^^^ m (14 + 7 * (m (14 + 7 * b + 2) - 1)))
def tl_wel (m : Nat → Nat) : Nat → Bool
  | 0 => true
  | b + 1 => if 0 < m (14 + 7 * b + 1) ∧ m (14 + 7 * b + 6) = 0 then tl_wel m b && decide (tl_wel1 m b = 0) else tl_wel m b
def tl_un1 (S : Nat → Nat) (A : Nat → Nat → Nat) : Nat → Nat := tl_cp (fun j => A 4 (294 * (S 1 - 1) + j)) (A 0) 294
theorem tl_i64b {a : Nat} (h : a ≤ 1000) : ((nI a - nI 1).toInt64).toInt = (a : Int) - 1 := by
  rw [Int32.toInt_toInt64]
  exact pk_sub_toInt (by omega) (by decide)
theorem tl_and_le {a b c : Nat} (h : a < c) : a &&& b < c := Nat.lt_of_le_of_lt Nat.and_le_left h
