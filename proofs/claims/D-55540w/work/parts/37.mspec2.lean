/-! kin, lines, crossings of the row -/
set_option maxRecDepth 100000
theorem tl_up_le {f : Nat → Nat} {k v j c : Nat} (hv : v ≤ c) (h : f j ≤ c) : va_up f k v j ≤ c := by
  unfold va_up
  split
  · exact hv
  · exact h
theorem tl_mup_le {m : Nat → Nat} {n : Nat} {f : Nat → Nat} (h : ∀ j, j < 40 → f j ≤ 1) : ∀ j, j < 40 → tl_mup m n f j ≤ 1 := by
  induction n generalizing f with
  | zero => exact h
  | succ n ih =>
    refine ih (fun j hj => ?_)
    split
    · exact tl_up_le (Nat.le_refl _) (tl_up_le (Nat.le_refl _) (h j hj))
    · exact h j hj
theorem tl_m0_le {b j : Nat} {h : Nat → Nat} (hj : j < 40) : tl_cp (tl_m0 b) h 40 j ≤ 1 := by
  unfold tl_cp tl_m0
  rw [if_pos hj]
  split <;> omega
theorem tl_mu_le {m h : Nat → Nat} {b : Nat} : ∀ j, j < 40 → tl_mu m h b j ≤ 1 := tl_mup_le (fun _ hj => tl_m0_le hj)
theorem tl_mdv_le {m f : Nat → Nat} {b k : Nat} : tl_mdv m f b k ≤ 1 := by
  unfold tl_mdv
  split
  · split <;> omega
  · split <;> omega
theorem tl_md_le {m h : Nat → Nat} {b k : Nat} : ∀ j, j < k → tl_md m h b k j ≤ 1 := by
  induction k with
  | zero => intro j hj; omega
  | succ k ih =>
    intro j hj
    by_cases hk : j = k
    · subst hk
      show va_up _ _ _ _ ≤ 1
      rw [tl_us]
      exact tl_mdv_le
    · show va_up _ _ _ _ ≤ 1
      rw [tl_un hk]
      exact ih j (by omega)
theorem tl_any_le (f h : Nat → Nat) (n : Nat) : tl_any f h n ≤ 1 := by
  cases n with
  | zero => exact Nat.zero_le _
  | succ n =>
    show (if 0 < tl_any f h n ∨ (0 < f n ∧ 0 < h n) then 1 else 0) ≤ 1
    split <;> omega
theorem tl_any_ext {f h f2 h2 : Nat → Nat} {n : Nat} (hf : ∀ j, j < n → f j = f2 j) (hh : ∀ j, j < n → h j = h2 j) : tl_any f h n = tl_any f2 h2 n := by
  induction n with
  | zero => rfl
  | succ n ih =>
    show (if 0 < tl_any f h n ∨ (0 < f n ∧ 0 < h n) then 1 else 0) = (if 0 < tl_any f2 h2 n ∨ (0 < f2 n ∧ 0 < h2 n) then 1 else 0)
    rw [ih (fun j hj => hf j (by omega)) (fun j hj => hh j (by omega)), hf n (by omega), hh n (by omega)]
theorem tl_sum_ext {f f2 : Nat → Nat} {n : Nat} (hf : ∀ j, j < n → f j = f2 j) : tl_sum f n = tl_sum f2 n := by
  induction n with
  | zero => rfl
  | succ n ih =>
    show tl_sum f n + (if 0 < f n then 1 else 0) = tl_sum f2 n + (if 0 < f2 n then 1 else 0)
    rw [ih (fun j hj => hf j (by omega)), hf n (by omega)]
theorem tl_mup_ext {m : Nat → Nat} {n c : Nat} {f f2 : Nat → Nat} (hn : n ≤ c) (h : ∀ j, j < c → f j = f2 j) : ∀ j, j < c → tl_mup m n f j = tl_mup m n f2 j := by
  induction n generalizing f f2 with
  | zero => exact h
  | succ n ih =>
    refine ih (by omega) (fun j hj => ?_)
    rw [h n (by omega)]
    split
    · unfold va_up
      split
      · rfl
      · split
        · rfl
        · exact h j hj
    · exact h j hj
/-- what stands behind the forty marks does not matter -/
theorem tl_mu_ext {m h h2 : Nat → Nat} {b : Nat} (hb : b < 40) : ∀ j, j < 40 → tl_mu m h b j = tl_mu m h2 b j := tl_mup_ext (by omega) (fun j hj => by
  unfold tl_cp
  rw [if_pos hj, if_pos hj])
def tl_up0 (m : Nat → Nat) (b : Nat) : Nat → Nat := tl_mu m (fun _ => 0) b
def tl_kin (m : Nat → Nat) (x y : Int32) : Int32 := if tl_isb m x = true then (if tl_isb m y = true then nI (tl_any (tl_up0 m (tl_n x)) (tl_up0 m (tl_n y)) 40) else -1) else -1
def tl_fore (m : Nat → Nat) (x : Int32) : Int32 := if tl_isb m x = true then nI (tl_sum (tl_up0 m (tl_n x)) 40) - 1 else -1
def tl_ll (m f : Nat → Nat) : Nat → Nat
  | 0 => 0
  | n + 1 => tl_ll m f n + (if 0 < f n ∧ tl_al m n = true then 1 else 0)
def tl_lm (m f : Nat → Nat) : Nat → Nat
  | 0 => 0
  | n + 1 => if 0 < f n ∧ tl_al m n = true ∧ tl_lm m f n < tl_wor m (m (14 + 7 * n)) 8 + 1 then tl_wor m (m (14 + 7 * n)) 8 + 1 else tl_lm m f n
theorem tl_ll_le (m f : Nat → Nat) (n : Nat) : tl_ll m f n ≤ n := by
  induction n with
  | zero => exact Nat.le_refl _
  | succ n ih =>
    show tl_ll m f n + (if 0 < f n ∧ tl_al m n = true then 1 else 0) ≤ n + 1
    split <;> omega
theorem tl_lm_le {m f : Nat → Nat} (h : ∀ k, k < 8 → m (6 + k) ≤ 9) (n : Nat) : tl_lm m f n ≤ 73 := by
  induction n with
  | zero => exact Nat.zero_le _
  | succ n ih =>
    have := tl_wor_le (m := m) (p := m (14 + 7 * n)) h
    simp only [tl_lm]
    split <;> omega
def tl_dn0 (m : Nat → Nat) (b : Nat) : Nat → Nat := tl_md m (fun _ => 0) b 40
def tl_line (m : Nat → Nat) (x y : Int32) : Int32 :=
  if tl_isb m x = true then (if tl_rng y 0 2 = true then (if tl_n y = 0 then nI (tl_sum (tl_dn0 m (tl_n x)) (m 0)) else if tl_n y = 1 then nI (tl_ll m (tl_dn0 m (tl_n x)) (m 0)) else tm_it (tl_lm m (tl_dn0 m (tl_n x)) (m 0))) else -2) else -1
theorem tl_md_ext {m h h2 : Nat → Nat} {b k : Nat} (hm : ∀ c, c < m 0 → m (14 + 7 * c + 1) ≤ c ∧ m (14 + 7 * c + 2) ≤ c ∧ (m (14 + 7 * c + 1) = 0 ↔ m (14 + 7 * c + 2) = 0)) : ∀ j, j < k → tl_md m h b k j = tl_md m h2 b k j := by
  induction k with
  | zero => intro j hj; omega
  | succ k ih =>
    intro j hj
    have hv : tl_mdv m (tl_md m h b k) b k = tl_mdv m (tl_md m h2 b k) b k := by
      unfold tl_mdv
      by_cases hc : k < m 0 ∧ 0 < m (14 + 7 * k + 1)
      · rw [if_pos hc, if_pos hc]
        obtain ⟨q1, q2, q3⟩ := hm k hc.1
        rw [ih _ (by omega), ih _ (by omega)]
      · rw [if_neg hc, if_neg hc]
    show va_up _ _ _ _ = va_up _ _ _ _
    rw [hv]
    by_cases hk : j = k
    · subst hk
      rw [tl_us, tl_us]
    · rw [tl_un hk, tl_un hk]
      exact ih j (by omega)
theorem tl_itlt {q w : Nat} (hq : q < 2147483648) (hw : w < 2147483648) : tm_it q < nI w ↔ q < w + 1 := by
  cases q with
  | zero =>
    constructor
    · intro _; omega
    · intro _
      show (-4 : Int32) < nI w
      rw [Int32.lt_iff_toInt_lt, nI_toInt (by omega)]
      have : (-4 : Int32).toInt = -4 := by decide
      omega
  | succ q =>
    show nI q < nI w ↔ _
    rw [nI_ltI (by omega) (by omega)]
    omega
theorem tl_it4 (q : Nat) (hq : q < 2147483648) : (-4 : Int32) ≤ tm_it q := by
  cases q with
  | zero => exact Int32.le_refl _
  | succ q =>
    show (-4 : Int32) ≤ nI q
    rw [Int32.le_iff_toInt_le, nI_toInt (by omega)]
    have : (-4 : Int32).toInt = -4 := by decide
    omega
/-- patterns that come for the first time -/
def tl_nw (m : Nat → Nat) (b : Nat) : Nat → Bool
  | 0 => tl_al m b
  | o + 1 => tl_nw m b o && !(tl_al m o && decide (m (14 + 7 * o) = m (14 + 7 * b)))
def tl_unl (m : Nat → Nat) : Nat → Nat
  | 0 => 0
  | b + 1 => tl_unl m b + (if tl_nw m b b = true then 1 else 0)
theorem tl_unl_le (m : Nat → Nat) (n : Nat) : tl_unl m n ≤ n := by
  induction n with
  | zero => exact Nat.le_refl _
  | succ n ih =>
    show tl_unl m n + (if tl_nw m n n = true then 1 else 0) ≤ n + 1
    split <;> omega
def tl_mx (m : Nat → Nat) (a b k : Nat) : Nat := tl_mix (m (14 + 7 * a)) (m (14 + 7 * b)) k
def tl_wx (m : Nat → Nat) (a b k : Nat) : Nat := tl_wor m (tl_mx m a b k) 8
def tl_would (m : Nat → Nat) (x y z v : Int32) : Int32 :=
  if tl_isb m x = true then (if tl_isb m y = true then (if tl_rng z 0 8 = true then (if tl_rng v 0 1 = true then (if tl_n v = 0 then nI (tl_mx m (tl_n x) (tl_n y) (tl_n z)) else nI (tl_wx m (tl_n x) (tl_n y) (tl_n z))) else -2) else -2) else -1) else -1
def tl_bo (m : Nat → Nat) (a b : Nat) : Nat → Nat
  | 0 => 0
  | k + 1 => if tl_wx m a b (tl_bo m a b k) < tl_wx m a b (k + 1) then k + 1 else tl_bo m a b k
theorem tl_bo_le (m : Nat → Nat) (a b k : Nat) : tl_bo m a b k ≤ k := by
  induction k with
  | zero => exact Nat.le_refl _
  | succ k ih =>
    simp only [tl_bo]
    split <;> omega
def tl_bpt (m : Nat → Nat) (x y : Int32) : Int32 := if tl_isb m x = true then (if tl_isb m y = true then nI (tl_bo m (tl_n x) (tl_n y) 8) else -1) else -1
def tl_wb (m : Nat → Nat) (i j : Nat) : Nat := tl_wx m i j (tl_bo m i j 8)
def tl_bpJ (m : Nat → Nat) (fl i : Nat) (s : Nat × Nat) : Nat → Nat × Nat
  | 0 => s
  | j + 1 => if tl_al m i = true ∧ tl_al m j = true ∧ (tl_bpJ m fl i s j).1 < tl_wb m i j + 1 then (tl_wb m i j + 1, (if fl = 1 then j else i) + 1) else tl_bpJ m fl i s j
def tl_bpI (m : Nat → Nat) (fl : Nat) : Nat → Nat × Nat
  | 0 => (0, 0)
  | i + 1 => tl_bpJ m fl i (tl_bpI m fl i) (m 0)
def tl_pair (m : Nat → Nat) (x : Int32) : Int32 := if tl_rng x 0 1 = true then tm_it (tl_bpI m (tl_n x) (m 0)).2 else -2
theorem tl_wx_le {m : Nat → Nat} (h : ∀ k, k < 8 → m (6 + k) ≤ 9) (a b k : Nat) : tl_wx m a b k ≤ 72 := tl_wor_le h
