/-! the row's invariant is kept -/
set_option maxRecDepth 100000
theorem tl_liv_ext {m m2 : Nat → Nat} {n : Nat} (h : ∀ b, b < n → m2 (14 + 7 * b + 3) = m (14 + 7 * b + 3)) : tl_liv m2 n = tl_liv m n := by
  induction n with
  | zero => rfl
  | succ n ih =>
    show tl_liv m2 n + m2 (14 + 7 * n + 3) = tl_liv m n + m (14 + 7 * n + 3)
    rw [ih (fun b hb => h b (by omega)), h n (by omega)]
theorem tl_liv_mono {m : Nat → Nat} {n k : Nat} (h : n ≤ k) : tl_liv m n ≤ tl_liv m k := by
  induction k with
  | zero => rw [show n = 0 by omega]; exact Nat.le_refl _
  | succ k ih =>
    by_cases hk : n = k + 1
    · rw [hk]; exact Nat.le_refl _
    · have := ih (by omega)
      show tl_liv m n ≤ tl_liv m k + m (14 + 7 * k + 3)
      omega
theorem tl_liv_die {m : Nat → Nat} {b n : Nat} : tl_liv (tl_dieM m b) n ≤ tl_liv m n := by
  induction n with
  | zero => exact Nat.le_refl _
  | succ n ih =>
    show tl_liv (tl_dieM m b) n + tl_dieM m b (14 + 7 * n + 3) ≤ tl_liv m n + m (14 + 7 * n + 3)
    have : tl_dieM m b (14 + 7 * n + 3) ≤ m (14 + 7 * n + 3) := by
      unfold tl_dieM va_up
      split <;> omega
    omega
theorem tl_dieM_ne {m : Nat → Nat} {b j : Nat} (h : j ≠ 14 + 7 * b + 3) : tl_dieM m b j = m j := tl_un h
theorem tl_inv_die {m : Nat → Nat} {b : Nat} (h : tl_inv m) (hb : b < m 0) : tl_inv (tl_dieM m b) := by
  obtain ⟨k0, kb, kw, kl, ks, kr1, kr2, kwt, kL⟩ := h
  have e0 : tl_dieM m b 0 = m 0 := tl_dieM_ne (by omega)
  refine ⟨by rw [e0]; exact k0, fun i hi => ?_, by rw [tl_dieM_ne (by omega)]; exact kw, by rw [tl_dieM_ne (by omega)]; exact kl, by rw [tl_dieM_ne (by omega)]; exact ks, by rw [tl_dieM_ne (by omega)]; exact kr1, by rw [tl_dieM_ne (by omega)]; exact kr2, fun k hk => by rw [tl_dieM_ne (by omega)]; exact kwt k hk, ?_⟩
  · rw [e0] at hi
    obtain ⟨q1, q2, q3, q4, q5, q6, q7⟩ := kb i hi
    refine ⟨by rw [tl_dieM_ne (by omega)]; exact q1, by rw [tl_dieM_ne (by omega)]; exact q2, by rw [tl_dieM_ne (by omega)]; exact q3, by rw [tl_dieM_ne (by omega), tl_dieM_ne (by omega)]; exact q4, ?_, by rw [tl_dieM_ne (by omega)]; exact q6, by rw [tl_dieM_ne (by omega)]; exact q7⟩
    unfold tl_dieM va_up
    split
    · omega
    · exact q5
  · rw [e0]
    exact Nat.le_trans tl_liv_die kL
/-- a place among the first fourteen is set -/
theorem tl_inv_up {m : Nat → Nat} {w v : Nat} (h : tl_inv m) (hw : w < 14) (h0 : w ≠ 0) (h2 : w = 2 → v < 256) (h3 : w = 3 → v ≤ 100) (h4 : w = 4 → v ≤ 999999) (h5 : w = 5 → 2 ≤ v ∧ v ≤ 12) (h6 : 6 ≤ w → v ≤ 9) : tl_inv (va_up m w v) := by
  obtain ⟨k0, kb, kw, kl, ks, kr1, kr2, kwt, kL⟩ := h
  have e0 : va_up m w v 0 = m 0 := tl_un (by omega)
  refine ⟨by rw [e0]; exact k0, fun i hi => ?_, ?_, ?_, ?_, ?_, ?_, fun k hk => ?_, ?_⟩
  · rw [e0] at hi
    rw [tl_un (by omega), tl_un (by omega), tl_un (by omega), tl_un (by omega), tl_un (by omega), tl_un (by omega)]
    exact kb i hi
  · unfold va_up; split
    · exact h2 (by omega)
    · exact kw
  · unfold va_up; split
    · exact h3 (by omega)
    · exact kl
  · unfold va_up; split
    · exact h4 (by omega)
    · exact ks
  · unfold va_up; split
    · exact (h5 (by omega)).1
    · exact kr1
  · unfold va_up; split
    · exact (h5 (by omega)).2
    · exact kr2
  · unfold va_up; split
    · exact h6 (by omega)
    · exact kwt k hk
  · rw [e0, tl_liv_ext (m := m) (fun b _ => tl_un (by omega))]
    exact kL
theorem tl_inv_draw {m : Nat → Nat} (h : tl_inv m) : tl_inv (tl_draw m) := tl_inv_up h (by decide) (by decide) (by omega) (by omega) (fun _ => by have := tl_seed_lt m; omega) (by omega) (by omega)
theorem tl_inv_year {m : Nat → Nat} {v : Nat} (h : tl_inv m) : tl_inv (va_up m 1 v) := tl_inv_up h (by decide) (by decide) (by omega) (by omega) (by omega) (by omega) (by omega)
theorem tl_come_ne {m : Nat → Nat} {p mo fa ge sp j : Nat} (h0 : j ≠ 0) (h : j < 14 + 7 * m 0 ∨ 14 + 7 * m 0 + 7 ≤ j) : tl_come m p mo fa ge sp j = m j := by
  unfold tl_come
  rw [if_neg h0, if_neg (by omega), if_neg (by omega), if_neg (by omega), if_neg (by omega), if_neg (by omega), if_neg (by omega), if_neg (by omega)]
theorem tl_come_0 {m : Nat → Nat} {p mo fa ge sp : Nat} : tl_come m p mo fa ge sp 0 = m 0 + 1 := by simp [tl_come]
theorem tl_come_at {m : Nat → Nat} {p mo fa ge sp : Nat} : tl_come m p mo fa ge sp (14 + 7 * m 0) = p ∧ tl_come m p mo fa ge sp (14 + 7 * m 0 + 1) = mo ∧ tl_come m p mo fa ge sp (14 + 7 * m 0 + 2) = fa ∧ tl_come m p mo fa ge sp (14 + 7 * m 0 + 3) = 1 ∧ tl_come m p mo fa ge sp (14 + 7 * m 0 + 4) = m 1 ∧ tl_come m p mo fa ge sp (14 + 7 * m 0 + 5) = ge ∧ tl_come m p mo fa ge sp (14 + 7 * m 0 + 6) = sp := by
  refine ⟨?_, ?_, ?_, ?_, ?_, ?_, ?_⟩ <;> simp [tl_come]
theorem tl_inv_come {m : Nat → Nat} {p mo fa ge sp : Nat} (h : tl_inv m) (h40 : m 0 < 40) (h12 : tl_liv m (m 0) < 12) (hp : p < 256) (hmo : mo ≤ m 0) (hfa : fa ≤ m 0) (hmf : mo = 0 ↔ fa = 0) (hge : ge ≤ m 0) (hsp : sp ≤ 1) : tl_inv (tl_come m p mo fa ge sp) := by
  obtain ⟨k0, kb, kw, kl, ks, kr1, kr2, kwt, kL⟩ := h
  obtain ⟨c0, c1, c2, c3, c4, c5, c6⟩ := tl_come_at (m := m) (p := p) (mo := mo) (fa := fa) (ge := ge) (sp := sp)
  refine ⟨by rw [tl_come_0]; omega, fun i hi => ?_, by rw [tl_come_ne (by omega) (by omega)]; exact kw, by rw [tl_come_ne (by omega) (by omega)]; exact kl, by rw [tl_come_ne (by omega) (by omega)]; exact ks, by rw [tl_come_ne (by omega) (by omega)]; exact kr1, by rw [tl_come_ne (by omega) (by omega)]; exact kr2, fun k hk => by rw [tl_come_ne (by omega) (by omega)]; exact kwt k hk, ?_⟩
  · rw [tl_come_0] at hi
    by_cases he : i = m 0
    · subst he
      rw [c0, c1, c2, c3, c5, c6]
      exact ⟨hp, hmo, hfa, hmf, by omega, hge, hsp⟩
    · rw [tl_come_ne (by omega) (by omega), tl_come_ne (by omega) (by omega), tl_come_ne (by omega) (by omega), tl_come_ne (by omega) (by omega), tl_come_ne (by omega) (by omega), tl_come_ne (by omega) (by omega)]
      exact kb i (by omega)
  · rw [tl_come_0]
    show tl_liv _ (m 0) + tl_come m p mo fa ge sp (14 + 7 * m 0 + 3) ≤ 12
    rw [c3, tl_liv_ext (m := m) (fun b hb => tl_come_ne (by omega) (by omega))]
    omega
theorem tl_brM_ne {m : Nat → Nat} {j : Nat} (h : j ≠ 4) : tl_brM m j = m j := by
  unfold tl_brM
  split
  · rw [tl_draw_ne h, tl_draw_ne h]
  · exact tl_draw_ne h
theorem tl_brM_inv {m : Nat → Nat} (h : tl_inv m) : tl_inv (tl_brM m) := by
  unfold tl_brM
  split
  · exact tl_inv_draw (tl_inv_draw h)
  · exact tl_inv_draw h
theorem tl_brP_lt {m : Nat → Nat} {a b k : Nat} (h : tl_inv m) (ha : a < m 0) (hb : b < m 0) : tl_brP m a b k < 256 := by
  have h1 := tl_mix_lt (k := k) (h.2.1 a ha).1 (h.2.1 b hb).1
  unfold tl_brP
  split
  · exact Nat.xor_lt_two_pow (n := 8) h1 (tl_pow8 _ (Nat.mod_lt _ (by decide)))
  · exact h1
theorem tl_inv_breed {m : Nat → Nat} {a b k : Nat} (h : tl_inv m) (ha : a < m 0) (hb : b < m 0) (h40 : m 0 < 40) (h12 : tl_liv m (m 0) < 12) : tl_inv (tl_breed m a b k) := by
  have e0 : tl_brM m 0 = m 0 := tl_brM_ne (by omega)
  have q1 := (h.2.1 a ha).2.2.2.2.2.1
  have q2 := (h.2.1 b hb).2.2.2.2.2.1
  refine tl_inv_come (tl_brM_inv h) (by omega) ?_ (tl_brP_lt h ha hb) (by omega) (by omega) (by omega) ?_ (by split <;> omega)
  · rw [e0, tl_liv_ext (m := m) (fun b hb => tl_brM_ne (by omega))]
    exact h12
  · rw [e0]
    unfold tl_brG
    split <;> omega
theorem tl_fullR_0 {m : Nat → Nat} (h : tl_inv m) (h0 : tl_fullR m = 0) : m 0 < 40 ∧ tl_liv m (m 0) < 12 := by
  have k0 := h.1
  have kL := h.2.2.2.2.2.2.2.2
  unfold tl_fullR at h0
  by_cases h1 : m 0 = 40
  · rw [if_pos h1] at h0; omega
  · rw [if_neg h1] at h0
    by_cases h2 : tl_liv m (m 0) = 12
    · rw [if_pos h2] at h0; omega
    · omega
theorem tl_fullR_le (m : Nat → Nat) : tl_fullR m ≤ 2 := by
  unfold tl_fullR
  split
  · omega
  · split <;> omega
theorem tl_isb_k {m : Nat → Nat} {x : Int32} (h : tl_isb m x = true) : x = nI (tl_n x) ∧ tl_n x < m 0 := by
  obtain ⟨h1, h2, h3, -⟩ := tl_rng_k h (Int.le_refl 0)
  exact ⟨h1, by omega⟩
theorem tl_S1 (S : Nat → Nat) (O : tl_O) : tl_S S O 1 = S 1 := by
  rcases O with x | c | x <;> simp [tl_S, tl_ref, va_up]
theorem tl_okc_ok {r : Nat} {m : Nat → Nat} (h : r < 2147483648) : tl_okc (tl_ok r m) := h
theorem tl_okc_wr1 : tl_okc (tl_wr (-1)) := (by decide : (-1 : Int32) < 0)
theorem tl_okc_wr2 : tl_okc (tl_wr (-2)) := (by decide : (-2 : Int32) < 0)
theorem tl_okc_rf {r d : Nat} : tl_okc (tl_rf r d) := trivial
theorem tl_plant_okc {m : Nat → Nat} (h : tl_inv m) (x : Int32) : tl_okc (tl_plant m x) := by
  have := h.1
  unfold tl_plant
  split
  · split
    · exact tl_okc_ok (by omega)
    · exact tl_okc_rf
  · exact tl_okc_wr2
theorem tl_cross_okc {m : Nat → Nat} (h : tl_inv m) (x y z : Int32) : tl_okc (tl_cross m x y z) := by
  have := h.1
  unfold tl_cross
  split
  · split
    · split
      · split
        · split
          · split
            · exact tl_okc_ok (by omega)
            · exact tl_okc_rf
          · exact tl_okc_rf
        · exact tl_okc_rf
      · exact tl_okc_wr2
    · exact tl_okc_wr1
  · exact tl_okc_wr1
theorem tl_die_okc {m : Nat → Nat} (h : tl_inv m) (x : Int32) : tl_okc (tl_die m x) := by
  unfold tl_die
  split
  · split
    · refine tl_okc_ok ?_
      have h1 := tl_liv_die (m := m) (b := tl_n x) (n := m 0)
      have := h.2.2.2.2.2.2.2.2
      omega
    · exact tl_okc_rf
  · exact tl_okc_wr1
theorem tl_set_okc {m : Nat → Nat} {w : Nat} (h : m w < 2147483648) (x : Int32) (lo hi : Int) : tl_okc (tl_set m w x lo hi) := by
  unfold tl_set
  split
  · split
    · exact tl_okc_rf
    · exact tl_okc_ok h
  · exact tl_okc_wr2
theorem tl_heavy_okc {m : Nat → Nat} (h : tl_inv m) (x y : Int32) : tl_okc (tl_heavy m x y) := by
  unfold tl_heavy
  by_cases hx : tl_rng x 0 7 = true
  · rw [if_pos hx]
    obtain ⟨-, -, h3, -⟩ := tl_rng_k hx (by decide)
    have := h.2.2.2.2.2.2.2.1 (tl_n x) (by omega)
    exact tl_set_okc (by omega) _ _ _
  · rw [if_neg hx]
    exact tl_okc_wr1
/-- a change, whole: aside, the change, what is kept for undo -/
def tl_fA (A : Nat → Nat → Nat) (S : Nat → Nat) (O : tl_O) : Nat → Nat → Nat := va_up (va_up (va_up A 0 (tl_m (A 0) O)) 1 (tl_cp (A 0) (A 1) 294)) 4 (tl_pst (tl_is O) (tl_S S O 1) (A 4) (tl_cp (A 0) (A 1) 294))
def tl_fS (S : Nat → Nat) (O : tl_O) : Nat → Nat := va_up (tl_S S O) 1 (tl_chn (tl_is O) (tl_S S O 1))
/-- the years: deaths behind the room, in the order -/
def tl_atN (m : Nat → Nat) (pl : Nat) : Nat := (tl_at m pl).getD 0
def tl_cut (m : Nat → Nat) (r : Nat) : Nat → Nat → Nat
  | 0 => m
  | left + 1 => if r ≤ left then tl_cut (tl_dieM m (tl_atN m left)) r left else m
def tl_yrb (m : Nat → Nat) : Bool := decide (2 ≤ tl_liv m (m 0) ∧ tl_liv m (m 0) < 12 ∧ m 0 < 40)
noncomputable def tl_yr1 (m : Nat → Nat) : Nat → Nat := if tl_yrb m = true then tl_breed (tl_draw m) (tl_atN m 0) (tl_atN m 1) (tl_seed m % 9) else m
noncomputable def tl_yr2 (m : Nat → Nat) : Nat → Nat := tl_cut (tl_yr1 m) (m 5) (tl_liv (tl_yr1 m) (tl_yr1 m 0))
noncomputable def tl_yr (m : Nat → Nat) : Nat → Nat := va_up (tl_yr2 m) 1 (m 1 + 1)
noncomputable def tl_yrs (m : Nat → Nat) : Nat → Nat → Nat
  | 0 => m
  | k + 1 => tl_yr (tl_yrs m k)
noncomputable def tl_yrn (m : Nat → Nat) : Nat → Nat
  | 0 => 0
  | k + 1 => tl_yrn m k + (if tl_yrb (tl_yrs m k) = true then 1 else 0)
noncomputable def tl_years (m : Nat → Nat) (x : Int32) : tl_O := if tl_rng x 1 20 = true then tl_ok (tl_yrn m (tl_n x)) (tl_yrs m (tl_n x)) else tl_wr (-2)
theorem tl_swout {x : Int32} {n : Nat} (h : ∀ i, i ≤ n → ¬ x = nI i) : x.toInt < 0 ∨ (n : Int) < x.toInt := by
  apply Decidable.byContradiction
  intro q
  have h1 : tl_rng x 0 n = true := decide_eq_true (by omega)
  obtain ⟨h2, -, h3, -⟩ := tl_rng_k h1 (Int.le_refl 0)
  exact h (tl_n x) (by omega) h2
theorem tl_sub0 {a b : Nat} (ha : a < 1073741824) (hb : b < 1073741824) : (0 < nI a - nI b ↔ b < a) ∧ (nI a - nI b = 0 ↔ a = b) := by
  have e := pk_sub_toInt (a := a) (b := b) (by omega) (by omega)
  have e0 : (0 : Int32).toInt = 0 := by decide
  constructor
  · rw [Int32.lt_iff_toInt_lt, e, e0]; omega
  · constructor
    · intro q
      have := congrArg Int32.toInt q
      rw [e, e0] at this
      omega
    · intro q
      apply Int32.toInt_inj.mp
      rw [e, e0]; omega
theorem tl_neg_ne {x : Int32} {a : Nat} (h : x.toInt < 0) (ha : a < 2147483648) : ¬ nI a = x := fun q => by
  have := congrArg Int32.toInt q
  rw [nI_toInt (by omega)] at this
  omega
def tl_d : Nat → Int32
  | 0 => -1
  | k + 1 => nI k
theorem tl_dd (k : Nat) : nI k + Int32.ofInt (-1) = tl_d k := by
  cases k with
  | zero => decide
  | succ k => exact pk_m1 k
def tl_atx (m : Nat → Nat) (x : Int32) : Int32 := if x.toInt < 0 then -1 else tl_oI (tl_at m (tl_n x))
def tl_chd (m : Nat → Nat) (x : Nat) : Nat → Nat
  | 0 => 0
  | n + 1 => tl_chd m x n + (if m (14 + 7 * n + 1) = x + 1 ∨ m (14 + 7 * n + 2) = x + 1 then 1 else 0)
theorem tl_chd_le (m : Nat → Nat) (x n : Nat) : tl_chd m x n ≤ n := by
  induction n with
  | zero => exact Nat.le_refl _
  | succ n ih =>
    show tl_chd m x n + (if m (14 + 7 * n + 1) = x + 1 ∨ m (14 + 7 * n + 2) = x + 1 then 1 else 0) ≤ n + 1
    split <;> omega
def tl_mup (m : Nat → Nat) : Nat → (Nat → Nat) → Nat → Nat
  | 0, f => f
  | n + 1, f => tl_mup m n (if 0 < f n ∧ 0 < m (14 + 7 * n + 1) then va_up (va_up f (m (14 + 7 * n + 1) - 1) 1) (m (14 + 7 * n + 2) - 1) 1 else f)
def tl_m0 (b : Nat) : Nat → Nat := fun j => if j = b then 1 else 0
def tl_mu (m h : Nat → Nat) (b : Nat) : Nat → Nat := tl_mup m (b + 1) (tl_cp (tl_m0 b) h 40)
def tl_mdv (m f : Nat → Nat) (b k : Nat) : Nat := if k < m 0 ∧ 0 < m (14 + 7 * k + 1) then (if k = b ∨ 0 < f (m (14 + 7 * k + 1) - 1) ∨ 0 < f (m (14 + 7 * k + 2) - 1) then 1 else 0) else (if k = b then 1 else 0)
def tl_md (m h : Nat → Nat) (b : Nat) : Nat → Nat → Nat
  | 0 => h
  | k + 1 => va_up (tl_md m h b k) k (tl_mdv m (tl_md m h b k) b k)
def tl_any (f h : Nat → Nat) : Nat → Nat
  | 0 => 0
  | n + 1 => if 0 < tl_any f h n ∨ (0 < f n ∧ 0 < h n) then 1 else 0
def tl_sum (f : Nat → Nat) : Nat → Nat
  | 0 => 0
  | n + 1 => tl_sum f n + (if 0 < f n then 1 else 0)
theorem tl_sum_le (f : Nat → Nat) (n : Nat) : tl_sum f n ≤ n := by
  induction n with
  | zero => exact Nat.le_refl _
  | succ n ih =>
    show tl_sum f n + (if 0 < f n then 1 else 0) ≤ n + 1
    split <;> omega
def tl_apart (m : Nat → Nat) (x y : Int32) : Int32 := if tl_isb m x = true then (if tl_isb m y = true then nI (tl_ones (m (14 + 7 * tl_n x) ^^^ m (14 + 7 * tl_n y)) 8) else -1) else -1
def tl_bulbOf (m : Nat → Nat) (x y : Int32) : Int32 :=
  if tl_isb m x = true then (if y = nI 0 then nI (m (14 + 7 * tl_n x)) else if y = nI 1 then nI (tl_wor m (m (14 + 7 * tl_n x)) 8) else if y = nI 2 then tm_it (m (14 + 7 * tl_n x + 1)) else if y = nI 3 then tm_it (m (14 + 7 * tl_n x + 2)) else if y = nI 4 then nI (m (14 + 7 * tl_n x + 3)) else if y = nI 5 then nI (m (14 + 7 * tl_n x + 4)) else if y = nI 6 then nI (m (14 + 7 * tl_n x + 5)) else if y = nI 7 then nI (m (14 + 7 * tl_n x + 6)) else if y = nI 8 then nI (tl_chd m (tl_n x) (m 0)) else if y = nI 9 then nI (tl_ones (m (14 + 7 * tl_n x) ^^^ m 2) 8) else -2) else -1
theorem tl_it_s {a : Nat} (h : 0 < a) (h2 : a < 2147483648) : nI (a - 1) = tm_it a := by
  obtain ⟨k, rfl⟩ : ∃ k, a = k + 1 := ⟨a - 1, by omega⟩
  rfl
theorem tl_xor256 {a b : Nat} (ha : a < 256) (hb : b < 256) : a ^^^ b < 256 := Nat.xor_lt_two_pow (n := 8) ha hb
