/-! what holds of the row holds behind each change; the orders in turn -/
set_option maxRecDepth 100000
theorem tl_plant_inv {m : Nat → Nat} {x : Int32} (h : tl_inv m) : tl_inv (tl_m m (tl_plant m x)) := by
  unfold tl_plant
  by_cases h1 : tl_rng x 0 255 = true
  · rw [if_pos h1]
    obtain ⟨-, -, h3, -⟩ := tl_rng_k h1 (Int.le_refl 0)
    by_cases h2 : tl_fullR m = 0
    · rw [if_pos h2]
      obtain ⟨h40, h12⟩ := tl_fullR_0 h h2
      exact tl_inv_come h h40 h12 (by omega) (Nat.zero_le _) (Nat.zero_le _) Iff.rfl (Nat.zero_le _) (Nat.zero_le _)
    · rw [if_neg h2]; exact h
  · rw [if_neg h1]; exact h
theorem tl_cross_inv {m : Nat → Nat} {x y p : Int32} (h : tl_inv m) : tl_inv (tl_m m (tl_cross m x y p)) := by
  unfold tl_cross
  by_cases h1 : tl_isb m x = true
  · rw [if_pos h1]
    by_cases h2 : tl_isb m y = true
    · rw [if_pos h2]
      by_cases h3 : tl_rng p 0 8 = true
      · rw [if_pos h3]
        by_cases h4 : tl_al m (tl_n x) = true
        · rw [if_pos h4]
          by_cases h5 : tl_al m (tl_n y) = true
          · rw [if_pos h5]
            by_cases h6 : tl_fullR m = 0
            · rw [if_pos h6]
              obtain ⟨h40, h12⟩ := tl_fullR_0 h h6
              exact tl_inv_breed h (tl_isb_k h1).2 (tl_isb_k h2).2 h40 h12
            · rw [if_neg h6]; exact h
          · rw [if_neg h5]; exact h
        · rw [if_neg h4]; exact h
      · rw [if_neg h3]; exact h
    · rw [if_neg h2]; exact h
  · rw [if_neg h1]; exact h
theorem tl_die_inv {m : Nat → Nat} {x : Int32} (h : tl_inv m) : tl_inv (tl_m m (tl_die m x)) := by
  unfold tl_die
  by_cases h1 : tl_isb m x = true
  · rw [if_pos h1]
    by_cases h2 : tl_al m (tl_n x) = true
    · rw [if_pos h2]; exact tl_inv_die h (tl_isb_k h1).2
    · rw [if_neg h2]; exact h
  · rw [if_neg h1]; exact h
theorem tl_set_inv {m : Nat → Nat} {w : Nat} {x : Int32} {lo hi : Int} (h : tl_inv m) (hlo : 0 ≤ lo) (hv : ∀ v : Nat, lo ≤ v → (v : Int) ≤ hi → tl_inv (va_up m w v)) : tl_inv (tl_m m (tl_set m w x lo hi)) := by
  unfold tl_set
  by_cases h1 : tl_rng x lo hi = true
  · rw [if_pos h1]
    obtain ⟨-, h2, h3, -⟩ := tl_rng_k h1 hlo
    by_cases h4 : m w = tl_n x
    · rw [if_pos h4]; exact h
    · rw [if_neg h4]; exact hv _ h2 h3
  · rw [if_neg h1]; exact h
theorem tl_want_inv {m : Nat → Nat} {x : Int32} (h : tl_inv m) : tl_inv (tl_m m (tl_set m 2 x 0 255)) := tl_set_inv h (by decide) fun v _ _ => tl_inv_up h (by decide) (by decide) (by omega) (by omega) (by omega) (by omega) (by omega)
theorem tl_luck_inv {m : Nat → Nat} {x : Int32} (h : tl_inv m) : tl_inv (tl_m m (tl_set m 3 x 0 100)) := tl_set_inv h (by decide) fun v _ _ => tl_inv_up h (by decide) (by decide) (by omega) (by omega) (by omega) (by omega) (by omega)
theorem tl_seed_inv {m : Nat → Nat} {x : Int32} (h : tl_inv m) : tl_inv (tl_m m (tl_set m 4 x 0 999999)) := tl_set_inv h (by decide) fun v _ _ => tl_inv_up h (by decide) (by decide) (by omega) (by omega) (by omega) (by omega) (by omega)
theorem tl_room_inv {m : Nat → Nat} {x : Int32} (h : tl_inv m) : tl_inv (tl_m m (tl_set m 5 x 2 12)) := tl_set_inv h (by decide) fun v _ _ => tl_inv_up h (by decide) (by decide) (by omega) (by omega) (by omega) (by omega) (by omega)
theorem tl_heavy_inv {m : Nat → Nat} {x y : Int32} (h : tl_inv m) : tl_inv (tl_m m (tl_heavy m x y)) := by
  unfold tl_heavy
  by_cases h1 : tl_rng x 0 7 = true
  · rw [if_pos h1]
    obtain ⟨-, -, h3, -⟩ := tl_rng_k h1 (Int.le_refl 0)
    exact tl_set_inv h (by decide) fun v _ _ => tl_inv_up h (by omega) (by omega) (by omega) (by omega) (by omega) (by omega) (by omega)
  · rw [if_neg h1]; exact h
theorem tl_years_inv {m : Nat → Nat} {x : Int32} (h : tl_inv m) : tl_inv (tl_m m (tl_years m x)) := by
  unfold tl_years
  by_cases h1 : tl_rng x 1 20 = true
  · rw [if_pos h1]; exact tl_yrs_inv h _
  · rw [if_neg h1]; exact h
theorem tl_does_inv {m : Nat → Nat} {c a b d : Nat} (h : tl_inv m) : tl_inv (tl_m m (tl_does m c a b d)) := by
  unfold tl_does
  by_cases h1 : c = 112
  · rw [if_pos h1]; exact tl_plant_inv h
  rw [if_neg h1]
  by_cases h2 : c = 120
  · rw [if_pos h2]; exact tl_cross_inv h
  rw [if_neg h2]
  by_cases h3 : c = 100
  · rw [if_pos h3]; exact tl_die_inv h
  rw [if_neg h3]
  by_cases h4 : c = 119
  · rw [if_pos h4]; exact tl_want_inv h
  rw [if_neg h4]
  by_cases h5 : c = 108
  · rw [if_pos h5]; exact tl_luck_inv h
  rw [if_neg h5]
  by_cases h6 : c = 114
  · rw [if_pos h6]; exact tl_room_inv h
  rw [if_neg h6]
  by_cases h7 : c = 121
  · rw [if_pos h7]; exact tl_years_inv h
  rw [if_neg h7]
  exact tl_heavy_inv h
/-- n orders in turn from the i-th on: the place where it ended, the row, the failure if there was one -/
noncomputable def tl_do1 (O : Nat → Nat) (i : Nat) (m : Nat → Nat) : tl_O := tl_does m (O (4 * i)) (O (4 * i + 1)) (O (4 * i + 2)) (O (4 * i + 3))
noncomputable def tl_rn (O : Nat → Nat) : Nat → Nat → (Nat → Nat) → Nat × (Nat → Nat) × Option tl_O
  | 0, i, m => (i, m, none)
  | n + 1, i, m => if tl_is (tl_do1 O i m) = true then tl_rn O n (i + 1) (tl_m m (tl_do1 O i m)) else (i, m, some (tl_do1 O i m))
theorem tl_rn_inv {O : Nat → Nat} (n : Nat) {i : Nat} {m : Nat → Nat} (h : tl_inv m) : tl_inv (tl_rn O n i m).2.1 := by
  induction n generalizing i m with
  | zero => exact h
  | succ n ih =>
    unfold tl_rn
    split
    · exact ih (tl_does_inv h)
    · exact h
theorem tl_does_okc {m : Nat → Nat} {c a b d : Nat} (h : tl_inv m) : tl_okc (tl_does m c a b d) := by
  have k0 := h.2.2.1
  have k1 := h.2.2.2.1
  have k2 := h.2.2.2.2.2.2.1
  unfold tl_does
  by_cases h1 : c = 112
  · rw [if_pos h1]; exact tl_plant_okc h _
  rw [if_neg h1]
  by_cases h2 : c = 120
  · rw [if_pos h2]; exact tl_cross_okc h _ _ _
  rw [if_neg h2]
  by_cases h3 : c = 100
  · rw [if_pos h3]; exact tl_die_okc h _
  rw [if_neg h3]
  by_cases h4 : c = 119
  · rw [if_pos h4]; exact tl_set_okc (by omega) _ _ _
  rw [if_neg h4]
  by_cases h5 : c = 108
  · rw [if_pos h5]; exact tl_set_okc (by omega) _ _ _
  rw [if_neg h5]
  by_cases h6 : c = 114
  · rw [if_pos h6]; exact tl_set_okc (by omega) _ _ _
  rw [if_neg h6]
  by_cases h7 : c = 121
  · rw [if_pos h7]; exact tl_years_okc _ _
  rw [if_neg h7]
  exact tl_heavy_okc h _ _
/-- an answer's sign tells whether the change came about -/
theorem tl_is_r {O : tl_O} (h : tl_okc O) : tl_is O = true ↔ ¬ tl_r O < 0 := by
  rcases O with x | c | x
  · exact ⟨fun _ => nI_pos (show x.1 < 2147483648 from h), fun _ => rfl⟩
  · have hc : c < 0 := h
    exact ⟨fun z => absurd (show false = true from z) (by decide), fun z => absurd hc z⟩
  · exact ⟨fun z => absurd (show false = true from z) (by decide), fun z => absurd (show (-3 : Int32) < 0 by decide) z⟩
theorem tl_S_is {O : tl_O} (h : tl_is O = true) (S : Nat → Nat) : tl_S S O = S := by
  rcases O with x | c | x
  · rfl
  · exact absurd (show false = true from h) (by decide)
  · exact absurd (show false = true from h) (by decide)
theorem tl_m_not {O : tl_O} (h : ¬ tl_is O = true) (m : Nat → Nat) : tl_m m O = m := by
  rcases O with x | c | x
  · exact absurd rfl h
  · rfl
  · rfl
/-- the whole reading, by its parse P and the orders' end N: answer, arrays, scalars -/
noncomputable def tl_rdR (P : tl_P) (N : Nat × (Nat → Nat) × Option tl_O) : Int32 := if P.w = 0 then (match N.2.2 with | none => nI P.om | some F => if tl_r F = -3 then -3 else -2) else -100 - nI P.pl
noncomputable def tl_rdA (A : Nat → Nat → Nat) (S : Nat → Nat) (P : tl_P) (N : Nat × (Nat → Nat) × Option tl_O) : Nat → Nat → Nat := if P.w = 0 then (match N.2.2 with | none => va_up (va_up (va_up (va_up A 0 N.2.1) 1 (tl_cp (A 0) (A 1) 294)) 4 (tl_pst true (S 1) (A 4) (tl_cp (A 0) (A 1) 294))) 9 P.O | some _ => va_up (va_up (va_up A 0 (tl_cp (tl_cp (A 0) (A 1) 294) N.2.1 294)) 1 (tl_cp (A 0) (A 1) 294)) 9 P.O) else va_up (va_up A 1 (tl_cp (A 0) (A 1) 294)) 9 P.O
noncomputable def tl_rdS0 (S : Nat → Nat) (P : tl_P) : Nat → Nat := va_up (va_up (va_up (va_up (va_up S 5 0) 7 P.om) 8 P.pl) 9 (S 5)) 10 P.w
noncomputable def tl_rdS (S : Nat → Nat) (P : tl_P) (N : Nat × (Nat → Nat) × Option tl_O) : Nat → Nat := if P.w = 0 then (match N.2.2 with | none => va_up (tl_rdS0 S P) 1 (tl_chn true (S 1)) | some F => if tl_r F = -3 then va_up (tl_S (tl_rdS0 S P) F) 4 (N.1 + 1) else tl_S (tl_rdS0 S P) F) else tl_rdS0 S P
section RD
variable {A : Nat → Nat → Nat} {S : Nat → Nat} {om pl w i : Nat} {O m : Nat → Nat} {F : tl_O} {N : Nat × (Nat → Nat) × Option tl_O}
theorem tl_rdR_w (h : ¬ w = 0) : tl_rdR (om, pl, w, O) N = -100 - nI pl := if_neg h
theorem tl_rdR_n (h : w = 0) : tl_rdR (om, pl, w, O) (i, m, none) = nI om := if_pos h
theorem tl_rdR_3 (h : w = 0) (h3 : tl_r F = -3) : tl_rdR (om, pl, w, O) (i, m, some F) = -3 := (if_pos h).trans (if_pos h3)
theorem tl_rdR_2 (h : w = 0) (h3 : ¬ tl_r F = -3) : tl_rdR (om, pl, w, O) (i, m, some F) = -2 := (if_pos h).trans (if_neg h3)
theorem tl_rdA_w (h : ¬ w = 0) : tl_rdA A S (om, pl, w, O) N = va_up (va_up A 1 (tl_cp (A 0) (A 1) 294)) 9 O := if_neg h
theorem tl_rdA_n (h : w = 0) : tl_rdA A S (om, pl, w, O) (i, m, none) = va_up (va_up (va_up (va_up A 0 m) 1 (tl_cp (A 0) (A 1) 294)) 4 (tl_pst true (S 1) (A 4) (tl_cp (A 0) (A 1) 294))) 9 O := if_pos h
theorem tl_rdA_f (h : w = 0) : tl_rdA A S (om, pl, w, O) (i, m, some F) = va_up (va_up (va_up A 0 (tl_cp (tl_cp (A 0) (A 1) 294) m 294)) 1 (tl_cp (A 0) (A 1) 294)) 9 O := if_pos h
theorem tl_rdS_w (h : ¬ w = 0) : tl_rdS S (om, pl, w, O) N = tl_rdS0 S (om, pl, w, O) := if_neg h
theorem tl_rdS_n (h : w = 0) : tl_rdS S (om, pl, w, O) (i, m, none) = va_up (tl_rdS0 S (om, pl, w, O)) 1 (tl_chn true (S 1)) := if_pos h
theorem tl_rdS_3 (h : w = 0) (h3 : tl_r F = -3) : tl_rdS S (om, pl, w, O) (i, m, some F) = va_up (tl_S (tl_rdS0 S (om, pl, w, O)) F) 4 (i + 1) := (if_pos h).trans (if_pos h3)
theorem tl_rdS_2 (h : w = 0) (h3 : ¬ tl_r F = -3) : tl_rdS S (om, pl, w, O) (i, m, some F) = tl_S (tl_rdS0 S (om, pl, w, O)) F := (if_pos h).trans (if_neg h3)
end RD
