/-! a whole text of orders: the parse -/
set_option maxRecDepth 100000
theorem tl_nm_g {t : Nat → Nat} {z : Nat} (f w v pl : Nat) : pl ≤ (tl_nm t z f w v pl).2 := by
  induction f generalizing v pl with
  | zero => exact Nat.le_refl _
  | succ f ih =>
    show pl ≤ (if w = 0 ∧ tl_isd (tl_hc t z pl) = true then tl_nm t z f w (10 * v + (tl_hc t z pl - 49)) (pl + 1) else (v, pl)).2
    by_cases h2 : w = 0 ∧ tl_isd (tl_hc t z pl) = true
    · rw [if_pos h2]
      exact Nat.le_trans (Nat.le_succ _) (ih _ _)
    · rw [if_neg h2]; exact Nat.le_refl _
theorem tl_stp_g (w pl : Nat) : pl ≤ tl_stp w pl := by unfold tl_stp; split <;> omega
theorem tl_sN_g {t : Nat → Nat} {z mo : Nat} {s : Nat × Nat} : s.2 ≤ (tl_sN t z mo s).2 := Nat.le_trans (tl_stp_g _ _) (tl_nm_g _ _ _ _)
theorem tl_sE_g {t : Nat → Nat} {z c : Nat} {s : Nat × Nat} : s.2 ≤ (tl_sE t z c s).2 := tl_stp_g _ _
theorem tl_sD_g {t : Nat → Nat} {z : Nat} {s : Nat × Nat} : s.2 ≤ (tl_sD t z s).2 := tl_stp_g _ _
theorem tl_sN_z {t : Nat → Nat} {z mo : Nat} {s : Nat × Nat} (h : s.2 ≤ z) : (tl_sN t z mo s).2 ≤ z := tl_num_z h
theorem tl_sE_z {t : Nat → Nat} {z c : Nat} {s : Nat × Nat} (h : s.2 ≤ z) : (tl_sE t z c s).2 ≤ z := tl_exw_z h
theorem tl_sD_z {t : Nat → Nat} {z : Nat} {s : Nat × Nat} (h : s.2 ≤ z) : (tl_sD t z s).2 ≤ z := tl_dgw_z h
theorem tl_oS_l {t : Nat → Nat} {z pl h : Nat} : (tl_oS t z pl h).1 ≤ 1 := by
  unfold tl_oS
  split
  · exact tl_dgw_le _ _ _ _
  · split
    · exact tl_dgw_le _ _ _ _
    · split
      · exact tl_dgw_le _ _ _ _
      · exact tl_dgw_le _ _ _ _
theorem tl_oS_z {t : Nat → Nat} {z pl h : Nat} (hz : pl + 1 ≤ z) : (tl_oS t z pl h).2 ≤ z := by
  unfold tl_oS
  split
  · exact tl_sD_z (tl_sE_z (tl_sN_z (tl_sE_z (tl_sN_z hz))))
  · split
    · exact tl_sN_z hz
    · split
      · exact tl_sD_z (tl_sE_z (tl_sD_z hz))
      · exact tl_sN_z hz
theorem tl_oS_g {t : Nat → Nat} {z pl h : Nat} : pl + 1 ≤ (tl_oS t z pl h).2 := by
  unfold tl_oS
  split
  · exact Nat.le_trans (Nat.le_trans (Nat.le_trans (Nat.le_trans (tl_sN_g (t := t) (z := z) (mo := 2) (s := (0, pl + 1))) tl_sE_g) tl_sN_g) tl_sE_g) tl_sD_g
  · split
    · exact tl_sN_g (s := (0, pl + 1))
    · split
      · exact Nat.le_trans (Nat.le_trans (tl_sD_g (t := t) (z := z) (s := (0, pl + 1))) tl_sE_g) tl_sD_g
      · exact tl_sN_g (s := (0, pl + 1))
/-- the parse's state: orders read, place, wrong, the orders -/
abbrev tl_P : Type := Nat × Nat × Nat × (Nat → Nat)
abbrev tl_P.om (P : tl_P) : Nat := P.1
abbrev tl_P.pl (P : tl_P) : Nat := P.2.1
abbrev tl_P.w (P : tl_P) : Nat := P.2.2.1
abbrev tl_P.O (P : tl_P) : Nat → Nat := P.2.2.2
def tl_rd (t : Nat → Nat) (z : Nat) (P : tl_P) : tl_P :=
  ⟨if tl_isl (tl_hc t z P.pl) = true then P.om + 1 else P.om, if tl_isl (tl_hc t z P.pl) = true then (tl_oS t z P.pl (tl_hc t z P.pl)).2 else P.pl, if tl_isl (tl_hc t z P.pl) = true then (tl_oS t z P.pl (tl_hc t z P.pl)).1 else 1, if tl_isl (tl_hc t z P.pl) = true then tl_oA t z P.om P.pl (tl_hc t z P.pl) P.O else P.O⟩
def tl_ex (t : Nat → Nat) (z c : Nat) (P : tl_P) : tl_P := ⟨P.om, tl_stp (tl_exw t z P.w P.pl c) P.pl, tl_exw t z P.w P.pl c, P.O⟩
def tl_ps (t : Nat → Nat) (z : Nat) : Nat → tl_P → tl_P
  | 0, P => P
  | n + 1, P => if (tl_rd t z P).w = 0 ∧ (tl_rd t z P).pl < z then (if (tl_ex t z 59 (tl_rd t z P)).w = 0 then tl_ps t z n (tl_ex t z 59 (tl_rd t z P)) else tl_ex t z 59 (tl_rd t z P)) else tl_rd t z P
def tl_let (c : Nat) : Prop := c = 112 ∨ c = 120 ∨ c = 100 ∨ c = 119 ∨ c = 108 ∨ c = 114 ∨ c = 121 ∨ c = 104
/-- what holds of the parse's state at all times -/
def tl_Pk (z : Nat) (P : tl_P) : Prop := P.om ≤ P.pl ∧ P.pl ≤ z ∧ P.w ≤ 1 ∧ ∀ i, i < P.om → tl_let (P.O (4 * i))
theorem tl_oA_old {t : Nat → Nat} {z om pl h : Nat} {O : Nat → Nat} {i : Nat} (hi : i < om) : tl_oA t z om pl h O (4 * i) = O (4 * i) := by
  unfold tl_oA
  split
  · simp only [va_up]; repeat rw [if_neg (by omega)]
  · split
    · simp only [va_up]; repeat rw [if_neg (by omega)]
    · split <;> (simp only [va_up]; repeat rw [if_neg (by omega)])
theorem tl_oA_new {t : Nat → Nat} {z om pl h : Nat} {O : Nat → Nat} : tl_oA t z om pl h O (4 * om) = h - 1 := by
  unfold tl_oA
  split
  · simp [va_up]
  · split
    · simp [va_up]
    · split <;> simp [va_up]
theorem tl_rd_k {t : Nat → Nat} {z : Nat} {P : tl_P} (h : tl_Pk z P) : tl_Pk z (tl_rd t z P) ∧ P.pl ≤ (tl_rd t z P).pl ∧ ((tl_rd t z P).w = 0 → P.pl + 1 ≤ (tl_rd t z P).pl) := by
  obtain ⟨om, pl, w, O⟩ := P
  obtain ⟨h1, h2, h3, h4⟩ := h
  have h1 : om ≤ pl := h1
  have h2 : pl ≤ z := h2
  have h4 : ∀ i, i < om → tl_let (O (4 * i)) := h4
  by_cases hl : tl_isl (tl_hc t z pl) = true
  · have hs := of_decide_eq_true hl
    have hz := tl_hc_z (t := t) (z := z) (pl := pl) (by omega)
    have hg := tl_oS_g (t := t) (z := z) (pl := pl) (h := tl_hc t z pl)
    have hzz := tl_oS_z (t := t) (z := z) (pl := pl) (h := tl_hc t z pl) (by omega)
    have hll := tl_oS_l (t := t) (z := z) (pl := pl) (h := tl_hc t z pl)
    have e : tl_rd t z (om, pl, w, O) = (om + 1, (tl_oS t z pl (tl_hc t z pl)).2, (tl_oS t z pl (tl_hc t z pl)).1, tl_oA t z om pl (tl_hc t z pl) O) := by
      simp only [tl_rd, tl_P.om, tl_P.pl, tl_P.w, tl_P.O, if_pos hl]
    rw [e]
    refine ⟨⟨show om + 1 ≤ (tl_oS t z pl (tl_hc t z pl)).2 by omega, hzz, hll, fun i hi => ?_⟩, Nat.le_trans (Nat.le_succ _) hg, fun _ => hg⟩
    have hi : i < om + 1 := hi
    show tl_let (tl_oA t z om pl (tl_hc t z pl) O (4 * i))
    by_cases hio : i = om
    · subst hio
      rw [tl_oA_new]
      unfold tl_let
      omega
    · rw [tl_oA_old (by omega)]
      exact h4 i (by omega)
  · have e : tl_rd t z (om, pl, w, O) = (om, pl, 1, O) := by
      simp only [tl_rd, tl_P.om, tl_P.pl, tl_P.w, tl_P.O, if_neg hl]
    rw [e]
    exact ⟨⟨h1, h2, Nat.le_refl 1, h4⟩, Nat.le_refl _, fun hh => absurd (show (1 : Nat) = 0 from hh) (by decide)⟩
theorem tl_ex_k {t : Nat → Nat} {z c : Nat} {P : tl_P} (h : tl_Pk z P) : tl_Pk z (tl_ex t z c P) ∧ P.pl ≤ (tl_ex t z c P).pl := by
  obtain ⟨h1, h2, h3, h4⟩ := h
  have hg := tl_stp_g (tl_exw t z P.w P.pl c) P.pl
  exact ⟨⟨Nat.le_trans h1 hg, tl_exw_z h2, tl_exw_le _ _ _ _ _, h4⟩, hg⟩
theorem tl_ps_k {t : Nat → Nat} {z : Nat} (n : Nat) {P : tl_P} (h : tl_Pk z P) : tl_Pk z (tl_ps t z n P) := by
  induction n generalizing P with
  | zero => exact h
  | succ n ih =>
    have h1 := (tl_rd_k (t := t) h).1
    have h2 := (tl_ex_k (t := t) (c := 59) h1).1
    unfold tl_ps
    split
    · split
      · exact ih h2
      · exact h2
    · exact h1
