/-! the bed behind a change -/
set_option maxRecDepth 100000
theorem tb_F.cg {X : xk_H} {r n : Nat} {mm m2 pp : Nat → Nat} (h : tb_F X r mm n pp) (e : ∀ k, 14 ≤ k → m2 k = mm k) : tb_F X r m2 n pp := fun i hi => by
  have h1 := h i hi
  simp only [tb_bf] at h1 ⊢
  rw [e _ (by omega), e _ (by omega), e _ (by omega), e _ (by omega), e _ (by omega), e _ (by omega), e _ (by omega)]
  exact h1
theorem tl_come_lo {m : Nat → Nat} {p mo fa ge sp j : Nat} (h0 : j ≠ 0) (h : j < 14) : tl_come m p mo fa ge sp j = m j := tl_come_ne h0 (Or.inl (by omega))
/-- one more bulb, at q -/
theorem tb_F.come {X : xk_H} {r n : Nat} {mm pp : Nat → Nat} {q p mo fa ge sp : Nat} (h : tb_F X r mm n pp) (hn : n = mm 0) (hq : X q = some ((r, 10 + n), .inr (3, [.int (nI n), .int (nI p), .int (tm_it mo), .int (tm_it fa), .int (nI (mm 1)), .int (nI ge), .int (nI sp), .int (nI 0)]))) : tb_F X r (tl_come mm p mo fa ge sp) (n + 1) (va_up pp n q) := by
  subst hn
  intro i hi
  by_cases hin : i = mm 0
  · subst hin
    obtain ⟨c0, c1, c2, c3, c4, c5, c6⟩ := tl_come_at (m := mm) (p := p) (mo := mo) (fa := fa) (ge := ge) (sp := sp)
    rw [show va_up pp (mm 0) q (mm 0) = q from if_pos rfl]
    simp only [tb_bf]
    rw [c0, c1, c2, c3, c4, c5, c6]
    exact hq
  · rw [show va_up pp (mm 0) q i = pp i from if_neg hin]
    have h1 := h i (by omega)
    simp only [tb_bf] at h1 ⊢
    rw [tl_come_ne (by omega) (by omega), tl_come_ne (by omega) (by omega), tl_come_ne (by omega) (by omega), tl_come_ne (by omega) (by omega), tl_come_ne (by omega) (by omega), tl_come_ne (by omega) (by omega), tl_come_ne (by omega) (by omega)]
    exact h1
theorem tb_come {g : xk_G} {X : xk_H} {r b w l a : Nat} {mc : Int32} {pp mm : Nat → Nat} {q p mo fa ge sp : Nat} (hb : X b = some ((r, 1), .inr (2, [.ref l, .ref w, .int (nI (mm 2)), .int (nI (mm 3)), .int (nI (mm 4)), .int (nI (mm 5)), .int (nI (mm 1))]))) (hw : X w = some ((r, 2), xk_iA g 0 8 (tl_wf mm))) (hL : tb_L g X l a (r, 3) (r, 4) mc (mm 0 + 1) (va_up pp (mm 0) q)) (hF : tb_F X r mm (mm 0) pp)
    (hq : X q = some ((r, 10 + mm 0), .inr (3, [.int (nI (mm 0)), .int (nI p), .int (tm_it mo), .int (tm_it fa), .int (nI (mm 1)), .int (nI ge), .int (nI sp), .int (nI 0)]))) : tb_B g X r b w l a mc (va_up pp (mm 0) q) (tl_come mm p mo fa ge sp) := by
  refine ⟨?_, ?_, ?_, ?_⟩
  · rw [tl_come_lo (by decide) (by decide), tl_come_lo (by decide) (by decide), tl_come_lo (by decide) (by decide), tl_come_lo (by decide) (by decide), tl_come_lo (by decide) (by decide)]
    exact hb
  · rw [tl_wf_cg (fun k hk => tl_come_lo (by omega) (by omega))]; exact hw
  · rw [tl_come_0]; exact hL
  · rw [tl_come_0]; exact hF.come rfl hq
theorem tl_seed_lt' (m : Nat → Nat) : tl_seed m < 7875 := tl_seed_lt m
theorem tl_z1 {li : Nat} (h : li ≤ 1) : nI (1 - li) = xk_z (decide (li = 0)) := by
  rcases (show li = 0 ∨ li = 1 by omega) with rfl | rfl <;> rfl
/-- a value of the bed's own -/
theorem tb_setv {g : xk_G} {X : xk_H} {r b w l a : Nat} {mc : Int32} {pp mm m2 : Nat → Nat} (hb : X b = some ((r, 1), .inr (2, [.ref l, .ref w, .int (nI (m2 2)), .int (nI (m2 3)), .int (nI (m2 4)), .int (nI (m2 5)), .int (nI (m2 1))]))) (hw : X w = some ((r, 2), xk_iA g 0 8 (tl_wf m2))) (hL : tb_L g X l a (r, 3) (r, 4) mc (mm 0) pp) (hF : tb_F X r mm (mm 0) pp)
    (e0 : m2 0 = mm 0) (e : ∀ k, 14 ≤ k → m2 k = mm k) : tb_B g X r b w l a mc pp m2 := ⟨hb, hw, by rw [e0]; exact hL, by rw [e0]; exact hF.cg e⟩
theorem tb_F.die {X X1 : xk_H} {r n i : Nat} {mm pp : Nat → Nat} (h : tb_F X r mm n pp) (hi : i < n) (hn : ∀ b, b ≠ pp i → X1 b = X b) (hq : X1 (pp i) = some ((r, 10 + i), .inr (3, [.int (nI i), .int (nI (mm (14 + 7 * i))), .int (tm_it (mm (14 + 7 * i + 1))), .int (tm_it (mm (14 + 7 * i + 2))), .int (nI (mm (14 + 7 * i + 4))), .int (nI (mm (14 + 7 * i + 5))), .int (nI (mm (14 + 7 * i + 6))), .int (nI 1)]))) : tb_F X1 r (tl_dieM mm i) n pp := by
  intro j hj
  by_cases hij : j = i
  · subst hij
    simp only [tb_bf]
    rw [tl_dieM_ne (by omega), tl_dieM_ne (by omega), tl_dieM_ne (by omega), tl_dieM_ne (by omega), tl_dieM_ne (by omega), tl_dieM_ne (by omega), show tl_dieM mm j (14 + 7 * j + 3) = 0 from if_pos rfl]
    exact hq
  · rw [hn _ (fun z => hij (h.inj hj hi z))]
    have h1 := h j hj
    simp only [tb_bf] at h1 ⊢
    rw [tl_dieM_ne (by omega), tl_dieM_ne (by omega), tl_dieM_ne (by omega), tl_dieM_ne (by omega), tl_dieM_ne (by omega), tl_dieM_ne (by omega), tl_dieM_ne (by omega)]
    exact h1
theorem tb_die {g : xk_G} {X : xk_H} {r b w l a i : Nat} {mc : Int32} {pp mm : Nat → Nat} (hb : X b = some ((r, 1), .inr (2, [.ref l, .ref w, .int (nI (mm 2)), .int (nI (mm 3)), .int (nI (mm 4)), .int (nI (mm 5)), .int (nI (mm 1))]))) (hw : X w = some ((r, 2), xk_iA g 0 8 (tl_wf mm))) (hL : tb_L g X l a (r, 3) (r, 4) mc (mm 0) pp) (hF : tb_F X r (tl_dieM mm i) (mm 0) pp) : tb_B g X r b w l a mc pp (tl_dieM mm i) := by
  have e : ∀ k, k < 14 → tl_dieM mm i k = mm k := fun k hk => tl_dieM_ne (by omega)
  refine ⟨?_, ?_, ?_, ?_⟩
  · rw [e 2 (by decide), e 3 (by decide), e 4 (by decide), e 5 (by decide), e 1 (by decide)]; exact hb
  · rw [tl_wf_cg (fun k hk => e (6 + k) (by omega))]; exact hw
  · rw [e 0 (by decide)]; exact hL
  · rw [e 0 (by decide)]; exact hF
theorem tb_weigh {g : xk_G} {X : xk_H} {r b w l a i v : Nat} {mc : Int32} {pp mm : Nat → Nat} (hi : i < 8) (hb : X b = some ((r, 1), .inr (2, [.ref l, .ref w, .int (nI (mm 2)), .int (nI (mm 3)), .int (nI (mm 4)), .int (nI (mm 5)), .int (nI (mm 1))]))) (hw : X w = some ((r, 2), xk_iA g 0 8 (va_up (tl_wf mm) i v))) (hL : tb_L g X l a (r, 3) (r, 4) mc (mm 0) pp) (hF : tb_F X r mm (mm 0) pp) : tb_B g X r b w l a mc pp (va_up mm (6 + i) v) := by
  have e : ∀ k, k ≠ 6 + i → va_up mm (6 + i) v k = mm k := fun k hk => if_neg hk
  refine tb_setv (mm := mm) ?_ ?_ hL hF (e 0 (by omega)) (fun k hk => e k (by omega))
  · rw [e 2 (by omega), e 3 (by omega), e 4 (by omega), e 5 (by omega), e 1 (by omega)]; exact hb
  · rw [← tl_wf_up hi]; exact hw
theorem tl_full40 {mm : Nat → Nat} (h : tl_fullR mm = 0) (k : mm 0 ≤ 40) : mm 0 < 40 ∧ tl_liv mm (mm 0) ≠ 12 := by
  unfold tl_fullR at h
  by_cases q : mm 0 = 40
  · rw [if_pos q] at h; cases h
  · rw [if_neg q] at h
    by_cases q2 : tl_liv mm (mm 0) = 12
    · rw [if_pos q2] at h; cases h
    · exact ⟨by omega, q2⟩
theorem tl_gc_le (n : Nat) : tl_gc n ≤ 1 := by
  by_cases h : n = tl_cap n
  · rw [show tl_gc n = 1 from if_pos h]; exact Nat.le_refl 1
  · rw [show tl_gc n = 0 from if_neg h]; omega
theorem tl_gs_le {n : Nat} (h : n ≤ 48) : tl_gs n ≤ 49 := by
  unfold tl_gs tl_cap
  repeat (first | omega | split)
