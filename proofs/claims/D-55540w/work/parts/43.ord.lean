/-! the order of those that live, as an insertion makes it; 'at' is its reading -/
set_option maxRecDepth 100000
def tl_ins (m : Nat → Nat) (b : Nat) : List Nat → List Nat
  | [] => [b]
  | o :: l => if tl_ahd m o b = true then o :: tl_ins m b l else b :: o :: l
def tl_ord (m : Nat → Nat) : Nat → List Nat
  | 0 => []
  | k + 1 => if tl_al m k = true then tl_ins m k (tl_ord m k) else tl_ord m k
theorem tl_ahd_iff (m : Nat → Nat) (o b : Nat) : tl_ahd m o b = true ↔ (tl_wor m (m (14 + 7 * b)) 8 < tl_wor m (m (14 + 7 * o)) 8 ∨ (tl_wor m (m (14 + 7 * o)) 8 = tl_wor m (m (14 + 7 * b)) 8 ∧ b < o)) := decide_eq_true_iff
theorem tl_ahd_tr {m : Nat → Nat} {a b c : Nat} (h : tl_ahd m a b = true) (h2 : tl_ahd m b c = true) : tl_ahd m a c = true := by
  rw [tl_ahd_iff] at *
  omega
theorem tl_ahd_as {m : Nat → Nat} {a b : Nat} (h : tl_ahd m a b = true) : ¬ tl_ahd m b a = true := by
  rw [tl_ahd_iff] at *
  omega
theorem tl_ahd_tot {m : Nat → Nat} {a b : Nat} (h : ¬ tl_ahd m a b = true) (hn : a ≠ b) : tl_ahd m b a = true := by
  rw [tl_ahd_iff] at *
  omega
theorem tl_ins_mem {m : Nat → Nat} {b x : Nat} {l : List Nat} : x ∈ tl_ins m b l ↔ x = b ∨ x ∈ l := by
  induction l with
  | nil => simp [tl_ins]
  | cons o l ih =>
    simp only [tl_ins]
    split
    · simp only [List.mem_cons, ih]
      constructor
      · rintro (h | h | h)
        · exact Or.inr (Or.inl h)
        · exact Or.inl h
        · exact Or.inr (Or.inr h)
      · rintro (h | h | h)
        · exact Or.inr (Or.inl h)
        · exact Or.inl h
        · exact Or.inr (Or.inr h)
    · simp only [List.mem_cons]
theorem tl_ord_mem {m : Nat → Nat} {x k : Nat} : x ∈ tl_ord m k ↔ x < k ∧ tl_al m x = true := by
  induction k with
  | zero => simp [tl_ord]
  | succ k ih =>
    simp only [tl_ord]
    split
    · rename_i h
      rw [tl_ins_mem, ih]
      constructor
      · rintro (rfl | ⟨h1, h2⟩)
        · exact ⟨by omega, h⟩
        · exact ⟨by omega, h2⟩
      · rintro ⟨h1, h2⟩
        by_cases hx : x = k
        · exact Or.inl hx
        · exact Or.inr ⟨by omega, h2⟩
    · rename_i h
      rw [ih]
      constructor
      · rintro ⟨h1, h2⟩
        exact ⟨by omega, h2⟩
      · rintro ⟨h1, h2⟩
        refine ⟨?_, h2⟩
        by_cases hx : x = k
        · subst hx; exact absurd h2 h
        · omega
theorem tl_ins_pw {m : Nat → Nat} {b : Nat} {l : List Nat} (h : l.Pairwise (fun a c => tl_ahd m a c = true)) (hb : b ∉ l) : (tl_ins m b l).Pairwise (fun a c => tl_ahd m a c = true) := by
  induction l with
  | nil => simp [tl_ins]
  | cons o l ih =>
    rw [List.pairwise_cons] at h
    simp only [List.mem_cons, not_or] at hb
    simp only [tl_ins]
    split
    · rename_i ho
      rw [List.pairwise_cons]
      refine ⟨fun x hx => ?_, ih h.2 hb.2⟩
      rcases tl_ins_mem.mp hx with rfl | hx
      · exact ho
      · exact h.1 x hx
    · rename_i ho
      have hbo := tl_ahd_tot ho (fun q => hb.1 q.symm)
      rw [List.pairwise_cons, List.pairwise_cons]
      refine ⟨fun x hx => ?_, h⟩
      rcases List.mem_cons.mp hx with rfl | hx
      · exact hbo
      · exact tl_ahd_tr hbo (h.1 x hx)
theorem tl_ord_pw {m : Nat → Nat} (k : Nat) : (tl_ord m k).Pairwise (fun a c => tl_ahd m a c = true) := by
  induction k with
  | zero => simp [tl_ord]
  | succ k ih =>
    simp only [tl_ord]
    split
    · exact tl_ins_pw ih (fun q => by have := tl_ord_mem.mp q; omega)
    · exact ih
theorem tl_ins_cnt {m : Nat → Nat} {b : Nat} {p : Nat → Bool} {l : List Nat} : (tl_ins m b l).countP p = l.countP p + (if p b = true then 1 else 0) := by
  induction l with
  | nil => simp [tl_ins, List.countP_cons]
  | cons o l ih =>
    simp only [tl_ins]
    split
    · rw [List.countP_cons, List.countP_cons, ih]; omega
    · rw [List.countP_cons]
theorem tl_ins_len {m : Nat → Nat} {b : Nat} {l : List Nat} : (tl_ins m b l).length = l.length + 1 := by
  induction l with
  | nil => rfl
  | cons o l ih =>
    simp only [tl_ins]
    split
    · rw [List.length_cons, List.length_cons, ih]
    · rfl
theorem tl_ord_cnt {m : Nat → Nat} {b : Nat} (k : Nat) : (tl_ord m k).countP (fun o => tl_ahd m o b) = tl_cnt m b k := by
  induction k with
  | zero => rfl
  | succ k ih =>
    simp only [tl_ord, tl_cnt]
    by_cases h : tl_al m k = true
    · rw [if_pos h, tl_ins_cnt, ih]
      by_cases h2 : tl_ahd m k b = true
      · rw [if_pos h2, if_pos ⟨h, h2⟩]
      · rw [if_neg h2, if_neg (fun z => h2 z.2)]
    · rw [if_neg h, ih, if_neg (fun z => h z.1)]; rfl
theorem tl_al_liv {m : Nat → Nat} {b : Nat} (h : m (14 + 7 * b + 3) ≤ 1) : (if tl_al m b = true then 1 else 0) = m (14 + 7 * b + 3) := by
  by_cases h1 : m (14 + 7 * b + 3) = 1
  · rw [if_pos (show tl_al m b = true from decide_eq_true h1), h1]
  · rw [if_neg (show ¬ tl_al m b = true from fun z => h1 (of_decide_eq_true z))]
    omega
theorem tl_ord_len {m : Nat → Nat} {k : Nat} (h : ∀ b, b < k → m (14 + 7 * b + 3) ≤ 1) : (tl_ord m k).length = tl_liv m k := by
  induction k with
  | zero => rfl
  | succ k ih =>
    have e := tl_al_liv (h k (by omega))
    have i := ih (fun b hb => h b (by omega))
    simp only [tl_ord, tl_liv]
    by_cases h1 : tl_al m k = true
    · rw [if_pos h1] at e ⊢
      rw [tl_ins_len, i, ← e]
    · rw [if_neg h1] at e ⊢
      rw [i, ← e]; rfl
theorem tl_pw_cnt {m : Nat → Nat} {l : List Nat} (h : l.Pairwise (fun a c => tl_ahd m a c = true)) : ∀ (j b : Nat), l[j]? = some b → l.countP (fun o => tl_ahd m o b) = j := by
  induction l with
  | nil => intro j b hj; simp at hj
  | cons x l ih =>
    rw [List.pairwise_cons] at h
    intro j b hj
    cases j with
    | zero =>
      simp only [List.getElem?_cons_zero, Option.some.injEq] at hj
      subst hj
      rw [List.countP_cons, if_neg (fun q => tl_ahd_as q q)]
      rw [Nat.add_zero, List.countP_eq_zero]
      exact fun o ho q => tl_ahd_as (h.1 o ho) q
    | succ j =>
      rw [List.getElem?_cons_succ] at hj
      rw [List.countP_cons, if_pos (h.1 b (List.mem_of_getElem? hj)), ih h.2 j b hj]
theorem tl_find_spec {m : Nat → Nat} {pl : Nat} : ∀ (n b : Nat), (∀ x, tl_find m pl n b = some x → b ≤ x ∧ x < b + n ∧ tl_al m x = true ∧ tl_cnt m x (m 0) = pl) ∧ (tl_find m pl n b = none → ∀ x, b ≤ x → x < b + n → ¬ (tl_al m x = true ∧ tl_cnt m x (m 0) = pl)) := by
  intro n
  induction n with
  | zero =>
    intro b
    exact ⟨fun x h => (by cases h), fun _ x h1 h2 => (by omega)⟩
  | succ n ih =>
    intro b
    simp only [tl_find]
    by_cases h : tl_al m b = true ∧ tl_cnt m b (m 0) = pl
    · rw [if_pos h]
      exact ⟨fun x hx => (by cases hx; exact ⟨by omega, by omega, h.1, h.2⟩), fun q => (by cases q)⟩
    · rw [if_neg h]
      obtain ⟨i1, i2⟩ := ih (b + 1)
      refine ⟨fun x hx => ?_, fun hn x h1 h2 => ?_⟩
      · obtain ⟨q1, q2, q3, q4⟩ := i1 x hx
        exact ⟨by omega, by omega, q3, q4⟩
      · by_cases hx : x = b
        · subst hx; exact h
        · exact i2 hn x (by omega) (by omega)
/-- 'at' reads the order -/
theorem tl_at_ord (m : Nat → Nat) (pl : Nat) : tl_at m pl = (tl_ord m (m 0))[pl]? := by
  obtain ⟨i1, i2⟩ := tl_find_spec (m := m) (pl := pl) (m 0) 0
  have key : ∀ x, x < m 0 → tl_al m x = true → (tl_ord m (m 0))[tl_cnt m x (m 0)]? = some x := by
    intro x hx ha
    obtain ⟨j, hj⟩ := List.getElem?_of_mem (tl_ord_mem.mpr ⟨hx, ha⟩)
    have := tl_pw_cnt (tl_ord_pw (m := m) (m 0)) j x hj
    rw [tl_ord_cnt] at this
    rw [this]; exact hj
  unfold tl_at
  cases hf : tl_find m pl (m 0) 0 with
  | some x =>
    obtain ⟨q1, q2, q3, q4⟩ := i1 x hf
    rw [← q4]
    exact (key x (by omega) q3).symm
  | none =>
    cases ho : (tl_ord m (m 0))[pl]? with
    | none => rfl
    | some x =>
      obtain ⟨q1, q2⟩ := tl_ord_mem.mp (List.mem_of_getElem? ho)
      have := tl_pw_cnt (tl_ord_pw (m := m) (m 0)) pl x ho
      rw [tl_ord_cnt] at this
      exact absurd ⟨q2, this⟩ (i2 hf x (by omega) (by omega))
theorem tl_at_some {m : Nat → Nat} {pl : Nat} (hk : ∀ b, b < m 0 → m (14 + 7 * b + 3) ≤ 1) (h : pl < tl_liv m (m 0)) : tl_at m pl = some (tl_atN m pl) ∧ tl_atN m pl < m 0 ∧ tl_al m (tl_atN m pl) = true := by
  have hl := tl_ord_len (k := m 0) hk
  have e := tl_at_ord m pl
  have h1 : (tl_ord m (m 0))[pl]? = some ((tl_ord m (m 0))[pl]'(by omega)) := List.getElem?_eq_getElem (by omega)
  rw [h1] at e
  have e2 : tl_atN m pl = (tl_ord m (m 0))[pl]'(by omega) := by
    unfold tl_atN
    rw [e]; rfl
  obtain ⟨q1, q2⟩ := tl_ord_mem.mp (List.mem_of_getElem? h1)
  rw [e2]
  exact ⟨e, q1, q2⟩
theorem tl_liv_die1 {m : Nat → Nat} {b n : Nat} (hb : b < n) (ha : tl_al m b = true) : tl_liv (tl_dieM m b) n + 1 = tl_liv m n := by
  induction n with
  | zero => omega
  | succ n ih =>
    have h1 : m (14 + 7 * b + 3) = 1 := of_decide_eq_true ha
    by_cases hn : b = n
    · subst hn
      show tl_liv (tl_dieM m b) b + tl_dieM m b (14 + 7 * b + 3) + 1 = tl_liv m b + m (14 + 7 * b + 3)
      rw [tl_liv_ext (m := m) (fun c hc => tl_dieM_ne (by omega)), h1, show tl_dieM m b (14 + 7 * b + 3) = 0 from tl_us]
    · have := ih (by omega)
      show tl_liv (tl_dieM m b) n + tl_dieM m b (14 + 7 * n + 3) + 1 = tl_liv m n + m (14 + 7 * n + 3)
      rw [tl_dieM_ne (by omega)]
      omega
theorem tl_cut_s {f : Nat → Nat} {r n : Nat} (h : r < n) : tl_cut f r n = tl_cut (tl_dieM f (tl_atN f (n - 1))) r (n - 1) := by
  obtain ⟨k, rfl⟩ : ∃ k, n = k + 1 := ⟨n - 1, by omega⟩
  rw [Nat.add_sub_cancel]
  show (if r ≤ k then tl_cut (tl_dieM f (tl_atN f k)) r k else f) = _
  rw [if_pos (by omega)]
theorem tl_cut_e {f : Nat → Nat} {r n : Nat} (h : n ≤ r) : tl_cut f r n = f := by
  cases n with
  | zero => rfl
  | succ k =>
    show (if r ≤ k then tl_cut (tl_dieM f (tl_atN f k)) r k else f) = _
    rw [if_neg (by omega)]
theorem tl_inv_liv {m : Nat → Nat} (h : tl_inv m) : ∀ b, b < m 0 → m (14 + 7 * b + 3) ≤ 1 := fun b hb => (h.2.1 b hb).2.2.2.2.1
theorem tl_cut_inv {f : Nat → Nat} {r n : Nat} (h : tl_inv f) (hn : n = tl_liv f (f 0)) : tl_inv (tl_cut f r n) ∧ (∀ j, j < 14 → tl_cut f r n j = f j) := by
  induction n generalizing f with
  | zero => exact ⟨h, fun _ _ => rfl⟩
  | succ k ih =>
    show tl_inv (if r ≤ k then tl_cut (tl_dieM f (tl_atN f k)) r k else f) ∧ ∀ j, j < 14 → (if r ≤ k then tl_cut (tl_dieM f (tl_atN f k)) r k else f) j = f j
    by_cases hr : r ≤ k
    · rw [if_pos hr]
      obtain ⟨h1, h2, h3⟩ := tl_at_some (pl := k) (tl_inv_liv h) (by omega)
      have e0 : tl_dieM f (tl_atN f k) 0 = f 0 := tl_dieM_ne (by omega)
      have := tl_liv_die1 h2 h3
      obtain ⟨i1, i2⟩ := ih (tl_inv_die h h2) (by rw [e0]; omega)
      exact ⟨i1, fun j hj => (i2 j hj).trans (tl_dieM_ne (by omega))⟩
    · rw [if_neg hr]
      exact ⟨h, fun _ _ => rfl⟩
theorem tl_breed_lo {m : Nat → Nat} {a b k j : Nat} (hj : j < 14) (h0 : j ≠ 0) (h4 : j ≠ 4) : tl_breed m a b k j = m j := by
  unfold tl_breed
  rw [tl_come_ne h0 (by omega), tl_brM_ne h4]
theorem tl_yr1_inv {m : Nat → Nat} (h : tl_inv m) : tl_inv (tl_yr1 m) := by
  unfold tl_yr1
  by_cases hb : tl_yrb m = true
  · rw [if_pos hb]
    obtain ⟨h1, h2, h3⟩ : 2 ≤ tl_liv m (m 0) ∧ tl_liv m (m 0) < 12 ∧ m 0 < 40 := of_decide_eq_true hb
    have a0 := tl_at_some (pl := 0) (tl_inv_liv h) (by omega)
    have a1 := tl_at_some (pl := 1) (tl_inv_liv h) (by omega)
    have e0 : tl_draw m 0 = m 0 := tl_draw_ne (by decide)
    exact tl_inv_breed (tl_inv_draw h) (by rw [e0]; exact a0.2.1) (by rw [e0]; exact a1.2.1) (by rw [e0]; exact h3) (by rw [e0, tl_liv_ext (m := m) (fun b _ => tl_draw_ne (by omega))]; exact h2)
  · rw [if_neg hb]
    exact h
theorem tl_yr1_lo {m : Nat → Nat} {j : Nat} (hj : j < 14) (h0 : j ≠ 0) (h4 : j ≠ 4) : tl_yr1 m j = m j := by
  unfold tl_yr1
  split
  · rw [tl_breed_lo hj h0 h4, tl_draw_ne h4]
  · rfl
theorem tl_yr_inv {m : Nat → Nat} (h : tl_inv m) : tl_inv (tl_yr m) := tl_inv_year (tl_cut_inv (tl_yr1_inv h) rfl).1
theorem tl_yrs_inv {m : Nat → Nat} (h : tl_inv m) (k : Nat) : tl_inv (tl_yrs m k) := by
  induction k with
  | zero => exact h
  | succ k ih => exact tl_yr_inv ih
theorem tl_yrn_le (m : Nat → Nat) (k : Nat) : tl_yrn m k ≤ k := by
  induction k with
  | zero => exact Nat.le_refl _
  | succ k ih =>
    show tl_yrn m k + (if tl_yrb (tl_yrs m k) = true then 1 else 0) ≤ k + 1
    split <;> omega
theorem tl_years_okc (m : Nat → Nat) (x : Int32) : tl_okc (tl_years m x) := by
  unfold tl_years
  split
  · rename_i h
    obtain ⟨-, -, h3, -⟩ := tl_rng_k h (by decide)
    have := tl_yrn_le m (tl_n x)
    exact tl_okc_ok (by omega)
  · exact tl_okc_wr2
