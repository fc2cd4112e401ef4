/-! the ones that the year takes: by one order, or by an order after each -/
set_option maxRecDepth 100000
theorem tl_wor_cg {m m2 : Nat → Nat} {p : Nat} (h2 : m2 2 = m 2) : ∀ n, (∀ k, k < n → m2 (6 + k) = m (6 + k)) → tl_wor m2 p n = tl_wor m p n := by
  intro n
  induction n with
  | zero => intro _; rfl
  | succ n ih =>
    intro h
    show tl_wor m2 p n + _ = tl_wor m p n + _
    rw [ih (fun k hk => h k (by omega)), h2, h n (by omega)]
theorem tl_ahd_die {f : Nat → Nat} {x : Nat} (o b : Nat) : tl_ahd (tl_dieM f x) o b = tl_ahd f o b := by
  unfold tl_ahd
  have e : ∀ p, tl_wor (tl_dieM f x) p 8 = tl_wor f p 8 := fun p => tl_wor_cg (tl_dieM_ne (by omega)) 8 (fun k hk => tl_dieM_ne (by omega))
  simp only [e]
  rw [tl_dieM_ne (by omega), tl_dieM_ne (by omega)]
theorem tl_ins_die {f : Nat → Nat} {x b : Nat} (L : List Nat) : tl_ins (tl_dieM f x) b L = tl_ins f b L := by
  induction L with
  | nil => rfl
  | cons o L ih => simp only [tl_ins, tl_ahd_die, ih]
theorem tl_ins_flt {m : Nat → Nat} {b x : Nat} (hb : b ≠ x) : ∀ {L : List Nat}, L.Pairwise (fun a c => tl_ahd m a c = true) → (tl_ins m b L).filter (fun o => decide (o ≠ x)) = tl_ins m b (L.filter (fun o => decide (o ≠ x))) := by
  intro L
  induction L with
  | nil => intro _; simp [tl_ins, hb]
  | cons o L ih =>
    intro h
    obtain ⟨h1, h2⟩ := List.pairwise_cons.mp h
    by_cases ha : tl_ahd m o b = true
    · simp only [tl_ins, if_pos ha]
      by_cases hx : o = x
      · rw [List.filter_cons_of_neg (by simp [hx]), List.filter_cons_of_neg (by simp [hx]), ih h2]
      · rw [List.filter_cons_of_pos (by simp [hx]), List.filter_cons_of_pos (by simp [hx]), ih h2]; simp only [tl_ins, if_pos ha]
    · simp only [tl_ins, if_neg ha]
      by_cases hx : o = x
      · simp only [List.filter_cons, hb, hx, ne_eq, not_true_eq_false, not_false_eq_true, decide_true, decide_false, if_true, Bool.false_eq_true, if_false]
        cases hL : L.filter (fun o => decide (¬ o = x)) with
        | nil => rfl
        | cons y L2 =>
          have hy : y ∈ L := (List.mem_filter.mp (by rw [hL]; exact List.mem_cons_self : y ∈ L.filter (fun o => decide (¬ o = x)))).1
          have hn : ¬ tl_ahd m y b = true := fun z => ha (tl_ahd_tr (h1 y hy) z)
          simp only [tl_ins, if_neg hn]
      · simp [hb, hx, tl_ins, ha]
theorem tl_ins_flx {m : Nat → Nat} {x : Nat} : ∀ {L : List Nat}, (tl_ins m x L).filter (fun o => decide (o ≠ x)) = L.filter (fun o => decide (o ≠ x)) := by
  intro L
  induction L with
  | nil => simp [tl_ins]
  | cons o L ih =>
    by_cases ha : tl_ahd m o x = true
    · simp only [tl_ins, if_pos ha, List.filter_cons, ih]
    · simp only [tl_ins, if_neg ha]
      simp
theorem tl_al_die {f : Nat → Nat} {x k : Nat} : tl_al (tl_dieM f x) k = (tl_al f k && decide (k ≠ x)) := by
  unfold tl_al
  by_cases h : k = x
  · subst h; simp [tl_dieM, va_up]
  · rw [tl_dieM_ne (by omega)]; simp [h]
theorem tl_ord_die {f : Nat → Nat} {x : Nat} : ∀ k, tl_ord (tl_dieM f x) k = (tl_ord f k).filter (fun o => decide (o ≠ x)) := by
  intro k
  induction k with
  | zero => rfl
  | succ k ih =>
    simp only [tl_ord]
    rw [tl_al_die, ih]
    by_cases ha : tl_al f k = true
    · by_cases hx : k = x
      · subst hx
        simp only [ha, ne_eq, not_true_eq_false, decide_false, Bool.and_false, Bool.false_eq_true, if_false, if_true]
        exact tl_ins_flx.symm
      · simp only [ha, hx, ne_eq, not_false_eq_true, decide_true, Bool.and_true, if_true]
        rw [tl_ins_die]
        exact (tl_ins_flt hx (tl_ord_pw k)).symm
    · simp only [ha, Bool.false_and, Bool.false_eq_true, if_false]
/-- the first p of the order stay where they are -/
theorem tl_at_die {f : Nat → Nat} (h : tl_inv f) {n p : Nat} (hn : tl_liv f (f 0) = n + 1) (hp : p < n) : tl_atN (tl_dieM f (tl_atN f n)) p = tl_atN f p := by
  have hlen := tl_ord_len (m := f) (k := f 0) (tl_inv_liv h)
  have hpw := tl_ord_pw (m := f) (f 0)
  rw [tl_atN_ord, tl_atN_ord, tl_atN_ord, tl_dieM_ne (by omega), tl_ord_die]
  generalize hL : tl_ord f (f 0) = L at hlen hpw ⊢
  rw [hn] at hlen
  obtain ⟨L0, x, rfl⟩ : ∃ L0 x, L = L0 ++ [x] := by
    rcases List.eq_nil_or_concat L with q | ⟨L0, x, q⟩
    · rw [q] at hlen; cases hlen
    · exact ⟨L0, x, by rw [q, List.concat_eq_append]⟩
  have h0 : L0.length = n := by simpa using hlen
  have hx : (L0 ++ [x]).getD n 0 = x := by simp [List.getD_eq_getElem?_getD, ← h0]
  rw [hx]
  have hnx : ∀ y ∈ L0, y ≠ x := fun y hy q => by
    have h2 := (List.pairwise_append.mp hpw).2.2 y hy x (by simp)
    rw [q] at h2
    exact tl_ahd_as h2 h2
  have hf : (L0 ++ [x]).filter (fun o => decide (o ≠ x)) = L0 := by
    rw [List.filter_append, List.filter_eq_self.mpr (fun y hy => by simpa using hnx y hy)]
    simp
  rw [hf]
  simp [List.getD_eq_getElem?_getD, List.getElem?_append_left (show p < L0.length by omega)]
/-- from place r on, c of them, by the one order of f -/
def tl_ku (f : Nat → Nat) (r : Nat) : Nat → Nat → Nat
  | 0 => f
  | c + 1 => tl_dieM (tl_ku f r c) (tl_atN f (r + c))
theorem tl_die_comm {f : Nat → Nat} {a b : Nat} : tl_dieM (tl_dieM f a) b = tl_dieM (tl_dieM f b) a := funext fun j => by
  simp only [tl_dieM, va_up]
  by_cases h1 : j = 14 + 7 * b + 3
  · by_cases h2 : j = 14 + 7 * a + 3
    · simp [h1, h2]
    · simp [h1]
  · simp [h1]
theorem tl_ku_die {f : Nat → Nat} (h : tl_inv f) {r n : Nat} (hn : tl_liv f (f 0) = n + 1) : ∀ c, r + c ≤ n → tl_ku (tl_dieM f (tl_atN f n)) r c = tl_dieM (tl_ku f r c) (tl_atN f n) := by
  intro c
  induction c with
  | zero => intro _; rfl
  | succ c ih =>
    intro hc
    show tl_dieM (tl_ku (tl_dieM f (tl_atN f n)) r c) (tl_atN (tl_dieM f (tl_atN f n)) (r + c)) = tl_dieM (tl_dieM (tl_ku f r c) (tl_atN f (r + c))) (tl_atN f n)
    rw [ih (by omega), tl_at_die h hn (by omega), tl_die_comm]
theorem tl_cut_ku {r : Nat} : ∀ (c : Nat) {f : Nat → Nat}, tl_inv f → tl_liv f (f 0) = r + c → tl_cut f r (r + c) = tl_ku f r c := by
  intro c
  induction c with
  | zero => intro f h hn; exact tl_cut_e (Nat.le_refl _)
  | succ c ih =>
    intro f h hn
    have hn1 : tl_liv f (f 0) = (r + c) + 1 := hn
    obtain ⟨-, hl, ha⟩ := tl_at_some (tl_inv_liv h) (show r + c < tl_liv f (f 0) by omega)
    rw [tl_cut_s (show r < r + (c + 1) by omega), show r + (c + 1) - 1 = r + c by omega]
    have hi := tl_inv_die h hl
    have h0 : tl_dieM f (tl_atN f (r + c)) 0 = f 0 := tl_dieM_ne (by omega)
    have hl2 := tl_liv_die1 hl ha
    rw [ih hi (by rw [h0]; omega), tl_ku_die h hn1 c (Nat.le_refl _)]
    rfl
theorem tl_ku_inv {f : Nat → Nat} (h : tl_inv f) {r : Nat} : ∀ c, r + c ≤ tl_liv f (f 0) → tl_inv (tl_ku f r c) ∧ ∀ j, j < 14 → tl_ku f r c j = f j := by
  intro c
  induction c with
  | zero => intro _; exact ⟨h, fun _ _ => rfl⟩
  | succ c ih =>
    intro hc
    obtain ⟨i1, i2⟩ := ih (by omega)
    obtain ⟨-, hl, ha⟩ := tl_at_some (tl_inv_liv h) (show r + c < tl_liv f (f 0) by omega)
    exact ⟨tl_inv_die i1 (by rw [i2 0 (by decide)]; exact hl), fun j hj => (tl_dieM_ne (by omega)).trans (i2 j hj)⟩
/-- what the year leaves -/
theorem tl_cut_all {f : Nat → Nat} (h : tl_inv f) {r : Nat} : tl_cut f r (tl_liv f (f 0)) = tl_ku f r (tl_liv f (f 0) - r) := by
  by_cases hr : r ≤ tl_liv f (f 0)
  · obtain ⟨c, hc⟩ : ∃ c, tl_liv f (f 0) = r + c := ⟨_, (Nat.add_sub_cancel' hr).symm⟩
    rw [hc, tl_cut_ku c h hc, Nat.add_sub_cancel_left]
  · rw [tl_cut_e (by omega), show tl_liv f (f 0) - r = 0 by omega]; rfl
