/-! THE MATHEMATICAL VALUE: the model's own array m : Nat -> Nat. 0 came, 1 year, 2 wanted, 3 luck, 4 seed, 5 room, 6.. weights, 14 + 7 b ..: of bulb b pattern, mother + 1, father + 1, lives, born, generation, sport -/
set_option maxRecDepth 100000
def tl_rng (x : Int32) (lo hi : Int) : Bool := decide (lo ≤ x.toInt ∧ x.toInt ≤ hi)
def tl_n (x : Int32) : Nat := x.toNatClampNeg
def tl_liv (m : Nat → Nat) : Nat → Nat
  | 0 => 0
  | n + 1 => tl_liv m n + m (14 + 7 * n + 3)
def tl_bit (p k : Nat) : Nat := p / 2 ^ k &&& 1
def tl_wor (m : Nat → Nat) (p : Nat) : Nat → Nat
  | 0 => 0
  | k + 1 => tl_wor m p k + (if tl_bit p k = tl_bit (m 2) k then m (6 + k) else 0)
def tl_ones (x : Nat) : Nat → Nat
  | 0 => 0
  | k + 1 => tl_ones x k + tl_bit x k
def tl_cp (f h : Nat → Nat) (n : Nat) : Nat → Nat := fun j => if j < n then f j else h j
theorem tl_cp_0 (f h : Nat → Nat) : tl_cp f h 0 = h := by funext j; simp [tl_cp]
theorem tl_cp_s (f h : Nat → Nat) (n : Nat) : va_up (tl_cp f h n) n (f n) = tl_cp f h (n + 1) := by
  funext j
  unfold va_up tl_cp
  by_cases h1 : j = n
  · subst h1; simp
  · by_cases h2 : j < n
    · simp [h1, h2, Nat.lt_succ_of_lt h2]
    · simp [h1, h2, show ¬ j < n + 1 by omega]
def tl_ref (S : Nat → Nat) (r d : Nat) : Nat → Nat := va_up (va_up (va_up S 2 r) 3 d) 4 0
/-- what a change comes to: its answer and the new row; a code of an error; refused: reason, detail -/
abbrev tl_O : Type := (Nat × (Nat → Nat)) ⊕ (Int32 ⊕ (Nat × Nat))
def tl_ok (r : Nat) (m : Nat → Nat) : tl_O := .inl (r, m)
def tl_wr (c : Int32) : tl_O := .inr (.inl c)
def tl_rf (r d : Nat) : tl_O := .inr (.inr (r, d))
def tl_r : tl_O → Int32
  | .inl x => nI x.1
  | .inr (.inl c) => c
  | .inr (.inr _) => -3
def tl_m (m : Nat → Nat) : tl_O → Nat → Nat
  | .inl x => x.2
  | .inr _ => m
def tl_S (S : Nat → Nat) : tl_O → Nat → Nat
  | .inl _ => S
  | .inr (.inl _) => S
  | .inr (.inr x) => tl_ref S x.1 x.2
/-- what holds of the row at all times -/
def tl_inv (m : Nat → Nat) : Prop := m 0 ≤ 40 ∧ (∀ b, b < m 0 → m (14 + 7 * b) < 256 ∧ m (14 + 7 * b + 1) ≤ b ∧ m (14 + 7 * b + 2) ≤ b ∧ (m (14 + 7 * b + 1) = 0 ↔ m (14 + 7 * b + 2) = 0) ∧ m (14 + 7 * b + 3) ≤ 1 ∧ m (14 + 7 * b + 5) ≤ b ∧ m (14 + 7 * b + 6) ≤ 1) ∧ m 2 < 256 ∧ m 3 ≤ 100 ∧ m 4 ≤ 999999 ∧ 2 ≤ m 5 ∧ m 5 ≤ 12 ∧ (∀ k, k < 8 → m (6 + k) ≤ 9) ∧ tl_liv m (m 0) ≤ 12
def tl_fullR (m : Nat → Nat) : Nat := if m 0 = 40 then 1 else if tl_liv m (m 0) = 12 then 2 else 0
def tl_fullD (m : Nat → Nat) : Nat := if m 0 = 40 then 40 else 12
/-- one more bulb -/
def tl_come (m : Nat → Nat) (p mo fa ge sp : Nat) : Nat → Nat := fun j =>
  if j = 0 then m 0 + 1 else if j = 14 + 7 * m 0 then p else if j = 14 + 7 * m 0 + 1 then mo else if j = 14 + 7 * m 0 + 2 then fa else if j = 14 + 7 * m 0 + 3 then 1 else if j = 14 + 7 * m 0 + 4 then m 1 else if j = 14 + 7 * m 0 + 5 then ge else if j = 14 + 7 * m 0 + 6 then sp else m j
def tl_plant (m : Nat → Nat) (x : Int32) : tl_O :=
  if tl_rng x 0 255 = true then (if tl_fullR m = 0 then tl_ok (m 0) (tl_come m (tl_n x) 0 0 0 0) else tl_rf (tl_fullR m) (tl_fullD m)) else tl_wr (-2)
/-- a value that the unifier leaves alone -/
noncomputable def xk_hide {α : Type} (a : α) : α := Classical.choose (⟨a, rfl⟩ : ∃ b, b = a)
theorem xk_hide_eq {α : Type} (a : α) : xk_hide a = a := Classical.choose_spec (⟨a, rfl⟩ : ∃ b, b = a)
noncomputable def tl_seed (m : Nat → Nat) : Nat := xk_hide ((421 * m 4 + 1663) % 7875)
theorem tl_seed_eq (m : Nat → Nat) : tl_seed m = (421 * m 4 + 1663) % 7875 := xk_hide_eq _
noncomputable def tl_draw (m : Nat → Nat) : Nat → Nat := va_up m 4 (tl_seed m)
def tl_mix (a b k : Nat) : Nat := (a &&& (2 ^ k - 1)) ||| (b &&& (255 ^^^ (2 ^ k - 1)))
/-- the rows behind the one or two draws of a breeding; whether it is a sport; the pattern -/
noncomputable def tl_brS (m : Nat → Nat) : Bool := decide (tl_seed m % 100 < m 3)
noncomputable def tl_brM (m : Nat → Nat) : Nat → Nat := if tl_brS m = true then tl_draw (tl_draw m) else tl_draw m
noncomputable def tl_brP (m : Nat → Nat) (a b k : Nat) : Nat := if tl_brS m = true then tl_mix (m (14 + 7 * a)) (m (14 + 7 * b)) k ^^^ 2 ^ (tl_seed (tl_draw m) % 8) else tl_mix (m (14 + 7 * a)) (m (14 + 7 * b)) k
def tl_brG (m : Nat → Nat) (a b : Nat) : Nat := 1 + (if m (14 + 7 * a + 5) < m (14 + 7 * b + 5) then m (14 + 7 * b + 5) else m (14 + 7 * a + 5))
noncomputable def tl_breed (m : Nat → Nat) (a b k : Nat) : Nat → Nat := tl_come (tl_brM m) (tl_brP m a b k) (a + 1) (b + 1) (tl_brG m a b) (if tl_brS m = true then 1 else 0)
def tl_isb (m : Nat → Nat) (x : Int32) : Bool := tl_rng x 0 ((m 0 : Int) - 1)
def tl_al (m : Nat → Nat) (b : Nat) : Bool := decide (m (14 + 7 * b + 3) = 1)
noncomputable def tl_cross (m : Nat → Nat) (x y p : Int32) : tl_O :=
  if tl_isb m x = true then (if tl_isb m y = true then (if tl_rng p 0 8 = true then
    (if tl_al m (tl_n x) = true then (if tl_al m (tl_n y) = true then (if tl_fullR m = 0 then tl_ok (m 0) (tl_breed m (tl_n x) (tl_n y) (tl_n p)) else tl_rf (tl_fullR m) (tl_fullD m)) else tl_rf 3 (tl_n y)) else tl_rf 3 (tl_n x))
    else tl_wr (-2)) else tl_wr (-1)) else tl_wr (-1)
def tl_dieM (m : Nat → Nat) (b : Nat) : Nat → Nat := va_up m (14 + 7 * b + 3) 0
def tl_die (m : Nat → Nat) (x : Int32) : tl_O :=
  if tl_isb m x = true then (if tl_al m (tl_n x) = true then tl_ok (tl_liv (tl_dieM m (tl_n x)) (m 0)) (tl_dieM m (tl_n x)) else tl_rf 3 (tl_n x)) else tl_wr (-1)
def tl_set (m : Nat → Nat) (w : Nat) (x : Int32) (lo hi : Int) : tl_O :=
  if tl_rng x lo hi = true then (if m w = tl_n x then tl_rf 4 (tl_n x) else tl_ok (m w) (va_up m w (tl_n x))) else tl_wr (-2)
def tl_heavy (m : Nat → Nat) (x y : Int32) : tl_O := if tl_rng x 0 7 = true then tl_set m (6 + tl_n x) y 0 9 else tl_wr (-1)
/-- who of two is ahead -/
def tl_ahd (m : Nat → Nat) (o b : Nat) : Bool := decide (tl_wor m (m (14 + 7 * b)) 8 < tl_wor m (m (14 + 7 * o)) 8 ∨ (tl_wor m (m (14 + 7 * o)) 8 = tl_wor m (m (14 + 7 * b)) 8 ∧ b < o))
def tl_cnt (m : Nat → Nat) (b : Nat) : Nat → Nat
  | 0 => 0
  | n + 1 => tl_cnt m b n + (if tl_al m n = true ∧ tl_ahd m n b = true then 1 else 0)
/-- the first bulb from b on that stands at the place -/
def tl_find (m : Nat → Nat) (pl : Nat) : Nat → Nat → Option Nat
  | 0, _ => none
  | n + 1, b => if tl_al m b = true ∧ tl_cnt m b (m 0) = pl then some b else tl_find m pl n (b + 1)
def tl_at (m : Nat → Nat) (pl : Nat) : Option Nat := tl_find m pl (m 0) 0
def tl_oI : Option Nat → Int32
  | none => -1
  | some b => nI b
/-- numbers as they are read back -/
theorem tl_rng_k {x : Int32} {lo hi : Int} (h : tl_rng x lo hi = true) (h0 : 0 ≤ lo) : x = nI (tl_n x) ∧ lo ≤ (tl_n x : Int) ∧ (tl_n x : Int) ≤ hi ∧ tl_n x < 2147483648 := by
  have h1 : lo ≤ x.toInt ∧ x.toInt ≤ hi := of_decide_eq_true h
  have hn : ¬ x < 0 := fun q => by
    have := Int32.lt_iff_toInt_lt.mp q
    have h2 : (0 : Int32).toInt = 0 := by decide
    omega
  obtain ⟨j, hj, rfl⟩ := nI_of hn
  have e : (nI j).toInt = j := nI_toInt hj
  have e2 : tl_n (nI j) = j := nI_clamp hj
  rw [e2]
  refine ⟨rfl, ?_, ?_, ?_⟩ <;> omega
theorem tl_rng_nI {a : Nat} {lo hi : Int} (h : a < 2147483648) : tl_rng (nI a) lo hi = decide (lo ≤ (a : Int) ∧ (a : Int) ≤ hi) := by
  unfold tl_rng
  rw [nI_toInt (by omega)]
theorem tl_n_nI {a : Nat} (h : a < 2147483648) : tl_n (nI a) = a := nI_clamp (by omega)
theorem tl_liv_le {m : Nat → Nat} {n : Nat} (h : ∀ b, b < n → m (14 + 7 * b + 3) ≤ 1) : tl_liv m n ≤ n := by
  induction n with
  | zero => exact Nat.le_refl _
  | succ n ih =>
    have := ih (fun b hb => h b (by omega))
    have := h n (by omega)
    show tl_liv m n + m (14 + 7 * n + 3) ≤ n + 1
    omega
theorem tl_bit_le (p k : Nat) : tl_bit p k ≤ 1 := by
  unfold tl_bit
  rw [Nat.and_one_is_mod]
  omega
theorem tl_wor_le {m : Nat → Nat} {p n : Nat} (h : ∀ k, k < n → m (6 + k) ≤ 9) : tl_wor m p n ≤ 9 * n := by
  induction n with
  | zero => exact Nat.le_refl _
  | succ n ih =>
    have := ih (fun b hb => h b (by omega))
    have := h n (by omega)
    show tl_wor m p n + (if tl_bit p n = tl_bit (m 2) n then m (6 + n) else 0) ≤ 9 * (n + 1)
    split <;> omega
theorem tl_ones_le (x n : Nat) : tl_ones x n ≤ n := by
  induction n with
  | zero => exact Nat.le_refl _
  | succ n ih =>
    have := tl_bit_le x n
    show tl_ones x n + tl_bit x n ≤ n + 1
    omega
theorem tl_cnt_le (m : Nat → Nat) (b n : Nat) : tl_cnt m b n ≤ n := by
  induction n with
  | zero => exact Nat.le_refl _
  | succ n ih =>
    show tl_cnt m b n + (if tl_al m n = true ∧ tl_ahd m n b = true then 1 else 0) ≤ n + 1
    split <;> omega
theorem tl_seed_lt (m : Nat → Nat) : tl_seed m < 7875 := by rw [tl_seed_eq]; exact Nat.mod_lt _ (by decide)
/-! frames: cells of other roots stay -/
def xk_fr (r : Nat) (X X1 : xk_H) : Prop := ∀ (a : Nat) (o : Nat × Nat) (e : va_E), X a = some (o, e) → o.1 ≠ r → X1 a = some (o, e)
theorem xk_fr.rf {r : Nat} {X : xk_H} : xk_fr r X X := fun _ _ _ h _ => h
theorem xk_fr.tr {r : Nat} {X X1 X2 : xk_H} (h : xk_fr r X X1) (h2 : xk_fr r X1 X2) : xk_fr r X X2 := fun a o e q n => h2 a o e (h a o e q n) n
theorem xk_fr.put {r i a : Nat} {X X1 X2 : xk_H} {e : va_E} (h : xk_fr r X X1) (ha : X1 a = some ((r, i), e)) (hn : ∀ b, b ≠ a → X2 b = X1 b) : xk_fr r X X2 := fun b o e2 q n => xk_off hn (h b o e2 q n) ha (fun z => n (by rw [z]))
theorem xk_fr.le {r : Nat} {X X1 X2 : xk_H} (h : xk_fr r X X1) (h2 : xk_le X1 X2) : xk_fr r X X2 := fun a o e q n => h2 a _ (h a o e q n)
/-! the model's cells -/
def tm_it : Nat → Int32
  | 0 => -4
  | k + 1 => nI k
def tm_fs (ad S : Nat → Nat) : List Value := [.ref (ad 0), .ref (ad 1), .ref (ad 2), .ref (ad 3), .int (nI (S 0)), .ref (ad 4), .int (nI (S 1)), .int (nI (S 2)), .int (nI (S 3)), .int (tm_it (S 4)), .ref (ad 5), .int (nI (S 5)), .ref (ad 6), .ref (ad 7), .ref (ad 8), .int (nI (S 6)), .ref (ad 9), .int (nI (S 7)), .int (nI (S 8)), .int (nI (S 9)), .int (nI (S 10))]
/-- o: the object; ad: its arrays (m, aside, thought, saved, past, text, isMarked, isFirst, line, orders); A: what they hold; S: isSaved, changes, why, detail, item + 1 (0: none), textMany, lineMany, orderMany, place0, size0, isWrong -/
def tm_Ok (g : xk_G) (X : xk_H) (o : Nat) (ad : Nat → Nat) (A : Nat → Nat → Nat) (S : Nat → Nat) : Prop :=
  X o = some ((o, 0), .inr (0, tm_fs ad S)) ∧ X (ad 0) = some ((o, 1), xk_iA g 0 294 (A 0)) ∧ X (ad 1) = some ((o, 2), xk_iA g 0 294 (A 1)) ∧ X (ad 2) = some ((o, 3), xk_iA g 0 294 (A 2)) ∧ X (ad 3) = some ((o, 4), xk_iA g 0 294 (A 3)) ∧ X (ad 4) = some ((o, 5), xk_iA g 0 2352 (A 4)) ∧ X (ad 5) = some ((o, 6), xk_iA g 0 70 (A 5)) ∧ X (ad 6) = some ((o, 7), xk_iA g 2 40 (A 6)) ∧ X (ad 7) = some ((o, 8), xk_iA g 2 40 (A 7)) ∧ X (ad 8) = some ((o, 9), xk_iA g 0 60 (A 8)) ∧ X (ad 9) = some ((o, 10), xk_iA g 0 284 (A 9))
theorem tm_Ok.fr {g : xk_G} {X X1 : xk_H} {o r : Nat} {ad : Nat → Nat} {A : Nat → Nat → Nat} {S : Nat → Nat} (h : tm_Ok g X o ad A S) (hf : xk_fr r X X1) (hr : o ≠ r) : tm_Ok g X1 o ad A S := by
  obtain ⟨h0, h1, h2, h3, h4, h5, h6, h7, h8, h9, h10⟩ := h
  exact ⟨hf _ _ _ h0 hr, hf _ _ _ h1 hr, hf _ _ _ h2 hr, hf _ _ _ h3 hr, hf _ _ _ h4 hr, hf _ _ _ h5 hr, hf _ _ _ h6 hr, hf _ _ _ h7 hr, hf _ _ _ h8 hr, hf _ _ _ h9 hr, hf _ _ _ h10 hr⟩
section LC
variable {g : xk_G} {p : Program} {l : Launch} {e : Env} {R : Room} {s : State} {m : MethodId} {args : Array Value} {below : List Frame} {meth : Method} {c : Code} {H : Heap} {locs : List Loc} {cells slots : Nat} {Q : State → Prop}
variable {cc : ByteArray} {pc nL : Nat} {own : String} {ls : Array Slot} {rest : List Value}
theorem xk_max (B : xk_B g p s m args meth c own cc nL) {lv : List (Nat × Value)} (hl : lv_has ls nL lv) {index : Nat} (hlink : Cond.methodLink own index Lib.Math.max.name ∈ lw_all) (hstat : Cond.static Lib.Math.max.name ∈ lw_all) (hini : Cond.initialized "java/lang/Math" ∈ lw_all) (hcode : Cond.code Lib.Math.max.name Lib.Math.max.code 2 (some .int) ∈ lw_all)
    (hframes : 1 ≤ R.frames) (hlocals : (rest.map fun v => v.category).sum + 13 ≤ R.locals) (hc : cells ≤ R.cells) (hs : slots ≤ R.slots) {x y z : Int32} (hz : (if x < y then y else x) = z) (hdg : decode cc pc = .ok (.invokestatic index, 3))
    (kk : W p l e R s m args below meth c H locs cells slots Q (F0 m (pc + 3) ls (.int z :: rest))) : W p l e R s m args below meth c H locs cells slots Q (F0 m pc ls (.int y :: .int x :: rest)) := by
  subst hz
  exact va_mmax B.1 B.2.1 (B.2.2.1.trans hl.1.symm) B.ow (B.ts _ hlink) (B.ts _ hstat) (B.ts _ hini) (B.ts _ hcode) hframes hlocals hc hs hdg kk
end LC
theorem tl_max {a b : Nat} (ha : a < 2147483648) (hb : b < 2147483648) : (if nI a < nI b then nI b else nI a) = nI (if a < b then b else a) := by
  by_cases h : a < b
  · rw [if_pos h, if_pos ((nI_ltI (by omega) (by omega)).mpr h)]
  · rw [if_neg h, if_neg (fun z => h ((nI_ltI (by omega) (by omega)).mp z))]
theorem tl_lc1 (x y : Int64) : lg_cmp x y < 0 ↔ x.toInt < y.toInt := by
  unfold lg_cmp
  rw [← Int64.lt_iff_toInt_lt]
  by_cases h1 : y < x
  · have h2 : ¬ x < y := fun q => by have := Int64.lt_iff_toInt_lt.mp q; have := Int64.lt_iff_toInt_lt.mp h1; omega
    simp [h1, h2]
  · by_cases h2 : x = y
    · subst h2; simp [Int64.lt_irrefl]
    · have h3 : x < y := by
        rw [Int64.lt_iff_toInt_lt]
        have h4 : ¬ y.toInt < x.toInt := fun q => h1 (Int64.lt_iff_toInt_lt.mpr q)
        have : x.toInt ≠ y.toInt := fun q => h2 (Int64.toInt_inj.mp q)
        omega
      simp [h1, h2, h3]
theorem tl_lc2 (x y : Int64) : 0 < lg_cmp x y ↔ y.toInt < x.toInt := by
  unfold lg_cmp
  rw [← Int64.lt_iff_toInt_lt]
  by_cases h1 : y < x
  · simp [h1]
  · by_cases h2 : x = y
    · subst h2; simp [Int64.lt_irrefl]
    · simp [h1, h2]
theorem tl_us {f : Nat → Nat} {k v : Nat} : va_up f k v k = v := by simp [va_up]
theorem tl_un {f : Nat → Nat} {k v j : Nat} (h : j ≠ k) : va_up f k v j = f j := by simp [va_up, h]
theorem tl_draw_ne {m : Nat → Nat} {j : Nat} (h : j ≠ 4) : tl_draw m j = m j := by simp [tl_draw, va_up, h]
theorem tl_draw_4 {m : Nat → Nat} : tl_draw m 4 = tl_seed m := by simp [tl_draw, va_up]
def tl_okc : tl_O → Prop
  | .inl x => x.1 < 2147483648
  | .inr (.inl c) => c < 0
  | .inr (.inr _) => True
def tl_is : tl_O → Bool
  | .inl _ => true
  | .inr _ => false
/-- a block of 294 at place c, the first k of it written -/
def tl_blk (c k : Nat) (f h : Nat → Nat) : Nat → Nat := fun j => if 294 * c ≤ j ∧ j < 294 * c + k then f (j - 294 * c) else h j
theorem tl_blk_0 (c : Nat) (f h : Nat → Nat) : tl_blk c 0 f h = h := by
  funext j
  unfold tl_blk
  rw [if_neg (by omega)]
theorem tl_blk_s (c k : Nat) (f h : Nat → Nat) : va_up (tl_blk c k f h) (294 * c + k) (f k) = tl_blk c (k + 1) f h := by
  funext j
  unfold tl_blk va_up
  by_cases h1 : j = 294 * c + k
  · subst h1
    rw [if_pos rfl, if_pos (by omega), Nat.add_sub_cancel_left]
  · rw [if_neg h1]
    dsimp only
    by_cases h2 : 294 * c ≤ j ∧ j < 294 * c + k
    · rw [if_pos h2, if_pos (by omega)]
    · rw [if_neg h2, if_neg (by omega)]
theorem tl_cp_sh (h : Nat → Nat) (k : Nat) : va_up (tl_cp (fun j => h (j + 294)) h k) k (tl_cp (fun j => h (j + 294)) h k (k + 294)) = tl_cp (fun j => h (j + 294)) h (k + 1) := by
  have e : tl_cp (fun j => h (j + 294)) h k (k + 294) = (fun j => h (j + 294)) k := by
    unfold tl_cp
    rw [if_neg (by omega)]
  rw [e]
  exact tl_cp_s _ _ _
def tl_pst (b : Bool) (n : Nat) (p a : Nat → Nat) : Nat → Nat := if b = true then (if n = 8 then tl_blk (n - 1) 294 a (tl_cp (fun j => p (j + 294)) p 2058) else tl_blk n 294 a p) else p
def tl_chn (b : Bool) (n : Nat) : Nat := if b = true then (if n = 8 then n - 1 + 1 else n + 1) else n
theorem tl_come_eq {m : Nat → Nat} {p mo fa ge sp : Nat} : va_up (va_up (va_up (va_up (va_up (va_up (va_up (va_up m (14 + 7 * m 0) p) (14 + 7 * m 0 + 1) mo) (14 + 7 * m 0 + 2) fa) (14 + 7 * m 0 + 3) 1) (14 + 7 * m 0 + 4) (m 1)) (14 + 7 * m 0 + 5) ge) (14 + 7 * m 0 + 6) sp) 0 (m 0 + 1) = tl_come m p mo fa ge sp := by
  funext j
  simp only [va_up, tl_come]
  by_cases h0 : j = 0
  · simp [h0]
  · rw [if_neg h0, if_neg h0]
    by_cases h1 : j < 14 + 7 * m 0
    · rw [if_neg (by omega), if_neg (by omega), if_neg (by omega), if_neg (by omega), if_neg (by omega), if_neg (by omega), if_neg (by omega), if_neg (by omega), if_neg (by omega), if_neg (by omega), if_neg (by omega), if_neg (by omega), if_neg (by omega), if_neg (by omega)]
    · obtain ⟨d, rfl⟩ : ∃ d, j = 14 + 7 * m 0 + d := ⟨j - (14 + 7 * m 0), by omega⟩
      by_cases h7 : d < 7
      · rcases (show d = 0 ∨ d = 1 ∨ d = 2 ∨ d = 3 ∨ d = 4 ∨ d = 5 ∨ d = 6 by omega) with rfl | rfl | rfl | rfl | rfl | rfl | rfl <;> simp
      · rw [if_neg (by omega), if_neg (by omega), if_neg (by omega), if_neg (by omega), if_neg (by omega), if_neg (by omega), if_neg (by omega), if_neg (by omega), if_neg (by omega), if_neg (by omega), if_neg (by omega), if_neg (by omega), if_neg (by omega), if_neg (by omega)]
theorem tl_andn {a k : Nat} (ha : a < 256) : nI a &&& (nI k ^^^ (-1)) = nI (a &&& (255 ^^^ k)) := by
  apply Int32.toBitVec_inj.mp
  show BitVec.ofNat 32 a &&& (BitVec.ofNat 32 k ^^^ BitVec.allOnes 32) = BitVec.ofNat 32 (a &&& (255 ^^^ k))
  apply BitVec.eq_of_getLsbD_eq
  intro i hi
  by_cases h8 : i < 8
  · have h255 : (255 : Nat).testBit i = true := by
      rcases (show i = 0 ∨ i = 1 ∨ i = 2 ∨ i = 3 ∨ i = 4 ∨ i = 5 ∨ i = 6 ∨ i = 7 by omega) with rfl | rfl | rfl | rfl | rfl | rfl | rfl | rfl <;> decide
    simp only [BitVec.getLsbD_and, BitVec.getLsbD_xor, BitVec.getLsbD_ofNat, BitVec.getLsbD_allOnes, Nat.testBit_and, Nat.testBit_xor, hi, h255, decide_true, Bool.true_and, Bool.xor_true, Bool.true_xor]
  · have h9 : a.testBit i = false := Nat.testBit_lt_two_pow (Nat.lt_of_lt_of_le (show a < 2 ^ 8 from ha) (Nat.pow_le_pow_right (by decide) (by omega)))
    simp [BitVec.getLsbD_ofNat, Nat.testBit_and, h9]
theorem tl_mix_lt {a b k : Nat} (ha : a < 256) (hb : b < 256) : tl_mix a b k < 256 := by
  unfold tl_mix
  exact Nat.or_lt_two_pow (n := 8) (Nat.lt_of_le_of_lt Nat.and_le_left ha) (Nat.lt_of_le_of_lt Nat.and_le_left hb)
theorem tl_pow8 : ∀ k, k < 8 → 2 ^ k < 256 := by decide
theorem tl_pow8' : ∀ k, k ≤ 8 → 2 ^ k ≤ 256 := by decide
