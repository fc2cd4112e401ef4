/-! the JDK: printed by tools/jdk.py -/
set_option maxRecDepth 100000
theorem xk_C.mono {g : xk_G} {y : MethodName} {ws : List Cond} {rm : Room} {av : List Value} {X : xk_H} {Qp Qp2 : Option Value → xk_H → Prop} (h : xk_C g y ws rm av X Qp) (hq : ∀ v X1, Qp v X1 → Qp2 v X1) : xk_C g y ws rm av X Qp2 := by
  unfold xk_C Met at *
  exact MetFree.mono h (fun _ _ h => h) (fun _ _ _ _ _ h => h) (fun a s o t _ h => by
    obtain ⟨⟨⟨v, X1, h1, h2, h3⟩, h4⟩, h5⟩ := h
    exact ⟨⟨⟨v, X1, h1, hq v X1 h2, h3⟩, h4⟩, h5⟩)
theorem tl_upS {h : Nat → Option Nat} {pp : Nat → Nat} {n v : Nat} (h6 : ∀ i, i < n → h i = some (pp i)) : ∀ i, i < n + 1 → va_up h n (some v) i = some (va_up pp n v i) := by
  intro i hi
  simp only [va_up]
  by_cases hin : i = n
  · rw [if_pos hin, if_pos hin]
  · rw [if_neg hin, if_neg hin]
    exact h6 i (by omega)
theorem tl_cpS {h : Nat → Option Nat} {pp : Nat → Nat} {n : Nat} (h6 : ∀ i, i < n → h i = some (pp i)) : ∀ i, i < n → va_cpy h (fun _ => none) 0 0 n i = some (pp i) := by
  intro i hi
  unfold va_cpy
  rw [if_pos (by omega), show 0 + (i - 0) = i by omega]
  exact h6 i hi
theorem tl_insS {h : Nat → Option Nat} {pp : Nat → Nat} {n v i : Nat} (h6 : ∀ i, i < n → h i = some (pp i)) (hi : i ≤ n) : ∀ j, j < n + 1 → va_up (va_cpy h h i (i + 1) (n - i)) i (some v) j = some (tl_insf pp i v j) := by
  intro j hj
  simp only [va_up, tl_insf]
  by_cases hji : j = i
  · rw [if_pos hji, if_neg (by omega), if_pos hji]
  · rw [if_neg hji]
    by_cases hlt : j < i
    · rw [if_pos hlt]
      unfold va_cpy
      rw [if_neg (by omega)]
      exact h6 j (by omega)
    · rw [if_neg hlt, if_neg hji]
      unfold va_cpy
      rw [if_pos (by omega), show i + (j - (i + 1)) = j - 1 by omega]
      exact h6 (j - 1) (by omega)
theorem j2_add (g : xk_G) {X : xk_H} {l a : Nat} {ow ow2 : Nat × Nat} {mc : Int32} {n : Nat} {pp : Nat → Nat} (hL : tb_L g X l a ow ow2 mc n pp) {v : Nat} (hn48 : n ≤ 48) (hoo : ow ≠ ow2) (hv : xk_is2 g X ow ow2 v) (hob : ∀ i, i < n → xk_is2 g X ow ow2 (pp i)) : xk_C g yJ2_add (ws_ yJ2_add cJ2_add 2 (some .boolean)) ({ frames := 6, cells := tl_gc n, slots := tl_gs n, locals := 128 } : Room) [.ref l, .ref v] X (xk_Qi (nI 1) (fun X1 => ∃ q, tb_L g X1 l q ow ow2 (mc + nI 1) (n + 1) (va_up pp n v) ∧ xk_f2 ow ow2 X X1)) := by
  obtain ⟨h1, h2, h3⟩ := hL
  rcases h3 with ⟨rfl, rfl⟩ | ⟨h, h4, h5, h6⟩
  · exact xk_C.mono (j2_addE g h1 hoo hv) (fun v9 X1 hq => by
      obtain ⟨q0, q, q1, q2, q3⟩ := hq
      exact ⟨q0, ⟨q, ⟨q1, by decide, Or.inr ⟨_, q2, by decide, tl_upS (fun i hi => by omega)⟩⟩, q3⟩⟩)
  · by_cases hf : n = tl_cap n
    · obtain ⟨c1, c2, c3⟩ := tl_cap_full hn48 h5 hf
      rw [show tl_gc n = 1 from if_pos hf, show tl_gs n = n + n / 2 from (if_pos hf).trans c3]
      rw [← hf] at h4
      exact xk_C.mono (j2_addA g h1 h4 hoo hv (fun i9 hi9 y hy => by rw [h6 i9 hi9] at hy; cases hy; exact hob i9 hi9) c1 c2) (fun v9 X1 hq => by
        obtain ⟨q0, q, q1, q2, q3⟩ := hq
        exact ⟨q0, ⟨q, ⟨q1, by omega, Or.inr ⟨_, by rw [c3]; exact q2, by omega, tl_upS (tl_cpS h6)⟩⟩, q3⟩⟩)
    · have hck := tl_cap_k h2
      rw [show tl_gc n = 0 from if_neg hf, show tl_gs n = 0 from if_neg hf]
      exact xk_C.mono (j2_addR g h1 h4 hoo hv (by omega) hck.2) (fun v9 X1 hq => by
        obtain ⟨q0, q, q1, q2, q3⟩ := hq
        exact ⟨q0, ⟨q, ⟨q1, by omega, Or.inr ⟨_, by rw [tl_cap_room h2 h5 hf]; exact q2, by omega, tl_upS h6⟩⟩, q3⟩⟩)
theorem j2_add3 (g : xk_G) {X : xk_H} {l a : Nat} {ow ow2 : Nat × Nat} {mc : Int32} {n : Nat} {pp : Nat → Nat} (hL : tb_L g X l a ow ow2 mc n pp) {i : Nat} {v : Nat} (hi : i ≤ n) (hn48 : n ≤ 48) (hoo : ow ≠ ow2) (hv : xk_is2 g X ow ow2 v) (hob : ∀ i, i < n → xk_is2 g X ow ow2 (pp i)) : xk_C g yJ2_add_3 (ws_ yJ2_add_3 cJ2_add_3 5 none) ({ frames := 5, cells := tl_gc n, slots := tl_gs n, locals := 105 } : Room) [.ref l, .int (nI i), .ref v] X (xk_Qv (fun X1 => ∃ q, tb_L g X1 l q ow ow2 (mc + nI 1) (n + 1) (tl_insf pp i v) ∧ xk_f2 ow ow2 X X1)) := by
  obtain ⟨h1, h2, h3⟩ := hL
  rcases h3 with ⟨rfl, rfl⟩ | ⟨h, h4, h5, h6⟩
  · exact xk_C.mono (j2_add3E g h1 hoo hv hi) (fun v9 X1 hq => by
      obtain ⟨q0, q, q1, q2, q3⟩ := hq
      exact ⟨q0, ⟨q, ⟨q1, by decide, Or.inr ⟨_, q2, by decide, tl_insS (fun i hi => by omega) hi⟩⟩, q3⟩⟩)
  · by_cases hf : n = tl_cap n
    · obtain ⟨c1, c2, c3⟩ := tl_cap_full hn48 h5 hf
      rw [show tl_gc n = 1 from if_pos hf, show tl_gs n = n + n / 2 from (if_pos hf).trans c3]
      rw [← hf] at h4
      exact xk_C.mono (j2_add3A g h1 h4 hoo hv (fun i9 hi9 y hy => by rw [h6 i9 hi9] at hy; cases hy; exact hob i9 hi9) c1 c2 hi) (fun v9 X1 hq => by
        obtain ⟨q0, q, q1, q2, q3⟩ := hq
        exact ⟨q0, ⟨q, ⟨q1, by omega, Or.inr ⟨_, by rw [c3]; exact q2, by omega, tl_insS (tl_cpS h6) hi⟩⟩, q3⟩⟩)
    · have hck := tl_cap_k h2
      rw [show tl_gc n = 0 from if_neg hf, show tl_gs n = 0 from if_neg hf]
      exact xk_C.mono (j2_add3R g h1 h4 hoo hv (by omega) hck.2 hi (fun i9 hi9 y hy => by rw [h6 i9 hi9] at hy; cases hy; exact hob i9 hi9)) (fun v9 X1 hq => by
        obtain ⟨q0, q, q1, q2, q3⟩ := hq
        exact ⟨q0, ⟨q, ⟨q1, by omega, Or.inr ⟨_, by rw [tl_cap_room h2 h5 hf]; exact q2, by omega, tl_insS h6 hi⟩⟩, q3⟩⟩)
