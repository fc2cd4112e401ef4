/-! the model: walks, printed by tools/model.py -/
set_option maxRecDepth 100000
set_option maxHeartbeats 4000000 in
theorem m2_bestOf (g : xk_G) {X : xk_H} {o : Nat} {ad : Nat → Nat} {A : Nat → Nat → Nat} {S : Nat → Nat} (hM : tm_Ok g X o ad A S) (hk : tl_inv (A 0)) {a b : Nat} (ha : a < A 0 0) (hb9 : b < A 0 0) : xk_C g yX2_bestOf (ws_ yX2_bestOf cX2_bestOf 5 (some .int)) ({ frames := 2, cells := 0, slots := 0, locals := 44 } : Room) [.ref o, .int (nI a), .int (nI b)] X (xk_Qi (nI (tl_bo (A 0) a b 8)) (fun X1 => X1 = X)) := by
  refine xk_ofW (by decide +kernel) (Nat.le_of_ble_eq_true rfl) (fun p e s m args below meth c B hr hname hargs hI ls hl => ?_)
  have B : xk_B g p s m args meth c RX2 cX2_bestOf 5 := B
  have hl : lv_has ls 5 [(0, .ref o), (1, .int (nI a)), (2, .int (nI b))] := hl
  have hx := B.1
  have hb := B.2.1
  have hM0 := hM
  obtain ⟨hO, hA0, hA1, hA2, hA3, hA4, hA5, hA6, hA7, hA8, hA9⟩ := hM
  have hk0 := hk
  obtain ⟨k0, kb, kw, kl, ks, kr1, kr2, kwt, kL⟩ := hk
  have hfr : xk_fr o X X := xk_fr.rf
  refine lv_iconst (v := nI 0) hx hb dX2_bestOf_0 (by decide) ?_
  refine lv_istore_n (lv' := [(3, .int (nI 0)), (0, .ref o), (1, .int (nI a)), (2, .int (nI b))]) hx hb dX2_bestOf_1 rfl hl (by decide) rfl (fun ls hl => ?_)
  refine lv_iconst (v := nI 1) hx hb dX2_bestOf_2 (by decide) ?_
  refine lv_istore (lv' := [(4, .int (nI 1)), (3, .int (nI 0)), (0, .ref o), (1, .int (nI a)), (2, .int (nI b))]) hx hb dX2_bestOf_3 hl (by decide) rfl (fun ls hl => ?_)
  have hloop_5 : ∀ (n_5 : Nat) (k : Nat) (c9 : Nat) (H_1 : Heap) (L_2 : List Loc), (k ≤ 8) → (c9 = tl_bo (A 0) a b k) → 8 - k < n_5 → xk_I g s H_1 X L_2 → ∀ ls : Array Slot, lv_has ls 5 [(0, .ref o), (1, .int (nI a)), (2, .int (nI b)), (3, .int (nI c9)), (4, .int (nI (k + 1)))] → W p (xk_l g) e (({ frames := 2, cells := 0, slots := 0, locals := 44 } : Room)) s m args below meth c H_1 L_2 0 0 (MQ below (xk_Q g (xk_Qi (nI (tl_bo (A 0) a b 8)) (fun X1 => X1 = X))) args s (0) (0) (xk_A g)) (F0 m 5 ls []) := by
    intro n_5
    induction n_5 with
    | zero => intros; omega
    | succ n_5 ih_5 =>
      intro k c9 H_1 L_2 hk1 hc1 hm_5  hI_3 ls hl
      refine lv_iload hx hb dX2_bestOf_5 (lv_at hl 4 rfl) ?_
      refine lv_bipush (v := nI 8) hx hb dX2_bestOf_7 (by decide) ?_
      refine xk_icmp_gt (tgt := 51) hx hb (by omega) (by omega) dX2_bestOf_9 (by decide) (fun hc_9 => ?_) (fun hc_9 => ?_)
      · have q1 : k = 8 := by omega
        refine lv_iload_n hx hb dX2_bestOf_51 rfl (lv_at hl 3 rfl) ?_
        exact xk_reti B hI_3 hr rfl dX2_bestOf_52 (Nat.le_of_ble_eq_true rfl) (Nat.le_of_ble_eq_true rfl) (⟨by rw [hc1, q1], rfl⟩)
      · have q1 := tl_bo_le (A 0) a b k
        have q2 := tl_wx_le (m := A 0) kwt a b (k + 1)
        have q3 := tl_wx_le (m := A 0) kwt a b c9
        refine lv_aload_n hx hb dX2_bestOf_12 rfl (lv_at hl 0 rfl) ?_
        refine lv_aload_n hx hb dX2_bestOf_13 rfl (lv_at hl 0 rfl) ?_
        refine lv_iload_n hx hb dX2_bestOf_14 rfl (lv_at hl 1 rfl) ?_
        refine lv_iload_n hx hb dX2_bestOf_15 rfl (lv_at hl 2 rfl) ?_
        refine lv_iload hx hb dX2_bestOf_16 (lv_at hl 4 rfl) ?_
        refine xk_ri0 (xk_cV B hI_3 hl [.int (nI a), .int (nI b), .int (nI (k + 1))] [.ref o] 3 (m2_mixed g hM0 (a := a) (b := b) (k := k + 1) (by omega) (by omega) (by omega) (kb _ (by omega)).1 (kb _ (by omega)).1) hO rfl (lw_V q1556 q1558 qs40 q79 q1559) ⟨rfl, by decide +kernel, by decide +kernel, by decide +kernel⟩ ⟨Nat.le_of_ble_eq_true rfl, Nat.le_of_ble_eq_true rfl⟩ rfl rfl (Nat.le_of_ble_eq_true rfl) dX2_bestOf_18 (Nat.le_of_ble_eq_true rfl) (Nat.le_of_ble_eq_true rfl)) hI_3 (fun H_5 L_6 hI_4 => ?_)
        refine xk_top (y := nI (tl_mx (A 0) a b (k + 1))) rfl ?_
        refine xk_ri0 (xk_cV B hI_4 hl [.int (nI (tl_mx (A 0) a b (k + 1)))] [] 1 (m2_worth g hM0 hk0 (pt := tl_mx (A 0) a b (k + 1)) (tl_mix_lt (kb _ (by omega)).1 (kb _ (by omega)).1)) hO rfl (lw_V q1636 q1638 qs52 q79 q1639) ⟨rfl, by decide +kernel, by decide +kernel, by decide +kernel⟩ ⟨Nat.le_of_ble_eq_true rfl, Nat.le_of_ble_eq_true rfl⟩ rfl rfl (Nat.le_of_ble_eq_true rfl) dX2_bestOf_21 (Nat.le_of_ble_eq_true rfl) (Nat.le_of_ble_eq_true rfl)) hI_4 (fun H_8 L_9 hI_7 => ?_)
        refine xk_top (y := nI (tl_wx (A 0) a b (k + 1))) rfl ?_
        refine lv_aload_n hx hb dX2_bestOf_24 rfl (lv_at hl 0 rfl) ?_
        refine lv_aload_n hx hb dX2_bestOf_25 rfl (lv_at hl 0 rfl) ?_
        refine lv_iload_n hx hb dX2_bestOf_26 rfl (lv_at hl 1 rfl) ?_
        refine lv_iload_n hx hb dX2_bestOf_27 rfl (lv_at hl 2 rfl) ?_
        refine lv_iload_n hx hb dX2_bestOf_28 rfl (lv_at hl 3 rfl) ?_
        refine xk_ri0 (xk_cV B hI_7 hl [.int (nI a), .int (nI b), .int (nI c9)] [.ref o, .int (nI (tl_wx (A 0) a b (k + 1)))] 3 (m2_mixed g hM0 (a := a) (b := b) (k := c9) (by omega) (by omega) (by omega) (kb _ (by omega)).1 (kb _ (by omega)).1) hO rfl (lw_V q1556 q1558 qs40 q79 q1559) ⟨rfl, by decide +kernel, by decide +kernel, by decide +kernel⟩ ⟨Nat.le_of_ble_eq_true rfl, Nat.le_of_ble_eq_true rfl⟩ rfl rfl (Nat.le_of_ble_eq_true rfl) dX2_bestOf_29 (Nat.le_of_ble_eq_true rfl) (Nat.le_of_ble_eq_true rfl)) hI_7 (fun H_11 L_12 hI_10 => ?_)
        refine xk_top (y := nI (tl_mx (A 0) a b c9)) rfl ?_
        refine xk_ri0 (xk_cV B hI_10 hl [.int (nI (tl_mx (A 0) a b c9))] [.int (nI (tl_wx (A 0) a b (k + 1)))] 1 (m2_worth g hM0 hk0 (pt := tl_mx (A 0) a b c9) (tl_mix_lt (kb _ (by omega)).1 (kb _ (by omega)).1)) hO rfl (lw_V q1636 q1638 qs52 q79 q1639) ⟨rfl, by decide +kernel, by decide +kernel, by decide +kernel⟩ ⟨Nat.le_of_ble_eq_true rfl, Nat.le_of_ble_eq_true rfl⟩ rfl rfl (Nat.le_of_ble_eq_true rfl) dX2_bestOf_32 (Nat.le_of_ble_eq_true rfl) (Nat.le_of_ble_eq_true rfl)) hI_10 (fun H_14 L_15 hI_13 => ?_)
        refine xk_top (y := nI (tl_wx (A 0) a b c9)) rfl ?_
        refine xk_icmp_le (tgt := 43) hx hb (by omega) (by omega) dX2_bestOf_35 (by decide) (fun hc_35 => ?_) (fun hc_35 => ?_)
        · refine lv_iload_n hx hb dX2_bestOf_43 rfl (lv_at hl 3 rfl) ?_
          refine lv_istore_n (lv' := [(3, .int (nI c9)), (0, .ref o), (1, .int (nI a)), (2, .int (nI b)), (4, .int (nI (k + 1)))]) hx hb dX2_bestOf_44 rfl hl (by decide) rfl (fun ls hl => ?_)
          refine lv_iinc (v := nI (k + 1 + 1)) (lv' := [(4, .int (nI (k + 1 + 1))), (3, .int (nI c9)), (0, .ref o), (1, .int (nI a)), (2, .int (nI b))]) hx hb dX2_bestOf_45 hl (k := 4) rfl (xk_inc (k + 1)) (by decide) rfl (fun ls hl => ?_)
          refine lv_goto (tgt := 5) hx hb dX2_bestOf_48 (by decide) ?_
          exact ih_5 (k + 1) c9 _ _ (by omega) (by show _ = (if tl_wx (A 0) a b (tl_bo (A 0) a b k) < tl_wx (A 0) a b (k + 1) then k + 1 else tl_bo (A 0) a b k); rw [← hc1, if_neg (by omega)]) (by omega) hI_13 ls (lv_sub hl [2, 3, 4, 1, 0] rfl)
        · refine lv_iload hx hb dX2_bestOf_38 (lv_at hl 4 rfl) ?_
          refine lv_goto (tgt := 44) hx hb dX2_bestOf_40 (by decide) ?_
          refine lv_istore_n (lv' := [(3, .int (nI (k + 1))), (0, .ref o), (1, .int (nI a)), (2, .int (nI b)), (4, .int (nI (k + 1)))]) hx hb dX2_bestOf_44 rfl hl (by decide) rfl (fun ls hl => ?_)
          refine lv_iinc (v := nI (k + 1 + 1)) (lv' := [(4, .int (nI (k + 1 + 1))), (3, .int (nI (k + 1))), (0, .ref o), (1, .int (nI a)), (2, .int (nI b))]) hx hb dX2_bestOf_45 hl (k := 4) rfl (xk_inc (k + 1)) (by decide) rfl (fun ls hl => ?_)
          refine lv_goto (tgt := 5) hx hb dX2_bestOf_48 (by decide) ?_
          exact ih_5 (k + 1) (k + 1) _ _ (by omega) (by show _ = (if tl_wx (A 0) a b (tl_bo (A 0) a b k) < tl_wx (A 0) a b (k + 1) then k + 1 else tl_bo (A 0) a b k); rw [← hc1, if_pos hc_35]) (by omega) hI_13 ls (lv_sub hl [2, 3, 4, 1, 0] rfl)
  exact hloop_5 (8 - 0 + 1) 0 0 _ _ (by omega) (by rfl) (Nat.lt_succ_self _) hI ls (lv_sub hl [2, 3, 4, 1, 0] rfl)
set_option maxHeartbeats 4000000 in
theorem m2_bestPoint (g : xk_G) {X : xk_H} {o : Nat} {ad : Nat → Nat} {A : Nat → Nat → Nat} {S : Nat → Nat} (hM : tm_Ok g X o ad A S) (hk : tl_inv (A 0)) (x y : Int32) : xk_C g yX2_bestPoint (ws_ yX2_bestPoint cX2_bestPoint 3 (some .int)) ({ frames := 3, cells := 0, slots := 0, locals := 68 } : Room) [.ref o, .int x, .int y] X (xk_Qi (tl_bpt (A 0) x y) (fun X1 => X1 = X)) := by
  refine xk_ofW (by decide +kernel) (Nat.le_of_ble_eq_true rfl) (fun p e s m args below meth c B hr hname hargs hI ls hl => ?_)
  have B : xk_B g p s m args meth c RX2 cX2_bestPoint 3 := B
  have hl : lv_has ls 3 [(0, .ref o), (1, .int x), (2, .int y)] := hl
  have hx := B.1
  have hb := B.2.1
  have hM0 := hM
  obtain ⟨hO, hA0, hA1, hA2, hA3, hA4, hA5, hA6, hA7, hA8, hA9⟩ := hM
  have hk0 := hk
  obtain ⟨k0, kb, kw, kl, ks, kr1, kr2, kwt, kL⟩ := hk
  have hfr : xk_fr o X X := xk_fr.rf
  refine lv_aload_n hx hb dX2_bestPoint_0 rfl (lv_at hl 0 rfl) ?_
  refine lv_iload_n hx hb dX2_bestPoint_1 rfl (lv_at hl 1 rfl) ?_
  refine xk_ri0 (xk_cV B hI hl [.int x] [] 1 (m2_isBulb g hM0 hk0 x) hO rfl (lw_V q1543 q1545 qs37 q79 q1546) ⟨rfl, by decide +kernel, by decide +kernel, by decide +kernel⟩ ⟨Nat.le_of_ble_eq_true rfl, Nat.le_of_ble_eq_true rfl⟩ rfl rfl (Nat.le_of_ble_eq_true rfl) dX2_bestPoint_2 (Nat.le_of_ble_eq_true rfl) (Nat.le_of_ble_eq_true rfl)) hI (fun H_2 L_3 hI_1 => ?_)
  refine xk_top (y := xk_z (tl_isb (A 0) (x))) rfl ?_
  refine xk_if_eq_z (tgt := 25) hx hb dX2_bestPoint_5 (by decide) (fun hc_5 => ?_) (fun hc_5 => ?_)
  · refine lv_iconst (v := (-1)) hx hb dX2_bestPoint_25 (by decide) ?_
    exact xk_reti B hI_1 hr rfl dX2_bestPoint_26 (Nat.le_of_ble_eq_true rfl) (Nat.le_of_ble_eq_true rfl) (⟨by unfold tl_bpt; rw [if_neg (by rw [hc_5]; decide)], rfl⟩)
  · refine lv_aload_n hx hb dX2_bestPoint_8 rfl (lv_at hl 0 rfl) ?_
    refine lv_iload_n hx hb dX2_bestPoint_9 rfl (lv_at hl 2 rfl) ?_
    refine xk_ri0 (xk_cV B hI_1 hl [.int y] [] 1 (m2_isBulb g hM0 hk0 y) hO rfl (lw_V q1543 q1545 qs37 q79 q1546) ⟨rfl, by decide +kernel, by decide +kernel, by decide +kernel⟩ ⟨Nat.le_of_ble_eq_true rfl, Nat.le_of_ble_eq_true rfl⟩ rfl rfl (Nat.le_of_ble_eq_true rfl) dX2_bestPoint_10 (Nat.le_of_ble_eq_true rfl) (Nat.le_of_ble_eq_true rfl)) hI_1 (fun H_5 L_6 hI_4 => ?_)
    refine xk_top (y := xk_z (tl_isb (A 0) (y))) rfl ?_
    refine xk_if_eq_z (tgt := 25) hx hb dX2_bestPoint_13 (by decide) (fun hc_13 => ?_) (fun hc_13 => ?_)
    · refine lv_iconst (v := (-1)) hx hb dX2_bestPoint_25 (by decide) ?_
      exact xk_reti B hI_4 hr rfl dX2_bestPoint_26 (Nat.le_of_ble_eq_true rfl) (Nat.le_of_ble_eq_true rfl) (⟨by unfold tl_bpt; rw [if_pos hc_5, if_neg (by rw [hc_13]; decide)], rfl⟩)
    · obtain ⟨hx1, hx2⟩ := tl_isb_k hc_5
      obtain ⟨hy1, hy2⟩ := tl_isb_k hc_13
      refine lv_aload_n hx hb dX2_bestPoint_16 rfl (lv_at hl 0 rfl) ?_
      refine lv_iload_n hx hb dX2_bestPoint_17 rfl (lv_at hl 1 rfl) ?_
      refine xk_top hx1 ?_
      refine lv_iload_n hx hb dX2_bestPoint_18 rfl (lv_at hl 2 rfl) ?_
      refine xk_top hy1 ?_
      refine xk_ri0 (xk_cV B hI_4 hl [.int (nI (tl_n x)), .int (nI (tl_n y))] [] 2 (m2_bestOf g hM0 hk0 (a := tl_n x) (b := tl_n y) (by omega) (by omega)) hO rfl (lw_V q1697 q1699 qs56 q79 q1700) ⟨rfl, by decide +kernel, by decide +kernel, by decide +kernel⟩ ⟨Nat.le_of_ble_eq_true rfl, Nat.le_of_ble_eq_true rfl⟩ rfl rfl (Nat.le_of_ble_eq_true rfl) dX2_bestPoint_19 (Nat.le_of_ble_eq_true rfl) (Nat.le_of_ble_eq_true rfl)) hI_4 (fun H_8 L_9 hI_7 => ?_)
      refine xk_top (y := nI (tl_bo (A 0) (tl_n x) (tl_n y) 8)) rfl ?_
      refine lv_goto (tgt := 26) hx hb dX2_bestPoint_22 (by decide) ?_
      exact xk_reti B hI_7 hr rfl dX2_bestPoint_26 (Nat.le_of_ble_eq_true rfl) (Nat.le_of_ble_eq_true rfl) (⟨by unfold tl_bpt; rw [if_pos hc_5, if_pos hc_13], rfl⟩)
set_option maxHeartbeats 4000000 in
theorem m2_bestPair (g : xk_G) {X : xk_H} {o : Nat} {ad : Nat → Nat} {A : Nat → Nat → Nat} {S : Nat → Nat} (hM : tm_Ok g X o ad A S) (hk : tl_inv (A 0)) (x : Int32) : xk_C g yX2_bestPair (ws_ yX2_bestPair cX2_bestPair 7 (some .int)) ({ frames := 3, cells := 0, slots := 0, locals := 68 } : Room) [.ref o, .int x] X (xk_Qi (tl_pair (A 0) x) (fun X1 => X1 = X)) := by
  refine xk_ofW (by decide +kernel) (Nat.le_of_ble_eq_true rfl) (fun p e s m args below meth c B hr hname hargs hI ls hl => ?_)
  have B : xk_B g p s m args meth c RX2 cX2_bestPair 7 := B
  have hl : lv_has ls 7 [(0, .ref o), (1, .int x)] := hl
  have hx := B.1
  have hb := B.2.1
  have hM0 := hM
  obtain ⟨hO, hA0, hA1, hA2, hA3, hA4, hA5, hA6, hA7, hA8, hA9⟩ := hM
  have hk0 := hk
  obtain ⟨k0, kb, kw, kl, ks, kr1, kr2, kwt, kL⟩ := hk
  have hfr : xk_fr o X X := xk_fr.rf
  refine lv_iload_n hx hb dX2_bestPair_0 rfl (lv_at hl 1 rfl) ?_
  refine lv_i2l hx hb dX2_bestPair_1 rfl ?_
  refine lv_lconst (v := 0) hx hb dX2_bestPair_2 (by decide) ?_
  refine lv_lconst (v := 1) hx hb dX2_bestPair_3 (by decide) ?_
  refine xk_ri0 (xk_cS B hI hl [.long ((x).toInt64), .long (0 : Int64), .long (1 : Int64)] [] 3 (m2_in g (x := (x).toInt) (lo := 0) (hi := 1) (Int32.toInt_toInt64 _) (by decide) (by decide)) (lw_S q1509 q1510 q79 q1511) ⟨by decide +kernel, by decide +kernel, by decide +kernel⟩ ⟨Nat.le_of_ble_eq_true rfl, Nat.le_of_ble_eq_true rfl⟩ rfl rfl (Nat.le_of_ble_eq_true rfl) dX2_bestPair_4 (Nat.le_of_ble_eq_true rfl) (Nat.le_of_ble_eq_true rfl)) hI (fun H_2 L_3 hI_1 => ?_)
  refine xk_top (y := xk_z (tl_rng x 0 1)) rfl ?_
  refine xk_if_ne_z (tgt := 13) hx hb dX2_bestPair_7 (by decide) (fun hc_7 => ?_) (fun hc_7 => ?_)
  · obtain ⟨hx1, hx2, hx3, hx4⟩ := tl_rng_k hc_7 (by decide)
    refine lv_bipush (v := (-4)) hx hb dX2_bestPair_13 (by decide) ?_
    refine lv_istore_n (lv' := [(2, .int (-4)), (0, .ref o), (1, .int x)]) hx hb dX2_bestPair_15 rfl hl (by decide) rfl (fun ls hl => ?_)
    refine lv_bipush (v := (-4)) hx hb dX2_bestPair_16 (by decide) ?_
    refine lv_istore_n (lv' := [(3, .int (-4)), (2, .int (-4)), (0, .ref o), (1, .int x)]) hx hb dX2_bestPair_18 rfl hl (by decide) rfl (fun ls hl => ?_)
    refine lv_iconst (v := nI 0) hx hb dX2_bestPair_19 (by decide) ?_
    refine lv_istore (lv' := [(4, .int (nI 0)), (3, .int (-4)), (2, .int (-4)), (0, .ref o), (1, .int x)]) hx hb dX2_bestPair_20 hl (by decide) rfl (fun ls hl => ?_)
    have hloop_22 : ∀ (n_22 : Nat) (i9 : Nat) (q9 : Nat) (r9 : Nat) (H_4 : Heap) (L_5 : List Loc), (i9 ≤ A 0 0) → (q9 ≤ 73) → ((q9, r9) = tl_bpI (A 0) (tl_n x) i9) → A 0 0 - i9 < n_22 → xk_I g s H_4 X L_5 → ∀ ls : Array Slot, lv_has ls 7 [(0, .ref o), (1, .int x), (2, .int (tm_it q9)), (3, .int (tm_it r9)), (4, .int (nI i9))] → W p (xk_l g) e (({ frames := 3, cells := 0, slots := 0, locals := 68 } : Room)) s m args below meth c H_4 L_5 0 0 (MQ below (xk_Q g (xk_Qi (tl_pair (A 0) x) (fun X1 => X1 = X))) args s (0) (0) (xk_A g)) (F0 m 22 ls []) := by
      intro n_22
      induction n_22 with
      | zero => intros; omega
      | succ n_22 ih_22 =>
        intro i9 q9 r9 H_4 L_5 hi1 hq73 hp0 hm_22  hI_6 ls hl
        refine lv_iload hx hb dX2_bestPair_22 (lv_at hl 4 rfl) ?_
        refine lv_aload_n hx hb dX2_bestPair_24 rfl (lv_at hl 0 rfl) ?_
        refine xk_get B hI_6 hO rfl in_X2 0 (by decide) q1432 rfl dX2_bestPair_25 ?_
        refine lv_iconst (v := nI 0) hx hb dX2_bestPair_28 (by decide) ?_
        refine xk_iald B hI_6 hA0 (by omega) (by decide) dX2_bestPair_29 ?_
        refine xk_icmp_ge (tgt := 126) hx hb (by omega) (by omega) dX2_bestPair_30 (by decide) (fun hc_30 => ?_) (fun hc_30 => ?_)
        · have q1 : i9 = A 0 0 := by omega
          refine lv_iload_n hx hb dX2_bestPair_126 rfl (lv_at hl 3 rfl) ?_
          exact xk_reti B hI_6 hr rfl dX2_bestPair_127 (Nat.le_of_ble_eq_true rfl) (Nat.le_of_ble_eq_true rfl) (⟨by unfold tl_pair; rw [if_pos hc_7, ← q1, ← hp0], rfl⟩)
        · refine lv_iconst (v := nI 0) hx hb dX2_bestPair_33 (by decide) ?_
          refine lv_istore (lv' := [(5, .int (nI 0)), (0, .ref o), (1, .int x), (2, .int (tm_it q9)), (3, .int (tm_it r9)), (4, .int (nI i9))]) hx hb dX2_bestPair_34 hl (by decide) rfl (fun ls hl => ?_)
          have hloop_36 : ∀ (n_36 : Nat) (j9 : Nat) (q8 : Nat) (r8 : Nat) (H_7 : Heap) (L_8 : List Loc), (j9 ≤ A 0 0) → (q8 ≤ 73) → ((q8, r8) = tl_bpJ (A 0) (tl_n x) i9 (tl_bpI (A 0) (tl_n x) i9) j9) → A 0 0 - j9 < n_36 → xk_I g s H_7 X L_8 → ∀ ls : Array Slot, lv_has ls 7 [(0, .ref o), (1, .int x), (2, .int (tm_it q8)), (3, .int (tm_it r8)), (4, .int (nI i9)), (5, .int (nI j9))] → W p (xk_l g) e (({ frames := 3, cells := 0, slots := 0, locals := 68 } : Room)) s m args below meth c H_7 L_8 0 0 (MQ below (xk_Q g (xk_Qi (tl_pair (A 0) x) (fun X1 => X1 = X))) args s (0) (0) (xk_A g)) (F0 m 36 ls []) := by
            intro n_36
            induction n_36 with
            | zero => intros; omega
            | succ n_36 ih_36 =>
              intro j9 q8 r8 H_7 L_8 hj1 hq83 hp1 hm_36  hI_9 ls hl
              refine lv_iload hx hb dX2_bestPair_36 (lv_at hl 5 rfl) ?_
              refine lv_aload_n hx hb dX2_bestPair_38 rfl (lv_at hl 0 rfl) ?_
              refine xk_get B hI_9 hO rfl in_X2 0 (by decide) q1432 rfl dX2_bestPair_39 ?_
              refine lv_iconst (v := nI 0) hx hb dX2_bestPair_42 (by decide) ?_
              refine xk_iald B hI_9 hA0 (by omega) (by decide) dX2_bestPair_43 ?_
              refine xk_icmp_ge (tgt := 120) hx hb (by omega) (by omega) dX2_bestPair_44 (by decide) (fun hc_44 => ?_) (fun hc_44 => ?_)
              · refine lv_iinc (v := nI (i9 + 1)) (lv' := [(4, .int (nI (i9 + 1))), (0, .ref o), (1, .int x), (2, .int (tm_it q8)), (3, .int (tm_it r8)), (5, .int (nI j9))]) hx hb dX2_bestPair_120 hl (k := 4) rfl (xk_inc i9) (by decide) rfl (fun ls hl => ?_)
                refine lv_goto (tgt := 22) hx hb dX2_bestPair_123 (by decide) ?_
                exact ih_22 (i9 + 1) q8 r8 _ _ (by omega) (by omega) (by show _ = tl_bpJ (A 0) (tl_n x) i9 (tl_bpI (A 0) (tl_n x) i9) (A 0 0); rw [hp1, show j9 = A 0 0 by omega]) (by omega) hI_9 ls (lv_sub hl [1, 2, 3, 4, 0] rfl)
              · have qi := kb i9 (by omega)
                have qj := kb j9 (by omega)
                have qb := tl_bo_le (A 0) i9 j9 8
                have qw : tl_wb (A 0) i9 j9 ≤ 72 := tl_wx_le kwt _ _ _
                refine lv_aload_n hx hb dX2_bestPair_47 rfl (lv_at hl 0 rfl) ?_
                refine lv_iload hx hb dX2_bestPair_48 (lv_at hl 4 rfl) ?_
                refine xk_ri0 (xk_cV B hI_9 hl [.int (nI i9)] [] 1 (m2_lives g hM0 (b := i9) (by omega) (show A 0 (14 + 7 * i9 + 3) < 2147483648 from by first | omega | (have := kb i9 (by omega); omega))) hO rfl (lw_V q1548 q1550 qs38 q79 q1551) ⟨rfl, by decide +kernel, by decide +kernel, by decide +kernel⟩ ⟨Nat.le_of_ble_eq_true rfl, Nat.le_of_ble_eq_true rfl⟩ rfl rfl (Nat.le_of_ble_eq_true rfl) dX2_bestPair_50 (Nat.le_of_ble_eq_true rfl) (Nat.le_of_ble_eq_true rfl)) hI_9 (fun H_11 L_12 hI_10 => ?_)
                refine xk_top (y := xk_z (tl_al (A 0) i9)) rfl ?_
                refine xk_if_eq_z (tgt := 88) hx hb dX2_bestPair_53 (by decide) (fun hc_53 => ?_) (fun hc_53 => ?_)
                · refine lv_bipush (v := (-4)) hx hb dX2_bestPair_88 (by decide) ?_
                  refine lv_istore (lv' := [(6, .int (-4)), (0, .ref o), (1, .int x), (2, .int (tm_it q8)), (3, .int (tm_it r8)), (4, .int (nI i9)), (5, .int (nI j9))]) hx hb dX2_bestPair_90 hl (by decide) rfl (fun ls hl => ?_)
                  refine lv_iload hx hb dX2_bestPair_92 (lv_at hl 0 rfl) ?_
                  refine lv_iload_n hx hb dX2_bestPair_94 rfl (lv_at hl 3 rfl) ?_
                  refine xk_raw_icmp_le_t (tgt := 114) hx hb dX2_bestPair_95 (by decide) (tl_it4 _ (by omega)) ?_
                  refine lv_iinc (v := nI (j9 + 1)) (lv' := [(5, .int (nI (j9 + 1))), (6, .int (-4)), (0, .ref o), (1, .int x), (2, .int (tm_it q8)), (3, .int (tm_it r8)), (4, .int (nI i9))]) hx hb dX2_bestPair_114 hl (k := 6) rfl (xk_inc j9) (by decide) rfl (fun ls hl => ?_)
                  refine lv_goto (tgt := 36) hx hb dX2_bestPair_117 (by decide) ?_
                  exact ih_36 (j9 + 1) q8 r8 _ _ (by omega) (by omega) (by show _ = (if tl_al (A 0) i9 = true ∧ tl_al (A 0) j9 = true ∧ (tl_bpJ (A 0) (tl_n x) i9 (tl_bpI (A 0) (tl_n x) i9) j9).1 < tl_wb (A 0) i9 j9 + 1 then (tl_wb (A 0) i9 j9 + 1, (if tl_n x = 1 then j9 else i9) + 1) else tl_bpJ (A 0) (tl_n x) i9 (tl_bpI (A 0) (tl_n x) i9) j9); rw [← hp1]; rw [if_neg (fun z => absurd (hc_53.symm.trans z.1) (by decide))]) (by omega) hI_10 ls (lv_sub hl [2, 3, 4, 5, 6, 0] rfl)
                · refine lv_aload_n hx hb dX2_bestPair_56 rfl (lv_at hl 0 rfl) ?_
                  refine lv_iload hx hb dX2_bestPair_57 (lv_at hl 5 rfl) ?_
                  refine xk_ri0 (xk_cV B hI_10 hl [.int (nI j9)] [] 1 (m2_lives g hM0 (b := j9) (by omega) (show A 0 (14 + 7 * j9 + 3) < 2147483648 from by first | omega | (have := kb j9 (by omega); omega))) hO rfl (lw_V q1548 q1550 qs38 q79 q1551) ⟨rfl, by decide +kernel, by decide +kernel, by decide +kernel⟩ ⟨Nat.le_of_ble_eq_true rfl, Nat.le_of_ble_eq_true rfl⟩ rfl rfl (Nat.le_of_ble_eq_true rfl) dX2_bestPair_59 (Nat.le_of_ble_eq_true rfl) (Nat.le_of_ble_eq_true rfl)) hI_10 (fun H_14 L_15 hI_13 => ?_)
                  refine xk_top (y := xk_z (tl_al (A 0) j9)) rfl ?_
                  refine xk_if_eq_z (tgt := 88) hx hb dX2_bestPair_62 (by decide) (fun hc_62 => ?_) (fun hc_62 => ?_)
                  · refine lv_bipush (v := (-4)) hx hb dX2_bestPair_88 (by decide) ?_
                    refine lv_istore (lv' := [(6, .int (-4)), (0, .ref o), (1, .int x), (2, .int (tm_it q8)), (3, .int (tm_it r8)), (4, .int (nI i9)), (5, .int (nI j9))]) hx hb dX2_bestPair_90 hl (by decide) rfl (fun ls hl => ?_)
                    refine lv_iload hx hb dX2_bestPair_92 (lv_at hl 0 rfl) ?_
                    refine lv_iload_n hx hb dX2_bestPair_94 rfl (lv_at hl 3 rfl) ?_
                    refine xk_raw_icmp_le_t (tgt := 114) hx hb dX2_bestPair_95 (by decide) (tl_it4 _ (by omega)) ?_
                    refine lv_iinc (v := nI (j9 + 1)) (lv' := [(5, .int (nI (j9 + 1))), (6, .int (-4)), (0, .ref o), (1, .int x), (2, .int (tm_it q8)), (3, .int (tm_it r8)), (4, .int (nI i9))]) hx hb dX2_bestPair_114 hl (k := 6) rfl (xk_inc j9) (by decide) rfl (fun ls hl => ?_)
                    refine lv_goto (tgt := 36) hx hb dX2_bestPair_117 (by decide) ?_
                    exact ih_36 (j9 + 1) q8 r8 _ _ (by omega) (by omega) (by show _ = (if tl_al (A 0) i9 = true ∧ tl_al (A 0) j9 = true ∧ (tl_bpJ (A 0) (tl_n x) i9 (tl_bpI (A 0) (tl_n x) i9) j9).1 < tl_wb (A 0) i9 j9 + 1 then (tl_wb (A 0) i9 j9 + 1, (if tl_n x = 1 then j9 else i9) + 1) else tl_bpJ (A 0) (tl_n x) i9 (tl_bpI (A 0) (tl_n x) i9) j9); rw [← hp1]; rw [if_neg (fun z => absurd (hc_62.symm.trans z.2.1) (by decide))]) (by omega) hI_13 ls (lv_sub hl [2, 3, 4, 5, 6, 0] rfl)
                  · refine lv_aload_n hx hb dX2_bestPair_65 rfl (lv_at hl 0 rfl) ?_
                    refine lv_aload_n hx hb dX2_bestPair_66 rfl (lv_at hl 0 rfl) ?_
                    refine lv_iload hx hb dX2_bestPair_67 (lv_at hl 4 rfl) ?_
                    refine lv_iload hx hb dX2_bestPair_69 (lv_at hl 5 rfl) ?_
                    refine lv_aload_n hx hb dX2_bestPair_71 rfl (lv_at hl 0 rfl) ?_
                    refine lv_iload hx hb dX2_bestPair_72 (lv_at hl 4 rfl) ?_
                    refine lv_iload hx hb dX2_bestPair_74 (lv_at hl 5 rfl) ?_
                    refine xk_ri0 (xk_cV B hI_13 hl [.int (nI i9), .int (nI j9)] [.int (nI j9), .int (nI i9), .ref o, .ref o] 2 (m2_bestOf g hM0 hk0 (a := i9) (b := j9) (by omega) (by omega)) hO rfl (lw_V q1697 q1699 qs56 q79 q1700) ⟨rfl, by decide +kernel, by decide +kernel, by decide +kernel⟩ ⟨Nat.le_of_ble_eq_true rfl, Nat.le_of_ble_eq_true rfl⟩ rfl rfl (Nat.le_of_ble_eq_true rfl) dX2_bestPair_76 (Nat.le_of_ble_eq_true rfl) (Nat.le_of_ble_eq_true rfl)) hI_13 (fun H_17 L_18 hI_16 => ?_)
                    refine xk_top (y := nI (tl_bo (A 0) i9 j9 8)) rfl ?_
                    refine xk_ri0 (xk_cV B hI_16 hl [.int (nI i9), .int (nI j9), .int (nI (tl_bo (A 0) i9 j9 8))] [.ref o] 3 (m2_mixed g hM0 (a := i9) (b := j9) (k := tl_bo (A 0) i9 j9 8) (by omega) (by omega) (by omega) (kb _ (by omega)).1 (kb _ (by omega)).1) hO rfl (lw_V q1556 q1558 qs40 q79 q1559) ⟨rfl, by decide +kernel, by decide +kernel, by decide +kernel⟩ ⟨Nat.le_of_ble_eq_true rfl, Nat.le_of_ble_eq_true rfl⟩ rfl rfl (Nat.le_of_ble_eq_true rfl) dX2_bestPair_79 (Nat.le_of_ble_eq_true rfl) (Nat.le_of_ble_eq_true rfl)) hI_16 (fun H_20 L_21 hI_19 => ?_)
                    refine xk_top (y := nI (tl_mx (A 0) i9 j9 (tl_bo (A 0) i9 j9 8))) rfl ?_
                    refine xk_ri0 (xk_cV B hI_19 hl [.int (nI (tl_mx (A 0) i9 j9 (tl_bo (A 0) i9 j9 8)))] [] 1 (m2_worth g hM0 hk0 (pt := tl_mx (A 0) i9 j9 (tl_bo (A 0) i9 j9 8)) (tl_mix_lt (kb _ (by omega)).1 (kb _ (by omega)).1)) hO rfl (lw_V q1636 q1638 qs52 q79 q1639) ⟨rfl, by decide +kernel, by decide +kernel, by decide +kernel⟩ ⟨Nat.le_of_ble_eq_true rfl, Nat.le_of_ble_eq_true rfl⟩ rfl rfl (Nat.le_of_ble_eq_true rfl) dX2_bestPair_82 (Nat.le_of_ble_eq_true rfl) (Nat.le_of_ble_eq_true rfl)) hI_19 (fun H_23 L_24 hI_22 => ?_)
                    refine xk_top (y := nI (tl_wx (A 0) i9 j9 (tl_bo (A 0) i9 j9 8))) rfl ?_
                    refine xk_top (y := nI (tl_wb (A 0) i9 j9)) rfl ?_
                    refine lv_goto (tgt := 90) hx hb dX2_bestPair_85 (by decide) ?_
                    refine lv_istore (lv' := [(6, .int (nI (tl_wb (A 0) i9 j9))), (0, .ref o), (1, .int x), (2, .int (tm_it q8)), (3, .int (tm_it r8)), (4, .int (nI i9)), (5, .int (nI j9))]) hx hb dX2_bestPair_90 hl (by decide) rfl (fun ls hl => ?_)
                    refine lv_iload hx hb dX2_bestPair_92 (lv_at hl 0 rfl) ?_
                    refine lv_iload_n hx hb dX2_bestPair_94 rfl (lv_at hl 3 rfl) ?_
                    refine lv_icmp_le (tgt := 114) hx hb dX2_bestPair_95 (by decide) (fun hc_95 => ?_) (fun hc_95 => ?_)
                    · have hq9 : ¬ q8 < tl_wb (A 0) i9 j9 + 1 := fun z => Int32.not_le.mpr ((tl_itlt (by omega) (by omega)).mpr z) hc_95
                      refine lv_iinc (v := nI (j9 + 1)) (lv' := [(5, .int (nI (j9 + 1))), (6, .int (nI (tl_wb (A 0) i9 j9))), (0, .ref o), (1, .int x), (2, .int (tm_it q8)), (3, .int (tm_it r8)), (4, .int (nI i9))]) hx hb dX2_bestPair_114 hl (k := 6) rfl (xk_inc j9) (by decide) rfl (fun ls hl => ?_)
                      refine lv_goto (tgt := 36) hx hb dX2_bestPair_117 (by decide) ?_
                      exact ih_36 (j9 + 1) q8 r8 _ _ (by omega) (by omega) (by show _ = (if tl_al (A 0) i9 = true ∧ tl_al (A 0) j9 = true ∧ (tl_bpJ (A 0) (tl_n x) i9 (tl_bpI (A 0) (tl_n x) i9) j9).1 < tl_wb (A 0) i9 j9 + 1 then (tl_wb (A 0) i9 j9 + 1, (if tl_n x = 1 then j9 else i9) + 1) else tl_bpJ (A 0) (tl_n x) i9 (tl_bpI (A 0) (tl_n x) i9) j9); rw [← hp1]; rw [if_neg (fun z => hq9 z.2.2)]) (by omega) hI_22 ls (lv_sub hl [2, 3, 4, 5, 6, 0] rfl)
                    · have hq9 : q8 < tl_wb (A 0) i9 j9 + 1 := (tl_itlt (by omega) (by omega)).mp (Int32.not_le.mp hc_95)
                      refine lv_iload hx hb dX2_bestPair_98 (lv_at hl 0 rfl) ?_
                      refine lv_istore_n (lv' := [(2, .int (nI (tl_wb (A 0) i9 j9))), (6, .int (nI (tl_wb (A 0) i9 j9))), (0, .ref o), (1, .int x), (3, .int (tm_it r8)), (4, .int (nI i9)), (5, .int (nI j9))]) hx hb dX2_bestPair_100 rfl hl (by decide) rfl (fun ls hl => ?_)
                      refine lv_iload_n hx hb dX2_bestPair_101 rfl (lv_at hl 3 rfl) ?_
                      refine xk_top hx1 ?_
                      refine lv_iconst (v := nI 1) hx hb dX2_bestPair_102 (by decide) ?_
                      refine xk_icmp_ne (tgt := 111) hx hb (by omega) (by omega) dX2_bestPair_103 (by decide) (fun hc_103 => ?_) (fun hc_103 => ?_)
                      · refine lv_iload hx hb dX2_bestPair_111 (lv_at hl 5 rfl) ?_
                        refine lv_istore_n (lv' := [(3, .int (nI i9)), (2, .int (nI (tl_wb (A 0) i9 j9))), (6, .int (nI (tl_wb (A 0) i9 j9))), (0, .ref o), (1, .int x), (4, .int (nI i9)), (5, .int (nI j9))]) hx hb dX2_bestPair_113 rfl hl (by decide) rfl (fun ls hl => ?_)
                        refine lv_iinc (v := nI (j9 + 1)) (lv' := [(5, .int (nI (j9 + 1))), (3, .int (nI i9)), (2, .int (nI (tl_wb (A 0) i9 j9))), (6, .int (nI (tl_wb (A 0) i9 j9))), (0, .ref o), (1, .int x), (4, .int (nI i9))]) hx hb dX2_bestPair_114 hl (k := 6) rfl (xk_inc j9) (by decide) rfl (fun ls hl => ?_)
                        refine lv_goto (tgt := 36) hx hb dX2_bestPair_117 (by decide) ?_
                        exact ih_36 (j9 + 1) (tl_wb (A 0) i9 j9 + 1) (i9 + 1) _ _ (by omega) (by omega) (by show _ = (if tl_al (A 0) i9 = true ∧ tl_al (A 0) j9 = true ∧ (tl_bpJ (A 0) (tl_n x) i9 (tl_bpI (A 0) (tl_n x) i9) j9).1 < tl_wb (A 0) i9 j9 + 1 then (tl_wb (A 0) i9 j9 + 1, (if tl_n x = 1 then j9 else i9) + 1) else tl_bpJ (A 0) (tl_n x) i9 (tl_bpI (A 0) (tl_n x) i9) j9); rw [← hp1]; rw [if_pos ⟨hc_53, hc_62, hq9⟩, if_neg hc_103]) (by omega) hI_22 ls (lv_sub hl [4, 5, 2, 1, 6, 0] rfl)
                      · refine lv_iload hx hb dX2_bestPair_106 (lv_at hl 6 rfl) ?_
                        refine lv_goto (tgt := 113) hx hb dX2_bestPair_108 (by decide) ?_
                        refine lv_istore_n (lv' := [(3, .int (nI j9)), (2, .int (nI (tl_wb (A 0) i9 j9))), (6, .int (nI (tl_wb (A 0) i9 j9))), (0, .ref o), (1, .int x), (4, .int (nI i9)), (5, .int (nI j9))]) hx hb dX2_bestPair_113 rfl hl (by decide) rfl (fun ls hl => ?_)
                        refine lv_iinc (v := nI (j9 + 1)) (lv' := [(5, .int (nI (j9 + 1))), (3, .int (nI j9)), (2, .int (nI (tl_wb (A 0) i9 j9))), (6, .int (nI (tl_wb (A 0) i9 j9))), (0, .ref o), (1, .int x), (4, .int (nI i9))]) hx hb dX2_bestPair_114 hl (k := 6) rfl (xk_inc j9) (by decide) rfl (fun ls hl => ?_)
                        refine lv_goto (tgt := 36) hx hb dX2_bestPair_117 (by decide) ?_
                        exact ih_36 (j9 + 1) (tl_wb (A 0) i9 j9 + 1) (j9 + 1) _ _ (by omega) (by omega) (by show _ = (if tl_al (A 0) i9 = true ∧ tl_al (A 0) j9 = true ∧ (tl_bpJ (A 0) (tl_n x) i9 (tl_bpI (A 0) (tl_n x) i9) j9).1 < tl_wb (A 0) i9 j9 + 1 then (tl_wb (A 0) i9 j9 + 1, (if tl_n x = 1 then j9 else i9) + 1) else tl_bpJ (A 0) (tl_n x) i9 (tl_bpI (A 0) (tl_n x) i9) j9); rw [← hp1]; rw [if_pos ⟨hc_53, hc_62, hq9⟩, if_pos hc_103]) (by omega) hI_22 ls (lv_sub hl [4, 5, 2, 1, 6, 0] rfl)
          exact hloop_36 (A 0 0 - 0 + 1) 0 q9 r9 _ _ (by omega) (by omega) hp0 (Nat.lt_succ_self _) hI_6 ls (lv_sub hl [1, 2, 3, 4, 5, 0] rfl)
    exact hloop_22 (A 0 0 - 0 + 1) 0 0 0 _ _ (by omega) (by omega) (by rfl) (Nat.lt_succ_self _) hI_1 ls (lv_sub hl [3, 4, 2, 1, 0] rfl)
  · refine lv_bipush (v := (-2)) hx hb dX2_bestPair_10 (by decide) ?_
    exact xk_reti B hI_1 hr rfl dX2_bestPair_12 (Nat.le_of_ble_eq_true rfl) (Nat.le_of_ble_eq_true rfl) (⟨by unfold tl_pair; rw [if_neg (by rw [hc_7]; decide)], rfl⟩)
