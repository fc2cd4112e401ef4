/-! the component: printed by tools/comp2.py -/
set_option maxRecDepth 100000
set_option maxHeartbeats 4000000 in
theorem c1_has (g : xk_G) {X : xk_H} {r b w l a : Nat} {mc : Int32} {pp mm : Nat → Nat} (hB : tb_B g X r b w l a mc pp mm) (hk : tl_inv mm) {x : Int32} : xk_C g yX1_has (ws_ yX1_has cX1_has 2 (some .boolean)) ({ frames := 1, cells := 0, slots := 0, locals := 22 } : Room) [.ref b, .int x] X (xk_Qi (xk_z (tl_isb mm x)) (fun X1 => X1 = X)) := by
  refine xk_ofW (by decide +kernel) (Nat.le_of_ble_eq_true rfl) (fun p e s m args below meth c B hr hname hargs hI ls hl => ?_)
  have B : xk_B g p s m args meth c RX1 cX1_has 2 := B
  have hl : lv_has ls 2 [(0, .ref b), (1, .int x)] := hl
  have hx := B.1
  have hb := B.2.1
  obtain ⟨hB1, hB2, hL, hF⟩ := id hB
  have hk0 := hk
  obtain ⟨k0, kb, kw, kl, ks, kr1, kr2, kwt, kL⟩ := hk
  refine lv_iload_n hx hb dX1_has_0 rfl (lv_at hl 1 rfl) ?_
  refine lv_iconst (v := nI 0) hx hb dX1_has_1 (by decide) ?_
  refine lv_aload_n hx hb dX1_has_2 rfl (lv_at hl 0 rfl) ?_
  refine xk_get B hI hB1 rfl in_X1 0 (by decide) q145 rfl dX1_has_3 ?_
  refine xk_ri0 (xk_cV B hI hl [] [.int (nI 0), .int x] 0 (j2_size g hL) hL.1 rfl (lw_V q338 q339 q340 q73 q341) ⟨rfl, by decide +kernel, by decide +kernel, by decide +kernel⟩ ⟨Nat.le_of_ble_eq_true rfl, Nat.le_of_ble_eq_true rfl⟩ rfl rfl (Nat.le_of_ble_eq_true rfl) dX1_has_6 (Nat.le_of_ble_eq_true rfl) (Nat.le_of_ble_eq_true rfl)) hI (fun H_2 L_3 hI_1 => ?_)
  refine xk_top (y := nI (mm 0)) rfl ?_
  refine lv_iconst (v := nI 1) hx hb dX1_has_9 (by decide) ?_
  refine lv_isub hx hb dX1_has_10 ?_
  refine xk_ri0 (xk_cSN B hI_1 hl [.int x, .int (nI 0), .int ((nI (mm 0)) - (nI 1))] [] 3 (c0_isBetween g (x := x) (lo := nI 0) (hi := (nI (mm 0)) - (nI 1)) (a9 := 0) (b9 := ((mm 0 : Int) - 1)) (by decide) (tl_isb_eq k0)) q614 q263 q69 q264 ⟨by decide +kernel, by decide +kernel, by decide +kernel⟩ ⟨Nat.le_of_ble_eq_true rfl, Nat.le_of_ble_eq_true rfl⟩ rfl rfl (Nat.le_of_ble_eq_true rfl) dX1_has_11 (Nat.le_of_ble_eq_true rfl) (Nat.le_of_ble_eq_true rfl)) hI_1 (fun H_5 L_6 hI_4 => ?_)
  refine xk_top (y := xk_z (tl_rng x 0 ((mm 0 : Int) - 1))) rfl ?_
  exact xk_reti B hI_4 hr (xk_nz1 _) dX1_has_14 (Nat.le_of_ble_eq_true rfl) (Nat.le_of_ble_eq_true rfl) (⟨rfl, rfl⟩)
set_option maxHeartbeats 4000000 in
theorem c1_worth (g : xk_G) {X : xk_H} {r b w l a : Nat} {mc : Int32} {pp mm : Nat → Nat} (hB : tb_B g X r b w l a mc pp mm) (hk : tl_inv mm) {p9 : Nat} (hp : p9 < 256) : xk_C g yX1_worth (ws_ yX1_worth cX1_worth 4 (some .int)) ({ frames := 1, cells := 0, slots := 0, locals := 21 } : Room) [.ref b, .int (nI p9)] X (xk_Qi (nI (tl_wor mm p9 8)) (fun X1 => X1 = X)) := by
  refine xk_ofW (by decide +kernel) (Nat.le_of_ble_eq_true rfl) (fun p e s m args below meth c B hr hname hargs hI ls hl => ?_)
  have B : xk_B g p s m args meth c RX1 cX1_worth 4 := B
  have hl : lv_has ls 4 [(0, .ref b), (1, .int (nI p9))] := hl
  have hx := B.1
  have hb := B.2.1
  obtain ⟨hB1, hB2, hL, hF⟩ := id hB
  have hk0 := hk
  obtain ⟨k0, kb, kw, kl, ks, kr1, kr2, kwt, kL⟩ := hk
  refine lv_iconst (v := nI 0) hx hb dX1_worth_0 (by decide) ?_
  refine lv_istore_n (lv' := [(2, .int (nI 0)), (0, .ref b), (1, .int (nI p9))]) hx hb dX1_worth_1 rfl hl (by decide) rfl (fun ls hl => ?_)
  refine lv_iconst (v := nI 0) hx hb dX1_worth_2 (by decide) ?_
  refine lv_istore_n (lv' := [(3, .int (nI 0)), (2, .int (nI 0)), (0, .ref b), (1, .int (nI p9))]) hx hb dX1_worth_3 rfl hl (by decide) rfl (fun ls hl => ?_)
  have hloop_4 : ∀ (n_4 : Nat) (sm : Nat) (k : Nat) (H_1 : Heap) (L_2 : List Loc), (k ≤ 8) → (sm = tl_wor mm p9 k) → 8 - k < n_4 → xk_I g s H_1 X L_2 → ∀ ls : Array Slot, lv_has ls 4 [(0, .ref b), (1, .int (nI p9)), (2, .int (nI sm)), (3, .int (nI k))] → W p (xk_l g) e (({ frames := 1, cells := 0, slots := 0, locals := 21 } : Room)) s m args below meth c H_1 L_2 0 0 (MQ below (xk_Q g (xk_Qi (nI (tl_wor mm p9 8)) (fun X1 => X1 = X))) args s (0) (0) (xk_A g)) (F0 m 4 ls []) := by
    intro n_4
    induction n_4 with
    | zero => intros; omega
    | succ n_4 ih_4 =>
      intro sm k H_1 L_2 hk1 hs1 hm_4  hI_3 ls hl
      refine lv_iload_n hx hb dX1_worth_4 rfl (lv_at hl 3 rfl) ?_
      refine lv_bipush (v := nI 8) hx hb dX1_worth_5 (by decide) ?_
      have hb1 := tl_bit_le p9 k
      have hb2 := tl_bit_le (mm 2) k
      refine xk_icmp_ge (tgt := 41) hx hb (by omega) (by omega) dX1_worth_7 (by decide) (fun hc_7 => ?_) (fun hc_7 => ?_)
      · refine lv_iload_n hx hb dX1_worth_41 rfl (lv_at hl 2 rfl) ?_
        exact xk_reti B hI_3 hr rfl dX1_worth_42 (Nat.le_of_ble_eq_true rfl) (Nat.le_of_ble_eq_true rfl) (⟨by rw [hs1, show k = 8 by omega], rfl⟩)
      · refine lv_iload_n hx hb dX1_worth_10 rfl (lv_at hl 1 rfl) ?_
        refine lv_iload_n hx hb dX1_worth_11 rfl (lv_at hl 3 rfl) ?_
        refine xk_ri0 (xk_cSN B hI_3 hl [.int (nI p9), .int (nI k)] [] 2 (c0_isRed g (p9 := p9) (k9 := k) (by omega) (by omega)) q779 q780 q69 q781 ⟨by decide +kernel, by decide +kernel, by decide +kernel⟩ ⟨Nat.le_of_ble_eq_true rfl, Nat.le_of_ble_eq_true rfl⟩ rfl rfl (Nat.le_of_ble_eq_true rfl) dX1_worth_12 (Nat.le_of_ble_eq_true rfl) (Nat.le_of_ble_eq_true rfl)) hI_3 (fun H_5 L_6 hI_4 => ?_)
        refine xk_top (y := nI (tl_bit p9 k)) rfl ?_
        refine lv_aload_n hx hb dX1_worth_15 rfl (lv_at hl 0 rfl) ?_
        refine xk_get B hI_4 hB1 rfl in_X1 2 (by decide) q149 rfl dX1_worth_16 ?_
        refine lv_iload_n hx hb dX1_worth_19 rfl (lv_at hl 3 rfl) ?_
        refine xk_ri0 (xk_cSN B hI_4 hl [.int (nI (mm 2)), .int (nI k)] [.int (nI (tl_bit p9 k))] 2 (c0_isRed g (p9 := mm 2) (k9 := k) (by omega) (by omega)) q779 q780 q69 q781 ⟨by decide +kernel, by decide +kernel, by decide +kernel⟩ ⟨Nat.le_of_ble_eq_true rfl, Nat.le_of_ble_eq_true rfl⟩ rfl rfl (Nat.le_of_ble_eq_true rfl) dX1_worth_20 (Nat.le_of_ble_eq_true rfl) (Nat.le_of_ble_eq_true rfl)) hI_4 (fun H_8 L_9 hI_7 => ?_)
        refine xk_top (y := nI (tl_bit (mm 2) k)) rfl ?_
        refine xk_icmp_ne (tgt := 35) hx hb (by omega) (by omega) dX1_worth_23 (by decide) (fun hc_23 => ?_) (fun hc_23 => ?_)
        · refine lv_iinc (v := nI (k + 1)) (lv' := [(3, .int (nI (k + 1))), (0, .ref b), (1, .int (nI p9)), (2, .int (nI sm))]) hx hb dX1_worth_35 hl (k := 3) rfl (xk_inc k) (by decide) rfl (fun ls hl => ?_)
          refine lv_goto (tgt := 4) hx hb dX1_worth_38 (by decide) ?_
          exact ih_4 sm (k + 1) _ _ (by omega) (by subst hs1; show _ = tl_wor mm p9 k + (if tl_bit p9 k = tl_bit (mm 2) k then mm (6 + k) else 0); rw [if_neg hc_23, Nat.add_zero]) (by omega) hI_7 ls (lv_sub hl [1, 2, 3, 0] rfl)
        · have hwk := kwt k (by omega)
          have hsl := tl_wor_le (p := p9) (n := k) (fun i hi => kwt i (by omega))
          refine lv_iload_n hx hb dX1_worth_26 rfl (lv_at hl 2 rfl) ?_
          refine lv_aload_n hx hb dX1_worth_27 rfl (lv_at hl 0 rfl) ?_
          refine xk_get B hI_7 hB1 rfl in_X1 1 (by decide) q147 rfl dX1_worth_28 ?_
          refine lv_iload_n hx hb dX1_worth_31 rfl (lv_at hl 3 rfl) ?_
          refine xk_iald B hI_7 hB2 (by omega) (by decide) dX1_worth_32 ?_
          refine xk_top (congrArg nI (tl_wf_lt (by omega))) ?_
          refine lv_iadd hx hb dX1_worth_33 (xk_top (nI_add _ _) ?_)
          refine lv_istore_n (lv' := [(2, .int (nI (sm + (mm (6 + k))))), (0, .ref b), (1, .int (nI p9)), (3, .int (nI k))]) hx hb dX1_worth_34 rfl hl (by decide) rfl (fun ls hl => ?_)
          refine lv_iinc (v := nI (k + 1)) (lv' := [(3, .int (nI (k + 1))), (2, .int (nI (sm + (mm (6 + k))))), (0, .ref b), (1, .int (nI p9))]) hx hb dX1_worth_35 hl (k := 3) rfl (xk_inc k) (by decide) rfl (fun ls hl => ?_)
          refine lv_goto (tgt := 4) hx hb dX1_worth_38 (by decide) ?_
          exact ih_4 (sm + (mm (6 + k))) (k + 1) _ _ (by omega) (by subst hs1; show _ = tl_wor mm p9 k + (if tl_bit p9 k = tl_bit (mm 2) k then mm (6 + k) else 0); rw [if_pos hc_23]) (by omega) hI_7 ls (lv_sub hl [2, 3, 1, 0] rfl)
  exact hloop_4 (8 - 0 + 1) 0 0 _ _ (by omega) rfl (Nat.lt_succ_self _) hI ls (lv_sub hl [2, 3, 1, 0] rfl)
set_option maxHeartbeats 4000000 in
theorem c1_living (g : xk_G) {X : xk_H} {r b w l a : Nat} {mc : Int32} {pp mm : Nat → Nat} (hB : tb_B g X r b w l a mc pp mm) (hk : tl_inv mm)  : xk_C g yX1_living (ws_ yX1_living cX1_living 4 (some .int)) ({ frames := 3, cells := 1, slots := 4, locals := 53 } : Room) [.ref b] X (xk_Qi (nI (tl_liv mm (mm 0))) (xk_le X)) := by
  refine xk_ofW (by decide +kernel) (Nat.le_of_ble_eq_true rfl) (fun p e s m args below meth c B hr hname hargs hI ls hl => ?_)
  have B : xk_B g p s m args meth c RX1 cX1_living 4 := B
  have hl : lv_has ls 4 [(0, .ref b)] := hl
  have hx := B.1
  have hb := B.2.1
  obtain ⟨hB1, hB2, hL, hF⟩ := id hB
  have hk0 := hk
  obtain ⟨k0, kb, kw, kl, ks, kr1, kr2, kwt, kL⟩ := hk
  refine lv_iconst (v := nI 0) hx hb dX1_living_0 (by decide) ?_
  refine lv_istore_n (lv' := [(1, .int (nI 0)), (0, .ref b)]) hx hb dX1_living_1 rfl hl (by decide) rfl (fun ls hl => ?_)
  refine lv_aload_n hx hb dX1_living_2 rfl (lv_at hl 1 rfl) ?_
  refine xk_get B hI hB1 rfl in_X1 0 (by decide) q145 rfl dX1_living_3 ?_
  obtain ⟨r_1, hroot_2⟩ := xk_root hI.2
  have hr_3 : r ≠ r_1 := hroot_2 _ _ _ hB1
  have hnr_4 : xk_nr r_1 X := xk_nr.back (P := (fun _ => False)) hroot_2 xk_fx.rf (fun _ z => z.elim)
  refine xk_rr (xk_cV B hI hl [] [] 0 (j2_iterator g hL (ow3 := (r_1, 0)) (xk_on2 (by decide))) hL.1 rfl (lw_V q372 q373 q374 q73 q375) ⟨rfl, by decide +kernel, by decide +kernel, by decide +kernel⟩ ⟨Nat.le_of_ble_eq_true rfl, Nat.le_of_ble_eq_true rfl⟩ rfl rfl (Nat.le_of_ble_eq_true rfl) dX1_living_6 (Nat.le_of_ble_eq_true rfl) (Nat.le_of_ble_eq_true rfl)) hI (fun q_10 X_8 H_6 L_7 hq_9 hI_5 => ?_)
  obtain ⟨hit_11, hf1_12⟩ := hq_9
  have hfm_13 : xk_fx (fun _ => False) X X_8 := xk_fx.tr xk_fx.rf hf1_12 (fun a o e q z => (absurd (congrArg Prod.fst z) (hnr_4 _ _ _ q)))
  refine lv_astore_n (lv' := [(2, .ref q_10), (1, .int (nI 0)), (0, .ref b)]) hx hb dX1_living_9 rfl hl (by decide) rfl (fun ls hl => ?_)
  have hloop_10 : ∀ (n_10 : Nat) (k : Nat) (cn : Nat) (Xl_10 : xk_H) (H_14 : Heap) (L_15 : List Loc), (k ≤ mm 0) → (cn = tl_liv mm k) → mm 0 - k < n_10 → (xk_fx (fun _ => False) X Xl_10) → (tb_L g Xl_10 l a (r, 3) (r, 4) mc (mm 0) pp) → (tb_F Xl_10 r mm (mm 0) pp) → (tb_It Xl_10 q_10 l (r_1, 0) mc k) → xk_I g s H_14 Xl_10 L_15 → ∀ ls : Array Slot, lv_has ls 4 [(2, .ref q_10), (0, .ref b), (1, .int (nI cn))] → W p (xk_l g) e (({ frames := 3, cells := 1, slots := 4, locals := 53 } : Room)) s m args below meth c H_14 L_15 1 4 (MQ below (xk_Q g (xk_Qi (nI (tl_liv mm (mm 0))) (xk_le X))) args s (1) (4) (xk_A g)) (F0 m 10 ls []) := by
    intro n_10
    induction n_10 with
    | zero => intros; omega
    | succ n_10 ih_10 =>
      intro k cn Xl_10 H_14 L_15 hk9 hs1 hm_10 hfm_l10 hk_17 hk_18 hk_19 hI_16 ls hl
      refine lv_aload_n hx hb dX1_living_10 rfl (lv_at hl 0 rfl) ?_
      refine xk_ri50 (xk_cF B hI_16 hl [] [] 0 (j10_hasNext g hk_17 hk_19 (by omega)) hk_19.choose_spec rfl q396 q400 q402 q84 q404 (B.K.fw ⟨by decide +kernel, by decide +kernel⟩ q398 q397 q403 q401 q399) ⟨by decide +kernel, by decide +kernel, by decide +kernel⟩ ⟨Nat.le_of_ble_eq_true rfl, Nat.le_of_ble_eq_true rfl⟩ rfl rfl (Nat.le_of_ble_eq_true rfl) dX1_living_11 (Nat.le_of_ble_eq_true rfl) (Nat.le_of_ble_eq_true rfl)) hI_16 (fun H_21 L_22 hI_20 => ?_)
      refine xk_top (y := xk_z (decide (k < mm 0))) rfl ?_
      refine xk_if_eq_z (tgt := 42) hx hb dX1_living_16 (by decide) (fun hc_16 => ?_) (fun hc_16 => ?_)
      · have hge := of_decide_eq_false hc_16
        have hke : k = mm 0 := by omega
        refine lv_iload_n hx hb dX1_living_42 rfl (lv_at hl 2 rfl) ?_
        exact xk_reti B hI_20 hr rfl dX1_living_43 (Nat.le_of_ble_eq_true rfl) (Nat.le_of_ble_eq_true rfl) (⟨by rw [hs1, hke], (xk_fx.tole hfm_l10)⟩)
      · have hlt := of_decide_eq_true hc_16
        have hll := tl_liv_le (m := mm) (n := k) (fun i hi => (kb i (by omega)).2.2.2.2.1)
        refine lv_aload_n hx hb dX1_living_19 rfl (lv_at hl 0 rfl) ?_
        refine xk_rq5 (xk_cF B hI_20 hl [] [] 0 (j10_next g hk_17 hk_19 (by omega) (xk_on2 (by decide)) (xk_on2 (by decide))) hk_19.choose_spec rfl q406 q409 q411 q84 q413 (B.K.fw ⟨by decide +kernel, by decide +kernel⟩ q408 q407 q412 q410 q399) ⟨by decide +kernel, by decide +kernel, by decide +kernel⟩ ⟨Nat.le_of_ble_eq_true rfl, Nat.le_of_ble_eq_true rfl⟩ rfl rfl (Nat.le_of_ble_eq_true rfl) dX1_living_20 (Nat.le_of_ble_eq_true rfl) (Nat.le_of_ble_eq_true rfl)) hI_20 (fun X_26 H_24 L_25 hq_27 hI_23 => ?_)
        refine W.eq (g2 := F0 m 25 ls [.ref (pp k)]) rfl ?_
        obtain ⟨hit_28, hf1_29⟩ := hq_27
        have hfm_30 : xk_fx (fun _ => False) X X_26 := xk_fx.tr hfm_l10 hf1_29 (fun a o e q z => (absurd (congrArg Prod.fst z) (hnr_4 _ _ _ q)))
        have hf_31 := tb_F.kp hk_18 (fun i hi9 => (fun _ _ q => hf1_29 _ _ _ q (xk_on2 (by omega))))
        have hb_32 : X_26 (pp k) = some ((r, 10 + k), .inr (3, [.int (nI k), .int (nI (mm (14 + 7 * k))), .int (tm_it (mm (14 + 7 * k + 1))), .int (tm_it (mm (14 + 7 * k + 2))), .int (nI (mm (14 + 7 * k + 4))), .int (nI (mm (14 + 7 * k + 5))), .int (nI (mm (14 + 7 * k + 6))), .int (nI (1 - mm (14 + 7 * k + 3)))])) := hf_31 k hlt
        obtain ⟨kp_32, kp1_32, kp2_32, kp3_32, kp4_32, kp5_32, kp6_32⟩ := kb k hlt
        refine xk_castS B hI_23 hb_32 rfl q418 dX1_living_25 ?_
        refine lv_astore_n (lv' := [(3, .ref (pp k)), (2, .ref q_10), (0, .ref b), (1, .int (nI cn))]) hx hb dX1_living_28 rfl hl (by decide) rfl (fun ls hl => ?_)
        refine lv_aload_n hx hb dX1_living_29 rfl (lv_at hl 0 rfl) ?_
        refine xk_get B hI_23 hb_32 rfl in_X5 7 (by decide) q445 rfl dX1_living_30 ?_
        refine xk_if_ne (tgt := 39) hx hb (by omega) dX1_living_33 (by decide) (fun hc_33 => ?_) (fun hc_33 => ?_)
        · refine lv_goto (tgt := 10) hx hb dX1_living_39 (by decide) ?_
          have hf_33 := tb_L.kp hk_17 (fun _ _ q => hf1_29 _ _ _ q (xk_on2 (by decide))) (fun _ _ q => hf1_29 _ _ _ q (xk_on2 (by decide)))
          exact ih_10 (k + 1) cn X_26 _ _ (by omega) (by subst hs1; show _ = tl_liv mm k + mm (14 + 7 * k + 3); omega) (by omega) hfm_30 hf_33 hf_31 hit_28 hI_23 ls (lv_sub hl [1, 2, 3] rfl)
        · refine lv_iinc (v := nI (cn + 1)) (lv' := [(1, .int (nI (cn + 1))), (3, .ref (pp k)), (2, .ref q_10), (0, .ref b)]) hx hb dX1_living_36 hl (k := 3) rfl (xk_inc cn) (by decide) rfl (fun ls hl => ?_)
          refine lv_goto (tgt := 10) hx hb dX1_living_39 (by decide) ?_
          have hf_34 := tb_L.kp hk_17 (fun _ _ q => hf1_29 _ _ _ q (xk_on2 (by decide))) (fun _ _ q => hf1_29 _ _ _ q (xk_on2 (by decide)))
          exact ih_10 (k + 1) (cn + 1) X_26 _ _ (by omega) (by subst hs1; show _ = tl_liv mm k + mm (14 + 7 * k + 3); omega) (by omega) hfm_30 hf_34 hf_31 hit_28 hI_23 ls (lv_sub hl [2, 3, 0] rfl)
  have hf_35 := tb_L.kp hL (fun _ _ q => hf1_12 _ _ _ q (xk_on2 (by decide))) (fun _ _ q => hf1_12 _ _ _ q (xk_on2 (by decide)))
  have hf_36 := tb_F.kp hF (fun i hi9 => (fun _ _ q => hf1_12 _ _ _ q (xk_on2 (by omega))))
  exact hloop_10 (mm 0 - 0 + 1) 0 0 X_8 _ _ (by omega) rfl (Nat.lt_succ_self _) hfm_13 hf_35 hf_36 hit_11 hI_5 ls (lv_sub hl [0, 2, 1] rfl)
set_option maxHeartbeats 4000000 in
theorem c1_isAhead (g : xk_G) {X : xk_H} {r b w l a : Nat} {mc : Int32} {pp mm : Nat → Nat} (hB : tb_B g X r b w l a mc pp mm) (hk : tl_inv mm) {i j : Nat} (hi : i < mm 0) (hj : j < mm 0) : xk_C g yX1_isAhead (ws_ yX1_isAhead cX1_isAhead 4 (some .boolean)) ({ frames := 2, cells := 0, slots := 0, locals := 44 } : Room) [.ref b, .ref (pp i), .ref (pp j)] X (xk_Qi (xk_z (tl_ahd mm i j)) (fun X1 => X1 = X)) := by
  refine xk_ofW (by decide +kernel) (Nat.le_of_ble_eq_true rfl) (fun p e s m args below meth c B hr hname hargs hI ls hl => ?_)
  have B : xk_B g p s m args meth c RX1 cX1_isAhead 4 := B
  have hl : lv_has ls 4 [(0, .ref b), (1, .ref (pp i)), (2, .ref (pp j))] := hl
  have hx := B.1
  have hb := B.2.1
  obtain ⟨hB1, hB2, hL, hF⟩ := id hB
  have hk0 := hk
  obtain ⟨k0, kb, kw, kl, ks, kr1, kr2, kwt, kL⟩ := hk
  refine lv_aload_n hx hb dX1_isAhead_0 rfl (lv_at hl 0 rfl) ?_
  refine lv_aload_n hx hb dX1_isAhead_1 rfl (lv_at hl 1 rfl) ?_
  have hb_1 : X (pp i) = some ((r, 10 + i), .inr (3, [.int (nI i), .int (nI (mm (14 + 7 * i))), .int (tm_it (mm (14 + 7 * i + 1))), .int (tm_it (mm (14 + 7 * i + 2))), .int (nI (mm (14 + 7 * i + 4))), .int (nI (mm (14 + 7 * i + 5))), .int (nI (mm (14 + 7 * i + 6))), .int (nI (1 - mm (14 + 7 * i + 3)))])) := hF i (by omega)
  obtain ⟨kp_1, kp1_1, kp2_1, kp3_1, kp4_1, kp5_1, kp6_1⟩ := kb i (by omega)
  refine xk_get B hI hb_1 rfl in_X5 1 (by decide) q429 rfl dX1_isAhead_2 ?_
  have hB_2 : tb_B g X r b w l a mc pp mm := ⟨hB1, hB2, hL, hF⟩
  refine xk_ri0 (xk_cV B hI hl [.int (nI (mm (14 + 7 * i)))] [] 1 (c1_worth g hB_2 hk0 (p9 := mm (14 + 7 * i)) (by omega)) hB1 rfl (lw_V q775 q776 q777 q70 q778) ⟨rfl, by decide +kernel, by decide +kernel, by decide +kernel⟩ ⟨Nat.le_of_ble_eq_true rfl, Nat.le_of_ble_eq_true rfl⟩ rfl rfl (Nat.le_of_ble_eq_true rfl) dX1_isAhead_5 (Nat.le_of_ble_eq_true rfl) (Nat.le_of_ble_eq_true rfl)) hI (fun H_4 L_5 hI_3 => ?_)
  refine xk_top (y := nI (tl_wor mm (mm (14 + 7 * i)) 8)) rfl ?_
  refine lv_aload_n hx hb dX1_isAhead_8 rfl (lv_at hl 0 rfl) ?_
  refine lv_aload_n hx hb dX1_isAhead_9 rfl (lv_at hl 2 rfl) ?_
  have hb_6 : X (pp j) = some ((r, 10 + j), .inr (3, [.int (nI j), .int (nI (mm (14 + 7 * j))), .int (tm_it (mm (14 + 7 * j + 1))), .int (tm_it (mm (14 + 7 * j + 2))), .int (nI (mm (14 + 7 * j + 4))), .int (nI (mm (14 + 7 * j + 5))), .int (nI (mm (14 + 7 * j + 6))), .int (nI (1 - mm (14 + 7 * j + 3)))])) := hF j (by omega)
  obtain ⟨kp_6, kp1_6, kp2_6, kp3_6, kp4_6, kp5_6, kp6_6⟩ := kb j (by omega)
  refine xk_get B hI_3 hb_6 rfl in_X5 1 (by decide) q429 rfl dX1_isAhead_10 ?_
  have hB_7 : tb_B g X r b w l a mc pp mm := ⟨hB1, hB2, hL, hF⟩
  refine xk_ri0 (xk_cV B hI_3 hl [.int (nI (mm (14 + 7 * j)))] [.int (nI (tl_wor mm (mm (14 + 7 * i)) 8))] 1 (c1_worth g hB_7 hk0 (p9 := mm (14 + 7 * j)) (by omega)) hB1 rfl (lw_V q775 q776 q777 q70 q778) ⟨rfl, by decide +kernel, by decide +kernel, by decide +kernel⟩ ⟨Nat.le_of_ble_eq_true rfl, Nat.le_of_ble_eq_true rfl⟩ rfl rfl (Nat.le_of_ble_eq_true rfl) dX1_isAhead_13 (Nat.le_of_ble_eq_true rfl) (Nat.le_of_ble_eq_true rfl)) hI_3 (fun H_9 L_10 hI_8 => ?_)
  refine xk_top (y := nI (tl_wor mm (mm (14 + 7 * j)) 8)) rfl ?_
  refine lv_isub hx hb dX1_isAhead_16 ?_
  have hs0 := tl_sub0 (a := tl_wor mm (mm (14 + 7 * i)) 8) (b := tl_wor mm (mm (14 + 7 * j)) 8) (by have := tl_wor_le (p := mm (14 + 7 * i)) (n := 8) kwt; omega) (by have := tl_wor_le (p := mm (14 + 7 * j)) (n := 8) kwt; omega)
  refine lv_istore_n (lv' := [(3, .int ((nI (tl_wor mm (mm (14 + 7 * i)) 8)) - (nI (tl_wor mm (mm (14 + 7 * j)) 8)))), (0, .ref b), (1, .ref (pp i)), (2, .ref (pp j))]) hx hb dX1_isAhead_17 rfl hl (by decide) rfl (fun ls hl => ?_)
  refine lv_iload_n hx hb dX1_isAhead_18 rfl (lv_at hl 0 rfl) ?_
  refine lv_if_gt (tgt := 37) hx hb dX1_isAhead_19 (by decide) (fun hc_19 => ?_) (fun hc_19 => ?_)
  · refine lv_iconst (v := nI 1) hx hb dX1_isAhead_37 (by decide) ?_
    refine lv_goto (tgt := 42) hx hb dX1_isAhead_38 (by decide) ?_
    exact xk_reti B hI_8 hr (by decide) dX1_isAhead_42 (Nat.le_of_ble_eq_true rfl) (Nat.le_of_ble_eq_true rfl) (⟨by rw [show tl_ahd mm i j = true from (tl_ahd_iff _ _ _).mpr (by have q1 := hs0.1.mp hc_19; omega), xk_z1], rfl⟩)
  · refine lv_iload_n hx hb dX1_isAhead_22 rfl (lv_at hl 0 rfl) ?_
    refine lv_if_ne (tgt := 41) hx hb dX1_isAhead_23 (by decide) (fun hc_23 => ?_) (fun hc_23 => ?_)
    · refine lv_iconst (v := nI 0) hx hb dX1_isAhead_41 (by decide) ?_
      exact xk_reti B hI_8 hr (by decide) dX1_isAhead_42 (Nat.le_of_ble_eq_true rfl) (Nat.le_of_ble_eq_true rfl) (⟨by rw [show tl_ahd mm i j = false from Bool.eq_false_iff.mpr (fun z => by have q9 := (tl_ahd_iff _ _ _).mp z; have q1 : ¬ tl_wor mm (mm (14 + 7 * j)) 8 < tl_wor mm (mm (14 + 7 * i)) 8 := fun z => hc_19 (hs0.1.mpr z); have q2 : ¬ tl_wor mm (mm (14 + 7 * i)) 8 = tl_wor mm (mm (14 + 7 * j)) 8 := fun z => hc_23 (hs0.2.mpr z); omega), xk_z0], rfl⟩)
    · refine lv_aload_n hx hb dX1_isAhead_26 rfl (lv_at hl 2 rfl) ?_
      refine xk_get B hI_8 hb_1 rfl in_X5 0 (by decide) q425 rfl dX1_isAhead_27 ?_
      refine lv_aload_n hx hb dX1_isAhead_30 rfl (lv_at hl 3 rfl) ?_
      refine xk_get B hI_8 hb_6 rfl in_X5 0 (by decide) q425 rfl dX1_isAhead_31 ?_
      refine xk_icmp_le (tgt := 41) hx hb (by omega) (by omega) dX1_isAhead_34 (by decide) (fun hc_34 => ?_) (fun hc_34 => ?_)
      · refine lv_iconst (v := nI 0) hx hb dX1_isAhead_41 (by decide) ?_
        exact xk_reti B hI_8 hr (by decide) dX1_isAhead_42 (Nat.le_of_ble_eq_true rfl) (Nat.le_of_ble_eq_true rfl) (⟨by rw [show tl_ahd mm i j = false from Bool.eq_false_iff.mpr (fun z => by have q9 := (tl_ahd_iff _ _ _).mp z; have q1 : ¬ tl_wor mm (mm (14 + 7 * j)) 8 < tl_wor mm (mm (14 + 7 * i)) 8 := fun z => hc_19 (hs0.1.mpr z); have q2 := hs0.2.mp hc_23; omega), xk_z0], rfl⟩)
      · refine lv_iconst (v := nI 1) hx hb dX1_isAhead_37 (by decide) ?_
        refine lv_goto (tgt := 42) hx hb dX1_isAhead_38 (by decide) ?_
        exact xk_reti B hI_8 hr (by decide) dX1_isAhead_42 (Nat.le_of_ble_eq_true rfl) (Nat.le_of_ble_eq_true rfl) (⟨by rw [show tl_ahd mm i j = true from (tl_ahd_iff _ _ _).mpr (by have q1 : ¬ tl_wor mm (mm (14 + 7 * j)) 8 < tl_wor mm (mm (14 + 7 * i)) 8 := fun z => hc_19 (hs0.1.mpr z); have q2 := hs0.2.mp hc_23; omega), xk_z1], rfl⟩)
set_option maxHeartbeats 4000000 in
theorem c1_order (g : xk_G) {X : xk_H} {r b w l a : Nat} {mc : Int32} {pp mm : Nat → Nat} (hB : tb_B g X r b w l a mc pp mm) (hk : tl_inv mm)  : xk_C g yX1_order (ws_ yX1_order cX1_order 5 (some (.object "java/util/ArrayList"))) ({ frames := 6, cells := 4, slots := 32, locals := 129 } : Room) [.ref b] X (xk_Qr (fun q X1 => ∃ (r2 a2 : Nat) (mc2 : Int32) (qq : Nat → Nat), xk_nr r2 X ∧ tb_L g X1 q a2 (r2, 0) (r2, 1) mc2 (tl_liv mm (mm 0)) qq ∧ (∀ j, j < tl_liv mm (mm 0) → qq j = pp (tl_atN mm j)) ∧ xk_le X X1)) := by
  refine xk_ofW (by decide +kernel) (Nat.le_of_ble_eq_true rfl) (fun p e s m args below meth c B hr hname hargs hI ls hl => ?_)
  have B : xk_B g p s m args meth c RX1 cX1_order 5 := B
  have hl : lv_has ls 5 [(0, .ref b)] := hl
  have hx := B.1
  have hb := B.2.1
  obtain ⟨hB1, hB2, hL, hF⟩ := id hB
  have hk0 := hk
  obtain ⟨k0, kb, kw, kl, ks, kr1, kr2, kwt, kL⟩ := hk
  obtain ⟨r_1, hroot_2⟩ := xk_root hI.2
  have hr_3 : r ≠ r_1 := hroot_2 _ _ _ hB1
  have hnr_4 : xk_nr r_1 X := xk_nr.back (P := (fun _ => False)) hroot_2 xk_fx.rf (fun _ z => z.elim)
  refine xk_newo B hI (fun q9 => (r_1, 0)) (ci := 11) (C := RJ2) (T := TJ2) (N := 3) rfl in_J2 tyJ2 tyJ2_ok q116 q117 q73 (fs := [.int (nI 0), .null, .int (nI 0)]) (fun j hj => by rcases (show j = 0 ∨ j = 1 ∨ j = 2 by omega) with rfl | rfl | rfl <;> rfl) (Nat.le_of_ble_eq_true rfl) (Nat.le_of_ble_eq_true rfl) dX1_order_0 (fun q_5 X_6 H_7 h0_8 hf_9 hn_10 hI_11 => ?_)
  have hle_12 := xk_le.fresh h0_8 hn_10
  have hfm_13 : xk_fx (fun _ => False) X X_6 := xk_fx.le xk_fx.rf hle_12
  refine lv_dup hx hb dX1_order_3 rfl ?_
  refine xk_rv (xk_cI B hI_11 hl [] [.ref q_5] 0 (j2_init g (ow2 := (r_1, 1)) (pp := (fun _ => 0)) hf_9) q120 q73 q118 q119 rfl ⟨by decide +kernel, by decide +kernel, by decide +kernel⟩ ⟨Nat.le_of_ble_eq_true rfl, Nat.le_of_ble_eq_true rfl⟩ rfl rfl (Nat.le_of_ble_eq_true rfl) dX1_order_4 (Nat.le_of_ble_eq_true rfl) (Nat.le_of_ble_eq_true rfl)) hI_11 (fun X_17 H_15 L_16 hq_18 hI_14 => ?_)
  obtain ⟨hL_19, hf1_20⟩ := hq_18
  have hfm_21 : xk_fx (fun _ => False) X X_17 := xk_fx.tr hfm_13 hf1_20 (fun a o e q z => (absurd (congrArg Prod.fst z) (hnr_4 _ _ _ q)))
  refine lv_astore_n (lv' := [(1, .ref q_5), (0, .ref b)]) hx hb dX1_order_7 rfl hl (by decide) rfl (fun ls hl => ?_)
  refine lv_aload_n hx hb dX1_order_8 rfl (lv_at hl 1 rfl) ?_
  have hf_22 := hle_12 _ _ hB1
  have hf_23 := hf1_20 _ _ _ hf_22 (xk_on2 (by decide))
  refine xk_get B hI_14 hf_23 rfl in_X1 0 (by decide) q145 rfl dX1_order_9 ?_
  have hf_24 := tb_L.le hL hle_12
  have hf_25 := tb_L.kp hf_24 (fun _ _ q => hf1_20 _ _ _ q (xk_on2 (by decide))) (fun _ _ q => hf1_20 _ _ _ q (xk_on2 (by decide)))
  obtain ⟨r_26, hroot_27⟩ := xk_root hI_14.2
  have hr_28 : r ≠ r_26 := hroot_27 _ _ _ hf_23
  have hr_29 : r_1 ≠ r_26 := hroot_27 _ _ _ hL_19.1
  have hnr_30 : xk_nr r_26 X := xk_nr.back (P := (fun _ => False)) hroot_27 hfm_21 (fun _ z => z.elim)
  refine xk_rr (xk_cV B hI_14 hl [] [] 0 (j2_iterator g hf_25 (ow3 := (r_26, 0)) (xk_on2 (by decide))) hf_25.1 rfl (lw_V q372 q373 q374 q73 q375) ⟨rfl, by decide +kernel, by decide +kernel, by decide +kernel⟩ ⟨Nat.le_of_ble_eq_true rfl, Nat.le_of_ble_eq_true rfl⟩ rfl rfl (Nat.le_of_ble_eq_true rfl) dX1_order_12 (Nat.le_of_ble_eq_true rfl) (Nat.le_of_ble_eq_true rfl)) hI_14 (fun q_36 X_34 H_32 L_33 hq_35 hI_31 => ?_)
  obtain ⟨hit_37, hf1_38⟩ := hq_35
  have hfm_39 : xk_fx (fun _ => False) X X_34 := xk_fx.tr hfm_21 hf1_38 (fun a o e q z => (absurd (congrArg Prod.fst z) (hnr_30 _ _ _ q)))
  refine lv_astore_n (lv' := [(2, .ref q_36), (1, .ref q_5), (0, .ref b)]) hx hb dX1_order_15 rfl hl (by decide) rfl (fun ls hl => ?_)
  have hloop_16 : ∀ (n_16 : Nat) (k : Nat) (a2 : Nat) (mc2 : Int32) (qq : Nat → Nat) (Xl_16 : xk_H) (H_40 : Heap) (L_41 : List Loc), (k ≤ mm 0) → (∀ j, j < (tl_ord mm k).length → qq j = pp ((tl_ord mm k).getD j 0)) → mm 0 - k < n_16 → (xk_fx (fun _ => False) X Xl_16) → (Xl_16 b = some ((r, 1), .inr (2, [.ref l, .ref w, .int (nI (mm 2)), .int (nI (mm 3)), .int (nI (mm 4)), .int (nI (mm 5)), .int (nI (mm 1))]))) → (Xl_16 w = some ((r, 2), xk_iA g 0 8 (tl_wf mm))) → (tb_L g Xl_16 l a (r, 3) (r, 4) mc (mm 0) pp) → (tb_F Xl_16 r mm (mm 0) pp) → (tb_It Xl_16 q_36 l (r_26, 0) mc k) → (tb_L g Xl_16 q_5 a2 (r_1, 0) (r_1, 1) mc2 ((tl_ord mm k).length) qq) → xk_I g s H_40 Xl_16 L_41 → ∀ ls : Array Slot, lv_has ls 5 [(2, .ref q_36), (0, .ref b), (1, .ref q_5)] → W p (xk_l g) e (({ frames := 6, cells := 4, slots := 32, locals := 129 } : Room)) s m args below meth c H_40 L_41 (2 + tl_gcs (tl_ord mm k).length) (7 + tl_gss (tl_ord mm k).length) (MQ below (xk_Q g (xk_Qr (fun q X1 => ∃ (r2 a2 : Nat) (mc2 : Int32) (qq : Nat → Nat), xk_nr r2 X ∧ tb_L g X1 q a2 (r2, 0) (r2, 1) mc2 (tl_liv mm (mm 0)) qq ∧ (∀ j, j < tl_liv mm (mm 0) → qq j = pp (tl_atN mm j)) ∧ xk_le X X1))) args s (4) (32) (xk_A g)) (F0 m 16 ls []) := by
    intro n_16
    induction n_16 with
    | zero => intros; omega
    | succ n_16 ih_16 =>
      intro k a2 mc2 qq Xl_16 H_40 L_41 hk9 hqq hm_16 hfm_l16 hk_43 hk_44 hk_45 hk_46 hk_47 hk_48 hI_42 ls hl
      have hll := tl_ord_len (m := mm) (k := k) (fun i hi => (kb i (by omega)).2.2.2.2.1)
      have hlm := tl_liv_mono (m := mm) (n := k) (k := mm 0) (by omega)
      have hg12 := tl_gcs12 (tl_ord mm k).length (by omega)
      refine lv_aload_n hx hb dX1_order_16 rfl (lv_at hl 0 rfl) ?_
      refine xk_ri50 (xk_cF B hI_42 hl [] [] 0 (j10_hasNext g hk_45 hk_47 (by omega)) hk_47.choose_spec rfl q396 q400 q402 q84 q404 (B.K.fw ⟨by decide +kernel, by decide +kernel⟩ q398 q397 q403 q401 q399) ⟨by decide +kernel, by decide +kernel, by decide +kernel⟩ ⟨Nat.le_of_ble_eq_true rfl, Nat.le_of_ble_eq_true rfl⟩ rfl rfl (Nat.le_of_ble_eq_true rfl) dX1_order_17 (by (try dsimp only); omega) (by (try dsimp only); omega)) hI_42 (fun H_50 L_51 hI_49 => ?_)
      refine xk_top (y := xk_z (decide (k < mm 0))) rfl ?_
      refine xk_if_eq_z (tgt := 90) hx hb dX1_order_22 (by decide) (fun hc_22 => ?_) (fun hc_22 => ?_)
      · have hge := of_decide_eq_false hc_22
        have hke : k = mm 0 := by omega
        subst hke
        refine lv_aload_n hx hb dX1_order_90 rfl (lv_at hl 2 rfl) ?_
        exact xk_retr B hI_49 hr (Or.inl ⟨_, rfl⟩) (Or.inr ⟨_, rfl⟩) dX1_order_91 (by (try dsimp only); omega) (by (try dsimp only); omega) (⟨_, rfl, r_1, _, _, _, hnr_4, by rw [← hll]; exact hk_48, fun j hj => by rw [hqq j (by omega), tl_atN_ord], (xk_fx.tole hfm_l16)⟩)
      · have hlt := of_decide_eq_true hc_22
        refine lv_aload_n hx hb dX1_order_25 rfl (lv_at hl 0 rfl) ?_
        refine xk_rq5 (xk_cF B hI_49 hl [] [] 0 (j10_next g hk_45 hk_47 (by omega) (xk_on2 (by decide)) (xk_on2 (by decide))) hk_47.choose_spec rfl q406 q409 q411 q84 q413 (B.K.fw ⟨by decide +kernel, by decide +kernel⟩ q408 q407 q412 q410 q399) ⟨by decide +kernel, by decide +kernel, by decide +kernel⟩ ⟨Nat.le_of_ble_eq_true rfl, Nat.le_of_ble_eq_true rfl⟩ rfl rfl (Nat.le_of_ble_eq_true rfl) dX1_order_26 (by (try dsimp only); omega) (by (try dsimp only); omega)) hI_49 (fun X_55 H_53 L_54 hq_56 hI_52 => ?_)
        refine W.eq (g2 := F0 m 31 ls [.ref (pp k)]) rfl ?_
        obtain ⟨hit_57, hf1_58⟩ := hq_56
        have hfm_59 : xk_fx (fun _ => False) X X_55 := xk_fx.tr hfm_l16 hf1_58 (fun a o e q z => (absurd (congrArg Prod.fst z) (hnr_30 _ _ _ q)))
        have hf_60 := tb_F.kp hk_46 (fun i hi9 => (fun _ _ q => hf1_58 _ _ _ q (xk_on2 (by omega))))
        have hb_61 : X_55 (pp k) = some ((r, 10 + k), .inr (3, [.int (nI k), .int (nI (mm (14 + 7 * k))), .int (tm_it (mm (14 + 7 * k + 1))), .int (tm_it (mm (14 + 7 * k + 2))), .int (nI (mm (14 + 7 * k + 4))), .int (nI (mm (14 + 7 * k + 5))), .int (nI (mm (14 + 7 * k + 6))), .int (nI (1 - mm (14 + 7 * k + 3)))])) := hf_60 k hlt
        obtain ⟨kp_61, kp1_61, kp2_61, kp3_61, kp4_61, kp5_61, kp6_61⟩ := kb k hlt
        refine xk_castS B hI_52 hb_61 rfl q418 dX1_order_31 ?_
        refine lv_astore_n (lv' := [(3, .ref (pp k)), (2, .ref q_36), (0, .ref b), (1, .ref q_5)]) hx hb dX1_order_34 rfl hl (by decide) rfl (fun ls hl => ?_)
        refine lv_aload_n hx hb dX1_order_35 rfl (lv_at hl 0 rfl) ?_
        refine xk_get B hI_52 hb_61 rfl in_X5 7 (by decide) q445 rfl dX1_order_36 ?_
        refine xk_if_eq (tgt := 45) hx hb (by omega) dX1_order_39 (by decide) (fun hc_39 => ?_) (fun hc_39 => ?_)
        · have hal : tl_al mm k = true := decide_eq_true (by omega)
          have ho1 : tl_ord mm (k + 1) = tl_ins mm k (tl_ord mm k) := if_pos hal
          have ho2 : (tl_ord mm (k + 1)).length = (tl_ord mm k).length + 1 := by rw [ho1]; exact tl_ins_len
          have ho3 := tl_ord_len (m := mm) (k := k + 1) (fun i hi => (kb i (by omega)).2.2.2.2.1)
          have ho4 := tl_liv_mono (m := mm) (n := k + 1) (k := mm 0) (by omega)
          have ho5 : tl_gcs (tl_ord mm (k + 1)).length = tl_gcs (tl_ord mm k).length + tl_gc (tl_ord mm k).length := by rw [ho2]; rfl
          have ho6 : tl_gss (tl_ord mm (k + 1)).length = tl_gss (tl_ord mm k).length + tl_gs (tl_ord mm k).length := by rw [ho2]; rfl
          have ho7 := tl_gcs12 (tl_ord mm (k + 1)).length (by omega)
          refine lv_iconst (v := nI 0) hx hb dX1_order_45 (by decide) ?_
          refine lv_istore (lv' := [(4, .int (nI 0)), (3, .ref (pp k)), (2, .ref q_36), (0, .ref b), (1, .ref q_5)]) hx hb dX1_order_46 hl (by decide) rfl (fun ls hl => ?_)
          have hloop_48 : ∀ (n_48 : Nat) (at9 : Nat) (H_62 : Heap) (L_63 : List Loc), (at9 ≤ (tl_ord mm k).length) → (∀ j, j < at9 → tl_ahd mm ((tl_ord mm k).getD j 0) k = true) → (tl_ord mm k).length - at9 < n_48 → xk_I g s H_62 X_55 L_63 → ∀ ls : Array Slot, lv_has ls 5 [(0, .ref b), (1, .ref q_5), (2, .ref q_36), (3, .ref (pp k)), (4, .int (nI at9))] → W p (xk_l g) e (({ frames := 6, cells := 4, slots := 32, locals := 129 } : Room)) s m args below meth c H_62 L_63 (2 + tl_gcs (tl_ord mm k).length) (7 + tl_gss (tl_ord mm k).length) (MQ below (xk_Q g (xk_Qr (fun q X1 => ∃ (r2 a2 : Nat) (mc2 : Int32) (qq : Nat → Nat), xk_nr r2 X ∧ tb_L g X1 q a2 (r2, 0) (r2, 1) mc2 (tl_liv mm (mm 0)) qq ∧ (∀ j, j < tl_liv mm (mm 0) → qq j = pp (tl_atN mm j)) ∧ xk_le X X1))) args s (4) (32) (xk_A g)) (F0 m 48 ls []) := by
            intro n_48
            induction n_48 with
            | zero => intros; omega
            | succ n_48 ih_48 =>
              intro at9 H_62 L_63 hat1 hat2 hm_48  hI_64 ls hl
              refine lv_iload hx hb dX1_order_48 (lv_at hl 4 rfl) ?_
              refine lv_aload_n hx hb dX1_order_50 rfl (lv_at hl 1 rfl) ?_
              have hf_65 := tb_L.kp hk_48 (fun _ _ q => hf1_58 _ _ _ q (xk_on0 hr_29)) (fun _ _ q => hf1_58 _ _ _ q (xk_on2 (by decide)))
              refine xk_ri0 (xk_cV B hI_64 hl [] [.int (nI at9)] 0 (j2_size g hf_65) hf_65.1 rfl (lw_V q338 q339 q340 q73 q341) ⟨rfl, by decide +kernel, by decide +kernel, by decide +kernel⟩ ⟨Nat.le_of_ble_eq_true rfl, Nat.le_of_ble_eq_true rfl⟩ rfl rfl (Nat.le_of_ble_eq_true rfl) dX1_order_51 (by (try dsimp only); omega) (by (try dsimp only); omega)) hI_64 (fun H_67 L_68 hI_66 => ?_)
              refine xk_top (y := nI ((tl_ord mm k).length)) rfl ?_
              refine xk_icmp_ge (tgt := 80) hx hb (by omega) (by omega) dX1_order_54 (by decide) (fun hc_54 => ?_) (fun hc_54 => ?_)
              · refine lv_aload_n hx hb dX1_order_80 rfl (lv_at hl 1 rfl) ?_
                refine lv_iload hx hb dX1_order_81 (lv_at hl 4 rfl) ?_
                refine lv_aload_n hx hb dX1_order_83 rfl (lv_at hl 3 rfl) ?_
                refine xk_rv (xk_cV B hI_66 hl [.int (nI at9), .ref (pp k)] [] 2 (j2_add3 g hf_65 (by omega) (by omega) (xk_on1 (by decide)) ⟨_, _, hb_61, xk_kd5, not_or.mpr ⟨(xk_on2 (by omega)), (xk_on2 (by omega))⟩⟩ (fun i9 hi9 => by rw [hqq i9 hi9]; exact ⟨_, _, hf_60 _ (by have := (tl_ord_lt hi9).1; omega), xk_kd5, not_or.mpr ⟨xk_on0 hr_3, xk_on0 hr_3⟩⟩)) hf_65.1 rfl (lw_V q782 q783 q784 q73 q785) ⟨rfl, by decide +kernel, by decide +kernel, by decide +kernel⟩ ⟨Nat.le_of_ble_eq_true rfl, Nat.le_of_ble_eq_true rfl⟩ rfl rfl (Nat.le_of_ble_eq_true rfl) dX1_order_84 (by (try dsimp only); omega) (by (try dsimp only); omega)) hI_66 (fun X_72 H_70 L_71 hq_73 hI_69 => ?_)
                obtain ⟨qa_74, hL_75, hf2_76⟩ := hq_73
                have hfm_77 : xk_fx (fun _ => False) X X_72 := xk_fx.tr hfm_59 hf2_76 (fun a o e q z => z.elim (fun z => (absurd (congrArg Prod.fst z) (hnr_4 _ _ _ q))) (fun z => (absurd (congrArg Prod.fst z) (hnr_4 _ _ _ q))))
                refine lv_goto (tgt := 16) hx hb dX1_order_87 (by decide) ?_
                have hL_78 : tb_L g X_72 q_5 qa_74 (r_1, 0) (r_1, 1) (mc2 + nI 1) (tl_ord mm (k + 1)).length (tl_insf qq at9 (pp k)) := by rw [ho2]; exact hL_75
                refine W.widen (k := 2 + tl_gcs (tl_ord mm (k + 1)).length) (n := 7 + tl_gss (tl_ord mm (k + 1)).length) (by (try dsimp only); omega) (by (try dsimp only); omega) ?_
                have hf_79 := hf1_58 _ _ _ hk_43 (xk_on2 (by decide))
                have hf_80 := hf2_76 _ _ _ hf_79 (not_or.mpr ⟨(xk_on2 (by decide)), (xk_on0 hr_3)⟩)
                have hf_81 := hf1_58 _ _ _ hk_44 (xk_on2 (by decide))
                have hf_82 := hf2_76 _ _ _ hf_81 (not_or.mpr ⟨(xk_on2 (by decide)), (xk_on2 (by decide))⟩)
                have hf_83 := tb_L.kp hk_45 (fun _ _ q => hf1_58 _ _ _ q (xk_on2 (by decide))) (fun _ _ q => hf1_58 _ _ _ q (xk_on2 (by decide)))
                have hf_84 := tb_L.kp hf_83 (fun _ _ q => hf2_76 _ _ _ q (not_or.mpr ⟨(xk_on2 (by decide)), (xk_on2 (by decide))⟩)) (fun _ _ q => hf2_76 _ _ _ q (not_or.mpr ⟨(xk_on2 (by decide)), (xk_on2 (by decide))⟩))
                have hf_85 := tb_F.kp hf_60 (fun i hi9 => (fun _ _ q => hf2_76 _ _ _ q (not_or.mpr ⟨(xk_on2 (by omega)), (xk_on2 (by omega))⟩)))
                have hf_86 := tb_It.kp hit_57 (fun _ _ q => hf2_76 _ _ _ q (not_or.mpr ⟨(xk_on0 (Ne.symm hr_29)), (xk_on2 (by decide))⟩))
                exact ih_16 (k + 1) qa_74 (mc2 + nI 1) (tl_insf qq at9 (pp k)) X_72 _ _ (by omega) (by intro j hj; rw [ho1, tl_ins_at (tl_ord mm k) at9 hat1 hat2 (fun z => absurd z (by omega))]; simp only [tl_insf]; by_cases q1 : j < at9; (rw [if_pos q1, if_pos q1]; exact hqq j (by omega)); (rw [if_neg q1, if_neg q1]; by_cases q2 : j = at9; (rw [if_pos q2, if_pos q2]); (rw [if_neg q2, if_neg q2]; exact hqq (j - 1) (by rw [ho2] at hj; omega)))) (by omega) hfm_77 hf_80 hf_82 hf_84 hf_85 hf_86 hL_78 hI_69 ls (lv_sub hl [2, 0, 1] rfl)
              · refine lv_aload_n hx hb dX1_order_57 rfl (lv_at hl 0 rfl) ?_
                refine lv_aload_n hx hb dX1_order_58 rfl (lv_at hl 1 rfl) ?_
                refine lv_iload hx hb dX1_order_59 (lv_at hl 4 rfl) ?_
                refine xk_rq0 (xk_cV B hI_66 hl [.int (nI at9)] [.ref b] 1 (j2_get g hf_65 (i := at9) (by omega)) hf_65.1 rfl (lw_V q616 q617 q618 q73 q619) ⟨rfl, by decide +kernel, by decide +kernel, by decide +kernel⟩ ⟨Nat.le_of_ble_eq_true rfl, Nat.le_of_ble_eq_true rfl⟩ rfl rfl (Nat.le_of_ble_eq_true rfl) dX1_order_61 (by (try dsimp only); omega) (by (try dsimp only); omega)) hI_66 (fun H_88 L_89 hI_87 => ?_)
                refine W.eq (g2 := F0 m 64 ls [.ref (qq at9), .ref b]) rfl ?_
                have hoj := (tl_ord_lt (mm := mm) (k := k) (j := at9) (by omega)).1
                refine W.eq (g2 := F0 m 64 ls [.ref (pp ((tl_ord mm k).getD at9 0)), .ref b]) (by rw [hqq at9 (by omega)]) ?_
                have hb_90 : X_55 (pp ((tl_ord mm k).getD at9 0)) = some ((r, 10 + ((tl_ord mm k).getD at9 0)), .inr (3, [.int (nI ((tl_ord mm k).getD at9 0)), .int (nI (mm (14 + 7 * ((tl_ord mm k).getD at9 0)))), .int (tm_it (mm (14 + 7 * ((tl_ord mm k).getD at9 0) + 1))), .int (tm_it (mm (14 + 7 * ((tl_ord mm k).getD at9 0) + 2))), .int (nI (mm (14 + 7 * ((tl_ord mm k).getD at9 0) + 4))), .int (nI (mm (14 + 7 * ((tl_ord mm k).getD at9 0) + 5))), .int (nI (mm (14 + 7 * ((tl_ord mm k).getD at9 0) + 6))), .int (nI (1 - mm (14 + 7 * ((tl_ord mm k).getD at9 0) + 3)))])) := hf_60 ((tl_ord mm k).getD at9 0) (by omega)
                obtain ⟨kp_90, kp1_90, kp2_90, kp3_90, kp4_90, kp5_90, kp6_90⟩ := kb ((tl_ord mm k).getD at9 0) (by omega)
                refine xk_castS B hI_87 hb_90 rfl q418 dX1_order_64 ?_
                refine lv_aload_n hx hb dX1_order_67 rfl (lv_at hl 3 rfl) ?_
                have hf_91 := hf1_58 _ _ _ hk_43 (xk_on2 (by decide))
                have hf_92 := hf1_58 _ _ _ hk_44 (xk_on2 (by decide))
                have hf_93 := tb_L.kp hk_45 (fun _ _ q => hf1_58 _ _ _ q (xk_on2 (by decide))) (fun _ _ q => hf1_58 _ _ _ q (xk_on2 (by decide)))
                have hB_94 : tb_B g X_55 r b w l a mc pp mm := ⟨hf_91, hf_92, hf_93, hf_60⟩
                refine xk_ri0 (xk_cV B hI_87 hl [.ref (pp ((tl_ord mm k).getD at9 0)), .ref (pp k)] [] 2 (c1_isAhead g hB_94 hk0 (i := (tl_ord mm k).getD at9 0) (j := k) (by omega) hlt) hf_91 rfl (lw_V q771 q773 qs14 q70 q774) ⟨rfl, by decide +kernel, by decide +kernel, by decide +kernel⟩ ⟨Nat.le_of_ble_eq_true rfl, Nat.le_of_ble_eq_true rfl⟩ rfl rfl (Nat.le_of_ble_eq_true rfl) dX1_order_68 (by (try dsimp only); omega) (by (try dsimp only); omega)) hI_87 (fun H_96 L_97 hI_95 => ?_)
                refine xk_top (y := xk_z (tl_ahd mm ((tl_ord mm k).getD at9 0) k)) rfl ?_
                refine xk_if_eq_z (tgt := 80) hx hb dX1_order_71 (by decide) (fun hc_71 => ?_) (fun hc_71 => ?_)
                · refine lv_aload_n hx hb dX1_order_80 rfl (lv_at hl 1 rfl) ?_
                  refine lv_iload hx hb dX1_order_81 (lv_at hl 4 rfl) ?_
                  refine lv_aload_n hx hb dX1_order_83 rfl (lv_at hl 3 rfl) ?_
                  refine xk_rv (xk_cV B hI_95 hl [.int (nI at9), .ref (pp k)] [] 2 (j2_add3 g hf_65 (by omega) (by omega) (xk_on1 (by decide)) ⟨_, _, hb_61, xk_kd5, not_or.mpr ⟨(xk_on2 (by omega)), (xk_on2 (by omega))⟩⟩ (fun i9 hi9 => by rw [hqq i9 hi9]; exact ⟨_, _, hf_60 _ (by have := (tl_ord_lt hi9).1; omega), xk_kd5, not_or.mpr ⟨xk_on0 hr_3, xk_on0 hr_3⟩⟩)) hf_65.1 rfl (lw_V q782 q783 q784 q73 q785) ⟨rfl, by decide +kernel, by decide +kernel, by decide +kernel⟩ ⟨Nat.le_of_ble_eq_true rfl, Nat.le_of_ble_eq_true rfl⟩ rfl rfl (Nat.le_of_ble_eq_true rfl) dX1_order_84 (by (try dsimp only); omega) (by (try dsimp only); omega)) hI_95 (fun X_101 H_99 L_100 hq_102 hI_98 => ?_)
                  obtain ⟨qa_103, hL_104, hf2_105⟩ := hq_102
                  have hfm_106 : xk_fx (fun _ => False) X X_101 := xk_fx.tr hfm_59 hf2_105 (fun a o e q z => z.elim (fun z => (absurd (congrArg Prod.fst z) (hnr_4 _ _ _ q))) (fun z => (absurd (congrArg Prod.fst z) (hnr_4 _ _ _ q))))
                  refine lv_goto (tgt := 16) hx hb dX1_order_87 (by decide) ?_
                  have hL_107 : tb_L g X_101 q_5 qa_103 (r_1, 0) (r_1, 1) (mc2 + nI 1) (tl_ord mm (k + 1)).length (tl_insf qq at9 (pp k)) := by rw [ho2]; exact hL_104
                  refine W.widen (k := 2 + tl_gcs (tl_ord mm (k + 1)).length) (n := 7 + tl_gss (tl_ord mm (k + 1)).length) (by (try dsimp only); omega) (by (try dsimp only); omega) ?_
                  have hf_108 := hf2_105 _ _ _ hf_91 (not_or.mpr ⟨(xk_on2 (by decide)), (xk_on0 hr_3)⟩)
                  have hf_109 := hf2_105 _ _ _ hf_92 (not_or.mpr ⟨(xk_on2 (by decide)), (xk_on2 (by decide))⟩)
                  have hf_110 := tb_L.kp hf_93 (fun _ _ q => hf2_105 _ _ _ q (not_or.mpr ⟨(xk_on2 (by decide)), (xk_on2 (by decide))⟩)) (fun _ _ q => hf2_105 _ _ _ q (not_or.mpr ⟨(xk_on2 (by decide)), (xk_on2 (by decide))⟩))
                  have hf_111 := tb_F.kp hf_60 (fun i hi9 => (fun _ _ q => hf2_105 _ _ _ q (not_or.mpr ⟨(xk_on2 (by omega)), (xk_on2 (by omega))⟩)))
                  have hf_112 := tb_It.kp hit_57 (fun _ _ q => hf2_105 _ _ _ q (not_or.mpr ⟨(xk_on0 (Ne.symm hr_29)), (xk_on2 (by decide))⟩))
                  exact ih_16 (k + 1) qa_103 (mc2 + nI 1) (tl_insf qq at9 (pp k)) X_101 _ _ (by omega) (by intro j hj; rw [ho1, tl_ins_at (tl_ord mm k) at9 hat1 hat2 (fun _ z => by rw [z] at hc_71; exact absurd hc_71 (by decide))]; simp only [tl_insf]; by_cases q1 : j < at9; (rw [if_pos q1, if_pos q1]; exact hqq j (by omega)); (rw [if_neg q1, if_neg q1]; by_cases q2 : j = at9; (rw [if_pos q2, if_pos q2]); (rw [if_neg q2, if_neg q2]; exact hqq (j - 1) (by rw [ho2] at hj; omega)))) (by omega) hfm_106 hf_108 hf_109 hf_110 hf_111 hf_112 hL_107 hI_98 ls (lv_sub hl [2, 0, 1] rfl)
                · refine lv_iinc (v := nI (at9 + 1)) (lv' := [(4, .int (nI (at9 + 1))), (0, .ref b), (1, .ref q_5), (2, .ref q_36), (3, .ref (pp k))]) hx hb dX1_order_74 hl (k := 4) rfl (xk_inc at9) (by decide) rfl (fun ls hl => ?_)
                  refine lv_goto (tgt := 48) hx hb dX1_order_77 (by decide) ?_
                  exact ih_48 (at9 + 1) _ _ (by omega) (by intro j hj; by_cases q9 : j = at9; (rw [q9]; exact hc_71); exact hat2 j (by omega)) (by omega) hI_95 ls (lv_sub hl [1, 2, 3, 4, 0] rfl)
          exact hloop_48 ((tl_ord mm k).length - 0 + 1) 0 _ _ (by omega) (fun j hj => absurd hj (Nat.not_lt_zero j)) (Nat.lt_succ_self _) hI_52 ls (lv_sub hl [3, 4, 2, 1, 0] rfl)
        · have hal : ¬ tl_al mm k = true := fun z => by have q9 : mm (14 + 7 * k + 3) = 1 := of_decide_eq_true z; omega
          have ho1 : tl_ord mm (k + 1) = tl_ord mm k := if_neg hal
          have ho5 : tl_gcs (tl_ord mm (k + 1)).length = tl_gcs (tl_ord mm k).length := by rw [ho1]
          have ho6 : tl_gss (tl_ord mm (k + 1)).length = tl_gss (tl_ord mm k).length := by rw [ho1]
          refine lv_goto (tgt := 16) hx hb dX1_order_42 (by decide) ?_
          have hf_113 := tb_L.kp hk_48 (fun _ _ q => hf1_58 _ _ _ q (xk_on0 hr_29)) (fun _ _ q => hf1_58 _ _ _ q (xk_on2 (by decide)))
          have hL_114 : tb_L g X_55 q_5 a2 (r_1, 0) (r_1, 1) mc2 (tl_ord mm (k + 1)).length qq := by rw [ho1]; exact hf_113
          refine W.widen (k := 2 + tl_gcs (tl_ord mm (k + 1)).length) (n := 7 + tl_gss (tl_ord mm (k + 1)).length) (by (try dsimp only); omega) (by (try dsimp only); omega) ?_
          have hf_115 := hf1_58 _ _ _ hk_43 (xk_on2 (by decide))
          have hf_116 := hf1_58 _ _ _ hk_44 (xk_on2 (by decide))
          have hf_117 := tb_L.kp hk_45 (fun _ _ q => hf1_58 _ _ _ q (xk_on2 (by decide))) (fun _ _ q => hf1_58 _ _ _ q (xk_on2 (by decide)))
          exact ih_16 (k + 1) a2 mc2 qq X_55 _ _ (by omega) (by intro j hj; rw [ho1] at hj ⊢; exact hqq j hj) (by omega) hfm_59 hf_115 hf_116 hf_117 hf_60 hit_57 hL_114 hI_52 ls (lv_sub hl [1, 2, 3] rfl)
  refine W.widen (k := 2 + tl_gcs (tl_ord mm 0).length) (n := 7 + tl_gss (tl_ord mm 0).length) (by (try dsimp only); omega) (by (try dsimp only); omega) ?_
  have hf_118 := hf1_38 _ _ _ hf_23 (xk_on2 (by decide))
  have hf_119 := hle_12 _ _ hB2
  have hf_120 := hf1_20 _ _ _ hf_119 (xk_on2 (by decide))
  have hf_121 := hf1_38 _ _ _ hf_120 (xk_on2 (by decide))
  have hf_122 := tb_L.kp hf_25 (fun _ _ q => hf1_38 _ _ _ q (xk_on2 (by decide))) (fun _ _ q => hf1_38 _ _ _ q (xk_on2 (by decide)))
  have hf_123 := tb_F.le hF hle_12
  have hf_124 := tb_F.kp hf_123 (fun i hi9 => (fun _ _ q => hf1_20 _ _ _ q (xk_on2 (by omega))))
  have hf_125 := tb_F.kp hf_124 (fun i hi9 => (fun _ _ q => hf1_38 _ _ _ q (xk_on2 (by omega))))
  have hf_126 := tb_L.kp hL_19 (fun _ _ q => hf1_38 _ _ _ q (xk_on0 hr_29)) (fun _ _ q => hf1_38 _ _ _ q (xk_on2 (by decide)))
  exact hloop_16 (mm 0 - 0 + 1) 0 (xk_Em g) (nI 0) (fun _ => 0) X_34 _ _ (by omega) (fun j hj => absurd hj (Nat.not_lt_zero j)) (Nat.lt_succ_self _) hfm_39 hf_118 hf_121 hf_122 hf_125 hit_37 hf_126 hI_31 ls (lv_sub hl [0, 2, 1] rfl)
