/-! the component: printed by tools/comp4.py -/
set_option maxRecDepth 100000
set_option maxHeartbeats 4000000 in
theorem c2_passes (g : xk_G) {X : xk_H} {r b w l a : Nat} {mc : Int32} {pp mm : Nat → Nat} (hB : tb_B g X r b w l a mc pp mm) (hk : tl_inv mm) {n9 : Nat} (hn9 : n9 ≤ 20) : xk_C g yX1_passes (ws_ yX1_passes cX1_passes 4 (some .int)) ({ frames := 10, cells := 220, slots := 2480, locals := 219 } : Room) [.ref b, .int (nI n9)] X (xk_Qi (nI (tl_yrn mm n9)) (fun X1 => ∃ (a1 : Nat) (mc1 : Int32) (pp1 : Nat → Nat), tb_B g X1 r b w l a1 mc1 pp1 (tl_yrs mm n9) ∧ xk_fx (fun o => o.1 = r) X X1)) := by
  refine xk_ofW (by decide +kernel) (Nat.le_of_ble_eq_true rfl) (fun p e s m args below meth c B hr hname hargs hI ls hl => ?_)
  have B : xk_B g p s m args meth c RX1 cX1_passes 4 := B
  have hl : lv_has ls 4 [(0, .ref b), (1, .int (nI n9))] := hl
  have hx := B.1
  have hb := B.2.1
  obtain ⟨hB1, hB2, hL, hF⟩ := id hB
  have hk0 := hk
  obtain ⟨k0, kb, kw, kl, ks, kr1, kr2, kwt, kL⟩ := hk
  refine lv_iconst (v := nI 0) hx hb dX1_passes_0 (by decide) ?_
  refine lv_istore_n (lv' := [(2, .int (nI 0)), (0, .ref b), (1, .int (nI n9))]) hx hb dX1_passes_1 rfl hl (by decide) rfl (fun ls hl => ?_)
  refine lv_iconst (v := nI 0) hx hb dX1_passes_2 (by decide) ?_
  refine lv_istore_n (lv' := [(3, .int (nI 0)), (2, .int (nI 0)), (0, .ref b), (1, .int (nI n9))]) hx hb dX1_passes_3 rfl hl (by decide) rfl (fun ls hl => ?_)
  have hloop_4 : ∀ (n_4 : Nat) (k : Nat) (sm : Nat) (a2 : Nat) (mc2 : Int32) (pp2 : Nat → Nat) (Xl_4 : xk_H) (H_1 : Heap) (L_2 : List Loc), (k ≤ n9) → (sm = tl_yrn mm k) → n9 - k < n_4 → (xk_fx (fun o => o.1 = r) X Xl_4) → (Xl_4 b = some ((r, 1), .inr (2, [.ref l, .ref w, .int (nI ((tl_yrs mm k) 2)), .int (nI ((tl_yrs mm k) 3)), .int (nI ((tl_yrs mm k) 4)), .int (nI ((tl_yrs mm k) 5)), .int (nI ((tl_yrs mm k) 1))]))) → (Xl_4 w = some ((r, 2), xk_iA g 0 8 (tl_wf (tl_yrs mm k)))) → (tb_L g Xl_4 l a2 (r, 3) (r, 4) mc2 ((tl_yrs mm k) 0) pp2) → (tb_F Xl_4 r (tl_yrs mm k) ((tl_yrs mm k) 0) pp2) → xk_I g s H_1 Xl_4 L_2 → ∀ ls : Array Slot, lv_has ls 4 [(0, .ref b), (1, .int (nI n9)), (2, .int (nI sm)), (3, .int (nI k))] → W p (xk_l g) e (({ frames := 10, cells := 220, slots := 2480, locals := 219 } : Room)) s m args below meth c H_1 L_2 (11 * k) (124 * k) (MQ below (xk_Q g (xk_Qi (nI (tl_yrn mm n9)) (fun X1 => ∃ (a1 : Nat) (mc1 : Int32) (pp1 : Nat → Nat), tb_B g X1 r b w l a1 mc1 pp1 (tl_yrs mm n9) ∧ xk_fx (fun o => o.1 = r) X X1))) args s (220) (2480) (xk_A g)) (F0 m 4 ls []) := by
    intro n_4
    induction n_4 with
    | zero => intros; omega
    | succ n_4 ih_4 =>
      intro k sm a2 mc2 pp2 Xl_4 H_1 L_2 hk9 hs1 hm_4 hfm_l4 hk_4 hk_5 hk_6 hk_7 hI_3 ls hl
      have hki := tl_yrs_inv hk0 k
      refine lv_iload_n hx hb dX1_passes_4 rfl (lv_at hl 3 rfl) ?_
      refine lv_iload_n hx hb dX1_passes_5 rfl (lv_at hl 1 rfl) ?_
      refine xk_icmp_ge (tgt := 22) hx hb (by omega) (by omega) dX1_passes_6 (by decide) (fun hc_6 => ?_) (fun hc_6 => ?_)
      · refine lv_iload_n hx hb dX1_passes_22 rfl (lv_at hl 2 rfl) ?_
        obtain rfl : k = n9 := by omega
        exact xk_reti B hI_3 hr rfl dX1_passes_23 (by (try dsimp only); omega) (by (try dsimp only); omega) (⟨by rw [hs1], _, _, _, ⟨hk_4, hk_5, hk_6, hk_7⟩, hfm_l4⟩)
      · refine lv_iload_n hx hb dX1_passes_9 rfl (lv_at hl 2 rfl) ?_
        have hgc0 := tl_gc_le ((tl_yrs mm k) 0)
        have hgs0 := tl_gs_le (n := (tl_yrs mm k) 0) (by have z9 := hki.1; omega)
        refine lv_aload_n hx hb dX1_passes_10 rfl (lv_at hl 0 rfl) ?_
        have hB_8 : tb_B g Xl_4 r b w l a2 mc2 pp2 (tl_yrs mm k) := ⟨hk_4, hk_5, hk_6, hk_7⟩
        refine xk_ri (xk_cV B hI_3 hl [] [.int (nI sm)] 0 (c2_yearGoesBy g hB_8 hki) hk_4 rfl (lw_V q763 q765 qs13 q70 q766) ⟨rfl, by decide +kernel, by decide +kernel, by decide +kernel⟩ ⟨Nat.le_of_ble_eq_true rfl, Nat.le_of_ble_eq_true rfl⟩ rfl rfl (Nat.le_of_ble_eq_true rfl) dX1_passes_11 (by (try dsimp only); omega) (by (try dsimp only); omega)) hI_3 (fun X_12 H_10 L_11 hq_13 hI_9 => ?_)
        refine xk_top (y := nI (if tl_yrb (tl_yrs mm k) = true then 1 else 0)) rfl ?_
        obtain ⟨a_14, mc_15, pp_16, hB_17, hfr_18⟩ := hq_13
        have hfm_19 : xk_fx (fun o => o.1 = r) X X_12 := xk_fx.tr hfm_l4 hfr_18 (fun _ _ _ _ z => z)
        have hk_20 := tl_yr_inv hki
        have hgc20 := tl_gc_le ((tl_yrs mm k) 0)
        have hgs20 := tl_gs_le (n := (tl_yrs mm k) 0) (by have z9 := hki.1; omega)
        obtain ⟨hB_22, hB_23, hB_24, hB_25⟩ : tb_B g X_12 r b w l a_14 mc_15 pp_16 (tl_yr (tl_yrs mm k)) := hB_17
        refine lv_iadd hx hb dX1_passes_14 (xk_top (nI_add _ _) ?_)
        refine lv_istore_n (lv' := [(2, .int (nI (sm + (if tl_yrb (tl_yrs mm k) = true then 1 else 0)))), (0, .ref b), (1, .int (nI n9)), (3, .int (nI k))]) hx hb dX1_passes_15 rfl hl (by decide) rfl (fun ls hl => ?_)
        refine lv_iinc (v := nI (k + 1)) (lv' := [(3, .int (nI (k + 1))), (2, .int (nI (sm + (if tl_yrb (tl_yrs mm k) = true then 1 else 0)))), (0, .ref b), (1, .int (nI n9))]) hx hb dX1_passes_16 hl (k := 3) rfl (xk_inc k) (by decide) rfl (fun ls hl => ?_)
        refine lv_goto (tgt := 4) hx hb dX1_passes_19 (by decide) ?_
        refine W.widen (k := 11 * (k + 1)) (n := 124 * (k + 1)) (by (try dsimp only); omega) (by (try dsimp only); omega) ?_
        exact ih_4 (k + 1) (sm + (if tl_yrb (tl_yrs mm k) = true then 1 else 0)) a_14 mc_15 pp_16 X_12 _ _ (by omega) (by rw [hs1]; rfl) (by omega) hfm_19 hB_22 hB_23 hB_24 hB_25 hI_9 ls (lv_sub hl [2, 3, 1, 0] rfl)
  refine W.widen (k := 11 * 0) (n := 124 * 0) (by (try dsimp only); omega) (by (try dsimp only); omega) ?_
  exact hloop_4 (n9 - 0 + 1) 0 0 a mc pp X _ _ (by omega) rfl (Nat.lt_succ_self _) xk_fx.rf hB1 hB2 hL hF hI ls (lv_sub hl [2, 3, 1, 0] rfl)
