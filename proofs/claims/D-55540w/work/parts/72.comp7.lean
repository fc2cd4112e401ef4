/-! the component: printed by tools/comp4.py -/
set_option maxRecDepth 100000
set_option maxHeartbeats 4000000 in
theorem c2_yearGoesBy (g : xk_G) {X : xk_H} {r b w l a : Nat} {mc : Int32} {pp mm : Nat → Nat} (hB : tb_B g X r b w l a mc pp mm) (hk : tl_inv mm)  : xk_C g yX1_yearGoesBy (ws_ yX1_yearGoesBy cX1_yearGoesBy 5 (some .int)) ({ frames := 9, cells := 10 + tl_gc (mm 0), slots := 75 + tl_gs (mm 0), locals := 195 } : Room) [.ref b] X (xk_Qi (nI (if tl_yrb mm = true then 1 else 0)) (fun X1 => ∃ (a1 : Nat) (mc1 : Int32) (pp1 : Nat → Nat), tb_B g X1 r b w l a1 mc1 pp1 (tl_yr mm) ∧ xk_fx (fun o => o.1 = r) X X1)) := by
  refine xk_ofW (by decide +kernel) (Nat.le_of_ble_eq_true rfl) (fun p e s m args below meth c B hr hname hargs hI ls hl => ?_)
  have B : xk_B g p s m args meth c RX1 cX1_yearGoesBy 5 := B
  have hl : lv_has ls 5 [(0, .ref b)] := hl
  have hx := B.1
  have hb := B.2.1
  obtain ⟨hB1, hB2, hL, hF⟩ := id hB
  have hk0 := hk
  obtain ⟨k0, kb, kw, kl, ks, kr1, kr2, kwt, kL⟩ := hk
  refine lv_aload_n hx hb dX1_yearGoesBy_0 rfl (lv_at hl 0 rfl) ?_
  have hB_1 : tb_B g X r b w l a mc pp mm := ⟨hB1, hB2, hL, hF⟩
  refine xk_rr (xk_cV B hI hl [] [] 0 (c1_order g hB_1 hk0) hB1 rfl (lw_V q767 q768 q769 q70 q770) ⟨rfl, by decide +kernel, by decide +kernel, by decide +kernel⟩ ⟨Nat.le_of_ble_eq_true rfl, Nat.le_of_ble_eq_true rfl⟩ rfl rfl (Nat.le_of_ble_eq_true rfl) dX1_yearGoesBy_1 (by (try dsimp only); (try simp only [show tl_draw mm 0 = mm 0 from rfl]); omega) (by (try dsimp only); (try simp only [show tl_draw mm 0 = mm 0 from rfl]); omega)) hI (fun q_7 X_5 H_3 L_4 hq_6 hI_2 => ?_)
  obtain ⟨ro_8, ao_9, mco_10, qqo_11, hro_12, hLo_13, hqqo_14, hleo_15⟩ := hq_6
  have hr_16 : r ≠ ro_8 := hro_12 _ _ _ hB1
  have hnr_17 : xk_nr ro_8 X := xk_nr.back (P := (fun o => o.1 = r)) hro_12 xk_fx.rf (fun _ z => by rw [z]; exact hr_16)
  have hfm_18 : xk_fx (fun o => o.1 = r) X X_5 := xk_fx.le xk_fx.rf hleo_15
  refine lv_astore_n (lv' := [(1, .ref q_7), (0, .ref b)]) hx hb dX1_yearGoesBy_4 rfl hl (by decide) rfl (fun ls hl => ?_)
  refine lv_iconst (v := nI 0) hx hb dX1_yearGoesBy_5 (by decide) ?_
  refine lv_istore_n (lv' := [(2, .int (nI 0)), (1, .ref q_7), (0, .ref b)]) hx hb dX1_yearGoesBy_6 rfl hl (by decide) rfl (fun ls hl => ?_)
  refine lv_aload_n hx hb dX1_yearGoesBy_7 rfl (lv_at hl 1 rfl) ?_
  refine xk_ri0 (xk_cV B hI_2 hl [] [] 0 (j2_size g hLo_13) hLo_13.1 rfl (lw_V q338 q339 q340 q73 q341) ⟨rfl, by decide +kernel, by decide +kernel, by decide +kernel⟩ ⟨Nat.le_of_ble_eq_true rfl, Nat.le_of_ble_eq_true rfl⟩ rfl rfl (Nat.le_of_ble_eq_true rfl) dX1_yearGoesBy_8 (by (try dsimp only); (try simp only [show tl_draw mm 0 = mm 0 from rfl]); omega) (by (try dsimp only); (try simp only [show tl_draw mm 0 = mm 0 from rfl]); omega)) hI_2 (fun H_20 L_21 hI_19 => ?_)
  refine xk_top (y := nI (tl_liv mm (mm 0))) rfl ?_
  refine lv_iconst (v := nI 2) hx hb dX1_yearGoesBy_11 (by decide) ?_
  refine xk_icmp_lt (tgt := 76) hx hb (by omega) (by omega) dX1_yearGoesBy_12 (by decide) (fun hc_12 => ?_) (fun hc_12 => ?_)
  · have hyb : tl_yrb mm = false := decide_eq_false (by omega)
    have hye : tl_yr1 mm = mm := by unfold tl_yr1; rw [hyb]; rfl
    have hk1 := tl_yr1_inv hk0
    obtain ⟨-, -, -, -, -, -, -, -, hl12⟩ := id hk1
    have hf_22 := hleo_15 _ _ hB1
    have hf_23 := hleo_15 _ _ hB2
    have hf_24 := tb_L.le hL hleo_15
    have hf_25 := tb_F.le hF hleo_15
    have hB_26 : tb_B g X_5 r b w l a mc pp mm := ⟨hf_22, hf_23, hf_24, hf_25⟩
    obtain ⟨hB_27, hB_28, hB_29, hB_30⟩ : tb_B g X_5 r b w l a mc pp (tl_yr1 mm) := by rw [hye]; exact hB_26
    refine lv_aload_n hx hb dX1_yearGoesBy_76 rfl (lv_at hl 2 rfl) ?_
    have hB_31 : tb_B g X_5 r b w l a mc pp (tl_yr1 mm) := ⟨hB_27, hB_28, hB_29, hB_30⟩
    refine xk_rr (xk_cV B hI_19 hl [] [] 0 (c1_order g hB_31 hk1) hB_27 rfl (lw_V q767 q768 q769 q70 q770) ⟨rfl, by decide +kernel, by decide +kernel, by decide +kernel⟩ ⟨Nat.le_of_ble_eq_true rfl, Nat.le_of_ble_eq_true rfl⟩ rfl rfl (Nat.le_of_ble_eq_true rfl) dX1_yearGoesBy_77 (by (try dsimp only); (try simp only [show tl_draw mm 0 = mm 0 from rfl]); omega) (by (try dsimp only); (try simp only [show tl_draw mm 0 = mm 0 from rfl]); omega)) hI_19 (fun q_37 X_35 H_33 L_34 hq_36 hI_32 => ?_)
    obtain ⟨ro_38, ao_39, mco_40, qqo_41, hro_42, hLo_43, hqqo_44, hleo_45⟩ := hq_36
    have hr_46 : r ≠ ro_38 := hro_42 _ _ _ hB_27
    have hr_47 : ro_8 ≠ ro_38 := hro_42 _ _ _ hLo_13.1
    have hnr_48 : xk_nr ro_38 X := xk_nr.back (P := (fun o => o.1 = r)) hro_42 hfm_18 (fun _ z => by rw [z]; exact hr_46)
    have hfm_49 : xk_fx (fun o => o.1 = r) X X_35 := xk_fx.le hfm_18 hleo_45
    refine lv_astore_n (lv' := [(1, .ref q_37), (2, .int (nI 0)), (0, .ref b)]) hx hb dX1_yearGoesBy_80 rfl hl (by decide) rfl (fun ls hl => ?_)
    refine lv_aload_n hx hb dX1_yearGoesBy_81 rfl (lv_at hl 2 rfl) ?_
    have hf_50 := hleo_45 _ _ hB_27
    refine xk_get B hI_32 hf_50 rfl in_X1 5 (by decide) q155 rfl dX1_yearGoesBy_82 ?_
    refine xk_top (congrArg nI (tl_yr1_lo (by decide) (by decide) (by decide))) ?_
    refine lv_istore_n (lv' := [(3, .int (nI (mm 5))), (1, .ref q_37), (2, .int (nI 0)), (0, .ref b)]) hx hb dX1_yearGoesBy_85 rfl hl (by decide) rfl (fun ls hl => ?_)
    have hloop_86 : ∀ (n_86 : Nat) (cn : Nat) (Xl_86 : xk_H) (H_51 : Heap) (L_52 : List Loc), (cn = 0 ∨ mm 5 + cn ≤ tl_liv (tl_yr1 mm) (tl_yr1 mm 0)) → (tl_inv (tl_ku (tl_yr1 mm) (mm 5) cn)) → (∀ j, j < 14 → (tl_ku (tl_yr1 mm) (mm 5) cn) j = tl_yr1 mm j) → tl_liv (tl_yr1 mm) (tl_yr1 mm 0) - (mm 5 + cn) < n_86 → (xk_fx (fun o => o.1 = r) X Xl_86) → (tb_L g Xl_86 q_37 ao_39 (ro_38, 0) (ro_38, 1) mco_40 (tl_liv (tl_yr1 mm) ((tl_yr1 mm) 0)) qqo_41) → (Xl_86 b = some ((r, 1), .inr (2, [.ref l, .ref w, .int (nI ((tl_ku (tl_yr1 mm) (mm 5) cn) 2)), .int (nI ((tl_ku (tl_yr1 mm) (mm 5) cn) 3)), .int (nI ((tl_ku (tl_yr1 mm) (mm 5) cn) 4)), .int (nI ((tl_ku (tl_yr1 mm) (mm 5) cn) 5)), .int (nI ((tl_ku (tl_yr1 mm) (mm 5) cn) 1))]))) → (Xl_86 w = some ((r, 2), xk_iA g 0 8 (tl_wf (tl_ku (tl_yr1 mm) (mm 5) cn)))) → (tb_L g Xl_86 l a (r, 3) (r, 4) mc ((tl_ku (tl_yr1 mm) (mm 5) cn) 0) pp) → (tb_F Xl_86 r (tl_ku (tl_yr1 mm) (mm 5) cn) ((tl_ku (tl_yr1 mm) (mm 5) cn) 0) pp) → xk_I g s H_51 Xl_86 L_52 → ∀ ls : Array Slot, lv_has ls 5 [(0, .ref b), (1, .ref q_37), (2, .int (nI 0)), (3, .int (nI (mm 5 + cn)))] → W p (xk_l g) e (({ frames := 9, cells := 10 + tl_gc (mm 0), slots := 75 + tl_gs (mm 0), locals := 195 } : Room)) s m args below meth c H_51 L_52 8 64 (MQ below (xk_Q g (xk_Qi (nI (if tl_yrb mm = true then 1 else 0)) (fun X1 => ∃ (a1 : Nat) (mc1 : Int32) (pp1 : Nat → Nat), tb_B g X1 r b w l a1 mc1 pp1 (tl_yr mm) ∧ xk_fx (fun o => o.1 = r) X X1))) args s (10 + tl_gc (mm 0)) (75 + tl_gs (mm 0)) (xk_A g)) (F0 m 86 ls []) := by
      intro n_86
      induction n_86 with
      | zero => intros; omega
      | succ n_86 ih_86 =>
        intro cn Xl_86 H_51 L_52 hc0 hki hlo hm_86 hfm_l86 hk_54 hk_55 hk_56 hk_57 hk_58 hI_53 ls hl
        refine lv_iload_n hx hb dX1_yearGoesBy_86 rfl (lv_at hl 3 rfl) ?_
        refine lv_aload_n hx hb dX1_yearGoesBy_87 rfl (lv_at hl 1 rfl) ?_
        refine xk_ri0 (xk_cV B hI_53 hl [] [.int (nI (mm 5 + cn))] 0 (j2_size g hk_54) hk_54.1 rfl (lw_V q338 q339 q340 q73 q341) ⟨rfl, by decide +kernel, by decide +kernel, by decide +kernel⟩ ⟨Nat.le_of_ble_eq_true rfl, Nat.le_of_ble_eq_true rfl⟩ rfl rfl (Nat.le_of_ble_eq_true rfl) dX1_yearGoesBy_88 (by (try dsimp only); (try simp only [show tl_draw mm 0 = mm 0 from rfl]); omega) (by (try dsimp only); (try simp only [show tl_draw mm 0 = mm 0 from rfl]); omega)) hI_53 (fun H_60 L_61 hI_59 => ?_)
        refine xk_top (y := nI (tl_liv (tl_yr1 mm) ((tl_yr1 mm) 0))) rfl ?_
        refine xk_icmp_ge (tgt := 112) hx hb (by omega) (by omega) dX1_yearGoesBy_91 (by decide) (fun hc_91 => ?_) (fun hc_91 => ?_)
        · have hye2 : tl_yr2 mm = (tl_ku (tl_yr1 mm) (mm 5) cn) := by unfold tl_yr2; rw [tl_cut_all hk1, show tl_liv (tl_yr1 mm) (tl_yr1 mm 0) - mm 5 = cn by omega]
          have hy1 : (tl_ku (tl_yr1 mm) (mm 5) cn) 1 = mm 1 := (hlo 1 (by decide)).trans (tl_yr1_lo (by decide) (by decide) (by decide))
          refine lv_aload_n hx hb dX1_yearGoesBy_112 rfl (lv_at hl 0 rfl) ?_
          refine lv_dup hx hb dX1_yearGoesBy_113 rfl ?_
          refine xk_get B hI_59 hk_55 rfl in_X1 6 (by decide) q157 rfl dX1_yearGoesBy_114 ?_
          refine xk_top (congrArg nI hy1) ?_
          refine lv_iconst (v := nI 1) hx hb dX1_yearGoesBy_117 (by decide) ?_
          refine lv_iadd hx hb dX1_yearGoesBy_118 (xk_top (nI_add _ _) ?_)
          refine xk_put B hI_59 hk_55 rfl in_X1 tyX1 tyX1_ok nmX1 6 (by decide) q157 rfl rfl rfl (Nat.le_of_ble_eq_true rfl) dX1_yearGoesBy_119 (fun X_62 H_66 L_67 hf_64 hn_63 hI_65 => ?_)
          have hf_64 : X_62 b = some ((r, 1), .inr (2, [.ref l, .ref w, .int (nI ((tl_ku (tl_yr1 mm) (mm 5) cn) 2)), .int (nI ((tl_ku (tl_yr1 mm) (mm 5) cn) 3)), .int (nI ((tl_ku (tl_yr1 mm) (mm 5) cn) 4)), .int (nI ((tl_ku (tl_yr1 mm) (mm 5) cn) 5)), .int (nI (mm 1 + 1))])) := hf_64
          have hfm_68 : xk_fx (fun o => o.1 = r) X X_62 := xk_fx.put hfm_l86 hn_63 hk_55 (Or.inl rfl)
          refine lv_iload_n hx hb dX1_yearGoesBy_122 rfl (lv_at hl 2 rfl) ?_
          have hf_69 := xk_off hn_63 hk_56 hk_55 (xk_on1 (by decide))
          have hf_70 := tb_L.kp hk_57 (fun _ _ q => xk_off hn_63 q hk_55 (xk_on1 (by decide))) (fun _ _ q => xk_off hn_63 q hk_55 (xk_on1 (by decide)))
          have hf_71 := tb_F.kp hk_58 (fun i hi9 => (fun _ _ q => xk_off hn_63 q hk_55 (xk_on1 (by omega))))
          exact xk_reti B hI_65 hr rfl dX1_yearGoesBy_123 (by (try dsimp only); (try simp only [show tl_draw mm 0 = mm 0 from rfl]); omega) (by (try dsimp only); (try simp only [show tl_draw mm 0 = mm 0 from rfl]); omega) (⟨by rw [hyb]; rfl, _, _, _, by unfold tl_yr; rw [hye2]; exact tb_setv (mm := (tl_ku (tl_yr1 mm) (mm 5) cn)) (m2 := (va_up (tl_ku (tl_yr1 mm) (mm 5) cn) 1 (mm 1 + 1))) hf_64 (by rw [tl_wf_cg (m2 := (va_up (tl_ku (tl_yr1 mm) (mm 5) cn) 1 (mm 1 + 1))) (mm := (tl_ku (tl_yr1 mm) (mm 5) cn)) (fun k9 hk9 => if_neg (by omega))]; exact hf_69) hf_70 hf_71 rfl (fun k9 hk9 => if_neg (by omega)), hfm_68⟩)
        · have hat := tl_at_some (m := tl_yr1 mm) (pl := mm 5 + cn) (tl_inv_liv hk1) (by omega)
          have hatl : tl_atN (tl_yr1 mm) (mm 5 + cn) < (tl_ku (tl_yr1 mm) (mm 5) cn) 0 := by rw [hlo 0 (by decide)]; exact hat.2.1
          refine lv_aload_n hx hb dX1_yearGoesBy_94 rfl (lv_at hl 1 rfl) ?_
          refine lv_iload_n hx hb dX1_yearGoesBy_95 rfl (lv_at hl 3 rfl) ?_
          refine xk_rq0 (xk_cV B hI_59 hl [.int (nI (mm 5 + cn))] [] 1 (j2_get g hk_54 (i := mm 5 + cn) (by omega)) hk_54.1 rfl (lw_V q616 q617 q618 q73 q619) ⟨rfl, by decide +kernel, by decide +kernel, by decide +kernel⟩ ⟨Nat.le_of_ble_eq_true rfl, Nat.le_of_ble_eq_true rfl⟩ rfl rfl (Nat.le_of_ble_eq_true rfl) dX1_yearGoesBy_96 (by (try dsimp only); (try simp only [show tl_draw mm 0 = mm 0 from rfl]); omega) (by (try dsimp only); (try simp only [show tl_draw mm 0 = mm 0 from rfl]); omega)) hI_59 (fun H_73 L_74 hI_72 => ?_)
          refine W.eq (g2 := F0 m 99 ls [.ref (qqo_41 (mm 5 + cn))]) rfl ?_
          refine W.eq (g2 := F0 m 99 ls [.ref (pp (tl_atN (tl_yr1 mm) (mm 5 + cn)))]) (by rw [hqqo_44 (mm 5 + cn) (by omega)]) ?_
          have hb_75 : Xl_86 (pp (tl_atN (tl_yr1 mm) (mm 5 + cn))) = some ((r, 10 + (tl_atN (tl_yr1 mm) (mm 5 + cn))), .inr (3, [.int (nI (tl_atN (tl_yr1 mm) (mm 5 + cn))), .int (nI ((tl_ku (tl_yr1 mm) (mm 5) cn) (14 + 7 * (tl_atN (tl_yr1 mm) (mm 5 + cn))))), .int (tm_it ((tl_ku (tl_yr1 mm) (mm 5) cn) (14 + 7 * (tl_atN (tl_yr1 mm) (mm 5 + cn)) + 1))), .int (tm_it ((tl_ku (tl_yr1 mm) (mm 5) cn) (14 + 7 * (tl_atN (tl_yr1 mm) (mm 5 + cn)) + 2))), .int (nI ((tl_ku (tl_yr1 mm) (mm 5) cn) (14 + 7 * (tl_atN (tl_yr1 mm) (mm 5 + cn)) + 4))), .int (nI ((tl_ku (tl_yr1 mm) (mm 5) cn) (14 + 7 * (tl_atN (tl_yr1 mm) (mm 5 + cn)) + 5))), .int (nI ((tl_ku (tl_yr1 mm) (mm 5) cn) (14 + 7 * (tl_atN (tl_yr1 mm) (mm 5 + cn)) + 6))), .int (nI (1 - (tl_ku (tl_yr1 mm) (mm 5) cn) (14 + 7 * (tl_atN (tl_yr1 mm) (mm 5 + cn)) + 3)))])) := hk_58 (tl_atN (tl_yr1 mm) (mm 5 + cn)) hatl
          obtain ⟨kp_75, kp1_75, kp2_75, kp3_75, kp4_75, kp5_75, kp6_75⟩ := hki.2.1 (tl_atN (tl_yr1 mm) (mm 5 + cn)) hatl
          refine xk_castS B hI_72 hb_75 rfl q418 dX1_yearGoesBy_99 ?_
          refine lv_iconst (v := nI 1) hx hb dX1_yearGoesBy_102 (by decide) ?_
          refine xk_put B hI_72 hb_75 rfl in_X5 tyX5 tyX5_ok nmX5 7 (by decide) q445 rfl (by decide) (by decide) (Nat.le_of_ble_eq_true rfl) dX1_yearGoesBy_103 (fun X_76 H_80 L_81 hf_78 hn_77 hI_79 => ?_)
          have hf_78 : X_76 (pp (tl_atN (tl_yr1 mm) (mm 5 + cn))) = some ((r, 10 + (tl_atN (tl_yr1 mm) (mm 5 + cn))), .inr (3, [.int (nI (tl_atN (tl_yr1 mm) (mm 5 + cn))), .int (nI ((tl_ku (tl_yr1 mm) (mm 5) cn) (14 + 7 * (tl_atN (tl_yr1 mm) (mm 5 + cn))))), .int (tm_it ((tl_ku (tl_yr1 mm) (mm 5) cn) (14 + 7 * (tl_atN (tl_yr1 mm) (mm 5 + cn)) + 1))), .int (tm_it ((tl_ku (tl_yr1 mm) (mm 5) cn) (14 + 7 * (tl_atN (tl_yr1 mm) (mm 5 + cn)) + 2))), .int (nI ((tl_ku (tl_yr1 mm) (mm 5) cn) (14 + 7 * (tl_atN (tl_yr1 mm) (mm 5 + cn)) + 4))), .int (nI ((tl_ku (tl_yr1 mm) (mm 5) cn) (14 + 7 * (tl_atN (tl_yr1 mm) (mm 5 + cn)) + 5))), .int (nI ((tl_ku (tl_yr1 mm) (mm 5) cn) (14 + 7 * (tl_atN (tl_yr1 mm) (mm 5 + cn)) + 6))), .int (nI 1)])) := hf_78
          have hfm_82 : xk_fx (fun o => o.1 = r) X X_76 := xk_fx.put hfm_l86 hn_77 hb_75 (Or.inl rfl)
          have hF_83 := tb_F.die (i := tl_atN (tl_yr1 mm) (mm 5 + cn)) hk_58 hatl hn_77 hf_78
          have hf_84 := xk_off hn_77 hk_55 hb_75 (xk_on1 (by omega))
          have hf_85 := xk_off hn_77 hk_56 hb_75 (xk_on1 (by omega))
          have hf_86 := tb_L.kp hk_57 (fun _ _ q => xk_off hn_77 q hb_75 (xk_on1 (by omega))) (fun _ _ q => xk_off hn_77 q hb_75 (xk_on1 (by omega)))
          have hk_87 := tl_inv_die hki hatl
          obtain ⟨hB_88, hB_89, hB_90, hB_91⟩ : tb_B g X_76 r b w l a mc pp (tl_dieM (tl_ku (tl_yr1 mm) (mm 5) cn) (tl_atN (tl_yr1 mm) (mm 5 + cn))) := tb_die hf_84 hf_85 hf_86 hF_83
          refine lv_iinc (v := nI (mm 5 + cn + 1)) (lv' := [(3, .int (nI (mm 5 + cn + 1))), (0, .ref b), (1, .ref q_37), (2, .int (nI 0))]) hx hb dX1_yearGoesBy_106 hl (k := 3) rfl (xk_inc (mm 5 + cn)) (by decide) rfl (fun ls hl => ?_)
          refine lv_goto (tgt := 86) hx hb dX1_yearGoesBy_109 (by decide) ?_
          have hf_92 := tb_L.kp hk_54 (fun _ _ q => xk_off hn_77 q hb_75 (xk_on2 (by omega))) (fun _ _ q => xk_off hn_77 q hb_75 (xk_on2 (by omega)))
          exact ih_86 (cn + 1) X_76 _ _ (by exact Or.inr (by omega)) (by exact hk_87) (by exact fun j hj => (tl_dieM_ne (by omega)).trans (hlo j hj)) (by omega) hfm_82 hf_92 hB_88 hB_89 hB_90 hB_91 hI_79 ls (lv_sub hl [1, 2, 3, 0] rfl)
    have hf_93 := hleo_45 _ _ hB_28
    have hf_94 := tb_L.le hB_29 hleo_45
    have hf_95 := tb_F.le hB_30 hleo_45
    exact hloop_86 (tl_liv (tl_yr1 mm) (tl_yr1 mm 0) - (mm 5 + 0) + 1) 0 X_35 _ _ (Or.inl rfl) hk1 (fun _ _ => rfl) (Nat.lt_succ_self _) hfm_49 hLo_43 hf_50 hf_93 hf_94 hf_95 hI_32 ls (lv_sub hl [3, 1, 2, 0] rfl)
  · refine lv_aload_n hx hb dX1_yearGoesBy_15 rfl (lv_at hl 1 rfl) ?_
    refine xk_ri0 (xk_cV B hI_19 hl [] [] 0 (j2_size g hLo_13) hLo_13.1 rfl (lw_V q338 q339 q340 q73 q341) ⟨rfl, by decide +kernel, by decide +kernel, by decide +kernel⟩ ⟨Nat.le_of_ble_eq_true rfl, Nat.le_of_ble_eq_true rfl⟩ rfl rfl (Nat.le_of_ble_eq_true rfl) dX1_yearGoesBy_16 (by (try dsimp only); (try simp only [show tl_draw mm 0 = mm 0 from rfl]); omega) (by (try dsimp only); (try simp only [show tl_draw mm 0 = mm 0 from rfl]); omega)) hI_19 (fun H_97 L_98 hI_96 => ?_)
    refine xk_top (y := nI (tl_liv mm (mm 0))) rfl ?_
    refine lv_bipush (v := nI 12) hx hb dX1_yearGoesBy_19 (by decide) ?_
    refine xk_icmp_ge (tgt := 76) hx hb (by omega) (by omega) dX1_yearGoesBy_21 (by decide) (fun hc_21 => ?_) (fun hc_21 => ?_)
    · have hyb : tl_yrb mm = false := decide_eq_false (by omega)
      have hye : tl_yr1 mm = mm := by unfold tl_yr1; rw [hyb]; rfl
      have hk1 := tl_yr1_inv hk0
      obtain ⟨-, -, -, -, -, -, -, -, hl12⟩ := id hk1
      have hf_99 := hleo_15 _ _ hB1
      have hf_100 := hleo_15 _ _ hB2
      have hf_101 := tb_L.le hL hleo_15
      have hf_102 := tb_F.le hF hleo_15
      have hB_103 : tb_B g X_5 r b w l a mc pp mm := ⟨hf_99, hf_100, hf_101, hf_102⟩
      obtain ⟨hB_104, hB_105, hB_106, hB_107⟩ : tb_B g X_5 r b w l a mc pp (tl_yr1 mm) := by rw [hye]; exact hB_103
      refine lv_aload_n hx hb dX1_yearGoesBy_76 rfl (lv_at hl 2 rfl) ?_
      have hB_108 : tb_B g X_5 r b w l a mc pp (tl_yr1 mm) := ⟨hB_104, hB_105, hB_106, hB_107⟩
      refine xk_rr (xk_cV B hI_96 hl [] [] 0 (c1_order g hB_108 hk1) hB_104 rfl (lw_V q767 q768 q769 q70 q770) ⟨rfl, by decide +kernel, by decide +kernel, by decide +kernel⟩ ⟨Nat.le_of_ble_eq_true rfl, Nat.le_of_ble_eq_true rfl⟩ rfl rfl (Nat.le_of_ble_eq_true rfl) dX1_yearGoesBy_77 (by (try dsimp only); (try simp only [show tl_draw mm 0 = mm 0 from rfl]); omega) (by (try dsimp only); (try simp only [show tl_draw mm 0 = mm 0 from rfl]); omega)) hI_96 (fun q_114 X_112 H_110 L_111 hq_113 hI_109 => ?_)
      obtain ⟨ro_115, ao_116, mco_117, qqo_118, hro_119, hLo_120, hqqo_121, hleo_122⟩ := hq_113
      have hr_123 : r ≠ ro_115 := hro_119 _ _ _ hB_104
      have hr_124 : ro_8 ≠ ro_115 := hro_119 _ _ _ hLo_13.1
      have hnr_125 : xk_nr ro_115 X := xk_nr.back (P := (fun o => o.1 = r)) hro_119 hfm_18 (fun _ z => by rw [z]; exact hr_123)
      have hfm_126 : xk_fx (fun o => o.1 = r) X X_112 := xk_fx.le hfm_18 hleo_122
      refine lv_astore_n (lv' := [(1, .ref q_114), (2, .int (nI 0)), (0, .ref b)]) hx hb dX1_yearGoesBy_80 rfl hl (by decide) rfl (fun ls hl => ?_)
      refine lv_aload_n hx hb dX1_yearGoesBy_81 rfl (lv_at hl 2 rfl) ?_
      have hf_127 := hleo_122 _ _ hB_104
      refine xk_get B hI_109 hf_127 rfl in_X1 5 (by decide) q155 rfl dX1_yearGoesBy_82 ?_
      refine xk_top (congrArg nI (tl_yr1_lo (by decide) (by decide) (by decide))) ?_
      refine lv_istore_n (lv' := [(3, .int (nI (mm 5))), (1, .ref q_114), (2, .int (nI 0)), (0, .ref b)]) hx hb dX1_yearGoesBy_85 rfl hl (by decide) rfl (fun ls hl => ?_)
      have hloop_86 : ∀ (n_86 : Nat) (cn : Nat) (Xl_86 : xk_H) (H_128 : Heap) (L_129 : List Loc), (cn = 0 ∨ mm 5 + cn ≤ tl_liv (tl_yr1 mm) (tl_yr1 mm 0)) → (tl_inv (tl_ku (tl_yr1 mm) (mm 5) cn)) → (∀ j, j < 14 → (tl_ku (tl_yr1 mm) (mm 5) cn) j = tl_yr1 mm j) → tl_liv (tl_yr1 mm) (tl_yr1 mm 0) - (mm 5 + cn) < n_86 → (xk_fx (fun o => o.1 = r) X Xl_86) → (tb_L g Xl_86 q_114 ao_116 (ro_115, 0) (ro_115, 1) mco_117 (tl_liv (tl_yr1 mm) ((tl_yr1 mm) 0)) qqo_118) → (Xl_86 b = some ((r, 1), .inr (2, [.ref l, .ref w, .int (nI ((tl_ku (tl_yr1 mm) (mm 5) cn) 2)), .int (nI ((tl_ku (tl_yr1 mm) (mm 5) cn) 3)), .int (nI ((tl_ku (tl_yr1 mm) (mm 5) cn) 4)), .int (nI ((tl_ku (tl_yr1 mm) (mm 5) cn) 5)), .int (nI ((tl_ku (tl_yr1 mm) (mm 5) cn) 1))]))) → (Xl_86 w = some ((r, 2), xk_iA g 0 8 (tl_wf (tl_ku (tl_yr1 mm) (mm 5) cn)))) → (tb_L g Xl_86 l a (r, 3) (r, 4) mc ((tl_ku (tl_yr1 mm) (mm 5) cn) 0) pp) → (tb_F Xl_86 r (tl_ku (tl_yr1 mm) (mm 5) cn) ((tl_ku (tl_yr1 mm) (mm 5) cn) 0) pp) → xk_I g s H_128 Xl_86 L_129 → ∀ ls : Array Slot, lv_has ls 5 [(0, .ref b), (1, .ref q_114), (2, .int (nI 0)), (3, .int (nI (mm 5 + cn)))] → W p (xk_l g) e (({ frames := 9, cells := 10 + tl_gc (mm 0), slots := 75 + tl_gs (mm 0), locals := 195 } : Room)) s m args below meth c H_128 L_129 8 64 (MQ below (xk_Q g (xk_Qi (nI (if tl_yrb mm = true then 1 else 0)) (fun X1 => ∃ (a1 : Nat) (mc1 : Int32) (pp1 : Nat → Nat), tb_B g X1 r b w l a1 mc1 pp1 (tl_yr mm) ∧ xk_fx (fun o => o.1 = r) X X1))) args s (10 + tl_gc (mm 0)) (75 + tl_gs (mm 0)) (xk_A g)) (F0 m 86 ls []) := by
        intro n_86
        induction n_86 with
        | zero => intros; omega
        | succ n_86 ih_86 =>
          intro cn Xl_86 H_128 L_129 hc0 hki hlo hm_86 hfm_l86 hk_131 hk_132 hk_133 hk_134 hk_135 hI_130 ls hl
          refine lv_iload_n hx hb dX1_yearGoesBy_86 rfl (lv_at hl 3 rfl) ?_
          refine lv_aload_n hx hb dX1_yearGoesBy_87 rfl (lv_at hl 1 rfl) ?_
          refine xk_ri0 (xk_cV B hI_130 hl [] [.int (nI (mm 5 + cn))] 0 (j2_size g hk_131) hk_131.1 rfl (lw_V q338 q339 q340 q73 q341) ⟨rfl, by decide +kernel, by decide +kernel, by decide +kernel⟩ ⟨Nat.le_of_ble_eq_true rfl, Nat.le_of_ble_eq_true rfl⟩ rfl rfl (Nat.le_of_ble_eq_true rfl) dX1_yearGoesBy_88 (by (try dsimp only); (try simp only [show tl_draw mm 0 = mm 0 from rfl]); omega) (by (try dsimp only); (try simp only [show tl_draw mm 0 = mm 0 from rfl]); omega)) hI_130 (fun H_137 L_138 hI_136 => ?_)
          refine xk_top (y := nI (tl_liv (tl_yr1 mm) ((tl_yr1 mm) 0))) rfl ?_
          refine xk_icmp_ge (tgt := 112) hx hb (by omega) (by omega) dX1_yearGoesBy_91 (by decide) (fun hc_91 => ?_) (fun hc_91 => ?_)
          · have hye2 : tl_yr2 mm = (tl_ku (tl_yr1 mm) (mm 5) cn) := by unfold tl_yr2; rw [tl_cut_all hk1, show tl_liv (tl_yr1 mm) (tl_yr1 mm 0) - mm 5 = cn by omega]
            have hy1 : (tl_ku (tl_yr1 mm) (mm 5) cn) 1 = mm 1 := (hlo 1 (by decide)).trans (tl_yr1_lo (by decide) (by decide) (by decide))
            refine lv_aload_n hx hb dX1_yearGoesBy_112 rfl (lv_at hl 0 rfl) ?_
            refine lv_dup hx hb dX1_yearGoesBy_113 rfl ?_
            refine xk_get B hI_136 hk_132 rfl in_X1 6 (by decide) q157 rfl dX1_yearGoesBy_114 ?_
            refine xk_top (congrArg nI hy1) ?_
            refine lv_iconst (v := nI 1) hx hb dX1_yearGoesBy_117 (by decide) ?_
            refine lv_iadd hx hb dX1_yearGoesBy_118 (xk_top (nI_add _ _) ?_)
            refine xk_put B hI_136 hk_132 rfl in_X1 tyX1 tyX1_ok nmX1 6 (by decide) q157 rfl rfl rfl (Nat.le_of_ble_eq_true rfl) dX1_yearGoesBy_119 (fun X_139 H_143 L_144 hf_141 hn_140 hI_142 => ?_)
            have hf_141 : X_139 b = some ((r, 1), .inr (2, [.ref l, .ref w, .int (nI ((tl_ku (tl_yr1 mm) (mm 5) cn) 2)), .int (nI ((tl_ku (tl_yr1 mm) (mm 5) cn) 3)), .int (nI ((tl_ku (tl_yr1 mm) (mm 5) cn) 4)), .int (nI ((tl_ku (tl_yr1 mm) (mm 5) cn) 5)), .int (nI (mm 1 + 1))])) := hf_141
            have hfm_145 : xk_fx (fun o => o.1 = r) X X_139 := xk_fx.put hfm_l86 hn_140 hk_132 (Or.inl rfl)
            refine lv_iload_n hx hb dX1_yearGoesBy_122 rfl (lv_at hl 2 rfl) ?_
            have hf_146 := xk_off hn_140 hk_133 hk_132 (xk_on1 (by decide))
            have hf_147 := tb_L.kp hk_134 (fun _ _ q => xk_off hn_140 q hk_132 (xk_on1 (by decide))) (fun _ _ q => xk_off hn_140 q hk_132 (xk_on1 (by decide)))
            have hf_148 := tb_F.kp hk_135 (fun i hi9 => (fun _ _ q => xk_off hn_140 q hk_132 (xk_on1 (by omega))))
            exact xk_reti B hI_142 hr rfl dX1_yearGoesBy_123 (by (try dsimp only); (try simp only [show tl_draw mm 0 = mm 0 from rfl]); omega) (by (try dsimp only); (try simp only [show tl_draw mm 0 = mm 0 from rfl]); omega) (⟨by rw [hyb]; rfl, _, _, _, by unfold tl_yr; rw [hye2]; exact tb_setv (mm := (tl_ku (tl_yr1 mm) (mm 5) cn)) (m2 := (va_up (tl_ku (tl_yr1 mm) (mm 5) cn) 1 (mm 1 + 1))) hf_141 (by rw [tl_wf_cg (m2 := (va_up (tl_ku (tl_yr1 mm) (mm 5) cn) 1 (mm 1 + 1))) (mm := (tl_ku (tl_yr1 mm) (mm 5) cn)) (fun k9 hk9 => if_neg (by omega))]; exact hf_146) hf_147 hf_148 rfl (fun k9 hk9 => if_neg (by omega)), hfm_145⟩)
          · have hat := tl_at_some (m := tl_yr1 mm) (pl := mm 5 + cn) (tl_inv_liv hk1) (by omega)
            have hatl : tl_atN (tl_yr1 mm) (mm 5 + cn) < (tl_ku (tl_yr1 mm) (mm 5) cn) 0 := by rw [hlo 0 (by decide)]; exact hat.2.1
            refine lv_aload_n hx hb dX1_yearGoesBy_94 rfl (lv_at hl 1 rfl) ?_
            refine lv_iload_n hx hb dX1_yearGoesBy_95 rfl (lv_at hl 3 rfl) ?_
            refine xk_rq0 (xk_cV B hI_136 hl [.int (nI (mm 5 + cn))] [] 1 (j2_get g hk_131 (i := mm 5 + cn) (by omega)) hk_131.1 rfl (lw_V q616 q617 q618 q73 q619) ⟨rfl, by decide +kernel, by decide +kernel, by decide +kernel⟩ ⟨Nat.le_of_ble_eq_true rfl, Nat.le_of_ble_eq_true rfl⟩ rfl rfl (Nat.le_of_ble_eq_true rfl) dX1_yearGoesBy_96 (by (try dsimp only); (try simp only [show tl_draw mm 0 = mm 0 from rfl]); omega) (by (try dsimp only); (try simp only [show tl_draw mm 0 = mm 0 from rfl]); omega)) hI_136 (fun H_150 L_151 hI_149 => ?_)
            refine W.eq (g2 := F0 m 99 ls [.ref (qqo_118 (mm 5 + cn))]) rfl ?_
            refine W.eq (g2 := F0 m 99 ls [.ref (pp (tl_atN (tl_yr1 mm) (mm 5 + cn)))]) (by rw [hqqo_121 (mm 5 + cn) (by omega)]) ?_
            have hb_152 : Xl_86 (pp (tl_atN (tl_yr1 mm) (mm 5 + cn))) = some ((r, 10 + (tl_atN (tl_yr1 mm) (mm 5 + cn))), .inr (3, [.int (nI (tl_atN (tl_yr1 mm) (mm 5 + cn))), .int (nI ((tl_ku (tl_yr1 mm) (mm 5) cn) (14 + 7 * (tl_atN (tl_yr1 mm) (mm 5 + cn))))), .int (tm_it ((tl_ku (tl_yr1 mm) (mm 5) cn) (14 + 7 * (tl_atN (tl_yr1 mm) (mm 5 + cn)) + 1))), .int (tm_it ((tl_ku (tl_yr1 mm) (mm 5) cn) (14 + 7 * (tl_atN (tl_yr1 mm) (mm 5 + cn)) + 2))), .int (nI ((tl_ku (tl_yr1 mm) (mm 5) cn) (14 + 7 * (tl_atN (tl_yr1 mm) (mm 5 + cn)) + 4))), .int (nI ((tl_ku (tl_yr1 mm) (mm 5) cn) (14 + 7 * (tl_atN (tl_yr1 mm) (mm 5 + cn)) + 5))), .int (nI ((tl_ku (tl_yr1 mm) (mm 5) cn) (14 + 7 * (tl_atN (tl_yr1 mm) (mm 5 + cn)) + 6))), .int (nI (1 - (tl_ku (tl_yr1 mm) (mm 5) cn) (14 + 7 * (tl_atN (tl_yr1 mm) (mm 5 + cn)) + 3)))])) := hk_135 (tl_atN (tl_yr1 mm) (mm 5 + cn)) hatl
            obtain ⟨kp_152, kp1_152, kp2_152, kp3_152, kp4_152, kp5_152, kp6_152⟩ := hki.2.1 (tl_atN (tl_yr1 mm) (mm 5 + cn)) hatl
            refine xk_castS B hI_149 hb_152 rfl q418 dX1_yearGoesBy_99 ?_
            refine lv_iconst (v := nI 1) hx hb dX1_yearGoesBy_102 (by decide) ?_
            refine xk_put B hI_149 hb_152 rfl in_X5 tyX5 tyX5_ok nmX5 7 (by decide) q445 rfl (by decide) (by decide) (Nat.le_of_ble_eq_true rfl) dX1_yearGoesBy_103 (fun X_153 H_157 L_158 hf_155 hn_154 hI_156 => ?_)
            have hf_155 : X_153 (pp (tl_atN (tl_yr1 mm) (mm 5 + cn))) = some ((r, 10 + (tl_atN (tl_yr1 mm) (mm 5 + cn))), .inr (3, [.int (nI (tl_atN (tl_yr1 mm) (mm 5 + cn))), .int (nI ((tl_ku (tl_yr1 mm) (mm 5) cn) (14 + 7 * (tl_atN (tl_yr1 mm) (mm 5 + cn))))), .int (tm_it ((tl_ku (tl_yr1 mm) (mm 5) cn) (14 + 7 * (tl_atN (tl_yr1 mm) (mm 5 + cn)) + 1))), .int (tm_it ((tl_ku (tl_yr1 mm) (mm 5) cn) (14 + 7 * (tl_atN (tl_yr1 mm) (mm 5 + cn)) + 2))), .int (nI ((tl_ku (tl_yr1 mm) (mm 5) cn) (14 + 7 * (tl_atN (tl_yr1 mm) (mm 5 + cn)) + 4))), .int (nI ((tl_ku (tl_yr1 mm) (mm 5) cn) (14 + 7 * (tl_atN (tl_yr1 mm) (mm 5 + cn)) + 5))), .int (nI ((tl_ku (tl_yr1 mm) (mm 5) cn) (14 + 7 * (tl_atN (tl_yr1 mm) (mm 5 + cn)) + 6))), .int (nI 1)])) := hf_155
            have hfm_159 : xk_fx (fun o => o.1 = r) X X_153 := xk_fx.put hfm_l86 hn_154 hb_152 (Or.inl rfl)
            have hF_160 := tb_F.die (i := tl_atN (tl_yr1 mm) (mm 5 + cn)) hk_135 hatl hn_154 hf_155
            have hf_161 := xk_off hn_154 hk_132 hb_152 (xk_on1 (by omega))
            have hf_162 := xk_off hn_154 hk_133 hb_152 (xk_on1 (by omega))
            have hf_163 := tb_L.kp hk_134 (fun _ _ q => xk_off hn_154 q hb_152 (xk_on1 (by omega))) (fun _ _ q => xk_off hn_154 q hb_152 (xk_on1 (by omega)))
            have hk_164 := tl_inv_die hki hatl
            obtain ⟨hB_165, hB_166, hB_167, hB_168⟩ : tb_B g X_153 r b w l a mc pp (tl_dieM (tl_ku (tl_yr1 mm) (mm 5) cn) (tl_atN (tl_yr1 mm) (mm 5 + cn))) := tb_die hf_161 hf_162 hf_163 hF_160
            refine lv_iinc (v := nI (mm 5 + cn + 1)) (lv' := [(3, .int (nI (mm 5 + cn + 1))), (0, .ref b), (1, .ref q_114), (2, .int (nI 0))]) hx hb dX1_yearGoesBy_106 hl (k := 3) rfl (xk_inc (mm 5 + cn)) (by decide) rfl (fun ls hl => ?_)
            refine lv_goto (tgt := 86) hx hb dX1_yearGoesBy_109 (by decide) ?_
            have hf_169 := tb_L.kp hk_131 (fun _ _ q => xk_off hn_154 q hb_152 (xk_on2 (by omega))) (fun _ _ q => xk_off hn_154 q hb_152 (xk_on2 (by omega)))
            exact ih_86 (cn + 1) X_153 _ _ (by exact Or.inr (by omega)) (by exact hk_164) (by exact fun j hj => (tl_dieM_ne (by omega)).trans (hlo j hj)) (by omega) hfm_159 hf_169 hB_165 hB_166 hB_167 hB_168 hI_156 ls (lv_sub hl [1, 2, 3, 0] rfl)
      have hf_170 := hleo_122 _ _ hB_105
      have hf_171 := tb_L.le hB_106 hleo_122
      have hf_172 := tb_F.le hB_107 hleo_122
      exact hloop_86 (tl_liv (tl_yr1 mm) (tl_yr1 mm 0) - (mm 5 + 0) + 1) 0 X_112 _ _ (Or.inl rfl) hk1 (fun _ _ => rfl) (Nat.lt_succ_self _) hfm_126 hLo_120 hf_127 hf_170 hf_171 hf_172 hI_109 ls (lv_sub hl [3, 1, 2, 0] rfl)
    · refine lv_aload_n hx hb dX1_yearGoesBy_24 rfl (lv_at hl 2 rfl) ?_
      have hf_173 := hleo_15 _ _ hB1
      refine xk_get B hI_96 hf_173 rfl in_X1 0 (by decide) q145 rfl dX1_yearGoesBy_25 ?_
      have hf_174 := tb_L.le hL hleo_15
      refine xk_ri0 (xk_cV B hI_96 hl [] [] 0 (j2_size g hf_174) hf_174.1 rfl (lw_V q338 q339 q340 q73 q341) ⟨rfl, by decide +kernel, by decide +kernel, by decide +kernel⟩ ⟨Nat.le_of_ble_eq_true rfl, Nat.le_of_ble_eq_true rfl⟩ rfl rfl (Nat.le_of_ble_eq_true rfl) dX1_yearGoesBy_28 (by (try dsimp only); (try simp only [show tl_draw mm 0 = mm 0 from rfl]); omega) (by (try dsimp only); (try simp only [show tl_draw mm 0 = mm 0 from rfl]); omega)) hI_96 (fun H_176 L_177 hI_175 => ?_)
      refine xk_top (y := nI (mm 0)) rfl ?_
      refine lv_bipush (v := nI 40) hx hb dX1_yearGoesBy_31 (by decide) ?_
      refine xk_icmp_ge (tgt := 76) hx hb (by omega) (by omega) dX1_yearGoesBy_33 (by decide) (fun hc_33 => ?_) (fun hc_33 => ?_)
      · have hyb : tl_yrb mm = false := decide_eq_false (by omega)
        have hye : tl_yr1 mm = mm := by unfold tl_yr1; rw [hyb]; rfl
        have hk1 := tl_yr1_inv hk0
        obtain ⟨-, -, -, -, -, -, -, -, hl12⟩ := id hk1
        have hf_178 := hleo_15 _ _ hB2
        have hf_179 := tb_F.le hF hleo_15
        have hB_180 : tb_B g X_5 r b w l a mc pp mm := ⟨hf_173, hf_178, hf_174, hf_179⟩
        obtain ⟨hB_181, hB_182, hB_183, hB_184⟩ : tb_B g X_5 r b w l a mc pp (tl_yr1 mm) := by rw [hye]; exact hB_180
        refine lv_aload_n hx hb dX1_yearGoesBy_76 rfl (lv_at hl 2 rfl) ?_
        have hB_185 : tb_B g X_5 r b w l a mc pp (tl_yr1 mm) := ⟨hB_181, hB_182, hB_183, hB_184⟩
        refine xk_rr (xk_cV B hI_175 hl [] [] 0 (c1_order g hB_185 hk1) hB_181 rfl (lw_V q767 q768 q769 q70 q770) ⟨rfl, by decide +kernel, by decide +kernel, by decide +kernel⟩ ⟨Nat.le_of_ble_eq_true rfl, Nat.le_of_ble_eq_true rfl⟩ rfl rfl (Nat.le_of_ble_eq_true rfl) dX1_yearGoesBy_77 (by (try dsimp only); (try simp only [show tl_draw mm 0 = mm 0 from rfl]); omega) (by (try dsimp only); (try simp only [show tl_draw mm 0 = mm 0 from rfl]); omega)) hI_175 (fun q_191 X_189 H_187 L_188 hq_190 hI_186 => ?_)
        obtain ⟨ro_192, ao_193, mco_194, qqo_195, hro_196, hLo_197, hqqo_198, hleo_199⟩ := hq_190
        have hr_200 : r ≠ ro_192 := hro_196 _ _ _ hB_181
        have hr_201 : ro_8 ≠ ro_192 := hro_196 _ _ _ hLo_13.1
        have hnr_202 : xk_nr ro_192 X := xk_nr.back (P := (fun o => o.1 = r)) hro_196 hfm_18 (fun _ z => by rw [z]; exact hr_200)
        have hfm_203 : xk_fx (fun o => o.1 = r) X X_189 := xk_fx.le hfm_18 hleo_199
        refine lv_astore_n (lv' := [(1, .ref q_191), (2, .int (nI 0)), (0, .ref b)]) hx hb dX1_yearGoesBy_80 rfl hl (by decide) rfl (fun ls hl => ?_)
        refine lv_aload_n hx hb dX1_yearGoesBy_81 rfl (lv_at hl 2 rfl) ?_
        have hf_204 := hleo_199 _ _ hB_181
        refine xk_get B hI_186 hf_204 rfl in_X1 5 (by decide) q155 rfl dX1_yearGoesBy_82 ?_
        refine xk_top (congrArg nI (tl_yr1_lo (by decide) (by decide) (by decide))) ?_
        refine lv_istore_n (lv' := [(3, .int (nI (mm 5))), (1, .ref q_191), (2, .int (nI 0)), (0, .ref b)]) hx hb dX1_yearGoesBy_85 rfl hl (by decide) rfl (fun ls hl => ?_)
        have hloop_86 : ∀ (n_86 : Nat) (cn : Nat) (Xl_86 : xk_H) (H_205 : Heap) (L_206 : List Loc), (cn = 0 ∨ mm 5 + cn ≤ tl_liv (tl_yr1 mm) (tl_yr1 mm 0)) → (tl_inv (tl_ku (tl_yr1 mm) (mm 5) cn)) → (∀ j, j < 14 → (tl_ku (tl_yr1 mm) (mm 5) cn) j = tl_yr1 mm j) → tl_liv (tl_yr1 mm) (tl_yr1 mm 0) - (mm 5 + cn) < n_86 → (xk_fx (fun o => o.1 = r) X Xl_86) → (tb_L g Xl_86 q_191 ao_193 (ro_192, 0) (ro_192, 1) mco_194 (tl_liv (tl_yr1 mm) ((tl_yr1 mm) 0)) qqo_195) → (Xl_86 b = some ((r, 1), .inr (2, [.ref l, .ref w, .int (nI ((tl_ku (tl_yr1 mm) (mm 5) cn) 2)), .int (nI ((tl_ku (tl_yr1 mm) (mm 5) cn) 3)), .int (nI ((tl_ku (tl_yr1 mm) (mm 5) cn) 4)), .int (nI ((tl_ku (tl_yr1 mm) (mm 5) cn) 5)), .int (nI ((tl_ku (tl_yr1 mm) (mm 5) cn) 1))]))) → (Xl_86 w = some ((r, 2), xk_iA g 0 8 (tl_wf (tl_ku (tl_yr1 mm) (mm 5) cn)))) → (tb_L g Xl_86 l a (r, 3) (r, 4) mc ((tl_ku (tl_yr1 mm) (mm 5) cn) 0) pp) → (tb_F Xl_86 r (tl_ku (tl_yr1 mm) (mm 5) cn) ((tl_ku (tl_yr1 mm) (mm 5) cn) 0) pp) → xk_I g s H_205 Xl_86 L_206 → ∀ ls : Array Slot, lv_has ls 5 [(0, .ref b), (1, .ref q_191), (2, .int (nI 0)), (3, .int (nI (mm 5 + cn)))] → W p (xk_l g) e (({ frames := 9, cells := 10 + tl_gc (mm 0), slots := 75 + tl_gs (mm 0), locals := 195 } : Room)) s m args below meth c H_205 L_206 8 64 (MQ below (xk_Q g (xk_Qi (nI (if tl_yrb mm = true then 1 else 0)) (fun X1 => ∃ (a1 : Nat) (mc1 : Int32) (pp1 : Nat → Nat), tb_B g X1 r b w l a1 mc1 pp1 (tl_yr mm) ∧ xk_fx (fun o => o.1 = r) X X1))) args s (10 + tl_gc (mm 0)) (75 + tl_gs (mm 0)) (xk_A g)) (F0 m 86 ls []) := by
          intro n_86
          induction n_86 with
          | zero => intros; omega
          | succ n_86 ih_86 =>
            intro cn Xl_86 H_205 L_206 hc0 hki hlo hm_86 hfm_l86 hk_208 hk_209 hk_210 hk_211 hk_212 hI_207 ls hl
            refine lv_iload_n hx hb dX1_yearGoesBy_86 rfl (lv_at hl 3 rfl) ?_
            refine lv_aload_n hx hb dX1_yearGoesBy_87 rfl (lv_at hl 1 rfl) ?_
            refine xk_ri0 (xk_cV B hI_207 hl [] [.int (nI (mm 5 + cn))] 0 (j2_size g hk_208) hk_208.1 rfl (lw_V q338 q339 q340 q73 q341) ⟨rfl, by decide +kernel, by decide +kernel, by decide +kernel⟩ ⟨Nat.le_of_ble_eq_true rfl, Nat.le_of_ble_eq_true rfl⟩ rfl rfl (Nat.le_of_ble_eq_true rfl) dX1_yearGoesBy_88 (by (try dsimp only); (try simp only [show tl_draw mm 0 = mm 0 from rfl]); omega) (by (try dsimp only); (try simp only [show tl_draw mm 0 = mm 0 from rfl]); omega)) hI_207 (fun H_214 L_215 hI_213 => ?_)
            refine xk_top (y := nI (tl_liv (tl_yr1 mm) ((tl_yr1 mm) 0))) rfl ?_
            refine xk_icmp_ge (tgt := 112) hx hb (by omega) (by omega) dX1_yearGoesBy_91 (by decide) (fun hc_91 => ?_) (fun hc_91 => ?_)
            · have hye2 : tl_yr2 mm = (tl_ku (tl_yr1 mm) (mm 5) cn) := by unfold tl_yr2; rw [tl_cut_all hk1, show tl_liv (tl_yr1 mm) (tl_yr1 mm 0) - mm 5 = cn by omega]
              have hy1 : (tl_ku (tl_yr1 mm) (mm 5) cn) 1 = mm 1 := (hlo 1 (by decide)).trans (tl_yr1_lo (by decide) (by decide) (by decide))
              refine lv_aload_n hx hb dX1_yearGoesBy_112 rfl (lv_at hl 0 rfl) ?_
              refine lv_dup hx hb dX1_yearGoesBy_113 rfl ?_
              refine xk_get B hI_213 hk_209 rfl in_X1 6 (by decide) q157 rfl dX1_yearGoesBy_114 ?_
              refine xk_top (congrArg nI hy1) ?_
              refine lv_iconst (v := nI 1) hx hb dX1_yearGoesBy_117 (by decide) ?_
              refine lv_iadd hx hb dX1_yearGoesBy_118 (xk_top (nI_add _ _) ?_)
              refine xk_put B hI_213 hk_209 rfl in_X1 tyX1 tyX1_ok nmX1 6 (by decide) q157 rfl rfl rfl (Nat.le_of_ble_eq_true rfl) dX1_yearGoesBy_119 (fun X_216 H_220 L_221 hf_218 hn_217 hI_219 => ?_)
              have hf_218 : X_216 b = some ((r, 1), .inr (2, [.ref l, .ref w, .int (nI ((tl_ku (tl_yr1 mm) (mm 5) cn) 2)), .int (nI ((tl_ku (tl_yr1 mm) (mm 5) cn) 3)), .int (nI ((tl_ku (tl_yr1 mm) (mm 5) cn) 4)), .int (nI ((tl_ku (tl_yr1 mm) (mm 5) cn) 5)), .int (nI (mm 1 + 1))])) := hf_218
              have hfm_222 : xk_fx (fun o => o.1 = r) X X_216 := xk_fx.put hfm_l86 hn_217 hk_209 (Or.inl rfl)
              refine lv_iload_n hx hb dX1_yearGoesBy_122 rfl (lv_at hl 2 rfl) ?_
              have hf_223 := xk_off hn_217 hk_210 hk_209 (xk_on1 (by decide))
              have hf_224 := tb_L.kp hk_211 (fun _ _ q => xk_off hn_217 q hk_209 (xk_on1 (by decide))) (fun _ _ q => xk_off hn_217 q hk_209 (xk_on1 (by decide)))
              have hf_225 := tb_F.kp hk_212 (fun i hi9 => (fun _ _ q => xk_off hn_217 q hk_209 (xk_on1 (by omega))))
              exact xk_reti B hI_219 hr rfl dX1_yearGoesBy_123 (by (try dsimp only); (try simp only [show tl_draw mm 0 = mm 0 from rfl]); omega) (by (try dsimp only); (try simp only [show tl_draw mm 0 = mm 0 from rfl]); omega) (⟨by rw [hyb]; rfl, _, _, _, by unfold tl_yr; rw [hye2]; exact tb_setv (mm := (tl_ku (tl_yr1 mm) (mm 5) cn)) (m2 := (va_up (tl_ku (tl_yr1 mm) (mm 5) cn) 1 (mm 1 + 1))) hf_218 (by rw [tl_wf_cg (m2 := (va_up (tl_ku (tl_yr1 mm) (mm 5) cn) 1 (mm 1 + 1))) (mm := (tl_ku (tl_yr1 mm) (mm 5) cn)) (fun k9 hk9 => if_neg (by omega))]; exact hf_223) hf_224 hf_225 rfl (fun k9 hk9 => if_neg (by omega)), hfm_222⟩)
            · have hat := tl_at_some (m := tl_yr1 mm) (pl := mm 5 + cn) (tl_inv_liv hk1) (by omega)
              have hatl : tl_atN (tl_yr1 mm) (mm 5 + cn) < (tl_ku (tl_yr1 mm) (mm 5) cn) 0 := by rw [hlo 0 (by decide)]; exact hat.2.1
              refine lv_aload_n hx hb dX1_yearGoesBy_94 rfl (lv_at hl 1 rfl) ?_
              refine lv_iload_n hx hb dX1_yearGoesBy_95 rfl (lv_at hl 3 rfl) ?_
              refine xk_rq0 (xk_cV B hI_213 hl [.int (nI (mm 5 + cn))] [] 1 (j2_get g hk_208 (i := mm 5 + cn) (by omega)) hk_208.1 rfl (lw_V q616 q617 q618 q73 q619) ⟨rfl, by decide +kernel, by decide +kernel, by decide +kernel⟩ ⟨Nat.le_of_ble_eq_true rfl, Nat.le_of_ble_eq_true rfl⟩ rfl rfl (Nat.le_of_ble_eq_true rfl) dX1_yearGoesBy_96 (by (try dsimp only); (try simp only [show tl_draw mm 0 = mm 0 from rfl]); omega) (by (try dsimp only); (try simp only [show tl_draw mm 0 = mm 0 from rfl]); omega)) hI_213 (fun H_227 L_228 hI_226 => ?_)
              refine W.eq (g2 := F0 m 99 ls [.ref (qqo_195 (mm 5 + cn))]) rfl ?_
              refine W.eq (g2 := F0 m 99 ls [.ref (pp (tl_atN (tl_yr1 mm) (mm 5 + cn)))]) (by rw [hqqo_198 (mm 5 + cn) (by omega)]) ?_
              have hb_229 : Xl_86 (pp (tl_atN (tl_yr1 mm) (mm 5 + cn))) = some ((r, 10 + (tl_atN (tl_yr1 mm) (mm 5 + cn))), .inr (3, [.int (nI (tl_atN (tl_yr1 mm) (mm 5 + cn))), .int (nI ((tl_ku (tl_yr1 mm) (mm 5) cn) (14 + 7 * (tl_atN (tl_yr1 mm) (mm 5 + cn))))), .int (tm_it ((tl_ku (tl_yr1 mm) (mm 5) cn) (14 + 7 * (tl_atN (tl_yr1 mm) (mm 5 + cn)) + 1))), .int (tm_it ((tl_ku (tl_yr1 mm) (mm 5) cn) (14 + 7 * (tl_atN (tl_yr1 mm) (mm 5 + cn)) + 2))), .int (nI ((tl_ku (tl_yr1 mm) (mm 5) cn) (14 + 7 * (tl_atN (tl_yr1 mm) (mm 5 + cn)) + 4))), .int (nI ((tl_ku (tl_yr1 mm) (mm 5) cn) (14 + 7 * (tl_atN (tl_yr1 mm) (mm 5 + cn)) + 5))), .int (nI ((tl_ku (tl_yr1 mm) (mm 5) cn) (14 + 7 * (tl_atN (tl_yr1 mm) (mm 5 + cn)) + 6))), .int (nI (1 - (tl_ku (tl_yr1 mm) (mm 5) cn) (14 + 7 * (tl_atN (tl_yr1 mm) (mm 5 + cn)) + 3)))])) := hk_212 (tl_atN (tl_yr1 mm) (mm 5 + cn)) hatl
              obtain ⟨kp_229, kp1_229, kp2_229, kp3_229, kp4_229, kp5_229, kp6_229⟩ := hki.2.1 (tl_atN (tl_yr1 mm) (mm 5 + cn)) hatl
              refine xk_castS B hI_226 hb_229 rfl q418 dX1_yearGoesBy_99 ?_
              refine lv_iconst (v := nI 1) hx hb dX1_yearGoesBy_102 (by decide) ?_
              refine xk_put B hI_226 hb_229 rfl in_X5 tyX5 tyX5_ok nmX5 7 (by decide) q445 rfl (by decide) (by decide) (Nat.le_of_ble_eq_true rfl) dX1_yearGoesBy_103 (fun X_230 H_234 L_235 hf_232 hn_231 hI_233 => ?_)
              have hf_232 : X_230 (pp (tl_atN (tl_yr1 mm) (mm 5 + cn))) = some ((r, 10 + (tl_atN (tl_yr1 mm) (mm 5 + cn))), .inr (3, [.int (nI (tl_atN (tl_yr1 mm) (mm 5 + cn))), .int (nI ((tl_ku (tl_yr1 mm) (mm 5) cn) (14 + 7 * (tl_atN (tl_yr1 mm) (mm 5 + cn))))), .int (tm_it ((tl_ku (tl_yr1 mm) (mm 5) cn) (14 + 7 * (tl_atN (tl_yr1 mm) (mm 5 + cn)) + 1))), .int (tm_it ((tl_ku (tl_yr1 mm) (mm 5) cn) (14 + 7 * (tl_atN (tl_yr1 mm) (mm 5 + cn)) + 2))), .int (nI ((tl_ku (tl_yr1 mm) (mm 5) cn) (14 + 7 * (tl_atN (tl_yr1 mm) (mm 5 + cn)) + 4))), .int (nI ((tl_ku (tl_yr1 mm) (mm 5) cn) (14 + 7 * (tl_atN (tl_yr1 mm) (mm 5 + cn)) + 5))), .int (nI ((tl_ku (tl_yr1 mm) (mm 5) cn) (14 + 7 * (tl_atN (tl_yr1 mm) (mm 5 + cn)) + 6))), .int (nI 1)])) := hf_232
              have hfm_236 : xk_fx (fun o => o.1 = r) X X_230 := xk_fx.put hfm_l86 hn_231 hb_229 (Or.inl rfl)
              have hF_237 := tb_F.die (i := tl_atN (tl_yr1 mm) (mm 5 + cn)) hk_212 hatl hn_231 hf_232
              have hf_238 := xk_off hn_231 hk_209 hb_229 (xk_on1 (by omega))
              have hf_239 := xk_off hn_231 hk_210 hb_229 (xk_on1 (by omega))
              have hf_240 := tb_L.kp hk_211 (fun _ _ q => xk_off hn_231 q hb_229 (xk_on1 (by omega))) (fun _ _ q => xk_off hn_231 q hb_229 (xk_on1 (by omega)))
              have hk_241 := tl_inv_die hki hatl
              obtain ⟨hB_242, hB_243, hB_244, hB_245⟩ : tb_B g X_230 r b w l a mc pp (tl_dieM (tl_ku (tl_yr1 mm) (mm 5) cn) (tl_atN (tl_yr1 mm) (mm 5 + cn))) := tb_die hf_238 hf_239 hf_240 hF_237
              refine lv_iinc (v := nI (mm 5 + cn + 1)) (lv' := [(3, .int (nI (mm 5 + cn + 1))), (0, .ref b), (1, .ref q_191), (2, .int (nI 0))]) hx hb dX1_yearGoesBy_106 hl (k := 3) rfl (xk_inc (mm 5 + cn)) (by decide) rfl (fun ls hl => ?_)
              refine lv_goto (tgt := 86) hx hb dX1_yearGoesBy_109 (by decide) ?_
              have hf_246 := tb_L.kp hk_208 (fun _ _ q => xk_off hn_231 q hb_229 (xk_on2 (by omega))) (fun _ _ q => xk_off hn_231 q hb_229 (xk_on2 (by omega)))
              exact ih_86 (cn + 1) X_230 _ _ (by exact Or.inr (by omega)) (by exact hk_241) (by exact fun j hj => (tl_dieM_ne (by omega)).trans (hlo j hj)) (by omega) hfm_236 hf_246 hB_242 hB_243 hB_244 hB_245 hI_233 ls (lv_sub hl [1, 2, 3, 0] rfl)
        have hf_247 := hleo_199 _ _ hB_182
        have hf_248 := tb_L.le hB_183 hleo_199
        have hf_249 := tb_F.le hB_184 hleo_199
        exact hloop_86 (tl_liv (tl_yr1 mm) (tl_yr1 mm 0) - (mm 5 + 0) + 1) 0 X_189 _ _ (Or.inl rfl) hk1 (fun _ _ => rfl) (Nat.lt_succ_self _) hfm_203 hLo_197 hf_204 hf_247 hf_248 hf_249 hI_186 ls (lv_sub hl [3, 1, 2, 0] rfl)
      · refine lv_aload_n hx hb dX1_yearGoesBy_36 rfl (lv_at hl 2 rfl) ?_
        refine xk_ri (xk_cV B hI_175 hl [] [] 0 (c2_drawn g (m9 := mm) hf_173 ks) hf_173 rfl (lw_V q666 q668 qs12 q70 q669) ⟨rfl, by decide +kernel, by decide +kernel, by decide +kernel⟩ ⟨Nat.le_of_ble_eq_true rfl, Nat.le_of_ble_eq_true rfl⟩ rfl rfl (Nat.le_of_ble_eq_true rfl) dX1_yearGoesBy_37 (by (try dsimp only); (try simp only [show tl_draw mm 0 = mm 0 from rfl]); omega) (by (try dsimp only); (try simp only [show tl_draw mm 0 = mm 0 from rfl]); omega)) hI_175 (fun X_253 H_251 L_252 hq_254 hI_250 => ?_)
        refine xk_top (y := nI (tl_seed mm)) rfl ?_
        obtain ⟨hf_255, hf1_256⟩ := hq_254
        have hfm_257 : xk_fx (fun o => o.1 = r) X X_253 := xk_fx.tr hfm_18 hf1_256 (fun a o e q z => (by rw [z]))
        have hsd257 := tl_seed_lt mm
        have hf_259 := hleo_15 _ _ hB2
        have hf_260 := hf1_256 _ _ _ hf_259 (xk_on1 (by decide))
        have hf_261 := tb_L.kp hf_174 (fun _ _ q => hf1_256 _ _ _ q (xk_on1 (by decide))) (fun _ _ q => hf1_256 _ _ _ q (xk_on1 (by decide)))
        have hf_262 := tb_F.le hF hleo_15
        have hf_263 := tb_F.kp hf_262 (fun i hi9 => (fun _ _ q => hf1_256 _ _ _ q (xk_on1 (by omega))))
        have hk_264 := tl_inv_draw hk0
        obtain ⟨hB_265, hB_266, hB_267, hB_268⟩ : tb_B g X_253 r b w l a mc pp (tl_draw mm) := tb_setv (mm := mm) (m2 := tl_draw mm) hf_255 (by rw [tl_wf_cg (m2 := tl_draw mm) (mm := mm) (fun k9 hk9 => tl_draw_ne (by omega))]; exact hf_260) hf_261 hf_263 rfl (fun k9 hk9 => tl_draw_ne (by omega))
        have hlv0 := tl_at_some (pl := 0) (tl_inv_liv hk0) (by omega)
        have hlv1 := tl_at_some (pl := 1) (tl_inv_liv hk0) (by omega)
        refine lv_bipush (v := nI 9) hx hb dX1_yearGoesBy_40 (by decide) ?_
        refine lv_irem hx hb dX1_yearGoesBy_42 (xk_ne0 (by omega) (by omega)) (xk_top (pk_rem (by omega) (by omega) (by omega)) ?_)
        refine lv_istore_n (lv' := [(3, .int (nI ((tl_seed mm) % 9))), (2, .int (nI 0)), (1, .ref q_7), (0, .ref b)]) hx hb dX1_yearGoesBy_43 rfl hl (by decide) rfl (fun ls hl => ?_)
        refine lv_aload_n hx hb dX1_yearGoesBy_44 rfl (lv_at hl 3 rfl) ?_
        obtain ⟨r_269, hroot_270⟩ := xk_root hI_250.2
        have hr_271 : r ≠ r_269 := hroot_270 _ _ _ hB_265
        have hf_272 := tb_L.kp hLo_13 (fun _ _ q => hf1_256 _ _ _ q (xk_on2 (by decide))) (fun _ _ q => hf1_256 _ _ _ q (xk_on0 (Ne.symm hr_16)))
        have hr_273 : ro_8 ≠ r_269 := hroot_270 _ _ _ hf_272.1
        have hnr_274 : xk_nr r_269 X := xk_nr.back (P := (fun o => o.1 = r)) hroot_270 hfm_257 (fun _ z => by rw [z]; exact hr_271)
        refine xk_newo B hI_250 (fun q9 => (r_269, 0)) (ci := 4) (C := RX6) (T := TX6) (N := 3) rfl in_X6 tyX6 tyX6_ok q791 q631 q92 (fs := [.null, .null, .int (nI 0)]) (fun j hj => by rcases (show j = 0 ∨ j = 1 ∨ j = 2 by omega) with rfl | rfl | rfl <;> rfl) (by (try dsimp only); (try simp only [show tl_draw mm 0 = mm 0 from rfl]); omega) (by (try dsimp only); (try simp only [show tl_draw mm 0 = mm 0 from rfl]); omega) dX1_yearGoesBy_45 (fun q_275 X_276 H_277 h0_278 hf_279 hn_280 hI_281 => ?_)
        have hle_282 := xk_le.fresh h0_278 hn_280
        have hfm_283 : xk_fx (fun o => o.1 = r) X X_276 := xk_fx.le hfm_257 hle_282
        refine lv_dup hx hb dX1_yearGoesBy_48 rfl ?_
        refine lv_aload_n hx hb dX1_yearGoesBy_49 rfl (lv_at hl 2 rfl) ?_
        refine lv_iconst (v := nI 0) hx hb dX1_yearGoesBy_50 (by decide) ?_
        have hf_284 := tb_L.le hf_272 hle_282
        refine xk_rq0 (xk_cV B hI_281 hl [.int (nI 0)] [.ref q_275, .ref q_275, .ref b] 1 (j2_get g hf_284 (i := 0) (by omega)) hf_284.1 rfl (lw_V q616 q617 q618 q73 q619) ⟨rfl, by decide +kernel, by decide +kernel, by decide +kernel⟩ ⟨Nat.le_of_ble_eq_true rfl, Nat.le_of_ble_eq_true rfl⟩ rfl rfl (Nat.le_of_ble_eq_true rfl) dX1_yearGoesBy_51 (by (try dsimp only); (try simp only [show tl_draw mm 0 = mm 0 from rfl]); omega) (by (try dsimp only); (try simp only [show tl_draw mm 0 = mm 0 from rfl]); omega)) hI_281 (fun H_286 L_287 hI_285 => ?_)
        refine W.eq (g2 := F0 m 54 ls [.ref (qqo_11 0), .ref q_275, .ref q_275, .ref b]) rfl ?_
        refine W.eq (g2 := F0 m 54 ls [.ref (pp (tl_atN mm 0)), .ref q_275, .ref q_275, .ref b]) (by rw [hqqo_14 0 (by omega)]) ?_
        have hf_288 := tb_F.le hB_268 hle_282
        have hb_289 : X_276 (pp (tl_atN mm 0)) = some ((r, 10 + (tl_atN mm 0)), .inr (3, [.int (nI (tl_atN mm 0)), .int (nI ((tl_draw mm) (14 + 7 * (tl_atN mm 0)))), .int (tm_it ((tl_draw mm) (14 + 7 * (tl_atN mm 0) + 1))), .int (tm_it ((tl_draw mm) (14 + 7 * (tl_atN mm 0) + 2))), .int (nI ((tl_draw mm) (14 + 7 * (tl_atN mm 0) + 4))), .int (nI ((tl_draw mm) (14 + 7 * (tl_atN mm 0) + 5))), .int (nI ((tl_draw mm) (14 + 7 * (tl_atN mm 0) + 6))), .int (nI (1 - (tl_draw mm) (14 + 7 * (tl_atN mm 0) + 3)))])) := hf_288 (tl_atN mm 0) hlv0.2.1
        obtain ⟨kp_289, kp1_289, kp2_289, kp3_289, kp4_289, kp5_289, kp6_289⟩ := hk_264.2.1 (tl_atN mm 0) hlv0.2.1
        refine xk_castS B hI_285 hb_289 rfl q418 dX1_yearGoesBy_54 ?_
        refine lv_aload_n hx hb dX1_yearGoesBy_57 rfl (lv_at hl 2 rfl) ?_
        refine lv_iconst (v := nI 1) hx hb dX1_yearGoesBy_58 (by decide) ?_
        refine xk_rq0 (xk_cV B hI_285 hl [.int (nI 1)] [.ref (pp (tl_atN mm 0)), .ref q_275, .ref q_275, .ref b] 1 (j2_get g hf_284 (i := 1) (by omega)) hf_284.1 rfl (lw_V q616 q617 q618 q73 q619) ⟨rfl, by decide +kernel, by decide +kernel, by decide +kernel⟩ ⟨Nat.le_of_ble_eq_true rfl, Nat.le_of_ble_eq_true rfl⟩ rfl rfl (Nat.le_of_ble_eq_true rfl) dX1_yearGoesBy_59 (by (try dsimp only); (try simp only [show tl_draw mm 0 = mm 0 from rfl]); omega) (by (try dsimp only); (try simp only [show tl_draw mm 0 = mm 0 from rfl]); omega)) hI_285 (fun H_291 L_292 hI_290 => ?_)
        refine W.eq (g2 := F0 m 62 ls [.ref (qqo_11 1), .ref (pp (tl_atN mm 0)), .ref q_275, .ref q_275, .ref b]) rfl ?_
        refine W.eq (g2 := F0 m 62 ls [.ref (pp (tl_atN mm 1)), .ref (pp (tl_atN mm 0)), .ref q_275, .ref q_275, .ref b]) (by rw [hqqo_14 1 (by omega)]) ?_
        have hb_293 : X_276 (pp (tl_atN mm 1)) = some ((r, 10 + (tl_atN mm 1)), .inr (3, [.int (nI (tl_atN mm 1)), .int (nI ((tl_draw mm) (14 + 7 * (tl_atN mm 1)))), .int (tm_it ((tl_draw mm) (14 + 7 * (tl_atN mm 1) + 1))), .int (tm_it ((tl_draw mm) (14 + 7 * (tl_atN mm 1) + 2))), .int (nI ((tl_draw mm) (14 + 7 * (tl_atN mm 1) + 4))), .int (nI ((tl_draw mm) (14 + 7 * (tl_atN mm 1) + 5))), .int (nI ((tl_draw mm) (14 + 7 * (tl_atN mm 1) + 6))), .int (nI (1 - (tl_draw mm) (14 + 7 * (tl_atN mm 1) + 3)))])) := hf_288 (tl_atN mm 1) hlv1.2.1
        obtain ⟨kp_293, kp1_293, kp2_293, kp3_293, kp4_293, kp5_293, kp6_293⟩ := hk_264.2.1 (tl_atN mm 1) hlv1.2.1
        refine xk_castS B hI_290 hb_293 rfl q418 dX1_yearGoesBy_62 ?_
        refine lv_iload_n hx hb dX1_yearGoesBy_65 rfl (lv_at hl 0 rfl) ?_
        refine xk_rv (xk_cI B hI_290 hl [.ref (pp (tl_atN mm 0)), .ref (pp (tl_atN mm 1)), .int (nI ((tl_seed mm) % 9))] [.ref q_275, .ref b] 3 (cc_init g hf_279) q634 q92 q792 q633 rfl ⟨by decide +kernel, by decide +kernel, by decide +kernel⟩ ⟨Nat.le_of_ble_eq_true rfl, Nat.le_of_ble_eq_true rfl⟩ rfl rfl (Nat.le_of_ble_eq_true rfl) dX1_yearGoesBy_66 (by (try dsimp only); (try simp only [show tl_draw mm 0 = mm 0 from rfl]); omega) (by (try dsimp only); (try simp only [show tl_draw mm 0 = mm 0 from rfl]); omega)) hI_290 (fun X_297 H_295 L_296 hq_298 hI_294 => ?_)
        obtain ⟨hf_299, hf1_300⟩ := hq_298
        have hfm_301 : xk_fx (fun o => o.1 = r) X X_297 := xk_fx.tr hfm_283 hf1_300 (fun a o e q z => (absurd (congrArg Prod.fst z) (hnr_274 _ _ _ q)))
        have hf_302 := hle_282 _ _ hB_265
        have hf_303 := hf1_300 _ _ _ hf_302 (xk_on2 (by decide))
        have hf_304 := hle_282 _ _ hB_266
        have hf_305 := hf1_300 _ _ _ hf_304 (xk_on2 (by decide))
        have hf_306 := tb_L.le hB_267 hle_282
        have hf_307 := tb_L.kp hf_306 (fun _ _ q => hf1_300 _ _ _ q (xk_on2 (by decide))) (fun _ _ q => hf1_300 _ _ _ q (xk_on2 (by decide)))
        have hf_308 := tb_F.kp hf_288 (fun i hi9 => (fun _ _ q => hf1_300 _ _ _ q (xk_on2 (by omega))))
        have hB_309 : tb_B g X_297 r b w l a mc pp (tl_draw mm) := ⟨hf_303, hf_305, hf_307, hf_308⟩
        refine xk_ri (xk_cV B hI_294 hl [.ref q_275] [] 1 (c2_breeds g hB_309 hk_264 hf_299 (Ne.symm hr_271) hlv0.2.1 hlv1.2.1 (by omega) (show mm 0 < 40 by omega)) hf_303 rfl (lw_V q658 q660 qs11 q70 q661) ⟨rfl, by decide +kernel, by decide +kernel, by decide +kernel⟩ ⟨Nat.le_of_ble_eq_true rfl, Nat.le_of_ble_eq_true rfl⟩ rfl rfl (Nat.le_of_ble_eq_true rfl) dX1_yearGoesBy_69 (by (try dsimp only); (try simp only [show tl_draw mm 0 = mm 0 from rfl]); omega) (by (try dsimp only); (try simp only [show tl_draw mm 0 = mm 0 from rfl]); omega)) hI_294 (fun X_313 H_311 L_312 hq_314 hI_310 => ?_)
        refine xk_top (y := nI ((tl_draw mm) 0)) rfl ?_
        obtain ⟨a_315, mc_316, pp_317, hB_318, hfr_319⟩ := hq_314
        have hfm_320 : xk_fx (fun o => o.1 = r) X X_313 := xk_fx.tr hfm_301 hfr_319 (fun _ _ _ _ z => z)
        have hkb := tl_inv_breed (k := tl_seed mm % 9) hk_264 hlv0.2.1 hlv1.2.1 (show mm 0 < 40 by omega) (by rw [show tl_liv (tl_draw mm) (tl_draw mm 0) = tl_liv mm (mm 0) from tl_liv_ext (fun b9 hb9 => tl_draw_ne (by omega))]; omega)
        obtain ⟨hB_321, hB_322, hB_323, hB_324⟩ : tb_B g X_313 r b w l a_315 mc_316 pp_317 (tl_breed (tl_draw mm) (tl_atN mm 0) (tl_atN mm 1) ((tl_seed mm) % 9)) := hB_318
        refine lv_istore (lv' := [(4, .int (nI ((tl_draw mm) 0))), (3, .int (nI ((tl_seed mm) % 9))), (2, .int (nI 0)), (1, .ref q_7), (0, .ref b)]) hx hb dX1_yearGoesBy_72 hl (by decide) rfl (fun ls hl => ?_)
        refine lv_iconst (v := nI 1) hx hb dX1_yearGoesBy_74 (by decide) ?_
        refine lv_istore_n (lv' := [(2, .int (nI 1)), (4, .int (nI ((tl_draw mm) 0))), (3, .int (nI ((tl_seed mm) % 9))), (1, .ref q_7), (0, .ref b)]) hx hb dX1_yearGoesBy_75 rfl hl (by decide) rfl (fun ls hl => ?_)
        have hyb : tl_yrb mm = true := decide_eq_true ⟨by omega, by omega, by omega⟩
        have hye : tl_yr1 mm = tl_breed (tl_draw mm) (tl_atN mm 0) (tl_atN mm 1) (tl_seed mm % 9) := if_pos hyb
        have hk1 := tl_yr1_inv hk0
        obtain ⟨-, -, -, -, -, -, -, -, hl12⟩ := id hk1
        have hB_325 : tb_B g X_313 r b w l a_315 mc_316 pp_317 (tl_breed (tl_draw mm) (tl_atN mm 0) (tl_atN mm 1) ((tl_seed mm) % 9)) := ⟨hB_321, hB_322, hB_323, hB_324⟩
        obtain ⟨hB_326, hB_327, hB_328, hB_329⟩ : tb_B g X_313 r b w l a_315 mc_316 pp_317 (tl_yr1 mm) := by rw [hye]; exact hB_325
        refine lv_aload_n hx hb dX1_yearGoesBy_76 rfl (lv_at hl 4 rfl) ?_
        have hB_330 : tb_B g X_313 r b w l a_315 mc_316 pp_317 (tl_yr1 mm) := ⟨hB_326, hB_327, hB_328, hB_329⟩
        refine xk_rr (xk_cV B hI_310 hl [] [] 0 (c1_order g hB_330 hk1) hB_326 rfl (lw_V q767 q768 q769 q70 q770) ⟨rfl, by decide +kernel, by decide +kernel, by decide +kernel⟩ ⟨Nat.le_of_ble_eq_true rfl, Nat.le_of_ble_eq_true rfl⟩ rfl rfl (Nat.le_of_ble_eq_true rfl) dX1_yearGoesBy_77 (by (try dsimp only); (try simp only [show tl_draw mm 0 = mm 0 from rfl]); omega) (by (try dsimp only); (try simp only [show tl_draw mm 0 = mm 0 from rfl]); omega)) hI_310 (fun q_336 X_334 H_332 L_333 hq_335 hI_331 => ?_)
        obtain ⟨ro_337, ao_338, mco_339, qqo_340, hro_341, hLo_342, hqqo_343, hleo_344⟩ := hq_335
        have hr_345 : r ≠ ro_337 := hro_341 _ _ _ hB_326
        have hf_346 := tb_L.kp hf_284 (fun _ _ q => hf1_300 _ _ _ q (xk_on0 hr_273)) (fun _ _ q => hf1_300 _ _ _ q (xk_on2 (by decide)))
        have hf_347 := tb_L.kp hf_346 (fun _ _ q => hfr_319 _ _ _ q (Ne.symm hr_16)) (fun _ _ q => hfr_319 _ _ _ q (Ne.symm hr_16))
        have hr_348 : ro_8 ≠ ro_337 := hro_341 _ _ _ hf_347.1
        have hf_349 := hfr_319 _ _ _ hf_299 (Ne.symm hr_271)
        have hr_350 : r_269 ≠ ro_337 := hro_341 _ _ _ hf_349
        have hnr_351 : xk_nr ro_337 X := xk_nr.back (P := (fun o => o.1 = r)) hro_341 hfm_320 (fun _ z => by rw [z]; exact hr_345)
        have hfm_352 : xk_fx (fun o => o.1 = r) X X_334 := xk_fx.le hfm_320 hleo_344
        refine lv_astore_n (lv' := [(1, .ref q_336), (2, .int (nI 1)), (4, .int (nI ((tl_draw mm) 0))), (3, .int (nI ((tl_seed mm) % 9))), (0, .ref b)]) hx hb dX1_yearGoesBy_80 rfl hl (by decide) rfl (fun ls hl => ?_)
        refine lv_aload_n hx hb dX1_yearGoesBy_81 rfl (lv_at hl 4 rfl) ?_
        have hf_353 := hleo_344 _ _ hB_326
        refine xk_get B hI_331 hf_353 rfl in_X1 5 (by decide) q155 rfl dX1_yearGoesBy_82 ?_
        refine xk_top (congrArg nI (tl_yr1_lo (by decide) (by decide) (by decide))) ?_
        refine lv_istore_n (lv' := [(3, .int (nI (mm 5))), (1, .ref q_336), (2, .int (nI 1)), (4, .int (nI ((tl_draw mm) 0))), (0, .ref b)]) hx hb dX1_yearGoesBy_85 rfl hl (by decide) rfl (fun ls hl => ?_)
        have hloop_86 : ∀ (n_86 : Nat) (cn : Nat) (Xl_86 : xk_H) (H_354 : Heap) (L_355 : List Loc), (cn = 0 ∨ mm 5 + cn ≤ tl_liv (tl_yr1 mm) (tl_yr1 mm 0)) → (tl_inv (tl_ku (tl_yr1 mm) (mm 5) cn)) → (∀ j, j < 14 → (tl_ku (tl_yr1 mm) (mm 5) cn) j = tl_yr1 mm j) → tl_liv (tl_yr1 mm) (tl_yr1 mm 0) - (mm 5 + cn) < n_86 → (xk_fx (fun o => o.1 = r) X Xl_86) → (tb_L g Xl_86 q_336 ao_338 (ro_337, 0) (ro_337, 1) mco_339 (tl_liv (tl_yr1 mm) ((tl_yr1 mm) 0)) qqo_340) → (Xl_86 b = some ((r, 1), .inr (2, [.ref l, .ref w, .int (nI ((tl_ku (tl_yr1 mm) (mm 5) cn) 2)), .int (nI ((tl_ku (tl_yr1 mm) (mm 5) cn) 3)), .int (nI ((tl_ku (tl_yr1 mm) (mm 5) cn) 4)), .int (nI ((tl_ku (tl_yr1 mm) (mm 5) cn) 5)), .int (nI ((tl_ku (tl_yr1 mm) (mm 5) cn) 1))]))) → (Xl_86 w = some ((r, 2), xk_iA g 0 8 (tl_wf (tl_ku (tl_yr1 mm) (mm 5) cn)))) → (tb_L g Xl_86 l a_315 (r, 3) (r, 4) mc_316 ((tl_ku (tl_yr1 mm) (mm 5) cn) 0) pp_317) → (tb_F Xl_86 r (tl_ku (tl_yr1 mm) (mm 5) cn) ((tl_ku (tl_yr1 mm) (mm 5) cn) 0) pp_317) → xk_I g s H_354 Xl_86 L_355 → ∀ ls : Array Slot, lv_has ls 5 [(0, .ref b), (1, .ref q_336), (2, .int (nI 1)), (3, .int (nI (mm 5 + cn)))] → W p (xk_l g) e (({ frames := 9, cells := 10 + tl_gc (mm 0), slots := 75 + tl_gs (mm 0), locals := 195 } : Room)) s m args below meth c H_354 L_355 (5 + (1 + tl_gc ((tl_draw mm) 0)) + 4) (35 + (8 + tl_gs ((tl_draw mm) 0)) + 32) (MQ below (xk_Q g (xk_Qi (nI (if tl_yrb mm = true then 1 else 0)) (fun X1 => ∃ (a1 : Nat) (mc1 : Int32) (pp1 : Nat → Nat), tb_B g X1 r b w l a1 mc1 pp1 (tl_yr mm) ∧ xk_fx (fun o => o.1 = r) X X1))) args s (10 + tl_gc (mm 0)) (75 + tl_gs (mm 0)) (xk_A g)) (F0 m 86 ls []) := by
          intro n_86
          induction n_86 with
          | zero => intros; omega
          | succ n_86 ih_86 =>
            intro cn Xl_86 H_354 L_355 hc0 hki hlo hm_86 hfm_l86 hk_357 hk_358 hk_359 hk_360 hk_361 hI_356 ls hl
            refine lv_iload_n hx hb dX1_yearGoesBy_86 rfl (lv_at hl 3 rfl) ?_
            refine lv_aload_n hx hb dX1_yearGoesBy_87 rfl (lv_at hl 1 rfl) ?_
            refine xk_ri0 (xk_cV B hI_356 hl [] [.int (nI (mm 5 + cn))] 0 (j2_size g hk_357) hk_357.1 rfl (lw_V q338 q339 q340 q73 q341) ⟨rfl, by decide +kernel, by decide +kernel, by decide +kernel⟩ ⟨Nat.le_of_ble_eq_true rfl, Nat.le_of_ble_eq_true rfl⟩ rfl rfl (Nat.le_of_ble_eq_true rfl) dX1_yearGoesBy_88 (by (try dsimp only); (try simp only [show tl_draw mm 0 = mm 0 from rfl]); omega) (by (try dsimp only); (try simp only [show tl_draw mm 0 = mm 0 from rfl]); omega)) hI_356 (fun H_363 L_364 hI_362 => ?_)
            refine xk_top (y := nI (tl_liv (tl_yr1 mm) ((tl_yr1 mm) 0))) rfl ?_
            refine xk_icmp_ge (tgt := 112) hx hb (by omega) (by omega) dX1_yearGoesBy_91 (by decide) (fun hc_91 => ?_) (fun hc_91 => ?_)
            · have hye2 : tl_yr2 mm = (tl_ku (tl_yr1 mm) (mm 5) cn) := by unfold tl_yr2; rw [tl_cut_all hk1, show tl_liv (tl_yr1 mm) (tl_yr1 mm 0) - mm 5 = cn by omega]
              have hy1 : (tl_ku (tl_yr1 mm) (mm 5) cn) 1 = mm 1 := (hlo 1 (by decide)).trans (tl_yr1_lo (by decide) (by decide) (by decide))
              refine lv_aload_n hx hb dX1_yearGoesBy_112 rfl (lv_at hl 0 rfl) ?_
              refine lv_dup hx hb dX1_yearGoesBy_113 rfl ?_
              refine xk_get B hI_362 hk_358 rfl in_X1 6 (by decide) q157 rfl dX1_yearGoesBy_114 ?_
              refine xk_top (congrArg nI hy1) ?_
              refine lv_iconst (v := nI 1) hx hb dX1_yearGoesBy_117 (by decide) ?_
              refine lv_iadd hx hb dX1_yearGoesBy_118 (xk_top (nI_add _ _) ?_)
              refine xk_put B hI_362 hk_358 rfl in_X1 tyX1 tyX1_ok nmX1 6 (by decide) q157 rfl rfl rfl (Nat.le_of_ble_eq_true rfl) dX1_yearGoesBy_119 (fun X_365 H_369 L_370 hf_367 hn_366 hI_368 => ?_)
              have hf_367 : X_365 b = some ((r, 1), .inr (2, [.ref l, .ref w, .int (nI ((tl_ku (tl_yr1 mm) (mm 5) cn) 2)), .int (nI ((tl_ku (tl_yr1 mm) (mm 5) cn) 3)), .int (nI ((tl_ku (tl_yr1 mm) (mm 5) cn) 4)), .int (nI ((tl_ku (tl_yr1 mm) (mm 5) cn) 5)), .int (nI (mm 1 + 1))])) := hf_367
              have hfm_371 : xk_fx (fun o => o.1 = r) X X_365 := xk_fx.put hfm_l86 hn_366 hk_358 (Or.inl rfl)
              refine lv_iload_n hx hb dX1_yearGoesBy_122 rfl (lv_at hl 2 rfl) ?_
              have hf_372 := xk_off hn_366 hk_359 hk_358 (xk_on1 (by decide))
              have hf_373 := tb_L.kp hk_360 (fun _ _ q => xk_off hn_366 q hk_358 (xk_on1 (by decide))) (fun _ _ q => xk_off hn_366 q hk_358 (xk_on1 (by decide)))
              have hf_374 := tb_F.kp hk_361 (fun i hi9 => (fun _ _ q => xk_off hn_366 q hk_358 (xk_on1 (by omega))))
              exact xk_reti B hI_368 hr rfl dX1_yearGoesBy_123 (by (try dsimp only); (try simp only [show tl_draw mm 0 = mm 0 from rfl]); omega) (by (try dsimp only); (try simp only [show tl_draw mm 0 = mm 0 from rfl]); omega) (⟨by rw [hyb]; rfl, _, _, _, by unfold tl_yr; rw [hye2]; exact tb_setv (mm := (tl_ku (tl_yr1 mm) (mm 5) cn)) (m2 := (va_up (tl_ku (tl_yr1 mm) (mm 5) cn) 1 (mm 1 + 1))) hf_367 (by rw [tl_wf_cg (m2 := (va_up (tl_ku (tl_yr1 mm) (mm 5) cn) 1 (mm 1 + 1))) (mm := (tl_ku (tl_yr1 mm) (mm 5) cn)) (fun k9 hk9 => if_neg (by omega))]; exact hf_372) hf_373 hf_374 rfl (fun k9 hk9 => if_neg (by omega)), hfm_371⟩)
            · have hat := tl_at_some (m := tl_yr1 mm) (pl := mm 5 + cn) (tl_inv_liv hk1) (by omega)
              have hatl : tl_atN (tl_yr1 mm) (mm 5 + cn) < (tl_ku (tl_yr1 mm) (mm 5) cn) 0 := by rw [hlo 0 (by decide)]; exact hat.2.1
              refine lv_aload_n hx hb dX1_yearGoesBy_94 rfl (lv_at hl 1 rfl) ?_
              refine lv_iload_n hx hb dX1_yearGoesBy_95 rfl (lv_at hl 3 rfl) ?_
              refine xk_rq0 (xk_cV B hI_362 hl [.int (nI (mm 5 + cn))] [] 1 (j2_get g hk_357 (i := mm 5 + cn) (by omega)) hk_357.1 rfl (lw_V q616 q617 q618 q73 q619) ⟨rfl, by decide +kernel, by decide +kernel, by decide +kernel⟩ ⟨Nat.le_of_ble_eq_true rfl, Nat.le_of_ble_eq_true rfl⟩ rfl rfl (Nat.le_of_ble_eq_true rfl) dX1_yearGoesBy_96 (by (try dsimp only); (try simp only [show tl_draw mm 0 = mm 0 from rfl]); omega) (by (try dsimp only); (try simp only [show tl_draw mm 0 = mm 0 from rfl]); omega)) hI_362 (fun H_376 L_377 hI_375 => ?_)
              refine W.eq (g2 := F0 m 99 ls [.ref (qqo_340 (mm 5 + cn))]) rfl ?_
              refine W.eq (g2 := F0 m 99 ls [.ref (pp_317 (tl_atN (tl_yr1 mm) (mm 5 + cn)))]) (by rw [hqqo_343 (mm 5 + cn) (by omega)]) ?_
              have hb_378 : Xl_86 (pp_317 (tl_atN (tl_yr1 mm) (mm 5 + cn))) = some ((r, 10 + (tl_atN (tl_yr1 mm) (mm 5 + cn))), .inr (3, [.int (nI (tl_atN (tl_yr1 mm) (mm 5 + cn))), .int (nI ((tl_ku (tl_yr1 mm) (mm 5) cn) (14 + 7 * (tl_atN (tl_yr1 mm) (mm 5 + cn))))), .int (tm_it ((tl_ku (tl_yr1 mm) (mm 5) cn) (14 + 7 * (tl_atN (tl_yr1 mm) (mm 5 + cn)) + 1))), .int (tm_it ((tl_ku (tl_yr1 mm) (mm 5) cn) (14 + 7 * (tl_atN (tl_yr1 mm) (mm 5 + cn)) + 2))), .int (nI ((tl_ku (tl_yr1 mm) (mm 5) cn) (14 + 7 * (tl_atN (tl_yr1 mm) (mm 5 + cn)) + 4))), .int (nI ((tl_ku (tl_yr1 mm) (mm 5) cn) (14 + 7 * (tl_atN (tl_yr1 mm) (mm 5 + cn)) + 5))), .int (nI ((tl_ku (tl_yr1 mm) (mm 5) cn) (14 + 7 * (tl_atN (tl_yr1 mm) (mm 5 + cn)) + 6))), .int (nI (1 - (tl_ku (tl_yr1 mm) (mm 5) cn) (14 + 7 * (tl_atN (tl_yr1 mm) (mm 5 + cn)) + 3)))])) := hk_361 (tl_atN (tl_yr1 mm) (mm 5 + cn)) hatl
              obtain ⟨kp_378, kp1_378, kp2_378, kp3_378, kp4_378, kp5_378, kp6_378⟩ := hki.2.1 (tl_atN (tl_yr1 mm) (mm 5 + cn)) hatl
              refine xk_castS B hI_375 hb_378 rfl q418 dX1_yearGoesBy_99 ?_
              refine lv_iconst (v := nI 1) hx hb dX1_yearGoesBy_102 (by decide) ?_
              refine xk_put B hI_375 hb_378 rfl in_X5 tyX5 tyX5_ok nmX5 7 (by decide) q445 rfl (by decide) (by decide) (Nat.le_of_ble_eq_true rfl) dX1_yearGoesBy_103 (fun X_379 H_383 L_384 hf_381 hn_380 hI_382 => ?_)
              have hf_381 : X_379 (pp_317 (tl_atN (tl_yr1 mm) (mm 5 + cn))) = some ((r, 10 + (tl_atN (tl_yr1 mm) (mm 5 + cn))), .inr (3, [.int (nI (tl_atN (tl_yr1 mm) (mm 5 + cn))), .int (nI ((tl_ku (tl_yr1 mm) (mm 5) cn) (14 + 7 * (tl_atN (tl_yr1 mm) (mm 5 + cn))))), .int (tm_it ((tl_ku (tl_yr1 mm) (mm 5) cn) (14 + 7 * (tl_atN (tl_yr1 mm) (mm 5 + cn)) + 1))), .int (tm_it ((tl_ku (tl_yr1 mm) (mm 5) cn) (14 + 7 * (tl_atN (tl_yr1 mm) (mm 5 + cn)) + 2))), .int (nI ((tl_ku (tl_yr1 mm) (mm 5) cn) (14 + 7 * (tl_atN (tl_yr1 mm) (mm 5 + cn)) + 4))), .int (nI ((tl_ku (tl_yr1 mm) (mm 5) cn) (14 + 7 * (tl_atN (tl_yr1 mm) (mm 5 + cn)) + 5))), .int (nI ((tl_ku (tl_yr1 mm) (mm 5) cn) (14 + 7 * (tl_atN (tl_yr1 mm) (mm 5 + cn)) + 6))), .int (nI 1)])) := hf_381
              have hfm_385 : xk_fx (fun o => o.1 = r) X X_379 := xk_fx.put hfm_l86 hn_380 hb_378 (Or.inl rfl)
              have hF_386 := tb_F.die (i := tl_atN (tl_yr1 mm) (mm 5 + cn)) hk_361 hatl hn_380 hf_381
              have hf_387 := xk_off hn_380 hk_358 hb_378 (xk_on1 (by omega))
              have hf_388 := xk_off hn_380 hk_359 hb_378 (xk_on1 (by omega))
              have hf_389 := tb_L.kp hk_360 (fun _ _ q => xk_off hn_380 q hb_378 (xk_on1 (by omega))) (fun _ _ q => xk_off hn_380 q hb_378 (xk_on1 (by omega)))
              have hk_390 := tl_inv_die hki hatl
              obtain ⟨hB_391, hB_392, hB_393, hB_394⟩ : tb_B g X_379 r b w l a_315 mc_316 pp_317 (tl_dieM (tl_ku (tl_yr1 mm) (mm 5) cn) (tl_atN (tl_yr1 mm) (mm 5 + cn))) := tb_die hf_387 hf_388 hf_389 hF_386
              refine lv_iinc (v := nI (mm 5 + cn + 1)) (lv' := [(3, .int (nI (mm 5 + cn + 1))), (0, .ref b), (1, .ref q_336), (2, .int (nI 1))]) hx hb dX1_yearGoesBy_106 hl (k := 3) rfl (xk_inc (mm 5 + cn)) (by decide) rfl (fun ls hl => ?_)
              refine lv_goto (tgt := 86) hx hb dX1_yearGoesBy_109 (by decide) ?_
              have hf_395 := tb_L.kp hk_357 (fun _ _ q => xk_off hn_380 q hb_378 (xk_on2 (by omega))) (fun _ _ q => xk_off hn_380 q hb_378 (xk_on2 (by omega)))
              exact ih_86 (cn + 1) X_379 _ _ (by exact Or.inr (by omega)) (by exact hk_390) (by exact fun j hj => (tl_dieM_ne (by omega)).trans (hlo j hj)) (by omega) hfm_385 hf_395 hB_391 hB_392 hB_393 hB_394 hI_382 ls (lv_sub hl [1, 2, 3, 0] rfl)
        have hf_396 := hleo_344 _ _ hB_327
        have hf_397 := tb_L.le hB_328 hleo_344
        have hf_398 := tb_F.le hB_329 hleo_344
        exact hloop_86 (tl_liv (tl_yr1 mm) (tl_yr1 mm 0) - (mm 5 + 0) + 1) 0 X_334 _ _ (Or.inl rfl) hk1 (fun _ _ => rfl) (Nat.lt_succ_self _) hfm_352 hLo_342 hf_353 hf_396 hf_397 hf_398 hI_331 ls (lv_sub hl [4, 1, 2, 0] rfl)
