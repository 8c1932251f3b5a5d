/-! the twin: sums of a rule, what a house wants, passes (printed by tools/t5.py) -/
set_option maxHeartbeats 4000000 in
set_option maxRecDepth 100000 in
theorem c_X4_summedBy {l : Launch} {G : vg_G} (hG : vg_st G) {t : Nat} (ht : gBase G ≤ t) {I : Nat → Int32} {A : Nat → Nat → Int32} {L : Nat → Nat → Int64} {Z : Int64} {h0 : vg_H} {t0 : Nat} {rl : List Clause} (ht0 : t0 < 6) (hre : RE (A 2) (A 4) (A 5) t0 rl) : FE l yX4_summedBy cX4_summedBy 4 (some FieldType.long) 2 54 G [.ref t, .int (nI t0)] (TW G t I A L Z h0) (fun v h1 => ∃ (f8 : Nat → Int64) (j20 : Int32), v = some (.long (wn (L 9) rl)) ∧ h1 = TW G t (va_up I 20 j20) A (va_up L 8 f8) Z h0) := by
  refine FE_of hG (by decide) (Nat.le_of_ble_eq_true rfl) (fun X nn kk Φ hXl hX hΦ => ?_)
  subst hXl
  have hn : gBase G ≤ nn := hX.2.2.2.2.2.2.2.2.2.2.2.1
  show vg_V G X 4 (vg_Q G X 0 0 Φ) 0 [(0, .ref t), (1, .int (nI t0))] [] (TW G t I A L Z h0) nn kk
  have hl12 := hre.2.1
  refine v_iconst hX (v := 0) dX4_summedBy_0 rfl ?_
  refine v_istore_n hX [(2, .int 0), (0, .ref t), (1, .int (nI t0))] dX4_summedBy_1 (by decide) rfl ?_
  refine lp_up (fun i => ∀ f8 : Nat → Int64, ∀ j20 : Int32, wn (L 9) rl = wn (L 9) (rl.drop i) →  vg_V G X 4 (vg_Q G X 0 0 Φ) 2 [(2, .int (nI i)), (0, .ref t), (1, .int (nI t0))] [] (TW G t (va_up I 20 j20) A (va_up L 8 f8) Z h0) nn kk) rl.length ?_ ?_ 0 (by omega) _ _ rfl 
  · skip
    intro f8 j20 hr
    refine v_iload_n hX dX4_summedBy_2 0 rfl ?_
    refine v_aload_n hX dX4_summedBy_3 1 rfl ?_
    refine t_get hX 6 (v := .ref (t + 5)) dX4_summedBy_4 q1287 (by decide) rfl rfl ?_
    refine v_iload_n hX dX4_summedBy_7 2 rfl ?_
    refine t_iald hX 5 t0 (v := nI rl.length) dX4_summedBy_8 (by decide) rfl rfl (by omega) (by decide) hre.1 ?_
    refine v_icmp_ge hX (P := rl.length ≤ rl.length) 84 dX4_summedBy_9 (by decide) (nI_leI (a := rl.length) (b := rl.length) (by omega) (by omega)) (fun c9 => ?_) (fun c => absurd (Nat.le_refl _) c)
    refine v_lconst hX (v := (0 : Int64)) dX4_summedBy_84 rfl ?_
    exact v_lret hX dX4_summedBy_85 (Nat.le_refl _) (Nat.le_refl _) (hΦ _ _ ⟨f8, j20, (by rw [hr, List.drop_length]; rfl), rfl⟩)
  intro i hi ih f8 j20 hr
  obtain ⟨x, hc⟩ := get_someP hi
  rw [drop_atP hc] at hr
  have hx := cl_cases (hre.2.2 i x hc)
  refine v_iload_n hX dX4_summedBy_2 0 rfl ?_
  refine v_aload_n hX dX4_summedBy_3 1 rfl ?_
  refine t_get hX 6 (v := .ref (t + 5)) dX4_summedBy_4 q1287 (by decide) rfl rfl ?_
  refine v_iload_n hX dX4_summedBy_7 2 rfl ?_
  refine t_iald hX 5 t0 (v := nI rl.length) dX4_summedBy_8 (by decide) rfl rfl (by omega) (by decide) hre.1 ?_
  refine v_icmp_ge hX (P := rl.length ≤ i) 84 dX4_summedBy_9 (by decide) (nI_leI (a := rl.length) (b := i) (by omega) (by omega)) (fun c => absurd c (by omega)) (fun c9 => ?_)
  refine v_bipush hX (v := 48) dX4_summedBy_12 rfl ?_
  refine v_iload_n hX dX4_summedBy_14 2 rfl ?_
  refine v_imul hX (v := nI (48 * t0)) dX4_summedBy_15 (pk_mul 48 t0) ?_
  refine v_iconst hX (v := 4) dX4_summedBy_16 rfl ?_
  refine v_iload_n hX dX4_summedBy_17 0 rfl ?_
  refine v_imul hX (v := nI (4 * i)) dX4_summedBy_18 (pk_mul 4 i) ?_
  refine v_iadd hX (v := nI (48 * t0 + 4 * i)) dX4_summedBy_19 (nI_add (48 * t0) (4 * i)) ?_
  refine v_istore_n hX [(3, .int (nI (48 * t0 + 4 * i))), (2, .int (nI i)), (0, .ref t), (1, .int (nI t0))] dX4_summedBy_20 (by decide) rfl ?_
  rcases hx with ⟨v, b, rfl, h1, h2, h3, h4, h5, h6⟩ | ⟨v, c, b, b2, rfl, h1, h2, h3, h4, h5, k1, k2, k3, k4, k5⟩
  · skip
    refine v_aload_n hX dX4_summedBy_21 2 rfl ?_
    refine t_get hX 5 (v := .ref (t + 4)) dX4_summedBy_22 q1286 (by decide) rfl rfl ?_
    refine v_iload_n hX dX4_summedBy_25 0 rfl ?_
    refine v_iconst hX (v := 2) dX4_summedBy_26 rfl ?_
    refine v_iadd hX (v := nI (48 * t0 + 4 * i + 2)) dX4_summedBy_27 (nI_add (48 * t0 + 4 * i) 2) ?_
    refine t_iald hX 4 (48 * t0 + 4 * i + 2) (v := (-1)) dX4_summedBy_28 (by decide) rfl rfl (by omega) (by decide) h6 ?_
    refine v_if_lt hX 58 dX4_summedBy_29 (by decide) (Iff.refl _) (fun _ => ?_) (fun c => absurd (by decide) c)
    refine v_aload_n hX dX4_summedBy_58 2 rfl ?_
    refine v_iload_n hX dX4_summedBy_59 3 rfl ?_
    refine v_aload_n hX dX4_summedBy_60 2 rfl ?_
    refine t_get hX 5 (v := .ref (t + 4)) dX4_summedBy_61 q1286 (by decide) rfl rfl ?_
    refine v_iload_n hX dX4_summedBy_64 0 rfl ?_
    refine t_iald hX 4 (48 * t0 + 4 * i) (v := nI b) dX4_summedBy_65 (by decide) rfl rfl (by omega) (by decide) h1 ?_
    refine v_aload_n hX dX4_summedBy_66 2 rfl ?_
    refine t_get hX 5 (v := .ref (t + 4)) dX4_summedBy_67 q1286 (by decide) rfl rfl ?_
    refine v_iload_n hX dX4_summedBy_70 0 rfl ?_
    refine v_iconst hX (v := 1) dX4_summedBy_71 rfl ?_
    refine v_iadd hX (v := nI (48 * t0 + 4 * i + 1)) dX4_summedBy_72 (nI_add (48 * t0 + 4 * i) 1) ?_
    refine t_iald hX 4 (48 * t0 + 4 * i + 1) (v := nI (b + v.length)) dX4_summedBy_73 (by decide) rfl rfl (by omega) (by decide) h2 ?_
    refine g_callVE (ci := 4) (r := (RX4, TX4, 40)) hX (as := [.int (nI t0), .int (nI b), .int (nI (b + v.length))]) (rest := []) (c_X4_reckons hG ht (t0 := t0) (bg := b) (en := (b + v.length)) (w := v) (by omega) h4 rfl h5 h3) nd_X4_reckons dX4_summedBy_74 q1678 q1680 qs105 q139 q1681 (TW_0 _ _ _ _ _ _ _) rfl rfl rfl (by decide) (by decide) (Nat.le_of_ble_eq_true rfl) hn (Nat.le_refl _) (Nat.le_refl _) (fun v9 h9 hw => ?_)
    obtain ⟨f8_1, rfl, rfl⟩ := hw
    refine v_hs (st' := [.long (evr ((L 9)) v)]) (h' := TW G t (va_up I 20 0) A (va_up L 8 f8_1) Z h0) rfl (TW_eq (funext fun z => if y20 : z = 20 then by subst y20; first | rfl else by simp [va_up, y20]) rfl (funext fun z => if y8 : z = 8 then by subst y8; first | rfl else by simp [va_up, y8]) rfl) ?_
    exact v_lret hX dX4_summedBy_77 (Nat.le_refl _) (Nat.le_refl _) (hΦ _ _ ⟨f8_1, 0, (by rw [hr, wn_none]), rfl⟩)
  refine v_aload_n hX dX4_summedBy_21 2 rfl ?_
  refine t_get hX 5 (v := .ref (t + 4)) dX4_summedBy_22 q1286 (by decide) rfl rfl ?_
  refine v_iload_n hX dX4_summedBy_25 0 rfl ?_
  refine v_iconst hX (v := 2) dX4_summedBy_26 rfl ?_
  refine v_iadd hX (v := nI (48 * t0 + 4 * i + 2)) dX4_summedBy_27 (nI_add (48 * t0 + 4 * i) 2) ?_
  refine t_iald hX 4 (48 * t0 + 4 * i + 2) (v := nI b2) dX4_summedBy_28 (by decide) rfl rfl (by omega) (by decide) k1 ?_
  refine v_if_lt hX 58 dX4_summedBy_29 (by decide) (Iff.refl _) (fun c => absurd c (by have := nI_pos (n := b2) (by omega); exact this)) (fun _ => ?_)
  refine v_aload_n hX dX4_summedBy_32 2 rfl ?_
  refine v_iload_n hX dX4_summedBy_33 3 rfl ?_
  refine v_aload_n hX dX4_summedBy_34 2 rfl ?_
  refine t_get hX 5 (v := .ref (t + 4)) dX4_summedBy_35 q1286 (by decide) rfl rfl ?_
  refine v_iload_n hX dX4_summedBy_38 0 rfl ?_
  refine v_iconst hX (v := 2) dX4_summedBy_39 rfl ?_
  refine v_iadd hX (v := nI (48 * t0 + 4 * i + 2)) dX4_summedBy_40 (nI_add (48 * t0 + 4 * i) 2) ?_
  refine t_iald hX 4 (48 * t0 + 4 * i + 2) (v := nI b2) dX4_summedBy_41 (by decide) rfl rfl (by omega) (by decide) k1 ?_
  refine v_aload_n hX dX4_summedBy_42 2 rfl ?_
  refine t_get hX 5 (v := .ref (t + 4)) dX4_summedBy_43 q1286 (by decide) rfl rfl ?_
  refine v_iload_n hX dX4_summedBy_46 0 rfl ?_
  refine v_iconst hX (v := 3) dX4_summedBy_47 rfl ?_
  refine v_iadd hX (v := nI (48 * t0 + 4 * i + 3)) dX4_summedBy_48 (nI_add (48 * t0 + 4 * i) 3) ?_
  refine t_iald hX 4 (48 * t0 + 4 * i + 3) (v := nI (b2 + c.length)) dX4_summedBy_49 (by decide) rfl rfl (by omega) (by decide) k2 ?_
  refine g_callVE (ci := 4) (r := (RX4, TX4, 40)) hX (as := [.int (nI t0), .int (nI b2), .int (nI (b2 + c.length))]) (rest := []) (c_X4_reckons hG ht (t0 := t0) (bg := b2) (en := (b2 + c.length)) (w := c) (by omega) k4 rfl k5 k3) nd_X4_reckons dX4_summedBy_50 q1678 q1680 qs105 q139 q1681 (TW_0 _ _ _ _ _ _ _) rfl rfl rfl (by decide) (by decide) (Nat.le_of_ble_eq_true rfl) hn (Nat.le_refl _) (Nat.le_refl _) (fun v9 h9 hw => ?_)
  obtain ⟨f8_2, rfl, rfl⟩ := hw
  refine v_hs (st' := [.long (evr ((L 9)) c)]) (h' := TW G t (va_up I 20 0) A (va_up L 8 f8_2) Z h0) rfl (TW_eq (funext fun z => if y20 : z = 20 then by subst y20; first | rfl else by simp [va_up, y20]) rfl (funext fun z => if y8 : z = 8 then by subst y8; first | rfl else by simp [va_up, y8]) rfl) ?_
  refine v_lconst hX (v := (1 : Int64)) dX4_summedBy_53 rfl ?_
  refine v_lcmp hX (v := lg_cmp (evr ((L 9)) c) (1 : Int64)) dX4_summedBy_54 rfl ?_
  refine v_if_ne hX (P := (evr ((L 9)) c) = (1 : Int64)) 78 dX4_summedBy_55 (by decide) (lg_cmp_eq _ _) (fun c55 => ?_) (fun c55 => ?_)
  · skip
    refine v_iinc hX (v := nI (i + 1)) [(2, .int (nI (i + 1))), (3, .int (nI (48 * t0 + 4 * i))), (0, .ref t), (1, .int (nI t0))] dX4_summedBy_78 1 rfl (by decide) (nI_1 i) rfl ?_
    refine v_goto hX 2 dX4_summedBy_81 (by decide) ?_
    refine v_l [0, 2, 3] rfl ?_
    exact ih _ _ (hr.trans (wn_miss c55)) 
  refine v_aload_n hX dX4_summedBy_58 2 rfl ?_
  refine v_iload_n hX dX4_summedBy_59 3 rfl ?_
  refine v_aload_n hX dX4_summedBy_60 2 rfl ?_
  refine t_get hX 5 (v := .ref (t + 4)) dX4_summedBy_61 q1286 (by decide) rfl rfl ?_
  refine v_iload_n hX dX4_summedBy_64 0 rfl ?_
  refine t_iald hX 4 (48 * t0 + 4 * i) (v := nI b) dX4_summedBy_65 (by decide) rfl rfl (by omega) (by decide) h1 ?_
  refine v_aload_n hX dX4_summedBy_66 2 rfl ?_
  refine t_get hX 5 (v := .ref (t + 4)) dX4_summedBy_67 q1286 (by decide) rfl rfl ?_
  refine v_iload_n hX dX4_summedBy_70 0 rfl ?_
  refine v_iconst hX (v := 1) dX4_summedBy_71 rfl ?_
  refine v_iadd hX (v := nI (48 * t0 + 4 * i + 1)) dX4_summedBy_72 (nI_add (48 * t0 + 4 * i) 1) ?_
  refine t_iald hX 4 (48 * t0 + 4 * i + 1) (v := nI (b + v.length)) dX4_summedBy_73 (by decide) rfl rfl (by omega) (by decide) h2 ?_
  refine g_callVE (ci := 4) (r := (RX4, TX4, 40)) hX (as := [.int (nI t0), .int (nI b), .int (nI (b + v.length))]) (rest := []) (c_X4_reckons hG ht (t0 := t0) (bg := b) (en := (b + v.length)) (w := v) (by omega) h4 rfl h5 h3) nd_X4_reckons dX4_summedBy_74 q1678 q1680 qs105 q139 q1681 (TW_0 _ _ _ _ _ _ _) rfl rfl rfl (by decide) (by decide) (Nat.le_of_ble_eq_true rfl) hn (Nat.le_refl _) (Nat.le_refl _) (fun v9 h9 hw => ?_)
  obtain ⟨f8_3, rfl, rfl⟩ := hw
  refine v_hs (st' := [.long (evr ((L 9)) v)]) (h' := TW G t (va_up I 20 0) A (va_up L 8 f8_3) Z h0) rfl (TW_eq (funext fun z => if y20 : z = 20 then by subst y20; first | rfl else by simp [va_up, y20]) rfl (funext fun z => if y8 : z = 8 then by subst y8; first | rfl else by simp [va_up, y8]) rfl) ?_
  exact v_lret hX dX4_summedBy_77 (Nat.le_refl _) (Nat.le_refl _) (hΦ _ _ ⟨f8_3, 0, (by rw [hr, wn_hit c55]), rfl⟩)
set_option maxHeartbeats 4000000 in
set_option maxRecDepth 100000 in
theorem c_X4_choice {l : Launch} {G : vg_G} (hG : vg_st G) {t : Nat} (ht : gBase G ≤ t) {I : Nat → Int32} {A : Nat → Nat → Int32} {L : Nat → Nat → Int64} {Z : Int64} {h0 : vg_H} {sn wl : Nat → Int32} {dy sw be hv : Int32} {sd : Nat → Int32} (hA : A 10 = pS sn wl dy sw be hv sd) {h : Nat} {n d : Nat} {fo : Option (List Clause)} (hn2 : sd 2 = nI n) (hn8 : n ≤ 8) (hh : h < 4) (hdy : dy = nI d) (hd : d < 10000) (hbs : ∀ s, s < 8 → ∃ bb, bb < 256 ∧ sd (30 + s) = nI bb) (hown : ∀ h, h < 4 → ∃ o, o < 8 ∧ sd (38 + 2 * h) = nI o) (hfo : FO (I 23) (A 2) (A 4) (A 5) fo) : FE l yX4_choice cX4_choice 8 (some FieldType.int) 3 77 G [.ref t, .int (nI h)] (TW G t I A L Z h0) (fun v h1 => ∃ (f8 : Nat → Int64) (f9 : Nat → Int64) (j20 : Int32), v = some (.int (sp_ch fo sn dy sw be sd h)) ∧ h1 = TW G t (va_up I 20 j20) A (va_up (va_up L 8 f8) 9 f9) Z h0) := by
  refine FE_of hG (by decide) (Nat.le_of_ble_eq_true rfl) (fun X nn kk Φ hXl hX hΦ => ?_)
  subst hXl
  have hn : gBase G ≤ nn := hX.2.2.2.2.2.2.2.2.2.2.2.1
  show vg_V G X 8 (vg_Q G X 0 0 Φ) 0 [(0, .ref t), (1, .int (nI h))] [] (TW G t I A L Z h0) nn kk
  rcases (FO_cases hfo) with ⟨rfl, hf⟩ | ⟨rl, t0, rfl, hf, ht0, hre⟩
  · skip
    obtain ⟨o, ho8, ho⟩ := hown h hh
    refine v_aload_n hX dX4_choice_0 0 rfl ?_
    refine t_get hX 23 (v := .int (-1)) dX4_choice_1 q1304 (by decide) rfl (congrArg (fun z => some (Value.int z)) hf) ?_
    refine v_if_ge hX 29 dX4_choice_4 (by decide) (Iff.refl _) (fun c => absurd c (by decide)) (fun _ => ?_)
    refine v_aload_n hX dX4_choice_7 0 rfl ?_
    refine v_aload_n hX dX4_choice_8 0 rfl ?_
    refine v_iload_n hX dX4_choice_9 1 rfl ?_
    refine g_callV (ci := 4) (r := (RX4, TX4, 40)) hX (as := [.int (nI h)]) (rest := [.ref t]) (c_X4_ownOf hG ht (h := h)  hA (by omega)) nd_X4_ownOf dX4_choice_10 q1627 q1629 qs95 q139 q1630 (TW_0 _ _ _ _ _ _ _) rfl rfl rfl (by decide) (by decide) (Nat.le_of_ble_eq_true rfl) hn (Nat.le_refl _) (Nat.le_refl _) (st' := [.int (sd (38 + 2 * h)), .ref t]) (h'' := TW G t I A L Z h0) rfl rfl ?_
    refine v_top (y := nI o) ho ?_
    refine g_callV (ci := 4) (r := (RX4, TX4, 40)) hX (as := [.int (nI o)]) (rest := []) (c_X4_isClosed hG ht (s := o)  hA (by omega)) nd_X4_isClosed dX4_choice_13 q1607 q1609 qs92 q139 q1610 (TW_0 _ _ _ _ _ _ _) rfl rfl rfl (by decide) (by decide) (Nat.le_of_ble_eq_true rfl) hn (Nat.le_refl _) (Nat.le_refl _) (st' := [.int (if ¬ (sn o < sd 1) then 1 else 0)]) (h'' := TW G t I A L Z h0) rfl rfl ?_
    refine v_cut (P := ∀ z0 : Int32, z0 = (if ¬ (sn o < sd 1) then sd (38 + 2 * h) else (-1)) → vg_V G X 8 (vg_Q G X 0 0 Φ) 28 [(0, .ref t), (1, .int (nI h))] [.int z0] (TW G t I A L Z h0) nn kk) (fun kj1 => ?_) ?_
    · skip
      refine v_ifB_eq hX 27 dX4_choice_16 (by decide) (fun c16 => ?_) (fun c16 => ?_)
      · skip
        refine v_iconst hX (v := (-1)) dX4_choice_27 rfl ?_
        exact kj1 _ (if_neg c16).symm
      refine v_aload_n hX dX4_choice_19 0 rfl ?_
      refine v_iload_n hX dX4_choice_20 1 rfl ?_
      refine g_callV (ci := 4) (r := (RX4, TX4, 40)) hX (as := [.int (nI h)]) (rest := []) (c_X4_ownOf hG ht (h := h)  hA (by omega)) nd_X4_ownOf dX4_choice_21 q1627 q1629 qs95 q139 q1630 (TW_0 _ _ _ _ _ _ _) rfl rfl rfl (by decide) (by decide) (Nat.le_of_ble_eq_true rfl) hn (Nat.le_refl _) (Nat.le_refl _) (st' := [.int (sd (38 + 2 * h))]) (h'' := TW G t I A L Z h0) rfl rfl ?_
      refine v_goto hX 28 dX4_choice_24 (by decide) ?_
      exact kj1 _ (if_pos c16).symm
    intro z0 ez0
    subst ez0
    exact v_iret hX dX4_choice_28 (Nat.le_refl _) (Nat.le_refl _) (hΦ _ _ ⟨(L 8), (L 9), (I 20), (rv_int (by show _ = (if ¬ (sn (sd (38 + 2 * h)).toNatClampNeg < sd 1) then sd (38 + 2 * h) else -1); rw [ho, nI_clamp (by omega)])), rfl⟩)
  have hclm : (sd 2).toNatClampNeg = n := by rw [hn2, nI_clamp (by omega)]
  refine v_aload_n hX dX4_choice_0 0 rfl ?_
  refine t_get hX 23 (v := .int (nI t0)) dX4_choice_1 q1304 (by decide) rfl (congrArg (fun z => some (Value.int z)) hf) ?_
  refine v_if_ge hX 29 dX4_choice_4 (by decide) (Iff.refl _) (fun _ => ?_) (fun c => absurd (nI_pos' (n := t0) (by omega)) c)
  refine v_iconst hX (v := (-1)) dX4_choice_29 rfl ?_
  refine v_istore_n hX [(2, .int (-1)), (0, .ref t), (1, .int (nI h))] dX4_choice_30 (by decide) rfl ?_
  refine v_lconst hX (v := (0 : Int64)) dX4_choice_31 rfl ?_
  refine v_lstore_n hX [(3, .long (0 : Int64)), (2, .int (-1)), (0, .ref t), (1, .int (nI h))] dX4_choice_32 (by decide) rfl ?_
  refine v_iconst hX (v := 0) dX4_choice_33 rfl ?_
  refine v_istore hX [(5, .int 0), (3, .long (0 : Int64)), (2, .int (-1)), (0, .ref t), (1, .int (nI h))] dX4_choice_34 (by decide) rfl ?_
  refine lp_up (fun i => ∀ f8 : Nat → Int64, ∀ f9 : Nat → Int64, ∀ j20 : Int32,  ∀ z0 : Int32, z0 = ((sp_cb rl sn dy sw be sd h i).1) → ∀ z1 : Int64, z1 = ((sp_cb rl sn dy sw be sd h i).2) →vg_V G X 8 (vg_Q G X 0 0 Φ) 36 [(5, .int (nI i)), (3, .long z1), (2, .int z0), (0, .ref t), (1, .int (nI h))] [] (TW G t (va_up I 20 j20) A (va_up (va_up L 8 f8) 9 f9) Z h0) nn kk) n ?_ ?_ 0 (by omega) _ _ _ _ rfl _ rfl
  · skip
    intro f8 f9 j20 z0 ez0 z1 ez1
    subst ez0 ez1
    refine v_iload hX dX4_choice_36 0 rfl ?_
    refine v_aload_n hX dX4_choice_38 3 rfl ?_
    refine t_get hX 22 (v := .ref (t + 10)) dX4_choice_39 q1303 (by decide) rfl rfl ?_
    refine v_iconst hX (v := 2) dX4_choice_42 rfl ?_
    refine t_iald hX 10 2 (v := nI n) dX4_choice_43 (by decide) rfl rfl (by omega) (by decide) ((congrFun hA _).trans hn2) ?_
    refine v_icmp_ge hX (P := n ≤ n) 102 dX4_choice_44 (by decide) (nI_leI (a := n) (b := n) (by omega) (by omega)) (fun c44 => ?_) (fun c => absurd (Nat.le_refl _) c)
    refine v_iload_n hX dX4_choice_102 2 rfl ?_
    exact v_iret hX dX4_choice_103 (Nat.le_refl _) (Nat.le_refl _) (hΦ _ _ ⟨f8, f9, j20, (rv_int (by show _ = (sp_cb rl sn dy sw be sd h (sd 2).toNatClampNeg).1; rw [hclm])), rfl⟩)
  intro i hi ih f8 f9 j20 z0 ez0 z1 ez1
  subst ez0 ez1
  obtain ⟨bb, hbb, hb⟩ := hbs i (by omega)
  refine v_iload hX dX4_choice_36 0 rfl ?_
  refine v_aload_n hX dX4_choice_38 3 rfl ?_
  refine t_get hX 22 (v := .ref (t + 10)) dX4_choice_39 q1303 (by decide) rfl rfl ?_
  refine v_iconst hX (v := 2) dX4_choice_42 rfl ?_
  refine t_iald hX 10 2 (v := nI n) dX4_choice_43 (by decide) rfl rfl (by omega) (by decide) ((congrFun hA _).trans hn2) ?_
  refine v_icmp_ge hX (P := n ≤ i) 102 dX4_choice_44 (by decide) (nI_leI (a := n) (b := i) (by omega) (by omega)) (fun c => absurd c (by omega)) (fun c44 => ?_)
  refine v_aload_n hX dX4_choice_47 3 rfl ?_
  refine t_get hX 22 (v := .ref (t + 10)) dX4_choice_48 q1303 (by decide) rfl rfl ?_
  refine v_bipush hX (v := 14) dX4_choice_51 rfl ?_
  refine v_iload hX dX4_choice_53 0 rfl ?_
  refine v_iadd hX (v := nI (14 + i)) dX4_choice_55 (nI_add 14 i) ?_
  refine t_iald hX 10 (14 + i) (v := sn i) dX4_choice_56 (by decide) rfl rfl (by omega) (by decide) ((congrFun hA _).trans (pS_sn (by omega))) ?_
  refine v_if_ne hX (P := (sn i) = 0) 63 dX4_choice_57 (by decide) Iff.rfl (fun c57 => ?_) (fun c57 => ?_)
  · skip
    refine v_aload_n hX dX4_choice_63 3 rfl ?_
    refine v_iload_n hX dX4_choice_64 4 rfl ?_
    refine v_iload hX dX4_choice_65 0 rfl ?_
    refine g_callV (ci := 4) (r := (RX4, TX4, 40)) hX (as := [.int (nI h), .int (nI i)]) (rest := []) (c_X4_words hG ht (h := h) (s := i) (n := n) (d := d) (bb := bb) hA hn2 (by omega) (by omega) (by omega) hdy hd hb hbb) nd_X4_words dX4_choice_67 q1659 q1661 qs101 q139 q1662 (TW_0 _ _ _ _ _ _ _) rfl rfl rfl (by decide) (by decide) (Nat.le_of_ble_eq_true rfl) hn (Nat.le_refl _) (Nat.le_refl _) (st' := []) (h'' := TW G t (va_up I 20 j20) A (va_up (va_up L 8 f8) 9 (wds (f9) (nI h).toInt64 (nI i).toInt64 (if sd (38 + 2 * h) = nI i then (1 : Int64) else (0 : Int64)) (sn i).toInt64 (sd (38 + 2 * h + 1)).toInt64 (if hs sw (nI i) then (1 : Int64) else (0 : Int64)) (if hs be (nI i) then (1 : Int64) else (0 : Int64)) (nI (pcN (clsN (sd 1) sn n))).toInt64 (if hs (if 30 < d then 0 else sd (62 + d)) (nI i) then (1 : Int64) else (0 : Int64)) (sp_nn (fun d => sd (62 + d)) (nI i) dy (31 - d) d).toInt64 (nI (pcN (bb &&& clsN (sd 1) sn n))).toInt64 dy.toInt64)) Z h0) rfl (TW_eq (funext fun z => if y20 : z = 20 then by subst y20; first | rfl else by simp [va_up, y20]) rfl (funext fun z => if y9 : z = 9 then by subst y9; first | rfl else if y8 : z = 8 then by subst y8; first | rfl else by simp [va_up, y8, y9]) rfl) ?_
    refine v_aload_n hX dX4_choice_70 3 rfl ?_
    refine v_aload_n hX dX4_choice_71 3 rfl ?_
    refine t_get hX 23 (v := .int (nI t0)) dX4_choice_72 q1304 (by decide) rfl (congrArg (fun z => some (Value.int z)) hf) ?_
    refine g_callVE (ci := 4) (r := (RX4, TX4, 40)) hX (as := [.int (nI t0)]) (rest := []) (c_X4_summedBy hG ht (t0 := t0) (rl := rl) (by omega) hre) nd_X4_summedBy dX4_choice_75 q1674 q1676 qs104 q139 q1677 (TW_0 _ _ _ _ _ _ _) rfl rfl rfl (by decide) (by decide) (Nat.le_of_ble_eq_true rfl) hn (Nat.le_refl _) (Nat.le_refl _) (fun v9 h9 hw => ?_)
    obtain ⟨f8_2, j20_2, rfl, rfl⟩ := hw
    refine v_hs (st' := [.long (wn ((wds (f9) (nI h).toInt64 (nI i).toInt64 (if sd (38 + 2 * h) = nI i then (1 : Int64) else (0 : Int64)) (sn i).toInt64 (sd (38 + 2 * h + 1)).toInt64 (if hs sw (nI i) then (1 : Int64) else (0 : Int64)) (if hs be (nI i) then (1 : Int64) else (0 : Int64)) (nI (pcN (clsN (sd 1) sn n))).toInt64 (if hs (if 30 < d then 0 else sd (62 + d)) (nI i) then (1 : Int64) else (0 : Int64)) (sp_nn (fun d => sd (62 + d)) (nI i) dy (31 - d) d).toInt64 (nI (pcN (bb &&& clsN (sd 1) sn n))).toInt64 dy.toInt64)) rl)]) (h' := TW G t (va_up I 20 j20_2) A (va_up (va_up L 8 f8_2) 9 (wds (f9) (nI h).toInt64 (nI i).toInt64 (if sd (38 + 2 * h) = nI i then (1 : Int64) else (0 : Int64)) (sn i).toInt64 (sd (38 + 2 * h + 1)).toInt64 (if hs sw (nI i) then (1 : Int64) else (0 : Int64)) (if hs be (nI i) then (1 : Int64) else (0 : Int64)) (nI (pcN (clsN (sd 1) sn n))).toInt64 (if hs (if 30 < d then 0 else sd (62 + d)) (nI i) then (1 : Int64) else (0 : Int64)) (sp_nn (fun d => sd (62 + d)) (nI i) dy (31 - d) d).toInt64 (nI (pcN (bb &&& clsN (sd 1) sn n))).toInt64 dy.toInt64)) Z h0) rfl (TW_eq (funext fun z => if y20 : z = 20 then by subst y20; first | rfl else by simp [va_up, y20]) rfl (funext fun z => if y9 : z = 9 then by subst y9; first | rfl else if y8 : z = 8 then by subst y8; first | rfl else by simp [va_up, y8, y9]) rfl) ?_
    refine v_topl (y := wn (wvf sn dy sw be sd h i) rl) (wn_congr (wv_eq _ hn2 hn8 hdy hd hb hbb) (RE_okr hre)) ?_
    refine v_lstore hX [(6, .long (wn (wvf sn dy sw be sd h i) rl)), (5, .int (nI i)), (3, .long ((sp_cb rl sn dy sw be sd h i).2)), (2, .int ((sp_cb rl sn dy sw be sd h i).1)), (0, .ref t), (1, .int (nI h))] dX4_choice_78 (by decide) rfl ?_
    refine v_lload hX dX4_choice_80 0 rfl ?_
    refine v_lload_n hX dX4_choice_82 2 rfl ?_
    refine v_lcmp hX (v := lg_cmp (wn (wvf sn dy sw be sd h i) rl) ((sp_cb rl sn dy sw be sd h i).2)) dX4_choice_83 rfl ?_
    refine v_if_gt hX (P := ((sp_cb rl sn dy sw be sd h i).2) < (wn (wvf sn dy sw be sd h i) rl)) 90 dX4_choice_84 (by decide) (lg_cmp_gt _ _) (fun c84 => ?_) (fun c84 => ?_)
    · skip
      refine v_iload hX dX4_choice_90 1 rfl ?_
      refine v_istore_n hX [(2, .int (nI i)), (6, .long (wn (wvf sn dy sw be sd h i) rl)), (5, .int (nI i)), (3, .long ((sp_cb rl sn dy sw be sd h i).2)), (0, .ref t), (1, .int (nI h))] dX4_choice_92 (by decide) rfl ?_
      refine v_lload hX dX4_choice_93 1 rfl ?_
      refine v_lstore_n hX [(3, .long (wn (wvf sn dy sw be sd h i) rl)), (2, .int (nI i)), (6, .long (wn (wvf sn dy sw be sd h i) rl)), (5, .int (nI i)), (0, .ref t), (1, .int (nI h))] dX4_choice_95 (by decide) rfl ?_
      refine v_iinc hX (v := nI (i + 1)) [(5, .int (nI (i + 1))), (3, .long (wn (wvf sn dy sw be sd h i) rl)), (2, .int (nI i)), (6, .long (wn (wvf sn dy sw be sd h i) rl)), (0, .ref t), (1, .int (nI h))] dX4_choice_96 3 rfl (by decide) (nI_1 i) rfl ?_
      refine v_goto hX 36 dX4_choice_99 (by decide) ?_
      refine v_l [0, 1, 2, 4, 5] rfl ?_
      exact ih _ _ _ _ (by first | rw [cb_zero c57] | rw [cb_not c57 c84] | rw [cb_yes c57 c84]) _ (by first | rw [cb_zero c57] | rw [cb_not c57 c84] | rw [cb_yes c57 c84])
    refine v_goto hX 96 dX4_choice_87 (by decide) ?_
    refine v_iinc hX (v := nI (i + 1)) [(5, .int (nI (i + 1))), (6, .long (wn (wvf sn dy sw be sd h i) rl)), (3, .long ((sp_cb rl sn dy sw be sd h i).2)), (2, .int ((sp_cb rl sn dy sw be sd h i).1)), (0, .ref t), (1, .int (nI h))] dX4_choice_96 1 rfl (by decide) (nI_1 i) rfl ?_
    refine v_goto hX 36 dX4_choice_99 (by decide) ?_
    refine v_l [0, 2, 3, 4, 5] rfl ?_
    exact ih _ _ _ _ (by first | rw [cb_zero c57] | rw [cb_not c57 c84] | rw [cb_yes c57 c84]) _ (by first | rw [cb_zero c57] | rw [cb_not c57 c84] | rw [cb_yes c57 c84])
  refine v_goto hX 96 dX4_choice_60 (by decide) ?_
  refine v_iinc hX (v := nI (i + 1)) [(5, .int (nI (i + 1))), (3, .long ((sp_cb rl sn dy sw be sd h i).2)), (2, .int ((sp_cb rl sn dy sw be sd h i).1)), (0, .ref t), (1, .int (nI h))] dX4_choice_96 0 rfl (by decide) (nI_1 i) rfl ?_
  refine v_goto hX 36 dX4_choice_99 (by decide) ?_
  exact ih _ _ _ _ (by first | rw [cb_zero c57] | rw [cb_not c57 c84] | rw [cb_yes c57 c84]) _ (by first | rw [cb_zero c57] | rw [cb_not c57 c84] | rw [cb_yes c57 c84])
set_option maxHeartbeats 4000000 in
set_option maxRecDepth 100000 in
theorem c_X4_passes {l : Launch} {G : vg_G} (hG : vg_st G) {t : Nat} (ht : gBase G ≤ t) {I : Nat → Int32} {A : Nat → Nat → Int32} {L : Nat → Nat → Int64} {Z : Int64} {h0 : vg_H} {sn wl : Nat → Int32} {dy sw be hv : Int32} {sd : Nat → Int32} (hA : A 10 = pS sn wl dy sw be hv sd)  {n m d : Nat} {fo : Option (List Clause)} (hn2 : sd 2 = nI n) (hn8 : n ≤ 8) (hm3 : sd 3 = nI m) (hm4 : m ≤ 4) (hdy : dy = nI d) (hd : d < 10000) (hbs : ∀ s, s < 8 → ∃ bb, bb < 256 ∧ sd (30 + s) = nI bb) (hown : ∀ h, h < 4 → ∃ o, o < 8 ∧ sd (38 + 2 * h) = nI o) (hwl : ∀ s, s < 8 → wl s = -1 ∨ ∃ j : Nat, j < 8 ∧ wl s = nI j) (hfo : FO (I 23) (A 2) (A 4) (A 5) fo) : FE l yX4_passes cX4_passes 3 (some FieldType.int) 4 104 G [.ref t] (TW G t I A L Z h0) (fun v h1 => ∃ (f8 : Nat → Int64) (f9 : Nat → Int64) (j20 : Int32), v = some (.int ((sp_ps fo wl dy be hv sd sn (A 11) sw m).2.2)) ∧ h1 = TW G t (va_up I 20 j20) (va_up (va_up (va_up A 10 (pS (sp_nf (sd 0) (sp_ps fo wl dy be hv sd sn (A 11) sw m).2.2 (sp_ps fo wl dy be hv sd sn (A 11) sw m).1 n) wl (dy + 1) 0 ((sp_ps fo wl dy be hv sd sn (A 11) sw m).2.2) 0 sd)) 11 ((sp_ps fo wl dy be hv sd sn (A 11) sw m).2.1)) 12 (sp_ff (sd 0) (sp_ps fo wl dy be hv sd sn (A 11) sw m).2.2 (A 12) n)) (va_up (va_up L 8 f8) 9 f9) Z h0) := by
  refine FE_of hG (by decide) (Nat.le_of_ble_eq_true rfl) (fun X nn kk Φ hXl hX hΦ => ?_)
  subst hXl
  have hn : gBase G ≤ nn := hX.2.2.2.2.2.2.2.2.2.2.2.1
  show vg_V G X 3 (vg_Q G X 0 0 Φ) 0 [(0, .ref t)] [] (TW G t I A L Z h0) nn kk
  refine v_iconst hX (v := 0) dX4_passes_0 rfl ?_
  refine v_istore_n hX [(1, .int 0), (0, .ref t)] dX4_passes_1 (by decide) rfl ?_
  refine v_h (h' := TW G t (va_up I 20 (I 20)) (va_up (va_up A 10 (pS sn wl dy sw be hv sd)) 11 (A 11)) (va_up (va_up L 8 (L 8)) 9 (L 9)) Z h0) (TW_eq (funext fun z => if y20 : z = 20 then by subst y20; first | rfl else by simp [va_up, y20]) (funext fun z => if y11 : z = 11 then by subst y11; first | rfl else if y10 : z = 10 then by subst y10; first | rfl | exact hA | exact hA.symm else by simp [va_up, y10, y11]) (funext fun z => if y9 : z = 9 then by subst y9; first | rfl else if y8 : z = 8 then by subst y8; first | rfl else by simp [va_up, y8, y9]) rfl) ?_
  refine lp_up (fun i => ∀ f8 : Nat → Int64, ∀ f9 : Nat → Int64, ∀ j20 : Int32,  ∀ z0 : Nat → Int32, z0 = ((sp_ps fo wl dy be hv sd sn (A 11) sw i).2.1) → ∀ z1 : Nat → Int32, z1 = ((sp_ps fo wl dy be hv sd sn (A 11) sw i).1) → ∀ z2 : Int32, z2 = ((sp_ps fo wl dy be hv sd sn (A 11) sw i).2.2) →vg_V G X 3 (vg_Q G X 0 0 Φ) 2 [(1, .int (nI i)), (0, .ref t)] [] (TW G t (va_up I 20 j20) (va_up (va_up A 10 (pS z1 wl dy z2 be hv sd)) 11 z0) (va_up (va_up L 8 f8) 9 f9) Z h0) nn kk) m ?_ ?_ 0 (by omega) _ _ _ _ rfl _ rfl _ rfl
  · skip
    intro f8 f9 j20 z0 ez0 z1 ez1 z2 ez2
    subst ez0 ez1 ez2
    refine v_iload_n hX dX4_passes_2 0 rfl ?_
    refine v_aload_n hX dX4_passes_3 1 rfl ?_
    refine t_get hX 22 (v := .ref (t + 10)) dX4_passes_4 q1303 (by decide) rfl rfl ?_
    refine v_iconst hX (v := 3) dX4_passes_7 rfl ?_
    refine t_iald hX 10 3 (v := nI m) dX4_passes_8 (by decide) rfl rfl (by omega) (by decide) hm3 ?_
    refine v_icmp_ge hX (P := m ≤ m) 52 dX4_passes_9 (by decide) (nI_leI (a := m) (b := m) (by omega) (by omega)) (fun c9 => ?_) (fun c => absurd (Nat.le_refl _) c)
    refine v_aload_n hX dX4_passes_52 1 rfl ?_
    refine g_callV (ci := 4) (r := (RX4, TX4, 40)) hX (as := []) (rest := []) (c_X4_snows hG ht  (n := n) rfl hn2 (by omega)) nd_X4_snows dX4_passes_53 q1700 q1702 qs109 q139 q1703 (TW_0 _ _ _ _ _ _ _) rfl rfl rfl (by decide) (by decide) (Nat.le_of_ble_eq_true rfl) hn (Nat.le_refl _) (Nat.le_refl _) (st' := [.int ((sp_ps fo wl dy be hv sd sn (A 11) sw m).2.2)]) (h'' := TW G t (va_up I 20 j20) (va_up (va_up (va_up A 10 (pS (sp_nf (sd 0) ((sp_ps fo wl dy be hv sd sn (A 11) sw m).2.2) ((sp_ps fo wl dy be hv sd sn (A 11) sw m).1) n) wl (dy + 1) 0 ((sp_ps fo wl dy be hv sd sn (A 11) sw m).2.2) 0 sd)) 11 ((sp_ps fo wl dy be hv sd sn (A 11) sw m).2.1)) 12 (sp_ff (sd 0) ((sp_ps fo wl dy be hv sd sn (A 11) sw m).2.2) ((A 12)) n)) (va_up (va_up L 8 f8) 9 f9) Z h0) rfl (TW_eq (funext fun z => if y20 : z = 20 then by subst y20; first | rfl else by simp [va_up, y20]) (funext fun z => if y12 : z = 12 then by subst y12; first | rfl else if y11 : z = 11 then by subst y11; first | rfl else if y10 : z = 10 then by subst y10; first | rfl | exact hA | exact hA.symm else by simp [va_up, y10, y11, y12]) (funext fun z => if y9 : z = 9 then by subst y9; first | rfl else if y8 : z = 8 then by subst y8; first | rfl else by simp [va_up, y8, y9]) rfl) ?_
    exact v_iret hX dX4_passes_56 (Nat.le_refl _) (Nat.le_refl _) (hΦ _ _ ⟨f8, f9, j20, rfl, rfl⟩)
  intro i hi ih f8 f9 j20 z0 ez0 z1 ez1 z2 ez2
  subst ez0 ez1 ez2
  refine v_iload_n hX dX4_passes_2 0 rfl ?_
  refine v_aload_n hX dX4_passes_3 1 rfl ?_
  refine t_get hX 22 (v := .ref (t + 10)) dX4_passes_4 q1303 (by decide) rfl rfl ?_
  refine v_iconst hX (v := 3) dX4_passes_7 rfl ?_
  refine t_iald hX 10 3 (v := nI m) dX4_passes_8 (by decide) rfl rfl (by omega) (by decide) hm3 ?_
  refine v_icmp_ge hX (P := m ≤ i) 52 dX4_passes_9 (by decide) (nI_leI (a := m) (b := i) (by omega) (by omega)) (fun c => absurd c (by omega)) (fun c9 => ?_)
  refine v_aload_n hX dX4_passes_12 1 rfl ?_
  refine t_get hX 22 (v := .ref (t + 10)) dX4_passes_13 q1303 (by decide) rfl rfl ?_
  refine v_bipush hX (v := 13) dX4_passes_16 rfl ?_
  refine t_iald hX 10 13 (v := hv) dX4_passes_18 (by decide) rfl rfl (by omega) (by decide) rfl ?_
  refine v_iload_n hX dX4_passes_19 0 rfl ?_
  refine g_callS hX (as := [.int hv, .int (nI i)]) (rest := []) (c_X4_isOf hG (set := hv) (k := (nI i))  ) nd_X4_isOf dX4_passes_20 q1611 q1612 q139 q1613 rfl (by decide) (by decide) (Nat.le_of_ble_eq_true rfl) hn (Nat.le_refl _) (Nat.le_refl _) (st' := [.int (if hs hv (nI i) then 1 else 0)]) (h'' := TW G t (va_up I 20 j20) (va_up (va_up A 10 (pS ((sp_ps fo wl dy be hv sd sn (A 11) sw i).1) wl dy ((sp_ps fo wl dy be hv sd sn (A 11) sw i).2.2) be hv sd)) 11 ((sp_ps fo wl dy be hv sd sn (A 11) sw i).2.1)) (va_up (va_up L 8 f8) 9 f9) Z h0) rfl rfl ?_
  refine v_ifB_eq hX 29 dX4_passes_23 (by decide) (fun c23 => ?_) (fun c23 => ?_)
  · skip
    refine v_aload_n hX dX4_passes_29 1 rfl ?_
    refine v_iload_n hX dX4_passes_30 0 rfl ?_
    refine g_callVE (ci := 4) (r := (RX4, TX4, 40)) hX (as := [.int (nI i)]) (rest := []) (c_X4_choice hG ht (h := i) (n := n) (d := d) (fo := fo) rfl hn2 (by omega) (by omega) hdy hd hbs hown hfo) nd_X4_choice dX4_passes_31 q1655 q1657 qs100 q139 q1658 (TW_0 _ _ _ _ _ _ _) rfl rfl rfl (by decide) (by decide) (Nat.le_of_ble_eq_true rfl) hn (Nat.le_refl _) (Nat.le_refl _) (fun v9 h9 hw => ?_)
    obtain ⟨f8_1, f9_1, j20_1, rfl, rfl⟩ := hw
    refine v_hs (st' := [.int (sp_ch fo ((sp_ps fo wl dy be hv sd sn (A 11) sw i).1) dy ((sp_ps fo wl dy be hv sd sn (A 11) sw i).2.2) be sd i)]) (h' := TW G t (va_up I 20 j20_1) (va_up (va_up A 10 (pS ((sp_ps fo wl dy be hv sd sn (A 11) sw i).1) wl dy ((sp_ps fo wl dy be hv sd sn (A 11) sw i).2.2) be hv sd)) 11 ((sp_ps fo wl dy be hv sd sn (A 11) sw i).2.1)) (va_up (va_up L 8 f8_1) 9 f9_1) Z h0) rfl (TW_eq (funext fun z => if y20 : z = 20 then by subst y20; first | rfl else by simp [va_up, y20]) (funext fun z => if y11 : z = 11 then by subst y11; first | rfl else if y10 : z = 10 then by subst y10; first | rfl | exact hA | exact hA.symm else by simp [va_up, y10, y11]) (funext fun z => if y9 : z = 9 then by subst y9; first | rfl else if y8 : z = 8 then by subst y8; first | rfl else by simp [va_up, y8, y9]) rfl) ?_
    refine v_istore_n hX [(2, .int (sp_ch fo ((sp_ps fo wl dy be hv sd sn (A 11) sw i).1) dy ((sp_ps fo wl dy be hv sd sn (A 11) sw i).2.2) be sd i)), (1, .int (nI i)), (0, .ref t)] dX4_passes_34 (by decide) rfl ?_
    refine v_iload_n hX dX4_passes_35 0 rfl ?_
    refine v_if_lt hX (P := (sp_ch fo ((sp_ps fo wl dy be hv sd sn (A 11) sw i).1) dy ((sp_ps fo wl dy be hv sd sn (A 11) sw i).2.2) be sd i) < 0) 46 dX4_passes_36 (by decide) Iff.rfl (fun c36 => ?_) (fun c36 => ?_)
    · skip
      refine v_iinc hX (v := nI (i + 1)) [(1, .int (nI (i + 1))), (2, .int (sp_ch fo ((sp_ps fo wl dy be hv sd sn (A 11) sw i).1) dy ((sp_ps fo wl dy be hv sd sn (A 11) sw i).2.2) be sd i)), (0, .ref t)] dX4_passes_46 1 rfl (by decide) (nI_1 i) rfl ?_
      refine v_goto hX 2 dX4_passes_49 (by decide) ?_
      refine v_l [0, 2] rfl ?_
      exact ih _ _ _ _ (by first | rw [ps_have c23] | rw [ps_none c23 c36] | rw [ps_take c23 c36 es h8]) _ (by first | rw [ps_have c23] | rw [ps_none c23 c36] | rw [ps_take c23 c36 es h8]) _ (by first | rw [ps_have c23] | rw [ps_none c23 c36] | rw [ps_take c23 c36 es h8])
    obtain ⟨s, h8, es⟩ := ch_nat hn2 hn8 (hown i (by omega)) c36
    refine v_aload_n hX dX4_passes_39 2 rfl ?_
    refine v_iload_n hX dX4_passes_40 1 rfl ?_
    refine v_iload_n hX dX4_passes_41 0 rfl ?_
    refine v_top (y := nI s) es ?_
    refine g_callV (ci := 4) (r := (RX4, TX4, 40)) hX (as := [.int (nI i), .int (nI s)]) (rest := []) (c_X4_takes hG ht (h := i) (s := s)  rfl (by omega) (by omega) (hwl s h8)) nd_X4_takes dX4_passes_42 q1693 q1695 qs108 q139 q1696 (TW_0 _ _ _ _ _ _ _) rfl rfl rfl (by decide) (by decide) (Nat.le_of_ble_eq_true rfl) hn (Nat.le_refl _) (Nat.le_refl _) (st' := [.int (mn (((sp_ps fo wl dy be hv sd sn (A 11) sw i).1) s) (sd (38 + 2 * i + 1)))]) (h'' := TW G t (va_up I 20 j20_1) (va_up (va_up A 10 (pS (tk_sn ((sp_ps fo wl dy be hv sd sn (A 11) sw i).1) wl s (mn (((sp_ps fo wl dy be hv sd sn (A 11) sw i).1) s) (sd (38 + 2 * i + 1)))) wl dy (if mn (((sp_ps fo wl dy be hv sd sn (A 11) sw i).1) s) (sd (38 + 2 * i + 1)) ≤ 0 then ((sp_ps fo wl dy be hv sd sn (A 11) sw i).2.2) else ((sp_ps fo wl dy be hv sd sn (A 11) sw i).2.2) ||| bitI s) be hv sd)) 11 (tk_th (((sp_ps fo wl dy be hv sd sn (A 11) sw i).2.1)) wl s (mn (((sp_ps fo wl dy be hv sd sn (A 11) sw i).1) s) (sd (38 + 2 * i + 1))))) (va_up (va_up L 8 f8_1) 9 f9_1) Z h0) rfl (TW_eq (funext fun z => if y20 : z = 20 then by subst y20; first | rfl else by simp [va_up, y20]) (funext fun z => if y11 : z = 11 then by subst y11; first | rfl else if y10 : z = 10 then by subst y10; first | rfl | exact hA | exact hA.symm else by simp [va_up, y10, y11]) (funext fun z => if y9 : z = 9 then by subst y9; first | rfl else if y8 : z = 8 then by subst y8; first | rfl else by simp [va_up, y8, y9]) rfl) ?_
    refine v_pop hX dX4_passes_45 rfl ?_
    refine v_iinc hX (v := nI (i + 1)) [(1, .int (nI (i + 1))), (2, .int (sp_ch fo ((sp_ps fo wl dy be hv sd sn (A 11) sw i).1) dy ((sp_ps fo wl dy be hv sd sn (A 11) sw i).2.2) be sd i)), (0, .ref t)] dX4_passes_46 1 rfl (by decide) (nI_1 i) rfl ?_
    refine v_goto hX 2 dX4_passes_49 (by decide) ?_
    refine v_l [0, 2] rfl ?_
    exact ih _ _ _ _ (by first | rw [ps_have c23] | rw [ps_none c23 c36] | rw [ps_take c23 c36 es h8]) _ (by first | rw [ps_have c23] | rw [ps_none c23 c36] | rw [ps_take c23 c36 es h8]) _ (by first | rw [ps_have c23] | rw [ps_none c23 c36] | rw [ps_take c23 c36 es h8])
  refine v_goto hX 46 dX4_passes_26 (by decide) ?_
  refine v_iinc hX (v := nI (i + 1)) [(1, .int (nI (i + 1))), (0, .ref t)] dX4_passes_46 0 rfl (by decide) (nI_1 i) rfl ?_
  refine v_goto hX 2 dX4_passes_49 (by decide) ?_
  exact ih _ _ _ _ (by first | rw [ps_have c23] | rw [ps_none c23 c36] | rw [ps_take c23 c36 es h8]) _ (by first | rw [ps_have c23] | rw [ps_none c23 c36] | rw [ps_take c23 c36 es h8]) _ (by first | rw [ps_have c23] | rw [ps_none c23 c36] | rw [ps_take c23 c36 es h8])
