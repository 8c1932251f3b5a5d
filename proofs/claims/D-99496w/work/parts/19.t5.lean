/-! the twin: sums of a rule, what a house wants, passes (printed by tools/t5.py) -/
set_option maxHeartbeats 4000000 in
set_option maxRecDepth 100000 in
theorem c_X4_summedBy {l : Launch} {G : vg_G} (hG : vg_st G) {t : Nat} (ht : gBase G ≤ t) {I : Nat → Int32} {A : Nat → Nat → Int32} {L : Nat → Nat → Int64} {Z : Int64} {h0 : vg_H} {t0 : Nat} {rl : List Clause} (ht0 : t0 < 6) (hre : RE (A 2) (A 4) (A 5) t0 rl) : FE l yX4_summedBy cX4_summedBy 4 (some FieldType.long) 2 54 G [.ref t, .int (nI t0)] (TW G t I A L Z h0) (fun v h1 => ∃ (f8 : Nat → Int64) (j20 : Int32), v = some (.long (wn (L 9) rl)) ∧ h1 = TW G t (va_up I 20 j20) A (va_up L 8 f8) Z h0) := by
  refine FE_of hG (by decide) (Nat.le_of_ble_eq_true rfl) (fun X nn kk Φ hXl hX hΦ => ?_)
  subst hXl
  have hn : gBase G ≤ nn := hX.2.2.2.2.2.2.2.2.2.2.2.1
  show vg_V G X 4 (vg_Q G X 0 0 Φ) 0 [(0, .ref t), (1, .int (nI t0))] [] (TW G t I A L Z h0) nn kk
  have hl12 := hre.2.1
  refine v_iconst hX (v := 0) dX4_summedBy_0 rfl ?_
  refine v_istore_n hX [(2, .int 0), (0, .ref t), (1, .int (nI t0))] dX4_summedBy_1 (by decide) rfl ?_
  refine lp_up (fun i => ∀ f8 : Nat → Int64, ∀ j20 : Int32, wn (L 9) rl = wn (L 9) (rl.drop i) →  vg_V G X 4 (vg_Q G X 0 0 Φ) 2 [(2, .int (nI i)), (0, .ref t), (1, .int (nI t0))] [] (TW G t (va_up I 20 j20) A (va_up L 8 f8) Z h0) nn kk) rl.length ?_ ?_ 0 (by omega) _ _ rfl 
  · skip
    intro f8 j20 hr
    refine v_iload_n hX dX4_summedBy_2 0 rfl ?_
    refine v_aload_n hX dX4_summedBy_3 1 rfl ?_
    refine t_get hX 6 (v := .ref (t + 5)) dX4_summedBy_4 q1287 (by decide) rfl rfl ?_
    refine v_iload_n hX dX4_summedBy_7 2 rfl ?_
    refine t_iald hX 5 t0 (v := nI rl.length) dX4_summedBy_8 (by decide) rfl rfl (by omega) (by decide) hre.1 ?_
    refine v_icmp_ge hX (P := rl.length ≤ rl.length) 84 dX4_summedBy_9 (by decide) (nI_leI (a := rl.length) (b := rl.length) (by omega) (by omega)) (fun c9 => ?_) (fun c => absurd (Nat.le_refl _) c)
    refine v_lconst hX (v := (0 : Int64)) dX4_summedBy_84 rfl ?_
    exact v_lret hX dX4_summedBy_85 (Nat.le_refl _) (Nat.le_refl _) (hΦ _ _ ⟨f8, j20, (by rw [hr, List.drop_length]; rfl), rfl⟩)
  intro i hi ih f8 j20 hr
  obtain ⟨x, hc⟩ := get_someP hi
  rw [drop_atP hc] at hr
  have hx := cl_cases (hre.2.2 i x hc)
  refine v_iload_n hX dX4_summedBy_2 0 rfl ?_
  refine v_aload_n hX dX4_summedBy_3 1 rfl ?_
  refine t_get hX 6 (v := .ref (t + 5)) dX4_summedBy_4 q1287 (by decide) rfl rfl ?_
  refine v_iload_n hX dX4_summedBy_7 2 rfl ?_
  refine t_iald hX 5 t0 (v := nI rl.length) dX4_summedBy_8 (by decide) rfl rfl (by omega) (by decide) hre.1 ?_
  refine v_icmp_ge hX (P := rl.length ≤ i) 84 dX4_summedBy_9 (by decide) (nI_leI (a := rl.length) (b := i) (by omega) (by omega)) (fun c => absurd c (by omega)) (fun c9 => ?_)
  refine v_bipush hX (v := 48) dX4_summedBy_12 rfl ?_
  refine v_iload_n hX dX4_summedBy_14 2 rfl ?_
  refine v_imul hX (v := nI (48 * t0)) dX4_summedBy_15 (pk_mul 48 t0) ?_
  refine v_iconst hX (v := 4) dX4_summedBy_16 rfl ?_
  refine v_iload_n hX dX4_summedBy_17 0 rfl ?_
  refine v_imul hX (v := nI (4 * i)) dX4_summedBy_18 (pk_mul 4 i) ?_
  refine v_iadd hX (v := nI (48 * t0 + 4 * i)) dX4_summedBy_19 (nI_add (48 * t0) (4 * i)) ?_
  refine v_istore_n hX [(3, .int (nI (48 * t0 + 4 * i))), (2, .int (nI i)), (0, .ref t), (1, .int (nI t0))] dX4_summedBy_20 (by decide) rfl ?_
  rcases hx with ⟨v, b, rfl, h1, h2, h3, h4, h5, h6⟩ | ⟨v, c, b, b2, rfl, h1, h2, h3, h4, h5, k1, k2, k3, k4, k5⟩
  · skip
    refine v_aload_n hX dX4_summedBy_21 2 rfl ?_
    refine t_get hX 5 (v := .ref (t + 4)) dX4_summedBy_22 q1286 (by decide) rfl rfl ?_
    refine v_iload_n hX dX4_summedBy_25 0 rfl ?_
    refine v_iconst hX (v := 2) dX4_summedBy_26 rfl ?_
    refine v_iadd hX (v := nI (48 * t0 + 4 * i + 2)) dX4_summedBy_27 (nI_add (48 * t0 + 4 * i) 2) ?_
    refine t_iald hX 4 (48 * t0 + 4 * i + 2) (v := (-1)) dX4_summedBy_28 (by decide) rfl rfl (by omega) (by decide) h6 ?_
    refine v_if_lt hX 58 dX4_summedBy_29 (by decide) (Iff.refl _) (fun _ => ?_) (fun c => absurd (by decide) c)
    refine v_aload_n hX dX4_summedBy_58 2 rfl ?_
    refine v_iload_n hX dX4_summedBy_59 3 rfl ?_
    refine v_aload_n hX dX4_summedBy_60 2 rfl ?_
    refine t_get hX 5 (v := .ref (t + 4)) dX4_summedBy_61 q1286 (by decide) rfl rfl ?_
    refine v_iload_n hX dX4_summedBy_64 0 rfl ?_
    refine t_iald hX 4 (48 * t0 + 4 * i) (v := nI b) dX4_summedBy_65 (by decide) rfl rfl (by omega) (by decide) h1 ?_
    refine v_aload_n hX dX4_summedBy_66 2 rfl ?_
    refine t_get hX 5 (v := .ref (t + 4)) dX4_summedBy_67 q1286 (by decide) rfl rfl ?_
    refine v_iload_n hX dX4_summedBy_70 0 rfl ?_
    refine v_iconst hX (v := 1) dX4_summedBy_71 rfl ?_
    refine v_iadd hX (v := nI (48 * t0 + 4 * i + 1)) dX4_summedBy_72 (nI_add (48 * t0 + 4 * i) 1) ?_
    refine t_iald hX 4 (48 * t0 + 4 * i + 1) (v := nI (b + v.length)) dX4_summedBy_73 (by decide) rfl rfl (by omega) (by decide) h2 ?_
    refine g_callVE (ci := 4) (r := (RX4, TX4, 40)) hX (as := [.int (nI t0), .int (nI b), .int (nI (b + v.length))]) (rest := []) (c_X4_reckons hG ht (t0 := t0) (bg := b) (en := (b + v.length)) (w := v) (by omega) h4 rfl h5 h3) nd_X4_reckons dX4_summedBy_74 q1678 q1680 qs105 q139 q1681 (TW_0 _ _ _ _ _ _ _) rfl rfl rfl (by decide) (by decide) (Nat.le_of_ble_eq_true rfl) hn (Nat.le_refl _) (Nat.le_refl _) (fun v9 h9 hw => ?_)
    obtain ⟨f8_1, rfl, rfl⟩ := hw
    refine v_hs (st' := [.long (evr ((L 9)) v)]) (h' := TW G t (va_up I 20 0) A (va_up L 8 f8_1) Z h0) rfl (TW_eq (funext fun z => if y20 : z = 20 then by subst y20; first | rfl else by simp [va_up, y20]) rfl (funext fun z => if y8 : z = 8 then by subst y8; first | rfl else by simp [va_up, y8]) rfl) ?_
    exact v_lret hX dX4_summedBy_77 (Nat.le_refl _) (Nat.le_refl _) (hΦ _ _ ⟨f8_1, 0, (by rw [hr, wn_none]), rfl⟩)
  refine v_aload_n hX dX4_summedBy_21 2 rfl ?_
  refine t_get hX 5 (v := .ref (t + 4)) dX4_summedBy_22 q1286 (by decide) rfl rfl ?_
  refine v_iload_n hX dX4_summedBy_25 0 rfl ?_
  refine v_iconst hX (v := 2) dX4_summedBy_26 rfl ?_
  refine v_iadd hX (v := nI (48 * t0 + 4 * i + 2)) dX4_summedBy_27 (nI_add (48 * t0 + 4 * i) 2) ?_
  refine t_iald hX 4 (48 * t0 + 4 * i + 2) (v := nI b2) dX4_summedBy_28 (by decide) rfl rfl (by omega) (by decide) k1 ?_
  refine v_if_lt hX 58 dX4_summedBy_29 (by decide) (Iff.refl _) (fun c => absurd c (by have := nI_pos (n := b2) (by omega); exact this)) (fun _ => ?_)
  refine v_aload_n hX dX4_summedBy_32 2 rfl ?_
  refine v_iload_n hX dX4_summedBy_33 3 rfl ?_
  refine v_aload_n hX dX4_summedBy_34 2 rfl ?_
  refine t_get hX 5 (v := .ref (t + 4)) dX4_summedBy_35 q1286 (by decide) rfl rfl ?_
  refine v_iload_n hX dX4_summedBy_38 0 rfl ?_
  refine v_iconst hX (v := 2) dX4_summedBy_39 rfl ?_
  refine v_iadd hX (v := nI (48 * t0 + 4 * i + 2)) dX4_summedBy_40 (nI_add (48 * t0 + 4 * i) 2) ?_
  refine t_iald hX 4 (48 * t0 + 4 * i + 2) (v := nI b2) dX4_summedBy_41 (by decide) rfl rfl (by omega) (by decide) k1 ?_
  refine v_aload_n hX dX4_summedBy_42 2 rfl ?_
  refine t_get hX 5 (v := .ref (t + 4)) dX4_summedBy_43 q1286 (by decide) rfl rfl ?_
  refine v_iload_n hX dX4_summedBy_46 0 rfl ?_
  refine v_iconst hX (v := 3) dX4_summedBy_47 rfl ?_
  refine v_iadd hX (v := nI (48 * t0 + 4 * i + 3)) dX4_summedBy_48 (nI_add (48 * t0 + 4 * i) 3) ?_
  refine t_iald hX 4 (48 * t0 + 4 * i + 3) (v := nI (b2 + c.length)) dX4_summedBy_49 (by decide) rfl rfl (by omega) (by decide) k2 ?_
  refine g_callVE (ci := 4) (r := (RX4, TX4, 40)) hX (as := [.int (nI t0), .int (nI b2), .int (nI (b2 + c.length))]) (rest := []) (c_X4_reckons hG ht (t0 := t0) (bg := b2) (en := (b2 + c.length)) (w := c) (by omega) k4 rfl k5 k3) nd_X4_reckons dX4_summedBy_50 q1678 q1680 qs105 q139 q1681 (TW_0 _ _ _ _ _ _ _) rfl rfl rfl (by decide) (by decide) (Nat.le_of_ble_eq_true rfl) hn (Nat.le_refl _) (Nat.le_refl _) (fun v9 h9 hw => ?_)
  obtain ⟨f8_2, rfl, rfl⟩ := hw
  refine v_hs (st' := [.long (evr ((L 9)) c)]) (h' := TW G t (va_up I 20 0) A (va_up L 8 f8_2) Z h0) rfl (TW_eq (funext fun z => if y20 : z = 20 then by subst y20; first | rfl else by simp [va_up, y20]) rfl (funext fun z => if y8 : z = 8 then by subst y8; first | rfl else by simp [va_up, y8]) rfl) ?_
  refine v_lconst hX (v := (1 : Int64)) dX4_summedBy_53 rfl ?_
  refine v_lcmp hX (v := lg_cmp (evr ((L 9)) c) (1 : Int64)) dX4_summedBy_54 rfl ?_
  refine v_if_ne hX (P := (evr ((L 9)) c) = (1 : Int64)) 78 dX4_summedBy_55 (by decide) (lg_cmp_eq _ _) (fun c55 => ?_) (fun c55 => ?_)
  · skip
    refine v_iinc hX (v := nI (i + 1)) [(2, .int (nI (i + 1))), (3, .int (nI (48 * t0 + 4 * i))), (0, .ref t), (1, .int (nI t0))] dX4_summedBy_78 1 rfl (by decide) (nI_1 i) rfl ?_
    refine v_goto hX 2 dX4_summedBy_81 (by decide) ?_
    refine v_l [0, 2, 3] rfl ?_
    exact ih _ _ (hr.trans (wn_miss c55)) 
  refine v_aload_n hX dX4_summedBy_58 2 rfl ?_
  refine v_iload_n hX dX4_summedBy_59 3 rfl ?_
  refine v_aload_n hX dX4_summedBy_60 2 rfl ?_
  refine t_get hX 5 (v := .ref (t + 4)) dX4_summedBy_61 q1286 (by decide) rfl rfl ?_
  refine v_iload_n hX dX4_summedBy_64 0 rfl ?_
  refine t_iald hX 4 (48 * t0 + 4 * i) (v := nI b) dX4_summedBy_65 (by decide) rfl rfl (by omega) (by decide) h1 ?_
  refine v_aload_n hX dX4_summedBy_66 2 rfl ?_
  refine t_get hX 5 (v := .ref (t + 4)) dX4_summedBy_67 q1286 (by decide) rfl rfl ?_
  refine v_iload_n hX dX4_summedBy_70 0 rfl ?_
  refine v_iconst hX (v := 1) dX4_summedBy_71 rfl ?_
  refine v_iadd hX (v := nI (48 * t0 + 4 * i + 1)) dX4_summedBy_72 (nI_add (48 * t0 + 4 * i) 1) ?_
  refine t_iald hX 4 (48 * t0 + 4 * i + 1) (v := nI (b + v.length)) dX4_summedBy_73 (by decide) rfl rfl (by omega) (by decide) h2 ?_
  refine g_callVE (ci := 4) (r := (RX4, TX4, 40)) hX (as := [.int (nI t0), .int (nI b), .int (nI (b + v.length))]) (rest := []) (c_X4_reckons hG ht (t0 := t0) (bg := b) (en := (b + v.length)) (w := v) (by omega) h4 rfl h5 h3) nd_X4_reckons dX4_summedBy_74 q1678 q1680 qs105 q139 q1681 (TW_0 _ _ _ _ _ _ _) rfl rfl rfl (by decide) (by decide) (Nat.le_of_ble_eq_true rfl) hn (Nat.le_refl _) (Nat.le_refl _) (fun v9 h9 hw => ?_)
  obtain ⟨f8_3, rfl, rfl⟩ := hw
  refine v_hs (st' := [.long (evr ((L 9)) v)]) (h' := TW G t (va_up I 20 0) A (va_up L 8 f8_3) Z h0) rfl (TW_eq (funext fun z => if y20 : z = 20 then by subst y20; first | rfl else by simp [va_up, y20]) rfl (funext fun z => if y8 : z = 8 then by subst y8; first | rfl else by simp [va_up, y8]) rfl) ?_
  exact v_lret hX dX4_summedBy_77 (Nat.le_refl _) (Nat.le_refl _) (hΦ _ _ ⟨f8_3, 0, (by rw [hr, wn_hit c55]), rfl⟩)
