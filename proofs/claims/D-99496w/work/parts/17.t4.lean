/-! the twin: the stack (printed by tools/t4.py) -/
set_option maxHeartbeats 4000000 in
set_option maxRecDepth 100000 in
theorem c_X4_reckons {l : Launch} {G : vg_G} (hG : vg_st G) {t : Nat} (ht : gBase G ≤ t) {I : Nat → Int32} {A : Nat → Nat → Int32} {L : Nat → Nat → Int64} {Z : Int64} {h0 : vg_H} {t0 : Nat} {bg : Nat} {en : Nat} {w : List Nat} (ht0 : t0 < 6) (hsg : sgm (A 2) (400 * t0 + bg) w) (hen : en = bg + w.length) (hok : okd w 0 = true) (hln : en ≤ 400) : FE l yX4_reckons cX4_reckons 11 (some FieldType.long) 1 24 G [.ref t, .int (nI t0), .int (nI bg), .int (nI en)] (TW G t I A L Z h0) (fun v h1 => ∃ (f8 : Nat → Int64), v = some (.long (evr (L 9) w)) ∧ h1 = TW G t (va_up I 20 0) A (va_up L 8 f8) Z h0) := by
  refine FE_of hG (by decide) (Nat.le_of_ble_eq_true rfl) (fun X nn kk Φ hXl hX hΦ => ?_)
  subst hXl
  have hn : gBase G ≤ nn := hX.2.2.2.2.2.2.2.2.2.2.2.1
  show vg_V G X 11 (vg_Q G X 0 0 Φ) 0 [(0, .ref t), (1, .int (nI t0)), (2, .int (nI bg)), (3, .int (nI en))] [] (TW G t I A L Z h0) nn kk
  refine v_aload_n hX dX4_reckons_0 0 rfl ?_
  refine v_iconst hX (v := 0) dX4_reckons_1 rfl ?_
  refine t_put hX 20 dX4_reckons_2 q1301 (by decide) rfl rfl rfl ht rfl ?_
  refine v_iload_n hX dX4_reckons_5 2 rfl ?_
  refine v_istore hX [(4, .int (nI bg)), (0, .ref t), (1, .int (nI t0)), (2, .int (nI bg)), (3, .int (nI en))] dX4_reckons_6 (by decide) rfl ?_
  refine lp_up (fun i => ∀ f8 : Nat → Int64, stk f8 (evA (L 9) w i) → okd (w.drop i) (evA (L 9) w i).length = true →  ∀ z0 : Int32, z0 = (nI ((evA (L 9) w i).length)) →vg_V G X 11 (vg_Q G X 0 0 Φ) 8 [(4, .int (nI (bg + i))), (0, .ref t), (1, .int (nI t0)), (2, .int (nI bg)), (3, .int (nI en))] [] (TW G t (va_up I 20 z0) A (va_up L 8 f8) Z h0) nn kk) w.length ?_ ?_ 0 (by omega) _ (fun i hi => absurd hi (Nat.not_lt_zero _)) hok _ rfl
  · skip
    intro f8 hk ho z0 ez0
    subst ez0
    obtain ⟨v, hv⟩ := okd_end ho
    refine v_iload hX dX4_reckons_8 0 rfl ?_
    refine v_iload_n hX dX4_reckons_10 4 rfl ?_
    refine v_icmp_ge hX (P := en ≤ (bg + w.length)) 135 dX4_reckons_11 (by decide) (nI_leI (a := en) (b := bg + w.length) (by omega) (by omega)) (fun c11 => ?_) (fun c => absurd (by omega) c)
    have hx : (evA (L 9) w w.length).length = 0 + 1 := by rw [hv]; rfl
    refine v_aload_n hX dX4_reckons_135 1 rfl ?_
    refine g_callV (ci := 4) (r := (RX4, TX4, 40)) hX (as := []) (rest := []) (c_X4_pop hG ht  (i := 0) (congrArg nI hx) (by omega)) nd_X4_pop dX4_reckons_136 q1686 q1688 qs107 q139 q1689 (TW_0 _ _ _ _ _ _ _) rfl rfl rfl (by decide) (by decide) (Nat.le_of_ble_eq_true rfl) hn (Nat.le_refl _) (Nat.le_refl _) (st' := [.long (f8 0)]) (h'' := TW G t (va_up I 20 (nI 0)) A (va_up L 8 f8) Z h0) rfl (TW_eq (funext fun z => if y20 : z = 20 then by subst y20; first | rfl else by simp [va_up, y20]) rfl (funext fun z => if y8 : z = 8 then by subst y8; first | rfl else by simp [va_up, y8]) rfl) ?_
    refine v_topl (y := evr (L 9) w) (by rw [← evA_all, hv]; exact stk_head (st := []) (hv ▸ hk)) ?_
    exact v_lret hX dX4_reckons_139 (Nat.le_refl _) (Nat.le_refl _) (hΦ _ _ ⟨f8, rfl, (TW_eq rfl rfl rfl rfl)⟩)
  intro i hi ih f8 hk ho z0 ez0
  subst ez0
  obtain ⟨c, hc⟩ := get_some hi
  have h26 : A 2 (400 * t0 + (bg + i)) = nI c := by rw [← Nat.add_assoc]; exact sgm_at hsg hc
  rw [drop_at hc] at ho
  have hcl := okd_lt ho
  have hS := evA_succ (W := L 9) hc
  refine v_iload hX dX4_reckons_8 0 rfl ?_
  refine v_iload_n hX dX4_reckons_10 4 rfl ?_
  refine v_icmp_ge hX (P := en ≤ (bg + i)) 135 dX4_reckons_11 (by decide) (nI_leI (a := en) (b := bg + i) (by omega) (by omega)) (fun c => absurd c (by omega)) (fun c11 => ?_)
  refine v_aload_n hX dX4_reckons_14 1 rfl ?_
  refine t_get hX 3 (v := .ref (t + 2)) dX4_reckons_15 q1284 (by decide) rfl rfl ?_
  refine v_sipush hX (v := 400) dX4_reckons_18 rfl ?_
  refine v_iload_n hX dX4_reckons_21 2 rfl ?_
  refine v_imul hX (v := nI (400 * t0)) dX4_reckons_22 (pk_mul 400 t0) ?_
  refine v_iload hX dX4_reckons_23 0 rfl ?_
  refine v_iadd hX (v := nI (400 * t0 + (bg + i))) dX4_reckons_25 (nI_add (400 * t0) (bg + i)) ?_
  refine t_iald hX 2 (400 * t0 + (bg + i)) (v := nI c) dX4_reckons_26 (by decide) rfl rfl (by omega) (by decide) h26 ?_
  refine v_bipush hX (v := 15) dX4_reckons_27 rfl ?_
  refine v_iand hX (v := nI (c % 16)) dX4_reckons_29 (pk_andN (n := c) (by omega) 4 (by decide)) ?_
  refine v_istore hX [(5, .int (nI (c % 16))), (4, .int (nI (bg + i))), (0, .ref t), (1, .int (nI t0)), (2, .int (nI bg)), (3, .int (nI en))] dX4_reckons_30 (by decide) rfl ?_
  refine v_aload_n hX dX4_reckons_32 2 rfl ?_
  refine t_get hX 3 (v := .ref (t + 2)) dX4_reckons_33 q1284 (by decide) rfl rfl ?_
  refine v_sipush hX (v := 400) dX4_reckons_36 rfl ?_
  refine v_iload_n hX dX4_reckons_39 3 rfl ?_
  refine v_imul hX (v := nI (400 * t0)) dX4_reckons_40 (pk_mul 400 t0) ?_
  refine v_iload hX dX4_reckons_41 1 rfl ?_
  refine v_iadd hX (v := nI (400 * t0 + (bg + i))) dX4_reckons_43 (nI_add (400 * t0) (bg + i)) ?_
  refine t_iald hX 2 (400 * t0 + (bg + i)) (v := nI c) dX4_reckons_44 (by decide) rfl rfl (by omega) (by decide) h26 ?_
  refine v_iconst hX (v := 4) dX4_reckons_45 rfl ?_
  refine v_ishr hX (v := nI (c / 16)) dX4_reckons_46 (pk_shrN (n := c) (by omega) ((4 : Int32) &&& 31) 4 (by decide)) ?_
  refine v_istore hX [(6, .int (nI (c / 16))), (5, .int (nI (c % 16))), (4, .int (nI (bg + i))), (0, .ref t), (1, .int (nI t0)), (2, .int (nI bg)), (3, .int (nI en))] dX4_reckons_47 (by decide) rfl ?_
  refine v_iload hX dX4_reckons_49 1 rfl ?_
  refine v_if_ne hX (P := (c % 16) = 0) 64 dX4_reckons_51 (by decide) (nI_eq (a := c % 16) (b := 0) (by omega) (by omega)) (fun c51 => ?_) (fun c51 => ?_)
  · skip
    refine v_iload hX dX4_reckons_64 1 rfl ?_
    refine v_iconst hX (v := 1) dX4_reckons_66 rfl ?_
    refine v_icmp_ne hX (P := (c % 16) = 1) 84 dX4_reckons_67 (by decide) (nI_eq (a := c % 16) (b := 1) (by omega) (by omega)) (fun c67 => ?_) (fun c67 => ?_)
    · skip
      refine v_iload hX dX4_reckons_84 1 rfl ?_
      refine v_bipush hX (v := 11) dX4_reckons_86 rfl ?_
      refine v_icmp_ne hX (P := (c % 16) = 11) 104 dX4_reckons_88 (by decide) (nI_eq (a := c % 16) (b := 11) (by omega) (by omega)) (fun c88 => ?_) (fun c88 => ?_)
      · skip
        obtain ⟨hd, hO⟩ := okd_two ho c51 c67 c88
        obtain ⟨y, x, r, hx⟩ := list2 hd
        have hK := stk_push (v := sOne (nI (c % 16)) x y) (stk_tail (stk_tail (hx ▸ hk)))
        have hf := stk_head (hx ▸ hk)
        have hf2 := stk_head (stk_tail (hx ▸ hk))
        rw [hx, tk1_two c51 c67 c88] at hS
        rw [hx] at hO
        have hxl : (evA (L 9) w i).length = r.length + 1 + 1 := by rw [hx]; rfl
        have hr62 : r.length < 62 := by have := okd_le hO; simp at this; omega
        refine v_aload_n hX dX4_reckons_104 3 rfl ?_
        refine g_callV (ci := 4) (r := (RX4, TX4, 40)) hX (as := []) (rest := []) (c_X4_pop hG ht  (i := (r.length + 1)) (congrArg nI hxl) (by omega)) nd_X4_pop dX4_reckons_105 q1686 q1688 qs107 q139 q1689 (TW_0 _ _ _ _ _ _ _) rfl rfl rfl (by decide) (by decide) (Nat.le_of_ble_eq_true rfl) hn (Nat.le_refl _) (Nat.le_refl _) (st' := [.long (f8 (r.length + 1))]) (h'' := TW G t (va_up I 20 (nI (r.length + 1))) A (va_up L 8 f8) Z h0) rfl (TW_eq (funext fun z => if y20 : z = 20 then by subst y20; first | rfl else by simp [va_up, y20]) rfl (funext fun z => if y8 : z = 8 then by subst y8; first | rfl else by simp [va_up, y8]) rfl) ?_
        refine v_topl (y := y) hf ?_
        refine v_lstore hX [(7, .long y), (6, .int (nI (c / 16))), (5, .int (nI (c % 16))), (4, .int (nI (bg + i))), (0, .ref t), (1, .int (nI t0)), (2, .int (nI bg)), (3, .int (nI en))] dX4_reckons_108 (by decide) rfl ?_
        refine v_aload_n hX dX4_reckons_110 4 rfl ?_
        refine g_callV (ci := 4) (r := (RX4, TX4, 40)) hX (as := []) (rest := []) (c_X4_pop hG ht  (i := r.length) rfl (by omega)) nd_X4_pop dX4_reckons_111 q1686 q1688 qs107 q139 q1689 (TW_0 _ _ _ _ _ _ _) rfl rfl rfl (by decide) (by decide) (Nat.le_of_ble_eq_true rfl) hn (Nat.le_refl _) (Nat.le_refl _) (st' := [.long (f8 r.length)]) (h'' := TW G t (va_up I 20 (nI r.length)) A (va_up L 8 f8) Z h0) rfl (TW_eq (funext fun z => if y20 : z = 20 then by subst y20; first | rfl else by simp [va_up, y20]) rfl (funext fun z => if y8 : z = 8 then by subst y8; first | rfl else by simp [va_up, y8]) rfl) ?_
        refine v_topl (y := x) hf2 ?_
        refine v_lstore hX [(9, .long x), (7, .long y), (6, .int (nI (c / 16))), (5, .int (nI (c % 16))), (4, .int (nI (bg + i))), (0, .ref t), (1, .int (nI t0)), (2, .int (nI bg)), (3, .int (nI en))] dX4_reckons_114 (by decide) rfl ?_
        refine v_aload_n hX dX4_reckons_116 5 rfl ?_
        refine v_iload hX dX4_reckons_117 3 rfl ?_
        refine v_lload hX dX4_reckons_119 0 rfl ?_
        refine v_lload hX dX4_reckons_121 1 rfl ?_
        refine g_callS hX (as := [.int (nI (c % 16)), .long x, .long y]) (rest := [.ref t]) (c_X4_one hG (op := (nI (c % 16))) (x1 := x) (y1 := y)  ) nd_X4_one dX4_reckons_123 q1690 q1691 q139 q1692 rfl (by decide) (by decide) (Nat.le_of_ble_eq_true rfl) hn (Nat.le_refl _) (Nat.le_refl _) (st' := [.long (sOne (nI (c % 16)) x y), .ref t]) (h'' := TW G t (va_up I 20 (nI r.length)) A (va_up L 8 f8) Z h0) rfl rfl ?_
        refine g_callV (ci := 4) (r := (RX4, TX4, 40)) hX (as := [.long (sOne (nI (c % 16)) x y)]) (rest := []) (c_X4_push hG ht (v := (sOne (nI (c % 16)) x y)) (i := r.length) rfl (by omega)) nd_X4_push dX4_reckons_126 q1682 q1684 qs106 q139 q1685 (TW_0 _ _ _ _ _ _ _) rfl rfl rfl (by decide) (by decide) (Nat.le_of_ble_eq_true rfl) hn (Nat.le_refl _) (Nat.le_refl _) (st' := []) (h'' := TW G t (va_up I 20 (nI (r.length + 1))) A (va_up L 8 (vp_updL (f8) r.length (sOne (nI (c % 16)) x y))) Z h0) rfl (TW_eq (funext fun z => if y20 : z = 20 then by subst y20; first | rfl else by simp [va_up, y20]) rfl (funext fun z => if y8 : z = 8 then by subst y8; first | rfl else by simp [va_up, y8]) rfl) ?_
        refine v_iinc hX (v := nI (bg + i + 1)) [(4, .int (nI (bg + i + 1))), (9, .long x), (7, .long y), (6, .int (nI (c / 16))), (5, .int (nI (c % 16))), (0, .ref t), (1, .int (nI t0)), (2, .int (nI bg)), (3, .int (nI en))] dX4_reckons_129 4 rfl (by decide) (nI_1 (bg + i)) rfl ?_
        refine v_goto hX 8 dX4_reckons_132 (by decide) ?_
        refine v_l [0, 5, 6, 7, 8] rfl ?_
        exact ih _ (by rw [hS]; exact hK) (by rw [hS]; exact hO) _ (by first | (rw [hS]; done) | (rw [hS]; rfl))
      obtain ⟨hd, hO⟩ := okd_not ho c51 c67 c88
      obtain ⟨x, r, hx⟩ := list1 hd
      have hK := stk_push (v := 1 - x) (stk_tail (hx ▸ hk))
      have hf := stk_head (hx ▸ hk)
      rw [hx, tk1_not c51 c67 c88] at hS
      rw [hx] at hO
      have hxl : (evA (L 9) w i).length = r.length + 1 := by rw [hx]; rfl
      rw [hxl] at hd
      have hr62 : r.length < 64 := by have := okd_le hO; simp at this; omega
      refine v_aload_n hX dX4_reckons_91 3 rfl ?_
      refine v_lconst hX (v := (1 : Int64)) dX4_reckons_92 rfl ?_
      refine v_aload_n hX dX4_reckons_93 3 rfl ?_
      refine g_callV (ci := 4) (r := (RX4, TX4, 40)) hX (as := []) (rest := [.long (1 : Int64), .ref t]) (c_X4_pop hG ht  (i := r.length) (congrArg nI hxl) (by omega)) nd_X4_pop dX4_reckons_94 q1686 q1688 qs107 q139 q1689 (TW_0 _ _ _ _ _ _ _) rfl rfl rfl (by decide) (by decide) (Nat.le_of_ble_eq_true rfl) hn (Nat.le_refl _) (Nat.le_refl _) (st' := [.long (f8 r.length), .long (1 : Int64), .ref t]) (h'' := TW G t (va_up I 20 (nI r.length)) A (va_up L 8 f8) Z h0) rfl (TW_eq (funext fun z => if y20 : z = 20 then by subst y20; first | rfl else by simp [va_up, y20]) rfl (funext fun z => if y8 : z = 8 then by subst y8; first | rfl else by simp [va_up, y8]) rfl) ?_
      refine v_topl (y := x) hf ?_
      refine v_lsub hX (v := (1 : Int64) - x) dX4_reckons_97 rfl ?_
      refine g_callV (ci := 4) (r := (RX4, TX4, 40)) hX (as := [.long ((1 : Int64) - x)]) (rest := []) (c_X4_push hG ht (v := ((1 : Int64) - x)) (i := r.length) rfl (by omega)) nd_X4_push dX4_reckons_98 q1682 q1684 qs106 q139 q1685 (TW_0 _ _ _ _ _ _ _) rfl rfl rfl (by decide) (by decide) (Nat.le_of_ble_eq_true rfl) hn (Nat.le_refl _) (Nat.le_refl _) (st' := []) (h'' := TW G t (va_up I 20 (nI (r.length + 1))) A (va_up L 8 (vp_updL (f8) r.length ((1 : Int64) - x))) Z h0) rfl (TW_eq (funext fun z => if y20 : z = 20 then by subst y20; first | rfl else by simp [va_up, y20]) rfl (funext fun z => if y8 : z = 8 then by subst y8; first | rfl else by simp [va_up, y8]) rfl) ?_
      refine v_goto hX 129 dX4_reckons_101 (by decide) ?_
      refine v_iinc hX (v := nI (bg + i + 1)) [(4, .int (nI (bg + i + 1))), (6, .int (nI (c / 16))), (5, .int (nI (c % 16))), (0, .ref t), (1, .int (nI t0)), (2, .int (nI bg)), (3, .int (nI en))] dX4_reckons_129 2 rfl (by decide) (nI_1 (bg + i)) rfl ?_
      refine v_goto hX 8 dX4_reckons_132 (by decide) ?_
      refine v_l [0, 3, 4, 5, 6] rfl ?_
      exact ih _ (by rw [hS]; exact hK) (by rw [hS]; exact hO) _ (by first | (rw [hS]; done) | (rw [hS]; rfl))
    obtain ⟨hd, h12, hO⟩ := okd_word ho c51 c67
    rw [tk1_word c51 c67] at hS
    have hK := stk_push (v := L 9 (c / 16)) hk
    refine v_aload_n hX dX4_reckons_70 3 rfl ?_
    refine v_aload_n hX dX4_reckons_71 3 rfl ?_
    refine t_get hX 21 (v := .ref (t + 9)) dX4_reckons_72 q1302 (by decide) rfl rfl ?_
    refine v_iload hX dX4_reckons_75 0 rfl ?_
    refine t_lald hX 9 (c / 16) (v := (L 9) (c / 16)) dX4_reckons_77 (by decide) rfl rfl (by omega) (by decide) rfl ?_
    refine g_callV (ci := 4) (r := (RX4, TX4, 40)) hX (as := [.long ((L 9) (c / 16))]) (rest := []) (c_X4_push hG ht (v := ((L 9) (c / 16))) (i := ((evA (L 9) w i).length)) rfl (by omega)) nd_X4_push dX4_reckons_78 q1682 q1684 qs106 q139 q1685 (TW_0 _ _ _ _ _ _ _) rfl rfl rfl (by decide) (by decide) (Nat.le_of_ble_eq_true rfl) hn (Nat.le_refl _) (Nat.le_refl _) (st' := []) (h'' := TW G t (va_up I 20 (nI (((evA ((va_up L 8 f8) 9) w i).length) + 1))) A (va_up L 8 (vp_updL (f8) ((evA ((va_up L 8 f8) 9) w i).length) (((va_up L 8 f8) 9) (c / 16)))) Z h0) rfl (TW_eq (funext fun z => if y20 : z = 20 then by subst y20; first | rfl else by simp [va_up, y20]) rfl (funext fun z => if y8 : z = 8 then by subst y8; first | rfl else by simp [va_up, y8]) rfl) ?_
    refine v_goto hX 129 dX4_reckons_81 (by decide) ?_
    refine v_iinc hX (v := nI (bg + i + 1)) [(4, .int (nI (bg + i + 1))), (6, .int (nI (c / 16))), (5, .int (nI (c % 16))), (0, .ref t), (1, .int (nI t0)), (2, .int (nI bg)), (3, .int (nI en))] dX4_reckons_129 2 rfl (by decide) (nI_1 (bg + i)) rfl ?_
    refine v_goto hX 8 dX4_reckons_132 (by decide) ?_
    refine v_l [0, 3, 4, 5, 6] rfl ?_
    exact ih _ (by rw [hS]; exact hK) (by rw [hS]; exact hO) _ (by first | (rw [hS]; done) | (rw [hS]; rfl))
  obtain ⟨hd, hO⟩ := okd_num ho c51
  rw [tk1_num c51] at hS
  have hK := stk_push (v := (nI (c / 16)).toInt64) hk
  refine v_aload_n hX dX4_reckons_54 3 rfl ?_
  refine v_iload hX dX4_reckons_55 0 rfl ?_
  refine v_i2l hX (v := (nI (c / 16)).toInt64) dX4_reckons_57 rfl ?_
  refine g_callV (ci := 4) (r := (RX4, TX4, 40)) hX (as := [.long ((nI (c / 16)).toInt64)]) (rest := []) (c_X4_push hG ht (v := ((nI (c / 16)).toInt64)) (i := ((evA (L 9) w i).length)) rfl (by omega)) nd_X4_push dX4_reckons_58 q1682 q1684 qs106 q139 q1685 (TW_0 _ _ _ _ _ _ _) rfl rfl rfl (by decide) (by decide) (Nat.le_of_ble_eq_true rfl) hn (Nat.le_refl _) (Nat.le_refl _) (st' := []) (h'' := TW G t (va_up I 20 (nI (((evA ((va_up L 8 f8) 9) w i).length) + 1))) A (va_up L 8 (vp_updL (f8) ((evA ((va_up L 8 f8) 9) w i).length) ((nI (c / 16)).toInt64))) Z h0) rfl (TW_eq (funext fun z => if y20 : z = 20 then by subst y20; first | rfl else by simp [va_up, y20]) rfl (funext fun z => if y8 : z = 8 then by subst y8; first | rfl else by simp [va_up, y8]) rfl) ?_
  refine v_goto hX 129 dX4_reckons_61 (by decide) ?_
  refine v_iinc hX (v := nI (bg + i + 1)) [(4, .int (nI (bg + i + 1))), (6, .int (nI (c / 16))), (5, .int (nI (c % 16))), (0, .ref t), (1, .int (nI t0)), (2, .int (nI bg)), (3, .int (nI en))] dX4_reckons_129 2 rfl (by decide) (nI_1 (bg + i)) rfl ?_
  refine v_goto hX 8 dX4_reckons_132 (by decide) ?_
  refine v_l [0, 3, 4, 5, 6] rfl ?_
  exact ih _ (by rw [hS]; exact hK) (by rw [hS]; exact hO) _ (by first | (rw [hS]; done) | (rw [hS]; rfl))
