set_option maxHeartbeats 4000000 in
set_option maxRecDepth 100000 in
theorem c_X4_in {l : Launch} {G : vg_G} (hG : vg_st G) {h : vg_H} {v : Int64} {low : Int64} {high : Int64}   : FC l yX4_in cX4_in 6 (some FieldType.boolean) 0 0 G [.long v, .long low, .long high] (h) (some (.int (if ¬ (v < low) ∧ (¬ (high < v)) then 1 else 0))) (h) := by
  refine FC_of hG (by decide) (Nat.le_of_ble_eq_true rfl) (fun X nn kk Φ hXl hX hΦ => ?_)
  subst hXl
  have hn : gBase G ≤ nn := hX.2.2.2.2.2.2.2.2.2.2.2.1
  show vg_V G X 6 (vg_Q G X 0 0 Φ) 0 [(0, .long v), (2, .long low), (4, .long high)] [] (h) nn kk
  refine v_lload_n hX dX4_in_0 0 rfl ?_
  refine v_lload_n hX dX4_in_1 1 rfl ?_
  refine v_lcmp hX (v := lg_cmp v low) dX4_in_2 rfl ?_
  refine v_cut (P := ∀ z0 : Int32, z0 = (if ¬ (v < low) ∧ (¬ (high < v)) then 1 else 0) → vg_V G X 6 (vg_Q G X 0 0 Φ) 18 [(0, .long v), (2, .long low), (4, .long high)] [.int z0] (h) nn kk) (fun kj1 => ?_) ?_
  · skip
    refine v_if_lt hX (P := v < low) 17 dX4_in_3 (by decide) (lg_cmp_lt _ _) (fun c3 => ?_) (fun c3 => ?_)
    · skip
      refine v_iconst hX (v := 0) dX4_in_17 rfl ?_
      exact kj1 _ (if_neg (fun q => q.1 c3)).symm
    refine v_lload_n hX dX4_in_6 0 rfl ?_
    refine v_lload hX dX4_in_7 2 rfl ?_
    refine v_lcmp hX (v := lg_cmp v high) dX4_in_9 rfl ?_
    refine v_if_gt hX (P := high < v) 17 dX4_in_10 (by decide) (lg_cmp_gt _ _) (fun c10 => ?_) (fun c10 => ?_)
    · skip
      refine v_iconst hX (v := 0) dX4_in_17 rfl ?_
      exact kj1 _ (if_neg (fun q => (fun q => q c10) q.2)).symm
    refine v_iconst hX (v := 1) dX4_in_13 rfl ?_
    refine v_goto hX 18 dX4_in_14 (by decide) ?_
    exact kj1 _ (if_pos ⟨c3, c10⟩).symm
  intro z0 ez0
  subst ez0
  exact v_zret hX dX4_in_18 (vg_nb _) (Nat.le_refl _) (Nat.le_refl _) (hΦ _ _ rfl rfl)
set_option maxHeartbeats 4000000 in
set_option maxRecDepth 100000 in
theorem c_X4_isOf {l : Launch} {G : vg_G} (hG : vg_st G) {h : vg_H} {set : Int32} {k : Int32}   : FC l yX4_isOf cX4_isOf 2 (some FieldType.boolean) 0 0 G [.int set, .int k] (h) (some (.int (if hs set k then 1 else 0))) (h) := by
  refine FC_of hG (by decide) (Nat.le_of_ble_eq_true rfl) (fun X nn kk Φ hXl hX hΦ => ?_)
  subst hXl
  have hn : gBase G ≤ nn := hX.2.2.2.2.2.2.2.2.2.2.2.1
  show vg_V G X 2 (vg_Q G X 0 0 Φ) 0 [(0, .int set), (1, .int k)] [] (h) nn kk
  refine v_iload_n hX dX4_isOf_0 0 rfl ?_
  refine v_iload_n hX dX4_isOf_1 1 rfl ?_
  refine v_ishr hX (v := set >>> (k &&& 31)) dX4_isOf_2 rfl ?_
  refine v_iconst hX (v := 1) dX4_isOf_3 rfl ?_
  refine v_iand hX (v := (set >>> (k &&& 31)) &&& 1) dX4_isOf_4 rfl ?_
  refine v_iconst hX (v := 1) dX4_isOf_5 rfl ?_
  refine v_cut (P := ∀ z0 : Int32, z0 = (if (((set >>> (k &&& 31)) &&& 1) = 1) then 1 else 0) → vg_V G X 2 (vg_Q G X 0 0 Φ) 14 [(0, .int set), (1, .int k)] [.int z0] (h) nn kk) (fun kj1 => ?_) ?_
  · skip
    refine v_icmp_ne hX (P := ((set >>> (k &&& 31)) &&& 1) = 1) 13 dX4_isOf_6 (by decide) Iff.rfl (fun c6 => ?_) (fun c6 => ?_)
    · skip
      refine v_iconst hX (v := 0) dX4_isOf_13 rfl ?_
      exact kj1 _ (if_neg c6).symm
    refine v_iconst hX (v := 1) dX4_isOf_9 rfl ?_
    refine v_goto hX 14 dX4_isOf_10 (by decide) ?_
    exact kj1 _ (if_pos c6).symm
  intro z0 ez0
  subst ez0
  exact v_zret hX dX4_isOf_14 (vg_nb _) (Nat.le_refl _) (Nat.le_refl _) (hΦ _ _ rfl rfl)
set_option maxHeartbeats 4000000 in
set_option maxRecDepth 100000 in
theorem c_X4_held {l : Launch} {G : vg_G} (hG : vg_st G) {h : vg_H} {n1 : Int32}   : FC l yX4_held cX4_held 1 (some FieldType.int) 0 0 G [.int n1] (h) (some (.int (hd n1))) (h) := by
  refine FC_of hG (by decide) (Nat.le_of_ble_eq_true rfl) (fun X nn kk Φ hXl hX hΦ => ?_)
  subst hXl
  have hn : gBase G ≤ nn := hX.2.2.2.2.2.2.2.2.2.2.2.1
  show vg_V G X 1 (vg_Q G X 0 0 Φ) 0 [(0, .int n1)] [] (h) nn kk
  refine v_iload_n hX dX4_held_0 0 rfl ?_
  refine v_sipush hX (v := 999) dX4_held_1 rfl ?_
  refine v_cut (P := ∀ z0 : Int32, z0 = (if n1 ≤ 999 then n1 else 999) → vg_V G X 1 (vg_Q G X 0 0 Φ) 14 [(0, .int n1)] [.int z0] (h) nn kk) (fun kj1 => ?_) ?_
  · skip
    refine v_icmp_le hX (P := n1 ≤ 999) 13 dX4_held_4 (by decide) Iff.rfl (fun c4 => ?_) (fun c4 => ?_)
    · skip
      refine v_iload_n hX dX4_held_13 0 rfl ?_
      exact kj1 _ (if_pos c4).symm
    refine v_sipush hX (v := 999) dX4_held_7 rfl ?_
    refine v_goto hX 14 dX4_held_10 (by decide) ?_
    exact kj1 _ (if_neg c4).symm
  intro z0 ez0
  subst ez0
  exact v_iret hX dX4_held_14 (Nat.le_refl _) (Nat.le_refl _) (hΦ _ _ rfl rfl)
set_option maxHeartbeats 4000000 in
set_option maxRecDepth 100000 in
theorem c_X4_push {l : Launch} {G : vg_G} (hG : vg_st G) {t : Nat} (ht : gBase G ≤ t) {I : Nat → Int32} {A : Nat → Nat → Int32} {L : Nat → Nat → Int64} {Z : Int64} {h0 : vg_H} {v : Int64} {i : Nat} (hI : I 20 = nI i) (hi : i < 64) : FC l yX4_push cX4_push 3 none 0 0 G [.ref t, .long v] (TW G t I A L Z h0) (none) (TW G t (va_up I 20 (nI (i + 1))) A (va_up L 8 (vp_updL (L 8) i v)) Z h0) := by
  refine FC_of hG (by decide) (Nat.le_of_ble_eq_true rfl) (fun X nn kk Φ hXl hX hΦ => ?_)
  subst hXl
  have hn : gBase G ≤ nn := hX.2.2.2.2.2.2.2.2.2.2.2.1
  show vg_V G X 3 (vg_Q G X 0 0 Φ) 0 [(0, .ref t), (1, .long v)] [] (TW G t I A L Z h0) nn kk
  refine v_aload_n hX dX4_push_0 0 rfl ?_
  refine t_get hX 19 (v := .ref (t + 8)) dX4_push_1 q1300 (by decide) rfl rfl ?_
  refine v_aload_n hX dX4_push_4 0 rfl ?_
  refine t_get hX 20 (v := .int (nI i)) dX4_push_5 q1301 (by decide) rfl (congrArg (fun z => some (Value.int z)) hI) ?_
  refine v_lload_n hX dX4_push_8 1 rfl ?_
  refine t_last hX 8 i dX4_push_9 ht (by decide) (fun _ => rfl) rfl (by omega) (by decide) ?_
  refine v_aload_n hX dX4_push_10 0 rfl ?_
  refine v_dup hX dX4_push_11 rfl ?_
  refine t_get hX 20 (v := .int (nI i)) dX4_push_12 q1301 (by decide) rfl (congrArg (fun z => some (Value.int z)) hI) ?_
  refine v_iconst hX (v := 1) dX4_push_15 rfl ?_
  refine v_iadd hX (v := nI (i + 1)) dX4_push_16 (nI_add i 1) ?_
  refine t_put hX 20 dX4_push_17 q1301 (by decide) rfl rfl rfl ht rfl ?_
  exact v_vret hX dX4_push_20 (Nat.le_refl _) (Nat.le_refl _) (hΦ _ _ rfl rfl)
set_option maxHeartbeats 4000000 in
set_option maxRecDepth 100000 in
theorem c_X4_pop {l : Launch} {G : vg_G} (hG : vg_st G) {t : Nat} (ht : gBase G ≤ t) {I : Nat → Int32} {A : Nat → Nat → Int32} {L : Nat → Nat → Int64} {Z : Int64} {h0 : vg_H}  {i : Nat} (hI : I 20 = nI (i + 1)) (hi : i < 64) : FC l yX4_pop cX4_pop 1 (some FieldType.long) 0 0 G [.ref t] (TW G t I A L Z h0) (some (.long (L 8 i))) (TW G t (va_up I 20 (nI i)) A L Z h0) := by
  refine FC_of hG (by decide) (Nat.le_of_ble_eq_true rfl) (fun X nn kk Φ hXl hX hΦ => ?_)
  subst hXl
  have hn : gBase G ≤ nn := hX.2.2.2.2.2.2.2.2.2.2.2.1
  show vg_V G X 1 (vg_Q G X 0 0 Φ) 0 [(0, .ref t)] [] (TW G t I A L Z h0) nn kk
  refine v_aload_n hX dX4_pop_0 0 rfl ?_
  refine v_dup hX dX4_pop_1 rfl ?_
  refine t_get hX 20 (v := .int (nI (i + 1))) dX4_pop_2 q1301 (by decide) rfl (congrArg (fun z => some (Value.int z)) hI) ?_
  refine v_iconst hX (v := 1) dX4_pop_5 rfl ?_
  refine v_isub hX (v := nI i) dX4_pop_6 (nI_pred i) ?_
  refine t_put hX 20 dX4_pop_7 q1301 (by decide) rfl rfl rfl ht rfl ?_
  refine v_aload_n hX dX4_pop_10 0 rfl ?_
  refine t_get hX 19 (v := .ref (t + 8)) dX4_pop_11 q1300 (by decide) rfl rfl ?_
  refine v_aload_n hX dX4_pop_14 0 rfl ?_
  refine t_get hX 20 (v := .int (nI i)) dX4_pop_15 q1301 (by decide) rfl rfl ?_
  refine t_lald hX 8 i (v := (L 8) i) dX4_pop_18 (by decide) rfl rfl (by omega) (by decide) rfl ?_
  exact v_lret hX dX4_pop_19 (Nat.le_refl _) (Nat.le_refl _) (hΦ _ _ rfl rfl)
set_option maxHeartbeats 4000000 in
set_option maxRecDepth 100000 in
theorem c_X4_fails {l : Launch} {G : vg_G} (hG : vg_st G) {t : Nat} (ht : gBase G ≤ t) {I : Nat → Int32} {A : Nat → Nat → Int32} {L : Nat → Nat → Int64} {Z : Int64} {h0 : vg_H} {kd : Int32} {pl : Int32}   : FC l yX4_fails cX4_fails 3 (some FieldType.boolean) 0 0 G [.ref t, .int kd, .int pl] (TW G t I A L Z h0) (some (.int 0)) (TW G t (va_up I 9 (if I 9 = 0 then (1 : Int32) + ((8 : Int32) * pl) + kd else I 9)) A L Z h0) := by
  refine FC_of hG (by decide) (Nat.le_of_ble_eq_true rfl) (fun X nn kk Φ hXl hX hΦ => ?_)
  subst hXl
  have hn : gBase G ≤ nn := hX.2.2.2.2.2.2.2.2.2.2.2.1
  show vg_V G X 3 (vg_Q G X 0 0 Φ) 0 [(0, .ref t), (1, .int kd), (2, .int pl)] [] (TW G t I A L Z h0) nn kk
  refine v_aload_n hX dX4_fails_0 0 rfl ?_
  refine t_get hX 9 (v := .int (I 9)) dX4_fails_1 q1290 (by decide) rfl rfl ?_
  refine v_cut (P := ∀ z0 : Int32, z0 = (if (I 9) = 0 then ((1 : Int32) + ((8 : Int32) * pl)) + kd else I 9) → vg_V G X 3 (vg_Q G X 0 0 Φ) 19 [(0, .ref t), (1, .int kd), (2, .int pl)] [] (TW G t (va_up I 9 z0) A L Z h0) nn kk) (fun kj1 => ?_) ?_
  · skip
    refine v_if_ne hX (P := (I 9) = 0) 19 dX4_fails_4 (by decide) Iff.rfl (fun c4 => ?_) (fun c4 => ?_)
    · skip
      exact kj1 _ (if_neg c4).symm
    refine v_aload_n hX dX4_fails_7 0 rfl ?_
    refine v_iconst hX (v := 1) dX4_fails_8 rfl ?_
    refine v_bipush hX (v := 8) dX4_fails_9 rfl ?_
    refine v_iload_n hX dX4_fails_11 2 rfl ?_
    refine v_imul hX (v := (8 : Int32) * pl) dX4_fails_12 rfl ?_
    refine v_iadd hX (v := (1 : Int32) + ((8 : Int32) * pl)) dX4_fails_13 rfl ?_
    refine v_iload_n hX dX4_fails_14 1 rfl ?_
    refine v_iadd hX (v := ((1 : Int32) + ((8 : Int32) * pl)) + kd) dX4_fails_15 rfl ?_
    refine t_put hX 9 dX4_fails_16 q1290 (by decide) rfl rfl rfl ht rfl ?_
    exact kj1 _ (if_pos c4).symm
  intro z0 ez0
  subst ez0
  refine v_iconst hX (v := 0) dX4_fails_19 rfl ?_
  exact v_zret hX dX4_fails_20 rfl (Nat.le_refl _) (Nat.le_refl _) (hΦ _ _ rfl rfl)
