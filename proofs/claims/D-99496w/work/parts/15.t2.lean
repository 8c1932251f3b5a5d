/-! the twin: what is there, days (printed by tools/t2.py) -/
set_option maxHeartbeats 4000000 in
set_option maxRecDepth 100000 in
theorem c_X4_isRule {l : Launch} {G : vg_G} (hG : vg_st G) {t : Nat} (ht : gBase G ≤ t) {I : Nat → Int32} {A : Nat → Nat → Int32} {L : Nat → Nat → Int64} {Z : Int64} {h0 : vg_H} {q1 : Int32} {rr : Nat} (hI2 : I 2 = nI rr) : FC l yX4_isRule cX4_isRule 2 (some FieldType.boolean) 0 0 G [.ref t, .int q1] (TW G t I A L Z h0) (some (.int (if ¬ (q1 < 0) ∧ (¬ (nI rr ≤ q1)) then 1 else 0))) (TW G t I A L Z h0) := by
  refine FC_of hG (by decide) (Nat.le_of_ble_eq_true rfl) (fun X nn kk Φ hXl hX hΦ => ?_)
  subst hXl
  have hn : gBase G ≤ nn := hX.2.2.2.2.2.2.2.2.2.2.2.1
  show vg_V G X 2 (vg_Q G X 0 0 Φ) 0 [(0, .ref t), (1, .int q1)] [] (TW G t I A L Z h0) nn kk
  refine v_iload_n hX dX4_isRule_0 1 rfl ?_
  refine v_cut (P := ∀ z0 : Int32, z0 = (if ¬ (q1 < 0) ∧ (¬ ((nI rr) ≤ q1)) then 1 else 0) → vg_V G X 2 (vg_Q G X 0 0 Φ) 17 [(0, .ref t), (1, .int q1)] [.int z0] (TW G t I A L Z h0) nn kk) (fun kj1 => ?_) ?_
  · skip
    refine v_if_lt hX (P := q1 < 0) 16 dX4_isRule_1 (by decide) Iff.rfl (fun c1 => ?_) (fun c1 => ?_)
    · skip
      refine v_iconst hX (v := 0) dX4_isRule_16 rfl ?_
      exact kj1 _ (if_neg (fun q => q.1 c1)).symm
    refine v_iload_n hX dX4_isRule_4 1 rfl ?_
    refine v_aload_n hX dX4_isRule_5 0 rfl ?_
    refine t_get hX 2 (v := .int (nI rr)) dX4_isRule_6 q1283 (by decide) rfl (congrArg (fun z => some (Value.int z)) hI2) ?_
    refine v_icmp_ge hX (P := (nI rr) ≤ q1) 16 dX4_isRule_9 (by decide) Iff.rfl (fun c9 => ?_) (fun c9 => ?_)
    · skip
      refine v_iconst hX (v := 0) dX4_isRule_16 rfl ?_
      exact kj1 _ (if_neg (fun q => (fun q => q c9) q.2)).symm
    refine v_iconst hX (v := 1) dX4_isRule_12 rfl ?_
    refine v_goto hX 17 dX4_isRule_13 (by decide) ?_
    exact kj1 _ (if_pos ⟨c1, c9⟩).symm
  intro z0 ez0
  subst ez0
  exact v_zret hX dX4_isRule_17 (vg_nb _) (Nat.le_refl _) (Nat.le_refl _) (hΦ _ _ rfl rfl)
set_option maxHeartbeats 4000000 in
set_option maxRecDepth 100000 in
theorem c_X4_isValley {l : Launch} {G : vg_G} (hG : vg_st G) {t : Nat} (ht : gBase G ≤ t) {I : Nat → Int32} {A : Nat → Nat → Int32} {L : Nat → Nat → Int64} {Z : Int64} {h0 : vg_H} {sn wl : Nat → Int32} {dy sw be hv : Int32} {sd : Nat → Int32} (hA : A 10 = pS sn wl dy sw be hv sd)    : FC l yX4_isValley cX4_isValley 1 (some FieldType.boolean) 0 0 G [.ref t] (TW G t I A L Z h0) (some (.int (if ¬ (sd 0 ≤ 0) then 1 else 0))) (TW G t I A L Z h0) := by
  refine FC_of hG (by decide) (Nat.le_of_ble_eq_true rfl) (fun X nn kk Φ hXl hX hΦ => ?_)
  subst hXl
  have hn : gBase G ≤ nn := hX.2.2.2.2.2.2.2.2.2.2.2.1
  show vg_V G X 1 (vg_Q G X 0 0 Φ) 0 [(0, .ref t)] [] (TW G t I A L Z h0) nn kk
  refine v_aload_n hX dX4_isValley_0 0 rfl ?_
  refine t_get hX 22 (v := .ref (t + 10)) dX4_isValley_1 q1303 (by decide) rfl rfl ?_
  refine v_iconst hX (v := 0) dX4_isValley_4 rfl ?_
  refine t_iald hX 10 0 (v := sd 0) dX4_isValley_5 (by decide) rfl rfl (by omega) (by decide) ((congrFun hA _).trans rfl) ?_
  refine v_cut (P := ∀ z0 : Int32, z0 = (if ¬ ((sd 0) ≤ 0) then 1 else 0) → vg_V G X 1 (vg_Q G X 0 0 Φ) 14 [(0, .ref t)] [.int z0] (TW G t I A L Z h0) nn kk) (fun kj1 => ?_) ?_
  · skip
    refine v_if_le hX (P := (sd 0) ≤ 0) 13 dX4_isValley_6 (by decide) Iff.rfl (fun c6 => ?_) (fun c6 => ?_)
    · skip
      refine v_iconst hX (v := 0) dX4_isValley_13 rfl ?_
      exact kj1 _ (if_neg (fun q => q c6)).symm
    refine v_iconst hX (v := 1) dX4_isValley_9 rfl ?_
    refine v_goto hX 14 dX4_isValley_10 (by decide) ?_
    exact kj1 _ (if_pos c6).symm
  intro z0 ez0
  subst ez0
  exact v_zret hX dX4_isValley_14 (vg_nb _) (Nat.le_refl _) (Nat.le_refl _) (hΦ _ _ rfl rfl)
set_option maxHeartbeats 4000000 in
set_option maxRecDepth 100000 in
theorem c_X4_isStep {l : Launch} {G : vg_G} (hG : vg_st G) {t : Nat} (ht : gBase G ≤ t) {I : Nat → Int32} {A : Nat → Nat → Int32} {L : Nat → Nat → Int64} {Z : Int64} {h0 : vg_H} {sn wl : Nat → Int32} {dy sw be hv : Int32} {sd : Nat → Int32} (hA : A 10 = pS sn wl dy sw be hv sd) {q1 : Int32} {n : Nat} (hn2 : sd 2 = nI n) : FC l yX4_isStep cX4_isStep 2 (some FieldType.boolean) 0 0 G [.ref t, .int q1] (TW G t I A L Z h0) (some (.int (if ¬ (q1 < 0) ∧ (¬ (nI n ≤ q1)) then 1 else 0))) (TW G t I A L Z h0) := by
  refine FC_of hG (by decide) (Nat.le_of_ble_eq_true rfl) (fun X nn kk Φ hXl hX hΦ => ?_)
  subst hXl
  have hn : gBase G ≤ nn := hX.2.2.2.2.2.2.2.2.2.2.2.1
  show vg_V G X 2 (vg_Q G X 0 0 Φ) 0 [(0, .ref t), (1, .int q1)] [] (TW G t I A L Z h0) nn kk
  refine v_iload_n hX dX4_isStep_0 1 rfl ?_
  refine v_cut (P := ∀ z0 : Int32, z0 = (if ¬ (q1 < 0) ∧ (¬ ((nI n) ≤ q1)) then 1 else 0) → vg_V G X 2 (vg_Q G X 0 0 Φ) 19 [(0, .ref t), (1, .int q1)] [.int z0] (TW G t I A L Z h0) nn kk) (fun kj1 => ?_) ?_
  · skip
    refine v_if_lt hX (P := q1 < 0) 18 dX4_isStep_1 (by decide) Iff.rfl (fun c1 => ?_) (fun c1 => ?_)
    · skip
      refine v_iconst hX (v := 0) dX4_isStep_18 rfl ?_
      exact kj1 _ (if_neg (fun q => q.1 c1)).symm
    refine v_iload_n hX dX4_isStep_4 1 rfl ?_
    refine v_aload_n hX dX4_isStep_5 0 rfl ?_
    refine t_get hX 22 (v := .ref (t + 10)) dX4_isStep_6 q1303 (by decide) rfl rfl ?_
    refine v_iconst hX (v := 2) dX4_isStep_9 rfl ?_
    refine t_iald hX 10 2 (v := nI n) dX4_isStep_10 (by decide) rfl rfl (by omega) (by decide) ((congrFun hA _).trans hn2) ?_
    refine v_icmp_ge hX (P := (nI n) ≤ q1) 18 dX4_isStep_11 (by decide) Iff.rfl (fun c11 => ?_) (fun c11 => ?_)
    · skip
      refine v_iconst hX (v := 0) dX4_isStep_18 rfl ?_
      exact kj1 _ (if_neg (fun q => (fun q => q c11) q.2)).symm
    refine v_iconst hX (v := 1) dX4_isStep_14 rfl ?_
    refine v_goto hX 19 dX4_isStep_15 (by decide) ?_
    exact kj1 _ (if_pos ⟨c1, c11⟩).symm
  intro z0 ez0
  subst ez0
  exact v_zret hX dX4_isStep_19 (vg_nb _) (Nat.le_refl _) (Nat.le_refl _) (hΦ _ _ rfl rfl)
set_option maxHeartbeats 4000000 in
set_option maxRecDepth 100000 in
theorem c_X4_isHouse {l : Launch} {G : vg_G} (hG : vg_st G) {t : Nat} (ht : gBase G ≤ t) {I : Nat → Int32} {A : Nat → Nat → Int32} {L : Nat → Nat → Int64} {Z : Int64} {h0 : vg_H} {sn wl : Nat → Int32} {dy sw be hv : Int32} {sd : Nat → Int32} (hA : A 10 = pS sn wl dy sw be hv sd) {q1 : Int32} {m : Nat} (hm3 : sd 3 = nI m) : FC l yX4_isHouse cX4_isHouse 2 (some FieldType.boolean) 0 0 G [.ref t, .int q1] (TW G t I A L Z h0) (some (.int (if ¬ (q1 < 0) ∧ (¬ (nI m ≤ q1)) then 1 else 0))) (TW G t I A L Z h0) := by
  refine FC_of hG (by decide) (Nat.le_of_ble_eq_true rfl) (fun X nn kk Φ hXl hX hΦ => ?_)
  subst hXl
  have hn : gBase G ≤ nn := hX.2.2.2.2.2.2.2.2.2.2.2.1
  show vg_V G X 2 (vg_Q G X 0 0 Φ) 0 [(0, .ref t), (1, .int q1)] [] (TW G t I A L Z h0) nn kk
  refine v_iload_n hX dX4_isHouse_0 1 rfl ?_
  refine v_cut (P := ∀ z0 : Int32, z0 = (if ¬ (q1 < 0) ∧ (¬ ((nI m) ≤ q1)) then 1 else 0) → vg_V G X 2 (vg_Q G X 0 0 Φ) 19 [(0, .ref t), (1, .int q1)] [.int z0] (TW G t I A L Z h0) nn kk) (fun kj1 => ?_) ?_
  · skip
    refine v_if_lt hX (P := q1 < 0) 18 dX4_isHouse_1 (by decide) Iff.rfl (fun c1 => ?_) (fun c1 => ?_)
    · skip
      refine v_iconst hX (v := 0) dX4_isHouse_18 rfl ?_
      exact kj1 _ (if_neg (fun q => q.1 c1)).symm
    refine v_iload_n hX dX4_isHouse_4 1 rfl ?_
    refine v_aload_n hX dX4_isHouse_5 0 rfl ?_
    refine t_get hX 22 (v := .ref (t + 10)) dX4_isHouse_6 q1303 (by decide) rfl rfl ?_
    refine v_iconst hX (v := 3) dX4_isHouse_9 rfl ?_
    refine t_iald hX 10 3 (v := nI m) dX4_isHouse_10 (by decide) rfl rfl (by omega) (by decide) ((congrFun hA _).trans hm3) ?_
    refine v_icmp_ge hX (P := (nI m) ≤ q1) 18 dX4_isHouse_11 (by decide) Iff.rfl (fun c11 => ?_) (fun c11 => ?_)
    · skip
      refine v_iconst hX (v := 0) dX4_isHouse_18 rfl ?_
      exact kj1 _ (if_neg (fun q => (fun q => q c11) q.2)).symm
    refine v_iconst hX (v := 1) dX4_isHouse_14 rfl ?_
    refine v_goto hX 19 dX4_isHouse_15 (by decide) ?_
    exact kj1 _ (if_pos ⟨c1, c11⟩).symm
  intro z0 ez0
  subst ez0
  exact v_zret hX dX4_isHouse_19 (vg_nb _) (Nat.le_refl _) (Nat.le_refl _) (hΦ _ _ rfl rfl)
set_option maxHeartbeats 4000000 in
set_option maxRecDepth 100000 in
theorem c_X4_isClosed {l : Launch} {G : vg_G} (hG : vg_st G) {t : Nat} (ht : gBase G ≤ t) {I : Nat → Int32} {A : Nat → Nat → Int32} {L : Nat → Nat → Int64} {Z : Int64} {h0 : vg_H} {sn wl : Nat → Int32} {dy sw be hv : Int32} {sd : Nat → Int32} (hA : A 10 = pS sn wl dy sw be hv sd) {s : Nat}  (hi : s < 8) : FC l yX4_isClosed cX4_isClosed 2 (some FieldType.boolean) 0 0 G [.ref t, .int (nI s)] (TW G t I A L Z h0) (some (.int (if ¬ (sn s < sd 1) then 1 else 0))) (TW G t I A L Z h0) := by
  refine FC_of hG (by decide) (Nat.le_of_ble_eq_true rfl) (fun X nn kk Φ hXl hX hΦ => ?_)
  subst hXl
  have hn : gBase G ≤ nn := hX.2.2.2.2.2.2.2.2.2.2.2.1
  show vg_V G X 2 (vg_Q G X 0 0 Φ) 0 [(0, .ref t), (1, .int (nI s))] [] (TW G t I A L Z h0) nn kk
  refine v_aload_n hX dX4_isClosed_0 0 rfl ?_
  refine t_get hX 22 (v := .ref (t + 10)) dX4_isClosed_1 q1303 (by decide) rfl rfl ?_
  refine v_bipush hX (v := 14) dX4_isClosed_4 rfl ?_
  refine v_iload_n hX dX4_isClosed_6 1 rfl ?_
  refine v_iadd hX (v := nI (14 + s)) dX4_isClosed_7 (nI_add 14 s) ?_
  refine t_iald hX 10 (14 + s) (v := sn s) dX4_isClosed_8 (by decide) rfl rfl (by omega) (by decide) ((congrFun hA _).trans (pS_sn (by omega))) ?_
  refine v_aload_n hX dX4_isClosed_9 0 rfl ?_
  refine t_get hX 22 (v := .ref (t + 10)) dX4_isClosed_10 q1303 (by decide) rfl rfl ?_
  refine v_iconst hX (v := 1) dX4_isClosed_13 rfl ?_
  refine t_iald hX 10 1 (v := sd 1) dX4_isClosed_14 (by decide) rfl rfl (by omega) (by decide) ((congrFun hA _).trans rfl) ?_
  refine v_cut (P := ∀ z0 : Int32, z0 = (if ¬ ((sn s) < (sd 1)) then 1 else 0) → vg_V G X 2 (vg_Q G X 0 0 Φ) 23 [(0, .ref t), (1, .int (nI s))] [.int z0] (TW G t I A L Z h0) nn kk) (fun kj1 => ?_) ?_
  · skip
    refine v_icmp_lt hX (P := (sn s) < (sd 1)) 22 dX4_isClosed_15 (by decide) Iff.rfl (fun c15 => ?_) (fun c15 => ?_)
    · skip
      refine v_iconst hX (v := 0) dX4_isClosed_22 rfl ?_
      exact kj1 _ (if_neg (fun q => q c15)).symm
    refine v_iconst hX (v := 1) dX4_isClosed_18 rfl ?_
    refine v_goto hX 23 dX4_isClosed_19 (by decide) ?_
    exact kj1 _ (if_pos c15).symm
  intro z0 ez0
  subst ez0
  exact v_zret hX dX4_isClosed_23 (vg_nb _) (Nat.le_refl _) (Nat.le_refl _) (hΦ _ _ rfl rfl)
set_option maxHeartbeats 4000000 in
set_option maxRecDepth 100000 in
theorem c_X4_closed {l : Launch} {G : vg_G} (hG : vg_st G) {t : Nat} (ht : gBase G ≤ t) {I : Nat → Int32} {A : Nat → Nat → Int32} {L : Nat → Nat → Int64} {Z : Int64} {h0 : vg_H} {sn wl : Nat → Int32} {dy sw be hv : Int32} {sd : Nat → Int32} (hA : A 10 = pS sn wl dy sw be hv sd)  {n : Nat} (hn2 : sd 2 = nI n) (hn8 : n ≤ 8) : FC l yX4_closed cX4_closed 3 (some FieldType.int) 1 21 G [.ref t] (TW G t I A L Z h0) (some (.int (sp_closed (sd 1) sn n))) (TW G t I A L Z h0) := by
  refine FC_of hG (by decide) (Nat.le_of_ble_eq_true rfl) (fun X nn kk Φ hXl hX hΦ => ?_)
  subst hXl
  have hn : gBase G ≤ nn := hX.2.2.2.2.2.2.2.2.2.2.2.1
  show vg_V G X 3 (vg_Q G X 0 0 Φ) 0 [(0, .ref t)] [] (TW G t I A L Z h0) nn kk
  refine v_iconst hX (v := 0) dX4_closed_0 rfl ?_
  refine v_istore_n hX [(1, .int 0), (0, .ref t)] dX4_closed_1 (by decide) rfl ?_
  refine v_iconst hX (v := 0) dX4_closed_2 rfl ?_
  refine v_istore_n hX [(2, .int 0), (1, .int 0), (0, .ref t)] dX4_closed_3 (by decide) rfl ?_
  refine lp_up (fun i =>  ∀ z0 : Int32, z0 = (sp_closed (sd 1) sn i) →vg_V G X 3 (vg_Q G X 0 0 Φ) 4 [(2, .int (nI i)), (1, .int z0), (0, .ref t)] [] (TW G t I A L Z h0) nn kk) n ?_ ?_ 0 (by omega) _ rfl
  · skip
    intro z0 ez0
    subst ez0
    refine v_iload_n hX dX4_closed_4 0 rfl ?_
    refine v_aload_n hX dX4_closed_5 2 rfl ?_
    refine t_get hX 22 (v := .ref (t + 10)) dX4_closed_6 q1303 (by decide) rfl rfl ?_
    refine v_iconst hX (v := 2) dX4_closed_9 rfl ?_
    refine t_iald hX 10 2 (v := nI n) dX4_closed_10 (by decide) rfl rfl (by omega) (by decide) ((congrFun hA _).trans hn2) ?_
    refine v_icmp_ge hX (P := n ≤ n) 38 dX4_closed_11 (by decide) (nI_leI (a := n) (b := n) (by omega) (by omega)) (fun c11 => ?_) (fun c => absurd (Nat.le_refl _) c)
    refine v_iload_n hX dX4_closed_38 1 rfl ?_
    exact v_iret hX dX4_closed_39 (Nat.le_refl _) (Nat.le_refl _) (hΦ _ _ rfl rfl)
  intro i hi ih z0 ez0
  subst ez0
  refine v_iload_n hX dX4_closed_4 0 rfl ?_
  refine v_aload_n hX dX4_closed_5 2 rfl ?_
  refine t_get hX 22 (v := .ref (t + 10)) dX4_closed_6 q1303 (by decide) rfl rfl ?_
  refine v_iconst hX (v := 2) dX4_closed_9 rfl ?_
  refine t_iald hX 10 2 (v := nI n) dX4_closed_10 (by decide) rfl rfl (by omega) (by decide) ((congrFun hA _).trans hn2) ?_
  refine v_icmp_ge hX (P := n ≤ i) 38 dX4_closed_11 (by decide) (nI_leI (a := n) (b := i) (by omega) (by omega)) (fun c => absurd c (by omega)) (fun c11 => ?_)
  refine v_iload_n hX dX4_closed_14 1 rfl ?_
  refine v_aload_n hX dX4_closed_15 2 rfl ?_
  refine v_iload_n hX dX4_closed_16 0 rfl ?_
  refine g_callV (ci := 4) (r := (RX4, TX4, 40)) hX (as := [.int (nI i)]) (rest := [.int (sp_closed (sd 1) sn i)]) (c_X4_isClosed hG ht (s := i)  hA (by omega)) nd_X4_isClosed dX4_closed_17 q1607 q1609 qs92 q139 q1610 (TW_0 _ _ _ _ _ _ _) rfl rfl rfl (by decide) (by decide) (Nat.le_of_ble_eq_true rfl) hn (Nat.le_refl _) (Nat.le_refl _) (st' := [.int (if ¬ (sn i < sd 1) then 1 else 0), .int (sp_closed (sd 1) sn i)]) (h'' := TW G t I A L Z h0) rfl rfl ?_
  refine v_cut (P := ∀ z0 : Int32, z0 = (if ¬ (sn i < sd 1) then (1 : Int32) <<< ((nI i) &&& 31) else 0) → vg_V G X 3 (vg_Q G X 0 0 Φ) 30 [(2, .int (nI i)), (1, .int (sp_closed (sd 1) sn i)), (0, .ref t)] [.int z0, .int (sp_closed (sd 1) sn i)] (TW G t I A L Z h0) nn kk) (fun kj1 => ?_) ?_
  · skip
    refine v_ifB_eq hX 29 dX4_closed_20 (by decide) (fun c20 => ?_) (fun c20 => ?_)
    · skip
      refine v_iconst hX (v := 0) dX4_closed_29 rfl ?_
      exact kj1 _ (if_neg c20).symm
    refine v_iconst hX (v := 1) dX4_closed_23 rfl ?_
    refine v_iload_n hX dX4_closed_24 0 rfl ?_
    refine v_ishl hX (v := (1 : Int32) <<< ((nI i) &&& 31)) dX4_closed_25 rfl ?_
    refine v_goto hX 30 dX4_closed_26 (by decide) ?_
    exact kj1 _ (if_pos c20).symm
  intro z0 ez0
  subst ez0
  refine v_ior hX (v := (sp_closed (sd 1) sn i) ||| (if ¬ (sn i < sd 1) then (1 : Int32) <<< ((nI i) &&& 31) else 0)) dX4_closed_30 rfl ?_
  refine v_istore_n hX [(1, .int ((sp_closed (sd 1) sn i) ||| (if ¬ (sn i < sd 1) then (1 : Int32) <<< ((nI i) &&& 31) else 0))), (2, .int (nI i)), (0, .ref t)] dX4_closed_31 (by decide) rfl ?_
  refine v_iinc hX (v := nI (i + 1)) [(2, .int (nI (i + 1))), (1, .int ((sp_closed (sd 1) sn i) ||| (if ¬ (sn i < sd 1) then (1 : Int32) <<< ((nI i) &&& 31) else 0))), (0, .ref t)] dX4_closed_32 1 rfl (by decide) (nI_1 i) rfl ?_
  refine v_goto hX 4 dX4_closed_35 (by decide) ?_
  exact ih _ (by simp only [sp_closed, ite_not])
set_option maxHeartbeats 4000000 in
set_option maxRecDepth 100000 in
theorem c_X4_snowAll {l : Launch} {G : vg_G} (hG : vg_st G) {t : Nat} (ht : gBase G ≤ t) {I : Nat → Int32} {A : Nat → Nat → Int32} {L : Nat → Nat → Int64} {Z : Int64} {h0 : vg_H} {sn wl : Nat → Int32} {dy sw be hv : Int32} {sd : Nat → Int32} (hA : A 10 = pS sn wl dy sw be hv sd)  {n : Nat} (hn2 : sd 2 = nI n) (hn8 : n ≤ 8) : FC l yX4_snowAll cX4_snowAll 3 (some FieldType.int) 0 0 G [.ref t] (TW G t I A L Z h0) (some (.int (sp_all sn n))) (TW G t I A L Z h0) := by
  refine FC_of hG (by decide) (Nat.le_of_ble_eq_true rfl) (fun X nn kk Φ hXl hX hΦ => ?_)
  subst hXl
  have hn : gBase G ≤ nn := hX.2.2.2.2.2.2.2.2.2.2.2.1
  show vg_V G X 3 (vg_Q G X 0 0 Φ) 0 [(0, .ref t)] [] (TW G t I A L Z h0) nn kk
  refine v_iconst hX (v := 0) dX4_snowAll_0 rfl ?_
  refine v_istore_n hX [(1, .int 0), (0, .ref t)] dX4_snowAll_1 (by decide) rfl ?_
  refine v_iconst hX (v := 0) dX4_snowAll_2 rfl ?_
  refine v_istore_n hX [(2, .int 0), (1, .int 0), (0, .ref t)] dX4_snowAll_3 (by decide) rfl ?_
  refine lp_up (fun i =>  ∀ z0 : Int32, z0 = (sp_all sn i) →vg_V G X 3 (vg_Q G X 0 0 Φ) 4 [(2, .int (nI i)), (1, .int z0), (0, .ref t)] [] (TW G t I A L Z h0) nn kk) n ?_ ?_ 0 (by omega) _ rfl
  · skip
    intro z0 ez0
    subst ez0
    refine v_iload_n hX dX4_snowAll_4 0 rfl ?_
    refine v_aload_n hX dX4_snowAll_5 2 rfl ?_
    refine t_get hX 22 (v := .ref (t + 10)) dX4_snowAll_6 q1303 (by decide) rfl rfl ?_
    refine v_iconst hX (v := 2) dX4_snowAll_9 rfl ?_
    refine t_iald hX 10 2 (v := nI n) dX4_snowAll_10 (by decide) rfl rfl (by omega) (by decide) ((congrFun hA _).trans hn2) ?_
    refine v_icmp_ge hX (P := n ≤ n) 32 dX4_snowAll_11 (by decide) (nI_leI (a := n) (b := n) (by omega) (by omega)) (fun c11 => ?_) (fun c => absurd (Nat.le_refl _) c)
    refine v_iload_n hX dX4_snowAll_32 1 rfl ?_
    exact v_iret hX dX4_snowAll_33 (Nat.le_refl _) (Nat.le_refl _) (hΦ _ _ rfl rfl)
  intro i hi ih z0 ez0
  subst ez0
  refine v_iload_n hX dX4_snowAll_4 0 rfl ?_
  refine v_aload_n hX dX4_snowAll_5 2 rfl ?_
  refine t_get hX 22 (v := .ref (t + 10)) dX4_snowAll_6 q1303 (by decide) rfl rfl ?_
  refine v_iconst hX (v := 2) dX4_snowAll_9 rfl ?_
  refine t_iald hX 10 2 (v := nI n) dX4_snowAll_10 (by decide) rfl rfl (by omega) (by decide) ((congrFun hA _).trans hn2) ?_
  refine v_icmp_ge hX (P := n ≤ i) 32 dX4_snowAll_11 (by decide) (nI_leI (a := n) (b := i) (by omega) (by omega)) (fun c => absurd c (by omega)) (fun c11 => ?_)
  refine v_iload_n hX dX4_snowAll_14 1 rfl ?_
  refine v_aload_n hX dX4_snowAll_15 2 rfl ?_
  refine t_get hX 22 (v := .ref (t + 10)) dX4_snowAll_16 q1303 (by decide) rfl rfl ?_
  refine v_bipush hX (v := 14) dX4_snowAll_19 rfl ?_
  refine v_iload_n hX dX4_snowAll_21 0 rfl ?_
  refine v_iadd hX (v := nI (14 + i)) dX4_snowAll_22 (nI_add 14 i) ?_
  refine t_iald hX 10 (14 + i) (v := sn i) dX4_snowAll_23 (by decide) rfl rfl (by omega) (by decide) ((congrFun hA _).trans (pS_sn (by omega))) ?_
  refine v_iadd hX (v := (sp_all sn i) + (sn i)) dX4_snowAll_24 rfl ?_
  refine v_istore_n hX [(1, .int ((sp_all sn i) + (sn i))), (2, .int (nI i)), (0, .ref t)] dX4_snowAll_25 (by decide) rfl ?_
  refine v_iinc hX (v := nI (i + 1)) [(2, .int (nI (i + 1))), (1, .int ((sp_all sn i) + (sn i))), (0, .ref t)] dX4_snowAll_26 1 rfl (by decide) (nI_1 i) rfl ?_
  refine v_goto hX 4 dX4_snowAll_29 (by decide) ?_
  exact ih _ rfl
set_option maxHeartbeats 4000000 in
set_option maxRecDepth 100000 in
theorem c_X4_neededOn {l : Launch} {G : vg_G} (hG : vg_st G) {t : Nat} (ht : gBase G ≤ t) {I : Nat → Int32} {A : Nat → Nat → Int32} {L : Nat → Nat → Int64} {Z : Int64} {h0 : vg_H} {sn wl : Nat → Int32} {dy sw be hv : Int32} {sd : Nat → Int32} (hA : A 10 = pS sn wl dy sw be hv sd) {d : Nat}  (hd : d < 10000) : FC l yX4_neededOn cX4_neededOn 2 (some FieldType.int) 0 0 G [.ref t, .int (nI d)] (TW G t I A L Z h0) (some (.int (if 30 < d then 0 else sd (62 + d)))) (TW G t I A L Z h0) := by
  refine FC_of hG (by decide) (Nat.le_of_ble_eq_true rfl) (fun X nn kk Φ hXl hX hΦ => ?_)
  subst hXl
  have hn : gBase G ≤ nn := hX.2.2.2.2.2.2.2.2.2.2.2.1
  show vg_V G X 2 (vg_Q G X 0 0 Φ) 0 [(0, .ref t), (1, .int (nI d))] [] (TW G t I A L Z h0) nn kk
  refine v_iload_n hX dX4_neededOn_0 1 rfl ?_
  refine v_bipush hX (v := 30) dX4_neededOn_1 rfl ?_
  refine v_cut (P := ∀ z0 : Int32, z0 = (if 30 < d then 0 else sd (62 + d)) → vg_V G X 2 (vg_Q G X 0 0 Φ) 19 [(0, .ref t), (1, .int (nI d))] [.int z0] (TW G t I A L Z h0) nn kk) (fun kj1 => ?_) ?_
  · skip
    refine v_icmp_gt hX (P := 30 < d) 18 dX4_neededOn_3 (by decide) (nI_ltI (a := 30) (b := d) (by omega) (by omega)) (fun c3 => ?_) (fun c3 => ?_)
    · skip
      refine v_iconst hX (v := 0) dX4_neededOn_18 rfl ?_
      exact kj1 _ (if_pos c3).symm
    refine v_aload_n hX dX4_neededOn_6 0 rfl ?_
    refine t_get hX 22 (v := .ref (t + 10)) dX4_neededOn_7 q1303 (by decide) rfl rfl ?_
    refine v_bipush hX (v := 62) dX4_neededOn_10 rfl ?_
    refine v_iload_n hX dX4_neededOn_12 1 rfl ?_
    refine v_iadd hX (v := nI (62 + d)) dX4_neededOn_13 (nI_add 62 d) ?_
    refine t_iald hX 10 (62 + d) (v := sd (62 + d)) dX4_neededOn_14 (by decide) rfl rfl (by omega) (by decide) ((congrFun hA _).trans (pS_hi (by omega))) ?_
    refine v_goto hX 19 dX4_neededOn_15 (by decide) ?_
    exact kj1 _ (if_neg c3).symm
  intro z0 ez0
  subst ez0
  exact v_iret hX dX4_neededOn_19 (Nat.le_refl _) (Nat.le_refl _) (hΦ _ _ rfl rfl)
set_option maxHeartbeats 4000000 in
set_option maxRecDepth 100000 in
theorem c_X4_ownOf {l : Launch} {G : vg_G} (hG : vg_st G) {t : Nat} (ht : gBase G ≤ t) {I : Nat → Int32} {A : Nat → Nat → Int32} {L : Nat → Nat → Int64} {Z : Int64} {h0 : vg_H} {sn wl : Nat → Int32} {dy sw be hv : Int32} {sd : Nat → Int32} (hA : A 10 = pS sn wl dy sw be hv sd) {h : Nat}  (hh : h < 4) : FC l yX4_ownOf cX4_ownOf 2 (some FieldType.int) 0 0 G [.ref t, .int (nI h)] (TW G t I A L Z h0) (some (.int (sd (38 + 2 * h)))) (TW G t I A L Z h0) := by
  refine FC_of hG (by decide) (Nat.le_of_ble_eq_true rfl) (fun X nn kk Φ hXl hX hΦ => ?_)
  subst hXl
  have hn : gBase G ≤ nn := hX.2.2.2.2.2.2.2.2.2.2.2.1
  show vg_V G X 2 (vg_Q G X 0 0 Φ) 0 [(0, .ref t), (1, .int (nI h))] [] (TW G t I A L Z h0) nn kk
  refine v_aload_n hX dX4_ownOf_0 0 rfl ?_
  refine t_get hX 22 (v := .ref (t + 10)) dX4_ownOf_1 q1303 (by decide) rfl rfl ?_
  refine v_bipush hX (v := 38) dX4_ownOf_4 rfl ?_
  refine v_iconst hX (v := 2) dX4_ownOf_6 rfl ?_
  refine v_iload_n hX dX4_ownOf_7 1 rfl ?_
  refine v_imul hX (v := nI (2 * h)) dX4_ownOf_8 (pk_mul 2 h) ?_
  refine v_iadd hX (v := nI (38 + 2 * h)) dX4_ownOf_9 (nI_add 38 (2 * h)) ?_
  refine t_iald hX 10 (38 + 2 * h) (v := sd (38 + 2 * h)) dX4_ownOf_10 (by decide) rfl rfl (by omega) (by decide) ((congrFun hA _).trans (pS_hi (by omega))) ?_
  exact v_iret hX dX4_ownOf_11 (Nat.le_refl _) (Nat.le_refl _) (hΦ _ _ rfl rfl)
set_option maxHeartbeats 4000000 in
set_option maxRecDepth 100000 in
theorem c_X4_strengthOf {l : Launch} {G : vg_G} (hG : vg_st G) {t : Nat} (ht : gBase G ≤ t) {I : Nat → Int32} {A : Nat → Nat → Int32} {L : Nat → Nat → Int64} {Z : Int64} {h0 : vg_H} {sn wl : Nat → Int32} {dy sw be hv : Int32} {sd : Nat → Int32} (hA : A 10 = pS sn wl dy sw be hv sd) {h : Nat}  (hh : h < 4) : FC l yX4_strengthOf cX4_strengthOf 2 (some FieldType.int) 0 0 G [.ref t, .int (nI h)] (TW G t I A L Z h0) (some (.int (sd (38 + 2 * h + 1)))) (TW G t I A L Z h0) := by
  refine FC_of hG (by decide) (Nat.le_of_ble_eq_true rfl) (fun X nn kk Φ hXl hX hΦ => ?_)
  subst hXl
  have hn : gBase G ≤ nn := hX.2.2.2.2.2.2.2.2.2.2.2.1
  show vg_V G X 2 (vg_Q G X 0 0 Φ) 0 [(0, .ref t), (1, .int (nI h))] [] (TW G t I A L Z h0) nn kk
  refine v_aload_n hX dX4_strengthOf_0 0 rfl ?_
  refine t_get hX 22 (v := .ref (t + 10)) dX4_strengthOf_1 q1303 (by decide) rfl rfl ?_
  refine v_bipush hX (v := 38) dX4_strengthOf_4 rfl ?_
  refine v_iconst hX (v := 2) dX4_strengthOf_6 rfl ?_
  refine v_iload_n hX dX4_strengthOf_7 1 rfl ?_
  refine v_imul hX (v := nI (2 * h)) dX4_strengthOf_8 (pk_mul 2 h) ?_
  refine v_iadd hX (v := nI (38 + 2 * h)) dX4_strengthOf_9 (nI_add 38 (2 * h)) ?_
  refine v_iconst hX (v := 1) dX4_strengthOf_10 rfl ?_
  refine v_iadd hX (v := nI (38 + 2 * h + 1)) dX4_strengthOf_11 (nI_add (38 + 2 * h) 1) ?_
  refine t_iald hX 10 (38 + 2 * h + 1) (v := sd (38 + 2 * h + 1)) dX4_strengthOf_12 (by decide) rfl rfl (by omega) (by decide) ((congrFun hA _).trans (pS_hi (by omega))) ?_
  exact v_iret hX dX4_strengthOf_13 (Nat.le_refl _) (Nat.le_refl _) (hΦ _ _ rfl rfl)
set_option maxHeartbeats 4000000 in
set_option maxRecDepth 100000 in
theorem c_X4_canSweep {l : Launch} {G : vg_G} (hG : vg_st G) {t : Nat} (ht : gBase G ≤ t) {I : Nat → Int32} {A : Nat → Nat → Int32} {L : Nat → Nat → Int64} {Z : Int64} {h0 : vg_H} {sn wl : Nat → Int32} {dy sw be hv : Int32} {sd : Nat → Int32} (hA : A 10 = pS sn wl dy sw be hv sd) {h : Nat} {s : Nat}  (hh : h < 4) (hi : s < 8) : FC l yX4_canSweep cX4_canSweep 3 (some FieldType.boolean) 1 21 G [.ref t, .int (nI h), .int (nI s)] (TW G t I A L Z h0) (some (.int (if ¬ (hs hv (nI h)) ∧ (¬ (sn s ≤ 0)) then 1 else 0))) (TW G t I A L Z h0) := by
  refine FC_of hG (by decide) (Nat.le_of_ble_eq_true rfl) (fun X nn kk Φ hXl hX hΦ => ?_)
  subst hXl
  have hn : gBase G ≤ nn := hX.2.2.2.2.2.2.2.2.2.2.2.1
  show vg_V G X 3 (vg_Q G X 0 0 Φ) 0 [(0, .ref t), (1, .int (nI h)), (2, .int (nI s))] [] (TW G t I A L Z h0) nn kk
  refine v_aload_n hX dX4_canSweep_0 0 rfl ?_
  refine t_get hX 22 (v := .ref (t + 10)) dX4_canSweep_1 q1303 (by decide) rfl rfl ?_
  refine v_bipush hX (v := 13) dX4_canSweep_4 rfl ?_
  refine t_iald hX 10 13 (v := hv) dX4_canSweep_6 (by decide) rfl rfl (by omega) (by decide) ((congrFun hA _).trans rfl) ?_
  refine v_iload_n hX dX4_canSweep_7 1 rfl ?_
  refine g_callS hX (as := [.int hv, .int (nI h)]) (rest := []) (c_X4_isOf hG (set := hv) (k := (nI h))  ) nd_X4_isOf dX4_canSweep_8 q1611 q1612 q139 q1613 rfl (by decide) (by decide) (Nat.le_of_ble_eq_true rfl) hn (Nat.le_refl _) (Nat.le_refl _) (st' := [.int (if hs hv (nI h) then 1 else 0)]) (h'' := TW G t I A L Z h0) rfl rfl ?_
  refine v_cut (P := ∀ z0 : Int32, z0 = (if ¬ (hs hv (nI h)) ∧ (¬ ((sn s) ≤ 0)) then 1 else 0) → vg_V G X 3 (vg_Q G X 0 0 Φ) 31 [(0, .ref t), (1, .int (nI h)), (2, .int (nI s))] [.int z0] (TW G t I A L Z h0) nn kk) (fun kj1 => ?_) ?_
  · skip
    refine v_ifB_ne hX 30 dX4_canSweep_11 (by decide) (fun c11 => ?_) (fun c11 => ?_)
    · skip
      refine v_iconst hX (v := 0) dX4_canSweep_30 rfl ?_
      exact kj1 _ (if_neg (fun q => q.1 c11)).symm
    refine v_aload_n hX dX4_canSweep_14 0 rfl ?_
    refine t_get hX 22 (v := .ref (t + 10)) dX4_canSweep_15 q1303 (by decide) rfl rfl ?_
    refine v_bipush hX (v := 14) dX4_canSweep_18 rfl ?_
    refine v_iload_n hX dX4_canSweep_20 2 rfl ?_
    refine v_iadd hX (v := nI (14 + s)) dX4_canSweep_21 (nI_add 14 s) ?_
    refine t_iald hX 10 (14 + s) (v := sn s) dX4_canSweep_22 (by decide) rfl rfl (by omega) (by decide) ((congrFun hA _).trans (pS_sn (by omega))) ?_
    refine v_if_le hX (P := (sn s) ≤ 0) 30 dX4_canSweep_23 (by decide) Iff.rfl (fun c23 => ?_) (fun c23 => ?_)
    · skip
      refine v_iconst hX (v := 0) dX4_canSweep_30 rfl ?_
      exact kj1 _ (if_neg (fun q => (fun q => q c23) q.2)).symm
    refine v_iconst hX (v := 1) dX4_canSweep_26 rfl ?_
    refine v_goto hX 31 dX4_canSweep_27 (by decide) ?_
    exact kj1 _ (if_pos ⟨c11, c23⟩).symm
  intro z0 ez0
  subst ez0
  exact v_zret hX dX4_canSweep_31 (vg_nb _) (Nat.le_refl _) (Nat.le_refl _) (hΦ _ _ rfl rfl)
set_option maxHeartbeats 4000000 in
set_option maxRecDepth 100000 in
theorem c_X4_takes {l : Launch} {G : vg_G} (hG : vg_st G) {t : Nat} (ht : gBase G ≤ t) {I : Nat → Int32} {A : Nat → Nat → Int32} {L : Nat → Nat → Int64} {Z : Int64} {h0 : vg_H} {sn wl : Nat → Int32} {dy sw be hv : Int32} {sd : Nat → Int32} (hA : A 10 = pS sn wl dy sw be hv sd) {h : Nat} {s : Nat}  (hh : h < 4) (hi : s < 8) (hw : wl s = -1 ∨ ∃ j : Nat, j < 8 ∧ wl s = nI j) : FC l yX4_takes cX4_takes 5 (some FieldType.int) 1 21 G [.ref t, .int (nI h), .int (nI s)] (TW G t I A L Z h0) (some (.int (mn (sn s) (sd (38 + 2 * h + 1))))) (TW G t I (va_up (va_up A 10 (pS (tk_sn sn wl s (mn (sn s) (sd (38 + 2 * h + 1)))) wl dy (if mn (sn s) (sd (38 + 2 * h + 1)) ≤ 0 then sw else sw ||| bitI s) be hv sd)) 11 (tk_th (A 11) wl s (mn (sn s) (sd (38 + 2 * h + 1))))) L Z h0) := by
  refine FC_of hG (by decide) (Nat.le_of_ble_eq_true rfl) (fun X nn kk Φ hXl hX hΦ => ?_)
  subst hXl
  have hn : gBase G ≤ nn := hX.2.2.2.2.2.2.2.2.2.2.2.1
  show vg_V G X 5 (vg_Q G X 0 0 Φ) 0 [(0, .ref t), (1, .int (nI h)), (2, .int (nI s))] [] (TW G t I A L Z h0) nn kk
  refine v_aload_n hX dX4_takes_0 0 rfl ?_
  refine v_iload_n hX dX4_takes_1 1 rfl ?_
  refine g_callV (ci := 4) (r := (RX4, TX4, 40)) hX (as := [.int (nI h)]) (rest := []) (c_X4_strengthOf hG ht (h := h)  hA (by omega)) nd_X4_strengthOf dX4_takes_2 q1631 q1633 qs96 q139 q1634 (TW_0 _ _ _ _ _ _ _) rfl rfl rfl (by decide) (by decide) (Nat.le_of_ble_eq_true rfl) hn (Nat.le_refl _) (Nat.le_refl _) (st' := [.int (sd (38 + 2 * h + 1))]) (h'' := TW G t I A L Z h0) rfl rfl ?_
  refine v_aload_n hX dX4_takes_5 0 rfl ?_
  refine t_get hX 22 (v := .ref (t + 10)) dX4_takes_6 q1303 (by decide) rfl rfl ?_
  refine v_bipush hX (v := 14) dX4_takes_9 rfl ?_
  refine v_iload_n hX dX4_takes_11 2 rfl ?_
  refine v_iadd hX (v := nI (14 + s)) dX4_takes_12 (nI_add 14 s) ?_
  refine t_iald hX 10 (14 + s) (v := sn s) dX4_takes_13 (by decide) rfl rfl (by omega) (by decide) ((congrFun hA _).trans (pS_sn (by omega))) ?_
  refine v_cut (P := ∀ z0 : Int32, z0 = (if (sn s) ≤ (sd (38 + 2 * h + 1)) then sn s else sd (38 + 2 * h + 1)) → vg_V G X 5 (vg_Q G X 0 0 Φ) 34 [(0, .ref t), (1, .int (nI h)), (2, .int (nI s))] [.int z0] (TW G t I A L Z h0) nn kk) (fun kj1 => ?_) ?_
  · skip
    refine v_icmp_ge hX (P := (sn s) ≤ (sd (38 + 2 * h + 1))) 25 dX4_takes_14 (by decide) Iff.rfl (fun c14 => ?_) (fun c14 => ?_)
    · skip
      refine v_aload_n hX dX4_takes_25 0 rfl ?_
      refine t_get hX 22 (v := .ref (t + 10)) dX4_takes_26 q1303 (by decide) rfl rfl ?_
      refine v_bipush hX (v := 14) dX4_takes_29 rfl ?_
      refine v_iload_n hX dX4_takes_31 2 rfl ?_
      refine v_iadd hX (v := nI (14 + s)) dX4_takes_32 (nI_add 14 s) ?_
      refine t_iald hX 10 (14 + s) (v := sn s) dX4_takes_33 (by decide) rfl rfl (by omega) (by decide) ((congrFun hA _).trans (pS_sn (by omega))) ?_
      exact kj1 _ (if_pos c14).symm
    refine v_aload_n hX dX4_takes_17 0 rfl ?_
    refine v_iload_n hX dX4_takes_18 1 rfl ?_
    refine g_callV (ci := 4) (r := (RX4, TX4, 40)) hX (as := [.int (nI h)]) (rest := []) (c_X4_strengthOf hG ht (h := h)  hA (by omega)) nd_X4_strengthOf dX4_takes_19 q1631 q1633 qs96 q139 q1634 (TW_0 _ _ _ _ _ _ _) rfl rfl rfl (by decide) (by decide) (Nat.le_of_ble_eq_true rfl) hn (Nat.le_refl _) (Nat.le_refl _) (st' := [.int (sd (38 + 2 * h + 1))]) (h'' := TW G t I A L Z h0) rfl rfl ?_
    refine v_goto hX 34 dX4_takes_22 (by decide) ?_
    exact kj1 _ (if_neg c14).symm
  intro z0 ez0
  subst ez0
  refine v_top (y := mn (sn s) (sd (38 + 2 * h + 1))) rfl ?_
  refine v_istore_n hX [(3, .int (mn (sn s) (sd (38 + 2 * h + 1)))), (0, .ref t), (1, .int (nI h)), (2, .int (nI s))] dX4_takes_34 (by decide) rfl ?_
  refine v_aload_n hX dX4_takes_35 1 rfl ?_
  refine t_get hX 22 (v := .ref (t + 10)) dX4_takes_36 q1303 (by decide) rfl rfl ?_
  refine v_bipush hX (v := 22) dX4_takes_39 rfl ?_
  refine v_iload_n hX dX4_takes_41 3 rfl ?_
  refine v_iadd hX (v := nI (22 + s)) dX4_takes_42 (nI_add 22 s) ?_
  rcases hw with w1 | ⟨j, hj, wj⟩
  · skip
    refine t_iald hX 10 (22 + s) (v := (-1)) dX4_takes_43 (by decide) rfl rfl (by omega) (by decide) ((congrFun hA _).trans ((pS_wl (by omega)).trans w1)) ?_
    refine v_istore hX [(4, .int (-1)), (3, .int (mn (sn s) (sd (38 + 2 * h + 1)))), (0, .ref t), (1, .int (nI h)), (2, .int (nI s))] dX4_takes_44 (by decide) rfl ?_
    refine v_aload_n hX dX4_takes_46 2 rfl ?_
    refine t_get hX 22 (v := .ref (t + 10)) dX4_takes_47 q1303 (by decide) rfl rfl ?_
    refine v_bipush hX (v := 14) dX4_takes_50 rfl ?_
    refine v_iload_n hX dX4_takes_52 4 rfl ?_
    refine v_iadd hX (v := nI (14 + s)) dX4_takes_53 (nI_add 14 s) ?_
    refine v_dup2 hX dX4_takes_54 rfl rfl ?_
    refine t_iald hX 10 (14 + s) (v := sn s) dX4_takes_55 (by decide) rfl rfl (by omega) (by decide) ((congrFun hA _).trans (pS_sn (by omega))) ?_
    refine v_iload_n hX dX4_takes_56 1 rfl ?_
    refine v_isub hX (v := (sn s) - (mn (sn s) (sd (38 + 2 * h + 1)))) dX4_takes_57 rfl ?_
    refine t_iast hX 10 (14 + s) dX4_takes_58 ht (by decide) (fun _ => rfl) rfl (by omega) (by decide) ?_
    refine v_h (h' := TW G t I (va_up A 10 (pS (upd sn s ((sn s) - (mn (sn s) (sd (38 + 2 * h + 1))))) wl dy sw be hv sd)) L Z h0) (TW_eq rfl (sA_gen (Eq.symm ((congrArg (fun f => upd f _ _) hA).trans (pS_setsn (by omega) _))) (fun z hz => by simp [va_up, hz])) rfl rfl) ?_
    refine v_iload_n hX dX4_takes_59 1 rfl ?_
    refine v_cut (P := ∀ z0 : Int32, z0 = (if (mn (sn s) (sd (38 + 2 * h + 1))) ≤ 0 then sw else sw ||| ((1 : Int32) <<< ((nI s) &&& 31))) → vg_V G X 5 (vg_Q G X 0 0 Φ) 76 [(4, .int (-1)), (3, .int (mn (sn s) (sd (38 + 2 * h + 1)))), (0, .ref t), (1, .int (nI h)), (2, .int (nI s))] [] (TW G t I (va_up A 10 (pS (upd sn s ((sn s) - (mn (sn s) (sd (38 + 2 * h + 1))))) wl dy z0 be hv sd)) L Z h0) nn kk) (fun kj2 => ?_) ?_
    · skip
      refine v_if_le hX (P := (mn (sn s) (sd (38 + 2 * h + 1))) ≤ 0) 76 dX4_takes_60 (by decide) Iff.rfl (fun c60 => ?_) (fun c60 => ?_)
      · skip
        exact kj2 _ (if_pos c60).symm
      refine v_aload_n hX dX4_takes_63 2 rfl ?_
      refine t_get hX 22 (v := .ref (t + 10)) dX4_takes_64 q1303 (by decide) rfl rfl ?_
      refine v_bipush hX (v := 11) dX4_takes_67 rfl ?_
      refine v_dup2 hX dX4_takes_69 rfl rfl ?_
      refine t_iald hX 10 11 (v := sw) dX4_takes_70 (by decide) rfl rfl (by omega) (by decide) rfl ?_
      refine v_iconst hX (v := 1) dX4_takes_71 rfl ?_
      refine v_iload_n hX dX4_takes_72 4 rfl ?_
      refine v_ishl hX (v := (1 : Int32) <<< ((nI s) &&& 31)) dX4_takes_73 rfl ?_
      refine v_ior hX (v := sw ||| ((1 : Int32) <<< ((nI s) &&& 31))) dX4_takes_74 rfl ?_
      refine t_iast hX 10 11 dX4_takes_75 ht (by decide) (fun _ => rfl) rfl (by omega) (by decide) ?_
      refine v_h (h' := TW G t I (va_up A 10 (pS (upd sn s ((sn s) - (mn (sn s) (sd (38 + 2 * h + 1))))) wl dy (sw ||| ((1 : Int32) <<< ((nI s) &&& 31))) be hv sd)) L Z h0) (TW_eq rfl (sA_gen (Eq.symm (pS_setsw _)) (fun z hz => by simp [va_up, hz])) rfl rfl) ?_
      exact kj2 _ (if_neg c60).symm
    intro z0 ez0
    subst ez0
    refine v_iload hX dX4_takes_76 0 rfl ?_
    refine v_if_lt hX 117 dX4_takes_78 (by decide) (Iff.refl _) (fun _ => ?_) (fun c => absurd (by decide) c)
    refine v_iload_n hX dX4_takes_117 1 rfl ?_
    exact v_iret hX dX4_takes_118 (Nat.le_refl _) (Nat.le_refl _) (hΦ _ _ rfl (TW_eq rfl (by rw [tk_sn1 w1, tk_th1 w1]; exact (va_up_id rfl).symm) rfl rfl))
  refine t_iald hX 10 (22 + s) (v := nI j) dX4_takes_43 (by decide) rfl rfl (by omega) (by decide) ((congrFun hA _).trans ((pS_wl (by omega)).trans wj)) ?_
  refine v_istore hX [(4, .int (nI j)), (3, .int (mn (sn s) (sd (38 + 2 * h + 1)))), (0, .ref t), (1, .int (nI h)), (2, .int (nI s))] dX4_takes_44 (by decide) rfl ?_
  refine v_aload_n hX dX4_takes_46 2 rfl ?_
  refine t_get hX 22 (v := .ref (t + 10)) dX4_takes_47 q1303 (by decide) rfl rfl ?_
  refine v_bipush hX (v := 14) dX4_takes_50 rfl ?_
  refine v_iload_n hX dX4_takes_52 4 rfl ?_
  refine v_iadd hX (v := nI (14 + s)) dX4_takes_53 (nI_add 14 s) ?_
  refine v_dup2 hX dX4_takes_54 rfl rfl ?_
  refine t_iald hX 10 (14 + s) (v := sn s) dX4_takes_55 (by decide) rfl rfl (by omega) (by decide) ((congrFun hA _).trans (pS_sn (by omega))) ?_
  refine v_iload_n hX dX4_takes_56 1 rfl ?_
  refine v_isub hX (v := (sn s) - (mn (sn s) (sd (38 + 2 * h + 1)))) dX4_takes_57 rfl ?_
  refine t_iast hX 10 (14 + s) dX4_takes_58 ht (by decide) (fun _ => rfl) rfl (by omega) (by decide) ?_
  refine v_h (h' := TW G t I (va_up A 10 (pS (upd sn s ((sn s) - (mn (sn s) (sd (38 + 2 * h + 1))))) wl dy sw be hv sd)) L Z h0) (TW_eq rfl (sA_gen (Eq.symm ((congrArg (fun f => upd f _ _) hA).trans (pS_setsn (by omega) _))) (fun z hz => by simp [va_up, hz])) rfl rfl) ?_
  refine v_iload_n hX dX4_takes_59 1 rfl ?_
  refine v_cut (P := ∀ z0 : Int32, z0 = (if (mn (sn s) (sd (38 + 2 * h + 1))) ≤ 0 then sw else sw ||| ((1 : Int32) <<< ((nI s) &&& 31))) → vg_V G X 5 (vg_Q G X 0 0 Φ) 76 [(4, .int (nI j)), (3, .int (mn (sn s) (sd (38 + 2 * h + 1)))), (0, .ref t), (1, .int (nI h)), (2, .int (nI s))] [] (TW G t I (va_up A 10 (pS (upd sn s ((sn s) - (mn (sn s) (sd (38 + 2 * h + 1))))) wl dy z0 be hv sd)) L Z h0) nn kk) (fun kj3 => ?_) ?_
  · skip
    refine v_if_le hX (P := (mn (sn s) (sd (38 + 2 * h + 1))) ≤ 0) 76 dX4_takes_60 (by decide) Iff.rfl (fun c60 => ?_) (fun c60 => ?_)
    · skip
      exact kj3 _ (if_pos c60).symm
    refine v_aload_n hX dX4_takes_63 2 rfl ?_
    refine t_get hX 22 (v := .ref (t + 10)) dX4_takes_64 q1303 (by decide) rfl rfl ?_
    refine v_bipush hX (v := 11) dX4_takes_67 rfl ?_
    refine v_dup2 hX dX4_takes_69 rfl rfl ?_
    refine t_iald hX 10 11 (v := sw) dX4_takes_70 (by decide) rfl rfl (by omega) (by decide) rfl ?_
    refine v_iconst hX (v := 1) dX4_takes_71 rfl ?_
    refine v_iload_n hX dX4_takes_72 4 rfl ?_
    refine v_ishl hX (v := (1 : Int32) <<< ((nI s) &&& 31)) dX4_takes_73 rfl ?_
    refine v_ior hX (v := sw ||| ((1 : Int32) <<< ((nI s) &&& 31))) dX4_takes_74 rfl ?_
    refine t_iast hX 10 11 dX4_takes_75 ht (by decide) (fun _ => rfl) rfl (by omega) (by decide) ?_
    refine v_h (h' := TW G t I (va_up A 10 (pS (upd sn s ((sn s) - (mn (sn s) (sd (38 + 2 * h + 1))))) wl dy (sw ||| ((1 : Int32) <<< ((nI s) &&& 31))) be hv sd)) L Z h0) (TW_eq rfl (sA_gen (Eq.symm (pS_setsw _)) (fun z hz => by simp [va_up, hz])) rfl rfl) ?_
    exact kj3 _ (if_neg c60).symm
  intro z0 ez0
  subst ez0
  refine v_iload hX dX4_takes_76 0 rfl ?_
  refine v_if_lt hX 117 dX4_takes_78 (by decide) (Iff.refl _) (fun c => absurd c (by have := nI_pos (n := j) (by omega); exact this)) (fun _ => ?_)
  refine v_aload_n hX dX4_takes_81 2 rfl ?_
  refine t_get hX 25 (v := .ref (t + 11)) dX4_takes_82 q1306 (by decide) rfl rfl ?_
  refine v_iload hX dX4_takes_85 0 rfl ?_
  refine v_dup2 hX dX4_takes_87 rfl rfl ?_
  refine t_iald hX 11 j (v := (A 11) j) dX4_takes_88 (by decide) rfl rfl (by omega) (by decide) rfl ?_
  refine v_iload_n hX dX4_takes_89 1 rfl ?_
  refine v_iadd hX (v := ((A 11) j) + (mn (sn s) (sd (38 + 2 * h + 1)))) dX4_takes_90 rfl ?_
  refine t_iast hX 11 j dX4_takes_91 ht (by decide) (fun _ => rfl) rfl (by omega) (by decide) ?_
  refine v_aload_n hX dX4_takes_92 2 rfl ?_
  refine t_get hX 22 (v := .ref (t + 10)) dX4_takes_93 q1303 (by decide) rfl rfl ?_
  refine v_bipush hX (v := 14) dX4_takes_96 rfl ?_
  refine v_iload hX dX4_takes_98 0 rfl ?_
  refine v_iadd hX (v := nI (14 + j)) dX4_takes_100 (nI_add 14 j) ?_
  refine v_aload_n hX dX4_takes_101 2 rfl ?_
  refine t_get hX 22 (v := .ref (t + 10)) dX4_takes_102 q1303 (by decide) rfl rfl ?_
  refine v_bipush hX (v := 14) dX4_takes_105 rfl ?_
  refine v_iload hX dX4_takes_107 0 rfl ?_
  refine v_iadd hX (v := nI (14 + j)) dX4_takes_109 (nI_add 14 j) ?_
  refine t_iald hX 10 (14 + j) (v := (upd sn s ((sn s) - (mn (sn s) (sd (38 + 2 * h + 1))))) j) dX4_takes_110 (by decide) rfl rfl (by omega) (by decide) (pS_sn (by omega)) ?_
  refine v_iload_n hX dX4_takes_111 1 rfl ?_
  refine v_iadd hX (v := ((upd sn s ((sn s) - (mn (sn s) (sd (38 + 2 * h + 1))))) j) + (mn (sn s) (sd (38 + 2 * h + 1)))) dX4_takes_112 rfl ?_
  refine g_callS hX (as := [.int (((upd sn s ((sn s) - (mn (sn s) (sd (38 + 2 * h + 1))))) j) + (mn (sn s) (sd (38 + 2 * h + 1))))]) (rest := [.int (nI (14 + j)), .ref (t + 10)]) (c_X4_held hG (n1 := (((upd sn s ((sn s) - (mn (sn s) (sd (38 + 2 * h + 1))))) j) + (mn (sn s) (sd (38 + 2 * h + 1)))))  ) nd_X4_held dX4_takes_113 q1697 q1698 q139 q1699 rfl (by decide) (by decide) (Nat.le_of_ble_eq_true rfl) hn (Nat.le_refl _) (Nat.le_refl _) (st' := [.int (hd (((upd sn s ((sn s) - (mn (sn s) (sd (38 + 2 * h + 1))))) j) + (mn (sn s) (sd (38 + 2 * h + 1))))), .int (nI (14 + j)), .ref (t + 10)]) (h'' := TW G t I (va_up (va_up A 10 (pS (upd sn s ((sn s) - (mn (sn s) (sd (38 + 2 * h + 1))))) wl dy (if (mn (sn s) (sd (38 + 2 * h + 1))) ≤ 0 then sw else sw ||| ((1 : Int32) <<< ((nI s) &&& 31))) be hv sd)) 11 (upd (A 11) j (((A 11) j) + (mn (sn s) (sd (38 + 2 * h + 1)))))) L Z h0) rfl rfl ?_
  refine t_iast hX 10 (14 + j) dX4_takes_116 ht (by decide) (fun _ => rfl) rfl (by omega) (by decide) ?_
  refine v_h (h' := TW G t I (va_up (va_up A 10 (pS (upd (upd sn s ((sn s) - (mn (sn s) (sd (38 + 2 * h + 1))))) j (hd (((upd sn s ((sn s) - (mn (sn s) (sd (38 + 2 * h + 1))))) j) + (mn (sn s) (sd (38 + 2 * h + 1)))))) wl dy (if (mn (sn s) (sd (38 + 2 * h + 1))) ≤ 0 then sw else sw ||| ((1 : Int32) <<< ((nI s) &&& 31))) be hv sd)) 11 (upd (A 11) j (((A 11) j) + (mn (sn s) (sd (38 + 2 * h + 1)))))) L Z h0) (TW_eq rfl (sA_gen (Eq.symm (pS_setsn (by omega) _)) (fun z hz => by simp [va_up, hz])) rfl rfl) ?_
  refine v_iload_n hX dX4_takes_117 1 rfl ?_
  exact v_iret hX dX4_takes_118 (Nat.le_refl _) (Nat.le_refl _) (hΦ _ _ rfl (TW_eq rfl (by rw [tk_snj wj hj, tk_thj wj hj]) rfl rfl))
set_option maxHeartbeats 4000000 in
set_option maxRecDepth 100000 in
theorem c_X4_snows {l : Launch} {G : vg_G} (hG : vg_st G) {t : Nat} (ht : gBase G ≤ t) {I : Nat → Int32} {A : Nat → Nat → Int32} {L : Nat → Nat → Int64} {Z : Int64} {h0 : vg_H} {sn wl : Nat → Int32} {dy sw be hv : Int32} {sd : Nat → Int32} (hA : A 10 = pS sn wl dy sw be hv sd)  {n : Nat} (hn2 : sd 2 = nI n) (hn8 : n ≤ 8) : FC l yX4_snows cX4_snows 3 (some FieldType.int) 1 21 G [.ref t] (TW G t I A L Z h0) (some (.int sw)) (TW G t I (va_up (va_up A 10 (pS (sp_nf (sd 0) sw sn n) wl (dy + 1) 0 sw 0 sd)) 12 (sp_ff (sd 0) sw (A 12) n)) L Z h0) := by
  refine FC_of hG (by decide) (Nat.le_of_ble_eq_true rfl) (fun X nn kk Φ hXl hX hΦ => ?_)
  subst hXl
  have hn : gBase G ≤ nn := hX.2.2.2.2.2.2.2.2.2.2.2.1
  show vg_V G X 3 (vg_Q G X 0 0 Φ) 0 [(0, .ref t)] [] (TW G t I A L Z h0) nn kk
  refine v_aload_n hX dX4_snows_0 0 rfl ?_
  refine t_get hX 22 (v := .ref (t + 10)) dX4_snows_1 q1303 (by decide) rfl rfl ?_
  refine v_bipush hX (v := 11) dX4_snows_4 rfl ?_
  refine t_iald hX 10 11 (v := sw) dX4_snows_6 (by decide) rfl rfl (by omega) (by decide) ((congrFun hA _).trans rfl) ?_
  refine v_istore_n hX [(1, .int sw), (0, .ref t)] dX4_snows_7 (by decide) rfl ?_
  refine v_iconst hX (v := 0) dX4_snows_8 rfl ?_
  refine v_istore_n hX [(2, .int 0), (1, .int sw), (0, .ref t)] dX4_snows_9 (by decide) rfl ?_
  refine v_h (h' := TW G t I (va_up (va_up A 10 (pS sn wl dy sw be hv sd)) 12 (A 12)) L Z h0) (TW_eq rfl (funext fun z => if y12 : z = 12 then by subst y12; first | rfl else if y10 : z = 10 then by subst y10; first | rfl | exact hA | exact hA.symm else by simp [va_up, y10, y12]) rfl rfl) ?_
  refine lp_up (fun i =>  ∀ z0 : Nat → Int32, z0 = (sp_ff (sd 0) sw (A 12) i) → ∀ z1 : Nat → Int32, z1 = (sp_nf (sd 0) sw sn i) →vg_V G X 3 (vg_Q G X 0 0 Φ) 10 [(2, .int (nI i)), (1, .int sw), (0, .ref t)] [] (TW G t I (va_up (va_up A 10 (pS z1 wl dy sw be hv sd)) 12 z0) L Z h0) nn kk) n ?_ ?_ 0 (by omega) _ rfl _ rfl
  · skip
    intro z0 ez0 z1 ez1
    subst ez0 ez1
    refine v_iload_n hX dX4_snows_10 0 rfl ?_
    refine v_aload_n hX dX4_snows_11 2 rfl ?_
    refine t_get hX 22 (v := .ref (t + 10)) dX4_snows_12 q1303 (by decide) rfl rfl ?_
    refine v_iconst hX (v := 2) dX4_snows_15 rfl ?_
    refine t_iald hX 10 2 (v := nI n) dX4_snows_16 (by decide) rfl rfl (by omega) (by decide) hn2 ?_
    refine v_icmp_ge hX (P := n ≤ n) 80 dX4_snows_17 (by decide) (nI_leI (a := n) (b := n) (by omega) (by omega)) (fun c17 => ?_) (fun c => absurd (Nat.le_refl _) c)
    refine v_aload_n hX dX4_snows_80 2 rfl ?_
    refine t_get hX 22 (v := .ref (t + 10)) dX4_snows_81 q1303 (by decide) rfl rfl ?_
    refine v_bipush hX (v := 12) dX4_snows_84 rfl ?_
    refine v_iload_n hX dX4_snows_86 1 rfl ?_
    refine t_iast hX 10 12 dX4_snows_87 ht (by decide) (fun _ => rfl) rfl (by omega) (by decide) ?_
    refine v_h (h' := TW G t I (va_up (va_up A 10 (pS (sp_nf (sd 0) sw sn n) wl dy sw sw hv sd)) 12 (sp_ff (sd 0) sw (A 12) n)) L Z h0) (TW_eq rfl (sA_gen (Eq.symm (pS_setbe _)) (fun z hz => by simp [va_up, hz])) rfl rfl) ?_
    refine v_aload_n hX dX4_snows_88 2 rfl ?_
    refine t_get hX 22 (v := .ref (t + 10)) dX4_snows_89 q1303 (by decide) rfl rfl ?_
    refine v_bipush hX (v := 11) dX4_snows_92 rfl ?_
    refine v_iconst hX (v := 0) dX4_snows_94 rfl ?_
    refine t_iast hX 10 11 dX4_snows_95 ht (by decide) (fun _ => rfl) rfl (by omega) (by decide) ?_
    refine v_h (h' := TW G t I (va_up (va_up A 10 (pS (sp_nf (sd 0) sw sn n) wl dy 0 sw hv sd)) 12 (sp_ff (sd 0) sw (A 12) n)) L Z h0) (TW_eq rfl (sA_gen (Eq.symm (pS_setsw _)) (fun z hz => by simp [va_up, hz])) rfl rfl) ?_
    refine v_aload_n hX dX4_snows_96 2 rfl ?_
    refine t_get hX 22 (v := .ref (t + 10)) dX4_snows_97 q1303 (by decide) rfl rfl ?_
    refine v_bipush hX (v := 13) dX4_snows_100 rfl ?_
    refine v_iconst hX (v := 0) dX4_snows_102 rfl ?_
    refine t_iast hX 10 13 dX4_snows_103 ht (by decide) (fun _ => rfl) rfl (by omega) (by decide) ?_
    refine v_h (h' := TW G t I (va_up (va_up A 10 (pS (sp_nf (sd 0) sw sn n) wl dy 0 sw 0 sd)) 12 (sp_ff (sd 0) sw (A 12) n)) L Z h0) (TW_eq rfl (sA_gen (Eq.symm (pS_sethv _)) (fun z hz => by simp [va_up, hz])) rfl rfl) ?_
    refine v_aload_n hX dX4_snows_104 2 rfl ?_
    refine t_get hX 22 (v := .ref (t + 10)) dX4_snows_105 q1303 (by decide) rfl rfl ?_
    refine v_bipush hX (v := 10) dX4_snows_108 rfl ?_
    refine v_dup2 hX dX4_snows_110 rfl rfl ?_
    refine t_iald hX 10 10 (v := dy) dX4_snows_111 (by decide) rfl rfl (by omega) (by decide) rfl ?_
    refine v_iconst hX (v := 1) dX4_snows_112 rfl ?_
    refine v_iadd hX (v := dy + 1) dX4_snows_113 rfl ?_
    refine t_iast hX 10 10 dX4_snows_114 ht (by decide) (fun _ => rfl) rfl (by omega) (by decide) ?_
    refine v_h (h' := TW G t I (va_up (va_up A 10 (pS (sp_nf (sd 0) sw sn n) wl (dy + 1) 0 sw 0 sd)) 12 (sp_ff (sd 0) sw (A 12) n)) L Z h0) (TW_eq rfl (sA_gen (Eq.symm (pS_setdy _)) (fun z hz => by simp [va_up, hz])) rfl rfl) ?_
    refine v_iload_n hX dX4_snows_115 1 rfl ?_
    exact v_iret hX dX4_snows_116 (Nat.le_refl _) (Nat.le_refl _) (hΦ _ _ rfl rfl)
  intro i hi ih z0 ez0 z1 ez1
  subst ez0 ez1
  refine v_iload_n hX dX4_snows_10 0 rfl ?_
  refine v_aload_n hX dX4_snows_11 2 rfl ?_
  refine t_get hX 22 (v := .ref (t + 10)) dX4_snows_12 q1303 (by decide) rfl rfl ?_
  refine v_iconst hX (v := 2) dX4_snows_15 rfl ?_
  refine t_iald hX 10 2 (v := nI n) dX4_snows_16 (by decide) rfl rfl (by omega) (by decide) hn2 ?_
  refine v_icmp_ge hX (P := n ≤ i) 80 dX4_snows_17 (by decide) (nI_leI (a := n) (b := i) (by omega) (by omega)) (fun c => absurd c (by omega)) (fun c17 => ?_)
  refine v_iload_n hX dX4_snows_20 1 rfl ?_
  refine v_iload_n hX dX4_snows_21 0 rfl ?_
  refine g_callS hX (as := [.int sw, .int (nI i)]) (rest := []) (c_X4_isOf hG (set := sw) (k := (nI i))  ) nd_X4_isOf dX4_snows_22 q1611 q1612 q139 q1613 rfl (by decide) (by decide) (Nat.le_of_ble_eq_true rfl) hn (Nat.le_refl _) (Nat.le_refl _) (st' := [.int (if hs sw (nI i) then 1 else 0)]) (h'' := TW G t I (va_up (va_up A 10 (pS (sp_nf (sd 0) sw sn i) wl dy sw be hv sd)) 12 (sp_ff (sd 0) sw (A 12) i)) L Z h0) rfl rfl ?_
  refine v_ifB_ne hX 31 dX4_snows_25 (by decide) (fun c25 => ?_) (fun c25 => ?_)
  · skip
    refine v_aload_n hX dX4_snows_31 2 rfl ?_
    refine t_get hX 26 (v := .ref (t + 12)) dX4_snows_32 q1307 (by decide) rfl rfl ?_
    refine v_iload_n hX dX4_snows_35 0 rfl ?_
    refine v_dup2 hX dX4_snows_36 rfl rfl ?_
    refine t_iald hX 12 i (v := (sp_ff (sd 0) sw (A 12) i) i) dX4_snows_37 (by decide) rfl rfl (by omega) (by decide) rfl ?_
    refine v_aload_n hX dX4_snows_38 2 rfl ?_
    refine t_get hX 22 (v := .ref (t + 10)) dX4_snows_39 q1303 (by decide) rfl rfl ?_
    refine v_iconst hX (v := 0) dX4_snows_42 rfl ?_
    refine t_iald hX 10 0 (v := sd 0) dX4_snows_43 (by decide) rfl rfl (by omega) (by decide) rfl ?_
    refine v_iadd hX (v := ((sp_ff (sd 0) sw (A 12) i) i) + (sd 0)) dX4_snows_44 rfl ?_
    refine t_iast hX 12 i dX4_snows_45 ht (by decide) (fun _ => rfl) rfl (by omega) (by decide) ?_
    refine v_h (h' := TW G t I (va_up (va_up A 10 (pS (sp_nf (sd 0) sw sn i) wl dy sw be hv sd)) 12 (upd (sp_ff (sd 0) sw (A 12) i) i (((sp_ff (sd 0) sw (A 12) i) i) + (sd 0)))) L Z h0) (TW_eq rfl (funext fun z => if y12 : z = 12 then by subst y12; first | rfl else if y10 : z = 10 then by subst y10; first | rfl | exact hA | exact hA.symm else by simp [va_up, y10, y12]) rfl rfl) ?_
    refine v_aload_n hX dX4_snows_46 2 rfl ?_
    refine t_get hX 22 (v := .ref (t + 10)) dX4_snows_47 q1303 (by decide) rfl rfl ?_
    refine v_bipush hX (v := 14) dX4_snows_50 rfl ?_
    refine v_iload_n hX dX4_snows_52 0 rfl ?_
    refine v_iadd hX (v := nI (14 + i)) dX4_snows_53 (nI_add 14 i) ?_
    refine v_aload_n hX dX4_snows_54 2 rfl ?_
    refine t_get hX 22 (v := .ref (t + 10)) dX4_snows_55 q1303 (by decide) rfl rfl ?_
    refine v_bipush hX (v := 14) dX4_snows_58 rfl ?_
    refine v_iload_n hX dX4_snows_60 0 rfl ?_
    refine v_iadd hX (v := nI (14 + i)) dX4_snows_61 (nI_add 14 i) ?_
    refine t_iald hX 10 (14 + i) (v := (sp_nf (sd 0) sw sn i) i) dX4_snows_62 (by decide) rfl rfl (by omega) (by decide) (pS_sn (by omega)) ?_
    refine v_aload_n hX dX4_snows_63 2 rfl ?_
    refine t_get hX 22 (v := .ref (t + 10)) dX4_snows_64 q1303 (by decide) rfl rfl ?_
    refine v_iconst hX (v := 0) dX4_snows_67 rfl ?_
    refine t_iald hX 10 0 (v := sd 0) dX4_snows_68 (by decide) rfl rfl (by omega) (by decide) rfl ?_
    refine v_iadd hX (v := ((sp_nf (sd 0) sw sn i) i) + (sd 0)) dX4_snows_69 rfl ?_
    refine g_callS hX (as := [.int (((sp_nf (sd 0) sw sn i) i) + (sd 0))]) (rest := [.int (nI (14 + i)), .ref (t + 10)]) (c_X4_held hG (n1 := (((sp_nf (sd 0) sw sn i) i) + (sd 0)))  ) nd_X4_held dX4_snows_70 q1697 q1698 q139 q1699 rfl (by decide) (by decide) (Nat.le_of_ble_eq_true rfl) hn (Nat.le_refl _) (Nat.le_refl _) (st' := [.int (hd (((sp_nf (sd 0) sw sn i) i) + (sd 0))), .int (nI (14 + i)), .ref (t + 10)]) (h'' := TW G t I (va_up (va_up A 10 (pS (sp_nf (sd 0) sw sn i) wl dy sw be hv sd)) 12 (upd (sp_ff (sd 0) sw (A 12) i) i (((sp_ff (sd 0) sw (A 12) i) i) + (sd 0)))) L Z h0) rfl rfl ?_
    refine t_iast hX 10 (14 + i) dX4_snows_73 ht (by decide) (fun _ => rfl) rfl (by omega) (by decide) ?_
    refine v_h (h' := TW G t I (va_up (va_up A 10 (pS (upd (sp_nf (sd 0) sw sn i) i (hd (((sp_nf (sd 0) sw sn i) i) + (sd 0)))) wl dy sw be hv sd)) 12 (upd (sp_ff (sd 0) sw (A 12) i) i (((sp_ff (sd 0) sw (A 12) i) i) + (sd 0)))) L Z h0) (TW_eq rfl (sA_gen (Eq.symm (pS_setsn (by omega) _)) (fun z hz => by simp [va_up, hz])) rfl rfl) ?_
    refine v_iinc hX (v := nI (i + 1)) [(2, .int (nI (i + 1))), (1, .int sw), (0, .ref t)] dX4_snows_74 0 rfl (by decide) (nI_1 i) rfl ?_
    refine v_goto hX 10 dX4_snows_77 (by decide) ?_
    exact ih _ (by simp only [sp_ff]; first | rw [if_pos c25] | rw [if_neg c25]) _ (by simp only [sp_nf]; first | rw [if_pos c25] | rw [if_neg c25])
  refine v_goto hX 74 dX4_snows_28 (by decide) ?_
  refine v_iinc hX (v := nI (i + 1)) [(2, .int (nI (i + 1))), (1, .int sw), (0, .ref t)] dX4_snows_74 0 rfl (by decide) (nI_1 i) rfl ?_
  refine v_goto hX 10 dX4_snows_77 (by decide) ?_
  exact ih _ (by simp only [sp_ff]; first | rw [if_pos c25] | rw [if_neg c25]) _ (by simp only [sp_nf]; first | rw [if_pos c25] | rw [if_neg c25])
set_option maxHeartbeats 4000000 in
set_option maxRecDepth 100000 in
theorem c_X4_keeps {l : Launch} {G : vg_G} (hG : vg_st G) {t : Nat} (ht : gBase G ≤ t) {I : Nat → Int32} {A : Nat → Nat → Int32} {L : Nat → Nat → Int64} {Z : Int64} {h0 : vg_H}    : FC l yX4_keeps cX4_keeps 2 none 0 0 G [.ref t] (TW G t I A L Z h0) (none) (TW G t I (va_up A 14 (kp (A 14) (A 10))) L Z h0) := by
  refine FC_of hG (by decide) (Nat.le_of_ble_eq_true rfl) (fun X nn kk Φ hXl hX hΦ => ?_)
  subst hXl
  have hn : gBase G ≤ nn := hX.2.2.2.2.2.2.2.2.2.2.2.1
  show vg_V G X 2 (vg_Q G X 0 0 Φ) 0 [(0, .ref t)] [] (TW G t I A L Z h0) nn kk
  refine v_iconst hX (v := 0) dX4_keeps_0 rfl ?_
  refine v_istore_n hX [(1, .int 0), (0, .ref t)] dX4_keeps_1 (by decide) rfl ?_
  refine v_h (h' := TW G t I (va_up A 14 (A 14)) L Z h0) (TW_eq rfl (funext fun z => if y14 : z = 14 then by subst y14; first | rfl else by simp [va_up, y14]) rfl rfl) ?_
  refine lp_up (fun i =>  ∀ z0 : Nat → Int32, z0 = (fun j => if j < i then A 10 (10 + j) else A 14 j) →vg_V G X 2 (vg_Q G X 0 0 Φ) 2 [(1, .int (nI i)), (0, .ref t)] [] (TW G t I (va_up A 14 z0) L Z h0) nn kk) 20 ?_ ?_ 0 (by omega) _ (by funext j; rw [if_neg (by omega)])
  · skip
    intro z0 ez0
    subst ez0
    refine v_iload_n hX dX4_keeps_2 0 rfl ?_
    refine v_bipush hX (v := 20) dX4_keeps_3 rfl ?_
    refine v_icmp_ge hX (P := 20 ≤ 20) 29 dX4_keeps_5 (by decide) (nI_leI (a := 20) (b := 20) (by omega) (by omega)) (fun c5 => ?_) (fun c => absurd (Nat.le_refl _) c)
    exact v_vret hX dX4_keeps_29 (Nat.le_refl _) (Nat.le_refl _) (hΦ _ _ rfl (TW_eq rfl rfl rfl rfl))
  intro i hi ih z0 ez0
  subst ez0
  refine v_iload_n hX dX4_keeps_2 0 rfl ?_
  refine v_bipush hX (v := 20) dX4_keeps_3 rfl ?_
  refine v_icmp_ge hX (P := 20 ≤ i) 29 dX4_keeps_5 (by decide) (nI_leI (a := 20) (b := i) (by omega) (by omega)) (fun c => absurd c (by omega)) (fun c5 => ?_)
  refine v_aload_n hX dX4_keeps_8 1 rfl ?_
  refine t_get hX 29 (v := .ref (t + 14)) dX4_keeps_9 q1310 (by decide) rfl rfl ?_
  refine v_iload_n hX dX4_keeps_12 0 rfl ?_
  refine v_aload_n hX dX4_keeps_13 1 rfl ?_
  refine t_get hX 22 (v := .ref (t + 10)) dX4_keeps_14 q1303 (by decide) rfl rfl ?_
  refine v_bipush hX (v := 10) dX4_keeps_17 rfl ?_
  refine v_iload_n hX dX4_keeps_19 0 rfl ?_
  refine v_iadd hX (v := nI (10 + i)) dX4_keeps_20 (nI_add 10 i) ?_
  refine t_iald hX 10 (10 + i) (v := (A 10) (10 + i)) dX4_keeps_21 (by decide) rfl rfl (by omega) (by decide) rfl ?_
  refine t_iast hX 14 i dX4_keeps_22 ht (by decide) (fun _ => rfl) rfl (by omega) (by decide) ?_
  refine v_h (h' := TW G t I (va_up A 14 (upd (fun j => if j < i then A 10 (10 + j) else A 14 j) i ((A 10) (10 + i)))) L Z h0) (TW_eq rfl (funext fun z => if y14 : z = 14 then by subst y14; first | rfl else by simp [va_up, y14]) rfl rfl) ?_
  refine v_iinc hX (v := nI (i + 1)) [(1, .int (nI (i + 1))), (0, .ref t)] dX4_keeps_23 0 rfl (by decide) (nI_1 i) rfl ?_
  refine v_goto hX 2 dX4_keeps_26 (by decide) ?_
  exact ih _ (kp_step i)
set_option maxHeartbeats 4000000 in
set_option maxRecDepth 100000 in
theorem c0_X4_laysBack {l : Launch} {G : vg_G} (hG : vg_st G) {t : Nat} (ht : gBase G ≤ t) {I : Nat → Int32} {A : Nat → Nat → Int32} {L : Nat → Nat → Int64} {Z : Int64} {h0 : vg_H}    : FC l yX4_laysBack cX4_laysBack 2 none 0 0 G [.ref t] (TW G t I A L Z h0) (none) (TW G t I (va_up A 10 (lbk (A 14) (A 10))) L Z h0) := by
  refine FC_of hG (by decide) (Nat.le_of_ble_eq_true rfl) (fun X nn kk Φ hXl hX hΦ => ?_)
  subst hXl
  have hn : gBase G ≤ nn := hX.2.2.2.2.2.2.2.2.2.2.2.1
  show vg_V G X 2 (vg_Q G X 0 0 Φ) 0 [(0, .ref t)] [] (TW G t I A L Z h0) nn kk
  refine v_iconst hX (v := 0) dX4_laysBack_0 rfl ?_
  refine v_istore_n hX [(1, .int 0), (0, .ref t)] dX4_laysBack_1 (by decide) rfl ?_
  refine v_h (h' := TW G t I (va_up A 10 (A 10)) L Z h0) (TW_eq rfl (funext fun z => if y10 : z = 10 then by subst y10; first | rfl | exact hA | exact hA.symm else by simp [va_up, y10]) rfl rfl) ?_
  refine lp_up (fun i =>  ∀ z0 : Nat → Int32, z0 = (fun j => if 10 ≤ j ∧ j < 10 + i then A 14 (j - 10) else A 10 j) →vg_V G X 2 (vg_Q G X 0 0 Φ) 2 [(1, .int (nI i)), (0, .ref t)] [] (TW G t I (va_up A 10 z0) L Z h0) nn kk) 20 ?_ ?_ 0 (by omega) _ (by funext j; rw [if_neg (by omega)])
  · skip
    intro z0 ez0
    subst ez0
    refine v_iload_n hX dX4_laysBack_2 0 rfl ?_
    refine v_bipush hX (v := 20) dX4_laysBack_3 rfl ?_
    refine v_icmp_ge hX (P := 20 ≤ 20) 29 dX4_laysBack_5 (by decide) (nI_leI (a := 20) (b := 20) (by omega) (by omega)) (fun c5 => ?_) (fun c => absurd (Nat.le_refl _) c)
    exact v_vret hX dX4_laysBack_29 (Nat.le_refl _) (Nat.le_refl _) (hΦ _ _ rfl (TW_eq rfl rfl rfl rfl))
  intro i hi ih z0 ez0
  subst ez0
  refine v_iload_n hX dX4_laysBack_2 0 rfl ?_
  refine v_bipush hX (v := 20) dX4_laysBack_3 rfl ?_
  refine v_icmp_ge hX (P := 20 ≤ i) 29 dX4_laysBack_5 (by decide) (nI_leI (a := 20) (b := i) (by omega) (by omega)) (fun c => absurd c (by omega)) (fun c5 => ?_)
  refine v_aload_n hX dX4_laysBack_8 1 rfl ?_
  refine t_get hX 22 (v := .ref (t + 10)) dX4_laysBack_9 q1303 (by decide) rfl rfl ?_
  refine v_bipush hX (v := 10) dX4_laysBack_12 rfl ?_
  refine v_iload_n hX dX4_laysBack_14 0 rfl ?_
  refine v_iadd hX (v := nI (10 + i)) dX4_laysBack_15 (nI_add 10 i) ?_
  refine v_aload_n hX dX4_laysBack_16 1 rfl ?_
  refine t_get hX 29 (v := .ref (t + 14)) dX4_laysBack_17 q1310 (by decide) rfl rfl ?_
  refine v_iload_n hX dX4_laysBack_20 0 rfl ?_
  refine t_iald hX 14 i (v := (A 14) i) dX4_laysBack_21 (by decide) rfl rfl (by omega) (by decide) rfl ?_
  refine t_iast hX 10 (10 + i) dX4_laysBack_22 ht (by decide) (fun _ => rfl) rfl (by omega) (by decide) ?_
  refine v_h (h' := TW G t I (va_up A 10 (upd (fun j => if 10 ≤ j ∧ j < 10 + i then A 14 (j - 10) else A 10 j) (10 + i) ((A 14) i))) L Z h0) (TW_eq rfl (funext fun z => if y10 : z = 10 then by subst y10; first | rfl else by simp [va_up, y10]) rfl rfl) ?_
  refine v_iinc hX (v := nI (i + 1)) [(1, .int (nI (i + 1))), (0, .ref t)] dX4_laysBack_23 0 rfl (by decide) (nI_1 i) rfl ?_
  refine v_goto hX 2 dX4_laysBack_26 (by decide) ?_
  exact ih _ (lbk_step i)
