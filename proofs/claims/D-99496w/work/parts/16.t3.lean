/-! the twin: sums (printed by tools/t3.py) -/
set_option maxHeartbeats 4000000 in
set_option maxRecDepth 100000 in
theorem c_X4_bits {l : Launch} {G : vg_G} (hG : vg_st G) {h : vg_H} {b : Nat}  (hb : b < 1024) : FC l yX4_bits cX4_bits 3 (some FieldType.int) 0 0 G [.int (nI b)] (h) (some (.int (nI (pcN b)))) (h) := by
  refine FC_of hG (by decide) (Nat.le_of_ble_eq_true rfl) (fun X nn kk Φ hXl hX hΦ => ?_)
  subst hXl
  have hn : gBase G ≤ nn := hX.2.2.2.2.2.2.2.2.2.2.2.1
  show vg_V G X 3 (vg_Q G X 0 0 Φ) 0 [(0, .int (nI b))] [] (h) nn kk
  refine v_iconst hX (v := 0) dX4_bits_0 rfl ?_
  refine v_istore_n hX [(1, .int 0), (0, .int (nI b))] dX4_bits_1 (by decide) rfl ?_
  refine v_iload_n hX dX4_bits_2 1 rfl ?_
  refine v_istore_n hX [(2, .int (nI b)), (1, .int 0), (0, .int (nI b))] dX4_bits_3 (by decide) rfl ?_
  refine lp_up (fun i =>  ∀ z0 : Int32, z0 = (nI (clIt b i)) →vg_V G X 3 (vg_Q G X 0 0 Φ) 4 [(2, .int z0), (1, .int (nI i)), (0, .int (nI b))] [] (h) nn kk) (pcN b) ?_ ?_ 0 (by omega) _ rfl
  · skip
    intro z0 ez0
    subst ez0
    have hcl := cl_it hb (pcN b) (Nat.le_refl _)
    refine v_iload_n hX dX4_bits_4 0 rfl ?_
    refine v_if_eq hX (P := (clIt b (pcN b)) = 0) 20 dX4_bits_5 (by decide) (nI_eq (a := clIt b (pcN b)) (b := 0) (by omega) (by omega)) (fun c5 => ?_) (fun c => absurd (pc_0 _ hcl.1 (by omega)) c)
    refine v_iload_n hX dX4_bits_20 1 rfl ?_
    exact v_iret hX dX4_bits_21 (Nat.le_refl _) (Nat.le_refl _) (hΦ _ _ rfl rfl)
  intro i hi ih z0 ez0
  subst ez0
  have hcl := cl_it hb i (Nat.le_of_lt hi)
  refine v_iload_n hX dX4_bits_4 0 rfl ?_
  refine v_if_eq hX (P := (clIt b i) = 0) 20 dX4_bits_5 (by decide) (nI_eq (a := clIt b i) (b := 0) (by omega) (by omega)) (fun c => absurd c (fun q => by have h9 := hcl.2; rw [q] at h9; have : pcN 0 = 0 := rfl; omega)) (fun c5 => ?_)
  refine v_iinc hX (v := nI (i + 1)) [(1, .int (nI (i + 1))), (2, .int (nI (clIt b i))), (0, .int (nI b))] dX4_bits_8 1 rfl (by decide) (nI_1 i) rfl ?_
  refine v_iload_n hX dX4_bits_11 1 rfl ?_
  refine v_iload_n hX dX4_bits_12 1 rfl ?_
  refine v_iconst hX (v := 1) dX4_bits_13 rfl ?_
  refine v_isub hX (v := (nI (clIt b i)) - 1) dX4_bits_14 rfl ?_
  refine v_iand hX (v := nI (clN (clIt b i))) dX4_bits_15 (cl_and _ hcl.1) ?_
  refine v_istore_n hX [(2, .int (nI (clN (clIt b i)))), (1, .int (nI (i + 1))), (0, .int (nI b))] dX4_bits_16 (by decide) rfl ?_
  refine v_goto hX 4 dX4_bits_17 (by decide) ?_
  exact ih _ rfl
set_option maxHeartbeats 4000000 in
set_option maxRecDepth 100000 in
theorem c_X4_one {l : Launch} {G : vg_G} (hG : vg_st G) {h : vg_H} {op : Int32} {x1 : Int64} {y1 : Int64}   : FC l yX4_one cX4_one 5 (some FieldType.long) 0 0 G [.int op, .long x1, .long y1] (h) (some (.long (sOne op x1 y1))) (h) := by
  refine FC_of hG (by decide) (Nat.le_of_ble_eq_true rfl) (fun X nn kk Φ hXl hX hΦ => ?_)
  subst hXl
  have hn : gBase G ≤ nn := hX.2.2.2.2.2.2.2.2.2.2.2.1
  show vg_V G X 5 (vg_Q G X 0 0 Φ) 0 [(0, .int op), (1, .long x1), (3, .long y1)] [] (h) nn kk
  refine v_iload_n hX dX4_one_0 0 rfl ?_
  by_cases w2 : op = 2
  · skip
    refine v_tableIn hX 68 dX4_one_1 (by rw [w2]; decide) (by rw [w2]; decide) (off := 67) (by rw [w2]; rfl) (by decide) ?_
    refine v_lload_n hX dX4_one_68 1 rfl ?_
    refine v_lload_n hX dX4_one_69 2 rfl ?_
    refine v_ladd hX (v := x1 + y1) dX4_one_70 rfl ?_
    exact v_lret hX dX4_one_71 (Nat.le_refl _) (Nat.le_refl _) (hΦ _ _ (by simp [sOne, *]) rfl)
  by_cases w3 : op = 3
  · skip
    refine v_tableIn hX 72 dX4_one_1 (by rw [w3]; decide) (by rw [w3]; decide) (off := 71) (by rw [w3]; rfl) (by decide) ?_
    refine v_lload_n hX dX4_one_72 1 rfl ?_
    refine v_lload_n hX dX4_one_73 2 rfl ?_
    refine v_lsub hX (v := x1 - y1) dX4_one_74 rfl ?_
    exact v_lret hX dX4_one_75 (Nat.le_refl _) (Nat.le_refl _) (hΦ _ _ (by simp [sOne, *]) rfl)
  by_cases w4 : op = 4
  · skip
    refine v_tableIn hX 76 dX4_one_1 (by rw [w4]; decide) (by rw [w4]; decide) (off := 75) (by rw [w4]; rfl) (by decide) ?_
    refine v_lload_n hX dX4_one_76 1 rfl ?_
    refine v_lload_n hX dX4_one_77 2 rfl ?_
    refine v_lmul hX (v := x1 * y1) dX4_one_78 rfl ?_
    exact v_lret hX dX4_one_79 (Nat.le_refl _) (Nat.le_refl _) (hΦ _ _ (by simp [sOne, *]) rfl)
  by_cases w5 : op = 5
  · skip
    refine v_tableIn hX 80 dX4_one_1 (by rw [w5]; decide) (by rw [w5]; decide) (off := 79) (by rw [w5]; rfl) (by decide) ?_
    refine v_lload_n hX dX4_one_80 2 rfl ?_
    refine v_lconst hX (v := (0 : Int64)) dX4_one_81 rfl ?_
    refine v_lcmp hX (v := lg_cmp y1 (0 : Int64)) dX4_one_82 rfl ?_
    refine v_cut (P := ∀ z0 : Int64, z0 = (if y1 = (0 : Int64) then (0 : Int64) else x1 / y1) → vg_V G X 5 (vg_Q G X 0 0 Φ) 93 [(0, .int op), (1, .long x1), (3, .long y1)] [.long z0] (h) nn kk) (fun kj1 => ?_) ?_
    · skip
      refine v_if_ne hX (P := y1 = (0 : Int64)) 90 dX4_one_83 (by decide) (lg_cmp_eq _ _) (fun c83 => ?_) (fun c83 => ?_)
      · skip
        refine v_lload_n hX dX4_one_90 1 rfl ?_
        refine v_lload_n hX dX4_one_91 2 rfl ?_
        refine v_ldiv hX (v := x1 / y1) dX4_one_92 c83 rfl ?_
        exact kj1 _ (if_neg c83).symm
      refine v_lconst hX (v := (0 : Int64)) dX4_one_86 rfl ?_
      refine v_goto hX 93 dX4_one_87 (by decide) ?_
      exact kj1 _ (if_pos c83).symm
    intro z0 ez0
    subst ez0
    exact v_lret hX dX4_one_93 (Nat.le_refl _) (Nat.le_refl _) (hΦ _ _ (by simp [sOne, *]) rfl)
  by_cases w6 : op = 6
  · skip
    refine v_tableIn hX 108 dX4_one_1 (by rw [w6]; decide) (by rw [w6]; decide) (off := 107) (by rw [w6]; rfl) (by decide) ?_
    refine v_lload_n hX dX4_one_108 1 rfl ?_
    refine v_lload_n hX dX4_one_109 2 rfl ?_
    refine v_lcmp hX (v := lg_cmp x1 y1) dX4_one_110 rfl ?_
    refine v_cut (P := ∀ z0 : Int64, z0 = (if y1 ≤ x1 then (0 : Int64) else (1 : Int64)) → vg_V G X 5 (vg_Q G X 0 0 Φ) 119 [(0, .int op), (1, .long x1), (3, .long y1)] [.long z0] (h) nn kk) (fun kj2 => ?_) ?_
    · skip
      refine v_if_ge hX (P := y1 ≤ x1) 118 dX4_one_111 (by decide) (lg_cmp_ge _ _) (fun c111 => ?_) (fun c111 => ?_)
      · skip
        refine v_lconst hX (v := (0 : Int64)) dX4_one_118 rfl ?_
        exact kj2 _ (if_pos c111).symm
      refine v_lconst hX (v := (1 : Int64)) dX4_one_114 rfl ?_
      refine v_goto hX 119 dX4_one_115 (by decide) ?_
      exact kj2 _ (if_neg c111).symm
    intro z0 ez0
    subst ez0
    exact v_lret hX dX4_one_119 (Nat.le_refl _) (Nat.le_refl _) (hΦ _ _ (by simp [sOne, *]) rfl)
  by_cases w7 : op = 7
  · skip
    refine v_tableIn hX 120 dX4_one_1 (by rw [w7]; decide) (by rw [w7]; decide) (off := 119) (by rw [w7]; rfl) (by decide) ?_
    refine v_lload_n hX dX4_one_120 1 rfl ?_
    refine v_lload_n hX dX4_one_121 2 rfl ?_
    refine v_lcmp hX (v := lg_cmp x1 y1) dX4_one_122 rfl ?_
    refine v_cut (P := ∀ z0 : Int64, z0 = (if y1 < x1 then (0 : Int64) else (1 : Int64)) → vg_V G X 5 (vg_Q G X 0 0 Φ) 131 [(0, .int op), (1, .long x1), (3, .long y1)] [.long z0] (h) nn kk) (fun kj3 => ?_) ?_
    · skip
      refine v_if_gt hX (P := y1 < x1) 130 dX4_one_123 (by decide) (lg_cmp_gt _ _) (fun c123 => ?_) (fun c123 => ?_)
      · skip
        refine v_lconst hX (v := (0 : Int64)) dX4_one_130 rfl ?_
        exact kj3 _ (if_pos c123).symm
      refine v_lconst hX (v := (1 : Int64)) dX4_one_126 rfl ?_
      refine v_goto hX 131 dX4_one_127 (by decide) ?_
      exact kj3 _ (if_neg c123).symm
    intro z0 ez0
    subst ez0
    exact v_lret hX dX4_one_131 (Nat.le_refl _) (Nat.le_refl _) (hΦ _ _ (by simp [sOne, *]) rfl)
  by_cases w8 : op = 8
  · skip
    refine v_tableIn hX 132 dX4_one_1 (by rw [w8]; decide) (by rw [w8]; decide) (off := 131) (by rw [w8]; rfl) (by decide) ?_
    refine v_lload_n hX dX4_one_132 1 rfl ?_
    refine v_lload_n hX dX4_one_133 2 rfl ?_
    refine v_lcmp hX (v := lg_cmp x1 y1) dX4_one_134 rfl ?_
    refine v_cut (P := ∀ z0 : Int64, z0 = (if x1 = y1 then (1 : Int64) else (0 : Int64)) → vg_V G X 5 (vg_Q G X 0 0 Φ) 143 [(0, .int op), (1, .long x1), (3, .long y1)] [.long z0] (h) nn kk) (fun kj4 => ?_) ?_
    · skip
      refine v_if_ne hX (P := x1 = y1) 142 dX4_one_135 (by decide) (lg_cmp_eq _ _) (fun c135 => ?_) (fun c135 => ?_)
      · skip
        refine v_lconst hX (v := (0 : Int64)) dX4_one_142 rfl ?_
        exact kj4 _ (if_neg c135).symm
      refine v_lconst hX (v := (1 : Int64)) dX4_one_138 rfl ?_
      refine v_goto hX 143 dX4_one_139 (by decide) ?_
      exact kj4 _ (if_pos c135).symm
    intro z0 ez0
    subst ez0
    exact v_lret hX dX4_one_143 (Nat.le_refl _) (Nat.le_refl _) (hΦ _ _ (by simp [sOne, *]) rfl)
  by_cases w9 : op = 9
  · skip
    refine v_tableIn hX 144 dX4_one_1 (by rw [w9]; decide) (by rw [w9]; decide) (off := 143) (by rw [w9]; rfl) (by decide) ?_
    refine v_lload_n hX dX4_one_144 1 rfl ?_
    refine v_lload_n hX dX4_one_145 2 rfl ?_
    refine v_lcmp hX (v := lg_cmp x1 y1) dX4_one_146 rfl ?_
    refine v_cut (P := ∀ z0 : Int64, z0 = (if x1 < y1 then (0 : Int64) else (1 : Int64)) → vg_V G X 5 (vg_Q G X 0 0 Φ) 155 [(0, .int op), (1, .long x1), (3, .long y1)] [.long z0] (h) nn kk) (fun kj5 => ?_) ?_
    · skip
      refine v_if_lt hX (P := x1 < y1) 154 dX4_one_147 (by decide) (lg_cmp_lt _ _) (fun c147 => ?_) (fun c147 => ?_)
      · skip
        refine v_lconst hX (v := (0 : Int64)) dX4_one_154 rfl ?_
        exact kj5 _ (if_pos c147).symm
      refine v_lconst hX (v := (1 : Int64)) dX4_one_150 rfl ?_
      refine v_goto hX 155 dX4_one_151 (by decide) ?_
      exact kj5 _ (if_neg c147).symm
    intro z0 ez0
    subst ez0
    exact v_lret hX dX4_one_155 (Nat.le_refl _) (Nat.le_refl _) (hΦ _ _ (by simp [sOne, *]) rfl)
  by_cases w10 : op = 10
  · skip
    refine v_tableIn hX 156 dX4_one_1 (by rw [w10]; decide) (by rw [w10]; decide) (off := 155) (by rw [w10]; rfl) (by decide) ?_
    refine v_lload_n hX dX4_one_156 1 rfl ?_
    refine v_lload_n hX dX4_one_157 2 rfl ?_
    refine v_lcmp hX (v := lg_cmp x1 y1) dX4_one_158 rfl ?_
    refine v_cut (P := ∀ z0 : Int64, z0 = (if x1 ≤ y1 then (0 : Int64) else (1 : Int64)) → vg_V G X 5 (vg_Q G X 0 0 Φ) 167 [(0, .int op), (1, .long x1), (3, .long y1)] [.long z0] (h) nn kk) (fun kj6 => ?_) ?_
    · skip
      refine v_if_le hX (P := x1 ≤ y1) 166 dX4_one_159 (by decide) (lg_cmp_le _ _) (fun c159 => ?_) (fun c159 => ?_)
      · skip
        refine v_lconst hX (v := (0 : Int64)) dX4_one_166 rfl ?_
        exact kj6 _ (if_pos c159).symm
      refine v_lconst hX (v := (1 : Int64)) dX4_one_162 rfl ?_
      refine v_goto hX 167 dX4_one_163 (by decide) ?_
      exact kj6 _ (if_neg c159).symm
    intro z0 ez0
    subst ez0
    exact v_lret hX dX4_one_167 (Nat.le_refl _) (Nat.le_refl _) (hΦ _ _ (by simp [sOne, *]) rfl)
  by_cases w11 : op = 11
  · skip
    refine v_tableIn hX 172 dX4_one_1 (by rw [w11]; decide) (by rw [w11]; decide) (off := 171) (by rw [w11]; rfl) (by decide) ?_
    refine v_lload_n hX dX4_one_172 1 rfl ?_
    refine v_lload_n hX dX4_one_173 2 rfl ?_
    refine v_lor hX (v := x1 ||| y1) dX4_one_174 rfl ?_
    exact v_lret hX dX4_one_175 (Nat.le_refl _) (Nat.le_refl _) (hΦ _ _ (by simp [sOne, *]) rfl)
  by_cases w12 : op = 12
  · skip
    refine v_tableIn hX 168 dX4_one_1 (by rw [w12]; decide) (by rw [w12]; decide) (off := 167) (by rw [w12]; rfl) (by decide) ?_
    refine v_lload_n hX dX4_one_168 1 rfl ?_
    refine v_lload_n hX dX4_one_169 2 rfl ?_
    refine v_land hX (v := x1 &&& y1) dX4_one_170 rfl ?_
    exact v_lret hX dX4_one_171 (Nat.le_refl _) (Nat.le_refl _) (hΦ _ _ (by simp [sOne, *]) rfl)
  by_cases w13 : op = 13
  · skip
    refine v_tableIn hX 172 dX4_one_1 (by rw [w13]; decide) (by rw [w13]; decide) (off := 171) (by rw [w13]; rfl) (by decide) ?_
    refine v_lload_n hX dX4_one_172 1 rfl ?_
    refine v_lload_n hX dX4_one_173 2 rfl ?_
    refine v_lor hX (v := x1 ||| y1) dX4_one_174 rfl ?_
    exact v_lret hX dX4_one_175 (Nat.le_refl _) (Nat.le_refl _) (hΦ _ _ (by simp [sOne, *]) rfl)
  by_cases w14 : op = 14
  · skip
    refine v_tableIn hX 94 dX4_one_1 (by rw [w14]; decide) (by rw [w14]; decide) (off := 93) (by rw [w14]; rfl) (by decide) ?_
    refine v_lload_n hX dX4_one_94 2 rfl ?_
    refine v_lconst hX (v := (0 : Int64)) dX4_one_95 rfl ?_
    refine v_lcmp hX (v := lg_cmp y1 (0 : Int64)) dX4_one_96 rfl ?_
    refine v_cut (P := ∀ z0 : Int64, z0 = (if y1 = (0 : Int64) then (0 : Int64) else x1 - x1 / y1 * y1) → vg_V G X 5 (vg_Q G X 0 0 Φ) 107 [(0, .int op), (1, .long x1), (3, .long y1)] [.long z0] (h) nn kk) (fun kj7 => ?_) ?_
    · skip
      refine v_if_ne hX (P := y1 = (0 : Int64)) 104 dX4_one_97 (by decide) (lg_cmp_eq _ _) (fun c97 => ?_) (fun c97 => ?_)
      · skip
        refine v_lload_n hX dX4_one_104 1 rfl ?_
        refine v_lload_n hX dX4_one_105 2 rfl ?_
        refine v_lrem hX (v := x1 - x1 / y1 * y1) dX4_one_106 c97 rfl ?_
        exact kj7 _ (if_neg c97).symm
      refine v_lconst hX (v := (0 : Int64)) dX4_one_100 rfl ?_
      refine v_goto hX 107 dX4_one_101 (by decide) ?_
      exact kj7 _ (if_pos c97).symm
    intro z0 ez0
    subst ez0
    exact v_lret hX dX4_one_107 (Nat.le_refl _) (Nat.le_refl _) (hΦ _ _ (by simp [sOne, *]) rfl)
  refine v_tableOut hX 172 dX4_one_1 (tb_out 2 14 op [2, 3, 4, 5, 6, 7, 8, 9, 10, 11, 12, 13, 14] (by decide) ⟨w2, w3, w4, w5, w6, w7, w8, w9, w10, w11, w12, w13, w14, trivial⟩) (by decide) ?_
  refine v_lload_n hX dX4_one_172 1 rfl ?_
  refine v_lload_n hX dX4_one_173 2 rfl ?_
  refine v_lor hX (v := x1 ||| y1) dX4_one_174 rfl ?_
  exact v_lret hX dX4_one_175 (Nat.le_refl _) (Nat.le_refl _) (hΦ _ _ (by simp [sOne, *]) rfl)
set_option maxHeartbeats 4000000 in
set_option maxRecDepth 100000 in
theorem c_X4_nextNeed {l : Launch} {G : vg_G} (hG : vg_st G) {t : Nat} (ht : gBase G ≤ t) {I : Nat → Int32} {A : Nat → Nat → Int32} {L : Nat → Nat → Int64} {Z : Int64} {h0 : vg_H} {sn wl : Nat → Int32} {dy sw be hv : Int32} {sd : Nat → Int32} (hA : A 10 = pS sn wl dy sw be hv sd) {s : Nat} {d : Nat} (hi : s < 8) (hdy : dy = nI d) (hd : d < 10000) : FC l yX4_nextNeed cX4_nextNeed 3 (some FieldType.int) 1 21 G [.ref t, .int (nI s)] (TW G t I A L Z h0) (some (.int (sp_nn (fun d => sd (62 + d)) (nI s) dy (31 - d) d))) (TW G t I A L Z h0) := by
  refine FC_of hG (by decide) (Nat.le_of_ble_eq_true rfl) (fun X nn kk Φ hXl hX hΦ => ?_)
  subst hXl
  have hn : gBase G ≤ nn := hX.2.2.2.2.2.2.2.2.2.2.2.1
  show vg_V G X 3 (vg_Q G X 0 0 Φ) 0 [(0, .ref t), (1, .int (nI s))] [] (TW G t I A L Z h0) nn kk
  refine v_aload_n hX dX4_nextNeed_0 0 rfl ?_
  refine t_get hX 22 (v := .ref (t + 10)) dX4_nextNeed_1 q1303 (by decide) rfl rfl ?_
  refine v_bipush hX (v := 10) dX4_nextNeed_4 rfl ?_
  refine t_iald hX 10 10 (v := nI d) dX4_nextNeed_6 (by decide) rfl rfl (by omega) (by decide) ((congrFun hA _).trans hdy) ?_
  refine v_istore_n hX [(2, .int (nI d)), (0, .ref t), (1, .int (nI s))] dX4_nextNeed_7 (by decide) rfl ?_
  refine lp_up (fun i => sp_nn (fun d => sd (62 + d)) (nI s) dy (31 - d) d = sp_nn (fun d => sd (62 + d)) (nI s) dy (31 - d - i) (d + i) →  vg_V G X 3 (vg_Q G X 0 0 Φ) 8 [(2, .int (nI (d + i))), (0, .ref t), (1, .int (nI s))] [] (TW G t I A L Z h0) nn kk) (31 - d) ?_ ?_ 0 (by omega) rfl 
  · skip
    intro hr
    refine v_iload_n hX dX4_nextNeed_8 0 rfl ?_
    refine v_bipush hX (v := 30) dX4_nextNeed_9 rfl ?_
    refine v_icmp_gt hX (P := 30 < (d + (31 - d))) 46 dX4_nextNeed_11 (by decide) (nI_ltI (a := 30) (b := d + (31 - d)) (by omega) (by omega)) (fun c11 => ?_) (fun c => absurd (by omega) c)
    refine v_bipush hX (v := 99) dX4_nextNeed_46 rfl ?_
    exact v_iret hX dX4_nextNeed_48 (Nat.le_refl _) (Nat.le_refl _) (hΦ _ _ (by rw [hr, Nat.sub_self]; rfl) rfl)
  intro i hi ih hr
  refine v_iload_n hX dX4_nextNeed_8 0 rfl ?_
  refine v_bipush hX (v := 30) dX4_nextNeed_9 rfl ?_
  refine v_icmp_gt hX (P := 30 < (d + i)) 46 dX4_nextNeed_11 (by decide) (nI_ltI (a := 30) (b := d + i) (by omega) (by omega)) (fun c => absurd c (by omega)) (fun c11 => ?_)
  refine v_aload_n hX dX4_nextNeed_14 1 rfl ?_
  refine t_get hX 22 (v := .ref (t + 10)) dX4_nextNeed_15 q1303 (by decide) rfl rfl ?_
  refine v_bipush hX (v := 62) dX4_nextNeed_18 rfl ?_
  refine v_iload_n hX dX4_nextNeed_20 0 rfl ?_
  refine v_iadd hX (v := nI (62 + (d + i))) dX4_nextNeed_21 (nI_add 62 (d + i)) ?_
  refine t_iald hX 10 (62 + (d + i)) (v := sd (62 + (d + i))) dX4_nextNeed_22 (by decide) rfl rfl (by omega) (by decide) ((congrFun hA _).trans (pS_hi (by omega))) ?_
  refine v_iload_n hX dX4_nextNeed_23 2 rfl ?_
  refine g_callS hX (as := [.int (sd (62 + (d + i))), .int (nI s)]) (rest := []) (c_X4_isOf hG (set := (sd (62 + (d + i)))) (k := (nI s))  ) nd_X4_isOf dX4_nextNeed_24 q1611 q1612 q139 q1613 rfl (by decide) (by decide) (Nat.le_of_ble_eq_true rfl) hn (Nat.le_refl _) (Nat.le_refl _) (st' := [.int (if hs (sd (62 + (d + i))) (nI s) then 1 else 0)]) (h'' := TW G t I A L Z h0) rfl rfl ?_
  refine v_ifB_eq hX 40 dX4_nextNeed_27 (by decide) (fun c27 => ?_) (fun c27 => ?_)
  · skip
    refine v_iinc hX (v := nI (d + i + 1)) [(2, .int (nI (d + i + 1))), (0, .ref t), (1, .int (nI s))] dX4_nextNeed_40 0 rfl (by decide) (nI_1 (d + i)) rfl ?_
    refine v_goto hX 8 dX4_nextNeed_43 (by decide) ?_
    exact ih (hr.trans (sp_nn_miss (nd := fun d => sd (62 + d)) hi c27)) 
  refine v_iload_n hX dX4_nextNeed_30 0 rfl ?_
  refine v_aload_n hX dX4_nextNeed_31 1 rfl ?_
  refine t_get hX 22 (v := .ref (t + 10)) dX4_nextNeed_32 q1303 (by decide) rfl rfl ?_
  refine v_bipush hX (v := 10) dX4_nextNeed_35 rfl ?_
  refine t_iald hX 10 10 (v := dy) dX4_nextNeed_37 (by decide) rfl rfl (by omega) (by decide) ((congrFun hA _).trans rfl) ?_
  refine v_isub hX (v := (nI (d + i)) - dy) dX4_nextNeed_38 rfl ?_
  exact v_iret hX dX4_nextNeed_39 (Nat.le_refl _) (Nat.le_refl _) (hΦ _ _ (by rw [hr, sp_nn_hit (nd := fun d => sd (62 + d)) hi c27]) rfl)
set_option maxHeartbeats 4000000 in
set_option maxRecDepth 100000 in
theorem c_X4_words {l : Launch} {G : vg_G} (hG : vg_st G) {t : Nat} (ht : gBase G ≤ t) {I : Nat → Int32} {A : Nat → Nat → Int32} {L : Nat → Nat → Int64} {Z : Int64} {h0 : vg_H} {sn wl : Nat → Int32} {dy sw be hv : Int32} {sd : Nat → Int32} (hA : A 10 = pS sn wl dy sw be hv sd) {h : Nat} {s : Nat} {n d bb : Nat} (hn2 : sd 2 = nI n) (hn8 : n ≤ 8) (hh : h < 4) (hi : s < 8) (hdy : dy = nI d) (hd : d < 10000) (hbs : sd (30 + s) = nI bb) (hbb : bb < 256) : FC l yX4_words cX4_words 3 none 2 43 G [.ref t, .int (nI h), .int (nI s)] (TW G t I A L Z h0) (none) (TW G t I A (va_up L 9 (wds (L 9) (nI h).toInt64 (nI s).toInt64 (if sd (38 + 2 * h) = nI s then (1 : Int64) else (0 : Int64)) (sn s).toInt64 (sd (38 + 2 * h + 1)).toInt64 (if hs sw (nI s) then (1 : Int64) else (0 : Int64)) (if hs be (nI s) then (1 : Int64) else (0 : Int64)) (nI (pcN (clsN (sd 1) sn n))).toInt64 (if hs (if 30 < d then 0 else sd (62 + d)) (nI s) then (1 : Int64) else (0 : Int64)) (sp_nn (fun d => sd (62 + d)) (nI s) dy (31 - d) d).toInt64 (nI (pcN (bb &&& clsN (sd 1) sn n))).toInt64 dy.toInt64)) Z h0) := by
  refine FC_of hG (by decide) (Nat.le_of_ble_eq_true rfl) (fun X nn kk Φ hXl hX hΦ => ?_)
  subst hXl
  have hn : gBase G ≤ nn := hX.2.2.2.2.2.2.2.2.2.2.2.1
  show vg_V G X 3 (vg_Q G X 0 0 Φ) 0 [(0, .ref t), (1, .int (nI h)), (2, .int (nI s))] [] (TW G t I A L Z h0) nn kk
  refine v_aload_n hX dX4_words_0 0 rfl ?_
  refine t_get hX 21 (v := .ref (t + 9)) dX4_words_1 q1302 (by decide) rfl rfl ?_
  refine v_iconst hX (v := 0) dX4_words_4 rfl ?_
  refine v_iload_n hX dX4_words_5 1 rfl ?_
  refine v_i2l hX (v := (nI h).toInt64) dX4_words_6 rfl ?_
  refine t_last hX 9 0 dX4_words_7 ht (by decide) (fun _ => rfl) rfl (by omega) (by decide) ?_
  refine v_aload_n hX dX4_words_8 0 rfl ?_
  refine t_get hX 21 (v := .ref (t + 9)) dX4_words_9 q1302 (by decide) rfl rfl ?_
  refine v_iconst hX (v := 1) dX4_words_12 rfl ?_
  refine v_iload_n hX dX4_words_13 2 rfl ?_
  refine v_i2l hX (v := (nI s).toInt64) dX4_words_14 rfl ?_
  refine t_last hX 9 1 dX4_words_15 ht (by decide) (fun _ => rfl) rfl (by omega) (by decide) ?_
  refine v_h (h' := TW G t I A (va_up L 9 (vp_updL (vp_updL (L 9) 0 ((nI h).toInt64)) 1 ((nI s).toInt64))) Z h0) (TW_eq rfl rfl (funext fun z => if y9 : z = 9 then by subst y9; first | rfl else by simp [va_up, y9]) rfl) ?_
  refine v_aload_n hX dX4_words_16 0 rfl ?_
  refine t_get hX 21 (v := .ref (t + 9)) dX4_words_17 q1302 (by decide) rfl rfl ?_
  refine v_iconst hX (v := 2) dX4_words_20 rfl ?_
  refine v_aload_n hX dX4_words_21 0 rfl ?_
  refine v_iload_n hX dX4_words_22 1 rfl ?_
  refine g_callV (ci := 4) (r := (RX4, TX4, 40)) hX (as := [.int (nI h)]) (rest := [.int 2, .ref (t + 9)]) (c_X4_ownOf hG ht (h := h)  hA (by omega)) nd_X4_ownOf dX4_words_23 q1627 q1629 qs95 q139 q1630 (TW_0 _ _ _ _ _ _ _) rfl rfl rfl (by decide) (by decide) (Nat.le_of_ble_eq_true rfl) hn (Nat.le_refl _) (Nat.le_refl _) (st' := [.int (sd (38 + 2 * h)), .int 2, .ref (t + 9)]) (h'' := TW G t I A (va_up L 9 (vp_updL (vp_updL (L 9) 0 ((nI h).toInt64)) 1 ((nI s).toInt64))) Z h0) rfl rfl ?_
  refine v_iload_n hX dX4_words_26 2 rfl ?_
  refine v_cut (P := ∀ z0 : Int64, z0 = (if (sd (38 + 2 * h)) = (nI s) then (1 : Int64) else (0 : Int64)) → vg_V G X 3 (vg_Q G X 0 0 Φ) 35 [(0, .ref t), (1, .int (nI h)), (2, .int (nI s))] [.long z0, .int 2, .ref (t + 9)] (TW G t I A (va_up L 9 (vp_updL (vp_updL (L 9) 0 ((nI h).toInt64)) 1 ((nI s).toInt64))) Z h0) nn kk) (fun kj1 => ?_) ?_
  · skip
    refine v_icmp_ne hX (P := (sd (38 + 2 * h)) = (nI s)) 34 dX4_words_27 (by decide) Iff.rfl (fun c27 => ?_) (fun c27 => ?_)
    · skip
      refine v_lconst hX (v := (0 : Int64)) dX4_words_34 rfl ?_
      exact kj1 _ (if_neg c27).symm
    refine v_lconst hX (v := (1 : Int64)) dX4_words_30 rfl ?_
    refine v_goto hX 35 dX4_words_31 (by decide) ?_
    exact kj1 _ (if_pos c27).symm
  intro z0 ez0
  subst ez0
  refine t_last hX 9 2 dX4_words_35 ht (by decide) (fun _ => rfl) rfl (by omega) (by decide) ?_
  refine v_h (h' := TW G t I A (va_up L 9 (vp_updL (vp_updL (vp_updL (L 9) 0 ((nI h).toInt64)) 1 ((nI s).toInt64)) 2 (if (sd (38 + 2 * h)) = (nI s) then (1 : Int64) else (0 : Int64)))) Z h0) (TW_eq rfl rfl (funext fun z => if y9 : z = 9 then by subst y9; first | rfl else by simp [va_up, y9]) rfl) ?_
  refine v_aload_n hX dX4_words_36 0 rfl ?_
  refine t_get hX 21 (v := .ref (t + 9)) dX4_words_37 q1302 (by decide) rfl rfl ?_
  refine v_iconst hX (v := 3) dX4_words_40 rfl ?_
  refine v_aload_n hX dX4_words_41 0 rfl ?_
  refine t_get hX 22 (v := .ref (t + 10)) dX4_words_42 q1303 (by decide) rfl rfl ?_
  refine v_bipush hX (v := 14) dX4_words_45 rfl ?_
  refine v_iload_n hX dX4_words_47 2 rfl ?_
  refine v_iadd hX (v := nI (14 + s)) dX4_words_48 (nI_add 14 s) ?_
  refine t_iald hX 10 (14 + s) (v := sn s) dX4_words_49 (by decide) rfl rfl (by omega) (by decide) ((congrFun hA _).trans (pS_sn (by omega))) ?_
  refine v_i2l hX (v := (sn s).toInt64) dX4_words_50 rfl ?_
  refine t_last hX 9 3 dX4_words_51 ht (by decide) (fun _ => rfl) rfl (by omega) (by decide) ?_
  refine v_h (h' := TW G t I A (va_up L 9 (vp_updL (vp_updL (vp_updL (vp_updL (L 9) 0 ((nI h).toInt64)) 1 ((nI s).toInt64)) 2 (if (sd (38 + 2 * h)) = (nI s) then (1 : Int64) else (0 : Int64))) 3 ((sn s).toInt64))) Z h0) (TW_eq rfl rfl (funext fun z => if y9 : z = 9 then by subst y9; first | rfl else by simp [va_up, y9]) rfl) ?_
  refine v_aload_n hX dX4_words_52 0 rfl ?_
  refine t_get hX 21 (v := .ref (t + 9)) dX4_words_53 q1302 (by decide) rfl rfl ?_
  refine v_iconst hX (v := 4) dX4_words_56 rfl ?_
  refine v_aload_n hX dX4_words_57 0 rfl ?_
  refine v_iload_n hX dX4_words_58 1 rfl ?_
  refine g_callV (ci := 4) (r := (RX4, TX4, 40)) hX (as := [.int (nI h)]) (rest := [.int 4, .ref (t + 9)]) (c_X4_strengthOf hG ht (h := h)  hA (by omega)) nd_X4_strengthOf dX4_words_59 q1631 q1633 qs96 q139 q1634 (TW_0 _ _ _ _ _ _ _) rfl rfl rfl (by decide) (by decide) (Nat.le_of_ble_eq_true rfl) hn (Nat.le_refl _) (Nat.le_refl _) (st' := [.int (sd (38 + 2 * h + 1)), .int 4, .ref (t + 9)]) (h'' := TW G t I A (va_up L 9 (vp_updL (vp_updL (vp_updL (vp_updL (L 9) 0 ((nI h).toInt64)) 1 ((nI s).toInt64)) 2 (if (sd (38 + 2 * h)) = (nI s) then (1 : Int64) else (0 : Int64))) 3 ((sn s).toInt64))) Z h0) rfl rfl ?_
  refine v_i2l hX (v := (sd (38 + 2 * h + 1)).toInt64) dX4_words_62 rfl ?_
  refine t_last hX 9 4 dX4_words_63 ht (by decide) (fun _ => rfl) rfl (by omega) (by decide) ?_
  refine v_h (h' := TW G t I A (va_up L 9 (vp_updL (vp_updL (vp_updL (vp_updL (vp_updL (L 9) 0 ((nI h).toInt64)) 1 ((nI s).toInt64)) 2 (if (sd (38 + 2 * h)) = (nI s) then (1 : Int64) else (0 : Int64))) 3 ((sn s).toInt64)) 4 ((sd (38 + 2 * h + 1)).toInt64))) Z h0) (TW_eq rfl rfl (funext fun z => if y9 : z = 9 then by subst y9; first | rfl else by simp [va_up, y9]) rfl) ?_
  refine v_aload_n hX dX4_words_64 0 rfl ?_
  refine t_get hX 21 (v := .ref (t + 9)) dX4_words_65 q1302 (by decide) rfl rfl ?_
  refine v_iconst hX (v := 5) dX4_words_68 rfl ?_
  refine v_aload_n hX dX4_words_69 0 rfl ?_
  refine t_get hX 22 (v := .ref (t + 10)) dX4_words_70 q1303 (by decide) rfl rfl ?_
  refine v_bipush hX (v := 11) dX4_words_73 rfl ?_
  refine t_iald hX 10 11 (v := sw) dX4_words_75 (by decide) rfl rfl (by omega) (by decide) ((congrFun hA _).trans rfl) ?_
  refine v_iload_n hX dX4_words_76 2 rfl ?_
  refine g_callS hX (as := [.int sw, .int (nI s)]) (rest := [.int 5, .ref (t + 9)]) (c_X4_isOf hG (set := sw) (k := (nI s))  ) nd_X4_isOf dX4_words_77 q1611 q1612 q139 q1613 rfl (by decide) (by decide) (Nat.le_of_ble_eq_true rfl) hn (Nat.le_refl _) (Nat.le_refl _) (st' := [.int (if hs sw (nI s) then 1 else 0), .int 5, .ref (t + 9)]) (h'' := TW G t I A (va_up L 9 (vp_updL (vp_updL (vp_updL (vp_updL (vp_updL (L 9) 0 ((nI h).toInt64)) 1 ((nI s).toInt64)) 2 (if (sd (38 + 2 * h)) = (nI s) then (1 : Int64) else (0 : Int64))) 3 ((sn s).toInt64)) 4 ((sd (38 + 2 * h + 1)).toInt64))) Z h0) rfl rfl ?_
  refine v_cut (P := ∀ z0 : Int64, z0 = (if hs sw (nI s) then (1 : Int64) else (0 : Int64)) → vg_V G X 3 (vg_Q G X 0 0 Φ) 88 [(0, .ref t), (1, .int (nI h)), (2, .int (nI s))] [.long z0, .int 5, .ref (t + 9)] (TW G t I A (va_up L 9 (vp_updL (vp_updL (vp_updL (vp_updL (vp_updL (L 9) 0 ((nI h).toInt64)) 1 ((nI s).toInt64)) 2 (if (sd (38 + 2 * h)) = (nI s) then (1 : Int64) else (0 : Int64))) 3 ((sn s).toInt64)) 4 ((sd (38 + 2 * h + 1)).toInt64))) Z h0) nn kk) (fun kj2 => ?_) ?_
  · skip
    refine v_ifB_eq hX 87 dX4_words_80 (by decide) (fun c80 => ?_) (fun c80 => ?_)
    · skip
      refine v_lconst hX (v := (0 : Int64)) dX4_words_87 rfl ?_
      exact kj2 _ (if_neg c80).symm
    refine v_lconst hX (v := (1 : Int64)) dX4_words_83 rfl ?_
    refine v_goto hX 88 dX4_words_84 (by decide) ?_
    exact kj2 _ (if_pos c80).symm
  intro z0 ez0
  subst ez0
  refine t_last hX 9 5 dX4_words_88 ht (by decide) (fun _ => rfl) rfl (by omega) (by decide) ?_
  refine v_h (h' := TW G t I A (va_up L 9 (vp_updL (vp_updL (vp_updL (vp_updL (vp_updL (vp_updL (L 9) 0 ((nI h).toInt64)) 1 ((nI s).toInt64)) 2 (if (sd (38 + 2 * h)) = (nI s) then (1 : Int64) else (0 : Int64))) 3 ((sn s).toInt64)) 4 ((sd (38 + 2 * h + 1)).toInt64)) 5 (if hs sw (nI s) then (1 : Int64) else (0 : Int64)))) Z h0) (TW_eq rfl rfl (funext fun z => if y9 : z = 9 then by subst y9; first | rfl else by simp [va_up, y9]) rfl) ?_
  refine v_aload_n hX dX4_words_89 0 rfl ?_
  refine t_get hX 21 (v := .ref (t + 9)) dX4_words_90 q1302 (by decide) rfl rfl ?_
  refine v_bipush hX (v := 6) dX4_words_93 rfl ?_
  refine v_aload_n hX dX4_words_95 0 rfl ?_
  refine t_get hX 22 (v := .ref (t + 10)) dX4_words_96 q1303 (by decide) rfl rfl ?_
  refine v_bipush hX (v := 12) dX4_words_99 rfl ?_
  refine t_iald hX 10 12 (v := be) dX4_words_101 (by decide) rfl rfl (by omega) (by decide) ((congrFun hA _).trans rfl) ?_
  refine v_iload_n hX dX4_words_102 2 rfl ?_
  refine g_callS hX (as := [.int be, .int (nI s)]) (rest := [.int 6, .ref (t + 9)]) (c_X4_isOf hG (set := be) (k := (nI s))  ) nd_X4_isOf dX4_words_103 q1611 q1612 q139 q1613 rfl (by decide) (by decide) (Nat.le_of_ble_eq_true rfl) hn (Nat.le_refl _) (Nat.le_refl _) (st' := [.int (if hs be (nI s) then 1 else 0), .int 6, .ref (t + 9)]) (h'' := TW G t I A (va_up L 9 (vp_updL (vp_updL (vp_updL (vp_updL (vp_updL (vp_updL (L 9) 0 ((nI h).toInt64)) 1 ((nI s).toInt64)) 2 (if (sd (38 + 2 * h)) = (nI s) then (1 : Int64) else (0 : Int64))) 3 ((sn s).toInt64)) 4 ((sd (38 + 2 * h + 1)).toInt64)) 5 (if hs sw (nI s) then (1 : Int64) else (0 : Int64)))) Z h0) rfl rfl ?_
  refine v_cut (P := ∀ z0 : Int64, z0 = (if hs be (nI s) then (1 : Int64) else (0 : Int64)) → vg_V G X 3 (vg_Q G X 0 0 Φ) 114 [(0, .ref t), (1, .int (nI h)), (2, .int (nI s))] [.long z0, .int 6, .ref (t + 9)] (TW G t I A (va_up L 9 (vp_updL (vp_updL (vp_updL (vp_updL (vp_updL (vp_updL (L 9) 0 ((nI h).toInt64)) 1 ((nI s).toInt64)) 2 (if (sd (38 + 2 * h)) = (nI s) then (1 : Int64) else (0 : Int64))) 3 ((sn s).toInt64)) 4 ((sd (38 + 2 * h + 1)).toInt64)) 5 (if hs sw (nI s) then (1 : Int64) else (0 : Int64)))) Z h0) nn kk) (fun kj3 => ?_) ?_
  · skip
    refine v_ifB_eq hX 113 dX4_words_106 (by decide) (fun c106 => ?_) (fun c106 => ?_)
    · skip
      refine v_lconst hX (v := (0 : Int64)) dX4_words_113 rfl ?_
      exact kj3 _ (if_neg c106).symm
    refine v_lconst hX (v := (1 : Int64)) dX4_words_109 rfl ?_
    refine v_goto hX 114 dX4_words_110 (by decide) ?_
    exact kj3 _ (if_pos c106).symm
  intro z0 ez0
  subst ez0
  refine t_last hX 9 6 dX4_words_114 ht (by decide) (fun _ => rfl) rfl (by omega) (by decide) ?_
  refine v_h (h' := TW G t I A (va_up L 9 (vp_updL (vp_updL (vp_updL (vp_updL (vp_updL (vp_updL (vp_updL (L 9) 0 ((nI h).toInt64)) 1 ((nI s).toInt64)) 2 (if (sd (38 + 2 * h)) = (nI s) then (1 : Int64) else (0 : Int64))) 3 ((sn s).toInt64)) 4 ((sd (38 + 2 * h + 1)).toInt64)) 5 (if hs sw (nI s) then (1 : Int64) else (0 : Int64))) 6 (if hs be (nI s) then (1 : Int64) else (0 : Int64)))) Z h0) (TW_eq rfl rfl (funext fun z => if y9 : z = 9 then by subst y9; first | rfl else by simp [va_up, y9]) rfl) ?_
  refine v_aload_n hX dX4_words_115 0 rfl ?_
  refine t_get hX 21 (v := .ref (t + 9)) dX4_words_116 q1302 (by decide) rfl rfl ?_
  refine v_bipush hX (v := 7) dX4_words_119 rfl ?_
  refine v_aload_n hX dX4_words_121 0 rfl ?_
  refine g_callV (ci := 4) (r := (RX4, TX4, 40)) hX (as := []) (rest := [.int 7, .ref (t + 9)]) (c_X4_closed hG ht   hA hn2 (by omega)) nd_X4_closed dX4_words_122 q1663 q1665 qs102 q139 q1666 (TW_0 _ _ _ _ _ _ _) rfl rfl rfl (by decide) (by decide) (Nat.le_of_ble_eq_true rfl) hn (Nat.le_refl _) (Nat.le_refl _) (st' := [.int (sp_closed (sd 1) sn n), .int 7, .ref (t + 9)]) (h'' := TW G t I A (va_up L 9 (vp_updL (vp_updL (vp_updL (vp_updL (vp_updL (vp_updL (vp_updL (L 9) 0 ((nI h).toInt64)) 1 ((nI s).toInt64)) 2 (if (sd (38 + 2 * h)) = (nI s) then (1 : Int64) else (0 : Int64))) 3 ((sn s).toInt64)) 4 ((sd (38 + 2 * h + 1)).toInt64)) 5 (if hs sw (nI s) then (1 : Int64) else (0 : Int64))) 6 (if hs be (nI s) then (1 : Int64) else (0 : Int64)))) Z h0) rfl rfl ?_
  have hcl := pow8 hn8 (cls_nat (deep := sd 1) (sn := sn) hn8).2
  refine v_top (y := nI (clsN (sd 1) sn n)) (cls_nat (deep := sd 1) (sn := sn) hn8).1 ?_
  refine g_callS hX (as := [.int (nI (clsN (sd 1) sn n))]) (rest := [.int 7, .ref (t + 9)]) (c_X4_bits hG (b := (clsN (sd 1) sn n))  (by omega)) nd_X4_bits dX4_words_125 q1667 q1668 q139 q1669 rfl (by decide) (by decide) (Nat.le_of_ble_eq_true rfl) hn (Nat.le_refl _) (Nat.le_refl _) (st' := [.int (nI (pcN (clsN (sd 1) sn n))), .int 7, .ref (t + 9)]) (h'' := TW G t I A (va_up L 9 (vp_updL (vp_updL (vp_updL (vp_updL (vp_updL (vp_updL (vp_updL (L 9) 0 ((nI h).toInt64)) 1 ((nI s).toInt64)) 2 (if (sd (38 + 2 * h)) = (nI s) then (1 : Int64) else (0 : Int64))) 3 ((sn s).toInt64)) 4 ((sd (38 + 2 * h + 1)).toInt64)) 5 (if hs sw (nI s) then (1 : Int64) else (0 : Int64))) 6 (if hs be (nI s) then (1 : Int64) else (0 : Int64)))) Z h0) rfl rfl ?_
  refine v_i2l hX (v := (nI (pcN (clsN (sd 1) sn n))).toInt64) dX4_words_128 rfl ?_
  refine t_last hX 9 7 dX4_words_129 ht (by decide) (fun _ => rfl) rfl (by omega) (by decide) ?_
  refine v_h (h' := TW G t I A (va_up L 9 (vp_updL (vp_updL (vp_updL (vp_updL (vp_updL (vp_updL (vp_updL (vp_updL (L 9) 0 ((nI h).toInt64)) 1 ((nI s).toInt64)) 2 (if (sd (38 + 2 * h)) = (nI s) then (1 : Int64) else (0 : Int64))) 3 ((sn s).toInt64)) 4 ((sd (38 + 2 * h + 1)).toInt64)) 5 (if hs sw (nI s) then (1 : Int64) else (0 : Int64))) 6 (if hs be (nI s) then (1 : Int64) else (0 : Int64))) 7 ((nI (pcN (clsN (sd 1) sn n))).toInt64))) Z h0) (TW_eq rfl rfl (funext fun z => if y9 : z = 9 then by subst y9; first | rfl else by simp [va_up, y9]) rfl) ?_
  refine v_aload_n hX dX4_words_130 0 rfl ?_
  refine t_get hX 21 (v := .ref (t + 9)) dX4_words_131 q1302 (by decide) rfl rfl ?_
  refine v_bipush hX (v := 8) dX4_words_134 rfl ?_
  refine v_aload_n hX dX4_words_136 0 rfl ?_
  refine v_aload_n hX dX4_words_137 0 rfl ?_
  refine t_get hX 22 (v := .ref (t + 10)) dX4_words_138 q1303 (by decide) rfl rfl ?_
  refine v_bipush hX (v := 10) dX4_words_141 rfl ?_
  refine t_iald hX 10 10 (v := nI d) dX4_words_143 (by decide) rfl rfl (by omega) (by decide) ((congrFun hA _).trans hdy) ?_
  refine g_callV (ci := 4) (r := (RX4, TX4, 40)) hX (as := [.int (nI d)]) (rest := [.int 8, .ref (t + 9)]) (c_X4_neededOn hG ht (d := d)  hA (by omega)) nd_X4_neededOn dX4_words_144 q1614 q1616 qs93 q139 q1617 (TW_0 _ _ _ _ _ _ _) rfl rfl rfl (by decide) (by decide) (Nat.le_of_ble_eq_true rfl) hn (Nat.le_refl _) (Nat.le_refl _) (st' := [.int (if 30 < d then 0 else sd (62 + d)), .int 8, .ref (t + 9)]) (h'' := TW G t I A (va_up L 9 (vp_updL (vp_updL (vp_updL (vp_updL (vp_updL (vp_updL (vp_updL (vp_updL (L 9) 0 ((nI h).toInt64)) 1 ((nI s).toInt64)) 2 (if (sd (38 + 2 * h)) = (nI s) then (1 : Int64) else (0 : Int64))) 3 ((sn s).toInt64)) 4 ((sd (38 + 2 * h + 1)).toInt64)) 5 (if hs sw (nI s) then (1 : Int64) else (0 : Int64))) 6 (if hs be (nI s) then (1 : Int64) else (0 : Int64))) 7 ((nI (pcN (clsN (sd 1) sn n))).toInt64))) Z h0) rfl rfl ?_
  refine v_iload_n hX dX4_words_147 2 rfl ?_
  refine g_callS hX (as := [.int (if 30 < d then 0 else sd (62 + d)), .int (nI s)]) (rest := [.int 8, .ref (t + 9)]) (c_X4_isOf hG (set := (if 30 < d then 0 else sd (62 + d))) (k := (nI s))  ) nd_X4_isOf dX4_words_148 q1611 q1612 q139 q1613 rfl (by decide) (by decide) (Nat.le_of_ble_eq_true rfl) hn (Nat.le_refl _) (Nat.le_refl _) (st' := [.int (if hs (if 30 < d then 0 else sd (62 + d)) (nI s) then 1 else 0), .int 8, .ref (t + 9)]) (h'' := TW G t I A (va_up L 9 (vp_updL (vp_updL (vp_updL (vp_updL (vp_updL (vp_updL (vp_updL (vp_updL (L 9) 0 ((nI h).toInt64)) 1 ((nI s).toInt64)) 2 (if (sd (38 + 2 * h)) = (nI s) then (1 : Int64) else (0 : Int64))) 3 ((sn s).toInt64)) 4 ((sd (38 + 2 * h + 1)).toInt64)) 5 (if hs sw (nI s) then (1 : Int64) else (0 : Int64))) 6 (if hs be (nI s) then (1 : Int64) else (0 : Int64))) 7 ((nI (pcN (clsN (sd 1) sn n))).toInt64))) Z h0) rfl rfl ?_
  refine v_cut (P := ∀ z0 : Int64, z0 = (if hs (if 30 < d then 0 else sd (62 + d)) (nI s) then (1 : Int64) else (0 : Int64)) → vg_V G X 3 (vg_Q G X 0 0 Φ) 159 [(0, .ref t), (1, .int (nI h)), (2, .int (nI s))] [.long z0, .int 8, .ref (t + 9)] (TW G t I A (va_up L 9 (vp_updL (vp_updL (vp_updL (vp_updL (vp_updL (vp_updL (vp_updL (vp_updL (L 9) 0 ((nI h).toInt64)) 1 ((nI s).toInt64)) 2 (if (sd (38 + 2 * h)) = (nI s) then (1 : Int64) else (0 : Int64))) 3 ((sn s).toInt64)) 4 ((sd (38 + 2 * h + 1)).toInt64)) 5 (if hs sw (nI s) then (1 : Int64) else (0 : Int64))) 6 (if hs be (nI s) then (1 : Int64) else (0 : Int64))) 7 ((nI (pcN (clsN (sd 1) sn n))).toInt64))) Z h0) nn kk) (fun kj4 => ?_) ?_
  · skip
    refine v_ifB_eq hX 158 dX4_words_151 (by decide) (fun c151 => ?_) (fun c151 => ?_)
    · skip
      refine v_lconst hX (v := (0 : Int64)) dX4_words_158 rfl ?_
      exact kj4 _ (if_neg c151).symm
    refine v_lconst hX (v := (1 : Int64)) dX4_words_154 rfl ?_
    refine v_goto hX 159 dX4_words_155 (by decide) ?_
    exact kj4 _ (if_pos c151).symm
  intro z0 ez0
  subst ez0
  refine t_last hX 9 8 dX4_words_159 ht (by decide) (fun _ => rfl) rfl (by omega) (by decide) ?_
  refine v_h (h' := TW G t I A (va_up L 9 (vp_updL (vp_updL (vp_updL (vp_updL (vp_updL (vp_updL (vp_updL (vp_updL (vp_updL (L 9) 0 ((nI h).toInt64)) 1 ((nI s).toInt64)) 2 (if (sd (38 + 2 * h)) = (nI s) then (1 : Int64) else (0 : Int64))) 3 ((sn s).toInt64)) 4 ((sd (38 + 2 * h + 1)).toInt64)) 5 (if hs sw (nI s) then (1 : Int64) else (0 : Int64))) 6 (if hs be (nI s) then (1 : Int64) else (0 : Int64))) 7 ((nI (pcN (clsN (sd 1) sn n))).toInt64)) 8 (if hs (if 30 < d then 0 else sd (62 + d)) (nI s) then (1 : Int64) else (0 : Int64)))) Z h0) (TW_eq rfl rfl (funext fun z => if y9 : z = 9 then by subst y9; first | rfl else by simp [va_up, y9]) rfl) ?_
  refine v_aload_n hX dX4_words_160 0 rfl ?_
  refine t_get hX 21 (v := .ref (t + 9)) dX4_words_161 q1302 (by decide) rfl rfl ?_
  refine v_bipush hX (v := 9) dX4_words_164 rfl ?_
  refine v_aload_n hX dX4_words_166 0 rfl ?_
  refine v_iload_n hX dX4_words_167 2 rfl ?_
  refine g_callV (ci := 4) (r := (RX4, TX4, 40)) hX (as := [.int (nI s)]) (rest := [.int 9, .ref (t + 9)]) (c_X4_nextNeed hG ht (s := s)  hA (by omega) (by omega) (by omega)) nd_X4_nextNeed dX4_words_168 q1670 q1672 qs103 q139 q1673 (TW_0 _ _ _ _ _ _ _) rfl rfl rfl (by decide) (by decide) (Nat.le_of_ble_eq_true rfl) hn (Nat.le_refl _) (Nat.le_refl _) (st' := [.int (sp_nn (fun d => sd (62 + d)) (nI s) dy (31 - d) d), .int 9, .ref (t + 9)]) (h'' := TW G t I A (va_up L 9 (vp_updL (vp_updL (vp_updL (vp_updL (vp_updL (vp_updL (vp_updL (vp_updL (vp_updL (L 9) 0 ((nI h).toInt64)) 1 ((nI s).toInt64)) 2 (if (sd (38 + 2 * h)) = (nI s) then (1 : Int64) else (0 : Int64))) 3 ((sn s).toInt64)) 4 ((sd (38 + 2 * h + 1)).toInt64)) 5 (if hs sw (nI s) then (1 : Int64) else (0 : Int64))) 6 (if hs be (nI s) then (1 : Int64) else (0 : Int64))) 7 ((nI (pcN (clsN (sd 1) sn n))).toInt64)) 8 (if hs (if 30 < d then 0 else sd (62 + d)) (nI s) then (1 : Int64) else (0 : Int64)))) Z h0) rfl rfl ?_
  refine v_i2l hX (v := (sp_nn (fun d => sd (62 + d)) (nI s) dy (31 - d) d).toInt64) dX4_words_171 rfl ?_
  refine t_last hX 9 9 dX4_words_172 ht (by decide) (fun _ => rfl) rfl (by omega) (by decide) ?_
  refine v_h (h' := TW G t I A (va_up L 9 (vp_updL (vp_updL (vp_updL (vp_updL (vp_updL (vp_updL (vp_updL (vp_updL (vp_updL (vp_updL (L 9) 0 ((nI h).toInt64)) 1 ((nI s).toInt64)) 2 (if (sd (38 + 2 * h)) = (nI s) then (1 : Int64) else (0 : Int64))) 3 ((sn s).toInt64)) 4 ((sd (38 + 2 * h + 1)).toInt64)) 5 (if hs sw (nI s) then (1 : Int64) else (0 : Int64))) 6 (if hs be (nI s) then (1 : Int64) else (0 : Int64))) 7 ((nI (pcN (clsN (sd 1) sn n))).toInt64)) 8 (if hs (if 30 < d then 0 else sd (62 + d)) (nI s) then (1 : Int64) else (0 : Int64))) 9 ((sp_nn (fun d => sd (62 + d)) (nI s) dy (31 - d) d).toInt64))) Z h0) (TW_eq rfl rfl (funext fun z => if y9 : z = 9 then by subst y9; first | rfl else by simp [va_up, y9]) rfl) ?_
  refine v_aload_n hX dX4_words_173 0 rfl ?_
  refine t_get hX 21 (v := .ref (t + 9)) dX4_words_174 q1302 (by decide) rfl rfl ?_
  refine v_bipush hX (v := 10) dX4_words_177 rfl ?_
  refine v_aload_n hX dX4_words_179 0 rfl ?_
  refine t_get hX 22 (v := .ref (t + 10)) dX4_words_180 q1303 (by decide) rfl rfl ?_
  refine v_bipush hX (v := 30) dX4_words_183 rfl ?_
  refine v_iload_n hX dX4_words_185 2 rfl ?_
  refine v_iadd hX (v := nI (30 + s)) dX4_words_186 (nI_add 30 s) ?_
  refine t_iald hX 10 (30 + s) (v := nI bb) dX4_words_187 (by decide) rfl rfl (by omega) (by decide) ((congrFun hA _).trans ((pS_hi (by omega)).trans hbs)) ?_
  refine v_aload_n hX dX4_words_188 0 rfl ?_
  refine g_callV (ci := 4) (r := (RX4, TX4, 40)) hX (as := []) (rest := [.int (nI bb), .int 10, .ref (t + 9)]) (c_X4_closed hG ht   hA hn2 (by omega)) nd_X4_closed dX4_words_189 q1663 q1665 qs102 q139 q1666 (TW_0 _ _ _ _ _ _ _) rfl rfl rfl (by decide) (by decide) (Nat.le_of_ble_eq_true rfl) hn (Nat.le_refl _) (Nat.le_refl _) (st' := [.int (sp_closed (sd 1) sn n), .int (nI bb), .int 10, .ref (t + 9)]) (h'' := TW G t I A (va_up L 9 (vp_updL (vp_updL (vp_updL (vp_updL (vp_updL (vp_updL (vp_updL (vp_updL (vp_updL (vp_updL (L 9) 0 ((nI h).toInt64)) 1 ((nI s).toInt64)) 2 (if (sd (38 + 2 * h)) = (nI s) then (1 : Int64) else (0 : Int64))) 3 ((sn s).toInt64)) 4 ((sd (38 + 2 * h + 1)).toInt64)) 5 (if hs sw (nI s) then (1 : Int64) else (0 : Int64))) 6 (if hs be (nI s) then (1 : Int64) else (0 : Int64))) 7 ((nI (pcN (clsN (sd 1) sn n))).toInt64)) 8 (if hs (if 30 < d then 0 else sd (62 + d)) (nI s) then (1 : Int64) else (0 : Int64))) 9 ((sp_nn (fun d => sd (62 + d)) (nI s) dy (31 - d) d).toInt64))) Z h0) rfl rfl ?_
  refine v_top (y := nI (clsN (sd 1) sn n)) (cls_nat (deep := sd 1) (sn := sn) hn8).1 ?_
  refine v_iand hX (v := nI (bb &&& clsN (sd 1) sn n)) dX4_words_192 (nI_and _ _) ?_
  have hbc := and_lt8 (b := clsN (sd 1) sn n) hbb
  refine g_callS hX (as := [.int (nI (bb &&& clsN (sd 1) sn n))]) (rest := [.int 10, .ref (t + 9)]) (c_X4_bits hG (b := (bb &&& clsN (sd 1) sn n))  (by omega)) nd_X4_bits dX4_words_193 q1667 q1668 q139 q1669 rfl (by decide) (by decide) (Nat.le_of_ble_eq_true rfl) hn (Nat.le_refl _) (Nat.le_refl _) (st' := [.int (nI (pcN (bb &&& clsN (sd 1) sn n))), .int 10, .ref (t + 9)]) (h'' := TW G t I A (va_up L 9 (vp_updL (vp_updL (vp_updL (vp_updL (vp_updL (vp_updL (vp_updL (vp_updL (vp_updL (vp_updL (L 9) 0 ((nI h).toInt64)) 1 ((nI s).toInt64)) 2 (if (sd (38 + 2 * h)) = (nI s) then (1 : Int64) else (0 : Int64))) 3 ((sn s).toInt64)) 4 ((sd (38 + 2 * h + 1)).toInt64)) 5 (if hs sw (nI s) then (1 : Int64) else (0 : Int64))) 6 (if hs be (nI s) then (1 : Int64) else (0 : Int64))) 7 ((nI (pcN (clsN (sd 1) sn n))).toInt64)) 8 (if hs (if 30 < d then 0 else sd (62 + d)) (nI s) then (1 : Int64) else (0 : Int64))) 9 ((sp_nn (fun d => sd (62 + d)) (nI s) dy (31 - d) d).toInt64))) Z h0) rfl rfl ?_
  refine v_i2l hX (v := (nI (pcN (bb &&& clsN (sd 1) sn n))).toInt64) dX4_words_196 rfl ?_
  refine t_last hX 9 10 dX4_words_197 ht (by decide) (fun _ => rfl) rfl (by omega) (by decide) ?_
  refine v_h (h' := TW G t I A (va_up L 9 (vp_updL (vp_updL (vp_updL (vp_updL (vp_updL (vp_updL (vp_updL (vp_updL (vp_updL (vp_updL (vp_updL (L 9) 0 ((nI h).toInt64)) 1 ((nI s).toInt64)) 2 (if (sd (38 + 2 * h)) = (nI s) then (1 : Int64) else (0 : Int64))) 3 ((sn s).toInt64)) 4 ((sd (38 + 2 * h + 1)).toInt64)) 5 (if hs sw (nI s) then (1 : Int64) else (0 : Int64))) 6 (if hs be (nI s) then (1 : Int64) else (0 : Int64))) 7 ((nI (pcN (clsN (sd 1) sn n))).toInt64)) 8 (if hs (if 30 < d then 0 else sd (62 + d)) (nI s) then (1 : Int64) else (0 : Int64))) 9 ((sp_nn (fun d => sd (62 + d)) (nI s) dy (31 - d) d).toInt64)) 10 ((nI (pcN (bb &&& clsN (sd 1) sn n))).toInt64))) Z h0) (TW_eq rfl rfl (funext fun z => if y9 : z = 9 then by subst y9; first | rfl else by simp [va_up, y9]) rfl) ?_
  refine v_aload_n hX dX4_words_198 0 rfl ?_
  refine t_get hX 21 (v := .ref (t + 9)) dX4_words_199 q1302 (by decide) rfl rfl ?_
  refine v_bipush hX (v := 11) dX4_words_202 rfl ?_
  refine v_aload_n hX dX4_words_204 0 rfl ?_
  refine t_get hX 22 (v := .ref (t + 10)) dX4_words_205 q1303 (by decide) rfl rfl ?_
  refine v_bipush hX (v := 10) dX4_words_208 rfl ?_
  refine t_iald hX 10 10 (v := dy) dX4_words_210 (by decide) rfl rfl (by omega) (by decide) ((congrFun hA _).trans rfl) ?_
  refine v_i2l hX (v := dy.toInt64) dX4_words_211 rfl ?_
  refine t_last hX 9 11 dX4_words_212 ht (by decide) (fun _ => rfl) rfl (by omega) (by decide) ?_
  refine v_h (h' := TW G t I A (va_up L 9 (vp_updL (vp_updL (vp_updL (vp_updL (vp_updL (vp_updL (vp_updL (vp_updL (vp_updL (vp_updL (vp_updL (vp_updL (L 9) 0 ((nI h).toInt64)) 1 ((nI s).toInt64)) 2 (if (sd (38 + 2 * h)) = (nI s) then (1 : Int64) else (0 : Int64))) 3 ((sn s).toInt64)) 4 ((sd (38 + 2 * h + 1)).toInt64)) 5 (if hs sw (nI s) then (1 : Int64) else (0 : Int64))) 6 (if hs be (nI s) then (1 : Int64) else (0 : Int64))) 7 ((nI (pcN (clsN (sd 1) sn n))).toInt64)) 8 (if hs (if 30 < d then 0 else sd (62 + d)) (nI s) then (1 : Int64) else (0 : Int64))) 9 ((sp_nn (fun d => sd (62 + d)) (nI s) dy (31 - d) d).toInt64)) 10 ((nI (pcN (bb &&& clsN (sd 1) sn n))).toInt64)) 11 dy.toInt64)) Z h0) (TW_eq rfl rfl (funext fun z => if y9 : z = 9 then by subst y9; first | rfl else by simp [va_up, y9]) rfl) ?_
  exact v_vret hX dX4_words_213 (Nat.le_refl _) (Nat.le_refl _) (hΦ _ _ rfl rfl)
