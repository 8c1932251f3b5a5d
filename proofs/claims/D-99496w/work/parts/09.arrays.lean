/-! ROWS OF V: arrays, new cells, ends (printed by tools/mk_arr.py) -/
section VA
variable {G : vg_G} {X : vg_X} {cc : ByteArray} {own : String} {nL : Nat} {rt : Option FieldType} {n0 k0 rf rl mc ms : Nat} {Q : State → Prop} {pc : Nat} {l : List (Nat × Value)} {st : List Value} {h : vg_H} {n k : Nat}
theorem vg_one {D : va_G} {cl : List vw_C} {a : Nat} {e : va_E} {H : Heap} (he : va_at D cl (a, e) H) : va_P D cl [(a, e)] H := by
  intro j q hj
  have hz : j < 1 := (List.getElem?_eq_some_iff.mp hj).1
  rw [show j = 0 by omega] at hj
  cases hj
  exact he

theorem v_iald (hX : vg_ok G X cc own nL rt n0 k0 rf rl mc ms) {a N : Nat} {cA : ClassId} {f : Nat → Int32} {x : Int32} (t0 j : Nat) {v : Int32} (d : decode cc pc = .ok (.iaload, 1)) (he : h a = some (.inl (cA, N, .inl f))) (ht : (gTys G)[t0]? = some (cA, .int)) (hx : x = nI j) (hj : j < N) (hN : N < 2 ^ 31) (hv : f j = v) (kk : vg_V G X nL Q (pc + 1) l (.int v :: st) h n k) : vg_V G X nL Q pc l (.int x :: .ref a :: st) h n k := by
  subst hx
  subst hv
  intro H locs ls cells slots hR hL hl
  have e0 : (nI j).toNatClampNeg = j := nI_clamp (by omega)
  refine va_iald (ws := [(a, .inl (cA, N, .inl f))]) hX.1 hX.2.1 hX.2.2.2.2.2.2.2.1.1 (vg_one (hR.2.2.2.1 a _ he)) 0 t0 rfl ht (nI_in hj hN) d ?_
  rw [e0]
  exact kk H locs ls cells slots hR hL hl
theorem v_bald (hX : vg_ok G X cc own nL rt n0 k0 rf rl mc ms) {a N : Nat} {cA : ClassId} {f : Nat → Int32} {x : Int32} (t0 j : Nat) {v : Int32} (d : decode cc pc = .ok (.baload, 1)) (he : h a = some (.inl (cA, N, .inl f))) (ht : (gTys G)[t0]? = some (cA, .byte)) (hx : x = nI j) (hj : j < N) (hN : N < 2 ^ 31) (hv : f j = v) (kk : vg_V G X nL Q (pc + 1) l (.int v :: st) h n k) : vg_V G X nL Q pc l (.int x :: .ref a :: st) h n k := by
  subst hx
  subst hv
  intro H locs ls cells slots hR hL hl
  have e0 : (nI j).toNatClampNeg = j := nI_clamp (by omega)
  refine va_bald (ws := [(a, .inl (cA, N, .inl f))]) hX.1 hX.2.1 hX.2.2.2.2.2.2.2.1.1 (vg_one (hR.2.2.2.1 a _ he)) 0 t0 rfl ht (nI_in hj hN) d ?_
  rw [e0]
  exact kk H locs ls cells slots hR hL hl
theorem v_zald (hX : vg_ok G X cc own nL rt n0 k0 rf rl mc ms) {a N : Nat} {cA : ClassId} {f : Nat → Int32} {x : Int32} (t0 j : Nat) {v : Int32} (d : decode cc pc = .ok (.baload, 1)) (he : h a = some (.inl (cA, N, .inl f))) (ht : (gTys G)[t0]? = some (cA, .boolean)) (hx : x = nI j) (hj : j < N) (hN : N < 2 ^ 31) (hv : f j = v) (kk : vg_V G X nL Q (pc + 1) l (.int v :: st) h n k) : vg_V G X nL Q pc l (.int x :: .ref a :: st) h n k := by
  subst hx
  subst hv
  intro H locs ls cells slots hR hL hl
  have e0 : (nI j).toNatClampNeg = j := nI_clamp (by omega)
  refine va_zald (ws := [(a, .inl (cA, N, .inl f))]) hX.1 hX.2.1 hX.2.2.2.2.2.2.2.1.1 (vg_one (hR.2.2.2.1 a _ he)) 0 t0 rfl ht (nI_in hj hN) d ?_
  rw [e0]
  exact kk H locs ls cells slots hR hL hl
theorem v_lald (hX : vg_ok G X cc own nL rt n0 k0 rf rl mc ms) {a N : Nat} {cA : ClassId} {f : Nat → Int64} {x : Int32} (t0 j : Nat) {v : Int64} (d : decode cc pc = .ok (.laload, 1)) (he : h a = some (.inl (cA, N, .inr (.inl f)))) (ht : (gTys G)[t0]? = some (cA, .long)) (hx : x = nI j) (hj : j < N) (hN : N < 2 ^ 31) (hv : f j = v) (kk : vg_V G X nL Q (pc + 1) l (.long v :: st) h n k) : vg_V G X nL Q pc l (.int x :: .ref a :: st) h n k := by
  subst hx
  subst hv
  intro H locs ls cells slots hR hL hl
  have e0 : (nI j).toNatClampNeg = j := nI_clamp (by omega)
  refine va_lald (ws := [(a, .inl (cA, N, .inr (.inl f)))]) hX.1 hX.2.1 hX.2.2.2.2.2.2.2.1.1 (vg_one (hR.2.2.2.1 a _ he)) 0 t0 rfl ht (nI_in hj hN) d ?_
  rw [e0]
  exact kk H locs ls cells slots hR hL hl
theorem v_alen (hX : vg_ok G X cc own nL rt n0 k0 rf rl mc ms) {a : Nat} {cA : ClassId} {x : vp_A} {ty : FieldType} (t0 : Nat) {v : Int32} (d : decode cc pc = .ok (.arraylength, 1)) (he : h a = some (.inl (cA, x))) (ht : (gTys G)[t0]? = some (cA, ty)) (hv : Int32.ofNat x.1 = v) (kk : vg_V G X nL Q (pc + 1) l (.int v :: st) h n k) : vg_V G X nL Q pc l (.ref a :: st) h n k :=
  fun H locs ls cells slots hR hL hl => va_alen (ws := [(a, .inl (cA, x))]) hX.1 hX.2.1 hX.2.2.2.2.2.2.2.1.1 (vg_one (hR.2.2.2.1 a _ he)) 0 t0 rfl ht hv d (kk H locs ls cells slots hR hL hl)
theorem v_aaldq (hX : vg_ok G X cc own nL rt n0 k0 rf rl mc ms) {a N : Nat} {cA : ClassId} {C : String} {f : Nat → Option Nat} {x : Int32} (t0 j : Nat) {v : Value} (d : decode cc pc = .ok (.aaload, 1)) (he : h a = some (.inl (cA, N, .inr (.inr (.inr (.inr f)))))) (ht : (gTys G)[t0]? = some (cA, .object C)) (hx : x = nI j) (hj : j < N) (hN : N < 2 ^ 31) (hv : va_rf (f j) = v) (kk : vg_V G X nL Q (pc + 1) l (v :: st) h n k) : vg_V G X nL Q pc l (.int x :: .ref a :: st) h n k := by
  subst hx
  subst hv
  intro H locs ls cells slots hR hL hl
  have e0 : (nI j).toNatClampNeg = j := nI_clamp (by omega)
  refine va_aldq (ws := [(a, .inl (cA, N, .inr (.inr (.inr (.inr f)))))]) hX.1 hX.2.1 hX.2.2.2.2.2.2.2.1.1 (vg_one (hR.2.2.2.1 a _ he)) 0 t0 rfl ht (nI_in hj hN) d ?_
  rw [e0]
  exact kk H locs ls cells slots hR hL hl
theorem v_iast (hX : vg_ok G X cc own nL rt n0 k0 rf rl mc ms) {a N : Nat} {cA : ClassId} {f : Nat → Int32} {i : Int32} {x : Int32} (t0 j : Nat) (d : decode cc pc = .ok (.iastore, 1)) (ha : gBase G ≤ a) (he : h a = some (.inl (cA, N, .inl f))) (ht : (gTys G)[t0]? = some (cA, .int)) (hx : i = nI j) (hj : j < N) (hN : N < 2 ^ 31) (kk : vg_V G X nL Q (pc + 1) l st (hup h a (.inl (cA, N, .inl (upd f j x)))) n k) : vg_V G X nL Q pc l (.int x :: .int i :: .ref a :: st) h n k := by
  subst hx
  intro H locs ls cells slots hR hL hl
  have e0 : (nI j).toNatClampNeg = j := nI_clamp (by omega)
  have hcell := hR.2.2.2.1 a _ he
  have hKt := (hX.2.2.2.2.2.2.2.1.1.2 t0 _ ht).1
  refine W.iast hX.1 hX.2.1 (a := a) (cell := vp_cell cA (N, .inl f)) hcell (hKt N _) (fun q => by cases q) (by show ¬ (nI j < 0 ∨ (arrV _ _ _).slots.size ≤ _); rw [arrV_size]; exact nI_in hj hN) rfl rfl d fun H1 e1 z oq => ?_
  rw [e0] at e1 ⊢
  have e2 : H1[a]? = some (vp_cell cA (N, .inl (upd f j x))) := by
    rw [e1]
    rw [vp_cell_i, vp_cell_i, arrV_store]
    congr 2
    funext q
    by_cases hq : q = j
    · subst hq
      simp [updV, upd, vp_updL]
    · simp [updV, upd, vp_updL, hq]
  refine kk H1 _ ls cells slots (hR.set ha z oq (fun c c' w1 w2 => ?_) e2) (fun q hq => ?_) hl
  · have g1 : c = vp_cell cA (N, .inl f) := Option.some.inj (w1.symm.trans hcell)
    have g2 : c' = vp_cell cA (N, .inl (upd f j x)) := Option.some.inj (w2.symm.trans e2)
    rw [g1, g2, vp_cell_i, vp_cell_i, arrV_size, arrV_size]
  · rcases List.mem_append.mp hq with w | w
    · exact hL q w
    · rw [List.mem_singleton.mp w]; exact ha
theorem v_bast (hX : vg_ok G X cc own nL rt n0 k0 rf rl mc ms) {a N : Nat} {cA : ClassId} {f : Nat → Int32} {i : Int32} {x : Int32} (t0 j : Nat) {y : Int32} (hy : narrow .byte (.int x) = .int y) (d : decode cc pc = .ok (.bastore, 1)) (ha : gBase G ≤ a) (he : h a = some (.inl (cA, N, .inl f))) (ht : (gTys G)[t0]? = some (cA, .byte)) (hx : i = nI j) (hj : j < N) (hN : N < 2 ^ 31) (kk : vg_V G X nL Q (pc + 1) l st (hup h a (.inl (cA, N, .inl (upd f j y)))) n k) : vg_V G X nL Q pc l (.int x :: .int i :: .ref a :: st) h n k := by
  subst hx
  intro H locs ls cells slots hR hL hl
  have e0 : (nI j).toNatClampNeg = j := nI_clamp (by omega)
  have hcell := hR.2.2.2.1 a _ he
  have hKt := (hX.2.2.2.2.2.2.2.1.1.2 t0 _ ht).1
  refine W.bast hX.1 hX.2.1 (a := a) (cell := vp_cell cA (N, .inl f)) hcell (hKt N _) (fun q => by cases q) (by show ¬ (nI j < 0 ∨ (arrV _ _ _).slots.size ≤ _); rw [arrV_size]; exact nI_in hj hN) rfl rfl d fun H1 e1 z oq => ?_
  rw [e0] at e1 ⊢
  have e2 : H1[a]? = some (vp_cell cA (N, .inl (upd f j y))) := by
    rw [e1]
    rw [vp_cell_i, vp_cell_i, arrV_store]
    congr 2
    funext q
    by_cases hq : q = j
    · subst hq
      simp [updV, upd, vp_updL, hy]
    · simp [updV, upd, vp_updL, hq]
  refine kk H1 _ ls cells slots (hR.set ha z oq (fun c c' w1 w2 => ?_) e2) (fun q hq => ?_) hl
  · have g1 : c = vp_cell cA (N, .inl f) := Option.some.inj (w1.symm.trans hcell)
    have g2 : c' = vp_cell cA (N, .inl (upd f j y)) := Option.some.inj (w2.symm.trans e2)
    rw [g1, g2, vp_cell_i, vp_cell_i, arrV_size, arrV_size]
  · rcases List.mem_append.mp hq with w | w
    · exact hL q w
    · rw [List.mem_singleton.mp w]; exact ha
theorem v_zast (hX : vg_ok G X cc own nL rt n0 k0 rf rl mc ms) {a N : Nat} {cA : ClassId} {f : Nat → Int32} {i : Int32} {x : Int32} (t0 j : Nat) {y : Int32} (hy : narrow .boolean (.int x) = .int y) (d : decode cc pc = .ok (.bastore, 1)) (ha : gBase G ≤ a) (he : h a = some (.inl (cA, N, .inl f))) (ht : (gTys G)[t0]? = some (cA, .boolean)) (hx : i = nI j) (hj : j < N) (hN : N < 2 ^ 31) (kk : vg_V G X nL Q (pc + 1) l st (hup h a (.inl (cA, N, .inl (upd f j y)))) n k) : vg_V G X nL Q pc l (.int x :: .int i :: .ref a :: st) h n k := by
  subst hx
  intro H locs ls cells slots hR hL hl
  have e0 : (nI j).toNatClampNeg = j := nI_clamp (by omega)
  have hcell := hR.2.2.2.1 a _ he
  have hKt := (hX.2.2.2.2.2.2.2.1.1.2 t0 _ ht).1
  refine W.zast hX.1 hX.2.1 (a := a) (cell := vp_cell cA (N, .inl f)) hcell (hKt N _) (fun q => by cases q) (by show ¬ (nI j < 0 ∨ (arrV _ _ _).slots.size ≤ _); rw [arrV_size]; exact nI_in hj hN) rfl rfl d fun H1 e1 z oq => ?_
  rw [e0] at e1 ⊢
  have e2 : H1[a]? = some (vp_cell cA (N, .inl (upd f j y))) := by
    rw [e1]
    rw [vp_cell_i, vp_cell_i, arrV_store]
    congr 2
    funext q
    by_cases hq : q = j
    · subst hq
      simp [updV, upd, vp_updL, hy]
    · simp [updV, upd, vp_updL, hq]
  refine kk H1 _ ls cells slots (hR.set ha z oq (fun c c' w1 w2 => ?_) e2) (fun q hq => ?_) hl
  · have g1 : c = vp_cell cA (N, .inl f) := Option.some.inj (w1.symm.trans hcell)
    have g2 : c' = vp_cell cA (N, .inl (upd f j y)) := Option.some.inj (w2.symm.trans e2)
    rw [g1, g2, vp_cell_i, vp_cell_i, arrV_size, arrV_size]
  · rcases List.mem_append.mp hq with w | w
    · exact hL q w
    · rw [List.mem_singleton.mp w]; exact ha
theorem v_last (hX : vg_ok G X cc own nL rt n0 k0 rf rl mc ms) {a N : Nat} {cA : ClassId} {f : Nat → Int64} {i : Int32} {x : Int64} (t0 j : Nat) (d : decode cc pc = .ok (.lastore, 1)) (ha : gBase G ≤ a) (he : h a = some (.inl (cA, N, .inr (.inl f)))) (ht : (gTys G)[t0]? = some (cA, .long)) (hx : i = nI j) (hj : j < N) (hN : N < 2 ^ 31) (kk : vg_V G X nL Q (pc + 1) l st (hup h a (.inl (cA, N, .inr (.inl (vp_updL f j x))))) n k) : vg_V G X nL Q pc l (.long x :: .int i :: .ref a :: st) h n k := by
  subst hx
  intro H locs ls cells slots hR hL hl
  have e0 : (nI j).toNatClampNeg = j := nI_clamp (by omega)
  have hcell := hR.2.2.2.1 a _ he
  have hKt := (hX.2.2.2.2.2.2.2.1.1.2 t0 _ ht).1
  refine W.last hX.1 hX.2.1 (a := a) (cell := vp_cell cA (N, .inr (.inl f))) hcell (hKt N _) (fun q => by cases q) (by show ¬ (nI j < 0 ∨ (arrV _ _ _).slots.size ≤ _); rw [arrV_size]; exact nI_in hj hN) rfl rfl d fun H1 e1 z oq => ?_
  rw [e0] at e1 ⊢
  have e2 : H1[a]? = some (vp_cell cA (N, .inr (.inl (vp_updL f j x)))) := by
    rw [e1]
    rw [vp_cell_l, vp_cell_l, arrV_store]
    congr 2
    funext q
    by_cases hq : q = j
    · subst hq
      simp [updV, upd, vp_updL]
    · simp [updV, upd, vp_updL, hq]
  refine kk H1 _ ls cells slots (hR.set ha z oq (fun c c' w1 w2 => ?_) e2) (fun q hq => ?_) hl
  · have g1 : c = vp_cell cA (N, .inr (.inl f)) := Option.some.inj (w1.symm.trans hcell)
    have g2 : c' = vp_cell cA (N, .inr (.inl (vp_updL f j x))) := Option.some.inj (w2.symm.trans e2)
    rw [g1, g2, vp_cell_l, vp_cell_l, arrV_size, arrV_size]
  · rcases List.mem_append.mp hq with w | w
    · exact hL q w
    · rw [List.mem_singleton.mp w]; exact ha
theorem v_aastq (hX : vg_ok G X cc own nL rt n0 k0 rf rl mc ms) {a N b ci : Nat} {cA : ClassId} {r : vw_C} {vs : List Value} {f : Nat → Option Nat} {i : Int32} (t0 j : Nat) (d : decode cc pc = .ok (.aastore, 1)) (ha : gBase G ≤ a) (he : h a = some (.inl (cA, N, .inr (.inr (.inr (.inr f)))))) (ht : (gTys G)[t0]? = some (cA, .object r.1)) (hb : h b = some (.inr (ci, vs))) (hc : vg_cl[ci]? = some r) (hx : i = nI j) (hj : j < N) (hN : N < 2 ^ 31) (kk : vg_V G X nL Q (pc + 1) l st (hup h a (.inl (cA, N, .inr (.inr (.inr (.inr (va_up f j (some b)))))))) n k) : vg_V G X nL Q pc l (.ref b :: .int i :: .ref a :: st) h n k := by
  subst hx
  intro H locs ls cells slots hR hL hl
  have e0 : (nI j).toNatClampNeg = j := nI_clamp (by omega)
  have hcell := hR.2.2.2.1 a _ he
  obtain ⟨r', hr', cellV, g1, g2, g3, -⟩ := hR.2.2.2.1 b _ hb
  have hcls := (hX.2.2.2.2.2.2.2.1.1.1 ci r hc).2
  obtain ⟨kA, comp, k1, k2, k3, -⟩ := (hX.2.2.2.2.2.2.2.1.1.2 t0 _ ht).2
  have hcomp : comp = (gD G).1 ci := Option.some.inj (k3.symm.trans hcls.1)
  subst hcomp
  obtain ⟨kC, hkC, -⟩ := hcls.2
  refine W.aast hX.1 hX.2.1 (a := a) (cell := vp_cell cA (N, .inr (.inr (.inr (.inr f))))) hcell (fun q h => by cases h) (fun h => by cases h) k1 k2 rfl hkC ⟨nI_pos (by omega), by show _ < (arrV _ _ _).slots.size; rw [arrV_size, e0]; exact hj⟩ g1 (fun q h => by rw [g3] at h; cases h) (by rw [g2]; exact hkC) (by rw [g2]; exact va_assign hcls) rfl rfl d fun H1 e1 z oq => ?_
  rw [e0] at e1 ⊢
  have e2 : H1[a]? = some (vp_cell cA (N, .inr (.inr (.inr (.inr (va_up f j (some b))))))) := by
    rw [e1]
    rw [vp_cell_q, vp_cell_q, arrV_store]
    congr 2
    funext q
    by_cases hq : q = j
    · subst hq
      simp [updV, va_up, va_rf]
    · simp [updV, va_up, hq]
  refine kk H1 _ ls cells slots (hR.set ha z oq (fun c c' w1 w2 => ?_) e2) (fun q hq => ?_) hl
  · have g1 : c = vp_cell cA (N, .inr (.inr (.inr (.inr f)))) := Option.some.inj (w1.symm.trans hcell)
    have g2 : c' = vp_cell cA (N, .inr (.inr (.inr (.inr (va_up f j (some b)))))) := Option.some.inj (w2.symm.trans e2)
    rw [g1, g2, vp_cell_q, vp_cell_q, arrV_size, arrV_size]
  · rcases List.mem_append.mp hq with w | w
    · exact hL q w
    · rw [List.mem_singleton.mp w]; exact ha
/-- a new object, at the address n -/
theorem v_new (hX : vg_ok G X cc own nL rt n0 k0 rf rl mc ms) {C : String} {T : u_T} {N ci idx : Nat} (hin : ∀ w ∈ u_ws C T N, w ∈ lw_all) (ty : Nat → FieldType) (hty : ∀ k, k < N → parseFieldDescriptor (T k).2.2.1 = some (ty k)) (fs : List Value) (d : decode cc pc = .ok (.new idx, 3)) (hq1 : Cond.classLink own idx C ∈ lw_all) (hq2 : Cond.instantiable C N ∈ lw_all) (hq3 : Cond.initialized C ∈ lw_all) (hc : vg_cl[ci]? = some (C, T, N)) (hfs : ∀ j, j < N → defaultValue (ty j) = vp_V fs j) (hm : n + 1 ≤ n0 + mc) (hs : k + N ≤ k0 + ms)
    (kk : vg_V G X nL Q (pc + 3) l (.ref n :: st) (hup h n (.inr (ci, fs))) (n + 1) (k + N)) : vg_V G X nL Q pc l st h n k := by
  intro H locs ls cells slots hR hL hl
  obtain ⟨hx, hb, hml, hown, hts, -, -, ⟨hK, -, -⟩, -, hn0, hk0, hbn, hRm⟩ := hX
  refine vg_W_tight (b := gBase G) (by rw [hn0]; exact hbn) (fun h1 h2 => ?_)
  have hKn := hK.1 ci _ hc
  refine W.newcK hx hb hown (hts _ hq1) (hts _ hq2) (hts _ hq3) rfl d (by rw [hRm]; show H.size - _ + 1 ≤ mc; rw [hR.1, hn0]; rw [hR.1, hn0] at h1; omega) (by rw [hRm]; show _ + N ≤ ms; rw [hR.2.1, hk0]; rw [hR.2.1, hk0] at h2; omega) hKn.2.1 hR.1 fun H1 kC hkC e1 z1 o1 => ?_
  have hat : va_at (gD G) vg_cl (n, .inr (ci, fs)) H1 := ⟨_, hc, (u_born ty hts hin hKn hkC e1 hty).to hfs⟩
  have hNs : kC.instanceTypes.size = N := by
    obtain ⟨c9, k9, f1, f2, -, -, -, f4⟩ := Cond.instantiable_spec (hts _ hq2)
    have : c9 = (gD G).1 ci := Option.some.inj (f1.symm.trans hKn.2.1)
    subst this
    cases f2.symm.trans hkC
    exact f4
  have hR' := hR.new z1 o1 e1 hat
  have e3 : (blank ((gD G).1 ci) kC).slots.size = N := by simp [blank, hNs]
  rw [e3] at hR'
  exact kk H1 locs ls _ _ hR' hL hl
theorem v_newI (hX : vg_ok G X cc own nL rt n0 k0 rf rl mc ms) {x : Int32} (N t0 : Nat) {cA : ClassId} (d : decode cc pc = .ok (.newarray .int, 2)) (hq : Cond.arrayClass .int ∈ lw_all) (ht : (gTys G)[t0]? = some (cA, .int)) (hx : x = nI N) (hN : N ≤ 65536) (hm : n + 1 ≤ n0 + mc) (hs : k + N ≤ k0 + ms)
    (kk : vg_V G X nL Q (pc + 2) l (.ref n :: st) (hup h n (.inl (cA, N, .inl (fun _ => 0)))) (n + 1) (k + N)) : vg_V G X nL Q pc l (.int x :: st) h n k := by
  subst hx
  intro H locs ls cells slots hR hL hl
  obtain ⟨hx, hb, hml, hown, hts, -, -, ⟨hK, -, -⟩, -, hn0, hk0, hbn, hRm⟩ := hX
  refine vg_W_tight (b := gBase G) (by rw [hn0]; exact hbn) (fun h1 h2 => ?_)
  refine va_newaK (atype := .int) hx hb (hts _ hq) (g := F0 (xM X) pc ls (.int (nI N) :: st)) rfl d rfl (nI_pos (by omega)) (N := N) (nI_clamp (by omega)) (show N * _ ≤ _ from Nat.le_trans (Nat.mul_le_mul hN (Nat.le_refl _)) (by decide)) (by rw [hRm]; show H.size - _ + 1 ≤ mc; rw [hR.1, hn0]; rw [hR.1, hn0] at h1; omega) (by rw [hRm]; show _ + N ≤ ms; rw [hR.2.1, hk0]; rw [hR.2.1, hk0] at h2; omega) hR.1 fun H1 cB e1 z1 o1 hAr hNm => ?_
  have hcB : cB = cA := by
    have h9 := (hK.2 t0 _ ht).2
    exact Option.some.inj (hNm.symm.trans h9)
  subst hcB
  have hR' := hR.new (e := .inl (cB, N, .inl (fun _ => 0))) z1 o1 e1 e1
  rw [arrV_size] at hR'
  exact kk H1 locs ls _ _ hR' hL hl
theorem v_newB (hX : vg_ok G X cc own nL rt n0 k0 rf rl mc ms) {x : Int32} (N t0 : Nat) {cA : ClassId} (d : decode cc pc = .ok (.newarray .byte, 2)) (hq : Cond.arrayClass .byte ∈ lw_all) (ht : (gTys G)[t0]? = some (cA, .byte)) (hx : x = nI N) (hN : N ≤ 65536) (hm : n + 1 ≤ n0 + mc) (hs : k + N ≤ k0 + ms)
    (kk : vg_V G X nL Q (pc + 2) l (.ref n :: st) (hup h n (.inl (cA, N, .inl (fun _ => 0)))) (n + 1) (k + N)) : vg_V G X nL Q pc l (.int x :: st) h n k := by
  subst hx
  intro H locs ls cells slots hR hL hl
  obtain ⟨hx, hb, hml, hown, hts, -, -, ⟨hK, -, -⟩, -, hn0, hk0, hbn, hRm⟩ := hX
  refine vg_W_tight (b := gBase G) (by rw [hn0]; exact hbn) (fun h1 h2 => ?_)
  refine va_newaK (atype := .byte) hx hb (hts _ hq) (g := F0 (xM X) pc ls (.int (nI N) :: st)) rfl d rfl (nI_pos (by omega)) (N := N) (nI_clamp (by omega)) (show N * _ ≤ _ from Nat.le_trans (Nat.mul_le_mul hN (Nat.le_refl _)) (by decide)) (by rw [hRm]; show H.size - _ + 1 ≤ mc; rw [hR.1, hn0]; rw [hR.1, hn0] at h1; omega) (by rw [hRm]; show _ + N ≤ ms; rw [hR.2.1, hk0]; rw [hR.2.1, hk0] at h2; omega) hR.1 fun H1 cB e1 z1 o1 hAr hNm => ?_
  have hcB : cB = cA := by
    have h9 := (hK.2 t0 _ ht).2
    exact Option.some.inj (hNm.symm.trans h9)
  subst hcB
  have hR' := hR.new (e := .inl (cB, N, .inl (fun _ => 0))) z1 o1 e1 e1
  rw [arrV_size] at hR'
  exact kk H1 locs ls _ _ hR' hL hl
theorem v_newZ (hX : vg_ok G X cc own nL rt n0 k0 rf rl mc ms) {x : Int32} (N t0 : Nat) {cA : ClassId} (d : decode cc pc = .ok (.newarray .boolean, 2)) (hq : Cond.arrayClass .boolean ∈ lw_all) (ht : (gTys G)[t0]? = some (cA, .boolean)) (hx : x = nI N) (hN : N ≤ 65536) (hm : n + 1 ≤ n0 + mc) (hs : k + N ≤ k0 + ms)
    (kk : vg_V G X nL Q (pc + 2) l (.ref n :: st) (hup h n (.inl (cA, N, .inl (fun _ => 0)))) (n + 1) (k + N)) : vg_V G X nL Q pc l (.int x :: st) h n k := by
  subst hx
  intro H locs ls cells slots hR hL hl
  obtain ⟨hx, hb, hml, hown, hts, -, -, ⟨hK, -, -⟩, -, hn0, hk0, hbn, hRm⟩ := hX
  refine vg_W_tight (b := gBase G) (by rw [hn0]; exact hbn) (fun h1 h2 => ?_)
  refine va_newaK (atype := .boolean) hx hb (hts _ hq) (g := F0 (xM X) pc ls (.int (nI N) :: st)) rfl d rfl (nI_pos (by omega)) (N := N) (nI_clamp (by omega)) (show N * _ ≤ _ from Nat.le_trans (Nat.mul_le_mul hN (Nat.le_refl _)) (by decide)) (by rw [hRm]; show H.size - _ + 1 ≤ mc; rw [hR.1, hn0]; rw [hR.1, hn0] at h1; omega) (by rw [hRm]; show _ + N ≤ ms; rw [hR.2.1, hk0]; rw [hR.2.1, hk0] at h2; omega) hR.1 fun H1 cB e1 z1 o1 hAr hNm => ?_
  have hcB : cB = cA := by
    have h9 := (hK.2 t0 _ ht).2
    exact Option.some.inj (hNm.symm.trans h9)
  subst hcB
  have hR' := hR.new (e := .inl (cB, N, .inl (fun _ => 0))) z1 o1 e1 e1
  rw [arrV_size] at hR'
  exact kk H1 locs ls _ _ hR' hL hl
theorem v_newL (hX : vg_ok G X cc own nL rt n0 k0 rf rl mc ms) {x : Int32} (N t0 : Nat) {cA : ClassId} (d : decode cc pc = .ok (.newarray .long, 2)) (hq : Cond.arrayClass .long ∈ lw_all) (ht : (gTys G)[t0]? = some (cA, .long)) (hx : x = nI N) (hN : N ≤ 65536) (hm : n + 1 ≤ n0 + mc) (hs : k + N ≤ k0 + ms)
    (kk : vg_V G X nL Q (pc + 2) l (.ref n :: st) (hup h n (.inl (cA, N, .inr (.inl (fun _ => 0))))) (n + 1) (k + N)) : vg_V G X nL Q pc l (.int x :: st) h n k := by
  subst hx
  intro H locs ls cells slots hR hL hl
  obtain ⟨hx, hb, hml, hown, hts, -, -, ⟨hK, -, -⟩, -, hn0, hk0, hbn, hRm⟩ := hX
  refine vg_W_tight (b := gBase G) (by rw [hn0]; exact hbn) (fun h1 h2 => ?_)
  refine va_newaK (atype := .long) hx hb (hts _ hq) (g := F0 (xM X) pc ls (.int (nI N) :: st)) rfl d rfl (nI_pos (by omega)) (N := N) (nI_clamp (by omega)) (show N * _ ≤ _ from Nat.le_trans (Nat.mul_le_mul hN (Nat.le_refl _)) (by decide)) (by rw [hRm]; show H.size - _ + 1 ≤ mc; rw [hR.1, hn0]; rw [hR.1, hn0] at h1; omega) (by rw [hRm]; show _ + N ≤ ms; rw [hR.2.1, hk0]; rw [hR.2.1, hk0] at h2; omega) hR.1 fun H1 cB e1 z1 o1 hAr hNm => ?_
  have hcB : cB = cA := by
    have h9 := (hK.2 t0 _ ht).2
    exact Option.some.inj (hNm.symm.trans h9)
  subst hcB
  have hR' := hR.new (e := .inl (cB, N, .inr (.inl (fun _ => 0)))) z1 o1 e1 e1
  rw [arrV_size] at hR'
  exact kk H1 locs ls _ _ hR' hL hl
theorem v_newq (hX : vg_ok G X cc own nL rt n0 k0 rf rl mc ms) {C : String} {x : Int32} (N t0 : Nat) {idx : Nat} {cA : ClassId} (d : decode cc pc = .ok (.anewarray idx, 3)) (hq1 : Cond.classLink own idx C ∈ lw_all) (hq : Cond.arrayOver (.object C) ∈ lw_tbl) (ht : (gTys G)[t0]? = some (cA, .object C)) (hx : x = nI N) (hN : N ≤ 65536) (hm : n + 1 ≤ n0 + mc) (hs : k + N ≤ k0 + ms)
    (kk : vg_V G X nL Q (pc + 3) l (.ref n :: st) (hup h n (.inl (cA, N, .inr (.inr (.inr (.inr (fun _ => none))))))) (n + 1) (k + N)) : vg_V G X nL Q pc l (.int x :: st) h n k := by
  subst hx
  intro H locs ls cells slots hR hL hl
  obtain ⟨hx, hb, hml, hown, hts, -, -, ⟨hK, hNw, -⟩, -, hn0, hk0, hbn, hRm⟩ := hX
  refine vg_W_tight (b := gBase G) (by rw [hn0]; exact hbn) (fun h1 h2 => ?_)
  have eN : (nI N).toNatClampNeg = N := nI_clamp (by omega)
  refine W.anew hx hb hown (hts _ hq1) (va_AO.use (hNw _ hq rfl)) rfl d rfl (nI_pos (by omega)) (by rw [eN]; omega) (by rw [hRm]; show H.size - _ + 1 ≤ mc; rw [hR.1, hn0]; rw [hR.1, hn0] at h1; omega) (by rw [hRm, eN]; show _ + N ≤ ms; rw [hR.2.1, hk0]; rw [hR.2.1, hk0] at h2; omega) fun cB kA comp f1 f2 f3 f4 => ?_
  have hcB : cB = cA := by
    obtain ⟨kA', comp', w1, w2, w3, w4⟩ := (hK.2 t0 _ ht).2
    exact Option.some.inj (f1.symm.trans w4)
  subst hcB
  rw [eN]
  have e1 : (H.push ({ cls := cB, slots := Array.replicate N .null, vm := .none } : Cell))[n]? = some (arrV cB N (fun _ => .null)) := by rw [← hR.1, Array.getElem?_push_size, ← arrV_new]
  have hR' := hR.new (e := .inl (cB, N, .inr (.inr (.inr (.inr (fun _ => none)))))) (H1 := H.push ({ cls := cB, slots := Array.replicate N .null, vm := .none } : Cell)) (by rw [Array.size_push, hR.1]) (fun q hq => by rw [Array.getElem?_push, if_neg (by rw [hR.1]; omega)]) e1 e1
  rw [arrV_size] at hR'
  have e4 : (H.size : Nat) = n := hR.1
  rw [e4]
  exact kk _ locs ls _ _ hR' hL hl
theorem v_castS (hX : vg_ok G X cc own nL rt n0 k0 rf rl mc ms) {a ci idx : Nat} {r : vw_C} {fs : List Value} (d : decode cc pc = .ok (.checkcast idx, 3)) (hq : Cond.classLink own idx r.1 ∈ lw_all) (he : h a = some (.inr (ci, fs))) (hc : vg_cl[ci]? = some r)
    (kk : vg_V G X nL Q (pc + 3) l (.ref a :: st) h n k) : vg_V G X nL Q pc l (.ref a :: st) h n k := by
  intro H locs ls cells slots hR hL hl
  have hK := hX.2.2.2.2.2.2.2.1.1
  exact va_castS hX.1 hX.2.1 hX.2.2.2.1 (hX.2.2.2.2.1 _ hq) (hK.1 ci r hc).2 (va_recv (q := r) hK (vg_one (hR.2.2.2.1 a _ he)) hc (q0 := 0) rfl) d (kk H locs ls cells slots hR hL hl)
/-- the superclass's constructor that is Object's -/
theorem v_objInit (hX : vg_ok G X cc own nL rt n0 k0 rf rl mc ms) {a idx : Nat} (d : decode cc pc = .ok (.invokespecial idx, 3)) (hq1 : Cond.methodLink own idx objectInit ∈ lw_all) (hq2 : Cond.instanceMethod objectInit ∈ lw_all) (hq3 : Cond.code objectInit ⟨#[0xb1]⟩ 1 none ∈ lw_all) (hf : 1 ≤ rf) (hlo : 20 ≤ rl) (hst : (st.map fun v => v.category).sum ≤ 8)
    (kk : vg_V G X nL Q (pc + 3) l st h n k) : vg_V G X nL Q pc l (.ref a :: st) h n k := by
  intro H locs ls cells slots hR hL hl
  obtain ⟨hx, hb, hml, hown, hts, -, -, -, -, -, -, -, hRm⟩ := hX
  refine W.objInit hx hb hown (hts _ hq1) (hts _ hq2) (hts _ hq3) rfl (by rw [hml]; exact hl.1) rfl d (by rw [hRm]; exact hf) (by rw [hRm]; show 2 * 0 + _ + 12 ≤ rl; omega) ?_
  exact kk H locs ls cells slots hR hL hl
/-- an end: it returns -/
def vg_Q (G : vg_G) (X : vg_X) (mc ms : Nat) (Φ : Option Value → vg_H → Nat → Nat → Prop) : State → Prop := MQ (xB X) (fun _ _ oc t => ∃ (v : Option Value) (h' : vg_H) (n' k' : Nat), oc = .returned v ∧ Φ v h' n' k' ∧ vg_R G h' n' k' t.heap) (xA X) (xS X) mc ms (fun q => gBase G ≤ q)
theorem vg_end {Φ : Option Value → vg_H → Nat → Nat → Prop} {H : Heap} {locs : List Loc} {cells slots : Nat} {g : JFrame} (hX : vg_ok G X cc own nL rt n0 k0 rf rl mc ms) (hR : vg_R G h n k H) (hm : n ≤ n0 + mc) (hs : k ≤ k0 + ms) (kk : vg_W X H locs mc ms (vg_Q G X mc ms Φ) g) : vg_W X H locs cells slots (vg_Q G X mc ms Φ) g := by
  obtain ⟨-, -, -, -, -, -, -, -, -, hn0, hk0, hbn, -⟩ := hX
  refine vg_W_tight (b := gBase G) (by rw [hn0]; exact hbn) (fun h1 h2 => ?_)
  refine W.widen (k := mc) (n := ms) (by rw [hR.1, hn0]; omega) (by rw [hR.2.1, hk0]; omega) kk
theorem v_iret {Φ : Option Value → vg_H → Nat → Nat → Prop} {v : Int32} (hX : vg_ok G X cc own nL (some .int) n0 k0 rf rl mc ms) (d : decode cc pc = .ok (.ireturn, 1)) (hm : n ≤ n0 + mc) (hs : k ≤ k0 + ms) (hΦ : Φ (some (.int v)) h n k) : vg_V G X nL (vg_Q G X mc ms Φ) pc l [.int v] h n k :=
  fun H locs ls cells slots hR hL hl => vg_end hX hR hm hs (W.iret hX.1 hX.2.1 hX.2.2.2.2.2.1 (fun t ht _ => ⟨_, h, n, k, rfl, hΦ, by rw [ht]; exact hR⟩) hL d hX.2.2.2.2.2.2.1)
theorem v_lret {Φ : Option Value → vg_H → Nat → Nat → Prop} {v : Int64} (hX : vg_ok G X cc own nL (some .long) n0 k0 rf rl mc ms) (d : decode cc pc = .ok (.lreturn, 1)) (hm : n ≤ n0 + mc) (hs : k ≤ k0 + ms) (hΦ : Φ (some (.long v)) h n k) : vg_V G X nL (vg_Q G X mc ms Φ) pc l [.long v] h n k :=
  fun H locs ls cells slots hR hL hl => vg_end hX hR hm hs (W.lret hX.1 hX.2.1 hX.2.2.2.2.2.1 (fun t ht _ => ⟨_, h, n, k, rfl, hΦ, by rw [ht]; exact hR⟩) hL d hX.2.2.2.2.2.2.1)
theorem v_zret {Φ : Option Value → vg_H → Nat → Nat → Prop} {v : Int32} {ty : FieldType} (hX : vg_ok G X cc own nL (some ty) n0 k0 rf rl mc ms) (d : decode cc pc = .ok (.ireturn, 1)) (hv : narrow ty (.int v) = .int v) (hm : n ≤ n0 + mc) (hs : k ≤ k0 + ms) (hΦ : Φ (some (.int v)) h n k) : vg_V G X nL (vg_Q G X mc ms Φ) pc l [.int v] h n k :=
  fun H locs ls cells slots hR hL hl => vg_end hX hR hm hs (W.zret hX.1 hX.2.1 hX.2.2.2.2.2.1 hv (fun t ht _ => ⟨_, h, n, k, rfl, hΦ, by rw [ht]; exact hR⟩) hL d hX.2.2.2.2.2.2.1)
theorem v_vret {Φ : Option Value → vg_H → Nat → Nat → Prop} (hX : vg_ok G X cc own nL none n0 k0 rf rl mc ms) (d : decode cc pc = .ok (.return_, 1)) (hm : n ≤ n0 + mc) (hs : k ≤ k0 + ms) (hΦ : Φ none h n k) : vg_V G X nL (vg_Q G X mc ms Φ) pc l [] h n k :=
  fun H locs ls cells slots hR hL hl => vg_end hX hR hm hs (W.vret hX.1 hX.2.1 hX.2.2.2.2.2.1 (fun t ht _ => ⟨_, h, n, k, rfl, hΦ, by rw [ht]; exact hR⟩) hL d hX.2.2.2.2.2.2.1)
theorem v_aret {Φ : Option Value → vg_H → Nat → Nat → Prop} {v : Value} {ty : FieldType} (hX : vg_ok G X cc own nL (some ty) n0 k0 rf rl mc ms) (hty : (∃ n, ty = .object n) ∨ ∃ t, ty = .array t) (hv : v = .null ∨ ∃ a, v = .ref a) (d : decode cc pc = .ok (.areturn, 1)) (hm : n ≤ n0 + mc) (hs : k ≤ k0 + ms) (hΦ : Φ (some v) h n k) : vg_V G X nL (vg_Q G X mc ms Φ) pc l [v] h n k :=
  fun H locs ls cells slots hR hL hl => vg_end hX hR hm hs (W.aret hX.1 hX.2.1 hX.2.2.2.2.2.1 hty hv (fun t ht _ => ⟨_, h, n, k, rfl, hΦ, by rw [ht]; exact hR⟩) hL d hX.2.2.2.2.2.2.1)
end VA
