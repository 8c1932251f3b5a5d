/-! ROWS OF V THAT SPEAK OF THE HEAP -/
def hup (h : vg_H) (a : Nat) (e : va_E) : vg_H := fun b => if b = a then some e else h b
theorem hup_self (h : vg_H) (a : Nat) (e : va_E) : hup h a e a = some e := by simp [hup]
theorem hup_ne (h : vg_H) {a b : Nat} (e : va_E) (hb : b ≠ a) : hup h a e b = h b := by simp [hup, hb]
theorem hup_hup (h : vg_H) (a : Nat) (e e' : va_E) : hup (hup h a e) a e' = hup h a e' := by
  funext b
  unfold hup
  split <;> rfl
theorem vg_R.set {G : vg_G} {h : vg_H} {n k a : Nat} {e : va_E} {H H1 : Heap} (hR : vg_R G h n k H) (ha : gBase G ≤ a) (z : H1.size = H.size) (oq : ∀ q : Nat, q ≠ a → H1[q]? = H[q]?) (hc : ∀ c c' : Cell, H[a]? = some c → H1[a]? = some c' → c'.slots.size = c.slots.size) (he : va_at (gD G) vg_cl (a, e) H1) : vg_R G (hup h a e) n k H1 := by
  obtain ⟨h1, h2, h3, h4, h5⟩ := hR
  refine ⟨z.trans h1, ?_, h3, fun b e' hb => ?_, fun q hq => ?_⟩
  · rw [← h2]
    unfold vg_sum
    refine vg_same_sum _ _ (by simp [z]) (fun i ca cb e1 e2 => ?_)
    rw [List.getElem?_drop] at e1 e2
    have e1' : H1[gBase G + i]? = some ca := by simpa using e1
    have e2' : H[gBase G + i]? = some cb := by simpa using e2
    by_cases hi : gBase G + i = a
    · rw [hi] at e1' e2'
      exact hc _ _ e2' e1'
    · rw [oq _ hi, e2'] at e1'
      rw [Option.some.inj e1']
  · unfold hup at hb
    split at hb
    · next hba =>
      subst hba
      cases hb
      exact he
    · next hba => exact (h4 b e' hb).kept (oq b hba)
  · rw [oq q (by omega)]
    exact h5 q hq
theorem vg_R.new {G : vg_G} {h : vg_H} {n k : Nat} {e : va_E} {H H1 : Heap} {c : Cell} (hR : vg_R G h n k H) (z : H1.size = n + 1) (oq : ∀ q : Nat, q < n → H1[q]? = H[q]?) (hc : H1[n]? = some c) (he : va_at (gD G) vg_cl (n, e) H1) : vg_R G (hup h n e) (n + 1) (k + c.slots.size) H1 := by
  obtain ⟨h1, h2, h3, h4, h5⟩ := hR
  have hH : H1 = H.push c := by
    refine Array.ext_getElem? (fun i => ?_)
    rcases Nat.lt_trichotomy i n with q | q | q
    · rw [oq i q, Array.getElem?_push, if_neg (by omega)]
    · subst q
      rw [hc, Array.getElem?_push, if_pos h1.symm]
    · rw [Array.getElem?_eq_none (by omega), Array.getElem?_eq_none (by simp; omega)]
  refine ⟨z, ?_, by omega, fun b e' hb => ?_, fun q hq => ?_⟩
  · rw [hH, ← h2]
    unfold vg_sum
    rw [Array.toList_push, List.drop_append_of_le_length (by simp; omega)]
    simp
  · unfold hup at hb
    split at hb
    · next hba =>
      subst hba
      cases hb
      exact he
    · next hba => exact (h4 b e' hb).kept (oq b (by have := (h4 b e' hb).lt; simp only at this; omega))
  · rw [oq q (by omega)]
    exact h5 q hq
section VH
variable {G : vg_G} {X : vg_X} {cc : ByteArray} {own : String} {nL : Nat} {rt : Option FieldType} {n0 k0 rf rl mc ms : Nat} {Q : State → Prop} {pc : Nat} {l : List (Nat × Value)} {st : List Value} {h : vg_H} {n k : Nat}
/-- another name of the same heap, the same stack, the same locals -/
theorem v_h {h' : vg_H} (he : h = h') (kk : vg_V G X nL Q pc l st h' n k) : vg_V G X nL Q pc l st h n k := by rw [he]; exact kk
theorem v_l {l' : List (Nat × Value)} (ks : List Nat) (hl' : lv_pick l ks = l') (kk : vg_V G X nL Q pc l' st h n k) : vg_V G X nL Q pc l st h n k := fun H locs ls cells slots hR hL hl => kk H locs ls cells slots hR hL (lv_sub hl ks hl')
/-- reading an object's field -/
theorem v_get (hX : vg_ok G X cc own nL rt n0 k0 rf rl mc ms) {ref C : String} {T : u_T} {N ci idx a : Nat} {fs : List Value} (hin : ∀ w ∈ u_ws C T N, w ∈ lw_all) (i : Nat) {v : Value} (d : decode cc pc = .ok (.getfield idx, 3)) (hq : Cond.fieldLink own idx ref (T i).2.1 (T i).2.2.1 ∈ lw_all) (hc : vg_cl[ci]? = some (C, T, N)) (hi : i < N) (hs : (T i).1 = ref) (he : h a = some (.inr (ci, fs))) (hv : fs[i]? = some v)
    (kk : vg_V G X nL Q (pc + 3) l (v :: st) h n k) : vg_V G X nL Q pc l (.ref a :: st) h n k := fun H locs ls cells slots hR hL hl =>
  va_get (ws := [(a, .inr (ci, fs))]) hX.1 hX.2.1 hX.2.2.2.2.1 hin hX.2.2.2.1 hX.2.2.2.2.2.2.2.1.1 (fun j q hj => by
    have hz : j < 1 := (List.getElem?_eq_some_iff.mp hj).1
    rw [show j = 0 by omega] at hj
    cases hj
    exact hR.2.2.2.1 a _ he) 0 rfl hc i hi (hX.2.2.2.2.1 _ hq) (by subst hs; exact fun x hx => hx) hv d (kk H locs ls cells slots hR hL hl)
/-- .. a nest mate's -/
theorem v_getN (hX : vg_ok G X cc own nL rt n0 k0 rf rl mc ms) {ref C host : String} {T : u_T} {N ci idx a : Nat} {fs : List Value} (hin : ∀ w ∈ u_ws C T N, w ∈ lw_all) (i : Nat) {v : Value} (d : decode cc pc = .ok (.getfield idx, 3)) (hq : Cond.fieldLinkNest own idx ref (T i).2.1 (T i).2.2.1 host ∈ lw_tbl) (hc : vg_cl[ci]? = some (C, T, N)) (hi : i < N) (hs : (T i).1 = ref) (he : h a = some (.inr (ci, fs))) (hv : fs[i]? = some v)
    (kk : vg_V G X nL Q (pc + 3) l (v :: st) h n k) : vg_V G X nL Q pc l (.ref a :: st) h n k := fun H locs ls cells slots hR hL hl =>
  va_getN (ws := [(a, .inr (ci, fs))]) hX.1 hX.2.1 hX.2.2.2.2.1 hin hX.2.2.2.1 hX.2.2.2.2.2.2.2.1.1 (fun j q hj => by
    have hz : j < 1 := (List.getElem?_eq_some_iff.mp hj).1
    rw [show j = 0 by omega] at hj
    cases hj
    exact hR.2.2.2.1 a _ he) 0 rfl hc i hi (va_Nw.use rfl (hX.2.2.2.2.2.2.2.1.2.1 _ hq rfl)) (by subst hs; exact fun x hx => hx) hv d (kk H locs ls cells slots hR hL hl)
/-- writing an object's field (not a final one) -/
theorem v_put (hX : vg_ok G X cc own nL rt n0 k0 rf rl mc ms) {ref C : String} {T : u_T} {N ci idx a : Nat} {fs : List Value} (hin : ∀ w ∈ u_ws C T N, w ∈ lw_all) (ty0 : Nat → FieldType) (hty : ∀ k, k < N → parseFieldDescriptor (T k).2.2.1 = some (ty0 k)) (hnm : ∀ a, a < N → ∀ b, b < N → a ≠ b → (T a).2.1 ≠ (T b).2.1) (i : Nat) {v : Value} (d : decode cc pc = .ok (.putfield idx, 3)) (hq : Cond.fieldLink own idx ref (T i).2.1 (T i).2.2.1 ∈ lw_all) (hc : vg_cl[ci]? = some (C, T, N)) (hi : i < N) (hs : (T i).1 = ref) (hfin : (T i).2.2.2 = false) (ha : gBase G ≤ a) (he : h a = some (.inr (ci, fs))) (hl : i < fs.length) (hn : narrow (ty0 i) v = v) (hf : fits (ty0 i) v = true)
    (kk : vg_V G X nL Q (pc + 3) l st (hup h a (.inr (ci, fs.set i v))) n k) : vg_V G X nL Q pc l (v :: .ref a :: st) h n k := by
  intro H locs ls cells slots hR hL hls
  obtain ⟨hx, hb, hml, hown, hts, -, -, ⟨hK, -, -⟩, -⟩ := hX
  have hap := va_apart (own := own) hts hin ty0 hty hnm hK hc
  obtain ⟨r, h1, cell, q1, q2, q3, q4⟩ := hR.2.2.2.1 a _ he
  have hr : r = (C, T, N) := Option.some.inj (h1.symm.trans hc)
  subst hr
  obtain ⟨hS, hfc, kC, hkC, hkind⟩ := hK.1 ci _ hc
  obtain ⟨cf, kf, fi, f, hif, hsl⟩ := hS i hi
  have hlay := hts _ (hin _ (u_in_lay hi))
  unfold u_lay at hlay
  rw [if_neg (by rw [hfin]; decide)] at hlay
  have hst := (u_facts hfc hkC (u_lays hts hin hi) hif).1
  have h6 := u_store hfc hkC hkind hlay hif (hty i hi) hn hf
  refine W.putK hx hb (f := f) ⟨hown, hts _ hq, ⟨_, _, _, by rw [← hs]; exact hif⟩, hst⟩ (by rw [q2]; exact h6) q1 q3 (by rw [hsl]; exact k2_hasslot (q4 i hi)) rfl rfl d fun H' e1 e2 e3 => ?_
  rw [hsl] at e1 ⊢
  refine kk H' _ ls cells slots (hR.set ha e2 e3 (fun c c' w1 w2 => ?_) ⟨_, hc, t_OB.to (V := updV (vp_V fs) i v) ⟨_, e1, q2, q3, t_set q4 hap hi v⟩ (fun j _ => vp_updV_set hl v j)⟩) (fun z hz => ?_) hls
  · rw [e1] at w2
    have g1 : c = cell := Option.some.inj (w1.symm.trans q1)
    subst g1
    cases w2
    simp [Cell.setSlot]
  · rcases List.mem_append.mp hz with w | w
    · exact hL z w
    · rw [List.mem_singleton.mp w]; exact ha
theorem v_putN (hX : vg_ok G X cc own nL rt n0 k0 rf rl mc ms) {ref C host : String} {T : u_T} {N ci idx a : Nat} {fs : List Value} (hin : ∀ w ∈ u_ws C T N, w ∈ lw_all) (ty0 : Nat → FieldType) (hty : ∀ k, k < N → parseFieldDescriptor (T k).2.2.1 = some (ty0 k)) (hnm : ∀ a, a < N → ∀ b, b < N → a ≠ b → (T a).2.1 ≠ (T b).2.1) (i : Nat) {v : Value} (d : decode cc pc = .ok (.putfield idx, 3)) (hq : Cond.fieldLinkNest own idx ref (T i).2.1 (T i).2.2.1 host ∈ lw_tbl) (hc : vg_cl[ci]? = some (C, T, N)) (hi : i < N) (hs : (T i).1 = ref) (hfin : (T i).2.2.2 = false) (ha : gBase G ≤ a) (he : h a = some (.inr (ci, fs))) (hl : i < fs.length) (hn : narrow (ty0 i) v = v) (hf : fits (ty0 i) v = true)
    (kk : vg_V G X nL Q (pc + 3) l st (hup h a (.inr (ci, fs.set i v))) n k) : vg_V G X nL Q pc l (v :: .ref a :: st) h n k := by
  intro H locs ls cells slots hR hL hls
  obtain ⟨hx, hb, hml, hown, hts, -, -, ⟨hK, hN, -⟩, -⟩ := hX
  have hap := va_apart (own := own) hts hin ty0 hty hnm hK hc
  obtain ⟨r, h1, cell, q1, q2, q3, q4⟩ := hR.2.2.2.1 a _ he
  have hr : r = (C, T, N) := Option.some.inj (h1.symm.trans hc)
  subst hr
  obtain ⟨hS, hfc, kC, hkC, hkind⟩ := hK.1 ci _ hc
  obtain ⟨cf, kf, fi, f, hif, hsl⟩ := hS i hi
  have hlay := hts _ (hin _ (u_in_lay hi))
  unfold u_lay at hlay
  rw [if_neg (by rw [hfin]; decide)] at hlay
  have hst := (u_facts hfc hkC (u_lays hts hin hi) hif).1
  have h6 := u_store hfc hkC hkind hlay hif (hty i hi) hn hf
  refine va_WputK hx hb (f := f) hown (va_Nw.use rfl (hN _ hq rfl)) (by rw [← hs]; exact hif) hst (by rw [q2]; exact h6) q1 q3 (by rw [hsl]; exact k2_hasslot (q4 i hi)) rfl rfl d fun H' e1 e2 e3 => ?_
  rw [hsl] at e1 ⊢
  refine kk H' _ ls cells slots (hR.set ha e2 e3 (fun c c' w1 w2 => ?_) ⟨_, hc, t_OB.to (V := updV (vp_V fs) i v) ⟨_, e1, q2, q3, t_set q4 hap hi v⟩ (fun j _ => vp_updV_set hl v j)⟩) (fun z hz => ?_) hls
  · rw [e1] at w2
    have g1 : c = cell := Option.some.inj (w1.symm.trans q1)
    subst g1
    cases w2
    simp [Cell.setSlot]
  · rcases List.mem_append.mp hz with w | w
    · exact hL z w
    · rw [List.mem_singleton.mp w]; exact ha
/-- a final field in its class's constructor -/
theorem v_putF (hX : vg_ok G X cc own nL rt n0 k0 rf rl mc ms) (hnam : (xMe X).name = "<init>") {ref C : String} {T : u_T} {N ci idx a : Nat} {fs : List Value} (hin : ∀ w ∈ u_ws C T N, w ∈ lw_all) (ty0 : Nat → FieldType) (hty : ∀ k, k < N → parseFieldDescriptor (T k).2.2.1 = some (ty0 k)) (hnm : ∀ a, a < N → ∀ b, b < N → a ≠ b → (T a).2.1 ≠ (T b).2.1) (i : Nat) {v : Value} (d : decode cc pc = .ok (.putfield idx, 3)) (hq : Cond.fieldLink own idx ref (T i).2.1 (T i).2.2.1 ∈ lw_all) (hc : vg_cl[ci]? = some (C, T, N)) (hi : i < N) (hs : (T i).1 = ref) (hdecl : (T i).1 = own) (hfin : (T i).2.2.2 = true) (ha : gBase G ≤ a) (he : h a = some (.inr (ci, fs))) (hl : i < fs.length) (hn : narrow (ty0 i) v = v) (hf : fits (ty0 i) v = true)
    (kk : vg_V G X nL Q (pc + 3) l st (hup h a (.inr (ci, fs.set i v))) n k) : vg_V G X nL Q pc l (v :: .ref a :: st) h n k := by
  intro H locs ls cells slots hR hL hls
  obtain ⟨hx, hb, hml, hown, hts, -, -, ⟨hK, hN, -⟩, -⟩ := hX
  have hap := va_apart (own := own) hts hin ty0 hty hnm hK hc
  obtain ⟨r, h1, cell, q1, q2, q3, q4⟩ := hR.2.2.2.1 a _ he
  have hr : r = (C, T, N) := Option.some.inj (h1.symm.trans hc)
  subst hr
  obtain ⟨hS, hfc, kC, hkC, hkind⟩ := hK.1 ci _ hc
  obtain ⟨cf, kf, fi, f, hif, hsl⟩ := hS i hi
  have hlay := hts _ (hin _ (u_in_lay hi))
  unfold u_lay at hlay
  rw [if_pos hfin] at hlay
  have hst := (u_facts hfc hkC (u_lays hts hin hi) hif).1
  have hcf : (xM X).cls = cf := by
    obtain ⟨_, _, c', _, _, _, -, -, hf', -, -, -, hown2, -⟩ := Cond.laysFinal_spec hlay
    have e1 : c' = cf := by have := hif.symm.trans hf'; simp at this; exact this.1.symm
    rw [hdecl] at hown2
    rw [← e1]; exact Option.some.inj (hown.symm.trans hown2)
  have h6 := u_fits hfc hkC hkind (Or.inr hlay) hif (hty i hi) hn hf
  refine W.putFinK hx hb hown (hts _ hq) (by rw [← hs]; exact hif) hst hcf hnam (by rw [q2]; exact h6) q1 q3 (by rw [hsl]; exact k2_hasslot (q4 i hi)) rfl rfl d fun H' e1 e2 e3 => ?_
  rw [hsl] at e1 ⊢
  refine kk H' _ ls cells slots (hR.set ha e2 e3 (fun c c' w1 w2 => ?_) ⟨_, hc, t_OB.to (V := updV (vp_V fs) i v) ⟨_, e1, q2, q3, t_set q4 hap hi v⟩ (fun j _ => vp_updV_set hl v j)⟩) (fun z hz => ?_) hls
  · rw [e1] at w2
    have g1 : c = cell := Option.some.inj (w1.symm.trans q1)
    subst g1
    cases w2
    simp [Cell.setSlot]
  · rcases List.mem_append.mp hz with w | w
    · exact hL z w
    · rw [List.mem_singleton.mp w]; exact ha
end VH
