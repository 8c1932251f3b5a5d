/-! CONTRACTS OVER V, AND CALLS -/
/-- the contract of a method that returns: from the heap h (of size n, with k slots above the base) with the arguments as, it ends with Φ's answer and heap -/
def vg_M (l : Launch) (y : MethodName) (cc : ByteArray) (nL : Nat) (rt : Option FieldType) (rf rl mc ms : Nat) (G : vg_G) (as : List Value) (h : vg_H) (n k : Nat) (Φ : Option Value → vg_H → Nat → Nat → Prop) : Prop :=
  Met l y (ws_ y cc nL rt) { frames := rf, cells := mc, slots := ms, locals := rl } (va_Pc as (fun U => vg_R G h n k U.heap ∧ vg_E G U)) (fun _ _ oc t => ∃ (v : Option Value) (h' : vg_H) (n' k' : Nat), oc = .returned v ∧ Φ v h' n' k' ∧ vg_R G h' n' k' t.heap) mc ms (fun q => gBase G ≤ q)
theorem vg_M_of {l : Launch} {y : MethodName} {cc : ByteArray} {nL : Nat} {rt : Option FieldType} {rf rl mc ms : Nat} {G : vg_G} {as : List Value} {h : vg_H} {n k : Nat} {Φ : Option Value → vg_H → Nat → Nat → Prop} (hG : vg_st G) (hy : plainName y.cls = true) (hlen : (lg_sl as).length ≤ nL)
    (body : ∀ X : vg_X, xL X = l → vg_ok G X cc y.cls nL rt n k rf rl mc ms → (xMe X).name = y.name → vg_V G X nL (vg_Q G X mc ms Φ) 0 (lv_args 0 as) [] h n k) : vg_M l y cc nL rt rf rl mc ms G as h n k Φ := by
  refine Met.ofW (cc := cc) (maxL := nL) (ret := rt) hy rfl ?_
  intro p e s m args below meth c s₁ B hml hv
  obtain ⟨rfl, hR, hE⟩ := hv
  have hts := atoms_spec (ws := ws_ y cc nL rt) B.pre
  have hts : ∀ w ∈ lw_all, w.before as.toArray s = true := fun w h => hts w (List.mem_cons_of_mem _ h)
  have hown : s.vm.findClass y.cls = some m.cls := findClass_of_methodNamed B.named
  have hlocks := B.notSynchronized
  have hin : meth.name = y.name := (name_of_methodNamed B.named B.method).1
  have hl := lv_entry as (n := nL) hlen
  rw [lg_entry_eq]
  exact body (p, l, e, _, s, m, as.toArray, below, meth, c) rfl ⟨B.exec, B.bytes, hml, hown, hts, B.returns, hlocks, hE, hG, hR.1, hR.2.1, hR.2.2.1, rfl⟩ hin s.heap [] _ 0 0 hR (fun z hz => by cases hz) hl
section VC
variable {G : vg_G} {X : vg_X} {cc : ByteArray} {own : String} {nL : Nat} {rt : Option FieldType} {n0 k0 rf rl mc ms : Nat} {Q : State → Prop} {pc : Nat} {l : List (Nat × Value)} {st : List Value} {h : vg_H} {n k : Nat}
theorem vg_call {mc' ms' : Nat} {rest : List Value} {Φ : Option Value → vg_H → Nat → Nat → Prop} (hX : vg_ok G X cc own nL rt n0 k0 rf rl mc ms) (hm : n + mc' ≤ n0 + mc) (hs : k + ms' ≤ k0 + ms)
    (hr : ∀ (H : Heap) (locs : List Loc) (ls : Array Slot) (cells slots : Nat), vg_R G h n k H → lv_has ls nL l → cells + mc' ≤ mc → slots + ms' ≤ ms → va_Run (xP X) (xL X) (xE X) (xR X) (xS X) (xM X) (xA X) (xB X) (xMe X) (xC X) H locs cells slots mc' ms' (F0 (xM X) pc ls st) rest (fun _ oc t => ∃ (v : Option Value) (h' : vg_H) (n' k' : Nat), oc = .returned v ∧ Φ v h' n' k' ∧ vg_R G h' n' k' t.heap) (fun q => gBase G ≤ q))
    (kk : ∀ (v : Option Value) (h' : vg_H) (n' k' : Nat), Φ v h' n' k' → vg_V G X nL Q (pc + 3) l (v.toList ++ rest) h' n' k') : vg_V G X nL Q pc l st h n k := by
  intro H locs ls cells slots hR hL hl
  obtain ⟨-, -, -, -, -, -, -, -, -, hn0, hk0, hbn, -⟩ := hX
  refine vg_W_tight (b := gBase G) (by rw [hn0]; exact hbn) (fun h1 h2 => ?_)
  have hrun := hr H locs ls (H.size - (xS X).heap.size) (vg_sum (gBase G) H - vg_sum (gBase G) (xS X).heap) hR hl (by rw [hR.1, hn0]; rw [hR.1, hn0] at h1; omega) (by rw [hR.2.1, hk0]; rw [hR.2.1, hk0] at h2; omega)
  intro T hT Y
  obtain ⟨v, st₀, t, T', L, e0, Y', hL', e1, e2, ⟨v', h', n', k', hv, hΦ, hR'⟩, steps⟩ := hrun T hT Y
  cases hv
  obtain ⟨t2, a1, b1⟩ := kk _ h' n' k' hΦ T'.heap (locs ++ L) ls _ _ (by rw [e1]; exact hR') (fun z hz => by
    rcases List.mem_append.mp hz with w | w
    · exact hL z w
    · exact hL' z w) hl T' rfl Y'
  exact ⟨t2, steps t2 a1, b1⟩
theorem vg_pre (hG : vg_st G) {s : State} {H : Heap} {as : List Value} (hE : vg_E G s) (hR : vg_R G h n k H) : PreS s H (va_Pc as (fun U => vg_R G h n k U.heap ∧ vg_E G U)) as :=
  ⟨fun a U g mk q => ⟨q.1, q.2.1, vg_E_same (s := U) (U := U.calling g mk a) hG rfl q.2.2⟩, fun U hU hW => ⟨rfl, by rw [hU]; exact hR, vg_E_warm hG hW hE⟩⟩
theorem vg_recv {a ci : Nat} {r : vw_C} {fs : List Value} {H : Heap} {s : State} (hE : vg_E G s) (hR : vg_R G h n k H) (he : h a = some (.inr (ci, fs))) (hc : vg_cl[ci]? = some r) : ∃ cellB : Cell, H[a]? = some cellB ∧ cellB.vm.isStatics = false ∧ s.vm.findClass r.1 = some cellB.cls :=
  va_recv (q := r) hE.1 (vg_one (hR.2.2.2.1 a _ he)) hc (q0 := 0) rfl
/-- what a method's name and descriptor say -/
def vg_nd (y : MethodName) (n : Nat) : Prop := y.cls ≠ "java/lang/invoke/MethodHandle" ∧ y.cls ≠ "java/lang/invoke/VarHandle" ∧ (parseMethodDescriptor y.desc).map (fun d => d.parameters.length) = some n
/-- a call through an object -/
theorem v_callV {y : MethodName} {cc' : ByteArray} {nL' : Nat} {rt' : Option FieldType} {rf' rl' mc' ms' : Nat} {b ci idx : Nat} {r : vw_C} {fs : List Value} {as rest : List Value} {Φ : Option Value → vg_H → Nat → Nat → Prop} (hX : vg_ok G X cc own nL rt n0 k0 rf rl mc ms) (hM : vg_M (xL X) y cc' nL' rt' rf' rl' mc' ms' G (.ref b :: as) h n k Φ) (hd : vg_nd y as.length) (d : decode cc pc = .ok (.invokevirtual idx, 3))
    (q1 : Cond.methodLink own idx y ∈ lw_all) (q2 : Cond.instanceMethod y ∈ lw_all) (q3 : Cond.selects r.1 y y ∈ lw_all) (q4 : Cond.initialized r.1 ∈ lw_all) (q5 : Cond.code y cc' nL' rt' ∈ lw_all) (hy : y.cls = r.1) (he : h b = some (.inr (ci, fs))) (hc : vg_cl[ci]? = some r) (hst : st = as.reverse ++ .ref b :: rest)
    (hf : rf' + 1 ≤ rf) (hlo : 8 + (nL' + 11) + rl' ≤ rl) (hsum : (rest.map fun v => v.category).sum ≤ 8) (hm : n + mc' ≤ n0 + mc) (hs : k + ms' ≤ k0 + ms)
    (kk : ∀ (v : Option Value) (h' : vg_H) (n' k' : Nat), Φ v h' n' k' → vg_V G X nL Q (pc + 3) l (v.toList ++ rest) h' n' k') : vg_V G X nL Q pc l st h n k := by
  subst hst
  have hX0 := hX
  obtain ⟨hx, hb, hml, hown, hts, -, -, hE, hG, -, -, -, hRm⟩ := hX
  refine vg_call (mc' := mc') (ms' := ms') hX0 hm hs (fun H locs ls cells slots hR hl hc1 hc2 => ?_) kk
  refine va_runV (As := as) (rest := rest) (Ts := lw_all) (nL := nL) ⟨hx, hb, hml, hown, hts⟩ hM (cwV (C := r.1) as.length hts (lw_V q1 q2 q3 q4 q5) rfl rfl rfl ⟨hy, hd.1, hd.2.1, hd.2.2⟩ ⟨by rw [hRm]; exact hf, by rw [hRm]; exact hlo⟩) ?_ rfl rfl hl.1 rfl (lv_room hsum) d (by rw [hRm]; exact ⟨hc1, hc2⟩)
  obtain ⟨p1, p2⟩ := vg_pre (as := .ref b :: as) hG hE hR
  exact ⟨p1, vg_recv hE hR he hc, p2⟩
/-- a static call -/
theorem v_callS {y : MethodName} {cc' : ByteArray} {nL' : Nat} {rt' : Option FieldType} {rf' rl' mc' ms' : Nat} {idx : Nat} {as rest : List Value} {Φ : Option Value → vg_H → Nat → Nat → Prop} (hX : vg_ok G X cc own nL rt n0 k0 rf rl mc ms) (hM : vg_M (xL X) y cc' nL' rt' rf' rl' mc' ms' G as h n k Φ) (hd : vg_nd y as.length) (d : decode cc pc = .ok (.invokestatic idx, 3))
    (q1 : Cond.methodLink own idx y ∈ lw_all) (q2 : Cond.static y ∈ lw_all) (q4 : Cond.initialized y.cls ∈ lw_all) (q5 : Cond.code y cc' nL' rt' ∈ lw_all) (hst : st = as.reverse ++ rest)
    (hf : rf' + 1 ≤ rf) (hlo : 8 + (nL' + 11) + rl' ≤ rl) (hsum : (rest.map fun v => v.category).sum ≤ 8) (hm : n + mc' ≤ n0 + mc) (hs : k + ms' ≤ k0 + ms)
    (kk : ∀ (v : Option Value) (h' : vg_H) (n' k' : Nat), Φ v h' n' k' → vg_V G X nL Q (pc + 3) l (v.toList ++ rest) h' n' k') : vg_V G X nL Q pc l st h n k := by
  subst hst
  have hX0 := hX
  obtain ⟨hx, hb, hml, hown, hts, -, -, hE, hG, -, -, -, hRm⟩ := hX
  refine vg_call (mc' := mc') (ms' := ms') hX0 hm hs (fun H locs ls cells slots hR hl hc1 hc2 => ?_) kk
  exact va_runS (As := as) (rest := rest) (Ts := lw_all) (nL := nL) ⟨hx, hb, hml, hown, hts⟩ hM (va_cwS as.length hts (lw_S q1 q2 q4 q5) rfl rfl rfl ⟨hd.1, hd.2.1, hd.2.2⟩ ⟨by rw [hRm]; exact hf, by rw [hRm]; exact hlo⟩) (vg_pre hG hE hR) rfl rfl hl.1 rfl (lv_room hsum) d (by rw [hRm]; exact ⟨hc1, hc2⟩)
/-- a constructor's call -/
theorem v_callI {y : MethodName} {cc' : ByteArray} {nL' : Nat} {rf' rl' mc' ms' : Nat} {b idx : Nat} {as rest : List Value} {Φ : Option Value → vg_H → Nat → Nat → Prop} (hX : vg_ok G X cc own nL rt n0 k0 rf rl mc ms) (hM : vg_M (xL X) y cc' nL' none rf' rl' mc' ms' G (.ref b :: as) h n k Φ) (hd : vg_nd y as.length) (hy : y.name = "<init>") (d : decode cc pc = .ok (.invokespecial idx, 3))
    (q1 : Cond.methodLink own idx y ∈ lw_all) (q2 : Cond.instanceMethod y ∈ lw_all) (q4 : Cond.initialized y.cls ∈ lw_all) (q5 : Cond.code y cc' nL' none ∈ lw_all) (hst : st = as.reverse ++ .ref b :: rest)
    (hf : rf' + 1 ≤ rf) (hlo : 8 + (nL' + 11) + rl' ≤ rl) (hsum : (rest.map fun v => v.category).sum ≤ 8) (hm : n + mc' ≤ n0 + mc) (hs : k + ms' ≤ k0 + ms)
    (kk : ∀ (v : Option Value) (h' : vg_H) (n' k' : Nat), Φ v h' n' k' → vg_V G X nL Q (pc + 3) l (v.toList ++ rest) h' n' k') : vg_V G X nL Q pc l st h n k := by
  subst hst
  have hX0 := hX
  obtain ⟨hx, hb, hml, hown, hts, -, -, hE, hG, -, -, -, hRm⟩ := hX
  refine vg_call (mc' := mc') (ms' := ms') hX0 hm hs (fun H locs ls cells slots hR hl hc1 hc2 => ?_) kk
  exact va_runI (As := as) (rest := rest) (Ts := lw_all) (nL := nL) ⟨hx, hb, hml, hown, hts⟩ hM (cwI as.length hts (lw_meth q5) rfl rfl rfl (hts _ q4) (hts _ q1) (hts _ q2) hy ⟨hd.1, hd.2.1, hd.2.2⟩ ⟨by rw [hRm]; exact hf, by rw [hRm]; exact hlo⟩) (vg_pre hG hE hR) rfl rfl hl.1 rfl (lv_room hsum) d (by rw [hRm]; exact ⟨hc1, hc2⟩)
/-- nest mates: private methods of another class of the nest -/
theorem v_callVN {y : MethodName} {cc' : ByteArray} {nL' : Nat} {rt' : Option FieldType} {rf' rl' mc' ms' : Nat} {b ci idx : Nat} {host : String} {r : vw_C} {fs : List Value} {as rest : List Value} {Φ : Option Value → vg_H → Nat → Nat → Prop} (hX : vg_ok G X cc own nL rt n0 k0 rf rl mc ms) (hM : vg_M (xL X) y cc' nL' rt' rf' rl' mc' ms' G (.ref b :: as) h n k Φ) (hd : vg_nd y as.length) (d : decode cc pc = .ok (.invokevirtual idx, 3))
    (q1 : Cond.methodLinkNest own idx y host ∈ lw_tbl) (q2 : Cond.instanceMethod y ∈ lw_all) (q3 : Cond.selects r.1 y y ∈ lw_all) (q4 : Cond.initialized y.cls ∈ lw_all) (q5 : Cond.code y cc' nL' rt' ∈ lw_all) (he : h b = some (.inr (ci, fs))) (hc : vg_cl[ci]? = some r) (hst : st = as.reverse ++ .ref b :: rest)
    (hf : rf' + 1 ≤ rf) (hlo : 8 + (nL' + 11) + rl' ≤ rl) (hsum : (rest.map fun v => v.category).sum ≤ 8) (hm : n + mc' ≤ n0 + mc) (hs : k + ms' ≤ k0 + ms)
    (kk : ∀ (v : Option Value) (h' : vg_H) (n' k' : Nat), Φ v h' n' k' → vg_V G X nL Q (pc + 3) l (v.toList ++ rest) h' n' k') : vg_V G X nL Q pc l st h n k := by
  subst hst
  have hX0 := hX
  obtain ⟨hx, hb, hml, hown, hts, -, -, hE, hG, -, -, -, hRm⟩ := hX
  refine vg_call (mc' := mc') (ms' := ms') hX0 hm hs (fun H locs ls cells slots hR hl hc1 hc2 => ?_) kk
  refine va_runVN (C := r.1) (As := as) (rest := rest) (Ts := lw_all) (nL := nL) ⟨hx, hb, hml, hown, hts⟩ hM ⟨va_cnB as.length hts (lw_meth q5) rfl rfl rfl (hE.2.1 _ q1 rfl) (hts _ q4) hd ⟨by rw [hRm]; exact hf, by rw [hRm]; exact hlo⟩, hts _ q2, hts _ q3⟩ ?_ rfl rfl hl.1 rfl (lv_room hsum) d (by rw [hRm]; exact ⟨hc1, hc2⟩)
  obtain ⟨p1, p2⟩ := vg_pre (as := .ref b :: as) hG hE hR
  exact ⟨p1, vg_recv hE hR he hc, p2⟩
theorem v_callSN {y : MethodName} {cc' : ByteArray} {nL' : Nat} {rt' : Option FieldType} {rf' rl' mc' ms' : Nat} {idx : Nat} {host : String} {as rest : List Value} {Φ : Option Value → vg_H → Nat → Nat → Prop} (hX : vg_ok G X cc own nL rt n0 k0 rf rl mc ms) (hM : vg_M (xL X) y cc' nL' rt' rf' rl' mc' ms' G as h n k Φ) (hd : vg_nd y as.length) (d : decode cc pc = .ok (.invokestatic idx, 3))
    (q1 : Cond.methodLinkNest own idx y host ∈ lw_tbl) (q2 : Cond.static y ∈ lw_all) (q4 : Cond.initialized y.cls ∈ lw_all) (q5 : Cond.code y cc' nL' rt' ∈ lw_all) (hst : st = as.reverse ++ rest)
    (hf : rf' + 1 ≤ rf) (hlo : 8 + (nL' + 11) + rl' ≤ rl) (hsum : (rest.map fun v => v.category).sum ≤ 8) (hm : n + mc' ≤ n0 + mc) (hs : k + ms' ≤ k0 + ms)
    (kk : ∀ (v : Option Value) (h' : vg_H) (n' k' : Nat), Φ v h' n' k' → vg_V G X nL Q (pc + 3) l (v.toList ++ rest) h' n' k') : vg_V G X nL Q pc l st h n k := by
  subst hst
  have hX0 := hX
  obtain ⟨hx, hb, hml, hown, hts, -, -, hE, hG, -, -, -, hRm⟩ := hX
  refine vg_call (mc' := mc') (ms' := ms') hX0 hm hs (fun H locs ls cells slots hR hl hc1 hc2 => ?_) kk
  exact va_runSN (As := as) (rest := rest) (Ts := lw_all) (nL := nL) ⟨hx, hb, hml, hown, hts⟩ hM ⟨va_cnB as.length hts (lw_meth q5) rfl rfl rfl (hE.2.1 _ q1 rfl) (hts _ q4) hd ⟨by rw [hRm]; exact hf, by rw [hRm]; exact hlo⟩, hts _ q2, trivial⟩ (vg_pre hG hE hR) rfl rfl hl.1 rfl (lv_room hsum) d (by rw [hRm]; exact ⟨hc1, hc2⟩)
theorem v_callIN {y : MethodName} {cc' : ByteArray} {nL' : Nat} {rf' rl' mc' ms' : Nat} {b idx : Nat} {host : String} {as rest : List Value} {Φ : Option Value → vg_H → Nat → Nat → Prop} (hX : vg_ok G X cc own nL rt n0 k0 rf rl mc ms) (hM : vg_M (xL X) y cc' nL' none rf' rl' mc' ms' G (.ref b :: as) h n k Φ) (hd : vg_nd y as.length) (hy : y.name = "<init>") (d : decode cc pc = .ok (.invokespecial idx, 3))
    (q1 : Cond.methodLinkNest own idx y host ∈ lw_tbl) (q2 : Cond.instanceMethod y ∈ lw_all) (q4 : Cond.initialized y.cls ∈ lw_all) (q5 : Cond.code y cc' nL' none ∈ lw_all) (hst : st = as.reverse ++ .ref b :: rest)
    (hf : rf' + 1 ≤ rf) (hlo : 8 + (nL' + 11) + rl' ≤ rl) (hsum : (rest.map fun v => v.category).sum ≤ 8) (hm : n + mc' ≤ n0 + mc) (hs : k + ms' ≤ k0 + ms)
    (kk : ∀ (v : Option Value) (h' : vg_H) (n' k' : Nat), Φ v h' n' k' → vg_V G X nL Q (pc + 3) l (v.toList ++ rest) h' n' k') : vg_V G X nL Q pc l st h n k := by
  subst hst
  have hX0 := hX
  obtain ⟨hx, hb, hml, hown, hts, -, -, hE, hG, -, -, -, hRm⟩ := hX
  refine vg_call (mc' := mc') (ms' := ms') hX0 hm hs (fun H locs ls cells slots hR hl hc1 hc2 => ?_) kk
  exact va_runIN (As := as) (rest := rest) (Ts := lw_all) (nL := nL) ⟨hx, hb, hml, hown, hts⟩ hM ⟨va_cnB as.length hts (lw_meth q5) rfl rfl rfl (hE.2.1 _ q1 rfl) (hts _ q4) hd ⟨by rw [hRm]; exact hf, by rw [hRm]; exact hlo⟩, hy, hts _ q2⟩ (vg_pre hG hE hR) rfl rfl hl.1 rfl (lv_room hsum) d (by rw [hRm]; exact ⟨hc1, hc2⟩)
end VC
/-- a loop, from its exit down: P i, the point at its head with i rounds done -/
theorem lp_up (P : Nat → Prop) (n : Nat) (hx : P n) (hs : ∀ i, i < n → P (i + 1) → P i) : ∀ i, i ≤ n → P i := by
  intro i hi
  obtain ⟨j, hj⟩ : ∃ j, n = i + j := ⟨n - i, by omega⟩
  induction j generalizing i with
  | zero => rw [show i = n by omega]; exact hx
  | succ j ih => exact hs i (by omega) (ih (i + 1) (by omega) (by omega))
