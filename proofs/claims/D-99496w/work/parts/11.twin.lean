/-! THE TWIN (SweptSnowModel) AS A TYPED STATE: I its int fields by number, A its int, byte and boolean arrays by place, L its long arrays, Z drawX; its 24 cells lie at t .. t + 23 -/
def tw_f (t : Nat) (I : Nat → Int32) (Z : Int64) : List Value := [.ref (t + 1), .int (I 1), .int (I 2), .ref (t + 2), .ref (t + 3), .ref (t + 4), .ref (t + 5), .ref (t + 6), .int (I 8), .int (I 9), .int (I 10), .int (I 11), .int (I 12), .int (I 13), .int (I 14), .ref (t + 7), .int (I 16), .int (I 17), .int (I 18), .ref (t + 8), .int (I 20), .ref (t + 9), .ref (t + 10), .int (I 23), .int (I 24), .ref (t + 11), .ref (t + 12), .ref (t + 13), .int (I 28), .ref (t + 14), .ref (t + 15), .ref (t + 16), .ref (t + 17), .ref (t + 18), .ref (t + 19), .long Z, .ref (t + 20), .ref (t + 21), .ref (t + 22), .ref (t + 23)]
def tw_c (G : vg_G) (t : Nat) (I : Nat → Int32) (A : Nat → Nat → Int32) (L : Nat → Nat → Int64) (Z : Int64) (j : Nat) : va_E := match j with
  | 0 => .inr (4, tw_f t I Z)
  | 1 => .inl (gC G 1, 400, .inl (A 1))
  | 2 => .inl (gC G 0, 2400, .inl (A 2))
  | 3 => .inl (gC G 0, 7, .inl (A 3))
  | 4 => .inl (gC G 0, 288, .inl (A 4))
  | 5 => .inl (gC G 0, 6, .inl (A 5))
  | 6 => .inl (gC G 0, 93, .inl (A 6))
  | 7 => .inl (gC G 0, 400, .inl (A 7))
  | 8 => .inl (gC G 3, 64, .inr (.inl (L 8)))
  | 9 => .inl (gC G 3, 12, .inr (.inl (L 9)))
  | 10 => .inl (gC G 0, 124, .inl (A 10))
  | 11 => .inl (gC G 0, 8, .inl (A 11))
  | 12 => .inl (gC G 0, 8, .inl (A 12))
  | 13 => .inl (gC G 0, 400, .inl (A 13))
  | 14 => .inl (gC G 0, 20, .inl (A 14))
  | 15 => .inl (gC G 0, 488, .inl (A 15))
  | 16 => .inl (gC G 0, 8, .inl (A 16))
  | 17 => .inl (gC G 0, 64, .inl (A 17))
  | 18 => .inl (gC G 2, 7, .inl (A 18))
  | 19 => .inl (gC G 0, 56, .inl (A 19))
  | 20 => .inl (gC G 0, 496, .inl (A 20))
  | 21 => .inl (gC G 0, 4, .inl (A 21))
  | 22 => .inl (gC G 0, 4, .inl (A 22))
  | 23 => .inl (gC G 2, 4, .inl (A 23))
  | _ => .inr (0, [])
/-- the heap with the twin's cells laid over h0 -/
def TW (G : vg_G) (t : Nat) (I : Nat → Int32) (A : Nat → Nat → Int32) (L : Nat → Nat → Int64) (Z : Int64) (h0 : vg_H) : vg_H := fun a => if t ≤ a ∧ a < t + 24 then some (tw_c G t I A L Z (a - t)) else h0 a
theorem TW_at (G : vg_G) (t : Nat) (I : Nat → Int32) (A : Nat → Nat → Int32) (L : Nat → Nat → Int64) (Z : Int64) (h0 : vg_H) (j : Nat) (hj : j < 24) : TW G t I A L Z h0 (t + j) = some (tw_c G t I A L Z j) := by
  unfold TW
  rw [if_pos ⟨by omega, by omega⟩, Nat.add_sub_cancel_left]
theorem TW_0 (G : vg_G) (t : Nat) (I : Nat → Int32) (A : Nat → Nat → Int32) (L : Nat → Nat → Int64) (Z : Int64) (h0 : vg_H) : TW G t I A L Z h0 t = some (.inr (4, tw_f t I Z)) := TW_at G t I A L Z h0 0 (by omega)
theorem TW_set {G : vg_G} {t : Nat} {I I' : Nat → Int32} {A A' : Nat → Nat → Int32} {L L' : Nat → Nat → Int64} {Z Z' : Int64} {h0 : vg_H} (j : Nat) {e : va_E} (hj : j < 24) (he : tw_c G t I' A' L' Z' j = e) (ho : ∀ i, i < 24 → i ≠ j → tw_c G t I' A' L' Z' i = tw_c G t I A L Z i) : hup (TW G t I A L Z h0) (t + j) e = TW G t I' A' L' Z' h0 := by
  funext a
  unfold hup TW
  by_cases h1 : a = t + j
  · subst h1
    rw [if_pos rfl, if_pos ⟨by omega, by omega⟩, Nat.add_sub_cancel_left, he]
  · rw [if_neg h1]
    by_cases h2 : t ≤ a ∧ a < t + 24
    · rw [if_pos h2, if_pos h2, ho (a - t) (by omega) (by omega)]
    · rw [if_neg h2, if_neg h2]
def tw_isI (k : Nat) : Bool := match k with
  | 1 => true | 2 => true | 8 => true | 9 => true | 10 => true | 11 => true | 12 => true | 13 => true | 14 => true | 16 => true | 17 => true | 18 => true | 20 => true | 23 => true | 24 => true | 28 => true
  | _ => false
theorem tw_setI (t k : Nat) (I : Nat → Int32) (Z : Int64) (v : Int32) (hk : tw_isI k = true) : (tw_f t I Z).set k (.int v) = tw_f t (va_up I k v) Z := by
  unfold tw_isI at hk
  split at hk
  all_goals first | rfl | cases hk
theorem tw_c_f {G : vg_G} {t : Nat} {I I' : Nat → Int32} {A : Nat → Nat → Int32} {L : Nat → Nat → Int64} {Z Z' : Int64} : ∀ i, i < 24 → i ≠ 0 → tw_c G t I' A L Z' i = tw_c G t I A L Z i := by
  intro i hi h0
  unfold tw_c
  split
  all_goals first | rfl | omega
theorem TW_setI {G : vg_G} {t : Nat} {I : Nat → Int32} {A : Nat → Nat → Int32} {L : Nat → Nat → Int64} {Z : Int64} {h0 : vg_H} (k : Nat) (v : Int32) (hk : tw_isI k = true) : hup (TW G t I A L Z h0) t (.inr (4, (tw_f t I Z).set k (.int v))) = TW G t (va_up I k v) A L Z h0 :=
  TW_set 0 (by omega) (by rw [tw_setI t k I Z v hk]; rfl) tw_c_f
theorem TW_setZ {G : vg_G} {t : Nat} {I : Nat → Int32} {A : Nat → Nat → Int32} {L : Nat → Nat → Int64} {Z : Int64} {h0 : vg_H} (v : Int64) : hup (TW G t I A L Z h0) t (.inr (4, (tw_f t I Z).set 35 (.long v))) = TW G t I A L v h0 :=
  TW_set 0 (by omega) rfl tw_c_f
theorem TW_setA {G : vg_G} {t : Nat} {I : Nat → Int32} {A : Nat → Nat → Int32} {L : Nat → Nat → Int64} {Z : Int64} {h0 : vg_H} (j : Nat) {c : ClassId} {N : Nat} (f : Nat → Int32) (hj : j < 24) (hc : ∀ A : Nat → Nat → Int32, tw_c G t I A L Z j = .inl (c, N, .inl (A j))) : hup (TW G t I A L Z h0) (t + j) (.inl (c, N, .inl f)) = TW G t I (va_up A j f) L Z h0 := by
  refine TW_set j hj (by rw [hc, va_up_self]) (fun i hi hij => ?_)
  have e : ∀ q, q ≠ j → va_up A j f q = A q := fun q hq => va_up_ne A f hq
  unfold tw_c
  split
  all_goals first | rfl | rw [e _ hij]
theorem TW_setL {G : vg_G} {t : Nat} {I : Nat → Int32} {A : Nat → Nat → Int32} {L : Nat → Nat → Int64} {Z : Int64} {h0 : vg_H} (j : Nat) {c : ClassId} {N : Nat} (f : Nat → Int64) (hj : j < 24) (hc : ∀ L : Nat → Nat → Int64, tw_c G t I A L Z j = .inl (c, N, .inr (.inl (L j)))) : hup (TW G t I A L Z h0) (t + j) (.inl (c, N, .inr (.inl f))) = TW G t I A (va_up L j f) Z h0 := by
  refine TW_set j hj (by rw [hc, va_up_self]) (fun i hi hij => ?_)
  have e : ∀ q, q ≠ j → va_up L j f q = L q := fun q hq => va_up_ne L f hq
  unfold tw_c
  split
  all_goals first | rfl | rw [e _ hij]
theorem TW_eq {G : vg_G} {t : Nat} {I I' : Nat → Int32} {A A' : Nat → Nat → Int32} {L L' : Nat → Nat → Int64} {Z Z' : Int64} {h0 : vg_H} (hI : I = I') (hA : A = A') (hL : L = L') (hZ : Z = Z') : TW G t I A L Z h0 = TW G t I' A' L' Z' h0 := by rw [hI, hA, hL, hZ]
/-- a contract that tells the answer and the heap, and makes nothing -/
def FC (l : Launch) (y : MethodName) (cc : ByteArray) (nL : Nat) (rt : Option FieldType) (rf rl : Nat) (G : vg_G) (as : List Value) (h : vg_H) (r : Option Value) (h' : vg_H) : Prop := ∀ n k : Nat, gBase G ≤ n → vg_M l y cc nL rt rf rl 0 0 G as h n k (fun v h1 n' k' => v = r ∧ h1 = h' ∧ n' = n ∧ k' = k)
section VT
variable {G : vg_G} {X : vg_X} {cc : ByteArray} {own : String} {nL : Nat} {rt : Option FieldType} {n0 k0 rf rl mc ms : Nat} {Q : State → Prop} {pc : Nat} {l : List (Nat × Value)} {st : List Value} {h0 : vg_H} {n k t : Nat} {I : Nat → Int32} {A : Nat → Nat → Int32} {L : Nat → Nat → Int64} {Z : Int64}
/-- a field of the twin's -/
theorem t_get (hX : vg_ok G X cc own nL rt n0 k0 rf rl mc ms) (i : Nat) {idx : Nat} {v : Value} (d : decode cc pc = .ok (.getfield idx, 3)) (hq : Cond.fieldLink own idx RX4 (TX4 i).2.1 (TX4 i).2.2.1 ∈ lw_all) (hi : i < 40) (hs : (TX4 i).1 = RX4) (hv : (tw_f t I Z)[i]? = some v)
    (kk : vg_V G X nL Q (pc + 3) l (v :: st) (TW G t I A L Z h0) n k) : vg_V G X nL Q pc l (.ref t :: st) (TW G t I A L Z h0) n k :=
  v_get (C := RX4) (T := TX4) (N := 40) (ci := 4) hX in_X4 i d hq rfl hi hs (TW_0 G t I A L Z h0) hv kk
theorem t_put (hX : vg_ok G X cc own nL rt n0 k0 rf rl mc ms) (i : Nat) {idx : Nat} {v : Int32} (d : decode cc pc = .ok (.putfield idx, 3)) (hq : Cond.fieldLink own idx RX4 (TX4 i).2.1 (TX4 i).2.2.1 ∈ lw_all) (hi : i < 40) (hs : (TX4 i).1 = RX4) (hfin : (TX4 i).2.2.2 = false) (hty : tyX4 i = .int) (ht : gBase G ≤ t) (hk : tw_isI i = true)
    (kk : vg_V G X nL Q (pc + 3) l st (TW G t (va_up I i v) A L Z h0) n k) : vg_V G X nL Q pc l (.int v :: .ref t :: st) (TW G t I A L Z h0) n k :=
  v_put (C := RX4) (T := TX4) (N := 40) (ci := 4) hX in_X4 tyX4 tyX4_ok nmX4 i d hq rfl hi hs hfin ht (TW_0 G t I A L Z h0) (by exact hi) (by rw [hty]; rfl) (by rw [hty]; rfl) (by rw [TW_setI i v hk]; exact kk)
theorem t_putZ (hX : vg_ok G X cc own nL rt n0 k0 rf rl mc ms) {idx : Nat} {v : Int64} (d : decode cc pc = .ok (.putfield idx, 3)) (hq : Cond.fieldLink own idx RX4 "drawX" "J" ∈ lw_all) (ht : gBase G ≤ t)
    (kk : vg_V G X nL Q (pc + 3) l st (TW G t I A L v h0) n k) : vg_V G X nL Q pc l (.long v :: .ref t :: st) (TW G t I A L Z h0) n k :=
  v_put (C := RX4) (T := TX4) (N := 40) (ci := 4) hX in_X4 tyX4 tyX4_ok nmX4 35 d hq rfl (by omega) rfl rfl ht (TW_0 G t I A L Z h0) (by exact Nat.le_of_ble_eq_true rfl) rfl rfl (by rw [TW_setZ v]; exact kk)
theorem t_iald (hX : vg_ok G X cc own nL rt n0 k0 rf rl mc ms) (j i : Nat) {N : Nat} {f : Nat → Int32} {x : Int32} {v : Int32} (d : decode cc pc = .ok (.iaload, 1)) (hj : j < 24) (hc : tw_c G t I A L Z j = .inl (gC G 0, N, .inl f)) (hx : x = nI i) (hi : i < N) (hN : N < 2 ^ 31) (hv : f i = v)
    (kk : vg_V G X nL Q (pc + 1) l (.int v :: st) (TW G t I A L Z h0) n k) : vg_V G X nL Q pc l (.int x :: .ref (t + j) :: st) (TW G t I A L Z h0) n k :=
  v_iald hX 0 i d ((TW_at G t I A L Z h0 j hj).trans (by rw [hc])) rfl hx hi hN hv kk
theorem t_bald (hX : vg_ok G X cc own nL rt n0 k0 rf rl mc ms) (j i : Nat) {N : Nat} {f : Nat → Int32} {x : Int32} {v : Int32} (d : decode cc pc = .ok (.baload, 1)) (hj : j < 24) (hc : tw_c G t I A L Z j = .inl (gC G 1, N, .inl f)) (hx : x = nI i) (hi : i < N) (hN : N < 2 ^ 31) (hv : f i = v)
    (kk : vg_V G X nL Q (pc + 1) l (.int v :: st) (TW G t I A L Z h0) n k) : vg_V G X nL Q pc l (.int x :: .ref (t + j) :: st) (TW G t I A L Z h0) n k :=
  v_bald hX 1 i d ((TW_at G t I A L Z h0 j hj).trans (by rw [hc])) rfl hx hi hN hv kk
theorem t_zald (hX : vg_ok G X cc own nL rt n0 k0 rf rl mc ms) (j i : Nat) {N : Nat} {f : Nat → Int32} {x : Int32} {v : Int32} (d : decode cc pc = .ok (.baload, 1)) (hj : j < 24) (hc : tw_c G t I A L Z j = .inl (gC G 2, N, .inl f)) (hx : x = nI i) (hi : i < N) (hN : N < 2 ^ 31) (hv : f i = v)
    (kk : vg_V G X nL Q (pc + 1) l (.int v :: st) (TW G t I A L Z h0) n k) : vg_V G X nL Q pc l (.int x :: .ref (t + j) :: st) (TW G t I A L Z h0) n k :=
  v_zald hX 2 i d ((TW_at G t I A L Z h0 j hj).trans (by rw [hc])) rfl hx hi hN hv kk
theorem t_lald (hX : vg_ok G X cc own nL rt n0 k0 rf rl mc ms) (j i : Nat) {N : Nat} {f : Nat → Int64} {x : Int32} {v : Int64} (d : decode cc pc = .ok (.laload, 1)) (hj : j < 24) (hc : tw_c G t I A L Z j = .inl (gC G 3, N, .inr (.inl f))) (hx : x = nI i) (hi : i < N) (hN : N < 2 ^ 31) (hv : f i = v)
    (kk : vg_V G X nL Q (pc + 1) l (.long v :: st) (TW G t I A L Z h0) n k) : vg_V G X nL Q pc l (.int x :: .ref (t + j) :: st) (TW G t I A L Z h0) n k :=
  v_lald hX 3 i d ((TW_at G t I A L Z h0 j hj).trans (by rw [hc])) rfl hx hi hN hv kk
theorem t_iast (hX : vg_ok G X cc own nL rt n0 k0 rf rl mc ms) (j i : Nat) {N : Nat} {q : Int32} {x : Int32} (d : decode cc pc = .ok (.iastore, 1)) (ht : gBase G ≤ t) (hj : j < 24) (hc : ∀ A : Nat → Nat → Int32, tw_c G t I A L Z j = .inl (gC G 0, N, .inl (A j))) (hx : q = nI i) (hi : i < N) (hN : N < 2 ^ 31)
    (kk : vg_V G X nL Q (pc + 1) l st (TW G t I (va_up A j (upd (A j) i x)) L Z h0) n k) : vg_V G X nL Q pc l (.int x :: .int q :: .ref (t + j) :: st) (TW G t I A L Z h0) n k :=
  v_iast hX 0 i d (by omega) ((TW_at G t I A L Z h0 j hj).trans (by rw [hc])) rfl hx hi hN (by rw [TW_setA j _ hj hc]; exact kk)
theorem t_bast (hX : vg_ok G X cc own nL rt n0 k0 rf rl mc ms) (j i : Nat) {N : Nat} {q : Int32} {x : Int32} {y : Int32} (hy : narrow .byte (.int x) = .int y) (d : decode cc pc = .ok (.bastore, 1)) (ht : gBase G ≤ t) (hj : j < 24) (hc : ∀ A : Nat → Nat → Int32, tw_c G t I A L Z j = .inl (gC G 1, N, .inl (A j))) (hx : q = nI i) (hi : i < N) (hN : N < 2 ^ 31)
    (kk : vg_V G X nL Q (pc + 1) l st (TW G t I (va_up A j (upd (A j) i y)) L Z h0) n k) : vg_V G X nL Q pc l (.int x :: .int q :: .ref (t + j) :: st) (TW G t I A L Z h0) n k :=
  v_bast hX 1 i hy d (by omega) ((TW_at G t I A L Z h0 j hj).trans (by rw [hc])) rfl hx hi hN (by rw [TW_setA j _ hj hc]; exact kk)
theorem t_zast (hX : vg_ok G X cc own nL rt n0 k0 rf rl mc ms) (j i : Nat) {N : Nat} {q : Int32} {x : Int32} {y : Int32} (hy : narrow .boolean (.int x) = .int y) (d : decode cc pc = .ok (.bastore, 1)) (ht : gBase G ≤ t) (hj : j < 24) (hc : ∀ A : Nat → Nat → Int32, tw_c G t I A L Z j = .inl (gC G 2, N, .inl (A j))) (hx : q = nI i) (hi : i < N) (hN : N < 2 ^ 31)
    (kk : vg_V G X nL Q (pc + 1) l st (TW G t I (va_up A j (upd (A j) i y)) L Z h0) n k) : vg_V G X nL Q pc l (.int x :: .int q :: .ref (t + j) :: st) (TW G t I A L Z h0) n k :=
  v_zast hX 2 i hy d (by omega) ((TW_at G t I A L Z h0 j hj).trans (by rw [hc])) rfl hx hi hN (by rw [TW_setA j _ hj hc]; exact kk)
theorem t_last (hX : vg_ok G X cc own nL rt n0 k0 rf rl mc ms) (j i : Nat) {N : Nat} {q : Int32} {x : Int64} (d : decode cc pc = .ok (.lastore, 1)) (ht : gBase G ≤ t) (hj : j < 24) (hc : ∀ L : Nat → Nat → Int64, tw_c G t I A L Z j = .inl (gC G 3, N, .inr (.inl (L j)))) (hx : q = nI i) (hi : i < N) (hN : N < 2 ^ 31)
    (kk : vg_V G X nL Q (pc + 1) l st (TW G t I A (va_up L j (vp_updL (L j) i x)) Z h0) n k) : vg_V G X nL Q pc l (.long x :: .int q :: .ref (t + j) :: st) (TW G t I A L Z h0) n k :=
  v_last hX 3 i d (by omega) ((TW_at G t I A L Z h0 j hj).trans (by rw [hc])) rfl hx hi hN (by rw [TW_setL j _ hj hc]; exact kk)
end VT
/-- a contract that makes nothing, and says R of the answer and the heap -/
def FE (l : Launch) (y : MethodName) (cc : ByteArray) (nL : Nat) (rt : Option FieldType) (rf rl : Nat) (G : vg_G) (as : List Value) (h : vg_H) (R : Option Value → vg_H → Prop) : Prop := ∀ n k : Nat, gBase G ≤ n → vg_M l y cc nL rt rf rl 0 0 G as h n k (fun v h1 n' k' => R v h1 ∧ n' = n ∧ k' = k)
section VF
variable {G : vg_G} {X : vg_X} {cc : ByteArray} {own : String} {nL : Nat} {rt : Option FieldType} {n0 k0 rf rl mc ms : Nat} {Q : State → Prop} {pc : Nat} {l : List (Nat × Value)} {st : List Value} {h h' : vg_H} {n k : Nat}
theorem FC_of {lc : Launch} {y : MethodName} {as : List Value} {r : Option Value} (hG : vg_st G) (hy : plainName y.cls = true) (hlen : (lg_sl as).length ≤ nL)
    (body : ∀ (X : vg_X) (n k : Nat) (Φ : Option Value → vg_H → Nat → Nat → Prop), xL X = lc → vg_ok G X cc y.cls nL rt n k rf rl 0 0 → (∀ (v : Option Value) (h1 : vg_H), v = r → h1 = h' → Φ v h1 n k) → vg_V G X nL (vg_Q G X 0 0 Φ) 0 (lv_args 0 as) [] h n k) : FC lc y cc nL rt rf rl G as h r h' :=
  fun n k _ => vg_M_of hG hy hlen (fun X h1 h2 _ => body X n k _ h1 h2 (fun v h1 e1 e2 => ⟨e1, e2, rfl, rfl⟩))
/-- a call through an object, of a method that makes nothing -/
theorem f_callV {y : MethodName} {cc' : ByteArray} {nL' : Nat} {rt' : Option FieldType} {rf' rl' : Nat} {b ci idx : Nat} {r : vw_C} {fs : List Value} {as rest : List Value} {v : Option Value} (hX : vg_ok G X cc own nL rt n0 k0 rf rl mc ms) (hM : FC (xL X) y cc' nL' rt' rf' rl' G (.ref b :: as) h v h') (hd : vg_nd y as.length) (d : decode cc pc = .ok (.invokevirtual idx, 3))
    (q1 : Cond.methodLink own idx y ∈ lw_all) (q2 : Cond.instanceMethod y ∈ lw_all) (q3 : Cond.selects r.1 y y ∈ lw_all) (q4 : Cond.initialized r.1 ∈ lw_all) (q5 : Cond.code y cc' nL' rt' ∈ lw_all) (hy : y.cls = r.1) (he : h b = some (.inr (ci, fs))) (hc : vg_cl[ci]? = some r) (hst : st = as.reverse ++ .ref b :: rest)
    (hf : rf' + 1 ≤ rf) (hlo : 8 + (nL' + 11) + rl' ≤ rl) (hsum : (rest.map fun v => v.category).sum ≤ 8) (hn : gBase G ≤ n) (hm : n ≤ n0 + mc) (hs : k ≤ k0 + ms)
    (kk : vg_V G X nL Q (pc + 3) l (v.toList ++ rest) h' n k) : vg_V G X nL Q pc l st h n k :=
  v_callV hX (hM n k hn) hd d q1 q2 q3 q4 q5 hy he hc hst hf hlo hsum hm hs (fun v1 h1 n1 k1 q => by obtain ⟨rfl, rfl, rfl, rfl⟩ := q; exact kk)
theorem f_callS {y : MethodName} {cc' : ByteArray} {nL' : Nat} {rt' : Option FieldType} {rf' rl' : Nat} {idx : Nat} {as rest : List Value} {v : Option Value} (hX : vg_ok G X cc own nL rt n0 k0 rf rl mc ms) (hM : FC (xL X) y cc' nL' rt' rf' rl' G as h v h') (hd : vg_nd y as.length) (d : decode cc pc = .ok (.invokestatic idx, 3))
    (q1 : Cond.methodLink own idx y ∈ lw_all) (q2 : Cond.static y ∈ lw_all) (q4 : Cond.initialized y.cls ∈ lw_all) (q5 : Cond.code y cc' nL' rt' ∈ lw_all) (hst : st = as.reverse ++ rest)
    (hf : rf' + 1 ≤ rf) (hlo : 8 + (nL' + 11) + rl' ≤ rl) (hsum : (rest.map fun v => v.category).sum ≤ 8) (hn : gBase G ≤ n) (hm : n ≤ n0 + mc) (hs : k ≤ k0 + ms)
    (kk : vg_V G X nL Q (pc + 3) l (v.toList ++ rest) h' n k) : vg_V G X nL Q pc l st h n k :=
  v_callS hX (hM n k hn) hd d q1 q2 q4 q5 hst hf hlo hsum hm hs (fun v1 h1 n1 k1 q => by obtain ⟨rfl, rfl, rfl, rfl⟩ := q; exact kk)
theorem f_callSN {y : MethodName} {cc' : ByteArray} {nL' : Nat} {rt' : Option FieldType} {rf' rl' : Nat} {idx : Nat} {host : String} {as rest : List Value} {v : Option Value} (hX : vg_ok G X cc own nL rt n0 k0 rf rl mc ms) (hM : FC (xL X) y cc' nL' rt' rf' rl' G as h v h') (hd : vg_nd y as.length) (d : decode cc pc = .ok (.invokestatic idx, 3))
    (q1 : Cond.methodLinkNest own idx y host ∈ lw_tbl) (q2 : Cond.static y ∈ lw_all) (q4 : Cond.initialized y.cls ∈ lw_all) (q5 : Cond.code y cc' nL' rt' ∈ lw_all) (hst : st = as.reverse ++ rest)
    (hf : rf' + 1 ≤ rf) (hlo : 8 + (nL' + 11) + rl' ≤ rl) (hsum : (rest.map fun v => v.category).sum ≤ 8) (hn : gBase G ≤ n) (hm : n ≤ n0 + mc) (hs : k ≤ k0 + ms)
    (kk : vg_V G X nL Q (pc + 3) l (v.toList ++ rest) h' n k) : vg_V G X nL Q pc l st h n k :=
  v_callSN hX (hM n k hn) hd d q1 q2 q4 q5 hst hf hlo hsum hm hs (fun v1 h1 n1 k1 q => by obtain ⟨rfl, rfl, rfl, rfl⟩ := q; exact kk)
/-- two ways that meet again: P is what holds where they meet -/
theorem v_cut {P : Prop} (h1 : P → vg_V G X nL Q pc l st h n k) (h2 : P) : vg_V G X nL Q pc l st h n k := h1 h2
/-- a boolean answer decides -/
theorem v_ifB_eq (hX : vg_ok G X cc own nL rt n0 k0 rf rl mc ms) {off : Int} {P : Prop} [Decidable P] (tgt : Nat) (d : decode cc pc = .ok (.ifCond .eq off, 3)) (ht : (pc : Int) + off = (tgt : Int)) (kt : ¬ P → vg_V G X nL Q tgt l st h n k) (kf : P → vg_V G X nL Q (pc + 3) l st h n k) : vg_V G X nL Q pc l (.int (if P then 1 else 0) :: st) h n k := by
  by_cases hP : P
  · rw [if_pos hP]
    exact v_if_eq hX tgt d ht (Iff.refl ((1 : Int32) = 0)) (fun c => absurd c (by decide)) (fun _ => kf hP)
  · rw [if_neg hP]
    exact v_if_eq hX tgt d ht (Iff.refl ((0 : Int32) = 0)) (fun _ => kt hP) (fun c => absurd rfl c)
theorem v_ifB_ne (hX : vg_ok G X cc own nL rt n0 k0 rf rl mc ms) {off : Int} {P : Prop} [Decidable P] (tgt : Nat) (d : decode cc pc = .ok (.ifCond .ne off, 3)) (ht : (pc : Int) + off = (tgt : Int)) (kt : P → vg_V G X nL Q tgt l st h n k) (kf : ¬ P → vg_V G X nL Q (pc + 3) l st h n k) : vg_V G X nL Q pc l (.int (if P then 1 else 0) :: st) h n k := by
  by_cases hP : P
  · rw [if_pos hP]
    exact v_if_ne hX tgt d ht (Iff.refl ((1 : Int32) = 0)) (fun _ => kt hP) (fun c => absurd c (by decide))
  · rw [if_neg hP]
    exact v_if_ne hX tgt d ht (Iff.refl ((0 : Int32) = 0)) (fun c => absurd rfl c) (fun _ => kf hP)
theorem vg_nb (P : Prop) [Decidable P] : narrow .boolean (.int (if P then 1 else 0)) = .int (if P then 1 else 0) := by split <;> rfl
theorem FE_of {lc : Launch} {y : MethodName} {as : List Value} {R : Option Value → vg_H → Prop} (hG : vg_st G) (hy : plainName y.cls = true) (hlen : (lg_sl as).length ≤ nL)
    (body : ∀ (X : vg_X) (n k : Nat) (Φ : Option Value → vg_H → Nat → Nat → Prop), xL X = lc → vg_ok G X cc y.cls nL rt n k rf rl 0 0 → (∀ (v : Option Value) (h1 : vg_H), R v h1 → Φ v h1 n k) → vg_V G X nL (vg_Q G X 0 0 Φ) 0 (lv_args 0 as) [] h n k) : FE lc y cc nL rt rf rl G as h R :=
  fun n k _ => vg_M_of hG hy hlen (fun X h1 h2 _ => body X n k _ h1 h2 (fun v h1 e1 => ⟨e1, rfl, rfl⟩))
theorem g_callVE {y : MethodName} {cc' : ByteArray} {nL' : Nat} {rt' : Option FieldType} {rf' rl' : Nat} {b ci idx : Nat} {r : vw_C} {fs : List Value} {as rest : List Value} {R : Option Value → vg_H → Prop} (hX : vg_ok G X cc own nL rt n0 k0 rf rl mc ms) (hM : FE (xL X) y cc' nL' rt' rf' rl' G (.ref b :: as) h R) (hd : vg_nd y as.length) (d : decode cc pc = .ok (.invokevirtual idx, 3))
    (q1 : Cond.methodLink own idx y ∈ lw_all) (q2 : Cond.instanceMethod y ∈ lw_all) (q3 : Cond.selects r.1 y y ∈ lw_all) (q4 : Cond.initialized r.1 ∈ lw_all) (q5 : Cond.code y cc' nL' rt' ∈ lw_all) (he : h b = some (.inr (ci, fs))) (hc : vg_cl[ci]? = some r) (hy : y.cls = r.1) (hst : st = as.reverse ++ .ref b :: rest)
    (hf : rf' + 1 ≤ rf) (hlo : 8 + (nL' + 11) + rl' ≤ rl) (hsum : (rest.map fun v => v.category).sum ≤ 8) (hn : gBase G ≤ n) (hm : n ≤ n0 + mc) (hs : k ≤ k0 + ms)
    (kk : ∀ (v : Option Value) (h1 : vg_H), R v h1 → vg_V G X nL Q (pc + 3) l (v.toList ++ rest) h1 n k) : vg_V G X nL Q pc l st h n k :=
  v_callV hX (hM n k hn) hd d q1 q2 q3 q4 q5 hy he hc hst hf hlo hsum hm hs (fun v1 h1 n1 k1 q => by obtain ⟨q, rfl, rfl⟩ := q; exact kk v1 h1 q)
theorem v_hs {st' : List Value} (e1 : st = st') (e2 : h = h') (kk : vg_V G X nL Q pc l st' h' n k) : vg_V G X nL Q pc l st h n k := by subst e1 e2; exact kk
theorem v_top {x y : Int32} (e : x = y) (kk : vg_V G X nL Q pc l (.int y :: st) h n k) : vg_V G X nL Q pc l (.int x :: st) h n k := by subst e; exact kk
theorem v_topl {x y : Int64} (e : x = y) (kk : vg_V G X nL Q pc l (.long y :: st) h n k) : vg_V G X nL Q pc l (.long x :: st) h n k := by subst e; exact kk
theorem g_callV {y : MethodName} {cc' : ByteArray} {nL' : Nat} {rt' : Option FieldType} {rf' rl' : Nat} {b ci idx : Nat} {r : vw_C} {fs : List Value} {as rest st' : List Value} {v : Option Value} {h'' : vg_H} (hX : vg_ok G X cc own nL rt n0 k0 rf rl mc ms) (hM : FC (xL X) y cc' nL' rt' rf' rl' G (.ref b :: as) h v h') (hd : vg_nd y as.length) (d : decode cc pc = .ok (.invokevirtual idx, 3))
    (q1 : Cond.methodLink own idx y ∈ lw_all) (q2 : Cond.instanceMethod y ∈ lw_all) (q3 : Cond.selects r.1 y y ∈ lw_all) (q4 : Cond.initialized r.1 ∈ lw_all) (q5 : Cond.code y cc' nL' rt' ∈ lw_all) (he : h b = some (.inr (ci, fs))) (hc : vg_cl[ci]? = some r) (hy : y.cls = r.1) (hst : st = as.reverse ++ .ref b :: rest)
    (hf : rf' + 1 ≤ rf) (hlo : 8 + (nL' + 11) + rl' ≤ rl) (hsum : (rest.map fun v => v.category).sum ≤ 8) (hn : gBase G ≤ n) (hm : n ≤ n0 + mc) (hs : k ≤ k0 + ms) (e1 : v.toList ++ rest = st') (e2 : h' = h'')
    (kk : vg_V G X nL Q (pc + 3) l st' h'' n k) : vg_V G X nL Q pc l st h n k := by
  subst e1 e2
  exact f_callV hX hM hd d q1 q2 q3 q4 q5 hy he hc hst hf hlo hsum hn hm hs kk
theorem g_callS {y : MethodName} {cc' : ByteArray} {nL' : Nat} {rt' : Option FieldType} {rf' rl' : Nat} {idx : Nat} {as rest st' : List Value} {v : Option Value} {h'' : vg_H} (hX : vg_ok G X cc own nL rt n0 k0 rf rl mc ms) (hM : FC (xL X) y cc' nL' rt' rf' rl' G as h v h') (hd : vg_nd y as.length) (d : decode cc pc = .ok (.invokestatic idx, 3))
    (q1 : Cond.methodLink own idx y ∈ lw_all) (q2 : Cond.static y ∈ lw_all) (q4 : Cond.initialized y.cls ∈ lw_all) (q5 : Cond.code y cc' nL' rt' ∈ lw_all) (hst : st = as.reverse ++ rest)
    (hf : rf' + 1 ≤ rf) (hlo : 8 + (nL' + 11) + rl' ≤ rl) (hsum : (rest.map fun v => v.category).sum ≤ 8) (hn : gBase G ≤ n) (hm : n ≤ n0 + mc) (hs : k ≤ k0 + ms) (e1 : v.toList ++ rest = st') (e2 : h' = h'')
    (kk : vg_V G X nL Q (pc + 3) l st' h'' n k) : vg_V G X nL Q pc l st h n k := by
  subst e1 e2
  exact f_callS hX hM hd d q1 q2 q4 q5 hst hf hlo hsum hn hm hs kk
theorem g_callSN {y : MethodName} {cc' : ByteArray} {nL' : Nat} {rt' : Option FieldType} {rf' rl' : Nat} {idx : Nat} {host : String} {as rest st' : List Value} {v : Option Value} {h'' : vg_H} (hX : vg_ok G X cc own nL rt n0 k0 rf rl mc ms) (hM : FC (xL X) y cc' nL' rt' rf' rl' G as h v h') (hd : vg_nd y as.length) (d : decode cc pc = .ok (.invokestatic idx, 3))
    (q1 : Cond.methodLinkNest own idx y host ∈ lw_tbl) (q2 : Cond.static y ∈ lw_all) (q4 : Cond.initialized y.cls ∈ lw_all) (q5 : Cond.code y cc' nL' rt' ∈ lw_all) (hst : st = as.reverse ++ rest)
    (hf : rf' + 1 ≤ rf) (hlo : 8 + (nL' + 11) + rl' ≤ rl) (hsum : (rest.map fun v => v.category).sum ≤ 8) (hn : gBase G ≤ n) (hm : n ≤ n0 + mc) (hs : k ≤ k0 + ms) (e1 : v.toList ++ rest = st') (e2 : h' = h'')
    (kk : vg_V G X nL Q (pc + 3) l st' h'' n k) : vg_V G X nL Q pc l st h n k := by
  subst e1 e2
  exact f_callSN hX hM hd d q1 q2 q4 q5 hst hf hlo hsum hn hm hs kk
end VF
/-- a switch's default: none of its cases -/
def tb_no (x : Int32) : List Int32 → Prop
  | [] => True
  | c :: cs => ¬ x = c ∧ tb_no x cs
theorem tb_no_mem {x c : Int32} : ∀ {cs : List Int32}, tb_no x cs → c ∈ cs → ¬ x = c
  | [], _, h => by cases h
  | d :: cs, hn, h => by
    rcases List.mem_cons.mp h with rfl | h
    · exact hn.1
    · exact tb_no_mem hn.2 h
theorem tb_out (lo hi : Int) (x : Int32) (cs : List Int32) (hc : cs.map Int32.toInt = (List.range (hi + 1 - lo).toNat).map (fun (i : Nat) => lo + (i : Int))) (hn : tb_no x cs) : x.toInt < lo ∨ hi < x.toInt := by
  by_cases h1 : x.toInt < lo
  · exact Or.inl h1
  by_cases h2 : hi < x.toInt
  · exact Or.inr h2
  exfalso
  have hm : x.toInt ∈ cs.map Int32.toInt := by
    rw [hc]
    exact List.mem_map.mpr ⟨(x.toInt - lo).toNat, List.mem_range.mpr (by omega), by omega⟩
  obtain ⟨c, hc1, hc2⟩ := List.mem_map.mp hm
  exact tb_no_mem hn hc1 (Int32.toInt_inj.mp hc2.symm)
