/-! SPECIFICATIONS: what the methods reckon, in plain Lean -/
theorem b_iff {P Q : Prop} [Decidable P] [Decidable Q] (h : P ↔ Q) : (if P then (1 : Int32) else 0) = if Q then 1 else 0 := by
  by_cases hP : P
  · rw [if_pos hP, if_pos (h.mp hP)]
  · rw [if_neg hP, if_neg (fun q => hP (h.mpr q))]
theorem rv_int {a b : Int32} (h : a = b) : (some (Value.int a) : Option Value) = some (.int b) := by rw [h]
/-- bit k of a set -/
abbrev hs (set k : Int32) : Prop := ((set >>> (k &&& 31)) &&& 1) = 1
abbrev bitI (k : Nat) : Int32 := (1 : Int32) <<< (nI k &&& 31)
def hd (x : Int32) : Int32 := if x ≤ 999 then x else 999
def sp_closed (deep : Int32) (snow : Nat → Int32) : Nat → Int32
  | 0 => 0
  | k + 1 => sp_closed deep snow k ||| (if snow k < deep then 0 else bitI k)
/-- said, with the state's parts laid over sd: snow, walls, day, swept, before, have -/
def pS (sn wl : Nat → Int32) (dy sw be hv : Int32) (sd : Nat → Int32) : Nat → Int32 := fun j =>
  if j < 10 then sd j else if j = 10 then dy else if j = 11 then sw else if j = 12 then be else if j = 13 then hv else if j < 22 then sn (j - 14) else if j < 30 then wl (j - 22) else sd j
section PS
variable {sn wl : Nat → Int32} {dy sw be hv : Int32} {sd : Nat → Int32}
theorem pS_sn {i : Nat} (h : i < 8) : pS sn wl dy sw be hv sd (14 + i) = sn i := by
  unfold pS
  rw [if_neg (by omega), if_neg (by omega), if_neg (by omega), if_neg (by omega), if_neg (by omega), if_pos (by omega), Nat.add_sub_cancel_left]
theorem pS_wl {i : Nat} (h : i < 8) : pS sn wl dy sw be hv sd (22 + i) = wl i := by
  unfold pS
  rw [if_neg (by omega), if_neg (by omega), if_neg (by omega), if_neg (by omega), if_neg (by omega), if_neg (by omega), if_pos (by omega), Nat.add_sub_cancel_left]
theorem pS_hi {j : Nat} (h : 30 ≤ j) : pS sn wl dy sw be hv sd j = sd j := by
  unfold pS
  rw [if_neg (by omega), if_neg (by omega), if_neg (by omega), if_neg (by omega), if_neg (by omega), if_neg (by omega), if_neg (by omega)]
theorem pS_setsn {i : Nat} (h : i < 8) (x : Int32) : upd (pS sn wl dy sw be hv sd) (14 + i) x = pS (upd sn i x) wl dy sw be hv sd := by
  funext j
  by_cases hj : j = 14 + i
  · subst hj
    rw [pS_sn h]; simp [upd]
  · simp only [upd, if_neg hj, pS]
    repeat' split
    all_goals first | rfl | omega | (rw [if_neg (by omega)])
theorem pS_setwl {i : Nat} (h : i < 8) (x : Int32) : upd (pS sn wl dy sw be hv sd) (22 + i) x = pS sn (upd wl i x) dy sw be hv sd := by
  funext j
  by_cases hj : j = 22 + i
  · subst hj
    rw [pS_wl h]; simp [upd]
  · simp only [upd, if_neg hj, pS]
    repeat' split
    all_goals first | rfl | omega | (rw [if_neg (by omega)])
theorem pS_setdy (x : Int32) : upd (pS sn wl dy sw be hv sd) 10 x = pS sn wl x sw be hv sd := by
  funext j
  by_cases hj : j = 10
  · subst hj; rfl
  · simp only [upd, if_neg hj, pS]
theorem pS_setsw (x : Int32) : upd (pS sn wl dy sw be hv sd) 11 x = pS sn wl dy x be hv sd := by
  funext j
  by_cases hj : j = 11
  · subst hj; rfl
  · simp only [upd, if_neg hj, pS]
theorem pS_setbe (x : Int32) : upd (pS sn wl dy sw be hv sd) 12 x = pS sn wl dy sw x hv sd := by
  funext j
  by_cases hj : j = 12
  · subst hj; rfl
  · simp only [upd, if_neg hj, pS]
theorem pS_sethv (x : Int32) : upd (pS sn wl dy sw be hv sd) 13 x = pS sn wl dy sw be x sd := by
  funext j
  by_cases hj : j = 13
  · subst hj; rfl
  · simp only [upd, if_neg hj, pS]
theorem pS_sethi {j : Nat} (h : 30 ≤ j) (x : Int32) : upd (pS sn wl dy sw be hv sd) j x = pS sn wl dy sw be hv (upd sd j x) := by
  funext q
  by_cases hj : q = j
  · subst hj
    rw [pS_hi h]; simp [upd]
  · simp only [upd, if_neg hj, pS]
end PS
theorem sA_gen {A0 A1 : Nat → Nat → Int32} {i : Nat} {x : Int32} (h10 : A1 10 = upd (A0 10) i x) (ho : ∀ z, z ≠ 10 → A1 z = A0 z) : va_up A0 10 (upd (A0 10) i x) = A1 := by
  funext z
  unfold va_up
  split
  · next q => subst q; exact h10.symm
  · next q => exact (ho z q).symm
theorem sA_n {A : Nat → Nat → Int32} {f g : Nat → Int32} {i : Nat} {x : Int32} (h : upd f i x = g) (hA : A 10 = f) : va_up A 10 (upd (A 10) i x) = va_up A 10 g := by rw [hA, h]
theorem sA_t {A : Nat → Nat → Int32} {f g : Nat → Int32} {i : Nat} {x : Int32} (h : upd f i x = g) : va_up (va_up A 10 f) 10 (upd (va_up A 10 f 10) i x) = va_up A 10 g := by rw [va_up_self, bx_uu, h]
/-! numbers in a range -/
abbrev inR (k : Int32) (n : Nat) : Prop := ¬ (k < 0) ∧ (¬ (nI n ≤ k))
theorem inR_nat {k : Int32} {n : Nat} (h : inR k n) (hn : n < 2 ^ 31) : ∃ s : Nat, s < n ∧ k = nI s := by
  rcases pk_ix k hn with q | q | ⟨j, h1, h2⟩
  · exact absurd q h.1
  · exact absurd q h.2
  · exact ⟨j, h1, h2⟩
theorem inR_of {s n : Nat} (h : s < n) (hn : n < 2 ^ 31) : inR (nI s) n := ⟨nI_pos (by omega), nI_ge h hn⟩
abbrev inL (k : Int32) (lo hi : Int64) : Prop := ¬ (k.toInt64 < lo) ∧ (¬ (hi < k.toInt64))
theorem inL_nat {k : Int32} {a b : Nat} (h : inL k (lN a) (lN b)) (ha : a < 2 ^ 31) (hb : b < 2 ^ 31) : ∃ s : Nat, a ≤ s ∧ s ≤ b ∧ k = nI s := by
  have h1 : ¬ k.toInt64.toInt < (lN a).toInt := fun q => h.1 (Int64.lt_iff_toInt_lt.mpr q)
  have h2 : ¬ (lN b).toInt < k.toInt64.toInt := fun q => h.2 (Int64.lt_iff_toInt_lt.mpr q)
  rw [lN_toInt ha, Int32.toInt_toInt64] at h1
  rw [lN_toInt hb, Int32.toInt_toInt64] at h2
  have h0 : ¬ k < 0 := by
    rw [Int32.lt_iff_toInt_lt]
    have : (0 : Int32).toInt = 0 := rfl
    omega
  obtain ⟨j, hj, e⟩ := nI_of h0
  subst e
  rw [nI_toInt hj] at h1 h2
  exact ⟨j, by omega, by omega, rfl⟩
/-! the state's spec -/
def sp_all (sn : Nat → Int32) : Nat → Int32
  | 0 => 0
  | k + 1 => sp_all sn k + sn k
def mn (x y : Int32) : Int32 := if x ≤ y then x else y
def tk_sn (sn wl : Nat → Int32) (s : Nat) (x : Int32) : Nat → Int32 := if wl s = -1 then upd sn s (sn s - x) else upd (upd sn s (sn s - x)) (wl s).toNatClampNeg (hd (upd sn s (sn s - x) (wl s).toNatClampNeg + x))
def tk_th (th wl : Nat → Int32) (s : Nat) (x : Int32) : Nat → Int32 := if wl s = -1 then th else upd th (wl s).toNatClampNeg (th (wl s).toNatClampNeg + x)
theorem tk_sn1 {sn wl : Nat → Int32} {s : Nat} {x : Int32} (h : wl s = -1) : tk_sn sn wl s x = upd sn s (sn s - x) := if_pos h
theorem tk_th1 {th wl : Nat → Int32} {s : Nat} {x : Int32} (h : wl s = -1) : tk_th th wl s x = th := if_pos h
theorem nI_m1 {j : Nat} (hj : j < 2 ^ 31) : ¬ nI j = -1 := by
  intro q
  have h1 := nI_toInt hj
  rw [q] at h1
  have : (-1 : Int32).toInt = -1 := rfl
  omega
theorem tk_snj {sn wl : Nat → Int32} {s j : Nat} {x : Int32} (h : wl s = nI j) (hj : j < 8) : tk_sn sn wl s x = upd (upd sn s (sn s - x)) j (hd (upd sn s (sn s - x) j + x)) := by
  unfold tk_sn
  rw [h, if_neg (nI_m1 (by omega)), nI_clamp (by omega)]
theorem tk_thj {th wl : Nat → Int32} {s j : Nat} {x : Int32} (h : wl s = nI j) (hj : j < 8) : tk_th th wl s x = upd th j (th j + x) := by
  unfold tk_th
  rw [h, if_neg (nI_m1 (by omega)), nI_clamp (by omega)]
theorem va_up_id {α : Type} {f : Nat → α} {k : Nat} {v : α} (h : f k = v) : va_up f k v = f := by
  funext j
  unfold va_up
  split
  · next q => subst q; exact h.symm
  · rfl
/-- the night: who was swept gets what falls -/
def sp_nf (fall set : Int32) (sn : Nat → Int32) : Nat → (Nat → Int32)
  | 0 => sn
  | k + 1 => if hs set (nI k) then upd (sp_nf fall set sn k) k (hd (sp_nf fall set sn k k + fall)) else sp_nf fall set sn k
def sp_ff (fall set : Int32) (fl : Nat → Int32) : Nat → (Nat → Int32)
  | 0 => fl
  | k + 1 => if hs set (nI k) then upd (sp_ff fall set fl k) k (sp_ff fall set fl k k + fall) else sp_ff fall set fl k
/-- days till a need -/
def sp_nn (nd : Nat → Int32) (s d0 : Int32) : Nat → Nat → Int32
  | 0, _ => 99
  | c + 1, d => if hs (nd d) s then nI d - d0 else sp_nn nd s d0 c (d + 1)
/-- how many bits -/
def pcN (k : Nat) : Nat := (List.range 10).countP (fun i => k.testBit i)
def pcI (x : Int32) : Int32 := nI (pcN x.toNatClampNeg)
def clN (k : Nat) : Nat := k &&& (k - 1)
set_option maxRecDepth 100000 in
theorem cl_all : ∀ k, k < 1024 → k ≠ 0 → pcN (clN k) + 1 = pcN k ∧ clN k < k := by decide +kernel
theorem pc_0 : ∀ k, k < 1024 → pcN k = 0 → k = 0 := by decide +kernel
theorem cl_and : ∀ k, k < 1024 → nI k &&& (nI k - 1) = nI (clN k) := by decide +kernel
/-- what is kept of said, and laid back -/
def kp (a b : Nat → Int32) : Nat → Int32 := fun j => if j < 20 then b (10 + j) else a j
def lbk (a b : Nat → Int32) : Nat → Int32 := fun j => if 10 ≤ j ∧ j < 30 then a (j - 10) else b j
theorem lbk_kp {a : Nat → Int32} {sn wl sn' wl' : Nat → Int32} {dy sw be hv dy' sw' be' hv' : Int32} {sd sd' : Nat → Int32} : lbk (kp a (pS sn wl dy sw be hv sd')) (pS sn' wl' dy' sw' be' hv' sd) = pS sn wl dy sw be hv sd := by
  funext j
  unfold lbk kp
  by_cases h : 10 ≤ j ∧ j < 30
  · rw [if_pos h, if_pos (by omega), show 10 + (j - 10) = j by omega]
    unfold pS
    repeat' split
    all_goals first | rfl | omega
  · rw [if_neg h]
    unfold pS
    repeat' split
    all_goals first | rfl | omega
theorem kp_step {a b : Nat → Int32} (i : Nat) : upd (fun j => if j < i then b (10 + j) else a j) i (b (10 + i)) = fun j => if j < (i + 1) then b (10 + j) else a j := by
  funext j
  unfold upd
  by_cases h : j = i
  · subst h; rw [if_pos rfl, if_pos (by omega)]
  · rw [if_neg h]
    show (if j < i then b (10 + j) else a j) = _
    by_cases h2 : j < i
    · rw [if_pos h2, if_pos (by omega)]
    · rw [if_neg h2, if_neg (by omega)]
theorem lbk_step {a b : Nat → Int32} (i : Nat) : upd (fun j => if 10 ≤ j ∧ j < 10 + i then a (j - 10) else b j) (10 + i) (a i) = fun j => if 10 ≤ j ∧ j < 10 + (i + 1) then a (j - 10) else b j := by
  funext j
  unfold upd
  by_cases h : j = 10 + i
  · subst h; rw [if_pos rfl, if_pos (by omega), Nat.add_sub_cancel_left]
  · rw [if_neg h]
    show (if 10 ≤ j ∧ j < 10 + i then a (j - 10) else b j) = _
    by_cases h2 : 10 ≤ j ∧ j < 10 + i
    · rw [if_pos h2, if_pos (by omega)]
    · rw [if_neg h2, if_neg (by omega)]
def clIt (b : Nat) : Nat → Nat
  | 0 => b
  | i + 1 => clN (clIt b i)
theorem cl_it {b : Nat} (hb : b < 1024) : ∀ i, i ≤ pcN b → clIt b i < 1024 ∧ pcN (clIt b i) + i = pcN b
  | 0, _ => ⟨hb, rfl⟩
  | i + 1, hi => by
    obtain ⟨h1, h2⟩ := cl_it hb i (by omega)
    have h0 : clIt b i ≠ 0 := by
      intro q
      rw [q] at h2
      have : pcN 0 = 0 := rfl
      omega
    obtain ⟨h3, h4⟩ := cl_all _ h1 h0
    refine ⟨?_, ?_⟩
    · show clN (clIt b i) < 1024
      omega
    · show pcN (clN (clIt b i)) + (i + 1) = pcN b
      omega
theorem nI_or (a b : Nat) : nI a ||| nI b = nI (a ||| b) := by
  apply Int32.toBitVec_inj.mp
  rw [Int32.toBitVec_or]
  show BitVec.ofNat 32 a ||| BitVec.ofNat 32 b = BitVec.ofNat 32 (a ||| b)
  apply BitVec.eq_of_toNat_eq
  simp [Nat.or_mod_two_pow]
theorem nI_and (a b : Nat) : nI a &&& nI b = nI (a &&& b) := by
  apply Int32.toBitVec_inj.mp
  rw [Int32.toBitVec_and]
  show BitVec.ofNat 32 a &&& BitVec.ofNat 32 b = BitVec.ofNat 32 (a &&& b)
  apply BitVec.eq_of_toNat_eq
  simp [Nat.and_mod_two_pow]
theorem bitI_nat : ∀ k, k < 31 → bitI k = nI (2 ^ k) := by decide +kernel
theorem or_lt {a b n : Nat} (ha : a < 2 ^ n) (hb : b < 2 ^ n) : a ||| b < 2 ^ n := Nat.or_lt_two_pow ha hb
/-- the closed ones, as a number -/
def clsN (deep : Int32) (sn : Nat → Int32) (n : Nat) : Nat := (sp_closed deep sn n).toNatClampNeg
theorem cls_nat {deep : Int32} {sn : Nat → Int32} : ∀ {n : Nat}, n ≤ 8 → sp_closed deep sn n = nI (clsN deep sn n) ∧ clsN deep sn n < 2 ^ n := by
  have key : ∀ n, n ≤ 8 → ∃ c, c < 2 ^ n ∧ sp_closed deep sn n = nI c := by
    intro n
    induction n with
    | zero => intro _; exact ⟨0, by decide, rfl⟩
    | succ n ih =>
      intro hn
      obtain ⟨c, h1, h2⟩ := ih (by omega)
      have h3 : c < 2 ^ (n + 1) := Nat.lt_trans h1 (Nat.pow_lt_pow_right (by decide) (Nat.lt_succ_self n))
      unfold sp_closed
      by_cases q : sn n < deep
      · rw [if_pos q]
        exact ⟨c, h3, by rw [h2]; exact Int32.or_zero⟩
      · rw [if_neg q, bitI_nat n (by omega), h2, nI_or]
        exact ⟨_, or_lt h3 (Nat.pow_lt_pow_right (by decide) (Nat.lt_succ_self n)), rfl⟩
  intro n hn
  obtain ⟨c, h1, h2⟩ := key n hn
  have h3 : c < 2 ^ 31 := Nat.lt_of_lt_of_le h1 (Nat.pow_le_pow_right (by decide) (by omega))
  have : clsN deep sn n = c := by unfold clsN; rw [h2, nI_clamp h3]
  rw [this]
  exact ⟨h2, h1⟩
theorem pow8 {n c : Nat} (hn : n ≤ 8) (h : c < 2 ^ n) : c < 256 := Nat.lt_of_lt_of_le h (Nat.pow_le_pow_right (by decide) hn)
theorem and_lt8 {a b : Nat} (ha : a < 256) : a &&& b < 256 := Nat.lt_of_le_of_lt Nat.and_le_left ha
theorem sp_nn_miss {nd : Nat → Int32} {s d0 : Int32} {c d i : Nat} (hi : i < c) (h : ¬ hs (nd (d + i)) s) : sp_nn nd s d0 (c - i) (d + i) = sp_nn nd s d0 (c - (i + 1)) (d + (i + 1)) := by
  rw [show c - i = (c - (i + 1)) + 1 by omega]
  show (if hs (nd (d + i)) s then _ else sp_nn nd s d0 (c - (i + 1)) (d + i + 1)) = _
  rw [if_neg h]
  rfl
theorem sp_nn_hit {nd : Nat → Int32} {s d0 : Int32} {c d i : Nat} (hi : i < c) (h : hs (nd (d + i)) s) : sp_nn nd s d0 (c - i) (d + i) = nI (d + i) - d0 := by
  rw [show c - i = (c - (i + 1)) + 1 by omega]
  show (if hs (nd (d + i)) s then nI (d + i) - d0 else _) = _
  rw [if_pos h]
/-- the twelve words -/
def wds (f : Nat → Int64) (v0 v1 v2 v3 v4 v5 v6 v7 v8 v9 v10 v11 : Int64) : Nat → Int64 := vp_updL (vp_updL (vp_updL (vp_updL (vp_updL (vp_updL (vp_updL (vp_updL (vp_updL (vp_updL (vp_updL (vp_updL f 0 v0) 1 v1) 2 v2) 3 v3) 4 v4) 5 v5) 6 v6) 7 v7) 8 v8) 9 v9) 10 v10) 11 v11
/-! sums and tests, reckoned on a stack: a token is op + 16 * value -/
def sOne (s : Int32) (x y : Int64) : Int64 :=
  if s = 2 then x + y else if s = 3 then x - y else if s = 4 then x * y else if s = 5 then (if y = 0 then 0 else x / y) else if s = 14 then (if y = 0 then 0 else x - x / y * y)
  else if s = 6 then (if y ≤ x then 0 else 1) else if s = 7 then (if y < x then 0 else 1) else if s = 8 then (if x = y then 1 else 0) else if s = 9 then (if x < y then 0 else 1) else if s = 10 then (if x ≤ y then 0 else 1)
  else if s = 12 then x &&& y else x ||| y
def tk1 (W : Nat → Int64) (c : Nat) (st : List Int64) : List Int64 :=
  if c % 16 = 0 then (nI (c / 16)).toInt64 :: st
  else if c % 16 = 1 then W (c / 16) :: st
  else if c % 16 = 11 then (match st with | x :: r => (1 - x) :: r | [] => [])
  else match st with | y :: x :: r => sOne (nI (c % 16)) x y :: r | r => r
def ev (W : Nat → Int64) : List Nat → List Int64 → List Int64
  | [], st => st
  | c :: w, st => ev W w (tk1 W c st)
/-- a list of tokens is well built over d numbers: it ends with one, never takes what isn't there, and holds at most 62 -/
def okd : List Nat → Nat → Bool
  | [], d => d == 1
  | c :: w, d => decide (c < 2000000) && (if c % 16 = 0 then decide (d < 62) && okd w (d + 1) else if c % 16 = 1 then decide (d < 62) && decide (c / 16 < 12) && okd w (d + 1) else if c % 16 = 11 then decide (1 ≤ d) && okd w d else decide (2 ≤ d ∧ d ≤ 62) && okd w (d - 1))
def evr (W : Nat → Int64) (w : List Nat) : Int64 := (ev W w []).headD 0
/-- the tokens stand in the array from b on -/
def sgm (f : Nat → Int32) (b : Nat) (w : List Nat) : Prop := ∀ i, i < w.length → f (b + i) = nI (w.getD i 0)
/-- the stack's array holds the list, its top last -/
def stk (f : Nat → Int64) (st : List Int64) : Prop := ∀ i, i < st.length → f i = st.getD (st.length - 1 - i) 0
def evA (W : Nat → Int64) (w : List Nat) (i : Nat) : List Int64 := ev W (w.take i) []
theorem ev_app (W : Nat → Int64) : ∀ (u v : List Nat) (st : List Int64), ev W (u ++ v) st = ev W v (ev W u st)
  | [], _, _ => rfl
  | c :: u, v, st => ev_app W u v (tk1 W c st)
theorem evA_succ {W : Nat → Int64} {w : List Nat} {i c : Nat} (h : w[i]? = some c) : evA W w (i + 1) = tk1 W c (evA W w i) := by
  unfold evA
  obtain ⟨hi, he⟩ := List.getElem?_eq_some_iff.mp h
  rw [List.take_succ_eq_append_getElem hi, ev_app, he]
  rfl
theorem evA_all {W : Nat → Int64} {w : List Nat} : (evA W w w.length).headD 0 = evr W w := by
  unfold evA evr
  rw [List.take_length]
theorem stk_push {f : Nat → Int64} {st : List Int64} {v : Int64} (h : stk f st) : stk (vp_updL f st.length v) (v :: st) := by
  intro i hi
  unfold vp_updL
  by_cases q : i = st.length
  · subst q
    rw [if_pos rfl]
    simp
  · rw [if_neg q]
    have hi' : i < st.length := by simp at hi; omega
    rw [h i hi']
    have : (v :: st).length - 1 - i = (st.length - 1 - i) + 1 := by simp; omega
    rw [this]
    rfl
theorem stk_tail {f : Nat → Int64} {st : List Int64} {v : Int64} (h : stk f (v :: st)) : stk f st := by
  intro i hi
  rw [h i (by simp; omega)]
  have : (v :: st).length - 1 - i = (st.length - 1 - i) + 1 := by simp; omega
  rw [this]
  rfl
theorem stk_head {f : Nat → Int64} {st : List Int64} {v : Int64} (h : stk f (v :: st)) : f st.length = v := by
  rw [h st.length (by simp)]
  simp
theorem okd_lt {c : Nat} {w : List Nat} {d : Nat} (h : okd (c :: w) d = true) : c < 2000000 := by
  unfold okd at h
  rw [Bool.and_eq_true] at h
  exact of_decide_eq_true h.1
theorem okd_num {c : Nat} {w : List Nat} {d : Nat} (h : okd (c :: w) d = true) (q : c % 16 = 0) : d < 62 ∧ okd w (d + 1) = true := by
  unfold okd at h
  rw [if_pos q, Bool.and_eq_true, Bool.and_eq_true] at h
  exact ⟨of_decide_eq_true h.2.1, h.2.2⟩
theorem okd_word {c : Nat} {w : List Nat} {d : Nat} (h : okd (c :: w) d = true) (q0 : ¬ c % 16 = 0) (q : c % 16 = 1) : d < 62 ∧ c / 16 < 12 ∧ okd w (d + 1) = true := by
  unfold okd at h
  rw [if_neg q0, if_pos q] at h
  simp only [Bool.and_eq_true, decide_eq_true_eq] at h
  exact ⟨h.2.1.1, h.2.1.2, h.2.2⟩
theorem okd_not {c : Nat} {w : List Nat} {d : Nat} (h : okd (c :: w) d = true) (q0 : ¬ c % 16 = 0) (q1 : ¬ c % 16 = 1) (q : c % 16 = 11) : 1 ≤ d ∧ okd w d = true := by
  unfold okd at h
  rw [if_neg q0, if_neg q1, if_pos q] at h
  simp only [Bool.and_eq_true, decide_eq_true_eq] at h
  exact ⟨h.2.1, h.2.2⟩
theorem okd_two {c : Nat} {w : List Nat} {d : Nat} (h : okd (c :: w) d = true) (q0 : ¬ c % 16 = 0) (q1 : ¬ c % 16 = 1) (q2 : ¬ c % 16 = 11) : 2 ≤ d ∧ okd w (d - 1) = true := by
  unfold okd at h
  rw [if_neg q0, if_neg q1, if_neg q2] at h
  simp only [Bool.and_eq_true, decide_eq_true_eq] at h
  exact ⟨h.2.1.1, h.2.2⟩
theorem okd_two_le {c : Nat} {w : List Nat} {d : Nat} (h : okd (c :: w) d = true) (q0 : ¬ c % 16 = 0) (q1 : ¬ c % 16 = 1) (q2 : ¬ c % 16 = 11) : d ≤ 62 := by
  unfold okd at h
  rw [if_neg q0, if_neg q1, if_neg q2] at h
  simp only [Bool.and_eq_true, decide_eq_true_eq] at h
  exact h.2.1.2
theorem drop_at {w : List Nat} {i c : Nat} (h : w[i]? = some c) : w.drop i = c :: w.drop (i + 1) := by
  obtain ⟨hi, he⟩ := List.getElem?_eq_some_iff.mp h
  rw [List.drop_eq_getElem_cons hi, he]
theorem okd_end {w : List Nat} {st : List Int64} (h : okd (w.drop w.length) st.length = true) : ∃ v, st = [v] := by
  rw [List.drop_length] at h
  have h1 : st.length = 1 := by simpa [okd] using h
  match st, h1 with
  | [v], _ => exact ⟨v, rfl⟩
theorem list1 {st : List Int64} (h : 1 ≤ st.length) : ∃ x r, st = x :: r := by
  match st, h with
  | x :: r, _ => exact ⟨x, r, rfl⟩
theorem list2 {st : List Int64} (h : 2 ≤ st.length) : ∃ y x r, st = y :: x :: r := by
  match st, h with
  | y :: x :: r, _ => exact ⟨y, x, r, rfl⟩
theorem tk1_num {W : Nat → Int64} {c : Nat} {st : List Int64} (q : c % 16 = 0) : tk1 W c st = (nI (c / 16)).toInt64 :: st := if_pos q
theorem tk1_word {W : Nat → Int64} {c : Nat} {st : List Int64} (q0 : ¬ c % 16 = 0) (q : c % 16 = 1) : tk1 W c st = W (c / 16) :: st := by unfold tk1; rw [if_neg q0, if_pos q]
theorem tk1_not {W : Nat → Int64} {c : Nat} {x : Int64} {r : List Int64} (q0 : ¬ c % 16 = 0) (q1 : ¬ c % 16 = 1) (q : c % 16 = 11) : tk1 W c (x :: r) = (1 - x) :: r := by unfold tk1; rw [if_neg q0, if_neg q1, if_pos q]
theorem tk1_two {W : Nat → Int64} {c : Nat} {x y : Int64} {r : List Int64} (q0 : ¬ c % 16 = 0) (q1 : ¬ c % 16 = 1) (q : ¬ c % 16 = 11) : tk1 W c (y :: x :: r) = sOne (nI (c % 16)) x y :: r := by unfold tk1; rw [if_neg q0, if_neg q1, if_neg q]
theorem sgm_at {f : Nat → Int32} {b i c : Nat} {w : List Nat} (h : sgm f b w) (hc : w[i]? = some c) : f (b + i) = nI c := by
  obtain ⟨hi, he⟩ := List.getElem?_eq_some_iff.mp hc
  rw [h i hi, List.getD_eq_getElem?_getD, hc]
  rfl
theorem get_some {w : List Nat} {i : Nat} (h : i < w.length) : ∃ c, w[i]? = some c := ⟨w[i], List.getElem?_eq_getElem h⟩
theorem okd_le : ∀ {w : List Nat} {d : Nat}, okd w d = true → d ≤ 62
  | [], d, h => by have : d = 1 := by simpa [okd] using h
                   omega
  | c :: w, d, h => by
    by_cases q0 : c % 16 = 0
    · exact Nat.le_of_lt (okd_num h q0).1
    · by_cases q1 : c % 16 = 1
      · exact Nat.le_of_lt (okd_word h q0 q1).1
      · by_cases q2 : c % 16 = 11
        · exact okd_le (okd_not h q0 q1 q2).2
        · have := okd_le (okd_two h q0 q1 q2).2
          have h3 := okd_two_le h q0 q1 q2
          omega
