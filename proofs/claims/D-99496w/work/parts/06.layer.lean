/-! THE LAYER: the whole heap since the law's start as a function of addresses; one judgement V for a point of a walk -/
abbrev vg_G : Type := Nat × Heap × va_G × (Nat → ClassId) × (State → Prop) × (Nat → Nat)
abbrev vg_X : Type := Program × Launch × Env × Room × State × MethodId × Array Value × List Frame × Method × Code
abbrev vg_H : Type := Nat → Option va_E
abbrev gBase (G : vg_G) : Nat := G.1
abbrev gHeap (G : vg_G) : Heap := G.2.1
abbrev gD (G : vg_G) : va_G := G.2.2.1
abbrev gC (G : vg_G) : Nat → ClassId := G.2.2.2.1
/-- the array classes by number -/
def gTys (G : vg_G) : List (ClassId × FieldType) := [(gC G 0, .int), (gC G 1, .byte), (gC G 2, .boolean), (gC G 3, .long), (gC G 4, .object "java/lang/Object"), (gC G 5, .object "SweptSnow$State"), (gC G 6, .object "SweptSnow$Image"), (gC G 7, .object "java/lang/String")]
abbrev gP (G : vg_G) : State → Prop := G.2.2.2.2.1
abbrev gAd (G : vg_G) : Nat → Nat := G.2.2.2.2.2
abbrev xP (X : vg_X) : Program := X.1
abbrev xL (X : vg_X) : Launch := X.2.1
abbrev xE (X : vg_X) : Env := X.2.2.1
abbrev xR (X : vg_X) : Room := X.2.2.2.1
abbrev xS (X : vg_X) : State := X.2.2.2.2.1
abbrev xM (X : vg_X) : MethodId := X.2.2.2.2.2.1
abbrev xA (X : vg_X) : Array Value := X.2.2.2.2.2.2.1
abbrev xB (X : vg_X) : List Frame := X.2.2.2.2.2.2.2.1
abbrev xMe (X : vg_X) : Method := X.2.2.2.2.2.2.2.2.1
abbrev xC (X : vg_X) : Code := X.2.2.2.2.2.2.2.2.2
/-- W at a context -/
abbrev vg_W (X : vg_X) (H : Heap) (locs : List Loc) (cells slots : Nat) (Q : State → Prop) (g : JFrame) : Prop := W (xP X) (xL X) (xE X) (xR X) (xS X) (xM X) (xA X) (xB X) (xMe X) (xC X) H locs cells slots Q g
/-- the classes by number -/
def vg_cl : List vw_C := [(RX0, TX0, 27), (RX1, TX1, 7), (RX2, TX2, 6), (RX3, TX3, 6), (RX4, TX4, 40), (RX5, TX5, 7), (RX6, TX6, 2), (RX7, TX7, 1), (RX9, TX9, 1), (RX10, TX10, 1), (RX11, TX11, 3), (RX12, TX12, 2), (RX14, TX14, 1), (RX15, TX15, 4), (RX16, TX16, 3), (RX17, TX17, 8), (RJ2, TJ2, 3), (RJ10, TJ10, 1)]
def vg_sum (b : Nat) (H : Heap) : Nat := ((H.toList.drop b).map (fun c => c.slots.size)).sum
/-- the heap H is as h says from the base on, and as it was below it; n its size, k the slots above the base -/
def vg_R (G : vg_G) (h : vg_H) (n k : Nat) (H : Heap) : Prop :=
  H.size = n ∧ vg_sum (gBase G) H = k ∧ gBase G ≤ n ∧ (∀ (a : Nat) (e : va_E), h a = some e → va_at (gD G) vg_cl (a, e) H) ∧ ∀ q : Nat, q < gBase G → H[q]? = (gHeap G)[q]?
/-- a word that rides by itself -/
def vg_isN (w : Cond) : Bool := match w with
  | .fieldLinkNest .. => true
  | .methodLinkNest .. => true
  | .castable .. => true
  | .declares .. => true
  | .arrayOver (.object _) => true
  | _ => false
/-- what the tables say all through -/
def vg_E (G : vg_G) (U : State) : Prop := va_K (gD G) vg_cl (gTys G) U ∧ (∀ w ∈ lw_tbl, vg_isN w = true → va_Nw w U) ∧ gP G U
def vg_st (G : vg_G) : Prop := ∀ u U : State, u.vm.Alike U.vm → gP G u → gP G U
theorem vg_Nw_moved {w : Cond} (hw : vg_isN w = true) {s U : State} (hW : s.WarmedH U.vm) (h : va_Nw w s) : va_Nw w U := by
  cases w with
  | fieldLinkNest a i b n d q => exact va_Nw.warmF hW h
  | methodLinkNest a i x q => exact va_Nw.warmM hW h
  | castable a b => exact va_Nw.warmC hW h
  | declares x => exact va_Nw.warmD hW h
  | arrayOver t =>
    cases t with
    | object C => exact va_AO.moved hW.alike h
    | _ => exact absurd hw (by simp [vg_isN])
  | _ => exact absurd hw (by simp [vg_isN])
theorem vg_E_warm {G : vg_G} (hG : vg_st G) {s U : State} (hW : s.WarmedH U.vm) (h : vg_E G s) : vg_E G U :=
  ⟨va_K.moved hW.alike h.1, fun w hw hn => vg_Nw_moved hn hW (h.2.1 w hw hn), hG _ _ hW.alike h.2.2⟩
theorem vg_E_same {G : vg_G} (hG : vg_st G) {s U : State} (hv : s.vm = U.vm) (h : vg_E G s) : vg_E G U := vg_E_warm hG (by rw [← hv]; exact State.WarmedH.refl s) h
/-- what a walk stands on -/
def vg_ok (G : vg_G) (X : vg_X) (cc : ByteArray) (own : String) (nL : Nat) (rt : Option FieldType) (n0 k0 rf rl mc ms : Nat) : Prop :=
  (xP X).tables.exec = Jvm.exec ∧ (xC X).code = cc ∧ (xC X).maxLocals = nL ∧ (xS X).vm.findClass own = some (xM X).cls ∧ (∀ w ∈ lw_all, w.before (xA X) (xS X) = true) ∧ (xMe X).sig.returnType = rt ∧ (xMe X).locks = false ∧
  vg_E G (xS X) ∧ vg_st G ∧ (xS X).heap.size = n0 ∧ vg_sum (gBase G) (xS X).heap = k0 ∧ gBase G ≤ n0 ∧ xR X = { frames := rf, cells := mc, slots := ms, locals := rl }
/-- a point of a walk: the program counter, the locals that are known, the stack, the heap -/
def vg_V (G : vg_G) (X : vg_X) (nL : Nat) (Q : State → Prop) (pc : Nat) (l : List (Nat × Value)) (st : List Value) (h : vg_H) (n k : Nat) : Prop :=
  ∀ (H : Heap) (locs : List Loc) (ls : Array Slot) (cells slots : Nat), vg_R G h n k H → (∀ z ∈ locs, gBase G ≤ z.base) → lv_has ls nL l → vg_W X H locs cells slots Q (F0 (xM X) pc ls st)
/-! how many cells and slots: the heap alone tells it -/
theorem vg_drop_sum (H : List Cell) (a b : Nat) (hab : a ≤ b) (hb : b ≤ H.length) : ((H.drop a).map (fun c => c.slots.size)).sum = (((H.take b).drop a).map (fun c => c.slots.size)).sum + ((H.drop b).map (fun c => c.slots.size)).sum := by
  have e : H.drop a = (H.take b).drop a ++ H.drop b := by
    have h1 : H = H.take b ++ H.drop b := (List.take_append_drop b H).symm
    have hl : (H.take b).length = b := by simp [hb]
    calc H.drop a = (H.take b ++ H.drop b).drop a := by rw [← h1]
      _ = (H.take b).drop a ++ (H.drop b).drop (a - (H.take b).length) := List.drop_append
      _ = (H.take b).drop a ++ H.drop b := by rw [hl, Nat.sub_eq_zero_of_le hab]; rfl
  rw [e, List.map_append, List.sum_append]
theorem vg_same_sum : ∀ (A B : List Cell), A.length = B.length → (∀ (i : Nat) (ca cb : Cell), A[i]? = some ca → B[i]? = some cb → ca.slots.size = cb.slots.size) → (A.map (fun c => c.slots.size)).sum = (B.map (fun c => c.slots.size)).sum
  | [], [], _, _ => rfl
  | a :: A, b :: B, hl, h => by
    simp only [List.map_cons, List.sum_cons]
    rw [h 0 a b rfl rfl, vg_same_sum A B (by simpa using hl) (fun i ca cb h1 h2 => h (i + 1) ca cb (by simpa using h1) (by simpa using h2))]
  | [], _ :: _, hl, _ => by simp at hl
  | _ :: _, [], hl, _ => by simp at hl
theorem vg_tight {p : Program} {l : Launch} {e : Env} {R : Room} {s : State} {m : MethodId} {args : Array Value} {below : List Frame} {meth : Method} {c : Code} {T : State} {locs : List Loc} {cells slots : Nat} (X : Stand p l e R s m args below meth c T locs cells slots) {b : Nat} (hb : b ≤ s.heap.size) :
    Stand p l e R s m args below meth c T locs (T.heap.size - s.heap.size) (vg_sum b T.heap - vg_sum b s.heap) ∧ s.heap.size ≤ T.heap.size ∧ vg_sum b s.heap ≤ vg_sum b T.heap := by
  obtain ⟨g1, g2, g3, g4, g5, g6⟩ := X.same
  have g2' : s.heap.size ≤ T.heap.size := g2
  have key : vg_sum b T.heap = vg_sum b s.heap + ((T.heap.toList.drop s.heap.size).map (fun c => c.slots.size)).sum := by
    unfold vg_sum
    rw [vg_drop_sum T.heap.toList b s.heap.size hb (by simpa using g2')]
    congr 1
    refine vg_same_sum _ _ (by simp; omega) (fun i ca cb h1 h2 => ?_)
    rw [List.getElem?_drop] at h1 h2
    have hi : b + i < s.heap.size := by
      have := (List.getElem?_eq_some_iff.mp h2).1
      simpa using this
    rw [List.getElem?_take, if_pos hi] at h1
    obtain ⟨c', e1, e2, e3, -⟩ := g6 (b + i) cb (by simpa using h2)
    have e1' : T.heap[b + i]? = some c' := e1
    have : c' = ca := by
      have h1' : T.heap[b + i]? = some ca := by simpa using h1
      exact Option.some.inj (e1'.symm.trans h1')
    rw [← this]
    exact e3
  refine ⟨{ X with same := ⟨g1, g2, ?_, g4, ?_, g6⟩ }, g2', by omega⟩
  · show T.heap.size ≤ s.heap.size + (T.heap.size - s.heap.size)
    omega
  · show ((T.heap.toList.drop s.heap.size).map (·.slots.size)).sum ≤ vg_sum b T.heap - vg_sum b s.heap
    omega
/-- it's enough to go on with the exact numbers -/
theorem vg_W_tight {X : vg_X} {H : Heap} {locs : List Loc} {cells slots : Nat} {Q : State → Prop} {g : JFrame} {b : Nat} (hb : b ≤ (xS X).heap.size) (kk : (xS X).heap.size ≤ H.size → vg_sum b (xS X).heap ≤ vg_sum b H → vg_W X H locs (H.size - (xS X).heap.size) (vg_sum b H - vg_sum b (xS X).heap) Q g) : vg_W X H locs cells slots Q g := by
  intro T hT Y
  obtain ⟨Y', h1, h2⟩ := vg_tight Y hb
  subst hT
  exact kk h1 h2 T rfl Y'
