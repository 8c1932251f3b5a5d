/-! rules: clauses of sums; what a house wants; the passes of a night -/
theorem get_someP {α : Type} {w : List α} {i : Nat} (h : i < w.length) : ∃ c, w[i]? = some c := ⟨w[i], List.getElem?_eq_getElem h⟩
theorem drop_atP {α : Type} {w : List α} {i : Nat} {c : α} (h : w[i]? = some c) : w.drop i = c :: w.drop (i + 1) := by
  obtain ⟨hi, he⟩ := List.getElem?_eq_some_iff.mp h
  rw [List.drop_eq_getElem_cons hi, he]
abbrev Clause := List Nat × Option (List Nat)
def SG (f2 f4 : Nat → Int32) (t p : Nat) (w : List Nat) : Prop := ∃ b, f4 p = nI b ∧ f4 (p + 1) = nI (b + w.length) ∧ b + w.length ≤ 400 ∧ sgm f2 (400 * t + b) w ∧ okd w 0 = true
def CL (f2 f4 : Nat → Int32) (t p : Nat) (x : Clause) : Prop := SG f2 f4 t p x.1 ∧ match x.2 with | none => f4 (p + 2) = -1 | some c => SG f2 f4 t (p + 2) c
def RE (f2 f4 f5 : Nat → Int32) (t : Nat) (rl : List Clause) : Prop := f5 t = nI rl.length ∧ rl.length ≤ 12 ∧ ∀ i x, rl[i]? = some x → CL f2 f4 t (48 * t + 4 * i) x
theorem cl_cases {f2 f4 : Nat → Int32} {t p : Nat} {x : Clause} (h : CL f2 f4 t p x) :
    (∃ v b, x = (v, none) ∧ f4 p = nI b ∧ f4 (p + 1) = nI (b + v.length) ∧ b + v.length ≤ 400 ∧ sgm f2 (400 * t + b) v ∧ okd v 0 = true ∧ f4 (p + 2) = -1) ∨
    (∃ v c b b', x = (v, some c) ∧ f4 p = nI b ∧ f4 (p + 1) = nI (b + v.length) ∧ b + v.length ≤ 400 ∧ sgm f2 (400 * t + b) v ∧ okd v 0 = true ∧ f4 (p + 2) = nI b' ∧ f4 (p + 3) = nI (b' + c.length) ∧ b' + c.length ≤ 400 ∧ sgm f2 (400 * t + b') c ∧ okd c 0 = true) := by
  obtain ⟨v, c⟩ := x
  obtain ⟨⟨b, h1, h2, h3, h4, h5⟩, h6⟩ := h
  cases c with
  | none => exact Or.inl ⟨v, b, rfl, h1, h2, h3, h4, h5, h6⟩
  | some c =>
    obtain ⟨b', k1, k2, k3, k4, k5⟩ := h6
    exact Or.inr ⟨v, c, b, b', rfl, h1, h2, h3, h4, h5, k1, k2, k3, k4, k5⟩
def wn (W : Nat → Int64) : List Clause → Int64
  | [] => 0
  | (v, none) :: _ => evr W v
  | (v, some c) :: r => if evr W c = 1 then evr W v else wn W r
theorem wn_none {W : Nat → Int64} {v : List Nat} {r : List Clause} : wn W ((v, none) :: r) = evr W v := rfl
theorem wn_hit {W : Nat → Int64} {v c : List Nat} {r : List Clause} (h : evr W c = 1) : wn W ((v, some c) :: r) = evr W v := if_pos h
theorem wn_miss {W : Nat → Int64} {v c : List Nat} {r : List Clause} (h : ¬ evr W c = 1) : wn W ((v, some c) :: r) = wn W r := if_neg h
theorem ev_congr {W W' : Nat → Int64} (hW : ∀ k, k < 12 → W k = W' k) : ∀ (w : List Nat) (d : Nat) (st : List Int64), okd w d = true → ev W w st = ev W' w st
  | [], _, _, _ => rfl
  | c :: w, d, st, h => by
    show ev W w (tk1 W c st) = ev W' w (tk1 W' c st)
    by_cases q0 : c % 16 = 0
    · rw [tk1_num q0, tk1_num q0]; exact ev_congr hW w _ _ (okd_num h q0).2
    · by_cases q1 : c % 16 = 1
      · rw [tk1_word q0 q1, tk1_word q0 q1, hW _ (okd_word h q0 q1).2.1]; exact ev_congr hW w _ _ (okd_word h q0 q1).2.2
      · by_cases q2 : c % 16 = 11
        · have : tk1 W c st = tk1 W' c st := by unfold tk1; rw [if_neg q0, if_neg q1, if_pos q2, if_neg q0, if_neg q1]
          rw [this]; exact ev_congr hW w _ _ (okd_not h q0 q1 q2).2
        · have : tk1 W c st = tk1 W' c st := by unfold tk1; rw [if_neg q0, if_neg q1, if_neg q2, if_neg q0, if_neg q1]
          rw [this]; exact ev_congr hW w _ _ (okd_two h q0 q1 q2).2
/-- a rule all of whose sums are well built -/
def okr (rl : List Clause) : Prop := ∀ x ∈ rl, okd x.1 0 = true ∧ ∀ c, x.2 = some c → okd c 0 = true
theorem RE_okr {f2 f4 f5 : Nat → Int32} {t : Nat} {rl : List Clause} (h : RE f2 f4 f5 t rl) : okr rl := by
  intro x hx
  obtain ⟨i, hi⟩ := List.mem_iff_getElem?.mp hx
  rcases cl_cases (h.2.2 i x hi) with ⟨v, b, rfl, -, -, -, -, h5, -⟩ | ⟨v, c, b, b', rfl, -, -, -, -, h5, -, -, -, -, h6⟩
  · exact ⟨h5, fun c q => by cases q⟩
  · exact ⟨h5, fun c q => by cases q; exact h6⟩
theorem wn_congr {W W' : Nat → Int64} (hW : ∀ k, k < 12 → W k = W' k) : ∀ {rl : List Clause}, okr rl → wn W rl = wn W' rl
  | [], _ => rfl
  | (v, none) :: r, h => by
    have := (h _ List.mem_cons_self).1
    show evr W v = evr W' v
    unfold evr; rw [ev_congr hW v 0 [] this]
  | (v, some c) :: r, h => by
    have h1 := (h _ List.mem_cons_self).1
    have h2 := (h _ List.mem_cons_self).2 c rfl
    have h3 : wn W r = wn W' r := wn_congr hW (fun x hx => h x (List.mem_cons_of_mem _ hx))
    show (if evr W c = 1 then evr W v else wn W r) = (if evr W' c = 1 then evr W' v else wn W' r)
    unfold evr; rw [ev_congr hW v 0 [] h1, ev_congr hW c 0 [] h2, h3]
theorem wds_congr (f g : Nat → Int64) (v0 v1 v2 v3 v4 v5 v6 v7 v8 v9 v10 v11 : Int64) : ∀ k, k < 12 → wds f v0 v1 v2 v3 v4 v5 v6 v7 v8 v9 v10 v11 k = wds g v0 v1 v2 v3 v4 v5 v6 v7 v8 v9 v10 v11 k := by
  intro k hk
  have : k = 0 ∨ k = 1 ∨ k = 2 ∨ k = 3 ∨ k = 4 ∨ k = 5 ∨ k = 6 ∨ k = 7 ∨ k = 8 ∨ k = 9 ∨ k = 10 ∨ k = 11 := by omega
  rcases this with rfl | rfl | rfl | rfl | rfl | rfl | rfl | rfl | rfl | rfl | rfl | rfl <;> rfl
/-- the words of house h at step s -/
def wvf (sn : Nat → Int32) (dy sw be : Int32) (sd : Nat → Int32) (h s : Nat) : Nat → Int64 :=
  wds (fun _ => 0) (nI h).toInt64 (nI s).toInt64 (if sd (38 + 2 * h) = nI s then (1 : Int64) else (0 : Int64)) (sn s).toInt64 (sd (38 + 2 * h + 1)).toInt64 (if hs sw (nI s) then (1 : Int64) else (0 : Int64)) (if hs be (nI s) then (1 : Int64) else (0 : Int64)) (nI (pcN (clsN (sd 1) sn (sd 2).toNatClampNeg))).toInt64 (if hs (if 30 < dy.toNatClampNeg then 0 else sd (62 + dy.toNatClampNeg)) (nI s) then (1 : Int64) else (0 : Int64)) (sp_nn (fun d => sd (62 + d)) (nI s) dy (31 - dy.toNatClampNeg) dy.toNatClampNeg).toInt64 (nI (pcN ((sd (30 + s)).toNatClampNeg &&& clsN (sd 1) sn (sd 2).toNatClampNeg))).toInt64 dy.toInt64
/-- what is best so far for house h, under the rule -/
def sp_cb (rl : List Clause) (sn : Nat → Int32) (dy sw be : Int32) (sd : Nat → Int32) (h : Nat) : Nat → Int32 × Int64
  | 0 => (-1, 0)
  | k + 1 => if sn k = 0 then sp_cb rl sn dy sw be sd h k else if (sp_cb rl sn dy sw be sd h k).2 < wn (wvf sn dy sw be sd h k) rl then (nI k, wn (wvf sn dy sw be sd h k) rl) else sp_cb rl sn dy sw be sd h k
def sp_ch (fo : Option (List Clause)) (sn : Nat → Int32) (dy sw be : Int32) (sd : Nat → Int32) (h : Nat) : Int32 :=
  match fo with
  | none => if ¬ (sn (sd (38 + 2 * h)).toNatClampNeg < sd 1) then sd (38 + 2 * h) else -1
  | some rl => (sp_cb rl sn dy sw be sd h (sd 2).toNatClampNeg).1
/-- the force in the twin -/
def FO (f : Int32) (f2 f4 f5 : Nat → Int32) : Option (List Clause) → Prop
  | none => f = -1
  | some rl => ∃ t, f = nI t ∧ t < 6 ∧ RE f2 f4 f5 t rl
theorem FO_cases {f : Int32} {f2 f4 f5 : Nat → Int32} {fo : Option (List Clause)} (h : FO f f2 f4 f5 fo) : (fo = none ∧ f = -1) ∨ (∃ rl t, fo = some rl ∧ f = nI t ∧ t < 6 ∧ RE f2 f4 f5 t rl) := by
  cases fo with
  | none => exact Or.inl ⟨rfl, h⟩
  | some rl => obtain ⟨t, h1, h2, h3⟩ := h; exact Or.inr ⟨rl, t, rfl, h1, h2, h3⟩
theorem cb_zero {rl : List Clause} {sn : Nat → Int32} {dy sw be : Int32} {sd : Nat → Int32} {h k : Nat} (q : sn k = 0) : sp_cb rl sn dy sw be sd h (k + 1) = sp_cb rl sn dy sw be sd h k := if_pos q
theorem cb_not {rl : List Clause} {sn : Nat → Int32} {dy sw be : Int32} {sd : Nat → Int32} {h k : Nat} (q0 : ¬ sn k = 0) (q : ¬ (sp_cb rl sn dy sw be sd h k).2 < wn (wvf sn dy sw be sd h k) rl) : sp_cb rl sn dy sw be sd h (k + 1) = sp_cb rl sn dy sw be sd h k := (if_neg q0).trans (if_neg q)
theorem cb_yes {rl : List Clause} {sn : Nat → Int32} {dy sw be : Int32} {sd : Nat → Int32} {h k : Nat} (q0 : ¬ sn k = 0) (q : (sp_cb rl sn dy sw be sd h k).2 < wn (wvf sn dy sw be sd h k) rl) : sp_cb rl sn dy sw be sd h (k + 1) = (nI k, wn (wvf sn dy sw be sd h k) rl) := (if_neg q0).trans (if_pos q)
theorem cb_nat {rl : List Clause} {sn : Nat → Int32} {dy sw be : Int32} {sd : Nat → Int32} {h : Nat} : ∀ n, (sp_cb rl sn dy sw be sd h n).1 = -1 ∨ ∃ s, s < n ∧ (sp_cb rl sn dy sw be sd h n).1 = nI s
  | 0 => Or.inl rfl
  | n + 1 => by
    have ih := @cb_nat rl sn dy sw be sd h n
    have ih' : (sp_cb rl sn dy sw be sd h n).1 = -1 ∨ ∃ s, s < n + 1 ∧ (sp_cb rl sn dy sw be sd h n).1 = nI s := by
      rcases ih with q | ⟨s, h1, h2⟩
      · exact Or.inl q
      · exact Or.inr ⟨s, by omega, h2⟩
    by_cases q0 : sn n = 0
    · rw [cb_zero q0]; exact ih'
    · by_cases q : (sp_cb rl sn dy sw be sd h n).2 < wn (wvf sn dy sw be sd h n) rl
      · rw [cb_yes q0 q]; exact Or.inr ⟨n, by omega, rfl⟩
      · rw [cb_not q0 q]; exact ih'
theorem ch_nat {fo : Option (List Clause)} {sn : Nat → Int32} {dy sw be : Int32} {sd : Nat → Int32} {h n : Nat} (h2 : sd 2 = nI n) (hn : n ≤ 8) (ho : ∃ o, o < 8 ∧ sd (38 + 2 * h) = nI o) (hp : ¬ sp_ch fo sn dy sw be sd h < 0) : ∃ s, s < 8 ∧ sp_ch fo sn dy sw be sd h = nI s := by
  unfold sp_ch at *
  cases fo with
  | none =>
    simp only at *
    obtain ⟨o, h8, e⟩ := ho
    by_cases q : sn (sd (38 + 2 * h)).toNatClampNeg < sd 1
    · rw [if_neg (fun z => z q)] at hp; exact absurd (by decide) hp
    · rw [if_pos q]; exact ⟨o, h8, e⟩
  | some rl =>
    simp only at *
    have h9 : (sd 2).toNatClampNeg = n := by rw [h2, nI_clamp (by omega)]
    rw [h9] at hp ⊢
    rcases cb_nat (rl := rl) (sn := sn) (dy := dy) (sw := sw) (be := be) (sd := sd) (h := h) n with q | ⟨s, q1, q2⟩
    · rw [q] at hp; exact absurd (by decide) hp
    · exact ⟨s, by omega, q2⟩
/-- the passes of the houses: snow, thrown, swept -/
def sp_ps (fo : Option (List Clause)) (wl : Nat → Int32) (dy be hv : Int32) (sd : Nat → Int32) (sn th : Nat → Int32) (sw : Int32) : Nat → (Nat → Int32) × (Nat → Int32) × Int32
  | 0 => (sn, th, sw)
  | k + 1 =>
    let p := sp_ps fo wl dy be hv sd sn th sw k
    if hs hv (nI k) then p else
    let c := sp_ch fo p.1 dy p.2.2 be sd k
    if c < 0 then p else
    let s := c.toNatClampNeg; let x := mn (p.1 s) (sd (38 + 2 * k + 1))
    (tk_sn p.1 wl s x, tk_th p.2.1 wl s x, if x ≤ 0 then p.2.2 else p.2.2 ||| bitI s)
section PSS
variable {fo : Option (List Clause)} {wl : Nat → Int32} {dy be hv : Int32} {sd : Nat → Int32} {sn th : Nat → Int32} {sw : Int32} {k : Nat}
theorem ps_have (h : hs hv (nI k)) : sp_ps fo wl dy be hv sd sn th sw (k + 1) = sp_ps fo wl dy be hv sd sn th sw k := if_pos h
theorem ps_none (h : ¬ hs hv (nI k)) (q : sp_ch fo (sp_ps fo wl dy be hv sd sn th sw k).1 dy (sp_ps fo wl dy be hv sd sn th sw k).2.2 be sd k < 0) : sp_ps fo wl dy be hv sd sn th sw (k + 1) = sp_ps fo wl dy be hv sd sn th sw k := (if_neg h).trans (if_pos q)
theorem ps_take {s : Nat} (h : ¬ hs hv (nI k)) (q : ¬ sp_ch fo (sp_ps fo wl dy be hv sd sn th sw k).1 dy (sp_ps fo wl dy be hv sd sn th sw k).2.2 be sd k < 0) (e : sp_ch fo (sp_ps fo wl dy be hv sd sn th sw k).1 dy (sp_ps fo wl dy be hv sd sn th sw k).2.2 be sd k = nI s) (h8 : s < 8) :
    sp_ps fo wl dy be hv sd sn th sw (k + 1) = (tk_sn (sp_ps fo wl dy be hv sd sn th sw k).1 wl s (mn ((sp_ps fo wl dy be hv sd sn th sw k).1 s) (sd (38 + 2 * k + 1))), tk_th (sp_ps fo wl dy be hv sd sn th sw k).2.1 wl s (mn ((sp_ps fo wl dy be hv sd sn th sw k).1 s) (sd (38 + 2 * k + 1))), if mn ((sp_ps fo wl dy be hv sd sn th sw k).1 s) (sd (38 + 2 * k + 1)) ≤ 0 then (sp_ps fo wl dy be hv sd sn th sw k).2.2 else (sp_ps fo wl dy be hv sd sn th sw k).2.2 ||| bitI s) := by
  refine (if_neg h).trans ((if_neg q).trans ?_)
  rw [e, nI_clamp (by omega)]
end PSS
theorem wv_eq {sn : Nat → Int32} {dy sw be : Int32} {sd : Nat → Int32} {h s n d bb : Nat} (f : Nat → Int64) (h2 : sd 2 = nI n) (hn : n ≤ 8) (hdy : dy = nI d) (hd : d < 10000) (hb : sd (30 + s) = nI bb) (hbb : bb < 256) :
    ∀ k, k < 12 → wds f (nI h).toInt64 (nI s).toInt64 (if sd (38 + 2 * h) = nI s then (1 : Int64) else (0 : Int64)) (sn s).toInt64 (sd (38 + 2 * h + 1)).toInt64 (if hs sw (nI s) then (1 : Int64) else (0 : Int64)) (if hs be (nI s) then (1 : Int64) else (0 : Int64)) (nI (pcN (clsN (sd 1) sn n))).toInt64 (if hs (if 30 < d then 0 else sd (62 + d)) (nI s) then (1 : Int64) else (0 : Int64)) (sp_nn (fun d => sd (62 + d)) (nI s) dy (31 - d) d).toInt64 (nI (pcN (bb &&& clsN (sd 1) sn n))).toInt64 dy.toInt64 k = wvf sn dy sw be sd h s k := by
  intro k hk
  unfold wvf
  have e1 : (sd 2).toNatClampNeg = n := by rw [h2, nI_clamp (by omega)]
  have e2 : dy.toNatClampNeg = d := by rw [hdy, nI_clamp (by omega)]
  have e3 : (sd (30 + s)).toNatClampNeg = bb := by rw [hb, nI_clamp (by omega)]
  rw [e1, e2, e3]
  exact wds_congr _ _ _ _ _ _ _ _ _ _ _ _ _ _ k hk
