/-! EW: sets to drop, as lists (plain) -/
set_option maxRecDepth 100000
/-- a window that may be dropped -/
abbrev sfC (N : Nat → Int32) (w : Nat) : Prop := 0 < N (2 + 6 * w + 4) ∧ N (2 + 6 * w + 5) = 0
/-- their number below w -/
def sfn (N : Nat → Int32) : Nat → Nat
  | 0 => 0
  | w + 1 => sfn N w + (if sfC N w then 1 else 0)
/-- a set with one more window -/
def chD (N : Nat → Int32) (v : drp) (w : Nat) : drp := (v.1 ||| sh (nI w), v.2.1 + N (2 + 6 * w + 4), v.2.2.1 + 1, nI w)
/-- a set, the last window first -/
def ndV (N : Nat → Int32) : List Nat → drp
  | [] => (0, 0, 0, -1)
  | w :: l => chD N (ndV N l) w
def okL (N : Nat → Int32) : List Nat → Prop
  | [] => True
  | w :: l => (w < nW N ∧ sfC N w) ∧ (∀ v, v ∈ l → v < w) ∧ okL N l
/-- the window behind the last one -/
def nxD (v : drp) : Nat := ix (v.2.2.2 + 1)
def wD (N : Nat → Int32) (v : drp) : Nat := 2 ^ (sfn N (nW N) - sfn N (nxD v))
theorem nxD_nil {N : Nat → Int32} : nxD (ndV N []) = 0 := by
  show ix ((-1 : Int32) + 1) = 0
  decide
theorem nxD_ch {N : Nat → Int32} {v : drp} {w : Nat} (hw : w < 100) : nxD (chD N v w) = w + 1 := by
  show ix (nI w + nI 1) = w + 1
  rw [nI_add, ix_nI (by omega)]
theorem okL.t {N : Nat → Int32} {u : List Nat} : ∀ {t : List Nat}, okL N (t ++ u) → okL N u
  | [], h => h
  | _ :: t, h => okL.t (t := t) h.2.2
theorem okL.w {N : Nat → Int32} : ∀ {l : List Nat}, okL N l → ∀ w, w ∈ l → w < nW N ∧ sfC N w
  | [], _, _, h => absurd h List.not_mem_nil
  | a :: l, h, w, hw => by
    rcases List.mem_cons.mp hw with e | e
    · rw [e]; exact h.1
    · exact okL.w h.2.2 w e
theorem okL.lt {N : Nat → Int32} (ok : okN N) : ∀ {l : List Nat}, okL N l → ∀ w, w ∈ l → w < nxD (ndV N l)
  | [], _, _, h => absurd h List.not_mem_nil
  | a :: l, h, w, hw => by
    have h24 := ok.w2
    have ha := h.1.1
    rw [ndV, nxD_ch (by omega)]
    rcases List.mem_cons.mp hw with e | e
    · omega
    · have := h.2.1 w e
      omega
theorem nxD_le {N : Nat → Int32} (ok : okN N) : ∀ {l : List Nat}, okL N l → nxD (ndV N l) ≤ nW N
  | [], _ => by rw [nxD_nil]; exact Nat.zero_le _
  | a :: l, h => by
    have h24 := ok.w2
    have ha := h.1.1
    rw [ndV, nxD_ch (by omega)]
    omega
theorem okL.nx {N : Nat → Int32} (ok : okN N) : ∀ {l : List Nat} {w : Nat}, okL N (w :: l) → nxD (ndV N l) ≤ w
  | [], w, _ => by rw [nxD_nil]; exact Nat.zero_le _
  | a :: l, w, h => by
    have h24 := ok.w2
    have ha := h.2.2.1.1
    have hw := h.2.1 a List.mem_cons_self
    rw [ndV, nxD_ch (by omega)]
    omega
theorem okL.len {N : Nat → Int32} : ∀ {l : List Nat} {n : Nat}, okL N l → (∀ v, v ∈ l → v < n) → l.length ≤ n
  | [], _, _, _ => Nat.zero_le _
  | a :: l, n, h, hn => by
    have h1 := okL.len h.2.2 h.2.1
    have h2 := hn a List.mem_cons_self
    rw [List.length_cons]
    omega
/-- its cost and its number of windows, exactly -/
theorem okL.cost {N : Nat → Int32} (ok : okN N) : ∀ {l : List Nat}, okL N l → (0 ≤ (ndV N l).2.1.toInt ∧ (ndV N l).2.1.toInt ≤ 99 * l.length) ∧ (ndV N l).2.2.1 = nI l.length
  | [], _ => ⟨⟨by show (0 : Int) ≤ (0 : Int32).toInt; decide, by show (0 : Int32).toInt ≤ 99 * ((0 : Nat) : Int); decide⟩, rfl⟩
  | w :: l, h => by
    have h24 := ok.w2
    have h1 := okL.cost ok h.2.2
    have hl := okL.len h (fun v h9 => (okL.w h v h9).1)
    rw [List.length_cons] at hl
    have h2 := ok.co w h.1.1
    have h3 := i_le.mp h2.1
    have h4 := i_le.mp h2.2
    have e0 : (0 : Int32).toInt = 0 := rfl
    have e99 : (99 : Int32).toInt = 99 := rfl
    rw [e0] at h3
    rw [e99] at h4
    refine ⟨?_, ?_⟩
    · show 0 ≤ ((ndV N l).2.1 + N (2 + 6 * w + 4)).toInt ∧ ((ndV N l).2.1 + N (2 + 6 * w + 4)).toInt ≤ 99 * ((w :: l).length : Nat)
      rw [i_add (by omega) (by omega), List.length_cons]
      omega
    · show (ndV N l).2.2.1 + nI 1 = nI (w :: l).length
      rw [h1.2, nI_add, List.length_cons]
theorem kD_ch {N : Nat → Int32} (ok : okN N) {l : List Nat} {w : Nat} (h : okL N (w :: l)) : kD (ndV N l) < kD (ndV N (w :: l)) := by
  have h24 := ok.w2
  have h1 := okL.cost ok h.2.2
  have h5 := okL.cost ok h
  have hl := okL.len h (fun v h9 => (okL.w h v h9).1)
  rw [List.length_cons] at hl
  have h2 := ok.co w h.1.1
  have h3 := i_le.mp h2.1
  have h4 := i_le.mp h2.2
  have e0 : (0 : Int32).toInt = 0 := rfl
  have e99 : (99 : Int32).toInt = 99 := rfl
  rw [e0] at h3
  rw [e99] at h4
  have ec : (ndV N (w :: l)).2.1.toInt = (ndV N l).2.1.toInt + (N (2 + 6 * w + 4)).toInt := by
    show ((ndV N l).2.1 + N (2 + 6 * w + 4)).toInt = _
    exact i_add (by omega) (by omega)
  have en1 : (ndV N l).2.2.1.toInt = l.length := by rw [h1.2, nI_toInt (by omega)]
  have en2 : (ndV N (w :: l)).2.2.1.toInt = l.length + 1 := by
    rw [h5.2, List.length_cons, nI_toInt (by omega)]
    omega
  have r1 := i_r (ndV N l).1
  have r2 := i_r (ndV N (w :: l)).1
  unfold kD
  rw [ec, en1, en2]
  omega
theorem kD_suf {N : Nat → Int32} (ok : okN N) {l : List Nat} : ∀ {t : List Nat}, okL N (t ++ l) → kD (ndV N l) ≤ kD (ndV N (t ++ l))
  | [], _ => Int.le_refl _
  | a :: t, h => by
    have h1 := kD_suf ok (t := t) h.2.2
    have h2 : kD (ndV N (t ++ l)) < kD (ndV N (a :: (t ++ l))) := kD_ch ok (w := a) h
    have h1' : kD (ndV N l) ≤ kD (ndV N (t ++ l)) := h1
    rw [List.cons_append]
    omega
/-- whether it helps -/
def soD (N : Nat → Int32) (v : drp) : Prop := cSo N v.1 (-1)
/-- the cheapest set that helps, or none -/
def isLd (N : Nat → Int32) : Option drp → Prop
  | none => ∀ u, okL N u → ¬ soD N (ndV N u)
  | some v => (∃ l, okL N l ∧ v = ndV N l) ∧ soD N v ∧ ∀ u, okL N u → soD N (ndV N u) → kD v ≤ kD (ndV N u)
def wQ (N : Nat → Int32) (V : List qd) : Nat := (V.map (fun p => wD N p.2)).sum
theorem sum_perm : ∀ {V W : List Nat}, V.Perm W → V.sum = W.sum := fun h => by
  induction h with
  | nil => rfl
  | cons x _ ih => rw [List.sum_cons, List.sum_cons, ih]
  | swap x y l => rw [List.sum_cons, List.sum_cons, List.sum_cons, List.sum_cons]; omega
  | trans _ _ h1 h2 => rw [h1, h2]
theorem wQ_perm {N : Nat → Int32} {V W : List qd} (h : V.Perm W) : wQ N V = wQ N W := sum_perm (h.map _)
theorem wQ_cons {N : Nat → Int32} {p : qd} {V : List qd} : wQ N (p :: V) = wD N p.2 + wQ N V := by
  unfold wQ
  rw [List.map_cons, List.sum_cons]
theorem wD_pos {N : Nat → Int32} {v : drp} : 1 ≤ wD N v := Nat.one_le_two_pow
theorem wQ_len {N : Nat → Int32} : ∀ {V : List qd}, V.length ≤ wQ N V
  | [] => Nat.zero_le _
  | p :: V => by
    have h1 := wQ_len (N := N) (V := V)
    have h2 := wD_pos (N := N) (v := p.2)
    rw [wQ_cons, List.length_cons]
    omega
theorem sfn_le {N : Nat → Int32} {a : Nat} : ∀ {b : Nat}, a ≤ b → sfn N a ≤ sfn N b
  | 0, h => by rw [Nat.le_zero.mp h]; exact Nat.le_refl _
  | b + 1, h => by
    by_cases e : a = b + 1
    · rw [e]; exact Nat.le_refl _
    · have h1 := sfn_le (N := N) (a := a) (b := b) (by omega)
      rw [sfn]
      omega
/-- what is left behind w -/
def wR (N : Nat → Int32) (w : Nat) : Nat := 2 ^ (sfn N (nW N) - sfn N w)
theorem wR_n {N : Nat → Int32} {w : Nat} (h : ¬ sfC N w) : wR N (w + 1) = wR N w := by
  unfold wR
  rw [sfn, if_neg h, Nat.add_zero]
theorem wR_y {N : Nat → Int32} {w : Nat} (h : sfC N w) (hw : w < nW N) : wR N w = wR N (w + 1) + wR N (w + 1) := by
  have h1 := sfn_le (N := N) (a := w + 1) (b := nW N) hw
  unfold wR
  rw [sfn, if_pos h] at h1
  rw [sfn, if_pos h, show sfn N (nW N) - sfn N w = (sfn N (nW N) - (sfn N w + 1)) + 1 by omega, Nat.pow_succ]
  omega
theorem wR_e {N : Nat → Int32} : wR N (nW N) = 1 := by
  unfold wR
  rw [Nat.sub_self]
theorem wD_ch {N : Nat → Int32} {v : drp} {w : Nat} (hw : w < 100) : wD N (chD N v w) = wR N (w + 1) := by
  unfold wD wR
  rw [nxD_ch hw]
/-- what is in the queue is made of windows that may be dropped; each set that helps comes of it -/
def okQ (N : Nat → Int32) (V : List qd) : Prop := ∀ p, p ∈ V → ∃ l, okL N l ∧ p.2 = ndV N l
def cvQ (N : Nat → Int32) (V : List qd) : Prop := ∀ u, okL N u → soD N (ndV N u) → ∃ p, p ∈ V ∧ ∃ t l, u = t ++ l ∧ p.2 = ndV N l
/-- the same while the sets of v and one more window are put in, from window w on -/
def cvW (N : Nat → Int32) (V : List qd) (v : drp) (w : Nat) : Prop := ∀ u, okL N u → soD N (ndV N u) → (∃ p, p ∈ V ∧ ∃ t l, u = t ++ l ∧ p.2 = ndV N l) ∨ ∃ w' t l, w ≤ w' ∧ u = t ++ w' :: l ∧ v = ndV N l
theorem okQ.one {N : Nat → Int32} {x : Nat} : okQ N [(x, (0, 0, 0, -1))] := fun p hp => ⟨[], trivial, by rw [List.mem_singleton.mp hp]; rfl⟩
theorem cvQ.one {N : Nat → Int32} {x : Nat} : cvQ N [(x, (0, 0, 0, -1))] := fun u _ _ => ⟨_, List.mem_singleton.mpr rfl, u, [], (List.append_nil u).symm, rfl⟩
theorem okQ.p {N : Nat → Int32} {V W : List qd} (h : okQ N V) (hp : W.Perm V) : okQ N W := fun p h9 => h p (hp.mem_iff.mp h9)
theorem cvQ.nil {N : Nat → Int32} (h : cvQ N []) : isLd N none := fun u h1 h2 => by
  obtain ⟨p, hp, -⟩ := h u h1 h2
  exact absurd hp List.not_mem_nil
theorem cvQ.least {N : Nat → Int32} (ok : okN N) {p : qd} {W : List qd} (ho : okQ N (p :: W)) (h : cvQ N (p :: W)) (hs : soD N p.2) (hm : ∀ r, r ∈ W → kD p.2 ≤ kD r.2) : isLd N (some p.2) := by
  refine ⟨ho p List.mem_cons_self, hs, fun u h1 h2 => ?_⟩
  obtain ⟨r, hr, t, l, e1, e2⟩ := h u h1 h2
  have h3 : kD r.2 ≤ kD (ndV N u) := by
    rw [e2, e1]
    rw [e1] at h1
    exact kD_suf ok h1
  rcases List.mem_cons.mp hr with e | e
  · rw [← e]; exact h3
  · exact Int.le_trans (hm r e) h3
theorem cvQ.opn {N : Nat → Int32} (ok : okN N) {p : qd} {W V : List qd} (h : cvQ N (p :: W)) (hs : ¬ soD N p.2) (hp : V.Perm W) : cvW N V p.2 (nxD p.2) := by
  intro u h1 h2
  obtain ⟨r, hr, t, l, e1, e2⟩ := h u h1 h2
  rcases List.mem_cons.mp hr with e | e
  · refine Or.inr ?_
    rw [e] at e2
    rcases List.eq_nil_or_concat t with ht | ⟨t2, w, ht⟩
    · rw [ht, List.nil_append] at e1
      rw [e1, ← e2] at h2
      exact absurd h2 hs
    · rw [List.concat_eq_append] at ht
      rw [ht, List.append_assoc] at e1
      refine ⟨w, t2, l, ?_, e1, e2⟩
      rw [e1] at h1
      rw [e2]
      exact okL.nx ok (okL.t h1)
  · exact Or.inl ⟨r, hp.mem_iff.mpr e, t, l, e1, e2⟩
theorem cvW.no {N : Nat → Int32} {V : List qd} {v : drp} {w : Nat} (h : cvW N V v w) (hs : ¬ sfC N w) : cvW N V v (w + 1) := by
  intro u h1 h2
  rcases h u h1 h2 with h3 | ⟨w', t, l, e1, e2, e3⟩
  · exact Or.inl h3
  · refine Or.inr ⟨w', t, l, ?_, e2, e3⟩
    have h4 : w ≠ w' := fun e => hs (by
      rw [e2] at h1
      rw [e]
      exact (okL.t h1).1.2)
    omega
theorem cvW.yes {N : Nat → Int32} {V V' : List qd} {v : drp} {w x : Nat} (h : cvW N V v w) (hp : V'.Perm ((x, chD N v w) :: V)) : cvW N V' v (w + 1) := by
  intro u h1 h2
  rcases h u h1 h2 with ⟨p, h3, h4⟩ | ⟨w', t, l, e1, e2, e3⟩
  · exact Or.inl ⟨p, hp.mem_iff.mpr (List.mem_cons_of_mem _ h3), h4⟩
  · by_cases e : w = w'
    · refine Or.inl ⟨_, hp.mem_iff.mpr List.mem_cons_self, t, w' :: l, e2, ?_⟩
      rw [e, e3]
      rfl
    · exact Or.inr ⟨w', t, l, by omega, e2, e3⟩
theorem cvW.fin {N : Nat → Int32} {V : List qd} {v : drp} (h : cvW N V v (nW N)) : cvQ N V := by
  intro u h1 h2
  rcases h u h1 h2 with h3 | ⟨w', t, l, e1, e2, e3⟩
  · exact h3
  · rw [e2] at h1
    have := (okL.t h1).1.1
    omega
theorem okQ.add {N : Nat → Int32} (ok : okN N) {V V' : List qd} {v : drp} {w x : Nat} (h : okQ N V) (hv : ∃ l, okL N l ∧ v = ndV N l) (hw : w < nW N) (hs : sfC N w) (hn : nxD v ≤ w) (hp : V'.Perm ((x, chD N v w) :: V)) : okQ N V' := by
  intro p h9
  rcases List.mem_cons.mp (hp.mem_iff.mp h9) with e | e
  · obtain ⟨l, h1, h2⟩ := hv
    refine ⟨w :: l, ⟨⟨hw, hs⟩, fun y hy => ?_, h1⟩, ?_⟩
    · have := okL.lt ok h1 y hy
      rw [h2] at hn
      omega
    · rw [e, h2]
      rfl
  · exact h p e
theorem cvQ.p {N : Nat → Int32} {V W : List qd} (h : cvQ N V) (hp : W.Perm V) : cvQ N W := fun u h1 h2 => by
  obtain ⟨p, h3, h4⟩ := h u h1 h2
  exact ⟨p, hp.mem_iff.mpr h3, h4⟩
