/-! EW: a heap in a list (plain) -/
set_option maxRecDepth 100000
/-- a queue's things: an address, what lies there -/
abbrev qd : Type := Nat × drp
def kq (V : List qd) (i : Nat) : Int := match V[i]? with
  | some p => kD p.2
  | none => 0
theorem kq_s {V : List qd} {i : Nat} {x : qd} (h : V[i]? = some x) : kq V i = kD x.2 := by
  unfold kq
  rw [h]
theorem set_perm' {α : Type} {x y : α} : ∀ {V : List α} {i : Nat}, V[i]? = some y → (y :: V.set i x).Perm (x :: V)
  | [], i, h => by cases h
  | a :: t, 0, h => by
    cases h
    exact List.Perm.swap _ _ _
  | a :: t, i + 1, h => by
    have h1 : t[i]? = some y := h
    exact ((List.Perm.swap a y (t.set i x)).trans ((set_perm' h1).cons a)).trans (List.Perm.swap x a t)
/-- two things change places -/
def swq (V : List qd) (k p : Nat) (x y : qd) : List qd := (V.set k y).set p x
theorem swq_perm {V : List qd} {k p : Nat} {x y : qd} (hk : V[k]? = some x) (hp : V[p]? = some y) (hn : k ≠ p) : (swq V k p x y).Perm V := by
  have h1 : (V.set k y)[p]? = some y := by rw [List.getElem?_set_ne hn]; exact hp
  exact ((set_perm' (x := x) h1).trans (set_perm' (x := y) hk)).cons_inv
theorem swq_len {V : List qd} {k p : Nat} {x y : qd} : (swq V k p x y).length = V.length := by rw [swq, List.length_set, List.length_set]
theorem swq_p {V : List qd} {k p : Nat} {x y : qd} (hp : p < V.length) : (swq V k p x y)[p]? = some x := by
  rw [swq, List.getElem?_set_self (by rw [List.length_set]; exact hp)]
theorem swq_k {V : List qd} {k p : Nat} {x y : qd} (hk : k < V.length) (hn : k ≠ p) : (swq V k p x y)[k]? = some y := by
  rw [swq, List.getElem?_set_ne (fun e => hn e.symm), List.getElem?_set_self hk]
theorem swq_o {V : List qd} {k p i : Nat} {x y : qd} (h1 : i ≠ k) (h2 : i ≠ p) : (swq V k p x y)[i]? = V[i]? := by
  rw [swq, List.getElem?_set_ne (fun e => h2 e.symm), List.getElem?_set_ne (fun e => h1 e.symm)]
theorem kq_o {V : List qd} {k p i : Nat} {x y : qd} (h1 : i ≠ k) (h2 : i ≠ p) : kq (swq V k p x y) i = kq V i := by
  unfold kq
  rw [swq_o h1 h2]
def hpO (V : List qd) : Prop := ∀ i, 0 < i → i < V.length → kq V ((i - 1) / 2) ≤ kq V i
/-- in order but for a thing at k that may be too great, or too little -/
def hpU (V : List qd) (k : Nat) : Prop := (∀ i, 0 < i → i < V.length → i ≠ k → kq V ((i - 1) / 2) ≤ kq V i) ∧ ∀ i, 0 < i → i < V.length → (i - 1) / 2 = k → 0 < k → kq V ((k - 1) / 2) ≤ kq V i
def hpD (V : List qd) (k : Nat) : Prop := (∀ i, 0 < i → i < V.length → (i - 1) / 2 ≠ k → kq V ((i - 1) / 2) ≤ kq V i) ∧ ∀ i, 0 < i → i < V.length → (i - 1) / 2 = k → 0 < k → kq V ((k - 1) / 2) ≤ kq V i
theorem hpU.up {V : List qd} {k : Nat} {x y : qd} (H : hpU V k) (h0 : 0 < k) (hl : k < V.length) (hk : V[k]? = some x) (hp : V[(k - 1) / 2]? = some y) (hxy : kD x.2 < kD y.2) : hpU (swq V k ((k - 1) / 2) x y) ((k - 1) / 2) := by
  have hn : k ≠ (k - 1) / 2 := by omega
  have ek : kq (swq V k ((k - 1) / 2) x y) k = kD y.2 := kq_s (swq_k hl hn)
  have ep : kq (swq V k ((k - 1) / 2) x y) ((k - 1) / 2) = kD x.2 := kq_s (swq_p (by omega))
  have vk : kq V k = kD x.2 := kq_s hk
  have vp : kq V ((k - 1) / 2) = kD y.2 := kq_s hp
  refine ⟨fun i hi hl2 hne => ?_, fun i hi hl2 he h0p => ?_⟩
  · rw [swq_len] at hl2
    by_cases e1 : i = k
    · rw [e1, ep, ek]; omega
    · have hV := H.1 i hi hl2 e1
      by_cases e2 : (i - 1) / 2 = k
      · have := H.2 i hi hl2 e2 h0
        rw [e2, ek, kq_o e1 hne]; omega
      · by_cases e3 : (i - 1) / 2 = (k - 1) / 2
        · rw [e3] at hV
          rw [e3, ep, kq_o e1 hne]; omega
        · rw [kq_o e2 e3, kq_o e1 hne]; exact hV
  · rw [swq_len] at hl2
    have hVp := H.1 ((k - 1) / 2) h0p (by omega) (by omega)
    rw [kq_o (by omega) (by omega)]
    by_cases e1 : i = k
    · rw [e1, ek]; omega
    · have hV := H.1 i hi hl2 e1
      rw [he] at hV
      rw [kq_o e1 (by omega)]; omega
theorem hpU.fin {V : List qd} {k : Nat} (H : hpU V k) (hk : 0 < k → k < V.length → kq V ((k - 1) / 2) ≤ kq V k) : hpO V := by
  intro i hi hl
  by_cases e : i = k
  · rw [e] at hi hl ⊢; exact hk hi hl
  · exact H.1 i hi hl e
theorem hpO.app {V : List qd} (H : hpO V) (x : qd) : hpU (V ++ [x]) V.length := by
  have e : ∀ i, i < V.length → kq (V ++ [x]) i = kq V i := fun i hi => by
    unfold kq
    rw [List.getElem?_append_left hi]
  refine ⟨fun i hi hl hne => ?_, fun i hi hl he h0 => ?_⟩
  · rw [List.length_append] at hl
    have : ([x] : List qd).length = 1 := rfl
    rw [e _ (by omega), e _ (by omega)]
    exact H i hi (by omega)
  · rw [List.length_append] at hl
    have : ([x] : List qd).length = 1 := rfl
    omega
theorem hpD.down {V : List qd} {k j : Nat} {x y : qd} (H : hpD V k) (hj : j = 2 * k + 1 ∨ j = 2 * k + 2) (hl : j < V.length) (hk : V[k]? = some x) (hy : V[j]? = some y) (hxy : kD y.2 < kD x.2) (hs : ∀ i, (i - 1) / 2 = k → 0 < i → i < V.length → kD y.2 ≤ kq V i) : hpD (swq V k j x y) j := by
  have hn : k ≠ j := by omega
  have ek : kq (swq V k j x y) k = kD y.2 := kq_s (swq_k (by omega) hn)
  have ej : kq (swq V k j x y) j = kD x.2 := kq_s (swq_p hl)
  have vk : kq V k = kD x.2 := kq_s hk
  have vj : kq V j = kD y.2 := kq_s hy
  refine ⟨fun i hi hl2 hne => ?_, fun i hi hl2 he h0p => ?_⟩
  · rw [swq_len] at hl2
    by_cases e1 : (i - 1) / 2 = k
    · rw [e1, ek]
      by_cases e2 : i = j
      · rw [e2, ej]; omega
      · rw [kq_o (by omega) e2]; exact hs i e1 hi hl2
    · have hV := H.1 i hi hl2 e1
      by_cases e2 : i = k
      · have := H.2 j (by omega) hl (by omega) (by omega)
        rw [e2, ek, kq_o (by omega) (by omega)]; omega
      · rw [kq_o e1 hne, kq_o e2 (by omega)]; exact hV
  · rw [swq_len] at hl2
    have hV := H.1 i hi hl2 (by omega)
    rw [he] at hV
    rw [show (j - 1) / 2 = k by omega, ek, kq_o (by omega) (by omega)]; omega
theorem hpD.fin {V : List qd} {k : Nat} (H : hpD V k) (hk : ∀ i, (i - 1) / 2 = k → 0 < i → i < V.length → kq V k ≤ kq V i) : hpO V := by
  intro i hi hl
  by_cases e : (i - 1) / 2 = k
  · rw [e]; exact hk i e hi hl
  · exact H.1 i hi hl e
/-- the first one is least -/
theorem hpO.min {V : List qd} (H : hpO V) : ∀ n i, i ≤ n → i < V.length → kq V 0 ≤ kq V i
  | 0, i, hi, _ => by rw [show i = 0 by omega]; exact Int.le_refl _
  | n + 1, i, hi, hl => by
    by_cases h0 : i = 0
    · rw [h0]; exact Int.le_refl _
    · exact Int.le_trans (hpO.min H n ((i - 1) / 2) (by omega) (by omega)) (H i (by omega) hl)
theorem hpO.least {V : List qd} {v p : qd} (H : hpO V) (h0 : V[0]? = some v) (hp : p ∈ V) : kD v.2 ≤ kD p.2 := by
  obtain ⟨i, hi⟩ := List.getElem?_of_mem hp
  have := H.min i i (Nat.le_refl _) (List.getElem?_eq_some_iff.mp hi).1
  rw [kq_s h0, kq_s hi] at this
  exact this
/-- the last one goes to the front -/
theorem hpO.front {W : List qd} {v l : qd} (H : hpO (v :: (W ++ [l]))) : hpD (l :: W) 0 := by
  have e : ∀ i, 0 < i → i < W.length + 1 → kq (l :: W) i = kq (v :: (W ++ [l])) i := fun i h0 hi => by
    unfold kq
    cases i with
    | zero => omega
    | succ i => rw [List.getElem?_cons_succ, List.getElem?_cons_succ, List.getElem?_append_left (by omega)]
  refine ⟨fun i hi hl hne => ?_, fun i hi hl he h0 => absurd h0 (Nat.lt_irrefl 0)⟩
  rw [List.length_cons] at hl
  have h1 := H i hi (by rw [List.length_cons, List.length_append, List.length_singleton]; omega)
  rw [e _ (by omega) (by omega), e i hi hl]
  exact h1
theorem front_perm {W : List qd} {l : qd} : (l :: W).Perm (W ++ [l]) := (List.perm_append_singleton l W).symm
