/-! EW: a net as the reference keeps it: 176 numbers; its steps -/
set_option maxRecDepth 100000
/-- a step: from, to, sum, code -/
abbrev ed : Type := Nat × Nat × Int32 × Int32
def nE (N : Nat → Int32) : Nat := (N 0).toNatClampNeg
def nW (N : Nat → Int32) : Nat := (N 1).toNatClampNeg
def fA (N : Nat → Int32) (w : Nat) : Nat := (N (2 + 6 * w + 0)).toNatClampNeg
def fB (N : Nat → Int32) (w : Nat) : Nat := (N (2 + 6 * w + 1)).toNatClampNeg
def fR (lo hi x : Int32) : Prop := lo ≤ x ∧ x ≤ hi
/-- what every net meets -/
def okN (N : Nat → Int32) : Prop :=
  (N 0 = nI (nE N)) ∧
  (1 ≤ nE N) ∧
  (nE N ≤ 10) ∧
  (N 1 = nI (nW N)) ∧
  (nW N ≤ 24) ∧
  (∀ w, w < nW N → N (2 + 6 * w + 0) = nI (fA N w)) ∧
  (∀ w, w < nW N → fA N w < nE N) ∧
  (∀ w, w < nW N → N (2 + 6 * w + 1) = nI (fB N w)) ∧
  (∀ w, w < nW N → fB N w < nE N) ∧
  (∀ w, w < nW N → fR 0 999 (N (2 + 6 * w + 2))) ∧
  (∀ w, w < nW N → fR (-1) 999 (N (2 + 6 * w + 3))) ∧
  (∀ w, w < nW N → fR 0 99 (N (2 + 6 * w + 4))) ∧
  (∀ w, w < nW N → N (2 + 6 * w + 5) = 0 ∨ N (2 + 6 * w + 5) = 1) ∧
  (∀ e, e < nE N → fR (-1) 999 (N (146 + e))) ∧
  (N 146 = 0) ∧
  (∀ e, e < nE N → fR 0 99 (N (156 + e))) ∧
  (∀ e, e < nE N → fR (-1) 999 (N (166 + e)))
theorem okN.e {N : Nat → Int32} (h : okN N) : N 0 = nI (nE N) := h.1
theorem okN.e1 {N : Nat → Int32} (h : okN N) : 1 ≤ nE N := h.2.1
theorem okN.e2 {N : Nat → Int32} (h : okN N) : nE N ≤ 10 := h.2.2.1
theorem okN.w {N : Nat → Int32} (h : okN N) : N 1 = nI (nW N) := h.2.2.2.1
theorem okN.w2 {N : Nat → Int32} (h : okN N) : nW N ≤ 24 := h.2.2.2.2.1
theorem okN.a {N : Nat → Int32} (h : okN N) : ∀ w, w < nW N → N (2 + 6 * w + 0) = nI (fA N w) := h.2.2.2.2.2.1
theorem okN.al {N : Nat → Int32} (h : okN N) : ∀ w, w < nW N → fA N w < nE N := h.2.2.2.2.2.2.1
theorem okN.b {N : Nat → Int32} (h : okN N) : ∀ w, w < nW N → N (2 + 6 * w + 1) = nI (fB N w) := h.2.2.2.2.2.2.2.1
theorem okN.bl {N : Nat → Int32} (h : okN N) : ∀ w, w < nW N → fB N w < nE N := h.2.2.2.2.2.2.2.2.1
theorem okN.lo {N : Nat → Int32} (h : okN N) : ∀ w, w < nW N → fR 0 999 (N (2 + 6 * w + 2)) := h.2.2.2.2.2.2.2.2.2.1
theorem okN.hi {N : Nat → Int32} (h : okN N) : ∀ w, w < nW N → fR (-1) 999 (N (2 + 6 * w + 3)) := h.2.2.2.2.2.2.2.2.2.2.1
theorem okN.co {N : Nat → Int32} (h : okN N) : ∀ w, w < nW N → fR 0 99 (N (2 + 6 * w + 4)) := h.2.2.2.2.2.2.2.2.2.2.2.1
theorem okN.dr {N : Nat → Int32} (h : okN N) : ∀ w, w < nW N → N (2 + 6 * w + 5) = 0 ∨ N (2 + 6 * w + 5) = 1 := h.2.2.2.2.2.2.2.2.2.2.2.2.1
theorem okN.fx {N : Nat → Int32} (h : okN N) : ∀ e, e < nE N → fR (-1) 999 (N (146 + e)) := h.2.2.2.2.2.2.2.2.2.2.2.2.2.1
theorem okN.fx0 {N : Nat → Int32} (h : okN N) : N 146 = 0 := h.2.2.2.2.2.2.2.2.2.2.2.2.2.2.1
theorem okN.dl {N : Nat → Int32} (h : okN N) : ∀ e, e < nE N → fR 0 99 (N (156 + e)) := h.2.2.2.2.2.2.2.2.2.2.2.2.2.2.2.1
theorem okN.wi {N : Nat → Int32} (h : okN N) : ∀ e, e < nE N → fR (-1) 999 (N (166 + e)) := h.2.2.2.2.2.2.2.2.2.2.2.2.2.2.2.2
abbrev hasB (set k : Int32) : Prop := (set >>> (k &&& 31)) &&& 1 = 1
/-- the steps of one window; of the windows below m -/
def ehW (N : Nat → Int32) (code : Int32) (w : Nat) : List ed := if N (2 + 6 * w + 3) ≠ -1 ∧ code ≠ nI (2 * w) then [(fA N w, fB N w, N (2 + 6 * w + 3), nI (2 * w))] else []
def elW (N : Nat → Int32) (code : Int32) (w : Nat) : List ed := if code ≠ nI (2 * w + 1) then [(fB N w, fA N w, -N (2 + 6 * w + 2), nI (2 * w + 1))] else []
def eW1 (N : Nat → Int32) (wout code : Int32) (w : Nat) : List ed := if N (2 + 6 * w + 5) = 1 ∨ hasB wout (nI w) then [] else ehW N code w ++ elW N code w
def eWs (N : Nat → Int32) (wout code : Int32) : Nat → List ed
  | 0 => []
  | w + 1 => eWs N wout code w ++ eW1 N wout code w
/-- fixed events, events 1 .. m -/
def eFs (T : Nat → Int32) : Nat → List ed
  | 0 => []
  | m + 1 => eFs T m ++ if T (m + 1) = -1 then [] else [(0, m + 1, T (m + 1), nI (100 + (m + 1)))]
def eUs (T : Nat → Int32) : Nat → List ed
  | 0 => []
  | m + 1 => eUs T m ++ if T (m + 1) = -1 then [] else [(m + 1, 0, -T (m + 1), nI (200 + (m + 1)))]
def eSs : Nat → List ed
  | 0 => []
  | m + 1 => eSs m ++ [(m + 1, 0, 0, nI (300 + (m + 1)))]
def eAll (N T : Nat → Int32) (wout code : Int32) : List ed := eWs N wout code (nW N) ++ eFs T (nE N - 1) ++ eUs T (nE N - 1) ++ eSs (nE N - 1)
theorem eW1_len (N : Nat → Int32) (wout code : Int32) (w : Nat) : (eW1 N wout code w).length ≤ 2 := by
  unfold eW1 ehW elW
  split
  · simp
  · split <;> split <;> simp
theorem eWs_len (N : Nat → Int32) (wout code : Int32) : ∀ m, (eWs N wout code m).length ≤ 2 * m
  | 0 => by simp [eWs]
  | m + 1 => by
    have h1 := eWs_len N wout code m
    have h2 := eW1_len N wout code m
    simp only [eWs, List.length_append]
    omega
theorem eFs_len (T : Nat → Int32) : ∀ m, (eFs T m).length ≤ m
  | 0 => by simp [eFs]
  | m + 1 => by
    have h1 := eFs_len T m
    simp only [eFs, List.length_append]
    split <;> simp <;> omega
theorem eUs_len (T : Nat → Int32) : ∀ m, (eUs T m).length ≤ m
  | 0 => by simp [eUs]
  | m + 1 => by
    have h1 := eUs_len T m
    simp only [eUs, List.length_append]
    split <;> simp <;> omega
theorem eSs_len : ∀ m, (eSs m).length = m
  | 0 => by simp [eSs]
  | m + 1 => by simp [eSs, eSs_len m]
theorem ehW_y {N : Nat → Int32} {code : Int32} {w : Nat} (h1 : ¬ N (2 + 6 * w + 3) = -1) (h2 : ¬ code = nI (2 * w)) : ehW N code w = [(fA N w, fB N w, N (2 + 6 * w + 3), nI (2 * w))] := if_pos ⟨h1, h2⟩
theorem ehW_n1 {N : Nat → Int32} {code : Int32} {w : Nat} (h1 : N (2 + 6 * w + 3) = -1) : ehW N code w = [] := if_neg (fun h => h.1 h1)
theorem ehW_n2 {N : Nat → Int32} {code : Int32} {w : Nat} (h1 : code = nI (2 * w)) : ehW N code w = [] := if_neg (fun h => h.2 h1)
def okE (n : Nat) (E : List ed) : Prop := ∀ (i : Nat) (e : ed), E[i]? = some e → e.1 < n ∧ e.2.1 < n
theorem okE.of {n : Nat} {E : List ed} (h : ∀ e : ed, e ∈ E → e.1 < n ∧ e.2.1 < n) : okE n E := fun _ e he => h e (List.mem_of_getElem? he)
theorem okE.m {n : Nat} {E : List ed} (h : okE n E) (e : ed) (he : e ∈ E) : e.1 < n ∧ e.2.1 < n := by
  obtain ⟨i, hi⟩ := List.getElem?_of_mem he
  exact h i e hi
theorem eAll_len {N T : Nat → Int32} {wout code : Int32} (ok : okN N) : (eAll N T wout code).length < 80 := by
  have h1 := eWs_len N wout code (nW N)
  have h2 := eFs_len T (nE N - 1)
  have h3 := eUs_len T (nE N - 1)
  have h4 := eSs_len (nE N - 1)
  have h5 := ok.e2
  have h6 := ok.w2
  simp only [eAll, List.length_append]
  omega
theorem eWs_mem {N : Nat → Int32} {wout code : Int32} {e : ed} : ∀ m, e ∈ eWs N wout code m → ∃ w, w < m ∧ e ∈ eW1 N wout code w
  | 0, h => by cases h
  | m + 1, h => by
    rcases List.mem_append.mp h with h | h
    · obtain ⟨w, hw, he⟩ := eWs_mem m h
      exact ⟨w, by omega, he⟩
    · exact ⟨m, by omega, h⟩
theorem eW1_mem {N : Nat → Int32} {wout code : Int32} {e : ed} {w : Nat} (h : e ∈ eW1 N wout code w) : e = (fA N w, fB N w, N (2 + 6 * w + 3), nI (2 * w)) ∨ e = (fB N w, fA N w, -N (2 + 6 * w + 2), nI (2 * w + 1)) := by
  unfold eW1 at h
  split at h
  · cases h
  · rcases List.mem_append.mp h with h | h
    · unfold ehW at h
      split at h
      · exact Or.inl (List.mem_singleton.mp h)
      · cases h
    · unfold elW at h
      split at h
      · exact Or.inr (List.mem_singleton.mp h)
      · cases h
theorem eFs_mem {T : Nat → Int32} {e : ed} : ∀ m, e ∈ eFs T m → ∃ i, i < m ∧ T (i + 1) ≠ -1 ∧ e = (0, i + 1, T (i + 1), nI (100 + (i + 1)))
  | 0, h => by cases h
  | m + 1, h => by
    rcases List.mem_append.mp h with h | h
    · obtain ⟨i, hi, he⟩ := eFs_mem m h
      exact ⟨i, by omega, he⟩
    · split at h
      · cases h
      · rename_i h9
        exact ⟨m, by omega, h9, List.mem_singleton.mp h⟩
theorem eUs_mem {T : Nat → Int32} {e : ed} : ∀ m, e ∈ eUs T m → ∃ i, i < m ∧ T (i + 1) ≠ -1 ∧ e = (i + 1, 0, -T (i + 1), nI (200 + (i + 1)))
  | 0, h => by cases h
  | m + 1, h => by
    rcases List.mem_append.mp h with h | h
    · obtain ⟨i, hi, he⟩ := eUs_mem m h
      exact ⟨i, by omega, he⟩
    · split at h
      · cases h
      · rename_i h9
        exact ⟨m, by omega, h9, List.mem_singleton.mp h⟩
theorem eSs_mem {e : ed} : ∀ m, e ∈ eSs m → ∃ i, i < m ∧ e = (i + 1, 0, 0, nI (300 + (i + 1)))
  | 0, h => by cases h
  | m + 1, h => by
    rcases List.mem_append.mp h with h | h
    · obtain ⟨i, hi, he⟩ := eSs_mem m h
      exact ⟨i, by omega, he⟩
    · exact ⟨m, by omega, List.mem_singleton.mp h⟩
theorem eAll_ok {N T : Nat → Int32} {wout code : Int32} (ok : okN N) : okE (nE N) (eAll N T wout code) := by
  apply okE.of
  intro e he
  have h1 := ok.e1
  rcases List.mem_append.mp he with he | he
  · rcases List.mem_append.mp he with he | he
    · rcases List.mem_append.mp he with he | he
      · obtain ⟨w, hw, he⟩ := eWs_mem _ he
        have ha := ok.al w hw
        have hb := ok.bl w hw
        rcases eW1_mem he with he | he <;> subst he
        · exact ⟨ha, hb⟩
        · exact ⟨hb, ha⟩
      · obtain ⟨i, hi, _, he⟩ := eFs_mem _ he
        subst he
        exact ⟨by show 0 < nE N; omega, by show i + 1 < nE N; omega⟩
    · obtain ⟨i, hi, _, he⟩ := eUs_mem _ he
      subst he
      exact ⟨by show i + 1 < nE N; omega, by show 0 < nE N; omega⟩
  · obtain ⟨i, hi, he⟩ := eSs_mem _ he
    subst he
    exact ⟨by show i + 1 < nE N; omega, by show 0 < nE N; omega⟩
/-- sums of just k steps; first what a row of steps makes of those of one step less -/
def xP (F : Int32) (r : Nat → Nat → Int32) (L : List ed) (a b : Nat) : Int32 := L.foldl (fun x e => if e.1 = a ∧ r e.2.1 b < F then jmin x (e.2.2.1 + r e.2.1 b) else x) F
def xI (F : Int32) (E : List ed) : Nat → Nat → Nat → Int32
  | 0, a, b => if a = b then 0 else F
  | k + 1, a, b => xP F (xI F E k) E a b
theorem xP_snoc (F : Int32) (r : Nat → Nat → Int32) (L : List ed) (e : ed) (a b : Nat) : xP F r (L ++ [e]) a b = if e.1 = a ∧ r e.2.1 b < F then jmin (xP F r L a b) (e.2.2.1 + r e.2.1 b) else xP F r L a b := by
  simp only [xP, List.foldl_append, List.foldl_cons, List.foldl_nil]
