/-! EW: what a text says: tokens in a row, dead after a fault -/
set_option maxRecDepth 100000
theorem rmap_eq {n m : Nat} {f k : Nat → Int32} : (List.range n).map f = (List.range m).map k ↔ n = m ∧ ∀ i, i < n → f i = k i := by
  constructor
  · intro h
    have hl := congrArg List.length h
    simp only [List.length_map, List.length_range] at hl
    subst hl
    refine ⟨rfl, fun i hi => ?_⟩
    have h9 := congrArg (fun L => L[i]?) h
    simp only [List.getElem?_map, List.getElem?_range hi, Option.map_some] at h9
    exact Option.some.inj h9
  · rintro ⟨rfl, h⟩
    refine List.map_congr_left (fun i hi => h i (List.mem_range.mp hi))
/-- a token; its value counts only for a number -/
def tkN (b : Nat → Int32) (n p : Nat) : tok := ((tokN b n p 0).1, (tokN b n p 0).2.1, (tokN b n p 0).2.2.1, if (tokN b n p 0).1 = 2 then (tokN b n p 0).2.2.2 else 0)
def tkL (b : Nat → Int32) (x : tok) : List Int32 := (List.range (x.2.2.1 - x.2.1)).map (fun k => b (x.2.1 + k))
/-- tokens lie in the text; words have at most eight letters -/
def tkO (b : Nat → Int32) (n : Nat) (x : tok) : Prop := x.2.1 ≤ x.2.2.1 ∧ x.2.2.1 ≤ n ∧ x.1 ≤ 4 ∧ (x.1 = 1 → x.2.2.1 - x.2.1 ≤ 8 ∧ x.2.1 < x.2.2.1 ∧ ∀ k, x.2.1 ≤ k → k < x.2.2.1 → isLt (b k))
theorem lwF_lt {b : Nat → Int32} {n : Nat} : ∀ r p k, p ≤ k → k < lwF b n r p → isLt (bA b n k)
  | 0, p, k, h1, h2 => by rw [lwF] at h2; omega
  | r + 1, p, k, h1, h2 => by
    rw [lwF] at h2
    split at h2
    · rename_i h9
      by_cases e : p = k
      · subst e; exact h9
      · exact lwF_lt r (p + 1) k (by omega) h2
    · omega
theorem lwF_gt {b : Nat → Int32} {n p : Nat} (h : p < n) (hl : isLt (bA b n p)) : p < lwF b n n p := by
  obtain ⟨m, rfl⟩ : ∃ m, n = m + 1 := ⟨n - 1, by omega⟩
  rw [lwF, if_pos hl]
  have := (lwF_le (b := b) (n := m + 1) m (p + 1) (by omega)).1
  omega
theorem isLt_end {b : Nat → Int32} {n k : Nat} (h : isLt (bA b n k)) : k < n := by
  by_cases h8 : n ≤ k
  · rw [bA_end h8] at h; exact absurd h (by decide)
  · omega
theorem tkN_ok {b : Nat → Int32} {n p : Nat} (h : p ≤ n) : tkO b n (tkN b n p) ∧ p ≤ (tkN b n p).2.1 := by
  have h1 := tokN_le (b := b) (v := 0) h
  refine ⟨⟨h1.2.1, h1.2.2.1, h1.2.2.2, ?_⟩, h1.1⟩
  show (tokN b n p 0).1 = 1 → (tokN b n p 0).2.2.1 - (tokN b n p 0).2.1 ≤ 8 ∧ (tokN b n p 0).2.1 < (tokN b n p 0).2.2.1 ∧ ∀ k, (tokN b n p 0).2.1 ≤ k → k < (tokN b n p 0).2.2.1 → isLt (b k)
  rw [tokN, tokA]
  generalize hf : spF b n n p = f
  split
  · intro h9; exact absurd (show 4 = 1 from h9) (by decide)
  · rename_i hfn
    split
    · rename_i hl
      intro h9
      have h9' : (if lwF b n n f - f ≤ 8 then 1 else 0) = 1 := h9
      have h8 : lwF b n n f - f ≤ 8 := by
        by_cases h7 : lwF b n n f - f ≤ 8
        · exact h7
        · rw [if_neg h7] at h9'; exact absurd h9' (by decide)
      refine ⟨h8, lwF_gt (Nat.lt_of_not_le hfn) hl, fun k hk1 hk2 => ?_⟩
      have hk1' : f ≤ k := hk1
      have hk2' : k < lwF b n n f := hk2
      have h7 := lwF_lt n f k hk1' hk2'
      have h6 := isLt_end h7
      rw [bA, if_pos h6] at h7
      exact h7
    · split
      · intro h9
        have h9' : (if (dgF b n f n f 0).1 - f ≤ 3 then 2 else 0) = 1 := h9
        split at h9' <;> exact absurd h9' (by decide)
      · intro h9
        have h9' : (if bA b n f = 59 then 3 else 0) = 1 := h9
        split at h9' <;> exact absurd h9' (by decide)
theorem tkN_val {b : Nat → Int32} {n p : Nat} {v : Int32} : (tokN b n p v).1 = (tkN b n p).1 ∧ (tokN b n p v).2.1 = (tkN b n p).2.1 ∧ (tokN b n p v).2.2.1 = (tkN b n p).2.2.1 ∧ ((tkN b n p).1 = 2 → (tokN b n p v).2.2.2 = (tkN b n p).2.2.2) := by
  unfold tkN tokN tokA
  by_cases h1 : n ≤ spF b n n p
  · rw [if_pos h1, if_pos h1]
    exact ⟨rfl, rfl, rfl, fun h => absurd (show 4 = 2 from h) (by decide)⟩
  · by_cases h2 : isLt (bA b n (spF b n n p))
    · rw [if_neg h1, if_pos h2, if_neg h1, if_pos h2]
      refine ⟨rfl, rfl, rfl, fun h => ?_⟩
      have h9 : (if lwF b n n (spF b n n p) - spF b n n p ≤ 8 then 1 else 0) = 2 := h
      split at h9 <;> exact absurd h9 (by decide)
    · by_cases h3 : isDg (bA b n (spF b n n p))
      · rw [if_neg h1, if_neg h2, if_pos h3, if_neg h1, if_neg h2, if_pos h3]
        refine ⟨rfl, rfl, rfl, fun h => ?_⟩
        exact (if_pos h).symm
      · rw [if_neg h1, if_neg h2, if_neg h3, if_neg h1, if_neg h2, if_neg h3]
        refine ⟨rfl, rfl, rfl, fun h => ?_⟩
        have h9 : (if bA b n (spF b n n p) = 59 then 3 else 0) = 2 := h
        split at h9 <;> exact absurd h9 (by decide)
/-- a fault (code, place), or a token -/
abbrev rs : Type := Sum (Int32 × Nat) tok
def nxR (b : Nat → Int32) (n : Nat) : rs → rs
  | .inl e => .inl e
  | .inr x => .inr (tkN b n x.2.2.1)
def ckR (c : Int32) (P : tok → Prop) [DecidablePred P] : rs → rs
  | .inl e => .inl e
  | .inr x => if P x then .inr x else .inl (c, x.2.1)
theorem ckR_y {c : Int32} {P : tok → Prop} [DecidablePred P] {x : tok} (h : P x) : ckR c P (.inr x) = .inr x := if_pos h
theorem ckR_n {c : Int32} {P : tok → Prop} [DecidablePred P] {x : tok} (h : ¬ P x) : ckR c P (.inr x) = .inl (c, x.2.1) := if_neg h
def vaR (d : Int32) : rs → Int32
  | .inl _ => d
  | .inr x => x.2.2.2
def nuK (lo hi : Int32) (r : rs) : rs := ckR 2 (fun x => lo ≤ x.2.2.2 ∧ x.2.2.2 ≤ hi) (ckR 1 (fun x => x.1 = 2) r)
def nuV (lo hi : Int32) (r : rs) : Int32 := vaR lo (nuK lo hi r)
def nuR (b : Nat → Int32) (n : Nat) (lo hi : Int32) (r : rs) : rs := nxR b n (nuK lo hi r)
def nmT (nm : Nat → Int32) (e : Nat) : List Int32 := (List.range (ltV nm e)).map (fun k => nm (8 * e + k))
def evF (nm : Nat → Int32) (L : List Int32) : Nat → Nat → Int32
  | 0, _ => -1
  | r + 1, k => if nmT nm k = L then nI k else evF nm L r (k + 1)
/-- the event with the name that stands here -/
def evA (b nm : Nat → Int32) (m : Nat) (x : tok) : Int32 := evF nm (tkL b x) m 0
def wo1 (r : rs) : rs := ckR 1 (fun x => x.1 = 1) r
def evW (b nm : Nat → Int32) (m : Nat) : rs → Int32
  | .inl _ => 0
  | .inr x => evA b nm m x
def evV (b nm : Nat → Int32) (m : Nat) (r : rs) : Int32 := evW b nm m (wo1 r)
def evK (b nm : Nat → Int32) (m : Nat) (oth : Int32) (r : rs) : rs := ckR 3 (fun x => ¬ (evA b nm m x = -1 ∨ hasB oth (evA b nm m x))) (wo1 r)
def evR (b : Nat → Int32) (n : Nat) (nm : Nat → Int32) (m : Nat) (oth : Int32) (r : rs) : rs := nxR b n (evK b nm m oth r)
def wdR (b : Nat → Int32) (L : List Int32) : rs → Bool
  | .inl _ => false
  | .inr x => decide (x.1 = 1 ∧ tkL b x = L)
/-- a name is told -/
def naK (b nm : Nat → Int32) (m : Nat) (r : rs) : rs := ckR 3 (fun x => evA b nm m x = -1) (wo1 r)
def naM (nm : Nat → Int32) (m : Nat) (L : List Int32) : Nat → Int32 := fun i => if 8 * m ≤ i ∧ i < 8 * m + 8 then L.getD (i - 8 * m) 0 else nm i
def naN (N : Nat → Int32) (m : Nat) : Nat → Int32 := upd (upd (upd N (146 + m) (-1)) (166 + m) (-1)) 0 (nI (m + 1))
/-- what is told so far: net, names, events fixed, delayed, wished, soft windows -/
abbrev pst : Type := (Nat → Int32) × (Nat → Int32) × Int32 × Int32 × Int32 × Int32
def naP (b : Nat → Int32) (n m : Nat) (r : rs) (s : pst) : rs × pst := match naK b s.2.1 m r with
  | .inl e => (.inl e, s)
  | .inr x => (nxR b n (.inr x), naN s.1 m, naM s.2.1 m (tkL b x), s.2.2)
def lnE (b : Nat → Int32) (n : Nat) (r : rs) (s : pst) : rs × pst := naP b n (nE s.1) (nxR b n (ckR 4 (fun _ => ¬ nE s.1 = 10) r)) s
def shl1 (e : Int32) : Int32 := (1 : Int32) <<< (e &&& 31)
def aL (r : rs) : Bool := match r with
  | .inl _ => false
  | .inr _ => true
def isNu (r : rs) : Bool := match r with
  | .inl _ => false
  | .inr x => decide (x.1 = 2)
def bSoft : List Int32 := [115, 111, 102, 116]
def lnA (b : Nat → Int32) (n : Nat) (r : rs) (s : pst) : rs × Int32 := 
  let r1 := nxR b n (ckR 4 (fun _ => ¬ nW s.1 = 20) r)
  (evR b n s.2.1 (nE s.1) 0 r1, evV b s.2.1 (nE s.1) r1)
def lnB (b : Nat → Int32) (n : Nat) (s : pst) (y : rs × Int32) : rs × Int32 := 
  let o := if aL y.1 = true then shl1 y.2 else 0
  (evR b n s.2.1 (nE s.1) o y.1, evV b s.2.1 (nE s.1) y.1)
def lnH (b : Nat → Int32) (n : Nat) (lo : Int32) (r : rs) : rs × Int32 := if isNu r = true then (nuR b n lo 999 r, nuV lo 999 r) else (r, -1)
def lnC (b : Nat → Int32) (n : Nat) (so : Int32) (r : rs) : rs × Int32 × Int32 :=
  if wdR b bSoft r = true then (nuR b n 1 99 (nxR b n (ckR 4 (fun _ => ¬ so = 10) r)), nuV 1 99 (nxR b n (ckR 4 (fun _ => ¬ so = 10) r)), so + 1) else (r, 0, so)
def lnW (b : Nat → Int32) (n : Nat) (r : rs) (s : pst) : rs × pst :=
  let y1 := lnA b n r s
  let y2 := lnB b n s y1
  let lo := nuV 0 999 y2.1
  let y4 := lnH b n lo (nuR b n 0 999 y2.1)
  let y5 := lnC b n s.2.2.2.2.2 y4.1
  (y5.1, layN s.1 y1.2 y2.2 lo y4.2 y5.2.1, s.2.1, s.2.2.1, s.2.2.2.1, s.2.2.2.2.1, y5.2.2)
def lnF (b : Nat → Int32) (n : Nat) (r : rs) (s : pst) : rs × pst :=
  let r1 := nxR b n r
  let e := evV b s.2.1 (nE s.1) r1
  let r2 := evR b n s.2.1 (nE s.1) s.2.2.1 r1
  (nuR b n 0 999 r2, upd s.1 (146 + ix e) (nuV 0 999 r2), s.2.1, s.2.2.1 ||| shl1 e, s.2.2.2)
def lnD (b : Nat → Int32) (n : Nat) (r : rs) (s : pst) : rs × pst :=
  let r1 := nxR b n r
  let e := evV b s.2.1 (nE s.1) r1
  let r2 := evR b n s.2.1 (nE s.1) s.2.2.2.1 r1
  (nuR b n 0 99 r2, upd s.1 (156 + ix e) (nuV 0 99 r2), s.2.1, s.2.2.1, s.2.2.2.1 ||| shl1 e, s.2.2.2.2)
def lnS (b : Nat → Int32) (n : Nat) (r : rs) (s : pst) : rs × pst :=
  let r1 := nxR b n r
  let e := evV b s.2.1 (nE s.1) r1
  let r2 := evR b n s.2.1 (nE s.1) s.2.2.2.2.1 r1
  (nuR b n 0 999 r2, upd s.1 (166 + ix e) (nuV 0 999 r2), s.2.1, s.2.2.1, s.2.2.2.1, s.2.2.2.2.1 ||| shl1 e, s.2.2.2.2.2)
def bNet : List Int32 := [110, 101, 116]
def bEvent : List Int32 := [101, 118, 101, 110, 116]
def bWindow : List Int32 := [119, 105, 110, 100, 111, 119]
def bFix : List Int32 := [102, 105, 120]
def bDelay : List Int32 := [100, 101, 108, 97, 121]
def bWish : List Int32 := [119, 105, 115, 104]
/-- a line; the token behind its sign stands here -/
def lnX (b : Nat → Int32) (n : Nat) (r : rs) (s : pst) : rs × pst :=
  if wdR b bEvent r = true then lnE b n r s
  else if wdR b bWindow r = true then lnW b n r s
  else if wdR b bFix r = true then lnF b n r s
  else if wdR b bDelay r = true then lnD b n r s
  else if wdR b bWish r = true then lnS b n r s
  else (ckR 1 (fun _ => False) r, s)
def isK (k : Nat) (r : rs) : Bool := match r with
  | .inl _ => false
  | .inr x => decide (x.1 = k)
def lns (b : Nat → Int32) (n : Nat) : Nat → rs × pst → rs × pst
  | 0, y => y
  | m + 1, y => if isK 3 y.1 = true then lns b n m (lnX b n (nxR b n y.1) y.2) else y
/-- the whole text; s0: what the parser starts with -/
def txH (b : Nat → Int32) (n : Nat) (s0 : pst) : rs × pst :=
  let y := naP b n 0 (nxR b n (ckR 1 (fun x => x.1 = 1 ∧ tkL b x = bNet) (.inr (tkN b n 0)))) s0
  (y.1, upd y.2.1 146 0, y.2.2)
def txP (b : Nat → Int32) (n : Nat) (s0 : pst) : rs × pst :=
  let y := lns b n (n + 1) (txH b n s0)
  (ckR 1 (fun x => x.1 = 4) y.1, y.2)
