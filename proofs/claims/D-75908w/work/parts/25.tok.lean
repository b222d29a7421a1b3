/-! EW: tokens of a text: bytes b, n of them -/
set_option maxRecDepth 100000
def bA (b : Nat → Int32) (n k : Nat) : Int32 := if k < n then b k else -1
abbrev isLt (c : Int32) : Prop := 97 ≤ c ∧ c ≤ 122
abbrev isDg (c : Int32) : Prop := 48 ≤ c ∧ c ≤ 57
def spF (b : Nat → Int32) (n : Nat) : Nat → Nat → Nat
  | 0, p => p
  | r + 1, p => if bA b n p = 32 then spF b n r (p + 1) else p
def lwF (b : Nat → Int32) (n : Nat) : Nat → Nat → Nat
  | 0, p => p
  | r + 1, p => if isLt (bA b n p) then lwF b n r (p + 1) else p
def dgS (f p : Nat) (v c : Int32) : Int32 := if nI (p - f) < 3 then 10 * v + c - 48 else v
def dgF (b : Nat → Int32) (n f : Nat) : Nat → Nat → Int32 → Nat × Int32
  | 0, p, v => (p, v)
  | r + 1, p, v => if isDg (bA b n p) then dgF b n f r (p + 1) (dgS f p v (bA b n p)) else (p, v)
/-- a token: kind (0 wrong, 1 word, 2 number, 3 line end, 4 end), from, to, value -/
abbrev tok : Type := Nat × Nat × Nat × Int32
def tokA (b : Nat → Int32) (n f : Nat) (v : Int32) : tok :=
  if n ≤ f then (4, f, f, v)
  else if isLt (bA b n f) then (if lwF b n n f - f ≤ 8 then 1 else 0, f, lwF b n n f, v)
  else if isDg (bA b n f) then (if (dgF b n f n f 0).1 - f ≤ 3 then 2 else 0, f, (dgF b n f n f 0).1, (dgF b n f n f 0).2)
  else (if bA b n f = 59 then 3 else 0, f, f + 1, v)
def tokN (b : Nat → Int32) (n p : Nat) (v : Int32) : tok := tokA b n (spF b n n p) v
theorem bA_end {b : Nat → Int32} {n p : Nat} (h : n ≤ p) : bA b n p = -1 := if_neg (by omega)
theorem spF_le {b : Nat → Int32} {n : Nat} : ∀ r p, p ≤ n → p ≤ spF b n r p ∧ spF b n r p ≤ n
  | 0, p, h => ⟨Nat.le_refl _, h⟩
  | r + 1, p, h => by
    rw [spF]
    split
    · rename_i h9
      have hp : p < n := by
        by_cases h8 : n ≤ p
        · rw [bA_end h8] at h9; exact absurd h9 (by decide)
        · omega
      have := spF_le (b := b) (n := n) r (p + 1) (by omega)
      omega
    · exact ⟨Nat.le_refl _, h⟩
theorem lwF_le {b : Nat → Int32} {n : Nat} : ∀ r p, p ≤ n → p ≤ lwF b n r p ∧ lwF b n r p ≤ n
  | 0, p, h => ⟨Nat.le_refl _, h⟩
  | r + 1, p, h => by
    rw [lwF]
    split
    · rename_i h9
      have hp : p < n := by
        by_cases h8 : n ≤ p
        · rw [bA_end h8] at h9; exact absurd h9 (by decide)
        · omega
      have := lwF_le (b := b) (n := n) r (p + 1) (by omega)
      omega
    · exact ⟨Nat.le_refl _, h⟩
theorem dgF_le {b : Nat → Int32} {n f : Nat} : ∀ r p v, p ≤ n → p ≤ (dgF b n f r p v).1 ∧ (dgF b n f r p v).1 ≤ n
  | 0, p, v, h => ⟨Nat.le_refl _, h⟩
  | r + 1, p, v, h => by
    rw [dgF]
    split
    · rename_i h9
      have hp : p < n := by
        by_cases h8 : n ≤ p
        · rw [bA_end h8] at h9; exact absurd h9 (by decide)
        · omega
      have := dgF_le (b := b) (n := n) (f := f) r (p + 1) (dgS f p v (bA b n p)) (by omega)
      omega
    · exact ⟨Nat.le_refl _, h⟩
theorem tokN_le {b : Nat → Int32} {n p : Nat} {v : Int32} (h : p ≤ n) : p ≤ (tokN b n p v).2.1 ∧ (tokN b n p v).2.1 ≤ (tokN b n p v).2.2.1 ∧ (tokN b n p v).2.2.1 ≤ n ∧ (tokN b n p v).1 ≤ 4 := by
  have h1 := spF_le (b := b) n p h
  rw [tokN, tokA]
  split
  · exact ⟨h1.1, Nat.le_refl _, h1.2, Nat.le_refl 4⟩
  · split
    · have h2 := lwF_le (b := b) n (spF b n n p) h1.2
      refine ⟨h1.1, h2.1, h2.2, ?_⟩
      show (if _ then 1 else 0) ≤ 4
      split <;> decide
    · split
      · have h2 := dgF_le (b := b) (f := spF b n n p) n (spF b n n p) 0 h1.2
        refine ⟨h1.1, h2.1, h2.2, ?_⟩
        show (if _ then 2 else 0) ≤ 4
        split <;> decide
      · refine ⟨h1.1, Nat.le_succ _, by show _ + 1 ≤ n; omega, ?_⟩
        show (if _ then 3 else 0) ≤ 4
        split <;> decide
